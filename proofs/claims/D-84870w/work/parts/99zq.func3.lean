/-! ===== PARSERS, part 60: FUNCTION ===== -/
section FN3
variable {ex et : List Nat} {S S' S0 S1z SA : pS} {D : pD} {K : pK} {p p0 q o o' oA dl m N n n2 b b2 lo hi lo2 hi2 r d d1 d2 dd g pA pB nP bP k1 : Nat} {w t w' : wS} {al : List Nat} {nu : pNz} {tn : Nat → Prop} {E E' : zE} {L L' L2 : Nat} {ol : pOL} {f : Option Nat} {fT x1 x2 x y z u : Int32} {Q : kx_Rs → wS → Prop} {fi : Nat → Int32} {fp : Nat → Option Nat} {ft : Nat → Int32} {bl br : Bool} {lo1 : Int} {Φ : kx_Rs → wS → kx_Rs → wS → Prop} {gt gc : pQ} {G : pG}
theorem OWt.s41 {v : Int32} {k : Nat} (hk : tkk k = false) (h : OWt (w, t, al, m, N, nu, tn) n ft) {w2 : wS} : OWt (w2, ws_a t 12 0 k n v, al, m, N, nu, tn) n ft := ⟨h.1, fun j hj => by
  show w_a (ws_a t 12 0 k n v) 12 0 j n = _
  rw [Raa, if_neg (fun z => by rw [← z.1, hj] at hk; cases hk)]
  exact h.2 j hj⟩
theorem p_funct {g : Nat} (IHP : PRq D K E' g) (ID : ∀ g', g = g' + 1 → DCq D K E' g') {C : (kx_Rs → wS → Prop) → Option Nat → wS → Prop} {Ct : (kx_Rs → wS → Prop) → Int32 → wS → Prop} (hC : ∀ Q w, Q (.inl (some (va_rf (some b)))) w → C Q (some b) w) (hCt : ∀ Q w, Q (.inl (some (.int (i_ n)))) w → Ct Q (i_ n) w) (hd : d ≤ 20) (hL : dex d ≤ L + 100) (hL' : dex d ≤ L' + 100) (hg : K.length ≤ p0 + 1 + g)
    (H : HY D K [] [] S0 (w, t, al, m, N, nu, tn) p p 0 0) (hO : OWc (w, t, al, m, N, nu, tn) b fi fp) (hT : OWt (w, t, al, m, N, nu, tn) n ft) (hb : b ∉ S0.2.2.1.take S0.2.2.2.1) (hn : S0.2.2.2.2.1 ≤ n ∧ n < 14000) (hp0 : p0 < p) (hln : kln K p = kln K p0) (h10 : kk K p = 10) (hfi : fi 2 = i_ (kln K p0) ∧ fi 11 = 0 ∧ fi 12 = 0 ∧ fp 5 = none ∧ fp 7 = none) (hft : ft 27 = i_ (kln K p0) ∧ ft 29 = -1 ∧ ft 32 = -1) (hty : tyr (fi 8) (ft 33)) (hmN : m ≤ 4 * p + 8 ∧ N ≤ 4 * p + 8) (hbd : m + 4 * p0 ≤ S0.2.2.2.1 + 4 * p ∧ N + 4 * p0 ≤ S0.2.2.2.2.1 + 4 * p) :
    PS (fun Q => zw D.1 L kt_M180 [.ref (w_adr D.1.2.1 4 0), va_rf (some b), .int (i_ d)] w (wkr (C Q) (fun e w => Q (.inr e) w))) (fun Q => zw E' L' kt_M417 [.ref (w_adr E'.2.1 12 0), .int (i_ n), .int (i_ d)] t (wk1 (Ct Q) (fun e w => Q (.inr e) w))) (PRd D K d [] [] S0 p0 0 true true 0 (GPs 1 3 D K S0 p0)) := by
  have IH := (p_OE (D := D) (K := K) (E' := E') K.length).2
  have hlx : Unit → lex 0 ≤ L - 22 := fun _ => by unfold dex at *; unfold lex; omega
  have hlx' : Unit → lex 0 ≤ L' - 22 := fun _ => by unfold dex at *; unfold lex; omega
  have hlb : Unit → dex d ≤ L + 100 := fun _ => hL
  have hlb' : Unit → dex d ≤ L' + 100 := fun _ => hL'
  have hL9 : 2300 ≤ L := by unfold dex at hL; omega
  have hL9' : 2300 ≤ L' := by unfold dex at hL'; omega
  clear hL hL'
  have hpl := H.1.ta.lt
  have hal := H.alive
  have hnN : n < N := hT.1.1
  have hSN : S0.2.2.2.2.1 ≤ N := H.2.2.1.2.2.1
  have hp1 := H.p1 (by rw [h10]; decide)
  have hln1 := H.1.ln hp1 (by rw [h10]; decide)
  have hΦd : STL D K d S0 true 0 (PRd D K d [] [] S0 p0 0 true true 0 (GPs 1 3 D K S0 p0)) := STL.of
  have hΦ := hΦd.stp
  refine PS_of (fun Q h => zt_X5_function_p0 (by omega) h) (fun Q h => zt_X13_function_p0 (by omega) h) ?_
  simp only [zb_X5_function_p0, zb_X13_function_p0, zb_X5_function_p99, zb_X5_function_p104, i_add1, i_nat' (show n < 2147483648 by omega)]
  rw [e35x H.tpos]
  refine PS_rand (by rw [H.1.tl.1]; exact i_inb' (by omega) (by omega)) ?_
  refine PSg_nxl hΦ (by omega) H (by rw [h10]; decide) (fun H1' => ?_) (fun w' hd h76 => dd_wantName ((H.dd hd (by omega) (by rw [h10]; decide) hal h76).ta rfl) (by omega))
  have H1 := (H1'.tnx (by rw [h10]; decide) hal)
  have O1 : OWc (nx w p, nx3 t p, al, m, N, nu, tn) b fi fp := hO.w4 (j := 3) (v := i_ (p + 1 : Nat)) (.inl (by decide))
  have T1 : OWt (nx w p, nx3 t p, al, m, N, nu, tn) n ft := hT
  refine PS_lex b rfl (PS_land (O1.wl H1.1) ?_)
  have H1b := (H1.wp (k := 0) (v := some (D.1.1.1 11)) O1.1.2 (fun e => absurd e hb)).ta (k := 26) (n := n) (v := 38) rfl T1.1.2 (fun h => absurd h (Nat.not_lt.mpr hn.1))
  have O1b : OWc (ws_p (nx w p) 14 b 0 (some (D.1.1.1 11)), ws_a (nx3 t p) 12 0 26 n 38, al, m, N, nu, tn) b _ _ := O1.sp (k := 0) (v := some (D.1.1.1 11))
  have T1b : OWt (ws_p (nx w p) 14 b 0 (some (D.1.1.1 11)), ws_a (nx3 t p) 12 0 26 n 38, al, m, N, nu, tn) n _ := T1.si (k := 26) (v := 38)
  refine PSg_nmw hΦ (by omega) (by omega) (by omega) H1b (fun h70 H2 hnm => ?_) (fun w' hd => ?_)
  · have hp2 := H1b.p1 (by rw [h70]; decide)
    have hln2 := H1b.1.ln hp2 (by rw [h70]; decide)
    have O2 : OWc (nx (ws_p (nx w p) 14 b 0 (some (D.1.1.1 11))) (p + 1), nx3 (ws_a (nx3 t p) 12 0 26 n 38) (p + 1), al, m, N, nu, tn) b _ _ := O1b.w4 (j := 3) (v := i_ (p + 1 + 1 : Nat)) (.inl (by decide))
    have T2 : OWt (nx (ws_p (nx w p) 14 b 0 (some (D.1.1.1 11))) (p + 1), nx3 (ws_a (nx3 t p) 12 0 26 n 38) (p + 1), al, m, N, nu, tn) n _ := T1b
    refine PS_rand (by rw [H2.1.tl.2.2.2.2.1]; exact i_inb' (by omega) (by omega)) ?_
    have H3 := ((H2.wi (k := 9) (v := w_a (ws_p (nx w p) 14 b 0 (some (D.1.1.1 11))) 1 0 3 (p + 1)) O2.1.2 (fun e => absurd e hb)).cd (v := w_i (nx (ws_p (nx w p) 14 b 0 (some (D.1.1.1 11))) (p + 1)) 4 0 5 + 1) rfl).ta (k := 30) (n := n) (v := w_a (ws_a (nx3 t p) 12 0 26 n 38) 12 0 8 (p + 1)) rfl T2.1.2 (fun h => absurd h (Nat.not_lt.mpr hn.1))
    have O3 : OWc (ws_i (ws_i (nx (ws_p (nx w p) 14 b 0 (some (D.1.1.1 11))) (p + 1)) 14 b 9 (w_a (ws_p (nx w p) 14 b 0 (some (D.1.1.1 11))) 1 0 3 (p + 1))) 4 0 5 (w_i (nx (ws_p (nx w p) 14 b 0 (some (D.1.1.1 11))) (p + 1)) 4 0 5 + 1), ws_a (nx3 (ws_a (nx3 t p) 12 0 26 n 38) (p + 1)) 12 0 30 n (w_a (ws_a (nx3 t p) 12 0 26 n 38) 12 0 8 (p + 1)), al, m, N, nu, tn) b _ _ := (O2.si (k := 9) (v := w_a (ws_p (nx w p) 14 b 0 (some (D.1.1.1 11))) 1 0 3 (p + 1))).w4 (k := 4) (j := 5) (v := w_i (nx (ws_p (nx w p) 14 b 0 (some (D.1.1.1 11))) (p + 1)) 4 0 5 + 1) (.inl (by decide))
    have T3 : OWt (ws_i (ws_i (nx (ws_p (nx w p) 14 b 0 (some (D.1.1.1 11))) (p + 1)) 14 b 9 (w_a (ws_p (nx w p) 14 b 0 (some (D.1.1.1 11))) 1 0 3 (p + 1))) 4 0 5 (w_i (nx (ws_p (nx w p) 14 b 0 (some (D.1.1.1 11))) (p + 1)) 4 0 5 + 1), ws_a (nx3 (ws_a (nx3 t p) 12 0 26 n 38) (p + 1)) 12 0 30 n (w_a (ws_a (nx3 t p) 12 0 26 n 38) 12 0 8 (p + 1)), al, m, N, nu, tn) n _ := T2.si (k := 30) (v := w_a (ws_a (nx3 t p) 12 0 26 n 38) 12 0 8 (p + 1))
    generalize ws_i (ws_i (nx (ws_p (nx w p) 14 b 0 (some (D.1.1.1 11))) (p + 1)) 14 b 9 (w_a (ws_p (nx w p) 14 b 0 (some (D.1.1.1 11))) 1 0 3 (p + 1))) 4 0 5 (w_i (nx (ws_p (nx w p) 14 b 0 (some (D.1.1.1 11))) (p + 1)) 4 0 5 + 1) = w3 at H3 O3 T3
    generalize ws_a (nx3 (ws_a (nx3 t p) 12 0 26 n 38) (p + 1)) 12 0 30 n (w_a (ws_a (nx3 t p) 12 0 26 n 38) 12 0 8 (p + 1)) = t3 at H3 O3 T3
    have hpl3 := H3.1.ta.lt
    have hal3 := H3.alive
    have hΦ := hΦ.cb (c := 1)
    have hΦd := hΦd.cb (c := 1)
    have hcz : (cb S0 1).2.2.2.2.1 = S0.2.2.2.2.1 ∧ (cb S0 1).2.2.2.1 = S0.2.2.2.1 := ⟨rfl, rfl⟩
    have hkr := H3.1.ta.kr H3.1.krg
    refine PS_r1 (fun Q hq => t_look (by omega) H3.1.ta hq) ?_
    have e40v : (i_ (kk K (p + 1 + 1)) = (40 : Int32)) = (kk K (p + 1 + 1) = 40) := i_eqk (show -1000 ≤ kk K (p + 1 + 1) ∧ kk K (p + 1 + 1) ≤ 1000 by omega) (show (-1000 : Int) ≤ 40 by decide) (by decide)
    simp only [e40v]
    by_cases h40 : kk K (p + 1 + 1) = 40
    · refine PS_rp h40 ?_
      refine PSg_c11 hΦ H3.2 H3.1.krg (p_formals (by omega) (by omega) H3.1 h40 ⟨by omega, by omega⟩) (fun a h => absurd h List.not_mem_nil) (fun a h => absurd h List.not_mem_nil) (fun x v w9 t9 al9 m9 N9 nu9 tn9 p9 H9 HS9 hbd9 hgx => ?_) (fun v w9 t9 hv hv2 hd => ?_)
      · obtain ⟨⟨k9, hs⟩, hln9, hhd, v0, hv0, hv1⟩ := hgx
        rw [hln2, hln1, hln] at hs
        have hpl9 := H9.1.ta.lt
        have hal9 := H9.alive
        have O9 := O3.fr HS9.2 List.not_mem_nil
        have T9 := T3.fr HS9.2 List.not_mem_nil
        have hNN9 : N ≤ N9 := HS9.2.2.1.2.2.1
        refine PS_rand (by rw [H9.1.tl.2.2.1]; exact i_inb' (by omega) (by omega)) (PS_rand (by rw [H9.1.tl.2.2.2.2.2.2.2.2.2.2.1]; exact i_inb' (by omega) (by omega)) ?_)
        have Ha := ((H9.wp (k := 3) (v := x) O9.1.2 (fun e => absurd e hb) (LKO.op (hhd.up (fun _ e => H3.2.sub e)))).ta (k := 28) (n := n) (v := v) rfl T9.1.2 (fun h => absurd h (Nat.not_lt.mpr hn.1))).ta (k := 42) (n := n) (v := -1) rfl T9.1.2 (fun h => absurd h (Nat.not_lt.mpr hn.1))
        have Oa : OWc (ws_p w9 14 b 3 x, ws_a (ws_a t9 12 0 28 n v) 12 0 42 n (-1), al9, m9, N9, nu9, tn9) b _ _ := O9.sp (k := 3) (v := x) (.inr (.inr (fun e => (hhd _ e).2.2 O3.1.1.1)))
        have Ta0 := T9.si (k := 28) (v := v)
        have Ta := Ta0.s41 (k := 42) (v := -1) rfl (w2 := ws_p w9 14 b 3 x)
        have hva := VWa.mk (w := w9) (t := t9) (w' := ws_p w9 14 b 3 x) (t' := ws_a (ws_a t9 12 0 28 n v) 12 0 42 n (-1)) (b := b) (n := n) (fun a h k => by simp only [nx, Rii, Rgi, Rpi, Rai, Rbi, Rri, Rni, Rdi, Roi, Rti, Rzi, RCi, RSi, Rip, Rgp, Rpp, Rap, Rbp, Rrp, Rnp, Rdp, Rop, Rtp, Rzp, RCp, RSp]; simp [h]) (fun y h k => by simp only [nx3, nd3, Rii, Rgi, Rpi, Rai, Rbi, Rri, Rni, Rdi, Roi, Rti, Rzi, RCi, RSi, Ria, Rga, Rpa, Raa, Rba, Rra, Rna, Rda, Roa, Rta, Rza, RCa, RSa]; simp [h]) rfl O9.1.2 T9.1.2
        have hsa := hs.up (k' := 0) hva (fun _ _ h => h) (fun _ h => h) (Nat.le_refl _)
        have h42a : w_a (ws_a (ws_a t9 12 0 28 n v) 12 0 42 n (-1)) 12 0 42 n = -1 := by rw [Raa, if_pos ⟨rfl, rfl, rfl, rfl⟩]
        generalize ws_p w9 14 b 3 x = wa at Ha Oa Ta hsa
        generalize ws_a (ws_a t9 12 0 28 n v) 12 0 42 n (-1) = ta at Ha Oa Ta hsa h42a
        refine PS_l1 (fun Q hq => c_is (c := 13) (v := 13) (by omega) Ha.1.ca rfl (by unfold wcd; omega) hq) ?_
        by_cases h13 : kk K p9 = 13
        · rw [decide_eq_true h13]
          refine PS_ln (by decide) ?_
          refine PS_r1 (fun Q hq => t_may (v := 13) (by omega) Ha.1.ta Ha.1.krg rfl ⟨by decide, by decide⟩ (fun _ => hq) (fun e => absurd h13 e)) (PS_rn (by decide) ?_)
          have hpb := Ha.p1 (by rw [h13]; decide)
          have hlnb := Ha.1.ln hpb (by rw [h13]; decide)
          have Hb := Ha.wi (k := 11) (v := 1) Oa.1.2 (fun e => absurd e hb)
          have Ob := Oa.si (k := 11) (v := 1)
          refine PSg_nxl hΦ (by omega) Hb (by rw [h13]; decide) (fun Hc' => ?_) (fun w' hd h76 => dd_e (Hb.dd hd (by omega) (by rw [h13]; decide) hal9 h76) (by omega))
          have Hc := Hc'.tnx (by rw [h13]; decide) hal9
          have Oc : OWc (nx (ws_i wa 14 b 11 1) p9, nx3 ta p9, al9, m9, N9, nu9, tn9) b _ _ := Ob.w4 (j := 3) (v := i_ (p9 + 1 : Nat)) (.inl (by decide))
          have Tc : OWt (nx (ws_i wa 14 b 11 1) p9, nx3 ta p9, al9, m9, N9, nu9, tn9) n _ := Ta
          have hvc : VWa (vw wa ta) (vw (nx (ws_i wa 14 b 11 1) p9) (nx3 ta p9)) tn9 nu9 := VWa.mk (b := b) (n := n) (fun a h k => by simp only [nx, Rii, Rgi, Rpi, Rai, Rbi, Rri, Rni, Rdi, Roi, Rti, Rzi, RCi, RSi, Rip, Rgp, Rpp, Rap, Rbp, Rrp, Rnp, Rdp, Rop, Rtp, Rzp, RCp, RSp]; simp [h]) (fun _ _ _ => rfl) rfl Oa.1.2 Ta.1.2
          have hsc := hsa.up (k' := 0) hvc (fun _ _ h => h) (fun _ h => h) (Nat.le_refl _)
          have h42c : w_a (nx3 ta p9) 12 0 42 n = -1 := h42a
          have hplc := Hc.1.ta.lt
          refine PSg_c11 hΦ Hc.2 Hc.1.krg (IH (L - 22) (L' - 22) _ _ _ _ _ _ _ (p9 + 1) 0 (hlx ()) (hlx' ()) Hc.1 (by omega) ⟨by omega, by omega⟩) (fun a h => absurd h List.not_mem_nil) (fun a h => absurd h List.not_mem_nil) (fun x2 v2 wg tg alg mg Ng nug tng pg Hg HSg hbdg hgx => ?_) (fun v2 wg tg hv hv2 hd => ?_)
          · obtain ⟨b4, n4, rfl, rfl, hP4, hX4, hb4, hln4, hfk⟩ := hgx
            have hplg := Hg.1.ta.lt
            have hn4 := hP4.lt
            have hNg : N9 ≤ Ng := HSg.2.2.1.2.2.1
            have Og := Oc.fr HSg.2 List.not_mem_nil
            have Tg := Tc.fr HSg.2 List.not_mem_nil
            have h42g : w_a tg 12 0 42 n = -1 := (HSg.2.2.2.2.1 n Tc.1.1 List.not_mem_nil 42 (.inr (.inr rfl))).trans h42c
            have hvg := VWa.fr Hc.1 HSg.2 (fun _ h => absurd h List.not_mem_nil) (fun _ h => absurd h List.not_mem_nil)
            obtain ⟨xh, tnh, rh, Hh, hCh, hmh3, hmh4, hnh⟩ := Hg.fin hP4 (fun e => hb4 (Hc.2.sub e)) (by show _ ≤ N9; omega)
            have hbb4 : b ≠ b4 := fun e => hb4 (by rw [← e]; exact Oc.1.1.1)
            have Oh := Og.fin (x := xh) (tn' := tnh) hbb4
            have Th := Tg.fin (nu' := nuU nug b4 xh) hmh4 (.inl (by show n < N9; omega))
            refine PS_rand (by rw [Hh.1.tl.2.2.2.2.2.2.2.2.2.1]; exact i_inb' (by omega) (by omega)) ?_
            have Hi := (Hh.wp (k := 4) (v := some b4) Oh.1.2 (fun e => absurd e hb) (LKO.mk hP4.bm.1 hX4.2.2 (fun e => hb4 (Hc.2.sub e)))).ta (k := 41) (n := n) (v := i_ n4) rfl Th.1.2 (fun h => absurd h (Nat.not_lt.mpr hn.1))
            have Oi : OWc (ws_p wg 14 b 4 (some b4), ws_a tg 12 0 41 n (i_ n4), alg, mg, Ng, nuU nug b4 xh, tnh) b _ _ := Oh.sp (k := 4) (v := some b4)
            have Ti := OWt.s41 (k := 41) (v := i_ n4) rfl Th (w2 := ws_p wg 14 b 4 (some b4))
            have h42i : w_a (ws_a tg 12 0 41 n (i_ n4)) 12 0 42 n = -1 := by rw [Raa, if_neg (fun z => by simp at z)]; exact h42g
            have h41i : w_a (ws_a tg 12 0 41 n (i_ n4)) 12 0 41 n = i_ n4 := by rw [Raa, if_pos ⟨rfl, rfl, rfl, rfl⟩]
            have hvi := VWa.mk (w := wg) (t := tg) (w' := ws_p wg 14 b 4 (some b4)) (t' := ws_a tg 12 0 41 n (i_ n4)) (b := b) (n := n) (fun a h k => by simp only [nx, Rii, Rgi, Rpi, Rai, Rbi, Rri, Rni, Rdi, Roi, Rti, Rzi, RCi, RSi, Rip, Rgp, Rpp, Rap, Rbp, Rrp, Rnp, Rdp, Rop, Rtp, Rzp, RCp, RSp]; simp [h]) (fun y h k => by simp only [nx3, nd3, Rii, Rgi, Rpi, Rai, Rbi, Rri, Rni, Rdi, Roi, Rti, Rzi, RCi, RSi, Ria, Rga, Rpa, Raa, Rba, Rra, Rna, Rda, Roa, Rta, Rza, RCa, RSa]; simp [h]) rfl Oh.1.2 Th.1.2
            have hvid2 : VWa (vw wg tg) (vw wg tg) tng nug := ⟨fun _ _ => ⟨rfl, rfl⟩, fun _ _ _ _ => rfl, rfl⟩
            have hsi := ((hsc.up (k' := 0) hvg HSg.2.2.2.2.2.1.1 HSg.2.2.2.2.2.1.2.1 (Nat.le_refl _)).up (k' := 0) hvid2 (nle_nuU (x := xh) hnh) hmh3 (Nat.le_refl _)).up (k' := 0) hvi (fun _ _ h => h) (fun _ h => h) (Nat.le_refl _)
            have hECj : ECz (vw (ws_p wg 14 b 4 (some b4)) (ws_a tg 12 0 41 n (i_ n4))) tnh (nuU nug b4 xh) 0 (oE K (kln K (p9 + 1)) 0 (p9 + 1) pg) 0 (some b4) (i_ n4) := ⟨b4, n4, rfl, rfl, hCh.up hvi (fun _ _ h => h) (fun _ h => h) (Nat.le_refl _)⟩
            have hP : PND D (ws_p wg 14 b 4 (some b4), ws_a tg 12 0 41 n (i_ n4), alg, mg, Ng, nuU nug b4 xh, tnh) S0.2.2.2.2.1 Ng (oN K 3 p0 pg) b n 1 := PND.mk1 (kd := 38) Oi Ti hn.1 hn.2 (LFz.k38 Oi Ti h41i h42i (hfi.1.trans hft.1.symm) rfl ⟨rfl, hnm, hty, by
              show SKz _ _ _ _ (some (ft 27), _) 0 42 x v
              rw [hft.1]
              exact hsi.wk, .inl ⟨rfl, hECj.wk, rfl, hft.2.1, hfi.2.2.2.1, rfl⟩⟩ hft.1) hfi.2.2.1 (fun l e => by cases e)
            have hX := NXT.mk1 Oi Ti hfi.2.2.2.2 hft.2.2
            refine PSg_exw (c := 42) (v := 46) hΦ (by omega) (by omega) (by omega) Hi rfl (by unfold wcd; omega) rfl (fun h46 Hj => ?_) (fun w' hd => dd_endOfLine hd (by omega))
            refine PSg_elw hΦ (by omega) (by omega) (by omega) Hj (fun e74 Hk => ?_) (fun w' hd => eS_l (fun Q h => hCt Q _ h) (hd.ret rfl ⟨by omega, by omega⟩))
            refine PS_of (fun Q h => hC Q _ h) (fun Q h => hCt Q _ h) ?_
            have hP2 := (hP.nx2 (p := pg) (q := pg)).nx2 (p := pg + 1) (q := pg + 1)
            exact PS_ret (.inr ⟨some b, i_ n, alg, mg, Ng, nuU nug b4 xh, tnh, pg + 1 + 1, _, rfl, rfl, Hk, ⟨by omega, by omega, by omega⟩, b, n, 1, rfl, rfl, hP2.wk, ⟨hX.1, hX.2.1, hX.2.2⟩, hb, e74, ⟨by show mg + _ + 1 ≤ _; omega, by show Ng + _ + 1 ≤ _; omega⟩, by omega⟩)
          · refine eS_and (by rw [hd.2.2.tl.2.2.2.2.2.2.2.2.2.1]; exact i_inb' (by omega) (by omega)) ?_
            exact dd_want (v := 46) (hd.ta rfl) (by omega) rfl (by omega)
        · rw [decide_eq_false h13]
          refine PS_lp rfl ?_
          refine PS_r1 (fun Q hq => t_may (v := 13) (by omega) Ha.1.ta Ha.1.krg rfl ⟨by decide, by decide⟩ (fun e => absurd e h13) (fun _ => hq)) (PS_rp rfl ?_)
          refine PSg_elw hΦ (by omega) (by omega) (by omega) Ha (fun e74 Hb => ?_) (fun w' hd => dd_lineAt (d := d + 1) (how := 1) hd (by omega) (by omega) rfl (by omega))
          have Ob : OWc (nx wa p9, nx3 ta p9, al9, m9, N9, nu9, tn9) b _ _ := Oa.w4 (j := 3) (v := i_ (p9 + 1 : Nat)) (.inl (by decide))
          have Tb : OWt (nx wa p9, nx3 ta p9, al9, m9, N9, nu9, tn9) n _ := Ta
          have hsb : SKz (vw (nx wa p9) (nx3 ta p9)) tn9 nu9 0 (oE K (kln K p0) 42 (p + 1 + 1) p9) 0 42 x v := by rw [vw_n2]; exact hsa
          have h42b : w_a (nx3 ta p9) 12 0 42 n = -1 := h42a
          have hplb := Hb.1.ta.lt
          have body : ∀ bb : Bool, bb = bBe 1 (kk K (p9 + 1)) → PS (fun Q => zw D.1 (L - 22) kt_M211 [.ref (w_adr D.1.2.1 4 0), .int (i_ (d + 1 : Nat)), .int (bI bb)] (nx wa p9) (wk0 (fun w1 => wle (nx wa p9) w1 → zL_X5_function_p109 D.1 L (wkr (C Q) (fun e w => Q (.inr e) w)) (some b) (i_ d) none w1) (fun e w => Q (.inr e) w))) (fun Q => zw E' (L' - 22) kt_M458 [.ref (w_adr E'.2.1 12 0), .int (i_ (d + 1 : Nat)), .int 1] (nx3 ta p9) (wk0 (fun w11 => wle (nx3 ta p9) w11 → zL_X13_function_p105 E' L' (wk1 (Ct Q) (fun e w => Q (.inr e) w)) (i_ n) (i_ d) (-1) w11) (fun e w => Q (.inr e) w))) (PRd D K d [] [] S0 p0 0 true true 0 (GPs 1 3 D K S0 p0)) := by
            intro bb hbb
            refine PSg_stand (d := d + 1) (how := 1) hΦ (by omega) (by omega) Hb (by omega) (.inr e74) rfl (by omega) hbb (fun hA _ hd20 Hc => ?_)
            have Oc : OWc (ws_i (nx wa p9) 4 0 4 0, nx3 ta p9, al9, m9, N9, nu9, tn9) b _ _ := Ob.w4 (k := 4) (j := 4) (v := 0) (.inl (by decide))
            have Tc : OWt (ws_i (nx wa p9) 4 0 4 0, nx3 ta p9, al9, m9, N9, nu9, tn9) n _ := Tb
            have hsc : SKz (vw (ws_i (nx wa p9) 4 0 4 0) (nx3 ta p9)) tn9 nu9 0 (oE K (kln K p0) 42 (p + 1 + 1) p9) 0 42 x v := by rw [vw_4]; exact hsb
            have HA : HY D K [b] [n] (ws_i (nx wa p9) 4 0 4 0, nx3 ta p9, al9, m9, N9, nu9, tn9) (ws_i (nx wa p9) 4 0 4 0, nx3 ta p9, al9, m9, N9, nu9, tn9) (p9 + 1) (p9 + 1) 0 0 := ⟨Hc.1, FR.rf Hc.1.mle⟩
            obtain ⟨g', rfl⟩ : ∃ g', g = g' + 1 := ⟨g - 1, by omega⟩
            refine p_fd_loop (SA := (ws_i (nx wa p9) 4 0 4 0, nx3 ta p9, al9, m9, N9, nu9, tn9)) (pB := p9 + 1) (ID g' rfl) (hΦd.up Hc.2) hd20 (hlb ()) (hlb' ()) ⟨Tc.1.1, hn.2⟩ Oc.mn (fun w2 t2 al2 m2 N2 nu2 tn2 p2 f2 fT2 dd2 k2 Hd Od Td h42d hSL e74d hAd hpd hmNd hbdd => ?_) K.length _ _ al9 m9 N9 nu9 tn9 (p9 + 1) none (-1) none (-1) 0 N9 (by omega) (by omega) HA.c0 LQ.nil (Oc.upE hfi.2.2.2.1) Tc h42b (Nat.le_refl _) (fun a e => by cases e) e74 ⟨by omega, by omega⟩ ⟨by omega, by omega⟩ ⟨by show m9 + _ ≤ m9 + _; omega, by show N9 + _ ≤ N9 + _; omega⟩ hA
            have hbda : m2 + 4 * (p9 + 1) ≤ m9 + 4 * p2 := hbdd.1
            have hbdb : N2 + 4 * (p9 + 1) ≤ N9 + 4 * p2 := hbdd.2
            have He : HY D K [] [] (cb S0 (1 + dd2)) (w2, t2, al2, m2, N2, nu2, tn2) p2 p2 0 0 := HY.cc ⟨Hd.1, Hc.2.trc Hd.2 (fun a h h2 => absurd h2 (by rw [List.mem_singleton.mp h]; exact hb)) (fun n' h h2 => absurd h2 (by rw [List.mem_singleton.mp h]; omega))⟩
            have hvd := VWa.fr Hc.1 Hd.2 (fun a h => by rw [List.mem_singleton.mp h]; exact Oc.1.2) (fun y h => by rw [List.mem_singleton.mp h]; exact Tc.1.2)
            have hSKd := hsc.up (k' := 0) hvd Hd.2.2.2.2.2.1.1 Hd.2.2.2.2.2.1.2.1 (Nat.le_refl _)
            have hSLd := hSL.up (k' := 0) (V' := vw w2 t2) ⟨fun _ _ => ⟨rfl, rfl⟩, fun _ _ _ _ => rfl, rfl⟩ (fun _ _ h => h) (fun _ h => h) (Nat.le_refl _)
            exact p_fval (k1 := 0) (d1 := dd2) (p0 := p0) IHP hC hCt hd20 (hlb ()) (hlb' ()) (by omega) He Od Td h42d hb hn e74d hAd (by omega) ⟨hfi.1, hfi.2.1, hfi.2.2.1, rfl, hfi.2.2.2.2⟩ ⟨rfl, hft.1, hft.2.2⟩ hnm hty hSKd.wk hSLd.wk hmNd ⟨by omega, by omega⟩ (by omega)
          refine PS_l1 (fun Q hq => c_beginsDeclaration (by omega) Hb.1.ca hq) ?_
          cases hDe : bDe (kk K (p9 + 1)) with
          | true =>
            refine PS_lp (by decide) ?_
            exact body true (by show true = (bDe (kk K (p9 + 1)) || decide (kk K (p9 + 1) = 34)); rw [hDe]; rfl)
          | false =>
            refine PS_ln (by decide) ?_
            refine PS_l1 (fun Q hq => c_is (c := 34) (v := 34) (by omega) Hb.1.ca rfl (by unfold wcd; omega) hq) ?_
            by_cases h34 : kk K (p9 + 1) = 34
            · rw [decide_eq_true h34]
              refine PS_ln (by decide) ?_
              exact body true (by show true = (bDe (kk K (p9 + 1)) || decide (kk K (p9 + 1) = 34)); rw [hDe, decide_eq_true h34]; rfl)
            · rw [decide_eq_false h34]
              refine PS_lp rfl ?_
              exact body false (by show false = (bDe (kk K (p9 + 1)) || decide (kk K (p9 + 1) = 34)); rw [hDe, decide_eq_false h34]; rfl)
      · refine eS_and (by rw [hd.2.2.tl.2.2.1]; exact i_inb' (by omega) (by omega)) (eS_and (by rw [hd.2.2.tl.2.2.2.2.2.2.2.2.2.2.1]; exact i_inb' (by omega) (by omega)) ?_)
        have hdd := (hd.ta (k := 28) (n := n) (v := i_ v) rfl).ta (k := 42) (n := n) (v := -1) rfl
        refine dd_may0 (v := 13) hdd (by omega) rfl (by omega) (eS_p rfl ?_)
        exact dd_endOfLine hdd (by omega)
    · refine PS_rn h40 ?_
      exact c_noForms hΦ (by omega) (by omega) H3 h40
  · refine eS_and (by rw [hd.2.2.tl.2.2.2.2.1]; exact i_inb' (by omega) (by omega)) ?_
    have hdd := hd.ta (k := 30) (n := n) (v := w_a (ws_a (nx3 t p) 12 0 26 n 38) 12 0 8 (p + 1)) rfl
    refine eS_1 (fun Q hq => t_look (by omega) hdd.2.2.1 hq) ?_
    rw [hdd.2.2.2.1]
    exact eS_n (by decide) (dd_stop (no := 2) hdd (by omega))
end FN3
