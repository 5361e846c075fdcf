/-! ===== PARSERS, part 31: GUARDs, joined ===== -/
section GR2
variable {ex et : List Nat} {S S' S0 SA : pS} {D : pD} {K : pK} {p p0 q o o' oA dl m N n n1 n2 n3 b b1 b2 lo hi lo2 hi2 r r2 d d2 dd g pA pB nP kd k : Nat} {w t w' : wS} {al : List Nat} {nu : pNz} {tn T2 : Nat → Prop} {E E' : zE} {L L' : Nat} {ol : pOL} {f : Option Nat} {fT x1 : Int32} {Q : kx_Rs → wS → Prop} {fi : Nat → Int32} {fp : Nat → Option Nat} {ft ft2 : Nat → Int32} {V : pV}
theorem zinj {E : zE} (h : zA E) {i j : Nat} (hi : i < 69) (hj : j < 69) (e : E.1.1 i = E.1.1 j) : i = j := h.1 i hi j hj e
theorem LFkz.el {O : pO} (hz : zA D.1) (h : LFkz D V tn T2 nu k O d p n kd) (h0 : V.2.1 p 0 = some (D.1.1.1 18)) : kd = 60 := by
  have hx : ∀ i, i < 69 → i ≠ 18 → V.2.1 p 0 = some (D.1.1.1 i) → False := fun i hi hne e => hne (zinj hz hi (by decide) (Option.some.inj (e.symm.trans h0)))
  unfold LFkz at h
  split at h
  all_goals first
    | rfl
    | exact h.elim
    | (refine (hx _ ?_ ?_ h.1).elim <;> decide)
    | (refine (hx _ ?_ ?_ h.2.1).elim <;> decide)
    | (refine (hx _ ?_ ?_ h.2).elim <;> decide)
theorem PND.el18 (h : PND D S lo hi ol b n d) (hz : zA D.1) (h0 : w_p S.1 14 b 0 = some (D.1.1.1 18)) (h12 : w_i S.1 14 b 12 = 0) : w_a S.2.1 12 0 26 n = 60 := by
  obtain ⟨hh, own, c, m', r, h1, h2, h3, h4, h5, h6, h7⟩ := h
  have hc : c = [] := by
    cases c with
    | nil => rfl
    | cons x c =>
      rw [h12] at h5
      simp [bI] at h5
  subst hc
  have e : n = m' := h1
  subst e
  obtain ⟨g1, kd, g2, g3, -, g4⟩ := h4
  have := LFkz.el hz g4 h0
  subst this
  exact g2
theorem PND.el60 (h : PND D S lo hi ol b n d) (h60 : w_a S.2.1 12 0 26 n = 60) : w_p S.1 14 b 0 = some (D.1.1.1 18) ∧ w_i S.1 14 b 12 = 0 := by
  obtain ⟨hh, own, c, m', r, h1, h2, h3, h4, h5, h6, h7⟩ := h
  have hc : c = [] := by
    cases c with
    | nil => rfl
    | cons x c =>
      have h58 : w_a S.2.1 12 0 26 n = 58 := h1.2.1
      rw [h60] at h58
      exact absurd h58 (by decide)
  subst hc
  have e : n = m' := h1
  subst e
  obtain ⟨g1, kd, g2, g3, -, g4⟩ := h4
  have g2 : w_a S.2.1 12 0 26 n = i_ kd := g2
  have hk : kd = 60 := by
    rw [h60, show (60 : Int32) = i_ 60 from rfl] at g2
    have := (i_eq (by omega) (by omega)).mp g2
    omega
  subst hk
  exact ⟨g4.2.1, h5⟩
theorem SY.za {S : pS} (h : SY D K S p q o o') : zA D.1 := h.1.1.1.1.1
/-- an operand that is an element -/
theorem p_opelem (IH : EXq D K E' g) (hL : lex o ≤ L + 60) (hL' : lex o ≤ L' + 150) (hS : SY D K (w, t, al, m, N, nu, tn) p p o o) (hg : K.length ≤ p + 1 + g) (hB : m ≤ 4 * p + 8 ∧ N ≤ 4 * p + 8) (h70 : kk K p = 70) (h40 : kk K (p + 1) ≠ 40) :
    PW w t (fun Q => zw D.1 L kt_M198 [.ref (w_adr D.1.2.1 4 0)] w Q) (fun Q => zw E' L' kt_M396 [.ref (w_adr E'.2.1 12 0)] t Q) (PR D K [] [] (w, t, al, m, N, nu, tn) p o true true 0 (GM D K (w, t, al, m, N, nu, tn) p)) := by
  have hlx := hL
  have hlx' := hL'
  unfold lex at hlx hlx'
  have hpl := hS.ta.lt
  have ho20 := hS.2.1.1.2.2.2.2
  have H : HY D K [] [] (w, t, al, m, N, nu, tn) (w, t, al, m, N, nu, tn) p p o o := ⟨hS, FR.rf hS.mle⟩
  have hal := H.alive
  refine PW_of' (A := fun Q => zb_X5_operand_p0 D.1 L Q w) (B := fun Q => zw E' L' kt_M396 [.ref (w_adr E'.2.1 12 0)] t Q) (fun Q h => zt_X5_operand_p0 (by omega) h) (fun _ h => h) ?_
  simp only [zb_X5_operand_p0, zb_X5_operand_p112]
  refine PS_cn (by omega) (by omega) H (fun b al' w2 H1 HF O1 hb hb0 => ?_)
  have hC := H1.1.ca
  have hkr := hC.kr
  obtain ⟨l2, l3, l4, l5, l6⟩ := hC.1.1.2.1
  simp only [H1.cpos, l2, l3, l4, i_nat' (show p < 2147483648 by omega)]
  refine PS_land (i_inb' (by omega) (by omega)) (PS_lex (kA K p).1.1 (zO_at hC) ?_)
  have hwl : w_l w2 D.1.2.1 14 b := O1.wl H1.1
  have hs : (kA K p).1.1 = 1 := by have := hC.kkc; omega
  refine PS_lp (by rw [hs]; decide +kernel) (PS_lex b rfl (PS_land hwl ?_))
  have hp1 := H1.p1 (by omega)
  have hnm := H1.1.nm h70
  have H2 := H1.wp (k := 0) (v := some (D.1.1.1 18)) O1.1.2 (fun e => absurd e hb0)
  have O2 := O1.sp (k := 0) (v := some (D.1.1.1 18))
  refine PS_nml (by omega) H2 h70 (fun H3 => ?_) (fun w' hd h76 => ?_)
  · have H4 := H3.wi (k := 9) (v := w_a w2 1 0 3 p) O1.1.2 (fun e => absurd e hb0)
    have O3 : OWc (nx (ws_p w2 14 b 0 (some (D.1.1.1 18))) p, t, al', m + 1, N, nu, tn) b _ _ := O2.w4 (.inl (by decide))
    have O4 := O3.si (k := 9) (v := w_a w2 1 0 3 p)
    refine PS_l1 (fun Q hq => c_is (c := 36) (v := 40) (by omega) H4.1.ca rfl (by unfold wcd; omega) hq) ?_
    refine PS_ln (by rw [decide_eq_false h40]; decide) ?_
    refine PR_c1t hS.krg H4.2 (p_elem IH (by unfold lex; omega) (by unfold lex; omega) H4.1 (by omega) ⟨by omega, by omega⟩ h70 O4 rfl rfl rfl rfl rfl (O4.2.1 9 rfl) hnm) (fun a ha h => ?_) (fun a h => absurd h List.not_mem_nil) (fun x v w3 t3 al3 m3 N3 nu3 tn3 p3 hl H6 HS hbd hgx => ?_) (fun v w3 t3 hv hv2 hd => hd.ret rfl ⟨hv, hv2⟩)
    · simp at ha
      subst ha
      exact absurd h hb0
    · obtain ⟨rfl, n, rfl, hP, hX, hln, hkd, hsl⟩ := hgx
      have hsl : m3 + 4 * p + 1 ≤ m + 1 + 4 * p3 := hsl
      exact PS_ret (.inr ⟨some b, i_ n, al3, m3, N3, nu3, tn3, p3, rfl, rfl, H6, ⟨by omega, by show m3 + _ ≤ m + _; omega, by show N3 + _ ≤ N + _; omega⟩, b, n, rfl, rfl, hP, hX, hb, hln, hkd⟩)
  · refine eS_mono (eS_tail (dd_elemName (by omega) H1 hd (by omega) h70 h76)) (fun r t' h => ?_)
    obtain ⟨e, hd⟩ := h
    exact ⟨hd.1.1.1, hd.2.1, .inr ⟨⟨N, by omega, by omega, e⟩, hd.1.1.2.1, hd.1.1.2.2, hd.2.2⟩⟩
/-- MeetingHouse wants an element where no name stands -/
theorem c_elemFail {gt : pQ} {br : Bool} {lo1 : Int} {G : pGd} {A : (kx_Rs → wS → Prop) → Option Nat → wS → Prop} (hL : 400 ≤ L) (hm : m < 11000) (H : HY D K ex et S0 (w, t, al, m, N, nu, tn) p q o o') (h70 : kk K p ≠ 70) (h : ∀ w', FX w w' → eS gt (fun r' t' => TLP D K S0.1 S0.2.1 br lo1 (fl2 w' 2 (kln K p)) r' t')) : PS (fun Q => zw D.1 L kt_M172 [.ref (w_adr D.1.2.1 4 0)] w (wkr (A Q) (fun e w => Q (.inr e) w))) gt (PRd D K dl ex et S0 p0 oA true br lo1 G) := by
  refine PS_l (fun Q h => zt_X5_element_p0 (by omega) h) ?_
  simp only [zb_X5_element_p0, H.cpos]
  refine PS_l1 (fun Q hq => c_line (by omega) H.1.ca hq) ?_
  refine PS_cn2 (by omega) hm H (fun b al' w2 H1 HF O1 hb hb0 => ?_)
  exact PS_lx1 (fun Q hq => c_name (by omega) H1.1.ca (fun _ => hq) (fun h => absurd h h70) (fun h => absurd h h70)) (PRd_stop (h w2 HF.1.1))
/-- behind the condition of a GUARD, if it is one -/
theorem p_gcond {G : Nat} (IH : EXq D K E' G) (IHP : PRq D K E' G) (hd20 : d ≤ 19) (hL : dex d ≤ L + 170) (hL' : dex d ≤ L' + 170) (H : HY D K [] [] S0 (w, t, al, m, N, nu, tn) p p 0 0) (hg : K.length ≤ p + 1 + G) (hB : m ≤ 4 * p + 8 ∧ N ≤ 4 * p + 8) (hln : kln K p = kln K p0) (hO : OWc (w, t, al, m, N, nu, tn) b fi fp) (hT : OWt (w, t, al, m, N, nu, tn) n ft) (hn : S0.2.2.2.2.1 ≤ n ∧ n < 14000) (hb : b ∉ S0.2.2.1.take S0.2.2.2.1) (hfi : (fi 2 = i_ (kln K p0) ∧ fi 12 = 0 ∧ fp 7 = none ∧ fp 0 = some (D.1.1.1 52) ∧ fp 6 = none ∧ fi 10 = 0 ∧ fp 3 = none) ∧ (ft 26 = 18 ∧ ft 27 = i_ (kln K p0) ∧ ft 32 = -1 ∧ ft 30 = -1))
    (hP : PND D (w, t, al, m, N, nu, tn) lo hi (oE K (kln K p0) 0 p0 p) b1 n1 0) (hnr : NRw w (al.take m) b1) (hk : w_a t 12 0 26 n1 = 60 → kk K p ≠ 48) (hbx : b1 ∉ S0.2.2.1.take S0.2.2.2.1) (hbb : b ≠ b1) (hlo : S0.2.2.2.2.1 ≤ lo) (hnl : n < lo) (hp0 : p0 + 1 ≤ p) (hbd : m + 4 * p0 ≤ S0.2.2.2.1 + 4 * p + 1 ∧ N + 4 * p0 ≤ S0.2.2.2.2.1 + 4 * p + 1) :
    PS (fun Q => zg_C D.1 L Q (i_ d) (some b) (some b1) w) (fun Q => kx_inb (i_ n) (w_n t 12 0 28) = true ∧ zb_X13_guard_p98 E' L' Q (i_ (d + 1 : Nat)) (i_ (kln K p0)) (i_ n) (-1) (ws_a t 12 0 28 (i_ n : Int32).toNatClampNeg (i_ n1))) (PRd D K (d + 1) [] [] S0 p0 0 true true 0 (GPs 1 18 D K S0 p0)) := by
  have hLd := hL
  have hLd' := hL'
  unfold dex at hL hL'
  have hle : lex 0 ≤ L - 22 + 150 := by unfold lex; omega
  have hle' : lex 0 ≤ L' - 23 + 150 := by unfold lex; omega
  have hpl := H.1.ta.lt
  have hal := H.alive
  have hnN : n < N := hT.1.1
  have hSN : S0.2.2.2.2.1 ≤ N := H.2.2.1.2.2.1
  have hn1 := hP.lt
  have hn1N : n1 < N := hn1.1
  have hwl : w_l w D.1.2.1 14 b1 := H.1.wl hP.bm.1
  simp only [zg_C, zb_X13_guard_p98, zb_X5_guard_p80, zb_X5_guard_p59]
  rw [i_nat' (show n < 2147483648 by omega)]
  have H1 := H.ta (k := 28) (n := n) (v := i_ n1) rfl hT.1.2 (fun h => absurd h (by omega))
  have T1 := hT.si (k := 28) (v := i_ n1)
  have O1 : OWc (w, ws_a t 12 0 28 n (i_ n1), al, m, N, nu, tn) b _ _ := hO
  have r28 : w_a (ws_a t 12 0 28 n (i_ n1)) 12 0 28 n = i_ n1 := T1.2 28 rfl
  rw [r28]
  refine PS_l1 (fun Q hq => c_is (c := 46) (v := 50) (by omega) H.1.ca rfl (by unfold wcd; omega) hq) ?_
  refine PS_rand (by rw [H.1.tl.2.2.1]; exact i_inb' (by omega) (by omega)) (PS_rand (by rw [H1.1.tl.2.2.1]; exact i_inb' (by omega) (by omega)) (PS_rn (i_nn (by omega)) ?_))
  cases h50 : decide (kk K p = 50) with
  | true =>
    have h50 : kk K p = 50 := of_decide_eq_true h50
    refine PS_ln (by decide) ?_
    have hp1 := H.p1 (by omega)
    have hln1 := H.1.ln hp1 (by omega)
    refine PSd_nxl (by omega) H1 (by omega) (fun H2 => ?_) (fun w' hd h76 => ?_)
    · refine PS_r0 (fun Q hq => t_want (v := 50) (by omega) H2.1.ta H2.1.krg rfl (by omega) (fun _ => hq) (fun h => absurd h50 h)) ?_
      have H3 := H2.tnx (by omega) hal
      have hpl3 := H3.1.ta.lt
      have O3 : OWc (nx w p, nx3 (ws_a t 12 0 28 n (i_ n1)) p, al, m, N, nu, tn) b _ _ := O1.w4 (j := 3) (v := i_ (p + 1 : Nat)) (.inl (by decide))
      have T3 : OWt (nx w p, nx3 (ws_a t 12 0 28 n (i_ n1)) p, al, m, N, nu, tn) n _ := T1
      refine PS_lex b rfl (PS_land (O3.wl H3.1) ?_)
      have H4 := H3.wp (k := 5) (v := some b1) O3.1.2 (fun e => absurd e hb) (LKO.mk hP.bm.1 hnr hbx)
      have O4 := O3.sp (k := 5) (v := some b1)
      have T4 : OWt (ws_p (nx w p) 14 b 5 (some b1), nx3 (ws_a t 12 0 28 n (i_ n1)) p, al, m, N, nu, tn) n _ := T3
      have hP4 : PND D (ws_p (nx w p) 14 b 5 (some b1), nx3 (ws_a t 12 0 28 n (i_ n1)) p, al, m, N, nu, tn) lo hi (oE K (kln K p0) 0 p0 p) b1 n1 0 := by
        refine hP.cong (n := n) (bx := b) (fun a ha k => ⟨?_, ?_⟩) rfl (fun y hy k => ?_) ⟨.inl hnl, hT.1.2⟩ ⟨hO.1.2, fun e => hbb e.symm⟩
        · show w_i (nx w p) 14 a k = w_i w 14 a k
          rw [nx_14]
        · show w_p (ws_p (nx w p) 14 b 5 (some b1)) 14 a k = w_p w 14 a k
          rw [Rpp, if_neg (fun z => ha z.2.2)]
          rfl
        · show w_a (ws_a t 12 0 28 n (i_ n1)) 12 0 k y = w_a t 12 0 k y
          rw [Raa, if_neg (fun z => hy z.2.2.2)]
      obtain ⟨x5, tn5, r5, H5, hC5, hm1, hm2, hn5⟩ := H4.fin hP4 hbx hlo
      have O5 := O4.fin (x := x5) (tn' := tn5) hbb
      have T5 := T4.fin (nu' := nuU nu b1 x5) hm2 (.inl hnl)
      have hc5 : EOz (vw (ws_p (nx w p) 14 b 5 (some b1)) (nx3 (ws_a t 12 0 28 n (i_ n1)) p)) tn5 (nuU nu b1 x5) (r5 + 1) (oE K (kln K p0) 0 p0 p) 0 (some b1) (i_ n1) := .inr ⟨b1, n1, rfl, rfl, hC5⟩
      refine PS_l1 (fun Q hq => c_is (c := 28) (v := 28) (by omega) H5.1.ca rfl (by unfold wcd; omega) hq) ?_
      cases h28 : decide (kk K (p + 1) = 28) with
      | true =>
        have h28 : kk K (p + 1) = 28 := of_decide_eq_true h28
        refine PS_ln (by decide) ?_
        exact p_gskip (r := 0) IHP (by omega) (by unfold dex; omega) (by unfold dex; omega) H5 (by omega) ⟨by omega, by omega⟩ h28 (hln1.trans hln) O5 T5 hn hb ⟨⟨hfi.1.1, hfi.1.2.1, hfi.1.2.2.1, hfi.1.2.2.2.1⟩, ⟨hfi.2.1, hfi.2.2.1, hfi.2.2.2.1⟩⟩ hc5.wk ⟨hfi.1.2.2.2.2.2.1, hfi.1.2.2.2.2.2.2⟩ (by omega) ⟨by omega, by omega⟩
      | false =>
        have h28 : ¬ kk K (p + 1) = 28 := of_decide_eq_false h28
        refine PS_lp (by decide) ?_
        simp only [zb_X13_guard_p113, zb_X13_guard_p143]
        refine PS_rn (by simp) ?_
        refine PS_r1 (fun Q hq => t_may (v := 28) (by omega) H5.1.ta H5.1.krg rfl (by omega) (fun h => absurd h h28) (fun _ => hq)) (PS_rp rfl (PS_rn (by simp) ?_))
        refine PS_r1 (fun Q hq => t_look (by omega) H5.1.ta hq) ?_
        have hkr := H5.1.ta.kr H5.1.krg
        have e70v : (i_ (kk K (p + 1)) = (70 : Int32)) = (kk K (p + 1) = 70) := i_eqk (show -1000 ≤ kk K (p + 1) ∧ kk K (p + 1) ≤ 1000 by omega) (show (-1000 : Int) ≤ 70 by decide) (by decide)
        simp only [e70v]
        by_cases e70 : kk K (p + 1) = 70
        · refine PS_rp e70 ?_
          refine PRd_c11 H.1.krg H5.2 (p_element IH (L := L - 22) (L' := L' - 23) hle hle' H5.1 (by omega) ⟨by omega, by omega⟩) (fun a h => absurd h List.not_mem_nil) (fun a h => absurd h List.not_mem_nil) (fun x v w6 t6 al6 m6 N6 nu6 tn6 p6 hl6 H6 HS6 hbd6 hgx => ?_) (fun v w6 t6 hv hv2 hd => ?_)
          · obtain ⟨b2, n2, rfl, rfl, hP6, hX6, hb2, hln6, hkd⟩ := hgx
            have hpl6 := H6.1.ta.lt
            have O6 := O5.fr HS6.2 List.not_mem_nil
            have T6 := T5.fr HS6.2 List.not_mem_nil
            have hvf := VWa.fr H5.1 HS6.2 (fun _ h => absurd h List.not_mem_nil) (fun _ h => absurd h List.not_mem_nil)
            have hc6 := hc5.up (k' := 0) hvf HS6.2.2.2.2.2.1.1 HS6.2.2.2.2.2.1.2.1 (Nat.le_refl _)
            rw [hln1, hln] at hP6
            have hbb2 : b ≠ b2 := fun e => hb2 (by rw [← e]; exact O5.1.1.1)
            exact p_gask (r := 0) IH IHP hd20 (by unfold dex; omega) (by unfold dex; omega) H6 (by omega) ⟨by omega, by omega⟩ (by rw [hln6, hln1, hln]) O6 T6 hn hb ⟨⟨hfi.1.1, hfi.1.2.1, hfi.1.2.2.1, hfi.1.2.2.2.1, hfi.1.2.2.2.2.1⟩, ⟨hfi.2.1, hfi.2.2.1, hfi.2.2.2.1, hfi.2.2.2.2⟩⟩ hc6.wk hP6.wk hX6.2.2 hkd (fun e => hb2 (H5.2.sub e)) hbb2 hSN (.inl hnN) (by omega) ⟨by omega, by omega⟩
          · simp only [zb_X13_guard_p170]
            refine eS_1 (fun Q hq => t_look (by omega) hd.2.2.1 hq) ?_
            rw [hd.2.2.2.1]
            exact eS_n (by decide) (dd_stop (no := 2) hd (by omega))
        · refine PS_rn e70 ?_
          refine c_elemFail (by omega) (by omega) H5 e70 (fun w' hf => ?_)
          exact eS_l (fun Q hq => t_throw (no := 2) (e := "") (by omega) H5.1.ta hkr hq) (TLP_two H5 hf frm.rf H5.alive)
    · have hdd := H1.dd hd (by omega) (by omega) hal h76
      refine eS_0 (fun Q hq => t_want (v := 50) (by omega) H1.1.ta H1.1.krg rfl (by omega) (fun _ => hq) (fun h => absurd h50 h)) ?_
      simp only [zb_X13_guard_p113, zb_X13_guard_p143]
      refine eS_n (by simp) ?_
      refine eS_1 (fun Q hq => t_may (v := 28) (by omega) hdd.2.2.1 hdd.1.2 rfl ⟨by decide, by decide⟩ (fun e => by rw [hdd.2.2.2.1] at e; exact absurd e (by decide)) (fun _ => hq)) (eS_p rfl (eS_n (by simp) ?_))
      refine eS_1 (fun Q hq => t_look (by omega) hdd.2.2.1 hq) ?_
      rw [hdd.2.2.2.1]
      exact eS_n (by decide) (dd_stop (no := 2) hdd (by omega))
  | false =>
    have h50 : ¬ kk K p = 50 := of_decide_eq_false h50
    refine PS_lp (by decide) (PS_lex b1 rfl (PS_land hwl ?_))
    have htwo : PS (fun Q => zw D.1 (L - 20) kt_M213 [.ref (w_adr D.1.2.1 4 0)] w (wk0 (fun w1 => wle w w1 → zb_X5_guard_p84 D.1 L Q (i_ d) (some b) (some b1) w1) (fun e w => Q (.inr e) w))) (fun Q => zw E' (L' - 21) kt_M600 [.ref (w_adr E'.2.1 12 0), .int 50] (ws_a t 12 0 28 n (i_ n1)) (wk0 (fun w1 => wle (ws_a t 12 0 28 n (i_ n1)) w1 → zb_X13_guard_p113 E' L' Q (i_ (d + 1 : Nat)) (i_ (kln K p0)) (i_ n) (-1) w1) (fun e w => Q (.inr e) w))) (PRd D K (d + 1) [] [] S0 p0 0 true true 0 (GPs 1 18 D K S0 p0)) := by
      refine PSd_two (by omega) H1 (fun w' e => ?_)
      subst e
      exact eS_x0 (fun Q hq => t_want (v := 50) (by omega) H1.1.ta H1.1.krg rfl (by omega) (fun h => absurd h h50) (fun _ => hq)) (TLP_two H1 FX.rf frm.rf hal)
    refine PS_lif (fun _ => htwo) (fun h18 => PS_lif (fun h12 => ?_) (fun _ => htwo))
    have h18 : w_p w 14 b1 0 = some (D.1.1.1 18) := Decidable.byContradiction h18
    have e48 := hk (hP.el18 H.1.za h18 h12)
    simp only [zb_X5_guard_p84]
    refine PS_lp (by simp) ?_
    refine PS_lx0 (fun Q hq => c_expect (c := 44) (v := 48) (by omega) H.1.ca rfl (by unfold wcd; omega) (fun _ => hq) (fun h => absurd h e48) (fun h => absurd h e48)) (PRd_stop ?_)
    exact eS_x0 (fun Q hq => t_want (v := 50) (by omega) H1.1.ta H1.1.krg rfl (by omega) (fun h => absurd h h50) (fun _ => hq)) (TLP_two H1 FX.rf frm.rf hal)
theorem dd_p98 {l x3 : Int32} (h : DDs D K S0 w' t) (hL : 1000 ≤ L') (hn : n < 14000) (hx : x3 = i_ n) : eS (fun Q => zb_X13_guard_p98 E' L' Q x1 l x3 (-1) t) (fun r' t' => TLP D K S0.1 S0.2.1 true 0 w' r' t') := by
  subst hx
  simp only [zb_X13_guard_p98, zb_X13_guard_p113, zb_X13_guard_p143]
  refine eS_and (by rw [h.2.2.tl.2.2.1]; exact i_inb' (by omega) (by omega)) (eS_ifb ?_ (dd_want (v := 50) h (by omega) rfl (by omega)))
  refine eS_n (by simp) ?_
  refine eS_1 (fun Q hq => t_may (v := 28) (by omega) h.2.2.1 h.1.2 rfl ⟨by decide, by decide⟩ (fun e => by rw [h.2.2.2.1] at e; exact absurd e (by decide)) (fun _ => hq)) (eS_p rfl (eS_n (by simp) ?_))
  refine eS_1 (fun Q hq => t_look (by omega) h.2.2.1 hq) ?_
  rw [h.2.2.2.1]
  exact eS_n (by decide) (dd_stop (no := 2) h (by omega))
/-- a GUARD, on its line -/
theorem p_guard {G : Nat} (IO : OPq D K E' G) (IH : EXq D K E' G) (IHP : PRq D K E' G) (hd20 : d ≤ 19) (hL : dex d ≤ L + 150) (hL' : dex d ≤ L' + 150) (hS : SY D K (w, t, al, m, N, nu, tn) p p 0 0) (hg : K.length ≤ p + G) (hB : m ≤ 4 * p + 7 ∧ N ≤ 4 * p + 7) (hbe : bBe 4 (kk K p) = true) :
    PS (fun Q => zw D.1 L kt_M181 [.ref (w_adr D.1.2.1 4 0), .int (i_ d)] w Q) (fun Q => zg_T E' L' Q (i_ (d + 1 : Nat)) t) (PRd D K (d + 1) [] [] (w, t, al, m, N, nu, tn) p 0 true true 0 (GPs 1 18 D K (w, t, al, m, N, nu, tn) p)) := by
  have hLd := hL
  have hLd' := hL'
  unfold dex at hL hL'
  have hlx : lex 0 ≤ L - 22 := by unfold lex; omega
  have hlx' : lex 0 ≤ L' - 22 := by unfold lex; omega
  have hlo : lex 0 ≤ L - 22 - 21 + 60 := by unfold lex; omega
  have hlo' : lex 0 ≤ L' - 23 + 150 := by unfold lex; omega
  have hle' : lex 0 ≤ L' - 24 + 24 := by unfold lex; omega
  have hpl := hS.ta.lt
  have H : HY D K [] [] (w, t, al, m, N, nu, tn) (w, t, al, m, N, nu, tn) p p 0 0 := ⟨hS, FR.rf hS.mle⟩
  have hal := H.alive
  have hkr := H.1.ta.kr H.1.krg
  have hk75 : kk K p ≠ 75 ∧ kk K p ≠ 74 := ⟨fun e => (by rw [e] at hbe; exact absurd hbe (by decide)), fun e => (by rw [e] at hbe; exact absurd hbe (by decide))⟩
  refine PS_l (fun Q h => zt_X5_guard_p0 (by omega) h) ?_
  simp only [zb_X5_guard_p0, zg_T, H.tpos, i_nat' (show p < 2147483648 by omega), H.1.r9, H.l9.1]
  refine PS_cn (by omega) (by omega) H (fun b al' w1 H1 HF O1 hb hb0 => ?_)
  refine PS_rand (i_inb' (by omega) (by omega)) ?_
  refine PS_r1 (fun Q hq => t_node (by omega) H1.kt H1.tN (by omega) hq) ?_
  have H2 := H1.tnd (x := 18) (l := i_ (kln K p))
  have T2 := OWt.new (x := 18) (l := i_ (kln K p)) H1
  have O2 : OWc (w1, nd3 t N 18 (i_ (kln K p)), al', m + 1, N + 1, nu, tn) b _ _ := O1.tt
  have hpl2 := H2.1.ta.lt
  refine PS_l1 (fun Q hq => c_is (c := 28) (v := 28) (by omega) H2.1.ca rfl (by unfold wcd; omega) hq) ?_
  refine PS_r1 (fun Q hq => t_look (by omega) H2.1.ta hq) ?_
  have e28v : (i_ (kk K p) = (28 : Int32)) = (kk K p = 28) := i_eqk (show -1000 ≤ kk K p ∧ kk K p ≤ 1000 by omega) (show (-1000 : Int) ≤ 28 by decide) (by decide)
  have e70v : (i_ (kk K p) = (70 : Int32)) = (kk K p = 70) := i_eqk (show -1000 ≤ kk K p ∧ kk K p ≤ 1000 by omega) (show (-1000 : Int) ≤ 70 by decide) (by decide)
  simp only [e28v]
  have hSN : ((w, t, al, m, N, nu, tn) : pS).2.2.2.2.1 = N := rfl
  have hSm : ((w, t, al, m, N, nu, tn) : pS).2.2.2.1 = m := rfl
  cases h28 : decide (kk K p = 28) with
  | true =>
    have h28 : kk K p = 28 := of_decide_eq_true h28
    refine PS_lp (by decide) (PS_rp h28 ?_)
    exact p_gskip (r := 0) IHP (by omega) (by unfold dex; omega) (by unfold dex; omega) H2 (by omega) ⟨by omega, by omega⟩ h28 rfl O2 T2 ⟨Nat.le_refl _, by omega⟩ hb0 ⟨⟨rfl, rfl, rfl, rfl⟩, rfl, rfl, rfl⟩ (.inl ⟨rfl, rfl⟩) ⟨rfl, rfl⟩ (Nat.le_refl _) ⟨by omega, by omega⟩
  | false =>
    have h28 : ¬ kk K p = 28 := of_decide_eq_false h28
    refine PS_ln (by decide) (PS_rn h28 ?_)
    refine PS_r1 (fun Q hq => t_look (by omega) H2.1.ta hq) ?_
    simp only [e70v]
    change PS (fun Q => zw D.1 (L - 22) kt_M177 [.ref (w_adr D.1.2.1 4 0)] w1 (wkr (fun v6 w5 => wle w1 w5 → zg_C D.1 L Q (i_ d) (some b) v6 w5) (fun e w => Q (.inr e) w))) _ _
    have hB88 : ¬ (kk K p = 70 ∧ kk K (p + 1) ≠ 40) → PS (fun Q => zw D.1 (L - 22) kt_M177 [.ref (w_adr D.1.2.1 4 0)] w1 (wkr (fun v6 w5 => wle w1 w5 → zg_C D.1 L Q (i_ d) (some b) v6 w5) (fun e w => Q (.inr e) w))) (fun Q => zb_X13_guard_p88 E' L' Q (i_ (d + 1 : Nat)) (i_ (kln K p)) (i_ N) (-1) (nd3 t N 18 (i_ (kln K p)))) (PRd D K (d + 1) [] [] (w, t, al, m, N, nu, tn) p 0 true true 0 (GPs 1 18 D K (w, t, al, m, N, nu, tn) p)) := by
      intro hne
      simp only [zb_X13_guard_p88]
      refine PRd_c11 H.1.krg H2.2 (IH (L - 22) (L' - 22) _ _ _ _ _ _ _ _ _ hlx hlx' H2.1 hg ⟨by omega, by omega⟩) (fun a h => absurd h List.not_mem_nil) (fun a h => absurd h List.not_mem_nil) (fun x v w3 t3 al3 m3 N3 nu3 tn3 p3 hl3 H3 HS3 hbd3 hgx => ?_) (fun v w3 t3 hv hv2 hd => ?_)
      · obtain ⟨b1, n1, rfl, rfl, hP3, hX3, hb1, hln3, hfk⟩ := hgx
        have hpl3 := H3.1.ta.lt
        have hbb1 : b ≠ b1 := fun e => hb1 (by rw [← e]; exact O2.1.1.1)
        exact p_gcond IH IHP hd20 (by unfold dex; omega) (by unfold dex; omega) H3 (by omega) ⟨by omega, by omega⟩ hln3 (O2.fr HS3.2 List.not_mem_nil) (T2.fr HS3.2 List.not_mem_nil) ⟨Nat.le_refl _, by omega⟩ hb0 ⟨⟨rfl, rfl, rfl, rfl, rfl, rfl, rfl⟩, rfl, rfl, rfl, rfl⟩ hP3 hX3.2.2 (fun e => absurd (hfk e) hne) (fun e => hb1 (H2.2.sub e)) hbb1 (by show N ≤ N + 1; omega) (Nat.lt_succ_self N) (by omega) ⟨by omega, by omega⟩
      · refine eS_and (by rw [hd.2.2.tl.2.2.1]; exact i_inb' (by omega) (by omega)) ?_
        rw [i_nat' (show N < 2147483648 by omega)]
        exact dd_p98 (hd.ta rfl) (by omega) (show N < 14000 by omega) rfl
    by_cases e70 : kk K p = 70
    · refine PS_rn (not_not_intro e70) ?_
      refine PS_r1 (fun Q hq => t_ahead (by omega) H2.1.ta hk75.1 hal hq) ?_
      have hp1 := H2.p1 hk75.1
      have hk1 := H.1.krg.1 (p + 1) hp1
      have e40v : (i_ (kk K (p + 1)) = (40 : Int32)) = (kk K (p + 1) = 40) := i_eqk (show -1000 ≤ kk K (p + 1) ∧ kk K (p + 1) ≤ 1000 from ⟨by have := hk1.1; omega, by have := hk1.2.1; omega⟩) (show (-1000 : Int) ≤ 40 by decide) (by decide)
      simp only [e40v]
      by_cases e40 : kk K (p + 1) = 40
      · exact PS_rp e40 (hB88 (fun h => h.2 e40))
      · refine PS_rn e40 ?_
        refine PS_l (fun Q h => zt_X5_expression_p0 (by omega) h) ?_
        simp only [zb_X5_expression_p0]
        refine PS_l1 (fun Q hq => c_is (c := 54) (v := 58) (by omega) H2.1.ca rfl (by unfold wcd; omega) hq) (PS_ln (by rw [decide_eq_false (show ¬ kk K p = 58 by omega)]; decide) ?_)
        refine PS_l1 (fun Q hq => c_is (c := 63) (v := 67) (by omega) H2.1.ca rfl (by unfold wcd; omega) hq) (PS_ln (by rw [decide_eq_false (show ¬ kk K p = 67 by omega)]; decide) ?_)
        refine PS_l1 (fun Q hq => c_is (c := 17) (v := 17) (by omega) H2.1.ca rfl (by unfold wcd; omega) hq) (PS_ln (by rw [decide_eq_false (show ¬ kk K p = 17 by omega)]; decide) ?_)
        refine PS_l1 (fun Q hq => c_is (c := 14) (v := 14) (by omega) H2.1.ca rfl (by unfold wcd; omega) hq) (PS_ln (by rw [decide_eq_false (show ¬ kk K p = 14 by omega)]; decide) ?_)
        refine PS_l1 (fun Q hq => c_is (c := 27) (v := 27) (by omega) H2.1.ca rfl (by unfold wcd; omega) hq) (PS_lp (by rw [decide_eq_false (show ¬ kk K p = 27 by omega)]; decide) ?_)
        refine PRd_cG (Kc := fun Q => wkr (fun v12 w11 => wle w1 w11 → zg_X D.1 (L - 22) (wkr (fun v6 w5 => wle w1 w5 → zg_C D.1 L Q (i_ d) (some b) v6 w5) (fun e w => Q (.inr e) w)) v12 w11) (fun e w => Q (.inr e) w)) (A := fun Q v12 w11 => zg_X D.1 (L - 22) (wkr (fun v6 w5 => wle w1 w5 → zg_C D.1 L Q (i_ d) (some b) v6 w5) (fun e w => Q (.inr e) w)) v12 w11) (bl1 := true) (br1 := true) H.1.krg H2.2 (p_opelem (L := L - 22 - 21) (L' := L' - 23) IH hlo hlo' H2.1 (by omega) ⟨by omega, by omega⟩ e70 e40) (fun a h => absurd h List.not_mem_nil) (fun a h => absurd h List.not_mem_nil) (fun _ _ _ a => wkr_k a) (fun _ _ _ a => fun _ => a) (fun _ _ _ a => a) (fun _ _ _ a => a) (fun x v w3 t3 al3 m3 N3 nu3 tn3 p3 hl3 H3 HS3 hbd3 hgx => ?_) (fun v w3 t3 hv hv2 hd => ?_)
        · obtain ⟨b2, n2, rfl, rfl, hP3, hX3, hb2, hln3, hkd⟩ := hgx
          have hpl3 := H3.1.ta.lt
          have hN3 : N + 1 ≤ N3 := HS3.2.2.1.2.2.1
          have O3 := O2.fr HS3.2 List.not_mem_nil
          have T3 := T2.fr HS3.2 List.not_mem_nil
          have hbb2 : b ≠ b2 := fun e => hb2 (by rw [← e]; exact O2.1.1.1)
          have hkr3 := H3.1.ta.kr H3.1.krg
          refine PS_r1 (fun Q hq => t_look (by omega) H3.1.ta hq) ?_
          have e48v : (i_ (kk K p3) = (48 : Int32)) = (kk K p3 = 48) := i_eqk (show -1000 ≤ kk K p3 ∧ kk K p3 ≤ 1000 by omega) (show (-1000 : Int) ≤ 48 by decide) (by decide)
          simp only [e48v]
          by_cases e48 : kk K p3 = 48
          · refine PS_rp e48 ?_
            simp only [zg_X]
            refine PS_l1 (fun Q hq => c_is (c := 2) (v := 2) (by omega) H3.1.ca rfl (by unfold wcd; omega) hq) (PS_ln (by rw [decide_eq_false (show ¬ kk K p3 = 2 by omega)]; decide) ?_)
            refine PS_l1 (fun Q hq => c_is (c := 19) (v := 19) (by omega) H3.1.ca rfl (by unfold wcd; omega) hq) (PS_lp (by rw [decide_eq_false (show ¬ kk K p3 = 19 by omega)]; decide) ?_)
            refine PS_l1 (fun Q hq => c_isOperation (by omega) H3.1.ca hq) (PS_ln (by rw [e48]; decide) ?_)
            refine PS_l (fun Q h => fun _ => h) ?_
            simp only [zg_C, zb_X13_guard_p98, zb_X13_guard_p113, zb_X13_guard_p143]
            refine PS_l1 (fun Q hq => c_is (c := 46) (v := 50) (by omega) H3.1.ca rfl (by unfold wcd; omega) hq) (PS_lp (by rw [decide_eq_false (show ¬ kk K p3 = 50 by omega)]; decide) ?_)
            have hel := hP3.el60 hkd
            refine PS_lex b2 rfl (PS_land (H3.1.wl hP3.bm.1) (PS_ln (not_not_intro hel.1) (PS_lp hel.2 ?_)))
            refine PS_rand (by rw [H3.1.tl.2.2.1]; exact i_inb' (by omega) (by omega)) ?_
            rw [i_nat' (show N < 2147483648 by omega)]
            have r28 : w_a t3 12 0 28 N = -1 := T3.2 28 rfl
            have hnz := hP3.lt
            have hnzN : n2 < N3 := hnz.1
            refine PS_rp (by rw [r28]; decide) (PS_rp (i_ne1 (by omega)) (PS_rp (i_ne1 (by omega)) ?_))
            exact p_gask (r := 0) IH IHP hd20 (by unfold dex; omega) (by unfold dex; omega) H3 (by omega) ⟨by omega, by omega⟩ hln3 O3 T3 ⟨Nat.le_refl _, by omega⟩ hb0 ⟨⟨rfl, rfl, rfl, rfl, rfl⟩, rfl, rfl, rfl, rfl⟩ (.inl ⟨rfl, rfl⟩) hP3 hX3.2.2 hkd (fun e => hb2 (H2.2.sub e)) hbb2 (by show N ≤ N + 1; omega) (.inl (Nat.lt_succ_self N)) (by omega) ⟨by omega, by omega⟩
          · refine PS_rn e48 ?_
            have H3S : HY D K [] [] (w1, nd3 t N 18 (i_ (kln K p)), al', m + 1, N + 1, nu, tn) (w1, nd3 t N 18 (i_ (kln K p)), al', m + 1, N + 1, nu, tn) p p 0 0 := ⟨H2.1, FR.rf H2.1.mle⟩
            refine PSg_cG (gc1 := fun Q => zg_X D.1 (L - 22) Q (some b2) w3) (gt1 := fun Q => zw E' (L' - 24) kt_M394 [.ref (w_adr E'.2.1 12 0), .int (i_ n2)] t3 Q) (Kc := fun Q => wkr (fun v6 w5 => wle w1 w5 → zg_C D.1 L Q (i_ d) (some b) v6 w5) (fun e w => Q (.inr e) w)) (A := fun Q v6 w5 => zg_C D.1 L Q (i_ d) (some b) v6 w5) (STL.stp STL.of) H.1.krg H2.2 (p_efrom IO hlx hle' H3S hg ⟨by omega, by omega⟩ HS3 hbd3 hP3 hX3 hb2 hln3) (fun a h => absurd h List.not_mem_nil) (fun a h => absurd h List.not_mem_nil) (fun _ _ _ a => wkr_k a) (fun _ _ _ a => fun _ => a) (fun _ _ _ a => a) (fun _ _ _ a => a) (fun x v w5 t5 al5 m5 N5 nu5 tn5 p5 H5 HS5 hbd5 hgx => ?_) (fun v w5 t5 hv hv2 hd => ?_)
            · obtain ⟨b1, n1, rfl, rfl, hP5, hX5, hb1, hln5, hfk⟩ := hgx
              have hpl5 := H5.1.ta.lt
              have hbb1 : b ≠ b1 := fun e => hb1 (by rw [← e]; exact O2.1.1.1)
              exact p_gcond IH IHP hd20 (by unfold dex; omega) (by unfold dex; omega) H5 (by omega) ⟨by omega, by omega⟩ hln5 (O2.fr HS5.2 List.not_mem_nil) (T2.fr HS5.2 List.not_mem_nil) ⟨Nat.le_refl _, by omega⟩ hb0 ⟨⟨rfl, rfl, rfl, rfl, rfl, rfl, rfl⟩, rfl, rfl, rfl, rfl⟩ hP5 hX5.2.2 (fun e => by rw [hfk e]; exact e48) (fun e => hb1 (H2.2.sub e)) hbb1 (by show N ≤ N + 1; omega) (Nat.lt_succ_self N) (by omega) ⟨by omega, by omega⟩
            · refine eS_and (by rw [hd.2.2.tl.2.2.1]; exact i_inb' (by omega) (by omega)) ?_
              rw [i_nat' (show N < 2147483648 by omega)]
              exact dd_p98 (hd.ta rfl) (by omega) (show N < 14000 by omega) rfl
        · refine eS_1 (fun Q hq => t_look (by omega) hd.2.2.1 hq) ?_
          rw [hd.2.2.2.1]
          refine eS_n (by decide) ?_
          refine eS_1 (fun Q hq => t_eFrom_bad (by omega) hd.2.2.1 hd.1.2 hd.2.2.2.1 hq) ?_
          refine eS_and (by rw [hd.2.2.tl.2.2.1]; exact i_inb' (by omega) (by omega)) ?_
          rw [i_nat' (show N < 2147483648 by omega)]
          exact dd_p98 (hd.ta rfl) (by omega) (show N < 14000 by omega) rfl
    · exact PS_rp e70 (hB88 (fun h => e70 h.1))
end GR2
