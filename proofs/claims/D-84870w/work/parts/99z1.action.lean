/-! ===== PARSERS, part 35: actions ===== -/
section ACT
variable {ex et : List Nat} {S S' S0 SA : pS} {D : pD} {K : pK} {p p0 q o o' oA dl m N n n2 b b2 lo hi lo2 hi2 r d d2 dd g pA pB nP bP : Nat} {w t w' : wS} {al : List Nat} {nu : pNz} {tn : Nat → Prop} {E E' : zE} {L L' : Nat} {ol : pOL} {f : Option Nat} {fT x1 x2 : Int32} {Q : kx_Rs → wS → Prop} {fi : Nat → Int32} {fp : Nat → Option Nat} {ft : Nat → Int32} {br : Bool} {lo1 : Int} {Φ : kx_Rs → wS → kx_Rs → wS → Prop} {bl : Option Nat} {gc gt : pQ}
/-- a node that is given back -/
theorem PRd_btail {lo : Int} (h : PS gc gt (PRd D K dl ex et S0 p0 o false true lo (GPb D K S0 p0 b))) : PS (fun Q => gc (wk0 (fun w1 => wle w w1 → Q (.inl (some (va_rf (some b)))) w1) (fun e w => Q (.inr e) w))) (fun Q => gt (wk1 (fun v w1 => wle t w1 → Q (.inl (some (.int v))) w1) (fun e w => Q (.inr e) w))) (PRd D K dl ex et S0 p0 o true true lo (GP2 D K S0 p0)) := by
  refine PS_bind (Kc := fun Q => wk0 (fun w1 => wle w w1 → Q (.inl (some (va_rf (some b)))) w1) (fun e w => Q (.inr e) w)) (Kt := fun Q => wk1 (fun v w1 => wle t w1 → Q (.inl (some (.int v))) w1) (fun e w => Q (.inr e) w)) h (fun r w2 r' t2 hr => ?_)
  rcases hr with ⟨e, hr⟩ | ⟨x, v, al2, m2, N2, nu2, tn2, p2, cz, e1, e2, h1, h2, h3, h4⟩
  · subst e
    have hs : r' = .inr HT_ ∨ ∃ v, r' = .inl (some (.int v)) := by
      rcases hr with ⟨_, _, ⟨e, _⟩ | ⟨⟨v, _, _, e⟩, _⟩⟩ | ⟨⟨v, _, _, e⟩, _⟩
      · exact .inl e
      · exact .inr ⟨_, e⟩
      · exact .inr ⟨_, e⟩
    rcases hs with e | ⟨v, e⟩
    · subst e
      exact PS_l (fun Q a => a) (PS_r (fun Q a => a) (PS_ret (.inl ⟨rfl, hr⟩)))
    · subst e
      exact PS_l (fun Q a => a) (PS_r (fun Q a => fun _ => a) (PS_ret (.inl ⟨rfl, hr⟩)))
  · subst e1 e2 h3
    exact PS_l (fun Q a => fun _ => a) (PS_r (fun Q a => fun _ => a) (PS_ret (.inr ⟨some b, v, al2, m2, N2, nu2, tn2, p2, _, rfl, rfl, h1, h2, h4⟩)))
/-- ALT -/
theorem p_alt {G : Nat} (IO : OPq D K E' G) (IH : EXq D K E' G) (IHP : PRq D K E' G) (hd20 : d ≤ 20) (hL : dex d ≤ L + 50) (hL' : dex d ≤ L' + 50) (H : HY D K [] [] S0 (w, t, al, m, N, nu, tn) p p 0 0) (hS0 : S0.2.2.2.2.1 = N ∧ m ≤ S0.2.2.2.1 + 1) (hg : K.length ≤ p + 1 + G) (hB : m ≤ 4 * p + 9 ∧ N ≤ 4 * p + 8) (hk : kk K p = 1) (hO : OWc (w, t, al, m, N, nu, tn) b fi fp) (hb : b ∉ S0.2.2.1.take S0.2.2.2.1) (f7 : fp 7 = none) (f4 : fp 4 = none) (i2 : fi 2 = i_ (kln K p)) (i12 : fi 12 = 0) :
    PS (fun Q => zw D.1 (L - 24) kt_M161 [.ref (w_adr D.1.2.1 4 0), va_rf (some b), .int (i_ d)] w (wk0 (fun w1 => wle w w1 → Q (.inl (some (va_rf (some b)))) w1) (fun e w => Q (.inr e) w))) (fun Q => zw E' (L' - 26) kt_M350 [.ref (w_adr E'.2.1 12 0), .int (i_ d), .int (i_ (kln K p)), .int 0] (nx3 t p) (wk1 (fun v w1 => wle (nx3 t p) w1 → Q (.inl (some (.int v))) w1) (fun e w => Q (.inr e) w))) (PRd D K d [] [] S0 p 0 true true 0 (GP2 D K S0 p)) := by
  have hLd : dex d ≤ L - 24 + 80 := by unfold dex at *; omega
  have hLd' : dex d ≤ L' - 26 + 80 := by unfold dex at *; omega
  unfold dex at hL hL'
  refine PRd_btail (gc := fun Q => zw D.1 (L - 24) kt_M161 [.ref (w_adr D.1.2.1 4 0), va_rf (some b), .int (i_ d)] w Q) (gt := fun Q => zw E' (L' - 26) kt_M350 [.ref (w_adr E'.2.1 12 0), .int (i_ d), .int (i_ (kln K p)), .int 0] (nx3 t p) Q) ?_
  refine PS_of (fun Q h => zt_X5_alternation_p0 (by omega) h) (fun Q h => zt_X13_alt_p0 (by omega) h) ?_
  simp only [zb_X5_alternation_p0]
  refine PS_lex b rfl (PS_land (hO.wl H.1) ?_)
  have H1 := H.wp (k := 0) (v := some (D.1.1.1 51)) hO.1.2 (fun e => absurd e hb)
  have O1 := hO.sp (k := 0) (v := some (D.1.1.1 51))
  refine PS_l1 (fun Q hq => c_is (c := 22) (v := 22) (by omega) H1.1.ca rfl (by unfold wcd; omega) hq) ?_
  rw [hk, show bI (decide ((1 : Int) = 22)) = 0 from rfl]
  refine PS_land (.inl rfl) (PS_lp rfl ?_)
  have H2 := H1.wi (k := 11) (v := 0) O1.1.2 (fun e => absurd e hb)
  have O2 := O1.si (k := 11) (v := 0)
  exact p_altc (pr := false) IO IH IHP hd20 hLd hLd' H2 hS0 hg hB hk (Nat.le_refl _) O2 hb f7 rfl rfl f4 i12 i2 i2
/-- PRI ALT -/
theorem p_pri {G : Nat} (IO : OPq D K E' G) (IH : EXq D K E' G) (IHP : PRq D K E' G) (hd20 : d ≤ 20) (hL : dex d ≤ L + 50) (hL' : dex d ≤ L' + 50) (H : HY D K [] [] S0 (w, t, al, m, N, nu, tn) p p 0 0) (hS0 : S0.2.2.2.2.1 = N ∧ m ≤ S0.2.2.2.1 + 1) (hg : K.length ≤ p + 1 + G) (hB : m ≤ 4 * p + 9 ∧ N ≤ 4 * p + 8) (hk : kk K p = 22) (hO : OWc (w, t, al, m, N, nu, tn) b fi fp) (hb : b ∉ S0.2.2.1.take S0.2.2.2.1) (f7 : fp 7 = none) (f4 : fp 4 = none) (i2 : fi 2 = i_ (kln K p)) (i12 : fi 12 = 0) :
    PS (fun Q => zw D.1 (L - 24) kt_M161 [.ref (w_adr D.1.2.1 4 0), va_rf (some b), .int (i_ d)] w (wk0 (fun w1 => wle w w1 → Q (.inl (some (va_rf (some b)))) w1) (fun e w => Q (.inr e) w))) (fun Q => zw E' (L' - 21) kt_M600 [.ref (w_adr E'.2.1 12 0), .int 1] (nx3 t p) (wk0 (fun w7 => wle (nx3 t p) w7 → zw E' (L' - 26) kt_M350 [.ref (w_adr E'.2.1 12 0), .int (i_ d), .int (i_ (kln K p)), .int 1] w7 (wk1 (fun v w1 => wle w7 w1 → Q (.inl (some (.int v))) w1) (fun e w => Q (.inr e) w))) (fun e w => Q (.inr e) w))) (PRd D K d [] [] S0 p 0 true true 0 (GP2 D K S0 p)) := by
  have hLd : dex d ≤ L - 24 + 80 := by unfold dex at *; omega
  have hLd' : dex d ≤ L' - 26 + 80 := by unfold dex at *; omega
  unfold dex at hL hL'
  have hpl := H.1.ta.lt
  have hal := H.alive
  have H1 := H.wp (k := 0) (v := some (D.1.1.1 51)) hO.1.2 (fun e => absurd e hb)
  have O1 := hO.sp (k := 0) (v := some (D.1.1.1 51))
  have H2 := H1.wi (k := 11) (v := 1) O1.1.2 (fun e => absurd e hb)
  have O2 := O1.si (k := 11) (v := 1)
  have hp1 := H2.p1 (by omega)
  by_cases h76 : kk K (p + 1) = 76
  · refine PS_l (fun Q h => zt_X5_alternation_p0 (by omega) h) ?_
    simp only [zb_X5_alternation_p0]
    refine PS_lex b rfl (PS_land (hO.wl H.1) ?_)
    refine PS_l1 (fun Q hq => c_is (c := 22) (v := 22) (by omega) H1.1.ca rfl (by unfold wcd; omega) hq) ?_
    rw [hk, show bI (decide ((22 : Int) = 22)) = 1 from rfl]
    refine PS_land (.inr rfl) (PS_ln (by decide) ?_)
    refine PS_lx0 (fun Q hq => c_next (by omega) H2.1.ca (by omega) hal (fun h => absurd h76 h) (fun _ => hq)) (PRd_stop ?_)
    have hd2 := H2.dd (H2.ddx hp1 h76 (FX_nx (p := p))) (by omega) (by omega) hal h76
    exact dd_want (v := 1) hd2 (by omega) rfl (by omega)
  have H3 := (H2.cn (by omega) h76).tnx (by omega) hal
  have hal3 := H3.alive
  have O3 : OWc (nx (ws_i (ws_p w 14 b 0 (some (D.1.1.1 51))) 14 b 11 1) p, nx3 t p, al, m, N, nu, tn) b _ _ := O2.w4 (j := 3) (v := i_ (p + 1 : Nat)) (.inl (by decide))
  by_cases h1 : kk K (p + 1) = 1
  · refine PS_r0 (fun Q hq => t_want (v := 1) (by omega) H3.1.ta H3.1.krg rfl (by omega) (fun _ => hq) (fun h => absurd h1 h)) ?_
    refine PRd_btail (t := nx3 (nx3 t p) (p + 1)) (gc := fun Q => zw D.1 (L - 24) kt_M161 [.ref (w_adr D.1.2.1 4 0), va_rf (some b), .int (i_ d)] w Q) (gt := fun Q => zw E' (L' - 26) kt_M350 [.ref (w_adr E'.2.1 12 0), .int (i_ d), .int (i_ (kln K p)), .int 1] (nx3 (nx3 t p) (p + 1)) Q) ?_
    refine PS_of (fun Q h => zt_X5_alternation_p0 (by omega) h) (fun Q h => zt_X13_alt_p0 (by omega) h) ?_
    simp only [zb_X5_alternation_p0]
    refine PS_lex b rfl (PS_land (hO.wl H.1) ?_)
    refine PS_l1 (fun Q hq => c_is (c := 22) (v := 22) (by omega) H1.1.ca rfl (by unfold wcd; omega) hq) ?_
    rw [hk, show bI (decide ((22 : Int) = 22)) = 1 from rfl]
    refine PS_land (.inr rfl) (PS_ln (by decide) ?_)
    refine PS_l0 (fun Q hq => c_next (by omega) H2.1.ca (by omega) hal (fun _ => hq) (fun h => absurd h h76)) ?_
    exact p_altc (pr := true) IO IH IHP hd20 hLd hLd' H3 hS0 (by omega) ⟨by omega, by omega⟩ h1 (Nat.le_succ p) O3 hb f7 rfl rfl f4 i12 i2 i2
  · refine PS_l (fun Q h => zt_X5_alternation_p0 (by omega) h) ?_
    simp only [zb_X5_alternation_p0]
    refine PS_lex b rfl (PS_land (hO.wl H.1) ?_)
    refine PS_l1 (fun Q hq => c_is (c := 22) (v := 22) (by omega) H1.1.ca rfl (by unfold wcd; omega) hq) ?_
    rw [hk, show bI (decide ((22 : Int) = 22)) = 1 from rfl]
    refine PS_land (.inr rfl) (PS_ln (by decide) ?_)
    refine PS_l0 (fun Q hq => c_next (by omega) H2.1.ca (by omega) hal (fun _ => hq) (fun h => absurd h h76)) ?_
    simp only [zb_X5_alternation_p28]
    refine PS_lx0 (fun Q hq => c_expect (c := 1) (v := 1) (by omega) H3.1.ca rfl (by unfold wcd; omega) (fun _ => hq) (fun h => absurd h h1) (fun h => absurd h h1)) (PRd_stop ?_)
    exact eS_x0 (fun Q hq => t_want (v := 1) (by omega) H3.1.ta H3.1.krg rfl (by omega) (fun h => absurd h h1) (fun _ => hq)) (TLP_two H3 FX.rf frm.rf hal3)
/-- a line that begins with a name -/
theorem p_named {G : Nat} (IHP : PRq D K E' G) (hd20 : d ≤ 20) (hL : dex d ≤ L + 50) (hL' : dex d ≤ L' + 50) (H : HY D K [] [] S0 (w, t, al, m, N, nu, tn) p p 0 0) (hS0 : S0.2.2.2.2.1 = N ∧ m ≤ S0.2.2.2.1 + 1) (hg : K.length ≤ p + 1 + G) (hB : m ≤ 4 * p + 8 ∧ N ≤ 4 * p + 8) (hk : kk K p = 70) (hO : OWc (w, t, al, m, N, nu, tn) b fi fp) (hb : b ∉ S0.2.2.1.take S0.2.2.2.1) (f7 : fp 7 = none) (i2 : fi 2 = i_ (kln K p)) (i12 : fi 12 = 0) :
    PS (fun Q => zw D.1 (L - 28) kt_M167 [.ref (w_adr D.1.2.1 4 0), va_rf (some b), .int (i_ d)] w (wk0 (fun w1 => wle w w1 → Q (.inl (some (va_rf (some b)))) w1) (fun e w => Q (.inr e) w))) (fun Q => zw E' (L' - 21) kt_M349 [.ref (w_adr E'.2.1 12 0), .int 1] t (wk1 (fun v26 w25 => wle t w25 → (if ¬ v26 = 40 then zw E' (L' - 26) kt_M397 [.ref (w_adr E'.2.1 12 0), .int (i_ d), .int (i_ (kln K p))] w25 (wk1 (fun v28 w27 => wle w25 w27 → zb_X13_action_p45 E' L' Q v28 w27) (fun e w => Q (.inr e) w)) else zw E' (L' - 22) kt_M362 [.ref (w_adr E'.2.1 12 0), .int (i_ (kln K p))] w25 (wk1 (fun v30 w29 => wle w25 w29 → zb_X13_action_p45 E' L' Q v30 w29) (fun e w => Q (.inr e) w)))) (fun e w => Q (.inr e) w))) (PRd D K d [] [] S0 p 0 true true 0 (GP2 D K S0 p)) := by
  have IO := fun g => (p_OE (D := D) (K := K) (E' := E') g).1
  have IH := fun g => (p_OE (D := D) (K := K) (E' := E') g).2
  unfold dex at hL hL'
  have e1 : (i_ d : Int32) + 1 = i_ (d + 1 : Nat) := by rw [i_1, i_add, cN1]
  have hpl := H.1.ta.lt
  have hal := H.alive
  have hp1 := H.p1 (by omega)
  have hk1 := H.1.krg.1 (p + 1) hp1
  have e40v : (i_ (kk K (p + 1)) = (40 : Int32)) = (kk K (p + 1) = 40) := i_eqk (show -1000 ≤ kk K (p + 1) ∧ kk K (p + 1) ≤ 1000 from ⟨by have := hk1.1; omega, by have := hk1.2.1; omega⟩) (show (-1000 : Int) ≤ 40 by decide) (by decide)
  have hlx : lex 0 + 600 ≤ L - 28 := by unfold lex; omega
  have hlx' : lex 0 + 600 ≤ L' - 26 := by unfold lex; omega
  have hly' : lex 0 + 200 ≤ L' - 22 := by unfold lex; omega
  refine PS_r1 (fun Q hq => t_ahead (by omega) H.1.ta (by omega) hal hq) ?_
  simp only [e40v, zb_X13_action_p45]
  have hx : ∀ a ∈ [b], a ∈ S0.2.2.1.take S0.2.2.2.1 → a ∈ ([] : List Nat) := fun a h h2 => absurd h2 (by rw [List.mem_singleton.mp h]; exact hb)
  have hΦ : STL D K d S0 true 0 (PRd D K d [] [] S0 p 0 true true 0 (GP2 D K S0 p)) := STL.of
  have fin : ∀ (x : Option Nat) (v : Int32) w2 t2 al2 m2 N2 nu2 tn2 p2 (cz : Nat), HY D K [] [] (cb S0 cz) (w2, t2, al2, m2, N2, nu2, tn2) p2 p2 0 0 → (p < p2 ∧ m2 + 4 * p ≤ m + 4 * p2 ∧ N2 + 4 * p ≤ N + 4 * p2) → GB D K (w, t, al, m, N, nu, tn) p b cz x v (w2, t2, al2, m2, N2, nu2, tn2) p2 → PS (fun Q => Q (.inl (some (va_rf (some b)))) w2) (fun Q => Q (.inl (some (.int v))) t2) (PRd D K d [] [] S0 p 0 true true 0 (GP2 D K S0 p)) := by
    intro x v w2 t2 al2 m2 N2 nu2 tn2 p2 cz H2 hbd hgx
    obtain ⟨n, dd, rfl, hP, hX, e74, hsl, hdd⟩ := hgx
    have hsl : m2 + 4 * p + 3 ≤ m + 4 * p2 ∧ N2 + 4 * p + 3 ≤ N + 4 * p2 := hsl
    exact PS_ret (.inr ⟨some b, i_ n, al2, m2, N2, nu2, tn2, p2, _, rfl, rfl, H2, ⟨by omega, by omega, by omega⟩, b, n, dd, rfl, rfl, (by rw [hS0.1]; exact hP), hX, hb, e74, ⟨by show m2 + _ + 2 ≤ _; omega, by show N2 + _ + 2 ≤ _; omega⟩, hdd⟩)
  by_cases e40 : kk K (p + 1) = 40
  · refine PS_rn (not_not_intro e40) ?_
    refine PSh_cG (dl1 := d) (gc1 := fun Q => zw D.1 (L - 28) kt_M167 [.ref (w_adr D.1.2.1 4 0), va_rf (some b), .int (i_ d)] w Q) (gt1 := fun Q => zw E' (L' - 22) kt_M362 [.ref (w_adr E'.2.1 12 0), .int (i_ (kln K p))] t Q) (Kc := fun Q => wk0 (fun w1 => wle w w1 → Q (.inl (some (va_rf (some b)))) w1) (fun e w => Q (.inr e) w)) (Kt := fun Q => wk1 (fun v w1 => wle t w1 → Q (.inl (some (.int v))) w1) (fun e w => Q (.inr e) w)) (A := fun Q _ w2 => Q (.inl (some (va_rf (some b)))) w2) (B := fun Q v t2 => Q (.inl (some (.int v))) t2) (bl1 := false) (br1 := true) (ex' := [b]) (et' := []) hΦ H.1.krg H.2 (PW_ps (p_call (G := G + 1) (IH (G + 1)) (Nat.le_trans (Nat.add_le_add_left (by decide) _) hlx) hly' H.1 (by omega) hB hk e40 hO f7 i2 i12 rfl)) hx (fun n h => absurd h List.not_mem_nil) (fun _ _ _ a => fun _ => a) (fun _ _ _ a => fun _ => a) (fun _ _ _ a => a) (fun _ _ _ a => a) (fun x v w2 t2 al2 m2 N2 nu2 tn2 p2 cz H2 HS2 hbd hgx => fin x v w2 t2 al2 m2 N2 nu2 tn2 p2 cz H2 hbd hgx) (fun v w2 t2 hv hv2 hd => hd.ret rfl ⟨by omega, by omega⟩) (fun v w2 t2 hv hv2 hd => hd.ret rfl ⟨by omega, by omega⟩)
  · refine PS_rp e40 ?_
    refine PSh_cG (dl1 := d) (gc1 := fun Q => zw D.1 (L - 28) kt_M167 [.ref (w_adr D.1.2.1 4 0), va_rf (some b), .int (i_ d)] w Q) (gt1 := fun Q => zw E' (L' - 26) kt_M397 [.ref (w_adr E'.2.1 12 0), .int (i_ d), .int (i_ (kln K p))] t Q) (Kc := fun Q => wk0 (fun w1 => wle w w1 → Q (.inl (some (va_rf (some b)))) w1) (fun e w => Q (.inr e) w)) (Kt := fun Q => wk1 (fun v w1 => wle t w1 → Q (.inl (some (.int v))) w1) (fun e w => Q (.inr e) w)) (A := fun Q _ w2 => Q (.inl (some (va_rf (some b)))) w2) (B := fun Q v t2 => Q (.inl (some (.int v))) t2) (bl1 := false) (br1 := true) (ex' := [b]) (et' := []) hΦ H.1.krg H.2 (PW_ps (p_elst (G := G + 1) (IH (G + 1)) (by omega) hlx hlx' H.1 (by omega) hB hk e40 hO f7 i2 i12 rfl ?_)) hx (fun n h => absurd h List.not_mem_nil) (fun _ _ _ a => fun _ => a) (fun _ _ _ a => fun _ => a) (fun _ _ _ a => a) (fun _ _ _ a => a) (fun x v w2 t2 al2 m2 N2 nu2 tn2 p2 cz H2 HS2 hbd hgx => fin x v w2 t2 al2 m2 N2 nu2 tn2 p2 cz H2 hbd hgx) (fun v w2 t2 hv hv2 hd => hd.ret rfl ⟨by omega, by omega⟩) (fun v w2 t2 hv hv2 hd => hd.ret rfl ⟨by omega, by omega⟩)
    intro fi fp ft w1 t1 al1 m1 N1 nu1 tn1 q kE b0 n0 nE H1 O1 T1 hnE hfp hft hEE hn0 h74 hbd hmN
    have hpl1 := H1.1.ta.lt
    have hb1 : b ∈ ([b] : List Nat) := List.mem_singleton_self b
    simp only [e1]
    refine PSh_cG (dl1 := d + 1) (gc1 := fun Q => zw D.1 (L - 28 - 23) kt_M215 [.ref (w_adr D.1.2.1 4 0), .int (i_ (d + 1 : Nat))] w1 Q) (gt1 := fun Q => zL_X13_asks_p65 E' (L' - 26 - 26) Q (i_ n0) (i_ (d + 1 : Nat)) (i_ nE) (-1) t1) (Kc := fun Q => wkr (fun v w2 => wle w1 w2 → Q (.inl none) (ws_p w2 14 b 4 v)) (fun e w => Q (.inr e) w)) (Kt := fun Q => Q) (A := fun Q v w2 => Q (.inl none) (ws_p w2 14 b 4 v)) (B := fun Q v t2 => Q (.inl (some (.int v))) t2) (bl1 := true) (br1 := true) (ex' := []) (et' := [nE]) STL.of H1.1.krg H1.2 (p_variants (IH G) IHP (by omega) (by unfold dex; omega) (by unfold dex; omega) T1 hnE.2 H1.1 h74 (by omega) (by omega) ⟨by omega, by omega⟩ hft.2.2.1) (fun a h => absurd h List.not_mem_nil) (fun n hn hn2 => absurd hn2 (by rw [List.mem_singleton.mp hn]; show ¬ nE < N; omega)) (fun _ _ _ a => wkr_k a) (fun _ _ _ a => a) (fun _ _ _ a => a) (fun _ _ _ a => a) ?_ (fun v w2 t2 hv hv2 hd => hd.ret rfl ⟨by omega, by omega⟩) (fun v w2 t2 hv hv2 hd => (hd.dn (Nat.le_succ d)).ret rfl ⟨by omega, by omega⟩)
    intro x v w2 t2 al2 m2 N2 nu2 tn2 p2 cz H2 HS2 hbd2 hgx
    obtain ⟨rfl, ⟨k, l, fT, hl, T2, hdd, hlne⟩, e74, hb4, hhd⟩ := hgx
    have hb4 : m2 + 4 * q ≤ m1 + 4 * p2 ∧ N2 + 4 * q ≤ N1 + 4 * p2 := hb4
    have hpl2 := H2.1.ta.lt
    have O2 := O1.fr HS2.2 List.not_mem_nil
    have HE := H2.wp (k := 4) (v := x) O2.1.2 (fun _ => hb1) (LKO.op (hhd.up (fun _ e => H1.2.sub e)))
    have OE : OWc (ws_p w2 14 b 4 x, t2, al2, m2, N2, nu2, tn2) b _ _ := O2.sp (k := 4) (v := x) (.inr (.inr (fun e => (hhd _ e).2.2 O1.1.1.1)))
    have TE : OWt (ws_p w2 14 b 4 x, t2, al2, m2, N2, nu2, tn2) nE _ := T2
    have hvw : VWa (vw w2 t2) (vw (ws_p w2 14 b 4 x) t2) tn2 nu2 := VWa.mk (b := b) (n := nE) (fun a h k => by simp only [nx, Rii, Rgi, Rpi, Rai, Rbi, Rri, Rni, Rdi, Roi, Rti, Rzi, RCi, RSi, Rip, Rgp, Rpp, Rap, Rbp, Rrp, Rnp, Rdp, Rop, Rtp, Rzp, RCp, RSp]; simp [h]) (fun y h k => rfl) rfl O2.1.2 T2.1.2
    have hvf := VWa.fr H1.1 HS2.2 (fun _ h => absurd h List.not_mem_nil) (fun y h => by rw [List.mem_singleton.mp h]; exact T1.1.2)
    have hEE2 := (hEE.up (k' := 0) hvf HS2.2.2.2.2.2.1.1 HS2.2.2.2.2.2.1.2.1 (Nat.le_refl _)).up (k' := 0) hvw (fun _ _ h => h) (fun _ h => h) (Nat.le_refl _)
    have hl2 := LPz.up (k' := 0) hvw (fun _ _ h => h) (fun _ h => h) (Nat.le_refl _) hl
    exact PS_ret (.inr ⟨none, i_ nE, al2, m2, N2, nu2, tn2, p2, _, rfl, rfl, HE, ⟨by omega, by show m2 + _ ≤ m + _; omega, by show N2 + _ ≤ N + _; omega⟩, nE, dsum l, rfl, PND.mk1 (kd := 7) OE TE hnE.1 hnE.2 (LFz.k7 OE TE (hfp.2.2.2.1.trans hft.2.1.symm) hft.1 ⟨hfp.1, by
      show EEz _ _ _ _ (some (ft 27), _) (fp 3) (i_ n0)
      rw [hft.2.1, hfp.2.1]
      exact hEE2.wk, l, LPz.wk' hl2, rfl, hlne⟩ hft.2.1) hfp.2.2.2.2 (fun l e => by cases e) hft.1, NXT.mk1 OE TE hfp.2.2.1 hft.2.2.2, e74, ⟨by show m2 + _ + 3 ≤ m + _; omega, by show N2 + _ + 3 ≤ N + _; omega⟩, by omega⟩)
end ACT
