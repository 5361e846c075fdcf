/-! ===== PARSERS, part 43: sized names, open names, TIMER ===== -/
section DC4
variable {ex et : List Nat} {S S' S0 SA SB : pS} {D : pD} {K : pK} {V V' : pV} {p p0 q o o' oA dl m N n n2 b b1 b2 lo hi lo2 hi2 r d d2 dd g pA pB nP bP y ks c k k' : Nat} {w t w' : wS} {al : List Nat} {nu nu' : pNz} {tn tn' : Nat → Prop} {E E' : zE} {L L' : Nat} {ol : pOL} {f : Option Nat} {fT x1 x2 : Int32} {Q : kx_Rs → wS → Prop} {fi fi1 : Nat → Int32} {fp fp1 : Nat → Option Nat} {ft : Nat → Int32} {br : Bool} {lo1 : Int} {Φ : kx_Rs → wS → kx_Rs → wS → Prop} {bl : Option Nat} {gt : pQ}
/-- the twin wants a list of names where IS stands -/
theorem t_itm13 {X : (kx_Rs → wS → Prop) → kx_Rs → wS → Prop} {v : Int32} (hL : 1100 ≤ L') (hx : ∀ Q e w, Q (.inr e) w → X Q (.inr e) w) (H : HY D K ex et S0 (w, t, al, m, N, nu, tn) p p o o') (hN2 : N ≤ 10990) (hn : n < 14000) (h13 : kk K p = 13) (hf : FX w w') : eS (fun Q => zw E' L' kt_M451 [.ref (w_adr E'.2.1 12 0), .int (i_ n), .int v] t (X Q)) (fun r' t' => TLP D K S0.1 S0.2.1 br lo1 (fl2 w' 2 (kln K p)) r' t') := by
  have hal := H.alive
  refine eS_l (fun Q h => zt_X13_items_p0 (by omega) h) ?_
  simp only [zb_X13_items_p0]
  refine eS_and (by rw [H.1.tl.2.1]; exact i_inb' (by omega) (by omega)) ?_
  refine eS_c (E := E') (L := L' - 22) (M := kt_M494) (w := t) (Kc := fun Q => wk1 _ _) (fun Q hq => t_node (by omega) H.kt H.tN (by omega) hq) (fun hw => ?_)
  refine eS_l (fun Q a => fun _ => a) ?_
  have H1 := H.tnd (x := 39) (l := w_a t 12 0 27 (i_ n : Int32).toNatClampNeg)
  refine eS_and (by rw [H1.1.tl.2.2.2.2.1]; exact i_inb' (by omega) (by omega)) ?_
  refine eS_and (by rw [H1.1.tl.2.2.2.1]; exact i_inb' (by omega) (by omega)) ?_
  simp only [i_nat' (show N < 2147483648 by omega), i_nat' (show n < 2147483648 by omega)]
  have hta : TA (ws_a (ws_a (nd3 t N 39 (w_a t 12 0 27 n)) 12 0 30 N v) 12 0 29 n (i_ N)) K D.2.2.1 D.2.2.2.1 p := (H.1.ta.tx ((TX_nd3.tr (TX_ta rfl)).tr (TX_ta rfl)) (by
    rw [Ria, Ria]
    unfold nd3
    simp only [Rii, Ria]
    simp))
  refine eS_l (fun Q h => zt_X13_items_p27 (by omega) h) ?_
  simp only [zb_X13_items_p27]
  refine eS_1 (fun Q hq => t_may (v := 44) (by omega) hta H.1.krg rfl ⟨by decide, by decide⟩ (fun e => by rw [h13] at e; exact absurd e (by decide)) (fun _ => hq)) (eS_p rfl ?_)
  refine eS_x0 (fun Q hq => t_want (v := 46) (by omega) hta H.1.krg rfl (by omega) (fun e => by rw [h13] at e; exact absurd e (by decide)) (fun _ => hq)) ?_
  exact eS_l (fun Q a => hx Q _ _ a) (TLP_two H hf ((TX_nd3.tr (TX_ta rfl)).tr (TX_ta rfl)) hal)
/-- names behind [ .. ] and a type or CHAN OF .. -/
theorem p_nm2 (hL : lex 0 + 400 ≤ L) (hL' : lex 0 + 400 ≤ L') (H : HY D K [] [] S0 (w, t, al, m, N, nu, tn) p p 0 0) (hO : OWc (w, t, al, m, N, nu, tn) b fi fp) (hT : OWt (w, t, al, m, N, nu, tn) n ft) (hb : b ∉ S0.2.2.1.take S0.2.2.2.1) (hn : S0.2.2.2.2.1 ≤ n ∧ n < 14000)
    (hDS : DS D (vw w t) tn nu (oE K (kln K p0) 0 p0 p) y ks c fi fp ft) (h3 : fp 3 ≠ none) (h13 : fi 13 = 0) (hfi : fi 2 = i_ (kln K p0) ∧ fi 12 = 0 ∧ fp 7 = none) (hft : ft 26 = i_ y ∧ ft 27 = i_ (kln K p0) ∧ ft 32 = -1) (hln : kln K p = kln K p0) (hpp : p0 ≤ p) (hmN : m ≤ 4 * p + 9 ∧ N ≤ 4 * p + 9) (hbd : m + 4 * p0 ≤ S0.2.2.2.1 + 4 * p + 4 ∧ N + 4 * p0 ≤ S0.2.2.2.2.1 + 4 * p + 4) :
    PS (fun Q => zw D.1 (L - 23) kt_M194 [.ref (w_adr D.1.2.1 4 0), va_rf (some b), va_rf (some (D.1.1.1 ks))] w (wk0 (fun w20 => wle w w20 → zb_X5_declaration_p219 D.1 L Q (some b) w20) (fun e w => Q (.inr e) w))) (fun Q => zb_X13_declaration_p254 E' L' Q (i_ n) t) (PRd D K d [] [] S0 p0 0 true true 0 (GPs 1 3 D K S0 p0)) := by
  have hL9 : 2300 ≤ L := by unfold lex at hL; omega
  have hL9' : 2300 ≤ L' := by unfold lex at hL'; omega
  clear hL hL'
  have hpl := H.1.ta.lt
  have hal := H.alive
  refine PS_l (fun Q h => zt_X5_names_p0 (by omega) h) ?_
  simp only [zb_X13_declaration_p254]
  refine p_nhead (C := fun Q w20 => wle w w20 → zb_X5_declaration_p219 D.1 L Q (some b) w20) rfl STL.of (by omega) (by omega) (by omega) (by omega) H hO hT hb (fun b1 al1 w1 fi1 HB hb1 O1 O1n hnm h12 h2 T1 hln1 => ?_) (fun w' hd => ?_)
  · have H1 : HY D K [] [] S0 (w1, nx3 t p, al1, m + 1, N, nu, tn) (p + 1) (p + 1) 0 0 := ⟨HB.1, H.2.tr HB.2 (fun a h h2 => absurd h2 (by rw [List.mem_singleton.mp h]; exact hb)) (fun n' h h2 => absurd h2 (by rw [List.mem_singleton.mp h]; omega))⟩
    have hpl1 := H1.1.ta.lt
    by_cases e13 : kk K (p + 1) = 13
    · rw [decide_eq_true e13]
      refine PS_lp (by decide) ?_
      simp only [zb_X5_names_p49]
      refine PS_lex b rfl (PS_land (O1.wl H1.1) ?_)
      have r3 : w_p w1 14 b 3 ≠ none := fun e => h3 ((O1.2.2 3 rfl).symm.trans e)
      refine PS_ln r3 ?_
      refine PS_lx0 (fun Q hq => c_unfit (by omega) H1.1.ca hq) (PRd_stop ?_)
      exact t_itm13 (X := fun Q => wk0 (fun w13 => wle (nx3 t p) w13 → Q (.inl (some (.int (i_ n)))) w13) (fun e w => Q (.inr e) w)) (by omega) (fun _ _ _ a => a) H1 (by omega) hn.2 e13 FX.rf
    · rw [decide_eq_false e13]
      refine PS_ln (fun h => h rfl) (PS_ln (not_not_intro h13) ?_)
      exact p_nit (fi := fi) (fp := up_ fp 0 (some (D.1.1.1 ks))) (g := K.length) (v := w_a t 12 0 8 p) (L := L) (L' := L') (SB := (w, t, al, m, N, nu, tn)) (C := fun Q w9 => wle (ws_p w1 14 b 4 (some b1)) w9 → wk0 (fun w20 => wle w w20 → zb_X5_declaration_p219 D.1 L Q (some b) w20) (fun e w => Q (.inr e) w) (.inl none) w9) (Ct := fun Q w13 => wle (nx3 t p) w13 → Q (.inl (some (.int (i_ n)))) w13) (fun Q w h => fun _ => fun _ => h) (fun Q w h => fun _ => h) (by omega) (by omega) H.2 HB rfl hb1 hO.mn O1 O1n hnm h12 (h2.trans (by rw [hln])) T1 hb hn H.1 ⟨hDS.wk, hT.1.2⟩ ⟨hfi.1, hfi.2.1, hfi.2.2, rfl⟩ hft (hln1.trans hln) hln (by omega) (by omega) ⟨by omega, by omega⟩ ⟨by omega, by omega⟩ (Nat.le_refl _)
  · have hN' : w_i (nx3 t p) 12 0 25 = i_ N := by
      unfold nx3
      rw [Rii, if_neg (by decide)]
      exact H.tN
    exact dd_itm (X := fun Q => wk0 (fun w13 => wle (nx3 t p) w13 → Q (.inl (some (.int (i_ n)))) w13) (fun e w => Q (.inr e) w)) (by omega) (fun _ _ _ a => a) hd hN' (by omega) hn.2
/-- an abbreviation behind [ ] and a type or CHAN OF .. -/
theorem p_nm3 (hL : lex 0 + 400 ≤ L) (hL' : lex 0 + 400 ≤ L') (H : HY D K [] [] S0 (w, t, al, m, N, nu, tn) p p 0 0) (hO : OWc (w, t, al, m, N, nu, tn) b fi fp) (hT : OWt (w, t, al, m, N, nu, tn) n ft) (hb : b ∉ S0.2.2.1.take S0.2.2.2.1) (hn : S0.2.2.2.2.1 ≤ n ∧ n < 14000)
    (hKS : KSP D (vw w t) nu (fi 8) (fp 5) (fi 13) (fi 14) 0 (ft 33) (ft 34)) (h3 : fp 3 = none) (h13 : fi 13 ≠ 0) (hfi : fi 2 = i_ (kln K p0) ∧ fi 12 = 0 ∧ fp 7 = none) (hft : ft 27 = i_ (kln K p0) ∧ ft 32 = -1) (hln : kln K p = kln K p0) (hpp : p0 ≤ p) (hmN : m ≤ 4 * p + 9 ∧ N ≤ 4 * p + 9) (hbd : m + 4 * p0 ≤ S0.2.2.2.1 + 4 * p + 4 ∧ N + 4 * p0 ≤ S0.2.2.2.2.1 + 4 * p + 4) :
    PS (fun Q => zw D.1 (L - 23) kt_M194 [.ref (w_adr D.1.2.1 4 0), va_rf (some b), va_rf (some (D.1.1.1 ks))] w (wk0 (fun w20 => wle w w20 → zb_X5_declaration_p219 D.1 L Q (some b) w20) (fun e w => Q (.inr e) w))) (fun Q => zb_X13_declaration_p188 E' L' Q (i_ n) t) (PRd D K d [] [] S0 p0 0 true true 0 (GPs 1 3 D K S0 p0)) := by
  have hLa : lex 0 + 100 ≤ L - 23 := by unfold lex at *; omega
  have hLa' : lex 0 + 100 ≤ L' - 22 := by unfold lex at *; omega
  have hL9 : 2300 ≤ L := by unfold lex at hL; omega
  have hL9' : 2300 ≤ L' := by unfold lex at hL'; omega
  clear hL hL'
  have hpl := H.1.ta.lt
  have hal := H.alive
  refine PS_l (fun Q h => zt_X5_names_p0 (by omega) h) ?_
  simp only [zb_X13_declaration_p188]
  refine p_nhead (C := fun Q w20 => wle w w20 → zb_X5_declaration_p219 D.1 L Q (some b) w20) rfl STL.of (by omega) (by omega) (by omega) (by omega) H hO hT hb (fun b1 al1 w1 fi1 HB hb1 O1 O1n hnm h12 h2 T1 hln1 => ?_) (fun w' hd => ?_)
  · have H1 : HY D K [] [] S0 (w1, nx3 t p, al1, m + 1, N, nu, tn) (p + 1) (p + 1) 0 0 := ⟨HB.1, H.2.tr HB.2 (fun a h h2 => absurd h2 (by rw [List.mem_singleton.mp h]; exact hb)) (fun n' h h2 => absurd h2 (by rw [List.mem_singleton.mp h]; omega))⟩
    have hpl1 := H1.1.ta.lt
    have hvf := VWa.fr H.1 HB.2 (fun a h => by rw [List.mem_singleton.mp h]; exact hO.1.2) (fun y h => by rw [List.mem_singleton.mp h]; exact hT.1.2)
    have r3 : w_p w1 14 b 3 = none := (O1.2.2 3 rfl).trans h3
    have key : PS (fun Q => zb_X5_names_p49 D.1 (L - 23) ((fun Q => wk0 (fun w20 => wle w w20 → zb_X5_declaration_p219 D.1 L Q (some b) w20) (fun e w => Q (.inr e) w)) Q) (some b) (some b1) w1) (fun Q => zw E' (L' - 22) kt_M339 [.ref (w_adr E'.2.1 12 0), .int (i_ n), .int (w_a t 12 0 8 p)] (nx3 t p) (wk1 (fun v16 w15 => wle (nx3 t p) w15 → Q (.inl (some (.int v16))) w15) (fun e w => Q (.inr e) w))) (PRd D K d [] [] S0 p0 0 true true 0 (GPs 1 3 D K S0 p0)) := by
      simp only [zb_X5_names_p49]
      refine PS_lex b rfl (PS_land (O1.wl H1.1) (PS_lp r3 ?_))
      exact p_abb (fi := fi) (fp := up_ fp 0 (some (D.1.1.1 ks))) (ft := ft) (C := fun Q w20 => wle w w20 → zb_X5_declaration_p219 D.1 L Q (some b) w20) (A2 := fun Q v16 w15 => Q (.inl (some (.int v16))) w15) (fun Q w h => fun _ => h) (fun Q w h => h) (by omega) hLa hLa' H1 O1 O1n (fun e => hb1 (by rw [← e]; exact hO.1.1.1)) hnm T1 hb hn (hKS.up hvf (fun _ _ h => h)) hfi hft (hln1.trans hln) (by omega) ⟨by omega, by omega⟩ ⟨by omega, by omega⟩
    by_cases e13 : kk K (p + 1) = 13
    · rw [decide_eq_true e13]
      exact PS_lp (by decide) key
    · rw [decide_eq_false e13]
      exact PS_ln (fun h => h rfl) (PS_lp h13 key)
  · refine eS_l (fun Q h => zt_X13_abbreviation_p0 (by omega) h) ?_
    simp only [zb_X13_abbreviation_p0]
    refine eS_and (by rw [hd.2.2.tl.1]; exact i_inb' (by omega) (by omega)) (eS_and (by rw [hd.2.2.tl.2.2.2.2.1]; exact i_inb' (by omega) (by omega)) ?_)
    exact dd_want (v := 13) ((hd.ta rfl).ta rfl) (by omega) rfl (by omega)
end DC4
