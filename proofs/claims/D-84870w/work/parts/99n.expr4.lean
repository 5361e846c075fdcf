/-! ===== PARSERS, part 14: expressions ===== -/
section EX5
variable {ex et : List Nat} {S S' S0 : pS} {D : pD} {K : pK} {p p0 q o o' oA m N n n2 b b2 lo hi lo2 hi2 r d d2 dd g : Nat} {w t w' : wS} {al : List Nat} {nu : pNz} {tn : Nat → Prop} {E E' : zE} {L L' : Nat} {ol : pOL} {f : Option Nat} {fT : Int32} {Q : kx_Rs → wS → Prop} {fi : Nat → Int32} {fp : Nat → Option Nat} {ft : Nat → Int32}
/-- a call on the right that is the last thing there -/
theorem PS_rtail {gc : pQ} {M : kx_M} {As : List Value} {bl : Bool} {lo : Int} {G : pG} (h : PS gc (fun Q => zw E L M As t Q) (PR D K ex et S0 p0 oA bl true lo G)) : PS gc (fun Q => zw E L M As t (wk1 (fun v w1 => wle t w1 → Q (.inl (some (.int v))) w1) (fun e w => Q (.inr e) w))) (PR D K ex et S0 p0 oA bl true lo G) := by
  rcases h with h | h | ⟨r, w2, r', t2, a, b, c⟩
  · exact .inl h
  · exact .inr (.inl (fun Q => h _))
  · refine .inr (.inr ⟨r, w2, r', t2, a, fun Q hq => b _ ?_, c⟩)
    rcases c with ⟨-, -, -, ⟨e, -⟩ | ⟨⟨v, -, -, e⟩, -⟩⟩ | ⟨x, v, al, m, N, nu, tn, p, -, e, -⟩
    · subst e
      exact hq
    · subst e
      exact fun _ => hq
    · subst e
      exact fun _ => hq
theorem LFz.one {cc : Bool} {rk s e : Nat} {g : Nat → Nat} (hO : OWx cc S b fi fp) (hT : OWt S n ft) {T2 : Nat → Prop} (h2 : fi 2 = ft 27) (h26 : ft 26 = 62) (h0 : fp 0 = some (D.1.1.1 14)) {c v : Int} (hc1 : wcd c v) (hc2 : fi 8 = i_ c) (hc3 : ft 29 = i_ v) (hc4 : bUn v = true) (hc : ECz (vw S.1 S.2.1) S.2.2.2.2.2.2 S.2.2.2.2.2.1 rk (some (ft 27), 0, rk, g, s, e) 0 (fp 3) (ft 28)) (hk : ∃ n1 j : Nat, ft 28 = i_ n1 ∧ S.2.2.2.2.2.2 n1 ∧ w_a S.2.1 12 0 26 n1 = i_ j ∧ j ≤ 61) (hg : ft 27 = i_ (g s) := by first | rfl | assumption) (hz : fi 11 = 0 ∧ fi 21 = 0 := by first | exact ⟨rfl, rfl⟩ | assumption) : LFz D (vw S.1 S.2.1) S.2.2.2.2.2.2 T2 S.2.2.2.2.2.1 (rk, g, s, e) 0 b n := by
  refine ⟨⟨?_, (hT.2 27 rfl).trans hg⟩, 62, ?_, by decide, fun _ => ⟨(hO.2.1 11 rfl).trans hz.1, (hO.2.1 21 rfl).trans hz.2⟩, ?_⟩
  · show w_i S.1 14 b 2 = w_a S.2.1 12 0 27 n
    rw [hO.2.1 2 rfl, hT.2 27 rfl]
    exact h2
  · show w_a S.2.1 12 0 26 n = _
    rw [hT.2 26 rfl]
    exact h26
  · show 0 = 0 ∧ w_p S.1 14 b 0 = _ ∧ (∃ c v : Int, wcd c v ∧ w_i S.1 14 b 8 = i_ c ∧ w_a S.2.1 12 0 29 n = i_ v ∧ bUn v = true) ∧ ECz _ _ _ _ (some (w_a S.2.1 12 0 27 n), 0, rk, g, s, e) 0 (w_p S.1 14 b 3) (w_a S.2.1 12 0 28 n) ∧ ∃ n1 j : Nat, w_a S.2.1 12 0 28 n = i_ n1 ∧ S.2.2.2.2.2.2 n1 ∧ w_a S.2.1 12 0 26 n1 = i_ j ∧ j ≤ 61
    rw [hO.2.2 0 rfl, hO.2.1 8 rfl, hO.2.2 3 rfl, hT.2 29 rfl, hT.2 27 rfl, hT.2 28 rfl]
    exact ⟨rfl, h0, ⟨c, v, hc1, hc2, hc3, hc4⟩, hc, hk⟩
theorem LFz.two {cc : Bool} {rk s e : Nat} {g : Nat → Nat} (hO : OWx cc S b fi fp) (hT : OWt S n ft) {T2 : Nat → Prop} (h2 : fi 2 = ft 27) (h26 : ft 26 = 63) (h0 : fp 0 = some (D.1.1.1 24)) {c v : Int} (hc1 : wcd c v) (hc2 : fi 8 = i_ c) (hc3 : ft 29 = i_ v) (hc4 : bOp v = true) (hc : ECz (vw S.1 S.2.1) S.2.2.2.2.2.2 S.2.2.2.2.2.1 rk (some (ft 27), 0, rk - 1, g, s, e) 0 (fp 3) (ft 28)) (hd : ECz (vw S.1 S.2.1) S.2.2.2.2.2.2 S.2.2.2.2.2.1 rk (some (ft 27), 0, rk - 1, g, s, e) 0 (fp 4) (ft 30)) (hg : ft 27 = i_ (g s) := by first | rfl | assumption) (hz : fi 11 = 0 ∧ fi 21 = 0 := by first | exact ⟨rfl, rfl⟩ | assumption) : LFz D (vw S.1 S.2.1) S.2.2.2.2.2.2 T2 S.2.2.2.2.2.1 (rk, g, s, e) 0 b n := by
  refine ⟨⟨?_, (hT.2 27 rfl).trans hg⟩, 63, ?_, by decide, fun _ => ⟨(hO.2.1 11 rfl).trans hz.1, (hO.2.1 21 rfl).trans hz.2⟩, ?_⟩
  · show w_i S.1 14 b 2 = w_a S.2.1 12 0 27 n
    rw [hO.2.1 2 rfl, hT.2 27 rfl]
    exact h2
  · show w_a S.2.1 12 0 26 n = _
    rw [hT.2 26 rfl]
    exact h26
  · show 0 = 0 ∧ w_p S.1 14 b 0 = _ ∧ (∃ c v : Int, wcd c v ∧ w_i S.1 14 b 8 = i_ c ∧ w_a S.2.1 12 0 29 n = i_ v ∧ bOp v = true) ∧ ECz _ _ _ _ (some (w_a S.2.1 12 0 27 n), 0, rk - 1, g, s, e) 0 (w_p S.1 14 b 3) (w_a S.2.1 12 0 28 n) ∧ ECz _ _ _ _ (some (w_a S.2.1 12 0 27 n), 0, rk - 1, g, s, e) 0 (w_p S.1 14 b 4) (w_a S.2.1 12 0 30 n)
    rw [hO.2.2 0 rfl, hO.2.1 8 rfl, hO.2.2 3 rfl, hO.2.2 4 rfl, hT.2 29 rfl, hT.2 27 rfl, hT.2 28 rfl, hT.2 30 rfl]
    exact ⟨rfl, h0, ⟨c, v, hc1, hc2, hc3, hc4⟩, hc, hd⟩
theorem LFz.all {cc : Bool} {rk s e : Nat} {g : Nat → Nat} (hO : OWx cc S b fi fp) (hT : OWt S n ft) {T2 : Nat → Prop} (h2 : fi 2 = ft 27) (h26 : ft 26 = 64) (h0 : fp 0 = some (D.1.1.1 23)) {c : Int} (hc1 : c = 2 ∨ c = 19) (hc2 : fi 8 = i_ c) (hc3 : ft 29 = i_ c) (hc : S1z (vw S.1 S.2.1) S.2.2.2.2.2.2 S.2.2.2.2.2.1 rk (some (ft 27), 0, rk, g, s, e) 0 (fp 3) (ft 28)) (hg : ft 27 = i_ (g s) := by first | rfl | assumption) (hz : fi 11 = 0 ∧ fi 21 = 0 := by first | exact ⟨rfl, rfl⟩ | assumption) : LFz D (vw S.1 S.2.1) S.2.2.2.2.2.2 T2 S.2.2.2.2.2.1 (rk, g, s, e) 0 b n := by
  refine ⟨⟨?_, (hT.2 27 rfl).trans hg⟩, 64, ?_, by decide, fun _ => ⟨(hO.2.1 11 rfl).trans hz.1, (hO.2.1 21 rfl).trans hz.2⟩, ?_⟩
  · show w_i S.1 14 b 2 = w_a S.2.1 12 0 27 n
    rw [hO.2.1 2 rfl, hT.2 27 rfl]
    exact h2
  · show w_a S.2.1 12 0 26 n = _
    rw [hT.2 26 rfl]
    exact h26
  · show 0 = 0 ∧ w_p S.1 14 b 0 = _ ∧ (∃ c : Int, (c = 2 ∨ c = 19) ∧ w_i S.1 14 b 8 = i_ c ∧ w_a S.2.1 12 0 29 n = i_ c) ∧ S1z _ _ _ _ (some (w_a S.2.1 12 0 27 n), 0, rk, g, s, e) 0 (w_p S.1 14 b 3) (w_a S.2.1 12 0 28 n)
    rw [hO.2.2 0 rfl, hO.2.1 8 rfl, hO.2.2 3 rfl, hT.2 29 rfl, hT.2 27 rfl, hT.2 28 rfl]
    exact ⟨rfl, h0, ⟨c, hc1, hc2, hc3⟩, hc⟩
/-- the code of MeetingHouse for a word or sign -/
theorem SY.cd (h : SY D K S p q o o') (hk : (0 ≤ kk K p ∧ kk K p < 36) ∨ (40 ≤ kk K p ∧ kk K p ≤ 67)) : ∃ c : Int, wcd c (kk K p) ∧ w_a S.1 1 0 3 p = i_ c ∧ 0 ≤ c ∧ c < 64 := by
  rcases h.ca.kkc with k | k | k | k | k | k | k | k | k
  · exact ⟨kk K p, .inl ⟨by omega, by omega, rfl⟩, k.2.1, by omega, by omega⟩
  · exact ⟨kk K p - 4, .inr ⟨by omega, by omega, by omega⟩, k.2.1, by omega, by omega⟩
  all_goals omega
/-- a monadic operator and its operand -/
theorem p_one (IO : OPq D K E' g) (hL : lex o ≤ L) (hL' : lex o ≤ L') (hS : SY D K (w, t, al, m, N, nu, tn) p p o o) (hg : K.length ≤ p + g) (hB : m ≤ 4 * p + 8 ∧ N ≤ 4 * p + 8) (hU : bUn (kk K p) = true) : PS (fun Q => zb_X5_expression_p45 D.1 L Q w) (fun Q => zb_X13_e_p35 E' L' Q (i_ (kk K p)) t) (PR D K [] [] (w, t, al, m, N, nu, tn) p o true true 0 (GE D K (w, t, al, m, N, nu, tn) p)) := by
  have hlx := hL
  have hlx' := hL'
  unfold lex at hlx hlx'
  have hpl := hS.ta.lt
  have ho20 := hS.2.1.1.2.2.2.2
  have H : HY D K [] [] (w, t, al, m, N, nu, tn) (w, t, al, m, N, nu, tn) p p o o := ⟨hS, FR.rf hS.mle⟩
  have hal := H.alive
  have hU' := hU
  unfold bUn at hU'
  simp only [Bool.or_eq_true, decide_eq_true_eq] at hU'
  have hp1 := H.p1 (by omega)
  have hln1 := H.1.ln hp1 (by omega)
  simp only [zb_X5_expression_p45, zb_X13_e_p35, H.tpos, i_nat' (show p < 2147483648 by omega), hS.r9, H.l9.1]
  refine PS_cn (by omega) (by omega) H (fun b al' w2 H1 HF O1 hb hb0 => ?_)
  obtain ⟨l2, l3, l4, l5, l6⟩ := H1.1.ca.1.1.2.1
  simp only [H1.cpos, l3, i_nat' (show p < 2147483648 by omega)]
  refine PS_land (i_inb' (by omega) (by omega)) (PS_lex b rfl (PS_land (O1.wl H1.1) ?_))
  obtain ⟨c, hc1, hc2, hc3, hc4⟩ := H1.1.cd (by omega)
  have H2 := H1.wi (k := 8) (v := w_a w2 1 0 3 p) O1.1.2 (fun e => absurd e hb0)
  have O2 := O1.si (k := 8) (v := w_a w2 1 0 3 p)
  refine PS_rand (i_inb' (by omega) (by omega)) ?_
  have HT1 := H.tnd (x := 62) (l := i_ (kln K p))
  have T1 := OWt.new (x := 62) (l := i_ (kln K p)) H
  have e35 : w_i (nd3 t N 62 (i_ (kln K p))) 12 0 35 = i_ p := HT1.tpos
  refine PS_nxl (by omega) H2 (by omega) (fun H3 => ?_) (fun w' hd h76 => ?_)
  · refine PS_r1 (fun Q hq => t_node (by omega) H3.kt H3.tN (by omega) hq) ?_
    simp only [i_nat' (show N < 2147483648 by omega), e35, p3e]
    have H4 := (H3.tnd (x := 62) (l := i_ (kln K p))).tnx (by omega) hal
    refine PS_rand (by rw [HT1.1.tl.2.2.2.1]; exact i_inb' (by omega) (by omega)) ?_
    have T4 : OWt (nx (ws_i w2 14 b 8 (w_a w2 1 0 3 p)) p, nx3 (nd3 t N 62 (i_ (kln K p))) p, al', m + 1, N + 1, nu, tn) N _ := T1
    have H5 := H4.ta (k := 29) (n := N) (v := i_ (kk K p)) rfl T4.1.2 (fun h => absurd h (Nat.lt_irrefl _))
    have T5 := T4.si (k := 29) (v := i_ (kk K p))
    have O5 : OWc (nx (ws_i w2 14 b 8 (w_a w2 1 0 3 p)) p, ws_a (nx3 (nd3 t N 62 (i_ (kln K p))) p) 12 0 29 N (i_ (kk K p)), al', m + 1, N + 1, nu, tn) b _ _ := O2.w4 (.inl (by decide))
    refine PR_c11 hS.krg H5.2 (IO (L - 21) (L' - 24) _ _ _ _ _ _ _ _ _ (by unfold lex; omega) (by unfold lex; omega) H5.1 (by omega) ⟨by omega, by omega⟩) (fun a h => absurd h List.not_mem_nil) (fun a h => absurd h List.not_mem_nil) (fun x v w3 t3 al3 m3 N3 nu3 tn3 p3 hl H6 HS hbd hgx => ?_) (fun v w3 t3 hv hv2 hd => ?_)
    · obtain ⟨b2, n2, rfl, rfl, hP, hX, hb2, hln, hfk, jk, hjk, hjl⟩ := hgx
      have O6 := O5.fr HS.2 List.not_mem_nil
      have T6 := T5.fr HS.2 List.not_mem_nil
      rw [hln1] at hP
      obtain ⟨x6, tn4, r6, H7, hC7, hm1, hm2, hn0⟩ := H6.fin hP (fun e => hb2 (H5.2.sub e)) (Nat.le_succ _)
      have hbb : b ≠ b2 := fun e => hb2 (by rw [← e]; exact O5.1.1.1)
      have O7 := O6.fin (x := x6) (tn' := tn4) hbb
      have T7 := T6.fin (nu' := nuU nu3 b2 x6) hm2 (.inl (Nat.lt_succ_self N))
      have H8 := H7.wp (k := 3) (v := some b2) O7.1.2 (fun e => absurd e hb0) (LKO.mk hP.bm.1 hX.2.2 (fun e => hb2 (H5.2.sub e)))
      have O8 := O7.sp (k := 3) (v := some b2)
      refine PS_rand (by rw [H7.1.tl.2.2.1]; exact i_inb' (by omega) (by omega)) ?_
      have H9 := H8.ta (k := 28) (n := N) (v := i_ n2) rfl T7.1.2 (fun h => absurd h (Nat.lt_irrefl _))
      have T9 := T7.si (k := 28) (v := i_ n2)
      have OE : OWc (ws_p w3 14 b 3 (some b2), ws_a t3 12 0 28 N (i_ n2), al3, m3, N3, nuU nu3 b2 x6, tn4) b _ _ := O8
      have TE : OWt (ws_p w3 14 b 3 (some b2), ws_a t3 12 0 28 N (i_ n2), al3, m3, N3, nuU nu3 b2 x6, tn4) N _ := T9
      refine PS_ret (.inr ⟨some b, i_ N, al3, m3, N3, nuU nu3 b2 x6, tn4, p3, rfl, rfl, H9, ⟨by omega, by show m3 + _ ≤ m + _; omega, by show N3 + _ ≤ N + _; omega⟩, b, N, rfl, rfl, PND.mk1 (kd := 62) OE TE (Nat.le_refl _) (by omega) (LFz.one OE TE rfl rfl rfl hc1 hc2 rfl hU ⟨b2, n2, rfl, rfl, ?_⟩ ⟨n2, jk, rfl, hC7.tnx, by show w_a (ws_a t3 12 0 28 N (i_ n2)) 12 0 26 n2 = _; rw [Raa, if_neg (fun z => absurd z.1 (by decide))]; exact hjk, hjl⟩) rfl (fun l e => by cases e; rfl), NXT.mk1 OE TE rfl rfl, hb, by omega, fun e => absurd ((TE.2 26 rfl).symm.trans e) (show ¬ ((62 : Int32) = 60) by decide)⟩)
      refine hC7.up (VWa.mk (b := b) (n := N) ?_ ?_ ?_ O7.1.2 T7.1.2) (fun _ _ h => h) (fun _ h => h) (Nat.le_refl _)
      · exact (fun a h k => by simp only [nx, Rii, Rgi, Rpi, Rai, Rbi, Rri, Rni, Rdi, Roi, Rti, Rzi, RCi, RSi, Rip, Rgp, Rpp, Rap, Rbp, Rrp, Rnp, Rdp, Rop, Rtp, Rzp, RCp, RSp]; simp [h])
      · exact (fun y h k => by simp only [nx3, nd3, Rii, Rgi, Rpi, Rai, Rbi, Rri, Rni, Rdi, Roi, Rti, Rzi, RCi, RSi, Ria, Rga, Rpa, Raa, Rba, Rra, Rna, Rda, Roa, Rta, Rza, RCa, RSa]; simp [h])
      · rfl
    · refine eS_and (by rw [hd.2.2.tl.2.2.1]; exact i_inb' (by omega) (by omega)) ?_
      exact (hd.ta rfl).ret rfl ⟨by omega, by omega⟩
  · refine eS_1 (fun Q hq => t_node (by omega) H2.kt H2.tN (by omega) hq) ?_
    simp only [i_nat' (show N < 2147483648 by omega), e35, p3e]
    refine eS_and (by rw [HT1.1.tl.2.2.2.1]; exact i_inb' (by omega) (by omega)) ?_
    have hd2 := (H2.tnd (x := 62) (l := i_ (kln K p))).dd hd (by omega) (by omega) hal h76
    exact dd_operand (hd2.ta rfl) (by omega)
/-- AND, OR: further operands -/
theorem p_all_loop {X : Nat → Prop} {G : Nat} (IO : OPq D K E' G) (hL : lex oA ≤ L + 30) (hL' : lex oA ≤ L' + 30) {SA : pS} {pA : Nat} {c : Nat} (hc : c = 2 ∨ c = 19) {nE bE : Nat} (hE : SA.2.2.2.2.1 ≤ nE ∧ nE < 14000) (hbE : bE ∉ SA.2.2.1.take SA.2.2.2.1) (f0 : fp 0 = some (D.1.1.1 23)) (f7 : fp 7 = none) (i2 : fi 2 = i_ (kln K pA)) (i8 : fi 8 = i_ c) (i12 : fi 12 = 0) (hz0 : fi 11 = 0 ∧ fi 21 = 0) (t26 : ft 26 = 64) (t27 : ft 27 = i_ (kln K pA)) (t29 : ft 29 = i_ c) (t32 : ft 32 = -1) {b1 n1 : Nat} (f3 : fp 3 = some b1) (t28 : ft 28 = i_ n1) : ∀ g w t al m N nu tn p b n lo hi bdA, (bdA ≤ p - pA ∧ (bdA + 1 ≤ p - pA ∨ kk K p = c)) → SA.2.2.2.2.1 ≤ lo → K.length ≤ p + g → K.length ≤ p + 1 + G → HY D K [] [] SA (w, t, al, m, N, nu, tn) p p oA oA → OWc (w, t, al, m, N, nu, tn) bE fi fp → OWt (w, t, al, m, N, nu, tn) nE ft → LI D (w, t, al, m, N, nu, tn) lo hi (some (i_ (kln K pA)), 0, bdA, kln K, pA, p) (some b1) (i_ n1) b n 0 0 → kln K p = kln K pA → b ∉ SA.2.2.1.take SA.2.2.2.1 → b ≠ bE ∧ n ≠ nE ∧ (nE < lo ∨ hi ≤ nE) → (pA < p ∧ (m + 4 * pA ≤ SA.2.2.2.1 + 4 * p + 1 ∧ N + 4 * pA ≤ SA.2.2.2.2.1 + 4 * p + 1) ∧ (kk K p = c ∨ (m + 4 * pA ≤ SA.2.2.2.1 + 4 * p ∧ N + 4 * pA ≤ SA.2.2.2.2.1 + 4 * p))) → (m ≤ 4 * p + 9 ∧ N ≤ 4 * p + 9) → PS (fun Q => zL_X5_chain_p31 D.1 L Q (some bE) (some b) w) (fun Q => zL_X13_eFrom_p110 E' L' Q (i_ c) (i_ nE) (i_ n) t) (PR D K [] [] SA pA oA true true 0 (GEx X D K SA pA)) := by
  have hlx := hL
  have hlx' := hL'
  unfold lex at hlx hlx'
  intro g
  induction g with
  | zero =>
    intro w t al m N nu tn p b n lo hi bdA hbA hA hg _ H
    have := H.1.ca.2.2
    omega
  | succ g ih =>
    intro w t al m N nu tn p b n lo hi bdA hbA hA hg hG H hO hT hI hln hb0 hne hbd hmN
    have hpl := H.1.ta.lt
    have hal := H.alive
    have hnl := hI.2.1.lt
    refine PS_of (fun Q h => zt_X5_chain_p31 (by omega) h) (fun Q h => zt_X13_eFrom_p110 (by omega) h) ?_
    simp only [zb_X5_chain_p31, zb_X13_eFrom_p110]
    have e8 : w_i w 14 bE 8 = i_ c := (hO.2.1 8 rfl).trans i8
    refine PS_lex bE rfl (PS_land (hO.wl H.1) ?_)
    refine PS_l1 (fun Q hq => c_is (c := c) (v := c) (by omega) H.1.ca e8 (by unfold wcd; omega) hq) ?_
    by_cases e : kk K p = c
    · refine PS_ln (by rw [decide_eq_true e]; decide) ?_
      have hp1 := H.p1 (by omega)
      have hln1 := H.1.ln hp1 (by omega)
      refine PS_nxl (by omega) H (by omega) (fun H2 => ?_) (fun w' hd h76 => ?_)
      · refine PS_r1 (fun Q hq => t_may (v := c) (by omega) H2.1.ta H2.1.krg rfl (by omega) (fun _ => hq) (fun h => absurd e h)) (PS_rn (by decide) ?_)
        have H3 := H2.tnx (by omega) (by omega)
        refine PR_c11 H.1.krg H3.2 (IO (L - 21) (L' - 24) _ _ _ _ _ _ _ _ _ (by unfold lex; omega) (by unfold lex; omega) H3.1 (by omega) ⟨by omega, by omega⟩) (fun a h => absurd h List.not_mem_nil) (fun a h => absurd h List.not_mem_nil) (fun x v w2 t2 al2 m2 N2 nu2 tn2 p2 hl H6 HS hb hgx => ?_) (fun v w2 t2 hv hv2 hd => ?_)
        · obtain ⟨b2, n2, rfl, rfl, hP, hX, hb2, hln2, hfk⟩ := hgx
          have hI3 : LI D (nx w p, nx3 t p, al, m, N, nu, tn) lo hi (some (i_ (kln K pA)), 0, bdA, kln K, pA, p) (some b1) (i_ n1) b n 0 0 := hI.nx2
          have hI6 := hI3.fr H3.1 HS.2
          have hO6 := (show OWc (nx w p, nx3 t p, al, m, N, nu, tn) bE fi fp from hO.w4 (j := 3) (v := i_ (p + 1 : Nat)) (.inl (by decide))).fr HS.2 List.not_mem_nil
          have hT6 := (show OWt (nx w p, nx3 t p, al, m, N, nu, tn) nE ft from hT).fr HS.2 List.not_mem_nil
          have hbb : b2 ≠ b := fun e => hb2 (by rw [e]; exact hI.2.1.bm.1)
          have hbl : w_l w2 D.1.2.1 14 b := (H6.1.2.2.1.2.2.2.2.1 b (List.mem_of_mem_take hI6.2.1.bm.1)).1
          rw [hln1, hln] at hP
          have hlo2 : lo ≤ N := by have := hnl.2.1; have : n < N := hnl.1; omega
          have hnE : nE < N := hT.1.1
          have hn2 := hP.lt
          obtain ⟨x', tn', H7, hI7, hm1, hm2, -⟩ := hI6.link H6 hP hX hbb hI.2.1.1 hb0 hA trivial (fun e => hb2 (H.2.sub e)) (bd3 := p2 - pA - 1)
          have hO7 := ((hO6.op (k := 7) (v := some b2) (fun e => hne.1 e.symm) (.inr (.inr (fun e => by cases e; exact hb2 hO.1.1.1)))).tt (t' := ws_a t2 12 0 32 n (i_ n2)) (N' := N2)).fin (x := x') (tn' := tn') (fun e => hne.1 e.symm)
          have hT7 : OWt (ws_p w2 14 b 7 (some b2), ws_a t2 12 0 32 n (i_ n2), al2, m2, N2, nuU nu2 b x', tn') nE ft := (hT6.oi (k := 32) (v := i_ n2) (fun e => hne.2.1 e.symm)).fin (nu' := nuU nu2 b x') hm2 hne.2.2
          refine PS_lr (fun Q hq => c_behind (by omega) hbl hq) ?_
          refine PS_r1 (fun Q hq => t_chain (by omega) hnl.2.2.2.1 H6.1.tl.2.2.2.2.2.2.1 hq) ?_
          exact ih _ _ _ _ _ _ _ p2 b2 n2 _ _ _ ⟨by omega, .inl (by omega)⟩ (by have : SA.2.2.2.2.1 ≤ N := H.2.2.1.2.2.1; exact this) (by omega) (by omega) H7 hO7 hT7 hI7 (by omega) (fun e => hb2 (H.2.sub e)) ⟨fun e => hb2 (by rw [e]; exact hO.1.1.1), by have := hn2.2.1; have : N ≤ n2 := this; omega, .inl hnE⟩ ⟨by omega, ⟨by omega, by omega⟩, .inr ⟨by omega, by omega⟩⟩ ⟨by omega, by omega⟩
        · have hvn : ∃ n2 : Nat, v = (n2 : Int) := ⟨v.toNat, by omega⟩
          obtain ⟨n2, rfl⟩ := hvn
          refine eS_1 (fun Q hq => t_chain (by omega) hnl.2.2.2.1 hd.2.2.tl.2.2.2.2.2.2.1 hq) ?_
          have hd2 := hd.ta (n := n) (k := 32) (v := i_ n2) rfl
          refine eS_l (fun Q h => zt_X13_eFrom_p110 (by omega) h) ?_
          simp only [zb_X13_eFrom_p110]
          refine eS_1 (fun Q hq => t_may (v := c) (by omega) hd2.2.2.1 hd2.1.2 rfl (by omega) (fun e => by have := hd2.2.2.2.1; omega) (fun _ => hq)) (eS_p rfl ?_)
          exact hd2.ret rfl ⟨by omega, by omega⟩
      · refine eS_1 (fun Q hq => t_may (v := c) (by omega) H.1.ta H.1.krg rfl (by omega) (fun _ => hq) (fun h => absurd e h)) (eS_n (by decide) ?_)
        exact dd_operand (H.dd hd (by omega) (by omega) hal h76) (by omega)
    · refine PS_lp (by rw [decide_eq_false e]; decide) ?_
      refine PS_r1 (fun Q hq => t_may (v := c) (by omega) H.1.ta H.1.krg rfl (by omega) (fun h => absurd h e) (fun _ => hq)) (PS_rp rfl ?_)
      obtain ⟨x', tn', k, H7, hS, hm1, hm2⟩ := hI.done H hb0 hA
      have hO7 := hO.fin (x := x') (tn' := tn') (fun e => hne.1 e.symm)
      have hT7 := hT.fin (nu' := nuU nu b x') hm2 hne.2.2
      refine PS_ret (.inr ⟨some bE, i_ nE, al, m, N, nuU nu b x', tn', p, rfl, rfl, H7, ⟨hbd.1, (hbd.2.2.resolve_left e).1, (hbd.2.2.resolve_left e).2⟩, bE, nE, rfl, rfl, PND.mk1 (kd := 64) hO7 hT7 hE.1 hE.2 (LFz.all hO7 hT7 (i2.trans t27.symm) t26 f0 (by omega) i8 t29 ?_) i12 (fun l e => by cases e; exact t27), NXT.mk1 hO7 hT7 f7 t32, hbE, hln, fun e => absurd (((hT7.2 26 rfl).trans t26).symm.trans e) (by decide)⟩)
      rw [t27, f3, t28]
      obtain ⟨l, s1, s2, s3⟩ := hS
      have hbA' : bdA + 1 ≤ p - pA := hbA.2.resolve_right e
      exact ⟨l, LPz.wk s1 (OLw.mk (by omega) (Nat.le_refl _) (Nat.le_refl _)), s2, s3⟩
theorem t_eFrom_bad {ms SS : List (List Int)} {v : Int32} {E : zE} {t : wS} (hL : 200 ≤ L) (hT : TA t K ms SS q) (hK : KRG K) (h76 : kk K q = 76) (h : Q (.inl (some (.int v))) t) : zw E L kt_M394 [.ref (w_adr E.2.1 12 0), .int v] t Q := by
  refine zt_X13_eFrom_p0 (by omega) ?_
  simp only [zb_X13_eFrom_p0]
  refine t_look (by omega) hT ?_
  simp only [wk1]
  intro _
  refine t_isOperator (by omega) (by omega) ?_
  simp only [wk1]
  intro _
  rw [h76, if_pos (by decide), if_neg (by decide), if_neg (by decide)]
  exact h
/-- an expression -/
theorem p_expression (IO : OPq D K E' g) : EXq D K E' g := by
  intro L L' w t al m N nu tn p o hL hL' hS hg hB
  have hlx := hL
  have hlx' := hL'
  unfold lex at hlx hlx'
  have hpl := hS.ta.lt
  have ho20 := hS.2.1.1.2.2.2.2
  have H : HY D K [] [] (w, t, al, m, N, nu, tn) (w, t, al, m, N, nu, tn) p p o o := ⟨hS, FR.rf hS.mle⟩
  have hal := H.alive
  have hkr := hS.ca.kr
  refine PW_of' (fun Q h => zt_X5_expression_p0 (by omega) h) (fun Q h => zt_X13_e_p0 (by omega) h) ?_
  simp only [zb_X5_expression_p0, zb_X5_expression_p105, zb_X13_e_p0]
  refine PS_r1 (fun Q hq => t_look (by omega) hS.ta hq) ?_
  simp only [(show (i_ (kk K p) = (58 : Int32)) = (kk K p = 58) from i_eqk (show -1000 ≤ kk K p ∧ kk K p ≤ 1000 by omega) (show (-1000 : Int) ≤ 58 by decide) (by decide)), (show (i_ (kk K p) = (67 : Int32)) = (kk K p = 67) from i_eqk (show -1000 ≤ kk K p ∧ kk K p ≤ 1000 by omega) (show (-1000 : Int) ≤ 67 by decide) (by decide)), (show (i_ (kk K p) = (17 : Int32)) = (kk K p = 17) from i_eqk (show -1000 ≤ kk K p ∧ kk K p ≤ 1000 by omega) (show (-1000 : Int) ≤ 17 by decide) (by decide)), (show (i_ (kk K p) = (14 : Int32)) = (kk K p = 14) from i_eqk (show -1000 ≤ kk K p ∧ kk K p ≤ 1000 by omega) (show (-1000 : Int) ≤ 14 by decide) (by decide)), (show (i_ (kk K p) = (27 : Int32)) = (kk K p = 27) from i_eqk (show -1000 ≤ kk K p ∧ kk K p ≤ 1000 by omega) (show (-1000 : Int) ≤ 27 by decide) (by decide))]
  have hone := p_one IO hL hL' hS hg hB
  by_cases c58 : kk K p = 58
  · refine PS_l1 (fun Q hq => c_is (c := 54) (v := 58) (by omega) hS.ca rfl (by unfold wcd; omega) hq) (PS_lp (by rw [decide_eq_true c58]; decide) (PS_rp c58 ?_))
    exact hone (by rw [c58]; rfl)
  refine PS_l1 (fun Q hq => c_is (c := 54) (v := 58) (by omega) hS.ca rfl (by unfold wcd; omega) hq) (PS_ln (by rw [decide_eq_false c58]; decide) (PS_rn c58 ?_))
  by_cases c67 : kk K p = 67
  · refine PS_l1 (fun Q hq => c_is (c := 63) (v := 67) (by omega) hS.ca rfl (by unfold wcd; omega) hq) (PS_lp (by rw [decide_eq_true c67]; decide) (PS_rp c67 ?_))
    exact hone (by rw [c67]; rfl)
  refine PS_l1 (fun Q hq => c_is (c := 63) (v := 67) (by omega) hS.ca rfl (by unfold wcd; omega) hq) (PS_ln (by rw [decide_eq_false c67]; decide) (PS_rn c67 ?_))
  by_cases c17 : kk K p = 17
  · refine PS_l1 (fun Q hq => c_is (c := 17) (v := 17) (by omega) hS.ca rfl (by unfold wcd; omega) hq) (PS_lp (by rw [decide_eq_true c17]; decide) (PS_rp c17 ?_))
    exact hone (by rw [c17]; rfl)
  refine PS_l1 (fun Q hq => c_is (c := 17) (v := 17) (by omega) hS.ca rfl (by unfold wcd; omega) hq) (PS_ln (by rw [decide_eq_false c17]; decide) (PS_rn c17 ?_))
  by_cases c14 : kk K p = 14
  · refine PS_l1 (fun Q hq => c_is (c := 14) (v := 14) (by omega) hS.ca rfl (by unfold wcd; omega) hq) (PS_lp (by rw [decide_eq_true c14]; decide) (PS_rp c14 ?_))
    exact hone (by rw [c14]; rfl)
  refine PS_l1 (fun Q hq => c_is (c := 14) (v := 14) (by omega) hS.ca rfl (by unfold wcd; omega) hq) (PS_ln (by rw [decide_eq_false c14]; decide) (PS_rn c14 ?_))
  by_cases c27 : kk K p = 27
  · refine PS_l1 (fun Q hq => c_is (c := 27) (v := 27) (by omega) hS.ca rfl (by unfold wcd; omega) hq) (PS_ln (by rw [decide_eq_true c27]; decide) (PS_rn (not_not_intro c27) ?_))
    exact hone (by rw [c27]; rfl)
  refine PS_l1 (fun Q hq => c_is (c := 27) (v := 27) (by omega) hS.ca rfl (by unfold wcd; omega) hq) (PS_lp (by rw [decide_eq_false c27]; decide) (PS_rp c27 ?_))
  refine PR_c11 hS.krg H.2 (IO (L - 21) (L' - 24) _ _ _ _ _ _ _ _ _ (by unfold lex; omega) (by unfold lex; omega) hS hg hB) (fun a h => absurd h List.not_mem_nil) (fun a h => absurd h List.not_mem_nil) (fun x v w2 t2 al2 m2 N2 nu2 tn2 p2 hl H6 HS hb hgx => ?_) (fun v w2 t2 hv hv2 hd => ?_)
  · obtain ⟨b1, n1, rfl, rfl, hP1, hX1, hb1, hln1, hfk⟩ := hgx
    have hn1 := hP1.lt
    have hpl2 := H6.1.ta.lt
    have hal2 := H6.alive
    have hkr2 := H6.1.ca.kr
    have hn1N : n1 < N2 := hn1.1
    refine PS_rtail (PS_r (fun Q h => zt_X13_eFrom_p0 (by omega) h) ?_)
    simp only [zb_X13_eFrom_p0, zb_X13_eFrom_p77]
    refine PS_r1 (fun Q hq => t_look (by omega) H6.1.ta hq) ?_
    refine PS_r1 (fun Q hq => t_isOperator (by omega) (by omega) hq) ?_
    simp only [show (i_ (kk K p2) = (2 : Int32)) = (kk K p2 = 2) from i_eqk (show -1000 ≤ kk K p2 ∧ kk K p2 ≤ 1000 by omega) (show (-1000 : Int) ≤ 2 by decide) (by decide), show (i_ (kk K p2) = (19 : Int32)) = (kk K p2 = 19) from i_eqk (show -1000 ≤ kk K p2 ∧ kk K p2 ≤ 1000 by omega) (show (-1000 : Int) ≤ 19 by decide) (by decide), H6.tpos, i_nat' (show p2 < 2147483648 by omega), H6.1.r9, H6.l9.1]
    -- AND, OR
    have hall : ∀ c : Nat, (c = 2 ∨ c = 19) → kk K p2 = c → PS (fun Q => zw D.1 (L - 23) kt_M168 [.ref (w_adr D.1.2.1 4 0), va_rf (some b1)] w2 (wkr (fun v2 w1 => wle w2 w1 → Q (.inl (some (va_rf v2))) w1) (fun e w => Q (.inr e) w))) (fun Q => kx_inb (i_ p2) 12002 = true ∧ zw E' (L' - 24 - 22) kt_M494 [.ref (w_adr E'.2.1 12 0), .int 64, .int (i_ (kln K p2))] t2 (wk1 (fun v2 w1 => wle t2 w1 → kx_inb v2 (w_n w1 12 0 29) = true ∧ kx_inb v2 (w_n w1 12 0 28) = true ∧ zL_X13_eFrom_p110 E' (L' - 24) Q (i_ (kk K p2)) v2 (i_ n1) (ws_a (ws_a w1 12 0 29 v2.toNatClampNeg (i_ (kk K p2))) 12 0 28 v2.toNatClampNeg (i_ n1))) (fun e w => Q (.inr e) w))) (PR D K [] [] (w, t, al, m, N, nu, tn) p o true true 0 (GE D K (w, t, al, m, N, nu, tn) p)) := by
      intro c hc hkc
      refine PS_ltail (PS_l (fun Q h => zt_X5_chain_p0 (by omega) h) ?_)
      simp only [zb_X5_chain_p0]
      refine PS_cn (by omega) (by omega) H6 (fun b al' w3 H7 HF O7 hfr hb0' => ?_)
      obtain ⟨l2, l3, l4, l5, l6⟩ := H7.1.ca.1.1.2.1
      obtain ⟨cc, hc1, hc2, hc3, hc4⟩ := H7.1.cd (by omega)
      have hcc : cc = c := by unfold wcd at hc1; omega
      subst hcc
      simp only [H7.cpos, l3, i_nat' (show p2 < 2147483648 by omega), hc2]
      refine PS_land (i_inb' (by omega) (by omega)) (PS_lex b rfl (PS_land (O7.wl H7.1) ?_))
      have hb1b : b1 ≠ b := fun e => hfr (by rw [← e]; exact hP1.bm.1)
      have hNR7 : NR (w3, t2, al', m2 + 1, N2, nu2, tn2) b1 := HF.nr hP1.bm.1 hX1.2.2
      have H8 := (H7.wi (k := 8) (v := i_ (c : Nat)) O7.1.2 (fun e => absurd e hb0')).wp (k := 3) (v := some b1) O7.1.2 (fun e => absurd e hb0') (LKO.mk (HF.sub hP1.bm.1) hNR7 hb1)
      have O8 := (O7.si (k := 8) (v := i_ (c : Nat))).sp (k := 3) (v := some b1)
      refine PS_rand (i_inb' (by omega) (by omega)) ?_
      refine PS_r1 (fun Q hq => t_node (by omega) H8.kt H8.tN (by omega) hq) ?_
      simp only [i_nat' (show N2 < 2147483648 by omega), hkc]
      have H9 := H8.tnd (x := 64) (l := i_ (kln K p2))
      have T9 := OWt.new (x := 64) (l := i_ (kln K p2)) H8
      refine PS_rand (by rw [H9.1.tl.2.2.2.1]; exact i_inb' (by omega) (by omega)) (PS_rand (by rw [H9.1.tl.2.2.1]; exact i_inb' (by omega) (by omega)) ?_)
      have hN2 : N ≤ N2 := H6.2.2.1.2.2.1
      have H10 := (H9.ta (k := 29) (n := N2) (v := i_ (c : Nat)) rfl T9.1.2 (fun h => absurd h (by omega))).ta (k := 28) (n := N2) (v := i_ n1) rfl T9.1.2 (fun h => absurd h (by omega))
      have T10 := (T9.si (k := 29) (v := i_ (c : Nat))).si (k := 28) (v := i_ n1)
      have hP7 : PND D (w3, t2, al', m2 + 1, N2, nu2, tn2) N N2 (oE K (kln K p) 0 p p2) b1 n1 0 := hP1.fr H6.1 HF List.not_mem_nil (fun _ h => absurd h List.not_mem_nil) (fun _ h => absurd h List.not_mem_nil)
      have hX7 : NXo (w3, t2, al', m2 + 1, N2, nu2, tn2) b1 n1 := hX1.xo.fr HF hP1.bm.1 hn1N List.not_mem_nil List.not_mem_nil
      have hP8 : PND D (ws_p (ws_i w3 14 b 8 (i_ (c : Nat))) 14 b 3 (some b1), ws_a (ws_a (nd3 t2 N2 64 (i_ (kln K p2))) 12 0 29 N2 (i_ (c : Nat))) 12 0 28 N2 (i_ n1), al', m2 + 1, N2, nu2, tn2) N N2 (oE K (kln K p) 0 p p2) b1 n1 0 := hP7.cong (n := N2) (bx := b) (fun a h k => by simp only [nx, Rii, Rgi, Rpi, Rai, Rbi, Rri, Rni, Rdi, Roi, Rti, Rzi, RCi, RSi, Rip, Rgp, Rpp, Rap, Rbp, Rrp, Rnp, Rdp, Rop, Rtp, Rzp, RCp, RSp]; simp [h]) rfl (fun y h k => by simp only [nx3, nd3, Rii, Rgi, Rpi, Rai, Rbi, Rri, Rni, Rdi, Roi, Rti, Rzi, RCi, RSi, Ria, Rga, Rpa, Raa, Rba, Rra, Rna, Rda, Roa, Rta, Rza, RCa, RSa]; simp [h]) ⟨.inr (Nat.le_refl _), T9.1.2⟩ ⟨O7.1.2, hb1b⟩
      have hX8 : NXo (ws_p (ws_i w3 14 b 8 (i_ (c : Nat))) 14 b 3 (some b1), ws_a (ws_a (nd3 t2 N2 64 (i_ (kln K p2))) 12 0 29 N2 (i_ (c : Nat))) 12 0 28 N2 (i_ n1), al', m2 + 1, N2 + 1, nu2, tn2) b1 n1 := hX7.cong (n := N2) (bx := b) (fun a h k => by simp only [nx, Rii, Rgi, Rpi, Rai, Rbi, Rri, Rni, Rdi, Roi, Rti, Rzi, RCi, RSi, Rip, Rgp, Rpp, Rap, Rbp, Rrp, Rnp, Rdp, Rop, Rtp, Rzp, RCp, RSp]; simp [h]) (fun y h k => by simp only [nx3, nd3, Rii, Rgi, Rpi, Rai, Rbi, Rri, Rni, Rdi, Roi, Rti, Rzi, RCi, RSi, Ria, Rga, Rpa, Raa, Rba, Rra, Rna, Rda, Roa, Rta, Rza, RCa, RSa]; simp [h]) (by omega) hb1b
      rw [← hln1] at hP8
      have O10 : OWc (ws_p (ws_i w3 14 b 8 (i_ (c : Nat))) 14 b 3 (some b1), ws_a (ws_a (nd3 t2 N2 64 (i_ (kln K p2))) 12 0 29 N2 (i_ (c : Nat))) 12 0 28 N2 (i_ n1), al', m2 + 1, N2 + 1, nu2, tn2) b _ _ := O8
      refine p_all_loop IO (SA := (w, t, al, m, N, nu, tn)) (pA := p) (fi := up_ (ndI (i_ p2) (i_ (kln K p2))) 8 (i_ c)) (fp := up_ (ndP (some (D.1.1.1 23))) 3 (some b1)) (ft := up_ (up_ (ndT 64 (i_ (kln K p2))) 29 (i_ c)) 28 (i_ n1)) (by unfold lex; omega) (by unfold lex; omega) hc (nE := N2) (bE := b) ⟨hN2, by omega⟩ (fun e => hb0' e) rfl rfl (by rw [← hln1]; rfl) rfl rfl ⟨rfl, rfl⟩ rfl (by rw [← hln1]; rfl) rfl rfl rfl rfl K.length _ _ _ _ _ _ _ p2 b1 n1 N N2 (p2 - p) ⟨Nat.le_refl _, .inr hkc⟩ (Nat.le_refl _) (by omega) (by omega) H10 O10 T10 ?_ hln1 hb1 ⟨hb1b, by omega, .inr (Nat.le_refl _)⟩ ⟨by omega, ⟨by show m2 + 1 + 4 * p ≤ m + 4 * p2 + 1; omega, by show N2 + 1 + 4 * p ≤ N + 4 * p2 + 1; omega⟩, .inl hkc⟩ ⟨by omega, by omega⟩
      rw [← hln1]
      exact LI.one (hP8.nn (Nat.le_succ _)) hX8
    refine PS_l1 (fun Q hq => c_is (c := 2) (v := 2) (by omega) H6.1.ca rfl (by unfold wcd; omega) hq) ?_
    by_cases c2 : kk K p2 = 2
    · refine PS_lp (by rw [decide_eq_true c2]; decide) (PS_rp (by rw [c2]; decide) (PS_rp c2 ?_))
      exact hall 2 (.inl rfl) c2
    refine PS_ln (by rw [decide_eq_false c2]; decide) ?_
    refine PS_l1 (fun Q hq => c_is (c := 19) (v := 19) (by omega) H6.1.ca rfl (by unfold wcd; omega) hq) ?_
    by_cases c19 : kk K p2 = 19
    · refine PS_ln (by rw [decide_eq_true c19]; decide) (PS_rp (by rw [c19]; decide) (PS_rn c2 (PS_rp c19 ?_)))
      exact hall 19 (.inr rfl) c19
    refine PS_lp (by rw [decide_eq_false c19]; decide) ?_
    refine PS_l1 (fun Q hq => c_isOperation (by omega) H6.1.ca hq) ?_
    cases hop : bOp (kk K p2) with
    | false =>
      refine PS_ln (by decide) (PS_rp (by decide) (PS_rn c2 (PS_rn c19 ?_)))
      exact PS_ret (.inr ⟨some b1, i_ n1, al2, m2, N2, nu2, tn2, p2, rfl, rfl, H6, hb, b1, n1, rfl, rfl, hP1, hX1, hb1, hln1, hfk.1⟩)
    | true =>
      have hop' := hop
      unfold bOp at hop'
      simp only [Bool.or_eq_true, Bool.and_eq_true, decide_eq_true_eq] at hop'
      refine PS_lp (by decide) (PS_rn (by decide) ?_)
      refine PS_cn (by omega) (by omega) H6 (fun b al' w3 H7 HF O7 hfr hb0' => ?_)
      obtain ⟨l2, l3, l4, l5, l6⟩ := H7.1.ca.1.1.2.1
      obtain ⟨cc, hc1, hc2, hc3, hc4⟩ := H7.1.cd (by omega)
      simp only [H7.cpos, l3, i_nat' (show p2 < 2147483648 by omega)]
      refine PS_land (i_inb' (by omega) (by omega)) (PS_lex b rfl (PS_land (O7.wl H7.1) ?_))
      have hb1b : b1 ≠ b := fun e => hfr (by rw [← e]; exact hP1.bm.1)
      have hP7 : PND D (w3, t2, al', m2 + 1, N2, nu2, tn2) N N2 (oE K (kln K p) 0 p p2) b1 n1 0 := hP1.fr H6.1 HF List.not_mem_nil (fun _ h => absurd h List.not_mem_nil) (fun _ h => absurd h List.not_mem_nil)
      obtain ⟨x6, tn4, r6, H7', hC7, hm1, hm2, hn0⟩ := H7.fin hP7 hb1 (Nat.le_refl _)
      have O7' := O7.fin (x := x6) (tn' := tn4) (fun e => hb1b e.symm)
      have hN2 : N ≤ N2 := H6.2.2.1.2.2.1
      have hnt : ¬ tn4 N2 := fun e => by
        have : N2 < N2 := H7'.1.gl.2 N2 e
        omega
      have H8 := H7'.wi (k := 8) (v := w_a w3 1 0 3 p2) O7'.1.2 (fun e => absurd e hb0')
      have O8 := O7'.si (k := 8) (v := w_a w3 1 0 3 p2)
      refine PS_rand (i_inb' (by omega) (by omega)) ?_
      have hp1 := H8.p1 (by omega)
      have hln2 := H8.1.ln hp1 (by omega)
      have HT1 := H8.tnd (x := 63) (l := i_ (kln K p2))
      have T1 := OWt.new (x := 63) (l := i_ (kln K p2)) H8
      have e35 : w_i (nd3 t2 N2 63 (i_ (kln K p2))) 12 0 35 = i_ p2 := HT1.tpos
      refine PS_nxl (by omega) H8 (by omega) (fun H3 => ?_) (fun w' hd h76 => ?_)
      · refine PS_r1 (fun Q hq => t_node (by omega) H3.kt H3.tN (by omega) hq) ?_
        simp only [i_nat' (show N2 < 2147483648 by omega), e35, p3e]
        have H4 := (((H3.tnd (x := 63) (l := i_ (kln K p2))).tnx (by omega) hal2).wp (k := 3) (v := some b1) (by exact O8.1.2) (fun e => absurd e hb0') (LKO.mk hP7.bm.1 (HF.nr hP1.bm.1 hX1.2.2) hb1))
        have O4 : OWc (ws_p (nx (ws_i w3 14 b 8 (w_a w3 1 0 3 p2)) p2) 14 b 3 (some b1), nx3 (nd3 t2 N2 63 (i_ (kln K p2))) p2, al', m2 + 1, N2 + 1, nuU nu2 b1 x6, tn4) b _ _ := (O8.w4 (j := 3) (v := i_ (p2 + 1 : Nat)) (.inl (by decide))).sp (k := 3) (v := some b1)
        refine PS_rand (by rw [HT1.1.tl.2.2.2.1]; exact i_inb' (by omega) (by omega)) (PS_rand (by rw [HT1.1.tl.2.2.1]; exact i_inb' (by omega) (by omega)) ?_)
        have T4 : OWt (ws_p (nx (ws_i w3 14 b 8 (w_a w3 1 0 3 p2)) p2) 14 b 3 (some b1), nx3 (nd3 t2 N2 63 (i_ (kln K p2))) p2, al', m2 + 1, N2 + 1, nuU nu2 b1 x6, tn4) N2 _ := T1
        have H5 := (H4.ta (k := 29) (n := N2) (v := i_ (kk K p2)) rfl T4.1.2 (fun h => absurd h (by omega))).ta (k := 28) (n := N2) (v := i_ n1) rfl T4.1.2 (fun h => absurd h (by omega))
        have T5 := (T4.si (k := 29) (v := i_ (kk K p2))).si (k := 28) (v := i_ n1)
        have hC5 : CHz (vw (ws_p (nx (ws_i w3 14 b 8 (w_a w3 1 0 3 p2)) p2) 14 b 3 (some b1)) (ws_a (ws_a (nx3 (nd3 t2 N2 63 (i_ (kln K p2))) p2) 12 0 29 N2 (i_ (kk K p2))) 12 0 28 N2 (i_ n1))) tn4 (nuU nu2 b1 x6) (r6 + 1) (oE K (kln K p) 0 p p2) n1 b1 0 := by
          refine hC7.up (VWa.mk (b := b) (n := N2) ?_ ?_ ?_ O7'.1.2 hnt) (fun _ _ h => h) (fun _ h => h) (Nat.le_refl _)
          · exact (fun a h k => by simp only [nx, Rii, Rgi, Rpi, Rai, Rbi, Rri, Rni, Rdi, Roi, Rti, Rzi, RCi, RSi, Rip, Rgp, Rpp, Rap, Rbp, Rrp, Rnp, Rdp, Rop, Rtp, Rzp, RCp, RSp]; simp [h])
          · exact (fun y h k => by simp only [nx3, nd3, Rii, Rgi, Rpi, Rai, Rbi, Rri, Rni, Rdi, Roi, Rti, Rzi, RCi, RSi, Ria, Rga, Rpa, Raa, Rba, Rra, Rna, Rda, Roa, Rta, Rza, RCa, RSa]; simp [h])
          · rfl
        have O5 : OWc (ws_p (nx (ws_i w3 14 b 8 (w_a w3 1 0 3 p2)) p2) 14 b 3 (some b1), ws_a (ws_a (nx3 (nd3 t2 N2 63 (i_ (kln K p2))) p2) 12 0 29 N2 (i_ (kk K p2))) 12 0 28 N2 (i_ n1), al', m2 + 1, N2 + 1, nuU nu2 b1 x6, tn4) b _ _ := O4
        refine PR_c11 hS.krg H5.2 (IO (L - 21) (L' - 24 - 24) _ _ _ _ _ _ _ _ _ (by unfold lex; omega) (by unfold lex; omega) H5.1 (by omega) ⟨by omega, by omega⟩) (fun a h => absurd h List.not_mem_nil) (fun a h => absurd h List.not_mem_nil) (fun x v w5 t5 al5 m5 N5 nu5 tn5 p5 hl5 H9 HS9 hbd hgx => ?_) (fun v w5 t5 hv hv2 hd => ?_)
        · obtain ⟨b2, n2, rfl, rfl, hP9, hX9, hb2, hln9, hfk⟩ := hgx
          have O9 := O5.fr HS9.2 List.not_mem_nil
          have T9 := T5.fr HS9.2 List.not_mem_nil
          rw [hln2, hln1] at hP9
          have hC9 := hC5.up (k' := 0) (VWa.fr H5.1 HS9.2 (fun _ h => absurd h List.not_mem_nil) (fun _ h => absurd h List.not_mem_nil)) HS9.2.2.2.2.2.1.1 HS9.2.2.2.2.2.1.2.1 (Nat.le_refl _)
          obtain ⟨x10, tn10, r10, H10, hC10, hm3, hm4, hn10⟩ := H9.fin hP9 (fun e => hb2 (H5.2.sub e)) (Nat.le_trans hN2 (Nat.le_succ N2))
          have hbb : b ≠ b2 := fun e => hb2 (by rw [← e]; exact O4.1.1.1)
          have O10 := O9.fin (x := x10) (tn' := tn10) hbb
          have T10 := T9.fin (nu' := nuU nu5 b2 x10) hm4 (.inl (Nat.lt_succ_self N2))
          have hC9' := hC9.fin (x := x10) hn10 hm3
          have H11 := H10.wp (k := 4) (v := some b2) O10.1.2 (fun e => absurd e hb0') (LKO.mk hP9.bm.1 hX9.2.2 (fun e => hb2 (H5.2.sub e)))
          have O11 := O10.sp (k := 4) (v := some b2)
          refine PS_rand (by rw [H10.1.tl.2.2.2.2.1]; exact i_inb' (by omega) (by omega)) ?_
          have H12 := H11.ta (k := 30) (n := N2) (v := i_ n2) rfl T10.1.2 (fun h => absurd h (by omega))
          have T12 := T10.si (k := 30) (v := i_ n2)
          have OE : OWc (ws_p w5 14 b 4 (some b2), ws_a t5 12 0 30 N2 (i_ n2), al5, m5, N5, nuU nu5 b2 x10, tn10) b _ _ := O11
          have TE : OWt (ws_p w5 14 b 4 (some b2), ws_a t5 12 0 30 N2 (i_ n2), al5, m5, N5, nuU nu5 b2 x10, tn10) N2 _ := T12
          have hvw := VWa.mk (w := w5) (t := t5) (w' := ws_p w5 14 b 4 (some b2)) (t' := ws_a t5 12 0 30 N2 (i_ n2)) (b := b) (n := N2) (fun a h k => by simp only [nx, Rii, Rgi, Rpi, Rai, Rbi, Rri, Rni, Rdi, Roi, Rti, Rzi, RCi, RSi, Rip, Rgp, Rpp, Rap, Rbp, Rrp, Rnp, Rdp, Rop, Rtp, Rzp, RCp, RSp]; simp [h]) (fun y h k => by simp only [nx3, nd3, Rii, Rgi, Rpi, Rai, Rbi, Rri, Rni, Rdi, Roi, Rti, Rzi, RCi, RSi, Ria, Rga, Rpa, Raa, Rba, Rra, Rna, Rda, Roa, Rta, Rza, RCa, RSa]; simp [h]) rfl O10.1.2 T10.1.2
          have e27 : i_ (kln K p2) = i_ (kln K p) := by rw [hln1]
          refine PS_ret (.inr ⟨some b, i_ N2, al5, m5, N5, nuU nu5 b2 x10, tn10, p5, rfl, rfl, H12, ⟨by omega, by show m5 + _ ≤ m + _; omega, by show N5 + _ ≤ N + _; omega⟩, b, N2, rfl, rfl, PND.mk1 (kd := 63) OE TE hN2 (by omega) (LFz.two OE TE rfl rfl rfl hc1 hc2 rfl hop ⟨b1, n1, rfl, rfl, ?_⟩ ⟨b2, n2, rfl, rfl, ?_⟩) rfl (fun l e => by cases e; exact e27), NXT.mk1 OE TE rfl rfl, hb0', by omega, fun e => absurd ((TE.2 26 rfl).symm.trans e) (show ¬ ((63 : Int32) = 60) by decide)⟩)
          · show CHz _ _ _ _ (some (i_ (kln K p2)), _) _ _ _
            rw [e27]
            exact hC9'.up hvw (fun _ _ h => h) (fun _ h => h) (Nat.le_refl _)
          · show CHz _ _ _ _ (some (i_ (kln K p2)), _) _ _ _
            rw [e27]
            exact hC10.up hvw (fun _ _ h => h) (fun _ h => h) (Nat.le_refl _)
        · refine eS_and (by rw [hd.2.2.tl.2.2.2.2.1]; exact i_inb' (by omega) (by omega)) ?_
          exact (hd.ta rfl).ret rfl ⟨by omega, by omega⟩
      · refine eS_1 (fun Q hq => t_node (by omega) H8.kt H8.tN (by omega) hq) ?_
        simp only [i_nat' (show N2 < 2147483648 by omega), e35, p3e]
        refine eS_and (by rw [HT1.1.tl.2.2.2.1]; exact i_inb' (by omega) (by omega)) (eS_and (by rw [HT1.1.tl.2.2.1]; exact i_inb' (by omega) (by omega)) ?_)
        have hd2 := (H8.tnd (x := 63) (l := i_ (kln K p2))).dd hd (by omega) (by omega) hal2 h76
        exact dd_operand ((hd2.ta rfl).ta rfl) (by omega)
  · refine eS_1 (fun Q hq => t_eFrom_bad (by omega) hd.2.2.1 hd.1.2 hd.2.2.2.1 hq) ?_
    exact hd.ret rfl ⟨by omega, by omega⟩
/-- operands and expressions -/
theorem p_OE : ∀ g, OPq D K E' g ∧ EXq D K E' g := by
  have hEX : ∀ g, OPq D K E' g → EXq D K E' g := fun g h => p_expression h
  intro g
  induction g with
  | zero =>
    have h0 : OPq D K E' 0 := by
      intro L L' w t al m N nu tn p o hL hL' hS hg
      have := hS.ca.2.2
      omega
    exact ⟨h0, hEX 0 h0⟩
  | succ g ih => exact ⟨p_operand ih.2 ih.1, hEX _ (p_operand ih.2 ih.1)⟩
end EX5
