/-! ===== PARSERS, part 13: operands ===== -/
section EX4
variable {ex et : List Nat} {S S' S0 : pS} {D : pD} {K : pK} {p p0 q o o' oA m N n n2 b b2 lo hi lo2 hi2 r d d2 dd g : Nat} {w t w' : wS} {al : List Nat} {nu : pNz} {tn : Nat → Prop} {E E' : zE} {L L' : Nat} {ol : pOL} {f : Option Nat} {fT : Int32} {Q : kx_Rs → wS → Prop} {fi : Nat → Int32} {fp : Nat → Option Nat} {ft : Nat → Int32}
theorem SY.num (h : SY D K S p p o o') (hs : (kA K p).1.1 = 2 ∨ (kA K p).1.1 = 4) : w_a S.1 1 0 3 p = w_a S.2.1 12 0 8 p := by
  have hc := h.ca.row.2.1
  have ht := h.ta.row.2.1
  unfold CV at hc
  unfold vl3 at ht
  rcases hs with hs | hs
  · rw [hs] at hc ht
    simp only at hc ht
    rw [hc, ht]
  · rw [hs] at hc ht
    simp only at hc ht
    rw [hc.1, ht]
theorem SY.chr (h : SY D K S p p o o') (hs : (kA K p).1.1 = 4) : ∃ c : Nat, c < 128 ∧ w_a S.2.1 12 0 8 p = i_ c := by
  have hc := h.ca.row.2.1
  have ht := h.ta.row.2.1
  unfold CV at hc
  unfold vl3 at ht
  rw [hs] at hc ht
  simp only at hc ht
  exact ⟨(kA K p).1.2.1.toNat, by omega, by rw [ht]; congr 1; omega⟩
theorem SY.str (h : SY D K S p p o o') (hs : (kA K p).1.1 = 3) : ∃ a q : Nat, w_a S.1 1 0 3 p = i_ a ∧ w_a S.2.1 12 0 8 p = i_ q ∧ q < D.2.2.2.1.length ∧ w_a S.1 1 0 4 p = i_ (D.2.2.2.1.getD q []).length ∧ (D.2.2.2.1.getD q []).length ≤ 60 ∧ a + (D.2.2.2.1.getD q []).length ≤ D.2.2.2.2 ∧ ∀ j, j < (D.2.2.2.1.getD q []).length → w_a S.1 1 0 10 (a + j) = i_ ((D.2.2.2.1.getD q []).getD j 0) := by
  have hc := h.ca.row.2.1
  have ht := h.ta.row.2.1
  unfold CV at hc
  unfold vl3 at ht
  rw [hs] at hc ht
  simp only at hc ht
  obtain ⟨a, a1, a2, a3, a4, a5⟩ := hc
  obtain ⟨q, b1, b2, b3⟩ := ht
  exact ⟨a, q, a3, b3, b1, by rw [b2]; exact a4, by rw [b2]; exact a2, by rw [b2]; exact a1, fun j hj => by rw [b2] at hj ⊢; exact a5 j hj⟩
theorem DDs.nd (h : DDs D K S0 w' t) (hN : N + 1 ≤ 11000) {x l : Int32} : DDs D K S0 w' (nd3 t N x l) := by
  obtain ⟨h1, h2, h3, h4, N', h5, h6⟩ := h
  refine ⟨h1, h2.tr TX_nd3, h3.tx TX_nd3 ?_, h4, N + 1, ?_, hN⟩
  · unfold nd3
    simp only [Rii, Rgi, Rpi, Rai, Rbi, Rri, Rni, Rdi, Roi, Rti, Rzi, RCi, RSi, Ria, Rga, Rpa, Raa, Rba, Rra, Rna, Rda, Roa, Rta, Rza, RCa, RSa]
    rw [if_neg (by decide)]
  · unfold nd3
    simp only [Rii, Rgi, Rpi, Rai, Rbi, Rri, Rni, Rdi, Roi, Rti, Rzi, RCi, RSi, Ria, Rga, Rpa, Raa, Rba, Rra, Rna, Rda, Roa, Rta, Rza, RCa, RSa]
    simp
/-- what is no operand -/
theorem p_no {l : Int32} {br : Bool} {lo' : Int} (hL' : 400 ≤ L') (H : HY D K ex et S0 (w, t, al, m, N, nu, tn) p p o o') : eS (fun Q => zb_X13_operand_2_p328 E' L' Q l (-1) t) (fun r' t' => TLP D K S0.1 S0.2.1 br lo' (fl2 w 2 (kln K p)) r' t') := by
  have hk := H.1.ta.kr H.1.krg
  simp only [zb_X13_operand_2_p328]
  refine eS_n (by decide) (eS_l (fun Q hq => t_throw (no := 2) (e := "") (by omega) H.1.ta hk hq) ?_)
  exact TLP_two H FX.rf frm.rf H.alive
theorem p3e {p : Nat} : i_ (p : Int) + 1 = i_ (p + 1 : Nat) := by
  rw [i_1, i_add]
  rfl
/-- a node to be linked stays where others change -/
theorem PND.cong {t' : wS} (h : PND D (w, t, al, m, N, nu, tn) lo hi ol b n2 d) {bx : Nat} (hw : ∀ a, a ≠ bx → ∀ k, w_i w' 14 a k = w_i w 14 a k ∧ w_p w' 14 a k = w_p w 14 a k) (hs : w_a w' 1 0 10 = w_a w 1 0 10) (ht : ∀ y, y ≠ n → ∀ k, w_a t' 12 0 k y = w_a t 12 0 k y) (hn : (n < lo ∨ hi ≤ n) ∧ ¬ tn n) (hbx : nu bx = none ∧ b ≠ bx) : PND D (w', t', al, m, N, nu, tn) lo hi ol b n2 d := by
  obtain ⟨hh, own, c, m', r, h1, h2, h3, h4, h5, h6, h7⟩ := h
  have hto : ∀ y, y ∈ own → ∀ k, w_a t' 12 0 k y = w_a t 12 0 k y := fun y hy => ht y (fun e => by have := (h3 y hy).1.2; have := (h3 y hy).2.1; omega)
  have hv : VW (vw w t) (vw w' t') tn (fun x => x ∈ own) nu b m' := ⟨⟨fun a ha => ⟨funext (fun k => (hw a (fun e => ha (by rw [e]; exact hbx.1)) k).1), funext (fun k => (hw a (fun e => ha (by rw [e]; exact hbx.1)) k).2)⟩, fun k y hy _ => ht y (fun e => hn.2 (by rw [← e]; exact hy)) k, hs⟩, ⟨fun j _ => (hw b hbx.2 j).1, fun j _ => (hw b hbx.2 j).2⟩, fun k y hy _ _ => hto y (by
    rcases hy with hy | hy
    · exact hy
    · rw [hy]
      exact h2 m' List.mem_cons_self) k⟩
  exact ⟨hh, own, c, m', r, PCH.up (V := vw w t) (V' := vw w' t') (fun y hy k _ _ => hto y (h2 y hy) k) h1, h2, h3, h4.up hv (fun _ _ h => h) (fun _ h => h) (fun _ h => h) (Nat.le_refl _), (hw b hbx.2 12).1.trans h5, h6, h7.cv (hto n2 (h2 n2 h1.mem) 27) (hto m' (h2 m' List.mem_cons_self) 26)⟩
theorem PND.nn {N' : Nat} (h : PND D (w, t, al, m, N, nu, tn) lo hi ol b n d) (hN : N ≤ N') : PND D (w, t, al, m, N', nu, tn) lo hi ol b n d := ⟨Nat.le_trans h.1 hN, h.2⟩
theorem NXo.cong {t' : wS} {N' : Nat} (h : NXo (w, t, al, m, N, nu, tn) b n2) {bx : Nat} (hw : ∀ a, a ≠ bx → ∀ k, w_i w' 14 a k = w_i w 14 a k ∧ w_p w' 14 a k = w_p w 14 a k) (ht : ∀ y, y ≠ n → ∀ k, w_a t' 12 0 k y = w_a t 12 0 k y) (hn : n2 ≠ n) (hb : b ≠ bx) : NXo (w', t', al, m, N', nu, tn) b n2 := ⟨(hw b hb 7).2.trans h.1, (ht n2 hn 32).trans h.2⟩
theorem NXT.cong {t' : wS} {N' : Nat} (h : NXT (w, t, al, m, N, nu, tn) b n2) {bx : Nat} (hw : ∀ a, a ≠ bx → ∀ k, w_i w' 14 a k = w_i w 14 a k ∧ w_p w' 14 a k = w_p w 14 a k) (ht : ∀ y, y ≠ n → ∀ k, w_a t' 12 0 k y = w_a t 12 0 k y) (hn : n2 ≠ n) (hb : b ≠ bx) (hr : NRw w' (al.take m) b) : NXT (w', t', al, m, N', nu, tn) b n2 := ⟨(hw b hb 7).2.trans h.1, (ht n2 hn 32).trans h.2.1, hr⟩
/-- brackets around it -/
theorem PND.par {l : Int32} {bd bd' s s' e e' : Nat} {g : Nat → Nat} (h : PND D (w, t, al, m, N, nu, tn) lo hi (some l, 0, bd, g, s, e) b n2 d) (hT : OWt (w, t, al, m, N, nu, tn) n ft) (h26 : ft 26 = 58) (h28 : ft 28 = i_ n2) (h27 : ft 27 = l) (hn : n < lo ∧ lo2 ≤ n) (h14 : n < 14000) (hlo : lo2 ≤ lo) (hbd : bd + 1 ≤ bd' ∧ s' ≤ s ∧ e ≤ e' := by omega) : PND D (ws_i w 14 b 12 1, t, al, m, N, nu, tn) lo2 hi (some l, 0, bd', g, s', e') b n d := by
  have hlt := h.lt
  obtain ⟨hh, own, c, m', r, h1, h2, h3, h4, h5, h6, h7⟩ := h
  have hv : VW (vw w t) (vw (ws_i w 14 b 12 1) t) tn (fun x => x ∈ own) nu b m' := ⟨⟨fun a ha => ⟨funext (fun k => by
    show w_i (ws_i w 14 b 12 1) 14 a k = w_i w 14 a k
    rw [Rii, if_neg (fun z => ha (by rw [z.2.2]; exact h6.2))]), rfl⟩, fun _ _ _ _ => rfl, rfl⟩, ⟨fun j hj => by
    show w_i (ws_i w 14 b 12 1) 14 b j = w_i w 14 b j
    rw [Rii, if_neg (fun z => hj z.1)], fun _ _ => rfl⟩, fun _ _ _ _ _ => rfl⟩
  refine ⟨hh, n :: own, n :: c, m', r, ⟨rfl, (hT.2 26 rfl).trans h26, n2, hlt.2.2.2.1, (hT.2 28 rfl).trans h28, ?_, PCH.up (V := vw w t) (V' := vw (ws_i w 14 b 12 1) t) (fun _ _ _ _ _ => rfl) h1⟩, fun x hx => ?_, fun x hx => ?_, h4.up hv (fun _ _ h => h) (fun _ h => h) (fun _ h => List.mem_cons_of_mem _ h) (Nat.le_refl _), ?_, h6, fun l' e => ?_, ?_, ?_, h7.2.2.2.1, Nat.le_trans hbd.2.1 h7.2.2.2.2.1, h7.2.2.2.2.2.1, Nat.le_trans h7.2.2.2.2.2.2 hbd.2.2⟩
  · show w_a t 12 0 27 n = w_a t 12 0 27 n2
    rw [hT.2 27 rfl, h27]
    exact (h7.1 l rfl).symm
  · rcases List.mem_cons.mp hx with e | e
    · rw [e]
      exact List.mem_cons_of_mem _ (h2 m' List.mem_cons_self)
    · rcases List.mem_cons.mp e with e | e
      · rw [e]
        exact List.mem_cons_self
      · exact List.mem_cons_of_mem _ (h2 x (List.mem_cons_of_mem _ e))
  · rcases List.mem_cons.mp hx with e | e
    · rw [e]
      exact ⟨⟨hT.1.2, hn.2⟩, by have := hlt.2.2.2.2; have := hlt.2.1; omega, h14⟩
    · have := h3 x e
      exact ⟨⟨this.1.1, by have := this.1.2; omega⟩, this.2⟩
  · show w_i (ws_i w 14 b 12 1) 14 b 12 = _
    rw [Rii, if_pos ⟨rfl, rfl, rfl⟩]
    rfl
  · cases e
    exact (hT.2 27 rfl).trans h27
  · obtain ⟨kd, k1, k2, k3, k4⟩ := h7.2.1
    refine ⟨kd, k1, k2, k3, fun h => ?_⟩
    have k3 : cok 0 kd := k3
    unfold cok at k3
    omega
  · have := h7.2.2.1
    have this : r.1 + c.length < bd := this
    show r.1 + (n :: c).length < bd'
    rw [List.length_cons]
    omega
/-- MeetingHouse reads a name, which the twin reads in its own way -/
theorem PS_nml {A : (kx_Rs → wS → Prop) → Int32 → wS → Prop} {gt : pQ} {bl br : Bool} {lo : Int} {G : pG} (hL : 400 ≤ L) (hH : HY D K ex et S0 (w, t, al, m, N, nu, tn) p q o o') (h70 : kk K p = 70)
    (k : HY D K ex et S0 (nx w p, t, al, m, N, nu, tn) (p + 1) q o o' → PS (fun Q => A Q (w_a w 1 0 3 p) (nx w p)) gt (PR D K ex et S0 p0 oA bl br lo G))
    (kd : ∀ w', DDx K S0 w' → kk K (p + 1) = 76 → eS gt (fun r' t' => TLP D K S0.1 S0.2.1 br lo w' r' t')) :
    PS (fun Q => zw D.1 L kt_M193 [.ref (w_adr D.1.2.1 4 0)] w (wk1 (fun v w1 => wle w w1 → A Q v w1) (fun e w => Q (.inr e) w))) gt (PR D K ex et S0 p0 oA bl br lo G) := by
  have hca := hH.1.ca
  have hp1 := hH.p1 (by omega)
  by_cases e2 : kk K (p + 1) = 76
  · refine PS_lx1 (fun Q hq => c_name (by omega) hca (fun h => absurd h70 h) (fun _ h => absurd e2 h) (fun _ _ => hq)) (PR_stop ?_)
    exact kd _ (hH.ddx hp1 e2 FX_nx) e2
  · refine PS_l1 (fun Q hq => c_name (by omega) hca (fun h => absurd h70 h) (fun _ _ => hq) (fun _ h => absurd h e2)) ?_
    exact k (hH.cn (by omega) e2)
theorem LFz.conv {cc : Bool} {rk s e : Nat} {g : Nat → Nat} (hO : OWx cc S b fi fp) (hT : OWt S n ft) {T2 : Nat → Prop} (h2 : fi 2 = ft 27) (h26 : ft 26 = 57) (h0 : fp 0 = some (D.1.1.1 21)) (hn : tyr (fi 8) (ft 29)) (hc : ECz (vw S.1 S.2.1) S.2.2.2.2.2.2 S.2.2.2.2.2.1 rk (some (ft 27), 0, rk, g, s, e) 0 (fp 3) (ft 28)) (hg : ft 27 = i_ (g s) := by first | rfl | assumption) (hz : fi 11 = 0 ∧ fi 21 = 0 := by first | exact ⟨rfl, rfl⟩ | assumption) : LFz D (vw S.1 S.2.1) S.2.2.2.2.2.2 T2 S.2.2.2.2.2.1 (rk, g, s, e) 0 b n := by
  refine ⟨⟨?_, (hT.2 27 rfl).trans hg⟩, 57, ?_, by decide, fun _ => ⟨(hO.2.1 11 rfl).trans hz.1, (hO.2.1 21 rfl).trans hz.2⟩, ?_⟩
  · show w_i S.1 14 b 2 = w_a S.2.1 12 0 27 n
    rw [hO.2.1 2 rfl, hT.2 27 rfl]
    exact h2
  · show w_a S.2.1 12 0 26 n = _
    rw [hT.2 26 rfl]
    exact h26
  · show 0 = 0 ∧ w_p S.1 14 b 0 = _ ∧ tyr (w_i S.1 14 b 8) (w_a S.2.1 12 0 29 n) ∧ ECz _ _ _ _ (some (w_a S.2.1 12 0 27 n), 0, rk, g, s, e) 0 (w_p S.1 14 b 3) (w_a S.2.1 12 0 28 n)
    rw [hO.2.2 0 rfl, hO.2.1 8 rfl, hO.2.2 3 rfl, hT.2 29 rfl, hT.2 27 rfl, hT.2 28 rfl]
    exact ⟨rfl, h0, hn, hc⟩
theorem LFz.tab {cc : Bool} {rk s e : Nat} {g : Nat → Nat} (hO : OWx cc S b fi fp) (hT : OWt S n ft) {T2 : Nat → Prop} (h2 : fi 2 = ft 27) (h26 : ft 26 = 59) (h0 : fp 0 = some (D.1.1.1 22)) (hc : S1z (vw S.1 S.2.1) S.2.2.2.2.2.2 S.2.2.2.2.2.1 rk (some (ft 27), 0, rk - 1, g, s, e) 0 (fp 3) (ft 28)) (hg : ft 27 = i_ (g s) := by first | rfl | assumption) (hz : fi 11 = 0 ∧ fi 21 = 0 := by first | exact ⟨rfl, rfl⟩ | assumption) : LFz D (vw S.1 S.2.1) S.2.2.2.2.2.2 T2 S.2.2.2.2.2.1 (rk, g, s, e) 0 b n := by
  refine ⟨⟨?_, (hT.2 27 rfl).trans hg⟩, 59, ?_, by decide, fun _ => ⟨(hO.2.1 11 rfl).trans hz.1, (hO.2.1 21 rfl).trans hz.2⟩, ?_⟩
  · show w_i S.1 14 b 2 = w_a S.2.1 12 0 27 n
    rw [hO.2.1 2 rfl, hT.2 27 rfl]
    exact h2
  · show w_a S.2.1 12 0 26 n = _
    rw [hT.2 26 rfl]
    exact h26
  · show 0 = 0 ∧ w_p S.1 14 b 0 = _ ∧ S1z _ _ _ _ (some (w_a S.2.1 12 0 27 n), 0, rk - 1, g, s, e) 0 (w_p S.1 14 b 3) (w_a S.2.1 12 0 28 n)
    rw [hO.2.2 0 rfl, hO.2.2 3 rfl, hT.2 27 rfl, hT.2 28 rfl]
    exact ⟨rfl, h0, hc⟩
/-- a call: X ( .. ) -/
theorem LFz.call {cc : Bool} {rk s e : Nat} {g : Nat → Nat} (hO : OWx cc S b fi fp) (hT : OWt S n ft) {T2 : Nat → Prop} (h2 : fi 2 = ft 27) (h26 : ft 26 = 61) (h0 : fp 0 = some (D.1.1.1 19)) (hn : nmr D (fi 9) (ft 30)) (hc : SLz (vw S.1 S.2.1) S.2.2.2.2.2.2 S.2.2.2.2.2.1 rk (some (ft 27), 0, rk - 1, g, s, e) 0 (fp 4) (ft 28)) (hg : ft 27 = i_ (g s) := by first | rfl | assumption) (hz : fi 11 = 0 ∧ fi 21 = 0 := by first | exact ⟨rfl, rfl⟩ | assumption) : LFz D (vw S.1 S.2.1) S.2.2.2.2.2.2 T2 S.2.2.2.2.2.1 (rk, g, s, e) 0 b n := by
  refine ⟨⟨?_, (hT.2 27 rfl).trans hg⟩, 61, ?_, by decide, fun _ => ⟨(hO.2.1 11 rfl).trans hz.1, (hO.2.1 21 rfl).trans hz.2⟩, ?_⟩
  · show w_i S.1 14 b 2 = w_a S.2.1 12 0 27 n
    rw [hO.2.1 2 rfl, hT.2 27 rfl]
    exact h2
  · show w_a S.2.1 12 0 26 n = _
    rw [hT.2 26 rfl]
    exact h26
  · show 0 = 0 ∧ w_p S.1 14 b 0 = _ ∧ nmr D (w_i S.1 14 b 9) (w_a S.2.1 12 0 30 n) ∧ SLz _ _ _ _ (some (w_a S.2.1 12 0 27 n), 0, rk - 1, g, s, e) 0 (w_p S.1 14 b 4) (w_a S.2.1 12 0 28 n)
    rw [hO.2.2 0 rfl, hO.2.1 9 rfl, hO.2.2 4 rfl, hT.2 30 rfl, hT.2 27 rfl, hT.2 28 rfl]
    exact ⟨rfl, h0, hn, hc⟩
/-- behind a name and an open bracket: a call of a FUNCTION (MeetingHouse has read the name) -/
theorem p_apply {G : Nat} (IH : EXq D K E' G) (hL : lex o ≤ L + 100) {L1 L2 L3 : Nat} (hL1 : 400 ≤ L1) (hL2 : 400 ≤ L2) (hL' : lex o ≤ L3 + 100) (H : HY D K [] [] S0 (w, t, al, m, N, nu, tn) (p + 1) p o o) (hS0 : S0.2.2.2.2.1 = N ∧ m ≤ S0.2.2.2.1 + 1) (hg : K.length ≤ p + 1 + 1 + G) (hB : m ≤ 4 * p + 10 ∧ N ≤ 4 * p + 10) (h70 : kk K p = 70) (h40 : kk K (p + 1) = 40) (hO : OWc (w, t, al, m, N, nu, tn) b fi fp) (hb : b ∉ S0.2.2.1.take S0.2.2.2.1) (f0 : fp 0 = some (D.1.1.1 19)) (f7 : fp 7 = none) (i2 : fi 2 = i_ (kln K p)) (i12 : fi 12 = 0) (hnm : nmr D (fi 9) (w_a t 12 0 8 p)) {l : Int32} (hl : l = i_ (kln K p)) (hz0 : fi 11 = 0 ∧ fi 21 = 0 := by first | exact ⟨rfl, rfl⟩ | assumption) :
    PS (fun Q => zw D.1 L kt_M162 [.ref (w_adr D.1.2.1 4 0)] w (wkr (fun v2 w1 => wle w w1 → Q (.inl (some (va_rf (some b)))) (ws_p w1 14 b 4 v2)) (fun e w => Q (.inr e) w))) (fun Q => zw E' L1 kt_M494 [.ref (w_adr E'.2.1 12 0), .int 61, .int l] t (wk1 (fun v28 w27 => wle t w27 → zw E' L2 kt_M601 [.ref (w_adr E'.2.1 12 0)] w27 (wk1 (fun v30 w29 => wle w27 w29 → kx_inb v28 (w_n w29 12 0 30) = true ∧ zw E' L3 kt_M352 [.ref (w_adr E'.2.1 12 0)] (ws_a w29 12 0 30 v28.toNatClampNeg v30) (wk1 (fun v32 w31 => wle (ws_a w29 12 0 30 v28.toNatClampNeg v30) w31 → kx_inb v28 (w_n w31 12 0 28) = true ∧ Q (.inl (some (.int v28))) (ws_a w31 12 0 28 v28.toNatClampNeg v32)) (fun e w => Q (.inr e) w))) (fun e w => Q (.inr e) w))) (fun e w => Q (.inr e) w))) (PR D K [] [] S0 p o true true 0 (GO D K S0 p)) := by
  subst hl
  have hlx := hL
  have hlx' := hL'
  unfold lex at hlx hlx'
  have hpl := H.1.ta.lt
  have hp1 : p + 1 < K.length := H.1.ca.2.2
  have hln1 := H.1.ln hp1 (by omega)
  have ho20 := H.1.2.1.1.2.2.2.2
  refine PS_r1 (fun Q hq => t_node (by omega) H.kt H.tN (by omega) hq) ?_
  have H1 := H.tnd (x := 61) (l := i_ (kln K p))
  have T1 := OWt.new (x := 61) (l := i_ (kln K p)) H
  refine PS_r1 (fun Q hq => t_wantName (by omega) H1.1.ta H1.1.krg (fun _ => hq) (fun e => absurd h70 e)) ?_
  have H2 := H1.tnx (by omega) (by omega)
  have hv8 : w_a (nd3 t N 61 (i_ (kln K p))) 12 0 8 p = w_a t 12 0 8 p := TX_nd3.a rfl
  have T2 : OWt (w, nx3 (nd3 t N 61 (i_ (kln K p))) p, al, m, N + 1, nu, tn) N _ := T1
  simp only [i_nat' (show N < 2147483648 by omega), hv8]
  refine PS_rand (by rw [H2.1.tl.2.2.2.2.1]; exact i_inb' (by omega) (by omega)) ?_
  have H3 := H2.ta (k := 30) (n := N) (v := w_a t 12 0 8 p) rfl T2.1.2 (fun h => absurd h (by omega))
  have T3 := T2.si (k := 30) (v := w_a t 12 0 8 p)
  refine PR_c11 H.1.krg H3.2 (p_arguments IH (by omega) (by omega) H3.1 hg ⟨by omega, by omega⟩ (by omega) (by omega)) (fun a h => absurd h List.not_mem_nil) (fun a h => absurd h List.not_mem_nil) (fun x v w2 t2 al2 m2 N2 nu2 tn2 p2 hl H6 HS hbd hgx => ?_) (fun v w2 t2 hv hv2 hd => ?_)
  · obtain ⟨⟨k, hs⟩, hln2, hhd⟩ := hgx
    rw [hln1] at hs
    have O6 := (show OWc (w, ws_a (nx3 (nd3 t N 61 (i_ (kln K p))) p) 12 0 30 N (w_a t 12 0 8 p), al, m, N + 1, nu, tn) b fi fp from hO).fr HS.2 List.not_mem_nil
    have T6 := T3.fr HS.2 List.not_mem_nil
    have H7 := H6.wp (k := 4) (v := x) O6.1.2 (fun e => absurd e hb) (LKO.op (hhd.up (fun _ e => H3.2.sub e)))
    have O7 := O6.sp (k := 4) (v := x) (.inr (.inr (fun e => (hhd b e).2.2 hO.1.1.1)))
    refine PS_rand (by rw [H6.1.tl.2.2.1]; exact i_inb' (by omega) (by omega)) ?_
    have H8 := H7.ta (k := 28) (n := N) (v := v) rfl T6.1.2 (fun h => absurd h (by omega))
    have T8 := T6.si (k := 28) (v := v)
    have O8 : OWc (ws_p w2 14 b 4 x, ws_a t2 12 0 28 N v, al2, m2, N2, nu2, tn2) b _ _ := O7
    have T8' : OWt (ws_p w2 14 b 4 x, ws_a t2 12 0 28 N v, al2, m2, N2, nu2, tn2) N _ := T8
    refine PS_ret (.inr ⟨some b, i_ N, al2, m2, N2, nu2, tn2, p2, rfl, rfl, H8, ⟨by omega, by omega, by omega⟩, b, N, rfl, rfl, PND.mk1 (kd := 61) O8 T8' (by omega) (by omega) (LFz.call O8 T8' i2 rfl f0 hnm ?_) i12 (fun l e => by cases e; rfl), NXT.mk1 O8 T8' f7 rfl, hb, by omega, fun e => absurd ((T8'.2 26 rfl).symm.trans e) (show ¬ ((61 : Int32) = 60) by decide), 61, (T8'.2 26 rfl).trans (show (61 : Int32) = i_ (61 : Nat) by decide), by decide⟩)
    refine hs.up (VWa.mk (b := b) (n := N) ?_ ?_ ?_ O6.1.2 T6.1.2) (fun _ _ h => h) (fun _ h => h) (Nat.le_refl _)
    · exact (fun a h k => by simp only [nx, Rii, Rgi, Rpi, Rai, Rbi, Rri, Rni, Rdi, Roi, Rti, Rzi, RCi, RSi, Rip, Rgp, Rpp, Rap, Rbp, Rrp, Rnp, Rdp, Rop, Rtp, Rzp, RCp, RSp]; simp [h])
    · exact (fun y h k => by simp only [nx3, nd3, Rii, Rgi, Rpi, Rai, Rbi, Rri, Rni, Rdi, Roi, Rti, Rzi, RCi, RSi, Ria, Rga, Rpa, Raa, Rba, Rra, Rna, Rda, Roa, Rta, Rza, RCa, RSa]; simp [h])
    · rfl
  · refine eS_and (by rw [hd.2.2.tl.2.2.1]; exact i_inb' (by omega) (by omega)) ?_
    exact (hd.ta rfl).ret rfl ⟨by omega, by omega⟩
theorem p_operand (IH : EXq D K E' g) (IO : OPq D K E' g) : OPq D K E' (g + 1) := by
  intro L L' w t al m N nu tn p o hL hL' hS hg hB
  have hlx := hL
  have hlx' := hL'
  unfold lex at hlx hlx'
  have hpl := hS.ta.lt
  have ho20 := hS.2.1.1.2.2.2.2
  have H : HY D K [] [] (w, t, al, m, N, nu, tn) (w, t, al, m, N, nu, tn) p p o o := ⟨hS, FR.rf hS.mle⟩
  have hal := H.alive
  refine PW_of' (fun Q h => zt_X5_operand_p0 (by omega) h) (fun Q h => zt_X13_operand_2_p0 (by omega) h) ?_
  simp only [zb_X5_operand_p0, zb_X5_operand_p112, zb_X13_operand_2_p0, zb_X13_operand_2_p202, zb_X13_operand_2_p237, zb_X13_operand_2_p267]
  refine PS_cn (by omega) (by omega) H (fun b al' w2 H1 HF O1 hb hb0 => ?_)
  have hC := H1.1.ca
  have hkr := hC.kr
  obtain ⟨l2, l3, l4, l5, l6⟩ := hC.1.1.2.1
  simp only [H1.cpos, l2, l3, l4, i_nat' (show p < 2147483648 by omega)]
  refine PS_land (i_inb' (by omega) (by omega)) (PS_lex (kA K p).1.1 (zO_at hC) ?_)
  refine PS_r1 (fun Q hq => t_look (by omega) H1.1.ta hq) ?_
  simp only [H1.tpos, i_nat' (show p < 2147483648 by omega), H1.1.r9, H1.l9.1, (show (i_ (kk K p) = (70 : Int32)) = (kk K p = 70) from i_eqk (show -1000 ≤ kk K p ∧ kk K p ≤ 1000 by omega) (show (-1000 : Int) ≤ 70 by decide) (by decide)), (show (i_ (kk K p) = (40 : Int32)) = (kk K p = 40) from i_eqk (show -1000 ≤ kk K p ∧ kk K p ≤ 1000 by omega) (show (-1000 : Int) ≤ 40 by decide) (by decide)), (show (i_ (kk K p) = (42 : Int32)) = (kk K p = 42) from i_eqk (show -1000 ≤ kk K p ∧ kk K p ≤ 1000 by omega) (show (-1000 : Int) ≤ 42 by decide) (by decide)), (show (i_ (kk K p) = (16 : Int32)) = (kk K p = 16) from i_eqk (show -1000 ≤ kk K p ∧ kk K p ≤ 1000 by omega) (show (-1000 : Int) ≤ 16 by decide) (by decide)), (show (i_ (kk K p) = (15 : Int32)) = (kk K p = 15) from i_eqk (show -1000 ≤ kk K p ∧ kk K p ≤ 1000 by omega) (show (-1000 : Int) ≤ 15 by decide) (by decide)), (show (i_ (kk K p) = (71 : Int32)) = (kk K p = 71) from i_eqk (show -1000 ≤ kk K p ∧ kk K p ≤ 1000 by omega) (show (-1000 : Int) ≤ 71 by decide) (by decide)), (show (i_ (kk K p) = (72 : Int32)) = (kk K p = 72) from i_eqk (show -1000 ≤ kk K p ∧ kk K p ≤ 1000 by omega) (show (-1000 : Int) ≤ 72 by decide) (by decide)), (show (i_ (kk K p) = (73 : Int32)) = (kk K p = 73) from i_eqk (show -1000 ≤ kk K p ∧ kk K p ≤ 1000 by omega) (show (-1000 : Int) ≤ 73 by decide) (by decide)), (show (i_ (kk K p) = (32 : Int32)) = (kk K p = 32) from i_eqk (show -1000 ≤ kk K p ∧ kk K p ≤ 1000 by omega) (show (-1000 : Int) ≤ 32 by decide) (by decide)), (show (i_ (kk K p) = (8 : Int32)) = (kk K p = 8) from i_eqk (show -1000 ≤ kk K p ∧ kk K p ≤ 1000 by omega) (show (-1000 : Int) ≤ 8 by decide) (by decide)), (show (i_ (kk K p) = (12 : Int32)) = (kk K p = 12) from i_eqk (show -1000 ≤ kk K p ∧ kk K p ≤ 1000 by omega) (show (-1000 : Int) ≤ 12 by decide) (by decide)), (show (i_ (kk K p) = (4 : Int32)) = (kk K p = 4) from i_eqk (show -1000 ≤ kk K p ∧ kk K p ≤ 1000 by omega) (show (-1000 : Int) ≤ 4 by decide) (by decide))]
  refine PS_rand (i_inb' (by omega) (by omega)) ?_
  have hwl : w_l w2 D.1.2.1 14 b := O1.wl H1.1
  have lits : ∀ (s y : Nat) (i : Nat) (hkk : kk K p ≠ 75 ∧ kk K p ≠ 74) (hy : 50 ≤ y ∧ y < 60) (hF : ∀ (V : pV) T2, (∀ k, ink k = true → V.1 b k = up_ (up_ (ndI (i_ p) (i_ (kln K p))) 10 (w_a w2 1 0 3 p)) 18 (w_a w2 1 0 4 p) k) → V.2.1 b 0 = some (D.1.1.1 i) → V.2.2.1 28 N = w_a t 12 0 8 p → V.2.2.2 = w_a w2 1 0 10 → LFkz D V tn T2 nu 0 (kln K, p, p + 1) 0 b N y), PS (fun Q => zw D.1 (L - 20) kt_M195 [.ref (w_adr D.1.2.1 4 0)] (ws_i (ws_i (ws_p w2 14 b 0 (some (D.1.1.1 i))) 14 b 10 (w_a w2 1 0 3 p)) 14 b 18 (w_a w2 1 0 4 p)) (wk0 (fun w1 => wle (ws_i (ws_i (ws_p w2 14 b 0 (some (D.1.1.1 i))) 14 b 10 (w_a w2 1 0 3 p)) 14 b 18 (w_a w2 1 0 4 p)) w1 → Q (.inl (some (va_rf (some b)))) w1) (fun e w => Q (.inr e) w))) (fun Q => zb_X13_operand_2_p328 E' L' Q (i_ (kln K p)) (i_ y) t) (PR D K [] [] (w, t, al, m, N, nu, tn) p o true true 0 (GO D K (w, t, al, m, N, nu, tn) p)) := by
    intro s y i hkk hy hF
    have H2 := ((H1.wp (k := 0) (v := some (D.1.1.1 i)) O1.1.2 (fun e => absurd e hb0)).wi (k := 10) (v := w_a w2 1 0 3 p) O1.1.2 (fun e => absurd e hb0)).wi (k := 18) (v := w_a w2 1 0 4 p) O1.1.2 (fun e => absurd e hb0)
    have O2 := ((O1.sp (k := 0) (v := some (D.1.1.1 i))).si (k := 10) (v := w_a w2 1 0 3 p)).si (k := 18) (v := w_a w2 1 0 4 p)
    exact p_lit (by omega) (by omega) H2 ⟨rfl, Nat.le_refl _⟩ (by omega) hkk.1 hkk.2 O2 hb0 hy rfl rfl rfl hF
  rcases hC.kkc with ⟨hs, hv, k1, k2⟩ | ⟨hs, hv, k1, k2⟩ | ⟨hs, hk⟩ | ⟨hs, hk⟩ | ⟨hs, hk⟩ | ⟨hs, hk⟩ | ⟨hs, hk⟩ | ⟨hs, hk⟩ | ⟨hs, hk⟩
  · -- a word
    refine PS_ln (by rw [hs]; decide +kernel) (PS_ln (by rw [hs]; decide +kernel) (PS_ln (by rw [hs]; decide +kernel) (PS_ln (by rw [hs]; decide +kernel) (PS_lp (by rw [hs]; decide +kernel) ?_))))
    refine PS_ltail (PS_l (fun Q h => zt_X5_special_p0 (by omega) h) ?_)
    simp only [zb_X5_special_p0, zb_X5_special_p25, zb_X5_special_p44, zb_X5_special_p66, zb_X5_special_p82, zb_X5_special_p133, zb_X5_special_p227, H1.cpos, l3, i_nat' (show p < 2147483648 by omega), hv, (show (i_ (kk K p) = (32 : Int32)) = (kk K p = 32) from i_eqk (show -1000 ≤ kk K p ∧ kk K p ≤ 1000 by omega) (show (-1000 : Int) ≤ 32 by decide) (by decide)), (show (i_ (kk K p) = (8 : Int32)) = (kk K p = 8) from i_eqk (show -1000 ≤ kk K p ∧ kk K p ≤ 1000 by omega) (show (-1000 : Int) ≤ 8 by decide) (by decide)), (show (i_ (kk K p) = (16 : Int32)) = (kk K p = 16) from i_eqk (show -1000 ≤ kk K p ∧ kk K p ≤ 1000 by omega) (show (-1000 : Int) ≤ 16 by decide) (by decide)), (show (i_ (kk K p) = (15 : Int32)) = (kk K p = 15) from i_eqk (show -1000 ≤ kk K p ∧ kk K p ≤ 1000 by omega) (show (-1000 : Int) ≤ 15 by decide) (by decide)), (show (i_ (kk K p) = (12 : Int32)) = (kk K p = 12) from i_eqk (show -1000 ≤ kk K p ∧ kk K p ≤ 1000 by omega) (show (-1000 : Int) ≤ 12 by decide) (by decide)), (show (i_ (kk K p) = (4 : Int32)) = (kk K p = 4) from i_eqk (show -1000 ≤ kk K p ∧ kk K p ≤ 1000 by omega) (show (-1000 : Int) ≤ 4 by decide) (by decide)), (show (i_ (kk K p) = (36 : Int32)) = (kk K p = 36) from i_eqk (show -1000 ≤ kk K p ∧ kk K p ≤ 1000 by omega) (show (-1000 : Int) ≤ 36 by decide) (by decide)), (show (i_ (kk K p) = (38 : Int32)) = (kk K p = 38) from i_eqk (show -1000 ≤ kk K p ∧ kk K p ≤ 1000 by omega) (show (-1000 : Int) ≤ 38 by decide) (by decide))]
    refine PS_land (i_inb' (by omega) (by omega)) ?_
    by_cases c32 : kk K p = 32
    · refine PS_lp c32 (PS_lex b rfl (PS_land hwl (PS_ln (not_not_intro c32) (PS_lex b rfl (PS_land (by exact hwl) ?_)))))
      have H2 := (H1.wp (k := 0) (v := some (D.1.1.1 20)) O1.1.2 (fun e => absurd e hb0)).wi (k := 10) (v := 1) O1.1.2 (fun e => absurd e hb0)
      have O2 := (O1.sp (k := 0) (v := some (D.1.1.1 20))).si (k := 10) (v := 1)
      refine PS_rp (by omega) (PS_rp (by omega) (PS_rp (by omega) (PS_r1 (fun Q hq => t_isType (by omega) (by omega) hq) ?_)))
      refine PS_rp (by rw [c32]; decide) (PS_rn (by omega) (PS_rp (by omega) (PS_rp (by omega) (PS_rp (by omega) (PS_rp (by omega) (PS_rn (not_not_intro c32) ?_))))))
      exact p_lit (y := 53) (by omega) (by omega) H2 ⟨rfl, Nat.le_refl _⟩ (by omega) (by omega) (by omega) O2 hb0 (by decide) rfl rfl rfl (fun V T2 a1 a2 a3 a4 => ⟨rfl, a2, a1 10 rfl⟩)
    refine PS_ln c32 ?_
    by_cases c8 : kk K p = 8
    · refine PS_ln (not_not_intro c8) (PS_lex b rfl (PS_land hwl (PS_lp c32 (PS_lex b rfl (PS_land (by exact hwl) ?_)))))
      have H2 := (H1.wp (k := 0) (v := some (D.1.1.1 20)) O1.1.2 (fun e => absurd e hb0)).wi (k := 10) (v := 0) O1.1.2 (fun e => absurd e hb0)
      have O2 := (O1.sp (k := 0) (v := some (D.1.1.1 20))).si (k := 10) (v := 0)
      refine PS_rp (by omega) (PS_rp (by omega) (PS_rp (by omega) (PS_r1 (fun Q hq => t_isType (by omega) (by omega) hq) ?_)))
      refine PS_rp (by rw [c8]; decide) (PS_rn (by omega) (PS_rp (by omega) (PS_rp (by omega) (PS_rp (by omega) (PS_rp (by omega) (PS_rp (by omega) (PS_rn (not_not_intro c8) ?_)))))))
      exact p_lit (y := 54) (by omega) (by omega) H2 ⟨rfl, Nat.le_refl _⟩ (by omega) (by omega) (by omega) O2 hb0 (by decide) rfl rfl rfl (fun V T2 a1 a2 a3 a4 => ⟨rfl, a2, a1 10 rfl⟩)
    refine PS_lp c8 ?_
    -- the greatest and the least
    have most : ∀ (x v : Int32) (y : Nat), (kk K p = 16 ∧ y = 55 ∧ v = 2147483647 ∨ kk K p = 15 ∧ y = 56 ∧ v = -2147483648) → PS (fun Q => zw D.1 (L - 23 - 20) kt_M195 [.ref (w_adr D.1.2.1 4 0)] (ws_i w2 14 b 10 v) (wk0 (fun w1 => wle (ws_i w2 14 b 10 v) w1 → zw D.1 (L - 23 - 21) kt_M176 [.ref (w_adr D.1.2.1 4 0), .int 12] w1 (wk0 (fun w3 => wle w1 w3 → Q (.inl (some (va_rf (some b)))) w3) (fun e w => Q (.inr e) w))) (fun e w => Q (.inr e) w))) (fun Q => zw E' (L' - 21) kt_M600 [.ref (w_adr E'.2.1 12 0), .int 12] (ws_i t 12 0 35 (w_i t 12 0 35 + 1)) (wk0 (fun w1 => wle (ws_i t 12 0 35 (w_i t 12 0 35 + 1)) w1 → zw E' (L' - 22) kt_M494 [.ref (w_adr E'.2.1 12 0), .int (i_ y), .int (i_ (kln K p))] w1 (wk1 (fun v2 w3 => wle w1 w3 → Q (.inl (some (.int v2))) w3) (fun e w => Q (.inr e) w))) (fun e w => Q (.inr e) w))) (PR D K [] [] (w, t, al, m, N, nu, tn) p o true true 0 (GO D K (w, t, al, m, N, nu, tn) p)) := by
      intro x v y hy
      have H2 := H1.wi (k := 10) (v := v) O1.1.2 (fun e => absurd e hb0)
      have O2 := O1.si (k := 10) (v := v)
      rw [show w_i t 12 0 35 = i_ p from H.tpos, p3e]
      refine PS_nxl (by omega) H2 (by omega) (fun H3 => ?_) (fun w' hd h76 => dd_want (v := 12) (H2.dd hd (by omega) (by omega) hal h76) (by omega) rfl (by omega))
      have H4 := H3.tnx (by omega) hal
      have hln1 := H4.1.ln H4.1.ca.2.2 (by omega)
      refine PS_exw (c := 12) (v := 12) (by omega) (by omega) (by omega) H4 rfl (by unfold wcd; omega) rfl (fun e12 H5 => ?_) (fun w' hd => ?_)
      · have hln2 := H5.1.ln H5.1.ca.2.2 (by omega)
        refine PS_r1 (fun Q hq => t_node (by omega) H5.kt H5.tN (by omega) hq) ?_
        have H6 := H5.tnd (x := i_ y) (l := i_ (kln K p))
        have T6 := OWt.new (x := i_ y) (l := i_ (kln K p)) H5
        have O6 : OWc (nx (nx (ws_i w2 14 b 10 v) p) (p + 1), nd3 (nx3 (nx3 t p) (p + 1)) N (i_ y) (i_ (kln K p)), al', m + 1, N + 1, nu, tn) b _ _ := (O2.w4 (.inl (by decide))).w4 (.inl (by decide))
        have T6' : OWt (nx (nx (ws_i w2 14 b 10 v) p) (p + 1), nd3 (nx3 (nx3 t p) (p + 1)) N (i_ y) (i_ (kln K p)), al', m + 1, N + 1, nu, tn) N _ := T6
        refine PS_ret (.inr ⟨some b, i_ N, al', m + 1, N + 1, nu, tn, p + 1 + 1, rfl, rfl, H6, ⟨by omega, by show m + 1 + _ ≤ m + _; omega, by show N + 1 + _ ≤ N + _; omega⟩, b, N, rfl, rfl, PND.mk1 (kd := y) O6 T6' (Nat.le_refl _) (by omega) ⟨⟨(O6.2.1 2 rfl).trans (T6'.2 27 rfl).symm, T6'.2 27 rfl⟩, y, T6'.2 26 rfl, by omega, ?_⟩ rfl (fun l e => by cases e; rfl), NXT.mk1 O6 T6' rfl rfl, hb, by omega, fun e => absurd ((T6'.2 26 rfl).symm.trans e) (i60 (by omega)), y, T6'.2 26 rfl, by omega⟩)
        rcases hy with ⟨-, e1, e2⟩ | ⟨-, e1, e2⟩
        · subst e1 e2
          exact ⟨fun _ => ⟨O6.2.1 11 rfl, O6.2.1 21 rfl⟩, rfl, O6.2.2 0 rfl, O6.2.1 10 rfl⟩
        · subst e1 e2
          exact ⟨fun _ => ⟨O6.2.1 11 rfl, O6.2.1 21 rfl⟩, rfl, O6.2.2 0 rfl, O6.2.1 10 rfl⟩
      · have hN' : w_i (nx3 (nx3 t p) (p + 1)) 12 0 25 = i_ N := by
          unfold nx3
          rw [Rii, if_neg (by decide), Rii, if_neg (by decide)]
          exact H.tN
        refine eS_1 (fun Q hq => t_node (by omega) hd.2.2.1.1.1 hN' (by omega) hq) ?_
        exact (hd.nd (by omega)).ret rfl ⟨by omega, by omega⟩
    by_cases c16 : kk K p = 16
    · refine PS_lp c16 (PS_ln (not_not_intro c16) (PS_lex b rfl (PS_land hwl ?_)))
      refine PS_rp (by omega) (PS_rp (by omega) (PS_rp (by omega) (PS_r1 (fun Q hq => t_isType (by omega) (by omega) hq) ?_)))
      refine PS_rp (by rw [c16]; decide) (PS_rp c16 ?_)
      have hm := most 0 2147483647 55 (.inl ⟨c16, rfl, rfl⟩)
      have e1 : ∀ {A B : pQ}, (fun Q => if ¬ kk K p = 16 then A Q else B Q) = B := fun {A B} => if_neg_fun (not_not_intro c16)
      simp only [c16, not_true_eq_false, if_false]
      exact hm
    refine PS_ln c16 ?_
    by_cases c15 : kk K p = 15
    · refine PS_ln (not_not_intro c15) (PS_lp c16 (PS_lex b rfl (PS_land hwl ?_)))
      refine PS_rp (by omega) (PS_rp (by omega) (PS_rp (by omega) (PS_r1 (fun Q hq => t_isType (by omega) (by omega) hq) ?_)))
      refine PS_rp (by rw [c15]; decide) (PS_rn c16 (PS_rn (not_not_intro c15) ?_))
      have hm := most 0 (-2147483648) 56 (.inr ⟨c15, rfl, rfl⟩)
      simp only [c16, not_false_eq_true, if_true]
      exact hm
    refine PS_lp c15 ?_
    refine PS_l1 (fun Q hq => c_isType (by omega) hC hq) ?_
    cases hty : bTy (kk K p) with
    | true =>
      -- a conversion
      have hty' := hty
      unfold bTy at hty'
      simp only [Bool.or_eq_true, decide_eq_true_eq] at hty'
      refine PS_ln (by decide) (PS_lex b rfl (PS_land hwl ?_))
      refine PS_rp (by omega) (PS_rp (by omega) (PS_rp (by omega) (PS_r1 (fun Q hq => t_isType (by omega) (by omega) hq) ?_)))
      rw [hty]
      refine PS_rn (by decide) ?_
      have conv : ∀ (c : Nat), c < 3 → PS (fun Q => ∃ p1, some b = some p1 ∧ w_l (ws_p w2 14 b 0 (some (D.1.1.1 21))) D.1.2.1 14 p1 ∧ zw D.1 (L - 20 - 23) kt_M175 [.ref (w_adr D.1.2.1 4 0)] (ws_i (ws_p w2 14 b 0 (some (D.1.1.1 21))) 14 p1 8 (i_ (c + 1 : Nat))) (wk0 (fun w3 => wle (ws_i (ws_p w2 14 b 0 (some (D.1.1.1 21))) 14 p1 8 (i_ (c + 1 : Nat))) w3 → zw D.1 (L - 21 - 23) kt_M198 [.ref (w_adr D.1.2.1 4 0)] w3 (wkr (fun v5 w4 => wle w3 w4 → ∃ p6, some b = some p6 ∧ w_l w4 D.1.2.1 14 p6 ∧ Q (.inl (some (va_rf (some b)))) (ws_i (ws_p w4 14 p6 3 v5) 4 0 4 (w_i w4 4 0 4 - 1))) (fun e w => Q (.inr e) w))) (fun e w => Q (.inr e) w))) (fun Q => zw E' (L' - 20) kt_M497 [.ref (w_adr E'.2.1 12 0)] t (wk0 (fun w5 => wle t w5 → zw E' (L' - 22) kt_M494 [.ref (w_adr E'.2.1 12 0), .int 57, .int (i_ (kln K p))] w5 (wk1 (fun v8 w7 => wle w5 w7 → kx_inb v8 (w_n w7 12 0 29) = true ∧ zw E' (L' - 24) kt_M498 [.ref (w_adr E'.2.1 12 0)] (ws_a w7 12 0 29 v8.toNatClampNeg (i_ c)) (wk1 (fun v2 w1 => wle (ws_a w7 12 0 29 v8.toNatClampNeg (i_ c)) w1 → kx_inb v8 (w_n w1 12 0 28) = true ∧ Q (.inl (some (.int v8))) (ws_i (ws_a w1 12 0 28 v8.toNatClampNeg v2) 12 0 38 (w_i w1 12 0 38 - 1))) (fun e w => Q (.inr e) w))) (fun e w => Q (.inr e) w))) (fun e w => Q (.inr e) w))) (PR D K [] [] (w, t, al, m, N, nu, tn) p o true true 0 (GO D K (w, t, al, m, N, nu, tn) p)) := by
        intro c hc
        have H2 := (H1.wp (k := 0) (v := some (D.1.1.1 21)) O1.1.2 (fun e => absurd e hb0)).wi (k := 8) (v := i_ (c + 1 : Nat)) O1.1.2 (fun e => absurd e hb0)
        have O2 := (O1.sp (k := 0) (v := some (D.1.1.1 21))).si (k := 8) (v := i_ (c + 1 : Nat))
        refine PS_lex b rfl (PS_land (by exact hwl) ?_)
        refine PS_enw (by omega) (by omega) (by omega) H2 (by omega) (fun ho H3 => ?_) (fun w' hd => ?_)
        · have hln1 := H3.1.ln H3.1.ca.2.2 (by omega)
          refine PS_r1 (fun Q hq => t_node (by omega) H3.kt H3.tN (by omega) hq) ?_
          simp only [i_nat' (show N < 2147483648 by omega)]
          have H4 := H3.tnd (x := 57) (l := i_ (kln K p))
          have T4 := OWt.new (x := 57) (l := i_ (kln K p)) H3
          refine PS_rand (by rw [H4.1.tl.2.2.2.1]; exact i_inb' (by omega) (by omega)) ?_
          have H5 := H4.ta (k := 29) (n := N) (v := i_ c) rfl T4.1.2 (fun h => absurd h (Nat.lt_irrefl _))
          have T5 := T4.si (k := 29) (v := i_ c)
          have O5 : OWc (nx (ws_i (ws_i (ws_p w2 14 b 0 (some (D.1.1.1 21))) 14 b 8 (i_ (c + 1 : Nat))) 4 0 4 (i_ (o + 1 : Nat))) p, ws_a (nd3 (nx3 (ws_i t 12 0 38 (i_ (o + 1 : Nat))) p) N 57 (i_ (kln K p))) 12 0 29 N (i_ c), al', m + 1, N + 1, nu, tn) b _ _ := (O2.w4 (.inl (by decide))).w4 (.inl (by decide))
          refine PR_c11 hS.krg H5.2 (IO (L - 21 - 23) (L' - 24) _ _ _ _ _ _ _ _ _ (by unfold lex; omega) (by unfold lex; omega) H5.1 (by omega) ⟨by omega, by omega⟩) (fun a h => absurd h List.not_mem_nil) (fun a h => absurd h List.not_mem_nil) (fun x v w3 t3 al3 m3 N3 nu3 tn3 p3 hl H6 HS hbd hgx => ?_) (fun v w3 t3 hv hv2 hd => ?_)
          · obtain ⟨b2, n2, rfl, rfl, hP, hX, hb2, hln, hfk⟩ := hgx
            have O6 := O5.fr HS.2 List.not_mem_nil
            have T6 := (T5 : OWt (nx (ws_i (ws_i (ws_p w2 14 b 0 (some (D.1.1.1 21))) 14 b 8 (i_ (c + 1 : Nat))) 4 0 4 (i_ (o + 1 : Nat))) p, ws_a (nd3 (nx3 (ws_i t 12 0 38 (i_ (o + 1 : Nat))) p) N 57 (i_ (kln K p))) 12 0 29 N (i_ c), al', m + 1, N + 1, nu, tn) N _).fr HS.2 List.not_mem_nil
            rw [hln1] at hP
            obtain ⟨x6, tn4, r6, H7, hC7, hm1, hm2, hn0⟩ := H6.fin hP (fun e => hb2 (H5.2.sub e)) (Nat.le_succ _)
            have hbb : b ≠ b2 := fun e => hb2 (by rw [← e]; exact O5.1.1.1)
            have O7 := O6.fin (x := x6) (tn' := tn4) hbb
            have T7 := T6.fin (nu' := nuU nu3 b2 x6) hm2 (.inl (Nat.lt_succ_self N))
            have H8 := H7.wp (k := 3) (v := some b2) O7.1.2 (fun e => absurd e hb0) (LKO.mk hP.bm.1 hX.2.2 (fun e => hb2 (H5.2.sub e)))
            have O8 := O7.sp (k := 3) (v := some b2)
            refine PS_lex b rfl (PS_land (O7.wl H7.1) ?_)
            refine PS_rand (by rw [H7.1.tl.2.2.1]; exact i_inb' (by omega) (by omega)) ?_
            have H9 := H8.ta (k := 28) (n := N) (v := i_ n2) rfl T7.1.2 (fun h => absurd h (Nat.lt_irrefl _))
            have T9 := T7.si (k := 28) (v := i_ n2)
            have e4 : w_i w3 4 0 4 - 1 = i_ o := by
              rw [H7.1.2.1.1.2.2.2.1, i_1, i_sub, show ((o + 1 : Nat) : Int) - 1 = (o : Int) by omega]
            rw [e4, H7.o38]
            have H10 := (H9.co (u := o) (by omega)).to (u := o) (by omega)
            have OE : OWc (ws_i (ws_p w3 14 b 3 (some b2)) 4 0 4 (i_ o), ws_i (ws_a t3 12 0 28 N (i_ n2)) 12 0 38 (i_ o), al3, m3, N3, nuU nu3 b2 x6, tn4) b _ _ := O8.w4 (.inl (by decide))
            have TE : OWt (ws_i (ws_p w3 14 b 3 (some b2)) 4 0 4 (i_ o), ws_i (ws_a t3 12 0 28 N (i_ n2)) 12 0 38 (i_ o), al3, m3, N3, nuU nu3 b2 x6, tn4) N _ := T9
            refine PS_ret (.inr ⟨some b, i_ N, al3, m3, N3, nuU nu3 b2 x6, tn4, p3, rfl, rfl, H10, ⟨by omega, by show m3 + _ ≤ m + _; omega, by show N3 + _ ≤ N + _; omega⟩, b, N, rfl, rfl, PND.mk1 (kd := 57) OE TE (Nat.le_refl _) (by omega) (LFz.conv OE TE rfl rfl rfl ⟨c, hc, rfl, rfl⟩ ⟨b2, n2, rfl, rfl, ?_⟩) rfl (fun l e => by cases e; rfl), NXT.mk1 OE TE rfl rfl, hb, by omega, fun e => absurd ((TE.2 26 rfl).symm.trans e) (show ¬ ((57 : Int32) = 60) by decide), 57, (TE.2 26 rfl).trans (show (57 : Int32) = i_ (57 : Nat) by decide), by decide⟩)
            refine hC7.up (VWa.mk (b := b) (n := N) ?_ ?_ ?_ O7.1.2 T7.1.2) (fun _ _ h => h) (fun _ h => h) (Nat.le_refl _)
            · exact (fun a h k => by simp only [nx, Rii, Rgi, Rpi, Rai, Rbi, Rri, Rni, Rdi, Roi, Rti, Rzi, RCi, RSi, Rip, Rgp, Rpp, Rap, Rbp, Rrp, Rnp, Rdp, Rop, Rtp, Rzp, RCp, RSp]; simp [h])
            · exact (fun y h k => by simp only [nx3, nd3, Rii, Rgi, Rpi, Rai, Rbi, Rri, Rni, Rdi, Roi, Rti, Rzi, RCi, RSi, Ria, Rga, Rpa, Raa, Rba, Rra, Rna, Rda, Roa, Rta, Rza, RCa, RSa]; simp [h])
            · rfl
          · refine eS_and (by rw [hd.2.2.tl.2.2.1]; exact i_inb' (by omega) (by omega)) ?_
            exact (hd.ta rfl).to.ret rfl ⟨by omega, by omega⟩
        · have hN' : w_i (nx3 (ws_i t 12 0 38 (i_ (o + 1 : Nat))) p) 12 0 25 = i_ N := by
            unfold nx3
            rw [Rii, if_neg (by decide), Rii, if_neg (by decide)]
            exact H.tN
          refine eS_1 (fun Q hq => t_node (by omega) hd.2.2.1.1.1 hN' (by omega) hq) ?_
          have hd2 := hd.nd (N := N) (x := 57) (l := i_ (kln K p)) (by omega)
          simp only [i_nat' (show N < 2147483648 by omega)]
          refine eS_and (by rw [hd2.2.2.tl.2.2.2.1]; exact i_inb' (by omega) (by omega)) ?_
          exact dd_operand (hd2.ta rfl) (by omega)
      by_cases c12 : kk K p = 12
      · have hm := conv 0 (by decide)
        simp only [c12, not_true_eq_false, if_false]
        exact hm
      by_cases c4 : kk K p = 4
      · have hm := conv 1 (by decide)
        simp only [c4, not_true_eq_false, if_false, not_false_eq_true, if_true, c12]
        exact hm
      · have hm := conv 2 (by decide)
        simp only [c4, not_false_eq_true, if_true, c12]
        exact hm
    | false =>
      refine PS_lp (by decide) (PS_lp (by omega) (PS_lp (by omega) ?_))
      refine PS_two (by omega) H1 (fun w' e => ?_)
      subst e
      refine eS_p (by omega) (eS_p (by omega) (eS_p (by omega) (eS_1 (fun Q hq => t_isType (by omega) (by omega) hq) ?_)))
      rw [hty]
      exact eS_p (by decide) (eS_n (by omega) (eS_p (by omega) (eS_p (by omega) (eS_p (by omega) (eS_p (by omega) (eS_p (by omega) (eS_p (by omega) (p_no (by omega) H1))))))))
  · -- a sign
    refine PS_ln (by rw [hs]; decide +kernel) (PS_ln (by rw [hs]; decide +kernel) (PS_ln (by rw [hs]; decide +kernel) (PS_ln (by rw [hs]; decide +kernel) (PS_ln (by rw [hs]; decide +kernel) (PS_lp (by rw [hs]; decide +kernel) ?_)))))
    refine PS_ltail (PS_l (fun Q h => zt_X5_special_p0 (by omega) h) ?_)
    have hty : bTy (kk K p) = false := by
      unfold bTy
      simp only [Bool.or_eq_false_iff, decide_eq_false_iff_not]
      omega
    simp only [zb_X5_special_p0, zb_X5_special_p227, H1.cpos, l3, i_nat' (show p < 2147483648 by omega), hv, (show (i_ (kk K p - 4) = (32 : Int32)) = (kk K p - 4 = 32) from i_eqk (show -1000 ≤ kk K p - 4 ∧ kk K p - 4 ≤ 1000 by omega) (show (-1000 : Int) ≤ 32 by decide) (by decide)), (show (i_ (kk K p - 4) = (8 : Int32)) = (kk K p - 4 = 8) from i_eqk (show -1000 ≤ kk K p - 4 ∧ kk K p - 4 ≤ 1000 by omega) (show (-1000 : Int) ≤ 8 by decide) (by decide)), (show (i_ (kk K p - 4) = (16 : Int32)) = (kk K p - 4 = 16) from i_eqk (show -1000 ≤ kk K p - 4 ∧ kk K p - 4 ≤ 1000 by omega) (show (-1000 : Int) ≤ 16 by decide) (by decide)), (show (i_ (kk K p - 4) = (15 : Int32)) = (kk K p - 4 = 15) from i_eqk (show -1000 ≤ kk K p - 4 ∧ kk K p - 4 ≤ 1000 by omega) (show (-1000 : Int) ≤ 15 by decide) (by decide)), (show (i_ (kk K p - 4) = (36 : Int32)) = (kk K p - 4 = 36) from i_eqk (show -1000 ≤ kk K p - 4 ∧ kk K p - 4 ≤ 1000 by omega) (show (-1000 : Int) ≤ 36 by decide) (by decide)), (show (i_ (kk K p - 4) = (38 : Int32)) = (kk K p - 4 = 38) from i_eqk (show -1000 ≤ kk K p - 4 ∧ kk K p - 4 ≤ 1000 by omega) (show (-1000 : Int) ≤ 38 by decide) (by decide))]
    refine PS_land (i_inb' (by omega) (by omega)) (PS_ln (by omega) (PS_lp (by omega) (PS_ln (by omega) (PS_lp (by omega) ?_))))
    refine PS_l1 (fun Q hq => c_isType (by omega) hC hq) (PS_lp (by rw [hty]; rfl) ?_)
    by_cases c40 : kk K p = 40
    · -- brackets
      refine PS_ln (not_not_intro (by omega)) ?_
      refine PS_rp (by omega) (PS_rn (not_not_intro c40) ?_)
      refine PS_enw (by omega) (by omega) (by omega) H1 (by omega) (fun ho H3 => ?_) (fun w' hd => ?_)
      · have hln1 := H3.1.ln H3.1.ca.2.2 (by omega)
        refine PS_r1 (fun Q hq => t_node (by omega) H3.kt H3.tN (by omega) hq) ?_
        simp only [i_nat' (show N < 2147483648 by omega)]
        have H4 := H3.tnd (x := 58) (l := i_ (kln K p))
        have T4 := OWt.new (x := 58) (l := i_ (kln K p)) H3
        refine PR_c11 hS.krg H4.2 (IH (L - 23 - 22) (L' - 22) _ _ _ _ _ _ _ _ _ (by unfold lex; omega) (by unfold lex; omega) H4.1 (by omega) ⟨by omega, by omega⟩) (fun a h => absurd h List.not_mem_nil) (fun a h => absurd h List.not_mem_nil) (fun x v w3 t3 al3 m3 N3 nu3 tn3 p3 hl H6 HS hbd hgx => ?_) (fun v w3 t3 hv hv2 hd => ?_)
        · obtain ⟨b2, n2, rfl, rfl, hP, hX, hb2, hln, hfk⟩ := hgx
          have T6 := T4.fr HS.2 List.not_mem_nil
          rw [hln1] at hP
          refine PS_rand (by rw [H6.1.tl.2.2.1]; exact i_inb' (by omega) (by omega)) ?_
          have H7 := H6.ta (k := 28) (n := N) (v := i_ n2) rfl T6.1.2 (fun h => absurd h (Nat.lt_irrefl _))
          have T7 := T6.si (k := 28) (v := i_ n2)
          have hpl6 := H6.1.ta.lt
          refine PS_lvw (c := 37) (v := 41) (by omega) (by omega) (by omega) H7 rfl (by unfold wcd; omega) rfl (fun e43 H8 => ?_) (fun w' hd => ?_)
          · rw [o38n H7.e38]
            have H9 := H8.to (u := o) (by omega)
            have hln3 := H9.1.ln H9.1.ca.2.2 (by omega)
            have O5p : OWc (nx (ws_i w2 4 0 4 (i_ (o + 1 : Nat))) p, nd3 (nx3 (ws_i t 12 0 38 (i_ (o + 1 : Nat))) p) N 58 (i_ (kln K p)), al', m + 1, N + 1, nu, tn) b _ _ := (O1.w4 (.inl (by decide))).w4 (.inl (by decide))
            have hPE : PND D (ws_i (nx w3 p3) 4 0 4 (i_ o), ws_i (nx3 (ws_a t3 12 0 28 N (i_ n2)) p3) 12 0 38 (i_ o), al3, m3, N3, nu3, tn3) (N + 1) N3 (oE K (kln K p) 0 (p + 1) p3) b2 n2 0 := hP.cong (n := N) (bx := b) (fun a h k => by simp only [nx, Rii, Rgi, Rpi, Rai, Rbi, Rri, Rni, Rdi, Roi, Rti, Rzi, RCi, RSi, Rip, Rgp, Rpp, Rap, Rbp, Rrp, Rnp, Rdp, Rop, Rtp, Rzp, RCp, RSp]; simp) rfl (fun y h k => by simp only [nx3, nd3, Rii, Rgi, Rpi, Rai, Rbi, Rri, Rni, Rdi, Roi, Rti, Rzi, RCi, RSi, Ria, Rga, Rpa, Raa, Rba, Rra, Rna, Rda, Roa, Rta, Rza, RCa, RSa]; simp [h]) ⟨.inl (Nat.lt_succ_self N), T6.1.2⟩ ⟨(O5p.fr HS.2 List.not_mem_nil).1.2, fun e => hb2 (by rw [e]; exact O1.1.1.1)⟩
            have hb2n : b2 ∉ al.take m := fun e => hb2 (H4.2.sub e)
            have hwl2 : w_l (ws_i (nx w3 p3) 4 0 4 (i_ o)) D.1.2.1 14 b2 := (H9.1.2.2.1.2.2.2.2.1 b2 (List.mem_of_mem_take hPE.bm.1)).1
            refine PS_lex b2 rfl (PS_land hwl2 ?_)
            have HE := H9.wi (k := 12) (v := 1) hPE.bm.2 (fun e => absurd e hb2n)
            have TE : OWt (ws_i (nx w3 p3) 4 0 4 (i_ o), ws_i (nx3 (ws_a t3 12 0 28 N (i_ n2)) p3) 12 0 38 (i_ o), al3, m3, N3, nu3, tn3) N _ := T7
            refine PS_ret (.inr ⟨some b2, i_ N, al3, m3, N3, nu3, tn3, p3 + 1, rfl, rfl, HE, ⟨by omega, by show m3 + _ ≤ m + _; omega, by show N3 + _ ≤ N + _; omega⟩, b2, N, rfl, rfl, hPE.par TE rfl rfl rfl ⟨Nat.lt_succ_self N, Nat.le_refl _⟩ (by omega) (Nat.le_succ _), ⟨?_, TE.2 32 rfl, hX.2.2⟩, hb2n, by omega, fun e => absurd ((TE.2 26 rfl).symm.trans e) (show ¬ ((58 : Int32) = 60) by decide), 58, (TE.2 26 rfl).trans (show (58 : Int32) = i_ (58 : Nat) by decide), by decide⟩)
            show w_p (ws_i (ws_i (nx w3 p3) 4 0 4 (i_ o)) 14 b2 12 1) 14 b2 7 = none
            exact hX.1
          · rw [o38n H7.e38]
            exact hd.to.ret rfl ⟨by omega, by omega⟩
        · exact eS_and (by rw [hd.2.2.tl.2.2.1]; exact i_inb' (by omega) (by omega)) (dd_want (v := 41) (hd.ta rfl) (by omega) rfl (by omega))
      · have hN' : w_i (nx3 (ws_i t 12 0 38 (i_ (o + 1 : Nat))) p) 12 0 25 = i_ N := by
          unfold nx3
          rw [Rii, if_neg (by decide), Rii, if_neg (by decide)]
          exact H.tN
        refine eS_1 (fun Q hq => t_node (by omega) hd.2.2.1.1.1 hN' (by omega) hq) ?_
        exact dd_e (hd.nd (N := N) (by omega)) (by omega)
    refine PS_lp (by omega) ?_
    by_cases c42 : kk K p = 42
    · -- a table
      refine PS_ln (not_not_intro (by omega)) (PS_lex b rfl (PS_land hwl ?_))
      refine PS_rp (by omega) (PS_rp (by omega) (PS_rn (not_not_intro c42) ?_))
      have H2 := H1.wp (k := 0) (v := some (D.1.1.1 22)) O1.1.2 (fun e => absurd e hb0)
      have O2 := O1.sp (k := 0) (v := some (D.1.1.1 22))
      refine PS_enw (by omega) (by omega) (by omega) H2 (by omega) (fun ho H3 => ?_) (fun w' hd => ?_)
      · have hln1 := H3.1.ln H3.1.ca.2.2 (by omega)
        refine PS_r1 (fun Q hq => t_node (by omega) H3.kt H3.tN (by omega) hq) ?_
        simp only [i_nat' (show N < 2147483648 by omega)]
        have H4 := H3.tnd (x := 59) (l := i_ (kln K p))
        have T4 := OWt.new (x := 59) (l := i_ (kln K p)) H3
        have O4 : OWc (nx (ws_i (ws_p w2 14 b 0 (some (D.1.1.1 22))) 4 0 4 (i_ (o + 1 : Nat))) p, nd3 (nx3 (ws_i t 12 0 38 (i_ (o + 1 : Nat))) p) N 59 (i_ (kln K p)), al', m + 1, N + 1, nu, tn) b _ _ := (O2.w4 (.inl (by decide))).w4 (.inl (by decide))
        refine PR_c11 hS.krg H4.2 (p_list IH (by unfold lex; omega) (by unfold lex; omega) H4.1 (by omega) ⟨by omega, by omega⟩) (fun a h => absurd h List.not_mem_nil) (fun a h => absurd h List.not_mem_nil) (fun x v w3 t3 al3 m3 N3 nu3 tn3 p3 hl H6 HS hbd hgx => ?_) (fun v w3 t3 hv hv2 hd => ?_)
        · obtain ⟨⟨k, hs1⟩, hln, hhd⟩ := hgx
          rw [hln1] at hs1
          have O6 := O4.fr HS.2 List.not_mem_nil
          have T6 := T4.fr HS.2 List.not_mem_nil
          have H7 := H6.wp (k := 3) (v := x) O6.1.2 (fun e => absurd e hb0) (LKO.op (hhd.up (fun _ e => H4.2.sub e)))
          have O7 := O6.sp (k := 3) (v := x) (.inr (.inr (fun e => (hhd b e).2.2 O4.1.1.1)))
          refine PS_rand (by rw [H6.1.tl.2.2.1]; exact i_inb' (by omega) (by omega)) ?_
          have H8 := H7.ta (k := 28) (n := N) (v := v) rfl T6.1.2 (fun h => absurd h (Nat.lt_irrefl _))
          have T8 := T6.si (k := 28) (v := v)
          have hpl6 := H6.1.ta.lt
          refine PS_lvw (c := 39) (v := 43) (by omega) (by omega) (by omega) H8 rfl (by unfold wcd; omega) rfl (fun e43 H9 => ?_) (fun w' hd => ?_)
          · rw [o38n H8.e38]
            have HE := H9.to (u := o) (by omega)
            have hln3 := HE.1.ln HE.1.ca.2.2 (by omega)
            have OE : OWc (ws_i (nx (ws_p w3 14 b 3 x) p3) 4 0 4 (i_ o), ws_i (nx3 (ws_a t3 12 0 28 N v) p3) 12 0 38 (i_ o), al3, m3, N3, nu3, tn3) b _ _ := (O7.w4 (.inl (by decide))).w4 (.inl (by decide))
            have TE : OWt (ws_i (nx (ws_p w3 14 b 3 x) p3) 4 0 4 (i_ o), ws_i (nx3 (ws_a t3 12 0 28 N v) p3) 12 0 38 (i_ o), al3, m3, N3, nu3, tn3) N _ := T8
            refine PS_ret (.inr ⟨some b, i_ N, al3, m3, N3, nu3, tn3, p3 + 1, rfl, rfl, HE, ⟨by omega, by show m3 + _ ≤ m + _; omega, by show N3 + _ ≤ N + _; omega⟩, b, N, rfl, rfl, PND.mk1 (kd := 59) OE TE (Nat.le_refl _) (by omega) (LFz.tab OE TE rfl rfl rfl ?_) rfl (fun l e => by cases e; rfl), NXT.mk1 OE TE rfl rfl, hb, by omega, fun e => absurd ((TE.2 26 rfl).symm.trans e) (show ¬ ((59 : Int32) = 60) by decide), 59, (TE.2 26 rfl).trans (show (59 : Int32) = i_ (59 : Nat) by decide), by decide⟩)
            refine hs1.up (VWa.mk (b := b) (n := N) ?_ ?_ ?_ O6.1.2 T6.1.2) (fun _ _ h => h) (fun _ h => h) (Nat.le_refl _)
            · exact (fun a h k => by simp only [nx, Rii, Rgi, Rpi, Rai, Rbi, Rri, Rni, Rdi, Roi, Rti, Rzi, RCi, RSi, Rip, Rgp, Rpp, Rap, Rbp, Rrp, Rnp, Rdp, Rop, Rtp, Rzp, RCp, RSp]; simp [h])
            · exact (fun y h k => by simp only [nx3, nd3, Rii, Rgi, Rpi, Rai, Rbi, Rri, Rni, Rdi, Roi, Rti, Rzi, RCi, RSi, Ria, Rga, Rpa, Raa, Rba, Rra, Rna, Rda, Roa, Rta, Rza, RCa, RSa]; simp [h])
            · rfl
          · rw [o38n H8.e38]
            exact hd.to.ret rfl ⟨by omega, by omega⟩
        · exact eS_and (by rw [hd.2.2.tl.2.2.1]; exact i_inb' (by omega) (by omega)) (dd_want (v := 43) (hd.ta rfl) (by omega) rfl (by omega))
      · have hN' : w_i (nx3 (ws_i t 12 0 38 (i_ (o + 1 : Nat))) p) 12 0 25 = i_ N := by
          unfold nx3
          rw [Rii, if_neg (by decide), Rii, if_neg (by decide)]
          exact H.tN
        refine eS_1 (fun Q hq => t_node (by omega) hd.2.2.1.1.1 hN' (by omega) hq) ?_
        exact dd_list (hd.nd (N := N) (by omega)) (by omega)
    refine PS_lp (by omega) ?_
    refine PS_two (by omega) H1 (fun w' e => ?_)
    subst e
    refine eS_p (by omega) (eS_p (by omega) (eS_p (by omega) (eS_1 (fun Q hq => t_isType (by omega) (by omega) hq) ?_)))
    rw [hty]
    exact eS_p (by decide) (eS_n (by omega) (eS_p (by omega) (eS_p (by omega) (eS_p (by omega) (eS_p (by omega) (eS_p (by omega) (eS_p (by omega) (p_no (by omega) H1))))))))
  · -- a name
    refine PS_lp (by rw [hs]; decide +kernel) (PS_lex b rfl (PS_land hwl ?_))
    refine PS_rn (not_not_intro hk) ?_
    have hp1 := H1.p1 (by omega)
    have hnm := H1.1.nm hk
    have H2 := H1.wp (k := 0) (v := some (D.1.1.1 18)) O1.1.2 (fun e => absurd e hb0)
    have O2 := O1.sp (k := 0) (v := some (D.1.1.1 18))
    refine PS_nml (by omega) H2 hk (fun H3 => ?_) (fun w' hd h76 => ?_)
    · have H4 := H3.wi (k := 9) (v := w_a w2 1 0 3 p) O1.1.2 (fun e => absurd e hb0)
      have O3 : OWc (nx (ws_p w2 14 b 0 (some (D.1.1.1 18))) p, t, al', m + 1, N, nu, tn) b _ _ := O2.w4 (.inl (by decide))
      have O4 := O3.si (k := 9) (v := w_a w2 1 0 3 p)
      refine PS_l1 (fun Q hq => c_is (c := 36) (v := 40) (by omega) H4.1.ca rfl (by unfold wcd; omega) hq) ?_
      refine PS_r1 (fun Q hq => t_ahead (by omega) H1.1.ta (by omega) hal hq) ?_
      have hk1 := (show 0 ≤ kk K (p + 1) ∧ kk K (p + 1) ≤ 76 from ⟨(H.1.krg.1 (p + 1) hp1).1, (H.1.krg.1 (p + 1) hp1).2.1⟩)
      by_cases c40 : kk K (p + 1) = 40
      · refine PS_lp (by rw [decide_eq_true c40]; decide) (PS_rp (by rw [c40]; rfl) ?_)
        have H5 := H4.wp (k := 0) (v := some (D.1.1.1 19)) O1.1.2 (fun e => absurd e hb0)
        have O5 := O4.sp (k := 0) (v := some (D.1.1.1 19))
        exact p_apply IH (by unfold lex; omega) (by omega) (by omega) (by unfold lex; omega) H5 ⟨rfl, Nat.le_refl _⟩ (by omega) ⟨by omega, by omega⟩ hk c40 O5 hb0 rfl rfl rfl rfl hnm rfl
      · refine PS_ln (by rw [decide_eq_false c40]; decide) (PS_rn (fun z => c40 (by rw [show (40 : Int32) = i_ 40 from rfl] at z; exact (i_eq (by omega) (by omega)).mp z)) ?_)
        refine PR_c11 hS.krg H4.2 (p_elem IH (by unfold lex; omega) (by unfold lex; omega) H4.1 (by omega) ⟨by omega, by omega⟩ hk O4 rfl rfl rfl rfl rfl (O4.2.1 9 rfl) hnm) (fun a ha h => ?_) (fun a h => absurd h List.not_mem_nil) (fun x v w3 t3 al3 m3 N3 nu3 tn3 p3 hl H6 HS hbd hgx => ?_) (fun v w3 t3 hv hv2 hd => hd.ret rfl ⟨hv, hv2⟩)
        · simp at ha
          subst ha
          exact absurd h hb0
        · obtain ⟨rfl, n, rfl, hP, hX, hln, hkd, hsl⟩ := hgx
          have hsl : m3 + 4 * p + 1 ≤ m + 1 + 4 * p3 := hsl
          exact PS_ret (.inr ⟨some b, i_ n, al3, m3, N3, nu3, tn3, p3, rfl, rfl, H6, ⟨by omega, by show m3 + _ ≤ m + _; omega, by show N3 + _ ≤ N + _; omega⟩, b, n, rfl, rfl, hP, hX, hb, hln, fun _ => ⟨hk, c40⟩, 60, hkd.trans (show (60 : Int32) = i_ (60 : Nat) by decide), by decide⟩)
    · refine eS_1 (fun Q hq => t_ahead (by omega) H1.1.ta (by omega) hal hq) ?_
      rw [h76]
      refine eS_n (by decide) ?_
      refine eS_ce (dd_elemName (by omega) H1 hd (by omega) hk h76) (fun r t' hl ⟨e, hd⟩ => ?_)
      subst e
      exact eS_l (fun _ a => fun _ => a) (hd.ret rfl ⟨by omega, by omega⟩)
  · -- a number
    refine PS_ln (by rw [hs]; decide +kernel) (PS_lp (by rw [hs]; decide +kernel) (PS_land (i_inb' (by omega) (by omega)) (PS_ln (not_not_intro (by rw [hC.ty, hs])) ?_)))
    refine PS_lex b rfl (PS_land hwl (PS_land (i_inb' (by omega) (by omega)) (PS_lex b rfl (PS_land (by exact hwl) (PS_land (i_inb' (by omega) (by omega)) ?_)))))
    refine PS_rp (by omega) (PS_rp (by omega) (PS_rp (by omega) (PS_r1 (fun Q hq => t_isType (by omega) (by omega) hq) ?_)))
    refine PS_rp (by rw [hk]; decide) (PS_rn (by omega) (PS_rp (by omega) (PS_rn (not_not_intro hk) ?_)))
    refine lits 2 50 15 ⟨by omega, by omega⟩ (by decide) (fun V T2 a1 a2 a3 a4 => ⟨rfl, a2, ?_⟩)
    rw [a1 10 rfl, a3]
    exact H1.1.num (.inl hs)
  · -- a string
    refine PS_ln (by rw [hs]; decide +kernel) (PS_ln (by rw [hs]; decide +kernel) (PS_ln (by rw [hs]; decide +kernel) (PS_lp (by rw [hs]; decide +kernel) (PS_land (i_inb' (by omega) (by omega)) (PS_lp (by rw [hC.ty, hs]; exact eo_ne hC.1.1.1 (by decide) (by decide) (by decide)) (PS_land (i_inb' (by omega) (by omega)) (PS_ln (not_not_intro (by rw [hC.ty, hs])) ?_)))))))
    refine PS_lex b rfl (PS_land hwl (PS_land (i_inb' (by omega) (by omega)) (PS_lex b rfl (PS_land (by exact hwl) (PS_land (i_inb' (by omega) (by omega)) ?_)))))
    refine PS_rp (by omega) (PS_rp (by omega) (PS_rp (by omega) (PS_r1 (fun Q hq => t_isType (by omega) (by omega) hq) ?_)))
    refine PS_rp (by rw [hk]; decide) (PS_rn (by omega) (PS_rp (by omega) (PS_rp (by omega) (PS_rp (by omega) (PS_rn (not_not_intro hk) ?_)))))
    obtain ⟨a, q, s1, s2, s3, s4, s5, s6, s7⟩ := H1.1.str hs
    refine lits 3 52 16 ⟨by omega, by omega⟩ (by decide) (fun V T2 a1 a2 a3 a4 => ⟨rfl, a2, a, q, (a1 10 rfl).trans s1, a3.trans s2, s3, (a1 18 rfl).trans s4, s5, s6, fun j hj => ?_⟩)
    rw [a4]
    exact s7 j hj
  · -- a character
    refine PS_ln (by rw [hs]; decide +kernel) (PS_ln (by rw [hs]; decide +kernel) (PS_lp (by rw [hs]; decide +kernel) (PS_land (i_inb' (by omega) (by omega)) (PS_lp (by rw [hC.ty, hs]; exact eo_ne hC.1.1.1 (by decide) (by decide) (by decide)) (PS_land (i_inb' (by omega) (by omega)) (PS_lp (by rw [hC.ty, hs]; exact eo_ne hC.1.1.1 (by decide) (by decide) (by decide)) ?_))))))
    refine PS_lex b rfl (PS_land hwl (PS_land (i_inb' (by omega) (by omega)) (PS_lex b rfl (PS_land (by exact hwl) (PS_land (i_inb' (by omega) (by omega)) ?_)))))
    refine PS_rp (by omega) (PS_rp (by omega) (PS_rp (by omega) (PS_r1 (fun Q hq => t_isType (by omega) (by omega) hq) ?_)))
    refine PS_rp (by rw [hk]; decide) (PS_rn (by omega) (PS_rp (by omega) (PS_rp (by omega) (PS_rn (not_not_intro hk) ?_))))
    obtain ⟨c, c1, c2⟩ := H1.1.chr hs
    refine lits 4 51 17 ⟨by omega, by omega⟩ (by decide) (fun V T2 a1 a2 a3 a4 => ⟨rfl, a2, ?_, c, c1, a3.trans c2⟩)
    rw [a1 10 rfl, a3]
    exact H1.1.num (.inr hs)
  · omega
  · -- the end of a line
    refine PS_ln (by rw [hs]; decide +kernel) (PS_ln (by rw [hs]; decide +kernel) (PS_ln (by rw [hs]; decide +kernel) (PS_ln (by rw [hs]; decide +kernel) (PS_ln (by rw [hs]; decide +kernel) (PS_ln (by rw [hs]; decide +kernel) ?_)))))
    refine PS_two (by omega) H1 (fun w' e => ?_)
    subst e
    refine eS_p (by omega) (eS_p (by omega) (eS_p (by omega) (eS_1 (fun Q hq => t_isType (by omega) (by omega) hq) ?_)))
    exact eS_p (by rw [hk]; decide) (eS_n (by omega) (eS_p (by omega) (eS_p (by omega) (eS_p (by omega) (eS_p (by omega) (eS_p (by omega) (eS_p (by omega) (p_no (by omega) H1))))))))
  · -- the end
    refine PS_ln (by rw [hs]; decide +kernel) (PS_ln (by rw [hs]; decide +kernel) (PS_ln (by rw [hs]; decide +kernel) (PS_ln (by rw [hs]; decide +kernel) (PS_ln (by rw [hs]; decide +kernel) (PS_ln (by rw [hs]; decide +kernel) ?_)))))
    refine PS_two (by omega) H1 (fun w' e => ?_)
    subst e
    refine eS_p (by omega) (eS_p (by omega) (eS_p (by omega) (eS_1 (fun Q hq => t_isType (by omega) (by omega) hq) ?_)))
    exact eS_p (by rw [hk]; decide) (eS_n (by omega) (eS_p (by omega) (eS_p (by omega) (eS_p (by omega) (eS_p (by omega) (eS_p (by omega) (eS_p (by omega) (p_no (by omega) H1))))))))
end EX4
