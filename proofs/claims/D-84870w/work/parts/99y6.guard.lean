/-! ===== PARSERS, part 30: GUARDs ===== -/
section GRD
variable {ex et : List Nat} {S S' S0 SA : pS} {D : pD} {K : pK} {p p0 q o o' oA dl m N n n2 n3 b b2 lo hi lo2 hi2 r r2 d d2 dd g pA pB nP : Nat} {w t w' : wS} {al : List Nat} {nu : pNz} {tn : Nat → Prop} {E E' : zE} {L L' : Nat} {ol : pOL} {f : Option Nat} {fT x1 : Int32} {Q : kx_Rs → wS → Prop} {fi : Nat → Int32} {fp : Nat → Option Nat} {ft ft2 : Nat → Int32}
theorem PND.mk2 {cc : Bool} {kd : Nat} {l1 : Option Int32} {cl1 bd1 s1 e1 : Nat} {g1 : Nat → Nat} (hO : OWx cc S b fi fp) (hT : OWt S n ft) (hT2 : OWt S n2 ft2) (hlo : lo ≤ n ∧ lo ≤ n2) (h14 : n < 14000 ∧ n2 < 14000) (hF : LFz D (vw S.1 S.2.1) S.2.2.2.2.2.2 (fun x => x ∈ [n, n2]) S.2.2.2.2.2.1 (bd1 - 1, g1, s1, e1) d b n) (h12 : fi 12 = 0) (hl : ∀ l, l1 = some l → ft 27 = l) (hk : ft 26 = i_ kd := by first | rfl | assumption) (hc : kd < 65 ∧ cok cl1 kd := by unfold cok; omega) (hb : 0 < bd1 ∧ s1 < e1 := by omega) : PND D S lo S.2.2.2.2.1 (l1, cl1, bd1, g1, s1, e1) b n d := ⟨Nat.le_refl _, [n, n2], [], n, (bd1 - 1, g1, s1, e1), rfl, by simp, fun x hx => by
  simp at hx
  rcases hx with e | e
  · subst e
    exact ⟨⟨hT.1.2, hlo.1⟩, hT.1.1, h14.1⟩
  · subst e
    exact ⟨⟨hT2.1.2, hlo.2⟩, hT2.1.1, h14.2⟩, hF, (hO.2.1 12 rfl).trans h12, hO.mn, fun l e => (hT.2 27 rfl).trans (hl l e), ⟨kd, (hT.2 26 rfl).trans hk, hc.1, hc.2, fun _ => rfl⟩, by show bd1 - 1 + 0 < bd1; omega, rfl, Nat.le_refl _, hb.2, Nat.le_refl _⟩
/-- what a GUARD waits for -/
def GAx (V : pV) (tn : Nat → Prop) (nu : pNz) (k : Nat) (fi : Nat → Int32) (fp : Nat → Option Nat) (ft2 : Nat → Int32) (ol : pOL) : Prop :=
  (ft2 26 = 2 ∧ fi 10 = 0 ∧ fp 3 = none) ∨ (ft2 26 = 5 ∧ fi 10 = 1 ∧ EEz V tn nu k ol (fp 3) (ft2 28) ∧ LEz V tn nu k ol (fp 4) (ft2 29)) ∨ (ft2 26 = 6 ∧ fi 10 = 2 ∧ EEz V tn nu k ol (fp 3) (ft2 28) ∧ ECz V tn nu k ol 0 (fp 4) (ft2 29))
theorem GAx.up {V V' : pV} {tn tn' : Nat → Prop} {nu nu' : pNz} {k k' : Nat} {ol' : pOL} (h : GAx V tn nu k fi fp ft2 ol) (hv : VWa V V' tn nu) (hn : nle nu nu') (hN : ∀ y, tn y → tn' y) (hk : k ≤ k) (ho : OLw ol ol' := by first | exact OLw.rf | exact OLw.mk (by omega) (by omega) (by omega) | exact OLw.mn (by omega) (by omega) (by omega)) : GAx V' tn' nu' k' fi fp ft2 ol' := by
  rcases h with h | ⟨h1, h2, h3, h4⟩ | ⟨h1, h2, h3, h4⟩
  · exact .inl h
  · exact .inr (.inl ⟨h1, h2, h3.up hv hn hN hk ho, h4.up hv hn hN hk ho⟩)
  · exact .inr (.inr ⟨h1, h2, h3.up hv hn hN hk ho, h4.up hv hn hN hk ho⟩)
theorem GAx.wk {V : pV} {tn : Nat → Prop} {nu : pNz} {k k' : Nat} {ol' : pOL} (h : GAx V tn nu k fi fp ft2 ol) (ho : OLw ol ol' := by first | exact OLw.rf | exact OLw.mk (by omega) (by omega) (by omega) | exact OLw.mn (by omega) (by omega) (by omega)) : GAx V tn nu k' fi fp ft2 ol' := h.up ⟨fun _ _ => ⟨rfl, rfl⟩, fun _ _ _ _ => rfl, rfl⟩ (fun _ _ h => h) (fun _ h => h) (Nat.le_refl _) ho
theorem LFz.k18 {cc : Bool} {rk s e : Nat} {g1 : Nat → Nat} (hO : OWx cc S b fi fp) (hT : OWt S n ft) (hT2 : OWt S n2 ft2) (h2 : fi 2 = ft 27) (h26 : ft 26 = 18) (h0 : fp 0 = some (D.1.1.1 52)) (hc : EOz (vw S.1 S.2.1) S.2.2.2.2.2.2 S.2.2.2.2.2.1 rk (some (ft 27), 0, rk, g1, s, e) 0 (fp 5) (ft 28)) (h29 : ft 29 = i_ n2) (hl : ft2 27 = ft 27)
    (hg : (GAx (vw S.1 S.2.1) S.2.2.2.2.2.2 S.2.2.2.2.2.1 rk fi fp ft2 (some (ft 27), 0, rk, g1, s, e) ∧ ECz (vw S.1 S.2.1) S.2.2.2.2.2.2 S.2.2.2.2.2.1 rk (none, 1, rk, g1, s, e) d (fp 6) (ft 30)) ∨ (ft2 26 = 7 ∧ fi 10 = 3 ∧ EEz (vw S.1 S.2.1) S.2.2.2.2.2.2 S.2.2.2.2.2.1 rk (some (ft 27), 0, rk, g1, s, e) (fp 3) (ft2 28) ∧ S1z (vw S.1 S.2.1) S.2.2.2.2.2.2 S.2.2.2.2.2.1 rk (none, 19, rk, g1, s, e) d (fp 4) (ft2 29) ∧ fp 6 = none ∧ ft 30 = -1)) (hgl : ft 27 = i_ (g1 s) := by first | rfl | assumption) :
    LFz D (vw S.1 S.2.1) S.2.2.2.2.2.2 (fun x => x ∈ [n, n2]) S.2.2.2.2.2.1 (rk, g1, s, e) d b n := by
  refine ⟨⟨?_, (hT.2 27 rfl).trans hgl⟩, 18, ?_, by decide, fun e => absurd e (by decide), ?_⟩
  · show w_i S.1 14 b 2 = w_a S.2.1 12 0 27 n
    rw [hO.2.1 2 rfl, hT.2 27 rfl]
    exact h2
  · show w_a S.2.1 12 0 26 n = _
    rw [hT.2 26 rfl]
    exact h26
  · refine ⟨(hO.2.2 0 rfl).trans h0, ?_, n2, (hT.2 29 rfl).trans h29, List.mem_cons_of_mem _ List.mem_cons_self, ?_, ?_⟩
    · show EOz _ _ _ _ (some (w_a S.2.1 12 0 27 n), 0, rk, g1, s, e) 0 (w_p S.1 14 b 5) (w_a S.2.1 12 0 28 n)
      rw [hT.2 27 rfl, hO.2.2 5 rfl, hT.2 28 rfl]
      exact hc
    · show w_a S.2.1 12 0 27 n2 = w_a S.2.1 12 0 27 n
      rw [hT.2 27 rfl, hT2.2 27 rfl, hl]
    · show (w_a S.2.1 12 0 26 n2 = 2 ∧ w_i S.1 14 b 10 = 0 ∧ w_p S.1 14 b 3 = none ∧ ECz _ _ _ _ (none, 1, rk, g1, s, e) d (w_p S.1 14 b 6) (w_a S.2.1 12 0 30 n)) ∨ (w_a S.2.1 12 0 26 n2 = 5 ∧ w_i S.1 14 b 10 = 1 ∧ EEz _ _ _ _ (some (w_a S.2.1 12 0 27 n), 0, rk, g1, s, e) (w_p S.1 14 b 3) (w_a S.2.1 12 0 28 n2) ∧ LEz _ _ _ _ (some (w_a S.2.1 12 0 27 n), 0, rk, g1, s, e) (w_p S.1 14 b 4) (w_a S.2.1 12 0 29 n2) ∧ ECz _ _ _ _ (none, 1, rk, g1, s, e) d (w_p S.1 14 b 6) (w_a S.2.1 12 0 30 n)) ∨ (w_a S.2.1 12 0 26 n2 = 6 ∧ w_i S.1 14 b 10 = 2 ∧ EEz _ _ _ _ (some (w_a S.2.1 12 0 27 n), 0, rk, g1, s, e) (w_p S.1 14 b 3) (w_a S.2.1 12 0 28 n2) ∧ ECz _ _ _ _ (some (w_a S.2.1 12 0 27 n), 0, rk, g1, s, e) 0 (w_p S.1 14 b 4) (w_a S.2.1 12 0 29 n2) ∧ ECz _ _ _ _ (none, 1, rk, g1, s, e) d (w_p S.1 14 b 6) (w_a S.2.1 12 0 30 n)) ∨ (w_a S.2.1 12 0 26 n2 = 7 ∧ w_i S.1 14 b 10 = 3 ∧ EEz _ _ _ _ (some (w_a S.2.1 12 0 27 n), 0, rk, g1, s, e) (w_p S.1 14 b 3) (w_a S.2.1 12 0 28 n2) ∧ S1z _ _ _ _ (none, 19, rk, g1, s, e) d (w_p S.1 14 b 4) (w_a S.2.1 12 0 29 n2) ∧ w_p S.1 14 b 6 = none ∧ w_a S.2.1 12 0 30 n = -1)
      rw [hT.2 27 rfl, hT.2 30 rfl, hT2.2 26 rfl, hT2.2 28 rfl, hT2.2 29 rfl, hO.2.1 10 rfl, hO.2.2 3 rfl, hO.2.2 4 rfl, hO.2.2 6 rfl]
      rcases hg with ⟨⟨g1, g2, g3⟩ | ⟨g1, g2, g3, g4⟩ | ⟨g1, g2, g3, g4⟩, g5⟩ | g
      · exact .inl ⟨g1, g2, g3, g5⟩
      · exact .inr (.inl ⟨g1, g2, g3, g4, g5⟩)
      · exact .inr (.inr (.inl ⟨g1, g2, g3, g4, g5⟩))
      · exact .inr (.inr (.inr g))
/-- a GUARD's process -/
theorem p_gproc {G : Nat} {A : (kx_Rs → wS → Prop) → Option Nat → wS → Prop} (hA : ∀ Q v w, w_l w D.1.2.1 14 b → Q (.inl (some (va_rf (some b)))) (ws_p w 14 b 6 v) → A Q v w) (IHP : PRq D K E' G) (hd20 : d ≤ 20) (hL : dex d ≤ L + 250) (hL' : dex d ≤ L' + 250) (H : HY D K [] [] S0 (w, t, al, m, N, nu, tn) p p 0 0) (hg : K.length ≤ p + G) (hB : m ≤ 4 * p + 5 ∧ N ≤ 4 * p + 5) (h74 : kk K (p - 1) = 74) (hO : OWc (w, t, al, m, N, nu, tn) b fi fp) (hT : OWt (w, t, al, m, N, nu, tn) n ft) (hT2 : OWt (w, t, al, m, N, nu, tn) n2 ft2) (hnn : n ≠ n2) (hn : S0.2.2.2.2.1 ≤ n ∧ n < 14000) (hn2 : S0.2.2.2.2.1 ≤ n2 ∧ n2 < 14000) (hb : b ∉ S0.2.2.1.take S0.2.2.2.1) (hfi : (fi 2 = i_ (kln K p0) ∧ fi 12 = 0 ∧ fp 7 = none ∧ fp 0 = some (D.1.1.1 52)) ∧ (ft 26 = 18 ∧ ft 27 = i_ (kln K p0) ∧ ft 32 = -1 ∧ ft 29 = i_ n2) ∧ ft2 27 = i_ (kln K p0))
    (hc : EOz (vw w t) tn nu r (oE K (kln K p0) 0 p0 p) 0 (fp 5) (ft 28)) (hgx : GAx (vw w t) tn nu r fi fp ft2 (oE K (kln K p0) 0 p0 p)) (hp0 : p0 + 2 ≤ p) (hbd : m + 4 * p0 ≤ S0.2.2.2.1 + 4 * p + 0 ∧ N + 4 * p0 ≤ S0.2.2.2.2.1 + 4 * p) :
    PS (fun Q => zw D.1 (L - 23) kt_M202 [.ref (w_adr D.1.2.1 4 0), .int (i_ d + 2)] w (wkr (fun v w1 => wle w w1 → A Q v w1) (fun e w => Q (.inr e) w))) (fun Q => zb_X13_guard_p238 E' L' Q (i_ (d + 1 : Nat)) (i_ n) t) (PRd D K (d + 1) [] [] S0 p0 0 true true 0 (GPs 1 18 D K S0 p0)) := by
  have hdx : dex (d + 2) ≤ L - 23 := by unfold dex at *; omega
  have hdx' : dex (d + 2) ≤ L' - 24 := by unfold dex at *; omega
  have hpl := H.1.ta.lt
  simp only [zb_X13_guard_p238]
  rw [i_2, i_1, i_add, i_add, cN2, cN1]
  refine PRe_c11 H.1.krg H.2 (IHP (L - 23) (L' - 24) _ _ _ _ _ _ _ p (d + 2) hdx hdx' (by omega) H.1 (.inr h74) (by omega) ⟨by omega, by omega⟩) (fun a h => absurd h List.not_mem_nil) (fun a h => absurd h List.not_mem_nil) (fun x v w4 t4 al4 m4 N4 nu4 tn4 p4 cz hl4 H9 HS9 hbd9 hgx4 => ?_) (fun v w4 t4 hv hv2 hd => ?_) (fun v w4 t4 hv hv2 hd => ?_)
  · obtain ⟨b3, n3, dd3, rfl, rfl, hP3, hX3, hb3, e74b, hsl, hdd, rfl⟩ := hgx4
    have hcz : (cb S0 dd3).2.2.2.2.1 = S0.2.2.2.2.1 ∧ (cb S0 dd3).2.2.2.1 = S0.2.2.2.1 := ⟨rfl, rfl⟩
    have hsl : m4 + 4 * p + 1 ≤ m + 4 * p4 ∧ N4 + 4 * p + 1 ≤ N + 4 * p4 := hsl
    have hpl4 := H9.1.ta.lt
    have O9 := hO.fr HS9.2 List.not_mem_nil
    have T9 := hT.fr HS9.2 List.not_mem_nil
    have U9 := hT2.fr HS9.2 List.not_mem_nil
    have hvf := VWa.fr H.1 HS9.2 (fun _ h => absurd h List.not_mem_nil) (fun _ h => absurd h List.not_mem_nil)
    have hc9 := hc.up (k' := 0) hvf HS9.2.2.2.2.2.1.1 HS9.2.2.2.2.2.1.2.1 (Nat.le_refl _)
    have hg9 := hgx.up (k' := 0) hvf HS9.2.2.2.2.2.1.1 HS9.2.2.2.2.2.1.2.1 (Nat.le_refl _)
    obtain ⟨x10, tn10, r10, H10, hC10, hm3, hm4, hn10⟩ := H9.fin hP3 (fun e => hb3 (H.2.sub e)) H.2.2.1.2.2.1
    have hbb3 : b ≠ b3 := fun e => hb3 (by rw [← e]; exact hO.1.1.1)
    have hnN : n < N := hT.1.1
    have hn2N : n2 < N := hT2.1.1
    have O10 := O9.fin (x := x10) (tn' := tn10) hbb3
    have T10 := T9.fin (nu' := nuU nu4 b3 x10) hm4 (.inl hnN)
    have U10 := U9.fin (nu' := nuU nu4 b3 x10) hm4 (.inl hn2N)
    refine PS_rand (by rw [H10.1.tl.2.2.2.2.1]; exact i_inb' (by omega) (by omega)) ?_
    rw [i_nat' (show n < 2147483648 by omega)]
    refine PS_l (fun Q q => hA Q _ _ (O10.wl H10.1) q) ?_
    have HE := (H10.wp (k := 6) (v := some b3) O10.1.2 (fun e => absurd e hb) (LKO.mk hP3.bm.1 hX3.2.2 (fun e => hb3 (H.2.sub e)))).ta (k := 30) (n := n) (v := i_ n3) rfl T10.1.2 (fun h => absurd h (by omega))
    have OE : OWc (ws_p w4 14 b 6 (some b3), ws_a t4 12 0 30 n (i_ n3), al4, m4, N4, nuU nu4 b3 x10, tn10) b _ _ := O10.sp (k := 6) (v := some b3)
    have TE : OWt (ws_p w4 14 b 6 (some b3), ws_a t4 12 0 30 n (i_ n3), al4, m4, N4, nuU nu4 b3 x10, tn10) n _ := T10.si (k := 30) (v := i_ n3)
    have UE : OWt (ws_p w4 14 b 6 (some b3), ws_a t4 12 0 30 n (i_ n3), al4, m4, N4, nuU nu4 b3 x10, tn10) n2 _ := U10.oi (k := 30) (v := i_ n3) hnn.symm
    have hvw := VWa.mk (w := w4) (t := t4) (w' := ws_p w4 14 b 6 (some b3)) (t' := ws_a t4 12 0 30 n (i_ n3)) (b := b) (n := n) (fun a h k => by simp only [nx, Rii, Rgi, Rpi, Rai, Rbi, Rri, Rni, Rdi, Roi, Rti, Rzi, RCi, RSi, Rip, Rgp, Rpp, Rap, Rbp, Rrp, Rnp, Rdp, Rop, Rtp, Rzp, RCp, RSp]; simp [h]) (fun y h k => by simp only [nx3, nd3, Rii, Rgi, Rpi, Rai, Rbi, Rri, Rni, Rdi, Roi, Rti, Rzi, RCi, RSi, Ria, Rga, Rpa, Raa, Rba, Rra, Rna, Rda, Roa, Rta, Rza, RCa, RSa]; simp [h]) rfl O10.1.2 T10.1.2
    have hvs : VWa (vw w4 t4) (vw w4 t4) tn4 nu4 := ⟨fun _ _ => ⟨rfl, rfl⟩, fun _ _ _ _ => rfl, rfl⟩
    have hcE := (hc9.up (k' := 0) hvs (nle_nuU (x := x10) hn10) hm3 (Nat.le_refl _)).up (k' := 0) hvw (fun _ _ h => h) (fun _ h => h) (Nat.le_refl _)
    have hgE := (hg9.up (k' := 0) hvs (nle_nuU (x := x10) hn10) hm3 (Nat.le_refl _)).up (k' := 0) hvw (fun _ _ h => h) (fun _ h => h) (Nat.le_refl _)
    have hpE := hC10.up (k' := 0) hvw (fun _ _ h => h) (fun _ h => h) (Nat.le_refl _)
    exact PS_ret (.inr ⟨some b, i_ n, al4, m4, N4, nuU nu4 b3 x10, tn10, p4, _, rfl, rfl, HE, ⟨by omega, by omega, by omega⟩, b, n, dd3, rfl, rfl, PND.mk2 (kd := 18) OE TE UE ⟨hn.1, hn2.1⟩ ⟨hn.2, hn2.2⟩ (LFz.k18 OE TE UE (hfi.1.1.trans hfi.2.1.2.1.symm) hfi.2.1.1 hfi.1.2.2.2 (by
      show EOz _ _ _ _ (some (ft 27), _) 0 (fp 5) (ft 28)
      rw [hfi.2.1.2.1]
      exact hcE.wk) hfi.2.1.2.2.2 (hfi.2.2.trans hfi.2.1.2.1.symm) (.inl ⟨by
      show GAx _ _ _ _ _ _ _ (some (ft 27), _)
      rw [hfi.2.1.2.1]
      exact hgE.wk, b3, n3, rfl, rfl, hpE.wk⟩) hfi.2.1.2.1) hfi.1.2.1 (fun l e => by cases e) hfi.2.1.1, NXT.mk1 OE TE hfi.1.2.2.1 hfi.2.1.2.2.1, hb, e74b, ⟨by show m4 + _ + 1 ≤ _; omega, by show N4 + _ + 1 ≤ _; omega⟩, by omega⟩)
  · refine eS_and (by rw [hd.2.2.tl.2.2.2.2.1]; exact i_inb' (by omega) (by omega)) ?_
    rw [i_nat' (show n < 2147483648 by omega)]
    exact (hd.ta rfl).ret rfl ⟨by omega, by omega⟩
  · refine eS_and (by rw [hd.tl.2.2.2.2.1]; exact i_inb' (by omega) (by omega)) ?_
    rw [i_nat' (show n < 2147483648 by omega)]
    exact ((hd.ta rfl).dn (by omega)).ret rfl ⟨by omega, by omega⟩
theorem dd_p238 {lo' : Int} (h : DDs D K S0 w' t) (hd9 : d ≤ 800) (hL : 1000 ≤ L') : eS (fun Q => zb_X13_guard_p238 E' L' Q (i_ d) x1 t) (fun r' t' => TLP D K S0.1 S0.2.1 true lo' w' r' t') := by
  simp only [zb_X13_guard_p238]
  rw [i_1, i_add, cN1]
  exact dd_process (d := d + 1) h (by omega) (by omega)
/-- SKIP in a GUARD -/
theorem p_gskip {G : Nat} (IHP : PRq D K E' G) (hd20 : d ≤ 20) (hL : dex d ≤ L + 220) (hL' : dex d ≤ L' + 220) (H : HY D K [] [] S0 (w, t, al, m, N, nu, tn) p p 0 0) (hg : K.length ≤ p + 2 + G) (hB : m ≤ 4 * p + 9 ∧ N ≤ 4 * p + 9) (h28 : kk K p = 28) (hln : kln K p = kln K p0) (hO : OWc (w, t, al, m, N, nu, tn) b fi fp) (hT : OWt (w, t, al, m, N, nu, tn) n ft) (hn : S0.2.2.2.2.1 ≤ n ∧ n < 14000) (hb : b ∉ S0.2.2.1.take S0.2.2.2.1) (hfi : (fi 2 = i_ (kln K p0) ∧ fi 12 = 0 ∧ fp 7 = none ∧ fp 0 = some (D.1.1.1 52)) ∧ (ft 26 = 18 ∧ ft 27 = i_ (kln K p0) ∧ ft 32 = -1))
    (hc : EOz (vw w t) tn nu r (oE K (kln K p0) 0 p0 p) 0 (fp 5) (ft 28)) (h10 : fi 10 = 0 ∧ fp 3 = none) (hp0 : p0 ≤ p) (hbd : m + 4 * p0 ≤ S0.2.2.2.1 + 4 * p + 1 ∧ N + 4 * p0 ≤ S0.2.2.2.2.1 + 4 * p + 1) :
    PS (fun Q => zb_X5_guard_p84 D.1 L Q (i_ d) (some b) none w) (fun Q => zb_X13_guard_p113 E' L' Q (i_ (d + 1 : Nat)) (i_ (kln K p0)) (i_ n) (-1) t) (PRd D K (d + 1) [] [] S0 p0 0 true true 0 (GPs 1 18 D K S0 p0)) := by
  have hLd := hL
  have hLd' := hL'
  unfold dex at hL hL'
  have hpl := H.1.ta.lt
  have hal := H.alive
  have hnN : n < N := hT.1.1
  have hSN : S0.2.2.2.2.1 ≤ N := H.2.2.1.2.2.1
  simp only [zb_X5_guard_p84, zb_X13_guard_p113, zb_X13_guard_p219]
  refine PS_ln (by simp) (PS_rn (by simp) ?_)
  refine PSd_nxl (by omega) H (by omega) (fun H2 => ?_) (fun w' hd h76 => ?_)
  · refine PS_r1 (fun Q hq => t_may (v := 28) (by omega) H2.1.ta H2.1.krg rfl (by omega) (fun _ => hq) (fun h => absurd h28 h)) (PS_rn (by decide) ?_)
    have H3 := H2.tnx (by omega) hal
    refine PS_r1 (fun Q hq => t_node (by omega) H3.kt H3.tN (by omega) hq) ?_
    have H4 := H3.tnd (x := 2) (l := i_ (kln K p0))
    have U4 : OWt (nx w p, nd3 (nx3 t p) N 2 (i_ (kln K p0)), al, m, N + 1, nu, tn) N _ := OWt.new (x := 2) (l := i_ (kln K p0)) H3
    have T4 : OWt (nx w p, nd3 (nx3 t p) N 2 (i_ (kln K p0)), al, m, N + 1, nu, tn) n _ := (show OWt (nx w p, nx3 t p, al, m, N, nu, tn) n ft from hT).nd
    have O4 : OWc (nx w p, nd3 (nx3 t p) N 2 (i_ (kln K p0)), al, m, N + 1, nu, tn) b _ _ := hO.w4 (j := 3) (v := i_ (p + 1 : Nat)) (.inl (by decide))
    refine PS_rand (by rw [H4.1.tl.2.2.2.1]; exact i_inb' (by omega) (by omega)) ?_
    rw [i_nat' (show n < 2147483648 by omega)]
    have H5 := H4.ta (k := 29) (n := n) (v := i_ N) rfl T4.1.2 (fun h => absurd h (by omega))
    have T5 := T4.si (k := 29) (v := i_ N)
    have U5 := U4.oi (k := 29) (v := i_ N) (n2 := n) (by omega)
    have r29 : w_a (ws_a (nd3 (nx3 t p) N 2 (i_ (kln K p0))) 12 0 29 n (i_ N)) 12 0 29 n = i_ N := T5.2 29 rfl
    have r26 : w_a (ws_a (nd3 (nx3 t p) N 2 (i_ (kln K p0))) 12 0 29 n (i_ N)) 12 0 26 N = 2 := U5.2 26 rfl
    rw [r29, i_nat' (show N < 2147483648 by omega), r26]
    refine PS_rand (by rw [H5.1.tl.2.2.2.1]; exact i_inb' (by omega) (by omega)) (PS_rand (by rw [H5.1.tl.1]; exact i_inb' (by omega) (by omega)) (PS_rn (fun h => h rfl) ?_))
    refine PSd_elw (by omega) (by omega) (by omega) H5 (fun e74 H6 => ?_) (fun w' hd => dd_p238 (d := d + 1) hd (by omega) (by omega))
    have hpl6 := H6.1.ta.lt
    have O6 : OWc (nx (nx w p) (p + 1), nx3 (ws_a (nd3 (nx3 t p) N 2 (i_ (kln K p0))) 12 0 29 n (i_ N)) (p + 1), al, m, N + 1, nu, tn) b _ _ := O4.w4 (j := 3) (v := i_ (p + 1 + 1 : Nat)) (.inl (by decide))
    have T6 : OWt (nx (nx w p) (p + 1), nx3 (ws_a (nd3 (nx3 t p) N 2 (i_ (kln K p0))) 12 0 29 n (i_ N)) (p + 1), al, m, N + 1, nu, tn) n _ := T5
    have U6 : OWt (nx (nx w p) (p + 1), nx3 (ws_a (nd3 (nx3 t p) N 2 (i_ (kln K p0))) 12 0 29 n (i_ N)) (p + 1), al, m, N + 1, nu, tn) N _ := U5
    have hv1 : VWa (vw w t) (vw (nx (nx w p) (p + 1)) (nx3 (ws_a (nd3 (nx3 t p) N 2 (i_ (kln K p0))) 12 0 29 n (i_ N)) (p + 1))) tn nu := by
      refine ⟨fun a ha => ⟨funext (fun k => ?_), rfl⟩, fun k y hy hk => ?_, rfl⟩
      · show w_i (nx (nx w p) (p + 1)) 14 a k = w_i w 14 a k
        rw [nx_14, nx_14]
      · have hyN : y < N := H.tlt hy
        have hyn : y ≠ n := fun e => hT.1.2 (by rw [← e]; exact hy)
        show w_a (nx3 (ws_a (nd3 (nx3 t p) N 2 (i_ (kln K p0))) 12 0 29 n (i_ N)) (p + 1)) 12 0 k y = w_a t 12 0 k y
        simp only [nx3, nd3, Rii, Rgi, Rpi, Rai, Rbi, Rri, Rni, Rdi, Roi, Rti, Rzi, RCi, RSi, Ria, Rga, Rpa, Raa, Rba, Rra, Rna, Rda, Roa, Rta, Rza, RCa, RSa]
        simp [hyn, show ¬ y = N by omega]
    exact p_gproc (r := r) (fun Q v w hl q => ⟨b, rfl, hl, q⟩) IHP hd20 (by unfold dex; omega) (by unfold dex; omega) H6 (by omega) ⟨by omega, by omega⟩ e74 O6 T6 U6 (by omega) hn ⟨hSN, by omega⟩ hb ⟨hfi.1, ⟨hfi.2.1, hfi.2.2.1, hfi.2.2.2, rfl⟩, rfl⟩ (hc.up hv1 (fun _ _ h => h) (fun _ h => h) (Nat.le_refl _)) (.inl ⟨rfl, h10.1, h10.2⟩) (by omega) ⟨by omega, by omega⟩
  · have hdd := H.dd hd (by omega) (by omega) hal h76
    have hN' : w_i (nx3 t p) 12 0 25 = i_ N := by
      unfold nx3
      rw [Rii, if_neg (by decide)]
      exact H.tN
    refine eS_1 (fun Q hq => t_may (v := 28) (by omega) H.1.ta H.1.krg rfl ⟨by decide, by decide⟩ (fun _ => hq) (fun h => absurd h28 h)) (eS_n (by decide) ?_)
    refine eS_1 (fun Q hq => t_node (by omega) hdd.2.2.1.1.1 hN' (by omega) hq) ?_
    have hdd := (hdd.nd (N := N) (x := 2) (l := i_ (kln K p0)) (by omega))
    refine eS_and (by rw [hdd.2.2.tl.2.2.2.1]; exact i_inb' (by omega) (by omega)) ?_
    rw [i_nat' (show n < 2147483648 by omega)]
    have hdd := hdd.ta (k := 29) (n := n) (v := i_ N) rfl
    have r29 : w_a (ws_a (nd3 (nx3 t p) N 2 (i_ (kln K p0))) 12 0 29 n (i_ N)) 12 0 29 n = i_ N := by rw [Raa, if_pos ⟨rfl, rfl, rfl, rfl⟩]
    rw [r29]
    refine eS_and (by rw [hdd.2.2.tl.2.2.2.1]; exact i_inb' (by omega) (by omega)) (eS_and (by rw [hdd.2.2.tl.1]; exact i_inb' (by omega) (by omega)) ?_)
    exact eS_ifb (dd_p238 (d := d + 1) hdd (by omega) (by omega)) (dd_endOfLine hdd (by omega))
/-- what a GUARD of the twin does behind asks -/
def kGA (E' : zE) (L' : Nat) (Q : kx_Rs → wS → Prop) (x1 x3 : Int32) (t0 : wS) : kx_Rs → wS → Prop := wk1 (fun v4 w3 => wle t0 w3 → kx_inb x3 (w_n w3 12 0 29) = true ∧ kx_inb x3 (w_n w3 12 0 29) = true ∧ kx_inb (w_a (ws_a w3 12 0 29 x3.toNatClampNeg v4) 12 0 29 x3.toNatClampNeg) (w_n w3 12 0 26) = true ∧ (if ¬ w_a w3 12 0 26 (w_a (ws_a w3 12 0 29 x3.toNatClampNeg v4) 12 0 29 x3.toNatClampNeg).toNatClampNeg = 7 then zb_X13_guard_p219 E' L' Q x1 x3 (ws_a w3 12 0 29 x3.toNatClampNeg v4) else Q (.inl (some (.int x3))) (ws_a w3 12 0 29 x3.toNatClampNeg v4))) (fun e w => Q (.inr e) w)
theorem dd_kGA {t0 : wS} {v : Nat} {lo' : Int} (h : DDs D K S0 w' t) (hd9 : d ≤ 800) (hL : 1000 ≤ L') (hn : n < 14000) (hv : v < 14000) (hlo : lo' ≤ 0) : eS (fun Q => kGA E' L' Q (i_ d) (i_ n) t0 (.inl (some (.int (i_ v)))) t) (fun r' t' => TLP D K S0.1 S0.2.1 true lo' w' r' t') := by
  refine eS_l (fun Q h => fun _ => h) ?_
  rw [i_nat' (show n < 2147483648 by omega)]
  have r29 : w_a (ws_a t 12 0 29 n (i_ v)) 12 0 29 n = i_ v := by rw [Raa, if_pos ⟨rfl, rfl, rfl, rfl⟩]
  rw [r29]
  have hd2 := h.ta (k := 29) (n := n) (v := i_ v) rfl
  refine eS_and (by rw [h.2.2.tl.2.2.2.1]; exact i_inb' (by omega) (by omega)) (eS_and (by rw [h.2.2.tl.2.2.2.1]; exact i_inb' (by omega) (by omega)) (eS_and (by rw [h.2.2.tl.1]; exact i_inb' (by omega) (by omega)) (eS_ifb ?_ (hd2.ret rfl ⟨by omega, by omega⟩))))
  simp only [zb_X13_guard_p219]
  rw [i_nat' (show n < 2147483648 by omega), r29]
  refine eS_and (by rw [hd2.2.2.tl.2.2.2.1]; exact i_inb' (by omega) (by omega)) (eS_and (by rw [hd2.2.2.tl.1]; exact i_inb' (by omega) (by omega)) ?_)
  exact eS_ifb (dd_p238 hd2 (by omega) (by omega)) (dd_endOfLine hd2 (by omega))
theorem lt_kGA {t0 : wS} {v : Nat} (h : LTs D K dl S0 w' t) (hdl : d + 1 ≤ dl) (hd9 : d ≤ 800) (hL : 1000 ≤ L') (hn : n < 14000) (hv : v < 14000) : eS (fun Q => kGA E' L' Q (i_ d) (i_ n) t0 (.inl (some (.int (i_ v)))) t) (fun r' t' => TLPd D K dl S0.1 S0.2.1 true 0 w' r' t') := by
  refine eS_l (fun Q h => fun _ => h) ?_
  rw [i_nat' (show n < 2147483648 by omega)]
  have r29 : w_a (ws_a t 12 0 29 n (i_ v)) 12 0 29 n = i_ v := by rw [Raa, if_pos ⟨rfl, rfl, rfl, rfl⟩]
  rw [r29]
  have hd2 := h.ta (k := 29) (n := n) (v := i_ v) rfl
  refine eS_and (by rw [h.tl.2.2.2.1]; exact i_inb' (by omega) (by omega)) (eS_and (by rw [h.tl.2.2.2.1]; exact i_inb' (by omega) (by omega)) (eS_and (by rw [h.tl.1]; exact i_inb' (by omega) (by omega)) (eS_ifb ?_ (hd2.ret rfl ⟨by omega, by omega⟩))))
  simp only [zb_X13_guard_p219, zb_X13_guard_p238]
  rw [i_nat' (show n < 2147483648 by omega), r29, i_1, i_add, cN1]
  refine eS_and (by rw [hd2.tl.2.2.2.1]; exact i_inb' (by omega) (by omega)) (eS_and (by rw [hd2.tl.1]; exact i_inb' (by omega) (by omega)) ?_)
  exact eS_ifb (eS_mono (hd2.process (d := d + 1) hdl (by omega) (by omega)) (fun _ _ h => .inl h)) (eS_mono (hd2.endOfLine (by omega)) (fun _ _ h => .inl h))
/-- ? and AFTER in a GUARD, from the line's end -/
theorem p_gin {G nz : Nat} {t0 : wS} (IHP : PRq D K E' G) (hd20 : d ≤ 20) (hL : dex d ≤ L + 220) (hL' : dex d ≤ L' + 220) (H : HY D K [] [] S0 (w, t, al, m, N, nu, tn) p p 0 0) (hg : K.length ≤ p + 1 + G) (hB : m ≤ 4 * p + 9 ∧ N ≤ 4 * p + 9) (hO : OWc (w, t, al, m, N, nu, tn) b fi fp) (hT : OWt (w, t, al, m, N, nu, tn) n ft) (hU : OWt (w, t, al, m, N, nu, tn) n2 ft2) (hnn : n ≠ n2) (hn : S0.2.2.2.2.1 ≤ n ∧ n < 14000) (hn2 : S0.2.2.2.2.1 ≤ n2 ∧ n2 < 14000) (hb : b ∉ S0.2.2.1.take S0.2.2.2.1) (hfi : (fi 2 = i_ (kln K p0) ∧ fi 12 = 0 ∧ fp 7 = none ∧ fp 0 = some (D.1.1.1 52)) ∧ (ft 26 = 18 ∧ ft 27 = i_ (kln K p0) ∧ ft 32 = -1) ∧ ft2 27 = i_ (kln K p0))
    (hc : EOz (vw w t) tn nu r (oE K (kln K p0) 0 p0 p) 0 (fp 5) (ft 28)) (hE : EEz (vw w t) tn nu r (oE K (kln K p0) 0 p0 p) (fp 3) (i_ nz)) (hG : (fi 10 = 1 ∧ ft2 26 = 5 ∧ LEz (vw w t) tn nu r (oE K (kln K p0) 0 p0 p) (fp 4) (ft2 29)) ∨ (fi 10 = 2 ∧ ft2 26 = 6 ∧ ECz (vw w t) tn nu r (oE K (kln K p0) 0 p0 p) 0 (fp 4) (ft2 29))) (hp0 : p0 + 1 ≤ p) (hbd : m + 4 * p0 ≤ S0.2.2.2.1 + 4 * p + 4 ∧ N + 4 * p0 ≤ S0.2.2.2.2.1 + 4 * p + 4) :
    PS (fun Q => zb_X5_guard_p198 D.1 L Q (i_ d) (some b) w) (fun Q => zw E' (L' - 26 - 20) kt_M400 [.ref (w_adr E'.2.1 12 0)] t (wk0 (fun w1 => wle t w1 → zb_X13_asks_p201 E' (L' - 26) (kGA E' L' Q (i_ (d + 1 : Nat)) (i_ n) t0) (i_ nz) (i_ n2) w1) (fun e w => kGA E' L' Q (i_ (d + 1 : Nat)) (i_ n) t0 (.inr e) w))) (PRd D K (d + 1) [] [] S0 p0 0 true true 0 (GPs 1 18 D K S0 p0)) := by
  have hLd := hL
  have hLd' := hL'
  unfold dex at hL hL'
  have hpl := H.1.ta.lt
  simp only [zb_X5_guard_p198]
  refine PSd_elw (by omega) (by omega) (by omega) H (fun e74 H6 => ?_) (fun w' hd => ?_)
  · have hpl6 := H6.1.ta.lt
    have O6 : OWc (nx w p, nx3 t p, al, m, N, nu, tn) b _ _ := hO.w4 (j := 3) (v := i_ (p + 1 : Nat)) (.inl (by decide))
    have T6 : OWt (nx w p, nx3 t p, al, m, N, nu, tn) n _ := hT
    have U6 : OWt (nx w p, nx3 t p, al, m, N, nu, tn) n2 _ := hU
    have r10 : w_i (nx w p) 14 b 10 = fi 10 := O6.2.1 10 rfl
    refine PS_lex b rfl (PS_land (O6.wl H6.1) (PS_lp (by rw [r10]; rcases hG with ⟨e, -⟩ | ⟨e, -⟩ <;> rw [e] <;> decide) ?_))
    simp only [zb_X13_asks_p201]
    refine PS_rand (by rw [H6.1.tl.2.2.1]; exact i_inb' (by omega) (by omega)) (PS_r (fun Q h => fun _ => h) ?_)
    rw [i_nat' (show n2 < 2147483648 by omega), i_nat' (show n < 2147483648 by omega)]
    have H7 := H6.ta (k := 28) (n := n2) (v := i_ nz) rfl U6.1.2 (fun h => absurd h (by omega))
    have U7 := U6.si (k := 28) (v := i_ nz)
    have T7 := T6.oi (k := 28) (v := i_ nz) hnn
    have H8 := H7.ta (k := 29) (n := n) (v := i_ n2) rfl T7.1.2 (fun h => absurd h (by omega))
    have T8 := T7.si (k := 29) (v := i_ n2)
    have U8 := U7.oi (k := 29) (v := i_ n2) hnn.symm
    have O8 : OWc (nx w p, ws_a (ws_a (nx3 t p) 12 0 28 n2 (i_ nz)) 12 0 29 n (i_ n2), al, m, N, nu, tn) b _ _ := O6
    have r29 : w_a (ws_a (ws_a (nx3 t p) 12 0 28 n2 (i_ nz)) 12 0 29 n (i_ n2)) 12 0 29 n = i_ n2 := T8.2 29 rfl
    have r26 : w_a (ws_a (nx3 t p) 12 0 28 n2 (i_ nz)) 12 0 26 n2 = ft2 26 := U7.2 26 rfl
    have r26b : w_a (ws_a (ws_a (nx3 t p) 12 0 28 n2 (i_ nz)) 12 0 29 n (i_ n2)) 12 0 26 n2 = ft2 26 := U8.2 26 rfl
    rw [r29, i_nat' (show n2 < 2147483648 by omega), r26]
    refine PS_rand (by rw [H7.1.tl.2.2.2.1]; exact i_inb' (by omega) (by omega)) (PS_rand (by rw [H7.1.tl.2.2.2.1]; exact i_inb' (by omega) (by omega)) (PS_rand (by rw [H7.1.tl.1]; exact i_inb' (by omega) (by omega)) (PS_rp (by rcases hG with ⟨-, e, -⟩ | ⟨-, e, -⟩ <;> rw [e] <;> decide) ?_)))
    simp only [zb_X13_guard_p219]
    rw [i_nat' (show n < 2147483648 by omega), r29, i_nat' (show n2 < 2147483648 by omega), r26b]
    refine PS_rand (by rw [H8.1.tl.2.2.2.1]; exact i_inb' (by omega) (by omega)) (PS_rand (by rw [H8.1.tl.1]; exact i_inb' (by omega) (by omega)) (PS_rp (by rcases hG with ⟨-, e, -⟩ | ⟨-, e, -⟩ <;> rw [e] <;> decide) ?_))
    have hv1 : VWa (vw w t) (vw (nx w p) (ws_a (ws_a (nx3 t p) 12 0 28 n2 (i_ nz)) 12 0 29 n (i_ n2))) tn nu := by
      refine ⟨fun a ha => ⟨funext (fun k => ?_), rfl⟩, fun k y hy hk => ?_, rfl⟩
      · show w_i (nx w p) 14 a k = w_i w 14 a k
        rw [nx_14]
      · have hyn : y ≠ n := fun e => hT.1.2 (by rw [← e]; exact hy)
        have hyn2 : y ≠ n2 := fun e => hU.1.2 (by rw [← e]; exact hy)
        show w_a (ws_a (ws_a (nx3 t p) 12 0 28 n2 (i_ nz)) 12 0 29 n (i_ n2)) 12 0 k y = w_a t 12 0 k y
        rw [Raa, if_neg (fun z => hyn z.2.2.2), Raa, if_neg (fun z => hyn2 z.2.2.2)]
        rfl
    have hE1 := hE.up (k' := r) hv1 (fun _ _ h => h) (fun _ h => h) (Nat.le_refl _)
    have hgx : GAx (vw (nx w p) (ws_a (ws_a (nx3 t p) 12 0 28 n2 (i_ nz)) 12 0 29 n (i_ n2))) tn nu r fi fp (up_ ft2 28 (i_ nz)) (oE K (kln K p0) 0 p0 p) := by
      rcases hG with ⟨g1, g2, g3⟩ | ⟨g1, g2, g3⟩
      · exact .inr (.inl ⟨g2, g1, hE1, g3.up hv1 (fun _ _ h => h) (fun _ h => h) (Nat.le_refl _)⟩)
      · exact .inr (.inr ⟨g2, g1, hE1, g3.up hv1 (fun _ _ h => h) (fun _ h => h) (Nat.le_refl _)⟩)
    exact p_gproc (r := r) (fun Q v w hl q => q) IHP hd20 (by unfold dex; omega) (by unfold dex; omega) H8 (by omega) ⟨by omega, by omega⟩ e74 O8 T8 U8 hnn hn hn2 hb ⟨hfi.1, ⟨hfi.2.1.1, hfi.2.1.2.1, hfi.2.1.2.2, rfl⟩, hfi.2.2⟩ (hc.up hv1 (fun _ _ h => h) (fun _ h => h) (Nat.le_refl _)) hgx.wk (by omega) ⟨by omega, by omega⟩
  · simp only [zb_X13_asks_p201]
    refine eS_and (by rw [hd.2.2.tl.2.2.1]; exact i_inb' (by omega) (by omega)) ?_
    exact dd_kGA (hd.ta rfl) (by omega) (by omega) hn.2 hn2.2 (Int.le_refl _)
/-- behind an element that a GUARD waits at -/
theorem p_gask {G nz bx : Nat} (IH : EXq D K E' G) (IHP : PRq D K E' G) (hd20 : d ≤ 19) (hL : dex d ≤ L + 180) (hL' : dex d ≤ L' + 180) (H : HY D K [] [] S0 (w, t, al, m, N, nu, tn) p p 0 0) (hg : K.length ≤ p + 1 + G) (hB : m ≤ 4 * p + 8 ∧ N ≤ 4 * p + 8) (hln : kln K p = kln K p0) (hO : OWc (w, t, al, m, N, nu, tn) b fi fp) (hT : OWt (w, t, al, m, N, nu, tn) n ft) (hn : S0.2.2.2.2.1 ≤ n ∧ n < 14000) (hb : b ∉ S0.2.2.1.take S0.2.2.2.1) (hfi : (fi 2 = i_ (kln K p0) ∧ fi 12 = 0 ∧ fp 7 = none ∧ fp 0 = some (D.1.1.1 52) ∧ fp 6 = none) ∧ (ft 26 = 18 ∧ ft 27 = i_ (kln K p0) ∧ ft 32 = -1 ∧ ft 30 = -1))
    (hc : EOz (vw w t) tn nu r (oE K (kln K p0) 0 p0 p) 0 (fp 5) (ft 28)) (hP : PND D (w, t, al, m, N, nu, tn) lo hi (oE K (kln K p0) 0 p0 p) bx nz 0) (hnr : NRw w (al.take m) bx) (h60 : w_a t 12 0 26 nz = 60) (hbx : bx ∉ S0.2.2.1.take S0.2.2.2.1) (hbb : b ≠ bx) (hlo : S0.2.2.2.2.1 ≤ lo) (hnl : n < lo ∨ hi ≤ n) (hp0 : p0 ≤ p) (hbd : m + 4 * p0 ≤ S0.2.2.2.1 + 4 * p + 2 ∧ N + 4 * p0 ≤ S0.2.2.2.2.1 + 4 * p + 2) :
    PS (fun Q => zb_X5_guard_p84 D.1 L Q (i_ d) (some b) (some bx) w) (fun Q => zb_X13_guard_p170 E' L' Q (i_ (d + 1 : Nat)) (i_ (kln K p0)) (i_ n) (i_ nz) t) (PRd D K (d + 1) [] [] S0 p0 0 true true 0 (GPs 1 18 D K S0 p0)) := by
  have hLd := hL
  have hLd' := hL'
  have hvx : dex (d + 2) ≤ L - 23 + 120 := by unfold dex at *; omega
  have hvx' : dex (d + 2) ≤ L' - 26 + 120 := by unfold dex at *; omega
  unfold dex at hL hL'
  have hlx : lex 0 ≤ L - 22 := by unfold lex; omega
  have hlx' : lex 0 ≤ L' - 26 - 22 := by unfold lex; omega
  have hle : lex 0 ≤ L - 24 + 80 := by unfold lex; omega
  have hle' : lex 0 ≤ L' - 26 - 23 + 80 := by unfold lex; omega
  have h23 : 400 ≤ L' - 26 - 23 := by omega
  have h22 : 400 ≤ L' - 26 - 22 := by omega
  have h21 : 400 ≤ L' - 26 - 21 := by omega
  have h20 : 400 ≤ L' - 26 - 20 := by omega
  have hpl := H.1.ta.lt
  have hal := H.alive
  have hnN : n < N := hT.1.1
  have hSN : S0.2.2.2.2.1 ≤ N := H.2.2.1.2.2.1
  have hnz := hP.lt
  have hkr := H.1.ta.kr H.1.krg
  simp only [zb_X5_guard_p84, zb_X13_guard_p170]
  refine PS_lp (by simp) ?_
  refine PS_r1 (fun Q hq => t_look (by omega) H.1.ta hq) ?_
  have e48v : (i_ (kk K p) = (48 : Int32)) = (kk K p = 48) := i_eqk (show -1000 ≤ kk K p ∧ kk K p ≤ 1000 by omega) (show (-1000 : Int) ≤ 48 by decide) (by decide)
  simp only [e48v]
  by_cases e48 : kk K p = 48
  · refine PS_rp e48 ?_
    change PS _ (fun Q => zw E' (L' - 26) kt_M354 [.ref (w_adr E'.2.1 12 0), .int (i_ nz), .int (i_ (d + 1 : Nat) + 1), .int (i_ (kln K p0))] t (kGA E' L' Q (i_ (d + 1 : Nat)) (i_ n) t)) _
    refine PS_r (fun Q h => zt_X13_asks_p0 (by omega) h) ?_
    simp only [zb_X13_asks_p0]
    rw [p3e]
    refine PSd_exw (c := 44) (v := 48) (by omega) (by omega) (by omega) H rfl (by unfold wcd; omega) rfl (fun _ H1 => ?_) (fun w' hd => ?_)
    · have hpl1 := H1.1.ta.lt
      have hal1 := H1.alive
      have O1 : OWc (nx w p, nx3 t p, al, m, N, nu, tn) b _ _ := hO.w4 (j := 3) (v := i_ (p + 1 : Nat)) (.inl (by decide))
      have T1 : OWt (nx w p, nx3 t p, al, m, N, nu, tn) n _ := hT
      refine PS_lex b rfl (PS_land (O1.wl H1.1) ?_)
      have H2 := H1.wp (k := 3) (v := some bx) O1.1.2 (fun e => absurd e hb) (LKO.mk hP.bm.1 hnr hbx)
      have O2 := O1.sp (k := 3) (v := some bx)
      have T2 : OWt (ws_p (nx w p) 14 b 3 (some bx), nx3 t p, al, m, N, nu, tn) n _ := T1
      have hP2 : PND D (ws_p (nx w p) 14 b 3 (some bx), nx3 t p, al, m, N, nu, tn) lo hi (oE K (kln K p0) 0 p0 p) bx nz 0 := hP.nx2.wo O1.1.2 hbb
      obtain ⟨x3, tn3, r3, H3, hC3, hm1, hm2, hn3⟩ := H2.fin hP2 hbx hlo
      have O3 := O2.fin (x := x3) (tn' := tn3) hbb
      have T3 := T2.fin (nu' := nuU nu bx x3) hm2 hnl
      have hv3 : VWa (vw w t) (vw (ws_p (nx w p) 14 b 3 (some bx)) (nx3 t p)) tn nu := by
        refine ⟨fun a ha => ⟨funext (fun k => ?_), funext (fun k => ?_)⟩, fun k y hy hk => rfl, rfl⟩
        · show w_i (nx w p) 14 a k = w_i w 14 a k
          rw [nx_14]
        · show w_p (ws_p (nx w p) 14 b 3 (some bx)) 14 a k = w_p w 14 a k
          rw [Rpp, if_neg (fun z => ha (by rw [z.2.2]; exact hO.1.2))]
          rfl
      have hc3 := hc.up (k' := 0) hv3 (nle_nuU (x := x3) hn3) hm1 (Nat.le_refl _)
      have hE3 : EEz (vw (ws_p (nx w p) 14 b 3 (some bx)) (nx3 t p)) tn3 (nuU nu bx x3) 0 (oE K (kln K p0) 0 p0 p) (some bx) (i_ nz) := ⟨bx, nz, rfl, rfl, hC3.up ⟨fun _ _ => ⟨rfl, rfl⟩, fun _ _ _ _ => rfl, rfl⟩ (fun _ _ h => h) (fun _ h => h) (Nat.le_refl _), h60⟩
      have hp1 := H.p1 (by omega)
      have hln1 := H.1.ln hp1 (by omega)
      refine PS_l1 (fun Q hq => c_is (c := 0) (v := 0) (by omega) H3.1.ca rfl (by unfold wcd; omega) hq) ?_
      cases h0 : decide (kk K (p + 1) = 0) with
      | true =>
        have h0 : kk K (p + 1) = 0 := of_decide_eq_true h0
        refine PS_ln (by decide) ?_
        simp only [zb_X5_guard_p146]
        refine PS_lex b rfl (PS_land (O3.wl H3.1) ?_)
        have H4 := H3.wi (k := 10) (v := 2) O3.1.2 (fun e => absurd e hb)
        have O4 := O3.si (k := 10) (v := 2)
        have r10 : w_i (ws_i (ws_p (nx w p) 14 b 3 (some bx)) 14 b 10 2) 14 b 10 = 2 := O4.2.1 10 rfl
        refine PS_lex b rfl (PS_land (O4.wl H4.1) (PS_ln (by rw [r10]; decide) ?_))
        refine PSd_nxl (by omega) H4 (by omega) (fun H5 => ?_) (fun w' hd h76 => ?_)
        · refine PS_r1 (fun Q hq => t_may (v := 0) (by omega) H5.1.ta H5.1.krg rfl (by omega) (fun _ => hq) (fun h => absurd h0 h)) (PS_rn (by decide) ?_)
          have H6 := H5.tnx (by omega) (by omega)
          have hp2 := H4.p1 (by omega)
          have hln2 := H4.1.ln hp2 (by omega)
          have O6 : OWc (nx (ws_i (ws_p (nx w p) 14 b 3 (some bx)) 14 b 10 2) (p + 1), nx3 (nx3 t p) (p + 1), al, m, N, nuU nu bx x3, tn3) b _ _ := O4.w4 (j := 3) (v := i_ (p + 1 + 1 : Nat)) (.inl (by decide))
          refine PS_r1 (fun Q hq => t_node (by omega) H6.kt H6.tN (by omega) hq) ?_
          rw [i_nat' (show N < 2147483648 by omega)]
          have H7 := H6.tnd (x := 6) (l := i_ (kln K p0))
          have U7 : OWt (nx (ws_i (ws_p (nx w p) 14 b 3 (some bx)) 14 b 10 2) (p + 1), nd3 (nx3 (nx3 t p) (p + 1)) N 6 (i_ (kln K p0)), al, m, N + 1, nuU nu bx x3, tn3) N _ := OWt.new (x := 6) (l := i_ (kln K p0)) H6
          have T7 : OWt (nx (ws_i (ws_p (nx w p) 14 b 3 (some bx)) 14 b 10 2) (p + 1), nd3 (nx3 (nx3 t p) (p + 1)) N 6 (i_ (kln K p0)), al, m, N + 1, nuU nu bx x3, tn3) n _ := (show OWt (nx (ws_i (ws_p (nx w p) 14 b 3 (some bx)) 14 b 10 2) (p + 1), nx3 (nx3 t p) (p + 1), al, m, N, nuU nu bx x3, tn3) n ft from T3).nd
          have O7 : OWc (nx (ws_i (ws_p (nx w p) 14 b 3 (some bx)) 14 b 10 2) (p + 1), nd3 (nx3 (nx3 t p) (p + 1)) N 6 (i_ (kln K p0)), al, m, N + 1, nuU nu bx x3, tn3) b _ _ := O6.tt
          have hv7 : VWa (vw (ws_p (nx w p) 14 b 3 (some bx)) (nx3 t p)) (vw (nx (ws_i (ws_p (nx w p) 14 b 3 (some bx)) 14 b 10 2) (p + 1)) (nd3 (nx3 (nx3 t p) (p + 1)) N 6 (i_ (kln K p0)))) tn3 (nuU nu bx x3) := by
            refine ⟨fun a ha => ⟨funext (fun k => ?_), rfl⟩, fun k y hy hk => ?_, rfl⟩
            · show w_i (nx (ws_i (ws_p (nx w p) 14 b 3 (some bx)) 14 b 10 2) (p + 1)) 14 a k = w_i (ws_p (nx w p) 14 b 3 (some bx)) 14 a k
              rw [nx_14, Rii, if_neg (fun z => ha (by rw [z.2.2]; exact O3.1.2))]
            · have hyN : y < N := H3.tlt hy
              show w_a (nd3 (nx3 (nx3 t p) (p + 1)) N 6 (i_ (kln K p0))) 12 0 k y = w_a (nx3 t p) 12 0 k y
              simp only [nx3, nd3, Rii, Rgi, Rpi, Rai, Rbi, Rri, Rni, Rdi, Roi, Rti, Rzi, RCi, RSi, Ria, Rga, Rpa, Raa, Rba, Rra, Rna, Rda, Roa, Rta, Rza, RCa, RSa]
              simp [show ¬ y = N by omega]
          have hc7 := hc3.up (k' := 0) hv7 (fun _ _ h => h) (fun _ h => h) (Nat.le_refl _)
          have hE7 := hE3.up (k' := 0) hv7 (fun _ _ h => h) (fun _ h => h) (Nat.le_refl _)
          simp only [zb_X5_guard_p161]
          refine PS_lex b rfl (PS_land (O7.wl H7.1) (PS_ln (by rw [O7.2.1 10 rfl]; exact fun h => h rfl) ?_))
          refine PRd_c11 H.1.krg H7.2 (IH (L - 22) (L' - 26 - 22) _ _ _ _ _ _ _ _ _ hlx hlx' H7.1 (by omega) ⟨by omega, by omega⟩) (fun a h => absurd h List.not_mem_nil) (fun a h => absurd h List.not_mem_nil) (fun x v w2 t2 al2 m2 N2 nu2 tn2 p2 hl2 H8 HS8 hbd8 hgx => ?_) (fun v w2 t2 hv hv2 hd => ?_)
          · obtain ⟨b1, n1, rfl, rfl, hP8, hX8, hb1, hlnz, -⟩ := hgx
            have hpl8 := H8.1.ta.lt
            have hN2 : N + 1 ≤ N2 := HS8.2.2.1.2.2.1
            have O8 := O7.fr HS8.2 List.not_mem_nil
            have T8 := T7.fr HS8.2 List.not_mem_nil
            have U8 := U7.fr HS8.2 List.not_mem_nil
            have hvf := VWa.fr H7.1 HS8.2 (fun _ h => absurd h List.not_mem_nil) (fun _ h => absurd h List.not_mem_nil)
            have hc8 := hc7.up (k' := 0) hvf HS8.2.2.2.2.2.1.1 HS8.2.2.2.2.2.1.2.1 (Nat.le_refl _)
            have hE8 := hE7.up (k' := 0) hvf HS8.2.2.2.2.2.1.1 HS8.2.2.2.2.2.1.2.1 (Nat.le_refl _)
            obtain ⟨x9, tn9, r9, H9, hC9, hm3, hm4, hn9⟩ := H8.fin hP8 (fun e => hb1 (H7.2.sub e)) (by show _ ≤ N + 1; omega)
            have hbb1 : b ≠ b1 := fun e => hb1 (by rw [← e]; exact O7.1.1.1)
            have O9 := O8.fin (x := x9) (tn' := tn9) hbb1
            have T9 := T8.fin (nu' := nuU nu2 b1 x9) hm4 (.inl (by show n < N + 1; omega))
            have U9 := U8.fin (nu' := nuU nu2 b1 x9) hm4 (.inl (Nat.lt_succ_self N))
            refine PS_rand (by rw [H9.1.tl.2.2.2.1]; exact i_inb' (by omega) (by omega)) ?_
            have HA := (H9.wp (k := 4) (v := some b1) O9.1.2 (fun e => absurd e hb) (LKO.mk hP8.bm.1 hX8.2.2 (fun e => hb1 (H7.2.sub e)))).ta (k := 29) (n := N) (v := i_ n1) rfl U9.1.2 (fun h => absurd h (by omega))
            have OA : OWc (ws_p w2 14 b 4 (some b1), ws_a t2 12 0 29 N (i_ n1), al2, m2, N2, nuU nu2 b1 x9, tn9) b _ _ := O9.sp (k := 4) (v := some b1)
            have UA : OWt (ws_p w2 14 b 4 (some b1), ws_a t2 12 0 29 N (i_ n1), al2, m2, N2, nuU nu2 b1 x9, tn9) N _ := U9.si (k := 29) (v := i_ n1)
            have TA : OWt (ws_p w2 14 b 4 (some b1), ws_a t2 12 0 29 N (i_ n1), al2, m2, N2, nuU nu2 b1 x9, tn9) n _ := T9.oi (k := 29) (v := i_ n1) (n2 := N) (by omega)
            have hvw := VWa.mk (w := w2) (t := t2) (w' := ws_p w2 14 b 4 (some b1)) (t' := ws_a t2 12 0 29 N (i_ n1)) (b := b) (n := N) (fun a h k => by simp only [nx, Rii, Rgi, Rpi, Rai, Rbi, Rri, Rni, Rdi, Roi, Rti, Rzi, RCi, RSi, Rip, Rgp, Rpp, Rap, Rbp, Rrp, Rnp, Rdp, Rop, Rtp, Rzp, RCp, RSp]; simp [h]) (fun y h k => by simp only [nx3, nd3, Rii, Rgi, Rpi, Rai, Rbi, Rri, Rni, Rdi, Roi, Rti, Rzi, RCi, RSi, Ria, Rga, Rpa, Raa, Rba, Rra, Rna, Rda, Roa, Rta, Rza, RCa, RSa]; simp [h]) rfl O9.1.2 U9.1.2
            have hvs : VWa (vw w2 t2) (vw w2 t2) tn2 nu2 := ⟨fun _ _ => ⟨rfl, rfl⟩, fun _ _ _ _ => rfl, rfl⟩
            have hcA := (hc8.up (k' := 0) hvs (nle_nuU (x := x9) hn9) hm3 (Nat.le_refl _)).up (k' := 0) hvw (fun _ _ h => h) (fun _ h => h) (Nat.le_refl _)
            have hEA := (hE8.up (k' := 0) hvs (nle_nuU (x := x9) hn9) hm3 (Nat.le_refl _)).up (k' := 0) hvw (fun _ _ h => h) (fun _ h => h) (Nat.le_refl _)
            rw [hln2, hln1, hln] at hC9
            exact p_gin (r := 0) IHP (by omega) (by unfold dex; omega) (by unfold dex; omega) HA (by omega) ⟨by omega, by omega⟩ OA TA UA (by omega) hn ⟨hSN, by omega⟩ hb ⟨⟨hfi.1.1, hfi.1.2.1, hfi.1.2.2.1, hfi.1.2.2.2.1⟩, ⟨hfi.2.1, hfi.2.2.1, hfi.2.2.2.1⟩, rfl⟩ hcA.wk hEA.wk (.inr ⟨rfl, rfl, b1, n1, rfl, rfl, hC9.up hvw (fun _ _ h => h) (fun _ h => h) (Nat.le_refl _)⟩) (by omega) ⟨by omega, by omega⟩
          · refine eS_and (by rw [hd.2.2.tl.2.2.2.1]; exact i_inb' (by omega) (by omega)) ?_
            exact dd_endOfLine (hd.ta rfl) h20
        · refine eS_1 (fun Q hq => t_may (v := 0) (by omega) H4.1.ta H4.1.krg rfl ⟨by decide, by decide⟩ (fun _ => hq) (fun h => absurd h0 h)) (eS_n (by decide) ?_)
          have hdd := H4.dd hd (by omega) (by omega) (by omega) h76
          have hN' : w_i (nx3 (nx3 t p) (p + 1)) 12 0 25 = i_ N := by
            unfold nx3
            rw [Rii, if_neg (by decide), Rii, if_neg (by decide)]
            exact H.tN
          refine eS_1 (fun Q hq => t_node (by omega) hdd.2.2.1.1.1 hN' (by omega) hq) ?_
          exact dd_e (hdd.nd (N := N) (by omega)) h22
      | false =>
        have h0 : ¬ kk K (p + 1) = 0 := of_decide_eq_false h0
        refine PS_lp (by decide) ?_
        refine PS_l1 (fun Q hq => c_is (c := 5) (v := 5) (by omega) H3.1.ca rfl (by unfold wcd; omega) hq) ?_
        refine PS_r1 (fun Q hq => t_may (v := 0) (by omega) H3.1.ta H3.1.krg rfl (by omega) (fun h => absurd h h0) (fun _ => hq)) (PS_rp rfl ?_)
        cases h5 : decide (kk K (p + 1) = 5) with
        | false =>
          have h5 : ¬ kk K (p + 1) = 5 := of_decide_eq_false h5
          refine PS_lp (by decide) ?_
          refine PS_r1 (fun Q hq => t_may (v := 5) (by omega) H3.1.ta H3.1.krg rfl (by omega) (fun h => absurd h h5) (fun _ => hq)) (PS_rp rfl ?_)
          simp only [zb_X5_guard_p146]
          refine PS_lex b rfl (PS_land (O3.wl H3.1) ?_)
          have H4 := H3.wi (k := 10) (v := 1) O3.1.2 (fun e => absurd e hb)
          have O4 := O3.si (k := 10) (v := 1)
          have r10 : w_i (ws_i (ws_p (nx w p) 14 b 3 (some bx)) 14 b 10 1) 14 b 10 = 1 := O4.2.1 10 rfl
          refine PS_lex b rfl (PS_land (O4.wl H4.1) (PS_lp (by rw [r10]; decide) ?_))
          refine PS_r1 (fun Q hq => t_node (by omega) H4.kt H4.tN (by omega) hq) ?_
          rw [i_nat' (show N < 2147483648 by omega)]
          have H7 := H4.tnd (x := 5) (l := i_ (kln K p0))
          have U7 : OWt (ws_i (ws_p (nx w p) 14 b 3 (some bx)) 14 b 10 1, nd3 (nx3 t p) N 5 (i_ (kln K p0)), al, m, N + 1, nuU nu bx x3, tn3) N _ := OWt.new (x := 5) (l := i_ (kln K p0)) H4
          have T7 : OWt (ws_i (ws_p (nx w p) 14 b 3 (some bx)) 14 b 10 1, nd3 (nx3 t p) N 5 (i_ (kln K p0)), al, m, N + 1, nuU nu bx x3, tn3) n _ := (show OWt (ws_i (ws_p (nx w p) 14 b 3 (some bx)) 14 b 10 1, nx3 t p, al, m, N, nuU nu bx x3, tn3) n ft from T3).nd
          have O7 : OWc (ws_i (ws_p (nx w p) 14 b 3 (some bx)) 14 b 10 1, nd3 (nx3 t p) N 5 (i_ (kln K p0)), al, m, N + 1, nuU nu bx x3, tn3) b _ _ := O4.tt
          have hv7 : VWa (vw (ws_p (nx w p) 14 b 3 (some bx)) (nx3 t p)) (vw (ws_i (ws_p (nx w p) 14 b 3 (some bx)) 14 b 10 1) (nd3 (nx3 t p) N 5 (i_ (kln K p0)))) tn3 (nuU nu bx x3) := by
            refine ⟨fun a ha => ⟨funext (fun k => ?_), rfl⟩, fun k y hy hk => ?_, rfl⟩
            · show w_i (ws_i (ws_p (nx w p) 14 b 3 (some bx)) 14 b 10 1) 14 a k = w_i (ws_p (nx w p) 14 b 3 (some bx)) 14 a k
              rw [Rii, if_neg (fun z => ha (by rw [z.2.2]; exact O3.1.2))]
            · have hyN : y < N := H3.tlt hy
              show w_a (nd3 (nx3 t p) N 5 (i_ (kln K p0))) 12 0 k y = w_a (nx3 t p) 12 0 k y
              simp only [nx3, nd3, Rii, Rgi, Rpi, Rai, Rbi, Rri, Rni, Rdi, Roi, Rti, Rzi, RCi, RSi, Ria, Rga, Rpa, Raa, Rba, Rra, Rna, Rda, Roa, Rta, Rza, RCa, RSa]
              simp [show ¬ y = N by omega]
          have hc7 := hc3.up (k' := 0) hv7 (fun _ _ h => h) (fun _ h => h) (Nat.le_refl _)
          have hE7 := hE3.up (k' := 0) hv7 (fun _ _ h => h) (fun _ h => h) (Nat.le_refl _)
          simp only [zb_X5_guard_p161]
          refine PS_lex b rfl (PS_land (O7.wl H7.1) (PS_lp (by rw [O7.2.1 10 rfl]; show ¬ ((1 : Int32) = 2); decide) (PS_ln (by rw [O7.2.1 10 rfl]; exact fun h => h rfl) ?_)))
          refine PRd_c11 H.1.krg H7.2 (p_elements IH (L := L - 24) (L' := L' - 26 - 23) hle hle' H7.1 (by omega) ⟨by omega, by omega⟩) (fun a h => absurd h List.not_mem_nil) (fun a h => absurd h List.not_mem_nil) (fun x v w2 t2 al2 m2 N2 nu2 tn2 p2 hl2 H8 HS8 hbd8 hgx => ?_) (fun v w2 t2 hv hv2 hd => ?_)
          · obtain ⟨⟨k5, hs⟩, hlnz, hhd⟩ := hgx
            have hpl8 := H8.1.ta.lt
            have hN2 : N + 1 ≤ N2 := HS8.2.2.1.2.2.1
            have O8 := O7.fr HS8.2 List.not_mem_nil
            have T8 := T7.fr HS8.2 List.not_mem_nil
            have U8 := U7.fr HS8.2 List.not_mem_nil
            have hvf := VWa.fr H7.1 HS8.2 (fun _ h => absurd h List.not_mem_nil) (fun _ h => absurd h List.not_mem_nil)
            have hc8 := hc7.up (k' := 0) hvf HS8.2.2.2.2.2.1.1 HS8.2.2.2.2.2.1.2.1 (Nat.le_refl _)
            have hE8 := hE7.up (k' := 0) hvf HS8.2.2.2.2.2.1.1 HS8.2.2.2.2.2.1.2.1 (Nat.le_refl _)
            refine PS_rand (by rw [H8.1.tl.2.2.2.1]; exact i_inb' (by omega) (by omega)) ?_
            have HA := (H8.wp (k := 4) (v := x) O8.1.2 (fun e => absurd e hb) (LKO.op (hhd.up (fun _ e => H7.2.sub e)))).ta (k := 29) (n := N) (v := v) rfl U8.1.2 (fun h => absurd h (by omega))
            have OA : OWc (ws_p w2 14 b 4 x, ws_a t2 12 0 29 N v, al2, m2, N2, nu2, tn2) b _ _ := O8.sp (k := 4) (v := x) (.inr (.inr (fun e => (hhd _ e).2.2 O7.1.1.1)))
            have UA : OWt (ws_p w2 14 b 4 x, ws_a t2 12 0 29 N v, al2, m2, N2, nu2, tn2) N _ := U8.si (k := 29) (v := v)
            have TA : OWt (ws_p w2 14 b 4 x, ws_a t2 12 0 29 N v, al2, m2, N2, nu2, tn2) n _ := T8.oi (k := 29) (v := v) (n2 := N) (by omega)
            have hvw := VWa.mk (w := w2) (t := t2) (w' := ws_p w2 14 b 4 x) (t' := ws_a t2 12 0 29 N v) (b := b) (n := N) (fun a h k => by simp only [nx, Rii, Rgi, Rpi, Rai, Rbi, Rri, Rni, Rdi, Roi, Rti, Rzi, RCi, RSi, Rip, Rgp, Rpp, Rap, Rbp, Rrp, Rnp, Rdp, Rop, Rtp, Rzp, RCp, RSp]; simp [h]) (fun y h k => by simp only [nx3, nd3, Rii, Rgi, Rpi, Rai, Rbi, Rri, Rni, Rdi, Roi, Rti, Rzi, RCi, RSi, Ria, Rga, Rpa, Raa, Rba, Rra, Rna, Rda, Roa, Rta, Rza, RCa, RSa]; simp [h]) rfl O8.1.2 U8.1.2
            have hcA := hc8.up (k' := 0) hvw (fun _ _ h => h) (fun _ h => h) (Nat.le_refl _)
            have hEA := hE8.up (k' := 0) hvw (fun _ _ h => h) (fun _ h => h) (Nat.le_refl _)
            rw [hln1, hln] at hs
            exact p_gin (r := 0) IHP (by omega) (by unfold dex; omega) (by unfold dex; omega) HA (by omega) ⟨by omega, by omega⟩ OA TA UA (by omega) hn ⟨hSN, by omega⟩ hb ⟨⟨hfi.1.1, hfi.1.2.1, hfi.1.2.2.1, hfi.1.2.2.2.1⟩, ⟨hfi.2.1, hfi.2.2.1, hfi.2.2.2.1⟩, rfl⟩ hcA.wk hEA.wk (.inl ⟨rfl, rfl, hs.up hvw (fun _ _ h => h) (fun _ h => h) (Nat.le_refl _)⟩) (by omega) ⟨by omega, by omega⟩
          · refine eS_and (by rw [hd.2.2.tl.2.2.2.1]; exact i_inb' (by omega) (by omega)) ?_
            exact dd_endOfLine (hd.ta rfl) h20
        | true =>
          have h5 : kk K (p + 1) = 5 := of_decide_eq_true h5
          refine PS_ln (by decide) ?_
          simp only [zb_X5_guard_p146]
          refine PS_lex b rfl (PS_land (O3.wl H3.1) ?_)
          have H4 := H3.wi (k := 10) (v := 3) O3.1.2 (fun e => absurd e hb)
          have O4 := O3.si (k := 10) (v := 3)
          have r10 : w_i (ws_i (ws_p (nx w p) 14 b 3 (some bx)) 14 b 10 3) 14 b 10 = 3 := O4.2.1 10 rfl
          refine PS_lex b rfl (PS_land (O4.wl H4.1) (PS_ln (by rw [r10]; decide) ?_))
          refine PSd_nxl (by omega) H4 (by omega) (fun H5 => ?_) (fun w' hd h76 => ?_)
          · refine PS_r1 (fun Q hq => t_may (v := 5) (by omega) H5.1.ta H5.1.krg rfl (by omega) (fun _ => hq) (fun h => absurd h5 h)) (PS_rn (by decide) ?_)
            have H6 := H5.tnx (by omega) (by omega)
            have O6 : OWc (nx (ws_i (ws_p (nx w p) 14 b 3 (some bx)) 14 b 10 3) (p + 1), nx3 (nx3 t p) (p + 1), al, m, N, nuU nu bx x3, tn3) b _ _ := O4.w4 (j := 3) (v := i_ (p + 1 + 1 : Nat)) (.inl (by decide))
            refine PS_r1 (fun Q hq => t_node (by omega) H6.kt H6.tN (by omega) hq) ?_
            have H7 := H6.tnd (x := 7) (l := i_ (kln K p0))
            have U7 : OWt (nx (ws_i (ws_p (nx w p) 14 b 3 (some bx)) 14 b 10 3) (p + 1), nd3 (nx3 (nx3 t p) (p + 1)) N 7 (i_ (kln K p0)), al, m, N + 1, nuU nu bx x3, tn3) N _ := OWt.new (x := 7) (l := i_ (kln K p0)) H6
            have T7 : OWt (nx (ws_i (ws_p (nx w p) 14 b 3 (some bx)) 14 b 10 3) (p + 1), nd3 (nx3 (nx3 t p) (p + 1)) N 7 (i_ (kln K p0)), al, m, N + 1, nuU nu bx x3, tn3) n _ := (show OWt (nx (ws_i (ws_p (nx w p) 14 b 3 (some bx)) 14 b 10 3) (p + 1), nx3 (nx3 t p) (p + 1), al, m, N, nuU nu bx x3, tn3) n ft from T3).nd
            have O7 : OWc (nx (ws_i (ws_p (nx w p) 14 b 3 (some bx)) 14 b 10 3) (p + 1), nd3 (nx3 (nx3 t p) (p + 1)) N 7 (i_ (kln K p0)), al, m, N + 1, nuU nu bx x3, tn3) b _ _ := O6.tt
            simp only [zb_X5_guard_p161, zb_X5_guard_p198]
            refine PS_lex b rfl (PS_land (O7.wl H7.1) (PS_lp (by rw [O7.2.1 10 rfl]; show ¬ ((3 : Int32) = 2); decide) (PS_lp (by rw [O7.2.1 10 rfl]; show ¬ ((3 : Int32) = 1); decide) ?_)))
            refine PSd_elw (by omega) (by omega) (by omega) H7 (fun e74 H8 => ?_) (fun w' hd => ?_)
            · have hpl8 := H8.1.ta.lt
              have O8 : OWc (nx (nx (ws_i (ws_p (nx w p) 14 b 3 (some bx)) 14 b 10 3) (p + 1)) (p + 1 + 1), nx3 (nd3 (nx3 (nx3 t p) (p + 1)) N 7 (i_ (kln K p0))) (p + 1 + 1), al, m, N + 1, nuU nu bx x3, tn3) b _ _ := O7.w4 (j := 3) (v := i_ (p + 1 + 1 + 1 : Nat)) (.inl (by decide))
              have T8 : OWt (nx (nx (ws_i (ws_p (nx w p) 14 b 3 (some bx)) 14 b 10 3) (p + 1)) (p + 1 + 1), nx3 (nd3 (nx3 (nx3 t p) (p + 1)) N 7 (i_ (kln K p0))) (p + 1 + 1), al, m, N + 1, nuU nu bx x3, tn3) n _ := T7
              have U8 : OWt (nx (nx (ws_i (ws_p (nx w p) 14 b 3 (some bx)) 14 b 10 3) (p + 1)) (p + 1 + 1), nx3 (nd3 (nx3 (nx3 t p) (p + 1)) N 7 (i_ (kln K p0))) (p + 1 + 1), al, m, N + 1, nuU nu bx x3, tn3) N _ := U7
              have hv8 : VWa (vw (ws_p (nx w p) 14 b 3 (some bx)) (nx3 t p)) (vw (nx (nx (ws_i (ws_p (nx w p) 14 b 3 (some bx)) 14 b 10 3) (p + 1)) (p + 1 + 1)) (nx3 (nd3 (nx3 (nx3 t p) (p + 1)) N 7 (i_ (kln K p0))) (p + 1 + 1))) tn3 (nuU nu bx x3) := by
                refine ⟨fun a ha => ⟨funext (fun k => ?_), rfl⟩, fun k y hy hk => ?_, rfl⟩
                · show w_i (nx (nx (ws_i (ws_p (nx w p) 14 b 3 (some bx)) 14 b 10 3) (p + 1)) (p + 1 + 1)) 14 a k = w_i (ws_p (nx w p) 14 b 3 (some bx)) 14 a k
                  rw [nx_14, nx_14, Rii, if_neg (fun z => ha (by rw [z.2.2]; exact O3.1.2))]
                · have hyN : y < N := H3.tlt hy
                  show w_a (nx3 (nd3 (nx3 (nx3 t p) (p + 1)) N 7 (i_ (kln K p0))) (p + 1 + 1)) 12 0 k y = w_a (nx3 t p) 12 0 k y
                  simp only [nx3, nd3, Rii, Rgi, Rpi, Rai, Rbi, Rri, Rni, Rdi, Roi, Rti, Rzi, RCi, RSi, Ria, Rga, Rpa, Raa, Rba, Rra, Rna, Rda, Roa, Rta, Rza, RCa, RSa]
                  simp [show ¬ y = N by omega]
              have hc8 := hc3.up (k' := 0) hv8 (fun _ _ h => h) (fun _ h => h) (Nat.le_refl _)
              have hE8 := hE3.up (k' := 0) hv8 (fun _ _ h => h) (fun _ h => h) (Nat.le_refl _)
              refine PS_lex b rfl (PS_land (O8.wl H8.1) (PS_ln (by rw [O8.2.1 10 rfl]; exact fun h => h rfl) ?_))
              rw [i_2, i_add, cN2]
              refine PSh_cG (gc1 := fun Q => zw D.1 (L - 23) kt_M215 [.ref (w_adr D.1.2.1 4 0), .int (i_ (d + 2 : Nat))] _ Q) (gt1 := fun Q => zL_X13_asks_p65 E' (L' - 26) Q (i_ nz) (i_ (d + 1 + 1 : Nat)) (i_ N) (-1) _) (Kc := fun Q => wkr (fun v4 w4 => wle _ w4 → zb_X5_guard_p235 D.1 L Q (some b) (ws_p w4 14 b 4 v4)) (fun e w => Q (.inr e) w)) (Kt := fun Q => kGA E' L' Q (i_ (d + 1 : Nat)) (i_ n) t) (A := fun Q v4 w4 => Q (.inl (some (va_rf (some b)))) (ws_p w4 14 b 4 v4)) (B := fun Q v t2 => kGA E' L' Q (i_ (d + 1 : Nat)) (i_ n) t (.inl (some (.int v))) t2) (dl := d + 1) STL.of H8.1.krg H8.2 (p_variants (d := d + 2) (x1 := i_ nz) IH IHP (by omega) hvx hvx' U8 (by omega) H8.1 e74 (by omega) (by omega) ⟨by omega, by omega⟩ rfl) (fun a h => absurd h List.not_mem_nil) (fun y hy hy2 => absurd hy2 (by rw [List.mem_singleton.mp hy]; omega)) (fun _ _ _ a => wkr_k a) (fun _ _ _ a => a) (fun _ _ _ a => a) (fun _ _ _ a => a) ?_ (fun v w2 t2 hv hv2 hd => ?_) (fun v w2 t2 hv hv2 hd => ?_)
              · intro x v w2 t2 al2 m2 N2 nu2 tn2 p2 cz H9 HS9 hbd9 hgx
                obtain ⟨rfl, ⟨k, l, fT, hl, U9, hdd, hlne⟩, e74b, hb4, hhd⟩ := hgx
                have hcz : (cb S0 cz).2.2.2.2.1 = S0.2.2.2.2.1 ∧ (cb S0 cz).2.2.2.1 = S0.2.2.2.1 := ⟨rfl, rfl⟩
                have hb4 : m2 + 4 * (p + 1 + 1 + 1) ≤ m + 4 * p2 ∧ N2 + 4 * (p + 1 + 1 + 1) ≤ (N + 1) + 4 * p2 := hb4
                have hpl9 := H9.1.ta.lt
                have hN2 : N + 1 ≤ N2 := HS9.2.2.1.2.2.1
                have O9 := O8.fr HS9.2 List.not_mem_nil
                have T9 := T8.fr (hR := fun h => FRr.cb (FR.rr h)) HS9.2 (fun h => absurd (List.mem_singleton.mp h) (by omega))
                have hvf := VWa.fr H8.1 HS9.2 (fun _ h => absurd h List.not_mem_nil) (fun y h => by rw [List.mem_singleton.mp h]; exact U8.1.2)
                have hc9 := hc8.up (k' := 0) hvf HS9.2.2.2.2.2.1.1 HS9.2.2.2.2.2.1.2.1 (Nat.le_refl _)
                have hE9 := hE8.up (k' := 0) hvf HS9.2.2.2.2.2.1.1 HS9.2.2.2.2.2.1.2.1 (Nat.le_refl _)
                refine PS_r (fun Q h => fun _ => h) ?_
                rw [i_nat' (show n < 2147483648 by omega)]
                have HE := (H9.wp (k := 4) (v := x) O9.1.2 (fun e => absurd e hb) (LKO.op (hhd.up (fun _ e => H8.2.sub e)))).ta (k := 29) (n := n) (v := i_ N) rfl T9.1.2 (fun h => absurd h (by omega))
                have OE : OWc (ws_p w2 14 b 4 x, ws_a t2 12 0 29 n (i_ N), al2, m2, N2, nu2, tn2) b _ _ := O9.sp (k := 4) (v := x) (.inr (.inr (fun e => (hhd _ e).2.2 O8.1.1.1)))
                have TE : OWt (ws_p w2 14 b 4 x, ws_a t2 12 0 29 n (i_ N), al2, m2, N2, nu2, tn2) n _ := T9.si (k := 29) (v := i_ N)
                have UE : OWt (ws_p w2 14 b 4 x, ws_a t2 12 0 29 n (i_ N), al2, m2, N2, nu2, tn2) N _ := U9.oi (k := 29) (v := i_ N) (n2 := n) (by omega)
                have r29 : w_a (ws_a t2 12 0 29 n (i_ N)) 12 0 29 n = i_ N := TE.2 29 rfl
                have r26 : w_a t2 12 0 26 N = 7 := U9.2 26 rfl
                rw [r29, i_nat' (show N < 2147483648 by omega), r26]
                refine PS_rand (by rw [H9.1.tl.2.2.2.1]; exact i_inb' (by omega) (by omega)) (PS_rand (by rw [H9.1.tl.2.2.2.1]; exact i_inb' (by omega) (by omega)) (PS_rand (by rw [H9.1.tl.1]; exact i_inb' (by omega) (by omega)) (PS_rn (fun h => h rfl) ?_)))
                have hvw := VWa.mk (w := w2) (t := t2) (w' := ws_p w2 14 b 4 x) (t' := ws_a t2 12 0 29 n (i_ N)) (b := b) (n := n) (fun a h k => by simp only [nx, Rii, Rgi, Rpi, Rai, Rbi, Rri, Rni, Rdi, Roi, Rti, Rzi, RCi, RSi, Rip, Rgp, Rpp, Rap, Rbp, Rrp, Rnp, Rdp, Rop, Rtp, Rzp, RCp, RSp]; simp [h]) (fun y h k => by simp only [nx3, nd3, Rii, Rgi, Rpi, Rai, Rbi, Rri, Rni, Rdi, Roi, Rti, Rzi, RCi, RSi, Ria, Rga, Rpa, Raa, Rba, Rra, Rna, Rda, Roa, Rta, Rza, RCa, RSa]; simp [h]) rfl O9.1.2 T9.1.2
                have hcE := hc9.up (k' := 0) hvw (fun _ _ h => h) (fun _ h => h) (Nat.le_refl _)
                have hEE := hE9.up (k' := 0) hvw (fun _ _ h => h) (fun _ h => h) (Nat.le_refl _)
                have hlE := LPz.up (k' := 0) hvw (fun _ _ h => h) (fun _ h => h) (Nat.le_refl _) hl
                exact PS_ret (.inr ⟨some b, i_ n, al2, m2, N2, nu2, tn2, p2, _, rfl, rfl, HE, ⟨by omega, by omega, by omega⟩, b, n, dsum l, rfl, rfl, PND.mk2 (kd := 18) OE TE UE ⟨hn.1, hSN⟩ ⟨hn.2, by omega⟩ (LFz.k18 OE TE UE (hfi.1.1.trans hfi.2.2.1.symm) hfi.2.1 hfi.1.2.2.2.1 (by
                  show EOz _ _ _ _ (some (ft 27), _) 0 (fp 5) (ft 28)
                  rw [hfi.2.2.1]
                  exact hcE.wk) rfl (by
                  show i_ (kln K p0) = ft 27
                  exact hfi.2.2.1.symm) (.inr ⟨rfl, rfl, by
                  show EEz _ _ _ _ (some (ft 27), _) (some bx) (i_ nz)
                  rw [hfi.2.2.1]
                  exact hEE.wk, ⟨l, LPz.wk' hlE, rfl, hlne⟩, hfi.1.2.2.2.2, hfi.2.2.2.2⟩) hfi.2.2.1) hfi.1.2.1 (fun l e => by cases e) hfi.2.1, NXT.mk1 OE TE hfi.1.2.2.1 hfi.2.2.2.1, hb, e74b, ⟨by show m2 + _ + 1 ≤ _; omega, by show N2 + _ + 1 ≤ _; omega⟩, by omega⟩)
              · obtain ⟨v, rfl⟩ : ∃ v' : Nat, v = (v' : Int) := ⟨v.toNat, by omega⟩
                exact dd_kGA hd (by omega) (by omega) hn.2 (by omega) (Int.le_refl _)
              · obtain ⟨v, rfl⟩ : ∃ v' : Nat, v = (v' : Int) := ⟨v.toNat, by omega⟩
                refine eS_mono (lt_kGA (d := d + 1) hd (by omega) (by omega) (by omega) hn.2 (by omega)) (fun _ _ h => ?_)
                exact h.elim .inl (fun h => .inr ⟨h.1, h.2.1, h.2.2.1, h.2.2.2.dn (by omega)⟩)
            · refine eS_l (fun Q h => zt_X13_asks_p65 (by omega) h) ?_
              simp only [zb_X13_asks_p65]
              exact dd_lineAt (d := d + 1 + 1) (how := 5) hd h22 (by omega) rfl (by omega)
          · refine eS_1 (fun Q hq => t_may (v := 5) (by omega) H4.1.ta H4.1.krg rfl ⟨by decide, by decide⟩ (fun _ => hq) (fun h => absurd h5 h)) (eS_n (by decide) ?_)
            have hdd := H4.dd hd (by omega) (by omega) (by omega) h76
            have hN' : w_i (nx3 (nx3 t p) (p + 1)) 12 0 25 = i_ N := by
              unfold nx3
              rw [Rii, if_neg (by decide), Rii, if_neg (by decide)]
              exact H.tN
            refine eS_1 (fun Q hq => t_node (by omega) hdd.2.2.1.1.1 hN' (by omega) hq) ?_
            exact dd_endOfLine (hdd.nd (N := N) (by omega)) h20
    · have hdd := hd
      refine eS_1 (fun Q hq => t_may (v := 0) (by omega) hdd.2.2.1 hdd.1.2 rfl ⟨by decide, by decide⟩ (fun e => by rw [hdd.2.2.2.1] at e; exact absurd e (by decide)) (fun _ => hq)) (eS_p rfl ?_)
      refine eS_1 (fun Q hq => t_may (v := 5) (by omega) hdd.2.2.1 hdd.1.2 rfl ⟨by decide, by decide⟩ (fun e => by rw [hdd.2.2.2.1] at e; exact absurd e (by decide)) (fun _ => hq)) (eS_p rfl ?_)
      have hN' : w_i (nx3 t p) 12 0 25 = i_ N := by
        unfold nx3
        rw [Rii, if_neg (by decide)]
        exact H.tN
      refine eS_1 (fun Q hq => t_node (by omega) hdd.2.2.1.1.1 hN' (by omega) hq) ?_
      exact dd_elements (hdd.nd (N := N) (by omega)) h23
  · refine PS_rn e48 ?_
    refine PS_lx0 (fun Q hq => c_expect (c := 44) (v := 48) (by omega) H.1.ca rfl (by unfold wcd; omega) (fun _ => hq) (fun h => absurd h e48) (fun h => absurd h e48)) (PRd_stop ?_)
    exact p_two (by omega) H hal
end GRD
