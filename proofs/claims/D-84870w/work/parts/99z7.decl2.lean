/-! ===== PARSERS, part 41: declarations of names ===== -/
/-- what stands ahead of the names -/
def DS (D : pD) (V : pV) (tn : Nat → Prop) (nu : pNz) (ol : pOL) (y ks c : Nat) (fi : Nat → Int32) (fp : Nat → Option Nat) (ft : Nat → Int32) : Prop := ((y = 30 ∧ ks = 10 ∧ c = 0 ∧ fi 14 = 0 ∧ fp 5 = none ∧ tyr (fi 8) (ft 33)) ∨ (y = 31 ∧ ks = 26 ∧ c = 2 ∧ fi 14 = 1 ∧ KN D V nu (fp 5) (ft 33)) ∨ (y = 32 ∧ ks = 27 ∧ c = 0 ∧ fi 14 = 0 ∧ fp 3 = none ∧ fi 8 = -1)) ∧ ((fp 3 = none ∧ ft 28 = -1 ∧ ft 34 = i_ c) ∨ (ECz V tn nu 0 ol 0 (fp 3) (ft 28) ∧ ft 34 = i_ (c + 1 : Nat)))
section DC2
variable {ex et : List Nat} {S S' S0 SA SB : pS} {D : pD} {K : pK} {V V' : pV} {p p0 q o o' oA dl m N n n2 b b1 b2 lo hi lo2 hi2 r d d2 dd g pA pB nP bP y ks c k k' : Nat} {w t w' : wS} {al : List Nat} {nu nu' : pNz} {tn tn' : Nat → Prop} {E E' : zE} {L L' : Nat} {ol : pOL} {f : Option Nat} {fT x1 x2 : Int32} {Q : kx_Rs → wS → Prop} {fi fi1 : Nat → Int32} {fp fp1 : Nat → Option Nat} {ft : Nat → Int32} {br : Bool} {lo1 : Int} {Φ : kx_Rs → wS → kx_Rs → wS → Prop} {bl : Option Nat} {gt : pQ}
theorem DS.up (h : DS D V tn nu ol y ks c fi fp ft) (hv : VWa V V' tn nu) (hn : nle nu nu') (hN : ∀ y, tn y → tn' y) (hk : 0 ≤ 0) : DS D V' tn' nu' ol y ks c fi fp ft := by
  refine ⟨?_, h.2.elim .inl (fun h => .inr ⟨h.1.up hv hn hN (Nat.le_refl _), h.2⟩)⟩
  rcases h.1 with h | h | h
  · exact .inl h
  · exact .inr (.inl ⟨h.1, h.2.1, h.2.2.1, h.2.2.2.1, h.2.2.2.2.up hv hn⟩)
  · exact .inr (.inr h)
theorem DS.wk {ol' : pOL} (h : DS D V tn nu ol y ks c fi fp ft) (ho : OLw ol ol' := by first | exact OLw.rf | exact OLw.mk (by omega) (by omega) (by omega) | exact OLw.mn (by omega) (by omega) (by omega)) : DS D V tn nu ol' y ks c fi fp ft := ⟨h.1, h.2.elim .inl (fun h => .inr ⟨h.1.wk ho, h.2⟩)⟩
/-- behind a declaration: ':' and the line's end -/
theorem p_dend {Ct : (kx_Rs → wS → Prop) → wS → Prop} {L1 L2 : Nat} (hCt : ∀ Q w, Q (.inl (some (.int (i_ n)))) w → Ct Q w) (hL : 500 ≤ L) (hL1 : 500 ≤ L1) (hL2 : 500 ≤ L2) (hN : N ≤ 11000) (H : HY D K [] [] (cb S0 dd) (w, t, al, m, N, nu, tn) p p 0 0) (hP : PND D (w, t, al, m, N, nu, tn) S0.2.2.2.2.1 N (oN K 3 p0 (p + 1)) b n dd) (hX : NXT (w, t, al, m, N, nu, tn) b n) (hb : b ∉ S0.2.2.1.take S0.2.2.2.1) (hp0 : p0 ≤ p) (hdd : dd + p0 ≤ p + 2) (hbd : m + 4 * p0 + 1 ≤ S0.2.2.2.1 + 4 * p + 8 ∧ N + 4 * p0 + 1 ≤ S0.2.2.2.2.1 + 4 * p + 8) :
    PS (fun Q => zb_X5_declaration_p219 D.1 L Q (some b) w) (fun Q => zw E' L1 kt_M600 [.ref (w_adr E'.2.1 12 0), .int 46] t (wk0 (fun w3 => wle t w3 → zw E' L2 kt_M400 [.ref (w_adr E'.2.1 12 0)] w3 (wk0 (fun w5 => wle w3 w5 → Ct Q w5) (fun e w => Q (.inr e) w))) (fun e w => Q (.inr e) w))) (PRd D K d [] [] S0 p0 0 true true 0 (GPs 1 3 D K S0 p0)) := by
  have hpl := H.1.ta.lt
  have hn := hP.lt
  have hn14 : n < 14000 := hn.2.2.2.1
  simp only [zb_X5_declaration_p219]
  have hΦ : STP D K (cb S0 dd) true 0 (PRd D K d [] [] S0 p0 0 true true 0 (GPs 1 3 D K S0 p0)) := (STL.of (dl := d)).stp.cb
  refine PSg_exw (c := 42) (v := 46) hΦ (by omega) (by omega) hN H rfl (by unfold wcd; omega) rfl (fun h46 H1 => ?_) (fun w' hd => dd_endOfLine hd (by omega))
  refine PSg_elw hΦ (by omega) (by omega) hN H1 (fun e74 H2 => ?_) (fun w' hd => eS_l (fun Q h => hCt Q _ h) (hd.ret rfl ⟨by omega, by omega⟩))
  refine PS_r (fun Q h => hCt Q _ h) ?_
  have hP2 := (hP.nx2 (p := p) (q := p)).nx2 (p := p + 1) (q := p + 1)
  exact PS_ret (.inr ⟨some b, i_ n, al, m, N, nu, tn, p + 1 + 1, _, rfl, rfl, H2, ⟨by omega, by omega, by omega⟩, b, n, dd, rfl, rfl, hP2.wk, ⟨hX.1, hX.2.1, hX.2.2⟩, hb, e74, ⟨by show m + _ + 1 ≤ _; omega, by show N + _ + 1 ≤ _; omega⟩, by omega⟩)
/-- the names themselves -/
theorem p_nit0 {L3 : Nat} (hL3 : 1000 ≤ L3) {C Ct : (kx_Rs → wS → Prop) → wS → Prop} {v : Int32} (hC : ∀ Q w, zb_X5_declaration_p219 D.1 L Q (some b) w → C Q w) (hCt : ∀ Q w, Q (.inl (some (.int (i_ n)))) w → Ct Q w) (hL : 2000 ≤ L) (hL' : 2000 ≤ L')
    (hSB : FR [] [] S0 SB) (H : HY D K [b] [n] SB (w, t, al, m, N, nu, tn) p p 0 0) (hN : SB.2.2.2.2.1 = N) (hb1 : b1 ∉ SB.2.2.1.take SB.2.2.2.1) (hbB : b ∈ SB.2.2.1.take SB.2.2.2.1 ∧ SB.2.2.2.2.2.1 b = none) (hO : OWc (w, t, al, m, N, nu, tn) b fi (up_ fp 4 (some b1))) (hO1 : OWl (w, t, al, m, N, nu, tn) b1 fi1 (ndP (some (D.1.1.1 13)))) (hnm : nmr D (fi1 9) v) (h12 : fi1 12 = 0) (h12b : fi1 2 = i_ (kln K p0)) (hT : OWt (w, t, al, m, N, nu, tn) n ft)
    (hb : b ∉ S0.2.2.1.take S0.2.2.2.1) (hn : S0.2.2.2.2.1 ≤ n ∧ n < 14000) (hSY : SY D K SB q q 0 0) (hDS : DS D (vw SB.1 SB.2.1) SB.2.2.2.2.2.2 SB.2.2.2.2.2.1 (oE K (kln K p0) 0 p0 p) y ks c fi fp ft ∧ ¬ SB.2.2.2.2.2.2 n) (hfi : fi 2 = i_ (kln K p0) ∧ fi 12 = 0 ∧ fp 7 = none ∧ fp 0 = some (D.1.1.1 ks)) (hft : ft 26 = i_ y ∧ ft 27 = i_ (kln K p0) ∧ ft 32 = -1) (hln : kln K p = kln K p0) (hlm : kln K (p - 1) = kln K p0) (hpp : p0 < p) (hg : K.length ≤ p + g) (hmN : m ≤ 4 * p + 8 ∧ N ≤ 4 * p + 8) (hbd : m + 4 * p0 ≤ S0.2.2.2.1 + 4 * p + 4 ∧ N + 4 * p0 ≤ S0.2.2.2.2.1 + 4 * p + 4) (hmB : m ≤ SB.2.2.2.1 + 1) :
    PS (fun Q => zw D.1 L3 kt_M207 [.ref (w_adr D.1.2.1 4 0), va_rf (some b), va_rf (some b1)] w (wk0 (C Q) (fun e w => Q (.inr e) w))) (fun Q => zw E' (L' - 24) kt_M451 [.ref (w_adr E'.2.1 12 0), .int (i_ n), .int v] t (wk0 (Ct Q) (fun e w => Q (.inr e) w))) (PRd D K d [] [] S0 p0 0 true true 0 (GPs 1 3 D K S0 p0)) := by
  have hpl := H.1.ta.lt
  have hal := H.alive
  have hnN : n < N := hT.1.1
  have hbb1 : b ≠ b1 := fun e => hb1 (by rw [← e]; exact hbB.1)
  have hΦ : STL D K d SB true 0 (PRd D K d [] [] S0 p0 0 true true 0 (GPs 1 3 D K S0 p0)) := STL.of.up hSB
  refine PS_of (fun Q h => zt_X5_rest_p0 (by omega) h) (fun Q h => zt_X13_items_p0 (by omega) h) ?_
  simp only [zb_X5_rest_p0, zb_X13_items_p0]
  refine PS_rand (by rw [H.1.tl.2.1]; exact i_inb' (by omega) (by omega)) ?_
  have r27 : w_a t 12 0 27 n = i_ (kln K p0) := (hT.2 27 rfl).trans hft.2.1
  simp only [i_nat' (show n < 2147483648 by omega), r27]
  refine PS_r1 (fun Q hq => t_node (by omega) H.kt H.tN (by omega) hq) ?_
  simp only [i_nat' (show N < 2147483648 by omega)]
  have W1 := H.cd (v := w_i w 4 0 5 + 1) rfl
  have hcz : (cb SB 1).2.2.2.2.1 = SB.2.2.2.2.1 ∧ (cb SB 1).2.2.2.1 = SB.2.2.2.1 := ⟨rfl, rfl⟩
  have H1 := W1.tnd (x := 39) (l := i_ (kln K p0))
  have T1 : OWt (ws_i w 4 0 5 (w_i w 4 0 5 + 1), nd3 t N 39 (i_ (kln K p0)), al, m, N + 1, nu, tn) N _ := OWt.new (x := 39) (l := i_ (kln K p0)) W1
  refine PS_rand (by rw [H1.1.tl.2.2.2.2.1]; exact i_inb' (by omega) (by omega)) ?_
  refine PS_rand (by rw [H1.1.tl.2.2.2.1]; exact i_inb' (by omega) (by omega)) ?_
  have H1a := H1.ta (k := 30) (n := N) (v := v) rfl T1.1.2 (fun h => absurd h (by omega))
  have H2 := H1a.ta (k := 29) (n := n) (v := i_ N) rfl hT.1.2 (fun _ => List.mem_singleton_self n)
  -- the two that are being filled
  have H0 : HY D K [] [] (w, t, al, m, N, nu, tn) (w, t, al, m, N, nu, tn) p p 0 0 := ⟨H.1, FR.rf H.1.mle⟩
  have F0 := (((H0.cd (v := w_i w 4 0 5 + 1) rfl).tnd (x := 39) (l := i_ (kln K p0))).ta (k := 30) (n := N) (v := v) rfl T1.1.2 (fun h => absurd h (Nat.lt_irrefl N))).2
  have T2 := (hT.fr F0 List.not_mem_nil).si (k := 29) (v := i_ N)
  have O2 : OWc (ws_i w 4 0 5 (w_i w 4 0 5 + 1), ws_a (ws_a (nd3 t N 39 (i_ (kln K p0))) 12 0 30 N v) 12 0 29 n (i_ N), al, m, N + 1, nu, tn) b fi (up_ fp 4 (some b1)) := hO.w4 (k := 4) (j := 5) (v := w_i w 4 0 5 + 1) (.inl (by decide))
  have O2n : OWl (ws_i w 4 0 5 (w_i w 4 0 5 + 1), ws_a (ws_a (nd3 t N 39 (i_ (kln K p0))) 12 0 30 N v) 12 0 29 n (i_ N), al, m, N + 1, nu, tn) b1 fi1 (ndP (some (D.1.1.1 13))) := hO1.w4 (k := 4) (j := 5) (v := w_i w 4 0 5 + 1) (.inl (by decide))
  have Ha : HY D K [] [n] _ (ws_i w 4 0 5 (w_i w 4 0 5 + 1), ws_a (nd3 t N 39 (i_ (kln K p0))) 12 0 30 N v, al, m, N + 1, nu, tn) p p 0 0 := ⟨H1a.1, FR.rf H1a.1.mle⟩
  have Fa := (Ha.ta (k := 29) (n := n) (v := i_ N) rfl hT.1.2 (fun _ => List.mem_singleton_self n)).2
  have T2n := (T1.si (k := 30) (v := v)).fr (hR := FR.rr) Fa (fun h => by have := List.mem_singleton.mp h; omega)
  have hPI : PND D _ N _ (oE K (kln K p0) 39 (p - 1) p) b1 N 1 := PND.mk1 (kd := 39) O2n T2n (Nat.le_refl N) (by omega) (LFz.k39 O2n T2n h12b rfl ⟨rfl, rfl, hnm⟩ (by show i_ (kln K p0) = i_ (kln K (p - 1)); rw [hlm])) h12 (fun l e => by cases e; rfl)
  have hXI := NXo.mk1 O2n T2n rfl rfl
  have hQ : LQ is39 D (ws_i w 4 0 5 (w_i w 4 0 5 + 1), ws_a (ws_a (nd3 t N 39 (i_ (kln K p0))) 12 0 30 N v) 12 0 29 n (i_ N), al, m, N + 1, nu, tn) N (N + 1) (oE K (kln K p0) 39 (p - 1) p) (some b1) (i_ N) (some b1) (i_ N) none 1 := .inr ⟨b1, N, 0, 1, ⟨rfl, rfl, ⟨b1, rfl⟩, rfl⟩, ⟨0, [], ⟨p - 1, ⟨Nat.le_refl _, Nat.sub_le _ _⟩, ⟨rfl, rfl⟩, hPI⟩, rfl, fun q h => absurd h List.not_mem_nil⟩, hPI, hXI, T2n.2 26 rfl⟩
  have hSBm : SB.2.2.2.1 ≤ m := H.2.2.1.2.1
  refine PSg_items (sN := p - 1) (ft := up_ ft 29 (i_ N)) (fp := up_ fp 4 (some b1)) (fi := fi) (p0 := p0) (pB := p) (bP := b) (nP := n) (lo := N) hΦ (by omega) (by omega) ⟨by omega, hn.2⟩ hbB hft.2.1 (by omega) (Nat.sub_le _ _) (fun w2 t2 al2 m2 N2 nu2 tn2 p2 b2 nl2 dd2 hi2 H3 hQ3 O3 T3 hhi3 hb3 hln3 hpp3 hmN3 hbd3 => ?_) g _ _ al m (N + 1) nu tn p b1 (i_ N) 1 (N + 1) hg H2 hQ O2 T2 (Nat.le_refl _) hb1 hln ⟨Nat.le_refl _, by omega⟩ ⟨by omega, by omega⟩ ⟨by omega, by omega⟩
  have hpl3 := H3.1.ta.lt
  have hcz2 : (cb SB dd2).2.2.2.2.1 = SB.2.2.2.2.1 ∧ (cb SB dd2).2.2.2.1 = SB.2.2.2.1 := ⟨rfl, rfl⟩
  obtain ⟨nu', tn', k0, HD, ⟨l, hl, hdl, hlne, hl39⟩, hnu⟩ := hQ3.done H3 (fun a e => by cases e; exact hb3) (by omega)
  have O4 : OWc (w2, t2, al2, m2, N2, nu', tn') b fi (up_ fp 4 (some b1)) := ⟨⟨O3.1.1, HD.nuP hbB⟩, O3.2⟩
  have T4 : OWt (w2, t2, al2, m2, N2, nu', tn') n (up_ ft 29 (i_ N)) := ⟨⟨T3.1.1, fun e => (hnu.2.2 n e).elim T3.1.2 (fun h => by omega)⟩, T3.2⟩
  have hvf := VWa.fr hSY H3.2 (fun a h => by rw [List.mem_singleton.mp h]; exact hbB.2) (fun y h => by rw [List.mem_singleton.mp h]; exact hDS.2)
  have hD4 := (hDS.1.up hvf H3.2.2.2.2.2.1.1 H3.2.2.2.2.2.1.2.1 (Nat.le_refl _)).up (V' := vw w2 t2) ⟨fun _ _ => ⟨rfl, rfl⟩, fun _ _ _ _ => rfl, rfl⟩ hnu.1 hnu.2.1 (Nat.le_refl _)
  have hl4 := LPz.up (k' := 0) (V' := vw w2 t2) ⟨fun _ _ => ⟨rfl, rfl⟩, fun _ _ _ _ => rfl, rfl⟩ (fun _ _ h => h) (fun _ h => h) (Nat.le_refl _) hl
  have hLN : LNz (vw w2 t2) tn' nu' (p2 + 1 - p0 - 1) (some (ft 27), 39, p2 + 1 - p0 - 1, kln K, p0, p2 + 1) dd2 (some b1) (i_ N) := ⟨l, by rw [hft.2.1]; exact LPz.wk' hl4, hlne (by simp), hdl, hl39⟩
  have hD5 : (fp 3 = none ∧ ft 28 = -1 ∧ ft 34 = i_ c) ∨ (ECz (vw w2 t2) tn' nu' (p2 + 1 - p0 - 1) (some (ft 27), 0, p2 + 1 - p0 - 1, kln K, p0, p2 + 1) 0 (fp 3) (ft 28) ∧ ft 34 = i_ (c + 1 : Nat)) := hD4.2.elim .inl (fun h => .inr ⟨by rw [hft.2.1]; exact h.1.wk, h.2⟩)
  have hy : 30 ≤ y ∧ y ≤ 32 := by rcases hDS.1.1 with ⟨e, -⟩ | ⟨e, -⟩ | ⟨e, -⟩ <;> omega
  have hH4 : HY D K [] [] (cb S0 dd2) (w2, t2, al2, m2, N2, nu', tn') p2 p2 0 0 := ⟨HD.1, hSB.trc HD.2 (fun a h h2 => absurd h2 (by rw [List.mem_singleton.mp h]; exact hb)) (fun n' h h2 => absurd h2 (by rw [List.mem_singleton.mp h]; omega))⟩
  have hF : LFz D (vw w2 t2) tn' (fun x => x ∈ [n]) nu' (p2 + 1 - p0 - 1, kln K, p0, p2 + 1) dd2 b n := by
    have h2 : fi 2 = up_ ft 29 (i_ N) 27 := hfi.1.trans hft.2.1.symm
    rcases hD4.1 with ⟨e1, e2, e3, h3, h4⟩ | ⟨e1, e2, e3, h3, h4⟩ | ⟨e1, e2, e3, h3, h4⟩
    · subst e1 e2 e3
      exact LFz.k30 O4 T4 h2 hft.1 ⟨hfi.2.2.2, h3, h4.2, hD5, hLN⟩ hft.2.1
    · subst e1 e2 e3
      exact LFz.k31 O4 T4 h2 hft.1 ⟨hfi.2.2.2, h3, h4, hD5, hLN⟩ hft.2.1
    · subst e1 e2 e3
      rcases hD5 with h5 | ⟨⟨q', n', h5, -⟩, -⟩
      · exact LFz.k32 O4 T4 h2 hft.1 ⟨hfi.2.2.2, h4.2, h3, h5.1, h5.2.1, h5.2.2, hLN⟩ hft.2.1
      · rw [h4.1] at h5; cases h5
  refine PS_l (fun Q h => hC Q _ h) ?_
  exact p_dend hCt (by omega) (by omega) (by omega) (by omega) hH4 (PND.mk1 (kd := y) O4 T4 hn.1 hn.2 hF hfi.2.1 (fun l e => by cases e) hft.1) (NXT.mk1 O4 T4 hfi.2.2.1 hft.2.2) hb (by omega) (by omega) ⟨by omega, by omega⟩
theorem p_nit {C Ct : (kx_Rs → wS → Prop) → wS → Prop} {v : Int32} (hC : ∀ Q w, zb_X5_declaration_p219 D.1 L Q (some b) w → C Q w) (hCt : ∀ Q w, Q (.inl (some (.int (i_ n)))) w → Ct Q w) (hL : 2000 ≤ L) (hL' : 2000 ≤ L')
    (hSB : FR [] [] S0 SB) (H : HY D K [b] [n] SB (w, t, al, m, N, nu, tn) p p 0 0) (hN : SB.2.2.2.2.1 = N) (hb1 : b1 ∉ SB.2.2.1.take SB.2.2.2.1) (hbB : b ∈ SB.2.2.1.take SB.2.2.2.1 ∧ SB.2.2.2.2.2.1 b = none) (hO : OWc (w, t, al, m, N, nu, tn) b fi fp) (hO1 : OWc (w, t, al, m, N, nu, tn) b1 fi1 (ndP (some (D.1.1.1 13)))) (hnm : nmr D (fi1 9) v) (h12 : fi1 12 = 0) (h12b : fi1 2 = i_ (kln K p0)) (hT : OWt (w, t, al, m, N, nu, tn) n ft)
    (hb : b ∉ S0.2.2.1.take S0.2.2.2.1) (hn : S0.2.2.2.2.1 ≤ n ∧ n < 14000) (hSY : SY D K SB q q 0 0) (hDS : DS D (vw SB.1 SB.2.1) SB.2.2.2.2.2.2 SB.2.2.2.2.2.1 (oE K (kln K p0) 0 p0 p) y ks c fi fp ft ∧ ¬ SB.2.2.2.2.2.2 n) (hfi : fi 2 = i_ (kln K p0) ∧ fi 12 = 0 ∧ fp 7 = none ∧ fp 0 = some (D.1.1.1 ks)) (hft : ft 26 = i_ y ∧ ft 27 = i_ (kln K p0) ∧ ft 32 = -1) (hln : kln K p = kln K p0) (hlm : kln K (p - 1) = kln K p0) (hpp : p0 < p) (hg : K.length ≤ p + g) (hmN : m ≤ 4 * p + 8 ∧ N ≤ 4 * p + 8) (hbd : m + 4 * p0 ≤ S0.2.2.2.1 + 4 * p + 4 ∧ N + 4 * p0 ≤ S0.2.2.2.2.1 + 4 * p + 4) (hmB : m ≤ SB.2.2.2.1 + 1) :
    PS (fun Q => zw D.1 (L - 23 - 23) kt_M207 [.ref (w_adr D.1.2.1 4 0), va_rf (some b), va_rf (some b1)] (ws_p w 14 b 4 (some b1)) (wk0 (C Q) (fun e w => Q (.inr e) w))) (fun Q => zw E' (L' - 24) kt_M451 [.ref (w_adr E'.2.1 12 0), .int (i_ n), .int v] t (wk0 (Ct Q) (fun e w => Q (.inr e) w))) (PRd D K d [] [] S0 p0 0 true true 0 (GPs 1 3 D K S0 p0)) := by
  have hbb1 : b ≠ b1 := fun e => hb1 (by rw [← e]; exact hbB.1)
  exact p_nit0 (L3 := L - 23 - 23) (by omega) (fp := fp) (g := g) hC hCt hL hL' hSB (H.wp (k := 4) (v := some b1) hO.1.2 (fun _ => List.mem_singleton_self b) (LKO.mk hO1.1.1.1 (hO1.1.1.2 rfl) hb1)) hN hb1 hbB (hO.sp (k := 4) (v := some b1)) (hO1.wk.op (b := b) (k := 4) (v := some b1) (fun e => hbb1 e.symm)) hnm h12 h12b hT hb hn hSY hDS hfi hft hln hlm hpp hg hmN hbd hmB
/-- an abbreviation -/
theorem p_abb {C : (kx_Rs → wS → Prop) → wS → Prop} {A2 : (kx_Rs → wS → Prop) → Int32 → wS → Prop} {v : Int32} {L0 : Nat} (hC : ∀ Q w, zb_X5_declaration_p219 D.1 L0 Q (some b) w → C Q w) (hA2 : ∀ Q w, Q (.inl (some (.int (i_ n)))) w → A2 Q (i_ n) w) (hL0 : 500 ≤ L0) (hL : lex 0 + 100 ≤ L) (hL' : lex 0 + 100 ≤ L')
    (H : HY D K [] [] S0 (w, t, al, m, N, nu, tn) p p 0 0) (hO : OWc (w, t, al, m, N, nu, tn) b fi fp) (hO1 : OWc (w, t, al, m, N, nu, tn) b1 fi1 fp1) (hbb1 : b ≠ b1) (hnm : nmr D (fi1 9) v) (hT : OWt (w, t, al, m, N, nu, tn) n ft)
    (hb : b ∉ S0.2.2.1.take S0.2.2.2.1) (hn : S0.2.2.2.2.1 ≤ n ∧ n < 14000) (hKS : KSP D (vw w t) nu (fi 8) (fp 5) (fi 13) (fi 14) 0 (ft 33) (ft 34)) (hfi : fi 2 = i_ (kln K p0) ∧ fi 12 = 0 ∧ fp 7 = none) (hft : ft 27 = i_ (kln K p0) ∧ ft 32 = -1) (hln : kln K p = kln K p0) (hpp : p0 ≤ p) (hmN : m ≤ 4 * p + 9 ∧ N ≤ 4 * p + 9) (hbd : m + 4 * p0 ≤ S0.2.2.2.1 + 4 * p + 4 ∧ N + 4 * p0 ≤ S0.2.2.2.2.1 + 4 * p + 4) :
    PS (fun Q => zb_X5_names_p60 D.1 L (wk0 (C Q) (fun e w => Q (.inr e) w)) (some b) (some b1) w) (fun Q => zw E' L' kt_M339 [.ref (w_adr E'.2.1 12 0), .int (i_ n), .int v] t (wk1 (fun v16 w15 => wle t w15 → A2 Q v16 w15) (fun e w => Q (.inr e) w))) (PRd D K d [] [] S0 p0 0 true true 0 (GPs 1 3 D K S0 p0)) := by
  have IH := (p_OE (D := D) (K := K) (E' := E') K.length).2
  have hle : lex 0 ≤ L - 22 + 150 := by omega
  have hle' : lex 0 ≤ L' - 23 + 150 := by omega
  have hL9 : 2000 ≤ L := by unfold lex at hL; omega
  have hL9' : 2000 ≤ L' := by unfold lex at hL'; omega
  have hcz : (cb S0 1).2.2.2.2.1 = S0.2.2.2.2.1 ∧ (cb S0 1).2.2.2.1 = S0.2.2.2.1 := ⟨rfl, rfl⟩
  have hpl := H.1.ta.lt
  have hal := H.alive
  have hnN : n < N := hT.1.1
  have hSN : S0.2.2.2.2.1 ≤ N := H.2.2.1.2.2.1
  refine PS_r (fun Q h => zt_X13_abbreviation_p0 (by omega) h) ?_
  simp only [zb_X5_names_p60, zb_X13_abbreviation_p0, i_nat' (show n < 2147483648 by omega)]
  refine PS_rand (by rw [H.1.tl.1]; exact i_inb' (by omega) (by omega)) (PS_rand (by rw [H.1.tl.2.2.2.2.1]; exact i_inb' (by omega) (by omega)) ?_)
  have H1 := (H.ta (k := 26) (n := n) (v := 34) rfl hT.1.2 (fun h => absurd h (by omega))).ta (k := 30) (n := n) (v := v) rfl hT.1.2 (fun h => absurd h (by omega))
  have T1 := (hT.si (k := 26) (v := 34)).si (k := 30) (v := v)
  refine PSd_exw (c := 13) (v := 13) (by omega) (by omega) (by omega) H1 rfl (by unfold wcd; omega) rfl (fun h13 H2 => ?_) (fun w' hd => dd_elem hd (by omega))
  have hp1 := H1.p1 (by omega)
  have hln1 := H1.1.ln hp1 (by omega)
  have O2 : OWc (nx w p, nx3 (ws_a (ws_a t 12 0 26 n 34) 12 0 30 n v) p, al, m, N, nu, tn) b _ _ := hO.w4 (j := 3) (v := i_ (p + 1 : Nat)) (.inl (by decide))
  have O2n : OWc (nx w p, nx3 (ws_a (ws_a t 12 0 26 n 34) 12 0 30 n v) p, al, m, N, nu, tn) b1 _ _ := hO1.w4 (j := 3) (v := i_ (p + 1 : Nat)) (.inl (by decide))
  have T2 : OWt (nx w p, nx3 (ws_a (ws_a t 12 0 26 n 34) 12 0 30 n v) p, al, m, N, nu, tn) n _ := T1
  refine PS_lex b rfl (PS_land (O2.wl H2.1) ?_)
  have H3 := H2.wp (k := 0) (v := some (D.1.1.1 25)) O2.1.2 (fun e => absurd e hb)
  have O3 := O2.sp (k := 0) (v := some (D.1.1.1 25))
  have O3n := O2n.op (b := b) (k := 0) (v := some (D.1.1.1 25)) (fun e => hbb1 e.symm)
  refine PS_lex b1 rfl (PS_land (O3n.wl H3.1) ?_)
  have r9 : w_i (nx w p) 14 b1 9 = fi1 9 := O2n.2.1 9 rfl
  rw [r9]
  have H4 := H3.wi (k := 9) (v := fi1 9) O3.1.2 (fun e => absurd e hb)
  have O4 := O3.si (k := 9) (v := fi1 9)
  have T4 : OWt (ws_i (ws_p (nx w p) 14 b 0 (some (D.1.1.1 25))) 14 b 9 (fi1 9), nx3 (ws_a (ws_a t 12 0 26 n 34) 12 0 30 n v) p, al, m, N, nu, tn) n _ := T2
  have hv4 : VWa (vw w t) (vw (ws_i (ws_p (nx w p) 14 b 0 (some (D.1.1.1 25))) 14 b 9 (fi1 9)) (nx3 (ws_a (ws_a t 12 0 26 n 34) 12 0 30 n v) p)) tn nu := by
    refine VWa.mk (b := b) (n := n) (fun a ha k => ⟨?_, ?_⟩) (fun y hy k => ?_) rfl hO.1.2 hT.1.2
    · rw [Rii, if_neg (fun z => ha z.2.2)]
      show w_i (nx w p) 14 a k = _
      rw [nx_14]
    · show w_p (ws_p (nx w p) 14 b 0 (some (D.1.1.1 25))) 14 a k = _
      rw [Rpp, if_neg (fun z => ha z.2.2)]
      rfl
    · show w_a (ws_a (ws_a t 12 0 26 n 34) 12 0 30 n v) 12 0 k y = _
      rw [Raa, if_neg (fun z => hy z.2.2.2), Raa, if_neg (fun z => hy z.2.2.2)]
  refine PRd_c11 H.1.krg H4.2 (p_element IH (L := L - 22) (L' := L' - 23) hle hle' H4.1 (by omega) ⟨by omega, by omega⟩) (fun a h => absurd h List.not_mem_nil) (fun a h => absurd h List.not_mem_nil) (fun x v' w6 t6 al6 m6 N6 nu6 tn6 p6 hl6 H6 HS6 hbd6 hgx => ?_) (fun v' w6 t6 hv hv2 hd => ?_)
  · obtain ⟨b2, n2, rfl, rfl, hP6, hX6, hb2, hln6, hkd⟩ := hgx
    have hpl6 := H6.1.ta.lt
    have O6 := O4.fr HS6.2 List.not_mem_nil
    have T6 := T4.fr HS6.2 List.not_mem_nil
    have hvf := VWa.fr H4.1 HS6.2 (fun _ h => absurd h List.not_mem_nil) (fun _ h => absurd h List.not_mem_nil)
    have hK6 := (hKS.up hv4 (fun _ _ h => h)).up hvf HS6.2.2.2.2.2.1.1
    have hn2 := hP6.lt
    have hn2N : N ≤ n2 := hn2.2.1
    obtain ⟨x7, tn7, r7, H7, hC7, hm3, hm4, hn7⟩ := H6.fin hP6 (fun e => hb2 (H4.2.sub e)) hSN
    have hbb2 : b ≠ b2 := fun e => hb2 (by rw [← e]; exact O4.1.1.1)
    have O7 := O6.fin (x := x7) (tn' := tn7) hbb2
    have T7 := T6.fin (nu' := nuU nu6 b2 x7) hm4 (.inl hnN)
    have hvs : VWa (vw w6 t6) (vw w6 t6) tn6 nu6 := ⟨fun _ _ => ⟨rfl, rfl⟩, fun _ _ _ _ => rfl, rfl⟩
    have hK7 := hK6.up hvs (nle_nuU (x := x7) hn7)
    refine PS_rand (by rw [H7.1.tl.2.2.1]; exact i_inb' (by omega) (by omega)) ?_
    have H8 := ((H7.wp (k := 3) (v := some b2) O7.1.2 (fun e => absurd e hb) (LKO.mk hP6.bm.1 hX6.2.2 (fun e => hb2 (H4.2.sub e)))).cd (v := w_i w6 4 0 5 + 1) rfl).ta (k := 28) (n := n) (v := i_ n2) rfl T7.1.2 (fun h => absurd h (by omega))
    have O8 : OWc (ws_i (ws_p w6 14 b 3 (some b2)) 4 0 5 (w_i w6 4 0 5 + 1), ws_a t6 12 0 28 n (i_ n2), al6, m6, N6, nuU nu6 b2 x7, tn7) b _ _ := (O7.sp (k := 3) (v := some b2)).w4 (k := 4) (j := 5) (v := w_i w6 4 0 5 + 1) (.inl (by decide))
    have T8 : OWt (ws_i (ws_p w6 14 b 3 (some b2)) 4 0 5 (w_i w6 4 0 5 + 1), ws_a t6 12 0 28 n (i_ n2), al6, m6, N6, nuU nu6 b2 x7, tn7) n _ := T7.si (k := 28) (v := i_ n2)
    have hv8 : VWa (vw w6 t6) (vw (ws_i (ws_p w6 14 b 3 (some b2)) 4 0 5 (w_i w6 4 0 5 + 1)) (ws_a t6 12 0 28 n (i_ n2))) tn7 (nuU nu6 b2 x7) := by
      refine VWa.mk (b := b) (n := n) (fun a ha k => ⟨?_, ?_⟩) (fun y hy k => ?_) rfl O7.1.2 T7.1.2
      · rw [Rii, if_neg (fun z => absurd z.2.1 (by decide))]
        rfl
      · show w_p (ws_p w6 14 b 3 (some b2)) 14 a k = _
        rw [Rpp, if_neg (fun z => ha z.2.2)]
      · rw [Raa, if_neg (fun z => hy z.2.2.2)]
    have hK8 := hK7.up hv8 (fun _ _ h => h)
    rw [hln1, hln] at hC7
    have h26 : w_a (ws_a t6 12 0 28 n (i_ n2)) 12 0 26 n2 = 60 := by
      rw [Raa, if_neg (fun z => by simp at z)]
      exact hkd
    have hEE : EEz (vw (ws_i (ws_p w6 14 b 3 (some b2)) 4 0 5 (w_i w6 4 0 5 + 1)) (ws_a t6 12 0 28 n (i_ n2))) tn7 (nuU nu6 b2 x7) (p6 + 1 - p0 - 1) (some (ft 27), 0, p6 + 1 - p0 - 1, kln K, p0, p6 + 1) (some b2) (i_ n2) := ⟨b2, n2, rfl, rfl, by rw [hft.1]; exact hC7.up hv8 (fun _ _ h => h) (fun _ h => h) (Nat.le_refl _), h26⟩
    refine PS_l (fun Q h => hC Q _ h) ?_
    exact p_dend (fun Q w h => fun _ => hA2 Q w h) hL0 (by omega) (by omega) (by omega) H8 (PND.mk1 (kd := 34) O8 T8 hn.1 hn.2 (LFz.k34 O8 T8 (hfi.1.trans hft.1.symm) rfl ⟨rfl, rfl, hnm, hEE, hK8⟩ hft.1) hfi.2.1 (fun l e => by cases e)) (NXT.mk1 O8 T8 hfi.2.2 hft.2) hb (by omega) (by omega) ⟨by omega, by omega⟩
  · refine eS_and (by rw [hd.2.2.tl.2.2.1]; exact i_inb' (by omega) (by omega)) ?_
    exact dd_want (v := 46) (hd.ta rfl) (by omega) rfl (by omega)
end DC2
