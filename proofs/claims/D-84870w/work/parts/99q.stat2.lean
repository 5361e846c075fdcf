/-! ===== PARSERS, part 17: actions that begin with a name ===== -/
/-- an action whose node is there, at the next line -/
def GB (D : pD) (K : pK) (S : pS) (p b : Nat) : pGd := fun cz _ v S2 p2 => ∃ n dd : Nat, v = i_ n ∧ PND D S2 S.2.2.2.2.1 S2.2.2.2.2.1 (oA K p p2) b n dd ∧ NXT S2 b n ∧ kk K (p2 - 1) = 74 ∧ (S2.2.2.2.1 + 4 * p + 3 ≤ S.2.2.2.1 + 4 * p2 ∧ S2.2.2.2.2.1 + 4 * p + 3 ≤ S.2.2.2.2.1 + 4 * p2) ∧ (dd + p ≤ p2 ∧ dd = cz)
section ST3
variable {ex et : List Nat} {S S' S0 : pS} {D : pD} {K : pK} {p p0 q o o' oA dl m N n n2 b b2 lo hi lo2 hi2 r d d2 dd g : Nat} {w t w' : wS} {al : List Nat} {nu : pNz} {tn : Nat → Prop} {E E' : zE} {L L' : Nat} {ol : pOL} {f : Option Nat} {fT : Int32} {Q : kx_Rs → wS → Prop} {fi : Nat → Int32} {fp : Nat → Option Nat} {ft : Nat → Int32}
/-- X ( .. ) -/
theorem p_call {G : Nat} (IH : EXq D K E' G) (hL : lex 0 + 200 ≤ L) (hL' : lex 0 + 200 ≤ L') (hS : SY D K (w, t, al, m, N, nu, tn) p p 0 0) (hg : K.length ≤ p + G) (hB : m ≤ 4 * p + 8 ∧ N ≤ 4 * p + 8) (h70 : kk K p = 70) (h40 : kk K (p + 1) = 40) (hO : OWc (w, t, al, m, N, nu, tn) b fi fp) (f7 : fp 7 = none) (i2 : fi 2 = i_ (kln K p)) (i12 : fi 12 = 0) {x2 l : Int32} (hl : l = i_ (kln K p)) :
    PW w t (fun Q => zw D.1 L kt_M167 [.ref (w_adr D.1.2.1 4 0), va_rf (some b), .int x2] w Q) (fun Q => zw E' L' kt_M362 [.ref (w_adr E'.2.1 12 0), .int l] t Q) (PRd D K dl [b] [] (w, t, al, m, N, nu, tn) p 0 false true 0 (GB D K (w, t, al, m, N, nu, tn) p b)) := by
  subst hl
  have hlx := hL
  have hlx' := hL'
  unfold lex at hlx hlx'
  have hpl := hS.ta.lt
  have H : HY D K [b] [] (w, t, al, m, N, nu, tn) (w, t, al, m, N, nu, tn) p p 0 0 := ⟨hS, FR.rf hS.mle⟩
  have hal := H.alive
  have hnm := hS.nm h70
  have hp1 := H.p1 (by omega)
  have hln1 := H.1.ln hp1 (by omega)
  refine PW_of' (fun Q h => zt_X5_byName_p0 (by omega) h) (fun Q h => zt_X13_call_p0 (by omega) h) ?_
  simp only [zb_X5_byName_p0, zb_X13_call_p0]
  refine PS_l1 (fun Q hq => c_line (by omega) hS.ca hq) ?_
  refine PSd_nml (by omega) H h70 (fun H1 => ?_) (fun w' hd h76 => by omega)
  refine PS_l1 (fun Q hq => c_is (c := 36) (v := 40) (by omega) H1.1.ca rfl (by unfold wcd; omega) hq) (PS_ln (by rw [decide_eq_true h40]; decide) ?_)
  have O1 : OWc (nx w p, t, al, m, N, nu, tn) b fi fp := hO.w4 (.inl (by decide))
  refine PS_lex b rfl (PS_land (O1.wl H1.1) ?_)
  have H2 := (H1.wp (k := 0) (v := some (D.1.1.1 35)) O1.1.2 (fun _ => List.mem_singleton_self b)).wi (k := 9) (v := w_a w 1 0 3 p) O1.1.2 (fun _ => List.mem_singleton_self b)
  have O2 := (O1.sp (k := 0) (v := some (D.1.1.1 35))).si (k := 9) (v := w_a w 1 0 3 p)
  refine PS_r1 (fun Q hq => t_node (by omega) H2.kt H2.tN (by omega) hq) ?_
  simp only [i_nat' (show N < 2147483648 by omega)]
  have H3 := H2.tnd (x := 9) (l := i_ (kln K p))
  have T3 := OWt.new (x := 9) (l := i_ (kln K p)) H2
  refine PS_r1 (fun Q hq => t_wantName (by omega) H3.1.ta H3.1.krg (fun _ => hq) (fun e => absurd h70 e)) ?_
  have H4 := H3.tnx (by omega) hal
  have hv8 : w_a (nd3 t N 9 (i_ (kln K p))) 12 0 8 p = w_a t 12 0 8 p := TX_nd3.a rfl
  rw [hv8]
  refine PS_rand (by rw [H4.1.tl.2.2.2.2.1]; exact i_inb' (by omega) (by omega)) ?_
  have H5 := H4.ta (k := 30) (n := N) (v := w_a t 12 0 8 p) rfl T3.1.2 (fun h => absurd h (Nat.lt_irrefl _))
  have T5 : OWt (ws_i (ws_p (nx w p) 14 b 0 (some (D.1.1.1 35))) 14 b 9 (w_a w 1 0 3 p), ws_a (nx3 (nd3 t N 9 (i_ (kln K p))) p) 12 0 30 N (w_a t 12 0 8 p), al, m, N + 1, nu, tn) N _ := T3.si (k := 30) (v := w_a t 12 0 8 p)
  have O5 : OWc (ws_i (ws_p (nx w p) 14 b 0 (some (D.1.1.1 35))) 14 b 9 (w_a w 1 0 3 p), ws_a (nx3 (nd3 t N 9 (i_ (kln K p))) p) 12 0 30 N (w_a t 12 0 8 p), al, m, N + 1, nu, tn) b _ _ := O2
  refine PRd_c11 H.1.krg H5.2 (p_arguments IH (L := L - 21) (L' := L' - 21) (by omega) (by omega) H5.1 (by omega) ⟨by omega, by omega⟩ (by omega) (by omega)) (fun a h => absurd h List.not_mem_nil) (fun a h => absurd h List.not_mem_nil) (fun x v w2 t2 al2 m2 N2 nu2 tn2 p2 hl H6 HS hbd hgx => ?_) (fun v w2 t2 hv hv2 hd => ?_)
  · obtain ⟨⟨k, hs⟩, hln2, hhd⟩ := hgx
    rw [hln1] at hs
    have hpl2 := H6.1.ta.lt
    have O6 := O5.fr HS.2 List.not_mem_nil
    have T6 := T5.fr HS.2 List.not_mem_nil
    have H7 := H6.wp (k := 4) (v := x) O6.1.2 (fun _ => List.mem_singleton_self b) (LKO.op (hhd.up (fun _ e => H5.2.sub e)))
    have O7 := O6.sp (k := 4) (v := x) (.inr (.inr (fun e => (hhd _ e).2.2 O5.1.1.1)))
    refine PS_rand (by rw [H7.1.tl.2.2.1]; exact i_inb' (by omega) (by omega)) ?_
    have H8 := H7.ta (k := 28) (n := N) (v := v) rfl T6.1.2 (fun h => absurd h (Nat.lt_irrefl _))
    have T8 := T6.si (k := 28) (v := v)
    refine PSd_elw (by omega) (by omega) (by omega) H8 (fun e74 H9 => ?_) (fun w' hd => ?_)
    · have OE : OWc (nx (ws_p w2 14 b 4 x) p2, nx3 (ws_a t2 12 0 28 N v) p2, al2, m2, N2, nu2, tn2) b _ _ := O7.w4 (j := 3) (v := i_ (p2 + 1 : Nat)) (.inl (by decide))
      have TE : OWt (nx (ws_p w2 14 b 4 x) p2, nx3 (ws_a t2 12 0 28 N v) p2, al2, m2, N2, nu2, tn2) N _ := T8
      refine PS_ret (.inr ⟨none, i_ N, al2, m2, N2, nu2, tn2, p2 + 1, 0, rfl, rfl, H9.c0, ⟨by omega, by show m2 + _ ≤ m + _; omega, by show N2 + _ ≤ N + _; omega⟩, N, 0, rfl, PND.mk1 (kd := 9) OE TE (Nat.le_refl _) (by omega) (LFz.k9 OE TE i2 rfl ⟨rfl, rfl, hnm, ?_⟩) i12 (fun l e => by cases e), NXT.mk1 OE TE f7 rfl, e74, ⟨by show m2 + _ + 3 ≤ m + _; omega, by show N2 + _ + 3 ≤ N + _; omega⟩, by omega⟩)
      refine hs.up (VWa.mk (b := b) (n := N) ?_ ?_ ?_ O6.1.2 T6.1.2) (fun _ _ h => h) (fun _ h => h) (Nat.le_refl _)
      · exact (fun a h k => by simp only [nx, Rii, Rgi, Rpi, Rai, Rbi, Rri, Rni, Rdi, Roi, Rti, Rzi, RCi, RSi, Rip, Rgp, Rpp, Rap, Rbp, Rrp, Rnp, Rdp, Rop, Rtp, Rzp, RCp, RSp]; simp [h])
      · exact (fun y h k => by simp only [nx3, nd3, Rii, Rgi, Rpi, Rai, Rbi, Rri, Rni, Rdi, Roi, Rti, Rzi, RCi, RSi, Ria, Rga, Rpa, Raa, Rba, Rra, Rna, Rda, Roa, Rta, Rza, RCa, RSa]; simp [h])
      · rfl
    · exact hd.ret rfl ⟨by omega, by omega⟩
  · refine eS_and (by rw [hd.2.2.tl.2.2.1]; exact i_inb' (by omega) (by omega)) ?_
    exact dd_endOfLine (hd.ta rfl) (by omega)
end ST3
