/-! ===== PARSERS, part 21: actions ===== -/
/-- an action or a process that is read: a node on each side, at the next line, with dd names declared in it -/
def GPs (s cl : Nat) (D : pD) (K : pK) (S : pS) (p : Nat) : pGd := fun cz x v S2 p2 => ∃ b n dd : Nat, x = some b ∧ v = i_ n ∧ PND D S2 S.2.2.2.2.1 S2.2.2.2.2.1 (none, cl, p2 - p - (s - 1), kln K, p, p2) b n dd ∧ NXT S2 b n ∧ b ∉ S.2.2.1.take S.2.2.2.1 ∧ kk K (p2 - 1) = 74 ∧ (S2.2.2.2.1 + 4 * p + s ≤ S.2.2.2.1 + 4 * p2 ∧ S2.2.2.2.2.1 + 4 * p + s ≤ S.2.2.2.2.1 + 4 * p2) ∧ (dd + p ≤ p2 ∧ dd = cz)
def GP (D : pD) (K : pK) (S : pS) (p : Nat) : pGd := GPs 1 1 D K S p
def GP2 (D : pD) (K : pK) (S : pS) (p : Nat) : pGd := GPs 2 2 D K S p
/-- words that are left for a process at depth d -/
def dex (d : Nat) : Nat := 300 * (30 - d) + 12000
/-- the contract of process -/
def PRq (D : pD) (K : pK) (E' : zE) (g : Nat) : Prop := ∀ L L' w t al m N nu tn p d, dex d ≤ L → dex d ≤ L' → d ≤ 22 → SY D K (w, t, al, m, N, nu, tn) p p 0 0 → (p = 0 ∨ kk K (p - 1) = 74) → K.length ≤ p + g → m ≤ 4 * p + 5 ∧ N ≤ 4 * p + 5 → PW w t (fun Q => zw D.1 L kt_M202 [.ref (w_adr D.1.2.1 4 0), .int (i_ d)] w Q) (fun Q => zw E' L' kt_M514 [.ref (w_adr E'.2.1 12 0), .int (i_ d)] t Q) (PRd D K d [] [] (w, t, al, m, N, nu, tn) p 0 true true 0 (GP D K (w, t, al, m, N, nu, tn) p))
section ST7
variable {ex et : List Nat} {S S' S0 : pS} {D : pD} {K : pK} {p p0 q o o' oA dl m N n n2 b b2 lo hi lo2 hi2 r d d2 dd g : Nat} {w t w' : wS} {al : List Nat} {nu : pNz} {tn : Nat → Prop} {E E' : zE} {L L' : Nat} {ol : pOL} {f : Option Nat} {fT : Int32} {Q : kx_Rs → wS → Prop} {fi : Nat → Int32} {fp : Nat → Option Nat} {ft : Nat → Int32}
/-- STOP, SKIP -/
theorem p_skip {y i0 : Nat} (hy : (y = 2 ∧ i0 = 34) ∨ (y = 3 ∧ i0 = 42)) (hL : 1000 ≤ L) (hL' : 1000 ≤ L') (H : HY D K [] [] S0 (w, t, al, m, N, nu, tn) p p 0 0) (hS0 : S0.2.2.2.2.1 = N ∧ m ≤ S0.2.2.2.1 + 1) (hB : N + 1 ≤ 11000) (hk : kk K p = 28 ∨ kk K p = 29) (hO : OWc (w, t, al, m, N, nu, tn) b fi fp) (hb : b ∉ S0.2.2.1.take S0.2.2.2.1) (f7 : fp 7 = none) (i2 : fi 2 = i_ (kln K p)) (i12 : fi 12 = 0) {l : Int32} (hl : l = i_ (kln K p)) :
    PS (fun Q => zb_X5_action_p228 D.1 L Q (some b) (some (D.1.1.1 i0)) (some b) w) (fun Q => zw E' (L' - 20) kt_M400 [.ref (w_adr E'.2.1 12 0)] (ws_i t 12 0 35 (w_i t 12 0 35 + 1)) (wk0 (fun w1 => wle (ws_i t 12 0 35 (w_i t 12 0 35 + 1)) w1 → zb_X13_action_p148 E' L' Q l (i_ y) w1) (fun e w => Q (.inr e) w))) (PRd D K dl [] [] S0 p 0 true true 0 (GP2 D K S0 p)) := by
  subst hl
  have hpl := H.1.ta.lt
  have hal := H.alive
  simp only [zb_X5_action_p228, zb_X5_action_p415, zb_X13_action_p148, H.tpos, p3e]
  refine PS_lex b rfl (PS_land (hO.wl H.1) ?_)
  have H1 := H.wp (k := 0) (v := some (D.1.1.1 i0)) hO.1.2 (fun e => absurd e hb)
  have O1 := hO.sp (k := 0) (v := some (D.1.1.1 i0))
  refine PSd_nxl (by omega) H1 (by omega) (fun H2 => ?_) (fun w' hd h76 => ?_)
  · have H3 := H2.tnx (by omega) hal
    refine PSd_elw (by omega) (by omega) (by omega) H3 (fun e74 H4 => ?_) (fun w' hd => ?_)
    · refine PS_r1 (fun Q hq => t_node (by omega) H4.kt H4.tN (by omega) hq) ?_
      have H5 := H4.tnd (x := i_ y) (l := i_ (kln K p))
      have TE : OWt (nx (nx (ws_p w 14 b 0 (some (D.1.1.1 i0))) p) (p + 1), nd3 (nx3 (nx3 t p) (p + 1)) N (i_ y) (i_ (kln K p)), al, m, N + 1, nu, tn) N _ := OWt.new (x := i_ y) (l := i_ (kln K p)) H4
      have OE : OWc (nx (nx (ws_p w 14 b 0 (some (D.1.1.1 i0))) p) (p + 1), nd3 (nx3 (nx3 t p) (p + 1)) N (i_ y) (i_ (kln K p)), al, m, N + 1, nu, tn) b _ _ := (O1.w4 (j := 3) (v := i_ (p + 1 : Nat)) (.inl (by decide))).w4 (j := 3) (v := i_ (p + 1 + 1 : Nat)) (.inl (by decide))
      refine PS_ret (.inr ⟨some b, i_ N, al, m, N + 1, nu, tn, p + 1 + 1, 0, rfl, rfl, H5.c0, ⟨by omega, by omega, by omega⟩, b, N, 0, rfl, rfl, PND.mk1 (kd := y) OE TE (by omega) (by omega) ?_ i12 (fun l e => by cases e), NXT.mk1 OE TE f7 rfl, hb, e74, ⟨by show m + _ + 2 ≤ _; omega, by show N + 1 + _ + 2 ≤ _; omega⟩, by omega⟩)
      rcases hy with ⟨rfl, rfl⟩ | ⟨rfl, rfl⟩
      · exact LFz.k2 OE TE i2 rfl ⟨rfl, rfl⟩
      · exact LFz.k3 OE TE i2 rfl ⟨rfl, rfl⟩
    · have hN' : w_i (nx3 (nx3 t p) (p + 1)) 12 0 25 = i_ N := by
        unfold nx3
        rw [Rii, if_neg (by decide), Rii, if_neg (by decide)]
        exact H.tN
      refine eS_1 (fun Q hq => t_node (by omega) hd.2.2.1.1.1 hN' (by omega) hq) ?_
      exact (hd.nd (N := N) hB).ret rfl ⟨by omega, by omega⟩
  · exact dd_endOfLine (H1.dd hd (by omega) (by omega) hal h76) (by omega)
end ST7
