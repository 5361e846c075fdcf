/-! ===== PARSERS, part 10: elements ===== -/
/-- what is told of a node by its contract: on a line, anywhere, an action -/
abbrev oE (K : pK) (ln cl s e : Nat) : pOL := (some (i_ ln), cl, e - s, kln K, s, e)
abbrev oN (K : pK) (cl s e : Nat) : pOL := (none, cl, e - s, kln K, s, e)
abbrev oA (K : pK) (s e : Nat) : pOL := (none, 2, e - s - 1, kln K, s, e)
def lex (o : Nat) : Nat := 300 * (21 - o) + 2000
/-- an expression that is read: a node on each side, on its line -/
def GEy (cl : Nat) (X : Nat → Prop) (D : pD) (K : pK) (S : pS) (p : Nat) : pG := fun x v S2 p2 => ∃ b n : Nat, x = some b ∧ v = i_ n ∧ PND D S2 S.2.2.2.2.1 S2.2.2.2.2.1 (oE K (kln K p) cl p p2) b n 0 ∧ NXT S2 b n ∧ b ∉ S.2.2.1.take S.2.2.2.1 ∧ kln K p2 = kln K p ∧ (w_a S2.2.1 12 0 26 n = 60 → X p2)
abbrev GEx (X : Nat → Prop) (D : pD) (K : pK) (S : pS) (p : Nat) : pG := GEy 0 X D K S p
abbrev GE (D : pD) (K : pK) (S : pS) (p : Nat) : pG := GEx (fun _ => kk K p = 70 ∧ kk K (p + 1) ≠ 40) D K S p
/-- an element -/
def GM (D : pD) (K : pK) (S : pS) (p : Nat) : pG := fun x v S2 p2 => ∃ b n : Nat, x = some b ∧ v = i_ n ∧ PND D S2 S.2.2.2.2.1 S2.2.2.2.2.1 (oE K (kln K p) 0 p p2) b n 0 ∧ NXT S2 b n ∧ b ∉ S.2.2.1.take S.2.2.2.1 ∧ kln K p2 = kln K p ∧ w_a S2.2.1 12 0 26 n = 60
theorem i60 {y : Nat} (h : y < 60) : ¬ ((i_ y : Int32) = (60 : Int32)) := fun e => by
  rw [show (60 : Int32) = i_ 60 from rfl] at e
  have := (i_eq (by omega) (by omega)).mp e
  omega
def EXq (D : pD) (K : pK) (E' : zE) (g : Nat) : Prop := ∀ L L' w t al m N nu tn p o, lex o ≤ L → lex o ≤ L' → SY D K (w, t, al, m, N, nu, tn) p p o o → K.length ≤ p + g → m ≤ 4 * p + 8 ∧ N ≤ 4 * p + 8 → PW w t (fun Q => zw D.1 L kt_M177 [.ref (w_adr D.1.2.1 4 0)] w Q) (fun Q => zw E' L' kt_M393 [.ref (w_adr E'.2.1 12 0)] t Q) (PR D K [] [] (w, t, al, m, N, nu, tn) p o true true 0 (GE D K (w, t, al, m, N, nu, tn) p))
section EX1
variable {ex et : List Nat} {S S0 : pS} {D : pD} {K : pK} {p p0 q o o' oA m N n b lo r d g : Nat} {w t w' : wS} {al : List Nat} {nu : pNz} {tn : Nat → Prop} {E' : zE} {L L' : Nat} {fi : Nat → Int32} {fp : Nat → Option Nat} {ft : Nat → Int32} {ol : pOL}
theorem VWa.mk {t' : wS} (h1 : ∀ a, a ≠ b → ∀ k, w_i w' 14 a k = w_i w 14 a k ∧ w_p w' 14 a k = w_p w 14 a k) (h2 : ∀ y, y ≠ n → ∀ k, w_a t' 12 0 k y = w_a t 12 0 k y) (hs : w_a w' 1 0 10 = w_a w 1 0 10) (hb : nu b = none) (hn : ¬ tn n) : VWa (vw w t) (vw w' t') tn nu := ⟨fun a ha => by
  have hab : a ≠ b := fun e => ha (by rw [e]; exact hb)
  exact ⟨funext (fun k => (h1 a hab k).1), funext (fun k => (h1 a hab k).2)⟩, fun k y hy _ => h2 y (fun e => hn (by rw [← e]; exact hy)) k, hs⟩
theorem SY.r9 (h : SY D K S p q o o') : w_a S.2.1 12 0 9 q = i_ (kln K q) := h.ta.row.2.2.1
theorem HY.o38 (h : HY D K ex et S0 (w, t, al, m, N, nu, tn) p q o (o' + 1)) : w_i t 12 0 38 - 1 = i_ o' := by
  have e : w_i t 12 0 38 = i_ (o' + 1 : Nat) := h.1.2.1.2.2.2.1
  rw [e, i_1, i_sub, show ((o' + 1 : Nat) : Int) - 1 = (o' : Int) by omega]
theorem o38n (h : w_i t 12 0 38 = i_ (o' + 1 : Nat)) {q : Nat} : w_i (nx3 t q) 12 0 38 - 1 = i_ o' := by
  unfold nx3
  rw [Rii, if_neg (by decide), h, i_1, i_sub, show ((o' + 1 : Nat) : Int) - 1 = (o' : Int) by omega]
theorem HY.e38 (h : HY D K ex et S0 (w, t, al, m, N, nu, tn) p q o o') : w_i t 12 0 38 = i_ o' := h.1.2.1.2.2.2.1
theorem HY.tN (h : HY D K ex et S0 (w, t, al, m, N, nu, tn) p q o o') : w_i t 12 0 25 = i_ N := h.1.2.2.2.1.1
theorem HY.kt (h : HY D K ex et S0 (w, t, al, m, N, nu, tn) p q o o') : KT3 t K D.2.2.1 D.2.2.2.1 := h.1.1.1.2
theorem HY.tpos (h : HY D K ex et S0 (w, t, al, m, N, nu, tn) p q o o') : w_i t 12 0 35 = i_ q := h.1.2.1.2.1
theorem HY.cpos (h : HY D K ex et S0 (w, t, al, m, N, nu, tn) p q o o') : w_i w 4 0 3 = i_ p := h.1.2.1.1.1
theorem HY.l9 (h : HY D K ex et S0 (w, t, al, m, N, nu, tn) p q o o') : w_n t 12 0 9 = 12002 ∧ w_n t 12 0 8 = 12002 := ⟨h.kt.1.2.2.1, h.kt.1.2.1⟩
theorem HY.alive (h : HY D K ex et S0 (w, t, al, m, N, nu, tn) p q o o') : kk K p ≠ 76 := h.1.2.1.1.2.2.1
/-- a node that is filled, as one to be linked -/
theorem PND.mk1 {cc : Bool} {kd : Nat} {l1 : Option Int32} {cl1 bd1 s1 e1 : Nat} {g1 : Nat → Nat} (hO : OWx cc S b fi fp) (hT : OWt S n ft) (hlo : lo ≤ n) (h14 : n < 14000) (hF : LFz D (vw S.1 S.2.1) S.2.2.2.2.2.2 (fun x => x ∈ [n]) S.2.2.2.2.2.1 (bd1 - 1, g1, s1, e1) d b n) (h12 : fi 12 = 0) (hl : ∀ l, l1 = some l → ft 27 = l) (hk : ft 26 = i_ kd := by first | rfl | assumption) (hc : kd < 65 ∧ cok cl1 kd := by unfold cok; omega) (hb : 0 < bd1 ∧ s1 < e1 := by omega) : PND D S lo S.2.2.2.2.1 (l1, cl1, bd1, g1, s1, e1) b n d := ⟨Nat.le_refl _, [n], [], n, (bd1 - 1, g1, s1, e1), rfl, by simp, fun x hx => by
  simp at hx
  subst hx
  exact ⟨⟨hT.1.2, hlo⟩, hT.1.1, h14⟩, hF, (hO.2.1 12 rfl).trans h12, hO.mn, fun l e => (hT.2 27 rfl).trans (hl l e), ⟨kd, (hT.2 26 rfl).trans hk, hc.1, hc.2, fun _ => rfl⟩, by show bd1 - 1 + 0 < bd1; omega, rfl, Nat.le_refl _, hb.2, Nat.le_refl _⟩
theorem NXo.mk1 {cc : Bool} (hO : OWx cc S b fi fp) (hT : OWt S n ft) (h7 : fp 7 = none) (h32 : ft 32 = -1) : NXo S b n := ⟨(hO.2.2 7 rfl).trans h7, (hT.2 32 rfl).trans h32⟩
theorem NXT.mk1 (hO : OWc S b fi fp) (hT : OWt S n ft) (h7 : fp 7 = none) (h32 : ft 32 = -1) : NXT S b n := ⟨(hO.2.2 7 rfl).trans h7, (hT.2 32 rfl).trans h32, hO.1.1.2 rfl⟩
/-- what is told of an element's node -/
theorem LFz.el {cc : Bool} {rk s e : Nat} {g : Nat → Nat} (hO : OWx cc S b fi fp) (hT : OWt S n ft) {T2 : Nat → Prop} (h2 : fi 2 = ft 27) (h26 : ft 26 = 60) (h0 : fp 0 = some (D.1.1.1 18)) (hn : nmr D (fi 9) (ft 30)) (hc : EOz (vw S.1 S.2.1) S.2.2.2.2.2.2 S.2.2.2.2.2.1 rk (some (ft 27), 0, rk - 1, g, s, e) 0 (fp 3) (ft 28)) (hg : ft 27 = i_ (g s) := by first | rfl | assumption) (hz : fi 11 = 0 ∧ fi 21 = 0 := by first | exact ⟨rfl, rfl⟩ | assumption) : LFz D (vw S.1 S.2.1) S.2.2.2.2.2.2 T2 S.2.2.2.2.2.1 (rk, g, s, e) 0 b n := by
  refine ⟨⟨?_, (hT.2 27 rfl).trans hg⟩, 60, ?_, by decide, fun _ => ⟨(hO.2.1 11 rfl).trans hz.1, (hO.2.1 21 rfl).trans hz.2⟩, ?_⟩
  · show w_i S.1 14 b 2 = w_a S.2.1 12 0 27 n
    rw [hO.2.1 2 rfl, hT.2 27 rfl]
    exact h2
  · show w_a S.2.1 12 0 26 n = _
    rw [hT.2 26 rfl]
    exact h26
  · show 0 = 0 ∧ w_p S.1 14 b 0 = _ ∧ nmr D (w_i S.1 14 b 9) (w_a S.2.1 12 0 30 n) ∧ EOz _ _ _ _ (some (w_a S.2.1 12 0 27 n), 0, rk - 1, g, s, e) 0 (w_p S.1 14 b 3) (w_a S.2.1 12 0 28 n)
    rw [hO.2.2 0 rfl, hO.2.1 9 rfl, hO.2.2 3 rfl, hT.2 30 rfl, hT.2 27 rfl, hT.2 28 rfl]
    exact ⟨rfl, h0, hn, hc⟩
/-- behind a name: an element, of which MeetingHouse has the node and the name already -/
theorem p_elem (IH : EXq D K E' g) (hL : lex o ≤ L + 200) (hL' : lex o ≤ L' + 200) (hS : SY D K (w, t, al, m, N, nu, tn) (p + 1) p o o) (hg : K.length ≤ p + 1 + g) (hB : m ≤ 4 * p + 10 ∧ N ≤ 4 * p + 10) (h70 : kk K p = 70) (hO : OWc (w, t, al, m, N, nu, tn) b fi fp) (f0 : fp 0 = some (D.1.1.1 18)) (f3 : fp 3 = none) (f7 : fp 7 = none) (i2 : fi 2 = i_ (kln K p)) (i12 : fi 12 = 0) {x : Int32} (hx : x = w_a w 1 0 3 p) (hnm : nmr D (w_a w 1 0 3 p) (w_a t 12 0 8 p)) (hz0 : fi 11 = 0 ∧ fi 21 = 0 := by first | exact ⟨rfl, rfl⟩ | assumption) :
    PW w t (fun Q => zw D.1 L kt_M182 [.ref (w_adr D.1.2.1 4 0), va_rf (some b), .int x] w Q) (fun Q => zw E' L' kt_M396 [.ref (w_adr E'.2.1 12 0)] t Q) (PR D K [b] [] (w, t, al, m, N, nu, tn) p o true true 0 (fun x v S2 p2 => x = some b ∧ ∃ n : Nat, v = i_ n ∧ PND D S2 N S2.2.2.2.2.1 (oE K (kln K p) 0 p p2) b n 0 ∧ NXT S2 b n ∧ kln K p2 = kln K p ∧ w_a S2.2.1 12 0 26 n = 60 ∧ S2.2.2.2.1 + 4 * p + 1 ≤ m + 4 * p2)) := by
  subst hx
  unfold lex at hL hL'
  have hpl := hS.ta.lt
  have hp1 : p + 1 < K.length := hS.ca.2.2
  have hln1 := hS.ln hp1 (by omega)
  have ho20 := hS.2.1.1.2.2.2.2
  have H : HY D K [b] [] (w, t, al, m, N, nu, tn) (w, t, al, m, N, nu, tn) (p + 1) p o o := ⟨hS, FR.rf hS.mle⟩
  refine PW_of' (fun Q h => zt_X5_indexed_p0 (by omega) h) (fun Q h => zt_X13_elem_p0 (by omega) h) ?_
  simp only [zb_X5_indexed_p0, zb_X13_elem_p0, zb_X13_elem_p69, H.tpos, i_nat' (show p < 2147483648 by omega), hS.r9, H.l9.1]
  refine PS_lex b rfl (PS_land (hO.wl hS) ?_)
  have H1 := H.wi (k := 9) (v := w_a w 1 0 3 p) hO.1.2 (fun _ => List.mem_singleton_self b)
  have O1 := hO.si (k := 9) (v := w_a w 1 0 3 p)
  refine PS_l1 (fun Q hq => c_is (c := 38) (v := 42) (by omega) H1.1.ca rfl (by unfold wcd; omega) hq) ?_
  refine PS_rand (i_inb' (by omega) (by omega)) ?_
  refine PS_r1 (fun Q hq => t_wantName (by omega) hS.ta hS.krg (fun _ => hq) (fun e => absurd h70 e)) ?_
  have H2 := H1.tnx (by omega) (by omega)
  refine PS_r1 (fun Q hq => t_node (by omega) H2.kt H2.tN (by omega) hq) ?_
  have H3 := H2.tnd (x := 60) (l := i_ (kln K p))
  have T3 := OWt.new (x := 60) (l := i_ (kln K p)) H2
  simp only [i_nat' (show N < 2147483648 by omega)]
  refine PS_rand (by rw [H3.1.tl.2.2.2.2.1]; exact i_inb' (by omega) (by omega)) ?_
  have H4 := H3.ta (k := 30) (n := N) (v := w_a t 12 0 8 p) rfl T3.1.2 (fun h => absurd h (Nat.lt_irrefl _))
  have T4 := T3.si (k := 30) (v := w_a t 12 0 8 p)
  refine PS_r1 (fun Q hq => t_look (by omega) H4.1.ta hq) ?_
  have hk1 := H4.1.ta.kr hS.krg
  by_cases e : kk K (p + 1) = 42
  · refine PS_lp (by rw [decide_eq_true e]; decide) (PS_rn (not_not_intro (by rw [e]; rfl)) ?_)
    refine PS_enw (by omega) (by omega) (by omega) H4 (by omega) (fun ho H5 => ?_) (fun w' hd => dd_e hd (by omega))
    have hp2 : p + 2 < K.length := H5.1.ca.2.2
    have hln2 := hS.ln hp2 (by omega)
    have O5 : OWc (nx (ws_i (ws_i w 14 b 9 (w_a w 1 0 3 p)) 4 0 4 (i_ (o + 1 : Nat))) (p + 1), nx3 (ws_i (ws_a (nd3 (nx3 t p) N 60 (i_ (kln K p))) 12 0 30 N (w_a t 12 0 8 p)) 12 0 38 (i_ (o + 1 : Nat))) (p + 1), al, m, N + 1, nu, tn) b _ _ := (O1.w4 (.inl (by decide))).w4 (.inl (by decide))
    have T5 : OWt (nx (ws_i (ws_i w 14 b 9 (w_a w 1 0 3 p)) 4 0 4 (i_ (o + 1 : Nat))) (p + 1), nx3 (ws_i (ws_a (nd3 (nx3 t p) N 60 (i_ (kln K p))) 12 0 30 N (w_a t 12 0 8 p)) 12 0 38 (i_ (o + 1 : Nat))) (p + 1), al, m, N + 1, nu, tn) N _ := T4
    refine PR_c11 hS.krg H5.2 (IH (L - 22) (L' - 22) _ _ _ _ _ _ _ _ _ (by unfold lex; omega) (by unfold lex; omega) H5.1 (by omega) ⟨by omega, by omega⟩) (fun a h => absurd h List.not_mem_nil) (fun a h => absurd h List.not_mem_nil) (fun x v w2 t2 al2 m2 N2 nu2 tn2 p2 hl H6 HS hb hgx => ?_) (fun v w2 t2 hv hv2 hd => ?_)
    · obtain ⟨b2, n2, rfl, rfl, hP, hX, hb2, hln, hfk⟩ := hgx
      rw [hln2, hln1] at hP
      have O6 := O5.fr HS.2 List.not_mem_nil
      have T6 := T5.fr HS.2 List.not_mem_nil
      obtain ⟨x6, tn3, r6, H7, hC, hm1, hm2, hn0⟩ := H6.fin hP hb2 (Nat.le_succ _)
      have hbb : b ≠ b2 := fun e => hb2 (by rw [← e]; exact O5.1.1.1)
      have O7 := O6.fin (x := x6) (tn' := tn3) hbb
      have T7 := T6.fin (nu' := nuU nu2 b2 x6) hm2 (.inl (Nat.lt_succ_self N))
      have H8 := H7.wp (k := 3) (v := some b2) O7.1.2 (fun _ => List.mem_singleton_self b) (LKO.mk hP.bm.1 hX.2.2 hb2)
      have O8 := O7.sp (k := 3) (v := some b2)
      refine PS_rand (by rw [H7.1.tl.2.2.1]; exact i_inb' (by omega) (by omega)) ?_
      have H9 := H8.ta (k := 28) (n := N) (v := i_ n2) rfl T7.1.2 (fun h => absurd h (Nat.lt_irrefl _))
      have T9 := T7.si (k := 28) (v := i_ n2)
      have hpl2 := H6.1.ta.lt
      refine PS_lvw (c := 39) (v := 43) (by omega) (by omega) (by omega) H9 rfl (by unfold wcd; omega) rfl (fun e43 H10 => ?_) (fun w' hd => ?_)
      · rw [o38n H9.e38]
        have H11 := H10.to (u := o) (by omega)
        have hln3 := H11.1.ln H11.1.ca.2.2 (by omega)
        have O11 : OWc (ws_i (nx (ws_p w2 14 b 3 (some b2)) p2) 4 0 4 (i_ o), ws_i (nx3 (ws_a t2 12 0 28 N (i_ n2)) p2) 12 0 38 (i_ o), al2, m2, N2, nuU nu2 b2 x6, tn3) b _ _ := (O8.w4 (.inl (by decide))).w4 (.inl (by decide))
        have T11 : OWt (ws_i (nx (ws_p w2 14 b 3 (some b2)) p2) 4 0 4 (i_ o), ws_i (nx3 (ws_a t2 12 0 28 N (i_ n2)) p2) 12 0 38 (i_ o), al2, m2, N2, nuU nu2 b2 x6, tn3) N _ := T9
        refine PS_ret (.inr ⟨some b, i_ N, al2, m2, N2, nuU nu2 b2 x6, tn3, p2 + 1, rfl, rfl, H11, ⟨by omega, by show m2 + _ ≤ m + _; omega, by show N2 + _ ≤ N + _; omega⟩, rfl, N, rfl, PND.mk1 (kd := 60) O11 T11 (Nat.le_refl _) (by omega) (LFz.el O11 T11 ?_ rfl f0 hnm (.inr ⟨b2, n2, rfl, rfl, ?_⟩)) i12 (fun l e => by cases e; rfl), NXT.mk1 O11 T11 f7 rfl, by omega, T11.2 26 rfl, by show m2 + _ + 1 ≤ _; omega⟩)
        · exact i2
        · refine hC.up (VWa.mk (b := b) (n := N) ?_ ?_ ?_ O7.1.2 T7.1.2) (fun _ _ h => h) (fun _ h => h) (Nat.le_refl _)
          · exact (fun a h k => by simp only [nx, Rii, Rgi, Rpi, Rai, Rbi, Rri, Rni, Rdi, Roi, Rti, Rzi, RCi, RSi, Rip, Rgp, Rpp, Rap, Rbp, Rrp, Rnp, Rdp, Rop, Rtp, Rzp, RCp, RSp]; simp [h])
          · exact (fun y h k => by simp only [nx3, nd3, Rii, Rgi, Rpi, Rai, Rbi, Rri, Rni, Rdi, Roi, Rti, Rzi, RCi, RSi, Ria, Rga, Rpa, Raa, Rba, Rra, Rna, Rda, Roa, Rta, Rza, RCa, RSa]; simp [h])
          · rfl
      · rw [o38n H9.e38]
        exact hd.to.ret rfl ⟨by omega, by omega⟩
    · refine eS_and (by rw [hd.2.2.tl.2.2.1]; exact i_inb' (by omega) (by omega)) (dd_want (v := 43) (hd.ta rfl) (by omega) rfl (by omega))
  · refine PS_ln (by rw [decide_eq_false e]; decide) (PS_rp (fun z => e (by rw [show (42 : Int32) = i_ 42 from rfl] at z; exact (i_eq (by omega) (by omega)).mp z)) ?_)
    have O1' : OWc (ws_i w 14 b 9 (w_a w 1 0 3 p), ws_a (nd3 (nx3 t p) N 60 (i_ (kln K p))) 12 0 30 N (w_a t 12 0 8 p), al, m, N + 1, nu, tn) b _ _ := O1
    refine PS_ret (.inr ⟨some b, i_ N, al, m, N + 1, nu, tn, p + 1, rfl, rfl, H4, ⟨by omega, by show m + _ ≤ m + _; omega, by show N + 1 + _ ≤ N + _; omega⟩, rfl, N, rfl, PND.mk1 (kd := 60) O1' T4 (Nat.le_refl _) (by omega) (LFz.el O1' T4 i2 rfl f0 hnm (.inl ⟨f3, rfl⟩)) i12 (fun l e => by cases e; rfl), NXT.mk1 O1' T4 f7 rfl, by omega, T4.2 26 rfl, by show m + _ + 1 ≤ _; omega⟩)
end EX1
section EX2
variable {ex et : List Nat} {S S0 : pS} {D : pD} {K : pK} {p p0 q o o' oA m N n b lo r d g : Nat} {w t w' : wS} {al : List Nat} {nu : pNz} {tn : Nat → Prop} {E' : zE} {L L' : Nat} {fi : Nat → Int32} {fp : Nat → Option Nat} {ft : Nat → Int32} {ol : pOL}
/-- the twin reads an element's name and stands at a bad token -/
theorem dd_elemName {w1 : wS} (hL' : 400 ≤ L') (H : HY D K ex et S0 (w, t, al, m, N, nu, tn) p q o o') (hd : DDx K S0 w1) (hN : N + 1 ≤ 11000) (h70 : kk K q = 70) (h76 : kk K (q + 1) = 76) : eW t (fun Q => zw E' L' kt_M396 [.ref (w_adr E'.2.1 12 0)] t Q) (fun r t' => r = .inl (some (.int (i_ N))) ∧ DDs D K S0 w1 t') := by
  have hql := H.1.ta.lt
  refine eW_of (A := fun Q => zb_X13_elem_p0 E' L' Q t) (fun Q h => zt_X13_elem_p0 (by omega) h) ?_
  simp only [zb_X13_elem_p0, zb_X13_elem_p69, H.tpos, i_nat' (show q < 2147483648 by omega), H.1.r9, H.l9.1]
  refine eS_and (i_inb' (by omega) (by omega)) ?_
  refine eS_1 (fun Q hq => t_wantName (by omega) H.1.ta H.1.krg (fun _ => hq) (fun e => absurd h70 e)) ?_
  have H2 := H.tnx (by omega) (by omega)
  refine eS_1 (fun Q hq => t_node (by omega) H2.kt H2.tN (by omega) hq) ?_
  have H3 := H2.tnd (x := 60) (l := i_ (kln K q))
  have T3 := OWt.new (x := 60) (l := i_ (kln K q)) H2
  simp only [i_nat' (show N < 2147483648 by omega)]
  refine eS_and (by rw [H3.1.tl.2.2.2.2.1]; exact i_inb' (by omega) (by omega)) ?_
  have hN0 : S0.2.2.2.2.1 ≤ N := H2.2.2.1.2.2.1
  have H4 := H3.ta (k := 30) (n := N) (v := w_a t 12 0 8 q) rfl T3.1.2 (fun h => absurd h (by omega))
  refine eS_1 (fun Q hq => t_look (by omega) H4.1.ta hq) ?_
  rw [h76]
  refine eS_p (by decide) ?_
  exact eS_ret (fun _ => ⟨rfl, H4.dds hd hN h76⟩)
/-- an element -/
theorem p_element (IH : EXq D K E' g) (hL : lex o ≤ L + 150) (hL' : lex o ≤ L' + 150) (hS : SY D K (w, t, al, m, N, nu, tn) p p o o) (hg : K.length ≤ p + 1 + g) (hB : m ≤ 4 * p + 9 ∧ N ≤ 4 * p + 9) :
    PW w t (fun Q => zw D.1 L kt_M172 [.ref (w_adr D.1.2.1 4 0)] w Q) (fun Q => zw E' L' kt_M396 [.ref (w_adr E'.2.1 12 0)] t Q) (PR D K [] [] (w, t, al, m, N, nu, tn) p o true true 0 (GM D K (w, t, al, m, N, nu, tn) p)) := by
  have hpl := hS.ta.lt
  have ho20 := hS.2.1.1.2.2.2.2
  have H : HY D K [] [] (w, t, al, m, N, nu, tn) (w, t, al, m, N, nu, tn) p p o o := ⟨hS, FR.rf hS.mle⟩
  have hlx := hL
  have hlx' := hL'
  unfold lex at hlx hlx'
  refine PW_of' (A := fun Q => zb_X5_element_p0 D.1 L Q w) (B := fun Q => zw E' L' kt_M396 [.ref (w_adr E'.2.1 12 0)] t Q) (fun Q h => zt_X5_element_p0 (by omega) h) (fun _ h => h) ?_
  simp only [zb_X5_element_p0, H.cpos]
  refine PS_l1 (fun Q hq => c_line (by omega) hS.ca hq) ?_
  refine PS_cn2 (by omega) (by omega) H (fun b al' w2 H1 HF O1 hb hb0 => ?_)
  have hal := H1.alive
  by_cases h70 : kk K p = 70
  · have hp1 := H1.p1 (by omega)
    have hnm := H1.1.nm h70
    by_cases h76 : kk K (p + 1) = 76
    · refine PS_lx1 (fun Q hq => c_name (by omega) H1.1.ca (fun h => absurd h70 h) (fun _ h => absurd h76 h) (fun _ _ => hq)) (PR_stop ?_)
      refine eS_mono (eS_tail (dd_elemName (by omega) H1 (H1.ddx hp1 h76 (FX_nx (p := p))) (by omega) h70 h76)) (fun r t' h => ?_)
      obtain ⟨e, hd⟩ := h
      exact ⟨hd.1.1.1, hd.2.1, .inr ⟨⟨N, by omega, by omega, e⟩, hd.1.1.2.1, hd.1.1.2.2, hd.2.2⟩⟩
    · refine PS_l1 (fun Q hq => c_name (by omega) H1.1.ca (fun h => absurd h70 h) (fun _ _ => hq) (fun _ h => absurd h h76)) ?_
      have H2 := H1.cn (by omega) h76
      have O2 : OWc (nx w2 p, t, al', m + 1, N, nu, tn) b _ _ := O1.w4 (.inl (by decide))
      refine PR_c1t hS.krg H2.2 (p_elem IH (by omega) (by omega) H2.1 hg ⟨by omega, by omega⟩ h70 O2 rfl rfl rfl rfl rfl rfl hnm) (fun a ha h => ?_) (fun a h => absurd h List.not_mem_nil) (fun x v w3 t3 al3 m3 N3 nu3 tn3 p3 hl H6 HS hbd hgx => ?_) (fun v w3 t3 hv hv2 hd => hd.ret rfl ⟨hv, hv2⟩)
      · simp at ha
        subst ha
        exact absurd h hb0
      · obtain ⟨rfl, n, rfl, hP, hX, hln, hkd, hsl⟩ := hgx
        have hsl : m3 + 4 * p + 1 ≤ m + 1 + 4 * p3 := hsl
        refine PS_ret (.inr ⟨some b, i_ n, al3, m3, N3, nu3, tn3, p3, rfl, rfl, H6, ⟨by omega, by show m3 + _ ≤ m + _; omega, by show N3 + _ ≤ N + _; omega⟩, b, n, rfl, rfl, hP, hX, hb, hln, hkd⟩)
  · refine PS_lx1 (fun Q hq => c_name (by omega) H1.1.ca (fun _ => hq) (fun h => absurd h h70) (fun h => absurd h h70)) (PR_stop ?_)
    refine eS_l (fun Q h => zt_X13_elem_p0 (by omega) h) ?_
    simp only [zb_X13_elem_p0, H.tpos, i_nat' (show p < 2147483648 by omega), H.l9.1]
    refine eS_and (i_inb' (by omega) (by omega)) ?_
    exact eS_x1 (fun Q hq => t_wantName (by omega) H1.1.ta H1.1.krg (fun e => absurd e h70) (fun _ => hq)) (TLP_two H1 FX.rf frm.rf hal)
end EX2
