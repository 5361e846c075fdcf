/-! ===== PARSERS, part 12: operands, expressions ===== -/
/-- an operand: no operation, but in brackets -/
def GO (D : pD) (K : pK) (S : pS) (p : Nat) : pG := fun x v S2 p2 => ∃ b n : Nat, x = some b ∧ v = i_ n ∧ PND D S2 S.2.2.2.2.1 S2.2.2.2.2.1 (oE K (kln K p) 0 p p2) b n 0 ∧ NXT S2 b n ∧ b ∉ S.2.2.1.take S.2.2.2.1 ∧ kln K p2 = kln K p ∧ (w_a S2.2.1 12 0 26 n = 60 → kk K p = 70 ∧ kk K (p + 1) ≠ 40) ∧ ∃ j : Nat, w_a S2.2.1 12 0 26 n = i_ j ∧ j ≤ 61
def OPq (D : pD) (K : pK) (E' : zE) (g : Nat) : Prop := ∀ L L' w t al m N nu tn p o, lex o ≤ L + 60 → lex o ≤ L' + 60 → SY D K (w, t, al, m, N, nu, tn) p p o o → K.length ≤ p + g → m ≤ 4 * p + 8 ∧ N ≤ 4 * p + 8 → PW w t (fun Q => zw D.1 L kt_M198 [.ref (w_adr D.1.2.1 4 0)] w Q) (fun Q => zw E' L' kt_M498 [.ref (w_adr E'.2.1 12 0)] t Q) (PR D K [] [] (w, t, al, m, N, nu, tn) p o true true 0 (GO D K (w, t, al, m, N, nu, tn) p))
/-- arguments: a list, or none -/
def GA (D : pD) (K : pK) (S : pS) (p : Nat) : pG := fun x v S2 p2 => (∃ k, SLz (vw S2.1 S2.2.1) S2.2.2.2.2.2.2 S2.2.2.2.2.2.1 k (some (i_ (kln K p)), 0, p2 - p - 1, kln K, p, p2) 0 x v) ∧ kln K p2 = kln K p ∧ HDN S S2 x
section EX3
variable {ex et : List Nat} {S S' S0 : pS} {D : pD} {K : pK} {p p0 q o o' oA m N n n2 b b2 lo hi lo2 hi2 r d d2 dd g : Nat} {w t w' : wS} {al : List Nat} {nu : pNz} {tn : Nat → Prop} {E E' : zE} {L L' : Nat} {ol : pOL} {f : Option Nat} {fT : Int32} {Q : kx_Rs → wS → Prop} {fi : Nat → Int32} {fp : Nat → Option Nat} {ft : Nat → Int32}
theorem vw_n4 {u v : Int32} : vw (ws_i (nx w p) 4 0 4 v) (ws_i (nx3 t q) 12 0 38 u) = vw w t := (vw_4 (t := ws_i (nx3 t q) 12 0 38 u)).trans ((vw_nx (t := ws_i (nx3 t q) 12 0 38 u)).trans rfl)
/-- arguments in brackets -/
theorem p_arguments {G : Nat} (IH : EXq D K E' G) (hL : lex o ≤ L + 100) (hL' : lex o ≤ L' + 100) (hS : SY D K (w, t, al, m, N, nu, tn) p p o o) (hg : K.length ≤ p + 1 + G) (hB : m ≤ 4 * p + 12 ∧ N ≤ 4 * p + 12) (h5 : kk K p ≠ 75) (h74 : kk K p ≠ 74) :
    PW w t (fun Q => zw D.1 L kt_M162 [.ref (w_adr D.1.2.1 4 0)] w Q) (fun Q => zw E' L' kt_M352 [.ref (w_adr E'.2.1 12 0)] t Q) (PR D K [] [] (w, t, al, m, N, nu, tn) p o true true (-1) (GA D K (w, t, al, m, N, nu, tn) p)) := by
  have hpl := hS.ta.lt
  have ho20 := hS.2.1.1.2.2.2.2
  have hlx := hL
  have hlx' := hL'
  unfold lex at hlx hlx'
  have H : HY D K [] [] (w, t, al, m, N, nu, tn) (w, t, al, m, N, nu, tn) p p o o := ⟨hS, FR.rf hS.mle⟩
  have hp1 := H.p1 h5
  have hln1 := H.1.ln hp1 h74
  refine PW_of' (fun Q h => zt_X5_arguments_p0 (by omega) h) (fun Q h => zt_X13_arguments_p0 (by omega) h) ?_
  simp only [zb_X5_arguments_p0, zb_X13_arguments_p0, zb_X5_arguments_p21, zb_X13_arguments_p20]
  refine PS_enw (by omega) (by omega) (by omega) H h5 (fun ho H2 => ?_) (fun w' hd => ?_)
  · have hk1 := H2.1.ta.kr H2.1.krg
    refine PS_l1 (fun Q hq => c_is (c := 37) (v := 41) (by omega) H2.1.ca rfl (by unfold wcd; omega) hq) ?_
    refine PS_r1 (fun Q hq => t_look (by omega) H2.1.ta hq) ?_
    by_cases e : kk K (p + 1) = 41
    · refine PS_ln (by rw [decide_eq_true e]; decide) (PS_rp (by rw [e]; rfl) ?_)
      refine PS_lvw (c := 37) (v := 41) (by omega) (by omega) (by omega) H2 rfl (by unfold wcd; omega) rfl (fun e43 H3 => ?_) (fun w' hd => ?_)
      · rw [o38n H2.e38]
        have H4 := H3.to (u := o) (by omega)
        have hln2 := H4.1.ln H4.1.ca.2.2 (by omega)
        exact PS_ret (.inr ⟨none, i_ (-1), al, m, N, nu, tn, p + 1 + 1, rfl, rfl, H4, ⟨by omega, by show m + _ ≤ m + _; omega, by show N + _ ≤ N + _; omega⟩, ⟨0, [], ⟨rfl, rfl⟩, rfl⟩, by omega, fun _ h => nomatch h⟩)
      · rw [o38n H2.e38]
        exact hd.to.ret (v := -1) rfl ⟨by omega, by omega⟩
    · refine PS_lp (by rw [decide_eq_false e]; decide) (PS_rn (fun z => e (by rw [show (41 : Int32) = i_ 41 from rfl] at z; exact (i_eq (by omega) (by omega)).mp z)) ?_)
      refine PR_c11 hS.krg H2.2 (p_list IH (by unfold lex; omega) (by unfold lex; omega) H2.1 hg ⟨by omega, by omega⟩) (fun a h => absurd h List.not_mem_nil) (fun a h => absurd h List.not_mem_nil) (fun x v w2 t2 al2 m2 N2 nu2 tn2 p2 hl H6 HS hb hgx => ?_) (fun v w2 t2 hv hv2 hd => dd_want (v := 41) hd (by omega) rfl (by omega))
      obtain ⟨⟨k, hs⟩, hln2, hhd⟩ := hgx
      have hpl2 := H6.1.ta.lt
      refine PS_lvw (c := 37) (v := 41) (by omega) (by omega) (by omega) H6 rfl (by unfold wcd; omega) rfl (fun e43 H3 => ?_) (fun w' hd => ?_)
      · rw [o38n H6.e38]
        have H4 := H3.to (u := o) (by omega)
        have hln3 := H4.1.ln H4.1.ca.2.2 (by omega)
        obtain ⟨l, s1, s2, s3⟩ := hs
        rw [hln1] at s1
        refine PS_ret (.inr ⟨x, v, al2, m2, N2, nu2, tn2, p2 + 1, rfl, rfl, H4, ⟨by omega, by show m2 + _ ≤ m + _; omega, by show N2 + _ ≤ N + _; omega⟩, ⟨k, l, by show LPz (vw (ws_i (nx w2 p2) 4 0 4 (i_ o)) (ws_i (nx3 t2 p2) 12 0 38 (i_ o))) _ _ _ _ _ _ _ _ _; rw [vw_n4]; exact LPz.wk s1 (OLw.mk (by omega) (by omega) (by omega)), s2⟩, by omega, hhd⟩)
      · rw [o38n H6.e38]
        obtain ⟨n, b, rfl, -, hn⟩ := hs.v
        have := H6.tlt hn
        exact hd.to.ret rfl ⟨by omega, by omega⟩
  · refine eS_1 (fun Q hq => t_look (by omega) hd.2.2.1 hq) ?_
    rw [hd.2.2.2.1]
    exact eS_n (by decide) (dd_list hd (by omega))
/-- a call on the left that is the last thing there -/
theorem PS_ltail {gt : pQ} {M : kx_M} {As : List Value} {br : Bool} {lo : Int} {G : pG} (h : PS (fun Q => zw E L M As w Q) gt (PR D K ex et S0 p0 oA true br lo G)) : PS (fun Q => zw E L M As w (wkr (fun v w1 => wle w w1 → Q (.inl (some (va_rf v))) w1) (fun e w => Q (.inr e) w))) gt (PR D K ex et S0 p0 oA true br lo G) := by
  rcases h with h | h | ⟨r, w2, r', t2, a, b, c⟩
  · exact .inl (fun Q => h _)
  · exact .inr (.inl h)
  · refine .inr (.inr ⟨r, w2, r', t2, fun Q hq => a _ ?_, b, c⟩)
    rcases c with ⟨e, -⟩ | ⟨x, v, al, m, N, nu, tn, p, e, -⟩
    · subst e
      exact hq
    · subst e
      exact wkr_k hq
theorem zO_at {E : zE} {ns : List (List Int)} {sm : Nat} (hC : CA E w K ns sm p) : zO E "MeetingHouse$Sort" (w_r w 1 0 2 p) (kA K p).1.1 := by
  have h9 := (hC.1.2.2.2.2.2 p hC.2.2).1
  refine ⟨hC.1.1.1, by omega, hC.ty, ?_⟩
  have : ∀ i, i < 9 → (kw_en.getD i ("", "", "", 0)).1 = "MeetingHouse$Sort" := by decide +kernel
  exact this _ h9
theorem kw_on9 : kw_on 0 = 5 ∧ kw_on 1 = 1 ∧ kw_on 2 = 2 ∧ kw_on 3 = 4 ∧ kw_on 4 = 3 ∧ kw_on 5 = 6 ∧ kw_on 7 = 7 ∧ kw_on 8 = 8 := by decide +kernel
/-- numbers, characters, strings, truths -/
theorem p_lit {y : Nat} (hL : 400 ≤ L) (hL' : 400 ≤ L') (H : HY D K [] [] S0 (w, t, al, m, N, nu, tn) p p o o) (hS0 : S0.2.2.2.2.1 = N ∧ m ≤ S0.2.2.2.1 + 1) (hN : N + 1 ≤ 11000) (h5 : kk K p ≠ 75) (h74 : kk K p ≠ 74) (hO : OWc (w, t, al, m, N, nu, tn) b fi fp) (hb : b ∉ S0.2.2.1.take S0.2.2.2.1) (hy : 50 ≤ y ∧ y < 60) (i2 : fi 2 = i_ (kln K p)) (i12 : fi 12 = 0) (f7 : fp 7 = none)
    (hF : ∀ (V : pV) T2, (∀ k, ink k = true → V.1 b k = fi k) → V.2.1 b 0 = fp 0 → V.2.2.1 28 N = w_a t 12 0 8 p → V.2.2.2 = w_a w 1 0 10 → LFkz D V tn T2 nu 0 (kln K, p, p + 1) 0 b N y) (hz0 : fi 11 = 0 ∧ fi 21 = 0 := by first | exact ⟨rfl, rfl⟩ | assumption) :
    PS (fun Q => zw D.1 L kt_M195 [.ref (w_adr D.1.2.1 4 0)] w (wk0 (fun w1 => wle w w1 → Q (.inl (some (va_rf (some b)))) w1) (fun e w => Q (.inr e) w))) (fun Q => zb_X13_operand_2_p328 E' L' Q (i_ (kln K p)) (i_ y) t) (PR D K [] [] S0 p o true true 0 (GO D K S0 p)) := by
  have hpl := H.1.ta.lt
  have hp1 := H.p1 h5
  have hal := H.alive
  have hln1 := H.1.ln hp1 h74
  simp only [zb_X13_operand_2_p328]
  have hym : ¬ (i_ (y : Int) = (-1 : Int32)) := fun z => by rw [i_m1] at z; have := (i_eq (by omega) (by omega)).mp z; omega
  have H1 := H.tnd (x := i_ y) (l := i_ (kln K p))
  have T1 := OWt.new (x := i_ y) (l := i_ (kln K p)) H
  have hv8 : w_a (nd3 t N (i_ y) (i_ (kln K p))) 12 0 8 p = w_a t 12 0 8 p := TX_nd3.a rfl
  have H2 := H1.ta (k := 28) (n := N) (v := w_a t 12 0 8 p) rfl T1.1.2 (fun h => absurd h (by omega))
  have T2 := T1.si (k := 28) (v := w_a t 12 0 8 p)
  have H3 := H2.tnx h5 hal
  have e35 : w_i (nd3 t N (i_ y) (i_ (kln K p))) 12 0 35 = i_ p := H1.tpos
  refine PS_nxl hL H h5 (fun HC => ?_) (fun w' hd h76 => ?_)
  · refine PS_rp hym (PS_r1 (fun Q hq => t_node (by omega) H.kt H.tN (by omega) hq) ?_)
    simp only [e35, i_nat' (show p < 2147483648 by omega), i_nat' (show N < 2147483648 by omega), hv8]
    refine PS_rand (by rw [H1.l9.2]; exact i_inb' (by omega) (by omega)) (PS_rand (by rw [H1.1.tl.2.2.1]; exact i_inb' (by omega) (by omega)) ?_)
    rw [i_1, i_add, cN1]
    have HE : HY D K [] [] S0 (nx w p, nx3 (ws_a (nd3 t N (i_ y) (i_ (kln K p))) 12 0 28 N (w_a t 12 0 8 p)) p, al, m, N + 1, nu, tn) (p + 1) (p + 1) o o := ((HC.tnd (x := i_ y) (l := i_ (kln K p))).ta (k := 28) (n := N) (v := w_a t 12 0 8 p) rfl T1.1.2 (fun h => absurd h (by omega))).tnx h5 hal
    have OE : OWc (nx w p, nx3 (ws_a (nd3 t N (i_ y) (i_ (kln K p))) 12 0 28 N (w_a t 12 0 8 p)) p, al, m, N + 1, nu, tn) b fi fp := hO.w4 (.inl (by decide))
    have TE : OWt (nx w p, nx3 (ws_a (nd3 t N (i_ y) (i_ (kln K p))) 12 0 28 N (w_a t 12 0 8 p)) p, al, m, N + 1, nu, tn) N _ := T2
    refine PS_ret (.inr ⟨some b, i_ N, al, m, N + 1, nu, tn, p + 1, rfl, rfl, HE, ⟨by omega, by omega, by omega⟩, b, N, rfl, rfl, PND.mk1 (kd := y) OE TE (by omega) (by omega) ⟨⟨?_, TE.2 27 rfl⟩, y, TE.2 26 rfl, by omega, fun _ => ⟨(OE.2.1 11 rfl).trans hz0.1, (OE.2.1 21 rfl).trans hz0.2⟩, by rw [show p + 1 - p - 1 = 0 by omega]; exact hF _ _ OE.2.1 (OE.2.2 0 rfl) (TE.2 28 rfl) rfl⟩ i12 (fun l e => by cases e; rfl), NXT.mk1 OE TE f7 rfl, hb, hln1, fun e => absurd ((TE.2 26 rfl).symm.trans e) (i60 hy.2), y, TE.2 26 rfl, by omega⟩)
    exact ((OE.2.1 2 rfl).trans i2).trans (TE.2 27 rfl).symm
  · refine eS_p hym (eS_1 (fun Q hq => t_node (by omega) H.kt H.tN (by omega) hq) ?_)
    simp only [e35, i_nat' (show p < 2147483648 by omega), i_nat' (show N < 2147483648 by omega), hv8]
    refine eS_and (by rw [H1.l9.2]; exact i_inb' (by omega) (by omega)) (eS_and (by rw [H1.1.tl.2.2.1]; exact i_inb' (by omega) (by omega)) ?_)
    rw [i_1, i_add, cN1]
    exact (H2.dd hd hN h5 hal h76).ret rfl ⟨by omega, by omega⟩
end EX3
