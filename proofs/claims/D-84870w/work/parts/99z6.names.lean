/-! ===== PARSERS, part 40: lists of names ===== -/
def is39 (x : Int32) : Prop := x = 39
section NMS
variable {ex et : List Nat} {S S' S0 SA : pS} {D : pD} {K : pK} {p p0 q o o' oA dl m N n n2 b b2 lo hi lo2 hi2 r d d2 dd g pA pB nP bP : Nat} {w t w' : wS} {al : List Nat} {nu : pNz} {tn : Nat → Prop} {E E' : zE} {L L' : Nat} {ol : pOL} {f : Option Nat} {fT x1 x2 : Int32} {Q : kx_Rs → wS → Prop} {fi : Nat → Int32} {fp : Nat → Option Nat} {ft : Nat → Int32} {br : Bool} {lo1 : Int} {Φ : kx_Rs → wS → kx_Rs → wS → Prop} {bl : Option Nat} {gt : pQ}
theorem dd_items {nl : Int32} {X : (kx_Rs → wS → Prop) → kx_Rs → wS → Prop} (hL : 1000 ≤ L') (hx : ∀ Q e w, Q (.inr e) w → X Q (.inr e) w) (h : DDs D K S0 w' t) : eS (fun Q => zL_X13_items_p27 E' L' (X Q) x1 nl t) (fun r' t' => TLP D K S0.1 S0.2.1 br lo1 w' r' t') := by
  refine eS_l (fun Q h => zt_X13_items_p27 (by omega) h) ?_
  simp only [zb_X13_items_p27]
  refine eS_1 (fun Q hq => t_may (v := 44) (by omega) h.2.2.1 h.1.2 rfl ⟨by decide, by decide⟩ (fun e => by rw [h.2.2.2.1] at e; exact absurd e (by decide)) (fun _ => hq)) (eS_p rfl ?_)
  refine eS_x0 (fun Q hq => t_want (v := 46) (by omega) h.2.2.1 h.1.2 rfl (by omega) (fun e => by have := h.2.2.2.1; omega) (fun _ => by rw [h.if1]; exact hq)) ?_
  exact eS_l (fun Q a => hx Q _ _ a) h.thr
theorem PSg_items {sN : Nat} (hΦ : STL D K dl SA br lo1 Φ) {C Ct : (kx_Rs → wS → Prop) → wS → Prop} (hL : 500 ≤ L) (hL' : 1000 ≤ L') (hnP : nP < SA.2.2.2.2.1 ∧ nP < 14000) (hbP : bP ∈ SA.2.2.1.take SA.2.2.2.1 ∧ SA.2.2.2.2.2.1 bP = none) (hl27 : ft 27 = i_ (kln K p0)) (hlo : SA.2.2.2.2.1 ≤ lo) (hsN : sN ≤ pB)
    (k : ∀ w2 t2 al2 m2 N2 nu2 tn2 p2 b2 nl2 dd2 hi2, HY D K ex et (cb SA dd2) (w2, t2, al2, m2, N2, nu2, tn2) p2 p2 0 0 → LQ is39 D (w2, t2, al2, m2, N2, nu2, tn2) lo hi2 (oE K (kln K p0) 39 sN p2) f fT (some b2) nl2 none dd2 → OWc (w2, t2, al2, m2, N2, nu2, tn2) bP fi fp → OWt (w2, t2, al2, m2, N2, nu2, tn2) nP ft → hi2 ≤ N2 → b2 ∉ SA.2.2.1.take SA.2.2.2.1 → kln K p2 = kln K p0 → (pB ≤ p2 ∧ dd2 + pB ≤ p2 + 1) → (m2 ≤ 4 * p2 + 9 ∧ N2 ≤ 4 * p2 + 9) → (m2 + 4 * pB ≤ SA.2.2.2.1 + 4 * p2 + 1 ∧ N2 + 4 * pB ≤ SA.2.2.2.2.1 + 4 * p2 + 1) → PS (fun Q => C Q w2) (fun Q => zw E' (L' - 21) kt_M600 [.ref (w_adr E'.2.1 12 0), .int 46] t2 (wk0 (fun w3 => wle t2 w3 → zw E' (L' - 20) kt_M400 [.ref (w_adr E'.2.1 12 0)] w3 (wk0 (fun w5 => wle w3 w5 → Ct Q w5) (fun e w => Q (.inr e) w))) (fun e w => Q (.inr e) w))) Φ) :
    ∀ g w t al m N nu tn p b nl dd hi, K.length ≤ p + g → HY D K ex et (cb SA dd) (w, t, al, m, N, nu, tn) p p 0 0 → LQ is39 D (w, t, al, m, N, nu, tn) lo hi (oE K (kln K p0) 39 sN p) f fT (some b) nl none dd → OWc (w, t, al, m, N, nu, tn) bP fi fp → OWt (w, t, al, m, N, nu, tn) nP ft → hi ≤ N → b ∉ SA.2.2.1.take SA.2.2.2.1 → kln K p = kln K p0 → (pB ≤ p ∧ dd + pB ≤ p + 1) → (m ≤ 4 * p + 9 ∧ N ≤ 4 * p + 9) → (m + 4 * pB ≤ SA.2.2.2.1 + 4 * p + 1 ∧ N + 4 * pB ≤ SA.2.2.2.2.1 + 4 * p + 1) → PS (fun Q => zL_X5_rest_p12 D.1 L (wk0 (C Q) (fun e w => Q (.inr e) w)) (some b) w) (fun Q => zL_X13_items_p27 E' L' (wk0 (Ct Q) (fun e w => Q (.inr e) w)) (i_ nP) nl t) Φ := by
  intro g
  induction g with
  | zero =>
    intro w t al m N nu tn p b nl dd hi hg H
    have := H.1.ca.2.2
    omega
  | succ g ih =>
    intro w t al m N nu tn p b nl dd hi hg H hQ hO hT hhi hb0 hln hpp hmN hbd
    have hΦ := hΦ.cb (c := dd)
    have hpl := H.1.ta.lt
    have hal := H.alive
    have hSA : SA.2.2.2.2.1 ≤ N := H.2.2.1.2.2.1
    have hloN : lo ≤ N := by
      rcases hQ with h | ⟨b'', n'', d1, d2, -, -, h3, -⟩
      · cases h.2.1.1
      · have := h3.lt
        omega
    have hbp : bP ≠ b := fun e => hb0 (by rw [← e]; exact hbP.1)
    refine PS_of (fun Q h => zt_X5_rest_p12 (by omega) h) (fun Q h => zt_X13_items_p27 (by omega) h) ?_
    simp only [zb_X5_rest_p12, zb_X13_items_p27]
    refine PS_l1 (fun Q hq => c_is (c := 40) (v := 44) (by omega) H.1.ca rfl (by unfold wcd; omega) hq) ?_
    by_cases h44 : kk K p = 44
    · rw [decide_eq_true h44]
      refine PS_ln (by decide) ?_
      refine PS_r1 (fun Q hq => t_may (v := 44) (by omega) H.1.ta H.1.krg rfl ⟨by decide, by decide⟩ (fun _ => hq) (fun e => absurd h44 e)) (PS_rn (by decide) ?_)
      have hp1 := H.p1 (by omega)
      have hln1 := H.1.ln hp1 (by omega)
      refine PSg_nxl hΦ.stp (by omega) H (by omega) (fun H1 => ?_) (fun w' hd h76 => ?_)
      · have H2 := H1.tnx (by omega) hal
        have hal2 := H2.alive
        have H0 : HY D K [] [] (w, t, al, m, N, nu, tn) (w, t, al, m, N, nu, tn) p p 0 0 := ⟨H.1, FR.rf H.1.mle⟩
        have F2 := ((H0.cn (by omega) hal2).tnx (by omega) hal).2
        have hQ2 := hQ.fr H.1 F2 (fun a h => absurd h List.not_mem_nil) (fun a h => absurd h List.not_mem_nil)
        have O2 := hO.fr F2 List.not_mem_nil
        have T2 := hT.fr F2 List.not_mem_nil
        refine PS_cn (by omega) (by omega) H2 (fun b1 al2 w2 H3 HF3 O3n hb2 hb20 => ?_)
        have hQ3 := hQ2.fr H2.1 HF3 (fun a h => absurd h List.not_mem_nil) (fun a h => absurd h List.not_mem_nil)
        have O3 := O2.fr HF3 List.not_mem_nil
        have T3 := T2.fr HF3 List.not_mem_nil
        have hbb : (some b : Option Nat) ≠ some b1 := by
          rcases hQ2.nlb H2.1 with ⟨e, -⟩ | ⟨b', n, e, -, g1, -⟩
          · cases e
          · intro e2
            rw [e] at e2
            cases e2
            exact hb2 g1.1
        refine PSq_behind (by omega) H3 hQ3 (fun a e => by cases e; exact hb0) (LKO.mk O3n.1.1.1 (O3n.1.1.2 rfl) hb20) (fun w4 hw4 H4 hQ4 => ?_)
        have O4 := O3.bho hw4 (fun e => hbp (Option.some.inj e).symm) (fun e => hb20 (by rw [Option.some.inj e]; exact hbP.1))
        have O4n := O3n.bh hw4 hbb
        have T4 : OWt (w4, nx3 t p, al2, m + 1, N, nu, tn) nP ft := T3
        have H4' : HY D K [b1] [] (w4, nx3 t p, al2, m + 1, N, nu, tn) (w4, nx3 t p, al2, m + 1, N, nu, tn) (p + 1) (p + 1) 0 0 := ⟨H4.1, FR.rf H4.1.mle⟩
        have hΦ1 := hΦ.up H4.2
        have hb1m : ∀ {X : Prop}, X → b1 ∈ [b1] := fun _ => List.mem_singleton_self b1
        have hbp1 : bP ≠ b1 := fun e => hb20 (by rw [← e]; exact hbP.1)
        -- the twin's node
        refine PS_rand (by rw [H4.1.tl.2.1]; exact i_inb' (by omega) (by omega)) ?_
        have r27 : w_a (nx3 t p) 12 0 27 nP = i_ (kln K p0) := (T4.2 27 rfl).trans hl27
        simp only [i_nat' (show nP < 2147483648 by omega), r27]
        refine PS_r1 (fun Q hq => t_node (by omega) H4.kt H4.tN (by omega) hq) ?_
        simp only [i_nat' (show N < 2147483648 by omega)]
        have HB := H4'.tnd (x := 39) (l := i_ (kln K p0))
        have T5n : OWt (w4, nd3 (nx3 t p) N 39 (i_ (kln K p0)), al2, m + 1, N + 1, nu, tn) N _ := OWt.new (x := 39) (l := i_ (kln K p0)) H4'
        have O5n : OWl (w4, nd3 (nx3 t p) N 39 (i_ (kln K p0)), al2, m + 1, N + 1, nu, tn) b1 _ _ := O4n.tt
        have hnlx : ∃ n0 : Nat, nl = i_ n0 ∧ n0 < 14000 := by
          rcases hQ.nl with e | ⟨n0, e, h⟩
          · rcases hQ.nlb H.1 with ⟨e', -⟩ | ⟨b', n, -, e', -⟩
            · cases e'
            · rcases hQ with h | ⟨b'', n'', d1, d2, ⟨-, e2, -, -⟩, -, h3, -⟩
              · cases h.2.1.1
              · exact ⟨n'', e2, h3.lt.2.2.2.1⟩
          · exact ⟨n0, e, h⟩
        obtain ⟨n0, rfl, hn0⟩ := hnlx
        refine PSg_nmw hΦ1.stp (by omega) (by omega) (by omega) HB (fun h70 H6 hnm => ?_) (fun w' hd => ?_)
        · have O6n : OWl (nx w4 (p + 1), nx3 (nd3 (nx3 t p) N 39 (i_ (kln K p0))) (p + 1), al2, m + 1, N + 1, nu, tn) b1 _ _ := O5n.w4 (j := 3) (v := i_ (p + 1 + 1 : Nat)) (.inl (by decide))
          have T6n : OWt (nx w4 (p + 1), nx3 (nd3 (nx3 t p) N 39 (i_ (kln K p0))) (p + 1), al2, m + 1, N + 1, nu, tn) N _ := T5n
          have hp2 := HB.p1 (by omega)
          have hln2 := HB.1.ln hp2 (by omega)
          refine PS_lex b1 rfl (PS_land (O6n.wl H6.1) ?_)
          refine PS_rand (by rw [H6.1.tl.2.2.2.2.1]; exact i_inb' (by omega) (by omega)) ?_
          have H7 := (H6.wi (k := 9) (v := w_a w4 1 0 3 (p + 1)) O6n.1.2 hb1m).ta (k := 30) (n := N) (v := w_a (nd3 (nx3 t p) N 39 (i_ (kln K p0))) 12 0 8 (p + 1)) rfl T6n.1.2 (fun h => absurd h (Nat.lt_irrefl _))
          have O7n := O6n.si (k := 9) (v := w_a w4 1 0 3 (p + 1))
          have T7n := T6n.si (k := 30) (v := w_a (nd3 (nx3 t p) N 39 (i_ (kln K p0))) 12 0 8 (p + 1))
          have HC := H7.cd (v := w_i (nx w4 (p + 1)) 4 0 5 + 1) rfl
          refine PS_rand (by rw [H6.1.tl.2.2.2.2.2.2.1]; exact i_inb' (by omega) (by omega)) ?_
          simp only [i_nat' (show n0 < 2147483648 by omega)]
          have OE : OWl (ws_i (ws_i (nx w4 (p + 1)) 14 b1 9 (w_a w4 1 0 3 (p + 1))) 4 0 5 (w_i (nx w4 (p + 1)) 4 0 5 + 1), ws_a (nx3 (nd3 (nx3 t p) N 39 (i_ (kln K p0))) (p + 1)) 12 0 30 N (w_a (nd3 (nx3 t p) N 39 (i_ (kln K p0))) 12 0 8 (p + 1)), al2, m + 1, N + 1, nu, tn) b1 _ _ := O7n.w4 (k := 4) (j := 5) (v := w_i (nx w4 (p + 1)) 4 0 5 + 1) (.inl (by decide))
          have TE := T7n.ww (w' := ws_i (ws_i (nx w4 (p + 1)) 14 b1 9 (w_a w4 1 0 3 (p + 1))) 4 0 5 (w_i (nx w4 (p + 1)) 4 0 5 + 1)) (al' := al2) (m' := m + 1)
          have hQ7 := hQ4.fr H4.1 HC.2 (fun a ha => by rw [List.mem_singleton.mp ha]; exact ⟨O4n.1.2, hbb⟩) (fun a h => absurd h List.not_mem_nil)
          have HZ : HY D K ex et (cb SA (dd + 1)) _ (p + 1 + 1) (p + 1 + 1) 0 0 := HY.cc ⟨HC.1, H4.2.trc HC.2 (fun a ha hin => absurd hin (by rw [List.mem_singleton.mp ha]; exact hb20)) (fun n h => absurd h List.not_mem_nil)⟩
          have O7 := O4.fr HC.2 (fun h => hbp1 (List.mem_singleton.mp h))
          have T7 := T4.fr HC.2 List.not_mem_nil
          have hPI : PND D _ N _ (oE K (kln K p0) 39 (p + 1) (p + 1 + 1)) b1 N 1 := PND.mk1 (kd := 39) OE TE (Nat.le_refl N) (by omega) (LFz.k39 OE TE (by show i_ (kln K (p + 1)) = i_ (kln K p0); rw [hln1, hln]) rfl ⟨rfl, rfl, hnm⟩ (by show i_ (kln K p0) = i_ (kln K (p + 1)); rw [hln1, hln])) rfl (fun l e => by cases e; rfl)
          have hXI := NXo.mk1 OE TE rfl rfl
          have h26 := TE.2 26 rfl
          rcases hQ7.link HZ hPI hXI hbb hhi hloN (.inr rfl) (fun a e => by cases e; exact hb0) hlo h26 (.inr ⟨by simp, rfl, rfl⟩) ⟨by omega, by omega⟩ ⟨by omega, by omega⟩ with ⟨h1, -⟩ | ⟨n, nu', tn', ⟨h1, h1b, h1c, h1d, -⟩, H8, hQ8, hA8⟩
          · cases h1
          have hnn : n0 = n := by
            have := (i_eq (show -2147483648 ≤ (n0 : Int) ∧ (n0 : Int) < 2147483648 by omega) (show -2147483648 ≤ (n : Int) ∧ (n : Int) < 2147483648 by omega)).mp h1
            omega
          subst hnn
          have T8 := hA8.owt T7 (by omega) h1b
          have O8 : OWc (ws_i (ws_i (nx w4 (p + 1)) 14 b1 9 (w_a w4 1 0 3 (p + 1))) 4 0 5 (w_i (nx w4 (p + 1)) 4 0 5 + 1), ws_a (ws_a (nx3 (nd3 (nx3 t p) N 39 (i_ (kln K p0))) (p + 1)) 12 0 30 N (w_a (nd3 (nx3 t p) N 39 (i_ (kln K p0))) 12 0 8 (p + 1))) 12 0 32 n0 (i_ N), al2, m + 1, N + 1, nu', tn') bP fi fp := ⟨⟨O7.1.1, H8.nuP hbP⟩, O7.2⟩
          exact ih _ _ al2 (m + 1) (N + 1) nu' tn' (p + 1 + 1) b1 (i_ N) (dd + 1) (N + 1) (by omega) H8 hQ8 O8 T8 (Nat.le_refl _) hb20 (by rw [hln2, hln1, hln]) ⟨by omega, by omega⟩ ⟨by omega, by omega⟩ ⟨by omega, by omega⟩
        · refine eS_and (by rw [hd.2.2.tl.2.2.2.2.1]; exact i_inb' (by omega) (by omega)) ?_
          refine eS_and (by rw [hd.2.2.tl.2.2.2.2.2.2.1]; exact i_inb' (by omega) (by omega)) ?_
          have hd := hd.ta (k := 30) (n := N) (v := w_a (nd3 (nx3 t p) N 39 (i_ (kln K p0))) 12 0 8 (p + 1)) rfl
          exact dd_items hL' (fun _ _ _ a => a) (hd.ta rfl)
      · have hd2 := H.dd hd (by omega) (by omega) hal h76
        refine eS_and (by rw [hd2.2.2.tl.2.1]; exact i_inb' (by omega) (by omega)) ?_
        have hN' : w_i (nx3 t p) 12 0 25 = i_ N := by
          unfold nx3
          rw [Rii, if_neg (by decide)]
          exact H.tN
        refine eS_1 (fun Q hq => t_node (by omega) hd2.2.2.1.1.1 hN' (by omega) hq) ?_
        exact dd_wantName (hd2.nd (N := N) (by omega)) (by omega)
    · rw [decide_eq_false h44]
      refine PS_lp rfl ?_
      refine PS_r1 (fun Q hq => t_may (v := 44) (by omega) H.1.ta H.1.krg rfl ⟨by decide, by decide⟩ (fun e => absurd e h44) (fun _ => hq)) (PS_rp rfl ?_)
      exact PS_l (fun Q a => a) (k w t al m N nu tn p b nl dd hi H hQ hO hT hhi hb0 hln hpp hmN hbd)
end NMS
