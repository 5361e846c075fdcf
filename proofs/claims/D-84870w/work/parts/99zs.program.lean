/-! ===== PARSERS, part 62: the whole text ===== -/
/-- what reading a text brings: both stop with the same fault, or there is a tree -/
def PRG (D : pD) (K : pK) (w t : wS) (r : kx_Rs) (w' : wS) (r' : kx_Rs) (t' : wS) : Prop := FY w w' ∧ TX t t' ∧ ((r = .inr AE_ ∧ r' = .inl (some (.int 0)) ∧ w_i w' 2 0 1 = w_i t' 12 0 36 ∧ w_i w' 2 0 2 = w_i t' 12 0 37) ∨ ∃ (b n dd : Nat) (al : List Nat) (m N : Nat) (nu : pNz) (tn : Nat → Prop) (p k : Nat), r = .inl (some (va_rf (some b))) ∧ r' = .inl (some (.int 1)) ∧ w_i t' 12 0 43 = i_ n ∧ SY D K (w', t', al, m, N, nu, tn) p p 0 0 ∧ (w_p w' 14 b 7 = none ∧ w_a t' 12 0 32 n = -1 ∧ NRw w' (al.take m) b) ∧ CHz (vw w' t') tn nu k (oN K 1 0 p) n b dd ∧ w_i w' 4 0 5 = i_ dd ∧ (dd ≤ K.length ∧ m ≤ 4 * K.length ∧ N ≤ 4 * K.length))
section PGM
variable {D : pD} {K : pK} {p o m N : Nat} {w t w' t' : wS} {al : List Nat} {nu : pNz} {tn : Nat → Prop} {E E' : zE} {L L' : Nat} {Φ : kx_Rs → wS → kx_Rs → wS → Prop}
theorem p_prog (hL : 13000 ≤ L) (hL' : 13000 ≤ L') (hL2 : dex 0 + 100 ≤ L) (hL2' : dex 0 + 100 ≤ L') (hKC : KC D.1 w K D.2.1 D.2.2.2.2) (hK : KOK K) (hG : KRG K) (hKT : KT3 t K D.2.2.1 D.2.2.2.1) (hns : D.2.1.length ≤ 1400 ∧ D.2.2.1.length ≤ 1400) (hS : STO D.1 w al 0) (hop : w_i w 4 0 4 = i_ o ∧ o ≤ 20) :
    PS (fun Q => zw D.1 L kt_M204 [.ref (w_adr D.1.2.1 4 0)] w Q) (fun Q => zw E' L' kt_M502 [.ref (w_adr E'.2.1 12 0)] t Q) (PRG D K w t) := by
  have hdx : dex 0 ≤ L - 23 := by omega
  have hdx' : dex 0 ≤ L' - 24 := by omega
  clear hL2 hL2'
  refine PS_of (fun Q h => zt_X5_program_p0 (by omega) h) (fun Q h => zt_X13_parses_p0 (by omega) h) ?_
  simp only [zb_X5_program_p0, zb_X13_parses_p0, zb_X5_program_p42, zb_X13_parses_p47]
  have hFw : FY w (ws_i (ws_i w 4 0 3 0) 4 0 5 0) := (FX_i (c := 4) (o := 0) (k := 3) (v := 0) rfl).y.tr FY_5
  have hTt : TX t (ws_i (ws_i (ws_i (ws_i t 12 0 25 0) 12 0 35 0) 12 0 38 0) 12 0 36 0) := (((frm_i rfl).tr (frm_i rfl)).tr (frm_i rfl)).tr (frm_i rfl)
  have hKC0 := hKC.fy hFw
  have hKT0 := hKT.tx hTt
  have hpos : w_i (ws_i (ws_i w 4 0 3 0) 4 0 5 0) 4 0 3 = i_ (0 : Nat) := by rw [Rii, if_neg (by decide), Rii, if_pos ⟨rfl, rfl, rfl⟩]; rfl
  have hop0 : w_i (ws_i (ws_i w 4 0 3 0) 4 0 5 0) 4 0 4 = i_ o := by rw [Rii, if_neg (by decide), Rii, if_neg (by decide)]; exact hop.1
  have hct0 : w_i (ws_i (ws_i w 4 0 3 0) 4 0 5 0) 4 0 5 = i_ (0 : Nat) := by rw [Rii, if_pos ⟨rfl, rfl, rfl⟩]; rfl
  have tpos : w_i (ws_i (ws_i (ws_i (ws_i t 12 0 25 0) 12 0 35 0) 12 0 38 0) 12 0 36 0) 12 0 35 = i_ (0 : Nat) := by rw [Rii, if_neg (by decide), Rii, if_neg (by decide), Rii, if_pos ⟨rfl, rfl, rfl⟩]; rfl
  have topn : w_i (ws_i (ws_i (ws_i (ws_i t 12 0 25 0) 12 0 35 0) 12 0 38 0) 12 0 36 0) 12 0 38 = i_ (0 : Nat) := by rw [Rii, if_neg (by decide), Rii, if_pos ⟨rfl, rfl, rfl⟩]; rfl
  have tN : w_i (ws_i (ws_i (ws_i (ws_i t 12 0 25 0) 12 0 35 0) 12 0 38 0) 12 0 36 0) 12 0 25 = i_ (0 : Nat) := by rw [Rii, if_neg (by decide), Rii, if_neg (by decide), Rii, if_neg (by decide), Rii, if_pos ⟨rfl, rfl, rfl⟩]; rfl
  have hS0 : STO D.1 (ws_i (ws_i w 4 0 3 0) 4 0 5 0) al 0 := (hS.i (by decide)).i (by decide)
  generalize hw0 : ws_i (ws_i w 4 0 3 0) 4 0 5 0 = w0 at hFw hKC0 hpos hop0 hct0 hS0
  generalize ht0 : ws_i (ws_i (ws_i (ws_i t 12 0 25 0) 12 0 35 0) 12 0 38 0) 12 0 36 0 = t0 at hTt hKT0 tpos topn tN
  have hCA : CA D.1 w0 K D.2.1 D.2.2.2.2 0 := ⟨⟨hKC0, hK⟩, hpos, hK.1.1⟩
  have hTA : TA t0 K D.2.2.1 D.2.2.2.1 0 := ⟨⟨hKT0, hK⟩, tpos, hK.1.1⟩
  by_cases h76 : kk K 0 = 76
  · refine PS_lx0 (fun Q hq => c_look (by omega) hCA (fun h => absurd h76 h) (fun _ => hq)) (PS_el ?_)
    refine eS_l (fun Q hq => t_process_bad (d := 0) (by omega) hTA hG (by omega) h76 hq) ?_
    refine eS_l (fun Q h => ⟨rfl, h⟩) (eS_ret ⟨hFw.tr FX_fl2.y, hTt.tr TX_fl3, .inl ⟨rfl, rfl, by rw [fl2_k, fl3_k], by rw [fl2_l, fl3_l]⟩⟩)
  · refine PS_l0 (fun Q hq => c_look (by omega) hCA (fun _ => hq) (fun h => absurd h h76)) ?_
    obtain ⟨G, hGl⟩ : ∃ G, K.length = G + 1 := ⟨K.length - 1, by have := hK.1.1; omega⟩
    have hSY : SY D K (w0, t0, al, 0, 0, fun _ => none, fun _ => False) 0 0 o 0 := ⟨⟨⟨⟨hKC0, hK, hG⟩, hKT0⟩, hns.1, hns.2, fun a h => by simp at h, fun a a' n r d r' d' h => by cases h⟩, ⟨⟨hpos, hK.1.1, h76, hop0, hop.2⟩, ⟨tpos, hK.1.1, topn, by omega⟩⟩, hS0, ⟨tN, fun n h => absurd h (Nat.not_lt_zero n)⟩, ⟨(fun a n r d h => by cases h), fun n h => h.elim⟩⟩
    have hpr := p_processo (E' := E') (p_DC G (p_PRall G)) (p_PRall G) (L - 23) (L' - 24) w0 t0 al 0 0 (fun _ => none) (fun _ => False) 0 0 o hdx hdx' (by omega) hSY (.inl rfl) (by omega) ⟨by omega, by omega⟩
    refine PS_bind (gc1 := fun Q => zw D.1 (L - 23) kt_M202 [.ref (w_adr D.1.2.1 4 0), .int (i_ (0 : Nat))] w0 Q) (gt1 := fun Q => zw E' (L' - 24) kt_M514 [.ref (w_adr E'.2.1 12 0), .int (i_ (0 : Nat))] t0 Q) (PW_ps hpr) (fun r w2 r' t2 hr => ?_)
    -- the twin stops where more is left
    have stop : ∀ (q : Nat) (v : Int32), TA t2 K D.2.2.1 D.2.2.2.1 q → kk K q ≠ 75 → FY w w2 → TX t t2 → (w_i w2 2 0 1 = i_ (if kk K q = 76 then 1 else 2) ∧ w_i w2 2 0 2 = i_ (kln K q)) → eS (fun Q => zw E' (L' - 20) kt_M462 [.ref (w_adr E'.2.1 12 0)] (ws_i t2 12 0 43 v) (wk1 (fun v4 w3 => wle (ws_i t2 12 0 43 v) w3 → (if v4 = 75 then Q (.inl (some (.int 1))) w3 else zw E' (L' - 22) kt_M545 [.ref (w_adr E'.2.1 12 0), .int 2] w3 (wkr (fun v6 w5 => wle w3 w5 → (v6 = some (w_adr E'.2.1 13 0) ∧ Q (.inl (some (.int 0))) w5)) (fun e w9 => e = "MeetingHouseModel$Halt" ∧ Q (.inl (some (.int 0))) w9)))) (fun e w9 => e = "MeetingHouseModel$Halt" ∧ Q (.inl (some (.int 0))) w9))) (fun r' t' => PRG D K w t (.inr AE_) w2 r' t') := by
      intro q v hT hne hF hX hft
      have hT2 : TA (ws_i t2 12 0 43 v) K D.2.2.1 D.2.2.2.1 q := hT.tx (frm_i rfl) (by rw [Rii, if_neg (by decide)])
      have hkr := hT2.kr hG
      refine eS_1 (fun Q hq => t_look (by omega) hT2 hq) ?_
      have e75v : (i_ (kk K q) = (75 : Int32)) = (kk K q = 75) := i_eqk (show -1000 ≤ kk K q ∧ kk K q ≤ 1000 by omega) (show (-1000 : Int) ≤ 75 by decide) (by decide)
      simp only [e75v]
      refine eS_n hne ?_
      refine eS_l (fun Q hq => t_throw (Q := fun _ s => Q (.inl (some (.int 0))) s) (no := 2) (e := "") (by omega) hT2 hkr hq) ?_
      refine eS_ret ⟨hF, (hX.tr (frm_i rfl)).tr TX_fl3, .inl ⟨rfl, rfl, by rw [fl3_k]; exact hft.1, by rw [fl3_l]; exact hft.2⟩⟩
    rcases hr with ⟨e, hf⟩ | ⟨x, v, al2, m2, N2, nu2, tn2, p2, c, e1, e2, H, hb, hg⟩
    · subst e
      refine PS_l (fun Q a => a) (PS_el ?_)
      rcases hf with ⟨f1, f2, ⟨e, k1, k2⟩ | ⟨⟨v, v1, v2, e⟩, k1, k2, hdead⟩⟩ | ⟨⟨v, v1, v2, e⟩, f1, f2, q, k1, hT, hne, -⟩
      · subst e
        exact eS_l (fun Q h => ⟨rfl, h⟩) (eS_ret ⟨hFw.tr f1, hTt.tr f2, .inl ⟨rfl, rfl, k1, k2⟩⟩)
      · subst e
        refine eS_l (fun Q h => fun _ => h) (stop (K.length - 1) _ hdead.1 (by rw [hdead.2.1]; decide) (hFw.tr f1) (hTt.tr f2) ⟨by rw [if_pos hdead.2.1]; exact k1, k2⟩)
      · subst e
        refine eS_l (fun Q h => fun _ => h) (stop q _ hT hne.2.1 (hFw.tr f1) (hTt.tr f2) ⟨by rw [if_neg hne.1]; exact k1.1, k1.2⟩)
    · obtain ⟨b, n, dd, rfl, rfl, hP, hX, hbn, e74, hsl, hdd, rfl⟩ := hg
      subst e1 e2
      have hpl := H.1.ta.lt
      have hCA2 := H.1.ca
      have hal := H.alive
      obtain ⟨l2, l3, l4, l5, l6⟩ := hCA2.1.1.2.1
      refine PS_l (fun Q a => wkr_k a) (PS_r (fun Q a => fun _ => a) ?_)
      have hkc := hCA2.kkc
      simp only [H.cpos, l2, i_nat' (show p2 < 2147483648 by omega), hCA2.ty]
      refine PS_land (i_inb' (by omega) (by omega)) ?_
      have hFX : FX (cb (w0, t0, al, 0, 0, (fun _ => none : pNz), fun _ => False) dd).1 w2 := H.2.1.1
      have hFY : FY w w2 := hFw.tr (FY_5.tr hFX.y)
      have hTX : TX t t2 := hTt.tr H.2.1.2
      by_cases h75 : kk K p2 = 75
      · have h8 : (kA K p2).1.1 = 8 := by omega
        refine PS_lp (by rw [h8]) ?_
        have hT2 : TA (ws_i t2 12 0 43 (i_ n)) K D.2.2.1 D.2.2.2.1 p2 := H.1.ta.tx (frm_i rfl) (by rw [Rii, if_neg (by decide)])
        refine PS_r1 (fun Q hq => t_look (by omega) hT2 hq) ?_
        rw [h75]
        refine PS_rp (by decide) ?_
        obtain ⟨x10, tn10, r10, H10, hC10, hm3, hm4, hn10⟩ := H.fin hP hbn (Nat.le_refl _)
        have hcnt : w_i w2 4 0 5 = i_ dd := by
          rw [(hFX.1 4 5 rfl 0).1.1]
          show w_i (ws_i w0 4 0 5 (w_i w0 4 0 5 + i_ dd)) 4 0 5 = i_ dd
          rw [Rii, if_pos ⟨rfl, rfl, rfl⟩, hct0, i_add]
          congr 1
          omega
        have hb1 : m2 + 4 * 0 ≤ 0 + 4 * p2 := hb.2.1
        have hpk : p2 < K.length := H.1.ca.2.2
        have hb2 : N2 + 4 * 0 ≤ 0 + 4 * p2 := hb.2.2
        refine PS_ret ⟨hFY, hTX.tr (frm_i rfl), .inr ⟨b, n, dd, al2, m2, N2, nuU nu2 b x10, tn10, p2, r10 + 1, rfl, rfl, by rw [Rii, if_pos ⟨rfl, rfl, rfl⟩], ?_, ⟨hX.1, hX.2.1, hX.2.2⟩, hC10.wk, hcnt, ⟨by omega, by omega, by omega⟩⟩⟩
        obtain ⟨⟨⟨a1, a2⟩, a3⟩, ⟨b1, b2, b3, b4, b5⟩, c1, ⟨d1, d2⟩, g1⟩ := H10.1
        refine ⟨⟨⟨a1, a2.tx (frm_i rfl)⟩, a3⟩, ⟨b1, ?_, b3, ?_, b5⟩, c1, ⟨?_, d2⟩, g1⟩
        · show w_i (ws_i t2 12 0 43 (i_ n)) 12 0 35 = _
          rw [Rii, if_neg (by decide)]
          exact b2
        · show w_i (ws_i t2 12 0 43 (i_ n)) 12 0 38 = _
          rw [Rii, if_neg (by decide)]
          exact b4
        · show w_i (ws_i t2 12 0 43 (i_ n)) 12 0 25 = _
          rw [Rii, if_neg (by decide)]
          exact d1
      · have h8 : (kA K p2).1.1 ≠ 8 := by omega
        have hA := hCA2.1.1.1
        have h9 := hCA2.1.2.2.2.2.2 p2 hCA2.2.2
        refine PS_ln (eo_ne hA (by omega) (by omega) h8) ?_
        refine PS_lx0 (fun Q hq => c_unfit (by omega) hCA2 hq) (PS_el ?_)
        have stop2 := stop
        have hF2 : FY w (fl2 w2 2 (kln K p2)) := hFY.tr FX_fl2.y
        have hT2 : TA (ws_i t2 12 0 43 (i_ n)) K D.2.2.1 D.2.2.2.1 p2 := H.1.ta.tx (frm_i rfl) (by rw [Rii, if_neg (by decide)])
        have hkr := hT2.kr hG
        refine eS_1 (fun Q hq => t_look (by omega) hT2 hq) ?_
        have e75v : (i_ (kk K p2) = (75 : Int32)) = (kk K p2 = 75) := i_eqk (show -1000 ≤ kk K p2 ∧ kk K p2 ≤ 1000 by omega) (show (-1000 : Int) ≤ 75 by decide) (by decide)
        simp only [e75v]
        refine eS_n h75 ?_
        refine eS_l (fun Q hq => t_throw (Q := fun _ s => Q (.inl (some (.int 0))) s) (no := 2) (e := "") (by omega) hT2 hkr hq) ?_
        rw [if_neg hal]
        refine eS_ret ⟨hF2, (hTX.tr (frm_i rfl)).tr TX_fl3, .inl ⟨rfl, rfl, by rw [fl2_k, fl3_k], by rw [fl2_l, fl3_l]⟩⟩
end PGM
