/-! ===== PARSERS, part 39: types and names that are declared ===== -/
section DC1
variable {ex et : List Nat} {S S' S0 SA : pS} {D : pD} {K : pK} {p p0 q o o' oA dl m N n n2 b b2 lo hi lo2 hi2 r d d2 dd g pA pB nP bP : Nat} {w t w' : wS} {al : List Nat} {nu : pNz} {tn : Nat → Prop} {E E' : zE} {L L' : Nat} {ol : pOL} {f : Option Nat} {fT x1 x2 : Int32} {Q : kx_Rs → wS → Prop} {fi : Nat → Int32} {fp : Nat → Option Nat} {ft : Nat → Int32} {br : Bool} {lo1 : Int} {Φ : kx_Rs → wS → kx_Rs → wS → Prop} {bl : Option Nat} {gt : pQ}
theorem KC.fy {ns : List (List Int)} {sm : Nat} (h : KC E w K ns sm) (hf : FY w w') : KC E w' K ns sm := by
  have hp : ∀ k, pY 1 k = false := fun k => rfl
  refine ⟨h.1, ?_, fun k x hx => (h.2.2 k x hx).up ?_ ?_ ?_ ?_ ?_ (List.prefix_refl _) (Nat.le_refl _) (fun j _ => ?_)⟩
  · simp only [fun k o => (hf.1 1 k (hp k) o).2.2.1]
    exact h.2.1
  all_goals first
    | exact congrFun (hf.1 1 _ (hp _) 0).2.1.2.2 _
    | exact congrFun (hf.1 1 _ (hp _) 0).2.1.1 _
/-- MeetingHouse counts a name -/
theorem HY.cd {v : Int32} (h : HY D K ex et S0 (w, t, al, m, N, nu, tn) p q o o') (hv : v = w_i w 4 0 5 + 1) : HY D K ex et (cb S0 1) (ws_i w 4 0 5 v, t, al, m, N, nu, tn) p q o o' := by
  obtain ⟨⟨⟨⟨⟨h1, h2⟩, h3⟩, h4⟩, ⟨⟨h5a, h5b, h5c, h5d, h5f⟩, h5e⟩, h6, h7, h8⟩, ⟨f1, f2⟩, f3, f4⟩ := h
  have e14 : ∀ a k, w_i (ws_i w 4 0 5 v) 14 a k = w_i w 14 a k := fun a k => by rw [Rii, if_neg (fun z => absurd z.2.1 (by decide))]
  have ev : vw (ws_i w 4 0 5 v) t = vw w t := by
    unfold vw
    congr 1
    funext a k
    exact e14 a k
  refine ⟨⟨⟨⟨⟨h1.fy FY_5, h2⟩, h3⟩, h4⟩, ⟨⟨?_, h5b, h5c, ?_, h5f⟩, h5e⟩, h6.i (by decide), h7, by show GLz D (vw (ws_i w 4 0 5 v) t) al m N nu tn; rw [ev]; exact h8⟩, ⟨⟨fun c' k' hp o' => ?_, f1.2⟩, f2⟩, f3, ⟨fun a ha hx k => by
    show w_i (ws_i w 4 0 5 v) 14 a k = w_i (ws_i S0.1 4 0 5 _) 14 a k ∧ _
    rw [e14, i4_14]
    exact f4.1 a ha hx k, f4.2⟩⟩
  · show w_i (ws_i w 4 0 5 _) 4 0 3 = _
    rw [Rii, if_neg (by decide)]
    exact h5a
  · show w_i (ws_i w 4 0 5 _) 4 0 4 = _
    rw [Rii, if_neg (by decide)]
    exact h5d
  · have g := f1.1 c' k' hp o'
    refine ⟨⟨?_, g.1.2⟩, g.2⟩
    show w_i (ws_i w 4 0 5 v) c' o' k' = w_i (ws_i S0.1 4 0 5 (w_i S0.1 4 0 5 + i_ (1 : Nat))) c' o' k'
    rw [Rii, Rii, g.1.1]
    split
    · rw [hv, show w_i w 4 0 5 = w_i S0.1 4 0 5 from (f1.1 4 5 rfl 0).1.1]
      rfl
    · rfl
/-- a type on both sides -/
theorem PSg_tyw (hΦ : STP D K S0 br lo1 Φ) {A : (kx_Rs → wS → Prop) → Int32 → wS → Prop} {B : (kx_Rs → wS → Prop) → wS → Prop} (hL : 420 ≤ L) (hL' : 420 ≤ L') (hN : N ≤ 11000) (H : HY D K ex et S0 (w, t, al, m, N, nu, tn) p p o o') (hn : n < 14000) (ht : ¬ tn n) (he : n < S0.2.2.2.2.1 → n ∈ et)
    (k : ∀ c : Nat, c < 3 → bTy (kk K p) = true → HY D K ex et S0 (nx w p, nx3 (ws_a t 12 0 33 n (i_ c)) p, al, m, N, nu, tn) (p + 1) (p + 1) o o' → PS (fun Q => A Q (i_ (c + 1 : Nat)) (nx w p)) (fun Q => B Q (nx3 (ws_a t 12 0 33 n (i_ c)) p)) Φ)
    (kd : ∀ (c : Nat) w', c < 3 → DDs D K S0 w' (nx3 (ws_a t 12 0 33 n (i_ c)) p) → eS (fun Q => B Q (nx3 (ws_a t 12 0 33 n (i_ c)) p)) (fun r' t' => TLP D K S0.1 S0.2.1 br lo1 w' r' t')) :
    PS (fun Q => zw D.1 L kt_M212 [.ref (w_adr D.1.2.1 4 0)] w (wk1 (fun v w1 => wle w w1 → A Q v w1) (fun e w => Q (.inr e) w))) (fun Q => zw E' L' kt_M554 [.ref (w_adr E'.2.1 12 0), .int (i_ n)] t (wk0 (fun w1 => wle t w1 → B Q w1) (fun e w => Q (.inr e) w))) Φ := by
  have hpl := H.1.ta.lt
  have hal := H.alive
  have hkr := H.1.ta.kr H.1.krg
  have hC := H.1.ca
  obtain ⟨l2, l3, l4, l5, l6⟩ := hC.1.1.2.1
  refine PS_of (fun Q h => zt_X5_type_p0 (by omega) h) (fun Q h => zt_X13_takeType_p0 (by omega) h) ?_
  simp only [zb_X5_type_p0, zb_X13_takeType_p0]
  refine PS_l1 (fun Q hq => c_isType (by omega) H.1.ca hq) ?_
  refine PS_r1 (fun Q hq => t_look (by omega) H.1.ta hq) ?_
  refine PS_r1 (fun Q hq => t_isType (by omega) (by omega) hq) ?_
  cases hT : bTy (kk K p) with
  | false =>
    refine PS_ln (fun h => h rfl) (PS_rn (fun h => h rfl) ?_)
    refine PS_lx0 (fun Q hq => c_unfit (by omega) H.1.ca hq) (PSg_stop hΦ ?_)
    exact eS_l (fun Q hq => t_throw (no := 2) (e := "") (by omega) H.1.ta hkr hq) (TLP_two H FX.rf frm.rf hal)
  | true =>
    refine PS_lp (by decide) (PS_rp (by decide) ?_)
    have hk3 : kk K p = 12 ∨ kk K p = 4 ∨ kk K p = 3 := by
      simpa only [bTy, Bool.or_eq_true, decide_eq_true_eq] using hT
    have hs : w_a w 1 0 3 p = i_ (kk K p) := by
      rcases hC.kkc with h | h | h | h | h | h | h | h | h
      · exact h.2.1
      all_goals omega
    have hp1 := H.p1 (by omega)
    simp only [zb_X5_type_p11, zb_X5_type_p48, zb_X13_takeType_p43, H.cpos, l3, i_nat' (show p < 2147483648 by omega), i_nat' (show n < 2147483648 by omega), hs]
    refine PS_land (i_inb' (by omega) (by omega)) ?_
    have one : ∀ (c : Nat) (kv : Int) (z : Int32) (y : Int32), c < 3 → kk K p = kv → z = i_ (c + 1 : Nat) → y = i_ c → PS (fun Q => zw D.1 (L - 20) kt_M195 [.ref (w_adr D.1.2.1 4 0)] w (wk0 (fun w1 => wle w w1 → wk1 (fun v w1 => wle w w1 → A Q v w1) (fun e w => Q (.inr e) w) (.inl (some (.int z))) w1) (fun e w => Q (.inr e) w))) (fun Q => kx_inb (i_ n) (w_n t 12 0 33) = true ∧ wk0 (fun w1 => wle t w1 → B Q w1) (fun e w => Q (.inr e) w) (.inl none) (ws_i (ws_a t 12 0 33 n y) 12 0 35 (w_i t 12 0 35 + 1))) Φ := by
      intro c kv z y hc hkv hz hy
      subst hz hy
      have H1 := H.ta (k := 33) (n := n) (v := i_ c) rfl ht he
      have e35 : ws_i (ws_a t 12 0 33 n (i_ c)) 12 0 35 (w_i t 12 0 35 + 1) = nx3 (ws_a t 12 0 33 n (i_ c)) p := by
        rw [H.tpos, i_1, i_add, cN1]
        rfl
      rw [e35]
      refine PS_rand (by rw [H.1.tl.2.2.2.2.2.2.2.1]; exact i_inb' (by omega) (by omega)) ?_
      refine PS_r (fun Q h => fun _ => h) ?_
      refine PSg_nxl hΦ (by omega) H1 (by omega) (fun H2 => ?_) (fun w' hd h76 => kd c _ hc (H1.dd hd hN (by omega) hal h76))
      exact PS_l (fun Q h => fun _ => h) (k c hc hT (H2.tnx (by omega) hal))
    rcases hk3 with e | e | e
    · rw [e, show (i_ 12 : Int32) = 12 from rfl]
      simp (decide := true) only [if_true, if_false, not_true_eq_false, not_false_eq_true]
      exact one 0 12 1 0 (by omega) e rfl rfl
    · rw [e, show (i_ 4 : Int32) = 4 from rfl]
      simp (decide := true) only [if_true, if_false, not_true_eq_false, not_false_eq_true]
      exact one 1 4 2 1 (by omega) e rfl rfl
    · rw [e, show (i_ 3 : Int32) = 3 from rfl]
      simp (decide := true) only [if_true, if_false, not_true_eq_false, not_false_eq_true]
      exact one 2 3 3 2 (by omega) e rfl rfl
end DC1
