/-! ===== ROUNDS, part 46: several names ===== -/
/-- what a KIND was found to be, kept in a symbol of its own -/
def KTV (S : nS) (c : Nat) (ty : Int32) (pr : Option Nat) (v : Int32) : Prop := ((c = 1 ∨ c = 3) ∧ ∃ cy : Nat, cy < 3 ∧ ty = i_ (cy + 1 : Nat) ∧ pr = none ∧ v = i_ cy) ∨ (c = 3 ∧ ty = 0 ∧ ((pr = none ∧ v = i_ (-1)) ∨ ∃ sp P : Nat, pr = some P ∧ S.ys sp = some P ∧ v = i_ (16 + sp : Nat) ∧ sp < 6100 ∧ w_a S.t 12 0 46 sp = i_ 5)) ∨ (c = 4 ∧ ty = i_ (-1) ∧ pr = none ∧ v = i_ 0)
/-- several names: kind of node, of symbol, MeetingHouse's -/
def SVK (kd c W : Nat) : Prop := (kd = 30 ∧ c = 1 ∧ W = 54) ∨ (kd = 31 ∧ c = 3 ∧ W = 53) ∨ (kd = 32 ∧ c = 4 ∧ W = 58)
def svw (w2 : wS) (A q : Nat) (ty : Int32) (pr : Option Nat) (b : Int32) : wS := ws_i (ws_p (ws_i (ws_p (dcl w2 A) 14 q 16 (some A)) 15 A 5 ty) 15 A 15 pr) 15 A 9 b
section SEV
variable {D : pD} {V : pV} {nu : pN} {tn : Nat → Prop} {rt p q n nq m r d dq j k k' k0 f s s0 u un y A A0 c cr crq kd W i : Nat} {J J' Jq : List Nat} {S S' S0 S1 : nS} {w w2 w' t t' : wS} {v2 pr : Option Nat} {x x1 x2 x3 z y9 l' ty v ln : Int32} {T T' T1 T2 : Int} {kr ks : List Nat} {L L' Lc Ls Lk Lx Lt : Nat} {E E' : zE} {ol : Option Int32} {Q : kx_Rs → wS → Prop} {gc gt : pQ} {Φ : kx_Rs → wS → kx_Rs → wS → Prop} {C : Nat → Prop} {o : Bool}
theorem KTV.st (h : KTV S c ty pr v) (hI : IVN D V nu tn rt S) (hx : SMW S S') : KTV S' c ty pr v := by
  rcases h with h | ⟨h1, h2, h3 | ⟨sp, P, a1, a2, a3, a4, a5⟩⟩ | h
  · exact .inl h
  · exact .inr (.inl ⟨h1, h2, .inl h3⟩)
  · exact .inr (.inl ⟨h1, h2, .inr ⟨sp, P, a1, (hx.1 sp P a2).1, a3, a4, (hx.2.1 sp (hI.sl a2) 46 (by decide)).trans a5⟩⟩)
  · exact .inr (.inr h)
/-- MeetingHouse declares a name -/
theorem PS_dcl2 {Kc : (kx_Rs → wS → Prop) → kx_Rs → wS → Prop} (H : HM D V nu tn rt p J cr S0 S T T') (hst : STR D V nu tn rt) (hc : 2 ≤ cr) (hL : 200 ≤ L) (kk : ∀ (A : Nat) (al' : List Nat) (w2 : wS), HM D V nu tn rt p J (cr - 2) S0 (S.sy w2 al') T T' → sdr w2 A (some (D.1.1.1 W)) x2 x3 → FRA D (S.sy w2 al') A → NX nu S (S.sy w2 al') → (∀ a k, w_i w2 14 a k = w_i S.w 14 a k ∧ w_p w2 14 a k = w_p S.w 14 a k) → (∀ b ∈ S.vs, SMN nu S (S.sy w2 al') b) → (∀ A' ∈ S.al.take S.am, (A' ≠ A ∧ A' ∈ al'.take (S.am + 1)) ∧ (∀ k, w_i w2 15 A' k = w_i S.w 15 A' k ∧ w_p w2 15 A' k = w_p S.w 15 A' k) ∧ (w_l S.w D.1.2.1 15 A' → w_l w2 D.1.2.1 15 A')) → PS (fun Q => Kc Q (.inl (some (va_rf (some A)))) (dcl w2 A)) gt Φ) : PS (fun Q => zw D.1 L kt_M137 [.ref (w_adr D.1.2.1 5 0), va_rf (some (D.1.1.1 W)), .int x2, .int x3] S.w (Kc Q)) gt Φ := by
  refine PS_l (fun Q h => zt_X6_declare_p0 (by omega) h) ?_
  simp only [zb_X6_declare_p0]
  refine PS_sym H hst hc (by omega) (fun A al' w2 H2 hsd hA hx h14 hsm hold _ => ?_)
  refine PS_l (fun Q a => wkr_k (x := some A) a) (PS_lex A rfl (PS_land hA.2.2 ?_))
  exact kk A al' w2 H2 hsd hA hx h14 hsm hold
/-- the twin looks whether a name stood already -/
theorem t_dup1 {sn : Nat} (hm : m < 14000) (hsn : sn ≤ 6100) (hL : 64 ≤ L') : ∀ {g a : Nat} {t : wS}, TLN t → fkk (w_i t 12 0 64) → w_i t 12 0 44 = i_ sn → w_a t 12 0 30 m = x3 → a + g = sn → zb_X13_nameDeclaration_p126 E' L' Q (i_ n) ln x1 x2 (i_ m) (i_ sn) (tu t (dpF t a g x3 ln)) → zL_X13_nameDeclaration_p126 E' L' Q (i_ n) ln x1 x2 (i_ m) (i_ a) t
  | 0, a, t, hT, hf, h44, h30, ha, h => by
    have e : a = sn := by omega
    subst e
    rw [dpF_nil, tu_nof hf] at h
    exact zt_X13_nameDeclaration_p126 (by omega) h
  | g + 1, a, t, hT, hf, h44, h30, ha, h => by
    have hlt : a < sn := by omega
    rw [dpF_st] at h
    refine zt_X13_nameDeclaration_p126 (by omega) ?_
    unfold zb_X13_nameDeclaration_p126
    rw [h44, if_neg (by rw [i_le (by omega) (by omega)]; omega)]
    simp only [zb_X13_nameDeclaration_p158, i_nat' (show a < 2147483648 by omega), i_nat' (show m < 2147483648 by omega), h30, i_inc]
    refine ⟨hT.sy rfl (by omega), hT.i rfl hm, ?_⟩
    by_cases c : w_a t 12 0 45 a = x3
    · rw [if_neg (not_not_intro c)]
      rw [if_pos c, ← tu_tu hf (.inr ⟨4, _, ⟨by decide, by decide⟩, rfl⟩) dpF_ok] at h
      refine t_tells (k := 4) (by omega) hf ⟨by decide, by decide⟩ ?_
      intro _
      rw [← dpF_tu (T := fln 4 ln)] at h
      exact t_dup1 hm hsn hL (hT.fr FTn_tu) (tu_fct hf (.inr ⟨4, _, ⟨by decide, by decide⟩, rfl⟩)).2 (by unfold tu; split <;> first | exact h44 | (rw [Rii, if_neg (fun z => absurd z.1 (by decide)), Rii, if_neg (fun z => absurd z.1 (by decide))]; exact h44)) (by rw [tu_a]; exact h30) (by omega) h
    · rw [if_pos c]
      have em : min NOF (dpF t (a + 1) g x3 ln) = dpF t (a + 1) g x3 ln := by
        have := (dpF_ok (t := t) (a := a + 1) (g := g) (x := x3) (l := ln)).le
        omega
      rw [if_neg c, em] at h
      exact t_dup1 hm hsn hL hT hf h44 h30 (by omega) h
/-- names in a row: MeetingHouse knows each at once, the twin only makes them -/
theorem n_sev {KQ : (kx_Rs → wS → Prop) → kx_Rs → wS → Prop} (hs : STR D V nu tn rt) (hnu : nu p = some (n, r, d)) (hm : n < 14000) (htm : tn n) (h26 : V.2.2.1 26 n = i_ kd) (hkd : SVK kd c W) (h34 : (o = false → V.2.2.1 34 n &&& 1 = 0) ∧ (o = true → ¬ V.2.2.1 34 n &&& 1 = 0)) (h3 : V.2.1 p 3 = none ↔ o = false) (h4 : c = 4 → o = false) (hln : V.2.2.1 27 n = ln) (hL : 240 ≤ L) (hL' : 120 ≤ L') :
    ∀ {l pre : List (Nat × Nat × Nat)} {S : nS} {T T' : Int} {y j : Nat} {x : Int32}, HM D V nu tn rt p J cr S0 S T T' → cr % 2 = 0 → T = min T' (agT V (pre.map (fun z => z.1)) (l.map (fun z => z.1))) → S.kc = rsq s0 pre.length ++ kr → S.kt = kr → S.sn = s0 + pre.length → S0.sn ≤ s0 → (y ∈ S.vs ∧ y ∉ S0.vs) → ¬ S.tl y j → (3 ≤ j ∧ j ≤ 7) → (y = p → j ∈ J) → LPx V tn nu k0 (some ln) l (V.2.1 y j) x none (-1) → (∀ z ∈ l, V.2.2.1 26 z.1 = 39) → ITL V nu S (fun c' => c' = c) S.u s0 pre → (∀ z ∈ pre, z.2.1 ∈ S.vs ∧ z.2.1 ∉ S0.vs ∧ z.2.1 ≠ p) → KTV S c ty pr v → (A0 ∈ S.al.take S.am ∧ w_l S.w D.1.2.1 15 A0 ∧ w_i S.w 15 A0 5 = ty ∧ w_p S.w 15 A0 15 = pr) →
      (∀ (S' : nS) (T1 : Int), HM D V nu tn rt p J cr S0 S' T1 T1 → S'.kc = rsq s0 (pre.length + l.length) ++ kr → S'.kt = kr → S'.u = S.u → NXw nu S S' → (∀ b ∈ S.vs, SMN nu S S' b) → ITL V nu S' (fun c' => c' = c) S'.u s0 (pre ++ l) → (∀ z ∈ pre ++ l, z.2.1 ∈ S'.vs ∧ z.2.1 ∉ S0.vs ∧ z.2.1 ≠ p) → T1 = T → PS (fun Q => KQ Q (.inl none) S'.w) (fun Q => kx_inb (i_ n) (w_n S'.t 12 0 29) = true ∧ zL_X13_nameDeclaration_p267 E' L' Q (w_a S'.t 12 0 29 (i_ n).toNatClampNeg) S'.t) Φ) →
      PS (fun Q => zL_X6_several_p64 D.1 L (KQ Q) (some p) (some A0) (some (D.1.1.1 W)) (V.2.1 y j) S.w) (fun Q => zL_X13_nameDeclaration_p117 E' L' Q (i_ n) ln v (i_ s0) x S.t) Φ
  | [], pre, S, T, T', y, j, x, H, hcr, hT, hkc, hkt, hsn, h0, hy, ht, hj, hyj, hl, h39, hI, hpre, hK, hA0, kk => by
    obtain ⟨h1, h2⟩ := hl
    rw [h1, h2]
    have eT : T = T' := by
      have e : agT V (pre.map (fun z => z.1)) (([] : List (Nat × Nat × Nat)).map (fun z => z.1)) = NOF := rfl
      rw [e] at hT
      have := H.2.2.2.2.1.2.le
      omega
    subst eT
    refine PS_of (fun Q h => zt_X6_several_p64 (by omega) h) (fun Q h => zt_X13_nameDeclaration_p117 (by omega) h) ?_
    simp only [zb_X6_several_p64, zb_X13_nameDeclaration_p117]
    refine PS_lp trivial (PS_rp (by decide) ?_)
    have hk2 : pre ++ [] = pre := List.append_nil _
    exact kk S T H (by rw [hkc]; rfl) hkt rfl NX.rf.w (fun _ _ => SMN.rf) (by rw [hk2]; exact hI) (by rw [hk2]; exact hpre) rfl
  | zz :: l, pre, S, T, T', y, j, x, H, hcr, hT, hkc, hkt, hsn, h0, hy, ht, hj, hyj, hl, h39, hI, hpre, hK, hA0, kk => by
    obtain ⟨m, q, dq⟩ := zz
    obtain ⟨e1, e2, e3, e4⟩ := hl
    have e1 : V.2.1 y j = some q := e1
    have e2 : x = i_ m := e2
    have e3 : CHx V tn nu k0 (some ln) m q dq := e3
    have e4 : LPx V tn nu k0 (some ln) l (V.2.1 q 7) (V.2.2.1 32 m) none (-1) := e4
    have h26m : V.2.2.1 26 m = i_ (39 : Nat) := h39 _ List.mem_cons_self
    have hnk := e3.nk hs
    obtain ⟨rq, hnuq, hmq, -, -, hol⟩ := e3.nb h26m ⟨by decide, by decide⟩
    have h27 : V.2.2.1 27 m = ln := hol ln rfl
    obtain ⟨htq, hl2q, -, -, hnm⟩ := hs.lf hnuq hmq h26m (by decide)
    have hqp : q ≠ p := fun e => by
      have hv := (H.1.go hs hy.1 ht hj e1 hnk.1 hnk.2).2.1.1
      rw [e] at hv
      exact hv H.2.2.1.1
    obtain ⟨H1, hx1, ⟨hqv, hql, hqd⟩, hsm1⟩ := H.add hcr hs hy ht hj e1 hnk.1 hnk.2 hyj
    have hq0 : q ∉ S0.vs := fun e => hqv (H.2.1.2.2.2.1 _ e)
    obtain ⟨S1, hS1⟩ : ∃ S1, S1 = (S.go y j).at q := ⟨_, rfl⟩
    have f1 : S1.w = S.w ∧ S1.t = S.t ∧ S1.al = S.al ∧ S1.am = S.am ∧ S1.ys = S.ys ∧ S1.sn = S.sn ∧ S1.kc = S.kc ∧ S1.kt = S.kt ∧ S1.u = S.u ∧ S1.vs = q :: S.vs ∧ S1.dn = S.dn ∧ S1.2.2.2.2.2.1 = S.2.2.2.2.2.1 := by subst hS1; exact ⟨rfl, rfl, rfl, rfl, rfl, rfl, rfl, rfl, rfl, rfl, rfl, rfl⟩
    rw [← hS1] at H1 hx1 hql hqd hsm1
    clear hS1
    obtain ⟨fw, ft, fal, fam, fys, fsn, fkc, fkt, fu, fvs, fdn, f6⟩ := f1
    have hw := H1.1.nw hnuq
    have hwp := H1.1.nw hnu
    have htn := H1.1.1.2.2 n htm
    have htq' := H1.1.1.2.2 m htq
    have hT1 := H1.1.1.2.1
    have hf := H1.1.2.2.2.2.2.2.1
    have hvl := hs.2.2.2.2.2.2 S1.vs H1.1.2.2.2.2.2.2.2.1.1 (fun a ha => (H1.1.2.2.2.2.2.2.2.1.2 a ha).1)
    have hsnb := H1.1.2.2.1.1.2
    have hun := H1.1.2.2.1.2.1.2
    have hu := H1.1.2.2.1.2.2.2
    have h44 : w_i S1.t 12 0 44 = i_ S1.sn := H1.1.2.2.1.1.1
    have hsn1 : S1.sn = s0 + pre.length := fsn.trans hsn
    rw [← fw, ← ft, e1, e2]
    have q5 : w_i S1.w 15 A0 5 = ty := by rw [fw]; exact hA0.2.2.1
    have q15 : w_p S1.w 15 A0 15 = pr := by rw [fw]; exact hA0.2.2.2
    have qlA : w_l S1.w D.1.2.1 15 A0 := by rw [fw]; exact hA0.2.1
    -- MeetingHouse declares it
    refine PS_of (fun Q h => zt_X6_several_p64 (by omega) h) (fun Q h => zt_X13_nameDeclaration_p117 (by omega) h) ?_
    simp only [zb_X6_several_p64, zb_X6_several_p130, zb_X13_nameDeclaration_p117]
    refine PS_ln (by simp) (PS_lex q rfl (PS_land hw.1 (PS_rn (i_nn (by omega)) ?_)))
    simp only [hw.2.2 9 (by decide), (hw.2.2 2 (by decide)).trans hl2q]
    refine PS_dcl2 H1 hs (by omega) (by omega) (fun A al' w2 H3 hsd hA hx3 h14 hsm3 hold => ?_)
    obtain ⟨⟨g1, g2⟩, g3, g4⟩ := hold A0 (by rw [fal, fam]; exact hA0.1)
    have hlA0 : w_l w2 D.1.2.1 15 A0 := g4 qlA
    have r5 : w_i (dcl w2 A) 15 A0 5 = ty := by
      rw [← q5, ← (g3 5).1]
      unfold dcl
      simp only [Rii, Rgi, Rpi, Rai, Rbi, Rri, Rni, Rdi, Roi, Rti, Rzi, RCi, RSi, Rip, Rgp, Rpp, Rap, Rbp, Rrp, Rnp, Rdp, Rop, Rtp, Rzp, RCp, RSp]
      simp [g1]
    have r15 : w_p (dcl w2 A) 15 A0 15 = pr := by
      rw [← q15, ← (g3 15).2]
      unfold dcl
      simp only [Rii, Rgi, Rpi, Rai, Rbi, Rri, Rni, Rdi, Roi, Rti, Rzi, RCi, RSi, Rip, Rgp, Rpp, Rap, Rbp, Rrp, Rnp, Rdp, Rop, Rtp, Rzp, RCp, RSp]
      simp
    have rp3 : w_p (dcl w2 A) 14 p 3 = V.2.1 p 3 := by
      unfold dcl
      simp only [Rii, Rgi, Rpi, Rai, Rbi, Rri, Rni, Rdi, Roi, Rti, Rzi, RCi, RSi, Rip, Rgp, Rpp, Rap, Rbp, Rrp, Rnp, Rdp, Rop, Rtp, Rzp, RCp, RSp]
      simp [(h14 p 3).2, hwp.2.1 3 (by decide)]
    have rq7 : ∀ b : Int32, w_p (svw w2 A q ty pr b) 14 q 7 = V.2.1 q 7 := fun b => by
      unfold svw dcl
      simp only [Rii, Rgi, Rpi, Rai, Rbi, Rri, Rni, Rdi, Roi, Rti, Rzi, RCi, RSi, Rip, Rgp, Rpp, Rap, Rbp, Rrp, Rnp, Rdp, Rop, Rtp, Rzp, RCp, RSp]
      simp [(h14 q 7).2, hw.2.1 7 (by decide)]
    have rq7' : w_p (dcl w2 A) 14 q 7 = V.2.1 q 7 := by
      unfold dcl
      simp only [Rii, Rgi, Rpi, Rai, Rbi, Rri, Rni, Rdi, Roi, Rti, Rzi, RCi, RSi, Rip, Rgp, Rpp, Rap, Rbp, Rrp, Rnp, Rdp, Rop, Rtp, Rzp, RCp, RSp]
      simp [(h14 q 7).2, hw.2.1 7 (by decide)]
    have hL14p : w_l w2 D.1.2.1 14 p := (H3.1.nw hnu).1
    have hL14q : w_l w2 D.1.2.1 14 q := (H3.1.nw hnuq).1
    refine PS_l (fun Q a => wkr_k (x := some A) a) (PS_lex A0 rfl (PS_land hlA0 (PS_lex A rfl (PS_land hA.2.2 (PS_lex p rfl (PS_land hL14p ?_))))))
    simp only [r5, r15, rp3]
    refine PS_l (gc' := fun Q => zL_X6_several_p64 D.1 L (KQ Q) (some p) (some A0) (some (D.1.1.1 W)) (V.2.1 q 7) (svw w2 A q ty pr (bI o))) (fun Q h => ?_) ?_
    · cases o with
      | false =>
        rw [if_pos (h3.mpr rfl)]
        refine ⟨A, rfl, hA.2.2, .inl trivial, q, rfl, hL14q, ?_⟩
        simp only [Rpi, Rpp]
        simp only [rq7']
        exact h
      | true =>
        rw [if_neg (fun e => absurd (h3.mp e) (by decide))]
        refine ⟨A, rfl, hA.2.2, .inr trivial, q, rfl, hL14q, ?_⟩
        simp only [Rpi, Rpp]
        simp only [rq7']
        exact h
    -- the twin looks whether it stood, and makes a symbol
    have hdp : dpF S1.t s0 pre.length (V.2.2.1 30 m) ln = dpN V (pre.map (fun z => z.1)) m := by
      have h5 := dpF_N (t := S1.t) (V := V) (n := m) (s := s0) (pre := pre.map (fun z => z.1)) (fun i hi => by rw [ft]; exact hI.nm i hi)
      rw [h27, List.length_map] at h5
      exact h5
    refine PS_r (fun Q h => t_dup1 (g := pre.length) hmq (show S1.sn ≤ 6100 by omega) (by omega) hT1 hf.2 h44 (htq' 30 rfl) (by omega) h) ?_
    rw [hdp]
    have H4 := H3.ttu (dpN_ok (V := V) (pre := pre.map (fun z => z.1)) (n := m))
    obtain ⟨tb, htb⟩ : ∃ tb, tb = tu S1.t (dpN V (pre.map (fun z => z.1)) m) := ⟨_, rfl⟩
    have etb : tu (S1.sy w2 al').t (dpN V (pre.map (fun z => z.1)) m) = tb := htb.symm
    rw [etb] at H4
    rw [← htb]
    have htnb := H4.1.1.2.2 n htm
    have htqb := H4.1.1.2.2 m htq
    have hTb : TLN tb := H4.1.1.2.1
    have hx4 : NX nu (S1.sy w2 al') ((S1.sy w2 al').wt w2 tb) := by
      rw [← etb]
      have := NX.ft (nu := nu) (S := S1.sy w2 al') (T := NOF) (T' := dpN V (pre.map (fun z => z.1)) m)
      rw [ru_nof H3.1.2.2.2.2.2.2.1.1] at this
      exact this
    have hb44 : w_i tb 12 0 44 = i_ S1.sn := H4.1.2.2.1.1.1
    have hn26 : w_a tb 12 0 26 n = i_ kd := (htnb 26 rfl).trans h26
    have htnb34 : w_a tb 12 0 34 n = V.2.2.1 34 n := htnb 34 rfl
    have htqb30 : w_a tb 12 0 30 m = V.2.2.1 30 m := htqb 30 rfl
    refine PS_r (gt' := fun Q => zb_X13_nameDeclaration_p231 E' L' Q (i_ n) ln v (i_ s0) (i_ m) (i_ (if o = true then -2 else -1)) v (i_ c) (V.2.2.1 30 m) (i_ m) tb) (fun Q h => ?_) ?_
    · have h195 : zb_X13_nameDeclaration_p195 E' L' Q (i_ n) ln v (i_ s0) (i_ m) (i_ c) tb := by
        simp only [zb_X13_nameDeclaration_p195, i_nat' (show n < 2147483648 by omega), i_nat' (show m < 2147483648 by omega), htnb34, htqb30]
        refine ⟨hTb.i rfl hmq, hTb.i rfl hm, ?_⟩
        cases o with
        | false =>
          rw [if_pos (h34.1 rfl)]
          exact h
        | true =>
          rw [if_neg (h34.2 rfl)]
          exact h
      unfold zb_X13_nameDeclaration_p126
      rw [hb44, if_pos (by rw [i_le (by omega) (by omega)]; omega)]
      simp only [i_nat' (show n < 2147483648 by omega), hn26]
      refine ⟨hTb.i rfl hm, ?_⟩
      rcases hkd with ⟨e5, e6, -⟩ | ⟨e5, e6, -⟩ | ⟨e5, e6, -⟩ <;> subst e5 <;> subst e6
      · rw [if_neg (by decide)]
        exact h195
      · rw [if_pos (by decide)]
        refine ⟨hTb.i rfl hm, ?_⟩
        rw [if_neg (by decide)]
        exact h195
      · rw [if_pos (by decide)]
        refine ⟨hTb.i rfl hm, ?_⟩
        rw [if_pos (by decide)]
        exact h195
    simp only [zb_X13_nameDeclaration_p231, i_nat' (show n < 2147483648 by omega), i_nat' (show m < 2147483648 by omega)]
    refine PS_r1 (fun Q hq => t_symbol (S := (S1.sy w2 al').wt w2 tb) H4.1 (by show S1.sn < 6050; omega) (by show S1.u < 6100; omega) (by omega) hq) ?_
    have hc9 : c ≤ 9 := by unfold SVK at hkd; omega
    have hTs : DTs V tn ((S1.sy w2 al').wt w2 tb) m (tsy tb S1.sn S1.u (V.2.2.1 30 m) (i_ (c : Nat)) v (i_ (if o = true then -2 else -1)) (i_ n) ln) := DTs.t0 (S := (S1.sy w2 al').wt w2 tb) hc9 H4.1.1.2
    have hTs3 := (hTs.a31 (x := i_ S1.sn)).i58 (x := w_i (tsy tb S1.sn S1.u (V.2.2.1 30 m) (i_ (c : Nat)) v (i_ (if o = true then -2 else -1)) (i_ n) ln) 12 0 58 + 1)
    simp only [show ((S1.sy w2 al').wt w2 tb).t = tb from rfl, show ((S1.sy w2 al').wt w2 tb).sn = S1.sn from rfl, show ((S1.sy w2 al').wt w2 tb).u = S1.u from rfl]
    have hs9 := tsy_s (t := tb) (s := S1.sn) (u := S1.u) (x1 := V.2.2.1 30 m) (x2 := i_ (c : Nat)) (x3 := v) (x4 := i_ (if o = true then -2 else -1)) (x5 := i_ n) (x6 := ln)
    generalize tsy tb S1.sn S1.u (V.2.2.1 30 m) (i_ (c : Nat)) v (i_ (if o = true then -2 else -1)) (i_ n) ln = ts at hTs hTs3 hs9 ⊢
    have hTt : TLN ts := hTs.2.2.2.2.2.2.1.1
    have hTr := hTs.2.2.2.2.2.2.1.2 m htq
    refine PS_rand (hTt.i rfl hmq) (PS_rand (hTt.i rfl hmq) ?_)
    simp only [hTr 32 rfl]
    obtain ⟨tf, htf⟩ : ∃ tf, tf = ws_i (ws_a ts 12 0 31 m (i_ S1.sn)) 12 0 58 (w_i ts 12 0 58 + 1) := ⟨_, rfl⟩
    rw [← htf] at hTs3 ⊢
    have ek : ∀ k j, k ≠ 31 → w_a tf 12 0 k j = w_a ts 12 0 k j := fun k j h1 => by
      rw [htf, Rai, Raa, if_neg (fun z => h1 z.1)]
    have e31 : w_a tf 12 0 31 m = i_ S1.sn := by rw [htf, Rai, Raa, if_pos ⟨rfl, rfl, rfl, rfl⟩]
    obtain ⟨H5, hx5, hsm5⟩ := H4.ts1 (y := q) (by show S1.sn + S0.vs.length + 1 ≤ S0.sn + S1.vs.length; have := H1.2.2.2.1.1.1; omega) ⟨hq0, hqd⟩ hnuq hmq hs hTs3
    have hysn : S1.ys S1.sn = none := by
      cases e : S1.ys S1.sn with
      | none => rfl
      | some A' => exact absurd (H1.1.sl e) (Nat.lt_irrefl _)
    have hDc : DCf D (S1.sy w2 al') q A (svw w2 A q ty pr (bI o)) := ((((DCf.d0 (S := S1.sy w2 al') H3.1.2.1.1).qz).i (by decide)).pz (by decide)).i (by decide)
    obtain ⟨dc1, dc2, dc3, dc4, dc5, ⟨dc6, dc7⟩, ⟨dc8, dc9⟩, dc10, dc11⟩ := hDc
    obtain ⟨⟨d0, d1, d2⟩, ⟨d4, d15, d17, d18, d19, d20⟩, d3, d5, d6, d7, d8, d9, d10, d11, d12, d13, d14, d16, -⟩ := hsd
    have hKT := (hK.st H.1 hx1.1.w).st H1.1 hx3.1.w
    have hKT := (hKT.st H3.1 hx4.1.w).st H4.1 hx5.1.w
    have hWc : D.1.1.1 W = D.1.1.1 (wc c) := by
      rcases hkd with ⟨-, e6, e7⟩ | ⟨-, e6, e7⟩ | ⟨-, e6, e7⟩ <;> subst e6 <;> subst e7 <;> rfl
    have hyo : ∀ s' A', S1.ys s' = some A' → ysU S1.ys S1.sn A s' = some A' := fun s' A' h => by
      unfold ysU
      rw [if_neg (fun e => by rw [e, hysn] at h; cases h)]
      exact h
    have rd9 : w_i (svw w2 A q ty pr (bI o)) 15 A 9 = bI o := by
      unfold svw
      rw [Rii, if_pos ⟨rfl, rfl, rfl⟩]
    have rd5 : w_i (svw w2 A q ty pr (bI o)) 15 A 5 = ty := by
      unfold svw
      rw [Rii, if_neg (fun z => absurd z.1 (by decide)), Rip, Rii, if_pos ⟨rfl, rfl, rfl⟩]
    have rd15 : w_p (svw w2 A q ty pr (bI o)) 15 A 15 = pr := by
      unfold svw
      rw [Rpi, Rpp, if_pos ⟨rfl, rfl, rfl⟩]
    have r47 : w_a tf 12 0 47 S1.sn = v := by rw [ek 47 _ (by decide), hs9.1.2.2.1]
    have hRN0 : RN0 (svw w2 A q ty pr (bI o)) tf S1.sn A := by
      refine ⟨?_, ?_, ?_, ?_⟩
      · unfold svw dcl
        simp only [Rii, Rgi, Rpi, Rai, Rbi, Rri, Rni, Rdi, Roi, Rti, Rzi, RCi, RSi, Rip, Rgp, Rpp, Rap, Rbp, Rrp, Rnp, Rdp, Rop, Rtp, Rzp, RCp, RSp]
        simp [d11]
      · unfold svw dcl
        simp only [Rii, Rgi, Rpi, Rai, Rbi, Rri, Rni, Rdi, Roi, Rti, Rzi, RCi, RSi, Rip, Rgp, Rpp, Rap, Rbp, Rrp, Rnp, Rdp, Rop, Rtp, Rzp, RCp, RSp]
        simp [d14]
      · rw [ek 53 _ (by decide), hs9.2.2.2.1]
      · rw [ek 54 _ (by decide), hs9.2.2.2.2.1]
        rfl
    have hn9 : w_i (svw w2 A q ty pr (bI o)) 15 A 9 = 0 ↔ V.2.1 p 3 = none := by
      rw [rd9, h3]
      cases o <;> simp [bI]
    have hR : RS1 D V nu (svw w2 A q ty pr (bI o)) tf (ysU S1.ys S1.sn A) S1.sn A := by
      refine ⟨⟨by omega, hA.2.2⟩, ?_, c, by unfold SVK at hkd; omega, ?_, ?_, ?_, ?_, .inl ⟨by unfold SVK at hkd; omega, o, rd9, ?_, fun e => ?_⟩, .inr ⟨n, p, r, d, kd, ⟨?_, hm, hnu, h26⟩, ?_⟩⟩
      · rw [ek 45 _ (by decide), hs9.1.1]
        refine .inl ?_
        unfold svw dcl
        simp only [Rii, Rgi, Rpi, Rai, Rbi, Rri, Rni, Rdi, Roi, Rti, Rzi, RCi, RSi, Rip, Rgp, Rpp, Rap, Rbp, Rrp, Rnp, Rdp, Rop, Rtp, Rzp, RCp, RSp]
        simp [d1]
        exact hnm
      · rw [ek 46 _ (by decide), hs9.1.2.1]
      · rw [← hWc]
        unfold svw dcl
        simp only [Rii, Rgi, Rpi, Rai, Rbi, Rri, Rni, Rdi, Roi, Rti, Rzi, RCi, RSi, Rip, Rgp, Rpp, Rap, Rbp, Rrp, Rnp, Rdp, Rop, Rtp, Rzp, RCp, RSp]
        simp [d0]
      · have hc : c ≠ 9 := by unfold SVK at hkd; omega
        rw [show decide (c = 9) = false by simp [hc]]
        unfold svw dcl
        simp only [Rii, Rgi, Rpi, Rai, Rbi, Rri, Rni, Rdi, Roi, Rti, Rzi, RCi, RSi, Rip, Rgp, Rpp, Rap, Rbp, Rrp, Rnp, Rdp, Rop, Rtp, Rzp, RCp, RSp]
        simp [d13, bI]
      · rcases hKT with ⟨k1, cy, k2, k3, k4, k5⟩ | ⟨k1, k2, k3⟩ | ⟨k1, k2, k3, k4⟩
        · exact .inl ⟨by omega, cy, k2, rd5.trans k3, rd15.trans k4, r47.trans k5⟩
        · refine .inr (.inl ⟨k1, rd5.trans k2, ?_⟩)
          rcases k3 with ⟨k3, k4⟩ | ⟨sp, P, k3, k4, k5, k6, k7⟩
          · exact .inl ⟨rd15.trans k3, r47.trans k4⟩
          · exact .inr ⟨sp, P, rd15.trans k3, hyo sp P k4, r47.trans k5, k6, k7⟩
        · exact .inr (.inr (.inl ⟨k1, rd5.trans k2, rd15.trans k3, r47.trans k4⟩))
      · rw [ek 48 _ (by decide), hs9.1.2.2.2.1]
      · exact h4 (by unfold SVK at hkd; omega)
      · rw [ek 49 _ (by decide), hs9.1.2.2.2.2.1]
      · rcases hkd with ⟨k1, k2, -⟩ | ⟨k1, k2, -⟩ | ⟨k1, k2, -⟩
        · exact .inl ⟨k1, k2, hRN0, hn9⟩
        · exact .inr (.inl ⟨k1, k2, hRN0, hn9⟩)
        · exact .inr (.inr (.inl ⟨k1, k2, hRN0⟩))
    obtain ⟨H6, hx6, hsm6⟩ := H5.dz (s := S1.sn) (y := q) (w' := svw w2 A q ty pr (bI o)) (kc' := S1.sn :: S1.kc) hA ⟨hq0, hqd⟩ hs hysn (Nat.lt_succ_self _) (by omega) (fun _ s' A' h _ => H1.1.sl h) (fun _ q' hq' => (H1.1.2.2.2.1.2.2.1.choose_spec.2.2.2 q' hq').1) dc1 dc2 dc3 dc4 dc5 dc7 dc9 (.inr ⟨rfl, dc6, dc8⟩) dc10 dc11 hR
    have H6 := H6.crd (cr' := cr) (by omega) (by omega)
    obtain ⟨S6, hS6⟩ : ∃ S6, S6 = (((S1.sy w2 al').wt w2 tb).ts tf).dz (svw w2 A q ty pr (bI o)) S1.sn A (S1.sn :: S1.kc) := ⟨_, rfl⟩
    have b1 : S6.w = svw w2 A q ty pr (bI o) ∧ S6.t = tf ∧ S6.al = al' ∧ S6.am = S1.am + 1 ∧ S6.ys = ysU S1.ys S1.sn A ∧ S6.sn = S1.sn + 1 ∧ S6.kc = S1.sn :: S1.kc ∧ S6.kt = S1.kt ∧ S6.u = S1.u ∧ S6.vs = S1.vs ∧ S6.tl = S1.tl := by subst hS6; exact ⟨rfl, rfl, rfl, rfl, rfl, rfl, rfl, rfl, rfl, rfl, rfl⟩
    have hx16 : NXw nu S1 S6 := by
      subst hS6
      exact ((hx3.tr hx4 (.inl rfl)).tr hx5 (.inl rfl)).w.tr hx6 (.inl rfl)
    have hsm16 : ∀ b ∈ S1.vs, b ≠ q → SMN nu S1 S6 b := fun b hb hbq => by
      subst hS6
      have h4' : SMN nu (S1.sy w2 al') ((S1.sy w2 al').wt w2 tb) b := ⟨⟨rfl, rfl⟩, fun _ _ _ _ _ _ => by show w_a tb _ _ _ _ = _; rw [htb, tu_a]; rfl⟩
      exact (((hsm3 b hb).tr h4').tr (hsm5 b hbq)).tr (hsm6 b hbq)
    have H6 : HM D V nu tn rt p J cr S0 S6 T (min T' (dpN V (pre.map (fun z => z.1)) m)) := by rw [hS6]; exact H6
    have e16 : w_p (svw w2 A q ty pr (bI o)) 14 q 16 = some A := by
      unfold svw
      rw [Rpi, Rpp, if_neg (fun z => absurd z.2.1 (by decide)), Rpi, Rpp, if_pos ⟨rfl, rfl, rfl⟩]
    clear hS6 hx6 hsm6 hx5 hsm5 H5 H4 hx4 hR
    obtain ⟨bw, bt, bal, bam, bys, bsn, bkc, bkt, bu, bvs, btl⟩ := b1
    have hv01 : ∀ b ∈ S.vs, b ∈ S6.vs := fun b hb => by rw [bvs, fvs]; exact List.mem_cons_of_mem _ hb
    have hx06 : NXw nu S S6 := hx1.w.tr hx16 (.inl fu)
    have hsm06 : ∀ b ∈ S.vs, SMN nu S S6 b := fun b hb => (hsm1 b).tr (hsm16 b (by rw [fvs]; exact List.mem_cons_of_mem _ hb) (fun e => hqv (by rw [← e]; exact hb)))
    have hITF : ITF V nu S6 (fun c' => c' = c) S6.u (m, q, dq) (s0 + pre.length) := by
      rw [← hsn1]
      refine ⟨⟨rq, hnuq⟩, ⟨A, ?_, ?_, ?_⟩, ?_, ⟨c, rfl, ?_⟩, ?_, ?_⟩
      · rw [bys]
        unfold ysU
        rw [if_pos rfl]
      · rw [bw]
        exact e16
      · rw [bt]
        exact e31
      · rw [bt, ek 45 _ (by decide), hs9.1.1]
      · rw [bt, ek 46 _ (by decide), hs9.1.2.1]
      · rw [bt, ek 51 _ (by decide), hs9.2.1, bu]
      · rw [bsn]
        exact Nat.lt_succ_self _
    have hITL : ITL V nu S6 (fun c' => c' = c) S6.u s0 (pre ++ [(m, q, dq)]) := by
      refine ITL.snoc ?_ hITF
      rw [bu, fu]
      exact hI.st hx06.1 (fun z hz => hsm06 _ (hpre z hz).1)
    rw [← bw, ← bt]
    have hlen : (pre ++ [(m, q, dq)]).length = pre.length + 1 := by rw [List.length_append]; rfl
    refine n_sev hs hnu hm htm h26 hkd h34 h3 h4 hln hL hL' (l := l) (pre := pre ++ [(m, q, dq)]) (S := S6) (y := q) (j := 7) H6 hcr ?_ ?_ (bkt.trans (fkt.trans hkt)) ?_ h0 ⟨by rw [bvs, fvs]; exact List.mem_cons_self, hq0⟩ (by rw [btl]; exact hql 7) ⟨by decide, by decide⟩ (fun e => absurd e hqp) e4 (fun z hz => h39 z (List.mem_cons_of_mem _ hz)) hITL (fun z hz => ?_) ((hK.st H.1 hx1.1.w).st H1.1 hx16.1) ⟨?_, ?_, ?_, ?_⟩ (fun S' T1 H' k1 k2 k3 k4 k5 k6 k7 k8 => ?_)
    · rw [hT, List.map_cons, List.map_append]
      show min T' (min (dpN V (pre.map (fun z => z.1)) m) (agT V (pre.map (fun z => z.1) ++ [m]) (l.map (fun z => z.1)))) = min (min T' (dpN V (pre.map (fun z => z.1)) m)) (agT V (pre.map (fun z => z.1) ++ [m]) (l.map (fun z => z.1)))
      omega
    · rw [bkc, fkc, hkc, hlen, hsn1]
      rfl
    · rw [bsn, hsn1, hlen]
      omega
    · rcases List.mem_append.mp hz with e | e
      · exact ⟨hv01 _ (hpre z e).1, (hpre z e).2⟩
      · rw [List.mem_singleton] at e
        subst e
        exact ⟨by rw [bvs, fvs]; exact List.mem_cons_self, hq0, hqp⟩
    · rw [bal, bam]
      exact g2
    · rw [bw]
      exact hlA0
    · rw [bw]
      unfold svw
      rw [Rii, if_neg (fun z => absurd z.1 (by decide)), Rip, Rii, if_neg (fun z => g1 z.2.2), Rip]
      exact r5
    · rw [bw]
      unfold svw
      rw [Rpi, Rpp, if_neg (fun z => g1 z.2.2), Rpi, Rpp, if_neg (fun z => absurd z.2.1 (by decide))]
      exact r15
    · have ea : pre ++ [(m, q, dq)] ++ l = pre ++ (m, q, dq) :: l := by rw [List.append_assoc]; rfl
      rw [ea] at k6 k7
      exact kk S' T1 H' (by rw [k1, hlen, show pre.length + ((m, q, dq) :: l).length = pre.length + 1 + l.length by rw [List.length_cons]; omega]) k2 (k3.trans (bu.trans fu)) (hx06.tr k4 (.inl (bu.trans fu))) (fun b hb => (hsm06 b hb).tr (k5 b (hv01 b hb))) k6 k7 k8
end SEV
