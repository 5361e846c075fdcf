/-! ===== ROUNDS, part 51: formals ===== -/
section FMS
variable {D : pD} {V : pV} {nu : pN} {tn : Nat → Prop} {rt p q n nq m r d dq j k k' k0 f s s0 sP u un y A A0 P c cr crq kd W i : Nat} {J J' Jq : List Nat} {S S' S0 S1 : nS} {w w2 w' t t' : wS} {v2 pr : Option Nat} {x x1 x2 x3 x5 x6 x7 z y9 l' ty v ln : Int32} {T T' T1 T2 : Int} {kr ks : List Nat} {L L' Lc Ls Lk Lx Lt : Nat} {E E' : zE} {ol : Option Int32} {Q : kx_Rs → wS → Prop} {gc gt : pQ} {Φ : kx_Rs → wS → kx_Rs → wS → Prop} {C : Nat → Prop} {o : Bool}
/-- the twin looks whether a formal stood already -/
theorem t_dup3 {sn : Nat} (hm : m < 14000) (hsn : sn ≤ 6100) (hL : 64 ≤ L') : ∀ {g a : Nat} {t : wS}, TLN t → fkk (w_i t 12 0 64) → w_i t 12 0 44 = i_ sn → w_a t 12 0 30 m = x → w_a t 12 0 27 m = ln → a + g = sn → zb_X13_nameFormals_p79 E' L' Q x1 x2 x3 (i_ m) x5 x6 x7 (i_ sn) (tu t (dpF t a g x ln)) → zL_X13_nameFormals_p79 E' L' Q x1 x2 x3 (i_ m) x5 x6 x7 (i_ a) t
  | 0, a, t, hT, hf, h44, h30, h27, ha, h => by
    have e : a = sn := by omega
    subst e
    rw [dpF_nil, tu_nof hf] at h
    exact zt_X13_nameFormals_p79 (by omega) h
  | g + 1, a, t, hT, hf, h44, h30, h27, ha, h => by
    have hlt : a < sn := by omega
    rw [dpF_st] at h
    refine zt_X13_nameFormals_p79 (by omega) ?_
    unfold zb_X13_nameFormals_p79
    rw [h44, if_neg (by rw [i_le (by omega) (by omega)]; omega)]
    simp only [zb_X13_nameFormals_p117, i_nat' (show a < 2147483648 by omega), i_nat' (show m < 2147483648 by omega), h30, h27, i_inc]
    refine ⟨hT.sy rfl (by omega), hT.i rfl hm, ?_⟩
    by_cases c : w_a t 12 0 45 a = x
    · rw [if_neg (not_not_intro c)]
      rw [if_pos c, ← tu_tu hf (.inr ⟨4, _, ⟨by decide, by decide⟩, rfl⟩) dpF_ok] at h
      refine ⟨hT.i rfl hm, t_tells (k := 4) (by omega) hf ⟨by decide, by decide⟩ ?_⟩
      intro _
      rw [← dpF_tu (T := fln 4 ln)] at h
      exact t_dup3 hm hsn hL (hT.fr FTn_tu) (tu_fct hf (.inr ⟨4, _, ⟨by decide, by decide⟩, rfl⟩)).2 (by unfold tu; split <;> first | exact h44 | (rw [Rii, if_neg (fun z => absurd z.1 (by decide)), Rii, if_neg (fun z => absurd z.1 (by decide))]; exact h44)) (by rw [tu_a]; exact h30) (by rw [tu_a]; exact h27) (by omega) h
    · rw [if_pos c]
      have em : min NOF (dpF t (a + 1) g x ln) = dpF t (a + 1) g x ln := by
        have := (dpF_ok (t := t) (a := a + 1) (g := g) (x := x) (l := ln)).le
        omega
      rw [if_neg c, em] at h
      exact t_dup3 hm hsn hL hT hf h44 h30 h27 (by omega) h
/-- a FUNCTION's formals must be VAL -/
def r6T (isf v : Bool) (l : Int32) : Int := if isf = true ∧ v = false then fln 6 l else NOF
theorem r6T_ok {a b : Bool} : FTK (r6T a b x) := by
  unfold r6T
  split
  · exact .inr ⟨6, _, ⟨by decide, by decide⟩, rfl⟩
  · exact .inl rfl
def fmw (w4 : wS) (A q : Nat) (b9 b12 : Int32) : wS := ws_p (ws_i (ws_i (ws_i (ws_i (ws_i w4 15 A 9 b9) 15 A 11 1) 15 A 12 b12) 5 0 4 (w_i w4 5 0 4 + 1)) 15 A 3 (w_i w4 5 0 4)) 14 q 16 (some A)
def Cf (c : Nat) : Prop := c = 1 ∨ c = 2 ∨ c = 3
set_option maxRecDepth 4000 in
/-- formals in a row: their symbols are made on both sides -/
theorem n_fm {KQ KT : (kx_Rs → wS → Prop) → kx_Rs → wS → Prop} {isf : Bool} {kp : Option Nat} {bg : Int32} (hs : STR D V nu tn rt) (hnu : nu p = some (n, r, d)) (hm : n < 14000) (htm : tn n) (hk0 : V.2.1 p 0 = some (D.1.1.1 (if isf = true then 11 else 33))) (hL : 240 ≤ L) (hL' : 220 ≤ L') :
    ∀ {l pre : List (Nat × Nat × Nat)} {S : nS} {T T' : Int} {y j : Nat} {x : Int32}, HM D V nu tn rt p J 4 S0 S T T' → T = min T' (agT V (pre.map (fun z => z.1)) (l.map (fun z => z.1))) → KRE S kr → S.sn = s0 + pre.length → S0.sn ≤ s0 → (y ∈ S.vs ∧ y ∉ S0.vs) → ¬ S.tl y j → (3 ≤ j ∧ j ≤ 7) → (y = p → j ∈ J) → LPx V tn nu k0 ol l (V.2.1 y j) x none (-1) → (∀ z ∈ l, V.2.2.1 26 z.1 = i_ (42 : Nat)) → ITL V nu S Cf S.u s0 pre → (∀ z ∈ pre, z.2.1 ∈ S.vs ∧ z.2.1 ∉ S0.vs ∧ z.2.1 ≠ p) → (∀ s' A', S.ys s' = some A' → nrt S.t s' → s' < S.sn) →
      (∀ (S' : nS) (T1 : Int), HM D V nu tn rt p J 4 S0 S' T1 T1 → T1 ≤ T → KRE S' kr → S'.2.2.2.2.2.1 = S.2.2.2.2.2.1 → S'.sn = s0 + (pre.length + l.length) → NXw nu S S' → (∀ b ∈ S.vs, SMN nu S S' b ∧ b ∈ S'.vs) → (∀ s', s' < s0 → S'.ys s' = S.ys s') → ITL V nu S' Cf S'.u s0 (pre ++ l) → (∀ z ∈ pre ++ l, z.2.1 ∈ S'.vs ∧ z.2.1 ∉ S0.vs ∧ z.2.1 ≠ p) → PS (fun Q => zL_X6_routine_p184 D.1 L (KQ Q) (some p) kp bg (V.2.1 p 3) S'.w) (fun Q => kx_inb (i_ n) (w_n S'.t 12 0 28) = true ∧ zL_X13_nameFormals_p248 E' L' (KT Q) (w_a S'.t 12 0 28 (i_ n).toNatClampNeg) S'.t) Φ) →
      PS (fun Q => zL_X6_routine_p24 D.1 L (KQ Q) (some p) kp bg (V.2.1 y j) S.w) (fun Q => zL_X13_nameFormals_p13 E' L' (KT Q) (i_ n) (bI isf) (i_ s0) x S.t) Φ
  | [], pre, S, T, T', y, j, x, H, hT, hk, hsn, h0, hy, ht, hj, hyj, hl, h42, hI, hpre, hla, kk => by
    obtain ⟨h1, h2⟩ := hl
    rw [h1, h2]
    have eT : T = T' := by
      have e : agT V (pre.map (fun z => z.1)) (([] : List (Nat × Nat × Nat)).map (fun z => z.1)) = NOF := rfl
      rw [e] at hT
      have := H.2.2.2.2.1.2.le
      omega
    subst eT
    have hw := H.1.nw hnu
    refine PS_of (fun Q h => zt_X6_routine_p24 (by omega) h) (fun Q h => zt_X13_nameFormals_p13 (by omega) h) ?_
    simp only [zb_X6_routine_p24, zb_X13_nameFormals_p13]
    refine PS_lp trivial (PS_lex p rfl (PS_land hw.1 (PS_rp (by decide) ?_)))
    rw [hw.2.1 3 (by decide)]
    have hk2 : pre ++ [] = pre := List.append_nil _
    exact kk S T H (Int.le_refl _) hk rfl hsn NX.rf.w (fun b hb => ⟨SMN.rf, hb⟩) (fun _ _ => rfl) (by rw [hk2]; exact hI) (by rw [hk2]; exact hpre)
  | zz :: l, pre, S, T, T', y, j, x, H, hT, hk, hsn, h0, hy, ht, hj, hyj, hl, h42, hI, hpre, hla, kk => by
    obtain ⟨m, q, dq⟩ := zz
    obtain ⟨e1, e2, e3, e4⟩ := hl
    have e1 : V.2.1 y j = some q := e1
    have e2 : x = i_ m := e2
    have e3 : CHx V tn nu k0 ol m q dq := e3
    have e4 : LPx V tn nu k0 ol l (V.2.1 q 7) (V.2.2.1 32 m) none (-1) := e4
    have h26m : V.2.2.1 26 m = i_ (42 : Nat) := h42 _ List.mem_cons_self
    have hnk := e3.nk hs
    obtain ⟨rq, hnuq, hmq, -, -, -⟩ := e3.nb h26m ⟨by decide, by decide⟩
    obtain ⟨htq, hl2q, -, hk0q, hnm, o, vl, hop, hvl15, hsp⟩ := hs.lf hnuq hmq h26m (by decide)
    -- what it is
    obtain ⟨c, W, xc, hcW, hKI, h34a, h34b, h34c, hRk⟩ : ∃ (c W : Nat) (xc : Int32), ((c = 1 ∧ W = 54) ∨ (c = 2 ∧ W = 55) ∨ (c = 3 ∧ W = 53)) ∧ (((c = 1 ∧ vl = false ∨ c = 2 ∧ vl = true) ∧ xc = 0 ∧ V.1 q 14 = 0 ∧ tyr (V.1 q 8) (V.2.2.1 33 m)) ∨ (c = 3 ∧ vl = false ∧ xc = 1 ∧ V.1 q 14 = 1 ∧ KN D V nu (V.2.1 q 5) (V.2.2.1 33 m))) ∧ ((xc = 0 → V.2.2.1 34 m &&& 2 = 0) ∧ (xc = 1 → ¬ V.2.2.1 34 m &&& 2 = 0)) ∧ ((o = false → V.2.2.1 34 m &&& 1 = 0) ∧ (o = true → ¬ V.2.2.1 34 m &&& 1 = 0)) ∧ ((vl = false → V.2.2.1 34 m &&& 4 = 0) ∧ (vl = true → ¬ V.2.2.1 34 m &&& 4 = 0)) ∧ ((c = 3 ∧ V.1 q 14 = 1) ∨ (c = 2 ∧ V.1 q 14 = 0 ∧ V.1 q 15 = 1) ∨ (c = 1 ∧ V.1 q 14 = 0 ∧ V.1 q 15 = 0)) := by
      rcases hsp with ⟨h1, -, h2, h3⟩ | ⟨h1, h2, hvf, h3⟩
      · cases vl with
        | false =>
          refine ⟨1, 54, 0, .inl ⟨rfl, rfl⟩, .inl ⟨.inl ⟨rfl, rfl⟩, rfl, h1, h2⟩, ⟨fun _ => ?_, fun e => absurd e (by decide)⟩, ?_, ?_, .inr (.inr ⟨rfl, h1, hvl15⟩)⟩
          · rw [h3]
            cases o <;> decide
          · rw [h3]
            cases o <;> exact ⟨by decide, by decide⟩
          · rw [h3]
            cases o <;> exact ⟨by decide, by decide⟩
        | true =>
          refine ⟨2, 55, 0, .inr (.inl ⟨rfl, rfl⟩), .inl ⟨.inr ⟨rfl, rfl⟩, rfl, h1, h2⟩, ⟨fun _ => ?_, fun e => absurd e (by decide)⟩, ?_, ?_, .inr (.inl ⟨rfl, h1, hvl15⟩)⟩
          · rw [h3]
            cases o <;> decide
          · rw [h3]
            cases o <;> exact ⟨by decide, by decide⟩
          · rw [h3]
            cases o <;> exact ⟨by decide, by decide⟩
      · subst hvf
        refine ⟨3, 53, 1, .inr (.inr ⟨rfl, rfl⟩), .inr ⟨rfl, rfl, rfl, h1, h2⟩, ⟨fun e => absurd e (by decide), fun _ => ?_⟩, ?_, ?_, .inl ⟨rfl, h1⟩⟩
        · rw [h3]
          cases o <;> decide
        · rw [h3]
          cases o <;> exact ⟨by decide, by decide⟩
        · rw [h3]
          cases o <;> exact ⟨by decide, by decide⟩
    clear hsp
    have hWc : D.1.1.1 W = D.1.1.1 (wc c) := by rcases hcW with ⟨a, b⟩ | ⟨a, b⟩ | ⟨a, b⟩ <;> subst a <;> subst b <;> rfl
    have hc13 : c = 1 ∨ c = 2 ∨ c = 3 := by omega
    have hqp : q ≠ p := fun e => by
      have hv := (H.1.go hs hy.1 ht hj e1 hnk.1 hnk.2).2.1.1
      rw [e] at hv
      exact hv H.2.2.1.1
    obtain ⟨H1, hx1, ⟨hqv, hql, hqd⟩, hsm1⟩ := H.add (by decide) hs hy ht hj e1 hnk.1 hnk.2 hyj
    have hq0 : q ∉ S0.vs := fun e => hqv (H.2.1.2.2.2.1 _ e)
    obtain ⟨S1, hS1⟩ : ∃ S1, S1 = (S.go y j).at q := ⟨_, rfl⟩
    have f1 : S1.w = S.w ∧ S1.t = S.t ∧ S1.ys = S.ys ∧ S1.sn = S.sn ∧ S1.2.2.2.2.1 = S.2.2.2.2.1 ∧ S1.2.2.2.2.2.1 = S.2.2.2.2.2.1 ∧ S1.vs = q :: S.vs ∧ S1.dn = S.dn := by subst hS1; exact ⟨rfl, rfl, rfl, rfl, rfl, rfl, rfl, rfl⟩
    rw [← hS1] at H1 hx1 hql hqd hsm1
    clear hS1
    obtain ⟨fw, ft, fys, fsn, fkn, f6, fvs, fdn⟩ := f1
    have fu : S1.u = S.u := congrArg Prod.fst f6
    have hk1 : KRE S1 kr := ⟨(congrArg Prod.fst fkn).trans hk.1, (congrArg Prod.snd fkn).trans hk.2⟩
    have hw := H1.1.nw hnuq
    have hwp := H1.1.nw hnu
    have htq' := H1.1.1.2.2 m htq
    have hT1 := H1.1.1.2.1
    have hf := H1.1.2.2.2.2.2.2.1
    have hvl := hs.2.2.2.2.2.2 S1.vs H1.1.2.2.2.2.2.2.2.1.1 (fun a ha => (H1.1.2.2.2.2.2.2.2.1.2 a ha).1)
    have hsnb := H1.1.2.2.1.1.2
    have hun := H1.1.2.2.1.2.1.2
    have hu := H1.1.2.2.1.2.2.2
    have hsn1 : S1.sn = s0 + pre.length := fsn.trans hsn
    rw [← fw, ← ft, e1, e2]
    refine PS_of (fun Q h => zt_X6_routine_p24 (by omega) h) (fun Q h => zt_X13_nameFormals_p13 (by omega) h) ?_
    simp only [zb_X6_routine_p24, zb_X13_nameFormals_p13, i_nat' (show m < 2147483648 by omega), htq' 34 rfl, hw.2.2 14 (by decide), hw.2.2 15 (by decide)]
    refine PS_ln (by simp) (PS_lex q rfl (PS_land hw.1 (PS_rn (i_nn (by omega)) (PS_rand (hT1.i rfl hmq) ?_))))
    simp only [hw.2.2 14 (by decide), hw.2.2 15 (by decide)]
    refine PS_l (gc' := fun Q => zb_X6_routine_p64 D.1 L (KQ Q) (some p) kp bg (some q) (some (D.1.1.1 W)) S1.w) (fun Q h => ?_) ?_
    · rcases hRk with ⟨a, b⟩ | ⟨a, b, b'⟩ | ⟨a, b, b'⟩
      · have e : W = 53 := by omega
        rw [if_neg (by rw [b]; decide), ← e]
        exact h
      · have e : W = 55 := by omega
        rw [if_pos b, if_neg (by rw [b']; decide), ← e]
        exact h
      · have e : W = 54 := by omega
        rw [if_pos b, if_pos b', ← e]
        exact h
    have hxc : xc = 0 ∨ xc = 1 := by
      rcases hKI with ⟨-, a, -⟩ | ⟨-, -, a, -⟩
      · exact .inl a
      · exact .inr a
    refine PS_r (gt' := fun Q => zb_X13_nameFormals_p35 E' L' (KT Q) (i_ n) (bI isf) (i_ s0) (i_ m) xc S1.t) (fun Q h => ?_) ?_
    · rcases hxc with e | e
      · rw [if_pos (h34a.1 e), ← e]
        exact h
      · rw [if_neg (h34a.2 e), ← e]
        exact h
    simp only [zb_X6_routine_p64, zb_X13_nameFormals_p35, i_nat' (show m < 2147483648 by omega), htq' 34 rfl, hw.2.2 9 (by decide), (hw.2.2 2 (by decide)).trans hl2q]
    refine PS_lex q rfl (PS_land hw.1 (PS_rand (hT1.i rfl hmq) ?_))
    simp only [hw.2.2 9 (by decide), (hw.2.2 2 (by decide)).trans hl2q]
    refine PS_r (gt' := fun Q => zb_X13_nameFormals_p54 E' L' (KT Q) (i_ n) (bI isf) (i_ s0) (i_ m) xc (bI vl) S1.t) (fun Q h => ?_) ?_
    · cases vl with
      | false =>
        rw [if_pos (h34c.1 rfl)]
        exact h
      | true =>
        rw [if_neg (h34c.2 rfl)]
        exact h
    -- the twin's KIND, names that stood
    simp only [zb_X13_nameFormals_p54, i_nat' (show m < 2147483648 by omega), htq' 33 rfl, htq' 27 rfl]
    refine PS_rand (hT1.i rfl hmq) (PS_rand (hT1.i rfl hmq) ?_)
    refine PS_r1 (fun Q hq => t_kof (S := S1) (kr := kr) H1.1 hs hk1 (by omega) hq) ?_
    obtain ⟨Tk, hTk⟩ : ∃ Tk, Tk = kiT S1.t kr (V.2.2.1 33 m) (V.2.2.1 27 m) := ⟨_, rfl⟩
    obtain ⟨xv, hxv⟩ : ∃ xv, xv = kiV S1.t kr (V.2.2.1 33 m) := ⟨_, rfl⟩
    have hTk0 : FTK Tk := by rw [hTk]; exact kiT_ok
    obtain ⟨Td, hTd⟩ : ∃ Td, Td = dpN V (pre.map (fun z => z.1)) m := ⟨_, rfl⟩
    have hTd0 : FTK Td := by rw [hTd]; exact dpN_ok
    obtain ⟨T6, hT6⟩ : ∃ T6, T6 = r6T isf vl (V.2.2.1 27 m) := ⟨_, rfl⟩
    have hT60 : FTK T6 := by rw [hT6]; exact r6T_ok
    rw [← hTk, ← hxv]
    have hTa : TLN (tu S1.t Tk) := hT1.fr FTn_tu
    have hfa : fkk (w_i (tu S1.t Tk) 12 0 64) := (tu_fct hf.2 hTk0).2
    have hai : ∀ (t : wS) (T : Int), w_i (tu t T) 12 0 44 = w_i t 12 0 44 := fun t T => by
      unfold tu
      split
      · rfl
      · rw [Rii, if_neg (fun z => absurd z.1 (by decide)), Rii, if_neg (fun z => absurd z.1 (by decide))]
    have hdp : dpF (tu S1.t Tk) s0 pre.length (V.2.2.1 30 m) (V.2.2.1 27 m) = Td := by
      rw [dpF_tu, hTd]
      have h5 := dpF_N (t := S1.t) (V := V) (n := m) (s := s0) (pre := pre.map (fun z => z.1)) (fun i hi => by rw [ft]; exact hI.nm i hi)
      rw [List.length_map] at h5
      exact h5
    refine PS_r (fun Q h => t_dup3 (g := pre.length) (x := V.2.2.1 30 m) (ln := V.2.2.1 27 m) hmq (show S1.sn ≤ 6100 by omega) (by omega) hTa hfa ((hai _ _).trans H1.1.2.2.1.1.1) (by rw [tu_a]; exact htq' 30 rfl) (by rw [tu_a]; exact htq' 27 rfl) (by omega) h) ?_
    rw [hdp]
    obtain ⟨tb, htb⟩ : ∃ tb, tb = tu (tu (tu S1.t Tk) Td) T6 := ⟨_, rfl⟩
    have hTb : TLN tb := by rw [htb]; exact (hTa.fr FTn_tu).fr FTn_tu
    have hfb : fkk (w_i (tu (tu S1.t Tk) Td) 12 0 64) := (tu_fct hfa hTd0).2
    have hba : ∀ k j, w_a tb 12 0 k j = w_a S1.t 12 0 k j := fun k j => by rw [htb, tu_a, tu_a, tu_a]
    have hb44 : w_i tb 12 0 44 = i_ S1.sn := by rw [htb, hai, hai, hai]; exact H1.1.2.2.1.1.1
    refine PS_r (gt' := fun Q => zb_X13_nameFormals_p145 E' L' (KT Q) (i_ n) (bI isf) (i_ s0) (i_ m) xc (bI vl) xv tb) (fun Q h => ?_) ?_
    · unfold zb_X13_nameFormals_p79
      rw [hai, hai, H1.1.2.2.1.1.1, if_pos (by rw [i_le (by omega) (by omega)]; omega)]
      simp only [i_nat' (show m < 2147483648 by omega), tu_a, htq' 27 rfl]
      rw [htb, hT6] at h
      unfold r6T at h
      cases isf with
      | false =>
        rw [if_pos (show bI false = 0 by decide)]
        rw [if_neg (fun z => absurd z.1 (by decide)), tu_nof hfb] at h
        exact h
      | true =>
        rw [if_neg (by decide)]
        cases vl with
        | true =>
          rw [if_pos (by decide)]
          rw [if_neg (fun z => absurd z.2 (by decide)), tu_nof hfb] at h
          exact h
        | false =>
          rw [if_neg (by decide)]
          rw [if_pos ⟨rfl, rfl⟩] at h
          exact ⟨(hTa.fr FTn_tu).i rfl hmq, t_tells (k := 6) (by omega) hfb ⟨by decide, by decide⟩ (fun _ => h)⟩
    refine PS_r (gt' := fun Q => zb_X13_nameFormals_p198 E' L' (KT Q) (i_ n) (bI isf) (i_ s0) (i_ m) xv (i_ (if o = true then -2 else -1)) (i_ c) (V.2.2.1 30 m) (i_ m) tb) (fun Q h => ?_) ?_
    · have h163 : zb_X13_nameFormals_p163 E' L' (KT Q) (i_ n) (bI isf) (i_ s0) (i_ m) xc (bI vl) xv (i_ (if o = true then -2 else -1)) tb := by
        simp only [zb_X13_nameFormals_p163, i_nat' (show m < 2147483648 by omega), hba, htq' 30 rfl]
        refine ⟨hTb.i rfl hmq, ?_⟩
        rcases hKI with ⟨⟨a, a'⟩ | ⟨a, a'⟩, b, -⟩ | ⟨a, -, b, -⟩
        · rw [if_pos b, a', if_pos (show bI false = 0 by decide)]
          rw [a] at h
          rw [a'] at *
          exact h
        · rw [if_pos b, a', if_neg (by decide)]
          rw [a] at h
          rw [a'] at *
          exact h
        · rw [if_neg (by rw [b]; decide)]
          rw [a] at h
          exact h
      simp only [zb_X13_nameFormals_p145, i_nat' (show m < 2147483648 by omega), hba, htq' 34 rfl]
      refine ⟨hTb.i rfl hmq, ?_⟩
      cases o with
      | false =>
        rw [if_pos (h34b.1 rfl)]
        exact h163
      | true =>
        rw [if_neg (h34b.2 rfl)]
        exact h163
    -- MeetingHouse's symbol, its KIND
    refine PS_sym H1 hs (by decide) (by omega) (fun A al' w2 H2 hsd hA hx2 h14 hsm2 hold h5 => ?_)
    refine PS_l (fun Q a => wkr_k (x := some A) a) ?_
    have hkS : KRE (S1.sy w2 al') kr := hk1
    have hpr0 : w_p w2 15 A 15 = none := hsd.2.1.2.1
    have kk2 : ∀ w4 : wS, HM D V nu tn rt p J (4 + 5 - 2) S0 ((S1.sy w2 al').wt w4 S1.t) (min T Tk) T' → FRA D ((S1.sy w2 al').wt w4 S1.t) A → NX nu (S1.sy w2 al') ((S1.sy w2 al').wt w4 S1.t) → KFr w2 w4 A → (KY1 w4 A xv ∨ (c = 3 ∧ KY2 w4 S1.t S1.ys A xv)) → PS (fun Q => w_l w4 D.1.2.1 15 A ∧ ((w_i w4 14 q 13 = 0 ∨ w_i w4 14 q 13 = 1) ∧ ((w_i w4 14 q 15 = 0 ∨ w_i w4 14 q 15 = 1) ∧ (∃ p7, some p = some p7 ∧ w_l (fmw w4 A q (w_i w4 14 q 13) (w_i w4 14 q 15)) D.1.2.1 14 p7 ∧ (if ¬ w_p w4 14 p7 0 = some (D.1.1.1 11) then zb_X6_routine_p168 D.1 L (KQ Q) (some p) kp bg (some q) (fmw w4 A q (w_i w4 14 q 13) (w_i w4 14 q 15)) else (if ¬ w_i w4 14 q 15 = 0 then zb_X6_routine_p168 D.1 L (KQ Q) (some p) kp bg (some q) (fmw w4 A q (w_i w4 14 q 13) (w_i w4 14 q 15)) else zw D.1 (L - 22) kt_M56 [.ref (w_adr D.1.2.1 2 0), .int 6, .int (w_i w4 14 q 2)] (fmw w4 A q (w_i w4 14 q 13) (w_i w4 14 q 15)) (wk0 (fun w8 => wle (fmw w4 A q (w_i w4 14 q 13) (w_i w4 14 q 15)) w8 → zb_X6_routine_p168 D.1 L (KQ Q) (some p) kp bg (some q) w8) (fun e w => KQ Q (.inr e) w))))))) ) (fun Q => zb_X13_nameFormals_p198 E' L' (KT Q) (i_ n) (bI isf) (i_ s0) (i_ m) xv (i_ (if o = true then -2 else -1)) (i_ c) (V.2.2.1 30 m) (i_ m) tb) Φ := by
      intro w4 H4 hA4 hx4 hfr hKY
      obtain ⟨fr1, fr2, fr3, fr4, fr5⟩ := hfr
      have hw4 := H4.1.nw hnuq
      have hwp4 := H4.1.nw hnu
      have e13 : w_i w4 14 q 13 = V.1 q 13 := hw4.2.2 13 (by decide)
      have e15 : w_i w4 14 q 15 = V.1 q 15 := hw4.2.2 15 (by decide)
      have e2' : w_i w4 14 q 2 = V.2.2.1 27 m := (hw4.2.2 2 (by decide)).trans hl2q
      have ep0 : w_p w4 14 p 0 = some (D.1.1.1 (if isf = true then 11 else 33)) := (hwp4.2.1 0 (by decide)).trans hk0
      obtain ⟨wf, hwf⟩ : ∃ wf, wf = fmw w4 A q (V.1 q 13) (V.1 q 15) := ⟨_, rfl⟩
      have hw4o : w_o wf = w_o w4 := by rw [hwf]; rfl
      have hlp : w_l wf D.1.2.1 14 p := by
        have h := hwp4.1
        unfold w_l at h ⊢
        rw [hw4o]
        exact h
      have hlq : w_l wf D.1.2.1 14 q := by
        have h := hw4.1
        unfold w_l at h ⊢
        rw [hw4o]
        exact h
      have hwq7 : w_p wf 14 q 7 = V.2.1 q 7 := by
        rw [hwf]
        unfold fmw
        simp only [Rii, Rgi, Rpi, Rai, Rbi, Rri, Rni, Rdi, Roi, Rti, Rzi, RCi, RSi, Rip, Rgp, Rpp, Rap, Rbp, Rrp, Rnp, Rdp, Rop, Rtp, Rzp, RCp, RSp]
        simp
        exact hw4.2.1 7 (by decide)
      have hwf2 : w_i wf 2 0 1 = w_i w4 2 0 1 ∧ w_i wf 2 0 2 = w_i w4 2 0 2 := by
        rw [hwf]
        unfold fmw
        simp only [Rii, Rgi, Rpi, Rai, Rbi, Rri, Rni, Rdi, Roi, Rti, Rzi, RCi, RSi, Rip, Rgp, Rpp, Rap, Rbp, Rrp, Rnp, Rdp, Rop, Rtp, Rzp, RCp, RSp]
        simp
      have hff : fkk (w_i wf 2 0 1) := by rw [hwf2.1]; exact H4.1.2.2.2.2.2.2.1.1
      refine PS_l (gc' := fun Q => zL_X6_routine_p24 D.1 L (KQ Q) (some p) kp bg (V.2.1 q 7) (ru wf T6)) (fun Q h => ?_) ?_
      · refine ⟨hA4.2.2, by rw [e13, hop]; cases o <;> simp [bI], by rw [e15, hvl15]; cases vl <;> simp [bI], p, rfl, ?_, ?_⟩
        · rw [e13, e15, ← hwf]
          exact hlp
        · rw [e13, e15, ← hwf, ep0, e2']
          have h168 : ∀ T0 : Int, zL_X6_routine_p24 D.1 L (KQ Q) (some p) kp bg (V.2.1 q 7) (ru wf T0) → zb_X6_routine_p168 D.1 L (KQ Q) (some p) kp bg (some q) (ru wf T0) := fun T0 h => by
            refine ⟨q, rfl, ?_, ?_⟩
            · have h3 := hlq
              unfold w_l at h3 ⊢
              unfold ru
              split
              · exact h3
              · exact h3
            · rw [ru_p, hwq7]
              exact h
          have h168n : ru wf NOF = wf := ru_nof hff
          rw [hT6] at h
          unfold r6T at h
          cases isf with
          | false =>
            rw [if_pos (eo_ne hs.1.1 (by decide) (by decide) (by decide))]
            rw [if_neg (fun z => absurd z.1 (by decide))] at h
            have := h168 NOF h
            rw [h168n] at this
            exact this
          | true =>
            rw [if_neg (show ¬ ¬ some (D.1.1.1 (if true = true then 11 else 33)) = some (D.1.1.1 11) from not_not_intro rfl), hvl15]
            cases vl with
            | true =>
              rw [if_pos (by decide)]
              rw [if_neg (fun z => absurd z.2 (by decide))] at h
              have := h168 NOF h
              rw [h168n] at this
              exact this
            | false =>
              rw [if_neg (by decide)]
              rw [if_pos ⟨rfl, rfl⟩] at h
              exact c_rule (k := 6) (by omega) hff ⟨by decide, by decide⟩ (fun _ => h168 _ h)
      -- the twin's faults, its symbol
      have H5 := ((H4.ttu hTk0).ttu hTd0).ttu hT60
      have H5 : HM D V nu tn rt p J (4 + 5 - 2) S0 ((S1.sy w2 al').wt w4 tb) (min T Tk) (min (min (min T' Tk) Td) T6) := by rw [htb]; exact H5
      have hx45 : NX nu ((S1.sy w2 al').wt w4 S1.t) ((S1.sy w2 al').wt w4 tb) := by
        have := NX.wt (nu := nu) (S := (S1.sy w2 al').wt w4 S1.t) (w' := w4) (t' := tb) (fun _ _ _ _ => ⟨rfl, rfl⟩) (fun k _ => funext (fun j => hba k j)) (fun b _ => ⟨⟨rfl, rfl⟩, fun _ _ _ _ _ _ => hba _ _⟩)
        exact this
      have htqb := H5.1.1.2.2 m htq
      simp only [zb_X13_nameFormals_p198, i_nat' (show m < 2147483648 by omega), hba 27 m, htq' 27 rfl]
      refine PS_rand (hTb.i rfl hmq) ?_
      refine PS_r1 (fun Q hq => t_symbol (S := (S1.sy w2 al').wt w4 tb) H5.1 (by show S1.sn < 6050; omega) (by show S1.u < 6100; omega) (by omega) hq) ?_
      have hTs : DTs V tn ((S1.sy w2 al').wt w4 tb) m (tsy tb S1.sn S1.u (V.2.2.1 30 m) (i_ (c : Nat)) xv (i_ (if o = true then -2 else -1)) (i_ m) (V.2.2.1 27 m)) := DTs.t0 (S := (S1.sy w2 al').wt w4 tb) (by omega) H5.1.1.2
      have hTs3 := (hTs.a31 (x := i_ S1.sn)).a5 (k := 53) (x := 1) (.inl rfl)
      simp only [show ((S1.sy w2 al').wt w4 tb).t = tb from rfl, show ((S1.sy w2 al').wt w4 tb).sn = S1.sn from rfl, show ((S1.sy w2 al').wt w4 tb).u = S1.u from rfl]
      have hs9 := tsy_s (t := tb) (s := S1.sn) (u := S1.u) (x1 := V.2.2.1 30 m) (x2 := i_ (c : Nat)) (x3 := xv) (x4 := i_ (if o = true then -2 else -1)) (x5 := i_ m) (x6 := V.2.2.1 27 m)
      generalize tsy tb S1.sn S1.u (V.2.2.1 30 m) (i_ (c : Nat)) xv (i_ (if o = true then -2 else -1)) (i_ m) (V.2.2.1 27 m) = ts at hTs hTs3 hs9 ⊢
      have hTt : TLN ts := hTs.2.2.2.2.2.2.1.1
      have hTr := hTs.2.2.2.2.2.2.1.2 m htq
      have e31a : w_a (ws_a ts 12 0 31 m (i_ S1.sn)) 12 0 31 m = i_ S1.sn := by rw [Raa, if_pos ⟨rfl, rfl, rfl, rfl⟩]
      simp only [e31a, i_nat' (show S1.sn < 2147483648 by omega), hTr 32 rfl, show (vp_nar .boolean 1 : Int32) = 1 from rfl]
      refine PS_rand (hTt.i rfl hmq) (PS_rand (hTt.i rfl hmq) (PS_rand (hTt.sy rfl (by omega)) (PS_rand (hTt.i rfl hmq) ?_)))
      obtain ⟨tf, htf⟩ : ∃ tf, tf = ws_a (ws_a ts 12 0 31 m (i_ S1.sn)) 12 0 53 S1.sn 1 := ⟨_, rfl⟩
      have htf' : DTs V tn ((S1.sy w2 al').wt w4 tb) m tf := by rw [htf]; exact hTs3
      rw [← htf]
      have ek : ∀ k j, k ≠ 31 → k ≠ 53 → w_a tf 12 0 k j = w_a ts 12 0 k j := fun k j h1 h2 => by
        rw [htf, Raa, if_neg (fun z => h2 z.1), Raa, if_neg (fun z => h1 z.1)]
      have e31 : w_a tf 12 0 31 m = i_ S1.sn := by rw [htf, Raa, if_neg (fun z => absurd z.1 (by decide)), e31a]
      have e53 : w_a tf 12 0 53 S1.sn = 1 := by rw [htf, Raa, if_pos ⟨rfl, rfl, rfl, rfl⟩]
      obtain ⟨H6, hx6, hsm6⟩ := H5.ts1 (y := q) (by show S1.sn + S0.vs.length + 1 ≤ S0.sn + S1.vs.length; have := H1.2.2.2.1.1.1; omega) ⟨hq0, hqd⟩ hnuq hmq hs htf'
      have hysn : S1.ys S1.sn = none := by
        cases e : S1.ys S1.sn with
        | none => rfl
        | some A' => exact absurd (H1.1.sl e) (Nat.lt_irrefl _)
      obtain ⟨⟨d0, d1, d2⟩, ⟨d4, d15, d17, d18, d19, d20⟩, d3, d5, d6, d7, d8, d9, d10, d11, d12, d13, d14, d16, -⟩ := hsd
      have ri : ∀ k, k ≠ 3 → k ≠ 9 → k ≠ 11 → k ≠ 12 → w_i wf 15 A k = w_i w4 15 A k := fun k h1 h2 h3 h4 => by
        rw [hwf]
        unfold fmw
        simp only [Rii, Rgi, Rpi, Rai, Rbi, Rri, Rni, Rdi, Roi, Rti, Rzi, RCi, RSi, Rip, Rgp, Rpp, Rap, Rbp, Rrp, Rnp, Rdp, Rop, Rtp, Rzp, RCp, RSp]
        simp [h1, h2, h3, h4]
      have rp : ∀ k, w_p wf 15 A k = w_p w4 15 A k := fun k => by
        rw [hwf]
        unfold fmw
        simp only [Rii, Rgi, Rpi, Rai, Rbi, Rri, Rni, Rdi, Roi, Rti, Rzi, RCi, RSi, Rip, Rgp, Rpp, Rap, Rbp, Rrp, Rnp, Rdp, Rop, Rtp, Rzp, RCp, RSp]
        simp
      have r9 : w_i wf 15 A 9 = V.1 q 13 := by
        rw [hwf]
        unfold fmw
        simp only [Rii, Rgi, Rpi, Rai, Rbi, Rri, Rni, Rdi, Roi, Rti, Rzi, RCi, RSi, Rip, Rgp, Rpp, Rap, Rbp, Rrp, Rnp, Rdp, Rop, Rtp, Rzp, RCp, RSp]
        simp
      have r11 : w_i wf 15 A 11 = 1 := by
        rw [hwf]
        unfold fmw
        simp only [Rii, Rgi, Rpi, Rai, Rbi, Rri, Rni, Rdi, Roi, Rti, Rzi, RCi, RSi, Rip, Rgp, Rpp, Rap, Rbp, Rrp, Rnp, Rdp, Rop, Rtp, Rzp, RCp, RSp]
        simp
      have r12 : w_i wf 15 A 12 = V.1 q 15 := by
        rw [hwf]
        unfold fmw
        simp only [Rii, Rgi, Rpi, Rai, Rbi, Rri, Rni, Rdi, Roi, Rti, Rzi, RCi, RSi, Rip, Rgp, Rpp, Rap, Rbp, Rrp, Rnp, Rdp, Rop, Rtp, Rzp, RCp, RSp]
        simp
      have r3 : w_i wf 15 A 3 = w_i w4 5 0 4 := by
        rw [hwf]
        unfold fmw
        simp only [Rii, Rgi, Rpi, Rai, Rbi, Rri, Rni, Rdi, Roi, Rti, Rzi, RCi, RSi, Rip, Rgp, Rpp, Rap, Rbp, Rrp, Rnp, Rdp, Rop, Rtp, Rzp, RCp, RSp]
        simp
      have r54 : w_i wf 5 0 4 = w_i w4 5 0 4 + 1 := by
        rw [hwf]
        unfold fmw
        simp only [Rii, Rgi, Rpi, Rai, Rbi, Rri, Rni, Rdi, Roi, Rti, Rzi, RCi, RSi, Rip, Rgp, Rpp, Rap, Rbp, Rrp, Rnp, Rdp, Rop, Rtp, Rzp, RCp, RSp]
        simp
      have r16 : w_p wf 14 q 16 = some A := by
        rw [hwf]
        unfold fmw
        simp only [Rii, Rgi, Rpi, Rai, Rbi, Rri, Rni, Rdi, Roi, Rti, Rzi, RCi, RSi, Rip, Rgp, Rpp, Rap, Rbp, Rrp, Rnp, Rdp, Rop, Rtp, Rzp, RCp, RSp]
        simp
      have hR : RS1 D V nu wf tf (ysU S1.ys S1.sn A) S1.sn A := by
        refine ⟨⟨by omega, ?_⟩, ?_, c, by omega, ?_, ?_, ?_, RTY.ky (w := w4) (t := S1.t) (ys := S1.ys) hc13 hKY (ri 5 (by decide) (by decide) (by decide) (by decide)) (rp 15) ?_ (fun sp P hP => ⟨?_, ?_⟩), .inl ⟨by omega, o, r9.trans hop, ?_, fun e => by omega⟩, .inr ⟨m, q, rq, dq, 42, ⟨?_, hmq, hnuq, h26m⟩, .inr (.inr (.inr (.inr (.inr (.inr (.inr (.inr (.inr (.inr (.inr ⟨rfl, hRk, r9, r12, ⟨r11, ?_, e53, ?_⟩⟩))))))))))⟩⟩
        · have h := hA4.2.2
          unfold w_l at h ⊢
          rw [hw4o]
          exact h
        · rw [ek 45 _ (by decide) (by decide), hs9.1.1, ri 1 (by decide) (by decide) (by decide) (by decide), fr1 1 (by decide), d1]
          exact .inl hnm
        · rw [ek 46 _ (by decide) (by decide), hs9.1.2.1]
        · rw [rp 0, fr2 0 (by decide), d0, hWc]
        · rw [ri 13 (by decide) (by decide) (by decide) (by decide), fr1 13 (by decide), d13]
          have : c ≠ 9 := by omega
          simp [this, bI]
        · rw [ek 47 _ (by decide) (by decide), hs9.1.2.2.1]
        · unfold ysU
          rw [if_neg (fun e => by rw [e, hysn] at hP; cases hP)]
          exact hP
        · have hlt : sp < S1.sn := H1.1.sl hP
          rw [ek 46 _ (by decide) (by decide), hTs.1 46 (by decide) (by decide) sp (by show sp ≠ S1.sn; omega)]
          exact hba 46 sp
        · rw [ek 48 _ (by decide) (by decide), hs9.1.2.2.2.1]
        · rw [ek 49 _ (by decide) (by decide), hs9.1.2.2.2.2.1]
        · rw [ri 14 (by decide) (by decide) (by decide) (by decide), fr1 14 (by decide), d14]
        · rw [ek 54 _ (by decide) (by decide), hs9.2.2.2.2.1]
          rfl
      have hSSO : SSO D.1 wf al' (S1.am + 1) := by
        rw [hwf]
        unfold fmw
        exact (((((H4.1.2.1.1.i (by decide)).i (by decide)).i (by decide)).i (by decide)).i (by decide)).p
      obtain ⟨H7, hx7, hsm7⟩ := H6.dz (s := S1.sn) (y := q) (w' := wf) (kc' := S1.kc) hA4 ⟨hq0, hqd⟩ hs hysn (Nat.lt_succ_self _) (by omega) (fun _ s' A' h _ => H1.1.sl h) (fun _ q' hq' => (H1.1.2.2.2.1.2.2.1.choose_spec.2.2.2 q' hq').1) hSSO hw4o (fun a k => by
          show w_i wf 14 a k = w_i w4 14 a k
          rw [hwf]
          unfold fmw
          simp only [Rii, Rgi, Rpi, Rai, Rbi, Rri, Rni, Rdi, Roi, Rti, Rzi, RCi, RSi, Rip, Rgp, Rpp, Rap, Rbp, Rrp, Rnp, Rdp, Rop, Rtp, Rzp, RCp, RSp]
          simp) (fun a k => by
          show (k = 16 ∧ a = q) ∨ w_p wf 14 a k = w_p w4 14 a k
          by_cases e : k = 16 ∧ a = q
          · exact .inl e
          · right
            rw [hwf]
            unfold fmw
            rw [Rpp, if_neg (fun z => e ⟨z.1, z.2.2⟩)]
            rfl) (fun A' hA' k => by
          show w_i wf 15 A' k = w_i w4 15 A' k ∧ w_p wf 15 A' k = w_p w4 15 A' k
          rw [hwf]
          unfold fmw
          simp only [Rii, Rgi, Rpi, Rai, Rbi, Rri, Rni, Rdi, Roi, Rti, Rzi, RCi, RSi, Rip, Rgp, Rpp, Rap, Rbp, Rrp, Rnp, Rdp, Rop, Rtp, Rzp, RCp, RSp]
          simp [hA']) r54 r3 (.inl ⟨rfl, by
          show w_p wf 5 0 3 = w_p w4 5 0 3
          rw [hwf]
          unfold fmw
          simp only [Rii, Rgi, Rpi, Rai, Rbi, Rri, Rni, Rdi, Roi, Rti, Rzi, RCi, RSi, Rip, Rgp, Rpp, Rap, Rbp, Rrp, Rnp, Rdp, Rop, Rtp, Rzp, RCp, RSp]
          simp⟩) hwf2 (by
          show FN w4 wf
          rw [hwf]
          unfold fmw
          exact (((((FN_i rfl).iz rfl).iz rfl).iz rfl).iz rfl).pz rfl) hR
      have H8 := H7.cru hT60
      obtain ⟨S8, hS8⟩ : ∃ S8, S8 = ((((S1.sy w2 al').wt w4 tb).ts tf).dz wf S1.sn A S1.kc).wt (ru wf T6) tf := ⟨_, rfl⟩
      have hx78 : NX nu ((((S1.sy w2 al').wt w4 tb).ts tf).dz wf S1.sn A S1.kc) S8 := by
        have := NX.ft (nu := nu) (S := (((S1.sy w2 al').wt w4 tb).ts tf).dz wf S1.sn A S1.kc) (T := T6) (T' := NOF)
        rw [tu_nof H7.1.2.2.2.2.2.2.1.2] at this
        rw [hS8]
        exact this
      have b1 : S8.w = ru wf T6 ∧ S8.t = tf ∧ S8.ys = ysU S1.ys S1.sn A ∧ S8.sn = S1.sn + 1 ∧ S8.kc = S1.kc ∧ S8.kt = S1.kt ∧ S8.2.2.2.2.2.1 = S1.2.2.2.2.2.1 ∧ S8.vs = S1.vs ∧ S8.tl = S1.tl ∧ S8.dn = S1.dn := by subst hS8; exact ⟨rfl, rfl, rfl, rfl, rfl, rfl, rfl, rfl, rfl, rfl⟩
      have H8 : HM D V nu tn rt p J (4 + 5 - 2 - (4 + 5 - 2) % 2) S0 S8 (min (min T Tk) T6) (min (min (min T' Tk) Td) T6) := by rw [hS8]; exact H8
      have hx18 : NXw nu S1 S8 := ((((hx2.tr hx4 (.inl rfl)).tr hx45 (.inl rfl)).tr hx6 (.inl rfl)).w.tr hx7 (.inl rfl)).tr hx78.w (.inl rfl)
      have hsm18 : ∀ b ∈ S1.vs, b ≠ q → SMN nu S1 S8 b := fun b hb hbq => by
        have a1 : SMN nu (S1.sy w2 al') ((S1.sy w2 al').wt w4 tb) b := ⟨⟨(fr3 b 16).2, (fr3 b 10).1⟩, fun _ _ _ _ _ _ => hba _ _⟩
        have a2 : SMN nu ((((S1.sy w2 al').wt w4 tb).ts tf).dz wf S1.sn A S1.kc) S8 b := by
          rw [hS8]
          exact ⟨⟨ru_p, ru_i (by decide)⟩, fun _ _ _ _ _ _ => rfl⟩
        exact ((((hsm2 b hb).tr a1).tr (hsm6 b hbq)).tr (hsm7 b hbq)).tr a2
      clear hS8 hx78 H7 hx7 hsm7 H6 hx6 hsm6 hR
      obtain ⟨bw, bt, bys, bsn, bkc, bkt, b6, bvs, btl, bdn⟩ := b1
      have bu : S8.u = S1.u := congrArg Prod.fst b6
      have hv01 : ∀ b ∈ S.vs, b ∈ S8.vs := fun b hb => by rw [bvs, fvs]; exact List.mem_cons_of_mem _ hb
      have hx08 : NXw nu S S8 := hx1.w.tr hx18 (.inl fu)
      have hsm08 : ∀ b ∈ S.vs, SMN nu S S8 b := fun b hb => (hsm1 b).tr (hsm18 b (by rw [fvs]; exact List.mem_cons_of_mem _ hb) (fun e => hqv (by rw [← e]; exact hb)))
      have hITF : ITF V nu S8 Cf S8.u (m, q, dq) (s0 + pre.length) := by
        rw [← hsn1]
        refine ⟨⟨rq, hnuq⟩, ⟨A, ?_, ?_, ?_⟩, ?_, ⟨c, hc13, ?_⟩, ?_, ?_⟩
        · rw [bys]
          unfold ysU
          rw [if_pos rfl]
        · rw [bw, ru_p]
          exact r16
        · rw [bt]
          exact e31
        · rw [bt, ek 45 _ (by decide) (by decide), hs9.1.1]
        · rw [bt, ek 46 _ (by decide) (by decide), hs9.1.2.1]
        · rw [bt, ek 51 _ (by decide) (by decide), hs9.2.1, bu]
        · rw [bsn]
          exact Nat.lt_succ_self _
      have hITL : ITL V nu S8 Cf S8.u s0 (pre ++ [(m, q, dq)]) := by
        refine ITL.snoc ?_ hITF
        rw [bu, fu]
        exact hI.st hx08.1 (fun z hz => hsm08 _ (hpre z hz).1)
      have hlen : (pre ++ [(m, q, dq)]).length = pre.length + 1 := by rw [List.length_append]; rfl
      have hag : agT V (pre.map (fun z => z.1)) (((m, q, dq) :: l).map (fun z => z.1)) = min Td (agT V ((pre ++ [(m, q, dq)]).map (fun z => z.1)) (l.map (fun z => z.1))) := by
        rw [hTd, List.map_cons, List.map_append]
        rfl
      rw [← bw, ← bt]
      refine n_fm hs hnu hm htm hk0 hL hL' (l := l) (pre := pre ++ [(m, q, dq)]) (S := S8) (y := q) (j := 7) (H8.crd (by decide) (by decide)) ?_ ⟨bkc.trans hk1.1, bkt.trans hk1.2⟩ (by rw [bsn, hsn1, hlen]; omega) h0 ⟨by rw [bvs, fvs]; exact List.mem_cons_self, hq0⟩ (by rw [btl]; exact hql 7) ⟨by decide, by decide⟩ (fun e => absurd e hqp) e4 (fun z hz => h42 z (List.mem_cons_of_mem _ hz)) hITL (fun z hz => ?_) (fun s' A' h1 _ => H8.1.sl h1) (fun S' T1 H' k0' k1 k2 k3 k4 k5 k6 k7 k8 => ?_)
      · rw [hT, hag]
        omega
      · rcases List.mem_append.mp hz with e | e
        · exact ⟨hv01 _ (hpre z e).1, (hpre z e).2⟩
        · rw [List.mem_singleton] at e
          subst e
          exact ⟨by rw [bvs, fvs]; exact List.mem_cons_self, hq0, hqp⟩
      · have ea : pre ++ [(m, q, dq)] ++ l = pre ++ (m, q, dq) :: l := by rw [List.append_assoc]; rfl
        have el : ((m, q, dq) :: l).length = l.length + 1 := List.length_cons
        rw [ea] at k7 k8
        refine kk S' T1 H' (by omega) k1 (k2.trans (b6.trans f6)) (by rw [k3, hlen, el]; omega) (hx08.tr k4 (.inl (bu.trans fu))) (fun b hb => ⟨(hsm08 b hb).tr (k5 b (hv01 b hb)).1, (k5 b (hv01 b hb)).2⟩) (fun s' hs' => ?_) k7 k8
        rw [k6 s' hs', bys]
        unfold ysU
        rw [if_neg (by omega), fys]
    rcases hKI with ⟨hcv, -, hch0, hty⟩ | ⟨hc3, -, -, hch1, hKN⟩
    · refine n_ck0 (q := q) (m := m) (r := rq) (d := dq) H2 hA hnuq hch0 (by omega) (fun H3 hA3 => ?_)
      obtain ⟨cy, hcy, hy8, hy33⟩ := hty
      have hlt : ¬ V.2.2.1 33 m < 0 := by rw [hy33]; exact i_nn (by omega)
      have eT0 : Tk = NOF := by rw [hTk]; exact if_neg hlt
      have eV0 : xv = V.2.2.1 33 m := by rw [hxv]; exact if_neg hlt
      have hx4 : NX nu (S1.sy w2 al') ((S1.sy w2 al').wt (ws_i w2 15 A 5 (V.1 q 8)) S1.t) := NX.wt (S := S1.sy w2 al') (w' := ws_i w2 15 A 5 (V.1 q 8)) (t' := S1.t) (fun s A' hs' k => ⟨by rw [Rii, if_neg (fun z => hA.2.1 s (by rw [← z.2.2]; exact hs'))]; rfl, rfl⟩) (fun _ _ => rfl) (fun b _ => ⟨⟨rfl, by show w_i (ws_i w2 15 A 5 (V.1 q 8)) 14 b 10 = _; rw [Rii, if_neg (fun z => absurd z.2.1 (by decide))]; rfl⟩, fun _ _ _ _ _ _ => rfl⟩)
      refine PS_lex A rfl (kk2 _ ?_ hA3 hx4 KFr.rf.i (.inl ⟨cy, hcy, ?_, hpr0, eV0.trans hy33⟩))
      · have hTT := H3.2.2.2.2.1
        have e1 : min T Tk = T := by
          have := hTT.1.le
          omega
        rw [e1]
        exact H3
      · rw [Rii, if_pos ⟨rfl, rfl, rfl⟩]
        exact hy8
    · refine n_ck1 (q := q) (m := m) (r := rq) (d := dq) hs H2 hkS hA hpr0 hnuq hch1 hKN hl2q (by omega) (fun w4 H4 hA4 hx4 hfr hKY => ?_)
      have eV' : kiV (S1.sy w2 al').t kr (V.2.2.1 33 m) = xv := hxv.symm
      have eT' : kiT (S1.sy w2 al').t kr (V.2.2.1 33 m) (V.2.2.1 27 m) = Tk := hTk.symm
      rw [eV'] at hKY
      rw [eT'] at H4
      exact PS_lex A rfl (kk2 w4 H4 hA4 hx4 hfr (hKY.imp id (fun h => ⟨hc3, h⟩)))
end FMS
