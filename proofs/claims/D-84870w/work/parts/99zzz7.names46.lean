/-! ===== ROUNDS, part 48: a PROTOCOL with tags ===== -/
/-- a tag that the twin made, MeetingHouse did not yet: its symbol, the PROTOCOL's, its place -/
def ITP (V : pV) (nu : pN) (S : nS) (sP u i : Nat) (z : Nat × Nat × Nat) (s : Nat) : Prop := ((∃ r, nu z.2.1 = some (z.1, r, z.2.2)) ∧ w_a S.t 12 0 31 z.1 = i_ s ∧ s < S.sn) ∧ (w_a S.t 12 0 45 s = V.2.2.1 30 z.1 ∧ w_a S.t 12 0 46 s = i_ (6 : Nat) ∧ w_a S.t 12 0 47 s = i_ (16 + sP : Nat) ∧ w_a S.t 12 0 48 s = i_ i ∧ w_a S.t 12 0 49 s = i_ z.1) ∧ w_a S.t 12 0 51 s = i_ u ∧ w_a S.t 12 0 53 s = 0 ∧ w_a S.t 12 0 54 s = i_ (-1)
def ITQ (V : pV) (nu : pN) (S : nS) (sP u s0 : Nat) : Nat → List (Nat × Nat × Nat) → Prop
  | _, [] => True
  | i, z :: l => ITP V nu S sP u i z (s0 + i) ∧ ITQ V nu S sP u s0 (i + 1) l
def tgw (w2 : wS) (A q i : Nat) (P b : Option Nat) : wS := ws_i (ws_p (ws_p (ws_p (dcl w2 A) 14 q 16 (some A)) 15 A 15 P) 15 A 17 b) 15 A 8 (i_ i)
section TGS
variable {D : pD} {V : pV} {nu : pN} {tn : Nat → Prop} {rt p q n nq m r d dq j k k' k0 f s s0 sP u un y A A0 P c cr crq kd W i : Nat} {J J' Jq : List Nat} {S S' S0 S1 : nS} {w w2 w' t t' : wS} {v2 pr : Option Nat} {x x1 x2 x3 z y9 l' ty v ln : Int32} {T T' T1 T2 : Int} {kr ks : List Nat} {L L' Lc Ls Lk Lx Lt : Nat} {E E' : zE} {ol : Option Int32} {Q : kx_Rs → wS → Prop} {gc gt : pQ} {Φ : kx_Rs → wS → kx_Rs → wS → Prop} {C : Nat → Prop} {o : Bool}
theorem KX.up : ∀ {f cl p : Nat}, KX V nu f cl p → KX V nu (f + 1) cl p
  | 0, _, _, h => h.elim
  | f + 1, cl, p, h => by
    obtain ⟨n, r, d, kd, h1, h2, h3, h4, h5, h6⟩ := h
    exact ⟨n, r, d, kd, h1, h2, h3, h4, h5, fun j a b e i q hi hq => KX.up (h6 j a b e i q hi hq)⟩
theorem ITP.st {z : Nat × Nat × Nat} (h : ITP V nu S sP u i z s) (hx : SMW S S') (hs : SMN nu S S' z.2.1) : ITP V nu S' sP u i z s := by
  obtain ⟨⟨⟨r, h1⟩, h2, h3⟩, ⟨a1, a2, a3, a4, a5⟩, b1, b2, b3⟩ := h
  have e : ∀ k, (45 ≤ k ∧ k ≤ 55) → w_a S'.t 12 0 k s = w_a S.t 12 0 k s := hx.2.1 s h3
  exact ⟨⟨⟨r, h1⟩, (hs.2 _ _ _ h1 31 (.inl rfl)).trans h2, Nat.lt_of_lt_of_le h3 hx.2.2.1⟩, ⟨(e 45 (by decide)).trans a1, (e 46 (by decide)).trans a2, (e 47 (by decide)).trans a3, (e 48 (by decide)).trans a4, (e 49 (by decide)).trans a5⟩, (e 51 (by decide)).trans b1, (e 53 (by decide)).trans b2, (e 54 (by decide)).trans b3⟩
theorem ITQ.st : ∀ {l : List (Nat × Nat × Nat)} {i : Nat}, ITQ V nu S sP u s0 i l → SMW S S' → (∀ z ∈ l, SMN nu S S' z.2.1) → ITQ V nu S' sP u s0 i l
  | [], _, _, _, _ => trivial
  | z :: l, i, h, hx, hs => ⟨h.1.st hx (hs z List.mem_cons_self), ITQ.st h.2 hx (fun z' hz => hs z' (List.mem_cons_of_mem _ hz))⟩
theorem ITQ.snoc {z : Nat × Nat × Nat} : ∀ {l : List (Nat × Nat × Nat)} {i : Nat}, ITQ V nu S sP u s0 i l → ITP V nu S sP u (i + l.length) z (s0 + (i + l.length)) → ITQ V nu S sP u s0 i (l ++ [z])
  | [], _, _, h => ⟨h, trivial⟩
  | z0 :: l, i, h, h2 => ⟨h.1, ITQ.snoc h.2 (by rw [show i + 1 + l.length = i + (z0 :: l).length by rw [List.length_cons]; omega]; exact h2)⟩
theorem ITQ.nm : ∀ {l : List (Nat × Nat × Nat)} {i : Nat}, ITQ V nu S sP u s0 i l → ∀ j, j < (l.map (fun z => z.1)).length → w_a S.t 12 0 45 (s0 + i + j) = V.2.2.1 30 ((l.map (fun z => z.1)).getD j 0)
  | [], _, _, j, hj => absurd hj (Nat.not_lt_zero j)
  | z :: l, i, h, j, hj => by
    cases j with
    | zero => exact h.1.2.1.1
    | succ j =>
      have := ITQ.nm h.2 j (by simpa using hj)
      rw [show s0 + i + (j + 1) = s0 + (i + 1) + j by omega, this]
      rfl
/-- the twin looks whether a tag stood already -/
theorem t_dup2 {sn : Nat} (hm : m < 14000) (hsn : sn ≤ 6100) (hL : 64 ≤ L') : ∀ {g a : Nat} {t : wS}, TLN t → fkk (w_i t 12 0 64) → w_i t 12 0 44 = i_ sn → w_a t 12 0 30 m = x3 → w_a t 12 0 27 m = ln → a + g = sn → zb_X13_nameTags_p29 E' L' Q x1 x2 (i_ m) (i_ sn) (tu t (dpF t a g x3 ln)) → zL_X13_nameTags_p29 E' L' Q x1 x2 (i_ m) (i_ a) t
  | 0, a, t, hT, hf, h44, h30, h27, ha, h => by
    have e : a = sn := by omega
    subst e
    rw [dpF_nil, tu_nof hf] at h
    exact zt_X13_nameTags_p29 (by omega) h
  | g + 1, a, t, hT, hf, h44, h30, h27, ha, h => by
    have hlt : a < sn := by omega
    rw [dpF_st] at h
    refine zt_X13_nameTags_p29 (by omega) ?_
    unfold zb_X13_nameTags_p29
    rw [h44, if_neg (by rw [i_le (by omega) (by omega)]; omega)]
    simp only [zb_X13_nameTags_p65, i_nat' (show a < 2147483648 by omega), i_nat' (show m < 2147483648 by omega), h30, h27, i_inc]
    refine ⟨hT.sy rfl (by omega), hT.i rfl hm, ?_⟩
    by_cases c : w_a t 12 0 45 a = x3
    · rw [if_neg (not_not_intro c)]
      rw [if_pos c, ← tu_tu hf (.inr ⟨4, _, ⟨by decide, by decide⟩, rfl⟩) dpF_ok] at h
      refine ⟨hT.i rfl hm, t_tells (k := 4) (by omega) hf ⟨by decide, by decide⟩ ?_⟩
      intro _
      rw [← dpF_tu (T := fln 4 ln)] at h
      exact t_dup2 hm hsn hL (hT.fr FTn_tu) (tu_fct hf (.inr ⟨4, _, ⟨by decide, by decide⟩, rfl⟩)).2 (by unfold tu; split <;> first | exact h44 | (rw [Rii, if_neg (fun z => absurd z.1 (by decide)), Rii, if_neg (fun z => absurd z.1 (by decide))]; exact h44)) (by rw [tu_a]; exact h30) (by rw [tu_a]; exact h27) (by omega) h
    · rw [if_pos c]
      have em : min NOF (dpF t (a + 1) g x3 ln) = dpF t (a + 1) g x3 ln := by
        have := (dpF_ok (t := t) (a := a + 1) (g := g) (x := x3) (l := ln)).le
        omega
      rw [if_neg c, em] at h
      exact t_dup2 hm hsn hL hT hf h44 h30 h27 (by omega) h
/-- tags in a row: their parts; the twin makes their symbols -/
theorem n_tg1 {KC KT : (kx_Rs → wS → Prop) → kx_Rs → wS → Prop} (hs : STR D V nu tn rt) (hnu : nu p = some (n, r, d)) (hm : n < 14000) (htm : tn n) (hL : 75 * k0 + 322 ≤ L) (hL' : 75 * k0 + 322 ≤ L') :
    ∀ {l pre : List (Nat × Nat × Nat)} {S : nS} {T' : Int} {y j cr : Nat} {x : Int32}, HM D V nu tn rt p J cr S0 S (min T' (agT V (pre.map (fun z => z.1)) (l.map (fun z => z.1)))) T' → cr % 2 = 0 → KRE S kr → S.sn = s0 + pre.length → w_a S.t 12 0 31 n = i_ sP → sP < s0 → (y ∈ S.vs ∧ y ∉ S0.vs) → ¬ S.tl y j → (3 ≤ j ∧ j ≤ 7) → (y = p → j ∈ J) → LPx V tn nu k0 none l (V.2.1 y j) x none (-1) → (∀ z ∈ l, V.2.2.1 26 z.1 = i_ (41 : Nat) ∧ KX V nu (f + 2) 41 z.2.1) → ITQ V nu S sP S.u s0 0 pre → (∀ z ∈ pre, z.2.1 ∈ S.vs ∧ z.2.1 ∉ S0.vs ∧ z.2.1 ≠ p ∧ ¬ S.dn z.2.1) →
      (∀ (S' : nS) (T1 : Int), HM D V nu tn rt p J (cr + 4 * l.length) S0 S' T1 T1 → S'.2.2.2.2.1 = S.2.2.2.2.1 → S'.ys = S.ys → S'.2.2.2.2.2.1 = S.2.2.2.2.2.1 → S'.sn = s0 + (pre.length + l.length) → NX nu S S' → (∀ b ∈ S.vs, SMN nu S S' b ∧ b ∈ S'.vs ∧ (S'.dn b → S.dn b)) → ITQ V nu S' sP S'.u s0 0 (pre ++ l) → (∀ z ∈ pre ++ l, z.2.1 ∈ S'.vs ∧ z.2.1 ∉ S0.vs ∧ z.2.1 ≠ p ∧ ¬ S'.dn z.2.1) → (T1 = NOF → T' = NOF ∧ ∀ z ∈ l, EL V z.2.1 4 (fun q => OP V q 3 (NE V nu S' kr f Cv))) → PS (fun Q => zb_X6_protocol_p62 D.1 L (KC Q) (some p) none S'.w) (fun Q => zb_X13_nameTags_p12 E' L' (KT Q) (i_ n) (i_ s0) (-1) S'.t) Φ) →
      PS (fun Q => zL_X6_protocol_p62 D.1 L (KC Q) (some p) (V.2.1 y j) S.w) (fun Q => zL_X13_nameTags_p12 E' L' (KT Q) (i_ n) (i_ s0) x S.t) Φ
  | [], pre, S, T', y, j, cr, x, H, hcr, hk, hsn, h31, hsP, hy, ht, hj, hyj, hl, hX, hI, hpre, kk => by
    obtain ⟨h1, h2⟩ := hl
    rw [h1, h2]
    have e : agT V (pre.map (fun z => z.1)) (([] : List (Nat × Nat × Nat)).map (fun z => z.1)) = NOF := rfl
    have em : min T' NOF = T' := by have := H.2.2.2.2.1.2.le; omega
    rw [e, em] at H
    refine PS_of (fun Q h => zt_X6_protocol_p62 (by omega) h) (fun Q h => zt_X13_nameTags_p12 (by omega) h) ?_
    have hk2 : pre ++ [] = pre := List.append_nil _
    exact kk S T' H rfl rfl rfl hsn NX.rf (fun b hb => ⟨SMN.rf, hb, fun h => h⟩) (by rw [hk2]; exact hI) (by rw [hk2]; exact hpre) (fun e => ⟨e, fun z hz => absurd hz List.not_mem_nil⟩)
  | zz :: l, pre, S, T', y, j, cr, x, H, hcr, hk, hsn, h31, hsP, hy, ht, hj, hyj, hl, hX, hI, hpre, kk => by
    obtain ⟨m, q, dq⟩ := zz
    obtain ⟨e1, e2, e3, e4⟩ := hl
    have e1 : V.2.1 y j = some q := e1
    have e2 : x = i_ m := e2
    have e3 : CHx V tn nu k0 none m q dq := e3
    have e4 : LPx V tn nu k0 none l (V.2.1 q 7) (V.2.2.1 32 m) none (-1) := e4
    obtain ⟨h26m, hXq⟩ := hX _ List.mem_cons_self
    have h26m : V.2.2.1 26 m = i_ (41 : Nat) := h26m
    have hXq : KX V nu (f + 2) 41 q := hXq
    have hnk := e3.nk hs
    obtain ⟨rq, hnuq, hmq, -, hrq, -⟩ := e3.nb h26m ⟨by decide, by decide⟩
    obtain ⟨htq, hl2q, -, -, hnm, lp, hlp, -, h40⟩ := hs.lf hnuq hmq h26m (by decide)
    obtain ⟨kd', h26', hcl', hchq⟩ := hXq.at hnuq hmq
    have hkd' : kd' = 41 := by unfold cok at hcl'; omega
    subst hkd'
    have hXp : ∀ z ∈ lp, KX V nu (f + 1) 40 z.2.1 := fun z hz => by
      obtain ⟨i, hi⟩ := LPx.nx2 hlp z hz
      exact hchq 4 ⟨by decide, by decide⟩ (by omega) (ujk.c (by omega)) i z.2.1 (.inr (.inl ⟨rfl, by simp⟩)) hi
    obtain ⟨I4, V4⟩ := H.1.go hs hy.1 ht hj e1 hnk.1 hnk.2
    have Hx := HM.start I4 V4
    have hqv : q ∉ S.vs := V4.1.1
    have hq0 : q ∉ S0.vs := fun e => hqv (H.2.1.2.2.2.1 _ e)
    have hqp : q ≠ p := fun e => hqv (by rw [e]; exact H.2.2.1.1)
    have hw := H.1.nw hnuq
    have htq' := H.1.1.2.2 m htq
    rw [e1, e2]
    refine PS_of (fun Q h => zt_X6_protocol_p62 (by omega) h) (fun Q h => zt_X13_nameTags_p12 (by omega) h) ?_
    simp only [zb_X6_protocol_p62, zb_X13_nameTags_p12, i_nat' (show m < 2147483648 by omega), htq' 29 rfl]
    refine PS_ln (by simp) (PS_lex q rfl (PS_land hw.1 (PS_rn (i_nn (by omega)) (PS_rand (H.1.1.2.1.i rfl hmq) ?_))))
    simp only [hw.2.1 4 (by decide)]
    refine n_parts (k0 := rq) (f := f) (Lx := L - 22) (Lt := L' - 22) (E' := E') (S := (S.go y j).at q) (S0 := S.go y j) (p := q) (J := []) (J' := [4]) (y := q) (j := 4) (cr := 5) (T := NOF) hs Hx hk ⟨Hx.2.2.1.1, Hx.2.2.1.2.1⟩ (fun e => absurd (Hx.2.2.1.2.2.2 4 e) List.not_mem_nil) ⟨by decide, by decide⟩ (fun i hi => absurd hi List.not_mem_nil) (fun _ => List.mem_cons_self) hlp hXp (by omega) (by omega) (fun S1 T1 H1x hn1 hx1 hsm1 hG1 => ?_)
    obtain ⟨H1, hxa, hsma, hq1, -, hqd, hqt⟩ := H.cat hcr hy hyj H1x
    have hT1 : FTK T1 := H1x.2.2.2.2.1.1
    have hu1 : S1.u = S.u := congrArg Prod.fst hn1.2.2.2
    have hys1 : S1.ys = S.ys := congrArg Prod.fst hn1.2.1
    have hsn1 : S1.sn = s0 + pre.length := (congrArg Prod.snd hn1.2.1).trans hsn
    have hkn1 : S1.2.2.2.2.1 = S.2.2.2.2.1 := hn1.2.2.1
    have h6 : S1.2.2.2.2.2.1 = S.2.2.2.2.2.1 := hn1.2.2.2
    have hw1 := H1.1.nw hnuq
    have htq1 := H1.1.1.2.2 m htq
    have hf1 := H1.1.2.2.2.2.2.2.1
    have hvl := hs.2.2.2.2.2.2 S1.vs H1.1.2.2.2.2.2.2.2.1.1 (fun a ha => (H1.1.2.2.2.2.2.2.2.1.2 a ha).1)
    have hsnb := H1.1.2.2.1.1.2
    have hun := H1.1.2.2.1.2.1.2
    have hu := H1.1.2.2.1.2.2.2
    have hI1 : ITQ V nu S1 sP S1.u s0 0 pre := by
      rw [hu1]
      exact hI.st hxa.1.w (fun z hz => (hsma _ (hpre z hz).1).1)
    have h31a : w_a S1.t 12 0 31 n = i_ sP := ((hsma p H.2.2.1.1).1.2 _ _ _ hnu 31 (.inl rfl)).trans h31
    rw [hw1.2.1 7 (by decide)]
    -- the twin looks whether it stood, and makes a symbol
    have hdp : dpF S1.t s0 pre.length (V.2.2.1 30 m) (V.2.2.1 27 m) = dpN V (pre.map (fun z => z.1)) m := by
      have h5 := dpF_N (t := S1.t) (V := V) (n := m) (s := s0) (pre := pre.map (fun z => z.1)) (fun i hi => by have := hI1.nm i hi; rw [show s0 + 0 + i = s0 + i by omega] at this; exact this)
      rw [List.length_map] at h5
      exact h5
    refine PS_r (fun Q h => t_dup2 (g := pre.length) hmq (show S1.sn ≤ 6100 by omega) (by omega) H1.1.1.2.1 hf1.2 H1.1.2.2.1.1.1 (htq1 30 rfl) (htq1 27 rfl) (by omega) h) ?_
    rw [hdp]
    have H4 := H1.ttu (dpN_ok (V := V) (pre := pre.map (fun z => z.1)) (n := m))
    have hx4 := NX.tuu (nu := nu) (S := S1) (T := dpN V (pre.map (fun z => z.1)) m)
    obtain ⟨tb, htb⟩ : ∃ tb, tb = tu S1.t (dpN V (pre.map (fun z => z.1)) m) := ⟨_, rfl⟩
    rw [← htb] at H4 hx4 ⊢
    have htqb := H4.1.1.2.2 m htq
    have hTb : TLN tb := H4.1.1.2.1
    have hb44 : w_i tb 12 0 44 = i_ S1.sn := H4.1.2.2.1.1.1
    have hb31 : w_a tb 12 0 31 n = i_ sP := by rw [htb, tu_a]; exact h31a
    unfold zb_X13_nameTags_p29
    have q30 : w_a tb 12 0 30 m = V.2.2.1 30 m := htqb 30 rfl
    have q27 : w_a tb 12 0 27 m = V.2.2.1 27 m := htqb 27 rfl
    simp only [hb44, i_nat' (show n < 2147483648 by omega), i_nat' (show m < 2147483648 by omega), q30, q27, hb31]
    refine PS_rp (by rw [i_le (by omega) (by omega)]; omega) (PS_rand (hTb.i rfl hmq) (PS_rand (hTb.i rfl hm) (PS_rand (hTb.i rfl hmq) ?_)))
    have e16 : (16 : Int32) + i_ sP = i_ (16 + sP : Nat) := by
      rw [show (16 : Int32) = i_ 16 from rfl, i_add]
      congr 1
    have e48 : (i_ S1.sn : Int32) - i_ s0 = i_ pre.length := by
      rw [i_sub]
      congr 1
      omega
    rw [e16, e48]
    refine PS_r1 (fun Q hq => t_symbol (S := S1.wt S1.w tb) H4.1 (by show S1.sn < 6050; omega) (by show S1.u < 6100; omega) (by omega) hq) ?_
    have hTs : DTs V tn (S1.wt S1.w tb) m (tsy tb S1.sn S1.u (V.2.2.1 30 m) (i_ (6 : Nat)) (i_ (16 + sP : Nat)) (i_ pre.length) (i_ m) (V.2.2.1 27 m)) := DTs.t0 (S := S1.wt S1.w tb) (by decide) H4.1.1.2
    have hTs3 := hTs.a31 (x := i_ S1.sn)
    simp only [show (S1.wt S1.w tb).t = tb from rfl, show (S1.wt S1.w tb).sn = S1.sn from rfl, show (S1.wt S1.w tb).u = S1.u from rfl, show (6 : Int32) = i_ (6 : Nat) from rfl]
    have hs9 := tsy_s (t := tb) (s := S1.sn) (u := S1.u) (x1 := V.2.2.1 30 m) (x2 := i_ (6 : Nat)) (x3 := i_ (16 + sP : Nat)) (x4 := i_ pre.length) (x5 := i_ m) (x6 := V.2.2.1 27 m)
    generalize tsy tb S1.sn S1.u (V.2.2.1 30 m) (i_ (6 : Nat)) (i_ (16 + sP : Nat)) (i_ pre.length) (i_ m) (V.2.2.1 27 m) = ts at hTs hTs3 hs9 ⊢
    have hTt : TLN ts := hTs.2.2.2.2.2.2.1.1
    have hTr := hTs.2.2.2.2.2.2.1.2 m htq
    refine PS_rand (hTt.i rfl hmq) (PS_rand (hTt.i rfl hmq) ?_)
    rw [hTr 32 rfl]
    obtain ⟨H5, hx5, hsm5⟩ := H4.ts1 (y := q) (by show S1.sn + S0.vs.length + 1 ≤ S0.sn + S1.vs.length; have := H1.2.2.2.1.1.1; omega) ⟨hq0, hqd⟩ hnuq hmq hs hTs3
    have ek : ∀ k j, k ≠ 31 → w_a (ws_a ts 12 0 31 m (i_ S1.sn)) 12 0 k j = w_a ts 12 0 k j := fun k j h1 => by
      rw [Raa, if_neg (fun z => h1 z.1)]
    have e31 : w_a (ws_a ts 12 0 31 m (i_ S1.sn)) 12 0 31 m = i_ S1.sn := by rw [Raa, if_pos ⟨rfl, rfl, rfl, rfl⟩]
    obtain ⟨S6, hS6⟩ : ∃ S6, S6 = (S1.wt S1.w tb).ts (ws_a ts 12 0 31 m (i_ S1.sn)) := ⟨_, rfl⟩
    have b1 : S6.w = S1.w ∧ S6.t = ws_a ts 12 0 31 m (i_ S1.sn) ∧ S6.ys = S1.ys ∧ S6.sn = S1.sn + 1 ∧ S6.2.2.2.2.1 = S1.2.2.2.2.1 ∧ S6.2.2.2.2.2.1 = S1.2.2.2.2.2.1 ∧ S6.vs = S1.vs ∧ S6.tl = S1.tl ∧ S6.dn = S1.dn := by subst hS6; exact ⟨rfl, rfl, rfl, rfl, rfl, rfl, rfl, rfl, rfl⟩
    have hx16 : NX nu S1 S6 := by
      subst hS6
      exact hx4.1.tr hx5 (.inl rfl)
    have hsm16 : ∀ b, b ≠ q → SMN nu S1 S6 b := fun b hbq => by
      subst hS6
      exact (hx4.2 b).tr (hsm5 b hbq)
    rw [← hS6] at H5
    clear hS6 hx5 hsm5
    obtain ⟨bw, bt, bys, bsn, bkn, b6, bvs, btl, bdn⟩ := b1
    have bu : S6.u = S1.u := congrArg Prod.fst b6
    have hx06 : NX nu S S6 := hxa.tr hx16 (.inl hu1)
    have hsm06 : ∀ b ∈ S.vs, SMN nu S S6 b ∧ b ∈ S6.vs ∧ (S6.dn b → S.dn b) := fun b hb => ⟨(hsma b hb).1.tr (hsm16 b (fun e => hqv (by rw [← e]; exact hb))), by rw [bvs]; exact (hsma b hb).2.1, fun e => (hsma b hb).2.2 (by rw [bdn] at e; exact e)⟩
    have hITP : ITP V nu S6 sP S6.u (0 + pre.length) (m, q, dq) (s0 + (0 + pre.length)) := by
      rw [Nat.zero_add, ← hsn1]
      refine ⟨⟨⟨rq, hnuq⟩, by rw [bt]; exact e31, by rw [bsn]; exact Nat.lt_succ_self _⟩, ⟨?_, ?_, ?_, ?_, ?_⟩, ?_, ?_, ?_⟩
      · rw [bt, ek 45 _ (by decide), hs9.1.1]
      · rw [bt, ek 46 _ (by decide), hs9.1.2.1]
      · rw [bt, ek 47 _ (by decide), hs9.1.2.2.1]
      · rw [bt, ek 48 _ (by decide), hs9.1.2.2.2.1]
      · rw [bt, ek 49 _ (by decide), hs9.1.2.2.2.2.1]
      · rw [bt, ek 51 _ (by decide), hs9.2.1, bu]
      · rw [bt, ek 53 _ (by decide), hs9.2.2.2.1]
      · rw [bt, ek 54 _ (by decide), hs9.2.2.2.2.1]
        rfl
    have hITQ : ITQ V nu S6 sP S6.u s0 0 (pre ++ [(m, q, dq)]) := by
      refine ITQ.snoc ?_ hITP
      rw [bu]
      exact hI1.st hx16.1.w (fun z hz => hsm16 _ (fun e => hqv (by rw [← e]; exact (hpre z hz).1)))
    have hlen : (pre ++ [(m, q, dq)]).length = pre.length + 1 := by rw [List.length_append]; rfl
    have hTq : HM D V nu tn rt p J (cr + 4) S0 S6 (min (min (min T' T1) (dpN V (pre.map (fun z => z.1)) m)) (agT V ((pre ++ [(m, q, dq)]).map (fun z => z.1)) (l.map (fun z => z.1)))) (min (min T' T1) (dpN V (pre.map (fun z => z.1)) m)) := by
      have h := H5.crd (cr' := cr + 4) (by omega) (by omega)
      have e : min (min (min T' T1) (dpN V (pre.map (fun z => z.1)) m)) (agT V ((pre ++ [(m, q, dq)]).map (fun z => z.1)) (l.map (fun z => z.1))) = min (min T' (agT V (pre.map (fun z => z.1)) (((m, q, dq) :: l).map (fun z => z.1)))) T1 := by
        rw [List.map_cons, List.map_append]
        show min (min (min T' T1) (dpN V (pre.map (fun z => z.1)) m)) (agT V (pre.map (fun z => z.1) ++ [m]) (l.map (fun z => z.1))) = min (min T' (min (dpN V (pre.map (fun z => z.1)) m) (agT V (pre.map (fun z => z.1) ++ [m]) (l.map (fun z => z.1))))) T1
        omega
      rw [e]
      exact h
    rw [← bw, ← bt]
    refine n_tg1 hs hnu hm htm hL hL' (l := l) (pre := pre ++ [(m, q, dq)]) (S := S6) (y := q) (j := 7) (cr := cr + 4) hTq (by omega) ⟨(congrArg Prod.fst (bkn.trans hkn1)).trans hk.1, (congrArg Prod.snd (bkn.trans hkn1)).trans hk.2⟩ (by rw [bsn, hsn1, hlen]; omega) ?_ hsP ⟨by rw [bvs]; exact hq1, hq0⟩ (fun e => by rw [btl] at e; exact absurd (hqt 7 e) (by decide)) ⟨by decide, by decide⟩ (fun e => absurd e hqp) e4 (fun z hz => hX z (List.mem_cons_of_mem _ hz)) hITQ (fun z hz => ?_) (fun S' T2 H' k1 k2 k3 k4 k5 k6 k7 k8 k9 => ?_)
    · exact ((hsm16 p (fun e => hqp e.symm)).2 _ _ _ hnu 31 (.inl rfl)).trans h31a
    · rcases List.mem_append.mp hz with e | e
      · obtain ⟨c1, c2, c3, c4⟩ := hpre z e
        exact ⟨(hsm06 _ c1).2.1, c2, c3, fun h => c4 ((hsm06 _ c1).2.2 h)⟩
      · rw [List.mem_singleton] at e
        subst e
        exact ⟨by rw [bvs]; exact hq1, hq0, hqp, by rw [bdn]; exact hqd⟩
    · have ea : pre ++ [(m, q, dq)] ++ l = pre ++ (m, q, dq) :: l := by rw [List.append_assoc]; rfl
      have el : ((m, q, dq) :: l).length = l.length + 1 := List.length_cons
      rw [ea] at k7 k8
      refine kk S' T2 (by rw [el, show cr + 4 * (l.length + 1) = cr + 4 + 4 * l.length by omega]; exact H') (k1.trans (bkn.trans hkn1)) (k2.trans (bys.trans hys1)) (k3.trans (b6.trans h6)) (by rw [k4, hlen, el]; omega) (hx06.tr k5 (.inl (bu.trans hu1))) (fun b hb => ⟨(hsm06 b hb).1.tr (k6 b (hsm06 b hb).2.1).1, (k6 b (hsm06 b hb).2.1).2.1, fun e => (hsm06 b hb).2.2 ((k6 b (hsm06 b hb).2.1).2.2 e)⟩) k7 k8 (fun e => ?_)
      obtain ⟨c1, c2⟩ := k9 e
      have c3 : T' = NOF ∧ T1 = NOF := by
        have a1 := H.2.2.2.2.1.2.le
        have a2 := hT1.le
        have a3 := (dpN_ok (V := V) (pre := pre.map (fun z => z.1)) (n := m)).le
        omega
      refine ⟨c3.1, fun z hz => ?_⟩
      rcases List.mem_cons.mp hz with e' | e'
      · subst e'
        intro i qq hqq
        obtain ⟨z', hz', e5⟩ := LPx.nx1 hlp hqq
        rw [← e5]
        exact ((hG1 c3.2).2 z' hz').imp (fun q h => (h.nx H1.1 hx16).nx H5.1 k5)
      · exact c2 z e'
/-- MeetingHouse makes and declares the tags -/
theorem n_tg2 {KC : (kx_Rs → wS → Prop) → kx_Rs → wS → Prop} (hs : STR D V nu tn rt) (hnu : nu p = some (n, r, d)) (hL : 240 ≤ L) :
    ∀ {l pre : List (Nat × Nat × Nat)} {S : nS} {a : Option Nat} {x : Int32} {cr : Nat}, HM D V nu tn rt p J (cr + 2 * l.length) S0 S T T' → S.kc = rsq s0 pre.length ++ kr → S.ys sP = some P → w_p S.w 14 p 16 = some P → w_a S.t 12 0 46 sP = i_ 5 → (s0 + pre.length + l.length ≤ S.sn ∧ sP < 6100) → S0.sn ≤ s0 → (∀ s', S.ys s' ≠ none → s' < s0 + pre.length) → (∀ q ∈ S.ck, q.1 ≤ s0) → LPx V tn nu k0 none l a x none (-1) → (∀ z ∈ l, V.2.2.1 26 z.1 = i_ (41 : Nat)) → ITQ V nu S sP S.u s0 pre.length l → ITL V nu S (fun c' => c' = 6) S.u s0 pre → (∀ z ∈ pre ++ l, z.2.1 ∈ S.vs ∧ z.2.1 ∉ S0.vs ∧ z.2.1 ≠ p ∧ ¬ S.dn z.2.1) → ((pre ++ l).map (fun z => z.2.1)).Nodup →
      (∀ (S' : nS), HM D V nu tn rt p J cr S0 S' T T' → S'.kc = rsq s0 (pre.length + l.length) ++ kr → S'.kt = S.kt → S'.2.2.2.2.2.1 = S.2.2.2.2.2.1 → S'.sn = S.sn → S'.t = S.t → S'.vs = S.vs → NXw nu S S' → SMN nu S S' p → ITL V nu S' (fun c' => c' = 6) S'.u s0 (pre ++ l) → PS (fun Q => KC Q (.inl none) S'.w) gt Φ) →
      PS (fun Q => zL_X6_protocol_p116 D.1 L (KC Q) (some p) (i_ pre.length) a S.w) gt Φ
  | [], pre, S, a, x, cr, H, hkc, hyP, hpP, h46, hsn, h0, hla, hck, hl, hX, hQ, hI, hpre, hnd, kk => by
    obtain ⟨h1, h2⟩ := hl
    rw [h1]
    refine PS_l (fun Q h => zt_X6_protocol_p116 (by omega) h) ?_
    simp only [zb_X6_protocol_p116]
    refine PS_lp trivial ?_
    have hk2 : pre ++ [] = pre := List.append_nil _
    exact kk S H (by rw [hkc]; rfl) rfl rfl rfl rfl rfl NX.rf.w SMN.rf (by rw [hk2]; exact hI)
  | zz :: l, pre, S, a, x, cr, H, hkc, hyP, hpP, h46, hsn, h0, hla, hck, hl, hX, hQ, hI, hpre, hnd, kk => by
    obtain ⟨m, q, dq⟩ := zz
    obtain ⟨e1, e2, e3, e4⟩ := hl
    have e1 : a = some q := e1
    have e3 : CHx V tn nu k0 none m q dq := e3
    have e4 : LPx V tn nu k0 none l (V.2.1 q 7) (V.2.2.1 32 m) none (-1) := e4
    have h26m : V.2.2.1 26 m = i_ (41 : Nat) := hX _ List.mem_cons_self
    obtain ⟨rq, hnuq, hmq, -, hrq, -⟩ := e3.nb h26m ⟨by decide, by decide⟩
    obtain ⟨htq, hl2q, -, -, hnm, -⟩ := hs.lf hnuq hmq h26m (by decide)
    obtain ⟨hqv, hq0, hqp, hqd⟩ : q ∈ S.vs ∧ q ∉ S0.vs ∧ q ≠ p ∧ ¬ S.dn q := hpre (m, q, dq) (by simp)
    have el : ((m, q, dq) :: l).length = l.length + 1 := List.length_cons
    obtain ⟨⟨⟨r', hnu'⟩, p31, pss⟩, ⟨p45, p46, p47, p48, p49⟩, p51, p53, p54⟩ := hQ.1
    have hvl := hs.2.2.2.2.2.2 S.vs H.1.2.2.2.2.2.2.2.1.1 (fun a ha => (H.1.2.2.2.2.2.2.2.1.2 a ha).1)
    have hsnb := H.1.2.2.1.1.2
    have hw := H.1.nw hnuq
    have hwp := H.1.nw hnu
    rw [e1]
    refine PS_l (fun Q h => zt_X6_protocol_p116 (by omega) h) ?_
    simp only [zb_X6_protocol_p116]
    refine PS_ln (by simp) (PS_lex q rfl (PS_land hw.1 ?_))
    simp only [hw.2.2 9 (by decide), (hw.2.2 2 (by decide)).trans hl2q]
    refine PS_dcl2 H hs (by rw [el]; omega) (by omega) (fun A al' w2 H3 hsd hA hx3 h14 hsm3 hold => ?_)
    have hL14p : w_l w2 D.1.2.1 14 p := (H3.1.nw hnu).1
    have r16 : w_p (ws_p (dcl w2 A) 14 q 16 (some A)) 14 p 16 = some P := by
      rw [Rpp, if_neg (fun z => hqp z.2.2.symm)]
      unfold dcl
      simp only [Rii, Rgi, Rpi, Rai, Rbi, Rri, Rni, Rdi, Roi, Rti, Rzi, RCi, RSi, Rip, Rgp, Rpp, Rap, Rbp, Rrp, Rnp, Rdp, Rop, Rtp, Rzp, RCp, RSp]
      simp [(h14 p 16).2, hpP]
    have r7 : w_p (dcl w2 A) 14 q 7 = V.2.1 q 7 := by
      unfold dcl
      simp only [Rii, Rgi, Rpi, Rai, Rbi, Rri, Rni, Rdi, Roi, Rti, Rzi, RCi, RSi, Rip, Rgp, Rpp, Rap, Rbp, Rrp, Rnp, Rdp, Rop, Rtp, Rzp, RCp, RSp]
      simp [(h14 q 7).2, hw.2.1 7 (by decide)]
    have r4 : w_p (dcl w2 A) 14 q 4 = V.2.1 q 4 := by
      unfold dcl
      simp only [Rii, Rgi, Rpi, Rai, Rbi, Rri, Rni, Rdi, Roi, Rti, Rzi, RCi, RSi, Rip, Rgp, Rpp, Rap, Rbp, Rrp, Rnp, Rdp, Rop, Rtp, Rzp, RCp, RSp]
      simp [(h14 q 4).2, hw.2.1 4 (by decide)]
    refine PS_l (fun Q a => wkr_k (x := some A) a) (PS_lex p rfl (PS_land hL14p (PS_lex A rfl (PS_land hA.2.2 ?_))))
    simp only [r16, r7, r4]
    have hys : S.ys (s0 + pre.length) = none := by
      cases e : S.ys (s0 + pre.length) with
      | none => rfl
      | some A' => exact absurd (hla _ (by rw [e]; simp)) (Nat.lt_irrefl _)
    have hDc : DCf D (S.sy w2 al') q A (tgw w2 A q pre.length (some P) (V.2.1 q 4)) := ((((DCf.d0 (S := S.sy w2 al') H3.1.2.1.1).qz).pz (by decide)).pz (by decide)).i (by decide)
    obtain ⟨dc1, dc2, dc3, dc4, dc5, ⟨dc6, dc7⟩, ⟨dc8, dc9⟩, dc10, dc11⟩ := hDc
    obtain ⟨⟨d0, d1, d2⟩, ⟨d4, d15, d17, d18, d19, d20⟩, d3, d5, d6, d7, d8, d9, d10, d11, d12, d13, d14, d16, -⟩ := hsd
    have hyo : ysU S.ys (s0 + pre.length) A sP = some P := by
      unfold ysU
      rw [if_neg (fun e => by rw [e, hys] at hyP; cases hyP)]
      exact hyP
    have hR : RS1 D V nu (tgw w2 A q pre.length (some P) (V.2.1 q 4)) S.t (ysU S.ys (s0 + pre.length) A) (s0 + pre.length) A := by
      refine ⟨⟨by omega, hA.2.2⟩, ?_, 6, by decide, p46, ?_, ?_, .inr (.inr (.inr (.inr ⟨rfl, sP, P, ?_, hyo, p47, hsn.2, h46⟩))), .inr ⟨rfl, ?_, pre.length, by omega, ?_, p48⟩, .inr ⟨m, q, rq, dq, 41, ⟨p49, hmq, hnuq, h26m⟩, .inr (.inr (.inr (.inr (.inr (.inr (.inr (.inl ⟨rfl, rfl, ⟨?_, ?_, p53, p54⟩, ?_⟩)))))))⟩⟩
      · rw [p45]
        refine .inl ?_
        unfold tgw dcl
        simp only [Rii, Rgi, Rpi, Rai, Rbi, Rri, Rni, Rdi, Roi, Rti, Rzi, RCi, RSi, Rip, Rgp, Rpp, Rap, Rbp, Rrp, Rnp, Rdp, Rop, Rtp, Rzp, RCp, RSp]
        simp [d1]
        exact hnm
      · unfold tgw dcl
        simp only [Rii, Rgi, Rpi, Rai, Rbi, Rri, Rni, Rdi, Roi, Rti, Rzi, RCi, RSi, Rip, Rgp, Rpp, Rap, Rbp, Rrp, Rnp, Rdp, Rop, Rtp, Rzp, RCp, RSp]
        simp [d0, wc]
      · unfold tgw dcl
        simp only [Rii, Rgi, Rpi, Rai, Rbi, Rri, Rni, Rdi, Roi, Rti, Rzi, RCi, RSi, Rip, Rgp, Rpp, Rap, Rbp, Rrp, Rnp, Rdp, Rop, Rtp, Rzp, RCp, RSp]
        simp [d13, bI]
      · unfold tgw dcl
        simp only [Rii, Rgi, Rpi, Rai, Rbi, Rri, Rni, Rdi, Roi, Rti, Rzi, RCi, RSi, Rip, Rgp, Rpp, Rap, Rbp, Rrp, Rnp, Rdp, Rop, Rtp, Rzp, RCp, RSp]
        simp [d15]
      · unfold tgw dcl
        simp only [Rii, Rgi, Rpi, Rai, Rbi, Rri, Rni, Rdi, Roi, Rti, Rzi, RCi, RSi, Rip, Rgp, Rpp, Rap, Rbp, Rrp, Rnp, Rdp, Rop, Rtp, Rzp, RCp, RSp]
        simp [d9]
      · unfold tgw
        rw [Rii, if_pos ⟨rfl, rfl, rfl⟩]
      · unfold tgw dcl
        simp only [Rii, Rgi, Rpi, Rai, Rbi, Rri, Rni, Rdi, Roi, Rti, Rzi, RCi, RSi, Rip, Rgp, Rpp, Rap, Rbp, Rrp, Rnp, Rdp, Rop, Rtp, Rzp, RCp, RSp]
        simp [d11]
      · unfold tgw dcl
        simp only [Rii, Rgi, Rpi, Rai, Rbi, Rri, Rni, Rdi, Roi, Rti, Rzi, RCi, RSi, Rip, Rgp, Rpp, Rap, Rbp, Rrp, Rnp, Rdp, Rop, Rtp, Rzp, RCp, RSp]
        simp [d14]
      · unfold tgw
        rw [Rpi, Rpp, if_pos ⟨rfl, rfl, rfl⟩]
    obtain ⟨H6, hx6, hsm6⟩ := H3.dz (s := s0 + pre.length) (y := q) (w' := tgw w2 A q pre.length (some P) (V.2.1 q 4)) (kc' := (s0 + pre.length) :: S.kc) hA ⟨hq0, hqd⟩ hs hys (by show s0 + pre.length < S.sn; rw [el] at hsn; omega) (by omega) (fun _ s' A' h _ => hla s' (by rw [show S.ys s' = some A' from h]; simp)) (fun _ q' hq' => by have := hck q' hq'; omega) dc1 dc2 dc3 dc4 dc5 dc7 dc9 (.inr ⟨rfl, dc6, dc8⟩) dc10 dc11 hR
    have H6 := H6.crd (cr' := cr + 2 * l.length) (by rw [el]; omega) (by rw [el]; omega)
    obtain ⟨S6, hS6⟩ : ∃ S6, S6 = (S.sy w2 al').dz (tgw w2 A q pre.length (some P) (V.2.1 q 4)) (s0 + pre.length) A ((s0 + pre.length) :: S.kc) := ⟨_, rfl⟩
    have b1 : S6.w = tgw w2 A q pre.length (some P) (V.2.1 q 4) ∧ S6.t = S.t ∧ S6.ys = ysU S.ys (s0 + pre.length) A ∧ S6.sn = S.sn ∧ S6.kc = (s0 + pre.length) :: S.kc ∧ S6.kt = S.kt ∧ S6.2.2.2.2.2.1 = S.2.2.2.2.2.1 ∧ S6.vs = S.vs ∧ S6.dn = S.dn := by subst hS6; exact ⟨rfl, rfl, rfl, rfl, rfl, rfl, rfl, rfl, rfl⟩
    have hx06 : NXw nu S S6 := by
      subst hS6
      exact hx3.w.tr hx6 (.inl rfl)
    have hsm06 : ∀ b ∈ S.vs, b ≠ q → SMN nu S S6 b := fun b hb hbq => by
      subst hS6
      exact (hsm3 b hb).tr (hsm6 b hbq)
    rw [← hS6] at H6
    clear hS6 hx6 hsm6
    obtain ⟨bw, bt, bys, bsn, bkc, bkt, b6, bvs, bdn⟩ := b1
    have bu : S6.u = S.u := congrArg Prod.fst b6
    have bck : S6.ck = S.ck := congrArg (fun z => z.2.2) b6
    have hnd2 := hnd
    rw [List.map_append, List.map_cons, List.nodup_append] at hnd2
    obtain ⟨hnda, hndb, hndc⟩ := hnd2
    rw [List.nodup_cons] at hndb
    have hITF : ITF V nu S6 (fun c' => c' = 6) S6.u (m, q, dq) (s0 + pre.length) := by
      refine ⟨⟨rq, hnuq⟩, ⟨A, ?_, ?_, by rw [bt]; exact p31⟩, by rw [bt]; exact p45, ⟨6, rfl, by rw [bt]; exact p46⟩, by rw [bt, bu]; exact p51, by rw [bsn]; exact pss⟩
      · rw [bys]
        unfold ysU
        rw [if_pos rfl]
      · rw [bw]
        unfold tgw
        rw [Rpi, Rpp, if_neg (fun z => absurd z.2.1 (by decide)), Rpp, if_neg (fun z => absurd z.2.1 (by decide)), Rpp, if_pos ⟨rfl, rfl, rfl⟩]
    have hITL : ITL V nu S6 (fun c' => c' = 6) S6.u s0 (pre ++ [(m, q, dq)]) := by
      refine ITL.snoc ?_ hITF
      rw [bu]
      exact hI.st hx06.1 (fun z hz => hsm06 _ (hpre z (List.mem_append_left _ hz)).1 (hndc z.2.1 (List.mem_map.mpr ⟨z, hz, rfl⟩) q List.mem_cons_self))
    have hQ6 : ITQ V nu S6 sP S6.u s0 (pre.length + 1) l := by
      rw [bu]
      exact hQ.2.st hx06.1 (fun z hz => hsm06 _ (hpre z (List.mem_append_right _ (List.mem_cons_of_mem _ hz))).1 (fun e => hndb.1 (List.mem_map.mpr ⟨z, hz, e⟩)))
    have hlen : (pre ++ [(m, q, dq)]).length = pre.length + 1 := by rw [List.length_append]; rfl
    have ea : pre ++ [(m, q, dq)] ++ l = pre ++ (m, q, dq) :: l := by rw [List.append_assoc]; rfl
    have h8 : (i_ pre.length : Int32) + 1 = i_ (pre ++ [(m, q, dq)]).length := by rw [hlen, i_inc]
    have hgw : ∀ Q, zL_X6_protocol_p116 D.1 L (KC Q) (some p) (i_ (pre ++ [(m, q, dq)]).length) (V.2.1 q 7) S6.w → zL_X6_protocol_p116 D.1 L (KC Q) (some p) (i_ pre.length + 1) (V.2.1 q 7) (ws_i (ws_p (ws_p (ws_p (dcl w2 A) 14 q 16 (some A)) 15 A 15 (some P)) 15 A 17 (V.2.1 q 4)) 15 A 8 (i_ pre.length)) := fun Q h => by
      rw [h8]
      rw [bw] at h
      exact h
    refine PS_l hgw ?_
    refine n_tg2 hs hnu hL (l := l) (pre := pre ++ [(m, q, dq)]) (S := S6) (cr := cr) H6 (by rw [bkc, hkc, hlen]; rfl) (by rw [bys]; exact hyo) (by rw [(hsm06 p H.2.2.1.1 (fun e => hqp e.symm)).1.1]; exact hpP) (by rw [bt]; exact h46) ⟨by rw [hlen, bsn]; rw [el] at hsn; omega, hsn.2⟩ h0 (fun s' hs' => ?_) (fun q' hq' => hck q' (by rw [← bck]; exact hq')) e4 (fun z hz => hX z (List.mem_cons_of_mem _ hz)) (by rw [hlen]; exact hQ6) hITL (fun z hz => ?_) (by rw [ea]; exact hnd) (fun S' H' k1 k2 k3 k4 k5 k6 k7 k8 k9 => ?_)
    · rw [hlen]
      rw [bys] at hs'
      unfold ysU at hs'
      by_cases e : s' = s0 + pre.length
      · omega
      · rw [if_neg e] at hs'
        have := hla s' hs'
        omega
    · rw [ea] at hz
      rw [bvs, bdn]
      exact hpre z hz
    · rw [ea] at k9
      exact kk S' H' (by rw [k1, hlen, el, show pre.length + (l.length + 1) = pre.length + 1 + l.length by omega]) (k2.trans bkt) (k3.trans b6) (k4.trans bsn) (k5.trans bt) (k6.trans bvs) (hx06.tr k7 (.inl bu)) ((hsm06 p H.2.2.1.1 (fun e => hqp e.symm)).tr k8) k9
end TGS
