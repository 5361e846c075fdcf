/-! ===== TYPES, part 8: the twin tells types: elements, all together ===== -/
section TYX
variable {D : pD} {V : pV} {tn : Nat → Prop} {nu : pNz} {Y : yV} {kr : List Nat} {G : tG} {F : tF} {t t' t'' : wS} {l x y w x1 x4 x6 : Int32} {f n m p k s L : Nat} {v T T' : Int} {C : Nat → Prop} {cs : List (ExT f)} {E' : zE} {Q : kx_Rs → wS → Prop} {R : (Nat → Prop) → ExT f → Prop} {r ra rb : tR} {X : String → wS → Prop}
/-- an element without an index -/
theorem t_el0 (hC : TYC D V tn Y kr G F t) (hn : tn n ∧ n < 14000) (hs : SYu Y kr C n p s) (h28 : V.2.2.1 28 n = -1) (hL : 100 ≤ L) (hq : TYQ Q t (G.1 s, G.2.1 s, NOF)) : zw E' L kt_M577 [.ref (w_adr E'.2.1 12 0), .int (i_ n)] t Q := by
  obtain ⟨g1, g2, -⟩ := hC.1.sm hn.1 hs
  obtain ⟨-, -, e47, e48, -⟩ := hC.1.2.2.2 s hs.1
  have e28 : w_a t 12 0 28 n = -1 := (hC.1.r hn.1 rfl).trans h28
  have pos : (0 : Int32) ≤ i_ s := Int32.not_lt.mp (i_nn (by omega))
  refine zt_X13_typeElem_p0 (by omega) ?_
  simp only [zb_X13_typeElem_p0, zb_X13_typeElem_p160, zb_X13_typeElem_p174, i_nat' (show n < 2147483648 by omega), e28, g2, i_nat' (show s < 2147483648 by omega), e47, e48]
  refine ⟨hC.1.i hn.2 rfl, hC.1.i hn.2 rfl, ?_⟩
  rw [if_pos (show (-1 : Int32) < 0 by decide), if_pos pos]
  refine ⟨hC.1.sy g1 rfl, ?_⟩
  rw [if_pos pos]
  exact ⟨hC.1.sy g1 rfl, t_is (by omega) (TYR.rf hC.2.2) (TYQ.cw hq)⟩
/-- an element with an index -/
theorem t_el1 (I : TYI D V tn nu Y kr G F l E' f) {a : ExT f} {C1 : Nat → Prop} (hC : TYC D V tn Y kr G F t) (hn : tn n ∧ n < 14000) (hl : V.2.2.1 27 n = l) (hs : SYu Y kr C n p s) (h28 : V.2.2.1 28 n = i_ (xn a)) (ha : RX D V tn nu Y kr l f C1 a) (hL : wd f a + 348 ≤ L) (hq : TYQ Q t (tyI G (16 * l.toInt) s (isC D G f a) (hV D G f a) (tyE D G F (16 * l.toInt) f a))) : zw E' L kt_M577 [.ref (w_adr E'.2.1 12 0), .int (i_ n)] t Q := by
  obtain ⟨g1, g2, -⟩ := hC.1.sm hn.1 hs
  have rows : ∀ {t2 : wS}, TYC D V tn Y kr G F t2 → w_a t2 12 0 47 s = G.1 s ∧ w_a t2 12 0 48 s = G.2.1 s := fun hC2 => by
    obtain ⟨-, -, e47, e48, -⟩ := hC2.1.2.2.2 s hs.1
    exact ⟨e47, e48⟩
  have e28 : ∀ {t2 : wS}, TYC D V tn Y kr G F t2 → w_a t2 12 0 28 n = i_ (xn a) := fun hC2 => (hC2.1.r hn.1 rfl).trans h28
  have i28 : ∀ {t2 : wS}, TYC D V tn Y kr G F t2 → kx_inb (i_ n) (w_n t2 12 0 28) = true := fun hC2 => hC2.1.i hn.2 rfl
  have hna := ha.ht
  have pos : (0 : Int32) ≤ i_ s := Int32.not_lt.mp (i_nn (by omega))
  have neg : ¬ (i_ s : Int32) < 0 := i_nn (by omega)
  refine zt_X13_typeElem_p0 (by omega) ?_
  simp only [zb_X13_typeElem_p0, i_nat' (show n < 2147483648 by omega), e28 hC, g2]
  refine ⟨hC.1.i hn.2 rfl, i28 hC, ?_⟩
  rw [if_neg (i_nn (by omega))]
  refine ⟨i28 hC, t_wants I hC ha (by omega) (TYR.rf hC.2.2) (fun t1 k1 => fun _ => ?_)⟩
  have k1 := k1.nof hC.2.2
  have hC1 := hC.mv k1
  rw [if_neg neg]
  simp only [i_nat' (show s < 2147483648 by omega), (rows hC1).2]
  refine ⟨hC1.1.sy g1 rfl, ?_⟩
  by_cases c1 : G.2.1 s = -1
  · rw [if_neg (fun z => z c1)]
    unfold tyI at hq
    rw [if_pos c1] at hq
    exact t_bad (by omega) hC hn hl k1 (TYQ.cw hq)
  · rw [if_pos c1]
    unfold tyI at hq
    rw [if_neg c1] at hq
    have fine : ∀ {t2 : wS}, TYR t (wnT (16 * l.toInt) 0 (tyE D G F (16 * l.toInt) f a)) t2 → ¬ (isC D G f a = true ∧ ixB (G.2.1 s) (hV D G f a) = true) → zb_X13_typeElem_p125 E' L Q (i_ s) t2 := fun k2 hz => by
      have hC2 := hC.mv k2
      rw [if_neg hz] at hq
      unfold zb_X13_typeElem_p125 zb_X13_typeElem_p140
      rw [if_pos pos]
      refine ⟨hC2.1.sy g1 rfl, ?_⟩
      rw [i_nat' (show s < 2147483648 by omega), (rows hC2).1]
      exact t_is (by omega) k2 (TYQ.cw hq)
    have fault : ∀ {t2 : wS}, TYR t (wnT (16 * l.toInt) 0 (tyE D G F (16 * l.toInt) f a)) t2 → (isC D G f a = true ∧ ixB (G.2.1 s) (hV D G f a) = true) → zb_X13_typeElem_p106 E' L Q (i_ n) t2 := fun k2 hz => by
      rw [if_pos hz] at hq
      unfold zb_X13_typeElem_p106
      rw [i_nat' (show n < 2147483648 by omega)]
      exact t_tell (k := 9) (K := fun w1 => zw E' (L - 22) kt_M435 [.ref (w_adr E'.2.1 12 0), .int (-1), .int (-1)] w1 (wk1 (fun v4 w3 => wle w1 w3 → Q (.inl (some (.int v4))) w3) (fun e w => Q (.inr e) w))) (.inr (.inr rfl)) rfl (by omega) hC hn hl k2 (fun t3 k3 => t_is (by omega) k3 (TYQ.cw hq))
    unfold zb_X13_typeElem_p47
    rw [if_neg neg]
    simp only [i_nat' (show n < 2147483648 by omega), e28 hC1]
    refine ⟨i28 hC1, t_cst hC1.1 ha (by omega) (fun _ => ?_)⟩
    cases hc : isC D G f a with
    | false =>
      rw [if_pos (show bI false = 0 from rfl)]
      exact fine k1 (fun z => by rw [hc] at z; exact Bool.false_ne_true z.1)
    | true =>
      rw [if_neg (show ¬ bI true = 0 by decide)]
      rw [e28 hC1]
      refine ⟨i28 hC1, t_hv hC1.1 ha hc (by omega) (fun x t2 ex hf hx => fun _ => ?_) (fun t2 ex hf => fun _ => ?_)⟩
      · have k2 := k1.fv hf
        have hC2 := hC.mv k2
        rw [if_neg (show ¬ (1 : Int32) = 0 by decide)]
        simp only [hx, i_nat' (show s < 2147483648 by omega), (rows hC2).2]
        by_cases d1 : x < 0
        · rw [if_pos d1]
          exact fault k2 ⟨hc, by rw [ex]; show (decide (x < 0) || (!decide (G.2.1 s < 0) && !decide (x < G.2.1 s))) = true; rw [decide_eq_true d1] <;> rfl⟩
        · rw [if_neg d1]
          refine ⟨hC2.1.sy g1 rfl, ?_⟩
          by_cases d2 : G.2.1 s < 0
          · rw [if_pos d2]
            exact fine k2 (fun z => by
              have z2 := z.2
              rw [ex] at z2
              have z2 : (decide (x < 0) || (!decide (G.2.1 s < 0) && !decide (x < G.2.1 s))) = true := z2
              rw [decide_eq_false d1, decide_eq_true d2] at z2
              exact Bool.false_ne_true z2)
          · rw [if_neg d2]
            refine ⟨hC2.1.sy g1 rfl, ?_⟩
            by_cases d3 : x < G.2.1 s
            · rw [if_pos d3]
              exact fine k2 (fun z => by
                have z2 := z.2
                rw [ex] at z2
                have z2 : (decide (x < 0) || (!decide (G.2.1 s < 0) && !decide (x < G.2.1 s))) = true := z2
                rw [decide_eq_false d1, decide_eq_false d2, decide_eq_true d3] at z2
                exact Bool.false_ne_true z2)
            · rw [if_neg d3]
              exact fault k2 ⟨hc, by rw [ex]; show (decide (x < 0) || (!decide (G.2.1 s < 0) && !decide (x < G.2.1 s))) = true; rw [decide_eq_false d1, decide_eq_false d2, decide_eq_false d3] <;> rfl⟩
      · have k2 := k1.fv hf
        rw [if_pos (show (0 : Int32) = 0 from rfl)]
        exact fine k2 (fun z => by
          have z2 := z.2
          rw [ex] at z2
          exact Bool.false_ne_true z2)
theorem TYQ.nq (h : TYQ Q t r) (hk : fkk (w_i t 12 0 64)) : TYQ Q t (r.1, r.2.1, min NOF r.2.2) := fun t' a b => h t' (a.nof hk) b
/-- what kind, by kind -/
theorem t_of (I : TYI D V tn nu Y kr G F l E' f) {e : ExT (f + 1)} (hC : TYC D V tn Y kr G F t) (h : RX D V tn nu Y kr l (f + 1) C e) (hL : wd (f + 1) e + 278 ≤ L) (hq : TYQ Q t (tyK D G F (16 * l.toInt) (isC D G f) (hV D G f) isEl (tyE D G F (16 * l.toInt) f) (xv e) (xs e) (xk e) (xcs e))) : zw E' L kt_M582 [.ref (w_adr E'.2.1 12 0), .int (i_ (xn e))] t Q := by
  obtain ⟨n, p, k, v, s, cs, rfl⟩ := e.el
  obtain ⟨h26, hK⟩ := RX.mk.mp h
  have hn := hK.ht
  have hl := hK.hl
  have hw : ∀ a ∈ cs, cst k + wd f a ≤ wd (f + 1) (xmk (n, p, k, v, s) cs) := fun a ha => wd_le ha
  have e26 : w_a t 12 0 26 n = i_ k := (hC.1.r hn.1 rfl).trans h26
  have ei := i_nat' (show n < 2147483648 by omega)
  have hq : TYQ Q t (tyK D G F (16 * l.toInt) (isC D G f) (hV D G f) isEl (tyE D G F (16 * l.toInt) f) v s k cs) := hq
  have r0 := TYR.rf hC.2.2
  have i28 : kx_inb (i_ n) (w_n t 12 0 28) = true := hC.1.i hn.2 rfl
  show zw E' L kt_M582 [.ref (w_adr E'.2.1 12 0), .int (i_ n)] t Q
  refine zt_X13_typeOf_p0 (by omega) ?_
  unfold zb_X13_typeOf_p0
  simp only [ei, e26]
  refine ⟨hC.1.i hn.2 rfl, ?_⟩
  have hks := hK.ks
  rcases hks with e | e | e | e | e | e | e | e | e | e | e | e | e | e | e <;> subst e <;> simp (decide := true) only [if_true, if_false]
  · exact t_is (by omega) r0 (TYQ.cw hq)
  · exact t_is (by omega) r0 (TYQ.cw hq)
  · obtain ⟨-, -, -, z, -, h28, hs, -⟩ := hK
    obtain ⟨g1, g2, g3⟩ := hC.1.2.1.2 s hs
    have e28 : w_a t 12 0 28 n = i_ s := (hC.1.r hn.1 rfl).trans h28
    simp only [e28, i_nat' g3, g2]
    exact ⟨i28, g1, t_is (by omega) r0 (TYQ.cw hq)⟩
  · exact t_is (by omega) r0 (TYQ.cw hq)
  · exact t_is (by omega) r0 (TYQ.cw hq)
  · exact t_is (by omega) r0 (TYQ.cw hq)
  · exact t_is (by omega) r0 (TYQ.cw hq)
  · obtain ⟨-, -, a, rfl, ⟨hs3, -, h29⟩, ⟨-, h28, -⟩, ha⟩ := hK
    have hwa : 50 + wd f a ≤ _ := hw a List.mem_cons_self
    have e28 : w_a t 12 0 28 n = i_ (xn a) := (hC.1.r hn.1 rfl).trans h28
    have hq : TYQ Q t (if (tyE D G F (16 * l.toInt) f a).1 ≠ -1 ∧ ((tyE D G F (16 * l.toInt) f a).2.1 ≠ -1 ∨ 2 < (tyE D G F (16 * l.toInt) f a).1) then (-1, -1, min (tyE D G F (16 * l.toInt) f a).2.2 (16 * l.toInt + 7)) else (i_ s, -1, (tyE D G F (16 * l.toInt) f a).2.2)) := hq
    simp only [e28, zb_X13_typeOf_p164, zb_X13_typeOf_p158, ei]
    refine ⟨i28, I Cv a _ _ _ hC ha (by omega) (fun t1 g1 g73 => fun _ => ?_)⟩
    have hC1 := hC.mv g1
    have good : ¬ ((tyE D G F (16 * l.toInt) f a).1 ≠ -1 ∧ ((tyE D G F (16 * l.toInt) f a).2.1 ≠ -1 ∨ 2 < (tyE D G F (16 * l.toInt) f a).1)) → kx_inb (i_ n) (w_n t1 12 0 29) = true ∧ zw E' (L - 22) kt_M435 [.ref (w_adr E'.2.1 12 0), .int (w_a t1 12 0 29 n), .int (-1)] t1 (wk1 (fun v2 w1 => wle t1 w1 → Q (.inl (some (.int v2))) w1) (fun e w => Q (.inr e) w)) := fun hz => by
      rw [if_neg hz] at hq
      refine ⟨hC1.1.i hn.2 rfl, ?_⟩
      rw [hC1.1.r hn.1 rfl, h29]
      exact t_is (by omega) g1 (TYQ.cw hq)
    have bad : ((tyE D G F (16 * l.toInt) f a).1 ≠ -1 ∧ ((tyE D G F (16 * l.toInt) f a).2.1 ≠ -1 ∨ 2 < (tyE D G F (16 * l.toInt) f a).1)) → zw E' (L - 21) kt_M357 [.ref (w_adr E'.2.1 12 0), .int (i_ n)] t1 (wk1 (fun v2 w1 => wle t1 w1 → Q (.inl (some (.int v2))) w1) (fun e w => Q (.inr e) w)) := fun hz => by
      rw [if_pos hz] at hq
      exact t_bad (by omega) hC hn hl g1 (TYQ.cw hq)
    by_cases c1 : (tyE D G F (16 * l.toInt) f a).1 = -1
    · rw [if_pos c1]
      exact good (fun z => z.1 c1)
    · rw [if_neg c1, g73]
      by_cases c2 : (tyE D G F (16 * l.toInt) f a).2.1 = -1
      · rw [if_neg (fun z => z c2)]
        by_cases c3 : (tyE D G F (16 * l.toInt) f a).1 ≤ 2
        · rw [if_pos c3]
          exact good (fun z => z.2.elim (fun z => z c2) (fun z => Int32.not_lt.mpr c3 z))
        · rw [if_neg c3]
          exact bad ⟨c1, .inr (Int32.not_le.mp c3)⟩
      · rw [if_pos c2]
        exact bad ⟨c1, .inl c2⟩
  · obtain ⟨-, -, a, rfl, -, h28, ha⟩ := hK
    have hwa : 50 + wd f a ≤ _ := hw a List.mem_cons_self
    have e28 : w_a t 12 0 28 n = i_ (xn a) := (hC.1.r hn.1 rfl).trans h28
    simp only [e28]
    exact ⟨i28, I C a _ _ _ hC ha (by omega) (TYQ.cw (r := tyE D G F (16 * l.toInt) f a) hq)⟩
  · obtain ⟨-, -, ⟨⟨-, h28⟩, -⟩, ha⟩ := hK
    refine zt_X13_typeTable_p0 (by omega) ?_
    simp only [zb_X13_typeTable_p0, ei, (hC.1.r hn.1 rfl).trans h28]
    refine ⟨i28, t_tab (c := 0) I hC hn hl (by omega) r0 (ha.and (P := fun a => wd f a + 325 ≤ L - 25) (fun a haa => by have hwa : 75 + wd f a ≤ _ := hw a haa; omega)) (TYQ.cw hq)⟩
  · obtain ⟨-, -, hs, ⟨-, h28, rfl⟩ | ⟨a, rfl, ⟨-, h28, -⟩, ha⟩⟩ := hK
    · exact t_el0 hC hn hs h28 (by omega) (TYQ.cw hq)
    · have hwa : 95 + wd f a ≤ _ := hw a List.mem_cons_self
      exact t_el1 I hC hn hl hs h28 ha (by omega) (TYQ.cw hq)
  · obtain ⟨-, -, hs, ⟨-, h28⟩, ha⟩ := hK
    obtain ⟨g1, g2, -⟩ := hC.1.sm hn.1 hs
    obtain ⟨hsk, -, -, c8, h8, hc8⟩ := hs
    have hc8 : c8 = 8 := hc8
    subst hc8
    obtain ⟨nd, hnd, e49, hF⟩ := hC.2.1 s hsk h8
    have e28 : w_a t 12 0 28 n = hdn cs := (hC.1.r hn.1 rfl).trans h28
    have e28d : w_a t 12 0 28 nd = V.2.2.1 28 nd := hC.1.r hnd.1 rfl
    have pos : (0 : Int32) ≤ i_ s := Int32.not_lt.mp (i_nn (by omega))
    simp only [g2, i_nat' (show s < 2147483648 by omega), e49, i_nat' (show nd < 2147483648 by omega), e28d]
    refine ⟨hC.1.i hn.2 rfl, ?_⟩
    rw [if_pos pos]
    refine ⟨hC.1.sy g1 rfl, hC.1.i hnd.2 rfl, ?_⟩
    unfold zb_X13_typeOf_p256
    refine zt_X13_typeArguments_p0 (by omega) ?_
    simp only [zb_X13_typeArguments_p0, ei, e28]
    refine ⟨i28, t_args I hC hn hl (by omega) r0 hF (ha.and (P := fun a => wd f a + 354 ≤ L - 26) (fun a haa => by have hwa : 105 + wd f a ≤ _ := hw a haa; omega)) (fun t1 k1 => fun _ => ?_)⟩
    have hC1 := hC.mv k1
    obtain ⟨-, -, e47, -⟩ := hC1.1.2.2.2 s hsk
    rw [if_pos pos]
    refine ⟨hC1.1.sy g1 rfl, ?_⟩
    unfold zb_X13_typeOf_p274
    rw [i_nat' (show s < 2147483648 by omega), e47]
    exact t_is (by omega) k1 (TYQ.cw hq)
  · obtain ⟨-, -, ⟨-, -, -, h29, hu⟩, a, rfl, ⟨-, h28, -⟩, ha⟩ := hK
    have hwa : 95 + wd f a ≤ _ := hw a List.mem_cons_self
    exact t_mon I hC hn hl h29 hu h28 ha (by omega) (TYQ.cw hq)
  · obtain ⟨-, -, ⟨-, -, -, h29, hu⟩, a, b, rfl, ⟨⟨-, h28, -⟩, ⟨-, h30, -⟩⟩, ha, hb⟩ := hK
    have hwa : 100 + wd f a ≤ _ := hw a List.mem_cons_self
    have hwb : 100 + wd f b ≤ _ := hw b (List.mem_cons_of_mem _ List.mem_cons_self)
    exact t_bin I hC hn hl h29 hu h28 h30 ha hb (by omega) (by omega) (TYQ.cw hq)
  · obtain ⟨-, -, -, ⟨⟨-, h28⟩, -⟩, ha⟩ := hK
    have e28 : w_a t 12 0 28 n = hdn cs := (hC.1.r hn.1 rfl).trans h28
    simp only [e28]
    exact ⟨i28, t_trs I hC (by omega) r0 (ha.and (P := fun a => wd f a + 353 ≤ L) (fun a haa => by have hwa : 75 + wd f a ≤ _ := hw a haa; omega)) hq⟩
/-- THE TWIN'S TYPES OF EXPRESSIONS -/
theorem t_ty : ∀ f, TYI D V tn nu Y kr G F l E' f
  | 0 => fun _ _ _ _ _ _ h _ _ => h.elim
  | f + 1 => fun C e L Q t hC h hL hq => by
    have hn := h.ht
    have ei := i_nat' (show xn e < 2147483648 by omega)
    refine zt_X13_typeE_p0 (by omega) ?_
    simp only [zb_X13_typeE_p0, zb_X13_typeE_p51, ei]
    refine t_of (t_ty f) hC h (by omega) (fun t1 g1 g73 => fun _ => ?_)
    have hC1 := hC.mv g1
    have hq : TYQ Q t (tyF (16 * l.toInt) (isC D G (f + 1) e) (hV D G (f + 1) e) (tyK D G F (16 * l.toInt) (isC D G f) (hV D G f) isEl (tyE D G F (16 * l.toInt) f) (xv e) (xs e) (xk e) (xcs e))) := hq
    generalize tyK D G F (16 * l.toInt) (isC D G f) (hV D G f) isEl (tyE D G F (16 * l.toInt) f) (xv e) (xs e) (xk e) (xcs e) = r at g1 g73 hq
    rw [g73]
    unfold tyF at hq
    by_cases c1 : r.1 = -1
    · rw [if_pos c1]
      rw [if_neg (fun z => z.1 c1)] at hq
      exact hq _ (g1.fx (frm_i rfl)) w73
    · rw [if_neg c1]
      refine t_cst hC1.1 h (by omega) (fun _ => ?_)
      cases hc : isC D G (f + 1) e with
      | false =>
        rw [if_pos (show bI false = 0 from rfl)]
        rw [if_neg (fun z => by rw [hc] at z; exact Bool.false_ne_true z.2.1)] at hq
        exact hq _ (g1.fx (frm_i rfl)) w73
      | true =>
        rw [if_neg (show ¬ bI true = 0 by decide)]
        refine t_hv hC1.1 h hc (by omega) (fun x t2 ex hf hx => fun _ => ?_) (fun t2 ex hf => fun _ => ?_)
        · rw [if_pos (show ¬ (1 : Int32) = 0 by decide)]
          rw [if_neg (fun z => by rw [ex] at z; exact absurd z.2.2 (by simp))] at hq
          exact hq _ ((g1.fv hf).fx (frm_i rfl)) w73
        · rw [if_neg (show ¬ ¬ (0 : Int32) = 0 from fun z => z rfl)]
          rw [if_pos ⟨c1, hc, ex⟩] at hq
          exact t_tell (k := 9) (K := fun w1 => zw E' (L - 22) kt_M435 [.ref (w_adr E'.2.1 12 0), .int (-1), .int (-1)] w1 (wk1 (fun v10 w9 => wle w1 w9 → Q (.inl (some (.int v10))) w9) (fun e w => Q (.inr e) w))) (.inr (.inr rfl)) rfl (by omega) hC hn h.hl (g1.fv hf) (fun t3 k3 => t_is (by omega) k3 (TYQ.cw hq))
end TYX
