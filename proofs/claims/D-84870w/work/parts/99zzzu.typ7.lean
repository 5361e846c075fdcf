/-! ===== TYPES, part 7: the twin tells types of expressions ===== -/
section TYW
variable {D : pD} {V : pV} {tn : Nat → Prop} {nu : pNz} {Y : yV} {kr : List Nat} {G : tG} {F : tF} {t t' t'' : wS} {l x y w x1 x4 x6 : Int32} {f n m p k s L : Nat} {v T T' : Int} {C : Nat → Prop} {cs : List (ExT f)} {E' : zE} {Q : kx_Rs → wS → Prop} {R : (Nat → Prop) → ExT f → Prop} {r ra rb : tR} {X : String → wS → Prop}
theorem TYR.nof (h : TYR t (min NOF T) t') (hk : fkk (w_i t 12 0 64)) : TYR t T t' := ⟨h.1, h.2.1, by
  have h1 := fcd_le (y := w_i t 12 0 65) hk
  have h2 := h.2.2
  have h3 : fct t = fcd (w_i t 12 0 64) (w_i t 12 0 65) := rfl
  omega⟩
/-- with one sign -/
theorem t_mon (I : TYI D V tn nu Y kr G F l E' f) {a : ExT f} (hC : TYC D V tn Y kr G F t) (hn : tn n ∧ n < 14000) (hl : V.2.2.1 27 n = l) (h29 : V.2.2.1 29 n = i_ v) (hu : bUn v = true) (h28 : V.2.2.1 28 n = i_ (xn a)) (ha : RX D V tn nu Y kr l f C a) (hL : wd f a + 348 ≤ L) (hq : TYQ Q t (if v = 27 then (if (tyE D G F (16 * l.toInt) f a).1 ≠ -1 ∧ (tyE D G F (16 * l.toInt) f a).2.1 = -1 then (-1, -1, min (tyE D G F (16 * l.toInt) f a).2.2 (16 * l.toInt + 7)) else (0, -1, (tyE D G F (16 * l.toInt) f a).2.2)) else (if v = 17 then 2 else 0, -1, wnT (16 * l.toInt) (if v = 17 then 2 else 0) (tyE D G F (16 * l.toInt) f a)))) : zw E' L kt_M581 [.ref (w_adr E'.2.1 12 0), .int (i_ n)] t Q := by
  have hna := ha.ht
  have r0 := TYR.rf hC.2.2
  have e29 : w_a t 12 0 29 n = i_ v := (hC.1.r hn.1 rfl).trans h29
  have e28 : w_a t 12 0 28 n = i_ (xn a) := (hC.1.r hn.1 rfl).trans h28
  have ev : ∀ j : Int, -1000 ≤ j → j ≤ 1000 → ((i_ v : Int32) = i_ j) = (v = j) := fun j a b => i_eqk (bUn_r hu) a b
  have e27 : ((i_ v : Int32) = 27) = (v = 27) := ev 27 (by decide) (by decide)
  have e17 : ((i_ v : Int32) = 17) = (v = 17) := ev 17 (by decide) (by decide)
  refine zt_X13_typeMonadic_p0 (by omega) ?_
  simp only [zb_X13_typeMonadic_p0, zb_X13_typeMonadic_p43, zb_X13_typeMonadic_p61, i_nat' (show n < 2147483648 by omega), e29, e27, e17, e28]
  refine ⟨hC.1.i hn.2 rfl, ?_⟩
  have i28 : kx_inb (i_ n) (w_n t 12 0 28) = true := hC.1.i hn.2 rfl
  by_cases c : v = 27
  · rw [if_neg (fun z => z c)]
    rw [if_pos c] at hq
    refine ⟨i28, I C a _ _ _ hC ha (by omega) (fun t1 g1 g73 => fun _ => ?_)⟩
    have good : ¬ ((tyE D G F (16 * l.toInt) f a).1 ≠ -1 ∧ (tyE D G F (16 * l.toInt) f a).2.1 = -1) → zw E' (L - 22) kt_M435 [.ref (w_adr E'.2.1 12 0), .int 0, .int (-1)] t1 (wk1 (fun v2 w1 => wle t1 w1 → Q (.inl (some (.int v2))) w1) (fun e w => Q (.inr e) w)) := fun hz => by
      rw [if_neg hz] at hq
      exact t_is (by omega) g1 (TYQ.cw hq)
    by_cases c1 : (tyE D G F (16 * l.toInt) f a).1 = -1
    · rw [if_pos c1]
      exact good (fun z => z.1 c1)
    · rw [if_neg c1, g73]
      by_cases c2 : (tyE D G F (16 * l.toInt) f a).2.1 = -1
      · rw [if_neg (fun z => z c2)]
        rw [if_pos ⟨c1, c2⟩] at hq
        exact t_bad (by omega) hC hn hl g1 (TYQ.cw hq)
      · rw [if_pos c2]
        exact good (fun z => c2 z.2)
  · rw [if_pos c]
    rw [if_neg c] at hq
    have run : ∀ y : Int32, (if v = 17 then (2 : Int32) else 0) = y → kx_inb (i_ n) (w_n t 12 0 28) = true ∧ zw E' (L - 23) kt_M602 [.ref (w_adr E'.2.1 12 0), .int (i_ (xn a)), .int y] t (wk0 (fun w1 => wle t w1 → zw E' (L - 22) kt_M435 [.ref (w_adr E'.2.1 12 0), .int y, .int (-1)] w1 (wk1 (fun v4 w3 => wle w1 w3 → Q (.inl (some (.int v4))) w3) (fun e w => Q (.inr e) w))) (fun e w => Q (.inr e) w)) := fun y hy => by
      rw [hy] at hq
      exact ⟨i28, t_wants I hC ha (by omega) r0 (fun t1 g1 => fun _ => t_is (by omega) (g1.nof hC.2.2) (TYQ.cw hq))⟩
    by_cases c1 : v = 17
    · rw [if_neg (fun z => z c1)]
      exact run 2 (if_pos c1)
    · rw [if_pos c1]
      exact run 0 (if_neg c1)
/-- comparisons: the end -/
theorem t_b226 (hC : TYC D V tn Y kr G F t) (hn : tn n ∧ n < 14000) (hl : V.2.2.1 27 n = l) (hL : 100 ≤ L) (h : TYR t T t') {g : Bool} (hq : TYQ Q t (2, -1, if g = true then T else min T (16 * l.toInt + 7))) : zb_X13_typeBinary_p226 E' L Q (i_ n) (bI g) t' := by
  unfold zb_X13_typeBinary_p226 zb_X13_typeBinary_p245
  cases g with
  | true =>
    rw [if_pos (show ¬ bI true = 0 by decide)]
    exact t_is (by omega) h (TYQ.cw hq)
  | false =>
    rw [if_neg (show ¬ ¬ bI false = 0 from fun z => z rfl), i_nat' (show n < 2147483648 by omega)]
    exact t_tell (k := 7) (K := fun w1 => zw E' (L - 22) kt_M435 [.ref (w_adr E'.2.1 12 0), .int 2, .int (-1)] w1 (wk1 (fun v2 w2 => wle w1 w2 → Q (.inl (some (.int v2))) w2) (fun e w => Q (.inr e) w))) (.inl rfl) rfl (by omega) hC hn hl h (fun t2 h2 => t_is (by omega) h2 (TYQ.cw hq))
theorem t_b197 {g y : Bool} (hq : zb_X13_typeBinary_p226 E' L Q x1 (bI (g && (y || (!decide (x4 = 2) && !decide (x6 = 2))))) t) : zb_X13_typeBinary_p197 E' L Q x1 x4 (bI g) x6 (bI y) t := by
  unfold zb_X13_typeBinary_p197 zb_X13_typeBinary_p225 zb_X13_typeBinary_p221
  cases g with
  | false =>
    rw [if_pos (show bI false = 0 from rfl)]
    exact hq
  | true =>
    rw [if_neg (show ¬ bI true = 0 by decide)]
    cases y with
    | true =>
      rw [if_pos (show ¬ bI true = 0 by decide)]
      exact hq
    | false =>
      rw [if_neg (show ¬ ¬ bI false = 0 from fun z => z rfl)]
      by_cases c1 : x4 = 2
      · rw [if_pos c1]
        rw [decide_eq_true c1] at hq
        exact hq
      · rw [if_neg c1]
        rw [decide_eq_false c1] at hq
        by_cases c2 : x6 = 2
        · rw [if_pos c2]
          rw [decide_eq_true c2] at hq
          exact hq
        · rw [if_neg c2]
          rw [decide_eq_false c2] at hq
          exact hq
theorem t_b178 (hv : bOp v = true) {g : Bool} (hq : zb_X13_typeBinary_p226 E' L Q x1 (bI (g && ((decide (v = 51) || decide (v = 52)) || (!decide (x4 = 2) && !decide (x6 = 2))))) t) : zb_X13_typeBinary_p178 E' L Q x1 (i_ v) x4 x6 (bI g) t := by
  have ev : ∀ j : Int, -1000 ≤ j → j ≤ 1000 → ((i_ v : Int32) = i_ j) = (v = j) := fun j a b => i_eqk (bOp_r hv) a b
  have e51 : ((i_ v : Int32) = 51) = (v = 51) := ev 51 (by decide) (by decide)
  have e52 : ((i_ v : Int32) = 52) = (v = 52) := ev 52 (by decide) (by decide)
  unfold zb_X13_typeBinary_p178 zb_X13_typeBinary_p192
  simp only [e51, e52]
  by_cases c1 : v = 51
  · rw [if_pos c1]
    rw [decide_eq_true c1] at hq
    exact t_b197 (y := true) hq
  · rw [if_neg c1]
    rw [decide_eq_false c1] at hq
    by_cases c2 : v = 52
    · rw [if_neg (fun z => z c2)]
      rw [decide_eq_true c2] at hq
      exact t_b197 (y := true) hq
    · rw [if_pos c2]
      rw [decide_eq_false c2] at hq
      exact t_b197 (y := false) hq
theorem t_b147 (hv : bOp v = true) {g : Bool} (hq : zb_X13_typeBinary_p226 E' L Q x1 (bI ((g && (decide (x4 = -1) || (decide (x6 = -1) || decide (x4 = x6)))) && ((decide (v = 51) || decide (v = 52)) || (!decide (x4 = 2) && !decide (x6 = 2))))) t) : zb_X13_typeBinary_p147 E' L Q x1 (i_ v) x4 x6 (bI g) t := by
  unfold zb_X13_typeBinary_p147 zb_X13_typeBinary_p177 zb_X13_typeBinary_p173
  cases g with
  | false =>
    rw [if_pos (show bI false = 0 from rfl)]
    exact t_b178 (g := false) hv hq
  | true =>
    rw [if_neg (show ¬ bI true = 0 by decide)]
    by_cases c1 : x4 = -1
    · rw [if_pos c1]
      rw [decide_eq_true c1] at hq
      exact t_b178 (g := true) hv hq
    · rw [if_neg c1]
      rw [decide_eq_false c1] at hq
      by_cases c2 : x6 = -1
      · rw [if_pos c2]
        rw [decide_eq_true c2] at hq
        exact t_b178 (g := true) hv hq
      · rw [if_neg c2]
        rw [decide_eq_false c2] at hq
        by_cases c3 : x4 = x6
        · rw [if_neg (fun z => z c3)]
          rw [decide_eq_true c3] at hq
          exact t_b178 (g := true) hv hq
        · rw [if_pos c3]
          rw [decide_eq_false c3] at hq
          exact t_b178 (g := false) hv hq
/-- with two sides -/
theorem t_bin (I : TYI D V tn nu Y kr G F l E' f) {a b : ExT f} (hC : TYC D V tn Y kr G F t) (hn : tn n ∧ n < 14000) (hl : V.2.2.1 27 n = l) (h29 : V.2.2.1 29 n = i_ v) (hu : bOp v = true) (h28 : V.2.2.1 28 n = i_ (xn a)) (h30 : V.2.2.1 30 n = i_ (xn b)) (ha : RX D V tn nu Y kr l f C a) (hb : RX D V tn nu Y kr l f C b) (hL : wd f a + 348 ≤ L) (hL2 : wd f b + 348 ≤ L) (hq : TYQ Q t (if 51 ≤ v ∧ v ≤ 56 then (2, -1, if cmpG v (tyE D G F (16 * l.toInt) f a) (tyE D G F (16 * l.toInt) f b) = true then min (tyE D G F (16 * l.toInt) f a).2.2 (tyE D G F (16 * l.toInt) f b).2.2 else min (min (tyE D G F (16 * l.toInt) f a).2.2 (tyE D G F (16 * l.toInt) f b).2.2) (16 * l.toInt + 7)) else (if v = 0 then 2 else 0, -1, min (wnT (16 * l.toInt) 0 (tyE D G F (16 * l.toInt) f a)) (wnT (16 * l.toInt) 0 (tyE D G F (16 * l.toInt) f b))))) : zw E' L kt_M570 [.ref (w_adr E'.2.1 12 0), .int (i_ n)] t Q := by
  have r0 := TYR.rf hC.2.2
  have e29 : w_a t 12 0 29 n = i_ v := (hC.1.r hn.1 rfl).trans h29
  have e28 : w_a t 12 0 28 n = i_ (xn a) := (hC.1.r hn.1 rfl).trans h28
  have i28 : kx_inb (i_ n) (w_n t 12 0 28) = true := hC.1.i hn.2 rfl
  have hv := bOp_r hu
  have e0 : ((i_ v : Int32) = 0) = (v = 0) := i_eqk (k := 0) hv (by decide) (by decide)
  have elt : ((i_ v : Int32) < 51) = (v < 51) := i_ltk (k := 51) hv (by decide) (by decide)
  have egt : ((56 : Int32) < i_ v) = (56 < v) := i_kl (k := 56) hv (by decide) (by decide)
  refine zt_X13_typeBinary_p0 (by omega) ?_
  simp only [zb_X13_typeBinary_p0, zb_X13_typeBinary_p23, i_nat' (show n < 2147483648 by omega), e29, elt, egt]
  refine ⟨hC.1.i hn.2 rfl, ?_⟩
  have plain : ¬ (51 ≤ v ∧ v ≤ 56) → zb_X13_typeBinary_p24 E' L Q (i_ n) (i_ v) 0 t := fun hz => by
    rw [if_neg hz] at hq
    unfold zb_X13_typeBinary_p24 zb_X13_typeBinary_p61
    simp only [i_nat' (show n < 2147483648 by omega), e28, e0]
    rw [if_neg (show ¬ ¬ True from fun z => z trivial)]
    refine ⟨i28, t_wants I hC ha (by omega) r0 (fun t1 g1 => fun _ => ?_)⟩
    have hC1 := hC.mv g1
    refine ⟨hC1.1.i hn.2 rfl, ?_⟩
    rw [hC1.1.r hn.1 rfl, h30]
    refine t_wants I hC hb (by omega) g1 (fun t2 g2 => fun _ => ?_)
    have g3 := (g2.e (by omega : _ = min NOF (min (wnT (16 * l.toInt) 0 (tyE D G F (16 * l.toInt) f a)) (wnT (16 * l.toInt) 0 (tyE D G F (16 * l.toInt) f b))))).nof hC.2.2
    by_cases c : v = 0
    · rw [if_neg (fun z => z c)]
      rw [if_pos c] at hq
      exact t_is (by omega) g3 (TYQ.cw hq)
    · rw [if_pos c]
      rw [if_neg c] at hq
      exact t_is (by omega) g3 (TYQ.cw hq)
  by_cases c1 : v < 51
  · rw [if_pos c1]
    exact plain (fun z => by omega)
  · rw [if_neg c1]
    by_cases c2 : 56 < v
    · rw [if_pos c2]
      exact plain (fun z => by omega)
    · rw [if_neg c2]
      rw [if_pos (show 51 ≤ v ∧ v ≤ 56 by omega)] at hq
      unfold zb_X13_typeBinary_p24 zb_X13_typeBinary_p98 zb_X13_typeBinary_p102
      simp only [i_nat' (show n < 2147483648 by omega), e28]
      rw [if_pos (show ¬ (1 : Int32) = 0 by decide)]
      refine ⟨i28, I C a _ _ _ hC ha (by omega) (fun t1 g1 g73 => fun _ => ?_)⟩
      have hC1 := hC.mv g1
      have stB : ∀ g : Bool, (decide ((tyE D G F (16 * l.toInt) f a).1 = -1) || (decide ((tyE D G F (16 * l.toInt) f a).2.1 = -1) && !decide (2 < (tyE D G F (16 * l.toInt) f a).1))) = g → zb_X13_typeBinary_p103 E' L Q (i_ n) (i_ v) (tyE D G F (16 * l.toInt) f a).1 (bI g) t1 := fun g hg => by
        unfold zb_X13_typeBinary_p103 zb_X13_typeBinary_p146 zb_X13_typeBinary_p142
        simp only [i_nat' (show n < 2147483648 by omega)]
        refine ⟨hC1.1.i hn.2 rfl, ?_⟩
        rw [hC1.1.r hn.1 rfl, h30]
        refine I C b _ _ _ hC1 hb (by omega) (fun t2 g2 h73 => fun _ => ?_)
        have g3 := g1.tr g2
        have stC : ∀ h : Bool, (decide ((tyE D G F (16 * l.toInt) f b).1 = -1) || (decide ((tyE D G F (16 * l.toInt) f b).2.1 = -1) && !decide (2 < (tyE D G F (16 * l.toInt) f b).1))) = h → zb_X13_typeBinary_p147 E' L Q (i_ n) (i_ v) (tyE D G F (16 * l.toInt) f a).1 (tyE D G F (16 * l.toInt) f b).1 (bI (g && h)) t2 := fun h hh => by
          refine t_b147 hu (t_b226 hC hn hl (by omega) g3 ?_)
          rw [← hg, ← hh]
          exact hq
        cases g with
        | false =>
          rw [if_pos (show bI false = 0 from rfl)]
          exact stC _ rfl
        | true =>
          rw [if_neg (show ¬ bI true = 0 by decide)]
          by_cases d1 : (tyE D G F (16 * l.toInt) f b).1 = -1
          · rw [if_pos d1]
            exact stC true (by rw [decide_eq_true d1] <;> rfl)
          · rw [if_neg d1, h73]
            by_cases d2 : (tyE D G F (16 * l.toInt) f b).2.1 = -1
            · rw [if_neg (fun z => z d2)]
              by_cases d3 : 2 < (tyE D G F (16 * l.toInt) f b).1
              · rw [if_pos d3]
                exact stC false (by rw [decide_eq_false d1, decide_eq_true d2, decide_eq_true d3] <;> rfl)
              · rw [if_neg d3]
                exact stC true (by rw [decide_eq_false d1, decide_eq_true d2, decide_eq_false d3] <;> rfl)
            · rw [if_pos d2]
              exact stC false (by rw [decide_eq_false d1, decide_eq_false d2] <;> rfl)
      by_cases d1 : (tyE D G F (16 * l.toInt) f a).1 = -1
      · rw [if_pos d1]
        exact stB true (by rw [decide_eq_true d1] <;> rfl)
      · rw [if_neg d1, g73]
        by_cases d2 : (tyE D G F (16 * l.toInt) f a).2.1 = -1
        · rw [if_neg (fun z => z d2)]
          by_cases d3 : 2 < (tyE D G F (16 * l.toInt) f a).1
          · rw [if_pos d3]
            exact stB false (by rw [decide_eq_false d1, decide_eq_true d2, decide_eq_true d3] <;> rfl)
          · rw [if_neg d3]
            exact stB true (by rw [decide_eq_false d1, decide_eq_true d2, decide_eq_false d3] <;> rfl)
        · rw [if_pos d2]
          exact stB false (by rw [decide_eq_false d1, decide_eq_false d2] <;> rfl)
end TYW
