/-! ===== TYPES, part 5: the twin tells types: what is told ===== -/
/-- a fault told, nothing that counts changed -/
def TYR (t : wS) (T : Int) (t' : wS) : Prop := FT1 t t' ∧ fkk (w_i t' 12 0 64) ∧ fct t' = min (fct t) T
/-- formals, as the twin has them -/
def FCH (V : pV) (tn : Nat → Prop) (Y : yV) (G : tG) (t : wS) : List (Nat × Bool × Bool × Bool) → Int32 → Prop
  | [], x => x = -1
  | f :: fs, x => ∃ m : Nat, x = i_ m ∧ (tn m ∧ m < 14000) ∧ (Y.1 m = i_ f.1 ∧ f.1 < 6100 ∧ w_a t 12 0 47 f.1 = G.1 f.1) ∧ V.2.2.1 34 m = i_ ((if f.2.2.1 then 1 else 0) + (if f.2.2.2 then 2 else 0) + (if f.2.1 then 4 else 0) : Nat) ∧ FCH V tn Y G t fs (V.2.2.1 32 m)
def TFs (V : pV) (tn : Nat → Prop) (Y : yV) (kr : List Nat) (G : tG) (F : tF) (t : wS) : Prop := ∀ s ∈ kr, Y.2.2.2 s = i_ (8 : Nat) → ∃ nd : Nat, (tn nd ∧ nd < 14000) ∧ w_a t 12 0 49 s = i_ nd ∧ FCH V tn Y G t (F s) (V.2.2.1 28 nd)
def TYC (D : pD) (V : pV) (tn : Nat → Prop) (Y : yV) (kr : List Nat) (G : tG) (F : tF) (t : wS) : Prop := TTs D V tn Y kr G t ∧ TFs V tn Y kr G F t ∧ fkk (w_i t 12 0 64)
/-- what a caller is to be content with -/
def TYQ (Q : kx_Rs → wS → Prop) (t : wS) (r : tR) : Prop := ∀ t', TYR t r.2.2 t' → w_i t' 12 0 73 = r.2.1 → Q (.inl (some (.int r.1))) t'
/-- expressions of this depth -/
def TYI (D : pD) (V : pV) (tn : Nat → Prop) (nu : pNz) (Y : yV) (kr : List Nat) (G : tG) (F : tF) (l : Int32) (E' : zE) (f : Nat) : Prop := ∀ (C : Nat → Prop) (e : ExT f) (L : Nat) (Q : kx_Rs → wS → Prop) (t : wS), TYC D V tn Y kr G F t → RX D V tn nu Y kr l f C e → wd f e + 300 ≤ L → TYQ Q t (tyE D G F (16 * l.toInt) f e) → zw E' L kt_M576 [.ref (w_adr E'.2.1 12 0), .int (i_ (xn e))] t Q
section TYP
variable {D : pD} {V : pV} {tn : Nat → Prop} {nu : pNz} {Y : yV} {kr : List Nat} {G : tG} {F : tF} {t t' t'' : wS} {l x y w : Int32} {f n m p k s L : Nat} {v T T' : Int} {C : Nat → Prop} {cs : List (ExT f)} {E' : zE} {Q : kx_Rs → wS → Prop} {R : (Nat → Prop) → ExT f → Prop} {r : tR} {X : String → wS → Prop}
theorem TYR.rf (h : fkk (w_i t 12 0 64)) : TYR t NOF t := ⟨frm.rf, h, by
  have := fcd_le (y := w_i t 12 0 65) h
  unfold fct
  omega⟩
theorem TYR.tr (h : TYR t T t') (h' : TYR t' T' t'') : TYR t (min T T') t'' := ⟨frm.tr h.1 h'.1, h'.2.1, by
  have h1 := h.2.2
  have h2 := h'.2.2
  omega⟩
theorem TYR.e (h : TYR t T t') (e : T = T') : TYR t T' t' := e ▸ h
theorem TYR.fx (h : TYR t T t') (hf : frm (pk 12 [24, 73]) t' t'') : TYR t T t'' := ⟨frm.tr h.1 (frm.sub hf rfl), by rw [hf.i rfl]; exact h.2.1, by
  unfold fct
  rw [hf.i rfl, hf.i rfl]
  exact h.2.2⟩
theorem TYR.fv (h : TYR t T t') (hf : FV t' t'') : TYR t T t'' := h.fx (frm.sub hf rfl)
theorem tu_fr : FT1 t (tu t T) := by
  unfold tu
  split
  · exact frm.rf
  · exact frm.tr (frm_i rfl) (frm_i rfl)
theorem TYR.tl (h : TYR t T t') (hk : 1 ≤ k ∧ k ≤ 15) : TYR t (min T (16 * l.toInt + k)) (tu t' (fln k l)) := by
  obtain ⟨h1, h2⟩ := tu_fct (T := fln k l) h.2.1 (.inr ⟨k, l, hk, rfl⟩)
  refine ⟨frm.tr h.1 tu_fr, h2, ?_⟩
  have h3 := h.2.2
  have h4 : fln k l = 16 * l.toInt + k := rfl
  omega
theorem FCH.fr (hf : FT1 t t') : ∀ {fs : List (Nat × Bool × Bool × Bool)} {x : Int32}, FCH V tn Y G t fs x → FCH V tn Y G t' fs x
  | [], _, h => h
  | f :: fs, x, ⟨m, h1, h2, ⟨h3, h4, h5⟩, h6, h7⟩ => ⟨m, h1, h2, ⟨h3, h4, (hf.a rfl).trans h5⟩, h6, FCH.fr hf h7⟩
theorem TYC.fr (h : TYC D V tn Y kr G F t) (hf : FT1 t t') (hk : fkk (w_i t' 12 0 64)) : TYC D V tn Y kr G F t' := ⟨h.1.fr hf, fun s hs h8 => by
  obtain ⟨nd, h1, h2, h3⟩ := h.2.1 s hs h8
  exact ⟨nd, h1, (hf.a rfl).trans h2, FCH.fr hf h3⟩, hk⟩
theorem TYC.mv (h : TYC D V tn Y kr G F t) (hr : TYR t T t') : TYC D V tn Y kr G F t' := h.fr hr.1 hr.2.1
theorem TYQ.cw (h : TYQ Q t r) : TYQ (wk1 (fun v w1 => wle t' w1 → Q (.inl (some (.int v))) w1) X) t r := fun t'' a b => fun _ => h t'' a b
theorem w73 : w_i (ws_i t 12 0 73 x) 12 0 73 = x := by rw [Rii, if_pos ⟨rfl, rfl, rfl⟩]
/-- says a type -/
theorem t_is (hL : 40 ≤ L) (h : TYR t T t') (hq : TYQ Q t (x, y, T)) : zw E' L kt_M435 [.ref (w_adr E'.2.1 12 0), .int x, .int y] t' Q := by
  refine zt_X13_is_p0 (by omega) ?_
  simp only [zb_X13_is_p0]
  exact hq _ (h.fx (frm_i rfl)) w73
/-- tells 7, 8 or 9 of a node's line, goes on -/
theorem t_tell {K : wS → Prop} (hk : k = 7 ∨ k = 8 ∨ k = 9) {xk : Int32} (hxk : xk = i_ k) (hL : 40 ≤ L) (hC : TYC D V tn Y kr G F t) (hn : tn n ∧ n < 14000) (hl : V.2.2.1 27 n = l) (h : TYR t T t') (hq : ∀ t'', TYR t (min T (16 * l.toInt + k)) t'' → K t'') : kx_inb (i_ n) (w_n t' 12 0 27) = true ∧ zw E' L kt_M560 [.ref (w_adr E'.2.1 12 0), .int xk, .int (w_a t' 12 0 27 n)] t' (wk0 (fun w1 => wle t' w1 → K w1) X) := by
  have hC' := hC.mv h
  refine ⟨hC'.1.i hn.2 rfl, ?_⟩
  rw [hC'.1.r hn.1 rfl, hl, hxk]
  exact t_tells (by omega) hC'.2.2 (by omega) (fun _ => hq _ (h.tl (by omega)))
theorem t_bad (hL : 80 ≤ L) (hC : TYC D V tn Y kr G F t) (hn : tn n ∧ n < 14000) (hl : V.2.2.1 27 n = l) (h : TYR t T t') (hq : TYQ Q t (-1, -1, min T (16 * l.toInt + 7))) : zw E' L kt_M357 [.ref (w_adr E'.2.1 12 0), .int (i_ n)] t' Q := by
  refine zt_X13_bad_p0 (by omega) ?_
  simp only [zb_X13_bad_p0, i_nat' (show n < 2147483648 by omega)]
  exact t_tell (k := 7) (K := fun w1 => Q (.inl (some (.int (-1)))) (ws_i w1 12 0 73 (-1))) (.inl rfl) rfl (by omega) hC hn hl h (fun t'' h2 => hq _ (h2.fx (frm_i rfl)) w73)
theorem t_fits (hL : 40 ≤ L) (hq : Q (.inl (some (.int (bI (decide (x = -1 ∨ x = y)))))) t) : zw E' L kt_M412 [.ref (w_adr E'.2.1 12 0), .int x, .int y] t Q := by
  refine zt_X13_fits_p0 (by omega) ?_
  unfold zb_X13_fits_p0 zb_X13_fits_p10 zb_X13_fits_p15
  by_cases c : x = -1
  · rw [if_pos c]
    rw [decide_eq_true (.inl c)] at hq
    exact ⟨by decide, hq⟩
  · rw [if_neg c]
    by_cases c2 : x = y
    · rw [if_neg (fun z => z c2)]
      rw [decide_eq_true (.inr c2)] at hq
      exact ⟨by decide, hq⟩
    · rw [if_pos c2]
      rw [decide_eq_false (fun z => z.elim c c2)] at hq
      exact ⟨by decide, hq⟩
/-- one that is to be of a type -/
theorem t_wants (I : TYI D V tn nu Y kr G F l E' f) {e : ExT f} (hC : TYC D V tn Y kr G F t) (hx : RX D V tn nu Y kr l f C e) (hL : wd f e + 325 ≤ L) (h : TYR t T t') (hq : ∀ t'', TYR t (min T (wnT (16 * l.toInt) w (tyE D G F (16 * l.toInt) f e))) t'' → Q (.inl none) t'') : zw E' L kt_M602 [.ref (w_adr E'.2.1 12 0), .int (i_ (xn e)), .int w] t' Q := by
  have hn := hx.ht
  refine zt_X13_wantScalar_p0 (by omega) ?_
  simp only [zb_X13_wantScalar_p0, zb_X13_wantScalar_p28, zb_X13_wantScalar_p40, i_nat' (show xn e < 2147483648 by omega)]
  refine I C e _ _ _ (hC.mv h) hx (by omega) (fun t1 h1 h73 => fun _ => ?_)
  have h2 := h.tr h1
  have bad : (wnT (16 * l.toInt) w (tyE D G F (16 * l.toInt) f e)) = min (tyE D G F (16 * l.toInt) f e).2.2 (16 * l.toInt + 7) → kx_inb (i_ (xn e)) (w_n t1 12 0 27) = true ∧ zw E' (L - 22) kt_M560 [.ref (w_adr E'.2.1 12 0), .int 7, .int (w_a t1 12 0 27 (xn e))] t1 (wk0 (fun w1 => wle t1 w1 → Q (.inl none) w1) (fun e w => Q (.inr e) w)) := fun hw => t_tell (k := 7) (K := fun w1 => Q (.inl none) w1) (.inl rfl) rfl (by omega) hC hn hx.hl h2 (fun t'' h3 => hq _ (h3.e (by rw [hw]; show min (min T _) (16 * l.toInt + ((7 : Nat) : Int)) = _; omega)))
  have ok : (wnT (16 * l.toInt) w (tyE D G F (16 * l.toInt) f e)) = (tyE D G F (16 * l.toInt) f e).2.2 → Q (.inl none) t1 := fun hw => hq _ (h2.e (by rw [hw]))
  refine t_fits (by omega) (fun _ => ?_)
  by_cases a1 : (tyE D G F (16 * l.toInt) f e).1 = -1
  · rw [decide_eq_true (.inl a1), if_neg (show ¬ bI true = 0 by decide), if_pos a1]
    exact ok (if_neg (fun z => z.elim (fun z => z (.inl a1)) (fun z => z.1 a1)))
  · by_cases a2 : (tyE D G F (16 * l.toInt) f e).1 = w
    · rw [decide_eq_true (.inr a2), if_neg (show ¬ bI true = 0 by decide), if_neg a1, h73]
      by_cases a3 : (tyE D G F (16 * l.toInt) f e).2.1 = -1
      · rw [if_pos a3]
        exact ok (if_neg (fun z => z.elim (fun z => z (.inr a2)) (fun z => z.2 a3)))
      · rw [if_neg a3]
        exact bad (if_pos (.inr ⟨a1, a3⟩))
    · rw [decide_eq_false (fun z => z.elim a1 a2), if_pos (show bI false = 0 from rfl)]
      exact bad (if_pos (.inl (fun z => z.elim a1 a2)))
/-- a table -/
theorem t_tab (I : TYI D V tn nu Y kr G F l E' f) (hC : TYC D V tn Y kr G F t) (hn : tn n ∧ n < 14000) (hl : V.2.2.1 27 n = l) (hL : 100 ≤ L) : ∀ {ls : List (ExT f)} {o : Int32} {c : Nat} {T : Int} {t' : wS}, TYR t T t' → RXs V (fun e => RX D V tn nu Y kr l f C e ∧ wd f e + 325 ≤ L) ls → TYQ Q t (tyT (tyE D G F (16 * l.toInt) f) (16 * l.toInt) o c T ls) → zL_X13_typeTable_p12 E' L Q (i_ n) o (i_ c) (hdn ls) t'
  | [], o, c, T, t', h, _, hq => by
    refine zt_X13_typeTable_p12 (by omega) ?_
    simp only [zb_X13_typeTable_p12]
    rw [if_pos hdn_lt]
    exact t_is (by omega) h (TYQ.cw hq)
  | e :: ls, o, c, T, t', h, hx, hq => by
    obtain ⟨-, ⟨h1, hw⟩, ⟨-, h2⟩, h3⟩ := hx
    obtain ⟨hne, h14⟩ := h1.ht
    refine zt_X13_typeTable_p12 (by omega) ?_
    simp only [zb_X13_typeTable_p12, zb_X13_typeTable_p62, zb_X13_typeTable_p77, zb_X13_typeTable_p80, hdn_c, i_nat' (show xn e < 2147483648 by omega), i_nat' (show n < 2147483648 by omega), i_inc]
    rw [if_neg (i_nn (by omega))]
    refine I C e _ _ _ (hC.mv h) h1 (by omega) (fun t1 g1 g73 => fun _ => ?_)
    have g2 := h.tr g1
    have nx : ∀ {o' : Int32} {T' : Int} {t2 : wS}, TYR t T' t2 → TYQ Q t (tyT (tyE D G F (16 * l.toInt) f) (16 * l.toInt) o' (c + 1) T' ls) → kx_inb (i_ (xn e)) (w_n t2 12 0 32) = true ∧ zL_X13_typeTable_p12 E' L Q (i_ n) o' (i_ (c + 1 : Nat)) (w_a t2 12 0 32 (xn e)) t2 := fun k2 hq2 => by
      have hC2 := hC.mv k2
      refine ⟨hC2.1.i h14 rfl, ?_⟩
      rw [hC2.1.r hne rfl, h2]
      exact t_tab I hC hn hl hL k2 h3 hq2
    by_cases a1 : (tyE D G F (16 * l.toInt) f e).1 = -1
    · rw [if_neg (fun z => z a1)]
      rw [tyT, if_pos a1] at hq
      exact nx g2 hq
    · rw [if_pos a1, g73]
      rw [tyT, if_neg a1] at hq
      have bad : ((tyE D G F (16 * l.toInt) f e).2.1 ≠ -1 ∨ 2 < (tyE D G F (16 * l.toInt) f e).1 ∨ (o ≠ -1 ∧ (tyE D G F (16 * l.toInt) f e).1 ≠ o)) → kx_inb (i_ n) (w_n t1 12 0 27) = true ∧ zw E' (L - 22) kt_M560 [.ref (w_adr E'.2.1 12 0), .int 7, .int (w_a t1 12 0 27 n)] t1 (wk0 (fun w1 => wle t1 w1 → kx_inb (i_ (xn e)) (w_n w1 12 0 32) = true ∧ zL_X13_typeTable_p12 E' L Q (i_ n) o (i_ (c + 1 : Nat)) (w_a w1 12 0 32 (xn e)) w1) (fun e w => Q (.inr e) w)) := fun hb => by
        rw [if_pos hb] at hq
        exact t_tell (k := 7) (K := fun w1 => kx_inb (i_ (xn e)) (w_n w1 12 0 32) = true ∧ zL_X13_typeTable_p12 E' L Q (i_ n) o (i_ (c + 1 : Nat)) (w_a w1 12 0 32 (xn e)) w1) (.inl rfl) rfl (by omega) hC hn hl g2 (fun t2 k2 => nx k2 hq)
      by_cases a2 : (tyE D G F (16 * l.toInt) f e).2.1 = -1
      · rw [if_neg (fun z => z a2)]
        by_cases a3 : 2 < (tyE D G F (16 * l.toInt) f e).1
        · rw [if_pos a3]
          exact bad (.inr (.inl a3))
        · rw [if_neg a3]
          have good : (o = -1 ∨ (tyE D G F (16 * l.toInt) f e).1 = o) → kx_inb (i_ (xn e)) (w_n t1 12 0 32) = true ∧ zL_X13_typeTable_p12 E' L Q (i_ n) (tyE D G F (16 * l.toInt) f e).1 (i_ (c + 1 : Nat)) (w_a t1 12 0 32 (xn e)) t1 := fun ho => by
            rw [if_neg (fun z => z.elim (fun z => z a2) (fun z => z.elim a3 (fun z => ho.elim z.1 z.2)))] at hq
            exact nx g2 hq
          by_cases a4 : o = -1
          · rw [if_pos a4]
            exact good (.inl a4)
          · rw [if_neg a4]
            by_cases a5 : (tyE D G F (16 * l.toInt) f e).1 = o
            · rw [if_pos a5]
              exact good (.inr a5)
            · rw [if_neg a5]
              exact bad (.inr (.inr ⟨a4, a5⟩))
      · rw [if_pos a2]
        exact bad (.inl a2)
/-- truths -/
theorem t_trs (I : TYI D V tn nu Y kr G F l E' f) (hC : TYC D V tn Y kr G F t) (hL : 100 ≤ L) : ∀ {ls : List (ExT f)} {T : Int} {t' : wS}, TYR t T t' → RXs V (fun e => RX D V tn nu Y kr l f C e ∧ wd f e + 353 ≤ L) ls → TYQ Q t (2, -1, tyW (tyE D G F (16 * l.toInt) f) (16 * l.toInt) T ls) → zL_X13_typeOf_p201 E' L Q (hdn ls) t'
  | [], T, t', h, _, hq => by
    refine zt_X13_typeOf_p201 (by omega) ?_
    simp only [zb_X13_typeOf_p201]
    rw [if_pos hdn_lt]
    exact t_is (by omega) h (TYQ.cw hq)
  | e :: ls, T, t', h, hx, hq => by
    obtain ⟨-, ⟨h1, hw⟩, ⟨-, h2⟩, h3⟩ := hx
    obtain ⟨hne, h14⟩ := h1.ht
    refine zt_X13_typeOf_p201 (by omega) ?_
    simp only [zb_X13_typeOf_p201, hdn_c, i_nat' (show xn e < 2147483648 by omega)]
    rw [if_neg (i_nn (by omega))]
    refine t_wants I hC h1 (by omega) h (fun t1 g1 => fun _ => ?_)
    have hC1 := hC.mv g1
    refine ⟨hC1.1.i h14 rfl, ?_⟩
    rw [hC1.1.r hne rfl, h2]
    exact t_trs I hC hL g1 h3 hq
/-- an argument, behind its type -/
theorem t_a174 (hC : TYC D V tn Y kr G F t) (hn : tn n ∧ n < 14000) (hl : V.2.2.1 27 n = l) (h : TYR t T t') (hs : s < 6100) (h47 : w_a t' 12 0 47 s = G.1 s) {g1 ar : Bool} (hL : 80 ≤ L) (hq : ∀ t'', TYR t (if g1 = true ∧ (r.1 = -1 ∨ G.1 s = -1 ∨ r.1 = G.1 s) ∧ (r.1 = -1 ∨ (r.2.1 = -1 ↔ ar = false)) then T else min T (16 * l.toInt + 7)) t'' → Q (.inl none) t'') : zb_X13_typeArgument_p174 E' L Q (i_ n) (i_ s) r.1 r.2.1 (bI ar) (bI g1) t' := by
  have bad : ¬ (g1 = true ∧ (r.1 = -1 ∨ G.1 s = -1 ∨ r.1 = G.1 s) ∧ (r.1 = -1 ∨ (r.2.1 = -1 ↔ ar = false))) → kx_inb (i_ n) (w_n t' 12 0 27) = true ∧ zw E' (L - 22) kt_M560 [.ref (w_adr E'.2.1 12 0), .int 7, .int (w_a t' 12 0 27 n)] t' (wk0 (fun w1 => wle t' w1 → Q (.inl none) w1) (fun e w => Q (.inr e) w)) := fun hz => by
    rw [if_neg hz] at hq
    exact t_tell (k := 7) (K := fun w1 => Q (.inl none) w1) (.inl rfl) rfl (by omega) hC hn hl h hq
  have good : (g1 = true ∧ (r.1 = -1 ∨ G.1 s = -1 ∨ r.1 = G.1 s) ∧ (r.1 = -1 ∨ (r.2.1 = -1 ↔ ar = false))) → Q (.inl none) t' := fun hz => by
    rw [if_pos hz] at hq
    exact hq _ h
  have hC' := hC.mv h
  simp only [zb_X13_typeArgument_p174, zb_X13_typeArgument_p206, zb_X13_typeArgument_p223, zb_X13_typeArgument_p233, zb_X13_typeArgument_p236, zb_X13_typeArgument_p240, zb_X13_typeArgument_p241, zb_X13_typeArgument_p260, i_nat' (show n < 2147483648 by omega), i_nat' (show s < 2147483648 by omega), h47]
  have e00 : ¬ ¬ True := fun z => z trivial
  have e10 : ¬ (1 : Int32) = 0 := by decide
  have e01 : ¬ (0 : Int32) = 1 := by decide
  cases g1 with
  | false =>
    rw [if_pos (show bI false = 0 from rfl), if_neg e00]
    exact bad (fun z => Bool.false_ne_true z.1)
  | true =>
    rw [if_neg (show ¬ bI true = 0 by decide)]
    by_cases a1 : r.1 = -1
    · rw [if_pos a1, if_pos a1, if_pos e10]
      exact good ⟨rfl, .inl a1, .inl a1⟩
    · simp only [if_neg a1]
      cases ar with
      | false =>
        by_cases a3 : r.2.1 = -1
        · have gd : (G.1 s = -1 ∨ r.1 = G.1 s) → Q (.inl none) t' := fun z => good ⟨rfl, .inr z, .inr ⟨fun _ => rfl, fun _ => a3⟩⟩
          have bd := fun z => bad (fun q => q.2.1.elim a1 z)
          by_cases a4 : G.1 s = -1
          · simp (decide := true) only [a3, a4, bI, cond_false, cond_true, if_true, if_false, not_true_eq_false, not_false_eq_true]
            exact ⟨hC'.1.sy hs rfl, gd (.inl a4)⟩
          · by_cases a5 : r.1 = G.1 s
            · rw [if_neg a4, if_neg (fun z => z a5)]
              simp (decide := true) only [a3, bI, cond_false, cond_true, if_true, if_false, not_true_eq_false, not_false_eq_true]
              exact ⟨hC'.1.sy hs rfl, hC'.1.sy hs rfl, gd (.inr a5)⟩
            · rw [if_neg a4, if_pos a5, if_neg e00]
              exact ⟨hC'.1.sy hs rfl, hC'.1.sy hs rfl, bd (fun z => z.elim a4 a5)⟩
        · have bd := bad (fun q => q.2.2.elim a1 (fun z => a3 (z.mpr rfl)))
          by_cases a4 : G.1 s = -1
          · rw [if_pos a4, if_pos a3]
            simp (decide := true) only [bI, cond_false, cond_true, if_true, if_false, not_true_eq_false, not_false_eq_true]
            exact ⟨hC'.1.sy hs rfl, bd⟩
          · by_cases a5 : r.1 = G.1 s
            · rw [if_neg a4, if_neg (fun z => z a5), if_pos a3]
              simp (decide := true) only [bI, cond_false, cond_true, if_true, if_false, not_true_eq_false, not_false_eq_true]
              exact ⟨hC'.1.sy hs rfl, hC'.1.sy hs rfl, bd⟩
            · rw [if_neg a4, if_pos a5, if_neg e00]
              exact ⟨hC'.1.sy hs rfl, hC'.1.sy hs rfl, bd⟩
      | true =>
        by_cases a3 : r.2.1 = -1
        · have bd := bad (fun q => q.2.2.elim a1 (fun z => Bool.false_ne_true (z.mp a3).symm))
          by_cases a4 : G.1 s = -1
          · rw [if_pos a4, if_neg (fun z => z a3)]
            simp (decide := true) only [bI, cond_false, cond_true, if_true, if_false, not_true_eq_false, not_false_eq_true]
            exact ⟨hC'.1.sy hs rfl, bd⟩
          · by_cases a5 : r.1 = G.1 s
            · rw [if_neg a4, if_neg (fun z => z a5), if_neg (fun z => z a3)]
              simp (decide := true) only [bI, cond_false, cond_true, if_true, if_false, not_true_eq_false, not_false_eq_true]
              exact ⟨hC'.1.sy hs rfl, hC'.1.sy hs rfl, bd⟩
            · rw [if_neg a4, if_pos a5, if_neg e00]
              exact ⟨hC'.1.sy hs rfl, hC'.1.sy hs rfl, bd⟩
        · have gd : (G.1 s = -1 ∨ r.1 = G.1 s) → Q (.inl none) t' := fun z => good ⟨rfl, .inr z, .inr ⟨fun q => absurd q a3, fun q => absurd q.symm Bool.false_ne_true⟩⟩
          have bd := fun z => bad (fun q => q.2.1.elim a1 z)
          by_cases a4 : G.1 s = -1
          · rw [if_pos a4, if_pos a3]
            simp (decide := true) only [bI, cond_false, cond_true, if_true, if_false, not_true_eq_false, not_false_eq_true]
            exact ⟨hC'.1.sy hs rfl, gd (.inl a4)⟩
          · by_cases a5 : r.1 = G.1 s
            · rw [if_neg a4, if_neg (fun z => z a5), if_pos a3]
              simp (decide := true) only [bI, cond_false, cond_true, if_true, if_false, not_true_eq_false, not_false_eq_true]
              exact ⟨hC'.1.sy hs rfl, hC'.1.sy hs rfl, gd (.inr a5)⟩
            · rw [if_neg a4, if_pos a5, if_neg e00]
              exact ⟨hC'.1.sy hs rfl, hC'.1.sy hs rfl, bd (fun z => z.elim a4 a5)⟩
end TYP
