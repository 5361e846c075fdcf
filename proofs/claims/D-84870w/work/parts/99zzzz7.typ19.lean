/-! ===== TYPES, part 19: MeetingHouse: tables ===== -/
/-- the nodes of MeetingHouse that an expression has -/
def nds : (f : Nat) → ExT f → List Nat
  | 0, e => Empty.elim e
  | f + 1, e => if xk e = 58 then (xcs e).flatMap (nds f) else xp e :: (xcs e).flatMap (nds f)
/-- expressions of this depth, MeetingHouse's side -/
def MXI (D : pD) (V : pV) (tn : Nat → Prop) (nu : pNz) (Y : yV) (kr : List Nat) (G : tG) (F : tF) (SM : Nat → sF) (l : Int32) (X0 : Nat → nF) (f : Nat) : Prop := ∀ (C : Nat → Prop) (e : ExT f) (L : Nat) (Q : kx_Rs → wS → Prop) (w : wS), (∀ c, C c → c ≠ 3) → MYC D V nu Y kr F SM w → RX D V tn nu Y kr l f C e → (∀ o ∈ nds f e, NRc w o (X0 o)) → (nds f e).Nodup → wd f e + 300 ≤ L → (∀ w', MYR (nds f e) w (mxE SM G F (16 * l.toInt) X0 f e).2 w' → NRc w' (xp e) (mxE SM G F (16 * l.toInt) X0 f e).1 → Q (.inl none) w') → zw D.1 L kt_M266 [.ref (w_adr D.1.2.1 6 0), va_rf (some (xp e))] w Q
section MYT
variable {D : pD} {V : pV} {tn : Nat → Prop} {nu : pNz} {Y : yV} {kr : List Nat} {G : tG} {F : tF} {SM : Nat → sF} {w w' w'' w1 : wS} {l y ty u : Int32} {f n m p o k s L q q2 A : Nat} {v T T' cw : Int} {C : Nat → Prop} {N N' : List Nat} {Q : kx_Rs → wS → Prop} {x a b : nF} {c : Bool} {X : String → wS → Prop} {S : sF} {X0 : Nat → nF}
theorem RX.un : ∀ {f : Nat} {C : Nat → Prop} {e : ExT f}, RX D V tn nu Y kr l f C e → nu (xp e) ≠ none
  | 0, _, _, h => h.elim
  | f + 1, C, e, h => by
    obtain ⟨n, p, k, v, s, cs, rfl⟩ := e.el
    obtain ⟨-, hK⟩ := RX.mk.mp h
    show nu p ≠ none
    rcases hK.ks with e | e | e | e | e | e | e | e | e | e | e | e | e | e | e <;> subst e <;> first
      | exact hK.1.2.1
      | (obtain ⟨-, -, a, -, e1, -, ha⟩ := hK
         rw [e1]
         exact RX.un ha)
theorem hdp_c {e : ExT f} {r : List (ExT f)} : hdp (e :: r) = some (xp e) := rfl
/-- a table's loop -/
theorem c_tab (I : MXI D V tn nu Y kr G F SM l X0 f) (hCn : ∀ c, C c → c ≠ 3) (hC : MYC D V nu Y kr F SM w) (hp : nu p ≠ none) (hN : p ∈ N) (hl : V.1 p 2 = l) (hL : 120 ≤ L) : ∀ {ls : List (ExT f)} {n : Nat} {ty : Int32} {b : Bool} {T : Int} {w1 : wS}, MYR N w T w1 → NRc w1 p x → RXs V (fun e => RX D V tn nu Y kr l f C e ∧ wd f e + 325 ≤ L) ls → (∀ o ∈ ls.flatMap (nds f), NRc w1 o (X0 o) ∧ o ∈ N ∧ o ≠ p) → (∀ e ∈ ls, xp e ∈ nds f e) → (ls.flatMap (nds f)).Nodup → (∀ w', MYR N w (tbM (mxE SM G F (16 * l.toInt) X0 f) (16 * l.toInt) x n ty b T ls).2 w' → NRc w' p (tbM (mxE SM G F (16 * l.toInt) X0 f) (16 * l.toInt) x n ty b T ls).1 → Q (.inl none) w') → zL_X7_table_p13 D.1 L Q (some p) (i_ n) ty (bI b) (hdp ls) w1
  | [], n, ty, b, T, w1, h, hx, _, _, _, _, hq => by
    refine zt_X7_table_p13 (by omega) ?_
    unfold zb_X7_table_p13 zb_X7_table_p115 zb_X7_table_p133
    have hC1 := hC.r h
    rw [if_pos (show hdp ([] : List (ExT f)) = none from rfl)]
    refine ⟨p, rfl, hC1.al hp, ?_⟩
    have b1 := h.i (y := ty) hN (k := 17) rfl
    have n1 := hx.s17 (y := ty)
    have fin : ∀ c : Bool, (!decide (ty = 0)) = c → ∃ p1, some p = some p1 ∧ w_l (ws_i w1 14 p 17 ty) D.1.2.1 14 p1 ∧ ((bI c = 0 ∨ bI c = 1) ∧ (∃ p2, some p = some p2 ∧ w_l (ws_i (ws_i w1 14 p 17 ty) 14 p1 20 (bI c)) D.1.2.1 14 p2 ∧ (if bI b = 0 then Q (.inl none) (ws_i (ws_i (ws_i w1 14 p 17 ty) 14 p1 20 (bI c)) 14 p2 18 (i_ n)) else zw D.1 (L - 21) kt_M290 [.ref (w_adr D.1.2.1 6 0), va_rf (some p)] (ws_i (ws_i (ws_i w1 14 p 17 ty) 14 p1 20 (bI c)) 14 p2 18 (i_ n)) (wk0 (fun w3 => wle (ws_i (ws_i (ws_i w1 14 p 17 ty) 14 p1 20 (bI c)) 14 p2 18 (i_ n)) w3 → Q (.inl none) w3) (fun e w => Q (.inr e) w))))) := fun c hc => by
      have b2 := b1.i (y := bI c) hN (k := 20) rfl
      have b3 := b2.i (y := i_ n) hN (k := 18) rfl
      have n3 := (n1.s20 (c := c)).s18 (y := i_ n)
      refine ⟨p, rfl, (hC.r b1).al hp, bI_01, p, rfl, (hC.r b2).al hp, ?_⟩
      cases b with
      | false =>
        rw [if_pos (show bI false = 0 from rfl)]
        rw [tbM, if_neg Bool.false_ne_true, hc] at hq
        exact hq _ b3 n3
      | true =>
        rw [if_neg (show ¬ bI true = 0 by decide)]
        rw [tbM, if_pos rfl, hc] at hq
        exact c_wrong (by omega) hC hp hN hl b3 n3 (fun w3 k1 k2 => fun _ => hq _ k1 k2)
    by_cases d : ty = 0
    · rw [if_pos d]
      exact fin false (by rw [decide_eq_true d] <;> rfl)
    · rw [if_neg d]
      exact fin true (by rw [decide_eq_false d] <;> rfl)
  | e :: r, n, ty, b, T, w1, h, hx, hR, hfr, hin, hnd, hq => by
    obtain ⟨-, ⟨h1, hw⟩, ⟨h2, -⟩, h3⟩ := hR
    have hC1 := hC.r h
    have hne := h1.un
    rw [List.flatMap_cons] at hfr hnd
    rw [List.nodup_append] at hnd
    obtain ⟨d1, d2, d3⟩ := hnd
    refine zt_X7_table_p13 (by omega) ?_
    unfold zb_X7_table_p13
    rw [hdp_c, if_neg (show ¬ (some (xp e) : Option Nat) = none from fun z => by cases z)]
    refine I C e _ _ _ hCn hC1 h1 (fun o ho => (hfr o (List.mem_append.mpr (.inl ho))).1) d1 (by omega) (fun w2 g1 g2 => fun _ => ?_)
    have g3 := h.tr (g1.mono (fun o ho => (hfr o (List.mem_append.mpr (.inl ho))).2.1))
    have hC2 := hC.r g3
    have hxp : p ∉ nds f e := fun z => (hfr p (List.mem_append.mpr (.inl z))).2.2 rfl
    have hx2 := hx.fx g1.1 hxp
    obtain ⟨a1, a2, a3, a4, a5, a6⟩ := g2
    have st : ∀ (ty' : Int32) (b' : Bool), (if ty = 0 ∧ (mxE SM G F (16 * l.toInt) X0 f e).1.2.2.2.1 = false then (mxE SM G F (16 * l.toInt) X0 f e).1.1 else ty) = ty' → (b || ((mxE SM G F (16 * l.toInt) X0 f e).1.2.2.2.1 || (!decide ((mxE SM G F (16 * l.toInt) X0 f e).1.1 = 0) && (!decide (ty = 0) && !decide ((mxE SM G F (16 * l.toInt) X0 f e).1.1 = ty))))) = b' → zb_X7_table_p86 D.1 L Q (some p) (i_ n) (bI b') (some (xp e)) ty' w2 := fun ty' b' ht hb => by
      unfold zb_X7_table_p86
      refine ⟨xp e, rfl, hC2.al hne, ?_⟩
      rw [(hC2.pt hne (by decide)).trans h2, i_inc]
      refine c_tab I hCn hC hp hN hl hL g3 hx2 h3 (fun o ho => ?_) (fun e' he' => hin e' (List.mem_cons_of_mem _ he')) d2 (fun w' k1 k2 => ?_)
      · obtain ⟨f1, f2⟩ := hfr o (List.mem_append.mpr (.inr ho))
        exact ⟨f1.fx g1.1 (fun z => d3 o z o ho rfl), f2⟩
      · rw [tbM, ht, hb] at hq
        exact hq _ k1 k2
    have s63 : ∀ b' : Bool, (b || ((mxE SM G F (16 * l.toInt) X0 f e).1.2.2.2.1 || (!decide ((mxE SM G F (16 * l.toInt) X0 f e).1.1 = 0) && (!decide (ty = 0) && !decide ((mxE SM G F (16 * l.toInt) X0 f e).1.1 = ty))))) = b' → zb_X7_table_p63 D.1 L Q (some p) (i_ n) ty (some (xp e)) (bI b') w2 := fun b' hb => by
      unfold zb_X7_table_p63 zb_X7_table_p85
      by_cases d : ty = 0
      · rw [if_neg (fun z => z d)]
        refine ⟨xp e, rfl, hC2.al hne, ?_⟩
        rw [a4, a1]
        cases har : (mxE SM G F (16 * l.toInt) X0 f e).1.2.2.2.1 with
        | true =>
          rw [if_pos (show ¬ bI true = 0 by decide)]
          exact st ty b' (if_neg (fun z => by rw [har] at z; exact Bool.false_ne_true z.2.symm)) hb
        | false =>
          rw [if_neg (show ¬ ¬ bI false = 0 from fun z => z rfl)]
          exact st _ b' (if_pos ⟨d, har⟩) hb
      · rw [if_pos d]
        exact st ty b' (if_neg (fun z => d z.1)) hb
    unfold zb_X7_table_p58 zb_X7_table_p62
    cases b with
    | true =>
      rw [if_pos (show ¬ bI true = 0 by decide)]
      exact s63 true rfl
    | false =>
      rw [if_neg (show ¬ ¬ bI false = 0 from fun z => z rfl)]
      refine ⟨xp e, rfl, hC2.al hne, ?_⟩
      rw [a4, a1]
      cases har : (mxE SM G F (16 * l.toInt) X0 f e).1.2.2.2.1 with
      | true =>
        rw [if_pos (show ¬ bI true = 0 by decide)]
        exact s63 true (by rw [har] <;> rfl)
      | false =>
        rw [if_neg (show ¬ ¬ bI false = 0 from fun z => z rfl)]
        by_cases d1 : (mxE SM G F (16 * l.toInt) X0 f e).1.1 = 0
        · rw [if_pos d1]
          exact s63 false (by rw [har, decide_eq_true d1] <;> rfl)
        · rw [if_neg d1]
          by_cases d2 : ty = 0
          · rw [if_pos d2]
            exact s63 false (by rw [har, decide_eq_false d1, decide_eq_true d2] <;> rfl)
          · rw [if_neg d2]
            by_cases d3 : (mxE SM G F (16 * l.toInt) X0 f e).1.1 = ty
            · rw [if_pos d3]
              exact s63 false (by rw [har, decide_eq_false d1, decide_eq_false d2, decide_eq_true d3] <;> rfl)
            · rw [if_neg d3]
              exact s63 true (by rw [har, decide_eq_false d1, decide_eq_false d2, decide_eq_false d3] <;> rfl)
end MYT
