/-! ===== TYPES, part 20: MeetingHouse: chains ===== -/
section MYK
variable {D : pD} {V : pV} {tn : Nat → Prop} {nu : pNz} {Y : yV} {kr : List Nat} {G : tG} {F : tF} {SM : Nat → sF} {w w' w'' w1 : wS} {l y ty u : Int32} {f n m p o k s L q q2 A : Nat} {v T T' cw : Int} {C : Nat → Prop} {N N' : List Nat} {Q : kx_Rs → wS → Prop} {x a b : nF} {c : Bool} {X : String → wS → Prop} {S : sF} {X0 : Nat → nF}
/-- a chain's loop -/
theorem c_chn (I : MXI D V tn nu Y kr G F SM l X0 f) (hCn : ∀ c, C c → c ≠ 3) (hC : MYC D V nu Y kr F SM w) (hp : nu p ≠ none) (hN : p ∈ N) (hl : V.1 p 2 = l) (h8 : V.1 p 8 = i_ v) (hv : v = 2 ∨ v = 19) (hL : 120 ≤ L) : ∀ {ls : List (ExT f)} {b c g : Bool} {y : Int32} {T : Int} {w1 : wS}, MYR N w T w1 → NRc w1 p x → RXs V (fun e => RX D V tn nu Y kr l f C e ∧ wd f e + 325 ≤ L) ls → (∀ o ∈ ls.flatMap (nds f), NRc w1 o (X0 o) ∧ o ∈ N ∧ o ≠ p) → (ls.flatMap (nds f)).Nodup → (∀ w', MYR N w (chM (mxE SM G F (16 * l.toInt) X0 f) (16 * l.toInt) x v b c g y T ls).2 w' → NRc w' p (chM (mxE SM G F (16 * l.toInt) X0 f) (16 * l.toInt) x v b c g y T ls).1 → Q (.inl none) w') → zL_X7_chain_p28 D.1 L Q (some p) (bI b) (bI c) (bI g) y (hdp ls) w1
  | [], b, c, g, y, T, w1, h, hx, _, _, _, hq => by
    refine zt_X7_chain_p28 (by omega) ?_
    unfold zb_X7_chain_p28 zb_X7_chain_p186
    rw [if_pos (show hdp ([] : List (ExT f)) = none from rfl)]
    refine c_given (by omega) hC hp hN h hx (fun w2 g1 g2 => fun _ => ?_)
    cases b with
    | true =>
      rw [if_neg (show ¬ bI true = 0 by decide)]
      rw [chM, if_pos rfl] at hq
      exact c_wrong (by omega) hC hp hN hl g1 g2 (fun w3 k1 k2 => fun _ => hq _ k1 k2)
    | false =>
      rw [if_pos (show bI false = 0 from rfl)]
      rw [chM, if_neg Bool.false_ne_true] at hq
      cases c with
      | false =>
        rw [if_pos (show bI false = 0 from rfl)]
        rw [Bool.false_and, if_neg Bool.false_ne_true] at hq
        exact hq _ g1 g2
      | true =>
        rw [if_neg (show ¬ bI true = 0 by decide)]
        rw [Bool.true_and] at hq
        cases g with
        | false =>
          rw [if_pos (show bI false = 0 from rfl)]
          rw [if_neg Bool.false_ne_true] at hq
          exact hq _ g1 g2
        | true =>
          rw [if_neg (show ¬ bI true = 0 by decide)]
          rw [if_pos rfl] at hq
          exact c_fault (by omega) hC hp hN hl g1 g2 (fun w3 k1 k2 => fun _ => hq _ k1 k2)
  | e :: r, b, c, g, y, T, w1, h, hx, hR, hfr, hnd, hq => by
    obtain ⟨-, ⟨h1, hw⟩, ⟨h2, -⟩, h3⟩ := hR
    have hC1 := hC.r h
    have hne := h1.un
    rw [List.flatMap_cons] at hfr hnd
    rw [List.nodup_append] at hnd
    obtain ⟨d1, d2, d3⟩ := hnd
    refine zt_X7_chain_p28 (by omega) ?_
    unfold zb_X7_chain_p28
    rw [hdp_c, if_neg (show ¬ (some (xp e) : Option Nat) = none from fun z => by cases z)]
    refine I C e _ _ _ hCn hC1 h1 (fun o ho => (hfr o (List.mem_append.mpr (.inl ho))).1) d1 (by omega) (fun w2 g1 g2 => fun _ => ?_)
    have g3 := h.tr (g1.mono (fun o ho => (hfr o (List.mem_append.mpr (.inl ho))).2.1))
    have hC2 := hC.r g3
    have hxp : p ∉ nds f e := fun z => (hfr p (List.mem_append.mpr (.inl z))).2.2 rfl
    have hx2 := hx.fx g1.1 hxp
    obtain ⟨a1, a2, a3, a4, a5, a6⟩ := g2
    have e8 : w_i w2 14 p 8 = i_ v := (hC2.wrd hp).trans h8
    have s110 : ∀ (b' c' q' : Bool), (b || (!decide ((mxE SM G F (16 * l.toInt) X0 f e).1.1 = 0) && (!decide ((mxE SM G F (16 * l.toInt) X0 f e).1.1 = 3) || (mxE SM G F (16 * l.toInt) X0 f e).1.2.2.2.1))) = b' → (c && (mxE SM G F (16 * l.toInt) X0 f e).1.2.2.2.2.1) = c' → (g || (mxE SM G F (16 * l.toInt) X0 f e).1.2.2.2.2.2) = q' → zb_X7_chain_p110 D.1 L Q (some p) (bI b') (bI c') y (some (xp e)) (bI q') w2 := fun b' c' q' hb hc hg => by
      have nx : ∀ y' : Int32, (if v = 2 then y &&& (mxE SM G F (16 * l.toInt) X0 f e).1.2.2.1 else y ||| (mxE SM G F (16 * l.toInt) X0 f e).1.2.2.1) = y' → zb_X7_chain_p139 D.1 L Q (some p) (bI b') (bI c') (bI q') (some (xp e)) y' w2 := fun y' hy => by
        unfold zb_X7_chain_p139
        refine ⟨xp e, rfl, hC2.al hne, ?_⟩
        rw [(hC2.pt hne (by decide)).trans h2]
        refine c_chn I hCn hC hp hN hl h8 hv hL g3 hx2 h3 (fun o ho => ?_) d2 (fun w' k1 k2 => ?_)
        · obtain ⟨f1, f2⟩ := hfr o (List.mem_append.mpr (.inr ho))
          exact ⟨f1.fx g1.1 (fun z => d3 o z o ho rfl), f2⟩
        · rw [chM, hb, hc, hg, hy] at hq
          exact hq _ k1 k2
      unfold zb_X7_chain_p110
      refine ⟨p, rfl, hC2.al hp, ?_⟩
      rw [e8]
      rcases hv with e | e <;> subst e
      · rw [if_neg (show ¬ ¬ (i_ 2 : Int32) = 2 from fun z => z rfl)]
        refine ⟨xp _, rfl, hC2.al hne, ?_⟩
        rw [a3]
        exact nx _ (if_pos rfl)
      · rw [if_pos (show ¬ (i_ 19 : Int32) = 2 by decide)]
        refine ⟨xp _, rfl, hC2.al hne, ?_⟩
        rw [a3]
        exact nx _ (if_neg (by decide))
    have s91 : ∀ (b' c' : Bool), (b || (!decide ((mxE SM G F (16 * l.toInt) X0 f e).1.1 = 0) && (!decide ((mxE SM G F (16 * l.toInt) X0 f e).1.1 = 3) || (mxE SM G F (16 * l.toInt) X0 f e).1.2.2.2.1))) = b' → (c && (mxE SM G F (16 * l.toInt) X0 f e).1.2.2.2.2.1) = c' → zb_X7_chain_p91 D.1 L Q (some p) (bI b') (bI g) y (some (xp e)) (bI c') w2 := fun b' c' hb hc => by
      unfold zb_X7_chain_p91 zb_X7_chain_p105
      cases g with
      | true =>
        rw [if_pos (show ¬ bI true = 0 by decide)]
        exact s110 b' c' true hb hc rfl
      | false =>
        rw [if_neg (show ¬ ¬ bI false = 0 from fun z => z rfl)]
        refine ⟨xp e, rfl, hC2.al hne, ?_⟩
        rw [a6]
        cases hfl : (mxE SM G F (16 * l.toInt) X0 f e).1.2.2.2.2.2 with
        | false =>
          rw [if_pos (show bI false = 0 from rfl)]
          exact s110 b' c' false hb hc (by rw [hfl] <;> rfl)
        | true =>
          rw [if_neg (show ¬ bI true = 0 by decide)]
          exact s110 b' c' true hb hc (by rw [hfl] <;> rfl)
    have s73 : ∀ b' : Bool, (b || (!decide ((mxE SM G F (16 * l.toInt) X0 f e).1.1 = 0) && (!decide ((mxE SM G F (16 * l.toInt) X0 f e).1.1 = 3) || (mxE SM G F (16 * l.toInt) X0 f e).1.2.2.2.1))) = b' → zb_X7_chain_p73 D.1 L Q (some p) (bI c) (bI g) y (some (xp e)) (bI b') w2 := fun b' hb => by
      unfold zb_X7_chain_p73 zb_X7_chain_p90
      cases c with
      | false =>
        rw [if_pos (show bI false = 0 from rfl)]
        exact s91 b' false hb rfl
      | true =>
        rw [if_neg (show ¬ bI true = 0 by decide)]
        refine ⟨xp e, rfl, hC2.al hne, ?_⟩
        rw [a5]
        cases hcs : (mxE SM G F (16 * l.toInt) X0 f e).1.2.2.2.2.1 with
        | false =>
          rw [if_pos (show bI false = 0 from rfl)]
          exact s91 b' false hb (by rw [hcs] <;> rfl)
        | true =>
          rw [if_neg (show ¬ bI true = 0 by decide)]
          exact s91 b' true hb (by rw [hcs] <;> rfl)
    unfold zb_X7_chain_p68 zb_X7_chain_p72
    cases b with
    | true =>
      rw [if_pos (show ¬ bI true = 0 by decide)]
      exact s73 true rfl
    | false =>
      rw [if_neg (show ¬ ¬ bI false = 0 from fun z => z rfl)]
      refine ⟨xp e, rfl, hC2.al hne, ?_⟩
      rw [a4, a1]
      by_cases d1 : (mxE SM G F (16 * l.toInt) X0 f e).1.1 = 0
      · rw [if_pos d1]
        exact s73 false (by rw [decide_eq_true d1] <;> rfl)
      · rw [if_neg d1]
        by_cases d2 : (mxE SM G F (16 * l.toInt) X0 f e).1.1 = 3
        · rw [if_neg (fun z => z d2)]
          cases har : (mxE SM G F (16 * l.toInt) X0 f e).1.2.2.2.1 with
          | false =>
            rw [if_pos (show bI false = 0 from rfl)]
            exact s73 false (by rw [decide_eq_false d1, decide_eq_true d2, har] <;> rfl)
          | true =>
            rw [if_neg (show ¬ bI true = 0 by decide)]
            exact s73 true (by rw [decide_eq_false d1, decide_eq_true d2, har] <;> rfl)
        · rw [if_pos d2]
          exact s73 true (by rw [decide_eq_false d1, decide_eq_false d2] <;> rfl)
end MYK
