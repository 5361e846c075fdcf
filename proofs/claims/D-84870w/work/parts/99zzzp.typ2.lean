/-! ===== TYPES, part 2: the twin: how many, constant ===== -/
/-- what the twin reads of expressions and symbols -/
def TTs (D : pD) (V : pV) (tn : Nat → Prop) (Y : yV) (kr : List Nat) (G : tG) (t : wS) : Prop := TRTn V tn t ∧ (w_n t 12 0 69 = 6100 ∧ ∀ q, q < D.2.2.2.1.length → kx_inb (i_ q) (w_n t 12 0 20) = true ∧ w_a t 12 0 20 q = strl D q ∧ q < 2147483648) ∧ (∀ n, tn n → w_a t 12 0 31 n = Y.1 n) ∧ ∀ s ∈ kr, s < 6100 ∧ w_a t 12 0 46 s = Y.2.2.2 s ∧ w_a t 12 0 47 s = G.1 s ∧ w_a t 12 0 48 s = G.2.1 s ∧ w_a t 12 0 68 s = bI (G.2.2.1 s) ∧ w_a t 12 0 69 s = G.2.2.2.1 s ∧ w_a t 12 0 71 s = 0 ∧ G.2.2.2.2 s = Y.2.2.2 s
section TWC
variable {D : pD} {V : pV} {tn : Nat → Prop} {nu : pNz} {Y : yV} {kr : List Nat} {G : tG} {t : wS} {l : Int32} {f n p k s L : Nat} {v : Int} {C : Nat → Prop} {cs : List (ExT f)} {E' : zE} {Q : kx_Rs → wS → Prop} {R : (Nat → Prop) → ExT f → Prop}
theorem TTs.r (h : TTs D V tn Y kr G t) (hn : tn n) {j : Nat} (hj : tlr j = true) : w_a t 12 0 j n = V.2.2.1 j n := h.1.2 n hn j hj
theorem TTs.i (h : TTs D V tn Y kr G t) (hn : n < 14000) {j : Nat} (hj : tl14 j = true) : kx_inb (i_ n) (w_n t 12 0 j) = true := h.1.1.i hj hn
theorem TTs.sy (h : TTs D V tn Y kr G t) (hn : s < 6100) {j : Nat} (hj : tl61 j = true) : kx_inb (i_ s) (w_n t 12 0 j) = true := h.1.1.sy hj hn
/-- the symbol of a name -/
theorem TTs.sm (h : TTs D V tn Y kr G t) (hn : tn n) (hs : SYu Y kr C n p s) : s < 6100 ∧ w_a t 12 0 31 n = i_ s ∧ ∃ c : Nat, C c ∧ w_a t 12 0 46 s = i_ c ∧ G.2.2.2.2 s = i_ c := by
  obtain ⟨h1, h2, -, c, h3, h4⟩ := hs
  obtain ⟨g1, g2, -, -, -, -, -, g3⟩ := h.2.2.2 s h1
  exact ⟨g1, (h.2.2.1 n hn).trans h2, c, h4, g2.trans h3, g3.trans h3⟩
theorem hdn_n : hdn ([] : List (ExT f)) = -1 := rfl
theorem hdn_lt : hdn ([] : List (ExT f)) < 0 := (by decide : (-1 : Int32) < 0)
theorem hdn_le : ¬ 0 ≤ hdn ([] : List (ExT f)) := (by decide : ¬ (0 : Int32) ≤ -1)
theorem hdn_c {e : ExT f} {r : List (ExT f)} : hdn (e :: r) = i_ (xn e) := rfl
theorem t_manyl (hT : TTs D V tn Y kr G t) {R1 : ExT f → Prop} (hR : ∀ e, R1 e → tn (xn e) ∧ xn e < 14000) (hL : 40 ≤ L) : ∀ {ls : List (ExT f)} {c : Nat}, RXs V R1 ls → Q (.inl (some (.int (i_ (c + ls.length : Nat))))) t → zL_X13_manyOf_p77 E' L Q (i_ c) (hdn ls) t
  | [], c, _, hq => by
    refine zt_X13_manyOf_p77 (by omega) ?_
    simp only [zb_X13_manyOf_p77]
    rw [if_pos hdn_lt]
    exact hq
  | e :: r, c, h, hq => by
    obtain ⟨-, h1, ⟨-, h2⟩, h3⟩ := h
    obtain ⟨hn, h14⟩ := hR e h1
    refine zt_X13_manyOf_p77 (by omega) ?_
    simp only [zb_X13_manyOf_p77, hdn_c, i_nat' (show xn e < 2147483648 by omega)]
    rw [if_neg (i_nn (by omega))]
    refine ⟨hT.i h14 rfl, ?_⟩
    rw [hT.r hn rfl, h2, i_inc]
    refine t_manyl hT hR hL h3 ?_
    rw [show c + 1 + r.length = c + (e :: r).length by rw [List.length_cons]; omega]
    exact hq
theorem t_many (hT : TTs D V tn Y kr G t) : ∀ {f : Nat} {C : Nat → Prop} {e : ExT f} {L : Nat} {Q : kx_Rs → wS → Prop}, RX D V tn nu Y kr l f C e → wd f e + 60 ≤ L → Q (.inl (some (.int (mnyE D G f e)))) t → zw E' L kt_M465 [.ref (w_adr E'.2.1 12 0), .int (i_ (xn e))] t Q
  | 0, _, _, _, _, h, _, _ => h.elim
  | f + 1, C, e, L, Q, h, hL, hq => by
    obtain ⟨n, p, k, v, s, cs, rfl⟩ := e.el
    obtain ⟨h26, hK⟩ := RX.mk.mp h
    obtain ⟨hn, h14⟩ := hK.ht
    have hw := hK.w24
    have e26 : w_a t 12 0 26 n = i_ k := (hT.r hn rfl).trans h26
    have ei := i_nat' (show n < 2147483648 by omega)
    rw [mnyE_mk] at hq
    show zw E' L kt_M465 [.ref (w_adr E'.2.1 12 0), .int (i_ n)] t Q
    refine zt_X13_manyOf_p0 (by omega) ?_
    simp only [zb_X13_manyOf_p0, zb_X13_manyOf_p139, zb_X13_manyOf_p154, ei, e26]
    refine ⟨hT.i h14 rfl, ?_⟩
    rcases hK.ks with e | e | e | e | e | e | e | e | e | e | e | e | e | e | e <;> subst e <;> simp (decide := true) only [if_true, if_false]
    · exact hq
    · exact hq
    · obtain ⟨-, -, -, z, -, h28, hs, -⟩ := hK
      obtain ⟨g1, g2, g3⟩ := hT.2.1.2 s hs
      have e28 : w_a t 12 0 28 n = i_ s := (hT.r hn rfl).trans h28
      simp only [e28, i_nat' g3, g2]
      exact ⟨hT.i h14 rfl, g1, hq⟩
    · exact hq
    · exact hq
    · exact hq
    · exact hq
    · exact hq
    · obtain ⟨-, -, a, rfl, -, h28, ha⟩ := hK
      have hwa := hw a List.mem_cons_self
      have e28 : w_a t 12 0 28 n = i_ (xn a) := (hT.r hn rfl).trans h28
      simp only [e28]
      exact ⟨hT.i h14 rfl, t_many hT ha (by omega) (fun _ => hq)⟩
    · obtain ⟨-, -, ⟨⟨-, h28⟩, -⟩, ha⟩ := hK
      have e28 : w_a t 12 0 28 n = hdn cs := (hT.r hn rfl).trans h28
      simp only [e28]
      refine ⟨hT.i h14 rfl, t_manyl (c := 0) hT (fun e he => he.ht) (by omega) ha ?_⟩
      rw [Nat.zero_add]
      exact hq
    · obtain ⟨-, -, hs, ⟨-, h28, rfl⟩ | ⟨a, rfl, ⟨-, h28, -⟩, ha⟩⟩ := hK
      · obtain ⟨g1, g2, -⟩ := hT.sm hn hs
        have e48 := (hT.2.2.2 s hs.1).2.2.2.1
        have e28 : w_a t 12 0 28 n = -1 := (hT.r hn rfl).trans h28
        simp only [e28, g2, i_nat' (show s < 2147483648 by omega), e48]
        refine ⟨hT.i h14 rfl, ?_⟩
        rw [if_neg (by decide), if_neg (i_nn (by omega))]
        refine ⟨hT.i h14 rfl, hT.i h14 rfl, hT.sy g1 rfl, ?_⟩
        have hq : Q (.inl (some (.int (if G.2.1 s < 0 then -1 else G.2.1 s)))) t := hq
        by_cases c : 0 ≤ G.2.1 s
        · rw [if_pos c]
          rw [if_neg (Int32.not_lt.mpr c)] at hq
          exact ⟨hT.i h14 rfl, hT.sy g1 rfl, hq⟩
        · rw [if_neg c]
          rw [if_pos (Int32.not_le.mp c)] at hq
          exact hq
      · obtain ⟨-, g2⟩ := ha.ht
        have e28 : w_a t 12 0 28 n = i_ (xn a) := (hT.r hn rfl).trans h28
        simp only [e28]
        rw [if_pos (Int32.not_lt.mp (i_nn (show xn a < 2147483648 by omega)))]
        exact ⟨hT.i h14 rfl, hq⟩
    · exact hq
    · exact hq
    · exact hq
    · exact hq
theorem t_cstl (hT : TTs D V tn Y kr G t) {R1 : ExT f → Prop} (hR : ∀ e, R1 e → tn (xn e) ∧ xn e < 14000) (hL : 40 ≤ L) {g : ExT f → Bool} (hg : ∀ e (Q : kx_Rs → wS → Prop), R1 e → Q (.inl (some (.int (bI (g e))))) t → zw E' (L - 23) kt_M440 [.ref (w_adr E'.2.1 12 0), .int (i_ (xn e))] t Q) : ∀ {ls : List (ExT f)} {b : Bool}, RXs V R1 ls → Q (.inl (some (.int (bI (b && ls.all g))))) t → zL_X13_isConstant_p177 E' L Q (bI b) (hdn ls) t
  | [], b, _, hq => by
    refine zt_X13_isConstant_p177 (by omega) ?_
    simp only [zb_X13_isConstant_p177]
    rw [if_pos hdn_lt]
    rw [List.all_nil, Bool.and_true] at hq
    exact ⟨bI_01, hq⟩
  | e :: r, b, h, hq => by
    obtain ⟨-, h1, ⟨-, h2⟩, h3⟩ := h
    obtain ⟨hn, h14⟩ := hR e h1
    refine zt_X13_isConstant_p177 (by omega) ?_
    simp only [zb_X13_isConstant_p177, zb_X13_isConstant_p197, zb_X13_isConstant_p198, hdn_c, i_nat' (show xn e < 2147483648 by omega)]
    rw [if_neg (i_nn (by omega))]
    have e32 : w_a t 12 0 32 (xn e) = hdn r := (hT.r hn rfl).trans h2
    have k0 : (b && g e) = false → kx_inb (i_ (xn e)) (w_n t 12 0 32) = true ∧ zL_X13_isConstant_p177 E' L Q 0 (w_a t 12 0 32 (xn e)) t := fun hb => by
      rw [e32]
      refine ⟨hT.i h14 rfl, t_cstl (b := false) hT hR hL hg h3 ?_⟩
      rw [List.all_cons, ← Bool.and_assoc, hb] at hq
      exact hq
    by_cases c : bI b = 0
    · rw [if_pos c]
      exact k0 (by rw [bI_0.mp c]; rfl)
    · rw [if_neg c]
      have hb : b = true := by
        cases b with
        | true => rfl
        | false => exact absurd rfl c
      refine hg e _ h1 (fun _ => ?_)
      by_cases c1 : bI (g e) = 0
      · rw [if_pos c1]
        exact k0 (by rw [bI_0.mp c1, Bool.and_false])
      · rw [if_neg c1]
        have hge : g e = true := by
          cases hh : g e with
          | true => rfl
          | false => exact absurd (by rw [hh]; rfl) c1
        rw [e32]
        refine ⟨hT.i h14 rfl, t_cstl (b := true) hT hR hL hg h3 ?_⟩
        rw [List.all_cons, hge, hb] at hq
        exact hq
theorem bUn_r {v : Int} (h : bUn v = true) : -1000 ≤ v ∧ v ≤ 1000 := by
  simp only [bUn, Bool.or_eq_true, decide_eq_true_eq] at h
  omega
theorem bOp_r {v : Int} (h : bOp v = true) : -1000 ≤ v ∧ v ≤ 1000 := by
  simp only [bOp, Bool.or_eq_true, Bool.and_eq_true, decide_eq_true_eq] at h
  omega
theorem t_cst (hT : TTs D V tn Y kr G t) : ∀ {f : Nat} {C : Nat → Prop} {e : ExT f} {L : Nat} {Q : kx_Rs → wS → Prop}, RX D V tn nu Y kr l f C e → wd f e + 110 ≤ L → Q (.inl (some (.int (bI (isC D G f e))))) t → zw E' L kt_M440 [.ref (w_adr E'.2.1 12 0), .int (i_ (xn e))] t Q
  | 0, _, _, _, _, h, _, _ => h.elim
  | f + 1, C, e, L, Q, h, hL, hq => by
    obtain ⟨n, p, k, v, s, cs, rfl⟩ := e.el
    obtain ⟨h26, hK⟩ := RX.mk.mp h
    obtain ⟨hn, h14⟩ := hK.ht
    have hw := hK.w24
    have e26 : w_a t 12 0 26 n = i_ k := (hT.r hn rfl).trans h26
    have ei := i_nat' (show n < 2147483648 by omega)
    rw [isC_mk] at hq
    show zw E' L kt_M440 [.ref (w_adr E'.2.1 12 0), .int (i_ n)] t Q
    refine zt_X13_isConstant_p0 (by omega) ?_
    simp only [zb_X13_isConstant_p0, zb_X13_isConstant_p231, zb_X13_isConstant_p274, zb_X13_isConstant_p275, zb_X13_isConstant_p135, zb_X13_isConstant_p166, zb_X13_isConstant_p167, ei, e26]
    refine ⟨hT.i h14 rfl, ?_⟩
    rcases hK.ks with e | e | e | e | e | e | e | e | e | e | e | e | e | e | e <;> subst e <;> simp (decide := true) only [if_true, if_false]
    · obtain ⟨-, -, rfl, -⟩ := hK
      exact hq
    · obtain ⟨-, -, rfl, -⟩ := hK
      exact hq
    · exact hq
    · obtain ⟨-, -, rfl, -⟩ := hK
      exact hq
    · obtain ⟨-, -, rfl, -⟩ := hK
      exact hq
    · obtain ⟨-, -, rfl, -⟩ := hK
      exact hq
    · obtain ⟨-, -, rfl, -⟩ := hK
      exact hq
    · obtain ⟨-, -, a, rfl, -, ⟨-, h28, -⟩, ha⟩ := hK
      have hwa := hw a List.mem_cons_self
      have e28 : w_a t 12 0 28 n = i_ (xn a) := (hT.r hn rfl).trans h28
      have hq : Q (.inl (some (.int (bI (isC D G f a && true))))) t := hq
      rw [Bool.and_true] at hq
      simp only [e28]
      exact ⟨hT.i h14 rfl, t_cst hT ha (by omega) (fun _ => ⟨bI_01, hq⟩)⟩
    · obtain ⟨-, -, a, rfl, -, h28, ha⟩ := hK
      have hwa := hw a List.mem_cons_self
      have e28 : w_a t 12 0 28 n = i_ (xn a) := (hT.r hn rfl).trans h28
      have hq : Q (.inl (some (.int (bI (isC D G f a))))) t := hq
      simp only [e28]
      exact ⟨hT.i h14 rfl, t_cst hT ha (by omega) (fun _ => ⟨bI_01, hq⟩)⟩
    · exact hq
    · obtain ⟨-, -, hs, ⟨-, h28, rfl⟩ | ⟨a, rfl, ⟨-, h28, -⟩, ha⟩⟩ := hK
      · obtain ⟨g1, g2, c, -, e46, eg⟩ := hT.sm hn hs
        obtain ⟨-, -, -, -, e68, -, e71, -⟩ := hT.2.2.2 s hs.1
        have e28 : w_a t 12 0 28 n = -1 := (hT.r hn rfl).trans h28
        have hq : Q (.inl (some (.int (bI (decide (G.2.2.2.2 s = 2) && G.2.2.1 s))))) t := hq
        simp only [e28, g2, i_nat' (show s < 2147483648 by omega), e46, e71, e68]
        refine ⟨hT.i h14 rfl, ?_⟩
        rw [if_neg (i_nn (by omega))]
        refine ⟨hT.i h14 rfl, ?_⟩
        rw [if_pos (by decide)]
        refine ⟨hT.sy g1 rfl, ?_⟩
        rw [eg] at hq
        by_cases c9 : (i_ c : Int32) = 9
        · rw [if_neg (fun z => z c9)]
          rw [c9, decide_eq_false (by decide)] at hq
          exact ⟨hT.sy g1 rfl, by decide, hq⟩
        · rw [if_pos c9]
          refine ⟨hT.sy g1 rfl, ?_⟩
          by_cases c2 : (i_ c : Int32) = 2
          · rw [if_neg (fun z => z c2)]
            refine ⟨hT.sy g1 rfl, ?_⟩
            rw [c2, decide_eq_true rfl, Bool.true_and] at hq
            by_cases c3 : bI (G.2.2.1 s) = 0
            · rw [if_pos c3]
              rw [c3] at hq
              exact ⟨by decide, hq⟩
            · rw [if_neg c3]
              rw [bI_01.resolve_left c3] at hq
              exact ⟨by decide, hq⟩
          · rw [if_pos c2]
            rw [decide_eq_false c2] at hq
            exact ⟨by decide, hq⟩
      · obtain ⟨-, g2⟩ := ha.ht
        obtain ⟨g1, g3, -⟩ := hT.sm hn hs
        have e28 : w_a t 12 0 28 n = i_ (xn a) := (hT.r hn rfl).trans h28
        simp only [e28, g3]
        refine ⟨hT.i h14 rfl, ?_⟩
        rw [if_neg (i_nn (by omega)), if_neg (i_nn (by omega))]
        exact ⟨hT.i h14 rfl, hq⟩
    · exact hq
    · obtain ⟨-, -, ⟨-, -, -, h29, hu⟩, a, rfl, ⟨-, h28, -⟩, ha⟩ := hK
      have hwa := hw a List.mem_cons_self
      have e28 : w_a t 12 0 28 n = i_ (xn a) := (hT.r hn rfl).trans h28
      have e29 : w_a t 12 0 29 n = i_ v := (hT.r hn rfl).trans h29
      have hq : Q (.inl (some (.int (bI (if v = 27 then !decide (mnyE D G f a < 0) else isC D G f a))))) t := hq
      have e27 : ((i_ v : Int32) = 27) = (v = 27) := i_eqk (k := 27) (bUn_r hu) (by decide) (by decide)
      simp only [e28, e29, e27]
      refine ⟨hT.i h14 rfl, ?_⟩
      by_cases c : v = 27
      · rw [if_neg (fun z => z c)]
        rw [if_pos c] at hq
        refine ⟨hT.i h14 rfl, t_many hT ha (by omega) (fun _ => ?_)⟩
        by_cases c1 : mnyE D G f a < 0
        · rw [if_pos c1]
          rw [decide_eq_true c1] at hq
          exact ⟨by decide, hq⟩
        · rw [if_neg c1]
          rw [decide_eq_false c1] at hq
          exact ⟨by decide, hq⟩
      · rw [if_pos c]
        rw [if_neg c] at hq
        exact ⟨hT.i h14 rfl, t_cst hT ha (by omega) (fun _ => ⟨bI_01, hq⟩)⟩
    · obtain ⟨-, -, -, a, b, rfl, ⟨⟨-, h28, -⟩, ⟨-, h30, -⟩⟩, ha, hb⟩ := hK
      have hwa := hw a List.mem_cons_self
      have hwb := hw b (List.mem_cons_of_mem _ List.mem_cons_self)
      have e28 : w_a t 12 0 28 n = i_ (xn a) := (hT.r hn rfl).trans h28
      have e30 : w_a t 12 0 30 n = i_ (xn b) := (hT.r hn rfl).trans h30
      have hq : Q (.inl (some (.int (bI (isC D G f a && (isC D G f b && true)))))) t := hq
      rw [Bool.and_true] at hq
      simp only [e28, e30]
      refine ⟨hT.i h14 rfl, t_cst hT ha (by omega) (fun _ => ?_)⟩
      by_cases c : bI (isC D G f a) = 0
      · rw [if_pos c]
        rw [bI_0.mp c] at hq
        exact ⟨by decide, hq⟩
      · rw [if_neg c]
        have ca : isC D G f a = true := by
          cases hh : isC D G f a with
          | true => rfl
          | false => exact absurd (by rw [hh]; rfl) c
        rw [ca, Bool.true_and] at hq
        rw [e30]
        refine ⟨hT.i h14 rfl, t_cst hT hb (by omega) (fun _ => ?_)⟩
        by_cases c2 : bI (isC D G f b) = 0
        · rw [if_pos c2]
          rw [c2] at hq
          exact ⟨by decide, hq⟩
        · rw [if_neg c2]
          rw [bI_01.resolve_left c2] at hq
          exact ⟨by decide, hq⟩
    · obtain ⟨-, -, -, ⟨⟨-, h28⟩, -⟩, ha⟩ := hK
      have e28 : w_a t 12 0 28 n = hdn cs := (hT.r hn rfl).trans h28
      have hq : Q (.inl (some (.int (bI (true && cs.all (isC D G f)))))) t := hq
      simp only [e28]
      exact ⟨hT.i h14 rfl, t_cstl (b := true) hT (fun e he => he.1.ht) (by omega) (fun e Q he hq => t_cst hT he.1 (by have := he.2; omega) hq) (ha.and hw) hq⟩
end TWC
