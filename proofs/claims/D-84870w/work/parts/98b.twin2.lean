/-! ===== TOKENS, part 15: the twin's names, signs, strings, numbers ===== -/
def NT3 (w : wS) (ms : List (List Int)) (lm : Nat) : Prop := (w_i w 12 0 13 = i_ ms.length ∧ w_i w 12 0 17 = i_ lm) ∧ (ms.length ≤ 1400 ∧ lm ≤ 4000) ∧ (∀ k, k < ms.length → ∃ p : Nat, w_a w 12 0 14 k = i_ p ∧ p + (ms.getD k []).length ≤ lm ∧ w_a w 12 0 15 k = i_ (ms.getD k []).length ∧ ∀ j, j < (ms.getD k []).length → w_a w 12 0 16 (p + j) = i_ ((ms.getD k []).getD j 0)) ∧ ms.Nodup ∧ ∀ s ∈ ms, asc s ∧ s.length ≤ 16
theorem NT3.frm {P : Nat → Nat → Bool} {w w' : wS} {ms : List (List Int)} {lm : Nat} (h : NT3 w ms lm) (hf : frm P w w') (hp : P 12 13 = false ∧ P 12 14 = false ∧ P 12 15 = false ∧ P 12 16 = false ∧ P 12 17 = false) : NT3 w' ms lm := by
  obtain ⟨p13, p14, p15, p16, p17⟩ := hp
  obtain ⟨⟨a1, a2⟩, a3, a4, a5⟩ := h
  refine ⟨⟨by rw [hf.i p13]; exact a1, by rw [hf.i p17]; exact a2⟩, a3, fun k hk => ?_, a5⟩
  obtain ⟨p, e1, e2, e3, e4⟩ := a4 k hk
  exact ⟨p, by rw [hf.a p14]; exact e1, e2, by rw [hf.a p15]; exact e3, fun j hj => by rw [hf.a p16]; exact e4 j hj⟩
section TN
variable {E : zE} {L : Nat} {w : wS} {Q : kx_Rs → wS → Prop} {T : Nat → Int} {n p k a m lm : Nat} {s : List Int} {ms : List (List Int)}
theorem t_here0 (hL : 19 ≤ L) (hT : TT E w T n) (hp : w_i w 12 0 23 = i_ p) (hpk : p ≤ 6000) (h : Q (.inl (some (.int (i_ (T p))))) w) : zw E L kt_M429 [.ref (w_adr E.2.1 12 0), .int 0] w Q := t_here (k := 0) hL hT hp hpk h
theorem t_here1 (hL : 19 ≤ L) (hT : TT E w T n) (hp : w_i w 12 0 23 = i_ p) (hpk : p + 1 ≤ 6000) (h : Q (.inl (some (.int (i_ (T (p + 1)))))) w) : zw E L kt_M429 [.ref (w_adr E.2.1 12 0), .int 1] w Q := t_here (k := 1) hL hT hp hpk h
/-- a name has this text -/
theorem t_name_cmp (hL : 100 ≤ L) (hT : TT E w T n) (hN : NT3 w ms lm) (hs : ∀ j, j < s.length → s.getD j 0 = T (a + j) ∧ 0 ≤ T (a + j) ∧ T (a + j) < 128) (ha : a + s.length ≤ n) {m : Nat} (hm : m < ms.length) (h1 : ms.getD m [] = s → Q (.inl (some (.int (i_ m)))) w) (h2 : ms.getD m [] ≠ s → zL_X13_nameOf_p2 E L Q (i_ a) (i_ s.length) (i_ (m + 1 : Nat)) w) : zL_X13_nameOf_p2 E L Q (i_ a) (i_ s.length) (i_ m) w := by
  obtain ⟨⟨⟨hn, hx10, hxr⟩, hA⟩, ⟨⟨l2, l4, l5⟩, -, ⟨l14, l15, l16⟩, -⟩, h3, h4, -⟩ := hT
  obtain ⟨⟨g1, g2⟩, ⟨g3, g4⟩, g5, g6, g7⟩ := hN
  obtain ⟨p, e1, e2, e3, e4⟩ := g5 m hm
  have hms := g7 _ (getD_mem hm)
  have hfalse : ∀ x5, ms.getD m [] ≠ s → zL_X13_nameOf_p30 E L Q (i_ a) (i_ s.length) (i_ m) 0 x5 w := by
    intro x5 hne
    have next := h2 hne
    rw [← cN1, ← i_add, ← i_1] at next
    refine zt_X13_nameOf_p30 (by omega) ?_
    simp only [zb_X13_nameOf_p30, zb_X13_nameOf_p80, if_true]
    split <;> exact next
  have inner : ∀ d j, j + d = s.length → (ms.getD m []).length = s.length → (∀ i, i < j → (ms.getD m []).getD i 0 = s.getD i 0) → zL_X13_nameOf_p30 E L Q (i_ a) (i_ s.length) (i_ m) 1 (i_ j) w := by
    intro d
    induction d with
    | zero =>
      intro j hj hlen heq
      refine zt_X13_nameOf_p30 (by omega) ?_
      simp only [zb_X13_nameOf_p30, zb_X13_nameOf_p80]
      rw [if_pos ((i_le (by omega) (by omega)).mpr (by omega)), if_neg (by decide)]
      exact h1 (l_ext hlen (fun i hi => heq i (by omega)))
    | succ d ihd =>
      intro j hj hlen heq
      refine zt_X13_nameOf_p30 (by omega) ?_
      simp only [zb_X13_nameOf_p30, zb_X13_nameOf_p72]
      obtain ⟨q1, q2, q3⟩ := hs j (by omega)
      have hwa := asc_getD hms.1 j
      rw [if_neg (fun q => by have := (i_le (by omega) (by omega)).mp q; omega), if_neg (by decide)]
      rw [i_nat' (show m < 2147483648 by omega), e1, i_add, i_add, cNn, cNn, i_nat' (show p + j < 2147483648 by omega), i_nat' (show a + j < 2147483648 by omega), e4 j (by omega), h4 _ (by omega), ← q1, i_1, i_add, cN1]
      refine ⟨by rw [l14]; exact i_inb (by omega) (by omega), by rw [l16]; exact i_inb (by omega) (by omega), by rw [l2]; exact i_inb (by omega) (by omega), ?_⟩
      by_cases hc : (ms.getD m []).getD j 0 = s.getD j 0
      · rw [if_neg (fun q => q (by rw [hc]))]
        refine ihd (j + 1) (by omega) hlen (fun i hi => ?_)
        by_cases e : i = j
        · rw [e]; exact hc
        · exact heq i (by omega)
      · rw [if_pos (fun q => hc ((i_eq (by omega) (by omega)).mp q))]
        exact hfalse _ (fun e => hc (by rw [e]))
  refine zt_X13_nameOf_p2 (by omega) ?_
  simp only [zb_X13_nameOf_p2, zb_X13_nameOf_p25, g1]
  rw [if_neg (fun q => by have := (i_le (by omega) (by omega)).mp q; omega), i_nat' (show m < 2147483648 by omega), e3]
  refine ⟨by rw [l15]; exact i_inb (by omega) (by omega), ?_⟩
  by_cases hlen : (ms.getD m []).length = s.length
  · rw [if_neg (fun q => q (by rw [hlen]))]
    exact inner s.length 0 (by omega) hlen (fun i hi => by omega)
  · rw [if_pos (fun q => hlen (by have := (i_eq (by omega) (by omega)).mp q; omega))]
    exact hfalse _ (fun e => hlen (by rw [e]))
/-- what nameOf brings -/
def NO3 (w : wS) (ms : List (List Int)) (lm : Nat) (s : List Int) (r : kx_Rs) (w' : wS) : Prop := ∃ ms' lm' c, NT3 w' ms' lm' ∧ ms <+: ms' ∧ c < ms'.length ∧ ms'.getD c [] = s ∧ r = .inl (some (.int (i_ (c : Nat)))) ∧ frm (pk 12 [13, 14, 15, 16, 17]) w w' ∧ ms'.length ≤ ms.length + 1 ∧ lm' ≤ lm + s.length
theorem t_nameOf (hL : 200 ≤ L) (hT : TT E w T n) (hN : NT3 w ms lm) (hs : ∀ j, j < s.length → s.getD j 0 = T (a + j) ∧ 0 ≤ T (a + j) ∧ T (a + j) < 128) (ha : a + s.length ≤ n) (hs16 : s.length ≤ 16) (hroom : ms.length < 1400 ∧ lm + 16 ≤ 4000) : eW w (fun Q => zw E L kt_M480 [.ref (w_adr E.2.1 12 0), .int (i_ a), .int (i_ s.length)] w Q) (NO3 w ms lm s) := by
  have hsasc : asc s := by
    intro c hc
    obtain ⟨j, hj, rfl⟩ := List.getElem_of_mem hc
    obtain ⟨q1, q2, q3⟩ := hs j hj
    rw [List.getD_eq_getElem?_getD, List.getElem?_eq_getElem hj] at q1
    simp only [Option.getD_some] at q1
    omega
  have hN0 := hN
  have hTL := hT.2.1
  obtain ⟨⟨l2, l4, l5⟩, -, ⟨l14, l15, l16⟩, -⟩ := hTL
  obtain ⟨⟨hn, hx10, hxr⟩, hA⟩ := hT.1
  have h4 := hT.2.2.2.1
  obtain ⟨⟨g1, g2⟩, ⟨g3, g4⟩, g5, g6, g7⟩ := hN
  refine eW_of (A := fun Q => zb_X13_nameOf_p0 E L Q (i_ a) (i_ s.length) w) (fun Q h => zt_X13_nameOf_p0 (by omega) h) ?_
  simp only [zb_X13_nameOf_p0]
  have add : s ∉ ms → eS (fun Q => zL_X13_nameOf_p2 E L Q (i_ a) (i_ s.length) (i_ ms.length) w) (fun r w' => wle w w' → NO3 w ms lm s r w') := by
    intro hno
    refine eS_l (fun Q h => zt_X13_nameOf_p2 (by omega) h) ?_
    simp only [zb_X13_nameOf_p2, g1, g2]
    rw [if_pos_fun ((i_le (by omega) (by omega)).mpr (by omega))]
    refine eS_and (by rw [l14]; exact i_inb (by omega) (by omega)) ?_
    refine eS_and (by rw [l15]; exact i_inb (by omega) (by omega)) ?_
    rw [i_nat' (show ms.length < 2147483648 by omega)]
    have hf0 : frm (pk 12 [14, 15]) w (ws_a (ws_a w 12 0 14 ms.length (i_ lm)) 12 0 15 ms.length (i_ s.length)) := (frm_a rfl).tr (frm_a rfl)
    have loop : ∀ d j w', j + d = s.length → frm (pk 12 [16]) (ws_a (ws_a w 12 0 14 ms.length (i_ lm)) 12 0 15 ms.length (i_ s.length)) w' → (∀ i, i < lm → w_a w' 12 0 16 i = w_a w 12 0 16 i) → (∀ i, i < j → w_a w' 12 0 16 (lm + i) = i_ (s.getD i 0)) → eS (fun Q => zL_X13_nameOf_p118 E L Q (i_ a) (i_ s.length) (i_ j) w') (fun r w' => wle w w' → NO3 w ms lm s r w') := by
      intro d
      induction d with
      | zero =>
        intro j w' hj hf hlo hat
        refine eS_l (fun Q h => zt_X13_nameOf_p118 (by omega) h) ?_
        simp only [zb_X13_nameOf_p118]
        rw [if_pos_fun ((i_le (by omega) (by omega)).mpr (by omega))]
        have hf1 : frm (pk 12 [13, 17]) w' (ws_i (ws_i w' 12 0 17 (w_i w' 12 0 17 + i_ s.length)) 12 0 13 (w_i w' 12 0 13 + 1)) := (frm_i rfl).tr (frm_i rfl)
        have i13 : w_i w' 12 0 13 = i_ ms.length := by rw [hf.i rfl, hf0.i rfl]; exact g1
        have i17 : w_i w' 12 0 17 = i_ lm := by rw [hf.i rfl, hf0.i rfl]; exact g2
        rw [show w_i w' 12 0 13 + 1 - 1 = i_ ms.length by rw [i13, i_1, i_add, i_sub]; congr 1; omega]
        refine eS_ret (fun _ => ⟨ms ++ [s], lm + s.length, ms.length, ?_, List.prefix_append _ _, by simp, by rw [List.getD_eq_getElem?_getD, List.getElem?_append_right (Nat.le_refl _)]; simp, rfl, ((hf0.sub (by decide)).tr (hf.sub (by decide))).tr (hf1.sub (by decide)), by simp, Nat.le_refl _⟩)
        have b14 : ∀ k, w_a (ws_i (ws_i w' 12 0 17 (w_i w' 12 0 17 + i_ s.length)) 12 0 13 (w_i w' 12 0 13 + 1)) 12 0 14 k = if k = ms.length then i_ lm else w_a w 12 0 14 k := by
          intro k
          rw [hf1.a rfl, hf.a rfl]
          simp only [Ria, Rga, Rpa, Raa, Rba, Rra, Rna, Rda, Roa, Rta, Rza, RCa, RSa]
          simp
        have b15 : ∀ k, w_a (ws_i (ws_i w' 12 0 17 (w_i w' 12 0 17 + i_ s.length)) 12 0 13 (w_i w' 12 0 13 + 1)) 12 0 15 k = if k = ms.length then i_ s.length else w_a w 12 0 15 k := by
          intro k
          rw [hf1.a rfl, hf.a rfl]
          simp only [Ria, Rga, Rpa, Raa, Rba, Rra, Rna, Rda, Roa, Rta, Rza, RCa, RSa]
          simp
        refine ⟨⟨?_, ?_⟩, ⟨by simp; omega, by omega⟩, fun k hk => ?_, ?_, fun t ht => ?_⟩
        · simp only [Rii, Rgi, Rpi, Rai, Rbi, Rri, Rni, Rdi, Roi, Rti, Rzi, RCi, RSi]
          rw [if_pos (by decide), i13, i_1, i_add]
          simp
        · simp only [Rii, Rgi, Rpi, Rai, Rbi, Rri, Rni, Rdi, Roi, Rti, Rzi, RCi, RSi]
          rw [if_neg (by decide), if_pos (by decide), i17, i_add]
          simp
        · rw [b14, b15]
          by_cases hkl : k = ms.length
          · subst hkl
            have : (ms ++ [s]).getD ms.length [] = s := by
              rw [List.getD_eq_getElem?_getD, List.getElem?_append_right (Nat.le_refl _)]; simp
            rw [this, if_pos rfl, if_pos rfl]
            exact ⟨lm, rfl, Nat.le_refl _, rfl, fun j hj => by rw [hf1.a rfl]; exact hat j (by omega)⟩
          · have hk2 : k < ms.length := by simp at hk; omega
            obtain ⟨p, e1, e2, e3, e4⟩ := g5 k hk2
            have : (ms ++ [s]).getD k [] = ms.getD k [] := by
              rw [List.getD_eq_getElem?_getD, List.getD_eq_getElem?_getD, List.getElem?_append_left hk2]
            rw [this, if_neg hkl, if_neg hkl]
            exact ⟨p, e1, by omega, e3, fun j hj => by rw [hf1.a rfl, hlo _ (by omega)]; exact e4 j hj⟩
        · rw [List.nodup_append]
          exact ⟨g6, by simp, fun x hx y hy e => hno (by simp at hy; rw [← hy, ← e]; exact hx)⟩
        · rcases List.mem_append.mp ht with h | h
          · exact g7 t h
          · simp at h
            subst h
            exact ⟨hsasc, hs16⟩
      | succ d ih =>
        intro j w' hj hf hlo hat
        refine eS_l (fun Q h => zt_X13_nameOf_p118 (by omega) h) ?_
        simp only [zb_X13_nameOf_p118]
        obtain ⟨q1, q2, q3⟩ := hs j (by omega)
        have i17 : w_i w' 12 0 17 = i_ lm := by rw [hf.i rfl, hf0.i rfl]; exact g2
        rw [if_neg_fun (fun q => by have := (i_le (by omega) (by omega)).mp q; omega)]
        rw [i17, i_add, i_add, cNn, cNn, i_nat' (show a + j < 2147483648 by omega), i_nat' (show lm + j < 2147483648 by omega)]
        refine eS_and (by rw [hf.n, hf0.n, l2]; exact i_inb (by omega) (by omega)) ?_
        refine eS_and (by rw [hf.n, hf0.n, l16]; exact i_inb (by omega) (by omega)) ?_
        rw [show w_a w' 12 0 2 (a + j) = i_ (s.getD j 0) by rw [hf.a rfl, hf0.a rfl, h4 _ (by omega), q1], i_1, i_add, cN1]
        refine ih (j + 1) _ (by omega) (hf.tr (frm_a rfl)) (fun i hi => ?_) (fun i hi => ?_)
        · rw [Raa, if_neg (by omega)]
          exact hlo i hi
        · rw [Raa]
          by_cases e : i = j
          · rw [if_pos ⟨rfl, rfl, rfl, by omega⟩, e]
          · rw [if_neg (by omega)]
            exact hat i (by omega)
    exact loop s.length 0 _ (by omega) frm.rf (fun i hi => by simp only [Ria, Rga, Rpa, Raa, Rba, Rra, Rna, Rda, Roa, Rta, Rza, RCa, RSa]; simp) (fun i hi => by omega)
  have chain : ∀ d m, m + d = ms.length → (∀ j, j < m → ms.getD j [] ≠ s) → eS (fun Q => zL_X13_nameOf_p2 E L Q (i_ a) (i_ s.length) (i_ m) w) (fun r w' => wle w w' → NO3 w ms lm s r w') := by
    intro d
    induction d with
    | zero =>
      intro m hm hall
      rw [show m = ms.length by omega]
      refine add ?_
      intro hmem
      obtain ⟨j, hj, e⟩ := List.getElem_of_mem hmem
      refine hall j (by omega) ?_
      rw [List.getD_eq_getElem?_getD, List.getElem?_eq_getElem hj, e]
      rfl
    | succ d ih =>
      intro m hm hall
      by_cases e : ms.getD m [] = s
      · refine .inr ⟨.inl (some (.int (i_ m))), w, fun Q hq => t_name_cmp (by omega) hT hN0 hs ha (by omega) (fun _ => hq) (fun h => absurd e h), fun _ => ⟨ms, lm, m, hN0, List.prefix_refl _, by omega, e, rfl, frm.rf, by omega, by omega⟩⟩
      · refine eS_l (fun Q h => t_name_cmp (by omega) hT hN0 hs ha (by omega) (fun h2 => absurd h2 e) (fun _ => h)) ?_
        exact ih (m + 1) (by omega) (fun j hj => by
          by_cases e2 : j = m
          · rw [e2]; exact e
          · exact hall j (by omega))
  exact chain ms.length 0 (by omega) (fun j hj => by omega)
end TN
