/-! ===== ROUNDS, part 56: names that are there from the start ===== -/
def sScr : List Int := [115, 99, 114, 101, 101, 110]
def sKey : List Int := [107, 101, 121, 98, 111, 97, 114, 100]
/-- a string constant -/
def sCon (i : Nat) (s : List Int) : Prop := Int32.ofNat (kw_sl i) = i_ s.length ∧ kw_sl i = s.length ∧ (∀ j, j < s.length → kw_sc i j = i_ (s.getD j 0)) ∧ (∀ j, j < s.length → 0 ≤ s.getD j 0 ∧ s.getD j 0 < 128) ∧ i < 68 ∧ s.length ≤ 16
theorem sCon_66 : sCon 66 sScr := ⟨by decide +kernel, by decide +kernel, by decide +kernel, by decide +kernel, by decide, by decide⟩
theorem sCon_67 : sCon 67 sKey := ⟨by decide +kernel, by decide +kernel, by decide +kernel, by decide +kernel, by decide, by decide⟩
section WNM
variable {E : zE} {L i lm : Nat} {t : wS} {ms : List (List Int)} {s : List Int} {Q : kx_Rs → wS → Prop}
theorem t_wn_loop (hA : zA E) (hL : 120 ≤ L) (hs : sCon i s) (hl : w_n t 12 0 14 = 6001 ∧ w_n t 12 0 15 = 6001 ∧ w_n t 12 0 16 = 6000) (hN : NT3 t ms lm) (h1 : ∀ m, m < ms.length → ms.getD m [] = s → Q (.inl (some (.int (i_ m)))) t) (h2 : (∀ m, m < ms.length → ms.getD m [] ≠ s) → Q (.inl (some (.int (-9)))) t) : ∀ g m, m + g = ms.length → (∀ k, k < m → ms.getD k [] ≠ s) → zL_X13_wordName_p2 E L Q (some (E.1.2.1 i)) (i_ m) t := by
  have hN' := hN
  obtain ⟨⟨g1, g2⟩, ⟨g3, g4⟩, g5, g6, g7⟩ := hN'
  obtain ⟨c1, c2, c3, c4, c5, c6⟩ := hs
  obtain ⟨l14, l15, l16⟩ := hl
  have hzK : zK E (some (E.1.2.1 i)) i := ⟨hA, c5, rfl⟩
  intro g
  induction g with
  | zero =>
    intro m hm hb
    refine zt_X13_wordName_p2 (by omega) ?_
    unfold zb_X13_wordName_p2
    rw [g1, if_pos ((i_le (by omega) (by omega)).mpr (by omega))]
    exact h2 (fun k hk => hb k (by omega))
  | succ g ih =>
    intro m hm hb
    have hml : m < ms.length := by omega
    obtain ⟨p, e1, e2, e3, e4⟩ := g5 m hml
    have hms := g7 _ (getD_mem hml)
    have next : ms.getD m [] ≠ s → zL_X13_wordName_p2 E L Q (some (E.1.2.1 i)) (i_ m + 1) t := fun hne => by
      rw [i_inc]
      refine ih (m + 1) (by omega) (fun k hk => ?_)
      by_cases e : k = m
      · rw [e]
        exact hne
      · exact hb k (by omega)
    have hfalse : ∀ x5, ms.getD m [] ≠ s → zL_X13_wordName_p32 E L Q (some (E.1.2.1 i)) (i_ m) 0 x5 t := by
      intro x5 hne
      refine zt_X13_wordName_p32 (by omega) ?_
      refine ⟨i, hzK, ?_⟩
      simp only [zb_X13_wordName_p80, if_true]
      split <;> exact next hne
    have inner : ∀ d j, j + d = s.length → (ms.getD m []).length = s.length → (∀ k, k < j → (ms.getD m []).getD k 0 = s.getD k 0) → zL_X13_wordName_p32 E L Q (some (E.1.2.1 i)) (i_ m) 1 (i_ j) t := by
      intro d
      induction d with
      | zero =>
        intro j hj hlen heq
        refine zt_X13_wordName_p32 (by omega) ?_
        refine ⟨i, hzK, ?_⟩
        rw [c1, if_pos ((i_le (by omega) (by omega)).mpr (by omega))]
        simp only [zb_X13_wordName_p80]
        rw [if_neg (by decide)]
        exact h1 m hml (l_ext hlen (fun k hk => heq k (by omega)))
      | succ d ihd =>
        intro j hj hlen heq
        have hwa := asc_getD hms.1 j
        obtain ⟨q1, q2⟩ := c4 j (by omega)
        refine zt_X13_wordName_p32 (by omega) ?_
        refine ⟨i, hzK, ?_⟩
        rw [c1, if_neg (fun q => by have := (i_le (by omega) (by omega)).mp q; omega), if_neg (by decide)]
        rw [i_nat' (show m < 2147483648 by omega), e1, i_add, cNn, i_nat' (show p + j < 2147483648 by omega), i_nat' (show j < 2147483648 by omega), e4 j (by omega)]
        refine ⟨by rw [l14]; exact i_inb (by omega) (by omega), by rw [l16]; exact i_inb (by omega) (by omega), i, hzK, by rw [c2]; exact i_inb (by omega) (by omega), ?_⟩
        rw [c3 j (by omega)]
        simp only [zb_X13_wordName_p73, i_inc]
        by_cases hc : (ms.getD m []).getD j 0 = s.getD j 0
        · rw [if_neg (fun q => q (by rw [hc]))]
          refine ihd (j + 1) (by omega) hlen (fun k hk => ?_)
          by_cases e : k = j
          · rw [e]
            exact hc
          · exact heq k (by omega)
        · rw [if_pos (fun q => hc ((i_eq (by omega) (by omega)).mp q))]
          exact hfalse _ (fun e => hc (by rw [e]))
    refine zt_X13_wordName_p2 (by omega) ?_
    unfold zb_X13_wordName_p2
    rw [g1, if_neg (fun q => by have := (i_le (by omega) (by omega)).mp q; omega), i_nat' (show m < 2147483648 by omega), e3]
    refine ⟨by rw [l15]; exact i_inb (by omega) (by omega), i, hzK, ?_⟩
    simp only [zb_X13_wordName_p28]
    rw [c1]
    by_cases hlen : (ms.getD m []).length = s.length
    · rw [if_neg (fun q => q (by rw [hlen]))]
      exact inner s.length 0 (by omega) hlen (fun k hk => by omega)
    · rw [if_pos (fun q => hlen (by have := (i_eq (by omega) (by omega)).mp q; omega))]
      exact hfalse _ (fun e => hlen (by rw [e]))
/-- the number of a name that is there from the start, in the twin: as it stands in the text, or one that is none -/
theorem t_wordName {D : pD} {c : Nat} (hA : zA E) (hL : 120 ≤ L) (hs : sCon i s) (hl : w_n t 12 0 14 = 6001 ∧ w_n t 12 0 15 = 6001 ∧ w_n t 12 0 16 = 6000) (hN : NT3 t D.2.2.1 lm) (hc : c < D.2.1.length ∧ c < 1400 ∧ D.2.1.getD c [] = s) (hq : ∀ v : Int32, nmS D (i_ c) v → Q (.inl (some (.int v))) t) : zw E L kt_M603 [.ref (w_adr E.2.1 12 0), va_rf (some (E.1.2.1 i))] t Q := by
  refine zt_X13_wordName_p0 (by omega) ?_
  have hlen := hN.2.1.1
  refine t_wn_loop hA (by omega) hs hl hN (fun m hm e => hq _ (.inl ⟨c, m, ⟨rfl, rfl⟩, ⟨hc.1, hm, hc.2.1, by omega⟩, hc.2.2.trans e.symm⟩)) (fun h => ?_) D.2.2.1.length 0 (Nat.zero_add _) (fun k hk => absurd hk (Nat.not_lt_zero k))
  refine hq _ (.inr ⟨rfl, c, rfl, ⟨hc.1, hc.2.1⟩, fun c' hc' e => h c' hc' (e.trans hc.2.2)⟩)
end WNM
