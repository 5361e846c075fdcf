/-! ===== TOKENS, part 14: the twin's text, its words ===== -/
/-- lengths of the twin's rows of tokens -/
def TL3 (w : wS) : Prop := (w_n w 12 0 2 = 6000 ∧ w_n w 12 0 4 = 36 ∧ w_n w 12 0 5 = 28) ∧ (w_n w 12 0 7 = 12002 ∧ w_n w 12 0 8 = 12002 ∧ w_n w 12 0 9 = 12002 ∧ w_n w 12 0 10 = 12002) ∧ (w_n w 12 0 14 = 6001 ∧ w_n w 12 0 15 = 6001 ∧ w_n w 12 0 16 = 6000) ∧ w_n w 12 0 19 = 3001 ∧ w_n w 12 0 20 = 3001 ∧ w_n w 12 0 21 = 6000
/-- the text as the twin has it -/
def TT (E : zE) (w : wS) (T : Nat → Int) (n : Nat) : Prop := (tx T n ∧ zA E) ∧ TL3 w ∧ w_i w 12 0 3 = i_ n ∧ (∀ k, k < n → w_a w 12 0 2 k = i_ (T k)) ∧ (∀ k, k < 36 → w_r w 12 0 4 k = some (E.1.2.1 (2 + k))) ∧ ∀ k, k < 28 → w_r w 12 0 5 k = some (E.1.2.1 (38 + k))
theorem TL3.frm {P : Nat → Nat → Bool} {w w' : wS} (h : TL3 w) (hf : frm P w w') : TL3 w' := by
  unfold TL3 at h ⊢
  simp only [hf.n]
  exact h
theorem TT.frm {P : Nat → Nat → Bool} {E : zE} {w w' : wS} {T : Nat → Int} {n : Nat} (h : TT E w T n) (hf : frm P w w') (hp : P 12 2 = false ∧ P 12 3 = false ∧ P 12 4 = false ∧ P 12 5 = false) : TT E w' T n := by
  obtain ⟨h1, h2, h3, h4, h5, h6⟩ := h
  exact ⟨h1, h2.frm hf, by rw [hf.i hp.2.1]; exact h3, fun k hk => by rw [hf.a hp.1]; exact h4 k hk, fun k hk => by rw [hf.r hp.2.2.1]; exact h5 k hk, fun k hk => by rw [hf.r hp.2.2.2]; exact h6 k hk⟩
section TW
variable {E : zE} {L : Nat} {w : wS} {Q : kx_Rs → wS → Prop} {T : Nat → Int} {n p k a m : Nat} {s : List Int}
theorem t_here (hL : 19 ≤ L) (hT : TT E w T n) (hp : w_i w 12 0 23 = i_ p) (hpk : p + k ≤ 6000) (h : Q (.inl (some (.int (i_ (T (p + k)))))) w) : zw E L kt_M429 [.ref (w_adr E.2.1 12 0), .int (i_ k)] w Q := by
  obtain ⟨⟨⟨hn, hx10, hxr⟩, -⟩, ⟨⟨l2, -, -⟩, -⟩, h3, h4, -⟩ := hT
  refine zt_X13_here_p0 hL ?_
  simp only [zb_X13_here_p0, zb_X13_here_p29, hp, h3]
  by_cases hnk : n ≤ p + k
  · simp (disch := omega) only [E_lt, E_le, E_eq, E_nat, E_inb, i_add, i_sub, i_neg, cN1, cN2, cNn, Int.toNat_natCast, if_pos, if_neg, true_and, and_true, show (0 : Int32) = i_ 0 from rfl, show (2 : Int32) = i_ 2 from rfl, show (3 : Int32) = i_ 3 from rfl, show (10 : Int32) = i_ 10 from rfl, show (12 : Int32) = i_ 12 from rfl, show (23 : Int32) = i_ 23 from rfl, l2]
    rw [hx10 _ hnk] at h
    exact h
  · simp (disch := omega) only [E_lt, E_le, E_eq, E_nat, E_inb, i_add, i_sub, i_neg, cN1, cN2, cNn, Int.toNat_natCast, if_pos, if_neg, true_and, and_true, show (0 : Int32) = i_ 0 from rfl, show (2 : Int32) = i_ 2 from rfl, show (3 : Int32) = i_ 3 from rfl, show (10 : Int32) = i_ 10 from rfl, show (12 : Int32) = i_ 12 from rfl, show (23 : Int32) = i_ 23 from rfl, l2]
    rw [h4 _ (by omega)]
    exact h
/-- the words in the twin -/
theorem wst_len : ∀ k, k < 36 → kw_sl (2 + k) = (wds.getD k []).length := by decide +kernel
theorem wst_at : ∀ k, k < 36 → ∀ j, j < (wds.getD k []).length → kw_sc (2 + k) j = i_ ((wds.getD k []).getD j 0) := by decide +kernel
theorem zK_w {x : Option Nat} {i : Nat} (hA : zA E) (hi : i < 68) (h : x = some (E.1.2.1 i)) : zK E x i := ⟨hA, hi, h⟩
theorem wds_l36 : ∀ k, k < 36 → (wds.getD k []).length ≤ 16 ∧ 0 < (wds.getD k []).length := by decide +kernel
theorem t_wordOf (hL : 200 ≤ L) (hT : TT E w T n) (hs : ∀ j, j < s.length → s.getD j 0 = T (a + j) ∧ 0 ≤ T (a + j) ∧ T (a + j) < 128) (ha : a + s.length ≤ n) (h1 : ∀ c, (wds.take 36).idxOf? s = some c → Q (.inl (some (.int (i_ c)))) w) (h2 : (wds.take 36).idxOf? s = none → Q (.inl (some (.int (i_ (-1))))) w) : zw E L kt_M604 [.ref (w_adr E.2.1 12 0), .int (i_ a), .int (i_ s.length)] w Q := by
  obtain ⟨⟨⟨hn, hx10, hxr⟩, hA⟩, ⟨⟨l2, l4, l5⟩, -⟩, h3, h4, h5, -⟩ := hT
  refine zt_X13_wordOf_p0 (by omega) ?_
  simp only [zb_X13_wordOf_p0]
  have loop : ∀ d k, k + d = 36 → (∀ c, c < k → wds.getD c [] ≠ s) → zL_X13_wordOf_p2 E L Q (i_ a) (i_ s.length) (i_ k) w := by
    intro d
    induction d with
    | zero =>
      intro k hk hall
      refine zt_X13_wordOf_p2 (by omega) ?_
      simp only [zb_X13_wordOf_p2, i_ofNat, l4]
      rw [if_pos ((i_le (by omega) (by omega)).mpr (by omega))]
      refine h2 ?_
      rw [List.idxOf?_eq_none_iff]
      intro hmem
      obtain ⟨c, hc, e⟩ := List.getElem_of_mem hmem
      have hc36 : c < 36 := by
        have : (wds.take 36).length = 36 := by simp [wds_len]
        omega
      refine hall c (by omega) ?_
      rw [← take36 c hc36, List.getD_eq_getElem?_getD, List.getElem?_eq_getElem hc]
      exact e
    | succ d ih =>
      intro k hk hall
      have hsl := wst_len k (by omega)
      have hsa := wst_at k (by omega)
      have hl16 := wds_l36 k (by omega)
      have next : wds.getD k [] ≠ s → zL_X13_wordOf_p2 E L Q (i_ a) (i_ s.length) (i_ k + 1) w := by
        intro hne
        rw [i_1, i_add, cN1]
        refine ih (k + 1) (by omega) (fun c hc => ?_)
        by_cases e : c = k
        · rw [e]; exact hne
        · exact hall c (by omega)
      have hfalse : ∀ x5, wds.getD k [] ≠ s → zL_X13_wordOf_p34 E L Q (i_ a) (i_ s.length) (i_ k) 0 x5 w := by
        intro x5 hne
        refine zt_X13_wordOf_p34 (by omega) ?_
        simp only [zb_X13_wordOf_p34, zb_X13_wordOf_p81, if_true]
        split <;> exact next hne
      have inner : ∀ d j, j + d = s.length → (wds.getD k []).length = s.length → (∀ i, i < j → (wds.getD k []).getD i 0 = s.getD i 0) → zL_X13_wordOf_p34 E L Q (i_ a) (i_ s.length) (i_ k) 1 (i_ j) w := by
        intro d
        induction d with
        | zero =>
          intro j hj hlen heq
          refine zt_X13_wordOf_p34 (by omega) ?_
          simp only [zb_X13_wordOf_p34, zb_X13_wordOf_p81]
          rw [if_pos ((i_le (by omega) (by omega)).mpr (by omega)), if_neg (by decide)]
          have hws : s = wds.getD k [] := l_ext hlen.symm (fun i hi => (heq i (by omega)).symm)
          refine h1 k ?_
          rw [List.idxOf?_eq_some_iff]
          refine ⟨by simp [wds_len]; omega, ?_, fun j hj2 hje => ?_⟩
          · have := take36 k (by omega)
            rw [List.getD_eq_getElem?_getD, List.getElem?_eq_getElem (by simp [wds_len]; omega)] at this
            simp only [Option.getD_some] at this
            rw [this, hws]
          · have := take36 j (by omega)
            rw [List.getD_eq_getElem?_getD, List.getElem?_eq_getElem (by simp [wds_len]; omega)] at this
            simp only [Option.getD_some] at this
            rw [this] at hje
            exact hall j hj2 (by simpa using hje)
        | succ d ihd =>
          intro j hj hlen heq
          refine zt_X13_wordOf_p34 (by omega) ?_
          simp only [zb_X13_wordOf_p34, zb_X13_wordOf_p73]
          obtain ⟨q1, q2, q3⟩ := hs j (by omega)
          have hwa := asc_getD (wds_all _ (getD_mem (show k < wds.length by rw [wds_len]; omega))).1 j
          rw [if_neg (fun q => by have := (i_le (by omega) (by omega)).mp q; omega), if_neg (by decide)]
          refine ⟨by rw [l4]; exact i_inb (by omega) (by omega), 2 + k, zK_w hA (by omega) (by rw [i_nat' (by omega)]; exact h5 k (by omega)), i_inb (by omega) (by omega), ?_⟩
          rw [i_add, cNn, i_nat' (show j < 2147483648 by omega), i_nat' (show a + j < 2147483648 by omega), hsa j (by omega), h4 _ (by omega), ← q1, i_1, i_add, cN1]
          refine ⟨by rw [l2]; exact i_inb (by omega) (by omega), ?_⟩
          by_cases hc : (wds.getD k []).getD j 0 = s.getD j 0
          · rw [if_neg (fun q => q (by rw [hc]))]
            refine ihd (j + 1) (by omega) hlen (fun i hi => ?_)
            by_cases e : i = j
            · rw [e]; exact hc
            · exact heq i (by omega)
          · rw [if_pos (fun q => hc ((i_eq (by omega) (by omega)).mp q))]
            exact hfalse _ (fun e => hc (by rw [e]))
      refine zt_X13_wordOf_p2 (by omega) ?_
      simp only [zb_X13_wordOf_p2, zb_X13_wordOf_p29, i_ofNat, l4]
      rw [if_neg (fun q => by have := (i_le (by omega) (by omega)).mp q; omega)]
      refine ⟨i_inb (by omega) (by omega), 2 + k, zK_w hA (by omega) (by rw [i_nat' (by omega)]; exact h5 k (by omega)), ?_⟩
      rw [hsl]
      by_cases hlen : (wds.getD k []).length = s.length
      · rw [if_neg (fun q => q (by rw [hlen]))]
        exact inner s.length 0 (by omega) hlen (fun i hi => by omega)
      · rw [if_pos (fun q => hlen (by have := (i_eq (by omega) (by omega)).mp q; omega))]
        exact hfalse _ (fun e => hlen (by rw [e]))
  exact loop 36 0 (by omega) (fun c hc => by omega)
end TW
