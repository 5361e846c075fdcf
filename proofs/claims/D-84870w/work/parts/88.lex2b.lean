/-! ===== TOKENS, part 5: MeetingHouse's words, numbers, strings, signs ===== -/
theorem zO_sort {E : zE} (hA : zA E) {i : Nat} (hi : i < 9) : zO E "MeetingHouse$Sort" (some (E.1.1 i)) i := ⟨hA, by omega, rfl, by
  have h : ∀ i, i < 9 → (kw_en.getD i ("", "", "", 0)).1 = "MeetingHouse$Sort" := by decide +kernel
  exact h i hi⟩
/-- a token more -/
def tk_add (w : wS) (sa m : Nat) (v l ln : Int32) : wS := ws_i (ws_a (ws_a (ws_a (ws_a (ws_r w 1 0 2 m (some sa)) 1 0 3 m v) 1 0 4 m l) 1 0 5 m ln) 1 0 6 m 0) 1 0 7 (i_ (m + 1 : Nat))
/-- the bytes of a part of the text -/
def seg (T : Nat → Int) (a b : Nat) : List Int := (List.range (b - a)).map (fun j => T (a + j))
theorem seg_len {T : Nat → Int} {a b : Nat} : (seg T a b).length = b - a := by simp [seg]
theorem seg_at {T : Nat → Int} {a b j : Nat} (h : j < b - a) : (seg T a b).getD j 0 = T (a + j) := by
  unfold seg
  rw [List.getD_eq_getElem?_getD, List.getElem?_map, List.getElem?_range h]
  rfl
theorem isN_asc {c : Int} (h : isN c = true) : 0 ≤ c ∧ c < 128 := by
  unfold isN isL isD at h
  simp only [Bool.or_eq_true, Bool.and_eq_true, decide_eq_true_eq] at h
  omega
theorem isN_10 : isN 10 = false := by decide
theorem isD_10 : isD 10 = false := by decide
theorem isH_10 : isH 10 = false := by decide
/-- a span that can't hold a line's end stays ahead of it -/
theorem nd_le_e {p : Int → Bool} {T : Nat → Int} {n e : Nat} (hp : p 10 = false) (h10 : T e = 10) (he : e ≤ n) : ∀ {k a : Nat}, e - a = k → a ≤ e → nd p T n a ≤ e
  | 0, a, h, ha => by
    have : a = e := by omega
    rw [this, nd_stop (by rw [h10]; exact hp)]
    exact Nat.le_refl _
  | k + 1, a, h, ha => by
    cases hc : p (T a) with
    | true =>
      rw [nd_go (by omega) hc]
      exact nd_le_e hp h10 he (k := k) (by omega) (by omega)
    | false => rw [nd_stop hc]; exact ha
section LY
variable {E : zE} {L : Nat} {w : wS} {Q : kx_Rs → wS → Prop} {T : Nat → Int} {n e p a m sm lm : Nat} {ns : List (List Int)} {ln : Int32}
theorem c2_tk (hA : zA E) (hL : 40 ≤ L) {i : Nat} (hi : i < 9) (hT : TL2 w) (hm : w_i w 1 0 7 = i_ m) (hm2 : m < 12000) {v l : Int32} (h : Q (.inl none) (tk_add w (E.1.1 i) m v l ln)) : zw E L kt_M236 [.ref (w_adr E.2.1 1 0), va_rf (some (E.1.1 i)), .int v, .int l, .int ln] w Q := by
  obtain ⟨⟨l0, l2, l3, l4, l5, l6, l10⟩, -⟩ := hT
  refine zt_X2_add_p0 (by omega) ?_
  simp only [zb_X2_add_p0]
  refine ⟨i, zO_sort hA hi, ?_⟩
  simp only [hm, l2, l3, l4, l5, l6, i_inb' (show m < 2147483648 by omega) (show m < 12004 by omega), i_nat' (show m < 2147483648 by omega), true_and]
  rw [i_1, i_add, show (m : Int) + 1 = ((m + 1 : Nat) : Int) by omega]
  exact h
theorem CT_row (hC : CT w T n) {b : Nat} (hb : b ≤ n) (hasc : ∀ j, a ≤ j → j < b → 0 ≤ T j ∧ T j < 128) (hab : a ≤ b) : rowN w 1 0 0 a (seg T a b) := by
  obtain ⟨⟨hn, -, -⟩, ⟨⟨l0, -⟩, -⟩, -, hT⟩ := hC
  refine ⟨by rw [seg_len, l0]; omega, by rw [l0]; omega, fun j hj => ?_⟩
  rw [seg_len] at hj
  rw [seg_at hj, hT (a + j) (by omega)]
  have := hasc (a + j) (by omega) (by omega)
  unfold sb
  rw [if_pos (by omega)]
theorem c2_word (hA : zA E) (hL : 300 ≤ L) (hC : CT w T n) (hN : NT2 w ns lm) (he : e ≤ n) (ha : a ≤ e) (h10 : T e = 10) (hm : w_i w 1 0 7 = i_ m) (hm2 : m < 12000) (hroom : ns.length < 1400 ∧ lm + 16 ≤ 4000)
    (h0 : 16 < nd isN T n a - a → Q (.inl (some (.int (i_ (-1))))) w)
    (h1 : ∀ c, nd isN T n a - a ≤ 16 → c < ns.length → ns.getD c [] = seg T a (nd isN T n a) → Q (.inl (some (.int (i_ (nd isN T n a))))) (tk_add w (E.1.1 (if c < 36 then 0 else 1)) m (i_ c) 0 ln))
    (h2 : nd isN T n a - a ≤ 16 → seg T a (nd isN T n a) ∉ ns → 36 ≤ ns.length → Q (.inl (some (.int (i_ (nd isN T n a))))) (tk_add (nm_add w 1 0 0 a ns.length lm (nd isN T n a - a) (hsh (seg T a (nd isN T n a))) (i_ (prv ns (hsh (seg T a (nd isN T n a))) ns.length))) (E.1.1 1) m (i_ ns.length) 0 ln)) (h36 : 36 ≤ ns.length) : zw E L kt_M252 [.ref (w_adr E.2.1 1 0), .int (i_ a), .int (i_ e), .int ln] w Q := by
  have hC2 := hC
  obtain ⟨⟨hn, hx10, hxr⟩, hTL, hsz, hT⟩ := hC
  have l0 := hTL.1.1
  have hble : nd isN T n a ≤ e := nd_le_e isN_10 h10 he rfl ha
  have hage : a ≤ nd isN T n a := nd_ge rfl
  refine zt_X2_word_p0 (by omega) ?_
  simp only [zb_X2_word_p0]
  have loop : ∀ d j, j + d = nd isN T n a → a ≤ j → zL_X2_word_p3 E L Q (i_ a) (i_ e) ln (i_ j) w := by
    intro d
    induction d with
    | zero =>
      intro j hj haj
      have hstop : isN (T j) = false := by
        have := nd_at (p := isN) (T := T) (n := n) (fun k hk => by rw [hx10 k hk]; exact isN_10) (a := a) rfl
        rw [show nd isN T n a = j by omega] at this
        exact this
      have hend : zb_X2_word_p32 E L Q (i_ a) ln (i_ j) w := by
        simp only [zb_X2_word_p32, i_sub]
        by_cases h16 : nd isN T n a - a ≤ 16
        · rw [if_pos (by rw [show (16 : Int32) = i_ 16 from rfl]; exact (i_le (by omega) (by omega)).mpr (by omega))]
          have hrow := CT_row hC2 (a := a) (b := nd isN T n a) (by omega) (fun q h1 h2 => isN_asc (nd_in rfl q h1 h2)) hage
          have hsasc : asc (seg T a (nd isN T n a)) := by
            intro c hc
            unfold seg at hc
            obtain ⟨q, hq, rfl⟩ := List.mem_map.mp hc
            rw [List.mem_range] at hq
            exact isN_asc (nd_in (p := isN) (T := T) (n := n) (a := a) rfl (a + q) (by omega) (by omega))
          have hjn : (j : Int) - (a : Int) = ((seg T a (nd isN T n a)).length : Int) := by
            rw [seg_len]
            omega
          rw [hjn]
          have hjj : j = nd isN T n a := by omega
          have fin : ∀ w2 : wS, w2 = w2 → True := fun _ _ => trivial
          refine c2_name (c := 1) (o := 0) (k := 0) (by omega) (.inr ⟨.inl rfl, rfl, rfl⟩) hN hrow (by omega) hsasc (by rw [seg_len]; exact h16) ⟨hroom.1, by rw [seg_len]; omega⟩ (.inl rfl) rfl (fun c hc hce => ?_) (fun hnew => ?_)
          · intro hle
            have hnsb := hN.2.1
            by_cases hc36 : c < 36
            · rw [if_neg (by rw [show (36 : Int32) = i_ 36 from rfl]; intro q; have := (i_le (by omega) (by omega)).mp q; omega)]
              simp only [zb_X2_word_p75]
              refine c2_tk hA (by omega) (by decide) hTL hm hm2 ?_
              intro _
              have := h1 c h16 hc hce
              rw [if_pos hc36] at this
              rw [hjj]
              exact this
            · rw [if_pos (by rw [show (36 : Int32) = i_ 36 from rfl]; exact (i_le (by omega) (by omega)).mpr (by omega))]
              simp only [zb_X2_word_p75]
              refine c2_tk hA (by omega) (by decide) hTL hm hm2 ?_
              intro _
              have := h1 c h16 hc hce
              rw [if_neg hc36] at this
              rw [hjj]
              exact this
          · intro hle
            have hnsb := hN.2.1
            rw [if_pos (by rw [show (36 : Int32) = i_ 36 from rfl]; exact (i_le (by omega) (by omega)).mpr (by omega))]
            simp only [zb_X2_word_p75]
            refine c2_tk hA (by omega) (by decide) ?_ (by rw [nmf.i rfl]; exact hm) hm2 ?_
            · unfold TL2 at hTL ⊢
              simp only [nmn]
              exact hTL
            intro _
            have := h2 h16 hnew h36
            rw [hjj]
            rw [seg_len]
            exact this
        · rw [if_neg (by rw [show (16 : Int32) = i_ 16 from rfl]; intro q; have := (i_le (by omega) (by omega)).mp q; omega)]
          exact h0 (by omega)
      refine zt_X2_word_p3 (by omega) ?_
      simp only [zb_X2_word_p3]
      by_cases hje : e ≤ j
      · rw [if_pos ((i_le (by omega) (by omega)).mpr (by omega))]
        exact hend
      · rw [if_neg (fun q => by have := (i_le (by omega) (by omega)).mp q; omega)]
        refine ⟨i_inb' (by omega) (by omega), ?_⟩
        rw [i_nat' (show j < 2147483648 by omega), hT j (by omega), sb_and' (hxr j)]
        refine c2_isNamed (by omega) ?_
        intro _
        have := hxr j
        rw [i_toInt (by omega), hstop, if_pos (by decide)]
        exact hend
    | succ d ih =>
      intro j hj haj
      have hin := nd_in (p := isN) (T := T) (n := n) (a := a) rfl j haj (by omega)
      refine zt_X2_word_p3 (by omega) ?_
      simp only [zb_X2_word_p3]
      rw [if_neg (fun q => by have := (i_le (by omega) (by omega)).mp q; omega)]
      refine ⟨i_inb' (by omega) (by omega), ?_⟩
      rw [i_nat' (show j < 2147483648 by omega), hT j (by omega), sb_and' (hxr j)]
      refine c2_isNamed (by omega) ?_
      intro _
      have := hxr j
      rw [i_toInt (by omega), hin, if_neg (by decide), i_1, i_add, show (j : Int) + 1 = ((j + 1 : Nat) : Int) by omega]
      exact ih (j + 1) (by omega) (by omega)
  exact loop (nd isN T n a - a) a (by omega) (Nat.le_refl _)
end LY
