/-! ===== TOKENS, part 7: MeetingHouse's hexadecimal numbers, characters, strings, signs ===== -/
section LV
variable {E : zE} {L : Nat} {w : wS} {Q : kx_Rs → wS → Prop} {T : Nat → Int} {n e a m sm : Nat} {ln : Int32}
/-- what is no number of sixteens -/
def bad16 (T : Nat → Int) (n a : Nat) : Prop := nd isH T n (a + 1) < a + 2 ∨ a + 9 < nd isH T n (a + 1) ∨ isN (T (nd isH T n (a + 1))) = true
theorem c2_sixteens (hA : zA E) (hL : 300 ≤ L) (hC : CT w T n) (he : e ≤ n) (ha : a + 1 ≤ e) (h10 : T e = 10) (hm : w_i w 1 0 7 = i_ m) (hm2 : m < 12000)
    (h0 : bad16 T n a → Q (.inl (some (.int (i_ (-1))))) w)
    (h1 : ¬ bad16 T n a → Q (.inl (some (.int (i_ (nd isH T n (a + 1)))))) (tk_add w (E.1.1 2) m (hvl T (a + 1) (nd isH T n (a + 1) - (a + 1))) 0 ln)) : zw E L kt_M249 [.ref (w_adr E.2.1 1 0), .int (i_ a), .int (i_ e), .int ln] w Q := by
  obtain ⟨⟨hn, hx10, hxr⟩, hTL, hsz, hT⟩ := hC
  have l0 := hTL.1.1
  have hble : nd isH T n (a + 1) ≤ e := nd_le_e isH_10 h10 he rfl ha
  have hage : a + 1 ≤ nd isH T n (a + 1) := nd_ge rfl
  have hend : ∀ k, a + 1 + k ≤ nd isH T n (a + 1) → k ≤ 9 → (k = 9 ∨ a + 1 + k = nd isH T n (a + 1)) → zb_X2_sixteens_p60 E L Q (i_ a) (i_ e) ln (i_ (a + 1 + k : Nat)) (hvl T (a + 1) k) w := by
    intro k hk hk2 hk3
    unfold bad16 at h0 h1
    simp only [zb_X2_sixteens_p60, zb_X2_sixteens_p100, zb_X2_sixteens_p102]
    by_cases hk1 : k = 0
    · subst hk1
      simp (disch := omega) only [E_lt, E_le, E_eq, E_nat, E_inb, i_add, i_sub, i_neg, cN1, cN2, cNn, Int.toNat_natCast, if_pos, if_neg, true_and, and_true, show ((-1) : Int32) = i_ (-1) from rfl, show (0 : Int32) = i_ 0 from rfl, show (1 : Int32) = i_ 1 from rfl, show (2 : Int32) = i_ 2 from rfl, show (9 : Int32) = i_ 9 from rfl, show (10 : Int32) = i_ 10 from rfl, show (20 : Int32) = i_ 20 from rfl, show (24 : Int32) = i_ 24 from rfl, l0]
      exact h0 (.inl (by omega))
    by_cases hk9 : k = 9
    · subst hk9
      simp (disch := omega) only [E_lt, E_le, E_eq, E_nat, E_inb, i_add, i_sub, i_neg, cN1, cN2, cNn, Int.toNat_natCast, if_pos, if_neg, true_and, and_true, show ((-1) : Int32) = i_ (-1) from rfl, show (0 : Int32) = i_ 0 from rfl, show (1 : Int32) = i_ 1 from rfl, show (2 : Int32) = i_ 2 from rfl, show (9 : Int32) = i_ 9 from rfl, show (10 : Int32) = i_ 10 from rfl, show (20 : Int32) = i_ 20 from rfl, show (24 : Int32) = i_ 24 from rfl, l0]
      exact h0 (.inr (.inl (by omega)))
    have hkb : a + 1 + k = nd isH T n (a + 1) := by omega
    rw [← hkb, show a + 1 + k - (a + 1) = k by omega] at h1
    rw [← hkb] at h0
    have hgood : isN (T (a + 1 + k)) = false → zw E (L - 24) kt_M236 [.ref (w_adr E.2.1 1 0), va_rf (some (E.1.1 2)), .int (hvl T (a + 1) k), .int 0, .int ln] w (wk0 (fun w1 => wle w w1 → Q (.inl (some (.int (i_ (a + 1 + k : Nat))))) w1) (fun e w => Q (.inr e) w)) := by
      intro hN
      refine c2_tk hA (by omega) (by decide) hTL hm hm2 ?_
      intro _
      exact h1 (fun q => by
        rcases q with q | q | q
        · omega
        · omega
        · rw [hN] at q; cases q)
    by_cases hee : e ≤ a + 1 + k
    · have hN : isN (T (a + 1 + k)) = false := by
        rw [show a + 1 + k = e by omega, h10]
        exact isN_10
      have := hgood hN
      simp (disch := omega) only [E_lt, E_le, E_eq, E_nat, E_inb, i_add, i_sub, i_neg, cN1, cN2, cNn, Int.toNat_natCast, if_pos, if_neg, true_and, and_true, show ((-1) : Int32) = i_ (-1) from rfl, show (0 : Int32) = i_ 0 from rfl, show (1 : Int32) = i_ 1 from rfl, show (2 : Int32) = i_ 2 from rfl, show (9 : Int32) = i_ 9 from rfl, show (10 : Int32) = i_ 10 from rfl, show (20 : Int32) = i_ 20 from rfl, show (24 : Int32) = i_ 24 from rfl, l0]
      exact this
    · simp (disch := omega) only [E_lt, E_le, E_eq, E_nat, E_inb, i_add, i_sub, i_neg, cN1, cN2, cNn, Int.toNat_natCast, if_pos, if_neg, true_and, and_true, show ((-1) : Int32) = i_ (-1) from rfl, show (0 : Int32) = i_ 0 from rfl, show (1 : Int32) = i_ 1 from rfl, show (2 : Int32) = i_ 2 from rfl, show (9 : Int32) = i_ 9 from rfl, show (10 : Int32) = i_ 10 from rfl, show (20 : Int32) = i_ 20 from rfl, show (24 : Int32) = i_ 24 from rfl, l0]
      rw [hT (a + 1 + k) (by omega), show (255 : Int32) = i_ 255 from rfl] 
      rw [show i_ 255 = (255 : Int32) from rfl, sb_and' (hxr _)]
      refine c2_isNamed (by omega) ?_
      intro _
      have := hxr (a + 1 + k)
      rw [i_toInt (by omega)]
      cases hN : isN (T (a + 1 + k)) with
      | true =>
        rw [if_neg (by decide)]
        exact h0 (.inr (.inr hN))
      | false =>
        rw [if_pos (by decide)]
        exact hgood hN
  refine zt_X2_sixteens_p0 (by omega) ?_
  simp only [zb_X2_sixteens_p0]
  have loop : ∀ d k, k + d = 9 → a + 1 + k ≤ nd isH T n (a + 1) → zL_X2_sixteens_p8 E L Q (i_ a) (i_ e) ln (i_ (a + 1 + k : Nat)) (hvl T (a + 1) k) w := by
    intro d
    induction d with
    | zero =>
      intro k hk hkb
      refine zt_X2_sixteens_p8 (by omega) ?_
      simp only [zb_X2_sixteens_p8]
      by_cases hee : e ≤ a + 1 + k
      · simp (disch := omega) only [E_lt, E_le, E_eq, E_nat, E_inb, i_add, i_sub, i_neg, cN1, cN2, cNn, Int.toNat_natCast, if_pos, if_neg, true_and, and_true, show ((-1) : Int32) = i_ (-1) from rfl, show (0 : Int32) = i_ 0 from rfl, show (1 : Int32) = i_ 1 from rfl, show (2 : Int32) = i_ 2 from rfl, show (9 : Int32) = i_ 9 from rfl, show (10 : Int32) = i_ 10 from rfl, show (20 : Int32) = i_ 20 from rfl, show (24 : Int32) = i_ 24 from rfl, l0]
        exact hend k hkb (by omega) (by omega)
      · simp (disch := omega) only [E_lt, E_le, E_eq, E_nat, E_inb, i_add, i_sub, i_neg, cN1, cN2, cNn, Int.toNat_natCast, if_pos, if_neg, true_and, and_true, show ((-1) : Int32) = i_ (-1) from rfl, show (0 : Int32) = i_ 0 from rfl, show (1 : Int32) = i_ 1 from rfl, show (2 : Int32) = i_ 2 from rfl, show (9 : Int32) = i_ 9 from rfl, show (10 : Int32) = i_ 10 from rfl, show (20 : Int32) = i_ 20 from rfl, show (24 : Int32) = i_ 24 from rfl, l0]
        rw [hT (a + 1 + k) (by omega)]
        refine c2_sixteen (by omega) ?_
        intro _
        repeat' split
        all_goals exact hend k hkb (by omega) (by omega)
    | succ d ih =>
      intro k hk hkb
      refine zt_X2_sixteens_p8 (by omega) ?_
      simp only [zb_X2_sixteens_p8]
      by_cases hee : e ≤ a + 1 + k
      · simp (disch := omega) only [E_lt, E_le, E_eq, E_nat, E_inb, i_add, i_sub, i_neg, cN1, cN2, cNn, Int.toNat_natCast, if_pos, if_neg, true_and, and_true, show ((-1) : Int32) = i_ (-1) from rfl, show (0 : Int32) = i_ 0 from rfl, show (1 : Int32) = i_ 1 from rfl, show (2 : Int32) = i_ 2 from rfl, show (9 : Int32) = i_ 9 from rfl, show (10 : Int32) = i_ 10 from rfl, show (20 : Int32) = i_ 20 from rfl, show (24 : Int32) = i_ 24 from rfl, l0]
        exact hend k hkb (by omega) (by omega)
      · have hr := hxr (a + 1 + k)
        have hsb := sb_rng hr
        simp (disch := omega) only [E_lt, E_le, E_eq, E_nat, E_inb, i_add, i_sub, i_neg, cN1, cN2, cNn, Int.toNat_natCast, if_pos, if_neg, true_and, and_true, show ((-1) : Int32) = i_ (-1) from rfl, show (0 : Int32) = i_ 0 from rfl, show (1 : Int32) = i_ 1 from rfl, show (2 : Int32) = i_ 2 from rfl, show (9 : Int32) = i_ 9 from rfl, show (10 : Int32) = i_ 10 from rfl, show (20 : Int32) = i_ 20 from rfl, show (24 : Int32) = i_ 24 from rfl, l0]
        rw [hT (a + 1 + k) (by omega)]
        refine c2_sixteen (by omega) ?_
        intro _
        rw [i_toInt (by omega), sb_H hr]
        by_cases hb : a + 1 + k = nd isH T n (a + 1)
        · have hstop : isH (T (a + 1 + k)) = false := by
            rw [hb]
            exact nd_at (fun q hq => by rw [hx10 q hq]; exact isH_10) rfl
          rw [hstop, if_pos (by rfl)]
          exact hend k hkb (by omega) (.inr hb)
        · have hin := nd_in (p := isH) (T := T) (n := n) (a := a + 1) rfl (a + 1 + k) (by omega) (by omega)
          have hda := isH_asc hin
          have hsbe : sb (T (a + 1 + k)) = T (a + 1 + k) := by
            unfold sb
            rw [if_pos (by omega)]
          have hxv : 0 ≤ hx (T (a + 1 + k)) ∧ hx (T (a + 1 + k)) < 16 := by
            unfold hx
            unfold isH isD at hin
            simp only [Bool.or_eq_true, Bool.and_eq_true, decide_eq_true_eq] at hin
            unfold isD
            simp only [Bool.and_eq_true, decide_eq_true_eq]
            split <;> omega
          rw [hin, if_pos rfl, hsbe]
          simp (disch := omega) only [E_lt, E_le, E_eq, E_nat, E_inb, i_add, i_sub, i_neg, cN1, cN2, cNn, Int.toNat_natCast, if_pos, if_neg, true_and, and_true, show ((-1) : Int32) = i_ (-1) from rfl, show (0 : Int32) = i_ 0 from rfl, show (1 : Int32) = i_ 1 from rfl, show (2 : Int32) = i_ 2 from rfl, show (9 : Int32) = i_ 9 from rfl, show (10 : Int32) = i_ 10 from rfl, show (20 : Int32) = i_ 20 from rfl, show (24 : Int32) = i_ 24 from rfl, l0]
          rw [hT (a + 1 + k) (by omega)]
          refine c2_sixteen (by omega) ?_
          intro _
          rw [i_toInt (by omega), sb_H hr, hin, if_pos rfl, hsbe]
          exact ih (k + 1) (by omega) (by omega)
  have h := loop 9 0 (by omega) (by omega)
  simp (disch := omega) only [E_lt, E_le, E_eq, E_nat, E_inb, i_add, i_sub, i_neg, cN1, cN2, cNn, Int.toNat_natCast, if_pos, if_neg, true_and, and_true, show ((-1) : Int32) = i_ (-1) from rfl, show (0 : Int32) = i_ 0 from rfl, show (1 : Int32) = i_ 1 from rfl, show (2 : Int32) = i_ 2 from rfl, show (9 : Int32) = i_ 9 from rfl, show (10 : Int32) = i_ 10 from rfl, show (20 : Int32) = i_ 20 from rfl, show (24 : Int32) = i_ 24 from rfl, l0]
  exact h
end LV
