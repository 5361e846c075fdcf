/-! ===== TYPES, part 9: MeetingHouse's operations ===== -/
section CHO
variable {l r x : Int32} {v c : Int} {L : Nat} {E : zE} {Q : kx_Rs → wS → Prop} {w : wS}
theorem wcd_c (h : wcd c v) : c = if 40 ≤ v then v - 4 else v := by
  unfold wcd at h
  split <;> omega
theorem bOp_v (hb : bOp v = true) : v = 51 ∨ v = 52 ∨ v = 53 ∨ v = 54 ∨ v = 55 ∨ v = 56 ∨ v = 57 ∨ v = 58 ∨ v = 59 ∨ v = 60 ∨ v = 61 ∨ v = 62 ∨ v = 63 ∨ v = 64 ∨ v = 65 ∨ v = 66 ∨ v = 21 ∨ v = 14 ∨ v = 31 ∨ v = 0 := by
  simp only [bOp, Bool.or_eq_true, Bool.and_eq_true, decide_eq_true_eq] at hb
  omega
theorem c_flt (hw : wcd c v) (hb : bOp v = true) (hL : 60 ≤ L) (h1 : ok2 v l r = true → Q (.inl (some (.int 0))) w) (h0 : ∀ x, ok2 v l r = false → ¬ x = 0 → Q (.inl (some (.int x))) w) : zw E L kt_M216 [.int (i_ c), .int l, .int r] w Q := by
  have h3 := mul_rng l r
  have h4 := i_rng l
  have h5 := i_rng r
  have fin : ∀ {p : Prop} [Decidable p] {b : Bool} {k : Int32}, (p ↔ b = true) → ¬ k = 0 → (b = true → Q (.inl (some (.int 0))) w) → (b = false → Q (.inl (some (.int k))) w) → if ¬ p then Q (.inl (some (.int k))) w else Q (.inl (some (.int 0))) w := by
    intro p _ b k hp hk g1 g0
    by_cases q : p
    · rw [if_neg (fun z => z q)]
      exact g1 (hp.mp q)
    · rw [if_pos q]
      cases b with
      | true => exact absurd (hp.mpr rfl) q
      | false => exact g0 rfl
  refine zt_X18_fault_p0 (by omega) ?_
  unfold zb_X18_fault_p0 zb_X18_fault_p127 zb_X18_fault_p140 zb_X18_fault_p118 zb_X18_fault_p124 zb_X18_fault_p107
  unfold ok2 at h1 h0
  have hc := wcd_c hw
  subst hc
  have hv := bOp_v hb
  clear hw hb
  rcases hv with e | e | e | e | e | e | e | e | e | e | e | e | e | e | e | e | e | e | e | e <;> subst e <;> simp (decide := true) only [if_true, if_false] at h1 h0 ⊢
  · first | exact h1 trivial | exact h1 rfl | exact h1
  · first | exact h1 trivial | exact h1 rfl | exact h1
  · first | exact h1 trivial | exact h1 rfl | exact h1
  · first | exact h1 trivial | exact h1 rfl | exact h1
  · first | exact h1 trivial | exact h1 rfl | exact h1
  · first | exact h1 trivial | exact h1 rfl | exact h1
  · rw [i64 l, i64 r, l_add, l_int]
    exact fin (add_rng rfl (by omega)) (by decide) h1 (fun q => h0 1 q (by decide))
  · rw [i64 l, i64 r, l_sub, l_int]
    exact fin (add_rng rfl (by omega)) (by decide) h1 (fun q => h0 1 q (by decide))
  · rw [i64 l, i64 r, l_mul, l_int]
    exact fin (add_rng rfl h3) (by decide) h1 (fun q => h0 1 q (by decide))
  · by_cases d : r = 0
    · rw [if_neg (fun z => z d)]
      exact h0 2 (by rw [decide_eq_true d] <;> rfl) (by decide)
    · rw [if_pos d]
      refine ⟨fun e => d (Int32.toInt_inj.mp ?_), ?_⟩
      · rw [← Int32.toInt_toInt64, e]
        rfl
      · by_cases d2 : l = -2147483648 ∧ r = -1
        · obtain ⟨d2, d3⟩ := d2
          subst d2 d3
          have e0 : (-2147483648 : Int32).toInt = -2147483648 := by decide
          have e2 : (-1 : Int32).toInt = -1 := by decide
          have e3 : (i_ 2147483648 : Int32).toInt = -2147483648 := by decide
          have e1 : (-2147483648 : Int32).toInt64 / (-1 : Int32).toInt64 = l_ 2147483648 := by
            apply Int64.toInt_inj.mp
            rw [Int64.toInt_div_of_ne_left _ _ (Int32.toInt64_ne_minValue _), Int32.toInt_toInt64, Int32.toInt_toInt64, l_toInt (by omega), e0, e2]
            rfl
          rw [e1, l_int, if_pos (show ¬ lg_cmp (l_ 2147483648) (i_ 2147483648).toInt64 = 0 from fun z => by
            rw [i64, e3] at z
            have := (lg_eq (by omega) (by omega)).mp z
            omega)]
          exact h0 1 (by decide) (by decide)
        · rw [w_div d2, Int32.toInt32_toInt64, if_neg (fun z => z (by rw [i64]; exact (lg_eq (by have := i_rng (l / r); omega) (by have := i_rng (l / r); omega)).mpr rfl))]
          refine h1 ?_
          rw [decide_eq_false d]
          by_cases d3 : l = -2147483648
          · rw [decide_eq_true d3, decide_eq_false (fun z => d2 ⟨d3, z⟩)] <;> rfl
          · rw [decide_eq_false d3] <;> rfl
  · by_cases d : r = 0
    · rw [if_neg (fun z => z d)]
      exact h0 2 (by rw [decide_eq_true d] <;> rfl) (by decide)
    · rw [if_pos d]
      exact h1 (by rw [decide_eq_false d] <;> rfl)
  · first | exact h1 trivial | exact h1 rfl | exact h1
  · first | exact h1 trivial | exact h1 rfl | exact h1
  · first | exact h1 trivial | exact h1 rfl | exact h1
  · by_cases d1 : r < 0
    · rw [if_pos d1]
      exact h0 8 (by rw [decide_eq_true d1] <;> rfl) (by decide)
    · rw [if_neg d1]
      by_cases d2 : r ≤ 32
      · rw [if_pos d2]
        exact h1 (by rw [decide_eq_false d1, decide_eq_false (Int32.not_lt.mpr d2)] <;> rfl)
      · rw [if_neg d2]
        exact h0 8 (by rw [decide_eq_false d1, decide_eq_true (Int32.not_le.mp d2)] <;> rfl) (by decide)
  · by_cases d1 : r < 0
    · rw [if_pos d1]
      exact h0 8 (by rw [decide_eq_true d1] <;> rfl) (by decide)
    · rw [if_neg d1]
      by_cases d2 : r ≤ 32
      · rw [if_pos d2]
        exact h1 (by rw [decide_eq_false d1, decide_eq_false (Int32.not_lt.mpr d2)] <;> rfl)
      · rw [if_neg d2]
        exact h0 8 (by rw [decide_eq_false d1, decide_eq_true (Int32.not_le.mp d2)] <;> rfl) (by decide)
  · first | exact h1 trivial | exact h1 rfl | exact h1
  · first | exact h1 trivial | exact h1 rfl | exact h1
  · first | exact h1 trivial | exact h1 rfl | exact h1
  · first | exact h1 trivial | exact h1 rfl | exact h1
theorem c_two (hw : wcd c v) (hb : bOp v = true) (hok : ok2 v l r = true) (hL : 60 ≤ L) (hq : Q (.inl (some (.int (wv2 v l r)))) w) : zw E L kt_M217 [.int (i_ c), .int l, .int r] w Q := by
  refine zt_X18_two_p0 (by omega) ?_
  unfold zb_X18_two_p0 zb_X18_two_p358 zb_X18_two_p346 zb_X18_two_p335 zb_X18_two_p324 zb_X18_two_p313 zb_X18_two_p302 zb_X18_two_p291 zb_X18_two_p280 zb_X18_two_p266 zb_X18_two_p240
  unfold wv2 at hq
  unfold ok2 at hok
  have hc := wcd_c hw
  subst hc
  have hv := bOp_v hb
  clear hw hb
  rcases hv with e | e | e | e | e | e | e | e | e | e | e | e | e | e | e | e | e | e | e | e <;> subst e <;> simp (decide := true) only [if_true, if_false] at hq hok ⊢
  · exact t_bt hq
  · exact t_bf hq
  · exact t_bf hq
  · exact t_bf hq
  · exact t_bf hq
  · exact t_bf hq
  · exact hq
  · exact hq
  · exact hq
  · simp only [Bool.and_eq_true, Bool.not_eq_true', decide_eq_false_iff_not] at hok
    exact ⟨hok.1, hq⟩
  · simp only [Bool.not_eq_true', decide_eq_false_iff_not] at hok
    by_cases d : r = -1
    · rw [if_neg (fun z => z d)]
      rw [if_pos d] at hq
      exact hq
    · rw [if_pos d]
      rw [if_neg d] at hq
      exact ⟨hok, hq⟩
  · exact hq
  · exact hq
  · exact hq
  · by_cases d : r = 32
    · rw [if_neg (fun z => z d)]
      rw [if_pos d] at hq
      exact hq
    · rw [if_pos d]
      rw [if_neg d] at hq
      exact hq
  · by_cases d : r = 32
    · rw [if_neg (fun z => z d)]
      rw [if_pos d] at hq
      exact hq
    · rw [if_pos d]
      rw [if_neg d] at hq
      exact hq
  · exact hq
  · exact hq
  · exact hq
  · exact t_bf hq
end CHO
