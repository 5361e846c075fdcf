/-! ===== TYPES, part 3: the twin: operations ===== -/
section OPS
variable {l r x : Int32} {v : Int} {L : Nat} {E' : zE} {Q : kx_Rs → wS → Prop} {t : wS}
theorem i64 (x : Int32) : x.toInt64 = l_ x.toInt := by
  have h := i_long (i_rng x)
  rwa [← i_of] at h
theorem lg_eq {a b : Int} (ha : -9223372036854775808 ≤ a ∧ a < 9223372036854775808) (hb : -9223372036854775808 ≤ b ∧ b < 9223372036854775808) : lg_cmp (l_ a) (l_ b) = 0 ↔ a = b := by
  unfold lg_cmp
  have h1 : (l_ a < l_ b) ↔ a < b := by rw [Int64.lt_iff_toInt_lt, l_toInt ha, l_toInt hb]
  have h2 : (l_ b < l_ a) ↔ b < a := by rw [Int64.lt_iff_toInt_lt, l_toInt ha, l_toInt hb]
  have h3 : (l_ a = l_ b) ↔ a = b := by rw [← Int64.toInt_inj, l_toInt ha, l_toInt hb]
  simp only [h1, h2, h3]
  repeat' split
  all_goals first
    | (constructor <;> intro h <;> first | omega | (exact absurd h (by decide)) | rfl | decide)
theorem l_neg (a : Int) : -(l_ a) = l_ (-a) := (Int64.ofInt_neg a).symm
theorem w_div (h : ¬ (l = -2147483648 ∧ r = -1)) : l.toInt64 / r.toInt64 = (l / r).toInt64 := by
  by_cases c : r = -1
  · exact (Int32.toInt64_div_of_ne_left l r (fun e => h ⟨e.trans (by decide), c⟩)).symm
  · exact (Int32.toInt64_div_of_ne_right l r c).symm
theorem w_rem : (l.toInt64 - l.toInt64 / r.toInt64 * r.toInt64).toInt32 = if r = -1 then 0 else l - l / r * r := by
  by_cases c : r = -1
  · rw [if_pos c, c]
    have h1 := i_rng l
    have e0 : (-1 : Int32).toInt = -1 := by decide
    have e1 : (-1 : Int32).toInt64 = l_ (-1) := (i64 (-1)).trans (by rw [e0])
    have e : l.toInt64 / (-1 : Int32).toInt64 = l_ (-l.toInt) := by
      apply Int64.toInt_inj.mp
      rw [Int64.toInt_div_of_ne_left _ _ l.toInt64_ne_minValue, Int32.toInt_toInt64, Int32.toInt_toInt64, l_toInt (by omega)]
      rw [e0, Int.tdiv_neg, Int.tdiv_one]
    rw [e, e1, i64 l, l_mul, l_sub, l_int, show l.toInt - -l.toInt * -1 = 0 by omega]
    rfl
  · rw [if_neg c, ← Int32.toInt64_div_of_ne_right l r c, i64 l, i64 r, i64 (l / r), l_mul, l_sub, l_int, ← i_sub, ← i_mul, ← i_of, ← i_of, ← i_of]
theorem inr_t {z : Int} (h : inr32 z = true) : -2147483648 ≤ z ∧ z < 2147483648 := by
  simpa only [inr32, Bool.and_eq_true, decide_eq_true_eq] using h
theorem inr_f {z : Int} (h : -2147483648 ≤ z ∧ z < 2147483648) : inr32 z = true := by
  simpa only [inr32, Bool.and_eq_true, decide_eq_true_eq] using h
/-- a long that is an int -/
theorem t_exact {z : Int} (hz : -2147483648 ≤ z ∧ z < 2147483648) (hL : 40 ≤ L) (hq : Q (.inl (some (.int (i_ z)))) t) : zw E' L kt_M406 [.ref (w_adr E'.2.1 12 0), .long (l_ z)] t Q := by
  refine zt_X13_exact_p0 (by omega) ?_
  simp only [zb_X13_exact_p0, l_int, i_long hz]
  rw [if_pos ((lg_eq (by omega) (by omega)).mpr rfl)]
  exact hq
theorem t_bt {p : Prop} [Decidable p] (hq : Q (.inl (some (.int (bI (decide p))))) t) : if ¬ p then Q (.inl (some (.int 0))) t else Q (.inl (some (.int 1))) t := by
  by_cases c : p
  · rw [if_neg (fun z => z c)]
    rw [decide_eq_true c] at hq
    exact hq
  · rw [if_pos c]
    rw [decide_eq_false c] at hq
    exact hq
theorem t_bf {p : Prop} [Decidable p] (hq : Q (.inl (some (.int (bI (!decide p))))) t) : if p then Q (.inl (some (.int 0))) t else Q (.inl (some (.int 1))) t := by
  by_cases c : p
  · rw [if_pos c]
    rw [decide_eq_true c] at hq
    exact hq
  · rw [if_neg c]
    rw [decide_eq_false c] at hq
    exact hq
theorem add_rng {z : Int} {y : Int32} (h : y = i_ z) (hz : -9223372036854775808 ≤ z ∧ z < 9223372036854775808) : lg_cmp (l_ z) y.toInt64 = 0 ↔ inr32 z = true := by
  have h1 := i_rng y
  rw [i64 y, lg_eq hz (by omega)]
  constructor
  · intro e
    exact inr_f (by omega)
  · intro e
    rw [h, i_toInt (inr_t e)]
theorem mul_rng (a b : Int32) : -9223372036854775808 ≤ a.toInt * b.toInt ∧ a.toInt * b.toInt < 9223372036854775808 := by
  have h1 := i_rng a
  have h2 := i_rng b
  have h3 : (a.toInt * b.toInt).natAbs ≤ 2147483648 * 2147483648 := by
    rw [Int.natAbs_mul]
    exact Nat.mul_le_mul (by omega) (by omega)
  omega
/-- whether an operation has a value -/
theorem t_isw (hb : bOp v = true) (hL : 40 ≤ L) (hq : Q (.inl (some (.int (bI (ok2 v l r))))) t) : zw E' L kt_M450 [.int (i_ v), .int l, .int r] t Q := by
  have ev : ∀ k : Int, -1000 ≤ k → k ≤ 1000 → ((i_ v : Int32) = i_ k) = (v = k) := fun k h1 h2 => i_eqk (bOp_r hb) h1 h2
  have h1 := i_rng l
  have h2 := i_rng r
  have h3 := mul_rng l r
  have fin : ∀ {p : Prop} [Decidable p] {b : Bool}, (p ↔ b = true) → Q (.inl (some (.int (bI b)))) t → if ¬ p then ((0 : Int32) = 0 ∨ (0 : Int32) = 1) ∧ Q (.inl (some (.int 0))) t else ((1 : Int32) = 0 ∨ (1 : Int32) = 1) ∧ Q (.inl (some (.int 1))) t := by
    intro p _ b hp hq
    by_cases c : p
    · rw [if_neg (fun z => z c)]
      rw [hp.mp c] at hq
      exact ⟨by decide, hq⟩
    · rw [if_pos c]
      cases b with
      | true => exact absurd (hp.mpr rfl) c
      | false => exact ⟨by decide, hq⟩
  refine zt_X13_isWorked_p0 (by omega) ?_
  unfold zb_X13_isWorked_p0 zb_X13_isWorked_p159 zb_X13_isWorked_p133 zb_X13_isWorked_p129 zb_X13_isWorked_p160 zb_X13_isWorked_p144 zb_X13_isWorked_p134 zb_X13_isWorked_p112 zb_X13_isWorked_p93 zb_X13_isWorked_p74
  unfold ok2 at hq
  by_cases c57 : v = 57
  · subst c57
    rw [if_pos rfl] at hq
    rw [if_pos (show (i_ 57 : Int32) = 57 from rfl)]
    rw [i64 l, i64 r, l_add]
    exact fin (add_rng (by rw [← i_add, ← i_of, ← i_of]) (by omega)) hq
  rw [if_neg c57] at hq
  rw [if_neg (show ¬ (i_ v : Int32) = 57 from fun e => c57 ((ev 57 (by decide) (by decide)).mp e))]
  by_cases c58 : v = 58
  · subst c58
    rw [if_pos rfl] at hq
    rw [if_pos (show (i_ 58 : Int32) = 58 from rfl)]
    rw [i64 l, i64 r, l_sub]
    exact fin (add_rng (by rw [← i_sub, ← i_of, ← i_of]) (by omega)) hq
  rw [if_neg c58] at hq
  rw [if_neg (show ¬ (i_ v : Int32) = 58 from fun e => c58 ((ev 58 (by decide) (by decide)).mp e))]
  by_cases c59 : v = 59
  · subst c59
    rw [if_pos rfl] at hq
    rw [if_pos (show (i_ 59 : Int32) = 59 from rfl)]
    rw [i64 l, i64 r, l_mul]
    exact fin (add_rng (by rw [← i_mul, ← i_of, ← i_of]) h3) hq
  rw [if_neg c59] at hq
  rw [if_neg (show ¬ (i_ v : Int32) = 59 from fun e => c59 ((ev 59 (by decide) (by decide)).mp e))]
  by_cases c60 : v = 60
  · subst c60
    rw [if_pos rfl] at hq
    rw [if_pos (show (i_ 60 : Int32) = 60 from rfl)]
    by_cases d1 : r = 0
    · rw [if_pos d1]
      rw [decide_eq_true d1] at hq
      exact ⟨by decide, hq⟩
    · rw [if_neg d1]
      rw [decide_eq_false d1] at hq
      by_cases d2 : l = -2147483648
      · rw [if_neg (fun z => z d2)]
        rw [decide_eq_true d2] at hq
        by_cases d3 : r = -1
        · rw [if_pos d3]
          rw [decide_eq_true d3] at hq
          exact ⟨by decide, hq⟩
        · rw [if_neg d3]
          rw [decide_eq_false d3] at hq
          exact ⟨by decide, hq⟩
      · rw [if_pos d2]
        rw [decide_eq_false d2] at hq
        exact ⟨by decide, hq⟩
  rw [if_neg c60] at hq
  rw [if_neg (show ¬ (i_ v : Int32) = 60 from fun e => c60 ((ev 60 (by decide) (by decide)).mp e))]
  by_cases c61 : v = 61
  · subst c61
    rw [if_pos rfl] at hq
    rw [if_pos (show (i_ 61 : Int32) = 61 from rfl)]
    by_cases d1 : r = 0
    · rw [if_pos d1]
      rw [decide_eq_true d1] at hq
      exact ⟨by decide, hq⟩
    · rw [if_neg d1]
      rw [decide_eq_false d1] at hq
      exact ⟨by decide, hq⟩
  rw [if_neg c61] at hq
  rw [if_neg (show ¬ (i_ v : Int32) = 61 from fun e => c61 ((ev 61 (by decide) (by decide)).mp e))]
  have sh : Q (.inl (some (.int (bI (!decide (r < 0) && !decide (32 < r)))))) t → if r < 0 then ((0 : Int32) = 0 ∨ (0 : Int32) = 1) ∧ Q (.inl (some (.int 0))) t else if 32 < r then ((0 : Int32) = 0 ∨ (0 : Int32) = 1) ∧ Q (.inl (some (.int 0))) t else ((1 : Int32) = 0 ∨ (1 : Int32) = 1) ∧ Q (.inl (some (.int 1))) t := fun hq => by
    by_cases d1 : r < 0
    · rw [if_pos d1]
      rw [decide_eq_true d1] at hq
      exact ⟨by decide, hq⟩
    · rw [if_neg d1]
      rw [decide_eq_false d1] at hq
      by_cases d2 : 32 < r
      · rw [if_pos d2]
        rw [decide_eq_true d2] at hq
        exact ⟨by decide, hq⟩
      · rw [if_neg d2]
        rw [decide_eq_false d2] at hq
        exact ⟨by decide, hq⟩
  by_cases c65 : v = 65
  · subst c65
    rw [if_pos (show (65 : Int) = 65 ∨ (65 : Int) = 66 from .inl rfl)] at hq
    rw [if_pos (show (i_ 65 : Int32) = 65 from rfl)]
    exact sh hq
  rw [if_neg (show ¬ (i_ v : Int32) = 65 from fun e => c65 ((ev 65 (by decide) (by decide)).mp e))]
  by_cases c66 : v = 66
  · subst c66
    rw [if_pos (show (66 : Int) = 65 ∨ (66 : Int) = 66 from .inr rfl)] at hq
    rw [if_pos (show (i_ 66 : Int32) = 66 from rfl)]
    exact sh hq
  rw [if_neg (show ¬ (i_ v : Int32) = 66 from fun e => c66 ((ev 66 (by decide) (by decide)).mp e))]
  rw [if_neg (fun e => e.elim c65 c66)] at hq
  exact hq
/-- its value -/
theorem t_work (hb : bOp v = true) (hok : ok2 v l r = true) (hL : 100 ≤ L) (hq : Q (.inl (some (.int (wv2 v l r)))) t) : zw E' L kt_M605 [.ref (w_adr E'.2.1 12 0), .int (i_ v), .int l, .int r] t Q := by
  have hv : v = 51 ∨ v = 52 ∨ v = 53 ∨ v = 54 ∨ v = 55 ∨ v = 56 ∨ v = 57 ∨ v = 58 ∨ v = 59 ∨ v = 60 ∨ v = 61 ∨ v = 62 ∨ v = 63 ∨ v = 64 ∨ v = 65 ∨ v = 66 ∨ v = 21 ∨ v = 14 ∨ v = 31 ∨ v = 0 := by
    simp only [bOp, Bool.or_eq_true, Bool.and_eq_true, decide_eq_true_eq] at hb
    omega
  clear hb
  refine zt_X13_worked_p0 (by omega) ?_
  unfold zb_X13_worked_p0 zb_X13_worked_p439 zb_X13_worked_p427 zb_X13_worked_p416 zb_X13_worked_p405 zb_X13_worked_p394 zb_X13_worked_p383 zb_X13_worked_p372 zb_X13_worked_p361 zb_X13_worked_p329
  unfold wv2 at hq
  unfold ok2 at hok
  rcases hv with e | e | e | e | e | e | e | e | e | e | e | e | e | e | e | e | e | e | e | e <;> subst e <;> simp (decide := true) only [if_true, if_false] at hq hok ⊢
  · exact t_bt hq
  · exact t_bf hq
  · exact t_bf hq
  · exact t_bf hq
  · exact t_bf hq
  · exact t_bf hq
  · rw [i64 l, i64 r, l_add]
    refine t_exact (inr_t hok) (by omega) (fun _ => ?_)
    rw [← i_add, ← i_of, ← i_of]
    exact hq
  · rw [i64 l, i64 r, l_sub]
    refine t_exact (inr_t hok) (by omega) (fun _ => ?_)
    rw [← i_sub, ← i_of, ← i_of]
    exact hq
  · rw [i64 l, i64 r, l_mul]
    refine t_exact (inr_t hok) (by omega) (fun _ => ?_)
    rw [← i_mul, ← i_of, ← i_of]
    exact hq
  · simp only [Bool.and_eq_true, Bool.not_eq_true', decide_eq_false_iff_not, Bool.and_eq_false_iff] at hok
    rw [if_pos hok.1]
    refine ⟨fun e => hok.1 (Int32.toInt_inj.mp ?_), ?_⟩
    · rw [← Int32.toInt_toInt64, e]
      rfl
    · rw [w_div (fun e => hok.2.elim (fun h => h e.1) (fun h => h e.2)), i64]
      refine t_exact (i_rng _) (by omega) (fun _ => ?_)
      rw [← i_of]
      exact hq
  · simp only [Bool.not_eq_true', decide_eq_false_iff_not] at hok
    rw [if_pos hok]
    refine ⟨fun e => hok (Int32.toInt_inj.mp ?_), ?_⟩
    · rw [← Int32.toInt_toInt64, e]
      rfl
    · rw [w_rem]
      exact hq
  · exact hq
  · exact hq
  · exact hq
  · simp only [Bool.and_eq_true, Bool.not_eq_true', decide_eq_false_iff_not] at hok
    rw [if_neg hok.1, if_pos (Int32.not_lt.mp hok.2)]
    by_cases d : r = 32
    · rw [if_neg (fun z => z d)]
      rw [if_pos d] at hq
      exact hq
    · rw [if_pos d]
      rw [if_neg d] at hq
      exact hq
  · simp only [Bool.and_eq_true, Bool.not_eq_true', decide_eq_false_iff_not] at hok
    rw [if_neg hok.1, if_pos (Int32.not_lt.mp hok.2)]
    by_cases d : r = 32
    · rw [if_neg (fun z => z d)]
      rw [if_pos d] at hq
      exact hq
    · rw [if_pos d]
      rw [if_neg d] at hq
      exact hq
  · exact hq
  · exact hq
  · exact hq
  · exact t_bf hq
theorem t_sing (hb : bUn v = true) (h27 : v ≠ 27) (hok : ¬ (v = 58 ∧ x = -2147483648)) (hL : 100 ≤ L) (hq : Q (.inl (some (.int (wv1 v x)))) t) : zw E' L kt_M536 [.ref (w_adr E'.2.1 12 0), .int (i_ v), .int x] t Q := by
  have hv : v = 58 ∨ v = 67 ∨ v = 17 ∨ v = 14 := by
    simp only [bUn, Bool.or_eq_true, decide_eq_true_eq] at hb
    omega
  clear hb
  refine zt_X13_single_p0 (by omega) ?_
  unfold zb_X13_single_p0
  unfold wv1 at hq
  rcases hv with e | e | e | e <;> subst e <;> simp (decide := true) only [if_true, if_false] at hq ⊢
  · have h1 := i_rng x
    have h2 : x.toInt ≠ -2147483648 := fun e => hok ⟨rfl, by rw [i_of x, e]; rfl⟩
    rw [i64 x, l_neg]
    refine t_exact (by omega) (by omega) (fun _ => ?_)
    rw [← i_neg, ← i_of]
    exact hq
  · exact hq
  · exact hq
  · exact hq
end OPS
