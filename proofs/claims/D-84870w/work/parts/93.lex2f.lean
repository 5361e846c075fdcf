/-! ===== TOKENS, part 9: MeetingHouse's signs ===== -/
def sgn2 (c d : Int) : Int :=
  if c = 47 then (if d = 92 then 58 else -1) else if c = 58 then (if d = 61 then 43 else -1)
  else if c = 60 then (if d = 62 then 48 else if d = 61 then 50 else if d = 60 then 61 else -1)
  else if c = 62 then (if d = 61 then 52 else if d = 60 then 60 else if d = 62 then 62 else -1)
  else if c = 92 then (if d = 47 then 59 else -1) else -1
def sgn1 (c : Int) : Int :=
  if c = 33 then 45 else if c = 38 then 46 else if c = 40 then 36 else if c = 41 then 37 else if c = 42 then 55 else if c = 43 then 53 else if c = 44 then 40 else if c = 45 then 54 else if c = 47 then 56 else if c = 58 then 42 else if c = 59 then 41 else if c = 60 then 49 else if c = 61 then 47 else if c = 62 then 51 else if c = 63 then 44 else if c = 91 then 38 else if c = 92 then 57 else if c = 93 then 39 else if c = 126 then 63 else -1
theorem sgn2_v {c d : Int} : sgn2 c d = -1 ∨ 36 ≤ sgn2 c d ∧ sgn2 c d ≤ 63 := by
  unfold sgn2
  repeat' split
  all_goals first | exact .inl rfl | exact .inr ⟨by decide, by decide⟩
theorem ite_P {α : Type} {P : α → Prop} {c : Prop} [Decidable c] {a b : α} (ha : P a) (hb : P b) : P (ite c a b) := by
  by_cases h : c
  · rw [if_pos h]; exact ha
  · rw [if_neg h]; exact hb
def sgn_ok (z : Int) : Prop := z = -1 ∨ 36 ≤ z ∧ z ≤ 63
theorem sgn1_v {c : Int} : sgn_ok (sgn1 c) := by
  unfold sgn1
  repeat refine ite_P (P := sgn_ok) (.inr (by decide)) ?_
  exact .inl rfl
theorem sgn2_10 {c : Int} : sgn2 c 10 = -1 := by
  unfold sgn2
  repeat' split
  all_goals first | rfl | omega
theorem ifk {c k : Int} {A B : Prop} {v : Int32} (hv : v = i_ k) (hc : (-2147483648 ≤ c ∧ c < 2147483648) ∧ -2147483648 ≤ k ∧ k < 2147483648) (h1 : c = k → A) (h2 : c ≠ k → B) : if i_ c = v then A else B := by
  rw [hv]
  by_cases h : c = k
  · rw [if_pos (by rw [h])]; exact h1 h
  · rw [if_neg (fun q => h ((i_eq hc.1 hc.2).mp q))]; exact h2 h
section LT
variable {E : zE} {L : Nat} {w : wS} {Q : kx_Rs → wS → Prop} {T : Nat → Int} {n e a p m sm : Nat} {ln : Int32}
theorem c2_two (hL : 19 ≤ L) {c d : Int} (hc : 0 ≤ c ∧ c ≤ 255) (hd : 0 ≤ d ∧ d ≤ 255) (h : Q (.inl (some (.int (i_ (sgn2 c d))))) w) : zw E L kt_M335 [.int (i_ c), .int (i_ d)] w Q := by
  refine zt_X15_two_p0 hL ?_
  simp only [zb_X15_two_p0, zb_X15_two_p64, zb_X15_two_p99, zb_X15_two_p134, zb_X15_two_p147, zb_X15_two_p160]
  simp (maxSteps := 2000000) (disch := omega) only [show ((-1) : Int32) = i_ (-1) from rfl, show (43 : Int32) = i_ 43 from rfl, show (47 : Int32) = i_ 47 from rfl, show (48 : Int32) = i_ 48 from rfl, show (50 : Int32) = i_ 50 from rfl, show (52 : Int32) = i_ 52 from rfl, show (58 : Int32) = i_ 58 from rfl, show (59 : Int32) = i_ 59 from rfl, show (60 : Int32) = i_ 60 from rfl, show (61 : Int32) = i_ 61 from rfl, show (62 : Int32) = i_ 62 from rfl, show (92 : Int32) = i_ 92 from rfl, E_eq, ite_not, i_neg]
  have h2 : (fun z : Int => Q (.inl (some (.int (i_ z)))) w) (sgn2 c d) := h
  simp only [sgn1, sgn2, apply_ite (fun z : Int => Q (.inl (some (.int (i_ z)))) w)] at h2
  exact h2
theorem c2_one (hL : 19 ≤ L) {c : Int} (hc : 0 ≤ c ∧ c ≤ 255) (h : Q (.inl (some (.int (i_ (sgn1 c))))) w) : zw E L kt_M334 [.int (i_ c)] w Q := by
  refine zt_X15_one_p0 hL ?_
  simp only [zb_X15_one_p0]
  refine ifk (k := 33) rfl (by omega) (fun e => by rw [e] at h; exact h) (fun e33 => ?_)
  refine ifk (k := 38) rfl (by omega) (fun e => by rw [e] at h; exact h) (fun e38 => ?_)
  refine ifk (k := 40) rfl (by omega) (fun e => by rw [e] at h; exact h) (fun e40 => ?_)
  refine ifk (k := 41) rfl (by omega) (fun e => by rw [e] at h; exact h) (fun e41 => ?_)
  refine ifk (k := 42) rfl (by omega) (fun e => by rw [e] at h; exact h) (fun e42 => ?_)
  refine ifk (k := 43) rfl (by omega) (fun e => by rw [e] at h; exact h) (fun e43 => ?_)
  refine ifk (k := 44) rfl (by omega) (fun e => by rw [e] at h; exact h) (fun e44 => ?_)
  refine ifk (k := 45) rfl (by omega) (fun e => by rw [e] at h; exact h) (fun e45 => ?_)
  refine ifk (k := 47) rfl (by omega) (fun e => by rw [e] at h; exact h) (fun e47 => ?_)
  refine ifk (k := 58) rfl (by omega) (fun e => by rw [e] at h; exact h) (fun e58 => ?_)
  refine ifk (k := 59) rfl (by omega) (fun e => by rw [e] at h; exact h) (fun e59 => ?_)
  refine ifk (k := 60) rfl (by omega) (fun e => by rw [e] at h; exact h) (fun e60 => ?_)
  refine ifk (k := 61) rfl (by omega) (fun e => by rw [e] at h; exact h) (fun e61 => ?_)
  refine ifk (k := 62) rfl (by omega) (fun e => by rw [e] at h; exact h) (fun e62 => ?_)
  refine ifk (k := 63) rfl (by omega) (fun e => by rw [e] at h; exact h) (fun e63 => ?_)
  refine ifk (k := 91) rfl (by omega) (fun e => by rw [e] at h; exact h) (fun e91 => ?_)
  refine ifk (k := 92) rfl (by omega) (fun e => by rw [e] at h; exact h) (fun e92 => ?_)
  refine ifk (k := 93) rfl (by omega) (fun e => by rw [e] at h; exact h) (fun e93 => ?_)
  refine ifk (k := 126) rfl (by omega) (fun e => by rw [e] at h; exact h) (fun e126 => ?_)
  have h2 : sgn1 c = -1 := by
    unfold sgn1
    rw [if_neg e33, if_neg e38, if_neg e40, if_neg e41, if_neg e42, if_neg e43, if_neg e44, if_neg e45, if_neg e47, if_neg e58, if_neg e59, if_neg e60, if_neg e61, if_neg e62, if_neg e63, if_neg e91, if_neg e92, if_neg e93, if_neg e126]
  rw [h2] at h
  exact h
/-- the sign at a place: its number and where it ends -/
def sgk (T : Nat → Int) (p : Nat) : Int × Nat := if sgn2 (T p) (T (p + 1)) = -1 then (sgn1 (T p), p + 1) else (sgn2 (T p) (T (p + 1)), p + 2)
theorem c2_sign (hA : zA E) (hL : 300 ≤ L) (hC : CT w T n) (he : e ≤ n) (ha : a + 1 ≤ e) (h10 : T e = 10) (hm : w_i w 1 0 7 = i_ m) (hm2 : m < 12000)
    (h0 : (sgk T a).1 = -1 → Q (.inl (some (.int (i_ (-1))))) w)
    (h1 : (sgk T a).1 ≠ -1 → (sgk T a).2 ≤ e → Q (.inl (some (.int (i_ (sgk T a).2)))) (tk_add w (E.1.1 5) m (i_ (sgk T a).1) 0 ln)) : zw E L kt_M247 [.ref (w_adr E.2.1 1 0), .int (i_ a), .int (i_ e), .int ln] w Q := by
  obtain ⟨⟨hn, hx10, hxr⟩, hTL, hsz, hT⟩ := hC
  have l0 := hTL.1.1
  have ra := hxr a
  have rb := hxr (a + 1)
  have s1 := @sgn1_v (T a)
  unfold sgn_ok at s1
  have s2 := @sgn2_v (T a) (T (a + 1))
  unfold sgk at h0 h1
  have hone : sgn2 (T a) (T (a + 1)) = -1 → zb_X2_sign_p40 E L Q (i_ a) ln (i_ (T a)) (i_ (-1)) w := by
    intro e2
    rw [if_pos e2] at h0 h1
    simp only [zb_X2_sign_p40]
    rw [if_pos (by rfl)]
    refine c2_one (by omega) ra ?_
    intro _
    simp only [zb_X2_sign_p58, zb_X2_sign_p94]
    by_cases e1 : sgn1 (T a) = -1
    · rw [e1]
      exact h0 e1
    · simp (disch := omega) only [E_lt, E_le, E_eq, E_nat, E_inb, i_add, i_sub, i_neg, cN1, cN2, cNn, Int.toNat_natCast, if_pos, if_neg, true_and, and_true, show ((-1) : Int32) = i_ (-1) from rfl, show (0 : Int32) = i_ 0 from rfl, show (1 : Int32) = i_ 1 from rfl, show (2 : Int32) = i_ 2 from rfl, show (5 : Int32) = i_ 5 from rfl, show (20 : Int32) = i_ 20 from rfl, show (21 : Int32) = i_ 21 from rfl, show (24 : Int32) = i_ 24 from rfl, ite_not]
      refine c2_tk hA (by omega) (by decide) hTL hm hm2 ?_
      intro _
      exact h1 e1 (by omega)
  refine zt_X2_sign_p0 (by omega) ?_
  simp only [zb_X2_sign_p0]
  by_cases hee : e ≤ a + 1
  · simp (disch := omega) only [E_lt, E_le, E_eq, E_nat, E_inb, i_add, i_sub, i_neg, cN1, cN2, cNn, Int.toNat_natCast, if_pos, if_neg, true_and, and_true, show ((-1) : Int32) = i_ (-1) from rfl, show (0 : Int32) = i_ 0 from rfl, show (1 : Int32) = i_ 1 from rfl, show (2 : Int32) = i_ 2 from rfl, show (5 : Int32) = i_ 5 from rfl, show (20 : Int32) = i_ 20 from rfl, show (21 : Int32) = i_ 21 from rfl, show (24 : Int32) = i_ 24 from rfl, l0, hT a (by omega)]
    rw [sb_and' ra]
    exact hone (by rw [show a + 1 = e by omega, h10]; exact sgn2_10)
  · simp (disch := omega) only [E_lt, E_le, E_eq, E_nat, E_inb, i_add, i_sub, i_neg, cN1, cN2, cNn, Int.toNat_natCast, if_pos, if_neg, true_and, and_true, show ((-1) : Int32) = i_ (-1) from rfl, show (0 : Int32) = i_ 0 from rfl, show (1 : Int32) = i_ 1 from rfl, show (2 : Int32) = i_ 2 from rfl, show (5 : Int32) = i_ 5 from rfl, show (20 : Int32) = i_ 20 from rfl, show (21 : Int32) = i_ 21 from rfl, show (24 : Int32) = i_ 24 from rfl, l0, hT a (by omega), hT (a + 1) (by omega)]
    rw [sb_and' ra, sb_and' rb]
    refine c2_two (by omega) ra rb ?_
    intro _
    by_cases e2 : sgn2 (T a) (T (a + 1)) = -1
    · rw [e2]
      exact hone e2
    · rw [if_neg e2] at h0 h1
      simp only [zb_X2_sign_p40, zb_X2_sign_p58, zb_X2_sign_p94]
      simp (disch := omega) only [E_lt, E_le, E_eq, E_nat, E_inb, i_add, i_sub, i_neg, cN1, cN2, cNn, Int.toNat_natCast, if_pos, if_neg, true_and, and_true, show ((-1) : Int32) = i_ (-1) from rfl, show (0 : Int32) = i_ 0 from rfl, show (1 : Int32) = i_ 1 from rfl, show (2 : Int32) = i_ 2 from rfl, show (5 : Int32) = i_ 5 from rfl, show (20 : Int32) = i_ 20 from rfl, show (21 : Int32) = i_ 21 from rfl, show (24 : Int32) = i_ 24 from rfl, ite_not]
      refine c2_tk hA (by omega) (by decide) hTL hm hm2 ?_
      intro _
      exact h1 e2 (by omega)
end LT
