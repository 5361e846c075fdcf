/-! ===== TOKENS, part 6: MeetingHouse's numbers ===== -/
def l_ (z : Int) : Int64 := Int64.ofInt z
theorem l_toInt {z : Int} (h : -9223372036854775808 ≤ z ∧ z < 9223372036854775808) : (l_ z).toInt = z := by
  unfold l_
  rw [Int64.toInt_ofInt, Int.bmod_eq_of_le (by simp [Int64.size]; omega) (by simp [Int64.size]; omega)]
theorem l_add (a b : Int) : l_ a + l_ b = l_ (a + b) := (Int64.ofInt_add a b).symm
theorem l_sub (a b : Int) : l_ a - l_ b = l_ (a - b) := (Int64.ofInt_sub a b).symm
theorem l_mul (a b : Int) : l_ a * l_ b = l_ (a * b) := (Int64.ofInt_mul a b).symm
theorem i_long {a : Int} (h : -2147483648 ≤ a ∧ a < 2147483648) : (i_ a).toInt64 = l_ a := by
  apply Int64.toInt_inj.mp
  rw [Int32.toInt_toInt64, i_toInt h, l_toInt (by omega)]
theorem l_int {a : Int} : (l_ a).toInt32 = i_ a := by
  unfold l_ i_
  exact Int64.toInt32_ofInt
theorem l_cmp {a b : Int} (ha : -9223372036854775808 ≤ a ∧ a < 9223372036854775808) (hb : -9223372036854775808 ≤ b ∧ b < 9223372036854775808) : (0 < lg_cmp (l_ a) (l_ b)) ↔ b < a := by
  unfold lg_cmp
  have h1 : (l_ a < l_ b) ↔ a < b := by rw [Int64.lt_iff_toInt_lt, l_toInt ha, l_toInt hb]
  have h2 : (l_ b < l_ a) ↔ b < a := by rw [Int64.lt_iff_toInt_lt, l_toInt ha, l_toInt hb]
  have h3 : (l_ a = l_ b) ↔ a = b := by rw [← Int64.toInt_inj, l_toInt ha, l_toInt hb]
  simp only [h1, h2, h3]
  repeat' split
  all_goals first
    | (constructor <;> intro h <;> first | omega | (exact absurd h (by decide)) | decide)
/-- the value of digits -/
def dvl (T : Nat → Int) (a : Nat) : Nat → Int
  | 0 => 0
  | k + 1 => 10 * dvl T a k + T (a + k) - 48
theorem dvl_rng {T : Nat → Int} {a : Nat} : ∀ {k : Nat}, (∀ j, j < k → isD (T (a + j)) = true) → 0 ≤ dvl T a k ∧ dvl T a k < ((10 ^ k : Nat) : Int)
  | 0, _ => by simp [dvl]
  | k + 1, h => by
    have ih := dvl_rng (T := T) (a := a) (k := k) (fun j hj => h j (by omega))
    have hd := h k (by omega)
    unfold isD at hd
    rw [Bool.and_eq_true, decide_eq_true_eq, decide_eq_true_eq] at hd
    unfold dvl
    rw [Nat.pow_succ]
    omega
theorem isD_asc {c : Int} (h : isD c = true) : 48 ≤ c ∧ c ≤ 57 := by
  unfold isD at h
  simp only [Bool.and_eq_true, decide_eq_true_eq] at h
  exact h
theorem isH_asc {c : Int} (h : isH c = true) : 48 ≤ c ∧ c ≤ 70 := by
  unfold isH isD at h
  simp only [Bool.or_eq_true, Bool.and_eq_true, decide_eq_true_eq] at h
  omega
def hx (c : Int) : Int := if isD c = true then c - 48 else c - 55
/-- the value of hexadecimal digits -/
def hvl (T : Nat → Int) (a : Nat) : Nat → Int32
  | 0 => 0
  | k + 1 => (hvl T a k <<< (4 &&& 31)) ||| i_ (hx (T (a + k)))
section LZ
variable {E : zE} {L : Nat} {w : wS} {Q : kx_Rs → wS → Prop} {T : Nat → Int} {n e a m : Nat} {ln : Int32}
theorem c2_number (hA : zA E) (hL : 300 ≤ L) (hC : CT w T n) (he : e ≤ n) (ha : a ≤ e) (h10 : T e = 10) (hm : w_i w 1 0 7 = i_ m) (hm2 : m < 12000)
    (h0 : (10 < nd isD T n a - a ∨ 2147483647 < dvl T a (nd isD T n a - a) ∨ isN (T (nd isD T n a)) = true) → Q (.inl (some (.int (i_ (-1))))) w)
    (h1 : ¬ (10 < nd isD T n a - a ∨ 2147483647 < dvl T a (nd isD T n a - a) ∨ isN (T (nd isD T n a)) = true) → Q (.inl (some (.int (i_ (nd isD T n a))))) (tk_add w (E.1.1 2) m (i_ (dvl T a (nd isD T n a - a))) 0 ln)) : zw E L kt_M245 [.ref (w_adr E.2.1 1 0), .int (i_ a), .int (i_ e), .int ln] w Q := by
  obtain ⟨⟨hn, hx10, hxr⟩, hTL, hsz, hT⟩ := hC
  have l0 := hTL.1.1
  have hble : nd isD T n a ≤ e := nd_le_e isD_10 h10 he rfl ha
  have hage : a ≤ nd isD T n a := nd_ge rfl
  have hdig : ∀ k, a + k ≤ nd isD T n a → 0 ≤ dvl T a k ∧ dvl T a k < ((10 ^ k : Nat) : Int) := fun k hk => dvl_rng (fun j hj => nd_in (p := isD) (T := T) (n := n) (a := a) rfl (a + j) (by omega) (by omega))
  have h11 : ∀ k, a + k ≤ nd isD T n a → k ≤ 11 → 0 ≤ dvl T a k ∧ dvl T a k < 100000000000 := fun k hk hk2 => by
    have := hdig k hk
    have h3 : 10 ^ k ≤ 10 ^ 11 := Nat.pow_le_pow_right (by decide) hk2
    have h4 : 10 ^ 11 = 100000000000 := by decide
    omega
  have hend : ∀ k, a + k ≤ nd isD T n a → k ≤ 11 → (k = 11 ∨ a + k = nd isD T n a) → zb_X2_number_p61 E L Q (i_ a) (i_ e) ln (i_ (a + k : Nat)) (l_ (dvl T a k)) w := by
    intro k hk hk2 hk3
    have hv := h11 k hk hk2
    simp only [zb_X2_number_p61, i_sub, show ((a + k : Nat) : Int) - (a : Int) = (k : Int) by omega]
    rw [show (10 : Int32) = i_ 10 from rfl, show (2147483647 : Int64) = l_ 2147483647 from rfl]
    by_cases hk10 : 10 < k
    · rw [if_pos ((i_lt (by omega) (by omega)).mpr (by omega))]
      exact h0 (.inl (by omega))
    · have hkb : a + k = nd isD T n a := by omega
      have hkb2 : nd isD T n a - a = k := by omega
      rw [hkb2] at h0 h1
      rw [if_neg (fun q => hk10 (by have := (i_lt (by omega) (by omega)).mp q; omega))]
      by_cases hbig : 2147483647 < dvl T a k
      · rw [if_pos ((l_cmp (by omega) (by omega)).mpr hbig)]
        exact h0 (.inr (.inl hbig))
      · rw [if_neg (fun q => hbig ((l_cmp (by omega) (by omega)).mp q))]
        have hgood : isN (T (a + k)) = false → zb_X2_number_p104 E L Q ln (i_ (a + k : Nat)) (l_ (dvl T a k)) w := by
          intro hN
          simp only [zb_X2_number_p104, l_int]
          refine c2_tk hA (by omega) (by decide) hTL hm hm2 ?_
          intro _
          rw [hkb] at hN ⊢
          exact h1 (fun q => by
            rcases q with q | q | q
            · omega
            · exact hbig q
            · rw [hN] at q; cases q)
        by_cases hee : e ≤ a + k
        · rw [if_pos ((i_le (by omega) (by omega)).mpr (by omega))]
          refine hgood ?_
          rw [show a + k = e by omega, h10]
          exact isN_10
        · rw [if_neg (fun q => hee (by have := (i_le (by omega) (by omega)).mp q; omega))]
          refine ⟨i_inb' (by omega) (by omega), ?_⟩
          rw [i_nat' (show a + k < 2147483648 by omega), hT (a + k) (by omega), sb_and' (hxr (a + k))]
          refine c2_isNamed (by omega) ?_
          intro _
          have := hxr (a + k)
          rw [i_toInt (by omega)]
          cases hN : isN (T (a + k)) with
          | true =>
            rw [if_neg (by decide)]
            rw [hkb] at hN
            exact h0 (.inr (.inr hN))
          | false =>
            rw [if_pos (by decide)]
            exact hgood hN
  refine zt_X2_number_p0 (by omega) ?_
  simp only [zb_X2_number_p0]
  have loop : ∀ d k, k + d = 11 → a + k ≤ nd isD T n a → zL_X2_number_p6 E L Q (i_ a) (i_ e) ln (i_ (a + k : Nat)) (l_ (dvl T a k)) w := by
    intro d
    induction d with
    | zero =>
      intro k hk hkb
      refine zt_X2_number_p6 (by omega) ?_
      simp only [zb_X2_number_p6, i_sub, show ((a + k : Nat) : Int) - (a : Int) = (k : Int) by omega]
      by_cases hee : e ≤ a + k
      · rw [if_pos ((i_le (by omega) (by omega)).mpr (by omega))]
        exact hend k hkb (by omega) (by omega)
      · rw [if_neg (fun q => hee (by have := (i_le (by omega) (by omega)).mp q; omega))]
        refine ⟨i_inb' (by omega) (by omega), ?_⟩
        rw [i_nat' (show a + k < 2147483648 by omega), hT (a + k) (by omega)]
        refine c2_isDigit (by omega) ?_
        intro _
        split
        · exact hend k hkb (by omega) (by omega)
        · rw [if_pos (by rw [show (11 : Int32) = i_ 11 from rfl]; exact (i_le (by omega) (by omega)).mpr (by omega))]
          exact hend k hkb (by omega) (by omega)
    | succ d ih =>
      intro k hk hkb
      refine zt_X2_number_p6 (by omega) ?_
      simp only [zb_X2_number_p6, i_sub, show ((a + k : Nat) : Int) - (a : Int) = (k : Int) by omega]
      by_cases hee : e ≤ a + k
      · rw [if_pos ((i_le (by omega) (by omega)).mpr (by omega))]
        exact hend k hkb (by omega) (by omega)
      · rw [if_neg (fun q => hee (by have := (i_le (by omega) (by omega)).mp q; omega))]
        refine ⟨i_inb' (by omega) (by omega), ?_⟩
        rw [i_nat' (show a + k < 2147483648 by omega), hT (a + k) (by omega)]
        refine c2_isDigit (by omega) ?_
        intro _
        have hr := hxr (a + k)
        have hsb := sb_rng hr
        rw [i_toInt (by omega), sb_D hr]
        by_cases hb : a + k = nd isD T n a
        · have hstop : isD (T (a + k)) = false := by
            rw [hb]
            exact nd_at (fun q hq => by rw [hx10 q hq]; exact isD_10) rfl
          rw [hstop, if_pos (by decide)]
          exact hend k hkb (by omega) (.inr hb)
        · have hin := nd_in (p := isD) (T := T) (n := n) (a := a) rfl (a + k) (by omega) (by omega)
          have hda := isD_asc hin
          rw [hin, if_neg (by decide), if_neg (by rw [show (11 : Int32) = i_ 11 from rfl]; intro q; have := (i_le (by omega) (by omega)).mp q; omega)]
          refine ⟨i_inb' (by omega) (by omega), ?_⟩
          have hsbe : sb (T (a + k)) = T (a + k) := by
            unfold sb
            rw [if_pos (by omega)]
          rw [hT (a + k) (by omega), hsbe, i_long (by omega), show (10 : Int64) = l_ 10 from rfl, show (48 : Int64) = l_ 48 from rfl, l_mul, l_add, l_sub, i_1, i_add, show ((a + k : Nat) : Int) + 1 = ((a + (k + 1) : Nat) : Int) by omega]
          exact ih (k + 1) (by omega) (by omega)
  exact loop 11 0 (by omega) (by omega)
theorem c2_sixteen (hL : 60 ≤ L) {x : Int32} (h : Q (.inl (some (.int (if isH x.toInt = true then i_ (hx x.toInt) else i_ (-1))))) w) : zw E L kt_M248 [.int x] w Q := by
  refine zt_X2_sixteen_p0 (by omega) ?_
  simp only [zb_X2_sixteen_p0, zb_X2_sixteen_p36, zb_X2_sixteen_p37]
  refine c2_isDigit (by omega) ?_
  intro _
  have hx2 := i_of x
  have hr := i_rng x
  cases hd : isD x.toInt with
  | true =>
    rw [if_neg (by decide)]
    have h3 : isH x.toInt = true := by unfold isH; rw [hd]; rfl
    rw [h3, if_pos rfl] at h
    unfold hx at h
    rw [hd, if_pos rfl] at h
    rw [hx2, show (48 : Int32) = i_ 48 from rfl, i_sub]
    exact h
  | false =>
    rw [if_pos (by decide)]
    simp only [Int32.lt_iff_toInt_lt, show ((-1) : Int32).toInt = (-1) from rfl, show (0 : Int32).toInt = 0 from rfl, show (10 : Int32).toInt = 10 from rfl, show (20 : Int32).toInt = 20 from rfl, show (48 : Int32).toInt = 48 from rfl, show (65 : Int32).toInt = 65 from rfl, show (70 : Int32).toInt = 70 from rfl]
    by_cases h1 : x.toInt < 65
    · rw [if_pos h1]
      rw [show isH x.toInt = false by unfold isH; rw [hd]; simp; omega] at h
      exact h
    · rw [if_neg h1]
      by_cases h2 : 70 < x.toInt
      · rw [if_pos h2]
        rw [show isH x.toInt = false by unfold isH; rw [hd]; simp; omega] at h
        exact h
      · rw [if_neg h2]
        rw [show isH x.toInt = true by unfold isH; rw [hd]; simp; omega, if_pos rfl] at h
        unfold hx at h
        rw [hd, if_neg (by decide)] at h
        rw [hx2, show (65 : Int32) = i_ 65 from rfl, show (10 : Int32) = i_ 10 from rfl, i_sub, i_add, show x.toInt - 65 + 10 = x.toInt - 55 by omega]
        exact h
end LZ
