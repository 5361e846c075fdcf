/-! ===== NUMBERS ===== -/
/-- an int, written as an integer -/
def i_ (z : Int) : Int32 := Int32.ofInt z
theorem i_toInt {z : Int} (h : -2147483648 ≤ z ∧ z < 2147483648) : (i_ z).toInt = z := by
  unfold i_
  rw [Int32.toInt_ofInt, Int.bmod_eq_of_le (by simp [Int32.size]; omega) (by simp [Int32.size]; omega)]
theorem i_of (x : Int32) : x = i_ x.toInt := by
  unfold i_
  rw [Int32.ofInt_toInt]
theorem i_rng (x : Int32) : -2147483648 ≤ x.toInt ∧ x.toInt < 2147483648 := ⟨by have := x.le_toInt; simpa using this, by have := x.toInt_lt; simpa using this⟩
theorem i_add (a b : Int) : i_ a + i_ b = i_ (a + b) := (Int32.ofInt_add a b).symm
theorem i_sub (a b : Int) : i_ a - i_ b = i_ (a - b) := (Int32.ofInt_sub a b).symm
theorem i_mul (a b : Int) : i_ a * i_ b = i_ (a * b) := (Int32.ofInt_mul a b).symm
theorem i_neg (a : Int) : -(i_ a) = i_ (-a) := (Int32.ofInt_neg a).symm
theorem i_lt {a b : Int} (ha : -2147483648 ≤ a ∧ a < 2147483648) (hb : -2147483648 ≤ b ∧ b < 2147483648) : i_ a < i_ b ↔ a < b := by
  rw [Int32.lt_iff_toInt_lt, i_toInt ha, i_toInt hb]
theorem i_le {a b : Int} (ha : -2147483648 ≤ a ∧ a < 2147483648) (hb : -2147483648 ≤ b ∧ b < 2147483648) : i_ a ≤ i_ b ↔ a ≤ b := by
  rw [Int32.le_iff_toInt_le, i_toInt ha, i_toInt hb]
theorem i_eq {a b : Int} (ha : -2147483648 ≤ a ∧ a < 2147483648) (hb : -2147483648 ≤ b ∧ b < 2147483648) : i_ a = i_ b ↔ a = b := by
  constructor
  · intro h
    have := congrArg Int32.toInt h
    rwa [i_toInt ha, i_toInt hb] at this
  · intro h; rw [h]
theorem i_nat {a : Int} (h : 0 ≤ a ∧ a < 2147483648) : (i_ a).toNatClampNeg = a.toNat := by
  show (i_ a).toInt.toNat = _
  rw [i_toInt (by omega)]
theorem i_inb {a : Int} {n : Nat} (h : 0 ≤ a ∧ a < 2147483648) (hn : a < n) : kx_inb (i_ a) n = true := by
  unfold kx_inb
  rw [Bool.and_eq_true, decide_eq_true_eq, decide_eq_true_eq, i_nat h]
  refine ⟨?_, by omega⟩
  rw [Int32.lt_iff_toInt_lt, i_toInt (by omega)]
  have : (0 : Int32).toInt = 0 := rfl
  omega
theorem i_0 : (0 : Int32) = i_ 0 := rfl
theorem i_1 : (1 : Int32) = i_ 1 := rfl
theorem i_m1 : (-1 : Int32) = i_ (-1) := rfl
