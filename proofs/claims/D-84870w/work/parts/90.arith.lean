/-! ===== ARITHMETIC BY SIMP ===== -/
theorem E_lt {a b : Int} (h : (-2147483648 ≤ a ∧ a < 2147483648) ∧ -2147483648 ≤ b ∧ b < 2147483648) : (i_ a < i_ b) = (a < b) := propext (i_lt h.1 h.2)
theorem E_le {a b : Int} (h : (-2147483648 ≤ a ∧ a < 2147483648) ∧ -2147483648 ≤ b ∧ b < 2147483648) : (i_ a ≤ i_ b) = (a ≤ b) := propext (i_le h.1 h.2)
theorem E_eq {a b : Int} (h : (-2147483648 ≤ a ∧ a < 2147483648) ∧ -2147483648 ≤ b ∧ b < 2147483648) : (i_ a = i_ b) = (a = b) := propext (i_eq h.1 h.2)
theorem E_nat {a : Int} (h : 0 ≤ a ∧ a < 2147483648) : (i_ a).toNatClampNeg = a.toNat := i_nat h
theorem E_inb {a : Int} {n : Nat} (h : (0 ≤ a ∧ a < 2147483648) ∧ a < n) : (kx_inb (i_ a) n = true) = True := eq_true (i_inb h.1 h.2)
theorem cN1 {a : Nat} : (a : Int) + 1 = ((a + 1 : Nat) : Int) := by omega
theorem cN2 {a : Nat} : (a : Int) + 2 = ((a + 2 : Nat) : Int) := by omega
theorem cNn {a b : Nat} : (a : Int) + (b : Int) = ((a + b : Nat) : Int) := by omega
