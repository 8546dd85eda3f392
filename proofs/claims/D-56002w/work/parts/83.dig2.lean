/-! INTEGER: a number by hundreds -/
set_option maxRecDepth 100000
def fp_hw (z k : Nat) : Nat := z / 100 ^ k
theorem fp_hw_0 (z : Nat) : fp_hw z 0 = z := Nat.div_one z
theorem fp_hw_s (z k : Nat) : fp_hw z (k + 1) = fp_hw z k / 100 := by
  show z / 100 ^ (k + 1) = z / 100 ^ k / 100
  rw [Nat.pow_succ, Nat.div_div_eq_div_mul]
theorem fp_hw_le (z k : Nat) : fp_hw z k ≤ z := Nat.div_le_self _ _
theorem fp_hw_o (z k : Nat) : z / 10 ^ (2 * k) % 10 = fp_hw z k % 10 := by
  show _ = z / 100 ^ k % 10
  rw [show (100 : Nat) = 10 ^ 2 from rfl, ← Nat.pow_mul]
theorem fp_hw_t (z k : Nat) : z / 10 ^ (2 * k + 1) % 10 = fp_hw z k / 10 % 10 := by
  show _ = z / 100 ^ k / 10 % 10
  rw [show (100 : Nat) = 10 ^ 2 from rfl, ← Nat.pow_mul, Nat.pow_succ, Nat.div_div_eq_div_mul]
theorem fp_hw_d {z k : Nat} (hz : z < 1000000000) (h : sb_dg z = 2 * k + sb_dg (fp_hw z k)) (h1 : 100 ≤ fp_hw z k) : sb_dg z = 2 * (k + 1) + sb_dg (fp_hw z (k + 1)) := by
  rw [fp_hw_s, h, sb_dg100 h1 (by have := fp_hw_le z k; omega)]
  omega
