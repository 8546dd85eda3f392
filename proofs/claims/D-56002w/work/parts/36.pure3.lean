/-! PLAIN NUMBERS: the line -/
set_option maxRecDepth 100000
abbrev FL : Type := (Nat → Nat) × Nat
def fp_LX (L : FL) (a : Nat → Int) : Prop := ∀ i, i < L.2 → a i = (L.1 i : Int) ∧ L.1 i < 256
def fp_pc (L : FL) (c : Nat) : FL := (sb_cat L.1 L.2 (fun _ => c), L.2 + 1)
def fp_pn (L : FL) (n : Nat) : FL := (sb_cat L.1 L.2 (sb_dec n), L.2 + sb_dg n)
/-- the first j digits of n behind L -/
def fp_pj (L : FL) (n j : Nat) : FL := (sb_cat L.1 L.2 (sb_dec n), L.2 + j)
def fp_L0 : FL := (fun _ => 0, 0)
theorem fp_LX.zero (a : Nat → Int) : fp_LX fp_L0 a := fun i hi => absurd hi (Nat.not_lt_zero _)
theorem fp_LX.put {L : FL} {a : Nat → Int} {c : Nat} (h : fp_LX L a) (hc : c < 256) : fp_LX (fp_pc L c) (va_up a L.2 (c : Int)) := by
  intro i hi
  have hi : i < L.2 + 1 := hi
  show va_up a L.2 (c : Int) i = ((sb_cat L.1 L.2 (fun _ => c) i : Nat) : Int) ∧ sb_cat L.1 L.2 (fun _ => c) i < 256
  by_cases e : i = L.2
  · subst e
    rw [va_up_self]
    have e2 : sb_cat L.1 L.2 (fun _ => c) L.2 = c := if_neg (Nat.lt_irrefl _)
    rw [e2]
    exact ⟨rfl, hc⟩
  · rw [va_up_ne _ _ e, sb_cat_lo (by omega)]
    exact h i (by omega)
theorem fp_LX.put2 {L : FL} {a : Nat → Int} {c : Nat} {z : Int} (h : fp_LX L a) (hc : c < 256) (hz : z = (c : Int)) : fp_LX (fp_pc L c) (va_up a L.2 z) := by
  subst hz
  exact h.put hc
theorem fp_LX.of {L L2 : FL} {a : Nat → Int} (h : fp_LX L a) (hn : L2.2 = L.2) (e : ∀ i, i < L.2 → L.1 i = L2.1 i) : fp_LX L2 a := by
  intro i hi
  rw [hn] at hi
  rw [← e i hi]
  exact h i hi
theorem fp_LX.pj0 {L : FL} {a : Nat → Int} (h : fp_LX L a) (n : Nat) : fp_LX (fp_pj L n 0) a := h.of rfl (fun i hi => (sb_cat_lo hi).symm)
theorem fp_LX.pjs {L : FL} {a : Nat → Int} {n j c : Nat} (h : fp_LX (fp_pc (fp_pj L n j) c) a) (hc : c = sb_dec n j) : fp_LX (fp_pj L n (j + 1)) a := by
  refine h.of rfl (fun i hi => ?_)
  have hi : i < L.2 + j + 1 := hi
  show sb_cat (sb_cat L.1 L.2 (sb_dec n)) (L.2 + j) (fun _ => c) i = sb_cat L.1 L.2 (sb_dec n) i
  by_cases e : i = L.2 + j
  · subst e
    rw [show sb_cat (sb_cat L.1 L.2 (sb_dec n)) (L.2 + j) (fun _ => c) (L.2 + j) = c from if_neg (Nat.lt_irrefl _), sb_cat_hi, hc]
  · rw [sb_cat_lo (by omega)]
def fp_ten (n j : Nat) : Nat := 10 ^ sb_dg n / 10 ^ (j + 1)
theorem fp_ten_s (n j : Nat) : fp_ten n j / 10 = fp_ten n (j + 1) := by
  unfold fp_ten
  rw [Nat.div_div_eq_div_mul, Nat.pow_succ 10 (j + 1)]
theorem fp_ten_eq {n j : Nat} (h : j < sb_dg n) : fp_ten n j = 10 ^ (sb_dg n - 1 - j) := by
  unfold fp_ten
  rw [Nat.pow_div (by omega) (by decide), show sb_dg n - (j + 1) = sb_dg n - 1 - j by omega]
theorem fp_ten_pos {n j : Nat} (h : j < sb_dg n) : 0 < fp_ten n j := by
  rw [fp_ten_eq h]
  exact Nat.pow_pos (by decide)
theorem fp_ten_z (n : Nat) : fp_ten n (sb_dg n) = 0 := Nat.div_eq_of_lt (Nat.pow_lt_pow_right (by decide) (Nat.lt_succ_self _))
theorem fp_ten_le {n : Nat} (h : sb_dg n ≤ 9) (j : Nat) : fp_ten n j ≤ 1000000000 := by
  have h1 : fp_ten n j ≤ 10 ^ sb_dg n := Nat.div_le_self _ _
  have h2 : 10 ^ sb_dg n ≤ 10 ^ 9 := Nat.pow_le_pow_right (by decide) h
  have h3 : (10 : Nat) ^ 9 = 1000000000 := by decide
  omega
theorem fp_dg9 {n : Nat} (h : n < 1000000000) : sb_dg n ≤ 9 := by
  unfold sb_dg
  repeat' split
  all_goals omega
theorem fp_dg2 {n : Nat} (h : n < 100) : sb_dg n ≤ 2 := by
  unfold sb_dg
  repeat' split
  all_goals omega
/-- n has more than d + 1 digits just if n / 10 ^ d is at least ten -/
theorem fp_dg_iff {n d : Nat} (h : n < 1000000000) (hd : d ≤ 8) : n / 10 ^ d < 10 ↔ sb_dg n ≤ d + 1 := by
  have e : ∀ q, q < 9 → (n / 10 ^ q < 10 ↔ n < 10 ^ (q + 1)) := fun q _ => by
    rw [Nat.div_lt_iff_lt_mul (Nat.pow_pos (by decide)), Nat.pow_succ, Nat.mul_comm]
  rw [e d (by omega)]
  unfold sb_dg
  rcases (show d = 0 ∨ d = 1 ∨ d = 2 ∨ d = 3 ∨ d = 4 ∨ d = 5 ∨ d = 6 ∨ d = 7 ∨ d = 8 by omega) with rfl | rfl | rfl | rfl | rfl | rfl | rfl | rfl | rfl <;> (repeat' split) <;> omega
/-- the line of a block; the line of the heights -/
def fp_let (b : Nat → Nat) : Nat := if b 1 = 0 then 102 else if b 1 = 1 then 98 else 103
def fp_fbl (S : PS) (k : Nat) : FL := fp_pn (fp_pc (fp_pn (fp_pc (fp_pn (fp_pc (fp_pn (fp_pc (fp_pc (fp_pn (fp_pc (fp_pn (fp_pc (fp_pn (fp_pc fp_L0 (fp_let (sB S k))) (sB S k 0)) 91) (sB S k 2)) 43) (sB S k 3)) 93) 64) (sB S k 5)) 42) (sB S k 4)) 32) (fp_ld S k)) 47) (fp_str (sB S k))
def fp_fh1 (L : FL) (c : Nat) : FL := if c = 0 then L else fp_pc L 32
def fp_fh2 (S : PS) (L : FL) (c : Nat) : FL := if sT S c = 1 then fp_pc L 33 else L
def fp_fhl (S : PS) : Nat → FL
  | 0 => fp_L0
  | c + 1 => fp_pn (fp_fh2 S (fp_fh1 (fp_fhl S c) c) c) (fp_hi S c)
theorem fp_fh1_le (L : FL) (c : Nat) : (fp_fh1 L c).2 ≤ L.2 + 1 := by
  unfold fp_fh1
  split
  · omega
  · exact Nat.le_refl _
theorem fp_fh2_le (S : PS) (L : FL) (c : Nat) : (fp_fh2 S L c).2 ≤ L.2 + 1 := by
  unfold fp_fh2
  split
  · exact Nat.le_refl _
  · omega
theorem fp_fhl_le {S : PS} (h : fp_ok S) (c : Nat) : (fp_fhl S c).2 ≤ 4 * c := by
  induction c with
  | zero => exact Nat.le_refl _
  | succ c ih =>
    have h1 := fp_fh1_le (fp_fhl S c) c
    have h2 := fp_fh2_le S (fp_fh1 (fp_fhl S c) c) c
    have h3 := fp_hi_le h c
    have h4 := fp_dg2 (n := fp_hi S c) (by omega)
    show (fp_fh2 S (fp_fh1 (fp_fhl S c) c) c).2 + sb_dg (fp_hi S c) ≤ 4 * (c + 1)
    omega
def fp_sm2 (ar ar2 : Nat → Nat → Int) : Prop := ∀ k, fp_scr k = false → k ≠ 13 → ar2 k = ar k
