/-! PLAIN NUMBERS: what the planner is asked -/
set_option maxRecDepth 100000
theorem fp_sm0.VR {S : PS} {ar ar2 : Nat → Nat → Int} (h : fp_sm0 ar ar2) (hV : fp_VR S (ar 5)) : fp_VR S (ar2 5) := by rw [h 5 rfl]; exact hV
def fp_cc (c : Int) : Nat := if 0 ≤ c ∧ c ≤ 11 then 0 else 1
theorem fp_cc_0 {c : Nat} (h : c ≤ 11) : fp_cc c = 0 := if_pos (by omega)
theorem fp_cc_1 {c : Int} (h : ¬ (0 ≤ c ∧ c ≤ 11)) : fp_cc c = 1 := if_neg h
def fp_atc (S : PS) (z : Int) : Nat := if 0 ≤ z ∧ z < sN S then 0 else 1
/-- the supporter of u that has pos supporters to its left -/
def fp_sat (S : PS) (u : Nat) (pos : Int) : Nat := fp_fi (fun k => fp_sup (sB S k) (sB S u) && decide ((fp_rk S k u : Int) = pos)) (sN S)
def fp_satc (S : PS) (z pos : Int) : Nat := if fp_fnd S z < sN S ∧ fp_sat S (fp_fnd S z) pos < sN S then 0 else 1
def fp_slk (S : PS) (k : Nat) : Int := (fp_str (sB S k) : Int) - (fp_ld S k : Int)
def fp_best (f : Nat → Int) : Nat → Nat
  | 0 => 0
  | n + 1 => if f n < f (fp_best f n) then n else fp_best f n
theorem fp_best_lt {f : Nat → Int} {n : Nat} : fp_best f (n + 1) < n + 1 := by
  induction n with
  | zero =>
    show (if f 0 < f 0 then 0 else 0) < 1
    split <;> omega
  | succ n ih =>
    show (if f (n + 1) < f (fp_best f (n + 1)) then n + 1 else fp_best f (n + 1)) < n + 1 + 1
    split <;> omega
def fp_wkc (S : PS) : Nat := if sN S = 0 then 1 else 0
/-- the place of a block in the order by slack -/
def fp_srf (S : PS) (k o : Nat) : Bool := decide (fp_slk S o < fp_slk S k ∨ fp_slk S o = fp_slk S k ∧ o < k)
def fp_srk (S : PS) (k : Nat) : Nat := fp_ct (fp_srf S k) (sN S)
def fp_bsl (S : PS) (pos : Int) : Nat := fp_fi (fun k => decide ((fp_srk S k : Int) = pos)) (sN S)
def fp_bslc (S : PS) (pos : Int) : Nat := if fp_bsl S pos < sN S then 0 else 1
def fp_stp (S : PS) (c : Nat) : Nat := (fp_hi S (c + 1) - fp_hi S c) + (fp_hi S c - fp_hi S (c + 1))
def fp_steps (S : PS) : Nat := fp_sm (fp_stp S) 11
def fp_best2 (f : Nat → Nat) : Nat → Nat
  | 0 => 0
  | n + 1 => if f (fp_best2 f n) < f n then n else fp_best2 f n
theorem fp_best2_lt {f : Nat → Nat} {n : Nat} : fp_best2 f (n + 1) < n + 1 := by
  induction n with
  | zero =>
    show (if f 0 < f 0 then 0 else 0) < 1
    split <;> omega
  | succ n ih =>
    show (if f (fp_best2 f (n + 1)) < f (n + 1) then n + 1 else fp_best2 f (n + 1)) < n + 1 + 1
    split <;> omega
def fp_hic (S : PS) : Nat := fp_best2 (fp_hi S) 12
def fp_thf (S : PS) (c k : Nat) : Nat := if fp_cov (sB S k) c then fp_top (sB S k) - sB S k 5 else 0
/-- holes of a column, by heights -/
def fp_hol (S : PS) (c : Nat) : Int := (fp_hi S c : Int) - (fp_sm (fp_thf S c) (sN S) : Int)
def fp_tw (S : PS) : Nat := fp_sm (fun k => sB S k 4) (sN S)
def fp_fpf (S : PS) (k : Nat) : Nat := if sB S k 5 = 0 then sB S k 4 + fp_ld S k else 0
def fp_fp (S : PS) : Nat := fp_sm (fp_fpf S) (sN S)
def fp_sumh (S : PS) : Nat := fp_sm (fp_hi S) 12
def fp_div12d (n : Nat) : UInt64 := FP.ddiv (FP.i2d (iI ((n : Nat) : Int))) 4622945017495814144
def fp_div12f (n : Nat) : UInt32 := FP.fdiv (FP.i2f (iI ((n : Nat) : Int))) 1094713344
theorem fp_div12d_n {n : Nat} (h : n < 512) : vf_n64 (fp_div12d n) := by
  have h2 : (List.range 512).all (fun i => decide (fp_div12d i &&& 0x7fffffffffffffff ≤ 0x7ff0000000000000)) = true := by decide +kernel
  exact co_dec h2 h
theorem fp_div12f_n {n : Nat} (h : n < 13) : vf_n32 (fp_div12f n) := by
  have h2 : (List.range 13).all (fun i => decide (fp_div12f i &&& 0x7fffffff ≤ 0x7f800000)) = true := by decide +kernel
  exact co_dec h2 h
theorem fp_satc_0 {S : PS} {z pos : Int} {k u : Nat} (h : fp_fnd S z = u) (hu : u < sN S) (hk : k < sN S) (h1 : fp_sup (sB S k) (sB S u) = true) (h2 : (fp_rk S k u : Int) = pos) (h3 : ∀ j, j < k → (fp_sup (sB S j) (sB S u) && decide ((fp_rk S j u : Int) = pos)) = false) : fp_sat S (fp_fnd S z) pos = k ∧ fp_satc S z pos = 0 := by
  have e : fp_sat S (fp_fnd S z) pos = k := by
    rw [h]
    exact fp_fi_eq hk (by rw [h1, decide_eq_true h2]; rfl) h3
  exact ⟨e, if_pos ⟨by rw [h]; exact hu, by rw [e]; exact hk⟩⟩
theorem fp_satc_1 {S : PS} {z pos : Int} (h : fp_fnd S z = sN S) : fp_satc S z pos = 1 := if_neg (fun x => by rw [h] at x; exact Nat.lt_irrefl _ x.1)
theorem fp_satc_2 {S : PS} {z pos : Int} {u : Nat} (h : fp_fnd S z = u) (h3 : ∀ j, j < sN S → (fp_sup (sB S j) (sB S u) && decide ((fp_rk S j u : Int) = pos)) = false) : fp_satc S z pos = 1 := if_neg (fun x => by
  have e : fp_sat S (fp_fnd S z) pos = sN S := by rw [h]; exact fp_fi_n h3
  rw [e] at x
  exact Nat.lt_irrefl _ x.2)
theorem fp_best_t {f : Nat → Int} {n : Nat} (h : f n < f (fp_best f n)) : fp_best f (n + 1) = n := if_pos h
theorem fp_best_f {f : Nat → Int} {n : Nat} (h : ¬ f n < f (fp_best f n)) : fp_best f (n + 1) = fp_best f n := if_neg h
theorem fp_best2_t {f : Nat → Nat} {n : Nat} (h : f (fp_best2 f n) < f n) : fp_best2 f (n + 1) = n := if_pos h
theorem fp_best2_f {f : Nat → Nat} {n : Nat} (h : ¬ f (fp_best2 f n) < f n) : fp_best2 f (n + 1) = fp_best2 f n := if_neg h
theorem fp_best_1 {f : Nat → Int} : fp_best f 1 = 0 := fp_best_f (Int.lt_irrefl _)
theorem fp_best2_1 {f : Nat → Nat} : fp_best2 f 1 = 0 := fp_best2_f (Nat.lt_irrefl _)
theorem fp_cq_step {v g : Nat → Int} {i : Nat} {z : Int} (hz : z = v i) : ∀ x, va_up (fun x => if x < i then v x else g x) i z x = (if x < i + 1 then v x else g x) := by
  intro x
  by_cases e : x = i
  · subst e
    rw [va_up_self, if_pos (by omega), hz]
  · rw [va_up_ne _ _ e]
    by_cases h : x < i
    · rw [if_pos h, if_pos (show x < i + 1 by omega)]
    · rw [if_neg h, if_neg (show ¬ (x < i + 1) by omega)]
theorem fp_ME.upe {G : fp_G} {ad : Nat → Nat} {sc : Nat → Int} {ar : Nat → Nat → Int} {H : Heap} {k : Nat} {z : Int} (h : fp_ME G ad sc ar H) (e : sc k = z) : fp_ME G ad (va_up sc k z) ar H := by
  have e2 : va_up sc k z = sc := by
    funext j
    by_cases hj : j = k
    · subst hj; rw [va_up_self]; exact e.symm
    · rw [va_up_ne _ _ hj]
  rw [e2]
  exact h
