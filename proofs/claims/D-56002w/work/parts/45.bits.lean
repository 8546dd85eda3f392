/-! PLAIN NUMBERS: sets of small numbers as bits -/
theorem iN_bv (x : Nat) : iI ((x : Nat) : Int) = Int32.ofBitVec (BitVec.ofNat 32 x) := by
  show Int32.ofBitVec (BitVec.ofInt 32 _) = _
  rw [BitVec.ofInt_natCast]
theorem iN_or (x y : Nat) : iI ((x : Nat) : Int) ||| iI ((y : Nat) : Int) = iI ((x ||| y : Nat) : Int) := by
  rw [iN_bv, iN_bv, iN_bv, BitVec.ofNat_or]
  rfl
theorem iN_and (x y : Nat) : iI ((x : Nat) : Int) &&& iI ((y : Nat) : Int) = iI ((x &&& y : Nat) : Int) := by
  rw [iN_bv, iN_bv, iN_bv, BitVec.ofNat_and]
  rfl
theorem iN_shl {k : Nat} (hk : k < 31) : iI ((1 : Nat) : Int) <<< (iI ((k : Nat) : Int) &&& 31) = iI ((2 ^ k : Nat) : Int) := by
  have h2 : (List.range 31).all (fun k => decide (iI ((1 : Nat) : Int) <<< (iI ((k : Nat) : Int) &&& 31) = iI ((2 ^ k : Nat) : Int))) = true := by decide +kernel
  exact co_dec h2 hk
theorem iN_smod {k : Nat} (hk : k < 31) : (iI ((k : Nat) : Int) &&& 31).toBitVec.smod 32 = BitVec.ofNat 32 k := by
  have h2 : (List.range 31).all (fun k => decide ((iI ((k : Nat) : Int) &&& 31).toBitVec.smod 32 = BitVec.ofNat 32 k)) = true := by decide +kernel
  exact co_dec h2 hk
theorem iN_bit {x k : Nat} (hx : x < 2147483648) (hk : k < 31) : (iI ((x : Nat) : Int) >>> (iI ((k : Nat) : Int) &&& 31)) &&& iI ((1 : Nat) : Int) = iI (bI (x.testBit k)) := by
  have e1 : (iI ((x : Nat) : Int) >>> (iI ((k : Nat) : Int) &&& 31)) &&& iI ((1 : Nat) : Int) = Int32.ofBitVec (BitVec.sshiftRight' (iI ((x : Nat) : Int)).toBitVec ((iI ((k : Nat) : Int) &&& 31).toBitVec.smod 32) &&& (iI ((1 : Nat) : Int)).toBitVec) := rfl
  have e2 : (iI ((x : Nat) : Int)).toBitVec = BitVec.ofNat 32 x := by rw [iN_bv]; rfl
  have e3 : (iI ((1 : Nat) : Int)).toBitVec = BitVec.ofNat 32 1 := by rw [iN_bv]; rfl
  have e4 : iI (bI (x.testBit k)) = Int32.ofBitVec (BitVec.ofNat 32 (x.testBit k).toNat) := by cases x.testBit k <;> rfl
  rw [e1, iN_smod hk, e2, e3, e4]
  congr 1
  apply BitVec.eq_of_toNat_eq
  have hm : (BitVec.ofNat 32 x).msb = false := by
    rw [BitVec.msb_eq_decide]
    apply decide_eq_false
    rw [BitVec.toNat_ofNat]
    omega
  rw [BitVec.toNat_and, BitVec.toNat_sshiftRight'_of_msb_false hm, BitVec.toNat_ofNat, BitVec.toNat_ofNat, BitVec.toNat_ofNat, BitVec.toNat_ofNat, Nat.mod_eq_of_lt (show x < 2 ^ 32 by omega), Nat.mod_eq_of_lt (show k < 2 ^ 32 by omega), Nat.mod_eq_of_lt (show 1 < 2 ^ 32 by decide), Nat.mod_eq_of_lt (show (x.testBit k).toNat < 2 ^ 32 by cases x.testBit k <;> decide)]
  rw [Nat.and_one_is_mod, Nat.testBit_eq_decide_div_mod_eq, Nat.shiftRight_eq_div_pow]
  rcases Nat.mod_two_eq_zero_or_one (x / 2 ^ k) with h | h <;> rw [h] <;> rfl
/-- how many numbers are in a set -/
def fp_pop (x n : Nat) : Nat := fp_ct (fun i => x.testBit i) n
theorem fp_ct_shift (q : Nat → Bool) (n : Nat) : fp_ct q (n + 1) = (if q 0 then 1 else 0) + fp_ct (fun i => q (i + 1)) n := by
  induction n with
  | zero => exact (Nat.zero_add _).trans (Nat.add_zero _).symm
  | succ n ih =>
    show fp_ct q (n + 1) + (if q (n + 1) then 1 else 0) = _ + (fp_ct (fun i => q (i + 1)) n + (if q (n + 1) then 1 else 0))
    rw [ih, Nat.add_assoc]
theorem fp_pop_s (x n : Nat) : fp_pop x (n + 1) = x % 2 + fp_pop (x / 2) n := by
  unfold fp_pop
  rw [fp_ct_shift, Nat.testBit_zero]
  congr 1
  · rcases Nat.mod_two_eq_zero_or_one x with h | h <;> rw [h] <;> rfl
  · exact fp_ct_congr (fun i _ => by rw [Nat.testBit_add_one])
theorem fp_and_div (x y : Nat) : (x &&& y) / 2 = (x / 2) &&& (y / 2) := Nat.eq_of_testBit_eq (fun i => by
  rw [← Nat.testBit_add_one, Nat.testBit_and, Nat.testBit_and, Nat.testBit_add_one, Nat.testBit_add_one])
theorem fp_and_mod (x y : Nat) (h : y % 2 = 0 ∨ x % 2 = 0) : (x &&& y) % 2 = 0 := by
  have a := Nat.testBit_and x y 0
  rw [Nat.testBit_zero, Nat.testBit_zero, Nat.testBit_zero] at a
  rcases Nat.mod_two_eq_zero_or_one (x &&& y) with e | e
  · exact e
  · rw [e, decide_eq_true rfl] at a
    have b := Bool.and_eq_true_iff.mp a.symm
    have b1 := of_decide_eq_true b.1
    have b2 := of_decide_eq_true b.2
    omega
theorem fp_pop_step {n x : Nat} (h : 0 < x) (hx : x < 2 ^ n) : fp_pop (x &&& (x - 1)) n + 1 = fp_pop x n := by
  induction n generalizing x with
  | zero => rw [Nat.pow_zero] at hx; omega
  | succ n ih =>
    rw [Nat.pow_succ] at hx
    rw [fp_pop_s, fp_pop_s, fp_and_div]
    rcases Nat.mod_two_eq_zero_or_one x with e | e
    · rw [fp_and_mod _ _ (Or.inr e), e, show (x - 1) / 2 = x / 2 - 1 by omega, Nat.zero_add, Nat.zero_add]
      exact ih (by omega) (by omega)
    · rw [fp_and_mod _ _ (Or.inl (by omega)), e, show (x - 1) / 2 = x / 2 by omega, Nat.and_self]
      omega
theorem fp_pop_0 (n : Nat) : fp_pop 0 n = 0 := by
  refine fp_ct_down (Nat.zero_le _) (fun i hi => absurd hi (Nat.not_lt_zero _)) (fun i _ _ => Nat.zero_testBit i)
theorem fp_pop_le (x n : Nat) : fp_pop x n ≤ n := fp_ct_le _ _
theorem fp_sup_bot {S : PS} {k o : Nat} (h : fp_supf S k o = true) : sB S o 5 + 1 ≤ sB S k 5 := by
  have a := of_decide_eq_true h
  have b := fp_top_b (sB S o)
  omega
/-- the level of a block: 0 on the ground or in the air, else one more than the highest under it -/
def fp_lvf (S : PS) : Nat → Nat → Nat
  | 0, _ => 0
  | f + 1, k => fp_mx (fun o => if fp_supf S k o = true then fp_lvf S f o + 1 else 0) (sN S)
def fp_lv (S : PS) (k : Nat) : Nat := fp_lvf S (sB S k 5) k
theorem fp_lvf_0 {S : PS} {f k : Nat} (h : sB S k 5 = 0) : fp_lvf S f k = 0 := by
  cases f with
  | zero => rfl
  | succ f =>
    refine Nat.le_zero.mp (fp_mx_le (fun o _ => ?_))
    by_cases c : fp_supf S k o = true
    · have := fp_sup_bot c; omega
    · rw [if_neg c]; exact Nat.le_refl _
theorem fp_lvf_eq {S : PS} (f : Nat) : ∀ g k, sB S k 5 ≤ f → sB S k 5 ≤ g → fp_lvf S f k = fp_lvf S g k := by
  induction f with
  | zero => exact fun g k h1 _ => by rw [fp_lvf_0 (by omega), fp_lvf_0 (by omega)]
  | succ f ih =>
    intro g k h1 h2
    cases g with
    | zero => rw [fp_lvf_0 (by omega), fp_lvf_0 (by omega)]
    | succ g =>
      refine fp_mx_congr (fun o _ => ?_)
      by_cases c : fp_supf S k o = true
      · have := fp_sup_bot c
        rw [if_pos c, if_pos c, ih g o (by omega) (by omega)]
      · rw [if_neg c, if_neg c]
def fp_lvp (S : PS) (k : Nat) : Nat → Nat := fp_mx (fun o => if fp_supf S k o = true then fp_lv S o + 1 else 0)
theorem fp_lv_u (S : PS) (k : Nat) : fp_lv S k = fp_lvp S k (sN S) := by
  show fp_lvf S (sB S k 5) k = _
  rw [fp_lvf_eq (sB S k 5) (sB S k 5 + 1) k (Nat.le_refl _) (Nat.le_succ _)]
  refine fp_mx_congr (fun o _ => ?_)
  by_cases c : fp_supf S k o = true
  · have := fp_sup_bot c
    rw [if_pos c, if_pos c]
    exact congrArg (· + 1) (fp_lvf_eq _ _ o (by omega) (Nat.le_refl _))
  · rw [if_neg c, if_neg c]
theorem fp_lv_b (S : PS) (k : Nat) : fp_lv S k ≤ sB S k 5 := by
  have h : ∀ f k, sB S k 5 ≤ f → fp_lvf S f k ≤ sB S k 5 := by
    intro f
    induction f with
    | zero => exact fun k _ => Nat.zero_le _
    | succ f ih =>
      intro k hk
      refine fp_mx_le (fun o _ => ?_)
      by_cases c : fp_supf S k o = true
      · have := fp_sup_bot c
        have := ih o (by omega)
        rw [if_pos c]; omega
      · rw [if_neg c]; exact Nat.zero_le _
  exact h _ k (Nat.le_refl _)
theorem fp_lvp_f {S : PS} {k o : Nat} (h : fp_supf S k o = false) : fp_lvp S k (o + 1) = fp_lvp S k o := by
  show max _ (if _ then _ else 0) = _
  rw [if_neg (by rw [h]; exact Bool.false_ne_true)]
  exact Nat.max_eq_left (Nat.zero_le _)
theorem fp_lvp_t {S : PS} {k o : Nat} (h : fp_supf S k o = true) : fp_lvp S k (o + 1) = max (fp_lvp S k o) (fp_lv S o + 1) := by
  show max _ (if _ then _ else 0) = _
  rw [if_pos h]
  rfl
theorem fp_lvp_b {S : PS} {k : Nat} (o : Nat) : fp_lvp S k o ≤ sB S k 5 := fp_mx_le (fun o _ => by
  by_cases c : fp_supf S k o = true
  · have := fp_sup_bot c
    have := fp_lv_b S o
    rw [if_pos c]; omega
  · rw [if_neg c]; exact Nat.zero_le _)
theorem fp_t30_b {S : PS} (h : fp_t30 S) {k : Nat} (hk : k < sN S) : sB S k 5 ≤ 29 := by
  have a := h k hk
  have b := fp_top_b (sB S k)
  omega
/-- the levels so far, in a loop -/
def fp_lvs (S : PS) (f : Nat → Int) (b k : Nat) : Prop := ∀ j, j < sN S → (sB S j 5 < b ∨ sB S j 5 = b ∧ j < k) → f j = (fp_lv S j : Int)
theorem fp_lvs.s0 {S : PS} {f : Nat → Int} : fp_lvs S f 0 0 := fun j _ h => by omega
theorem fp_lvs.up {S : PS} {f : Nat → Int} {b k : Nat} (h : fp_lvs S f b k) (hk : sN S ≤ k) : fp_lvs S f (b + 1) 0 := fun j hj h2 => h j hj (by omega)
theorem fp_lvs.skip {S : PS} {f : Nat → Int} {b k : Nat} (h : fp_lvs S f b k) (hk : sB S k 5 ≠ b) : fp_lvs S f b (k + 1) := fun j hj h2 => h j hj (by
  by_cases e : j = k
  · subst e; omega
  · omega)
theorem fp_lvs.set {S : PS} {f g : Nat → Int} {b k : Nat} (h : fp_lvs S f b k) (hk : sB S k 5 = b) (e : ∀ j, j ≠ k → g j = f j) : fp_lvs S g b k := fun j hj h2 => by
  have e2 : j ≠ k := fun z => by subst z; omega
  rw [e j e2]
  exact h j hj h2
theorem fp_lvs.next {S : PS} {f : Nat → Int} {b k o : Nat} (h : fp_lvs S f b k) (hk : f k = (fp_lvp S k o : Int)) (ho : o = sN S) : fp_lvs S f b (k + 1) := fun j hj h2 => by
  by_cases e : j = k
  · subst e
    rw [hk, ho, ← fp_lv_u]
  · exact h j hj (by omega)
theorem fp_lvs.at {S : PS} {f : Nat → Int} {b k o : Nat} (h : fp_lvs S f b k) (hk : sB S k 5 = b) (hs : fp_supf S k o = true) (ho : o < sN S) : f o = (fp_lv S o : Int) := by
  have := fp_sup_bot hs
  exact h o ho (by omega)
/-- the set of the levels of the first blocks -/
def fp_lset (S : PS) : Nat → Nat
  | 0 => 0
  | k + 1 => fp_lset S k ||| 2 ^ fp_lv S k
def fp_nlv (S : PS) : Nat := fp_pop (fp_lset S (sN S)) 31
theorem fp_lset_lt {S : PS} (h : fp_t30 S) {k : Nat} (hk : k ≤ sN S) : fp_lset S k < 2147483648 := by
  induction k with
  | zero => exact Nat.zero_lt_succ _
  | succ k ih =>
    have a := fp_t30_b h (k := k) (by omega)
    have b := fp_lv_b S k
    exact Nat.or_lt_two_pow (n := 31) (ih (by omega)) (Nat.pow_lt_pow_right (by decide) (by omega))
/-- counting by taking one away -/
def fp_pst (x n T : Nat) : Prop := x < 2147483648 ∧ fp_pop x 31 + n = T
theorem fp_pst.step {x n T : Nat} (h : fp_pst x n T) (hx : x ≠ 0) : fp_pst (x &&& (x - 1)) (n + 1) T := by
  have a := fp_pop_step (n := 31) (x := x) (Nat.pos_of_ne_zero hx) h.1
  exact ⟨Nat.lt_of_le_of_lt Nat.and_le_left h.1, by rw [← h.2, ← a, Nat.add_assoc, Nat.add_comm 1 n]⟩
theorem fp_pst.b {x n T : Nat} (h : fp_pst x n T) (hT : T ≤ 31) : x < 2147483648 ∧ (x ≠ 0 → n < 31) := by
  refine ⟨h.1, fun hx => ?_⟩
  have a := fp_pop_step (n := 31) (x := x) (Nat.pos_of_ne_zero hx) h.1
  have b := h.2
  omega
theorem fp_pst.z {x n T : Nat} (h : fp_pst x n T) (hx : x = 0) : n = T := by
  have b := h.2
  rw [hx, fp_pop_0, Nat.zero_add] at b
  exact b
/-- the block k stands above the block lo -/
def fp_abf (S : PS) (lo : Nat) : Nat → Nat → Bool
  | 0, _ => false
  | f + 1, k => fp_any (fun o => fp_supf S k o && (decide (o = lo) || fp_abf S lo f o)) (sN S)
def fp_ab (S : PS) (lo k : Nat) : Bool := fp_abf S lo (sB S k 5) k
theorem fp_abf_0 {S : PS} {lo f k : Nat} (h : sB S k 5 = 0) : fp_abf S lo f k = false := by
  cases f with
  | zero => rfl
  | succ f =>
    refine fp_any_f (fun o _ => ?_)
    cases c : fp_supf S k o with
    | false => rfl
    | true => have := fp_sup_bot c; omega
theorem fp_abf_eq {S : PS} {lo : Nat} (f : Nat) : ∀ g k, sB S k 5 ≤ f → sB S k 5 ≤ g → fp_abf S lo f k = fp_abf S lo g k := by
  induction f with
  | zero => exact fun g k h1 _ => by rw [fp_abf_0 (by omega), fp_abf_0 (by omega)]
  | succ f ih =>
    intro g k h1 h2
    cases g with
    | zero => rw [fp_abf_0 (by omega), fp_abf_0 (by omega)]
    | succ g =>
      refine fp_any_congr (fun o _ => ?_)
      cases c : fp_supf S k o with
      | false => rfl
      | true =>
        have := fp_sup_bot c
        rw [ih g o (by omega) (by omega)]
/-- one step of the search: who stands on lo or on x -/
def fp_ast (S : PS) (lo x k : Nat) : Bool := fp_any (fun o => fp_supf S k o && (decide (o = lo) || x.testBit o)) (sN S)
theorem fp_ab_u (S : PS) (lo k : Nat) : fp_ab S lo k = fp_any (fun o => fp_supf S k o && (decide (o = lo) || fp_ab S lo o)) (sN S) := by
  show fp_abf S lo (sB S k 5) k = _
  rw [fp_abf_eq (sB S k 5) (sB S k 5 + 1) k (Nat.le_refl _) (Nat.le_succ _)]
  refine fp_any_congr (fun o _ => ?_)
  cases c : fp_supf S k o with
  | false => rfl
  | true =>
    have := fp_sup_bot c
    rw [fp_abf_eq (sB S k 5) (sB S o 5) o (by omega) (Nat.le_refl _)]
    rfl
def fp_ao (S : PS) (lo x k b : Nat) : Nat → Nat
  | 0 => b
  | o + 1 => fp_ao S lo x k b o ||| (if (fp_supf S k o && (decide (o = lo) || x.testBit o)) = true then 2 ^ k else 0)
def fp_as (S : PS) (lo x : Nat) : Nat → Nat
  | 0 => x
  | k + 1 => fp_ao S lo x k (fp_as S lo x k) (sN S)
theorem fp_ao_lt {S : PS} {lo x k b : Nat} (hb : b < 16777216) (hk : k < 24) (o : Nat) : fp_ao S lo x k b o < 16777216 := by
  induction o with
  | zero => exact hb
  | succ o ih =>
    refine Nat.or_lt_two_pow (n := 24) ih ?_
    by_cases c : (fp_supf S k o && (decide (o = lo) || x.testBit o)) = true
    · rw [if_pos c]; exact Nat.pow_lt_pow_right (by decide) hk
    · rw [if_neg c]; exact Nat.two_pow_pos _
theorem fp_as_lt {S : PS} {lo x : Nat} (hx : x < 16777216) {k : Nat} (hk : k ≤ 24) : fp_as S lo x k < 16777216 := by
  induction k with
  | zero => exact hx
  | succ k ih => exact fp_ao_lt (ih (by omega)) (by omega) _
theorem fp_ao_bit (S : PS) (lo x k b o j : Nat) : (fp_ao S lo x k b o).testBit j = (b.testBit j || (decide (j = k) && fp_any (fun o => fp_supf S k o && (decide (o = lo) || x.testBit o)) o)) := by
  induction o with
  | zero =>
    show b.testBit j = (b.testBit j || (_ && false))
    rw [Bool.and_false, Bool.or_false]
  | succ o ih =>
    show (fp_ao S lo x k b o ||| _).testBit j = (b.testBit j || (_ && (fp_any _ o || _)))
    rw [Nat.testBit_or, ih, Bool.or_assoc]
    congr 1
    rw [Bool.and_or_distrib_left (decide (j = k)) (fp_any (fun o => fp_supf S k o && (decide (o = lo) || x.testBit o)) o)]
    congr 1
    by_cases c : (fp_supf S k o && (decide (o = lo) || x.testBit o)) = true
    · show _ = (_ && (fp_supf S k o && (decide (o = lo) || x.testBit o)))
      rw [if_pos c, c, Bool.and_true, Nat.testBit_two_pow]
      exact decide_eq_decide.mpr ⟨Eq.symm, Eq.symm⟩
    · show _ = (_ && (fp_supf S k o && (decide (o = lo) || x.testBit o)))
      rw [if_neg c, Nat.zero_testBit, (Bool.not_eq_true _).mp c, Bool.and_false]
theorem fp_as_bit (S : PS) (lo x k j : Nat) : (fp_as S lo x k).testBit j = (x.testBit j || (decide (j < k) && fp_ast S lo x j)) := by
  induction k with
  | zero =>
    show x.testBit j = _
    rw [decide_eq_false (Nat.not_lt_zero _), Bool.false_and, Bool.or_false]
  | succ k ih =>
    show (fp_ao S lo x k (fp_as S lo x k) (sN S)).testBit j = _
    rw [fp_ao_bit, ih, Bool.or_assoc]
    congr 1
    by_cases e : j = k
    · subst e
      rw [decide_eq_true rfl, decide_eq_false (Nat.lt_irrefl _), decide_eq_true (Nat.lt_succ_self _)]
      rfl
    · rw [decide_eq_false e, Bool.false_and, Bool.or_false]
      congr 1
      exact decide_eq_decide.mpr ⟨fun h => by omega, fun h => by omega⟩
theorem fp_as_le (S : PS) (lo x k : Nat) : x ≤ fp_as S lo x k := by
  have g : ∀ b o, b ≤ fp_ao S lo x k b o := fun b o => by
    induction o with
    | zero => exact Nat.le_refl _
    | succ o ih => exact Nat.le_trans ih Nat.left_le_or
  induction k with
  | zero => exact Nat.le_refl _
  | succ k ih =>
    have h : ∀ b o, b ≤ fp_ao S lo x k b o := fun b o => by
      induction o with
      | zero => exact Nat.le_refl _
      | succ o ih => exact Nat.le_trans ih Nat.left_le_or
    exact Nat.le_trans (ih h) (h _ _)
/-- the search for what stands above, behind q steps -/
def fp_aw (S : PS) (lo q x : Nat) (wz : Int) : Prop := x < 16777216 ∧ (∀ j, x.testBit j = true → j < sN S ∧ fp_ab S lo j = true) ∧ (q + 2 * (16777216 - x) + (if wz = (x : Int) then 0 else 1) ≤ 33554434) ∧ (-1 ≤ wz ∧ wz < 2147483648) ∧ (wz = -1 ∨ ∃ w : Nat, wz = (w : Int) ∧ x = fp_as S lo w (sN S))
theorem fp_aw.s0 (S : PS) (lo : Nat) : fp_aw S lo 0 0 (-1) := ⟨by decide, fun j h => (by rw [Nat.zero_testBit] at h; cases h), by decide, by decide, Or.inl rfl⟩
theorem fp_aw.b {S : PS} {lo q x : Nat} {wz : Int} (h : fp_aw S lo q x wz) : x < 16777216 ∧ -1 ≤ wz ∧ wz < 2147483648 ∧ (wz ≠ (x : Int) → q < 33554434) := by
  obtain ⟨a, -, b, c, -⟩ := h
  refine ⟨a, c.1, c.2, fun e => ?_⟩
  rw [if_neg e] at b
  omega
theorem fp_aw.step {S : PS} {lo q x : Nat} {wz : Int} (h : fp_aw S lo q x wz) (e : wz ≠ (x : Int)) (hn : sN S ≤ 24) : fp_aw S lo (q + 1) (fp_as S lo x (sN S)) (x : Int) := by
  obtain ⟨a, b, c, -, -⟩ := h
  have l := fp_as_lt (S := S) (lo := lo) a hn
  have g := fp_as_le S lo x (sN S)
  rw [if_neg e] at c
  refine ⟨l, fun j hj => ?_, ?_, ⟨by omega, by omega⟩, Or.inr ⟨x, rfl, rfl⟩⟩
  · rw [fp_as_bit] at hj
    rcases Bool.or_eq_true_iff.mp hj with h1 | h1
    · exact b j h1
    · have h2 := Bool.and_eq_true_iff.mp h1
      refine ⟨of_decide_eq_true h2.1, ?_⟩
      obtain ⟨o, ho, h3⟩ := fp_any_iff.mp h2.2
      rw [fp_ab_u]
      refine fp_any_t ho ?_
      have h4 := Bool.and_eq_true_iff.mp h3
      rw [h4.1]
      rcases Bool.or_eq_true_iff.mp h4.2 with h5 | h5
      · rw [h5]; rfl
      · rw [(b o h5).2, Bool.or_true]; rfl
  · by_cases e2 : (x : Int) = ((fp_as S lo x (sN S) : Nat) : Int)
    · rw [if_pos e2]; omega
    · rw [if_neg e2]; omega
theorem fp_aw.done {S : PS} {lo q x : Nat} {wz : Int} (h : fp_aw S lo q x wz) (e : wz = (x : Int)) : x < 16777216 ∧ ∀ k, x.testBit k = (decide (k < sN S) && fp_ab S lo k) := by
  obtain ⟨a, b, -, -, d⟩ := h
  refine ⟨a, fun k => ?_⟩
  have hx : x = fp_as S lo x (sN S) := by
    rcases d with d | ⟨w, d1, d2⟩
    · omega
    · have : w = x := by omega
      rw [this] at d2
      exact d2
  have cl : ∀ k, k < sN S → fp_ast S lo x k = true → x.testBit k = true := fun k hk h1 => by
    rw [hx, fp_as_bit, decide_eq_true hk, h1, Bool.true_and, Bool.or_true]
  have all : ∀ f k, k < sN S → fp_abf S lo f k = true → x.testBit k = true := by
    intro f
    induction f with
    | zero => exact fun k _ h => by cases h
    | succ f ih =>
      intro k hk h1
      obtain ⟨o, ho, h3⟩ := fp_any_iff.mp h1
      have h4 := Bool.and_eq_true_iff.mp h3
      refine cl k hk (fp_any_t ho ?_)
      rw [h4.1]
      rcases Bool.or_eq_true_iff.mp h4.2 with h5 | h5
      · rw [h5]; rfl
      · rw [ih o ho h5, Bool.or_true]; rfl
  cases e1 : x.testBit k with
  | true =>
    have := b k e1
    rw [decide_eq_true this.1, this.2]
    rfl
  | false =>
    by_cases hk : k < sN S
    · cases e2 : fp_ab S lo k with
      | false => rw [Bool.and_false]
      | true => rw [all _ k hk e2] at e1; cases e1
    · rw [decide_eq_false hk]; rfl
theorem fp_ab_pop {S : PS} {lo x : Nat} (hn : sN S ≤ 24) (h : ∀ k, x.testBit k = (decide (k < sN S) && fp_ab S lo k)) : fp_pop x 31 = fp_ct (fp_ab S lo) (sN S) := by
  have g : ∀ d, fp_pop x (sN S + d) = fp_ct (fp_ab S lo) (sN S) := by
    intro d
    induction d with
    | zero => exact fp_ct_congr (fun i hi => by rw [h, decide_eq_true (show i < sN S from hi), Bool.true_and])
    | succ d ih =>
      show fp_ct _ (sN S + d) + (if x.testBit (sN S + d) = true then 1 else 0) = _
      rw [h, decide_eq_false (by omega), Bool.false_and]
      exact ih
  have := g (31 - sN S)
  rw [show sN S + (31 - sN S) = 31 by omega] at this
  exact this
def fp_fc2 (S : PS) (a b : Int) : Nat := if fp_fnd S a < sN S ∧ fp_fnd S b < sN S then 0 else 1
theorem fp_ao_s {S : PS} {lo x k b o : Nat} (h : (fp_supf S k o && (decide (o = lo) || x.testBit o)) = true) : fp_ao S lo x k b (o + 1) = fp_ao S lo x k b o ||| 2 ^ k := by
  show _ ||| (if _ then _ else 0) = _
  rw [if_pos h]
theorem fp_ao_n {S : PS} {lo x k b o : Nat} (h : (fp_supf S k o && (decide (o = lo) || x.testBit o)) = false) : fp_ao S lo x k b (o + 1) = fp_ao S lo x k b o ||| 0 := by
  show _ ||| (if _ then _ else 0) = _
  rw [if_neg (by rw [h]; exact Bool.false_ne_true)]
theorem fp_ab_st {S : PS} {k o : Nat} {a b : Bool} (h : fp_supf S k o = true) (h2 : a = true ∨ b = true) : (fp_supf S k o && (a || b)) = true := by
  rw [h]
  rcases h2 with h2 | h2 <;> rw [h2]
  · rfl
  · rw [Bool.or_true]; rfl
theorem fp_ab_sf {S : PS} {k o : Nat} {a b : Bool} (h : fp_supf S k o = false ∨ (a = false ∧ b = false)) : (fp_supf S k o && (a || b)) = false := by
  rcases h with h | ⟨h, h2⟩
  · rw [h]; rfl
  · rw [h, h2, Bool.or_false, Bool.and_false]
