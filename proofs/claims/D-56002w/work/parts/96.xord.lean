/-! THE PLANNER: orders (supporters, slack), loads and levels of all blocks -/
set_option maxRecDepth 100000
theorem fp_SU.sat {S : PS} (hd : fp_dl S) {u c p : Nat} {e : Nat → Nat} (h : fp_SU S u e c) (hu : u < sN S) (hp : p < c) : e p < sN S ∧ fp_sat S u ((p : Nat) : Int) = e p := by
  obtain ⟨a1, a2, a3⟩ := h.2 p hp
  refine ⟨a1, fp_fi_eq a1 ?_ (fun j hj => ?_)⟩
  · show (fp_supf S u (e p) && _) = true
    rw [a2, decide_eq_true (show ((fp_rk S (e p) u : Nat) : Int) = (p : Int) from by have : fp_rk S (e p) u = p := a3; omega)]
    rfl
  · show (fp_supf S u j && decide (((fp_rk S j u : Nat) : Int) = (p : Int))) = false
    by_cases c1 : fp_supf S u j = true
    · by_cases c2 : ((fp_rk S j u : Nat) : Int) = (p : Int)
      · have h3 := fp_rk_inj hd hu (show j < sN S by omega) a1 c1 a2 (show fp_rk S j u = fp_rk S (e p) u from by have : fp_rk S (e p) u = p := a3; omega)
        omega
      · rw [decide_eq_false c2, Bool.and_false]
    · rw [(Bool.not_eq_true _).mp c1, Bool.false_and]
theorem fp_SU.satn {S : PS} {u c : Nat} {pos : Int} {e : Nat → Nat} (h : fp_SU S u e c) (hp : ¬ (0 ≤ pos ∧ pos ≤ (c : Int) - 1)) : fp_sat S u pos = sN S := by
  refine fp_fi_n (fun j hj => ?_)
  show (fp_supf S u j && decide (((fp_rk S j u : Nat) : Int) = pos)) = false
  by_cases c1 : fp_supf S u j = true
  · have h1 := fp_rk_lt hj c1
    have h2 : c = fp_nsup S u := h.1
    rw [decide_eq_false (by omega), Bool.and_false]
  · rw [(Bool.not_eq_true _).mp c1, Bool.false_and]
theorem fp_SU.satc0 {S : PS} (hd : fp_dl S) {c p : Nat} {zn : Int} {e : Nat → Nat} (h : fp_SU S (fp_fnd S zn) e c) (hu : fp_fnd S zn < sN S) (hp : p < c) : fp_satc S zn ((p : Nat) : Int) = 0 := by
  have h1 := h.sat hd hu hp
  exact if_pos ⟨hu, by rw [h1.2]; exact h1.1⟩
theorem fp_SU.satc1 {S : PS} {c : Nat} {zn pos : Int} {e : Nat → Nat} (h : fp_SU S (fp_fnd S zn) e c) (hp : ¬ (0 ≤ pos ∧ pos ≤ (c : Int) - 1)) : fp_satc S zn pos = 1 := if_neg (fun z => by
  have := h.satn hp
  omega)
theorem fp_satc_f {S : PS} {z pos : Int} (h : fp_fc S z = 1) : fp_satc S z pos = 1 := if_neg (fun x => by
  have : fp_fc S z = 0 := if_pos x.1
  omega)
/-- e lists the numbers under k in the order r (r k o: o comes before k) -/
def fp_OS (r : Nat → Nat → Bool) (k : Nat) (e : Nat → Nat) : Prop := ∀ p, p < k → e p < k ∧ fp_ct (r (e p)) k = p
def fp_lin_o (r : Nat → Nat → Bool) : Prop := (∀ a b c, r a b = true → r b c = true → r a c = true) ∧ (∀ a, r a a = false) ∧ (∀ a b, a ≠ b → r a b = true ∨ r b a = true)
theorem fp_lin_o.tr {r : Nat → Nat → Bool} (h : fp_lin_o r) {a b c : Nat} (h1 : r a b = true) (h2 : r b c = true) : r a c = true := h.1 a b c h1 h2
theorem fp_lin_o.ir {r : Nat → Nat → Bool} (h : fp_lin_o r) (a : Nat) : r a a = false := h.2.1 a
theorem fp_lin_o.tot {r : Nat → Nat → Bool} (h : fp_lin_o r) {a b : Nat} (h1 : a ≠ b) : r a b = true ∨ r b a = true := h.2.2 a b h1
theorem fp_OS.lt {r : Nat → Nat → Bool} (hr : fp_lin_o r) {k p q : Nat} {e : Nat → Nat} (h : fp_OS r k e) (hp : p < q) (hq : q < k) : r (e q) (e p) = true := by
  obtain ⟨a1, a2⟩ := h p (by omega)
  obtain ⟨b1, b2⟩ := h q hq
  have hne : e q ≠ e p := fun z => by rw [z] at b2; omega
  rcases hr.tot hne with h1 | h1
  · exact h1
  · have := fp_ct_imp (q := r (e q)) (r := r (e p)) (n := k) (fun j _ hj => hr.tr h1 hj)
    omega
theorem fp_OS.ins {r : Nat → Nat → Bool} (hr : fp_lin_o r) {k pos : Nat} {e : Nat → Nat} (h : fp_OS r k e) (hp : pos ≤ k) (h1 : pos = 0 ∨ r k (e (pos - 1)) = true) (h2 : pos < k → r (e pos) k = true) : fp_OS r (k + 1) (fp_ins e pos k) := by
  have H1 : ∀ p, p < pos → r k (e p) = true := fun p hp2 => by
    rcases h1 with h1 | h1
    · omega
    · by_cases c : p = pos - 1
      · rw [c]; exact h1
      · exact hr.tr h1 (h.lt hr (by omega) (by omega))
  have H2 : ∀ p, pos ≤ p → p < k → r (e p) k = true := fun p a b => by
    by_cases c : p = pos
    · rw [c]; exact h2 (by omega)
    · exact hr.tr (h.lt hr (show pos < p by omega) b) (h2 (by omega))
  have nb : ∀ {a b}, r a b = true → r b a = false := fun {a b} x => by
    cases c : r b a with
    | false => rfl
    | true => have := hr.tr x c; rw [hr.ir] at this; cases this
  have hrk : fp_ct (r k) k = pos := by
    have hi : fp_ct (r k) k ≤ pos := by
      by_cases c : pos < k
      · obtain ⟨a1, a2⟩ := h pos c
        have := fp_ct_imp (q := r k) (r := r (e pos)) (n := k) (fun j _ hj => hr.tr (h2 c) hj)
        omega
      · have := fp_ct_le (r k) k
        omega
    have lo : pos ≤ fp_ct (r k) k := by
      rcases Nat.eq_zero_or_pos pos with c | c
      · omega
      · obtain ⟨a1, a2⟩ := h (pos - 1) (by omega)
        have h3 := H1 (pos - 1) (by omega)
        have := fp_ct_lt (q := r (e (pos - 1))) (r := r k) (n := k) (i := e (pos - 1)) (fun j _ hj => hr.tr h3 hj) a1 h3 (hr.ir _)
        omega
    omega
  intro p hp2
  unfold fp_ins
  by_cases c : p < pos
  · obtain ⟨a1, a2⟩ := h p (by omega)
    rw [if_pos c]
    refine ⟨by omega, ?_⟩
    show fp_ct (r (e p)) k + (if r (e p) k then 1 else 0) = p
    rw [nb (H1 p c), a2]
    rfl
  · rw [if_neg c]
    by_cases c2 : p = pos
    · rw [if_pos c2]
      refine ⟨by omega, ?_⟩
      show fp_ct (r k) k + (if r k k then 1 else 0) = p
      rw [hr.ir, hrk, c2]
      rfl
    · rw [if_neg c2]
      obtain ⟨a1, a2⟩ := h (p - 1) (by omega)
      refine ⟨by omega, ?_⟩
      show fp_ct (r (e (p - 1))) k + (if r (e (p - 1)) k then 1 else 0) = p
      rw [H2 (p - 1) (by omega) (by omega), a2]
      show p - 1 + 1 = p
      omega
theorem fp_srf_o (S : PS) : fp_lin_o (fp_srf S) := by
  refine ⟨fun a b c h1 h2 => ?_, fun a => ?_, fun a b h => ?_⟩
  · have h1 := of_decide_eq_true h1
    have h2 := of_decide_eq_true h2
    exact decide_eq_true (by omega)
  · exact decide_eq_false (by omega)
  · by_cases c : fp_slk S b < fp_slk S a ∨ fp_slk S b = fp_slk S a ∧ b < a
    · exact Or.inl (decide_eq_true c)
    · exact Or.inr (decide_eq_true (by omega))
theorem fp_srf_t {S : PS} {k o : Nat} (h : fp_slk S o < fp_slk S k ∨ fp_slk S o = fp_slk S k ∧ o < k) : fp_srf S k o = true := decide_eq_true h
/-- the order by slack of all blocks -/
theorem fp_OS.bsl {S : PS} {e : Nat → Nat} (h : fp_OS (fp_srf S) (sN S) e) {p : Nat} (hp : p < sN S) : e p < sN S ∧ fp_bsl S ((p : Nat) : Int) = e p := by
  obtain ⟨a1, a2⟩ := h p hp
  refine ⟨a1, fp_fi_eq a1 (decide_eq_true (by show ((fp_ct _ _ : Nat) : Int) = _; rw [a2])) (fun j hj => decide_eq_false (fun z => ?_))⟩
  have z2 : fp_ct (fp_srf S j) (sN S) = p := by
    have : ((fp_ct (fp_srf S j) (sN S) : Nat) : Int) = (p : Int) := z
    omega
  rcases (fp_srf_o S).tot (show j ≠ e p by omega) with h1 | h1
  · have := fp_ct_lt (q := fp_srf S (e p)) (r := fp_srf S j) (n := sN S) (i := e p) (fun i _ hi => (fp_srf_o S).tr h1 hi) a1 h1 ((fp_srf_o S).ir _)
    omega
  · have := fp_ct_lt (q := fp_srf S j) (r := fp_srf S (e p)) (n := sN S) (i := j) (fun i _ hi => (fp_srf_o S).tr h1 hi) (by omega) h1 ((fp_srf_o S).ir _)
    omega
theorem fp_OS.bslc0 {S : PS} {e : Nat → Nat} (h : fp_OS (fp_srf S) (sN S) e) {p : Nat} (hp : p < sN S) : fp_bslc S ((p : Nat) : Int) = 0 := if_pos (by
  have := h.bsl hp
  omega)
theorem fp_bslc_1 {S : PS} {pos : Int} (h : ¬ (0 ≤ pos ∧ pos ≤ (sN S : Int) - 1)) : fp_bslc S pos = 1 := by
  have e : fp_bsl S pos = sN S := fp_fi_n (fun j hj => decide_eq_false (fun z => by
    have h1 : fp_srk S j < sN S := by
      have := fp_ct_lt (q := fp_srf S j) (r := fun _ => true) (n := sN S) (i := j) (fun _ _ _ => rfl) hj rfl ((fp_srf_o S).ir _)
      have h2 := fp_ct_le (fun _ => true) (sN S)
      show fp_ct (fp_srf S j) (sN S) < sN S
      omega
    omega))
  exact if_neg (by omega)
theorem fp_best_min {f : Nat → Int} {n : Nat} : (∀ j, j < n → f (fp_best f n) ≤ f j) ∧ (∀ j, j < fp_best f n → f (fp_best f n) < f j) := by
  induction n with
  | zero => exact ⟨fun j hj => absurd hj (Nat.not_lt_zero _), fun j hj => absurd hj (Nat.not_lt_zero _)⟩
  | succ n ih =>
    have hb : fp_best f n ≤ n := by
      cases n with
      | zero => exact Nat.le_refl _
      | succ n => have := fp_best_lt (f := f) (n := n); omega
    by_cases c : f n < f (fp_best f n)
    · rw [fp_best_t c]
      refine ⟨fun j hj => ?_, fun j hj => ?_⟩
      · by_cases e : j = n
        · rw [e]; exact Int.le_refl _
        · have := ih.1 j (by omega)
          omega
      · have := ih.1 j hj
        omega
    · rw [fp_best_f c]
      refine ⟨fun j hj => ?_, ih.2⟩
      by_cases e : j = n
      · rw [e]; omega
      · exact ih.1 j (by omega)
theorem fp_bsl_best {S : PS} (h : 0 < sN S) : fp_bsl S (((0 : Nat) : Nat) : Int) = fp_best (fp_slk S) (sN S) := by
  have hb : fp_best (fp_slk S) (sN S) < sN S := by
    have e : sN S = (sN S - 1) + 1 := by omega
    rw [e]
    exact fp_best_lt
  obtain ⟨m1, m2⟩ := fp_best_min (f := fp_slk S) (n := sN S)
  refine fp_fi_eq hb (decide_eq_true ?_) (fun j hj => decide_eq_false (fun z => ?_))
  · have : fp_srk S (fp_best (fp_slk S) (sN S)) = 0 := Nat.le_zero.mp (by
      have := fp_ct_imp (q := fp_srf S (fp_best (fp_slk S) (sN S))) (r := fun _ => false) (n := sN S) (fun j hj hq => by
        have hq := of_decide_eq_true hq
        have a := m1 j hj
        rcases hq with hq | hq
        · omega
        · have := m2 j hq.2
          omega)
      have h2 : fp_ct (fun _ => false) (sN S) = 0 := fp_ct_down (Nat.zero_le _) (fun i hi => absurd hi (Nat.not_lt_zero _)) (fun _ _ _ => rfl)
      show fp_ct _ _ ≤ 0
      omega)
    rw [this]
  · have h3 : 0 < fp_srk S j := fp_ct_pos (k := fp_best (fp_slk S) (sN S)) hb (fp_srf_t (by have := m2 j hj; omega))
    omega
theorem fp_wkc_eq {S : PS} : fp_wkc S = fp_bslc S (((0 : Nat) : Nat) : Int) := by
  rcases Nat.eq_zero_or_pos (sN S) with c | c
  · rw [fp_bslc_1 (by omega)]
    exact if_pos c
  · have hb : fp_best (fp_slk S) (sN S) < sN S := by
      have e : sN S = (sN S - 1) + 1 := by omega
      rw [e]
      exact fp_best_lt
    rw [show fp_wkc S = 0 from if_neg (by omega)]
    exact (if_pos (by rw [fp_bsl_best c]; exact hb)).symm
/-- how many loads are not known -/
def fp_ku (S : PS) (f : Nat → Int) : Nat := fp_ct (fun j => decide (f j = -2)) (sN S)
theorem fp_ku_n (S : PS) (f : Nat → Int) : fp_ku S f ≤ sN S := fp_ct_le _ _
theorem fp_uab_ku (S : PS) (f : Nat → Int) (i : Nat) : fp_uab S f i ≤ fp_ku S f := fp_ct_imp (fun j _ h => by simp only [decide_eq_true_eq] at h ⊢; exact h.1)
theorem fp_ku_sh {S : PS} {f g : Nat → Int} {i : Nat} (h : ∀ j, j < sN S → (sB S j 5 < sB S i 5 ∨ sB S j 5 = sB S i 5 ∧ j ≠ i) → g j = f j) : fp_ku S g + fp_uab S f i = fp_ku S f + fp_uab S g i := by
  have h1 : ∀ f : Nat → Int, fp_ku S f = fp_uab S f i + fp_ct (fun j => decide (f j = -2 ∧ sB S j 5 < sB S i 5)) (sN S) := fun f => fp_ct_add (fun j _ => by
    by_cases a : f j = -2
    · by_cases b : sB S i 5 ≤ sB S j 5
      · rw [if_pos (decide_eq_true a), if_pos (decide_eq_true ⟨a, b⟩), if_neg (by simp; omega)]
      · rw [if_pos (decide_eq_true a), if_neg (by simp; omega), if_pos (decide_eq_true ⟨a, by omega⟩)]
    · rw [if_neg (by simp [a]), if_neg (by simp [a]), if_neg (by simp [a])])
  have h2 : fp_ct (fun j => decide (g j = -2 ∧ sB S j 5 < sB S i 5)) (sN S) = fp_ct (fun j => decide (f j = -2 ∧ sB S j 5 < sB S i 5)) (sN S) := fp_ct_congr (fun j hj => by
    by_cases c : sB S j 5 < sB S i 5
    · rw [h j hj (Or.inl c)]
    · rw [decide_eq_false (fun z => c z.2), decide_eq_false (fun z => c z.2)])
  have a1 := h1 f
  have a2 := h1 g
  omega
/-- how many levels there are: one more than the highest -/
def fp_mlv (S : PS) (n : Nat) : Nat := fp_mx (fun k => fp_lv S k + 1) n
theorem fp_mx_at {f : Nat → Nat} : ∀ {n : Nat}, 0 < fp_mx f n → ∃ k, k < n ∧ f k = fp_mx f n
  | 0, h => absurd h (Nat.lt_irrefl _)
  | n + 1, h => by
    by_cases c : fp_mx f n ≤ f n
    · exact ⟨n, by omega, (Nat.max_eq_right c).symm⟩
    · have e : fp_mx f (n + 1) = fp_mx f n := Nat.max_eq_left (by omega)
      obtain ⟨k, h1, h2⟩ := fp_mx_at (f := f) (n := n) (by omega)
      exact ⟨k, by omega, by rw [e]; exact h2⟩
theorem fp_mx_ge {f : Nat → Nat} {n k : Nat} (h : k < n) : f k ≤ fp_mx f n := by
  induction n with
  | zero => omega
  | succ n ih =>
    show f k ≤ max (fp_mx f n) (f n)
    by_cases e : k = n
    · rw [e]; exact Nat.le_max_right _ _
    · exact Nat.le_trans (ih (by omega)) (Nat.le_max_left _ _)
theorem fp_lset_bit (S : PS) (i : Nat) : ∀ n, (fp_lset S n).testBit i = fp_any (fun k => decide (fp_lv S k = i)) n
  | 0 => Nat.zero_testBit i
  | n + 1 => by
    show (fp_lset S n ||| 2 ^ fp_lv S n).testBit i = (fp_any _ n || _)
    rw [Nat.testBit_or, fp_lset_bit S i n, Nat.testBit_two_pow]
theorem fp_lv_down {S : PS} : ∀ d {k i : Nat}, k < sN S → fp_lv S k = i + d → ∃ o, o < sN S ∧ fp_lv S o = i
  | 0, k, i, hk, h => ⟨k, hk, h⟩
  | d + 1, k, i, hk, h => by
    have h1 : fp_mx (fun o => if fp_supf S k o = true then fp_lv S o + 1 else 0) (sN S) = i + d + 1 := (fp_lv_u S k).symm.trans (by omega)
    obtain ⟨o, ho, h2⟩ := fp_mx_at (show 0 < fp_mx (fun o => if fp_supf S k o = true then fp_lv S o + 1 else 0) (sN S) by omega)
    rw [h1] at h2
    by_cases c : fp_supf S k o = true
    · rw [if_pos c] at h2
      exact fp_lv_down d ho (by omega)
    · rw [if_neg c] at h2
      omega
theorem fp_nlv_mx {S : PS} (h30 : ∀ k, k < sN S → sB S k 5 ≤ 30) : fp_nlv S = fp_mlv S (sN S) := by
  have hle : fp_mlv S (sN S) ≤ 31 := fp_mx_le (fun k hk => by
    have := fp_lv_b S k
    have := h30 k hk
    omega)
  refine fp_ct_down hle (fun i hi => ?_) (fun i h1 _ => ?_)
  · show (fp_lset S (sN S)).testBit i = true
    rw [fp_lset_bit]
    obtain ⟨k, hk, h2⟩ := fp_mx_at (f := fun k => fp_lv S k + 1) (n := sN S) (Nat.lt_of_le_of_lt (Nat.zero_le _) hi)
    have h3 : fp_lv S k + 1 = fp_mlv S (sN S) := h2
    obtain ⟨o, ho, h4⟩ := fp_lv_down (fp_lv S k - i) (i := i) hk (by omega)
    exact fp_any_t ho (decide_eq_true h4)
  · show (fp_lset S (sN S)).testBit i = false
    rw [fp_lset_bit]
    refine fp_any_f (fun k hk => decide_eq_false (fun z => ?_))
    have := fp_mx_ge (f := fun k => fp_lv S k + 1) hk
    have : fp_lv S k + 1 ≤ fp_mlv S (sN S) := this
    omega
theorem fp_mlv_s {S : PS} {k : Nat} : max (fp_mlv S k) (1 + fp_lv S k) = fp_mlv S (k + 1) := by
  show _ = max (fp_mlv S k) (fp_lv S k + 1)
  rw [Nat.add_comm]
theorem fp_lk.n {S : PS} : fp_lk S (fun _ => (-2 : Int)) := fun _ _ => Or.inl rfl
theorem fp_kl.n {S : PS} : fp_kl S (fun _ => (-2 : Int)) := fun _ _ => Or.inl rfl
/-- the order's row while room is made -/
theorem fp_os_sh {g : Nat → Int} {e : Nat → Nat} {k q : Nat} (h1 : ∀ p, p < q → g p = ((e p : Nat) : Int)) (h2 : ∀ p, q < p → p ≤ k → g p = ((e (p - 1) : Nat) : Int)) (hq : 0 < q) : (∀ p, p < q - 1 → va_up g q (g (q - 1)) p = ((e p : Nat) : Int)) ∧ ∀ p, q - 1 < p → p ≤ k → va_up g q (g (q - 1)) p = ((e (p - 1) : Nat) : Int) := by
  refine ⟨fun p hp => ?_, fun p hp hk => ?_⟩
  · rw [va_up_ne _ _ (by omega)]
    exact h1 p (by omega)
  · by_cases c : p = q
    · subst c
      rw [va_up_self]
      exact h1 _ (by omega)
    · rw [va_up_ne _ _ c]
      exact h2 p (by omega) hk
theorem fp_os_in {g : Nat → Int} {e : Nat → Nat} {k q : Nat} (h1 : ∀ p, p < q → g p = ((e p : Nat) : Int)) (h2 : ∀ p, q < p → p ≤ k → g p = ((e (p - 1) : Nat) : Int)) : ∀ p, p < k + 1 → va_up g q ((k : Nat) : Int) p = ((fp_ins e q k p : Nat) : Int) := fun p hp => by
  unfold fp_ins
  by_cases c : p = q
  · subst c
    rw [va_up_self, if_neg (Nat.lt_irrefl _), if_pos rfl]
  · rw [va_up_ne _ _ c]
    by_cases c2 : p < q
    · rw [if_pos c2]; exact h1 p c2
    · rw [if_neg c2, if_neg c]; exact h2 p (by omega) (by omega)
theorem fp_slk_up {S : PS} {f : Nat → Int} {k : Nat} {z : Int} (h : ∀ j, j < k → f j = fp_slk S j) (hz : z = fp_slk S k) : ∀ j, j < k + 1 → va_up f k z j = fp_slk S j := fun j hj => by
  by_cases c : j = k
  · subst c; rw [va_up_self]; exact hz
  · rw [va_up_ne _ _ c]; exact h j (by omega)
theorem fp_fc2_0 {S : PS} {a b : Int} (h1 : fp_fnd S a < sN S) (h2 : fp_fnd S b < sN S) : fp_fc2 S a b = 0 := if_pos ⟨h1, h2⟩
theorem fp_fc2_1 {S : PS} {a b : Int} (h : fp_fc S a = 1) : fp_fc2 S a b = 1 := if_neg (fun x => by
  have : fp_fc S a = 0 := if_pos x.1
  omega)
theorem fp_fc2_2 {S : PS} {a b : Int} (h : fp_fc S b = 1) : fp_fc2 S a b = 1 := if_neg (fun x => by
  have : fp_fc S b = 0 := if_pos x.2
  omega)
theorem fp_slk_b {S : PS} (h : fp_ok S) {k : Nat} (hk : k < sN S) : rg (fp_slk S k) := by
  have a := fp_ld_b h k
  have b := fp_str_b (h.2.2.1 k hk)
  unfold fp_slk
  exact ⟨by omega, by omega⟩
theorem fp_wkc_p {S : PS} (h : fp_wkc S = 0) : 0 < sN S := by
  refine Nat.pos_of_ne_zero (fun z => ?_)
  have : fp_wkc S = 1 := if_pos z
  omega
theorem fp_nb_t {a : Bool} (h : (!a) = false) : a = true := by
  cases a with
  | false => cases h
  | true => rfl
theorem fp_nb_f {a : Bool} (h : (!a) = true) : a = false := by
  cases a with
  | true => cases h
  | false => rfl

set_option maxRecDepth 100000
set_option maxHeartbeats 4000000 in
theorem c_X1_blockAt (G : fp_G) (x : Nat) (u : Nat) (sv : Value) (hi : Nat) (ip : Nat) (ln : Nat) (ex : Bool) (er : Int) (fa : Int) (l : Nat) (ed : Nat) (z : Nat) (t : Nat) (mc : Int32) (cap : Nat) (b : Nat → Nat) (S : PS) (zn : Int) (hsw : fp_sw S b) (hz : rg zn) : fp_MX G yX1_blockAt cX1_blockAt 2 (some .int) 7 101 1 6 [.ref (x), .int (iI (zn))] (fun H => fp_At G H x (eO 1 [.ref (u), sv, .ref (hi), .ref (ip), .ref (ln), .int (iI (bI (ex))), .int (iI (er)), .int (iI (fa))]) ∧ fp_SE G u l ed z t mc cap b S H) fp_no (fun H v H1 => v = some (.int (iI ((sB S zn.toNat 0 : Nat) : Int))) ∧ (fp_atc S zn = 0)) (fun H E H1 => (E = "java/lang/IndexOutOfBoundsException" ∧ fp_X H H1 ∧ fp_atc S zn = 1)) := by
  refine fp_MX.intro (by decide) (Nat.le_of_ble_eq_true rfl) ?_
  intro pg en s mi ag bl mt cd rR qQ ls X hx hb hr hlk hnm hR hQ hT hB hM hl
  have hS : va_S (fA fp_no s.heap.size) s.heap s.heap [] := va_S.rf
  generalize ([] : List Loc) = locs at hS ⊢
  have hb0 := hB.1
  obtain ⟨h_pob, h_st⟩ := hM
  have hsz0 := hS.1
  have lt_1 := h_pob.lt
  have lt_2 := h_st.1.lt
  have hn24 := hsw.1.1
  obtain ⟨h_o, h_l, h_z, h_t, h_bl, h_xb, h_zb, h_tb⟩ := id h_st
  have lt_3 := h_l.1.lt
  have lt_4 := h_l.2.2
  have lt_5 := h_z.lt
  have lt_6 := h_t.lt
  refine lv_iload_n hx hb dX1_blockAt_0 rfl (lv_at hl 1 rfl) ?_
  refine lv_iconst (v := (iI ((0 : Nat) : Int))) hx hb dX1_blockAt_1 rfl ?_
  refine lv_aload_n hx hb dX1_blockAt_2 rfl (lv_at hl 0 rfl) ?_
  refine r_get X h_pob rfl in_X1 0 (by decide) q242 (Or.inl rfl) (v := .ref (u)) rfl dX1_blockAt_3 ?_
  refine r_getN X h_st.1 rfl in_X2 0 (by decide) q174 (Or.inl rfl) (v := .ref (l)) rfl dX1_blockAt_6 ?_
  refine r_callV (cells1 := 0) (slots1 := 0) X hR (c_J2_size G l ed mc (sN S) cap b) q460 q461 q462 q92 q463 ⟨rfl, pd_J2_size⟩ ⟨Nat.le_of_ble_eq_true rfl, Nat.le_of_ble_eq_true rfl⟩ rfl rfl (Nat.le_of_ble_eq_true rfl) (Nat.le_of_ble_eq_true rfl) h_l.1 rfl rfl (Nat.le_of_ble_eq_true rfl) hl.1 dX1_blockAt_9 (hB.of hS fp_no.base) h_l hS (fun _ h => h.elim) (fun v H_10 locs hp_7 hz_8 hk_9 hS => ?_)
  obtain ⟨rfl, rfl⟩ := hp_7
  refine r_stk (st2 := [.int (iI (((sN S) : Nat) : Int)), .int (iI ((0 : Nat) : Int)), .int (iI (zn))]) rfl ?_
  refine lv_iconst (v := (iI ((1 : Nat) : Int))) hx hb dX1_blockAt_12 rfl ?_
  refine r_isub hx hb dX1_blockAt_13 ?_
  refine r_callS (cells1 := 0) (slots1 := 0) X hR (c_X1_isBetween G (zn) 0 ((((sN S) : Nat) : Int) - ((1 : Nat) : Int)) (⟨by omega, by omega⟩) (⟨by omega, by omega⟩) (⟨by omega, by omega⟩)) q450 q404 q88 q405 pd_X1_isBetween ⟨Nat.le_of_ble_eq_true rfl, Nat.le_of_ble_eq_true rfl⟩ rfl rfl (Nat.le_of_ble_eq_true rfl) (Nat.le_of_ble_eq_true rfl) rfl (Nat.le_of_ble_eq_true rfl) hl.1 dX1_blockAt_14 (hB.of hS fp_no.base) trivial hS (fun _ h => h.elim) (fun v H_14 locs hp_11 hz_12 hk_13 hS => ?_)
  obtain ⟨rfl, rfl⟩ := hp_11
  refine r_stk (st2 := [.int (iI (bI (decide (0 ≤ (zn) ∧ (zn) ≤ ((((sN S) : Nat) : Int) - ((1 : Nat) : Int))))))]) rfl ?_
  refine x_callS (cells1 := 1) (slots1 := 6) X hR (c_X1_checkIndex G (decide (0 ≤ (zn) ∧ (zn) ≤ ((((sN S) : Nat) : Int) - ((1 : Nat) : Int))))) q1350 q1351 q88 q1352 pd_X1_checkIndex ⟨Nat.le_of_ble_eq_true rfl, Nat.le_of_ble_eq_true rfl⟩ rfl rfl (Nat.le_of_ble_eq_true rfl) (Nat.le_of_ble_eq_true rfl) rfl (Nat.le_of_ble_eq_true rfl) hl.1 dX1_blockAt_17 (hB.of hS fp_no.base) trivial hS (fun _ h => h.elim) (fun v H_18 locs hp_15 hz_16 hk_17 hS => ?_) (fun Ex qx cx H_18 locs hp_15 hz_16 hk_17 hS hcx hvx hlx => ?_)
  · skip
    obtain ⟨rfl, rfl, hbt_19⟩ := hp_15
    refine r_stk (st2 := []) rfl ?_
    have hck9 := of_decide_eq_true hbt_19
    obtain ⟨kn, rfl⟩ : ∃ kn : Nat, zn = ((kn : Nat) : Int) := ⟨zn.toNat, by omega⟩
    have hkn : kn < sN S := by omega
    refine lv_aload_n hx hb dX1_blockAt_20 rfl (lv_at hl 0 rfl) ?_
    refine r_get X h_pob rfl in_X1 0 (by decide) q242 (Or.inl rfl) (v := .ref (u)) rfl dX1_blockAt_21 ?_
    refine r_getN X h_st.1 rfl in_X2 0 (by decide) q174 (Or.inl rfl) (v := .ref (l)) rfl dX1_blockAt_24 ?_
    refine lv_iload_n hx hb dX1_blockAt_27 rfl (lv_at hl 1 rfl) ?_
    refine r_callV (cells1 := 1) (slots1 := 6) X hR (c_J2_get G l ed mc (sN S) cap b kn (by omega)) q1432 q490 q491 q92 q492 ⟨rfl, pd_J2_get⟩ ⟨Nat.le_of_ble_eq_true rfl, Nat.le_of_ble_eq_true rfl⟩ rfl rfl (Nat.le_of_ble_eq_true rfl) (Nat.le_of_ble_eq_true rfl) h_l.1 rfl rfl (Nat.le_of_ble_eq_true rfl) hl.1 dX1_blockAt_28 (hB.of hS fp_no.base) h_l hS (fun _ h => h.elim) (fun v H_23 locs hp_20 hz_21 hk_22 hS => ?_)
    obtain ⟨rfl, rfl⟩ := hp_20
    refine r_stk (st2 := [.ref (b kn)]) rfl ?_
    have hbk := hsw.1.2.2.1 kn hkn
    refine r_castB X (h_bl kn (by omega)) (hsw.1.2.2.1 kn (by omega)).2.1 q1433 dX1_blockAt_31 ?_
    refine r_getBN 0 (by decide) 0 rfl X (h_bl kn (by omega)) (hsw.1.2.2.1 kn (by omega)).2.1 q1155 dX1_blockAt_34 ?_
    refine x_iret hx hb hr hlk hQ hS (Nat.le_of_ble_eq_true rfl) (Nat.le_of_ble_eq_true rfl) dX1_blockAt_37 ?_
    exact ⟨(congrArg (fun q : Nat => some (Value.int (iI (sB S q 0 : Nat)))) (Int.toNat_natCast kn).symm), (if_pos (by omega))⟩
  · skip
    rcases hp_15 with ⟨rfl, hX9, hb9⟩
    exact x_out hT hlk hQ hS (Nat.le_of_ble_eq_true rfl) (Nat.le_of_ble_eq_true rfl) hcx hvx hlx (⟨rfl, fp_X.ofS hS, if_neg (fun z => of_decide_eq_false hb9 (by omega))⟩)
set_option maxHeartbeats 4000000 in
theorem c_X1_supporterAt (G : fp_G) (x : Nat) (u : Nat) (sv : Value) (hi : Nat) (ip : Nat) (ln : Nat) (ex : Bool) (er : Int) (fa : Int) (l : Nat) (ed : Nat) (z : Nat) (t : Nat) (mc : Int32) (cap : Nat) (b : Nat → Nat) (S : PS) (zn : Int) (pos : Int) (hsw : fp_sw S b) (hz : rg zn) (hp : rg pos) (hdl : fp_dl S) : fp_MX G yX1_supporterAt cX1_supporterAt 4 (some .int) 8 196 9 140 [.ref (x), .int (iI (zn)), .int (iI (pos))] (fun H => fp_At G H x (eO 1 [.ref (u), sv, .ref (hi), .ref (ip), .ref (ln), .int (iI (bI (ex))), .int (iI (er)), .int (iI (fa))]) ∧ fp_SE G u l ed z t mc cap b S H) fp_no (fun H v H1 => v = some (.int (iI ((sB S (fp_sat S (fp_fnd S zn) pos) 0 : Nat) : Int))) ∧ (fp_satc S zn pos = 0)) (fun H E H1 => (E = "java/util/NoSuchElementException" ∧ fp_X H H1 ∧ fp_satc S zn pos = 1)) := by
  refine fp_MX.intro (by decide) (Nat.le_of_ble_eq_true rfl) ?_
  intro pg en s mi ag bl mt cd rR qQ ls X hx hb hr hlk hnm hR hQ hT hB hM hl
  have hS : va_S (fA fp_no s.heap.size) s.heap s.heap [] := va_S.rf
  generalize ([] : List Loc) = locs at hS ⊢
  have hb0 := hB.1
  obtain ⟨h_pob, h_st⟩ := hM
  have hsz0 := hS.1
  have lt_1 := h_pob.lt
  have lt_2 := h_st.1.lt
  have hn24 := hsw.1.1
  obtain ⟨h_o, h_l, h_z, h_t, h_bl, h_xb, h_zb, h_tb⟩ := id h_st
  have lt_3 := h_l.1.lt
  have lt_4 := h_l.2.2
  have lt_5 := h_z.lt
  have lt_6 := h_t.lt
  refine lv_aload_n hx hb dX1_supporterAt_0 rfl (lv_at hl 0 rfl) ?_
  refine r_get X h_pob rfl in_X1 0 (by decide) q242 (Or.inl rfl) (v := .ref (u)) rfl dX1_supporterAt_1 ?_
  refine lv_aload_n hx hb dX1_supporterAt_4 rfl (lv_at hl 0 rfl) ?_
  refine lv_iload_n hx hb dX1_supporterAt_5 rfl (lv_at hl 1 rfl) ?_
  refine x_callV (cells1 := 2) (slots1 := 10) X hR (c_X1_block G x u sv hi ip ln ex (er) (fa) l ed z t mc cap b S (zn) hsw (⟨by omega, by omega⟩)) q1320 q1322 qs26 q88 q1323 ⟨rfl, pd_X1_block⟩ ⟨Nat.le_of_ble_eq_true rfl, Nat.le_of_ble_eq_true rfl⟩ rfl rfl (Nat.le_of_ble_eq_true rfl) (Nat.le_of_ble_eq_true rfl) h_pob rfl rfl (Nat.le_of_ble_eq_true rfl) hl.1 dX1_supporterAt_6 (hB.of hS fp_no.base) ⟨h_pob, h_st⟩ hS (fun _ h => h.elim) (fun v H_10 locs hp_7 hz_8 hk_9 hS => ?_) (fun Ex qx cx H_10 locs hp_7 hz_8 hk_9 hS hcx hvx hlx => ?_)
  · skip
    obtain ⟨rfl, hfn_11⟩ := hp_7
    have hz_12 := hS.1
    refine r_stk (st2 := [.ref (b (fp_fnd S (zn))), .ref (u)]) rfl ?_
    have hfn := hfn_11
    have hbk0 := hsw.1.2.2.1 (fp_fnd S zn) hfn
    have hFC : fp_fc S zn = 0 := fp_fc_0 rfl hfn
    have hE_13 := h_st.ext (fp_X.ofS hS)
    refine r_callV (cells1 := 8) (slots1 := 131) X hR (c_X2_supporters G u l ed z t mc cap b S (fp_fnd S zn) hsw hdl hfn) q1498 q555 q556 q89 q557 ⟨rfl, pd_X2_supporters⟩ ⟨Nat.le_of_ble_eq_true rfl, Nat.le_of_ble_eq_true rfl⟩ rfl rfl (Nat.le_of_ble_eq_true rfl) (Nat.le_of_ble_eq_true rfl) hE_13.1 rfl rfl (Nat.le_of_ble_eq_true rfl) hl.1 dX1_supporterAt_9 (hB.of hS fp_no.base) hE_13 hS (fun _ h => h.elim) (fun v H_17 locs hp_14 hz_15 hk_16 hS => ?_)
    obtain ⟨q_18, ed2_19, mc2_20, cap2_21, c, e, rfl, hq_22, hed_23, hSU_24, hE_25⟩ := hp_14
    have hz_26 := hS.1
    have lt_28 := hE_25.1.lt
    have lt_29 := hE_25.2.2
    refine r_stk (st2 := [.ref (q_18)]) rfl ?_
    have hSU := hSU_24
    have hck := hSU.le
    refine lv_astore_n (lv' := [(3, .ref (q_18)), (0, .ref (x)), (1, .int (iI (zn))), (2, .int (iI (pos)))]) hx hb dX1_supporterAt_12 rfl hl (by decide) rfl (fun ls hl => ?_)
    refine lv_iload_n hx hb dX1_supporterAt_13 rfl (lv_at hl 3 rfl) ?_
    refine lv_iconst (v := (iI ((0 : Nat) : Int))) hx hb dX1_supporterAt_14 rfl ?_
    refine lv_aload_n hx hb dX1_supporterAt_15 rfl (lv_at hl 0 rfl) ?_
    refine r_callV (cells1 := 8) (slots1 := 131) X hR (c_J2_size G q_18 ed2_19 mc2_20 c cap2_21 (fun p => b (e p))) q460 q461 q462 q92 q463 ⟨rfl, pd_J2_size⟩ ⟨Nat.le_of_ble_eq_true rfl, Nat.le_of_ble_eq_true rfl⟩ rfl rfl (Nat.le_of_ble_eq_true rfl) (Nat.le_of_ble_eq_true rfl) hE_25.1 rfl rfl (Nat.le_of_ble_eq_true rfl) hl.1 dX1_supporterAt_16 (hB.of hS fp_no.base) hE_25 hS (fun _ h => h.elim) (fun v H_33 locs hp_30 hz_31 hk_32 hS => ?_)
    obtain ⟨rfl, rfl⟩ := hp_30
    refine r_stk (st2 := [.int (iI ((c : Nat) : Int)), .int (iI ((0 : Nat) : Int)), .int (iI (pos))]) rfl ?_
    refine lv_iconst (v := (iI ((1 : Nat) : Int))) hx hb dX1_supporterAt_19 rfl ?_
    refine r_isub hx hb dX1_supporterAt_20 ?_
    refine r_callS (cells1 := 8) (slots1 := 131) X hR (c_X1_isBetween G (pos) 0 (((c : Nat) : Int) - ((1 : Nat) : Int)) (⟨by omega, by omega⟩) (⟨by omega, by omega⟩) (⟨by omega, by omega⟩)) q450 q404 q88 q405 pd_X1_isBetween ⟨Nat.le_of_ble_eq_true rfl, Nat.le_of_ble_eq_true rfl⟩ rfl rfl (Nat.le_of_ble_eq_true rfl) (Nat.le_of_ble_eq_true rfl) rfl (Nat.le_of_ble_eq_true rfl) hl.1 dX1_supporterAt_21 (hB.of hS fp_no.base) trivial hS (fun _ h => h.elim) (fun v H_37 locs hp_34 hz_35 hk_36 hS => ?_)
    obtain ⟨rfl, rfl⟩ := hp_34
    refine r_stk (st2 := [.int (iI (bI (decide (0 ≤ (pos) ∧ (pos) ≤ (((c : Nat) : Int) - ((1 : Nat) : Int))))))]) rfl ?_
    refine x_callS (cells1 := 9) (slots1 := 137) X hR (c_X1_checkElement G (decide (0 ≤ (pos) ∧ (pos) ≤ (((c : Nat) : Int) - ((1 : Nat) : Int))))) q1324 q1325 q88 q1326 pd_X1_checkElement ⟨Nat.le_of_ble_eq_true rfl, Nat.le_of_ble_eq_true rfl⟩ rfl rfl (Nat.le_of_ble_eq_true rfl) (Nat.le_of_ble_eq_true rfl) rfl (Nat.le_of_ble_eq_true rfl) hl.1 dX1_supporterAt_24 (hB.of hS fp_no.base) trivial hS (fun _ h => h.elim) (fun v H_41 locs hp_38 hz_39 hk_40 hS => ?_) (fun Ex qx cx H_41 locs hp_38 hz_39 hk_40 hS hcx hvx hlx => ?_)
    · skip
      obtain ⟨rfl, rfl, hbt_42⟩ := hp_38
      refine r_stk (st2 := []) rfl ?_
      have hck9 := of_decide_eq_true hbt_42
      obtain ⟨pn, rfl⟩ : ∃ pn : Nat, pos = ((pn : Nat) : Int) := ⟨pos.toNat, by omega⟩
      have hpn : pn < c := by omega
      have hsat := hSU.sat hdl hfn hpn
      have hbk := hsw.1.2.2.1 (e pn) hsat.1
      refine lv_aload_n hx hb dX1_supporterAt_27 rfl (lv_at hl 0 rfl) ?_
      refine lv_iload_n hx hb dX1_supporterAt_28 rfl (lv_at hl 3 rfl) ?_
      refine r_callV (cells1 := 9) (slots1 := 137) X hR (c_J2_get G q_18 ed2_19 mc2_20 c cap2_21 (fun p => b (e p)) pn (by omega)) q1432 q490 q491 q92 q492 ⟨rfl, pd_J2_get⟩ ⟨Nat.le_of_ble_eq_true rfl, Nat.le_of_ble_eq_true rfl⟩ rfl rfl (Nat.le_of_ble_eq_true rfl) (Nat.le_of_ble_eq_true rfl) hE_25.1 rfl rfl (Nat.le_of_ble_eq_true rfl) hl.1 dX1_supporterAt_29 (hB.of hS fp_no.base) hE_25 hS (fun _ h => h.elim) (fun v H_46 locs hp_43 hz_44 hk_45 hS => ?_)
      obtain ⟨rfl, rfl⟩ := hp_43
      refine r_stk (st2 := [.ref (b (e pn))]) rfl ?_
      have hE_47 := h_bl.ext (fp_X.ofS hS)
      refine r_castB X (hE_47 (e pn) (by omega)) (hsw.1.2.2.1 (e pn) (by omega)).2.1 q1433 dX1_supporterAt_32 ?_
      refine r_getBN 0 (by decide) 0 rfl X (hE_47 (e pn) (by omega)) (hsw.1.2.2.1 (e pn) (by omega)).2.1 q1155 dX1_supporterAt_35 ?_
      refine x_iret hx hb hr hlk hQ hS (Nat.le_of_ble_eq_true rfl) (Nat.le_of_ble_eq_true rfl) dX1_supporterAt_38 ?_
      exact ⟨(congrArg (fun q : Nat => some (Value.int (iI (sB S q 0 : Nat)))) hsat.2.symm), (hSU.satc0 hdl hfn hpn)⟩
    · skip
      rcases hp_38 with ⟨rfl, hX9, hb9⟩
      exact x_out hT hlk hQ hS (Nat.le_of_ble_eq_true rfl) (Nat.le_of_ble_eq_true rfl) hcx hvx hlx (⟨rfl, fp_X.ofS hS, hSU.satc1 (of_decide_eq_false hb9)⟩)
  · skip
    rcases hp_7 with ⟨rfl, hX9, hb9⟩
    exact x_out hT hlk hQ hS (Nat.le_of_ble_eq_true rfl) (Nat.le_of_ble_eq_true rfl) hcx hvx hlx (⟨rfl, fp_X.ofS hS, fp_satc_f hb9⟩)
set_option maxHeartbeats 4000000 in
theorem c_X1_sortBySlack (G : fp_G) (x : Nat) (u : Nat) (sv : Value) (hi : Nat) (ip : Nat) (ln : Nat) (ex : Bool) (er : Int) (fa : Int) (l : Nat) (ed : Nat) (z : Nat) (t : Nat) (mc : Int32) (cap : Nat) (b : Nat → Nat) (S : PS) (hsw : fp_sw S b) (hdl : fp_dl S) : fp_M G yX1_sortBySlack cX1_sortBySlack 6 (some (.array .int)) 10 245 147 2976 [.ref (x)] (fun H => fp_At G H x (eO 1 [.ref (u), sv, .ref (hi), .ref (ip), .ref (ln), .int (iI (bI (ex))), .int (iI (er)), .int (iI (fa))]) ∧ fp_SE G u l ed z t mc cap b S H) fp_no (fun H v H1 => ∃ (q : Nat), ∃ (e : Nat → Nat), ∃ (g : Nat → Int), v = some (.ref (q)) ∧ (H.size ≤ q) ∧ (fp_OS (fp_srf S) (sN S) e) ∧ (∀ p, p < sN S → g p = ((e p : Nat) : Int)) ∧ fp_At G H1 q (eI G (sN S) (fun j => iI (g j)))) := by
  refine fp_M.intro (by decide) (Nat.le_of_ble_eq_true rfl) ?_
  intro pg en s mi ag bl mt cd rR qQ ls X hx hb hr hlk hnm hR hQ hB hM hl
  have hS : va_S (fA fp_no s.heap.size) s.heap s.heap [] := va_S.rf
  generalize ([] : List Loc) = locs at hS ⊢
  have hb0 := hB.1
  obtain ⟨h_pob, h_st⟩ := hM
  have hsz0 := hS.1
  have lt_1 := h_pob.lt
  have lt_2 := h_st.1.lt
  have hn24 := hsw.1.1
  obtain ⟨h_o, h_l, h_z, h_t, h_bl, h_xb, h_zb, h_tb⟩ := id h_st
  have lt_3 := h_l.1.lt
  have lt_4 := h_l.2.2
  have lt_5 := h_z.lt
  have lt_6 := h_t.lt
  refine lv_aload_n hx hb dX1_sortBySlack_0 rfl (lv_at hl 0 rfl) ?_
  refine r_get X h_pob rfl in_X1 0 (by decide) q242 (Or.inl rfl) (v := .ref (u)) rfl dX1_sortBySlack_1 ?_
  refine r_callV (cells1 := 145) (slots1 := 2928) X hR (c_X2_loads G u l ed z t mc cap b S hsw hdl) q546 q547 q548 q89 q549 ⟨rfl, pd_X2_loads⟩ ⟨Nat.le_of_ble_eq_true rfl, Nat.le_of_ble_eq_true rfl⟩ rfl rfl (Nat.le_of_ble_eq_true rfl) (Nat.le_of_ble_eq_true rfl) h_st.1 rfl rfl (Nat.le_of_ble_eq_true rfl) hl.1 dX1_sortBySlack_4 (hB.of hS fp_no.base) h_st hS (fun _ h => h.elim) (fun v H_10 locs hp_7 hz_8 hk_9 hS => ?_)
  obtain ⟨a_11, rfl, ha_12, hE_13⟩ := hp_7
  have hz_14 := hS.1
  have lt_16 := hE_13.lt
  refine r_stk (st2 := [.ref (a_11)]) rfl ?_
  refine lv_astore_n (lv' := [(1, .ref (a_11)), (0, .ref (x))]) hx hb dX1_sortBySlack_7 rfl hl (by decide) rfl (fun ls hl => ?_)
  refine lv_aload_n hx hb dX1_sortBySlack_8 rfl (lv_at hl 0 rfl) ?_
  refine r_alen X (t := 0) rfl hE_13 (v := (iI ((sN S : Nat) : Int))) rfl dX1_sortBySlack_9 ?_
  refine r_newaI (n := sN S) X hR hS q513 rfl (by omega) (Nat.le_of_ble_eq_true rfl) (by omega) dX1_sortBySlack_10 (fun q_17 H_18 hq_22 hE_19 hX_20 hz_21 hS => ?_)
  have hz_23 := hS.1
  have lt_24 := hE_19.lt
  refine lv_astore_n (lv' := [(2, .ref (q_17)), (1, .ref (a_11)), (0, .ref (x))]) hx hb dX1_sortBySlack_12 rfl hl (by decide) rfl (fun ls hl => ?_)
  refine lv_aload_n hx hb dX1_sortBySlack_13 rfl (lv_at hl 1 rfl) ?_
  have hE_26 := fp_At.kept hE_13 (hX_20.2 _ (by omega))
  refine r_alen X (t := 0) rfl hE_26 (v := (iI ((sN S : Nat) : Int))) rfl dX1_sortBySlack_14 ?_
  refine r_newaI (n := sN S) X hR hS q513 rfl (by omega) (Nat.le_of_ble_eq_true rfl) (by omega) dX1_sortBySlack_15 (fun q_27 H_28 hq_32 hE_29 hX_30 hz_31 hS => ?_)
  have hz_33 := hS.1
  have lt_34 := hE_29.lt
  refine lv_astore_n (lv' := [(3, .ref (q_27)), (2, .ref (q_17)), (1, .ref (a_11)), (0, .ref (x))]) hx hb dX1_sortBySlack_17 rfl hl (by decide) rfl (fun ls hl => ?_)
  refine lv_iconst (v := (iI ((0 : Nat) : Int))) hx hb dX1_sortBySlack_18 rfl ?_
  refine lv_istore (lv' := [(4, .int (iI ((0 : Nat) : Int))), (3, .ref (q_27)), (2, .ref (q_17)), (1, .ref (a_11)), (0, .ref (x))]) hx hb dX1_sortBySlack_19 hl (by decide) rfl (fun ls hl => ?_)
  have hE_36 := fp_At.kept hE_26 (hX_30.2 _ (by omega))
  have hE_38 := fp_At.kept hE_19 (hX_30.2 _ (by omega))
  have L21 : ∀ (k : Nat), k ≤ sN S → ∀ (e : Nat → Nat) (g : Nat → Int) (sl : Nat → Int) (H_39 : Heap) (locs : List Loc) (ls : Array Slot), lv_has ls 6 [(0, .ref (x)), (1, .ref (a_11)), (2, .ref (q_17)), (3, .ref (q_27)), (4, .int (iI ((k : Nat) : Int)))] → va_S (fA fp_no s.heap.size) s.heap H_39 locs → (fp_OS (fp_srf S) k e) → (∀ p, p < k → g p = ((e p : Nat) : Int)) → (∀ j, j < k → sl j = fp_slk S j) → (H_28.size ≤ H_39.size) → fp_At G H_39 a_11 (eI G (sN S) (fun j => iI ((fun j => ((fp_ld S j : Nat) : Int)) j))) → fp_At G H_39 q_17 (eI G (sN S) (fun j => iI (sl j))) → fp_At G H_39 q_27 (eI G (sN S) (fun j => iI (g j))) → W pg (g_l G) en rR s mi ag bl mt cd H_39 locs 147 (2928 + (sN S) + (sN S)) qQ (F0 mi 21 ls []) := by
    refine lp_up (sN S) ?_
    intro k hk21 ih21 e g sl H_39 locs ls hl hS hOS hge hsl hz_40 hE_41 hE_42 hE_43
    have hz_44 := hS.1
    have lt_45 := hE_41.lt
    have lt_46 := hE_42.lt
    have lt_47 := hE_43.lt
    have hlb := fp_ld_b hsw.1 k
    refine lv_iload hx hb dX1_sortBySlack_21 (lv_at hl 4 rfl) ?_
    refine lv_aload_n hx hb dX1_sortBySlack_23 rfl (lv_at hl 3 rfl) ?_
    refine r_alen X (t := 0) rfl hE_43 (v := (iI ((sN S : Nat) : Int))) rfl dX1_sortBySlack_24 ?_
    refine r_icmp_ge (tgt := 107) hx hb ⟨by omega, by omega⟩ ⟨by omega, by omega⟩ dX1_sortBySlack_25 (by decide) (fun c25 => ?_) (fun c25 => ?_)
    · skip
      obtain rfl : k = sN S := by omega
      refine lv_aload_n hx hb dX1_sortBySlack_107 rfl (lv_at hl 3 rfl) ?_
      refine r_aret hx hb hr hlk hQ hS (Nat.le_of_ble_eq_true rfl) (by omega) dX1_sortBySlack_108 (Or.inr ⟨_, rfl⟩) (Or.inr ⟨_, rfl⟩) ?_
      exact ⟨q_27, e, g, rfl, (by omega), hOS, hge, hE_43⟩
    · skip
      have hbk := hsw.1.2.2.1 k (by omega)
      refine lv_aload_n hx hb dX1_sortBySlack_28 rfl (lv_at hl 2 rfl) ?_
      refine lv_iload hx hb dX1_sortBySlack_29 (lv_at hl 4 rfl) ?_
      refine lv_aload_n hx hb dX1_sortBySlack_31 rfl (lv_at hl 0 rfl) ?_
      have hE_48 := fp_At.kept h_pob (fp_keptS (by omega) hS (fun z => z))
      refine r_get X hE_48 rfl in_X1 0 (by decide) q242 (Or.inl rfl) (v := .ref (u)) rfl dX1_sortBySlack_32 ?_
      have hE_49 := h_st.ext (fp_X.ofS hS)
      refine r_getN X hE_49.1 rfl in_X2 0 (by decide) q174 (Or.inl rfl) (v := .ref (l)) rfl dX1_sortBySlack_35 ?_
      refine lv_iload hx hb dX1_sortBySlack_38 (lv_at hl 4 rfl) ?_
      have hE_50 := h_l.ext (fp_X.ofS hS)
      refine r_callV (cells1 := 147) (slots1 := (2928 + (sN S) + (sN S))) X hR (c_J2_get G l ed mc (sN S) cap b k (by omega)) q1432 q490 q491 q92 q492 ⟨rfl, pd_J2_get⟩ ⟨Nat.le_of_ble_eq_true rfl, Nat.le_of_ble_eq_true rfl⟩ rfl rfl (Nat.le_of_ble_eq_true rfl) (by omega) hE_50.1 rfl rfl (Nat.le_of_ble_eq_true rfl) hl.1 dX1_sortBySlack_40 (hB.of hS fp_no.base) hE_50 hS (fun _ h => h.elim) (fun v H_54 locs hp_51 hz_52 hk_53 hS => ?_)
      obtain ⟨rfl, rfl⟩ := hp_51
      refine r_stk (st2 := [.ref (b k), .int (iI ((k : Nat) : Int)), .ref (q_17)]) rfl ?_
      have hE_55 := h_bl.ext (fp_X.ofS hS)
      refine r_castB X (hE_55 k (by omega)) (hsw.1.2.2.1 k (by omega)).2.1 q1433 dX1_sortBySlack_43 ?_
      refine b_strength X hR (hE_55 k (by omega)) ((hsw.1.2.2.1 k (by omega)).2.1) (hsw.1.2.2.1 k (by omega)) q1476 (by decide) (by decide) (Nat.le_of_ble_eq_true rfl) (by omega) (Nat.le_of_ble_eq_true rfl) hl.1 dX1_sortBySlack_46 (hB.of hS fp_no.base) hS (fun locs hS => ?_)
      refine lv_aload_n hx hb dX1_sortBySlack_49 rfl (lv_at hl 1 rfl) ?_
      refine lv_iload hx hb dX1_sortBySlack_50 (lv_at hl 4 rfl) ?_
      refine r_ialdI X hE_41 (j := k) rfl (by omega) (by omega) dX1_sortBySlack_52 ?_
      refine r_set (y := .int (iI ((fp_ld S k : Nat) : Int))) rfl ?_
      refine r_isub hx hb dX1_sortBySlack_53 ?_
      refine r_iastI X hE_42 hS (Or.inr (by omega)) (j := k) rfl (by omega) (by omega) dX1_sortBySlack_54 (fun H_59 locs hE_56 hz_57 hq_58 hS => ?_)
      have hz_60 := hS.1
      have hE_61 : fp_At G H_59 q_17 (eI G (sN S) (fun j => iI ((va_up sl k (((fp_str ((sB S) k) : Nat) : Int) - ((fp_ld S k : Nat) : Int))) j))) := hE_56.updI
      have hsk : ∀ j, j < k + 1 → va_up sl k (((fp_str (sB S k) : Nat) : Int) - ((fp_ld S k : Nat) : Int)) j = fp_slk S j := fp_slk_up hsl rfl
      have hskb : fp_slk S k = ((fp_str (sB S k) : Nat) : Int) - ((fp_ld S k : Nat) : Int) := rfl
      have hsb55 := fp_slk_b hsw.1 (k := k) (by omega)
      refine lv_iload hx hb dX1_sortBySlack_55 (lv_at hl 4 rfl) ?_
      refine lv_istore (lv' := [(5, .int (iI ((k : Nat) : Int))), (0, .ref (x)), (1, .ref (a_11)), (2, .ref (q_17)), (3, .ref (q_27)), (4, .int (iI ((k : Nat) : Int)))]) hx hb dX1_sortBySlack_57 hl (by decide) rfl (fun ls hl => ?_)
      have hE_63 := fp_At.kept hE_41 (hq_58 _ (by omega))
      have hE_65 := fp_At.kept hE_43 (hq_58 _ (by omega))
      have L59 : ∀ (d : Nat), d ≤ k → ∀ (h : Nat → Int) (H_66 : Heap) (locs : List Loc) (ls : Array Slot), lv_has ls 6 [(0, .ref (x)), (1, .ref (a_11)), (2, .ref (q_17)), (3, .ref (q_27)), (4, .int (iI ((k : Nat) : Int))), (5, .int (iI ((k - d : Nat) : Int)))] → va_S (fA fp_no s.heap.size) s.heap H_66 locs → (∀ p, p < k - d → h p = ((e p : Nat) : Int)) → (∀ p, k - d < p → p ≤ k → h p = ((e (p - 1) : Nat) : Int)) → (k - d < k → fp_slk S k < fp_slk S (e (k - d))) → (H_59.size ≤ H_66.size) → fp_At G H_66 a_11 (eI G (sN S) (fun j => iI ((fun j => ((fp_ld S j : Nat) : Int)) j))) → fp_At G H_66 q_17 (eI G (sN S) (fun j => iI ((va_up sl k (((fp_str ((sB S) k) : Nat) : Int) - ((fp_ld S k : Nat) : Int))) j))) → fp_At G H_66 q_27 (eI G (sN S) (fun j => iI (h j))) → W pg (g_l G) en rR s mi ag bl mt cd H_66 locs 147 (2928 + (sN S) + (sN S)) qQ (F0 mi 59 ls []) := by
        refine lp_up k ?_
        intro d hk59 ih59 h H_66 locs ls hl hS hh1 hh2 hgt hz_67 hE_68 hE_69 hE_70
        have hz_71 := hS.1
        have lt_72 := hE_68.lt
        have lt_73 := hE_69.lt
        have lt_74 := hE_70.lt
        refine lv_iload hx hb dX1_sortBySlack_59 (lv_at hl 5 rfl) ?_
        refine r_if_le (tgt := 95) hx hb ⟨by omega, by omega⟩ dX1_sortBySlack_61 (by decide) (fun c61 => ?_) (fun c61 => ?_)
        · skip
          have hor : k - d = 0 ∨ fp_srf S k (e (k - d - 1)) = true := by first | exact Or.inl (by omega) | exact Or.inr (fp_srf_t (by omega))
          refine lv_aload_n hx hb dX1_sortBySlack_95 rfl (lv_at hl 3 rfl) ?_
          refine lv_iload hx hb dX1_sortBySlack_96 (lv_at hl 5 rfl) ?_
          refine lv_iload hx hb dX1_sortBySlack_98 (lv_at hl 4 rfl) ?_
          refine r_iastI X hE_70 hS (Or.inr (by omega)) (j := k - d) rfl (by omega) (by omega) dX1_sortBySlack_100 (fun H_78 locs hE_75 hz_76 hq_77 hS => ?_)
          have hz_79 := hS.1
          have hE_80 : fp_At G H_78 q_27 (eI G (sN S) (fun j => iI ((va_up h (k - d) ((k : Nat) : Int)) j))) := hE_75.updI
          refine lv_iinc (v := (iI ((k + 1 : Nat) : Int))) (lv' := [(4, .int (iI ((k + 1 : Nat) : Int))), (0, .ref (x)), (1, .ref (a_11)), (2, .ref (q_17)), (3, .ref (q_27)), (5, .int (iI ((k - d : Nat) : Int)))]) hx hb dX1_sortBySlack_101 hl (k := 4) rfl (iI_incN _ _) (by decide) rfl (fun ls hl => ?_)
          refine lv_goto (tgt := 21) hx hb dX1_sortBySlack_104 (by decide) ?_
          have hE_82 := fp_At.kept hE_68 (hq_77 _ (by omega))
          have hE_84 := fp_At.kept hE_69 (hq_77 _ (by omega))
          exact ih21 (by omega) (fp_ins e (k - d) k) (va_up h (k - d) ((k : Nat) : Int)) (va_up sl k (((fp_str (sB S k) : Nat) : Int) - ((fp_ld S k : Nat) : Int))) H_78 locs ls (lv_sub hl [1, 2, 3, 4, 0] rfl) hS (hOS.ins (fp_srf_o S) (by omega) hor (fun h => fp_srf_t (Or.inl (hgt h)))) (fp_os_in hh1 hh2) hsk (by omega) hE_82 hE_84 hE_80
        · skip
          refine lv_aload_n hx hb dX1_sortBySlack_64 rfl (lv_at hl 2 rfl) ?_
          refine lv_iload hx hb dX1_sortBySlack_65 (lv_at hl 4 rfl) ?_
          refine r_ialdI X hE_69 (j := k) rfl (by omega) (by omega) dX1_sortBySlack_67 ?_
          refine r_set (y := .int (iI (fp_slk S k))) (congrArg (fun q : Int => Value.int (iI q)) (hsk k (by omega))) ?_
          refine lv_aload_n hx hb dX1_sortBySlack_68 rfl (lv_at hl 2 rfl) ?_
          refine lv_aload_n hx hb dX1_sortBySlack_69 rfl (lv_at hl 3 rfl) ?_
          refine lv_iload hx hb dX1_sortBySlack_70 (lv_at hl 5 rfl) ?_
          refine lv_iconst (v := (iI ((1 : Nat) : Int))) hx hb dX1_sortBySlack_72 rfl ?_
          refine r_isub hx hb dX1_sortBySlack_73 ?_
          refine r_set (y := .int (iI ((k - d - 1 : Nat) : Int))) (congrArg (fun q : Int => Value.int (iI q)) (by omega)) ?_
          have he74 := (hOS (k - d - 1) (by omega)).1
          have hh74 := hh1 (k - d - 1) (by omega)
          have hsk74 := hsk (e (k - d - 1)) (by omega)
          have hsb74 := fp_slk_b hsw.1 (k := e (k - d - 1)) (by omega)
          refine r_ialdI X hE_70 (j := k - d - 1) rfl (by omega) (by omega) dX1_sortBySlack_74 ?_
          refine r_set (y := .int (iI ((e (k - d - 1) : Nat) : Int))) (congrArg (fun q : Int => Value.int (iI q)) hh74) ?_
          refine r_ialdI X hE_69 (j := e (k - d - 1)) rfl (by omega) (by omega) dX1_sortBySlack_75 ?_
          refine r_set (y := .int (iI (fp_slk S (e (k - d - 1))))) (congrArg (fun q : Int => Value.int (iI q)) hsk74) ?_
          refine r_icmp_ge (tgt := 95) hx hb ⟨by omega, by omega⟩ ⟨by omega, by omega⟩ dX1_sortBySlack_76 (by decide) (fun c76 => ?_) (fun c76 => ?_)
          · skip
            have hor : k - d = 0 ∨ fp_srf S k (e (k - d - 1)) = true := by first | exact Or.inl (by omega) | exact Or.inr (fp_srf_t (by omega))
            refine lv_aload_n hx hb dX1_sortBySlack_95 rfl (lv_at hl 3 rfl) ?_
            refine lv_iload hx hb dX1_sortBySlack_96 (lv_at hl 5 rfl) ?_
            refine lv_iload hx hb dX1_sortBySlack_98 (lv_at hl 4 rfl) ?_
            refine r_iastI X hE_70 hS (Or.inr (by omega)) (j := k - d) rfl (by omega) (by omega) dX1_sortBySlack_100 (fun H_88 locs hE_85 hz_86 hq_87 hS => ?_)
            have hz_89 := hS.1
            have hE_90 : fp_At G H_88 q_27 (eI G (sN S) (fun j => iI ((va_up h (k - d) ((k : Nat) : Int)) j))) := hE_85.updI
            refine lv_iinc (v := (iI ((k + 1 : Nat) : Int))) (lv' := [(4, .int (iI ((k + 1 : Nat) : Int))), (0, .ref (x)), (1, .ref (a_11)), (2, .ref (q_17)), (3, .ref (q_27)), (5, .int (iI ((k - d : Nat) : Int)))]) hx hb dX1_sortBySlack_101 hl (k := 4) rfl (iI_incN _ _) (by decide) rfl (fun ls hl => ?_)
            refine lv_goto (tgt := 21) hx hb dX1_sortBySlack_104 (by decide) ?_
            have hE_92 := fp_At.kept hE_68 (hq_87 _ (by omega))
            have hE_94 := fp_At.kept hE_69 (hq_87 _ (by omega))
            exact ih21 (by omega) (fp_ins e (k - d) k) (va_up h (k - d) ((k : Nat) : Int)) (va_up sl k (((fp_str (sB S k) : Nat) : Int) - ((fp_ld S k : Nat) : Int))) H_88 locs ls (lv_sub hl [1, 2, 3, 4, 0] rfl) hS (hOS.ins (fp_srf_o S) (by omega) hor (fun h => fp_srf_t (Or.inl (hgt h)))) (fp_os_in hh1 hh2) hsk (by omega) hE_92 hE_94 hE_90
          · skip
            refine lv_aload_n hx hb dX1_sortBySlack_79 rfl (lv_at hl 3 rfl) ?_
            refine lv_iload hx hb dX1_sortBySlack_80 (lv_at hl 5 rfl) ?_
            refine lv_aload_n hx hb dX1_sortBySlack_82 rfl (lv_at hl 3 rfl) ?_
            refine lv_iload hx hb dX1_sortBySlack_83 (lv_at hl 5 rfl) ?_
            refine lv_iconst (v := (iI ((1 : Nat) : Int))) hx hb dX1_sortBySlack_85 rfl ?_
            refine r_isub hx hb dX1_sortBySlack_86 ?_
            refine r_set (y := .int (iI ((k - d - 1 : Nat) : Int))) (congrArg (fun q : Int => Value.int (iI q)) (by omega)) ?_
            have hsh := fp_os_sh (q := k - d) hh1 hh2 (by omega)
            refine r_ialdI X hE_70 (j := k - d - 1) rfl (by omega) (by omega) dX1_sortBySlack_87 ?_
            refine r_iastI X hE_70 hS (Or.inr (by omega)) (j := k - d) rfl (by omega) (by omega) dX1_sortBySlack_88 (fun H_98 locs hE_95 hz_96 hq_97 hS => ?_)
            have hz_99 := hS.1
            have hE_100 : fp_At G H_98 q_27 (eI G (sN S) (fun j => iI ((va_up h (k - d) (h (k - d - 1))) j))) := hE_95.updI
            refine lv_iinc (v := (iI (((k - d : Nat) : Int) + (-1)))) (lv' := [(5, .int (iI (((k - d : Nat) : Int) + (-1)))), (0, .ref (x)), (1, .ref (a_11)), (2, .ref (q_17)), (3, .ref (q_27)), (4, .int (iI ((k : Nat) : Int)))]) hx hb dX1_sortBySlack_89 hl (k := 5) rfl (iI_add _ _) (by decide) rfl (fun ls hl => ?_)
            refine lv_goto (tgt := 59) hx hb dX1_sortBySlack_92 (by decide) ?_
            have hE_102 := fp_At.kept hE_68 (hq_97 _ (by omega))
            have hE_104 := fp_At.kept hE_69 (hq_97 _ (by omega))
            exact ih59 (by omega) (va_up h (k - d) (h (k - d - 1))) H_98 locs ls (by rw [show Value.int (iI ((k - (d + 1) : Nat) : Int)) = Value.int (iI (((k - d : Nat) : Int) + (-1))) from congrArg (fun q : Int => Value.int (iI q)) (by omega)]; exact lv_sub hl [1, 2, 3, 4, 5, 0] rfl) hS (hsh.1) (hsh.2) (fun _ => by rw [show k - (d + 1) = k - d - 1 by omega]; omega) (by omega) hE_102 hE_104 hE_100
      exact L59 0 (by omega) g H_59 locs ls (by rw [show Value.int (iI ((k - 0 : Nat) : Int)) = Value.int (iI ((k : Nat) : Int)) from congrArg (fun q : Nat => Value.int (iI (q : Int))) (by omega)]; exact lv_sub hl [1, 2, 3, 4, 5, 0] rfl) hS (fun p hp => hge p (by omega)) (fun p h1 h2 => absurd h1 (by omega)) (fun h => absurd h (by omega)) (Nat.le_refl _) hE_63 hE_61 hE_65
  exact L21 0 (by omega) (fun _ => 0) (fun _ => (0 : Int)) (fun _ => (0 : Int)) H_28 locs ls (lv_sub hl [4, 3, 2, 1, 0] rfl) hS (fun p hp => absurd hp (Nat.not_lt_zero _)) (fun p hp => absurd hp (Nat.not_lt_zero _)) (fun p hp => absurd hp (Nat.not_lt_zero _)) (Nat.le_refl _) hE_36 hE_38 hE_29
set_option maxHeartbeats 4000000 in
theorem c_X1_isAbove (G : fp_G) (x : Nat) (u : Nat) (sv : Value) (hi : Nat) (ip : Nat) (ln : Nat) (ex : Bool) (er : Int) (fa : Int) (l : Nat) (ed : Nat) (z : Nat) (t : Nat) (mc : Int32) (cap : Nat) (b : Nat → Nat) (S : PS) (zn : Int) (z2 : Int) (hsw : fp_sw S b) (hz : rg zn) (hz2 : rg z2) : fp_MX G yX1_isAbove cX1_isAbove 4 (some .boolean) 248 5827 5 44 [.ref (x), .int (iI (zn)), .int (iI (z2))] (fun H => fp_At G H x (eO 1 [.ref (u), sv, .ref (hi), .ref (ip), .ref (ln), .int (iI (bI (ex))), .int (iI (er)), .int (iI (fa))]) ∧ fp_SE G u l ed z t mc cap b S H) fp_no (fun H v H1 => v = some (.int (iI (bI (fp_ab S (fp_fnd S z2) (fp_fnd S zn))))) ∧ (fp_fc2 S zn z2 = 0)) (fun H E H1 => (E = "java/util/NoSuchElementException" ∧ fp_X H H1 ∧ fp_fc2 S zn z2 = 1)) := by
  refine fp_MX.intro (by decide) (Nat.le_of_ble_eq_true rfl) ?_
  intro pg en s mi ag bl mt cd rR qQ ls X hx hb hr hlk hnm hR hQ hT hB hM hl
  have hS : va_S (fA fp_no s.heap.size) s.heap s.heap [] := va_S.rf
  generalize ([] : List Loc) = locs at hS ⊢
  have hb0 := hB.1
  obtain ⟨h_pob, h_st⟩ := hM
  have hsz0 := hS.1
  have lt_1 := h_pob.lt
  have lt_2 := h_st.1.lt
  have hn24 := hsw.1.1
  obtain ⟨h_o, h_l, h_z, h_t, h_bl, h_xb, h_zb, h_tb⟩ := id h_st
  have lt_3 := h_l.1.lt
  have lt_4 := h_l.2.2
  have lt_5 := h_z.lt
  have lt_6 := h_t.lt
  refine lv_aload_n hx hb dX1_isAbove_0 rfl (lv_at hl 0 rfl) ?_
  refine lv_iload_n hx hb dX1_isAbove_1 rfl (lv_at hl 1 rfl) ?_
  refine x_callV (cells1 := 2) (slots1 := 10) X hR (c_X1_block G x u sv hi ip ln ex (er) (fa) l ed z t mc cap b S (zn) hsw (⟨by omega, by omega⟩)) q1320 q1322 qs26 q88 q1323 ⟨rfl, pd_X1_block⟩ ⟨Nat.le_of_ble_eq_true rfl, Nat.le_of_ble_eq_true rfl⟩ rfl rfl (Nat.le_of_ble_eq_true rfl) (Nat.le_of_ble_eq_true rfl) h_pob rfl rfl (Nat.le_of_ble_eq_true rfl) hl.1 dX1_isAbove_2 (hB.of hS fp_no.base) ⟨h_pob, h_st⟩ hS (fun _ h => h.elim) (fun v H_10 locs hp_7 hz_8 hk_9 hS => ?_) (fun Ex qx cx H_10 locs hp_7 hz_8 hk_9 hS hcx hvx hlx => ?_)
  · skip
    obtain ⟨rfl, hfn_11⟩ := hp_7
    have hz_12 := hS.1
    refine r_stk (st2 := [.ref (b (fp_fnd S (zn)))]) rfl ?_
    have hfn := hfn_11
    have hbk0 := hsw.1.2.2.1 (fp_fnd S zn) hfn
    have hFC : fp_fc S zn = 0 := fp_fc_0 rfl hfn
    refine lv_astore_n (lv' := [(3, .ref (b (fp_fnd S (zn)))), (0, .ref (x)), (1, .int (iI (zn))), (2, .int (iI (z2)))]) hx hb dX1_isAbove_5 rfl hl (by decide) rfl (fun ls hl => ?_)
    refine lv_aload_n hx hb dX1_isAbove_6 rfl (lv_at hl 1 rfl) ?_
    have hE_13 := fp_At.kept h_pob (fp_keptS (by omega) hS (fun z => z))
    refine r_get X hE_13 rfl in_X1 0 (by decide) q242 (Or.inl rfl) (v := .ref (u)) rfl dX1_isAbove_7 ?_
    refine lv_aload_n hx hb dX1_isAbove_10 rfl (lv_at hl 0 rfl) ?_
    refine lv_aload_n hx hb dX1_isAbove_11 rfl (lv_at hl 1 rfl) ?_
    refine lv_iload_n hx hb dX1_isAbove_12 rfl (lv_at hl 3 rfl) ?_
    have hE_14 := h_st.ext (fp_X.ofS hS)
    refine x_callV (cells1 := 4) (slots1 := 20) X hR (c_X1_block G x u sv hi ip ln ex (er) (fa) l ed z t mc cap b S z2 hsw hz2) q1320 q1322 qs26 q88 q1323 ⟨rfl, pd_X1_block⟩ ⟨Nat.le_of_ble_eq_true rfl, Nat.le_of_ble_eq_true rfl⟩ rfl rfl (Nat.le_of_ble_eq_true rfl) (Nat.le_of_ble_eq_true rfl) hE_13 rfl rfl (Nat.le_of_ble_eq_true rfl) hl.1 dX1_isAbove_13 (hB.of hS fp_no.base) ⟨hE_13, hE_14⟩ hS (fun _ h => h.elim) (fun v H_18 locs hp_15 hz_16 hk_17 hS => ?_) (fun Ex qx cx H_18 locs hp_15 hz_16 hk_17 hS hcx hvx hlx => ?_)
    · skip
      obtain ⟨rfl, hfn_19⟩ := hp_15
      have hz_20 := hS.1
      refine r_stk (st2 := [.ref (b (fp_fnd S z2)), .ref (b (fp_fnd S (zn))), .ref (u)]) rfl ?_
      have hfn2 := hfn_19
      have hE_21 := h_st.ext (fp_X.ofS hS)
      refine r_callV (cells1 := 5) (slots1 := 44) X hR (c_X2_isAbove G u l ed z t mc cap b S (fp_fnd S zn) (fp_fnd S z2) hsw hfn hfn2) q1583 q1584 q1585 q89 q1586 ⟨rfl, pd_X2_isAbove⟩ ⟨Nat.le_of_ble_eq_true rfl, Nat.le_of_ble_eq_true rfl⟩ rfl rfl (Nat.le_of_ble_eq_true rfl) (Nat.le_of_ble_eq_true rfl) hE_21.1 rfl rfl (Nat.le_of_ble_eq_true rfl) hl.1 dX1_isAbove_16 (hB.of hS fp_no.base) hE_21 hS (fun _ h => h.elim) (fun v H_25 locs hp_22 hz_23 hk_24 hS => ?_)
      obtain rfl := hp_22
      have hz_26 := hS.1
      refine r_stk (st2 := [.int (iI (bI (fp_ab S (fp_fnd S z2) (fp_fnd S zn))))]) rfl ?_
      refine x_zret hx hb hr hlk hQ hS (Nat.le_of_ble_eq_true rfl) (Nat.le_of_ble_eq_true rfl) dX1_isAbove_19 (bI_z _) ?_
      exact ⟨rfl, (fp_fc2_0 hfn hfn2)⟩
    · skip
      rcases hp_15 with ⟨rfl, hX9, hb9⟩
      exact x_out hT hlk hQ hS (Nat.le_of_ble_eq_true rfl) (Nat.le_of_ble_eq_true rfl) hcx hvx hlx (⟨rfl, fp_X.ofS hS, fp_fc2_2 hb9⟩)
  · skip
    rcases hp_7 with ⟨rfl, hX9, hb9⟩
    exact x_out hT hlk hQ hS (Nat.le_of_ble_eq_true rfl) (Nat.le_of_ble_eq_true rfl) hcx hvx hlx (⟨rfl, fp_X.ofS hS, fp_fc2_1 hb9⟩)
set_option maxHeartbeats 4000000 in
theorem c_X1_holes (G : fp_G) (x : Nat) (u : Nat) (sv : Value) (hi : Nat) (ip : Nat) (ln : Nat) (ex : Bool) (er : Int) (fa : Int) (l : Nat) (ed : Nat) (z : Nat) (t : Nat) (mc : Int32) (cap : Nat) (b : Nat → Nat) (S : PS) (c : Int) (hsw : fp_sw S b) (hc : rg c) (hho : ∀ c, c < 12 → ((fp_ct (fun h9 => !fp_any (fun i9 => fp_fill (sB S i9) c h9) (sN S)) (fp_hi S c) : Nat) : Int) = fp_hol S c) : fp_MX G yX1_holes cX1_holes 2 (some .int) 304 8090 133 448 [.ref (x), .int (iI (c))] (fun H => fp_At G H x (eO 1 [.ref (u), sv, .ref (hi), .ref (ip), .ref (ln), .int (iI (bI (ex))), .int (iI (er)), .int (iI (fa))]) ∧ fp_SE G u l ed z t mc cap b S H) fp_no (fun H v H1 => v = some (.int (iI (fp_hol S c.toNat))) ∧ (fp_cc c = 0)) (fun H E H1 => (E = "java/lang/IndexOutOfBoundsException" ∧ fp_X H H1 ∧ fp_cc c = 1)) := by
  refine fp_MX.intro (by decide) (Nat.le_of_ble_eq_true rfl) ?_
  intro pg en s mi ag bl mt cd rR qQ ls X hx hb hr hlk hnm hR hQ hT hB hM hl
  have hS : va_S (fA fp_no s.heap.size) s.heap s.heap [] := va_S.rf
  generalize ([] : List Loc) = locs at hS ⊢
  have hb0 := hB.1
  obtain ⟨h_pob, h_st⟩ := hM
  have hsz0 := hS.1
  have lt_1 := h_pob.lt
  have lt_2 := h_st.1.lt
  refine lv_iload_n hx hb dX1_holes_0 rfl (lv_at hl 1 rfl) ?_
  refine x_callS (cells1 := 1) (slots1 := 6) X hR (c_X1_checkColumn G (c) (⟨by omega, by omega⟩)) q1347 q1348 q88 q1349 pd_X1_checkColumn ⟨Nat.le_of_ble_eq_true rfl, Nat.le_of_ble_eq_true rfl⟩ rfl rfl (Nat.le_of_ble_eq_true rfl) (Nat.le_of_ble_eq_true rfl) rfl (Nat.le_of_ble_eq_true rfl) hl.1 dX1_holes_1 (hB.of hS fp_no.base) trivial hS (fun _ h => h.elim) (fun v H_6 locs hp_3 hz_4 hk_5 hS => ?_) (fun Ex qx cx H_6 locs hp_3 hz_4 hk_5 hS hcx hvx hlx => ?_)
  · skip
    obtain ⟨rfl, hcc_7, rfl⟩ := hp_3
    refine r_stk (st2 := []) rfl ?_
    obtain ⟨cn, rfl⟩ : ∃ cn : Nat, c = ((cn : Nat) : Int) := ⟨c.toNat, by omega⟩
    have hcn : cn < 12 := by omega
    refine lv_aload_n hx hb dX1_holes_4 rfl (lv_at hl 0 rfl) ?_
    refine lv_iload_n hx hb dX1_holes_5 rfl (lv_at hl 1 rfl) ?_
    refine r_callV (cells1 := 131) (slots1 := 446) X hR (c_X1_countHoles G x u sv hi ip ln ex (er) (fa) l ed z t mc cap b S cn hsw (by omega)) q959 q961 qs16 q88 q962 ⟨rfl, pd_X1_countHoles⟩ ⟨Nat.le_of_ble_eq_true rfl, Nat.le_of_ble_eq_true rfl⟩ rfl rfl (Nat.le_of_ble_eq_true rfl) (Nat.le_of_ble_eq_true rfl) h_pob rfl rfl (Nat.le_of_ble_eq_true rfl) hl.1 dX1_holes_6 (hB.of hS fp_no.base) ⟨h_pob, h_st⟩ hS (fun _ h => h.elim) (fun v H_11 locs hp_8 hz_9 hk_10 hS => ?_)
    obtain rfl := hp_8
    have hz_12 := hS.1
    refine r_stk (st2 := [.int (iI ((fp_ct (fun h9 => !fp_any (fun i9 => fp_fill (sB S i9) cn h9) (sN S)) (fp_hi S cn) : Nat) : Int))]) rfl ?_
    refine x_iret hx hb hr hlk hQ hS (Nat.le_of_ble_eq_true rfl) (Nat.le_of_ble_eq_true rfl) dX1_holes_9 ?_
    exact ⟨(congrArg (fun q : Int => some (Value.int (iI q))) ((hho cn hcn).trans (by rw [Int.toNat_natCast]))), (fp_cc_0 (by omega))⟩
  · skip
    rcases hp_3 with ⟨rfl, hX9, hb9⟩
    exact x_out hT hlk hQ hS (Nat.le_of_ble_eq_true rfl) (Nat.le_of_ble_eq_true rfl) hcx hvx hlx (⟨rfl, fp_X.ofS hS, fp_cc_1 hb9⟩)
set_option maxHeartbeats 4000000 in
theorem c_X1_holesByHeights (G : fp_G) (x : Nat) (u : Nat) (sv : Value) (hi : Nat) (ip : Nat) (ln : Nat) (ex : Bool) (er : Int) (fa : Int) (l : Nat) (ed : Nat) (z : Nat) (t : Nat) (mc : Int32) (cap : Nat) (b : Nat → Nat) (S : PS) (c : Int) (hsw : fp_sw S b) (hc : rg c) : fp_MX G yX1_holesByHeights cX1_holesByHeights 2 (some .int) 303 8067 4 15 [.ref (x), .int (iI (c))] (fun H => fp_At G H x (eO 1 [.ref (u), sv, .ref (hi), .ref (ip), .ref (ln), .int (iI (bI (ex))), .int (iI (er)), .int (iI (fa))]) ∧ fp_SE G u l ed z t mc cap b S H) fp_no (fun H v H1 => v = some (.int (iI (fp_hol S c.toNat))) ∧ (fp_cc c = 0)) (fun H E H1 => (E = "java/lang/IndexOutOfBoundsException" ∧ fp_X H H1 ∧ fp_cc c = 1)) := by
  refine fp_MX.intro (by decide) (Nat.le_of_ble_eq_true rfl) ?_
  intro pg en s mi ag bl mt cd rR qQ ls X hx hb hr hlk hnm hR hQ hT hB hM hl
  have hS : va_S (fA fp_no s.heap.size) s.heap s.heap [] := va_S.rf
  generalize ([] : List Loc) = locs at hS ⊢
  have hb0 := hB.1
  obtain ⟨h_pob, h_st⟩ := hM
  have hsz0 := hS.1
  have lt_1 := h_pob.lt
  have lt_2 := h_st.1.lt
  refine lv_iload_n hx hb dX1_holesByHeights_0 rfl (lv_at hl 1 rfl) ?_
  refine x_callS (cells1 := 1) (slots1 := 6) X hR (c_X1_checkColumn G (c) (⟨by omega, by omega⟩)) q1347 q1348 q88 q1349 pd_X1_checkColumn ⟨Nat.le_of_ble_eq_true rfl, Nat.le_of_ble_eq_true rfl⟩ rfl rfl (Nat.le_of_ble_eq_true rfl) (Nat.le_of_ble_eq_true rfl) rfl (Nat.le_of_ble_eq_true rfl) hl.1 dX1_holesByHeights_1 (hB.of hS fp_no.base) trivial hS (fun _ h => h.elim) (fun v H_6 locs hp_3 hz_4 hk_5 hS => ?_) (fun Ex qx cx H_6 locs hp_3 hz_4 hk_5 hS hcx hvx hlx => ?_)
  · skip
    obtain ⟨rfl, hcc_7, rfl⟩ := hp_3
    refine r_stk (st2 := []) rfl ?_
    obtain ⟨cn, rfl⟩ : ∃ cn : Nat, c = ((cn : Nat) : Int) := ⟨c.toNat, by omega⟩
    have hcn : cn < 12 := by omega
    refine lv_aload_n hx hb dX1_holesByHeights_4 rfl (lv_at hl 0 rfl) ?_
    refine lv_iload_n hx hb dX1_holesByHeights_5 rfl (lv_at hl 1 rfl) ?_
    refine r_callV (cells1 := 4) (slots1 := 15) X hR (c_X1_computeHoles G x u sv hi ip ln ex (er) (fa) l ed z t mc cap b S cn hsw (by omega)) q975 q977 qs18 q88 q978 ⟨rfl, pd_X1_computeHoles⟩ ⟨Nat.le_of_ble_eq_true rfl, Nat.le_of_ble_eq_true rfl⟩ rfl rfl (Nat.le_of_ble_eq_true rfl) (Nat.le_of_ble_eq_true rfl) h_pob rfl rfl (Nat.le_of_ble_eq_true rfl) hl.1 dX1_holesByHeights_6 (hB.of hS fp_no.base) ⟨h_pob, h_st⟩ hS (fun _ h => h.elim) (fun v H_11 locs hp_8 hz_9 hk_10 hS => ?_)
    obtain rfl := hp_8
    have hz_12 := hS.1
    refine r_stk (st2 := [.int (iI (fp_hol S cn))]) rfl ?_
    refine x_iret hx hb hr hlk hQ hS (Nat.le_of_ble_eq_true rfl) (Nat.le_of_ble_eq_true rfl) dX1_holesByHeights_9 ?_
    exact ⟨(congrArg (fun q : Int => some (Value.int (iI q))) (by rw [Int.toNat_natCast])), (fp_cc_0 (by omega))⟩
  · skip
    rcases hp_3 with ⟨rfl, hX9, hb9⟩
    exact x_out hT hlk hQ hS (Nat.le_of_ble_eq_true rfl) (Nat.le_of_ble_eq_true rfl) hcx hvx hlx (⟨rfl, fp_X.ofS hS, fp_cc_1 hb9⟩)
set_option maxHeartbeats 4000000 in
theorem c_X1_errorPosition (G : fp_G) (x : Nat) (u : Nat) (sv : Value) (hi : Nat) (ip : Nat) (ln : Nat) (ex : Bool) (er : Int) (fa : Int) (l : Nat) (ed : Nat) (z : Nat) (t : Nat) (mc : Int32) (cap : Nat) (b : Nat → Nat) (S : PS) (hre : -1 ≤ er ∧ er < 1000) : fp_MX G yX1_errorPosition cX1_errorPosition 1 (some .int) 7 101 1 6 [.ref (x)] (fun H => fp_At G H x (eO 1 [.ref (u), sv, .ref (hi), .ref (ip), .ref (ln), .int (iI (bI (ex))), .int (iI (er)), .int (iI (fa))]) ∧ fp_SE G u l ed z t mc cap b S H) fp_no (fun H v H1 => v = some (.int (iI (er))) ∧ (0 ≤ er)) (fun H E H1 => (E = "java/util/NoSuchElementException" ∧ fp_X H H1 ∧ er < 0)) := by
  refine fp_MX.intro (by decide) (Nat.le_of_ble_eq_true rfl) ?_
  intro pg en s mi ag bl mt cd rR qQ ls X hx hb hr hlk hnm hR hQ hT hB hM hl
  have hS : va_S (fA fp_no s.heap.size) s.heap s.heap [] := va_S.rf
  generalize ([] : List Loc) = locs at hS ⊢
  have hb0 := hB.1
  obtain ⟨h_pob, h_st⟩ := hM
  have hsz0 := hS.1
  have lt_1 := h_pob.lt
  have lt_2 := h_st.1.lt
  refine lv_aload_n hx hb dX1_errorPosition_0 rfl (lv_at hl 0 rfl) ?_
  refine r_get X h_pob rfl in_X1 6 (by decide) q248 (Or.inl rfl) (v := .int (iI (er))) rfl dX1_errorPosition_1 ?_
  refine lv_iconst (v := (iI (-1))) hx hb dX1_errorPosition_4 rfl ?_
  refine r_icmp_eq (tgt := 12) hx hb ⟨by omega, by omega⟩ (by decide) dX1_errorPosition_5 (by decide) (fun c5 => ?_) (fun c5 => ?_)
  · skip
    refine lv_iconst (v := (iI ((0 : Nat) : Int))) hx hb dX1_errorPosition_12 rfl ?_
    refine x_callS (cells1 := 1) (slots1 := 6) X hR (c_X1_checkElement G false) q1324 q1325 q88 q1326 pd_X1_checkElement ⟨Nat.le_of_ble_eq_true rfl, Nat.le_of_ble_eq_true rfl⟩ rfl rfl (Nat.le_of_ble_eq_true rfl) (Nat.le_of_ble_eq_true rfl) rfl (Nat.le_of_ble_eq_true rfl) hl.1 dX1_errorPosition_13 (hB.of hS fp_no.base) trivial hS (fun _ h => h.elim) (fun v H_6 locs hp_3 hz_4 hk_5 hS => ?_) (fun Ex qx cx H_6 locs hp_3 hz_4 hk_5 hS hcx hvx hlx => ?_)
    · skip
      obtain ⟨rfl, rfl, hbt_7⟩ := hp_3
      refine r_stk (st2 := []) rfl ?_
      cases hbt_7
    · skip
      obtain ⟨rfl, hX9, hb9⟩ := hp_3
      exact x_out hT hlk hQ hS (Nat.le_of_ble_eq_true rfl) (Nat.le_of_ble_eq_true rfl) hcx hvx hlx ⟨rfl, fp_X.ofS hS, by omega⟩
  · skip
    refine lv_iconst (v := (iI ((1 : Nat) : Int))) hx hb dX1_errorPosition_8 rfl ?_
    refine lv_goto (tgt := 13) hx hb dX1_errorPosition_9 (by decide) ?_
    refine x_callS (cells1 := 1) (slots1 := 6) X hR (c_X1_checkElement G true) q1324 q1325 q88 q1326 pd_X1_checkElement ⟨Nat.le_of_ble_eq_true rfl, Nat.le_of_ble_eq_true rfl⟩ rfl rfl (Nat.le_of_ble_eq_true rfl) (Nat.le_of_ble_eq_true rfl) rfl (Nat.le_of_ble_eq_true rfl) hl.1 dX1_errorPosition_13 (hB.of hS fp_no.base) trivial hS (fun _ h => h.elim) (fun v H_11 locs hp_8 hz_9 hk_10 hS => ?_) (fun Ex qx cx H_11 locs hp_8 hz_9 hk_10 hS hcx hvx hlx => ?_)
    · skip
      obtain ⟨rfl, rfl, hbt_12⟩ := hp_8
      refine r_stk (st2 := []) rfl ?_
      refine lv_aload_n hx hb dX1_errorPosition_16 rfl (lv_at hl 0 rfl) ?_
      refine r_get X h_pob rfl in_X1 6 (by decide) q248 (Or.inl rfl) (v := .int (iI (er))) rfl dX1_errorPosition_17 ?_
      refine x_iret hx hb hr hlk hQ hS (Nat.le_of_ble_eq_true rfl) (Nat.le_of_ble_eq_true rfl) dX1_errorPosition_20 ?_
      exact ⟨rfl, (by omega)⟩
    · skip
      obtain ⟨rfl, hX9, hb9⟩ := hp_8
      cases hb9
set_option maxHeartbeats 4000000 in
theorem c_X1_failedCommand (G : fp_G) (x : Nat) (u : Nat) (sv : Value) (hi : Nat) (ip : Nat) (ln : Nat) (ex : Bool) (er : Int) (fa : Int) (l : Nat) (ed : Nat) (z : Nat) (t : Nat) (mc : Int32) (cap : Nat) (b : Nat → Nat) (S : PS) (hre : -1 ≤ fa ∧ fa < 1000) : fp_MX G yX1_failedCommand cX1_failedCommand 1 (some .int) 7 101 1 6 [.ref (x)] (fun H => fp_At G H x (eO 1 [.ref (u), sv, .ref (hi), .ref (ip), .ref (ln), .int (iI (bI (ex))), .int (iI (er)), .int (iI (fa))]) ∧ fp_SE G u l ed z t mc cap b S H) fp_no (fun H v H1 => v = some (.int (iI (fa))) ∧ (0 ≤ fa)) (fun H E H1 => (E = "java/util/NoSuchElementException" ∧ fp_X H H1 ∧ fa < 0)) := by
  refine fp_MX.intro (by decide) (Nat.le_of_ble_eq_true rfl) ?_
  intro pg en s mi ag bl mt cd rR qQ ls X hx hb hr hlk hnm hR hQ hT hB hM hl
  have hS : va_S (fA fp_no s.heap.size) s.heap s.heap [] := va_S.rf
  generalize ([] : List Loc) = locs at hS ⊢
  have hb0 := hB.1
  obtain ⟨h_pob, h_st⟩ := hM
  have hsz0 := hS.1
  have lt_1 := h_pob.lt
  have lt_2 := h_st.1.lt
  refine lv_aload_n hx hb dX1_failedCommand_0 rfl (lv_at hl 0 rfl) ?_
  refine r_get X h_pob rfl in_X1 7 (by decide) q249 (Or.inl rfl) (v := .int (iI (fa))) rfl dX1_failedCommand_1 ?_
  refine lv_iconst (v := (iI (-1))) hx hb dX1_failedCommand_4 rfl ?_
  refine r_icmp_eq (tgt := 12) hx hb ⟨by omega, by omega⟩ (by decide) dX1_failedCommand_5 (by decide) (fun c5 => ?_) (fun c5 => ?_)
  · skip
    refine lv_iconst (v := (iI ((0 : Nat) : Int))) hx hb dX1_failedCommand_12 rfl ?_
    refine x_callS (cells1 := 1) (slots1 := 6) X hR (c_X1_checkElement G false) q1324 q1325 q88 q1326 pd_X1_checkElement ⟨Nat.le_of_ble_eq_true rfl, Nat.le_of_ble_eq_true rfl⟩ rfl rfl (Nat.le_of_ble_eq_true rfl) (Nat.le_of_ble_eq_true rfl) rfl (Nat.le_of_ble_eq_true rfl) hl.1 dX1_failedCommand_13 (hB.of hS fp_no.base) trivial hS (fun _ h => h.elim) (fun v H_6 locs hp_3 hz_4 hk_5 hS => ?_) (fun Ex qx cx H_6 locs hp_3 hz_4 hk_5 hS hcx hvx hlx => ?_)
    · skip
      obtain ⟨rfl, rfl, hbt_7⟩ := hp_3
      refine r_stk (st2 := []) rfl ?_
      cases hbt_7
    · skip
      obtain ⟨rfl, hX9, hb9⟩ := hp_3
      exact x_out hT hlk hQ hS (Nat.le_of_ble_eq_true rfl) (Nat.le_of_ble_eq_true rfl) hcx hvx hlx ⟨rfl, fp_X.ofS hS, by omega⟩
  · skip
    refine lv_iconst (v := (iI ((1 : Nat) : Int))) hx hb dX1_failedCommand_8 rfl ?_
    refine lv_goto (tgt := 13) hx hb dX1_failedCommand_9 (by decide) ?_
    refine x_callS (cells1 := 1) (slots1 := 6) X hR (c_X1_checkElement G true) q1324 q1325 q88 q1326 pd_X1_checkElement ⟨Nat.le_of_ble_eq_true rfl, Nat.le_of_ble_eq_true rfl⟩ rfl rfl (Nat.le_of_ble_eq_true rfl) (Nat.le_of_ble_eq_true rfl) rfl (Nat.le_of_ble_eq_true rfl) hl.1 dX1_failedCommand_13 (hB.of hS fp_no.base) trivial hS (fun _ h => h.elim) (fun v H_11 locs hp_8 hz_9 hk_10 hS => ?_) (fun Ex qx cx H_11 locs hp_8 hz_9 hk_10 hS hcx hvx hlx => ?_)
    · skip
      obtain ⟨rfl, rfl, hbt_12⟩ := hp_8
      refine r_stk (st2 := []) rfl ?_
      refine lv_aload_n hx hb dX1_failedCommand_16 rfl (lv_at hl 0 rfl) ?_
      refine r_get X h_pob rfl in_X1 7 (by decide) q249 (Or.inl rfl) (v := .int (iI (fa))) rfl dX1_failedCommand_17 ?_
      refine x_iret hx hb hr hlk hQ hS (Nat.le_of_ble_eq_true rfl) (Nat.le_of_ble_eq_true rfl) dX1_failedCommand_20 ?_
      exact ⟨rfl, (by omega)⟩
    · skip
      obtain ⟨rfl, hX9, hb9⟩ := hp_8
      cases hb9
set_option maxHeartbeats 4000000 in
theorem c_X1_blockWithSlackAt (G : fp_G) (x : Nat) (u : Nat) (sv : Value) (hi : Nat) (ip : Nat) (ln : Nat) (ex : Bool) (er : Int) (fa : Int) (l : Nat) (ed : Nat) (z : Nat) (t : Nat) (mc : Int32) (cap : Nat) (b : Nat → Nat) (S : PS) (pos : Int) (hsw : fp_sw S b) (hp : rg pos) (hdl : fp_dl S) : fp_MX G yX1_blockWithSlackAt cX1_blockWithSlackAt 3 (some .int) 11 270 148 2986 [.ref (x), .int (iI (pos))] (fun H => fp_At G H x (eO 1 [.ref (u), sv, .ref (hi), .ref (ip), .ref (ln), .int (iI (bI (ex))), .int (iI (er)), .int (iI (fa))]) ∧ fp_SE G u l ed z t mc cap b S H) fp_no (fun H v H1 => v = some (.int (iI ((sB S (fp_bsl S pos) 0 : Nat) : Int))) ∧ (fp_bslc S pos = 0)) (fun H E H1 => (E = "java/util/NoSuchElementException" ∧ fp_X H H1 ∧ fp_bslc S pos = 1)) := by
  refine fp_MX.intro (by decide) (Nat.le_of_ble_eq_true rfl) ?_
  intro pg en s mi ag bl mt cd rR qQ ls X hx hb hr hlk hnm hR hQ hT hB hM hl
  have hS : va_S (fA fp_no s.heap.size) s.heap s.heap [] := va_S.rf
  generalize ([] : List Loc) = locs at hS ⊢
  have hb0 := hB.1
  obtain ⟨h_pob, h_st⟩ := hM
  have hsz0 := hS.1
  have lt_1 := h_pob.lt
  have lt_2 := h_st.1.lt
  have hn24 := hsw.1.1
  obtain ⟨h_o, h_l, h_z, h_t, h_bl, h_xb, h_zb, h_tb⟩ := id h_st
  have lt_3 := h_l.1.lt
  have lt_4 := h_l.2.2
  have lt_5 := h_z.lt
  have lt_6 := h_t.lt
  refine lv_aload_n hx hb dX1_blockWithSlackAt_0 rfl (lv_at hl 0 rfl) ?_
  refine r_callV (cells1 := 147) (slots1 := 2976) X hR (c_X1_sortBySlack G x u sv hi ip ln ex (er) (fa) l ed z t mc cap b S hsw hdl) q1554 q1556 qs30 q88 q1557 ⟨rfl, pd_X1_sortBySlack⟩ ⟨Nat.le_of_ble_eq_true rfl, Nat.le_of_ble_eq_true rfl⟩ rfl rfl (Nat.le_of_ble_eq_true rfl) (Nat.le_of_ble_eq_true rfl) h_pob rfl rfl (Nat.le_of_ble_eq_true rfl) hl.1 dX1_blockWithSlackAt_1 (hB.of hS fp_no.base) ⟨h_pob, h_st⟩ hS (fun _ h => h.elim) (fun v H_10 locs hp_7 hz_8 hk_9 hS => ?_)
  obtain ⟨qs, e, g, rfl, hq_11, hOS_12, hge_13, hE_14⟩ := hp_7
  have hz_15 := hS.1
  have lt_17 := hE_14.lt
  refine r_stk (st2 := [.ref (qs)]) rfl ?_
  have hOS := hOS_12
  have hge := hge_13
  refine lv_astore_n (lv' := [(2, .ref (qs)), (0, .ref (x)), (1, .int (iI (pos)))]) hx hb dX1_blockWithSlackAt_4 rfl hl (by decide) rfl (fun ls hl => ?_)
  refine lv_iload_n hx hb dX1_blockWithSlackAt_5 rfl (lv_at hl 2 rfl) ?_
  refine lv_iconst (v := (iI ((0 : Nat) : Int))) hx hb dX1_blockWithSlackAt_6 rfl ?_
  refine lv_aload_n hx hb dX1_blockWithSlackAt_7 rfl (lv_at hl 0 rfl) ?_
  refine r_alen X (t := 0) rfl hE_14 (v := (iI ((sN S : Nat) : Int))) rfl dX1_blockWithSlackAt_8 ?_
  refine lv_iconst (v := (iI ((1 : Nat) : Int))) hx hb dX1_blockWithSlackAt_9 rfl ?_
  refine r_isub hx hb dX1_blockWithSlackAt_10 ?_
  refine r_callS (cells1 := 147) (slots1 := 2976) X hR (c_X1_isBetween G (pos) 0 (((sN S : Nat) : Int) - ((1 : Nat) : Int)) (⟨by omega, by omega⟩) (⟨by omega, by omega⟩) (⟨by omega, by omega⟩)) q450 q404 q88 q405 pd_X1_isBetween ⟨Nat.le_of_ble_eq_true rfl, Nat.le_of_ble_eq_true rfl⟩ rfl rfl (Nat.le_of_ble_eq_true rfl) (Nat.le_of_ble_eq_true rfl) rfl (Nat.le_of_ble_eq_true rfl) hl.1 dX1_blockWithSlackAt_11 (hB.of hS fp_no.base) trivial hS (fun _ h => h.elim) (fun v H_21 locs hp_18 hz_19 hk_20 hS => ?_)
  obtain ⟨rfl, rfl⟩ := hp_18
  refine r_stk (st2 := [.int (iI (bI (decide (0 ≤ (pos) ∧ (pos) ≤ (((sN S : Nat) : Int) - ((1 : Nat) : Int))))))]) rfl ?_
  refine x_callS (cells1 := 148) (slots1 := 2982) X hR (c_X1_checkElement G (decide (0 ≤ (pos) ∧ (pos) ≤ (((sN S : Nat) : Int) - ((1 : Nat) : Int))))) q1324 q1325 q88 q1326 pd_X1_checkElement ⟨Nat.le_of_ble_eq_true rfl, Nat.le_of_ble_eq_true rfl⟩ rfl rfl (Nat.le_of_ble_eq_true rfl) (Nat.le_of_ble_eq_true rfl) rfl (Nat.le_of_ble_eq_true rfl) hl.1 dX1_blockWithSlackAt_14 (hB.of hS fp_no.base) trivial hS (fun _ h => h.elim) (fun v H_25 locs hp_22 hz_23 hk_24 hS => ?_) (fun Ex qx cx H_25 locs hp_22 hz_23 hk_24 hS hcx hvx hlx => ?_)
  · skip
    obtain ⟨rfl, rfl, hbt_26⟩ := hp_22
    refine r_stk (st2 := []) rfl ?_
    have hck9 := of_decide_eq_true hbt_26
    obtain ⟨pn, rfl⟩ : ∃ pn : Nat, pos = ((pn : Nat) : Int) := ⟨pos.toNat, by omega⟩
    have hpn : pn < sN S := by omega
    have hsat := hOS.bsl hpn
    have hbk := hsw.1.2.2.1 (e pn) hsat.1
    refine lv_aload_n hx hb dX1_blockWithSlackAt_17 rfl (lv_at hl 1 rfl) ?_
    have hE_27 := fp_At.kept h_pob (fp_keptS (by omega) hS (fun z => z))
    refine r_get X hE_27 rfl in_X1 0 (by decide) q242 (Or.inl rfl) (v := .ref (u)) rfl dX1_blockWithSlackAt_18 ?_
    have hE_28 := h_st.ext (fp_X.ofS hS)
    refine r_getN X hE_28.1 rfl in_X2 0 (by decide) q174 (Or.inl rfl) (v := .ref (l)) rfl dX1_blockWithSlackAt_21 ?_
    refine lv_aload_n hx hb dX1_blockWithSlackAt_24 rfl (lv_at hl 0 rfl) ?_
    refine lv_iload_n hx hb dX1_blockWithSlackAt_25 rfl (lv_at hl 2 rfl) ?_
    refine r_ialdI X hE_14 (j := pn) rfl (by omega) (by omega) dX1_blockWithSlackAt_26 ?_
    refine r_set (y := .int (iI ((e pn : Nat) : Int))) (congrArg (fun q : Int => Value.int (iI q)) (hge pn hpn)) ?_
    have hE_29 := h_l.ext (fp_X.ofS hS)
    refine r_callV (cells1 := 148) (slots1 := 2982) X hR (c_J2_get G l ed mc (sN S) cap b (e pn) (by omega)) q1432 q490 q491 q92 q492 ⟨rfl, pd_J2_get⟩ ⟨Nat.le_of_ble_eq_true rfl, Nat.le_of_ble_eq_true rfl⟩ rfl rfl (Nat.le_of_ble_eq_true rfl) (Nat.le_of_ble_eq_true rfl) hE_29.1 rfl rfl (Nat.le_of_ble_eq_true rfl) hl.1 dX1_blockWithSlackAt_27 (hB.of hS fp_no.base) hE_29 hS (fun _ h => h.elim) (fun v H_33 locs hp_30 hz_31 hk_32 hS => ?_)
    obtain ⟨rfl, rfl⟩ := hp_30
    refine r_stk (st2 := [.ref (b (e pn))]) rfl ?_
    have hE_34 := h_bl.ext (fp_X.ofS hS)
    refine r_castB X (hE_34 (e pn) (by omega)) (hsw.1.2.2.1 (e pn) (by omega)).2.1 q1433 dX1_blockWithSlackAt_30 ?_
    refine r_getBN 0 (by decide) 0 rfl X (hE_34 (e pn) (by omega)) (hsw.1.2.2.1 (e pn) (by omega)).2.1 q1155 dX1_blockWithSlackAt_33 ?_
    refine x_iret hx hb hr hlk hQ hS (Nat.le_of_ble_eq_true rfl) (Nat.le_of_ble_eq_true rfl) dX1_blockWithSlackAt_36 ?_
    exact ⟨(congrArg (fun q : Nat => some (Value.int (iI (sB S q 0 : Nat)))) hsat.2.symm), (hOS.bslc0 hpn)⟩
  · skip
    rcases hp_22 with ⟨rfl, hX9, hb9⟩
    exact x_out hT hlk hQ hS (Nat.le_of_ble_eq_true rfl) (Nat.le_of_ble_eq_true rfl) hcx hvx hlx (⟨rfl, fp_X.ofS hS, fp_bslc_1 (of_decide_eq_false hb9)⟩)
set_option maxHeartbeats 4000000 in
theorem c_X1_weakest (G : fp_G) (x : Nat) (u : Nat) (sv : Value) (hi : Nat) (ip : Nat) (ln : Nat) (ex : Bool) (er : Int) (fa : Int) (l : Nat) (ed : Nat) (z : Nat) (t : Nat) (mc : Int32) (cap : Nat) (b : Nat → Nat) (S : PS) (hsw : fp_sw S b) (hdl : fp_dl S) : fp_MX G yX1_weakest cX1_weakest 1 (some .int) 12 292 148 2986 [.ref (x)] (fun H => fp_At G H x (eO 1 [.ref (u), sv, .ref (hi), .ref (ip), .ref (ln), .int (iI (bI (ex))), .int (iI (er)), .int (iI (fa))]) ∧ fp_SE G u l ed z t mc cap b S H) fp_no (fun H v H1 => v = some (.int (iI ((sB S (fp_best (fp_slk S) (sN S)) 0 : Nat) : Int))) ∧ (fp_wkc S = 0)) (fun H E H1 => (E = "java/util/NoSuchElementException" ∧ fp_X H H1 ∧ fp_wkc S = 1)) := by
  refine fp_MX.intro (by decide) (Nat.le_of_ble_eq_true rfl) ?_
  intro pg en s mi ag bl mt cd rR qQ ls X hx hb hr hlk hnm hR hQ hT hB hM hl
  have hS : va_S (fA fp_no s.heap.size) s.heap s.heap [] := va_S.rf
  generalize ([] : List Loc) = locs at hS ⊢
  have hb0 := hB.1
  obtain ⟨h_pob, h_st⟩ := hM
  have hsz0 := hS.1
  have lt_1 := h_pob.lt
  have lt_2 := h_st.1.lt
  refine lv_aload_n hx hb dX1_weakest_0 rfl (lv_at hl 0 rfl) ?_
  refine lv_iconst (v := (iI ((0 : Nat) : Int))) hx hb dX1_weakest_1 rfl ?_
  refine x_callV (cells1 := 148) (slots1 := 2986) X hR (c_X1_blockWithSlackAt G x u sv hi ip ln ex (er) (fa) l ed z t mc cap b S ((0 : Nat) : Int) hsw (⟨by omega, by omega⟩) hdl) q1550 q1552 qs29 q88 q1553 ⟨rfl, pd_X1_blockWithSlackAt⟩ ⟨Nat.le_of_ble_eq_true rfl, Nat.le_of_ble_eq_true rfl⟩ rfl rfl (Nat.le_of_ble_eq_true rfl) (Nat.le_of_ble_eq_true rfl) h_pob rfl rfl (Nat.le_of_ble_eq_true rfl) hl.1 dX1_weakest_2 (hB.of hS fp_no.base) ⟨h_pob, h_st⟩ hS (fun _ h => h.elim) (fun v H_6 locs hp_3 hz_4 hk_5 hS => ?_) (fun Ex qx cx H_6 locs hp_3 hz_4 hk_5 hS hcx hvx hlx => ?_)
  · skip
    obtain ⟨rfl, hk_7⟩ := hp_3
    have hz_8 := hS.1
    refine r_stk (st2 := [.int (iI ((sB S (fp_bsl S ((0 : Nat) : Int)) 0 : Nat) : Int))]) rfl ?_
    refine x_iret hx hb hr hlk hQ hS (Nat.le_of_ble_eq_true rfl) (Nat.le_of_ble_eq_true rfl) dX1_weakest_5 ?_
    exact ⟨(congrArg (fun q : Nat => some (Value.int (iI (sB S q 0 : Nat)))) (fp_bsl_best (fp_wkc_p (fp_wkc_eq.trans hk_7)))), (fp_wkc_eq.trans hk_7)⟩
  · skip
    rcases hp_3 with ⟨rfl, hX9, hb9⟩
    exact x_out hT hlk hQ hS (Nat.le_of_ble_eq_true rfl) (Nat.le_of_ble_eq_true rfl) hcx hvx hlx (⟨rfl, fp_X.ofS hS, fp_wkc_eq.trans hb9⟩)
set_option maxHeartbeats 4000000 in
theorem c_X1_blockBySlack (G : fp_G) (x : Nat) (u : Nat) (sv : Value) (hi : Nat) (ip : Nat) (ln : Nat) (ex : Bool) (er : Int) (fa : Int) (l : Nat) (ed : Nat) (z : Nat) (t : Nat) (mc : Int32) (cap : Nat) (b : Nat → Nat) (S : PS) (pos : Int) (hsw : fp_sw S b) (hp : rg pos) (hdl : fp_dl S) : fp_MX G yX1_blockBySlack cX1_blockBySlack 2 (some .int) 12 292 148 2986 [.ref (x), .int (iI (pos))] (fun H => fp_At G H x (eO 1 [.ref (u), sv, .ref (hi), .ref (ip), .ref (ln), .int (iI (bI (ex))), .int (iI (er)), .int (iI (fa))]) ∧ fp_SE G u l ed z t mc cap b S H) fp_no (fun H v H1 => v = some (.int (iI ((sB S (fp_bsl S pos) 0 : Nat) : Int))) ∧ (fp_bslc S pos = 0)) (fun H E H1 => (E = "java/util/NoSuchElementException" ∧ fp_X H H1 ∧ fp_bslc S pos = 1)) := by
  refine fp_MX.intro (by decide) (Nat.le_of_ble_eq_true rfl) ?_
  intro pg en s mi ag bl mt cd rR qQ ls X hx hb hr hlk hnm hR hQ hT hB hM hl
  have hS : va_S (fA fp_no s.heap.size) s.heap s.heap [] := va_S.rf
  generalize ([] : List Loc) = locs at hS ⊢
  have hb0 := hB.1
  obtain ⟨h_pob, h_st⟩ := hM
  have hsz0 := hS.1
  have lt_1 := h_pob.lt
  have lt_2 := h_st.1.lt
  refine lv_aload_n hx hb dX1_blockBySlack_0 rfl (lv_at hl 0 rfl) ?_
  refine lv_iload_n hx hb dX1_blockBySlack_1 rfl (lv_at hl 1 rfl) ?_
  refine x_callV (cells1 := 148) (slots1 := 2986) X hR (c_X1_blockWithSlackAt G x u sv hi ip ln ex (er) (fa) l ed z t mc cap b S (pos) hsw (⟨by omega, by omega⟩) hdl) q1550 q1552 qs29 q88 q1553 ⟨rfl, pd_X1_blockWithSlackAt⟩ ⟨Nat.le_of_ble_eq_true rfl, Nat.le_of_ble_eq_true rfl⟩ rfl rfl (Nat.le_of_ble_eq_true rfl) (Nat.le_of_ble_eq_true rfl) h_pob rfl rfl (Nat.le_of_ble_eq_true rfl) hl.1 dX1_blockBySlack_2 (hB.of hS fp_no.base) ⟨h_pob, h_st⟩ hS (fun _ h => h.elim) (fun v H_6 locs hp_3 hz_4 hk_5 hS => ?_) (fun Ex qx cx H_6 locs hp_3 hz_4 hk_5 hS hcx hvx hlx => ?_)
  · skip
    obtain ⟨rfl, hk_7⟩ := hp_3
    have hz_8 := hS.1
    refine r_stk (st2 := [.int (iI ((sB S (fp_bsl S (pos)) 0 : Nat) : Int))]) rfl ?_
    refine x_iret hx hb hr hlk hQ hS (Nat.le_of_ble_eq_true rfl) (Nat.le_of_ble_eq_true rfl) dX1_blockBySlack_5 ?_
    exact ⟨rfl, hk_7⟩
  · skip
    rcases hp_3 with ⟨rfl, hX9, hb9⟩
    exact x_out hT hlk hQ hS (Nat.le_of_ble_eq_true rfl) (Nat.le_of_ble_eq_true rfl) hcx hvx hlx (⟨rfl, fp_X.ofS hS, hb9⟩)
set_option maxHeartbeats 4000000 in
theorem c_X1_levelCount (G : fp_G) (x : Nat) (u : Nat) (sv : Value) (hi : Nat) (ip : Nat) (ln : Nat) (ex : Bool) (er : Int) (fa : Int) (l : Nat) (ed : Nat) (z : Nat) (t : Nat) (mc : Int32) (cap : Nat) (b : Nat → Nat) (S : PS) (hsw : fp_sw S b) (h30 : ∀ k, k < sN S → sB S k 5 ≤ 30) : fp_M G yX1_levelCount cX1_levelCount 4 (some .int) 247 5805 1 24 [.ref (x)] (fun H => fp_At G H x (eO 1 [.ref (u), sv, .ref (hi), .ref (ip), .ref (ln), .int (iI (bI (ex))), .int (iI (er)), .int (iI (fa))]) ∧ fp_SE G u l ed z t mc cap b S H) fp_no (fun H v H1 => v = some (.int (iI ((fp_nlv S : Nat) : Int)))) := by
  refine fp_M.intro (by decide) (Nat.le_of_ble_eq_true rfl) ?_
  intro pg en s mi ag bl mt cd rR qQ ls X hx hb hr hlk hnm hR hQ hB hM hl
  have hS : va_S (fA fp_no s.heap.size) s.heap s.heap [] := va_S.rf
  generalize ([] : List Loc) = locs at hS ⊢
  have hb0 := hB.1
  obtain ⟨h_pob, h_st⟩ := hM
  have hsz0 := hS.1
  have lt_1 := h_pob.lt
  have lt_2 := h_st.1.lt
  have hn24 := hsw.1.1
  obtain ⟨h_o, h_l, h_z, h_t, h_bl, h_xb, h_zb, h_tb⟩ := id h_st
  have lt_3 := h_l.1.lt
  have lt_4 := h_l.2.2
  have lt_5 := h_z.lt
  have lt_6 := h_t.lt
  refine lv_aload_n hx hb dX1_levelCount_0 rfl (lv_at hl 0 rfl) ?_
  refine r_get X h_pob rfl in_X1 0 (by decide) q242 (Or.inl rfl) (v := .ref (u)) rfl dX1_levelCount_1 ?_
  refine r_callV (cells1 := 1) (slots1 := 24) X hR (c_X2_unknownNumbers G u l ed z t mc cap b S hsw) q480 q481 q482 q89 q483 ⟨rfl, pd_X2_unknownNumbers⟩ ⟨Nat.le_of_ble_eq_true rfl, Nat.le_of_ble_eq_true rfl⟩ rfl rfl (Nat.le_of_ble_eq_true rfl) (Nat.le_of_ble_eq_true rfl) h_st.1 rfl rfl (Nat.le_of_ble_eq_true rfl) hl.1 dX1_levelCount_4 (hB.of hS fp_no.base) h_st hS (fun _ h => h.elim) (fun v H_10 locs hp_7 hz_8 hk_9 hS => ?_)
  obtain ⟨q_11, rfl, hq_12, hE_13⟩ := hp_7
  have hz_14 := hS.1
  have lt_16 := hE_13.lt
  refine r_stk (st2 := [.ref (q_11)]) rfl ?_
  refine lv_astore_n (lv' := [(1, .ref (q_11)), (0, .ref (x))]) hx hb dX1_levelCount_7 rfl hl (by decide) rfl (fun ls hl => ?_)
  refine lv_iconst (v := (iI ((0 : Nat) : Int))) hx hb dX1_levelCount_8 rfl ?_
  refine lv_istore_n (lv' := [(2, .int (iI ((0 : Nat) : Int))), (1, .ref (q_11)), (0, .ref (x))]) hx hb dX1_levelCount_9 rfl hl (by decide) rfl (fun ls hl => ?_)
  refine lv_iconst (v := (iI ((0 : Nat) : Int))) hx hb dX1_levelCount_10 rfl ?_
  refine lv_istore_n (lv' := [(3, .int (iI ((0 : Nat) : Int))), (2, .int (iI ((0 : Nat) : Int))), (1, .ref (q_11)), (0, .ref (x))]) hx hb dX1_levelCount_11 rfl hl (by decide) rfl (fun ls hl => ?_)
  have L12 : ∀ (k : Nat), k ≤ sN S → ∀ (g : Nat → Int) (H_17 : Heap) (locs : List Loc) (ls : Array Slot), lv_has ls 4 [(0, .ref (x)), (1, .ref (q_11)), (2, .int (iI ((fp_mlv S k : Nat) : Int))), (3, .int (iI ((k : Nat) : Int)))] → va_S (fA fp_no s.heap.size) s.heap H_17 locs → (fp_lk S g) → (H_10.size ≤ H_17.size) → fp_At G H_17 q_11 (eI G (sN S) (fun j => iI (g j))) → W pg (g_l G) en rR s mi ag bl mt cd H_17 locs 1 24 qQ (F0 mi 12 ls []) := by
    refine lp_up (sN S) ?_
    intro k hk12 ih12 g H_17 locs ls hl hS hlg hz_18 hE_19
    have hz_20 := hS.1
    have lt_21 := hE_19.lt
    have hmb : fp_mlv S k ≤ 41 := fp_mx_le (fun j hj => by have := fp_lv_b S j; have := (hsw.1.2.2.1 j (by omega)); omega)
    have hlvk := fp_lv_b S k
    refine lv_iload_n hx hb dX1_levelCount_12 rfl (lv_at hl 3 rfl) ?_
    refine lv_aload_n hx hb dX1_levelCount_13 rfl (lv_at hl 1 rfl) ?_
    refine r_alen X (t := 0) rfl hE_19 (v := (iI ((sN S : Nat) : Int))) rfl dX1_levelCount_14 ?_
    refine r_icmp_ge (tgt := 40) hx hb ⟨by omega, by omega⟩ ⟨by omega, by omega⟩ dX1_levelCount_15 (by decide) (fun c15 => ?_) (fun c15 => ?_)
    · skip
      obtain rfl : k = sN S := by omega
      refine lv_iload_n hx hb dX1_levelCount_40 rfl (lv_at hl 2 rfl) ?_
      refine r_iret hx hb hr hlk hQ hS (Nat.le_of_ble_eq_true rfl) (Nat.le_of_ble_eq_true rfl) dX1_levelCount_41 ?_
      exact (congrArg (fun q : Nat => some (Value.int (iI (q : Int)))) ((fp_nlv_mx h30).symm))
    · skip
      have hbk := hsw.1.2.2.1 k (by omega)
      refine lv_iload_n hx hb dX1_levelCount_18 rfl (lv_at hl 2 rfl) ?_
      refine lv_iconst (v := (iI ((1 : Nat) : Int))) hx hb dX1_levelCount_19 rfl ?_
      refine lv_aload_n hx hb dX1_levelCount_20 rfl (lv_at hl 0 rfl) ?_
      have hE_22 := fp_At.kept h_pob (fp_keptS (by omega) hS (fun z => z))
      refine r_get X hE_22 rfl in_X1 0 (by decide) q242 (Or.inl rfl) (v := .ref (u)) rfl dX1_levelCount_21 ?_
      refine lv_iload_n hx hb dX1_levelCount_24 rfl (lv_at hl 3 rfl) ?_
      refine lv_aload_n hx hb dX1_levelCount_25 rfl (lv_at hl 1 rfl) ?_
      have hE_23 := h_st.ext (fp_X.ofS hS)
      refine r_callV (cells1 := 1) (slots1 := 24) X hR (c_X2_recursiveLevel_t G u l ed z t mc cap b S q_11 k g hsw (by omega) (⟨⟨by omega, by omega, by omega, by omega, by omega⟩, fun k hk => by have := (h_bl k hk).lt; omega⟩) (by omega) hlg) q485 q486 q487 q89 q488 ⟨rfl, pd_X2_recursiveLevel⟩ ⟨Nat.le_of_ble_eq_true rfl, Nat.le_of_ble_eq_true rfl⟩ rfl rfl (Nat.le_of_ble_eq_true rfl) (Nat.le_of_ble_eq_true rfl) hE_23.1 rfl rfl (Nat.le_of_ble_eq_true rfl) hl.1 dX1_levelCount_26 (hB.of hS fp_no.base) ⟨hE_23, hE_19⟩ hS (fun q h => Or.inr (by have h2 : (g_s G).heap.size ≤ q ∧ (q = q_11) := h; omega)) (fun v H_27 locs hp_24 hz_25 hk_26 hS => ?_)
      obtain ⟨f2_28, rfl, hlv2_29, hE_30⟩ := hp_24
      have hz_31 := hS.1
      have lt_32 := hE_30.lt
      refine r_stk (st2 := [.int (iI ((fp_lv S k : Nat) : Int)), .int (iI ((1 : Nat) : Int)), .int (iI ((fp_mlv S k : Nat) : Int))]) rfl ?_
      refine r_iaddN hx hb dX1_levelCount_29 ?_
      refine r_maxN X hR hl.1 q512 q425 q107 q426 (by decide) (Nat.le_of_ble_eq_true rfl) (Nat.le_of_ble_eq_true rfl) (Nat.le_of_ble_eq_true rfl) (by omega) (by omega) dX1_levelCount_30 ?_
      refine lv_istore_n (lv' := [(2, .int (iI ((max (fp_mlv S k) (1 + (fp_lv S k)) : Nat) : Int))), (0, .ref (x)), (1, .ref (q_11)), (3, .int (iI ((k : Nat) : Int)))]) hx hb dX1_levelCount_33 rfl hl (by decide) rfl (fun ls hl => ?_)
      refine lv_iinc (v := (iI ((k + 1 : Nat) : Int))) (lv' := [(3, .int (iI ((k + 1 : Nat) : Int))), (2, .int (iI ((max (fp_mlv S k) (1 + (fp_lv S k)) : Nat) : Int))), (0, .ref (x)), (1, .ref (q_11))]) hx hb dX1_levelCount_34 hl (k := 3) rfl (iI_incN _ _) (by decide) rfl (fun ls hl => ?_)
      refine lv_goto (tgt := 12) hx hb dX1_levelCount_37 (by decide) ?_
      exact ih12 (by omega) f2_28 H_27 locs ls (by rw [show Value.int (iI ((fp_mlv S (k + 1) : Nat) : Int)) = Value.int (iI ((max (fp_mlv S k) (1 + (fp_lv S k)) : Nat) : Int)) from congrArg (fun q : Nat => Value.int (iI (q : Int))) fp_mlv_s.symm]; exact lv_sub hl [2, 3, 1, 0] rfl) hS hlv2_29 (by omega) hE_30
  exact L12 0 (by omega) (fun _ => (-2 : Int)) H_10 locs ls (by rw [show Value.int (iI ((fp_mlv S 0 : Nat) : Int)) = Value.int (iI ((0 : Nat) : Int)) from rfl]; exact lv_sub hl [3, 2, 1, 0] rfl) hS (fp_lk.n) (Nat.le_refl _) hE_13
set_option maxHeartbeats 4000000 in
theorem c_X1_areLoadsEqual (G : fp_G) (x : Nat) (u : Nat) (sv : Value) (hi : Nat) (ip : Nat) (ln : Nat) (ex : Bool) (er : Int) (fa : Int) (l : Nat) (ed : Nat) (z : Nat) (t : Nat) (mc : Int32) (cap : Nat) (b : Nat → Nat) (S : PS) (hsw : fp_sw S b) (hdl : fp_dl S) (h30 : ∀ k, k < sN S → sB S k 5 ≤ 30) : fp_M G yX1_areLoadsEqual cX1_areLoadsEqual 4 (some .boolean) 329 8063 3602 72672 [.ref (x)] (fun H => fp_At G H x (eO 1 [.ref (u), sv, .ref (hi), .ref (ip), .ref (ln), .int (iI (bI (ex))), .int (iI (er)), .int (iI (fa))]) ∧ fp_SE G u l ed z t mc cap b S H) fp_no (fun H v H1 => v = some (.int (iI (bI (true))))) := by
  refine fp_M.intro (by decide) (Nat.le_of_ble_eq_true rfl) ?_
  intro pg en s mi ag bl mt cd rR qQ ls X hx hb hr hlk hnm hR hQ hB hM hl
  have hS : va_S (fA fp_no s.heap.size) s.heap s.heap [] := va_S.rf
  generalize ([] : List Loc) = locs at hS ⊢
  have hb0 := hB.1
  obtain ⟨h_pob, h_st⟩ := hM
  have hsz0 := hS.1
  have lt_1 := h_pob.lt
  have lt_2 := h_st.1.lt
  have hn24 := hsw.1.1
  obtain ⟨h_o, h_l, h_z, h_t, h_bl, h_xb, h_zb, h_tb⟩ := id h_st
  have lt_3 := h_l.1.lt
  have lt_4 := h_l.2.2
  have lt_5 := h_z.lt
  have lt_6 := h_t.lt
  refine lv_aload_n hx hb dX1_areLoadsEqual_0 rfl (lv_at hl 0 rfl) ?_
  refine r_get X h_pob rfl in_X1 0 (by decide) q242 (Or.inl rfl) (v := .ref (u)) rfl dX1_areLoadsEqual_1 ?_
  refine r_callV (cells1 := 145) (slots1 := 2928) X hR (c_X2_loads G u l ed z t mc cap b S hsw hdl) q546 q547 q548 q89 q549 ⟨rfl, pd_X2_loads⟩ ⟨Nat.le_of_ble_eq_true rfl, Nat.le_of_ble_eq_true rfl⟩ rfl rfl (Nat.le_of_ble_eq_true rfl) (Nat.le_of_ble_eq_true rfl) h_st.1 rfl rfl (Nat.le_of_ble_eq_true rfl) hl.1 dX1_areLoadsEqual_4 (hB.of hS fp_no.base) h_st hS (fun _ h => h.elim) (fun v H_10 locs hp_7 hz_8 hk_9 hS => ?_)
  obtain ⟨a_11, rfl, ha_12, hE_13⟩ := hp_7
  have hz_14 := hS.1
  have lt_16 := hE_13.lt
  refine r_stk (st2 := [.ref (a_11)]) rfl ?_
  refine lv_astore_n (lv' := [(1, .ref (a_11)), (0, .ref (x))]) hx hb dX1_areLoadsEqual_7 rfl hl (by decide) rfl (fun ls hl => ?_)
  refine lv_aload_n hx hb dX1_areLoadsEqual_8 rfl (lv_at hl 1 rfl) ?_
  have hE_17 := fp_At.kept h_pob (fp_keptS (by omega) hS (fun z => z))
  refine r_get X hE_17 rfl in_X1 0 (by decide) q242 (Or.inl rfl) (v := .ref (u)) rfl dX1_areLoadsEqual_9 ?_
  have hE_18 := h_st.ext (fp_X.ofS hS)
  refine r_callV (cells1 := 146) (slots1 := 2952) X hR (c_X2_unknownNumbers G u l ed z t mc cap b S hsw) q480 q481 q482 q89 q483 ⟨rfl, pd_X2_unknownNumbers⟩ ⟨Nat.le_of_ble_eq_true rfl, Nat.le_of_ble_eq_true rfl⟩ rfl rfl (Nat.le_of_ble_eq_true rfl) (Nat.le_of_ble_eq_true rfl) hE_18.1 rfl rfl (Nat.le_of_ble_eq_true rfl) hl.1 dX1_areLoadsEqual_12 (hB.of hS fp_no.base) hE_18 hS (fun _ h => h.elim) (fun v H_22 locs hp_19 hz_20 hk_21 hS => ?_)
  obtain ⟨q_23, rfl, hq_24, hE_25⟩ := hp_19
  have hz_26 := hS.1
  have lt_28 := hE_25.lt
  refine r_stk (st2 := [.ref (q_23)]) rfl ?_
  refine lv_astore_n (lv' := [(2, .ref (q_23)), (1, .ref (a_11)), (0, .ref (x))]) hx hb dX1_areLoadsEqual_15 rfl hl (by decide) rfl (fun ls hl => ?_)
  refine lv_iconst (v := (iI ((0 : Nat) : Int))) hx hb dX1_areLoadsEqual_16 rfl ?_
  refine lv_istore_n (lv' := [(3, .int (iI ((0 : Nat) : Int))), (2, .ref (q_23)), (1, .ref (a_11)), (0, .ref (x))]) hx hb dX1_areLoadsEqual_17 rfl hl (by decide) rfl (fun ls hl => ?_)
  have hE_30 := fp_At.kept hE_13 (hk_21 _ (by omega) (fun z => z))
  have L18 : ∀ (k : Nat), k ≤ sN S → ∀ (g : Nat → Int) (H_31 : Heap) (locs : List Loc) (ls : Array Slot), lv_has ls 4 [(0, .ref (x)), (1, .ref (a_11)), (2, .ref (q_23)), (3, .int (iI ((k : Nat) : Int)))] → va_S (fA fp_no s.heap.size) s.heap H_31 locs → (fp_kl S g) → (H_22.size ≤ H_31.size) → fp_At G H_31 a_11 (eI G (sN S) (fun j => iI ((fun j => ((fp_ld S j : Nat) : Int)) j))) → fp_At G H_31 q_23 (eI G (sN S) (fun j => iI (g j))) → W pg (g_l G) en rR s mi ag bl mt cd H_31 locs (146 + 144 * (sN S - fp_ku S g)) (2952 + 2904 * (sN S - fp_ku S g)) qQ (F0 mi 18 ls []) := by
    refine lp_up (sN S) ?_
    intro k hk18 ih18 g H_31 locs ls hl hS hklg hz_32 hE_33 hE_34
    have hz_35 := hS.1
    have lt_36 := hE_33.lt
    have lt_37 := hE_34.lt
    have hkn9 := fp_ku_n S g
    refine lv_iload_n hx hb dX1_areLoadsEqual_18 rfl (lv_at hl 3 rfl) ?_
    refine lv_aload_n hx hb dX1_areLoadsEqual_19 rfl (lv_at hl 1 rfl) ?_
    refine r_alen X (t := 0) rfl hE_33 (v := (iI ((sN S : Nat) : Int))) rfl dX1_areLoadsEqual_20 ?_
    refine r_icmp_ge (tgt := 47) hx hb ⟨by omega, by omega⟩ ⟨by omega, by omega⟩ dX1_areLoadsEqual_21 (by decide) (fun c21 => ?_) (fun c21 => ?_)
    · skip
      refine lv_iconst (v := (iI ((1 : Nat) : Int))) hx hb dX1_areLoadsEqual_47 rfl ?_
      refine r_zret hx hb hr hlk hQ hS (by omega) (by omega) dX1_areLoadsEqual_48 rfl ?_
      exact rfl
    · skip
      have hldk := fp_ld_b hsw.1 k
      refine lv_aload_n hx hb dX1_areLoadsEqual_24 rfl (lv_at hl 1 rfl) ?_
      refine lv_iload_n hx hb dX1_areLoadsEqual_25 rfl (lv_at hl 3 rfl) ?_
      refine r_ialdI X hE_33 (j := k) rfl (by omega) (by omega) dX1_areLoadsEqual_26 ?_
      refine r_set (y := .int (iI ((fp_ld S k : Nat) : Int))) rfl ?_
      refine r_meas (fun hmb1 hmb2 => ?_)
      have hkn0 := fp_ku_n S g
      have huk0 := fp_uab_ku S g k
      refine lv_aload_n hx hb dX1_areLoadsEqual_27 rfl (lv_at hl 0 rfl) ?_
      have hE_38 := fp_At.kept h_pob (fp_keptS (by omega) hS (fun z => z))
      refine r_get X hE_38 rfl in_X1 0 (by decide) q242 (Or.inl rfl) (v := .ref (u)) rfl dX1_areLoadsEqual_28 ?_
      refine lv_iload_n hx hb dX1_areLoadsEqual_31 rfl (lv_at hl 3 rfl) ?_
      refine lv_aload_n hx hb dX1_areLoadsEqual_32 rfl (lv_at hl 2 rfl) ?_
      have hE_39 := h_st.ext (fp_X.ofS hS)
      refine r_callV (cells1 := (146 + 144 * (sN S - fp_ku S g) + (144 * fp_uab S g k))) (slots1 := (2952 + 2904 * (sN S - fp_ku S g) + (2904 * fp_uab S g k))) X hR (c_X2_recursiveLoad_t G u l ed z t mc cap b S q_23 k g hsw hdl (by omega) (⟨⟨by omega, by omega, by omega, by omega, by omega⟩, fun k hk => by have := (h_bl k hk).lt; omega⟩) h30 (by omega) hklg) q937 q938 q939 q89 q940 ⟨rfl, pd_X2_recursiveLoad⟩ ⟨Nat.le_of_ble_eq_true rfl, Nat.le_of_ble_eq_true rfl⟩ rfl rfl (by omega) (by omega) hE_39.1 rfl rfl (Nat.le_of_ble_eq_true rfl) hl.1 dX1_areLoadsEqual_33 (hB.of hS fp_no.base) ⟨hE_39, hE_34⟩ hS (fun q h => Or.inr (by have h2 : (g_s G).heap.size ≤ q ∧ (q = q_23) := h; omega)) (fun v H_43 locs hp_40 hz_41 hk_42 hS => ?_)
      obtain ⟨f2_44, rfl, hkl2_45, hun_46, hms_47, hmt_48, hE_49⟩ := hp_40
      have hz_50 := hS.1
      have lt_51 := hE_49.lt
      refine r_stk (st2 := [.int (iI ((fp_ld S k : Nat) : Int)), .int (iI ((fp_ld S k : Nat) : Int))]) rfl ?_
      have hms33 := hms_47
      have hmt33 := hmt_48
      have hsh := fp_ku_sh (S := S) (f := g) (g := f2_44) (i := k) hun_46
      have hkn1 := fp_ku_n S f2_44
      have hkn2 := fp_ku_n S g
      have huk := fp_uab_ku S g k
      have huk2 := fp_uab_ku S f2_44 k
      refine r_tight (c' := 146 + 144 * (sN S - fp_ku S f2_44)) (n' := 2952 + 2904 * (sN S - fp_ku S f2_44)) (by omega) (by omega) ?_
      refine r_icmp_eq (tgt := 41) hx hb ⟨by omega, by omega⟩ ⟨by omega, by omega⟩ dX1_areLoadsEqual_36 (by decide) (fun c36 => ?_) (fun c36 => ?_)
      · skip
        refine lv_iinc (v := (iI ((k + 1 : Nat) : Int))) (lv' := [(3, .int (iI ((k + 1 : Nat) : Int))), (0, .ref (x)), (1, .ref (a_11)), (2, .ref (q_23))]) hx hb dX1_areLoadsEqual_41 hl (k := 3) rfl (iI_incN _ _) (by decide) rfl (fun ls hl => ?_)
        refine lv_goto (tgt := 18) hx hb dX1_areLoadsEqual_44 (by decide) ?_
        have hE_53 := fp_At.kept hE_33 (hk_42 _ (by omega) (by omega))
        exact ih18 (by omega) f2_44 H_43 locs ls (lv_sub hl [1, 2, 3, 0] rfl) hS hkl2_45 (by omega) hE_53 hE_49
      · skip
        exact absurd rfl c36
  refine W.widen (k := 146 + 144 * (sN S - fp_ku S (fun _ => (-2 : Int)))) (n := 2952 + 2904 * (sN S - fp_ku S (fun _ => (-2 : Int)))) (by omega) (by omega) ?_
  exact L18 0 (by omega) (fun _ => (-2 : Int)) H_22 locs ls (lv_sub hl [3, 2, 1, 0] rfl) hS (fp_kl.n) (Nat.le_refl _) hE_30 hE_25
set_option maxHeartbeats 4000000 in
theorem c_X1_isConsistent (G : fp_G) (x : Nat) (u : Nat) (sv : Value) (hi : Nat) (ip : Nat) (ln : Nat) (ex : Bool) (er : Int) (fa : Int) (l : Nat) (ed : Nat) (z : Nat) (t : Nat) (mc : Int32) (cap : Nat) (b : Nat → Nat) (S : PS) (hsw : fp_sw S b) (hdl : fp_dl S) (h30 : ∀ k, k < sN S → sB S k 5 ≤ 30) (hho : ∀ c, c < 12 → ((fp_ct (fun h9 => !fp_any (fun i9 => fp_fill (sB S i9) c h9) (sN S)) (fp_hi S c) : Nat) : Int) = fp_hol S c) (hpt : fp_fp S = fp_tw S) : fp_M G yX1_isConsistent cX1_isConsistent 2 (some .boolean) 330 8111 10484 103910 [.ref (x)] (fun H => fp_At G H x (eO 1 [.ref (u), sv, .ref (hi), .ref (ip), .ref (ln), .int (iI (bI (ex))), .int (iI (er)), .int (iI (fa))]) ∧ fp_SE G u l ed z t mc cap b S H) fp_no (fun H v H1 => v = some (.int (iI (bI (fp_bears S))))) := by
  refine fp_M.intro (by decide) (Nat.le_of_ble_eq_true rfl) ?_
  intro pg en s mi ag bl mt cd rR qQ ls X hx hb hr hlk hnm hR hQ hB hM hl
  have hS : va_S (fA fp_no s.heap.size) s.heap s.heap [] := va_S.rf
  generalize ([] : List Loc) = locs at hS ⊢
  have hb0 := hB.1
  obtain ⟨h_pob, h_st⟩ := hM
  have hsz0 := hS.1
  have lt_1 := h_pob.lt
  have lt_2 := h_st.1.lt
  have hn24 := hsw.1.1
  have htw : fp_tw S ≤ sN S * 9 := fp_sm_le (fun k hk => by have hbk9 := hsw.1.2.2.1 k hk; show sB S k 4 ≤ 9; omega)
  refine lv_aload_n hx hb dX1_isConsistent_0 rfl (lv_at hl 0 rfl) ?_
  refine r_callV (cells1 := 3602) (slots1 := 72672) X hR (c_X1_areLoadsEqual G x u sv hi ip ln ex (er) (fa) l ed z t mc cap b S hsw hdl h30) q933 q935 qs12 q88 q936 ⟨rfl, pd_X1_areLoadsEqual⟩ ⟨Nat.le_of_ble_eq_true rfl, Nat.le_of_ble_eq_true rfl⟩ rfl rfl (Nat.le_of_ble_eq_true rfl) (Nat.le_of_ble_eq_true rfl) h_pob rfl rfl (Nat.le_of_ble_eq_true rfl) hl.1 dX1_isConsistent_1 (hB.of hS fp_no.base) ⟨h_pob, h_st⟩ hS (fun _ h => h.elim) (fun v H_6 locs hp_3 hz_4 hk_5 hS => ?_)
  obtain rfl := hp_3
  have hz_7 := hS.1
  refine r_stk (st2 := [.int (iI (bI (true)))]) rfl ?_
  refine r_ifeqB (tgt := 25) hx hb dX1_isConsistent_4 (by decide) (fun c4 => ?_) (fun c4 => ?_)
  · exact absurd c4 (by decide)
  · skip
    refine lv_aload_n hx hb dX1_isConsistent_7 rfl (lv_at hl 0 rfl) ?_
    have hE_8 := fp_At.kept h_pob (fp_keptS (by omega) hS (fun z => z))
    have hE_9 := h_st.ext (fp_X.ofS hS)
    refine r_callV (cells1 := 8595) (slots1 := 92652) X hR (c_X1_isLightEqual G x u sv hi ip ln ex (er) (fa) l ed z t mc cap b S hsw) q942 q944 qs13 q88 q945 ⟨rfl, pd_X1_isLightEqual⟩ ⟨Nat.le_of_ble_eq_true rfl, Nat.le_of_ble_eq_true rfl⟩ rfl rfl (Nat.le_of_ble_eq_true rfl) (Nat.le_of_ble_eq_true rfl) hE_8 rfl rfl (Nat.le_of_ble_eq_true rfl) hl.1 dX1_isConsistent_8 (hB.of hS fp_no.base) ⟨hE_8, hE_9⟩ hS (fun _ h => h.elim) (fun v H_13 locs hp_10 hz_11 hk_12 hS => ?_)
    obtain rfl := hp_10
    have hz_14 := hS.1
    refine r_stk (st2 := [.int (iI (bI (true)))]) rfl ?_
    refine r_ifeqB (tgt := 25) hx hb dX1_isConsistent_11 (by decide) (fun c11 => ?_) (fun c11 => ?_)
    · exact absurd c11 (by decide)
    · skip
      refine lv_aload_n hx hb dX1_isConsistent_14 rfl (lv_at hl 0 rfl) ?_
      have hE_15 := fp_At.kept h_pob (fp_keptS (by omega) hS (fun z => z))
      have hE_16 := h_st.ext (fp_X.ofS hS)
      refine r_callV (cells1 := 10191) (slots1 := 98040) X hR (c_X1_areHolesEqual G x u sv hi ip ln ex (er) (fa) l ed z t mc cap b S hsw hho) q955 q957 qs15 q88 q958 ⟨rfl, pd_X1_areHolesEqual⟩ ⟨Nat.le_of_ble_eq_true rfl, Nat.le_of_ble_eq_true rfl⟩ rfl rfl (Nat.le_of_ble_eq_true rfl) (Nat.le_of_ble_eq_true rfl) hE_15 rfl rfl (Nat.le_of_ble_eq_true rfl) hl.1 dX1_isConsistent_15 (hB.of hS fp_no.base) ⟨hE_15, hE_16⟩ hS (fun _ h => h.elim) (fun v H_20 locs hp_17 hz_18 hk_19 hS => ?_)
      obtain rfl := hp_17
      have hz_21 := hS.1
      refine r_stk (st2 := [.int (iI (bI (true)))]) rfl ?_
      refine r_ifeqB (tgt := 25) hx hb dX1_isConsistent_18 (by decide) (fun c18 => ?_) (fun c18 => ?_)
      · exact absurd c18 (by decide)
      · skip
        refine lv_iconst (v := (iI ((1 : Nat) : Int))) hx hb dX1_isConsistent_21 rfl ?_
        refine lv_goto (tgt := 26) hx hb dX1_isConsistent_22 (by decide) ?_
        refine lv_istore_n (lv' := [(1, .int (iI ((1 : Nat) : Int))), (0, .ref (x))]) hx hb dX1_isConsistent_26 rfl hl (by decide) rfl (fun ls hl => ?_)
        refine lv_iload_n hx hb dX1_isConsistent_27 rfl (lv_at hl 0 rfl) ?_
        refine r_if_eq (tgt := 56) hx hb (by decide) dX1_isConsistent_28 (by decide) (fun c28 => ?_) (fun c28 => ?_)
        · exact absurd c28 (by omega)
        · skip
          refine lv_aload_n hx hb dX1_isConsistent_31 rfl (lv_at hl 1 rfl) ?_
          have hE_22 := fp_At.kept h_pob (fp_keptS (by omega) hS (fun z => z))
          refine r_get X hE_22 rfl in_X1 0 (by decide) q242 (Or.inl rfl) (v := .ref (u)) rfl dX1_isConsistent_32 ?_
          have hE_23 := h_st.ext (fp_X.ofS hS)
          refine r_callV (cells1 := 10336) (slots1 := 100968) X hR (c_X2_isOverloaded G u l ed z t mc cap b S hsw hdl) q984 q985 q986 q89 q987 ⟨rfl, pd_X2_isOverloaded⟩ ⟨Nat.le_of_ble_eq_true rfl, Nat.le_of_ble_eq_true rfl⟩ rfl rfl (Nat.le_of_ble_eq_true rfl) (Nat.le_of_ble_eq_true rfl) hE_23.1 rfl rfl (Nat.le_of_ble_eq_true rfl) hl.1 dX1_isConsistent_35 (hB.of hS fp_no.base) hE_23 hS (fun _ h => h.elim) (fun v H_27 locs hp_24 hz_25 hk_26 hS => ?_)
          obtain rfl := hp_24
          have hz_28 := hS.1
          refine r_stk (st2 := [.int (iI (bI (!fp_bears S)))]) rfl ?_
          refine r_ifneB (tgt := 56) hx hb dX1_isConsistent_38 (by decide) (fun c38 => ?_) (fun c38 => ?_)
          · skip
            refine lv_iconst (v := (iI ((0 : Nat) : Int))) hx hb dX1_isConsistent_56 rfl ?_
            refine r_zret hx hb hr hlk hQ hS (Nat.le_of_ble_eq_true rfl) (Nat.le_of_ble_eq_true rfl) dX1_isConsistent_57 rfl ?_
            exact (congrArg (fun q : Bool => some (Value.int (iI (bI q)))) (Eq.symm (show (fp_bears S) = false from fp_nb_f c38)))
          · skip
            refine lv_aload_n hx hb dX1_isConsistent_41 rfl (lv_at hl 1 rfl) ?_
            have hE_29 := fp_At.kept h_pob (fp_keptS (by omega) hS (fun z => z))
            have hE_30 := h_st.ext (fp_X.ofS hS)
            refine r_callV (cells1 := 10483) (slots1 := 103902) X hR (c_X1_pressureOnFloor G x u sv hi ip ln ex (er) (fa) l ed z t mc cap b S hsw hdl) q542 q544 qs5 q88 q545 ⟨rfl, pd_X1_pressureOnFloor⟩ ⟨Nat.le_of_ble_eq_true rfl, Nat.le_of_ble_eq_true rfl⟩ rfl rfl (Nat.le_of_ble_eq_true rfl) (Nat.le_of_ble_eq_true rfl) hE_29 rfl rfl (Nat.le_of_ble_eq_true rfl) hl.1 dX1_isConsistent_42 (hB.of hS fp_no.base) ⟨hE_29, hE_30⟩ hS (fun _ h => h.elim) (fun v H_34 locs hp_31 hz_32 hk_33 hS => ?_)
            obtain rfl := hp_31
            have hz_35 := hS.1
            refine r_stk (st2 := [.int (iI ((fp_fp S : Nat) : Int))]) rfl ?_
            refine lv_aload_n hx hb dX1_isConsistent_45 rfl (lv_at hl 1 rfl) ?_
            have hE_36 := fp_At.kept h_pob (fp_keptS (by omega) hS (fun z => z))
            have hE_37 := h_st.ext (fp_X.ofS hS)
            refine r_callV (cells1 := 10484) (slots1 := 103906) X hR (c_X1_weightOfAll G x u sv hi ip ln ex (er) (fa) l ed z t mc cap b S hsw) q518 q520 qs4 q88 q521 ⟨rfl, pd_X1_weightOfAll⟩ ⟨Nat.le_of_ble_eq_true rfl, Nat.le_of_ble_eq_true rfl⟩ rfl rfl (Nat.le_of_ble_eq_true rfl) (Nat.le_of_ble_eq_true rfl) hE_36 rfl rfl (Nat.le_of_ble_eq_true rfl) hl.1 dX1_isConsistent_46 (hB.of hS fp_no.base) ⟨hE_36, hE_37⟩ hS (fun _ h => h.elim) (fun v H_41 locs hp_38 hz_39 hk_40 hS => ?_)
            obtain rfl := hp_38
            have hz_42 := hS.1
            refine r_stk (st2 := [.int (iI ((fp_tw S : Nat) : Int)), .int (iI ((fp_fp S : Nat) : Int))]) rfl ?_
            refine r_icmp_ne (tgt := 56) hx hb ⟨by omega, by omega⟩ ⟨by omega, by omega⟩ dX1_isConsistent_49 (by decide) (fun c49 => ?_) (fun c49 => ?_)
            · skip
              exact absurd (congrArg (fun q : Nat => (q : Int)) hpt) c49
            · skip
              refine lv_iconst (v := (iI ((1 : Nat) : Int))) hx hb dX1_isConsistent_52 rfl ?_
              refine lv_goto (tgt := 57) hx hb dX1_isConsistent_53 (by decide) ?_
              refine r_zret hx hb hr hlk hQ hS (Nat.le_of_ble_eq_true rfl) (Nat.le_of_ble_eq_true rfl) dX1_isConsistent_57 rfl ?_
              exact (congrArg (fun q : Bool => some (Value.int (iI (bI q)))) (Eq.symm (show (fp_bears S) = true from fp_nb_t c38)))
