/-! PLAIN LAWS: blocks do not overlap, what is above the ground is supported; holes two ways; pressure is weight -/
set_option maxRecDepth 100000
/-- no two blocks overlap -/
def fp_dj (S : PS) : Prop := ∀ i j c, i < sN S → j < sN S → i ≠ j → fp_cov (sB S i) c = true → fp_cov (sB S j) c = true → fp_top (sB S i) ≤ sB S j 5 ∨ fp_top (sB S j) ≤ sB S i 5
/-- a block above the ground has something under it -/
def fp_sd (S : PS) : Prop := ∀ k, k < sN S → 0 < sB S k 5 → ∃ o, o < sN S ∧ fp_supf S k o = true
def fp_Iv (S : PS) : Prop := fp_t30 S ∧ fp_dj S ∧ fp_sd S
theorem fp_cov_m {B : Nat → Nat} {c : Nat} : fp_cov B c = true ↔ B 2 ≤ c ∧ c < B 2 + B 3 := decide_eq_true_iff
theorem fp_dj.dl2 {S : PS} (hok : ∀ k, k < sN S → fp_bk (sB S k)) (h : fp_dj S) : fp_dl S := fun u i j hu hi hj h1 h2 h3 => by
  refine Decidable.byContradiction (fun hne => ?_)
  have b1 := hok i hi
  have b2 := hok j hj
  have t1 : fp_top (sB S i) = sB S u 5 := fp_sup_t h1
  have t2 : fp_top (sB S j) = sB S u 5 := fp_sup_t h2
  have t3 := fp_top_b (sB S i)
  have t4 := fp_top_b (sB S j)
  have := h i j (sB S i 2) hi hj hne (fp_cov_m.mpr ⟨Nat.le_refl _, by omega⟩) (fp_cov_m.mpr ⟨by omega, by omega⟩)
  omega
theorem fp_dj.dl {S : PS} (hok : fp_ok S) (h : fp_dj S) : fp_dl S := h.dl2 hok.2.2.1
theorem fp_hi_ge {S : PS} {k c : Nat} (hk : k < sN S) (hc : fp_cov (sB S k) c = true) : fp_top (sB S k) ≤ fp_hi S c := by
  have h := fp_mx_ge (f := fp_hif S c) hk
  have e : fp_hif S c k = fp_top (sB S k) := if_pos hc
  rw [e] at h
  exact h
theorem fp_base_ge {S : PS} {l w c : Nat} (h1 : l ≤ c) (h2 : c < l + w) : fp_hi S c ≤ fp_base S l w := by
  have h := fp_mx_ge (f := fun i => fp_hi S (l + i)) (n := w) (k := c - l) (by omega)
  have e : l + (c - l) = c := by omega
  have h3 : fp_hi S (l + (c - l)) ≤ fp_base S l w := h
  rw [e] at h3
  exact h3
theorem fp_dj.add {S T : PS} {nr kd l w wt : Nat} (hN : sN T = sN S + 1) (hB : sB T = va_up (sB S) (sN S) (fp_blk nr kd l w wt (fp_base S l w))) (h : fp_dj S) : fp_dj T := by
  have key : ∀ j c, j < sN S → l ≤ c ∧ c < l + w → fp_cov (sB S j) c = true → fp_top (sB S j) ≤ fp_base S l w := fun j c hj hc hv => Nat.le_trans (fp_hi_ge hj hv) (fp_base_ge hc.1 hc.2)
  intro i j c hi hj hne ci cj
  rw [hN] at hi hj
  rw [hB] at ci cj ⊢
  by_cases e1 : i = sN S
  · subst e1
    have e2 : j ≠ sN S := fun z => hne z.symm
    rw [va_up_self] at ci ⊢
    rw [va_up_ne _ _ e2] at cj ⊢
    exact Or.inr (key j c (by omega) (fp_cov_m.mp ci) cj)
  · rw [va_up_ne _ _ e1] at ci ⊢
    by_cases e2 : j = sN S
    · subst e2
      rw [va_up_self] at cj ⊢
      exact Or.inl (key i c (by omega) (fp_cov_m.mp cj) ci)
    · rw [va_up_ne _ _ e2] at cj ⊢
      exact h i j c (by omega) (by omega) hne ci cj
theorem fp_sd.add {S T : PS} {nr kd l w wt : Nat} (hN : sN T = sN S + 1) (hB : sB T = va_up (sB S) (sN S) (fp_blk nr kd l w wt (fp_base S l w))) (h : fp_sd S) : fp_sd T := by
  intro k hk hb
  rw [hN] at hk
  by_cases e1 : k = sN S
  · subst e1
    have hb2 : 0 < fp_base S l w := by
      rw [hB, va_up_self] at hb
      exact hb
    obtain ⟨i, hi, h1⟩ := fp_mx_at (f := fun i => fp_hi S (l + i)) hb2
    have h1' : fp_hi S (l + i) = fp_base S l w := h1
    obtain ⟨o, ho, h2⟩ := fp_mx_at (f := fp_hif S (l + i)) (n := sN S) (show 0 < fp_hi S (l + i) by omega)
    have h2' : fp_hif S (l + i) o = fp_base S l w := h2.trans h1'
    unfold fp_hif at h2'
    by_cases hc : fp_cov (sB S o) (l + i) = true
    · rw [if_pos hc] at h2'
      have hc2 := fp_cov_m.mp hc
      refine ⟨o, by omega, ?_⟩
      show fp_sup (sB T o) (sB T (sN S)) = true
      rw [hB, va_up_self, va_up_ne _ _ (show o ≠ sN S by omega)]
      refine decide_eq_true ⟨⟨?_, ?_⟩, h2'⟩
      · show sB S o 2 < l + w
        omega
      · show l < sB S o 2 + sB S o 3
        omega
    · rw [if_neg hc] at h2'
      omega
  · rw [hB, va_up_ne _ _ e1] at hb
    obtain ⟨o, ho, h1⟩ := h k (by omega) hb
    refine ⟨o, by omega, ?_⟩
    show fp_sup (sB T o) (sB T k) = true
    rw [hB, va_up_ne _ _ e1, va_up_ne _ _ (show o ≠ sN S by omega)]
    exact h1
theorem fp_dj.tri {S : PS} {nr kd l w wt : Nat} (h : fp_dj S) : fp_dj (fp_tri S (fp_blk nr kd l w wt (fp_base S l w))) := h.add rfl rfl
theorem fp_dj.del {S : PS} {k : Nat} (h : fp_dj S) : fp_dj (fp_del S k) := by
  intro i j c hi hj hne ci cj
  have hi' : i < sN S - 1 := hi
  have hj' : j < sN S - 1 := hj
  have e : ∀ i, sB (fp_del S k) i = sB S (if i < k then i else i + 1) := fun i => by
    show (if i < k then sB S i else sB S (i + 1)) = _
    split <;> rfl
  rw [e] at ci cj ⊢
  rw [e]
  refine h _ _ c ?_ ?_ ?_ ci cj <;> (repeat' split) <;> omega
theorem fp_sd.del {S : PS} {k : Nat} (hk : k < sN S) (hu : fp_und S k = false) (h : fp_sd S) : fp_sd (fp_del S k) := by
  have e : ∀ i, sB (fp_del S k) i = sB S (if i < k then i else i + 1) := fun i => by
    show (if i < k then sB S i else sB S (i + 1)) = _
    split <;> rfl
  intro j hj hb
  have hj' : j < sN S - 1 := hj
  rw [e] at hb
  have hm : (if j < k then j else j + 1) < sN S := by split <;> omega
  obtain ⟨o, ho, h1⟩ := h _ hm hb
  have hok : o ≠ k := fun z => by
    subst z
    have : fp_und S o = true := fp_any_t hm h1
    rw [hu] at this
    cases this
  refine ⟨if o < k then o else o - 1, ?_, ?_⟩
  · show _ < sN S - 1
    by_cases c : o < k
    · rw [if_pos c]; omega
    · rw [if_neg c]; omega
  · show fp_sup (sB (fp_del S k) _) (sB (fp_del S k) j) = true
    rw [e, e]
    have e2 : (if (if o < k then o else o - 1) < k then (if o < k then o else o - 1) else (if o < k then o else o - 1) + 1) = o := by
      by_cases c : o < k
      · rw [if_pos c, if_pos c]
      · rw [if_neg c, if_neg (by omega)]; omega
    rw [e2]
    exact h1
theorem fp_t30.del {S : PS} {k : Nat} (h : fp_t30 S) : fp_t30 (fp_del S k) := fun j hj => by
  have hj' : j < sN S - 1 := hj
  show fp_top (if j < k then sB S j else sB S (j + 1)) ≤ 30
  split
  · exact h j (by omega)
  · exact h (j + 1) (by omega)
theorem fp_Iv.del {S : PS} {k : Nat} (hk : k < sN S) (hu : fp_und S k = false) (h : fp_Iv S) : fp_Iv (fp_del S k) := ⟨h.1.del, h.2.1.del, h.2.2.del hk hu⟩
theorem fp_Iv.add {S : PS} {kd l w wt : Nat} (ht : fp_top (sB (fp_add S kd l w wt) (sN S)) ≤ 30) (h : fp_Iv S) : fp_Iv (fp_add S kd l w wt) := ⟨fun j hj => by
  have hj' : j < sN S + 1 := hj
  by_cases e : j = sN S
  · rw [e]; exact ht
  · show fp_top (va_up (sB S) (sN S) _ j) ≤ 30
    rw [va_up_ne _ _ e]
    exact h.1 j (by omega), h.2.1.add rfl rfl, h.2.2.add rfl rfl⟩
theorem fp_Iv.z {S : PS} {c z : Nat} (h : fp_Iv S) : fp_Iv (fp_setz S c z) := h
theorem fp_Iv.t {S : PS} {c z : Nat} (h : fp_Iv S) : fp_Iv (fp_sett S c z) := h
theorem fp_Iv.s0 : fp_Iv fp_S0 := ⟨fun k hk => absurd hk (Nat.not_lt_zero _), fun i j c hi => absurd hi (Nat.not_lt_zero _), fun k hk => absurd hk (Nat.not_lt_zero _)⟩
theorem fp_Iv.h30 {S : PS} (h : fp_Iv S) : ∀ k, k < sN S → sB S k 5 ≤ 30 := fun k hk => by
  have a := h.1 k hk
  have b := fp_top_b (sB S k)
  omega
-- holes
theorem fp_ct_neg (q : Nat → Bool) : ∀ M, fp_ct (fun h => !q h) M + fp_ct q M = M
  | 0 => rfl
  | M + 1 => by
    have ih := fp_ct_neg q M
    show fp_ct (fun h => !q h) M + (if (!q M) = true then 1 else 0) + (fp_ct q M + (if q M = true then 1 else 0)) = M + 1
    cases q M with
    | false => rw [if_pos (by rfl), if_neg (by decide)]; omega
    | true => rw [if_neg (by decide), if_pos rfl]; omega
theorem fp_ct_iv (a b : Nat) : ∀ M, fp_ct (fun h => decide (a ≤ h ∧ h < b)) M = min b M - a
  | 0 => by
    show 0 = _
    omega
  | M + 1 => by
    have ih := fp_ct_iv a b M
    show fp_ct (fun h => decide (a ≤ h ∧ h < b)) M + (if decide (a ≤ M ∧ M < b) = true then 1 else 0) = _
    rw [ih]
    by_cases c : a ≤ M ∧ M < b
    · rw [if_pos (decide_eq_true c)]; omega
    · rw [if_neg (by rw [decide_eq_false c]; decide)]; omega
theorem fp_ct_zero {q : Nat → Bool} {M : Nat} (h : ∀ i, i < M → q i = false) : fp_ct q M = 0 := fp_ct_down (Nat.zero_le _) (fun i hi => absurd hi (Nat.not_lt_zero _)) (fun i _ hi => h i hi)
theorem fp_fill_m {B : Nat → Nat} {c h : Nat} : fp_fill B c h = true ↔ fp_cov B c = true ∧ B 5 ≤ h ∧ h < fp_top B := by
  unfold fp_fill
  rw [Bool.and_eq_true, decide_eq_true_iff]
theorem fp_fill_ct {S : PS} {c k M : Nat} (hM : fp_cov (sB S k) c = true → fp_top (sB S k) ≤ M) : fp_ct (fun h => fp_fill (sB S k) c h) M = fp_thf S c k := by
  unfold fp_thf
  by_cases hc : fp_cov (sB S k) c = true
  · rw [if_pos hc]
    have e : fp_ct (fun h => fp_fill (sB S k) c h) M = fp_ct (fun h => decide (sB S k 5 ≤ h ∧ h < fp_top (sB S k))) M := fp_ct_congr (fun h _ => by
      unfold fp_fill
      rw [hc, Bool.true_and])
    rw [e, fp_ct_iv]
    have := hM hc
    omega
  · rw [if_neg hc]
    exact fp_ct_zero (fun h _ => by
      unfold fp_fill
      rw [(Bool.not_eq_true _).mp hc, Bool.false_and])
theorem fp_any_fill {S : PS} (hd : fp_dj S) {c M : Nat} (hM : ∀ k, k < sN S → fp_cov (sB S k) c = true → fp_top (sB S k) ≤ M) : ∀ n, n ≤ sN S → fp_ct (fun h => fp_any (fun i => fp_fill (sB S i) c h) n) M = fp_sm (fp_thf S c) n
  | 0, _ => fp_ct_zero (fun _ _ => rfl)
  | n + 1, hn => by
    have ih := fp_any_fill hd hM n (by omega)
    show fp_ct (fun h => fp_any (fun i => fp_fill (sB S i) c h) n || fp_fill (sB S n) c h) M = fp_sm (fp_thf S c) n + fp_thf S c n
    rw [← ih, ← fp_fill_ct (hM n (by omega))]
    refine fp_ct_add (fun h _ => ?_)
    cases h2 : fp_fill (sB S n) c h with
    | false =>
      rw [Bool.or_false]
      rfl
    | true =>
      have h3 : fp_any (fun i => fp_fill (sB S i) c h) n = false := fp_any_f (fun i hi => by
        cases h4 : fp_fill (sB S i) c h with
        | false => rfl
        | true =>
          have a := fp_fill_m.mp h4
          have b := fp_fill_m.mp h2
          have := hd i n c (by omega) (by omega) (by omega) a.1 b.1
          omega)
      rw [h3]
      rfl
theorem fp_Iv.hol {S : PS} (h : fp_Iv S) : ∀ c, c < 12 → ((fp_ct (fun h9 => !fp_any (fun i9 => fp_fill (sB S i9) c h9) (sN S)) (fp_hi S c) : Nat) : Int) = fp_hol S c := fun c _ => by
  have a := fp_ct_neg (fun h9 => fp_any (fun i9 => fp_fill (sB S i9) c h9) (sN S)) (fp_hi S c)
  have b := fp_any_fill h.2.1 (c := c) (M := fp_hi S c) (fun k hk hc => fp_hi_ge hk hc) (sN S) (Nat.le_refl _)
  unfold fp_hol
  rw [b] at a
  omega
-- the pressure on the ground
theorem fp_sm_swap (f : Nat → Nat → Nat) : ∀ n m, fp_sm (fun i => fp_sm (f i) m) n = fp_sm (fun u => fp_sm (fun i => f i u) n) m
  | 0, m => (fp_sm_z (fun _ _ => rfl)).symm
  | n + 1, m => by
    show fp_sm (fun i => fp_sm (f i) m) n + fp_sm (f n) m = fp_sm (fun u => fp_sm (fun i => f i u) n + f n u) m
    rw [fp_sm_swap f n m, fp_sm_add]
theorem fp_ct_one {q : Nat → Bool} : ∀ {n : Nat}, (∀ i j, i < n → j < n → q i = true → q j = true → i = j) → fp_ct q n ≤ 1
  | 0, _ => Nat.zero_le _
  | n + 1, h => by
    show fp_ct q n + (if q n = true then 1 else 0) ≤ 1
    by_cases c : q n = true
    · rw [if_pos c, fp_ct_zero (fun i hi => by
        cases h2 : q i with
        | false => rfl
        | true => have := h i n (by omega) (by omega) h2 c; omega)]
      exact Nat.le_refl _
    · rw [if_neg c]
      exact fp_ct_one (fun i j hi hj => h i j (by omega) (by omega))
def fp_rq (S : PS) (u q i : Nat) : Bool := fp_supf S u i && decide (fp_rk S i u < q)
theorem fp_rq_s {S : PS} (hd : fp_dl S) {u : Nat} (hu : u < sN S) (q : Nat) : fp_ct (fp_rq S u (q + 1)) (sN S) ≤ fp_ct (fp_rq S u q) (sN S) + 1 := by
  have e : fp_ct (fp_rq S u (q + 1)) (sN S) = fp_ct (fp_rq S u q) (sN S) + fp_ct (fun i => fp_supf S u i && decide (fp_rk S i u = q)) (sN S) := fp_ct_add (fun i _ => by
    unfold fp_rq
    cases fp_supf S u i with
    | false => rfl
    | true =>
      rw [Bool.true_and, Bool.true_and, Bool.true_and]
      by_cases c : fp_rk S i u < q
      · rw [if_pos (decide_eq_true (by omega)), if_pos (decide_eq_true c), if_neg (by rw [decide_eq_false (by omega)]; decide)]
      · rw [if_neg (c := decide (fp_rk S i u < q) = true) (by rw [decide_eq_false c]; decide)]
        by_cases c2 : fp_rk S i u = q
        · rw [if_pos (decide_eq_true (by omega)), if_pos (decide_eq_true c2)]
        · rw [if_neg (by rw [decide_eq_false (by omega)]; decide), if_neg (by rw [decide_eq_false c2]; decide)])
  have h1 := fp_ct_one (q := fun i => fp_supf S u i && decide (fp_rk S i u = q)) (n := sN S) (fun i j hi hj h1 h2 => by
    have a := Bool.and_eq_true_iff.mp h1
    have b := Bool.and_eq_true_iff.mp h2
    exact fp_rk_inj hd hu hi hj a.1 b.1 ((of_decide_eq_true a.2).trans (of_decide_eq_true b.2).symm))
  omega
theorem fp_rq_n {S : PS} (hd : fp_dl S) {u q : Nat} (hu : u < sN S) (hq : q ≤ fp_nsup S u) : fp_ct (fp_rq S u q) (sN S) = q := by
  have up : ∀ d, fp_ct (fp_rq S u (q + d)) (sN S) ≤ fp_ct (fp_rq S u q) (sN S) + d := fun d => by
    induction d with
    | zero => exact Nat.le_refl _
    | succ d ih =>
      have := fp_rq_s hd hu (q + d)
      rw [show q + (d + 1) = q + d + 1 by omega]
      omega
  have dn : ∀ q, fp_ct (fp_rq S u q) (sN S) ≤ q := fun q => by
    induction q with
    | zero => exact Nat.le_of_eq (fp_ct_zero (fun i _ => by unfold fp_rq; rw [decide_eq_false (Nat.not_lt_zero _), Bool.and_false]))
    | succ q ih => have := fp_rq_s hd hu q; omega
  have all : fp_ct (fp_rq S u (fp_nsup S u)) (sN S) = fp_nsup S u := fp_ct_congr (fun i hi => by
    unfold fp_rq
    cases c : fp_supf S u i with
    | false => rfl
    | true => rw [decide_eq_true (fp_rk_lt hi c)]; rfl)
  have h1 := up (fp_nsup S u - q)
  rw [show q + (fp_nsup S u - q) = fp_nsup S u by omega, all] at h1
  have := dn q
  omega
theorem fp_sm_ct (p : Nat) (a b : Nat → Bool) : ∀ n, (∀ i, i < n → b i = true → a i = true) → fp_sm (fun i => if a i = true then p + (if b i = true then 1 else 0) else 0) n = fp_ct a n * p + fp_ct b n
  | 0, _ => by
    show 0 = 0 * p + 0
    omega
  | n + 1, h => by
    have ih := fp_sm_ct p a b n (fun i hi => h i (by omega))
    show fp_sm _ n + (if a n = true then p + (if b n = true then 1 else 0) else 0) = (fp_ct a n + (if a n = true then 1 else 0)) * p + (fp_ct b n + (if b n = true then 1 else 0))
    rw [ih, Nat.add_mul]
    by_cases c : a n = true
    · rw [if_pos c, if_pos c, Nat.one_mul]; omega
    · have c2 : ¬ b n = true := fun z => c (h n (by omega) z)
      rw [if_neg c, if_neg c, if_neg c2, Nat.zero_mul]; omega
/-- what a block bears is shared among its supporters without rest -/
theorem fp_rl_all {S : PS} (hd : fp_dl S) {u : Nat} (hu : u < sN S) (h0 : 0 < fp_nsup S u) : fp_sm (fun i => fp_rl1 S i u) (sN S) = sB S u 4 + fp_ld S u := by
  have hm := Nat.mod_lt (sB S u 4 + fp_ld S u) h0
  have e : fp_sm (fun i => fp_rl1 S i u) (sN S) = fp_sm (fun i => if fp_supf S u i = true then (sB S u 4 + fp_ld S u) / fp_nsup S u + (if fp_rq S u ((sB S u 4 + fp_ld S u) % fp_nsup S u) i = true then 1 else 0) else 0) (sN S) := fp_sm_congr (fun i _ => by
    unfold fp_rl1 fp_shr fp_rq
    show (if fp_supf S u i = true then _ else 0) = _
    by_cases c : fp_supf S u i = true
    · rw [if_pos c, if_pos c, c, Bool.true_and]
      by_cases c2 : fp_rk S i u < (sB S u 4 + fp_ld S u) % fp_nsup S u
      · rw [if_pos c2, if_pos (decide_eq_true c2)]
      · rw [if_neg c2, if_neg (by rw [decide_eq_false c2]; decide)]
    · rw [if_neg c, if_neg c])
  rw [e, fp_sm_ct ((sB S u 4 + fp_ld S u) / fp_nsup S u) (fp_supf S u) (fp_rq S u ((sB S u 4 + fp_ld S u) % fp_nsup S u)) (sN S) (fun i _ h => (Bool.and_eq_true_iff.mp h).1), fp_rq_n hd hu (Nat.le_of_lt hm)]
  exact Nat.div_add_mod _ _
theorem fp_Iv.press {S : PS} (hok : fp_ok S) (h : fp_Iv S) : fp_fp S = fp_tw S := by
  have hd := h.2.1.dl hok
  have h30 := h.h30
  have e1 : fp_sm (fp_ld S) (sN S) = fp_sm (fun u => if sB S u 5 = 0 then 0 else sB S u 4 + fp_ld S u) (sN S) := by
    have a1 : fp_sm (fp_ld S) (sN S) = fp_sm (fun i => fp_sm (fp_rl1 S i) (sN S)) (sN S) := fp_sm_congr (fun i _ => (fp_rls_ld h30).symm)
    rw [a1, fp_sm_swap]
    refine fp_sm_congr (fun u hu => ?_)
    by_cases c : sB S u 5 = 0
    · rw [if_pos c]
      refine fp_sm_z (fun i _ => ?_)
      unfold fp_rl1
      rw [if_neg]
      intro z
      have := fp_sup_t z
      have := fp_top_b (sB S i)
      omega
    · rw [if_neg c]
      obtain ⟨o, ho, h2⟩ := h.2.2 u hu (by omega)
      exact fp_rl_all hd hu (fp_ct_pos ho h2)
  have e2 : fp_fp S + fp_sm (fp_ld S) (sN S) = fp_tw S + fp_sm (fp_ld S) (sN S) := by
    have a2 : fp_fp S + fp_sm (fun u => if sB S u 5 = 0 then 0 else sB S u 4 + fp_ld S u) (sN S) = fp_sm (fun u => sB S u 4 + fp_ld S u) (sN S) := by
      show fp_sm (fp_fpf S) (sN S) + _ = _
      rw [fp_sm_add]
      refine fp_sm_congr (fun u _ => ?_)
      show fp_fpf S u + _ = _
      unfold fp_fpf
      by_cases c : sB S u 5 = 0
      · rw [if_pos c, if_pos c]; omega
      · rw [if_neg c, if_neg c]; omega
    rw [← e1] at a2
    rw [a2, ← fp_sm_add]
    rfl
  omega
