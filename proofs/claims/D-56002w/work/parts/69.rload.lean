/-! THE LOAD AS A SUM; rows that measure what has been made -/
set_option maxRecDepth 100000
theorem fp_sm_add (f g : Nat → Nat) : ∀ n, fp_sm f n + fp_sm g n = fp_sm (fun u => f u + g u) n
  | 0 => rfl
  | n + 1 => by
    have h := fp_sm_add f g n
    show fp_sm f n + f n + (fp_sm g n + g n) = fp_sm (fun u => f u + g u) n + (f n + g n)
    omega
theorem fp_sm_z {f : Nat → Nat} : ∀ {n : Nat}, (∀ k, k < n → f k = 0) → fp_sm f n = 0
  | 0, _ => rfl
  | n + 1, h => by
    show fp_sm f n + f n = 0
    rw [fp_sm_z (fun k hk => h k (by omega)), h n (by omega)]
theorem fp_sm_mono {f : Nat → Nat} {k n : Nat} (h : k ≤ n) : fp_sm f k ≤ fp_sm f n := by
  induction n with
  | zero => rw [show k = 0 by omega]; exact Nat.le_refl _
  | succ n ih =>
    by_cases e : k = n + 1
    · rw [e]; exact Nat.le_refl _
    · exact Nat.le_trans (ih (by omega)) (Nat.le_add_right _ _)
theorem fp_sup_t {lo up : Nat → Nat} (h : fp_sup lo up = true) : fp_top lo = up 5 := (of_decide_eq_true h).2
theorem fp_sup_f {lo up : Nat → Nat} (h : fp_top lo ≠ up 5) : fp_sup lo up = false := decide_eq_false (fun z => h z.2)
def fp_lf (S : PS) (bt : Nat) (L : Nat → Nat) (j u : Nat) : Nat := if sB S u 5 = bt ∧ fp_sup (sB S j) (sB S u) = true then fp_shr (sB S u 4 + L u) (fp_nsup S u) (fp_rk S j u) else 0
theorem fp_lin_v (S : PS) (bt : Nat) (L : Nat → Nat) : ∀ m j, fp_lin S bt L m j = L j + fp_sm (fp_lf S bt L j) m
  | 0, j => rfl
  | m + 1, j => by
    have h1 := fp_lin_v S bt L m j
    have h2 : sB S m 5 = bt → fp_lin S bt L m m = L m := fun hb => by
      rw [fp_lin_v S bt L m m, fp_sm_z (fun k _ => ?_)]
      · rfl
      · unfold fp_lf
        rw [if_neg]
        intro hz
        have := fp_sup_t hz.2
        have := fp_top_b (sB S m)
        omega
    show (if sB S m 5 = bt then fp_pass S m (fp_lin S bt L m) else fp_lin S bt L m) j = L j + (fp_sm (fp_lf S bt L j) m + fp_lf S bt L j m)
    by_cases hb : sB S m 5 = bt
    · rw [if_pos hb]
      unfold fp_pass
      rw [h2 hb]
      unfold fp_lf at h1 ⊢
      by_cases hs : fp_sup (sB S j) (sB S m) = true
      · rw [if_pos hs, if_pos ⟨hb, hs⟩, h1]
        omega
      · rw [if_neg hs, if_neg (fun z => hs z.2), h1]
        omega
    · rw [if_neg hb, h1]
      have : fp_lf S bt L j m = 0 := if_neg (fun z => hb z.1)
      omega
theorem fp_lout_st (S : PS) {u t : Nat} (hu : 30 - t ≤ sB S u 5) : ∀ d, t + d ≤ 30 → fp_lout S (t + d) u = fp_lout S t u
  | 0, _ => rfl
  | d + 1, h => by
    show fp_lin S (30 - (t + d)) (fp_lout S (t + d)) (sN S) u = _
    rw [fp_lin_v, fp_lout_st S hu d (by omega), fp_sm_z (fun k _ => ?_)]
    · rfl
    · unfold fp_lf
      rw [if_neg]
      intro hz
      have := fp_sup_t hz.2
      have := fp_top_b (sB S u)
      omega
theorem fp_lout_ld (S : PS) {u t : Nat} (hu : 30 - t ≤ sB S u 5) (ht : t ≤ 30) : fp_lout S t u = fp_ld S u := by
  have h := fp_lout_st S hu (30 - t) (by omega)
  rw [show t + (30 - t) = 30 by omega] at h
  exact h.symm
def fp_lg (S : PS) (t j u : Nat) : Nat := if (30 - t < sB S u 5 ∧ sB S u 5 ≤ 30) ∧ fp_sup (sB S j) (sB S u) = true then fp_shr (sB S u 4 + fp_ld S u) (fp_nsup S u) (fp_rk S j u) else 0
theorem fp_lout_v (S : PS) (j : Nat) : ∀ t, t ≤ 30 → fp_lout S t j = fp_sm (fp_lg S t j) (sN S)
  | 0, _ => (fp_sm_z (fun k _ => if_neg (fun z => by have := z.1; omega))).symm
  | t + 1, ht => by
    show fp_lin S (30 - t) (fp_lout S t) (sN S) j = _
    rw [fp_lin_v, fp_lout_v S j t (by omega), fp_sm_add]
    refine fp_sm_congr (fun u _ => ?_)
    unfold fp_lf fp_lg
    by_cases hs : fp_sup (sB S j) (sB S u) = true
    · by_cases hb : sB S u 5 = 30 - t
      · rw [if_neg (fun z => by have := z.1; omega), if_pos ⟨hb, hs⟩, if_pos ⟨by omega, hs⟩, fp_lout_ld S (by omega) (by omega)]
        omega
      · by_cases h2 : 30 - t < sB S u 5 ∧ sB S u 5 ≤ 30
        · rw [if_pos ⟨h2, hs⟩, if_neg (fun z => hb z.1), if_pos ⟨by omega, hs⟩]
          rfl
        · rw [if_neg (fun z => h2 z.1), if_neg (fun z => hb z.1), if_neg (fun z => by have := z.1; omega)]
    · rw [if_neg (fun z => hs z.2), if_neg (fun z => hs z.2), if_neg (fun z => hs z.2)]
/-- what one block above gives -/
def fp_rl1 (S : PS) (i u : Nat) : Nat := if fp_sup (sB S i) (sB S u) = true then fp_shr (sB S u 4 + fp_ld S u) (fp_nsup S u) (fp_rk S i u) else 0
def fp_rls (S : PS) (i k : Nat) : Nat := fp_sm (fp_rl1 S i) k
theorem fp_rls_ld {S : PS} {i : Nat} (h30 : ∀ k, k < sN S → sB S k 5 ≤ 30) : fp_rls S i (sN S) = fp_ld S i := by
  show _ = fp_lout S 30 i
  rw [fp_lout_v S i 30 (Nat.le_refl _)]
  refine fp_sm_congr (fun u hu => ?_)
  unfold fp_rl1 fp_lg
  by_cases hs : fp_sup (sB S i) (sB S u) = true
  · have := fp_sup_t hs
    have := fp_top_b (sB S i)
    have := h30 u hu
    rw [if_pos hs, if_pos ⟨by omega, hs⟩]
  · rw [if_neg hs, if_neg (fun z => hs z.2)]
theorem fp_rls_le {S : PS} {i k : Nat} (h30 : ∀ k, k < sN S → sB S k 5 ≤ 30) (hk : k ≤ sN S) : fp_rls S i k ≤ fp_ld S i := by
  rw [← fp_rls_ld h30]
  exact fp_sm_mono hk
theorem fp_rls_t {S : PS} {i k : Nat} (h : fp_supf S k i = true) : fp_rls S i (k + 1) = fp_rls S i k + fp_shr (sB S k 4 + fp_ld S k) (fp_nsup S k) (fp_rk S i k) := by
  show fp_rls S i k + fp_rl1 S i k = _
  unfold fp_rl1
  rw [if_pos (show fp_sup (sB S i) (sB S k) = true from h)]
theorem fp_rls_f {S : PS} {i k : Nat} (h : fp_supf S k i = false) : fp_rls S i (k + 1) = fp_rls S i k := by
  show fp_rls S i k + fp_rl1 S i k = _
  unfold fp_rl1
  rw [if_neg (fun z => by rw [show fp_sup (sB S i) (sB S k) = false from h] at z; cases z)]
  rfl
theorem fp_SU.at {S : PS} (hd : fp_dl S) {u c i : Nat} {e : Nat → Nat} (h : fp_SU S u e c) (hu : u < sN S) (hi : i < sN S) (hs : fp_supf S u i = true) : fp_rk S i u < c ∧ e (fp_rk S i u) = i := by
  have h1 : fp_rk S i u < c := by rw [h.1]; exact fp_rk_lt hi hs
  obtain ⟨a1, a2, a3⟩ := h.2 _ h1
  exact ⟨h1, fp_rk_inj hd hu a1 hi a2 hs a3⟩
/-- loads known so far -/
def fp_kl (S : PS) (f : Nat → Int) : Prop := ∀ j, j < sN S → f j = -2 ∨ f j = ((fp_ld S j : Nat) : Int)
theorem fp_kl.up {S : PS} {f : Nat → Int} {i : Nat} {z : Int} (h : fp_kl S f) (hz : z = ((fp_ld S i : Nat) : Int)) : fp_kl S (va_up f i z) := fun j hj => by
  by_cases e : j = i
  · subst e
    rw [va_up_self]
    exact Or.inr hz
  · rw [va_up_ne _ _ e]
    exact h j hj
/-- how many are unknown from a block's bottom on -/
def fp_uab (S : PS) (f : Nat → Int) (i : Nat) : Nat := fp_ct (fun j => decide (f j = -2 ∧ sB S i 5 ≤ sB S j 5)) (sN S)
theorem fp_uab_n (S : PS) (f : Nat → Int) (i : Nat) : fp_uab S f i ≤ sN S := fp_ct_le _ _
theorem fp_uab_pos {S : PS} {f : Nat → Int} {i : Nat} (hi : i < sN S) (hf : f i = -2) : 1 ≤ fp_uab S f i := fp_ct_pos hi (decide_eq_true ⟨hf, Nat.le_refl _⟩)
theorem fp_uab_lt {S : PS} {f : Nat → Int} {i k : Nat} (hi : i < sN S) (hf : f i = -2) (hb : sB S i 5 < sB S k 5) : fp_uab S f k + 1 ≤ fp_uab S f i := fp_ct_lt (i := i) (fun j _ h => by simp only [decide_eq_true_eq] at h ⊢; omega) hi (decide_eq_true ⟨hf, Nat.le_refl _⟩) (decide_eq_false (fun z => by omega))
theorem fp_uab_sh {S : PS} {f g : Nat → Int} {i k : Nat} (hb : sB S i 5 ≤ sB S k 5) (h : ∀ j, j < sN S → sB S j 5 < sB S k 5 → g j = f j) : fp_uab S g i + fp_uab S f k = fp_uab S f i + fp_uab S g k := by
  have h1 : ∀ f : Nat → Int, fp_uab S f i = fp_uab S f k + fp_ct (fun j => decide (f j = -2 ∧ sB S i 5 ≤ sB S j 5 ∧ sB S j 5 < sB S k 5)) (sN S) := fun f => fp_ct_add (fun j _ => by
    by_cases a : f j = -2
    · by_cases b : sB S i 5 ≤ sB S j 5
      · by_cases c : sB S j 5 < sB S k 5
        · rw [if_pos (decide_eq_true ⟨a, b⟩), if_neg (by simp; omega), if_pos (decide_eq_true ⟨a, b, c⟩)]
        · rw [if_pos (decide_eq_true ⟨a, b⟩), if_pos (decide_eq_true ⟨a, by omega⟩), if_neg (by simp; omega)]
      · rw [if_neg (by simp; omega), if_neg (by simp; omega), if_neg (by simp; omega)]
    · rw [if_neg (by simp [a]), if_neg (by simp [a]), if_neg (by simp [a])])
  have h2 : fp_ct (fun j => decide (g j = -2 ∧ sB S i 5 ≤ sB S j 5 ∧ sB S j 5 < sB S k 5)) (sN S) = fp_ct (fun j => decide (f j = -2 ∧ sB S i 5 ≤ sB S j 5 ∧ sB S j 5 < sB S k 5)) (sN S) := fp_ct_congr (fun j hj => by
    by_cases c : sB S j 5 < sB S k 5
    · rw [h j hj c]
    · rw [decide_eq_false (fun z => c z.2.2), decide_eq_false (fun z => c z.2.2)])
  have a1 := h1 f
  have a2 := h1 g
  omega
theorem fp_uab_up {S : PS} {f : Nat → Int} {i : Nat} {z : Int} (hi : i < sN S) (hf : f i = -2) (hz : z ≠ -2) : fp_uab S f i = fp_uab S (va_up f i z) i + 1 := by
  have h1 : fp_uab S f i = fp_uab S (va_up f i z) i + fp_ct (fun j => decide (j = i)) (sN S) := fp_ct_add (fun j _ => by
    by_cases e : j = i
    · subst e
      rw [va_up_self, if_pos (decide_eq_true ⟨hf, Nat.le_refl _⟩), if_neg (by simp [hz]), if_pos (by simp)]
    · rw [va_up_ne _ _ e, if_neg (c := decide (j = i) = true) (by simp [e])]
      rfl)
  have h2 : fp_ct (fun j => decide (j = i)) (sN S) = 1 := by
    have : ∀ n, fp_ct (fun j => decide (j = i)) n = if i < n then 1 else 0 := fun n => by
      induction n with
      | zero => rfl
      | succ n ih =>
        show fp_ct (fun j => decide (j = i)) n + (if decide (n = i) = true then 1 else 0) = _
        rw [ih]
        by_cases e : n = i
        · rw [if_neg (by omega), if_pos (by simp [e]), if_pos (by omega)]
        · by_cases h : i < n
          · rw [if_pos h, if_neg (by simp [e]), if_pos (by omega)]
          · rw [if_neg h, if_neg (by simp [e]), if_neg (by omega)]
    rw [this, if_pos hi]
  omega
/-- all slots of a heap -/
def fp_hs (H : Heap) : Nat := H.foldl (fun n c => n + c.slots.size) 0
section FPMS
variable {p : Program} {l : Launch} {e : Env} {R : Room} {s : State} {m : MethodId} {args : Array Value} {below : List Frame} {meth : Method} {c : Code} {H : Heap} {locs : List Loc} {cells slots : Nat} {Q : State → Prop} {g : JFrame}
theorem fp_sdHs {T : State} (X : Stand p l e R s m args below meth c T locs cells slots) : T.slotsUsed = fp_hs T.heap ∧ s.slotsUsed = fp_hs s.heap := by
  have h1 := X.book
  have h0 : s.slotsTrue = true := by
    have h := X.room
    simp only [State.hasRoom, Bool.and_eq_true] at h
    exact h.2
  exact ⟨by simpa [State.slotsTrue, fp_hs] using h1, by simpa [State.slotsTrue, fp_hs] using h0⟩
/-- what has been made is told by the heap -/
theorem r_meas (kk : H.size ≤ s.heap.size + cells → fp_hs H ≤ fp_hs s.heap + slots → W p l e R s m args below meth c H locs cells slots Q g) : W p l e R s m args below meth c H locs cells slots Q g := by
  intro T hT X
  obtain ⟨h1, h2⟩ := fp_sdHs X
  have h3 := X.heapSize
  have h4 := X.used
  rw [hT] at h1 h3
  rw [h1, h2] at h4
  exact kk h3 h4 T hT X
theorem r_tight {c' n' : Nat} (hc : H.size ≤ s.heap.size + c') (hn : fp_hs H ≤ fp_hs s.heap + n') (kk : W p l e R s m args below meth c H locs c' n' Q g) : W p l e R s m args below meth c H locs cells slots Q g := by
  intro T hT X
  obtain ⟨h1, h2⟩ := fp_sdHs X
  obtain ⟨q1, q2, q3, q4, q5, q6⟩ := X.same
  have q4' : T.slotsUsed = s.slotsUsed + (((T.setVm s.vm).heap.toList.drop s.heap.size).map (·.slots.size)).sum := q4
  refine kk T hT ⟨X.admits, X.cas, X.clock, X.frames, X.room, X.hears, X.method, X.code, X.here, X.tail, X.warmed, X.limits, X.bytes, ⟨q1, q2, by show T.heap.size ≤ _; rw [hT]; exact hc, q4, ?_, q6⟩⟩
  rw [hT] at h1
  omega
end FPMS
