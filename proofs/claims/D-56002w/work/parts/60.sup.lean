/-! THE STATE: supporters, loads -/
set_option maxRecDepth 100000
theorem fp_ct_imp {q r : Nat → Bool} {n : Nat} (h : ∀ j, j < n → q j = true → r j = true) : fp_ct q n ≤ fp_ct r n := by
  induction n with
  | zero => exact Nat.le_refl _
  | succ n ih =>
    have h1 := ih (fun j hj => h j (by omega))
    have h2 := h n (by omega)
    show fp_ct q n + (if q n then 1 else 0) ≤ fp_ct r n + (if r n then 1 else 0)
    cases hq : q n
    · simp; omega
    · simp [h2 hq]; omega
theorem fp_ct_lt {q r : Nat → Bool} {n i : Nat} (h : ∀ j, j < n → q j = true → r j = true) (hi : i < n) (h1 : r i = true) (h2 : q i = false) : fp_ct q n < fp_ct r n := by
  induction n with
  | zero => omega
  | succ n ih =>
    have h3 := h n (by omega)
    show fp_ct q n + (if q n then 1 else 0) < fp_ct r n + (if r n then 1 else 0)
    by_cases e : i = n
    · subst e
      have h4 := fp_ct_imp (n := i) (fun j hj => h j (by omega))
      rw [h1, h2]
      simp
      omega
    · have h4 := ih (fun j hj => h j (by omega)) (by omega)
      cases hq : q n
      · simp; omega
      · simp [h3 hq]; omega
/-- the supporters of a block have different left columns -/
def fp_dl (S : PS) : Prop := ∀ u i j, u < sN S → i < sN S → j < sN S → fp_supf S u i = true → fp_supf S u j = true → sB S i 2 = sB S j 2 → i = j
/-- e orders the supporters of u among the first k blocks, c of them -/
def fp_SUs (S : PS) (u k : Nat) (e : Nat → Nat) (c : Nat) : Prop := c = fp_ct (fp_supf S u) k ∧ ∀ p, p < c → e p < k ∧ fp_supf S u (e p) = true ∧ fp_ct (fp_rkf S (e p) u) k = p
theorem fp_SUs.le {S : PS} {u k c : Nat} {e : Nat → Nat} (h : fp_SUs S u k e c) : c ≤ k := by
  have := fp_ct_le (fp_supf S u) k
  have := h.1
  omega
theorem fp_SUs.z {S : PS} {u : Nat} {e : Nat → Nat} : fp_SUs S u 0 e 0 := ⟨rfl, fun p hp => absurd hp (Nat.not_lt_zero _)⟩
theorem fp_SUs.skip {S : PS} {u k c : Nat} {e : Nat → Nat} (h : fp_SUs S u k e c) (hs : fp_supf S u k = false) : fp_SUs S u (k + 1) e c := by
  refine ⟨?_, fun p hp => ?_⟩
  · show c = fp_ct (fp_supf S u) k + (if fp_supf S u k then 1 else 0)
    rw [hs]
    exact h.1
  · obtain ⟨h1, h2, h3⟩ := h.2 p hp
    refine ⟨by omega, h2, ?_⟩
    show fp_ct (fp_rkf S (e p) u) k + (if fp_rkf S (e p) u k then 1 else 0) = p
    have h4 : fp_rkf S (e p) u k = false := by
      have h5 : fp_sup (sB S k) (sB S u) = false := hs
      unfold fp_rkf
      rw [h5]
      rfl
    rw [h4, h3]
    rfl
theorem fp_rkf_t {S : PS} {lo u j : Nat} : fp_rkf S lo u j = true ↔ fp_supf S u j = true ∧ sB S j 2 < sB S lo 2 := by
  unfold fp_rkf fp_supf
  rw [Bool.and_eq_true, decide_eq_true_eq]
theorem fp_rkf_f {S : PS} {lo u j : Nat} (h : ¬ sB S j 2 < sB S lo 2) : fp_rkf S lo u j = false := by
  unfold fp_rkf
  rw [decide_eq_false h, Bool.and_false]
theorem fp_SUs.ins {S : PS} {u k c pos : Nat} {e : Nat → Nat} (h : fp_SUs S u k e c) (hs : fp_supf S u k = true) (hk : k < sN S) (hu : u < sN S) (hd : fp_dl S) (hp : pos ≤ c) (h1 : pos = 0 ∨ sB S (e (pos - 1)) 2 ≤ sB S k 2) (h2 : pos < c → sB S k 2 < sB S (e pos) 2) : fp_SUs S u (k + 1) (fp_ins e pos k) (c + 1) := by
  have hne : ∀ p, p < c → sB S (e p) 2 ≠ sB S k 2 := fun p hp2 h3 => by
    obtain ⟨a1, a2, -⟩ := h.2 p hp2
    have := hd u (e p) k hu (by omega) hk a2 hs h3
    omega
  have hrk : fp_ct (fp_rkf S k u) k = pos := by
    have lo : pos ≤ fp_ct (fp_rkf S k u) k := by
      rcases Nat.eq_zero_or_pos pos with h3 | h3
      · omega
      · obtain ⟨a1, a2, a3⟩ := h.2 (pos - 1) (by omega)
        have h4 : sB S (e (pos - 1)) 2 < sB S k 2 := by
          have := hne (pos - 1) (by omega)
          omega
        have := fp_ct_lt (q := fp_rkf S (e (pos - 1)) u) (r := fp_rkf S k u) (n := k) (i := e (pos - 1)) (fun j hj hq => by
          rw [fp_rkf_t] at hq ⊢
          exact ⟨hq.1, by omega⟩) a1 (fp_rkf_t.mpr ⟨a2, h4⟩) (fp_rkf_f (Nat.lt_irrefl _))
        omega
    have hi : fp_ct (fp_rkf S k u) k ≤ pos := by
      by_cases h3 : pos < c
      · obtain ⟨a1, a2, a3⟩ := h.2 pos h3
        have h4 := h2 h3
        have := fp_ct_imp (q := fp_rkf S k u) (r := fp_rkf S (e pos) u) (n := k) (fun j hj hq => by
          rw [fp_rkf_t] at hq ⊢
          exact ⟨hq.1, by omega⟩)
        omega
      · have := fp_ct_imp (q := fp_rkf S k u) (r := fp_supf S u) (n := k) (fun j hj hq => (fp_rkf_t.mp hq).1)
        have := h.1
        omega
    omega
  have hlt : ∀ p, p < c → (p < pos ↔ sB S (e p) 2 < sB S k 2) := fun p hp2 => by
    obtain ⟨a1, a2, a3⟩ := h.2 p hp2
    constructor
    · intro h3
      refine Decidable.byContradiction (fun h4 => ?_)
      have := fp_ct_imp (q := fp_rkf S k u) (r := fp_rkf S (e p) u) (n := k) (fun j hj hq => by
        rw [fp_rkf_t] at hq ⊢
        exact ⟨hq.1, by omega⟩)
      omega
    · intro h3
      have := fp_ct_lt (q := fp_rkf S (e p) u) (r := fp_rkf S k u) (n := k) (i := e p) (fun j hj hq => by
        rw [fp_rkf_t] at hq ⊢
        exact ⟨hq.1, by omega⟩) a1 (fp_rkf_t.mpr ⟨a2, h3⟩) (fp_rkf_f (Nat.lt_irrefl _))
      omega
  refine ⟨?_, fun p hp2 => ?_⟩
  · show c + 1 = fp_ct (fp_supf S u) k + (if fp_supf S u k then 1 else 0)
    rw [hs, ← h.1]
    rfl
  · unfold fp_ins
    by_cases h3 : p < pos
    · obtain ⟨a1, a2, a3⟩ := h.2 p (by omega)
      have h4 := (hlt p (by omega)).mp h3
      rw [if_pos h3]
      refine ⟨by omega, a2, ?_⟩
      show fp_ct (fp_rkf S (e p) u) k + (if fp_rkf S (e p) u k then 1 else 0) = p
      rw [fp_rkf_f (by omega), a3]
      rfl
    · rw [if_neg h3]
      by_cases h4 : p = pos
      · rw [if_pos h4]
        refine ⟨by omega, hs, ?_⟩
        show fp_ct (fp_rkf S k u) k + (if fp_rkf S k u k then 1 else 0) = p
        rw [fp_rkf_f (Nat.lt_irrefl _), hrk, h4]
        rfl
      · rw [if_neg h4]
        obtain ⟨a1, a2, a3⟩ := h.2 (p - 1) (by omega)
        have h5 : sB S k 2 < sB S (e (p - 1)) 2 := by
          have h6 := hlt (p - 1) (by omega)
          have := hne (p - 1) (by omega)
          omega
        refine ⟨by omega, a2, ?_⟩
        show fp_ct (fp_rkf S (e (p - 1)) u) k + (if fp_rkf S (e (p - 1)) u k then 1 else 0) = p
        rw [fp_rkf_t.mpr ⟨hs, h5⟩, a3]
        show p - 1 + 1 = p
        omega
/-- all supporters of u, in order -/
def fp_SU (S : PS) (u : Nat) (e : Nat → Nat) (c : Nat) : Prop := fp_SUs S u (sN S) e c
theorem fp_rk_lt {S : PS} {u j : Nat} (hj : j < sN S) (hs : fp_supf S u j = true) : fp_rk S j u < fp_nsup S u := fp_ct_lt (i := j) (fun i _ hq => (fp_rkf_t.mp hq).1) hj hs (fp_rkf_f (Nat.lt_irrefl _))
theorem fp_rk_inj {S : PS} (hd : fp_dl S) {u i j : Nat} (hu : u < sN S) (hi : i < sN S) (hj : j < sN S) (h1 : fp_supf S u i = true) (h2 : fp_supf S u j = true) (h : fp_rk S i u = fp_rk S j u) : i = j := by
  refine hd u i j hu hi hj h1 h2 ?_
  rcases Nat.lt_trichotomy (sB S i 2) (sB S j 2) with h3 | h3 | h3
  · have := fp_ct_lt (q := fp_rkf S i u) (r := fp_rkf S j u) (n := sN S) (i := i) (fun l hl hq => by
      rw [fp_rkf_t] at hq ⊢
      exact ⟨hq.1, by omega⟩) hi (fp_rkf_t.mpr ⟨h1, h3⟩) (fp_rkf_f (Nat.lt_irrefl _))
    unfold fp_rk at h
    omega
  · exact h3
  · have := fp_ct_lt (q := fp_rkf S j u) (r := fp_rkf S i u) (n := sN S) (i := j) (fun l hl hq => by
      rw [fp_rkf_t] at hq ⊢
      exact ⟨hq.1, by omega⟩) hj (fp_rkf_t.mpr ⟨h2, h3⟩) (fp_rkf_f (Nat.lt_irrefl _))
    unfold fp_rk at h
    omega
/-- loads, passed on to the first p supporters -/
def fp_pp (S : PS) (u : Nat) (L : Nat → Nat) (p j : Nat) : Nat := if fp_supf S u j = true ∧ fp_rk S j u < p then L j + fp_shr (sB S u 4 + L u) (fp_nsup S u) (fp_rk S j u) else L j
theorem fp_pp_0 {S : PS} {u : Nat} {L : Nat → Nat} {j : Nat} : fp_pp S u L 0 j = L j := if_neg (fun h => Nat.not_lt_zero _ h.2)
theorem fp_pp_e {S : PS} {u c p : Nat} {e : Nat → Nat} {L : Nat → Nat} (h : fp_SU S u e c) (hp : p < c) : fp_pp S u L p (e p) = L (e p) := if_neg (fun h2 => by
  obtain ⟨a1, a2, a3⟩ := h.2 p hp
  have h3 : fp_rk S (e p) u = p := a3
  omega)
theorem fp_pp_s {S : PS} (hd : fp_dl S) {u c p : Nat} {e : Nat → Nat} {L : Nat → Nat} (hu : u < sN S) (h : fp_SU S u e c) (hp : p < c) : ∀ j, j < sN S → va_up (fun j => ((fp_pp S u L p j : Nat) : Int)) (e p) (((L (e p) + fp_shr (sB S u 4 + L u) c p : Nat)) : Int) j = ((fp_pp S u L (p + 1) j : Nat) : Int) := fun j hj => by
  obtain ⟨a1, a2, a3⟩ := h.2 p hp
  have h3 : fp_rk S (e p) u = p := a3
  have hc : c = fp_nsup S u := h.1
  unfold va_up
  by_cases e1 : j = e p
  · subst e1
    rw [if_pos rfl]
    unfold fp_pp
    rw [if_pos ⟨a2, by omega⟩, h3, hc]
  · rw [if_neg e1]
    show ((fp_pp S u L p j : Nat) : Int) = ((fp_pp S u L (p + 1) j : Nat) : Int)
    congr 1
    unfold fp_pp
    by_cases h4 : fp_supf S u j = true
    · have h5 : fp_rk S j u ≠ p := fun h6 => e1 (fp_rk_inj hd hu hj a1 h4 a2 (by omega))
      by_cases h6 : fp_rk S j u < p
      · rw [if_pos ⟨h4, h6⟩, if_pos ⟨h4, Nat.lt_succ_of_lt h6⟩]
      · rw [if_neg (fun z => h6 z.2), if_neg (fun z => h6 (by have := z.2; omega))]
    · rw [if_neg (fun z => h4 z.1), if_neg (fun z => h4 z.1)]
theorem fp_pp_n {S : PS} {u c : Nat} {e : Nat → Nat} {L : Nat → Nat} (h : fp_SU S u e c) : ∀ j, j < sN S → fp_pp S u L c j = fp_pass S u L j := fun j hj => by
  have hc : c = fp_nsup S u := h.1
  unfold fp_pp fp_pass
  by_cases h4 : fp_supf S u j = true
  · have h5 := fp_rk_lt hj h4
    have h6 : fp_sup (sB S j) (sB S u) = true := h4
    rw [if_pos ⟨h4, by omega⟩, if_pos h6]
  · have h6 : ¬ fp_sup (sB S j) (sB S u) = true := h4
    rw [if_neg (fun z => h4 z.1), if_neg h6]
/-- the room of a list that grew from nothing to c elements -/
def fp_cp (c : Nat) : Nat := if c = 0 then 0 else if c ≤ 10 then 10 else if c ≤ 15 then 15 else if c ≤ 22 then 22 else 33
def fp_cn (c : Nat) : Nat := if c = 0 then 0 else if c ≤ 10 then 1 else if c ≤ 15 then 2 else if c ≤ 22 then 3 else 4
def fp_cs (c : Nat) : Nat := if c = 0 then 0 else if c ≤ 10 then 11 else if c ≤ 15 then 37 else if c ≤ 22 then 70 else 114
theorem fp_cv0 : fp_cp 0 = 0 ∧ fp_cn 0 = 0 ∧ fp_cs 0 = 0 := ⟨rfl, rfl, rfl⟩
theorem fp_cv1 {c : Nat} (h1 : 1 ≤ c) (h2 : c ≤ 10) : fp_cp c = 10 ∧ fp_cn c = 1 ∧ fp_cs c = 11 := by
  unfold fp_cp fp_cn fp_cs
  simp only [show ¬ c = 0 by omega, h2, if_false, if_true]
  exact ⟨trivial, trivial, trivial⟩
theorem fp_cv2 {c : Nat} (h1 : 11 ≤ c) (h2 : c ≤ 15) : fp_cp c = 15 ∧ fp_cn c = 2 ∧ fp_cs c = 37 := by
  unfold fp_cp fp_cn fp_cs
  simp only [show ¬ c = 0 by omega, show ¬ c ≤ 10 by omega, h2, if_false, if_true]
  exact ⟨trivial, trivial, trivial⟩
theorem fp_cv3 {c : Nat} (h1 : 16 ≤ c) (h2 : c ≤ 22) : fp_cp c = 22 ∧ fp_cn c = 3 ∧ fp_cs c = 70 := by
  unfold fp_cp fp_cn fp_cs
  simp only [show ¬ c = 0 by omega, show ¬ c ≤ 10 by omega, show ¬ c ≤ 15 by omega, h2, if_false, if_true]
  exact ⟨trivial, trivial, trivial⟩
theorem fp_cv4 {c : Nat} (h1 : 23 ≤ c) : fp_cp c = 33 ∧ fp_cn c = 4 ∧ fp_cs c = 114 := by
  unfold fp_cp fp_cn fp_cs
  simp only [show ¬ c = 0 by omega, show ¬ c ≤ 10 by omega, show ¬ c ≤ 15 by omega, show ¬ c ≤ 22 by omega, if_false]
  exact ⟨trivial, trivial, trivial⟩
theorem fp_cp_n {c : Nat} (hc : c < 25) : fp_cn c + (1 - (fp_cp c - c)) ≤ fp_cn (c + 1) ∧ fp_cs c + (c + c / 2 + 11 - 10000 * (fp_cp c - c)) ≤ fp_cs (c + 1) := by
  have h0 := fp_cv0
  rcases (show c = 0 ∨ (1 ≤ c ∧ c < 10) ∨ c = 10 ∨ (11 ≤ c ∧ c < 15) ∨ c = 15 ∨ (16 ≤ c ∧ c < 22) ∨ c = 22 ∨ 23 ≤ c by omega) with h1 | h1 | h1 | h1 | h1 | h1 | h1 | h1
  · subst h1
    have h2 := fp_cv1 (c := 0 + 1) (by omega) (by omega)
    omega
  · have h2 := fp_cv1 (c := c) (by omega) (by omega)
    have h3 := fp_cv1 (c := c + 1) (by omega) (by omega)
    omega
  · have h2 := fp_cv1 (c := c) (by omega) (by omega)
    have h3 := fp_cv2 (c := c + 1) (by omega) (by omega)
    omega
  · have h2 := fp_cv2 (c := c) (by omega) (by omega)
    have h3 := fp_cv2 (c := c + 1) (by omega) (by omega)
    omega
  · have h2 := fp_cv2 (c := c) (by omega) (by omega)
    have h3 := fp_cv3 (c := c + 1) (by omega) (by omega)
    omega
  · have h2 := fp_cv3 (c := c) (by omega) (by omega)
    have h3 := fp_cv3 (c := c + 1) (by omega) (by omega)
    omega
  · have h2 := fp_cv3 (c := c) (by omega) (by omega)
    have h3 := fp_cv4 (c := c + 1) (by omega)
    omega
  · have h2 := fp_cv4 (c := c) (by omega)
    have h3 := fp_cv4 (c := c + 1) (by omega)
    omega
theorem fp_cp_s {c cap2 : Nat} (hc : c < 25) (h : (c < fp_cp c → cap2 = fp_cp c) ∧ (c = fp_cp c → (c = 0 → cap2 = 10) ∧ (0 < c → cap2 = c + max 1 (c / 2)))) : cap2 = fp_cp (c + 1) := by
  have h0 := fp_cv0
  rcases (show c = 0 ∨ (1 ≤ c ∧ c < 10) ∨ c = 10 ∨ (11 ≤ c ∧ c < 15) ∨ c = 15 ∨ (16 ≤ c ∧ c < 22) ∨ c = 22 ∨ 23 ≤ c by omega) with h1 | h1 | h1 | h1 | h1 | h1 | h1 | h1
  · subst h1
    have h2 := fp_cv1 (c := 0 + 1) (by omega) (by omega)
    omega
  · have h2 := fp_cv1 (c := c) (by omega) (by omega)
    have h3 := fp_cv1 (c := c + 1) (by omega) (by omega)
    omega
  · have h2 := fp_cv1 (c := c) (by omega) (by omega)
    have h3 := fp_cv2 (c := c + 1) (by omega) (by omega)
    omega
  · have h2 := fp_cv2 (c := c) (by omega) (by omega)
    have h3 := fp_cv2 (c := c + 1) (by omega) (by omega)
    omega
  · have h2 := fp_cv2 (c := c) (by omega) (by omega)
    have h3 := fp_cv3 (c := c + 1) (by omega) (by omega)
    omega
  · have h2 := fp_cv3 (c := c) (by omega) (by omega)
    have h3 := fp_cv3 (c := c + 1) (by omega) (by omega)
    omega
  · have h2 := fp_cv3 (c := c) (by omega) (by omega)
    have h3 := fp_cv4 (c := c + 1) (by omega)
    omega
  · have h2 := fp_cv4 (c := c) (by omega)
    have h3 := fp_cv4 (c := c + 1) (by omega)
    omega
theorem fp_cn_b (c : Nat) : fp_cn c ≤ 4 ∧ fp_cs c ≤ 114 := by
  have h0 := fp_cv0
  rcases (show c = 0 ∨ (1 ≤ c ∧ c ≤ 10) ∨ (11 ≤ c ∧ c ≤ 15) ∨ (16 ≤ c ∧ c ≤ 22) ∨ 23 ≤ c by omega) with h1 | h1 | h1 | h1 | h1
  · subst h1; omega
  · have h2 := fp_cv1 h1.1 h1.2; omega
  · have h2 := fp_cv2 h1.1 h1.2; omega
  · have h2 := fp_cv3 h1.1 h1.2; omega
  · have h2 := fp_cv4 h1; omega
theorem fp_ins_f {b : Nat → Nat} {e : Nat → Nat} {pos k : Nat} (p : Nat) : fp_ins (fun p => b (e p)) pos (b k) p = b (fp_ins e pos k p) := by
  unfold fp_ins
  split
  · rfl
  · split <;> rfl
