/-! PLAIN NUMBERS: loads, what bears, a block set -/
set_option maxRecDepth 100000
theorem fp_ct_add {q a b : Nat → Bool} {n : Nat} (h : ∀ k, k < n → (if q k then 1 else 0) = (if a k then 1 else 0) + (if b k then 1 else 0)) : fp_ct q n = fp_ct a n + fp_ct b n := by
  induction n with
  | zero => rfl
  | succ n ih =>
    have h1 := ih (fun k hk => h k (by omega))
    have h2 := h n (by omega)
    show fp_ct q n + (if q n then 1 else 0) = (fp_ct a n + (if a n then 1 else 0)) + (fp_ct b n + (if b n then 1 else 0))
    omega
theorem fp_ct_mono {q : Nat → Bool} {k n : Nat} (h : k ≤ n) : fp_ct q k ≤ fp_ct q n := by
  induction n with
  | zero => rw [show k = 0 by omega]; exact Nat.le_refl _
  | succ n ih =>
    by_cases hk : k = n + 1
    · rw [hk]; exact Nat.le_refl _
    · have h1 := ih (by omega)
      show fp_ct q k ≤ fp_ct q n + (if q n then 1 else 0)
      omega
theorem fp_ct_congr {q r : Nat → Bool} {n : Nat} (h : ∀ k, k < n → q k = r k) : fp_ct q n = fp_ct r n := by
  induction n with
  | zero => rfl
  | succ n ih =>
    show fp_ct q n + (if q n then 1 else 0) = fp_ct r n + (if r n then 1 else 0)
    rw [ih (fun k hk => h k (by omega)), h n (by omega)]
theorem fp_mx_congr {f g : Nat → Nat} {n : Nat} (h : ∀ k, k < n → f k = g k) : fp_mx f n = fp_mx g n := by
  induction n with
  | zero => rfl
  | succ n ih =>
    show max (fp_mx f n) (f n) = max (fp_mx g n) (g n)
    rw [ih (fun k hk => h k (by omega)), h n (by omega)]
theorem fp_sm_congr {f g : Nat → Nat} {n : Nat} (h : ∀ k, k < n → f k = g k) : fp_sm f n = fp_sm g n := by
  induction n with
  | zero => rfl
  | succ n ih =>
    show fp_sm f n + f n = fp_sm g n + g n
    rw [ih (fun k hk => h k (by omega)), h n (by omega)]
theorem fp_any_congr {q r : Nat → Bool} {n : Nat} (h : ∀ k, k < n → q k = r k) : fp_any q n = fp_any r n := by
  induction n with
  | zero => rfl
  | succ n ih =>
    show (fp_any q n || q n) = (fp_any r n || r n)
    rw [ih (fun k hk => h k (by omega)), h n (by omega)]
def fp_shr (p n r : Nat) : Nat := p / n + (if r < p % n then 1 else 0)
def fp_pass (S : PS) (u : Nat) (L : Nat → Nat) (j : Nat) : Nat := if fp_sup (sB S j) (sB S u) then L j + fp_shr (sB S u 4 + L u) (fp_nsup S u) (fp_rk S j u) else L j
def fp_lin (S : PS) (bt : Nat) (L : Nat → Nat) : Nat → (Nat → Nat)
  | 0 => L
  | k + 1 => if sB S k 5 = bt then fp_pass S k (fp_lin S bt L k) else fp_lin S bt L k
def fp_lout (S : PS) : Nat → (Nat → Nat)
  | 0 => fun _ => 0
  | i + 1 => fp_lin S (30 - i) (fp_lout S i) (sN S)
/-- the loads of all blocks -/
def fp_ld (S : PS) : Nat → Nat := fp_lout S 30
def fp_npo (S : PS) (i : Nat) : Nat := fp_ct (fun k => decide (30 - i < sB S k 5 ∧ sB S k 5 ≤ 30)) (sN S)
theorem fp_npo_s (S : PS) {i : Nat} (h : i < 30) : fp_npo S (i + 1) = fp_npo S i + fp_ct (fun k => decide (sB S k 5 = 30 - i)) (sN S) := by
  refine fp_ct_add (fun k _ => ?_)
  by_cases h1 : sB S k 5 = 30 - i
  · rw [if_pos (by simp; omega), if_neg (by simp; omega), if_pos (by simp; omega)]
  · by_cases h2 : 30 - i < sB S k 5 ∧ sB S k 5 ≤ 30
    · rw [if_pos (by simp; omega), if_pos (by simp; omega), if_neg (by simp; omega)]
    · rw [if_neg (by simp; omega), if_neg (by simp; omega), if_neg (by simp; omega)]
theorem fp_shr_le (p n r : Nat) : fp_shr p n r ≤ p + 1 := by
  have := Nat.div_le_self p n
  unfold fp_shr
  split <;> omega
theorem fp_pass_b {S : PS} {u M : Nat} {L : Nat → Nat} (hw : sB S u 4 ≤ 9) (h : ∀ j, L j + 10 ≤ M) : ∀ j, fp_pass S u L j + 10 ≤ 2 * M := by
  intro j
  have h1 := h j
  have h2 := h u
  have h3 := fp_shr_le (sB S u 4 + L u) (fp_nsup S u) (fp_rk S j u)
  unfold fp_pass
  split <;> omega
theorem fp_lin_b {S : PS} (hok : fp_ok S) {bt P : Nat} {L : Nat → Nat} (h : ∀ j, L j + 10 ≤ 10 * 2 ^ P) (k : Nat) (hk : k ≤ sN S) : ∀ j, fp_lin S bt L k j + 10 ≤ 10 * 2 ^ (P + fp_ct (fun k => decide (sB S k 5 = bt)) k) := by
  induction k with
  | zero => exact h
  | succ k ih =>
    have ih := ih (by omega)
    intro j
    have hb := hok.2.2.1 k (by omega)
    show (if sB S k 5 = bt then fp_pass S k (fp_lin S bt L k) else fp_lin S bt L k) j + 10 ≤ 10 * 2 ^ (P + (fp_ct (fun k => decide (sB S k 5 = bt)) k + (if decide (sB S k 5 = bt) then 1 else 0)))
    by_cases hbt : sB S k 5 = bt
    · rw [if_pos hbt, if_pos (decide_eq_true hbt), ← Nat.add_assoc, Nat.pow_succ]
      have h4 := fp_pass_b (S := S) (u := k) (by omega) ih j
      omega
    · rw [if_neg hbt, decide_eq_false hbt]
      exact ih j
theorem fp_lout_b {S : PS} (hok : fp_ok S) (i : Nat) (hi : i ≤ 30) : ∀ j, fp_lout S i j + 10 ≤ 10 * 2 ^ fp_npo S i := by
  induction i with
  | zero =>
    intro j
    have h := Nat.one_le_two_pow (n := fp_npo S 0)
    show 0 + 10 ≤ _
    omega
  | succ i ih =>
    intro j
    rw [fp_npo_s S (by omega)]
    exact fp_lin_b hok (ih (by omega)) _ (Nat.le_refl _) j
theorem fp_stage_b {S : PS} (hok : fp_ok S) {i k : Nat} (hi : i < 30) (hk : k ≤ sN S) (j : Nat) : fp_lin S (30 - i) (fp_lout S i) k j ≤ 167772160 := by
  have h1 := fp_lin_b (bt := 30 - i) hok (fp_lout_b hok i (by omega)) k hk j
  have h2 := fp_npo_s S hi
  have h3 : fp_ct (fun k => decide (sB S k 5 = 30 - i)) k ≤ fp_ct (fun k => decide (sB S k 5 = 30 - i)) (sN S) := fp_ct_mono hk
  have h4 : fp_npo S (i + 1) ≤ sN S := fp_ct_le _ _
  have h5 := hok.1
  have h6 : 2 ^ (fp_npo S i + fp_ct (fun k => decide (sB S k 5 = 30 - i)) k) ≤ 2 ^ 24 := Nat.pow_le_pow_right (by decide) (by omega)
  have h7 : (2 : Nat) ^ 24 = 16777216 := by decide
  omega
theorem fp_ld_b {S : PS} (hok : fp_ok S) (j : Nat) : fp_ld S j ≤ 167772160 := fp_stage_b (i := 29) hok (by decide) (Nat.le_refl _) j
def fp_bears (S : PS) : Bool := !fp_any (fun k => decide (fp_str (sB S k) < fp_ld S k)) (sN S)
theorem fp_bears_t {S : PS} (h : ∀ k, k < sN S → ¬ (fp_str (sB S k) < fp_ld S k)) : fp_bears S = true := by
  unfold fp_bears
  rw [fp_any_f (fun k hk => decide_eq_false (h k hk))]
  rfl
theorem fp_bears_f {S : PS} {k : Nat} (hk : k < sN S) (h : fp_str (sB S k) < fp_ld S k) : fp_bears S = false := by
  unfold fp_bears
  rw [fp_any_t hk (decide_eq_true h)]
  rfl
theorem fp_str_b {b : Nat → Nat} (h : fp_bk b) : fp_str b ≤ 60 := by
  unfold fp_str
  split
  · omega
  · split <;> omega
/-- a block's row -/
def fp_blk (nr kd l w wt bt : Nat) : Nat → Nat := fun x => match x with
  | 0 => nr
  | 1 => kd
  | 2 => l
  | 3 => w
  | 4 => wt
  | _ => bt
def fp_base (S : PS) (l w : Nat) : Nat := fp_mx (fun i => fp_hi S (l + i)) w
/-- the state with one block more -/
def fp_add (S : PS) (kd l w wt : Nat) : PS := (sN S + 1, va_up (sB S) (sN S) (fp_blk (sP S) kd l w wt (fp_base S l w)), sP S + 1, sZ S, sT S)
/-- what is thrown when a block is set: 0, 1, 2 -/
def fp_plc (S : PS) (kd : Nat) (l w wt : Int) : Nat :=
  if ¬ (fp_place l w = true ∧ 1 ≤ wt ∧ wt ≤ 9) then 1
  else if fp_zoned S kd l.toNat w.toNat = false ∨ sN S = 24 then 2
  else if 30 < fp_top (sB (fp_add S kd l.toNat w.toNat wt.toNat) (sN S)) ∨ fp_bears (fp_add S kd l.toNat w.toNat wt.toNat) = false then 2 else 0
theorem fp_add_ok {S : PS} {kd l w wt : Nat} (h : fp_ok S) (hn : sN S < 24) (hp : sP S < 999) (hk : kd < 3) (hl : l < 12) (hw : 1 ≤ w ∧ w ≤ 5 ∧ l + w ≤ 12) (ht : 1 ≤ wt ∧ wt ≤ 9) (hb : fp_base S l w ≤ 40) : fp_ok (fp_add S kd l w wt) := by
  refine ⟨by show sN S + 1 ≤ 24; omega, by show sP S + 1 < 1000; omega, fun k hk2 => ?_, h.2.2.2.1, h.2.2.2.2⟩
  by_cases e : k = sN S
  · subst e
    show fp_bk (va_up (sB S) (sN S) _ (sN S))
    rw [va_up_self]
    exact ⟨by show sP S < 1000; omega, hk, hl, hw.1, hw.2.1, hw.2.2, ht.1, ht.2, hb⟩
  · show fp_bk (va_up (sB S) (sN S) _ k)
    rw [va_up_ne _ _ e]
    exact h.2.2.1 k (by have : k < sN S + 1 := hk2; omega)
/-- the first number under n with q, n if there is none -/
def fp_fi (q : Nat → Bool) : Nat → Nat
  | 0 => 0
  | n + 1 => if fp_fi q n < n then fp_fi q n else if q n then n else n + 1
theorem fp_fi_n {q : Nat → Bool} {n : Nat} (h : ∀ j, j < n → q j = false) : fp_fi q n = n := by
  induction n with
  | zero => rfl
  | succ n ih =>
    show (if fp_fi q n < n then fp_fi q n else if q n then n else n + 1) = n + 1
    rw [ih (fun j hj => h j (by omega)), if_neg (Nat.lt_irrefl _), h n (by omega)]
    rfl
theorem fp_fi_eq {q : Nat → Bool} {n k : Nat} (hk : k < n) (hq : q k = true) (hl : ∀ j, j < k → q j = false) : fp_fi q n = k := by
  induction n with
  | zero => omega
  | succ n ih =>
    show (if fp_fi q n < n then fp_fi q n else if q n then n else n + 1) = k
    by_cases e : k = n
    · subst e
      rw [fp_fi_n hl, if_neg (Nat.lt_irrefl _), if_pos hq]
    · rw [ih (by omega), if_pos (by omega)]
theorem fp_fi_s {q : Nat → Bool} {n : Nat} : (fp_fi q n < n ∧ q (fp_fi q n) = true ∧ ∀ j, j < fp_fi q n → q j = false) ∨ (fp_fi q n = n ∧ ∀ j, j < n → q j = false) := by
  induction n with
  | zero => exact Or.inr ⟨rfl, fun j hj => absurd hj (Nat.not_lt_zero _)⟩
  | succ n ih =>
    rcases ih with ⟨h1, h2, h3⟩ | ⟨h1, h2⟩
    · rw [fp_fi_eq (k := fp_fi q n) (by omega) h2 h3]
      exact Or.inl ⟨by omega, h2, h3⟩
    · by_cases hq : q n = true
      · rw [fp_fi_eq (k := n) (by omega) hq h2]
        exact Or.inl ⟨by omega, hq, h2⟩
      · have h3 : ∀ j, j < n + 1 → q j = false := fun j hj => by
          by_cases e : j = n
          · subst e; simpa using hq
          · exact h2 j (by omega)
        rw [fp_fi_n h3]
        exact Or.inr ⟨rfl, h3⟩
/-- the place of the block with a number -/
def fp_fnd (S : PS) (z : Int) : Nat := fp_fi (fun k => decide ((sB S k 0 : Int) = z)) (sN S)
theorem fp_VR.congr {S : PS} {v w : Nat → Int} (h : fp_VR S v) (e : ∀ y, y < 170 → v y = w y) : fp_VR S w := by
  obtain ⟨h0, h1, h2, h3, h4, h5⟩ := h
  have hn := h0.1
  refine ⟨h0, by rw [← e 0 (by decide)]; exact h1, by rw [← e 1 (by decide)]; exact h2, fun c hc => by rw [← e _ (by omega)]; exact h3 c hc, fun c hc => by rw [← e _ (by omega)]; exact h4 c hc, fun k hk x hx => by rw [← e _ (by omega)]; exact h5 k hk x hx⟩
/-- the undo history: at most eight states -/
def fp_hn (hn : Nat) : Nat := if hn = 8 then 8 else hn + 1
def fp_hpush (hs : Nat → PS) (hn : Nat) (T : PS) : Nat → PS := if hn = 8 then (fun i => if i = 7 then T else hs (i + 1)) else va_up hs hn T
def fp_HR (hs : Nat → PS) (hn : Nat) (past : Nat → Int) : Prop := ∀ i, i < hn → fp_VR (hs i) (fun y => past (170 * i + y))
theorem fp_HR.push {hs : Nat → PS} {hn : Nat} {T : PS} {pa b9 b6 : Nat → Int} (HR : fp_HR hs hn b9) (hT : fp_VR T b6) (h8 : hn < 8) (h1 : ∀ x, x < 170 * hn → pa x = b9 x) (h2 : ∀ y, y < 170 → pa (170 * hn + y) = b6 y) : fp_HR (fp_hpush hs hn T) (fp_hn hn) pa := by
  intro i hi
  have e : fp_hn hn = hn + 1 := if_neg (by omega)
  have e2 : fp_hpush hs hn T = va_up hs hn T := if_neg (by omega)
  rw [e] at hi
  rw [e2]
  by_cases hin : i = hn
  · subst hin
    rw [va_up_self]
    exact hT.congr (fun y hy => (h2 y hy).symm)
  · rw [va_up_ne _ _ hin]
    exact (HR i (by omega)).congr (fun y hy => (h1 _ (by omega)).symm)
theorem fp_HR.push8 {hs : Nat → PS} {T : PS} {pa b9 b6 : Nat → Int} (HR : fp_HR hs 8 b9) (hT : fp_VR T b6) (h1 : ∀ x, x < 1190 → pa x = b9 (x + 170)) (h2 : ∀ y, y < 170 → pa (1190 + y) = b6 y) : fp_HR (fp_hpush hs 8 T) (fp_hn 8) pa := by
  intro i hi
  have hi : i < 8 := hi
  show fp_VR (if i = 7 then T else hs (i + 1)) _
  by_cases hin : i = 7
  · subst hin
    rw [if_pos rfl]
    exact hT.congr (fun y hy => (h2 y hy).symm)
  · rw [if_neg hin]
    refine (HR (i + 1) (by omega)).congr (fun y hy => ?_)
    rw [h1 _ (by omega)]
    congr 1
    omega
-- a pass over the blocks: the first k are done
def fp_ps (S : PS) (u : Nat) (L : Nat → Nat) (f : Nat → Int) (k : Nat) : Prop := ∀ j, j < sN S → f j = if j < k then (fp_pass S u L j : Int) else (L j : Int)
theorem fp_ps_0 {S : PS} {u : Nat} {L : Nat → Nat} {f : Nat → Int} (h : ∀ j, j < sN S → f j = (L j : Int)) : fp_ps S u L f 0 := fun j hj => by rw [if_neg (Nat.not_lt_zero _)]; exact h j hj
theorem fp_ps_n {S : PS} {u : Nat} {L : Nat → Nat} {f : Nat → Int} (h : fp_ps S u L f (sN S)) : ∀ j, j < sN S → f j = (fp_pass S u L j : Int) := fun j hj => by rw [h j hj, if_pos hj]
theorem fp_psr {S : PS} {u : Nat} {L : Nat → Nat} {f : Nat → Int} {k : Nat} (h : fp_ps S u L f k) (hk : k < sN S) : f k = (L k : Int) := by rw [h k hk, if_neg (Nat.lt_irrefl _)]
theorem fp_ps0 {S : PS} {u : Nat} {L : Nat → Nat} {f : Nat → Int} {k : Nat} (h : fp_ps S u L f k) (hs : fp_sup (sB S k) (sB S u) = false) : fp_ps S u L f (k + 1) := fun j hj => by
  rw [h j hj]
  by_cases e : j = k
  · subst e
    rw [if_neg (Nat.lt_irrefl _), if_pos (Nat.lt_succ_self _)]
    unfold fp_pass
    rw [hs]
    rfl
  · by_cases h2 : j < k
    · rw [if_pos h2, if_pos (by omega)]
    · rw [if_neg h2, if_neg (by omega)]
theorem fp_ps1 {S : PS} {u : Nat} {L : Nat → Nat} {f : Nat → Int} {k : Nat} {z : Int} (h : fp_ps S u L f k) (hs : fp_sup (sB S k) (sB S u) = true) (hz : z = ((L k + fp_shr (sB S u 4 + L u) (fp_nsup S u) (fp_rk S k u) : Nat) : Int)) : fp_ps S u L (va_up f k z) (k + 1) := fun j hj => by
  by_cases e : j = k
  · subst e
    rw [va_up_self, if_pos (Nat.lt_succ_self _), hz]
    unfold fp_pass
    rw [if_pos hs]
  · rw [va_up_ne _ _ e, h j hj]
    by_cases h2 : j < k
    · rw [if_pos h2, if_pos (by omega)]
    · rw [if_neg h2, if_neg (by omega)]
theorem fp_shr_t {p n r : Nat} (h : r < p % n) : fp_shr p n r = p / n + 1 := by
  unfold fp_shr
  rw [if_pos h]
theorem fp_shr_f {p n r : Nat} (h : ¬ r < p % n) : fp_shr p n r = p / n + 0 := by
  unfold fp_shr
  rw [if_neg h]
theorem fp_ct_pos {q : Nat → Bool} {k n : Nat} (hk : k < n) (h : q k = true) : 0 < fp_ct q n := by
  have h1 : fp_ct q (k + 1) ≤ fp_ct q n := fp_ct_mono hk
  have h2 : fp_ct q (k + 1) = fp_ct q k + (if q k then 1 else 0) := rfl
  rw [h, if_pos rfl] at h2
  omega
theorem fp_lin_t {S : PS} {bt k : Nat} {L : Nat → Nat} (h : sB S k 5 = bt) : fp_lin S bt L (k + 1) = fp_pass S k (fp_lin S bt L k) := if_pos h
theorem fp_lin_f {S : PS} {bt k : Nat} {L : Nat → Nat} (h : ¬ sB S k 5 = bt) : fp_lin S bt L (k + 1) = fp_lin S bt L k := if_neg h
theorem fp_zby_b (z : Int) : -1 ≤ fp_zby z ∧ fp_zby z ≤ 2 := by
  unfold fp_zby
  split
  · omega
  · split
    · omega
    · split <;> omega
def fp_setz (S : PS) (c z : Nat) : PS := (sN S, sB S, sP S, va_up (sZ S) c z, sT S)
def fp_sett (S : PS) (c t : Nat) : PS := (sN S, sB S, sP S, sZ S, va_up (sT S) c t)
/-- without the block k -/
def fp_del (S : PS) (k : Nat) : PS := (sN S - 1, (fun j => if j < k then sB S j else sB S (j + 1)), sP S, sZ S, sT S)
theorem fp_VR.setz {S : PS} {v : Nat → Int} {c zn : Nat} {z : Int} (h : fp_VR S v) (hc : c < 12) (hz : z = (zn : Int)) (h3 : zn < 3) : fp_VR (fp_setz S c zn) (va_up v (2 + c) z) := by
  obtain ⟨h0, h1, h2, h5, h6, h7⟩ := h
  have hn := h0.1
  refine ⟨⟨h0.1, h0.2.1, h0.2.2.1, fun d hd => ?_, h0.2.2.2.2⟩, by rw [va_up_ne _ _ (by omega)]; exact h1, by rw [va_up_ne _ _ (by omega)]; exact h2, fun d hd => ?_, fun d hd => by rw [va_up_ne _ _ (by omega)]; exact h6 d hd, fun k hk x hx => by rw [va_up_ne _ _ (by omega)]; exact h7 k hk x hx⟩
  · show va_up (sZ S) c zn d < 3
    by_cases e : d = c
    · subst e; rw [va_up_self]; exact h3
    · rw [va_up_ne _ _ e]; exact h0.2.2.2.1 d hd
  · show _ = ((va_up (sZ S) c zn d : Nat) : Int)
    by_cases e : d = c
    · subst e; rw [va_up_self, va_up_self]; exact hz
    · rw [va_up_ne _ _ e, va_up_ne _ _ (by omega)]; exact h5 d hd
theorem fp_VR.sett {S : PS} {v : Nat → Int} {c t : Nat} {z : Int} (h : fp_VR S v) (hc : c < 12) (hz : z = (t : Int)) (h3 : t < 2) : fp_VR (fp_sett S c t) (va_up v (14 + c) z) := by
  obtain ⟨h0, h1, h2, h5, h6, h7⟩ := h
  have hn := h0.1
  refine ⟨⟨h0.1, h0.2.1, h0.2.2.1, h0.2.2.2.1, fun d hd => ?_⟩, by rw [va_up_ne _ _ (by omega)]; exact h1, by rw [va_up_ne _ _ (by omega)]; exact h2, fun d hd => by rw [va_up_ne _ _ (by omega)]; exact h5 d hd, fun d hd => ?_, fun k hk x hx => by rw [va_up_ne _ _ (by omega)]; exact h7 k hk x hx⟩
  · show va_up (sT S) c t d < 2
    by_cases e : d = c
    · subst e; rw [va_up_self]; exact h3
    · rw [va_up_ne _ _ e]; exact h0.2.2.2.2 d hd
  · show _ = ((va_up (sT S) c t d : Nat) : Int)
    by_cases e : d = c
    · subst e; rw [va_up_self, va_up_self]; exact hz
    · rw [va_up_ne _ _ e, va_up_ne _ _ (by omega)]; exact h6 d hd
theorem fp_del_ok {S : PS} {k : Nat} (h : fp_ok S) : fp_ok (fp_del S k) := by
  refine ⟨Nat.le_trans (Nat.sub_le _ _) h.1, h.2.1, fun j hj => ?_, h.2.2.2.1, h.2.2.2.2⟩
  have hj : j < sN S - 1 := hj
  show fp_bk (if j < k then sB S j else sB S (j + 1))
  split
  · exact h.2.2.1 j (by omega)
  · exact h.2.2.1 (j + 1) (by omega)
theorem fp_VR.del {S : PS} {v v2 : Nat → Int} {k : Nat} (h : fp_VR S v) (hk : k < sN S) (h0 : v2 0 = ((sN S - 1 : Nat) : Int)) (h1 : ∀ y, 1 ≤ y → y < 26 + 6 * k → v2 y = v y) (h2 : ∀ y, 26 + 6 * k ≤ y → y + 6 < 170 → v2 y = v (y + 6)) : fp_VR (fp_del S k) v2 := by
  obtain ⟨g0, g1, g2, g5, g6, g7⟩ := h
  have hn := g0.1
  refine ⟨fp_del_ok g0, h0, by rw [h1 1 (by omega) (by omega)]; exact g2, fun d hd => by rw [h1 _ (by omega) (by omega)]; exact g5 d hd, fun d hd => by rw [h1 _ (by omega) (by omega)]; exact g6 d hd, fun j hj x hx => ?_⟩
  have hj : j < sN S - 1 := hj
  show _ = (((if j < k then sB S j else sB S (j + 1)) x : Nat) : Int)
  by_cases e : j < k
  · rw [if_pos e, h1 _ (by omega) (by omega)]
    exact g7 j (by omega) x hx
  · rw [if_neg e, h2 _ (by omega) (by omega), show 26 + 6 * j + x + 6 = 26 + 6 * (j + 1) + x by omega]
    exact g7 (j + 1) (by omega) x hx
theorem fp_VR.add {S : PS} {v v2 : Nat → Int} {kd l w wt : Nat} (h : fp_VR S v) (hok : fp_ok (fp_add S kd l w wt)) (h0 : v2 0 = ((sN S + 1 : Nat) : Int)) (h1 : v2 1 = ((sP S + 1 : Nat) : Int)) (h2 : ∀ y, 2 ≤ y → y < 26 + 6 * sN S → v2 y = v y) (h6 : ∀ x, x < 6 → v2 (26 + 6 * sN S + x) = (fp_blk (sP S) kd l w wt (fp_base S l w) x : Int)) : fp_VR (fp_add S kd l w wt) v2 := by
  obtain ⟨g0, g1, g2, g5, g6, g7⟩ := h
  refine ⟨hok, h0, h1, fun d hd => by rw [h2 _ (by omega) (by omega)]; exact g5 d hd, fun d hd => by rw [h2 _ (by omega) (by omega)]; exact g6 d hd, fun j hj x hx => ?_⟩
  have hj : j < sN S + 1 := hj
  show _ = ((va_up (sB S) (sN S) _ j x : Nat) : Int)
  by_cases e : j = sN S
  · subst e
    rw [va_up_self]
    exact h6 x hx
  · rw [va_up_ne _ _ e, h2 _ (by omega) (by omega)]
    exact g7 j (by omega) x hx
theorem fp_base_le {S : PS} (h : fp_ok S) (l w : Nat) : fp_base S l w ≤ 42 := fp_mx_le (fun _ _ => fp_hi_le h _)
theorem fp_plc_1 {S : PS} {kd : Nat} {l w wt : Int} (h : ¬ (fp_place l w = true ∧ 1 ≤ wt ∧ wt ≤ 9)) : fp_plc S kd l w wt = 1 := if_pos h
theorem fp_plc_2 {S : PS} {kd : Nat} {l w wt : Nat} (h0 : fp_place l w = true ∧ 1 ≤ (wt : Int) ∧ (wt : Int) ≤ 9) (h : fp_zoned S kd l w = false ∨ sN S = 24) : fp_plc S kd l w wt = 2 := by
  unfold fp_plc
  rw [if_neg (not_not_intro h0)]
  exact if_pos h
theorem fp_plc_3 {S : PS} {kd : Nat} {l w wt : Nat} (h0 : fp_place l w = true ∧ 1 ≤ (wt : Int) ∧ (wt : Int) ≤ 9) (h1 : ¬ (fp_zoned S kd l w = false ∨ sN S = 24)) (h : 30 < fp_top (sB (fp_add S kd l w wt) (sN S)) ∨ fp_bears (fp_add S kd l w wt) = false) : fp_plc S kd l w wt = 2 := by
  unfold fp_plc
  rw [if_neg (not_not_intro h0)]
  show (if fp_zoned S kd l w = false ∨ sN S = 24 then 2 else if 30 < fp_top (sB (fp_add S kd l w wt) (sN S)) ∨ fp_bears (fp_add S kd l w wt) = false then 2 else 0) = 2
  rw [if_neg h1, if_pos h]
theorem fp_plc_0 {S : PS} {kd : Nat} {l w wt : Nat} (h0 : fp_place l w = true ∧ 1 ≤ (wt : Int) ∧ (wt : Int) ≤ 9) (h1 : ¬ (fp_zoned S kd l w = false ∨ sN S = 24)) (h : ¬ (30 < fp_top (sB (fp_add S kd l w wt) (sN S)) ∨ fp_bears (fp_add S kd l w wt) = false)) : fp_plc S kd l w wt = 0 := by
  unfold fp_plc
  rw [if_neg (not_not_intro h0)]
  show (if fp_zoned S kd l w = false ∨ sN S = 24 then 2 else if 30 < fp_top (sB (fp_add S kd l w wt) (sN S)) ∨ fp_bears (fp_add S kd l w wt) = false then 2 else 0) = 0
  rw [if_neg h1, if_neg h]
theorem fp_dl_step {v : Nat → Int} {kf i : Nat} {z : Int} (hz : z = if 26 + 6 * kf + i + 6 < 170 then v (26 + 6 * kf + i + 6) else 0) : ∀ x, va_up (fun x => if 26 + 6 * kf ≤ x ∧ x < 26 + 6 * kf + i then (if x + 6 < 170 then v (x + 6) else 0) else v x) (26 + 6 * kf + i) z x = (if 26 + 6 * kf ≤ x ∧ x < 26 + 6 * kf + (i + 1) then (if x + 6 < 170 then v (x + 6) else 0) else v x) := by
  intro x
  by_cases e : x = 26 + 6 * kf + i
  · subst e
    rw [va_up_self, if_pos (by omega), hz]
  · rw [va_up_ne _ _ e]
    by_cases h : 26 + 6 * kf ≤ x ∧ x < 26 + 6 * kf + i
    · rw [if_pos h, if_pos (show 26 + 6 * kf ≤ x ∧ x < 26 + 6 * kf + (i + 1) by omega)]
    · rw [if_neg h, if_neg (show ¬ (26 + 6 * kf ≤ x ∧ x < 26 + 6 * kf + (i + 1)) by omega)]
theorem fp_base_30 {S : PS} (h : ∀ k, k < sN S → fp_top (sB S k) ≤ 30) (l w : Nat) : fp_base S l w ≤ 30 := fp_mx_le (fun _ _ => fp_mx_le (fun k hk => by
  unfold fp_hif
  split
  · exact h k hk
  · exact Nat.zero_le _))
theorem fp_cp_step {v g : Nat → Int} {b i : Nat} {z : Int} (hz : z = v i) : ∀ x, va_up (fun x => if b ≤ x ∧ x < b + i then v (x - b) else g x) (b + i) z x = (if b ≤ x ∧ x < b + (i + 1) then v (x - b) else g x) := by
  intro x
  by_cases e : x = b + i
  · subst e
    rw [va_up_self, if_pos (by omega), hz]
    congr 1
    omega
  · rw [va_up_ne _ _ e]
    by_cases h : b ≤ x ∧ x < b + i
    · rw [if_pos h, if_pos (show b ≤ x ∧ x < b + (i + 1) by omega)]
    · rw [if_neg h, if_neg (show ¬ (b ≤ x ∧ x < b + (i + 1)) by omega)]
theorem fp_sh_step {v : Nat → Int} {i : Nat} {z : Int} (hz : z = v (i + 170)) : ∀ x, va_up (fun x => if x < i then v (x + 170) else v x) i z x = (if x < i + 1 then v (x + 170) else v x) := by
  intro x
  by_cases e : x = i
  · subst e
    rw [va_up_self, if_pos (by omega), hz]
  · rw [va_up_ne _ _ e]
    by_cases h : x < i
    · rw [if_pos h, if_pos (show x < i + 1 by omega)]
    · rw [if_neg h, if_neg (show ¬ (x < i + 1) by omega)]
theorem fp_hist_B {hs : Nat → PS} {hn : Nat} {T : PS} {b6 g : Nat → Int} (HR : fp_HR hs hn g) (hT : fp_VR T b6) (h8 : hn < 8) : fp_HR (fp_hpush hs hn T) (fp_hn hn) (fun x => if hn * 170 ≤ x ∧ x < hn * 170 + 170 then b6 (x - hn * 170) else g x) := by
  refine fp_HR.push HR hT h8 (fun x hx => ?_) (fun y hy => ?_)
  · rw [if_neg (by omega)]
  · rw [if_pos (by omega)]
    congr 1
    omega
theorem fp_hist_A {hs : Nat → PS} {T : PS} {b6 b9 g : Nat → Int} (HR : fp_HR hs 8 b9) (hg : ∀ x, x < 1190 → g x = b9 (x + 170)) (hT : fp_VR T b6) : fp_HR (fp_hpush hs 8 T) (fp_hn 8) (fun x => if 7 * 170 ≤ x ∧ x < 7 * 170 + 170 then b6 (x - 7 * 170) else g x) := by
  refine fp_HR.push8 HR hT (fun x hx => ?_) (fun y hy => ?_)
  · rw [if_neg (by omega)]
    exact hg x hx
  · rw [if_pos (by omega)]
    congr 1
    omega
/-- found 0, not found 1 -/
def fp_fc (S : PS) (z : Int) : Nat := if fp_fnd S z < sN S then 0 else 1
theorem fp_fc_0 {S : PS} {z : Int} {k : Nat} (h : fp_fnd S z = k) (hk : k < sN S) : fp_fc S z = 0 := if_pos (by rw [h]; exact hk)
theorem fp_fc_1 {S : PS} {z : Int} (h : fp_fnd S z = sN S) : fp_fc S z = 1 := if_neg (by rw [h]; exact Nat.lt_irrefl _)
/-- the heaviest foam under t + 1 that can be placed, 0 if none can -/
def fp_hvd (S : PS) (l w : Int) : Nat → Nat
  | 0 => 0
  | t + 1 => if fp_plc S 0 l w ((t + 1 : Nat) : Int) = 0 then t + 1 else fp_hvd S l w t
def fp_hv (S : PS) (l w : Int) : Nat := fp_hvd S l w 9
def fp_hvc (S : PS) (l w : Int) : Nat := if fp_place l w = false then 1 else if fp_hv S l w = 0 then 2 else 0
theorem fp_hvd_t {S : PS} {l w : Int} {t : Nat} (h : fp_plc S 0 l w ((t + 1 : Nat) : Int) = 0) : fp_hvd S l w (t + 1) = t + 1 := if_pos h
theorem fp_hvd_f {S : PS} {l w : Int} {t : Nat} (h : ¬ fp_plc S 0 l w ((t + 1 : Nat) : Int) = 0) : fp_hvd S l w (t + 1) = fp_hvd S l w t := if_neg h
theorem fp_plc_place {S : PS} {kd : Nat} {l w wt : Int} (h : fp_plc S kd l w wt = 1) : ¬ (fp_place l w = true ∧ 1 ≤ wt ∧ wt ≤ 9) := by
  intro h0
  unfold fp_plc at h
  rw [if_neg (not_not_intro h0)] at h
  split at h
  · omega
  · split at h <;> omega
theorem fp_hvc_0 {S : PS} {l w : Int} (h : fp_place l w = true) (h2 : fp_hv S l w ≠ 0) : fp_hvc S l w = 0 := by
  unfold fp_hvc
  rw [h, if_neg (by decide), if_neg h2]
theorem fp_hvc_2 {S : PS} {l w : Int} (h : fp_place l w = true) (h2 : fp_hv S l w = 0) : fp_hvc S l w = 2 := by
  unfold fp_hvc
  rw [h, if_neg (by decide), if_pos h2]
/-- the model's arrays for passing use -/
def fp_scr (k : Nat) : Bool := decide (k = 6 ∨ k = 8 ∨ k = 10 ∨ k = 11 ∨ k = 14)
def fp_sm0 (ar ar2 : Nat → Nat → Int) : Prop := ∀ k, fp_scr k = false → ar2 k = ar k
def fp_sm1 (ar ar2 : Nat → Nat → Int) : Prop := ∀ k, fp_scr k = false → k ≠ 5 → k ≠ 9 → ar2 k = ar k
theorem fp_zlet_b (z : Nat) : 99 ≤ fp_zlet z ∧ fp_zlet z ≤ 113 := by
  unfold fp_zlet
  split
  · omega
  · split <;> omega
theorem iI_i2c {z : Int} (h : 0 ≤ z ∧ z < 65536) : ((iI z).toUInt32 % 65536).toInt32 = iI z := by
  have e : iI z = nI z.toNat := by
    show Int32.ofInt z = Int32.ofNat z.toNat
    rw [show z = ((z.toNat : Nat) : Int) by omega]
    rfl
  rw [e, pk_char, pk_tn (by omega), Nat.mod_eq_of_lt (by omega)]
