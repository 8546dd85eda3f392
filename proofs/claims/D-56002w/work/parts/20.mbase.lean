/-! THE MODEL's WORLD: its object and twelve arrays; the planner's state as plain numbers -/
set_option maxRecDepth 100000
def fp_no : Nat → Prop := fun _ => False
/-- the planner's state: how many blocks, their fields, how many were placed, zones, torches -/
abbrev PS : Type := Nat × (Nat → Nat → Nat) × Nat × (Nat → Nat) × (Nat → Nat)
abbrev sN (S : PS) : Nat := S.1
abbrev sB (S : PS) : Nat → Nat → Nat := S.2.1
abbrev sP (S : PS) : Nat := S.2.2.1
abbrev sZ (S : PS) : Nat → Nat := S.2.2.2.1
abbrev sT (S : PS) : Nat → Nat := S.2.2.2.2
/-- a block's fields are small -/
abbrev fp_bk (b : Nat → Nat) : Prop := b 0 < 1000 ∧ b 1 < 3 ∧ b 2 < 12 ∧ 1 ≤ b 3 ∧ b 3 ≤ 5 ∧ b 2 + b 3 ≤ 12 ∧ 1 ≤ b 4 ∧ b 4 ≤ 9 ∧ b 5 ≤ 40
def fp_ok (S : PS) : Prop := sN S ≤ 24 ∧ sP S < 1000 ∧ (∀ k, k < sN S → fp_bk (sB S k)) ∧ (∀ c, c < 12 → sZ S c < 3) ∧ ∀ c, c < 12 → sT S c < 2
/-- the model's row of numbers holds the state -/
def fp_VR (S : PS) (v : Nat → Int) : Prop := fp_ok S ∧ v 0 = (sN S : Int) ∧ v 1 = (sP S : Int) ∧ (∀ c, c < 12 → v (2 + c) = (sZ S c : Int)) ∧ (∀ c, c < 12 → v (14 + c) = (sT S c : Int)) ∧ ∀ k, k < sN S → ∀ w, w < 6 → v (26 + 6 * k + w) = (sB S k w : Int)
def fp_ml (k : Nat) : Nat := match k with
  | 5 => 170
  | 6 => 170
  | 7 => 170
  | 8 => 170
  | 9 => 1360
  | 10 => 24
  | 11 => 24
  | 12 => 60
  | 13 => 80
  | 14 => 7
  | 15 => 39
  | _ => 8
def fp_mf (ad : Nat → Nat) (sc : Nat → Int) : List Value := [.int (iI (sc 0)), .int (iI (sc 1)), .int (iI (sc 2)), .int (iI (sc 3)), .int (iI (sc 4)), .ref (ad 5), .ref (ad 6), .ref (ad 7), .ref (ad 8), .ref (ad 9), .ref (ad 10), .ref (ad 11), .ref (ad 12), .ref (ad 13), .ref (ad 14), .ref (ad 15), .ref (ad 16), .int (iI (sc 17)), .int (iI (sc 18)), .int (iI (sc 19)), .int (iI (sc 20)), .int (iI (sc 21)), .int (iI (sc 22))]
/-- the model's addresses -/
def fp_MA (G : fp_G) (ad : Nat → Nat) : Prop := (∀ i j, i < 17 → j < 17 → ad i = ad j → i = j) ∧ ∀ i, i < 17 → (g_s G).heap.size ≤ ad i
def fp_ma (ad : Nat → Nat) : Nat → Prop := fun q => ∃ k, k < 17 ∧ (k = 0 ∨ 5 ≤ k) ∧ q = ad k
theorem fp_ma.base {G : fp_G} {ad : Nat → Nat} (h : fp_MA G ad) : ∀ q, fp_ma ad q → (g_s G).heap.size ≤ q := fun q hq => by
  obtain ⟨k, h1, -, rfl⟩ := hq
  exact h.2 k h1
theorem fp_no.base {G : fp_G} : ∀ q, fp_no q → (g_s G).heap.size ≤ q := fun _ h => h.elim
def fp_ME (G : fp_G) (ad : Nat → Nat) (sc : Nat → Int) (ar : Nat → Nat → Int) (H : Heap) : Prop := fp_At G H (ad 0) (eO 0 (fp_mf ad sc)) ∧ ∀ k, 5 ≤ k → k < 17 → fp_At G H (ad k) (eI G (fp_ml k) (fun j => iI (ar k j)))
theorem fp_ME.kept {G : fp_G} {ad : Nat → Nat} {sc : Nat → Int} {ar : Nat → Nat → Int} {H H1 : Heap} (h : fp_ME G ad sc ar H) (hq : ∀ k, k < 17 → H1[ad k]? = H[ad k]?) : fp_ME G ad sc ar H1 := ⟨h.1.kept (hq 0 (by decide)), fun k h1 h2 => (h.2 k h1 h2).kept (hq k h2)⟩
def fp_ua (ar : Nat → Nat → Int) (k j : Nat) (z : Int) : Nat → Nat → Int := va_up ar k (va_up (ar k) j z)
/-- which fields of the model are numbers, and may be written -/
def fp_sck (k : Nat) : Bool := decide (k < 23) && !(decide (5 ≤ k) && decide (k < 17))
section MB
variable {G : fp_G} {p : Program} {e : Env} {R : Room} {s : State} {m : MethodId} {args : Array Value} {below : List Frame} {meth : Method} {c : Code} {H : Heap} {locs : List Loc} {cells slots : Nat} {Q : State → Prop}
variable {cc : ByteArray} {pc nL : Nat} {ls : Array Slot} {rest : List Value} {own : String} {sz : Nat} {H0 : Heap} {ad : Nat → Nat} {sc : Nat → Int} {ar : Nat → Nat → Int}
theorem m_put {k index : Nat} {sc2 : Nat → Int} {v : Value} (X : fp_C G p s m args c cc own nL) (hM : fp_ME G ad sc ar H) (hS : va_S (fA (fp_ma ad) sz) H0 H locs) (hA : fp_MA G ad) (hf : (fp_mf ad sc).set k v = fp_mf ad sc2) (hk : fp_sck k = true) (hlink : Cond.fieldLink own index RX4 (TX4 k).2.1 (TX4 k).2.2.1 ∈ lw_all) (hn : narrow (tyX4 k) v = v) (hfit : fits (tyX4 k) v = true) (hfin : (TX4 k).2.2.2 = false) (hd : decode cc pc = .ok (.putfield index, 3)) (hdecl : RX4 = (TX4 k).1)
    (kk : ∀ (H1 : Heap) (locs1 : List Loc), fp_ME G ad sc2 ar H1 → va_S (fA (fp_ma ad) sz) H0 H1 locs1 → W p (g_l G) e R s m args below meth c H1 locs1 cells slots Q (F0 m (pc + 3) ls rest)) : W p (g_l G) e R s m args below meth c H locs cells slots Q (F0 m pc ls (v :: .ref (ad 0) :: rest)) := by
  have hk23 : k < 23 := by
    simp only [fp_sck, Bool.and_eq_true, decide_eq_true_eq] at hk
    exact hk.1
  refine r_put X hM.1 hS (Or.inl ⟨0, by decide, Or.inl rfl, rfl⟩) rfl in_X4 tyX4_ok nmX4 k hk23 hlink (Or.inl hdecl) hfin hn hfit (by show k < 23; exact hk23) hd (fun H1 locs1 h1 hz hq hS1 => ?_)
  rw [hf] at h1
  refine kk H1 locs1 ⟨h1, fun j h5 h17 => (hM.2 j h5 h17).kept (hq _ (fun h => ?_))⟩ hS1
  have := hA.1 j 0 h17 (by decide) h
  omega
theorem m_ast {k j n : Nat} {z iz : Int} (X : fp_C G p s m args c cc own nL) (hM : fp_ME G ad sc ar H) (hS : va_S (fA (fp_ma ad) sz) H0 H locs) (hA : fp_MA G ad) (hk : 5 ≤ k ∧ k < 17) (hz : iz = (j : Int)) (hn : fp_ml k = n) (hj : j < n) (hd : decode cc pc = .ok (.iastore, 1))
    (kk : ∀ (H1 : Heap) (locs1 : List Loc), fp_ME G ad sc (fp_ua ar k j z) H1 → va_S (fA (fp_ma ad) sz) H0 H1 locs1 → W p (g_l G) e R s m args below meth c H1 locs1 cells slots Q (F0 m (pc + 1) ls rest)) : W p (g_l G) e R s m args below meth c H locs cells slots Q (F0 m pc ls (.int (iI z) :: .int (iI iz) :: .ref (ad k) :: rest)) := by
  have hl : ∀ i, fp_ml i ≤ 1360 := by
    intro i
    unfold fp_ml
    split <;> decide
  refine r_iastI X (hM.2 k hk.1 hk.2) hS (Or.inl ⟨k, hk.2, Or.inr hk.1, rfl⟩) hz (by rw [hn]; exact hj) (Nat.le_trans (hl k) (by decide)) hd (fun H1 locs1 h1 hz hq hS1 => ?_)
  refine kk H1 locs1 ⟨hM.1.kept (hq _ (fun h => ?_)), fun i h5 h17 => ?_⟩ hS1
  · have := hA.1 0 k (by decide) hk.2 h
    omega
  · by_cases hik : i = k
    · subst hik
      have e : (fun q => iI (fp_ua ar i j z i q)) = upd (fun q => iI (ar i q)) j (iI z) := by
        funext q
        unfold fp_ua upd va_up
        by_cases hq : q = j
        · simp [hq]
        · simp [hq]
      rw [e]
      exact h1
    · have e : (fun q => iI (fp_ua ar k j z i q)) = (fun q => iI (ar i q)) := by
        funext q
        unfold fp_ua va_up
        simp [hik]
      rw [e]
      exact (hM.2 i h5 h17).kept (hq _ (fun h => hik (hA.1 i k h17 hk.2 h)))
end MB
-- folds over the first n numbers
def fp_sm (f : Nat → Nat) : Nat → Nat
  | 0 => 0
  | n + 1 => fp_sm f n + f n
def fp_mx (f : Nat → Nat) : Nat → Nat
  | 0 => 0
  | n + 1 => max (fp_mx f n) (f n)
def fp_ct (q : Nat → Bool) : Nat → Nat
  | 0 => 0
  | n + 1 => fp_ct q n + (if q n then 1 else 0)
theorem fp_ct_le (q : Nat → Bool) (n : Nat) : fp_ct q n ≤ n := by
  induction n with
  | zero => exact Nat.le_refl _
  | succ n ih =>
    show fp_ct q n + (if q n then 1 else 0) ≤ n + 1
    split <;> omega
theorem fp_mx_le {f : Nat → Nat} {n M : Nat} (h : ∀ k, k < n → f k ≤ M) : fp_mx f n ≤ M := by
  induction n with
  | zero => exact Nat.zero_le _
  | succ n ih =>
    have h1 := ih (fun k hk => h k (by omega))
    have h2 := h n (by omega)
    show max (fp_mx f n) (f n) ≤ M
    omega
theorem fp_sm_le {f : Nat → Nat} {n M : Nat} (h : ∀ k, k < n → f k ≤ M) : fp_sm f n ≤ n * M := by
  induction n with
  | zero => exact Nat.zero_le _
  | succ n ih =>
    have h1 := ih (fun k hk => h k (by omega))
    have h2 := h n (by omega)
    show fp_sm f n + f n ≤ (n + 1) * M
    rw [Nat.add_mul]
    omega
-- the state's functions
def fp_top (b : Nat → Nat) : Nat := b 5 + (if b 1 = 0 then 2 else 1)
def fp_str (b : Nat → Nat) : Nat := if b 1 = 0 then 6 * b 3 else if b 1 = 1 then 12 * b 3 else b 4 + 8
def fp_cov (b : Nat → Nat) (c : Nat) : Bool := decide (b 2 ≤ c ∧ c < b 2 + b 3)
def fp_sup (lo up : Nat → Nat) : Bool := decide ((lo 2 < up 2 + up 3 ∧ up 2 < lo 2 + lo 3) ∧ fp_top lo = up 5)
def fp_hif (S : PS) (c k : Nat) : Nat := if fp_cov (sB S k) c then fp_top (sB S k) else 0
def fp_hi (S : PS) (c : Nat) : Nat := fp_mx (fp_hif S c) (sN S)
def fp_supf (S : PS) (u k : Nat) : Bool := fp_sup (sB S k) (sB S u)
def fp_nsup (S : PS) (u : Nat) : Nat := fp_ct (fp_supf S u) (sN S)
def fp_rkf (S : PS) (lo u k : Nat) : Bool := fp_sup (sB S k) (sB S u) && decide (sB S k 2 < sB S lo 2)
def fp_rk (S : PS) (lo u : Nat) : Nat := fp_ct (fp_rkf S lo u) (sN S)
/-- whether some number under n has q -/
def fp_any (q : Nat → Bool) : Nat → Bool
  | 0 => false
  | n + 1 => fp_any q n || q n
theorem fp_any_iff {q : Nat → Bool} {n : Nat} : fp_any q n = true ↔ ∃ k, k < n ∧ q k = true := by
  induction n with
  | zero => exact ⟨fun h => (by cases h), fun ⟨k, h, _⟩ => absurd h (Nat.not_lt_zero _)⟩
  | succ n ih =>
    show (fp_any q n || q n) = true ↔ _
    rw [Bool.or_eq_true, ih]
    constructor
    · rintro (⟨k, h1, h2⟩ | h)
      · exact ⟨k, by omega, h2⟩
      · exact ⟨n, by omega, h⟩
    · rintro ⟨k, h1, h2⟩
      by_cases hk : k = n
      · subst hk; exact Or.inr h2
      · exact Or.inl ⟨k, by omega, h2⟩
theorem fp_any_f {q : Nat → Bool} {n : Nat} (h : ∀ k, k < n → q k = false) : fp_any q n = false := by
  cases e : fp_any q n with
  | false => rfl
  | true =>
    obtain ⟨k, h1, h2⟩ := fp_any_iff.mp e
    rw [h k h1] at h2
    cases h2
def fp_und (S : PS) (k : Nat) : Bool := fp_any (fun o => fp_sup (sB S k) (sB S o)) (sN S)
/-- a place for a block -/
def fp_place (l w : Int) : Bool := decide (0 ≤ l ∧ l ≤ 11 ∧ 1 ≤ w ∧ w ≤ 5 ∧ l + w ≤ 12)
def fp_zbad (S : PS) (kd c : Nat) : Bool := decide (sZ S c = 2 ∨ sZ S c = 1 ∧ kd = 1)
def fp_zoned (S : PS) (kd l w : Nat) : Bool := !fp_any (fun i => fp_zbad S kd (l + i)) w
def fp_tor (S : PS) : Nat := fp_sm (sT S) 12
def fp_zby (c : Int) : Int := if c = 111 then 0 else if c = 113 then 1 else if c = 99 then 2 else -1
def fp_zlet (z : Nat) : Nat := if z = 0 then 111 else if z = 1 then 113 else 99
def fp_rch (S : PS) (t c : Nat) : Bool := decide (sT S t ≠ 0 ∧ (max t c - min t c ≤ 4)) && !fp_any (fun i => decide (fp_hi S t + 2 < fp_hi S (min t c + 1 + i))) (max t c - min t c - 1)
def fp_lit (S : PS) (c : Nat) : Bool := fp_any (fun t => fp_rch S t c) 12
def fp_nlit (S : PS) : Nat := fp_ct (fp_lit S) 12
theorem fp_top_b (b : Nat → Nat) : b 5 + 1 ≤ fp_top b ∧ fp_top b ≤ b 5 + 2 := by
  unfold fp_top
  split <;> omega
theorem fp_hif_le {S : PS} (h : fp_ok S) (c k : Nat) (hk : k < sN S) : fp_hif S c k ≤ 42 := by
  have h1 := h.2.2.1 k hk
  have h2 := fp_top_b (sB S k)
  unfold fp_hif
  split <;> omega
theorem fp_hi_le {S : PS} (h : fp_ok S) (c : Nat) : fp_hi S c ≤ 42 := fp_mx_le (fun k hk => fp_hif_le h c k hk)
theorem fp_any_t {q : Nat → Bool} {n k : Nat} (hk : k < n) (h : q k = true) : fp_any q n = true := fp_any_iff.mpr ⟨k, hk, h⟩
theorem fp_zoned_f {S : PS} {kd l w i : Nat} (hi : i < w) (h : fp_zbad S kd (l + i) = true) : fp_zoned S kd l w = false := by
  unfold fp_zoned
  rw [fp_any_t (k := i) hi h]
  rfl
theorem fp_zoned_t {S : PS} {kd l w : Nat} (h : ∀ i, i < w → fp_zbad S kd (l + i) = false) : fp_zoned S kd l w = true := by
  unfold fp_zoned
  rw [fp_any_f h]
  rfl
theorem fp_rch_t {S : PS} {t c : Nat} (h1 : sT S t ≠ 0 ∧ (max t c - min t c ≤ 4)) (h : ∀ j, j < max t c - min t c - 1 → ¬ (fp_hi S t + 2 < fp_hi S (min t c + 1 + j))) : fp_rch S t c = true := by
  unfold fp_rch
  rw [decide_eq_true h1, fp_any_f (fun j hj => decide_eq_false (h j hj))]
  rfl
theorem fp_rch_f1 {S : PS} {t c : Nat} (h1 : ¬ (sT S t ≠ 0 ∧ (max t c - min t c ≤ 4))) : fp_rch S t c = false := by
  unfold fp_rch
  rw [decide_eq_false h1]
  rfl
theorem fp_rch_f2 {S : PS} {t c j : Nat} (hj : j < max t c - min t c - 1) (h : fp_hi S t + 2 < fp_hi S (min t c + 1 + j)) : fp_rch S t c = false := by
  unfold fp_rch
  rw [fp_any_t (k := j) hj (decide_eq_true h)]
  simp
theorem fp_ME.nrm {G : fp_G} {ad : Nat → Nat} {sc sc2 : Nat → Int} {ar : Nat → Nat → Int} {H : Heap} (h : fp_ME G ad sc ar H) (e : fp_mf ad sc = fp_mf ad sc2) : fp_ME G ad sc2 ar H := ⟨by rw [← e]; exact h.1, h.2⟩
theorem fp_arrV {c : ClassId} {n : Nat} {f g : Nat → Value} (h : ∀ j, j < n → f j = g j) : arrV c n f = arrV c n g := by
  unfold arrV
  congr 1
  apply Array.ext
  · simp
  · intro i h1 h2
    have h3 : i < n := by simpa using h1
    simpa using h i h3
theorem fp_At.arr {G : fp_G} {H : Heap} {a n : Nat} {c : ClassId} {f g : Nat → Int32} (h : fp_At G H a (.inl (c, n, .inl f))) (e : ∀ j, j < n → f j = g j) : fp_At G H a (.inl (c, n, .inl g)) := by
  have h1 : H[a]? = some (vp_cell c (n, .inl f)) := h
  show H[a]? = some (vp_cell c (n, .inl g))
  rw [h1, vp_cell_i, vp_cell_i, fp_arrV (fun j hj => by rw [e j hj])]
theorem fp_ME.congr {G : fp_G} {ad : Nat → Nat} {sc : Nat → Int} {ar ar2 : Nat → Nat → Int} {H : Heap} (h : fp_ME G ad sc ar H) (e : ∀ k, 5 ≤ k → k < 17 → ∀ j, j < fp_ml k → ar k j = ar2 k j) : fp_ME G ad sc ar2 H := ⟨h.1, fun k h5 h17 => (h.2 k h5 h17).arr (fun j hj => by rw [e k h5 h17 j hj])⟩
/-- one array's places in a loop: at its start, and a step on -/
theorem fp_ME.st0 {G : fp_G} {ad : Nat → Nat} {sc : Nat → Int} {ar : Nat → Nat → Int} {H : Heap} (h : fp_ME G ad sc ar H) (i : Nat) {g : Nat → Int} (e : ∀ x, x < fp_ml i → ar i x = g x) : fp_ME G ad sc (va_up ar i g) H := h.congr (fun k _ _ j hj => by
  by_cases hk : k = i
  · subst hk; rw [va_up_self]; exact e j hj
  · rw [va_up_ne _ _ hk])
theorem fp_ME.st1 {G : fp_G} {ad : Nat → Nat} {sc : Nat → Int} {ar : Nat → Nat → Int} {H : Heap} {i j : Nat} {f g : Nat → Int} {z : Int} (h : fp_ME G ad sc (fp_ua (va_up ar i f) i j z) H) (e : ∀ x, x < fp_ml i → va_up f j z x = g x) : fp_ME G ad sc (va_up ar i g) H := h.congr (fun k _ _ x hx => by
  unfold fp_ua
  by_cases hk : k = i
  · subst hk; rw [va_up_self, va_up_self, va_up_self]; exact e x hx
  · rw [va_up_ne _ _ hk, va_up_ne _ _ hk, va_up_ne _ _ hk])
theorem fp_up_lt {f g : Nat → Int} {n : Nat} {z : Int} (h : ∀ x, x < n + 1 → f x = g x) (hz : g n = z) : ∀ x, x < n + 1 → va_up f n z x = g x := fun x hx => by
  by_cases e : x = n
  · subst e; rw [va_up_self]; exact hz.symm
  · rw [va_up_ne _ _ e]; exact h x hx
theorem fp_ME.uu {G : fp_G} {ad : Nat → Nat} {sc : Nat → Int} {ar : Nat → Nat → Int} {H : Heap} {i : Nat} {f g : Nat → Int} (h : fp_ME G ad sc (va_up (va_up ar i f) i g) H) : fp_ME G ad sc (va_up ar i g) H := by
  rw [bx_uu] at h
  exact h
