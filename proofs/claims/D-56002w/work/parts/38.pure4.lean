/-! PLAIN NUMBERS: programs -/
set_option maxRecDepth 100000
section FPB
variable {p : Program} {l : Launch} {e : Env} {R : Room} {s : State} {m : MethodId} {args : Array Value} {below : List Frame} {meth : Method} {c : Code} {H : Heap} {locs : List Loc} {cells slots : Nat} {Q : State → Prop}
variable {cc : ByteArray} {pc : Nat} {ls : Array Slot} {rest : List Value}
theorem bI_and (a b : Bool) : iI (bI a) &&& iI (bI b) = iI (bI (a && b)) := by cases a <;> cases b <;> decide
theorem bI_or (a b : Bool) : iI (bI a) ||| iI (bI b) = iI (bI (a || b)) := by cases a <;> cases b <;> decide
theorem r_iandB {a b : Bool} (hx : p.tables.exec = Jvm.exec) (hb : c.code = cc) (hd : decode cc pc = .ok (.iand, 1)) (k : W p l e R s m args below meth c H locs cells slots Q (F0 m (pc + 1) ls (.int (iI (bI (a && b))) :: rest))) : W p l e R s m args below meth c H locs cells slots Q (F0 m pc ls (.int (iI (bI b)) :: .int (iI (bI a)) :: rest)) := by
  refine lv_iand hx hb hd ?_
  rw [bI_and]
  exact k
theorem r_iorB {a b : Bool} (hx : p.tables.exec = Jvm.exec) (hb : c.code = cc) (hd : decode cc pc = .ok (.ior, 1)) (k : W p l e R s m args below meth c H locs cells slots Q (F0 m (pc + 1) ls (.int (iI (bI (a || b))) :: rest))) : W p l e R s m args below meth c H locs cells slots Q (F0 m pc ls (.int (iI (bI b)) :: .int (iI (bI a)) :: rest)) := by
  refine lv_ior hx hb hd ?_
  rw [bI_or]
  exact k
end FPB
/-- the sign at a place, -1 at the end -/
def fp_sg (tx : Nat → Nat) (n h : Nat) : Int := if h < n then (tx h : Int) else -1
theorem fp_sg_b {tx : Nat → Nat} {n : Nat} (h : ∀ i, i < n → tx i < 256) (k : Nat) : -1 ≤ fp_sg tx n k ∧ fp_sg tx n k < 256 := by
  unfold fp_sg
  split
  · have := h k (by assumption)
    omega
  · omega
theorem fp_sg_lt {tx : Nat → Nat} {n k : Nat} {c : Int} (h : fp_sg tx n k = c) (hc : 0 ≤ c) : k < n := by
  unfold fp_sg at h
  split at h
  · assumption
  · omega
/-- a sign that must stand at a place: the place behind, and whether it's wrong -/
def fp_mkh (tx : Nat → Nat) (n h : Nat) (c : Int) : Nat := if fp_sg tx n h = c then h + 1 else h
def fp_mkw (tx : Nat → Nat) (n h : Nat) (c : Int) : Bool := decide (fp_sg tx n h ≠ c)
def fp_isd (tx : Nat → Nat) (n h : Nat) : Bool := decide (48 ≤ fp_sg tx n h ∧ fp_sg tx n h ≤ 57)
/-- how many digits stand at a place, up to a number -/
def fp_dct (tx : Nat → Nat) (n h : Nat) : Nat → Nat
  | 0 => 0
  | q + 1 => if fp_dct tx n h q = q ∧ fp_isd tx n (h + q) = true then q + 1 else fp_dct tx n h q
/-- the number of the first k digits at a place -/
def fp_dvl (tx : Nat → Nat) (n h : Nat) : Nat → Int
  | 0 => 0
  | k + 1 => 10 * fp_dvl tx n h k + fp_sg tx n (h + k) - 48
theorem fp_dct_le (tx : Nat → Nat) (n h q : Nat) : fp_dct tx n h q ≤ q := by
  induction q with
  | zero => exact Nat.le_refl _
  | succ q ih =>
    show (if fp_dct tx n h q = q ∧ fp_isd tx n (h + q) = true then q + 1 else fp_dct tx n h q) ≤ q + 1
    split <;> omega
theorem fp_dct_eq {tx : Nat → Nat} {n h q k : Nat} (hk : k ≤ q) (h1 : ∀ i, i < k → fp_isd tx n (h + i) = true) (h2 : k = q ∨ fp_isd tx n (h + k) = false) : fp_dct tx n h q = k := by
  induction q generalizing k with
  | zero => rw [show k = 0 by omega]; rfl
  | succ q ih =>
    show (if fp_dct tx n h q = q ∧ fp_isd tx n (h + q) = true then q + 1 else fp_dct tx n h q) = k
    by_cases hkq : k = q + 1
    · subst hkq
      rw [ih (k := q) (Nat.le_refl _) (fun i hi => h1 i (by omega)) (Or.inl rfl), if_pos ⟨rfl, h1 q (by omega)⟩]
    · have h3 : fp_isd tx n (h + k) = false := by
        rcases h2 with h2 | h2
        · exact absurd h2 hkq
        · exact h2
      rw [ih (k := k) (by omega) h1 (Or.inr h3)]
      by_cases hk2 : k = q
      · subst hk2
        rw [if_neg (fun z => by rw [h3] at z; cases z.2)]
      · rw [if_neg (fun z => hk2 z.1)]
theorem fp_dvl_b {tx : Nat → Nat} {n h : Nat} (k : Nat) (h1 : ∀ i, i < k → fp_isd tx n (h + i) = true) (hk : k ≤ 2) : 0 ≤ fp_dvl tx n h k ∧ fp_dvl tx n h k ≤ 99 ∧ (k ≤ 1 → fp_dvl tx n h k ≤ 9) := by
  have g : ∀ i, i < k → 48 ≤ fp_sg tx n (h + i) ∧ fp_sg tx n (h + i) ≤ 57 := fun i hi => of_decide_eq_true (h1 i hi)
  rcases (show k = 0 ∨ k = 1 ∨ k = 2 by omega) with rfl | rfl | rfl
  · exact ⟨Int.le_refl _, show (0 : Int) ≤ 99 by decide, fun _ => show (0 : Int) ≤ 9 by decide⟩
  · have a := g 0 (by omega)
    show 0 ≤ 10 * 0 + fp_sg tx n (h + 0) - 48 ∧ 10 * 0 + fp_sg tx n (h + 0) - 48 ≤ 99 ∧ (1 ≤ 1 → 10 * 0 + fp_sg tx n (h + 0) - 48 ≤ 9)
    omega
  · have a := g 0 (by omega)
    have b := g 1 (by omega)
    show 0 ≤ 10 * (10 * 0 + fp_sg tx n (h + 0) - 48) + fp_sg tx n (h + 1) - 48 ∧ 10 * (10 * 0 + fp_sg tx n (h + 0) - 48) + fp_sg tx n (h + 1) - 48 ≤ 99 ∧ (2 ≤ 1 → 10 * (10 * 0 + fp_sg tx n (h + 0) - 48) + fp_sg tx n (h + 1) - 48 ≤ 9)
    omega
theorem fp_zby_sg {tx : Nat → Nat} {n h : Nat} (hq : n ≤ h) : fp_zby (fp_sg tx n h) = -1 := by
  unfold fp_sg
  rw [if_neg (by omega)]
  rfl
-- the words of the programs
def fp_wdL : List Nat := [102, 111, 97, 109, 32, 98, 111, 97, 114, 100, 32, 98, 97, 103, 32, 114, 101, 109, 111, 118, 101, 32, 122, 111, 110, 101, 32, 116, 111, 114, 99, 104, 32, 115, 110, 117, 102, 102, 32]
def fp_waL : List Nat := [0, 5, 11, 15, 22, 27, 33, 39]
def fp_wd (i : Nat) : Nat := fp_wdL.getD i 0
def fp_wa (w : Nat) : Nat := fp_waL.getD w 0
def fp_wl (w : Nat) : Nat := fp_wa (w + 1) - fp_wa w
theorem fp_wa_b {w : Nat} (h : w < 7) : fp_wa w < fp_wa (w + 1) ∧ fp_wa (w + 1) ≤ 39 ∧ fp_wl w ≤ 7 ∧ 4 ≤ fp_wl w := by
  rcases (show w = 0 ∨ w = 1 ∨ w = 2 ∨ w = 3 ∨ w = 4 ∨ w = 5 ∨ w = 6 by omega) with rfl | rfl | rfl | rfl | rfl | rfl | rfl <;> decide
theorem fp_wd_b {i : Nat} (h : i < 39) : 32 ≤ fp_wd i ∧ fp_wd i < 127 := by
  have h2 : (List.range 39).all (fun i => decide (32 ≤ fp_wd i ∧ fp_wd i < 127)) = true := by decide
  exact co_dec h2 h
/-- the first m signs of the word w stand at h -/
def fp_wm (tx : Nat → Nat) (n h w : Nat) : Nat → Bool
  | 0 => true
  | m + 1 => fp_wm tx n h w m && decide (fp_wa w + m < fp_wa (w + 1) ∧ (fp_wd (fp_wa w + m) : Int) = fp_sg tx n (h + m))
theorem fp_wm_s {tx : Nat → Nat} {n h w m : Nat} : fp_wm tx n h w (m + 1) = true ↔ fp_wm tx n h w m = true ∧ fp_wa w + m < fp_wa (w + 1) ∧ (fp_wd (fp_wa w + m) : Int) = fp_sg tx n (h + m) := by
  show (fp_wm tx n h w m && decide _) = true ↔ _
  rw [Bool.and_eq_true, decide_eq_true_iff]
theorem fp_wm_mono {tx : Nat → Nat} {n h w m k : Nat} (h1 : fp_wm tx n h w m = true) (hk : k ≤ m) : fp_wm tx n h w k = true := by
  induction m with
  | zero => rw [show k = 0 by omega]; rfl
  | succ m ih =>
    by_cases e : k = m + 1
    · rw [e]; exact h1
    · exact ih (fp_wm_s.mp h1).1 (by omega)
theorem fp_wm_le {tx : Nat → Nat} {n h w m : Nat} (h1 : fp_wm tx n h w m = true) (hw : w < 7) : m ≤ fp_wl w := by
  cases m with
  | zero => exact Nat.zero_le _
  | succ m =>
    have := (fp_wm_s.mp h1).2.1
    unfold fp_wl
    omega
theorem fp_wm_tn {tx : Nat → Nat} {n h w m : Nat} (h1 : fp_wm tx n h w m = true) (hw : w < 7) (hh : h ≤ n) : h + m ≤ n := by
  cases m with
  | zero => exact hh
  | succ m =>
    obtain ⟨-, h2, h3⟩ := fp_wm_s.mp h1
    have hb := fp_wa_b hw
    have hc := fp_wd_b (i := fp_wa w + m) (by omega)
    have := fp_sg_lt h3.symm (by omega)
    omega
theorem fp_wm_f {tx : Nat → Nat} {n h w m k : Nat} (h1 : fp_wm tx n h w m = false) (hk : m ≤ k) : fp_wm tx n h w k = false := by
  cases e : fp_wm tx n h w k with
  | false => rfl
  | true => rw [fp_wm_mono e hk] at h1; cases h1
/-- which word ends behind m signs: the last, -1 if none does -/
def fp_wsl (tx : Nat → Nat) (n h m : Nat) : Nat → Int
  | 0 => -1
  | w + 1 => if fp_wm tx n h w m = true ∧ fp_wa w + m = fp_wa (w + 1) then (w : Int) else fp_wsl tx n h m w
theorem fp_wsl_s {tx : Nat → Nat} {n h m q : Nat} : (fp_wsl tx n h m q = -1 ∧ ∀ w, w < q → ¬ (fp_wm tx n h w m = true ∧ fp_wa w + m = fp_wa (w + 1))) ∨ ∃ w : Nat, w < q ∧ fp_wsl tx n h m q = (w : Int) ∧ fp_wm tx n h w m = true ∧ fp_wa w + m = fp_wa (w + 1) := by
  induction q with
  | zero => exact Or.inl ⟨rfl, fun w hw => absurd hw (Nat.not_lt_zero _)⟩
  | succ q ih =>
    by_cases c : fp_wm tx n h q m = true ∧ fp_wa q + m = fp_wa (q + 1)
    · exact Or.inr ⟨q, by omega, if_pos c, c.1, c.2⟩
    · have e : fp_wsl tx n h m (q + 1) = fp_wsl tx n h m q := if_neg c
      rw [e]
      rcases ih with ⟨h1, h2⟩ | ⟨w, h1, h2⟩
      · refine Or.inl ⟨h1, fun w hw => ?_⟩
        by_cases e2 : w = q
        · rw [e2]; exact c
        · exact h2 w (by omega)
      · exact Or.inr ⟨w, by omega, h2⟩
theorem fp_wsl_b (tx : Nat → Nat) (n h m q : Nat) : -1 ≤ fp_wsl tx n h m q ∧ fp_wsl tx n h m q < (q : Int) := by
  rcases fp_wsl_s (tx := tx) (n := n) (h := h) (m := m) (q := q) with ⟨h1, -⟩ | ⟨w, h1, h2, -⟩ <;> omega
/-- the search for a word, behind m signs -/
def fp_wst (tx : Nat → Nat) (n h m : Nat) (is wz : Int) (hp : Nat) : Prop :=
  (is = -1 ∧ wz = 0 ∧ hp = h + m ∧ (m = 0 ∨ ∃ w, w < 7 ∧ fp_wm tx n h w m = true) ∧ ∀ w, w < 7 → fp_wl w ≤ m → fp_wm tx n h w (fp_wl w) = false) ∨
  (∃ w : Nat, w < 7 ∧ is = (w : Int) ∧ wz = 0 ∧ hp = h + m ∧ m = fp_wl w ∧ fp_wm tx n h w m = true) ∨
  (is = -1 ∧ wz = 1 ∧ 0 < m ∧ hp = h + (m - 1) ∧ (m - 1 = 0 ∨ ∃ w, w < 7 ∧ fp_wm tx n h w (m - 1) = true) ∧ (∀ w, w < 7 → fp_wm tx n h w m = false) ∧ ∀ w, w < 7 → fp_wm tx n h w (fp_wl w) = false)
theorem fp_wst.zero (tx : Nat → Nat) (n h : Nat) : fp_wst tx n h 0 (-1) 0 h := Or.inl ⟨rfl, rfl, rfl, Or.inl rfl, fun w hw hl => by
  have := fp_wa_b hw
  omega⟩
theorem fp_wst.bd {tx : Nat → Nat} {n h m : Nat} {is wz : Int} {hp : Nat} (s : fp_wst tx n h m is wz hp) (hh : h ≤ n) : -1 ≤ is ∧ is < 7 ∧ 0 ≤ wz ∧ wz ≤ 1 ∧ hp ≤ n := by
  rcases s with ⟨h1, h2, h3, h4, -⟩ | ⟨w, h1, h2, h3, h4, h5, h6⟩ | ⟨h1, h2, h3, h4, h5, -⟩
  · rcases h4 with h4 | ⟨w, h4, h5⟩
    · omega
    · have := fp_wm_tn h5 h4 hh
      omega
  · have := fp_wm_tn h6 h1 hh
    omega
  · rcases h5 with h5 | ⟨w, h5, h6⟩
    · omega
    · have := fp_wm_tn h6 h5 hh
      omega
theorem fp_wst.run {tx : Nat → Nat} {n h m : Nat} {is wz : Int} {hp : Nat} (s : fp_wst tx n h m is wz hp) (hi : is < 0) (hz : wz = 0) : m < 7 ∧ hp = h + m ∧ (m = 0 ∨ ∃ w, w < 7 ∧ fp_wm tx n h w m = true) ∧ ∀ w, w < 7 → fp_wl w ≤ m → fp_wm tx n h w (fp_wl w) = false := by
  rcases s with ⟨h1, h2, h3, h4, h5⟩ | ⟨w, h1, h2, -⟩ | ⟨h1, h2, -⟩
  · refine ⟨?_, h3, h4, h5⟩
    rcases h4 with h4 | ⟨w, h4, h6⟩
    · omega
    · have a := fp_wm_le h6 h4
      have b := fp_wa_b h4
      by_cases e : fp_wl w ≤ m
      · have d := h5 w h4 e
        rw [show fp_wl w = m by omega] at d
        rw [d] at h6
        cases h6
      · omega
  · omega
  · omega
theorem fp_wst.step {tx : Nat → Nat} {n h m : Nat} {is wz : Int} {hp : Nat} (s : fp_wst tx n h m is wz hp) (hi : is < 0) (hz : wz = 0) :
    (fp_any (fun w => fp_wm tx n h w (m + 1)) 7 = true → fp_wst tx n h (m + 1) (fp_wsl tx n h (m + 1) 7) 0 (h + m + 1)) ∧ (fp_any (fun w => fp_wm tx n h w (m + 1)) 7 = false → fp_wst tx n h (m + 1) (fp_wsl tx n h (m + 1) 7) 1 (h + m)) := by
  obtain ⟨h1, h2, h3, h4⟩ := s.run hi hz
  constructor
  · intro ha
    rcases fp_wsl_s (tx := tx) (n := n) (h := h) (m := m + 1) (q := 7) with ⟨e1, e2⟩ | ⟨w, e0, e1, e2, e3⟩
    · refine Or.inl ⟨e1, rfl, by omega, Or.inr (fp_any_iff.mp ha), fun w hw hl => ?_⟩
      by_cases e : fp_wl w ≤ m
      · exact h4 w hw e
      · have hb := fp_wa_b hw
        have e4 := e2 w hw
        have e5 : fp_wl w = m + 1 := by omega
        rw [e5]
        cases e6 : fp_wm tx n h w (m + 1) with
        | false => rfl
        | true => exact absurd ⟨e6, by unfold fp_wl at e5; omega⟩ e4
    · have hb := fp_wa_b e0
      exact Or.inr (Or.inl ⟨w, e0, e1, rfl, by omega, by unfold fp_wl; omega, e2⟩)
  · intro ha
    have hf : ∀ w, w < 7 → fp_wm tx n h w (m + 1) = false := fun w hw => by
      cases e : fp_wm tx n h w (m + 1) with
      | false => rfl
      | true => rw [fp_any_t (q := fun w => fp_wm tx n h w (m + 1)) hw e] at ha; cases ha
    have e1 : fp_wsl tx n h (m + 1) 7 = -1 := by
      rcases fp_wsl_s (tx := tx) (n := n) (h := h) (m := m + 1) (q := 7) with ⟨e1, e2⟩ | ⟨w, e0, e1, e2, e3⟩
      · exact e1
      · rw [hf w e0] at e2; cases e2
    refine Or.inr (Or.inr ⟨e1, rfl, by omega, by omega, h3, hf, fun w hw => ?_⟩)
    by_cases e : fp_wl w ≤ m
    · exact h4 w hw e
    · exact fp_wm_f (hf w hw) (by omega)
theorem fp_wf_s {tx : Nat → Nat} {n h m w : Nat} {f : Nat → Int} {z : Int} (hf : ∀ j, j < 7 → f j = bI (if j < w then fp_wm tx n h j (m + 1) else fp_wm tx n h j m)) (hz : z = bI (fp_wm tx n h w (m + 1))) : ∀ j, j < 7 → va_up f w z j = bI (if j < w + 1 then fp_wm tx n h j (m + 1) else fp_wm tx n h j m) := fun j hj => by
  by_cases e : j = w
  · subst e
    rw [va_up_self, if_pos (by omega), hz]
  · rw [va_up_ne _ _ e, hf j hj]
    by_cases h2 : j < w
    · rw [if_pos h2, if_pos (show j < w + 1 by omega)]
    · rw [if_neg h2, if_neg (show ¬ j < w + 1 by omega)]
