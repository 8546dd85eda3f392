/-! PLAIN NUMBERS: commands and what they do -/
/-- the word at a place, 7 if there is none -/
def fp_wf (tx : Nat → Nat) (n h : Nat) : Nat := fp_fi (fun w => fp_wm tx n h w (fp_wl w)) 7
/-- how many signs at a place begin a word -/
def fp_wq (tx : Nat → Nat) (n h : Nat) : Nat := fp_ct (fun m => fp_any (fun w => fp_wm tx n h w (m + 1)) 7) 8
theorem fp_wd_free {w x : Nat} (hw : w < 7) (hx : x < 7) (h0 : fp_wd (fp_wa w) = fp_wd (fp_wa x)) (h1 : fp_wd (fp_wa w + 1) = fp_wd (fp_wa x + 1)) : w = x := by
  have h2 : (List.range 7).all (fun w => (List.range 7).all (fun x => decide (fp_wd (fp_wa w) = fp_wd (fp_wa x) → fp_wd (fp_wa w + 1) = fp_wd (fp_wa x + 1) → w = x))) = true := by decide +kernel
  have h3 := List.all_eq_true.mp h2 w (List.mem_range.mpr hw)
  have h4 := List.all_eq_true.mp h3 x (List.mem_range.mpr hx)
  exact of_decide_eq_true h4 h0 h1
theorem fp_wm_one {tx : Nat → Nat} {n h w x : Nat} (hw : w < 7) (hx : x < 7) (h1 : fp_wm tx n h w (fp_wl w) = true) (h2 : fp_wm tx n h x (fp_wl x) = true) : w = x := by
  have a := fp_wa_b hw
  have b := fp_wa_b hx
  have a2 := fp_wm_mono h1 (show 2 ≤ fp_wl w by omega)
  have b2 := fp_wm_mono h2 (show 2 ≤ fp_wl x by omega)
  obtain ⟨a3, -, a4⟩ := fp_wm_s.mp a2
  obtain ⟨-, -, a5⟩ := fp_wm_s.mp a3
  obtain ⟨b3, -, b4⟩ := fp_wm_s.mp b2
  obtain ⟨-, -, b5⟩ := fp_wm_s.mp b3
  exact fp_wd_free hw hx (by have := a5.trans b5.symm; simp only [Nat.add_zero] at this; omega) (by omega)
theorem fp_wf_eq {tx : Nat → Nat} {n h w : Nat} (hw : w < 7) (h1 : fp_wm tx n h w (fp_wl w) = true) : fp_wf tx n h = w := by
  refine fp_fi_eq hw h1 (fun j hj => ?_)
  cases e : fp_wm tx n h j (fp_wl j) with
  | false => rfl
  | true => exact absurd (fp_wm_one (by omega) hw e h1) (by omega)
theorem fp_wf_7 {tx : Nat → Nat} {n h : Nat} (h1 : ∀ w, w < 7 → fp_wm tx n h w (fp_wl w) = false) : fp_wf tx n h = 7 := fp_fi_n h1
theorem fp_ct_down {q : Nat → Bool} {k n : Nat} (hk : k ≤ n) (h1 : ∀ i, i < k → q i = true) (h2 : ∀ i, k ≤ i → i < n → q i = false) : fp_ct q n = k := by
  induction n with
  | zero => rw [show k = 0 by omega]; rfl
  | succ n ih =>
    show fp_ct q n + _ = k
    by_cases e : k = n + 1
    · subst e
      have : ∀ m, m ≤ n + 1 → fp_ct q m = m := by
        intro m hm
        induction m with
        | zero => rfl
        | succ m ihm =>
          show fp_ct q m + _ = m + 1
          rw [ihm (by omega), h1 m (by omega)]
          rfl
      exact this (n + 1) (Nat.le_refl _)
    · rw [ih (by omega) (fun i hi h3 => h2 i hi (by omega)), h2 n (by omega) (by omega)]
      rfl
theorem fp_wq_eq {tx : Nat → Nat} {n h q : Nat} (h1 : q = 0 ∨ ∃ w, w < 7 ∧ fp_wm tx n h w q = true) (h2 : ∀ w, w < 7 → fp_wm tx n h w (q + 1) = false) : fp_wq tx n h = q := by
  have hq : q ≤ 8 := by
    rcases h1 with h1 | ⟨w, h1, h3⟩
    · omega
    · have a := fp_wm_le h3 h1
      have b := fp_wa_b h1
      omega
  refine fp_ct_down hq (fun i hi => ?_) (fun i hi hn => ?_)
  · rcases h1 with h1 | ⟨w, h1, h3⟩
    · omega
    · exact fp_any_t (q := fun w => fp_wm tx n h w (i + 1)) h1 (fp_wm_mono h3 (by omega))
  · cases e : fp_any (fun w => fp_wm tx n h w (i + 1)) 7 with
    | false => rfl
    | true =>
      obtain ⟨w, h3, h4⟩ := fp_any_iff.mp e
      rw [fp_wm_f (h2 w h3) (by omega)] at h4
      cases h4
/-- a blank and a digit: is it wrong, where it ends, the digit -/
def fp_db (tx : Nat → Nat) (n h : Nat) : Bool × Nat × Int :=
  if fp_sg tx n h ≠ 32 then (true, h, 0) else if fp_dct tx n (h + 1) 1 = 0 then (true, h + 1, 0) else (false, h + 1 + fp_dct tx n (h + 1) 1, fp_dvl tx n (h + 1) (fp_dct tx n (h + 1) 1))
/-- a blank and the letter of a zone -/
def fp_lb (tx : Nat → Nat) (n h : Nat) : Bool × Nat × Int :=
  if fp_sg tx n h ≠ 32 then (true, h, 0) else if fp_zby (fp_sg tx n (h + 1)) < 0 then (true, h + 1, 0) else (false, h + 2, fp_sg tx n (h + 1))
abbrev FC := Bool × Nat × Nat × Int × Int × Int
/-- what stands behind a word and its number -/
def fp_ag (tx : Nat → Nat) (n w : Nat) (one : Int) (h : Nat) : FC :=
  if w < 3 then
    (if (fp_db tx n h).1 = true then (true, (fp_db tx n h).2.1, 0, 0, 0, 0)
     else if (fp_db tx n (fp_db tx n h).2.1).1 = true then (true, (fp_db tx n (fp_db tx n h).2.1).2.1, 0, 0, 0, 0)
     else (false, (fp_db tx n (fp_db tx n h).2.1).2.1, w, one, (fp_db tx n h).2.2, (fp_db tx n (fp_db tx n h).2.1).2.2))
  else if w = 4 then (if (fp_lb tx n h).1 = true then (true, (fp_lb tx n h).2.1, 0, 0, 0, 0) else (false, (fp_lb tx n h).2.1, w, one, (fp_lb tx n h).2.2, 0))
  else (false, h, w, one, 0, 0)
/-- the command at a place: is it wrong, where it ends, its word and numbers -/
def fp_cmd (tx : Nat → Nat) (n h : Nat) : FC :=
  if fp_wf tx n h = 7 then (true, h + fp_wq tx n h, 0, 0, 0, 0)
  else if fp_dct tx n (h + fp_wl (fp_wf tx n h)) 2 = 0 then (true, h + fp_wl (fp_wf tx n h), 0, 0, 0, 0)
  else fp_ag tx n (fp_wf tx n h) (fp_dvl tx n (h + fp_wl (fp_wf tx n h)) (fp_dct tx n (h + fp_wl (fp_wf tx n h)) 2)) (h + fp_wl (fp_wf tx n h) + fp_dct tx n (h + fp_wl (fp_wf tx n h)) 2)
theorem fp_db_1 {tx : Nat → Nat} {n h : Nat} (a : fp_sg tx n h ≠ 32) : fp_db tx n h = (true, h, 0) := if_pos a
theorem fp_db_2 {tx : Nat → Nat} {n h : Nat} (a : fp_sg tx n h = 32) (b : fp_dct tx n (h + 1) 1 = 0) : fp_db tx n h = (true, h + 1, 0) := (if_neg (fun z => z a)).trans (if_pos b)
theorem fp_db_3 {tx : Nat → Nat} {n h : Nat} (a : fp_sg tx n h = 32) (b : 0 < fp_dct tx n (h + 1) 1) : fp_db tx n h = (false, h + 1 + fp_dct tx n (h + 1) 1, fp_dvl tx n (h + 1) (fp_dct tx n (h + 1) 1)) := (if_neg (fun z => z a)).trans (if_neg (by omega))
theorem fp_lb_1 {tx : Nat → Nat} {n h : Nat} (a : fp_sg tx n h ≠ 32) : fp_lb tx n h = (true, h, 0) := if_pos a
theorem fp_lb_2 {tx : Nat → Nat} {n h : Nat} (a : fp_sg tx n h = 32) (b : fp_zby (fp_sg tx n (h + 1)) < 0) : fp_lb tx n h = (true, h + 1, 0) := (if_neg (fun z => z a)).trans (if_pos b)
theorem fp_lb_3 {tx : Nat → Nat} {n h : Nat} (a : fp_sg tx n h = 32) (b : 0 ≤ fp_zby (fp_sg tx n (h + 1))) : fp_lb tx n h = (false, h + 2, fp_sg tx n (h + 1)) := (if_neg (fun z => z a)).trans (if_neg (by omega))
theorem fp_ag_1 {tx : Nat → Nat} {n w h e : Nat} {one x : Int} (a : w < 3) (b : fp_db tx n h = (true, e, x)) : fp_ag tx n w one h = (true, e, 0, 0, 0, 0) := by
  unfold fp_ag
  rw [if_pos a, b]
  exact if_pos rfl
theorem fp_ag_2 {tx : Nat → Nat} {n w h h2 e : Nat} {one x y : Int} (a : w < 3) (b : fp_db tx n h = (false, h2, x)) (c : fp_db tx n h2 = (true, e, y)) : fp_ag tx n w one h = (true, e, 0, 0, 0, 0) := by
  unfold fp_ag
  rw [if_pos a, b]
  refine (if_neg Bool.false_ne_true).trans ?_
  dsimp only
  rw [c]
  exact if_pos rfl
theorem fp_ag_3 {tx : Nat → Nat} {n w h h2 e : Nat} {one x y : Int} (a : w < 3) (b : fp_db tx n h = (false, h2, x)) (c : fp_db tx n h2 = (false, e, y)) : fp_ag tx n w one h = (false, e, w, one, x, y) := by
  unfold fp_ag
  rw [if_pos a, b]
  refine (if_neg Bool.false_ne_true).trans ?_
  dsimp only
  rw [c]
  exact if_neg Bool.false_ne_true
theorem fp_ag_4 {tx : Nat → Nat} {n w h e : Nat} {one x : Int} (a : w = 4) (b : fp_lb tx n h = (true, e, x)) : fp_ag tx n w one h = (true, e, 0, 0, 0, 0) := by
  unfold fp_ag
  rw [if_neg (by omega), if_pos a, b]
  exact if_pos rfl
theorem fp_ag_5 {tx : Nat → Nat} {n w h e : Nat} {one x : Int} (a : w = 4) (b : fp_lb tx n h = (false, e, x)) : fp_ag tx n w one h = (false, e, w, one, x, 0) := by
  unfold fp_ag
  rw [if_neg (by omega), if_pos a, b]
  exact if_neg Bool.false_ne_true
theorem fp_ag_6 {tx : Nat → Nat} {n w h : Nat} {one : Int} (a : ¬ w < 3) (b : w ≠ 4) : fp_ag tx n w one h = (false, h, w, one, 0, 0) := by
  unfold fp_ag
  rw [if_neg a, if_neg b]
theorem fp_cmd_1 {tx : Nat → Nat} {n h q : Nat} (a : ∀ w, w < 7 → fp_wm tx n h w (fp_wl w) = false) (h1 : q = 0 ∨ ∃ w, w < 7 ∧ fp_wm tx n h w q = true) (h2 : ∀ w, w < 7 → fp_wm tx n h w (q + 1) = false) : fp_cmd tx n h = (true, h + q, 0, 0, 0, 0) := by
  unfold fp_cmd
  rw [if_pos (fp_wf_7 a), fp_wq_eq h1 h2]
theorem fp_cmd_2 {tx : Nat → Nat} {n h w : Nat} (hw : w < 7) (a : fp_wm tx n h w (fp_wl w) = true) (d : fp_dct tx n (h + fp_wl w) 2 = 0) : fp_cmd tx n h = (true, h + fp_wl w, 0, 0, 0, 0) := by
  unfold fp_cmd
  rw [fp_wf_eq hw a, if_neg (by omega), if_pos d]
theorem fp_cmd_3 {tx : Nat → Nat} {n h w : Nat} (hw : w < 7) (a : fp_wm tx n h w (fp_wl w) = true) (d : 0 < fp_dct tx n (h + fp_wl w) 2) : fp_cmd tx n h = fp_ag tx n w (fp_dvl tx n (h + fp_wl w) (fp_dct tx n (h + fp_wl w) 2)) (h + fp_wl w + fp_dct tx n (h + fp_wl w) 2) := by
  unfold fp_cmd
  rw [fp_wf_eq hw a, if_neg (by omega), if_neg (by omega)]
/-- what a command does: what is thrown, and the state behind it -/
def fp_do (S : PS) (w : Nat) (a b c : Int) : Nat × PS :=
  if w < 3 then (fp_plc S w a b c, fp_add S w a.toNat b.toNat c.toNat)
  else if w = 3 then (if fp_fnd S a = sN S then 1 else if fp_und S (fp_fnd S a) = true then 2 else 0, fp_del S (fp_fnd S a))
  else if w = 4 then (if ¬ (0 ≤ a ∧ a ≤ 11) then 1 else if fp_zby b < 0 then 2 else 0, fp_setz S a.toNat (fp_zby b).toNat)
  else (if ¬ (0 ≤ a ∧ a ≤ 11) then 1 else if sT S a.toNat = (if w = 5 then 1 else 0) then 2 else 0, fp_sett S a.toNat (if w = 5 then 1 else 0))
/-- the commands behind a command that ends at h: they, whether the program is wrong, and where it ends -/
def fp_prt (tx : Nat → Nat) (n : Nat) : Nat → Nat → List (Nat × Int × Int × Int) × Bool × Nat
  | 0, h => ([], false, h)
  | f + 1, h =>
    if h < n then
      (if fp_sg tx n h = 59 then
        (if (fp_cmd tx n (h + 1)).1 = true then ([(fp_cmd tx n (h + 1)).2.2], true, (fp_cmd tx n (h + 1)).2.1)
         else ((fp_cmd tx n (h + 1)).2.2 :: (fp_prt tx n f (fp_cmd tx n (h + 1)).2.1).1, (fp_prt tx n f (fp_cmd tx n (h + 1)).2.1).2))
       else ([], true, h))
    else ([], false, h)
/-- a program: its commands, whether it's wrong, and where it ends -/
def fp_prg (tx : Nat → Nat) (n : Nat) : List (Nat × Int × Int × Int) × Bool × Nat :=
  if (fp_cmd tx n 0).1 = true then ([(fp_cmd tx n 0).2.2], true, (fp_cmd tx n 0).2.1)
  else ((fp_cmd tx n 0).2.2 :: (fp_prt tx n n (fp_cmd tx n 0).2.1).1, (fp_prt tx n n (fp_cmd tx n 0).2.1).2)
/-- what a list of commands does: how many are done, what is thrown, the state -/
def fp_exe : List (Nat × Int × Int × Int) → PS → Nat × Nat × PS
  | [], S => (0, 0, S)
  | c :: l, S => if (fp_do S c.1 c.2.1 c.2.2.1 c.2.2.2).1 = 0 then ((fp_exe l (fp_do S c.1 c.2.1 c.2.2.1 c.2.2.2).2).1 + 1, (fp_exe l (fp_do S c.1 c.2.1 c.2.2.1 c.2.2.2).2).2) else (0, (fp_do S c.1 c.2.1 c.2.2.1 c.2.2.2).1, S)
theorem fp_dct_all (tx : Nat → Nat) (n h q : Nat) : ∀ i, i < fp_dct tx n h q → fp_isd tx n (h + i) = true := by
  induction q with
  | zero => exact fun i hi => absurd hi (Nat.not_lt_zero _)
  | succ q ih =>
    show ∀ i, i < (if fp_dct tx n h q = q ∧ fp_isd tx n (h + q) = true then q + 1 else fp_dct tx n h q) → _
    intro i hi
    by_cases c : fp_dct tx n h q = q ∧ fp_isd tx n (h + q) = true
    · rw [if_pos c] at hi
      by_cases e : i = q
      · rw [e]; exact c.2
      · exact ih i (by omega)
    · rw [if_neg c] at hi
      exact ih i hi
theorem fp_dvl_2 (tx : Nat → Nat) (n h : Nat) : 0 ≤ fp_dvl tx n h (fp_dct tx n h 2) ∧ fp_dvl tx n h (fp_dct tx n h 2) ≤ 99 := by
  have a := fp_dvl_b (fp_dct tx n h 2) (fp_dct_all tx n h 2) (fp_dct_le _ _ _ _)
  exact ⟨a.1, a.2.1⟩
theorem fp_dvl_1 (tx : Nat → Nat) (n h : Nat) : 0 ≤ fp_dvl tx n h (fp_dct tx n h 1) ∧ fp_dvl tx n h (fp_dct tx n h 1) ≤ 9 := by
  have b := fp_dct_le tx n h 1
  have a := fp_dvl_b (fp_dct tx n h 1) (fp_dct_all tx n h 1) (by omega)
  exact ⟨a.1, a.2.2 b⟩
/-- all tops are at most 30 -/
def fp_t30 (S : PS) : Prop := ∀ k, k < sN S → fp_top (sB S k) ≤ 30
theorem fp_add_30 {S : PS} {kd l w wt : Nat} (h : fp_t30 S) (e : ¬ 30 < fp_top (sB (fp_add S kd l w wt) (sN S))) : fp_t30 (fp_add S kd l w wt) := by
  intro k hk
  by_cases ek : k = sN S
  · subst ek; omega
  · have e2 : sB (fp_add S kd l w wt) k = sB S k := va_up_ne _ _ ek
    rw [e2]
    have : k < sN S + 1 := hk
    exact h k (by omega)
theorem fp_del_30 {S : PS} {k : Nat} (h : fp_t30 S) : fp_t30 (fp_del S k) := by
  intro j hj
  have hj2 : j < sN S - 1 := hj
  show fp_top (if j < k then sB S j else sB S (j + 1)) ≤ 30
  split
  · exact h j (by omega)
  · exact h (j + 1) (by omega)
theorem fp_plc_ok {S : PS} {kd : Nat} {l w wt : Int} (h : fp_plc S kd l w wt = 0) : (fp_place l w = true ∧ 1 ≤ wt ∧ wt ≤ 9) ∧ fp_zoned S kd l.toNat w.toNat = true ∧ sN S ≠ 24 ∧ ¬ 30 < fp_top (sB (fp_add S kd l.toNat w.toNat wt.toNat) (sN S)) ∧ fp_bears (fp_add S kd l.toNat w.toNat wt.toNat) = true := by
  unfold fp_plc at h
  by_cases c1 : ¬ (fp_place l w = true ∧ 1 ≤ wt ∧ wt ≤ 9)
  · rw [if_pos c1] at h; cases h
  · rw [if_neg c1] at h
    by_cases c2 : fp_zoned S kd l.toNat w.toNat = false ∨ sN S = 24
    · rw [if_pos c2] at h; cases h
    · rw [if_neg c2] at h
      by_cases c3 : 30 < fp_top (sB (fp_add S kd l.toNat w.toNat wt.toNat) (sN S)) ∨ fp_bears (fp_add S kd l.toNat w.toNat wt.toNat) = false
      · rw [if_pos c3] at h; cases h
      · refine ⟨Classical.not_not.mp c1, ?_, fun z => c2 (Or.inr z), fun z => c3 (Or.inl z), ?_⟩
        · cases e : fp_zoned S kd l.toNat w.toNat with
          | true => rfl
          | false => exact absurd (Or.inl e) c2
        · cases e : fp_bears (fp_add S kd l.toNat w.toNat wt.toNat) with
          | true => rfl
          | false => exact absurd (Or.inr e) c3
theorem fp_do_30 {S : PS} {w : Nat} {a b c : Int} (h : fp_t30 S) (e : (fp_do S w a b c).1 = 0) : fp_t30 (fp_do S w a b c).2 ∧ sP (fp_do S w a b c).2 ≤ sP S + 1 := by
  unfold fp_do at e ⊢
  by_cases c1 : w < 3
  · rw [if_pos c1] at e ⊢
    exact ⟨fp_add_30 h (fp_plc_ok e).2.2.2.1, Nat.le_refl _⟩
  · rw [if_neg c1]
    by_cases c2 : w = 3
    · rw [if_pos c2]
      exact ⟨fp_del_30 h, Nat.le_succ _⟩
    · rw [if_neg c2]
      by_cases c3 : w = 4
      · rw [if_pos c3]
        exact ⟨h, Nat.le_succ _⟩
      · rw [if_neg c3]
        exact ⟨h, Nat.le_succ _⟩
theorem fp_dvl_rg2 (tx : Nat → Nat) (n h : Nat) : rg (fp_dvl tx n h (fp_dct tx n h 2)) := by
  have := fp_dvl_2 tx n h
  exact ⟨by omega, by omega⟩
theorem fp_dvl_rg1 (tx : Nat → Nat) (n h : Nat) : rg (fp_dvl tx n h (fp_dct tx n h 1)) := by
  have := fp_dvl_1 tx n h
  exact ⟨by omega, by omega⟩
theorem fp_sg_rg {tx : Nat → Nat} {n : Nat} (h : ∀ i, i < n → tx i < 256) (k : Nat) : rg (fp_sg tx n k) := by
  have := fp_sg_b h k
  exact ⟨by omega, by omega⟩
abbrev fp_dc (S : PS) (c : Nat × Int × Int × Int) : Nat × PS := fp_do S c.1 c.2.1 c.2.2.1 c.2.2.2
theorem fp_dc_30 {S : PS} {c : Nat × Int × Int × Int} (h : fp_t30 S) (e : (fp_dc S c).1 = 0) : fp_t30 (fp_dc S c).2 ∧ sP (fp_dc S c).2 ≤ sP S + 1 := fp_do_30 h e
theorem fp_exe_0 {c : Nat × Int × Int × Int} {l : List (Nat × Int × Int × Int)} {S : PS} (h : (fp_dc S c).1 = 0) : fp_exe (c :: l) S = ((fp_exe l (fp_dc S c).2).1 + 1, (fp_exe l (fp_dc S c).2).2) := if_pos h
theorem fp_exe_1 {c : Nat × Int × Int × Int} {l : List (Nat × Int × Int × Int)} {S : PS} (h : (fp_dc S c).1 ≠ 0) : fp_exe (c :: l) S = (0, (fp_dc S c).1, S) := if_neg h
theorem fp_prg_1 {tx : Nat → Nat} {n : Nat} {c : FC} (m : fp_cmd tx n 0 = c) (a : c.1 = true) : (fp_prg tx n).2 = (true, c.2.1) := by
  unfold fp_prg
  rw [m, if_pos a]
theorem fp_prg_2 {tx : Nat → Nat} {n : Nat} {c : FC} (m : fp_cmd tx n 0 = c) (a : c.1 = false) : fp_prg tx n = (c.2.2 :: (fp_prt tx n n c.2.1).1, (fp_prt tx n n c.2.1).2) := by
  unfold fp_prg
  rw [m, if_neg (by rw [a]; exact Bool.false_ne_true)]
theorem fp_prt_1 {tx : Nat → Nat} {n f h : Nat} (hf : f ≠ 0) (hn : h < n) (hs : fp_sg tx n h ≠ 59) : fp_prt tx n f h = ([], true, h) := by
  obtain ⟨g, rfl⟩ := Nat.exists_eq_succ_of_ne_zero hf
  show (if h < n then _ else _) = _
  rw [if_pos hn, if_neg hs]
theorem fp_prt_2 {tx : Nat → Nat} {n f h : Nat} {c : FC} (m : fp_cmd tx n (h + 1) = c) (hf : f ≠ 0) (hn : h < n) (hs : fp_sg tx n h = 59) (a : c.1 = true) : fp_prt tx n f h = ([c.2.2], true, c.2.1) := by
  obtain ⟨g, rfl⟩ := Nat.exists_eq_succ_of_ne_zero hf
  show (if h < n then _ else _) = _
  rw [m, if_pos hn, if_pos hs, if_pos a]
theorem fp_prt_3 {tx : Nat → Nat} {n f h : Nat} {c : FC} (m : fp_cmd tx n (h + 1) = c) (hn : h < n) (hs : fp_sg tx n h = 59) (a : c.1 = false) : fp_prt tx n (f + 1) h = (c.2.2 :: (fp_prt tx n f c.2.1).1, (fp_prt tx n f c.2.1).2) := by
  show (if h < n then _ else _) = _
  rw [m, if_pos hn, if_pos hs, if_neg (by rw [a]; exact Bool.false_ne_true)]
theorem fp_prt_4 {tx : Nat → Nat} {n f h : Nat} (hn : n ≤ h) : fp_prt tx n f h = ([], false, h) := by
  cases f with
  | zero => rfl
  | succ f => exact if_neg (Nat.not_lt.mpr hn)
/-- reading a program: behind k commands -/
def fp_cws (tx : Nat → Nat) (n : Nat) (p : Bool × Nat) (k wz h : Nat) : Prop := h ≤ n ∧ ((wz = 0 ∧ k ≤ h + 1 ∧ p = (fp_prt tx n (n + 1 - k) h).2) ∨ (wz = 1 ∧ p = (true, h)))
theorem fp_cws.s0 {tx : Nat → Nat} {n : Nat} {p : Bool × Nat} {c : FC} (hp : (fp_prg tx n).2 = p) (m : fp_cmd tx n 0 = c) (a : c.1 = true) (h : c.2.1 ≤ n) : fp_cws tx n p 1 1 c.2.1 := ⟨h, Or.inr ⟨rfl, hp.symm.trans (fp_prg_1 m a)⟩⟩
theorem fp_cws.s1 {tx : Nat → Nat} {n : Nat} {p : Bool × Nat} {c : FC} (hp : (fp_prg tx n).2 = p) (m : fp_cmd tx n 0 = c) (a : c.1 = false) (h : c.2.1 ≤ n) : fp_cws tx n p 1 0 c.2.1 := ⟨h, Or.inl ⟨rfl, Nat.succ_le_succ (Nat.zero_le _), by rw [← hp, fp_prg_2 m a, Nat.add_sub_cancel]⟩⟩
theorem fp_cws.t0 {tx : Nat → Nat} {n k h : Nat} {p : Bool × Nat} (s : fp_cws tx n p k 0 h) (hn : h < n) (hs : fp_sg tx n h ≠ 59) : fp_cws tx n p (k + 1) 1 h := by
  rcases s with ⟨h1, ⟨-, h2, h3⟩ | ⟨h2, -⟩⟩
  · exact ⟨h1, Or.inr ⟨rfl, h3.trans (by rw [fp_prt_1 (by omega) hn hs])⟩⟩
  · cases h2
theorem fp_cws.t1 {tx : Nat → Nat} {n k h : Nat} {p : Bool × Nat} {c : FC} (s : fp_cws tx n p k 0 h) (hn : h < n) (hs : fp_sg tx n h = 59) (m : fp_cmd tx n (h + 1) = c) (a : c.1 = true) (he : c.2.1 ≤ n) : fp_cws tx n p (k + 1) 1 c.2.1 := by
  rcases s with ⟨h1, ⟨-, h2, h3⟩ | ⟨h2, -⟩⟩
  · exact ⟨he, Or.inr ⟨rfl, h3.trans (by rw [fp_prt_2 m (by omega) hn hs a])⟩⟩
  · cases h2
theorem fp_fuel {n k h : Nat} (h2 : k ≤ h + 1) (hn : h < n) : n + 1 - k = (n + 1 - (k + 1)) + 1 := by omega
theorem fp_cws.t2 {tx : Nat → Nat} {n k h : Nat} {p : Bool × Nat} {c : FC} (s : fp_cws tx n p k 0 h) (hn : h < n) (hs : fp_sg tx n h = 59) (m : fp_cmd tx n (h + 1) = c) (a : c.1 = false) (he : c.2.1 ≤ n) (hl : h + 1 < c.2.1) : fp_cws tx n p (k + 1) 0 c.2.1 := by
  rcases s with ⟨h1, ⟨-, h2, h3⟩ | ⟨h2, -⟩⟩
  · refine ⟨he, Or.inl ⟨rfl, by omega, h3.trans ?_⟩⟩
    rw [fp_fuel h2 hn, fp_prt_3 m hn hs a]
  · cases h2
theorem fp_cws.u0 {tx : Nat → Nat} {n k h : Nat} {p : Bool × Nat} (s : fp_cws tx n p k 0 h) (hn : n ≤ h) : p = (false, h) := by
  rcases s with ⟨h1, ⟨-, h2, h3⟩ | ⟨h2, -⟩⟩
  · exact h3.trans (by rw [fp_prt_4 hn])
  · cases h2
theorem fp_cws.u1 {tx : Nat → Nat} {n k wz h : Nat} {p : Bool × Nat} (s : fp_cws tx n p k wz h) (hw : wz ≠ 0) : p = (true, h) := by
  rcases s with ⟨h1, ⟨h2, -⟩ | ⟨-, h2⟩⟩
  · exact absurd h2 hw
  · exact h2
theorem fp_cws.b {tx : Nat → Nat} {n k wz h : Nat} {p : Bool × Nat} (s : fp_cws tx n p k wz h) : h ≤ n ∧ wz ≤ 1 ∧ (wz = 0 → k ≤ h + 1) := by
  rcases s with ⟨h1, ⟨h2, h3, -⟩ | ⟨h2, -⟩⟩
  · exact ⟨h1, by omega, fun _ => h3⟩
  · exact ⟨h1, by omega, fun z => by omega⟩
/-- doing a program: behind k commands; R is what all of it does -/
def fp_cwd (tx : Nat → Nat) (n : Nat) (R : Nat × Nat × PS) (q k t h : Nat) (S : PS) : Prop := h ≤ n ∧ ((t = 0 ∧ k ≤ h + 1 ∧ (fp_prt tx n (n + 1 - k) h).2.1 = false ∧ R = (k + (fp_exe (fp_prt tx n (n + 1 - k) h).1 S).1, (fp_exe (fp_prt tx n (n + 1 - k) h).1 S).2) ∧ fp_t30 S ∧ sP S ≤ q + k) ∨ (t ≠ 0 ∧ k ≤ n + 1 ∧ R.1 + 1 = k ∧ R.2.1 = t))
theorem fp_cwd.w0 {tx : Nat → Nat} {n : Nat} {c : FC} (hp : (fp_prg tx n).2.1 = false) (m : fp_cmd tx n 0 = c) (a : c.1 = true) : False := by
  rw [fp_prg_1 m a] at hp
  cases hp
theorem fp_cwd.s0 {tx : Nat → Nat} {n t q : Nat} {S : PS} {c : FC} {R : Nat × Nat × PS} (hR : fp_exe (fp_prg tx n).1 S = R) (m : fp_cmd tx n 0 = c) (a : c.1 = false) (h : c.2.1 ≤ n) (d : (fp_dc S c.2.2).1 = t) (ht : t ≠ 0) (S2 : PS) : fp_cwd tx n R q 1 t c.2.1 S2 := by
  rw [fp_prg_2 m a] at hR
  have e : fp_exe (c.2.2 :: (fp_prt tx n n c.2.1).1) S = R := hR
  rw [fp_exe_1 (by rw [d]; exact ht)] at e
  rw [← e]
  exact ⟨h, Or.inr ⟨ht, Nat.succ_le_succ (Nat.zero_le _), rfl, d⟩⟩
theorem fp_cwd.s1 {tx : Nat → Nat} {n : Nat} {S : PS} {c : FC} {R : Nat × Nat × PS} (hp : (fp_prg tx n).2.1 = false) (hR : fp_exe (fp_prg tx n).1 S = R) (h3 : fp_t30 S) (m : fp_cmd tx n 0 = c) (a : c.1 = false) (h : c.2.1 ≤ n) (d : (fp_dc S c.2.2).1 = 0) : fp_cwd tx n R (sP S) 1 0 c.2.1 (fp_dc S c.2.2).2 := by
  have h4 := fp_dc_30 h3 d
  rw [fp_prg_2 m a] at hR hp
  have e : fp_exe (c.2.2 :: (fp_prt tx n n c.2.1).1) S = R := hR
  rw [fp_exe_0 d] at e
  refine ⟨h, Or.inl ⟨rfl, Nat.succ_le_succ (Nat.zero_le _), ?_, ?_, h4⟩⟩
  · rw [Nat.add_sub_cancel]; exact hp
  · rw [← e, Nat.add_sub_cancel, Nat.add_comm 1]
theorem fp_cwd.t0 {tx : Nat → Nat} {n k h q : Nat} {R : Nat × Nat × PS} {S : PS} (s : fp_cwd tx n R q k 0 h S) (hn : h < n) (hs : fp_sg tx n h ≠ 59) : False := by
  rcases s with ⟨h1, ⟨-, h2, h3, -⟩ | ⟨h2, -⟩⟩
  · rw [fp_prt_1 (by omega) hn hs] at h3
    cases h3
  · exact h2 rfl
theorem fp_cwd.w1 {tx : Nat → Nat} {n k h q : Nat} {R : Nat × Nat × PS} {S : PS} {c : FC} (s : fp_cwd tx n R q k 0 h S) (hn : h < n) (hs : fp_sg tx n h = 59) (m : fp_cmd tx n (h + 1) = c) (a : c.1 = true) : False := by
  rcases s with ⟨h1, ⟨-, h2, h3, -⟩ | ⟨h2, -⟩⟩
  · rw [fp_prt_2 m (by omega) hn hs a] at h3
    cases h3
  · exact h2 rfl
theorem fp_cwd.t1 {tx : Nat → Nat} {n k h q t : Nat} {R : Nat × Nat × PS} {S : PS} {c : FC} (s : fp_cwd tx n R q k 0 h S) (hn : h < n) (hs : fp_sg tx n h = 59) (m : fp_cmd tx n (h + 1) = c) (a : c.1 = false) (he : c.2.1 ≤ n) (d : (fp_dc S c.2.2).1 = t) (ht : t ≠ 0) (S2 : PS) : fp_cwd tx n R q (k + 1) t c.2.1 S2 := by
  rcases s with ⟨h1, ⟨-, h2, h3, h4, h5, h6⟩ | ⟨h2, -⟩⟩
  · rw [fp_fuel h2 hn, fp_prt_3 m hn hs a] at h4
    dsimp only at h4
    rw [fp_exe_1 (by rw [d]; exact ht)] at h4
    rw [h4]
    exact ⟨he, Or.inr ⟨ht, Nat.succ_le_succ (Nat.le_trans h2 hn), rfl, d⟩⟩
  · exact absurd rfl h2
theorem fp_cwd.t2 {tx : Nat → Nat} {n k h q : Nat} {R : Nat × Nat × PS} {S : PS} {c : FC} (s : fp_cwd tx n R q k 0 h S) (hn : h < n) (hs : fp_sg tx n h = 59) (m : fp_cmd tx n (h + 1) = c) (a : c.1 = false) (he : c.2.1 ≤ n) (hl : h + 1 < c.2.1) (d : (fp_dc S c.2.2).1 = 0) : fp_cwd tx n R q (k + 1) 0 c.2.1 (fp_dc S c.2.2).2 := by
  rcases s with ⟨h1, ⟨-, h2, h3, h4, h5, h6⟩ | ⟨h2, -⟩⟩
  · have h7 := fp_dc_30 h5 d
    rw [fp_fuel h2 hn, fp_prt_3 m hn hs a] at h4 h3
    dsimp only at h4 h3
    rw [fp_exe_0 d] at h4
    refine ⟨he, Or.inl ⟨rfl, Nat.succ_le_succ (Nat.le_trans h2 (Nat.le_of_lt hl)), h3, ?_, h7.1, Nat.le_trans h7.2 (Nat.succ_le_succ h6)⟩⟩
    rw [h4, show ∀ x, k + (x + 1) = k + 1 + x from fun x => by omega]
  · exact absurd rfl h2
theorem fp_cwd.u0 {tx : Nat → Nat} {n k h q : Nat} {R : Nat × Nat × PS} {S : PS} (s : fp_cwd tx n R q k 0 h S) (hn : n ≤ h) : R = (k, 0, S) := by
  rcases s with ⟨h1, ⟨-, h2, h3, h4, h5⟩ | ⟨h2, -⟩⟩
  · rw [h4, fp_prt_4 hn]
    rfl
  · exact absurd rfl h2
theorem fp_cwd.u1 {tx : Nat → Nat} {n k t h q : Nat} {R : Nat × Nat × PS} {S : PS} (s : fp_cwd tx n R q k t h S) (ht : t ≠ 0) : R.1 + 1 = k ∧ R.2.1 = t := by
  rcases s with ⟨h1, ⟨h2, -⟩ | ⟨-, -, h2⟩⟩
  · exact absurd h2 ht
  · exact h2
theorem fp_cwd.b {tx : Nat → Nat} {n k t h q : Nat} {R : Nat × Nat × PS} {S : PS} (s : fp_cwd tx n R q k t h S) : h ≤ n ∧ (t = 0 → k ≤ h + 1 ∧ fp_t30 S ∧ sP S ≤ q + k) := by
  rcases s with ⟨h1, ⟨h2, h3, -, -, h4⟩ | ⟨h2, -⟩⟩
  · exact ⟨h1, fun _ => ⟨h3, h4⟩⟩
  · exact ⟨h1, fun z => absurd z h2⟩
theorem fp_12 (p q : Prop) [Decidable p] [Decidable q] : (if p then 1 else if q then 2 else 0) ≤ 2 := by
  by_cases hp : p
  · rw [if_pos hp]; decide
  · rw [if_neg hp]
    by_cases hq : q
    · rw [if_pos hq]; decide
    · rw [if_neg hq]; decide
theorem fp_dc_2 (S : PS) (w : Nat) (a b c : Int) : (fp_do S w a b c).1 ≤ 2 := by
  unfold fp_do
  by_cases c1 : w < 3
  · rw [if_pos c1]
    show fp_plc S w a b c ≤ 2
    unfold fp_plc
    split
    · decide
    · split
      · decide
      · split <;> decide
  · rw [if_neg c1]
    by_cases c2 : w = 3
    · rw [if_pos c2]
      exact fp_12 _ _
    · rw [if_neg c2]
      by_cases c3 : w = 4
      · rw [if_pos c3]
        exact fp_12 _ _
      · rw [if_neg c3]
        exact fp_12 _ _
theorem fp_ME.n3 {G : fp_G} {ad : Nat → Nat} {sc : Nat → Int} {ar : Nat → Nat → Int} {H : Heap} {f v g f2 v2 g2 : Nat → Int} (h : fp_ME G ad sc (va_up (va_up (va_up (va_up (va_up (va_up ar 14 f) 5 v) 10 g) 14 f2) 5 v2) 10 g2) H) : fp_ME G ad sc (va_up (va_up (va_up ar 14 f2) 5 v2) 10 g2) H := h.congr (fun k _ _ y _ => by
  by_cases a : k = 10
  · subst a; rw [va_up_self, va_up_self]
  · rw [va_up_ne _ _ a, va_up_ne _ _ a]
    by_cases b : k = 5
    · subst b; rw [va_up_self, va_up_self]
    · rw [va_up_ne _ _ b, va_up_ne _ _ b]
      by_cases c : k = 14
      · subst c; rw [va_up_self, va_up_self]
      · rw [va_up_ne _ _ c, va_up_ne _ _ c, va_up_ne _ _ a, va_up_ne _ _ b, va_up_ne _ _ c])
