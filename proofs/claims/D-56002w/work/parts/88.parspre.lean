/-! PROGRAMS: what the parser's steps compute -/
set_option maxRecDepth 100000
/-- the sign i of the word w, without its blank; how many there are -/
def fp_ww (w i : Nat) : Nat := fp_wd (fp_wa w + i)
def fp_wk (w : Nat) : Nat := fp_wl w - 1
theorem fp_wk_b {w : Nat} (h : w < 7) : 3 ≤ fp_wk w ∧ fp_wk w ≤ 6 ∧ fp_wl w = fp_wk w + 1 ∧ fp_ww w (fp_wk w) = 32 := by
  rcases (show w = 0 ∨ w = 1 ∨ w = 2 ∨ w = 3 ∨ w = 4 ∨ w = 5 ∨ w = 6 by omega) with rfl | rfl | rfl | rfl | rfl | rfl | rfl <;> decide
def fp_pfx (n : Nat) (tx : Nat → Nat) (m : Nat) (ty : Nat → Nat) : Bool := decide (m ≤ n ∧ ∀ i, i < m → tx i = ty i)
/-- is a text a keyword, or the beginning of one? -/
def fp_isk (m : Nat) (ty : Nat → Nat) (wh : Bool) : Bool := fp_any (fun w => if wh = true then fp_teq (fp_wk w) (fp_ww w) m ty else fp_pfx (fp_wk w) (fp_ww w) m ty) 7
theorem fp_isk_0 (ty : Nat → Nat) : fp_isk 0 ty true = false := fp_any_f (fun w hw => by
  have hb := fp_wk_b hw
  rw [if_pos rfl]
  exact decide_eq_false (fun h => by omega))
theorem fp_wm_iff {tx : Nat → Nat} {n h w m : Nat} (hw : w < 7) : fp_wm tx n h w m = true ↔ ∀ i, i < m → i < fp_wl w ∧ ((fp_ww w i : Nat) : Int) = fp_sg tx n (h + i) := by
  have hb := fp_wa_b hw
  have e : fp_wl w = fp_wa (w + 1) - fp_wa w := rfl
  induction m with
  | zero => exact ⟨fun _ i hi => absurd hi (Nat.not_lt_zero i), fun _ => rfl⟩
  | succ m ih =>
    constructor
    · intro h0 i hi
      obtain ⟨h1, h2, h3⟩ := fp_wm_s.mp h0
      have h4 := ih.mp h1
      by_cases e2 : i = m
      · subst e2
        exact ⟨by omega, h3⟩
      · exact h4 i (by omega)
    · intro h1
      have h2 := h1 m (by omega)
      exact fp_wm_s.mpr ⟨ih.mpr (fun i hi => h1 i (by omega)), by omega, h2.2⟩
/-- the piece of a program at h is the beginning of a word -/
theorem fp_pfx_wm {tx : Nat → Nat} {n h w m : Nat} (hw : w < 7) (hm : h + m ≤ n) : fp_pfx (fp_wk w) (fp_ww w) m (fun i => tx (h + i)) = true ↔ m ≤ fp_wk w ∧ fp_wm tx n h w m = true := by
  have hb := fp_wk_b hw
  unfold fp_pfx
  rw [decide_eq_true_iff, fp_wm_iff hw]
  constructor
  · rintro ⟨h1, h2⟩
    refine ⟨h1, fun i hi => ⟨by omega, ?_⟩⟩
    have h3 := h2 i hi
    unfold fp_sg
    rw [if_pos (by omega)]
    exact congrArg (fun q : Nat => (q : Int)) h3
  · rintro ⟨h1, h2⟩
    refine ⟨h1, fun i hi => ?_⟩
    have h3 := (h2 i hi).2
    unfold fp_sg at h3
    rw [if_pos (by omega)] at h3
    show fp_ww w i = tx (h + i)
    omega
theorem fp_teq_wm {tx : Nat → Nat} {n h w m : Nat} (hw : w < 7) (hm : h + m ≤ n) : fp_teq (fp_wk w) (fp_ww w) m (fun i => tx (h + i)) = true ↔ m = fp_wk w ∧ fp_wm tx n h w m = true := by
  have e : fp_teq (fp_wk w) (fp_ww w) m (fun i => tx (h + i)) = true ↔ m = fp_wk w ∧ fp_pfx (fp_wk w) (fp_ww w) m (fun i => tx (h + i)) = true := by
    unfold fp_teq fp_pfx
    rw [decide_eq_true_iff, decide_eq_true_iff]
    constructor
    · rintro ⟨h1, h2⟩
      exact ⟨h1.symm, by omega, fun i hi => h2 i (by omega)⟩
    · rintro ⟨h1, h2, h3⟩
      exact ⟨h1.symm, fun i hi => h3 i (by omega)⟩
  rw [e, fp_pfx_wm hw hm]
  constructor
  · rintro ⟨h1, -, h2⟩
    exact ⟨h1, h2⟩
  · rintro ⟨h1, h2⟩
    exact ⟨h1, by omega, h2⟩
/-- two words that begin alike are one -/
theorem fp_wm_two {tx : Nat → Nat} {n h w x m k : Nat} (hw : w < 7) (hx : x < 7) (h1 : fp_wm tx n h w m = true) (h2 : fp_wm tx n h x k = true) (hm : 2 ≤ m) (hk : 2 ≤ k) : w = x := by
  have a := (fp_wm_iff hw).mp h1
  have b := (fp_wm_iff hx).mp h2
  have a0 := (a 0 (by omega)).2
  have a1 := (a 1 (by omega)).2
  have b0 := (b 0 (by omega)).2
  have b1 := (b 1 (by omega)).2
  refine fp_wd_free hw hx ?_ ?_
  · have e := a0.trans b0.symm
    have e2 : fp_ww w 0 = fp_ww x 0 := by omega
    exact e2
  · have e := a1.trans b1.symm
    have e2 : fp_ww w 1 = fp_ww x 1 := by omega
    exact e2
/-- where no word goes on, a command is wrong there -/
theorem fp_cmd_bad {tx : Nat → Nat} {n h k : Nat} (h1 : k = 0 ∨ ∃ w, w < 7 ∧ k ≤ fp_wk w ∧ fp_wm tx n h w k = true) (h2 : ∀ w, w < 7 → fp_wm tx n h w (k + 1) = false) : fp_cmd tx n h = (true, h + k, 0, 0, 0, 0) := by
  refine fp_cmd_1 (fun w hw => ?_) (h1.imp id (fun ⟨w, h3, _, h4⟩ => ⟨w, h3, h4⟩)) h2
  have hb := fp_wk_b hw
  by_cases e : k + 1 ≤ fp_wl w
  · exact fp_wm_f (h2 w hw) e
  · cases e2 : fp_wm tx n h w (fp_wl w) with
    | false => rfl
    | true =>
      rcases h1 with h1 | ⟨x, h3, h4, h5⟩
      · omega
      · have e3 := fp_wm_two hw h3 e2 h5 (by omega) (by omega)
        subst e3
        omega
/-- the keyword's end: it is none -/
theorem fp_kw_bad {tx : Nat → Nat} {n h k : Nat} (hk : h + k ≤ n) (h1 : k = 0 ∨ fp_isk k (fun i => tx (h + i)) false = true) (h2 : h + k = n ∨ fp_isk (k + 1) (fun i => tx (h + i)) false = false) (h3 : fp_isk k (fun i => tx (h + i)) true = false) : fp_cmd tx n h = (true, h + k, 0, 0, 0, 0) := by
  refine fp_cmd_bad (h1.imp id (fun h4 => ?_)) (fun w hw => ?_)
  · obtain ⟨w, hw, h5⟩ := fp_any_iff.mp h4
    exact ⟨w, hw, (fp_pfx_wm hw hk).mp h5⟩
  · cases e : fp_wm tx n h w (k + 1) with
    | false => rfl
    | true =>
      have hb := fp_wk_b hw
      have a := (fp_wm_iff hw).mp e k (by omega)
      by_cases e2 : k = fp_wk w
      · have t : fp_isk k (fun i => tx (h + i)) true = true := fp_any_t (k := w) hw ((fp_teq_wm hw hk).mpr ⟨e2, fp_wm_mono e (by omega)⟩)
        rw [t] at h3
        cases h3
      · have hn : h + k < n := fp_sg_lt a.2.symm (by omega)
        rcases h2 with h2 | h2
        · omega
        · have t : fp_isk (k + 1) (fun i => tx (h + i)) false = true := fp_any_t (k := w) hw ((fp_pfx_wm hw (by omega)).mpr ⟨by omega, e⟩)
          rw [t] at h2
          cases h2
/-- the keyword's end: it is the word w -/
theorem fp_kw_good {tx : Nat → Nat} {n h k : Nat} (hk : h + k ≤ n) (h3 : fp_isk k (fun i => tx (h + i)) true = true) : ∃ w, w < 7 ∧ k = fp_wk w ∧ fp_wm tx n h w (fp_wk w) = true ∧ ∀ i, i < k → tx (h + i) = fp_ww w i := by
  obtain ⟨w, hw, h5⟩ := fp_any_iff.mp h3
  obtain ⟨h6, h7⟩ := (fp_teq_wm hw hk).mp h5
  refine ⟨w, hw, h6, h6 ▸ h7, fun i hi => ?_⟩
  have h8 := ((fp_wm_iff hw).mp h7 i hi).2
  unfold fp_sg at h8
  rw [if_pos (by omega)] at h8
  omega
/-- a blank and a number, unless it has failed -/
def fp_xn (tx : Nat → Nat) (n h : Nat) (fl : Bool) (q : Nat) : Bool × Nat × Int :=
  if fl = true ∨ fp_sg tx n h ≠ 32 then (true, h, 0) else if fp_dct tx n (h + 1) q = 0 then (true, h + 1, 0) else (false, h + 1 + fp_dct tx n (h + 1) q, fp_dvl tx n (h + 1) (fp_dct tx n (h + 1) q))
/-- a blank and a zone's letter, unless it has failed -/
def fp_xz (tx : Nat → Nat) (n h : Nat) (fl : Bool) : Bool × Nat × Nat :=
  if fl = true ∨ fp_sg tx n h ≠ 32 then (true, h, 32) else if fp_zby (fp_sg tx n (h + 1)) < 0 then (true, h + 1, 32) else (false, h + 2, tx (h + 1))
/-- what stands behind the keyword w: has it failed, where it ends, the numbers -/
def fp_xa (tx : Nat → Nat) (n w h : Nat) : Bool × Nat × Int × Int × Int :=
  if w < 3 then ((fp_xn tx n (fp_xn tx n (fp_xn tx n h false 2).2.1 (fp_xn tx n h false 2).1 1).2.1 (fp_xn tx n (fp_xn tx n h false 2).2.1 (fp_xn tx n h false 2).1 1).1 1).1, (fp_xn tx n (fp_xn tx n (fp_xn tx n h false 2).2.1 (fp_xn tx n h false 2).1 1).2.1 (fp_xn tx n (fp_xn tx n h false 2).2.1 (fp_xn tx n h false 2).1 1).1 1).2.1, (fp_xn tx n h false 2).2.2, (fp_xn tx n (fp_xn tx n h false 2).2.1 (fp_xn tx n h false 2).1 1).2.2, (fp_xn tx n (fp_xn tx n (fp_xn tx n h false 2).2.1 (fp_xn tx n h false 2).1 1).2.1 (fp_xn tx n (fp_xn tx n h false 2).2.1 (fp_xn tx n h false 2).1 1).1 1).2.2)
  else if w = 4 then ((fp_xz tx n (fp_xn tx n h false 2).2.1 (fp_xn tx n h false 2).1).1, (fp_xz tx n (fp_xn tx n h false 2).2.1 (fp_xn tx n h false 2).1).2.1, (fp_xn tx n h false 2).2.2, (((fp_xz tx n (fp_xn tx n h false 2).2.1 (fp_xn tx n h false 2).1).2.2 : Nat) : Int), 0)
  else ((fp_xn tx n h false 2).1, (fp_xn tx n h false 2).2.1, (fp_xn tx n h false 2).2.2, 0, 0)
theorem fp_xn_t (tx : Nat → Nat) (n h q : Nat) : fp_xn tx n h true q = (true, h, 0) := if_pos (Or.inl rfl)
theorem fp_xz_t (tx : Nat → Nat) (n h : Nat) : fp_xz tx n h true = (true, h, 32) := if_pos (Or.inl rfl)
theorem fp_xn_2 {tx : Nat → Nat} {n h q : Nat} {fl : Bool} (hf : fl = false) (hs : fp_sg tx n h = 32) (hq : fp_dct tx n (h + 1) q = 0) : (true, h + 1, (0 : Int)) = fp_xn tx n h fl q := by
  unfold fp_xn
  rw [if_neg (fun z => z.elim (fun z => by rw [hf] at z; cases z) (fun z => z hs)), if_pos hq]
theorem fp_xn_3 {tx : Nat → Nat} {n h q k : Nat} {fl : Bool} (hf : fl = false) (hs : fp_sg tx n h = 32) (hk : 0 < k) (hq : fp_dct tx n (h + 1) q = k) : (false, h + 1 + k, fp_dvl tx n (h + 1) k) = fp_xn tx n h fl q := by
  unfold fp_xn
  rw [if_neg (fun z => z.elim (fun z => by rw [hf] at z; cases z) (fun z => z hs)), if_neg (by omega), hq]
theorem fp_xz_2 {tx : Nat → Nat} {n h : Nat} {fl : Bool} (hf : fl = false) (hs : fp_sg tx n h = 32) (hz : fp_zby (fp_sg tx n (h + 1)) < 0) : (true, h + 1, 32) = fp_xz tx n h fl := by
  unfold fp_xz
  rw [if_neg (fun z => z.elim (fun z => by rw [hf] at z; cases z) (fun z => z hs)), if_pos hz]
theorem fp_xz_3 {tx : Nat → Nat} {n h : Nat} {fl : Bool} (hf : fl = false) (hs : fp_sg tx n h = 32) (hz : 0 ≤ fp_zby (fp_sg tx n (h + 1))) : (false, h + 2, tx (h + 1)) = fp_xz tx n h fl := by
  unfold fp_xz
  rw [if_neg (fun z => z.elim (fun z => by rw [hf] at z; cases z) (fun z => z hs)), if_neg (by omega)]
theorem fp_zby_n {z : Int} (h1 : ¬ z = 111) (h2 : ¬ z = 113) (h3 : ¬ z = 99) : fp_zby z = -1 := by
  unfold fp_zby
  rw [if_neg h1, if_neg h2, if_neg h3]
theorem fp_pfx_1 {g : Bool} {n m k : Nat} {tx ty : Nat → Nat} (h : g = true ↔ m ≤ n ∧ ∀ i, i < k → tx i = ty i) (hg : g = false) (hk : k ≤ m) : g = fp_pfx n tx m ty := by
  subst hg
  refine (decide_eq_false (fun z => ?_)).symm
  have h9 := h.mpr ⟨z.1, fun i hi => z.2 i (by omega)⟩
  cases h9
theorem fp_pfx_2 {g : Bool} {n m k : Nat} {tx ty : Nat → Nat} (h : g = true ↔ m ≤ n ∧ ∀ i, i < k → tx i = ty i) (hk : k = m) : g = fp_pfx n tx m ty := by
  subst hk
  cases g with
  | true => exact (decide_eq_true (h.mp rfl)).symm
  | false => exact (decide_eq_false (fun z => by have h9 := h.mpr z; cases h9)).symm
theorem fp_xn_db (tx : Nat → Nat) (n h : Nat) : fp_xn tx n h false 1 = fp_db tx n h := by
  by_cases c : fp_sg tx n h = 32
  · exact (if_neg (fun z => z.elim (fun z => by cases z) (fun z => z c))).trans (if_neg (fun z => z c)).symm
  · exact (if_pos (Or.inr c)).trans (if_pos c).symm
theorem fp_xa_cmd {tx : Nat → Nat} {n h w : Nat} (hw : w < 7) (hm : fp_wm tx n h w (fp_wk w) = true) : (fp_cmd tx n h).1 = (fp_xa tx n w (h + fp_wk w)).1 ∧ (fp_cmd tx n h).2.1 = (fp_xa tx n w (h + fp_wk w)).2.1 ∧ ((fp_cmd tx n h).1 = false → (fp_cmd tx n h).2.2 = (w, (fp_xa tx n w (h + fp_wk w)).2.2)) := by
  have hb := fp_wk_b hw
  by_cases c1 : fp_sg tx n (h + fp_wk w) = 32
  · -- the blank is there
    have hf : fp_wm tx n h w (fp_wl w) = true := by
      refine (fp_wm_iff hw).mpr (fun i hi => ?_)
      by_cases e : i = fp_wk w
      · subst e
        exact ⟨by omega, by rw [hb.2.2.2, c1]; rfl⟩
      · exact (fp_wm_iff hw).mp hm i (by omega)
    have eh : h + fp_wl w = h + fp_wk w + 1 := by omega
    by_cases c2 : fp_dct tx n (h + fp_wk w + 1) 2 = 0
    · have e1 : fp_xn tx n (h + fp_wk w) false 2 = (true, h + fp_wk w + 1, 0) := by
        unfold fp_xn
        rw [if_neg (fun z => z.elim (fun z => by cases z) (fun z => z c1)), if_pos c2]
      rw [fp_cmd_2 hw hf (by rw [eh]; exact c2), eh]
      unfold fp_xa
      rw [e1]
      simp only [fp_xn_t, fp_xz_t]
      by_cases c3 : w < 3
      · simp [c3]
      · by_cases c4 : w = 4
        · simp [c3, c4]
        · simp [c3, c4]
    · have e1 : fp_xn tx n (h + fp_wk w) false 2 = (false, h + fp_wk w + 1 + fp_dct tx n (h + fp_wk w + 1) 2, fp_dvl tx n (h + fp_wk w + 1) (fp_dct tx n (h + fp_wk w + 1) 2)) := by
        unfold fp_xn
        rw [if_neg (fun z => z.elim (fun z => by cases z) (fun z => z c1)), if_neg c2]
      rw [fp_cmd_3 hw hf (by rw [eh]; omega), eh]
      unfold fp_xa
      rw [e1]
      dsimp only
      generalize h + fp_wk w + 1 + fp_dct tx n (h + fp_wk w + 1) 2 = h2
      generalize fp_dvl tx n (h + fp_wk w + 1) (fp_dct tx n (h + fp_wk w + 1) 2) = one
      by_cases c3 : w < 3
      · rw [if_pos c3, fp_xn_db]
        obtain ⟨⟨b1, e1, x1⟩, hd1⟩ : ∃ q, fp_db tx n h2 = q := ⟨_, rfl⟩
        rw [hd1]
        dsimp only
        cases b1 with
        | true =>
          rw [fp_ag_1 c3 hd1, fp_xn_t]
          exact ⟨rfl, rfl, fun z => by cases z⟩
        | false =>
          rw [fp_xn_db]
          obtain ⟨⟨b2, e2, x2⟩, hd2⟩ : ∃ q, fp_db tx n e1 = q := ⟨_, rfl⟩
          rw [hd2]
          cases b2 with
          | true =>
            rw [fp_ag_2 c3 hd1 hd2]
            exact ⟨rfl, rfl, fun z => by cases z⟩
          | false =>
            rw [fp_ag_3 c3 hd1 hd2]
            exact ⟨rfl, rfl, fun _ => rfl⟩
      · rw [if_neg c3]
        by_cases c4 : w = 4
        · rw [if_pos c4]
          unfold fp_xz
          by_cases c5 : fp_sg tx n h2 = 32
          · rw [if_neg (fun z => z.elim (fun z => by cases z) (fun z => z c5))]
            by_cases c6 : fp_zby (fp_sg tx n (h2 + 1)) < 0
            · rw [if_pos c6, fp_ag_4 c4 (fp_lb_2 c5 c6)]
              exact ⟨rfl, rfl, fun z => by cases z⟩
            · rw [if_neg c6, fp_ag_5 c4 (fp_lb_3 c5 (by omega))]
              refine ⟨rfl, rfl, fun _ => ?_⟩
              have hn : h2 + 1 < n := by
                rcases Nat.lt_or_ge (h2 + 1) n with z | z
                · exact z
                · exact absurd (by rw [fp_zby_sg z]; decide) c6
              have e9 : fp_sg tx n (h2 + 1) = ((tx (h2 + 1) : Nat) : Int) := if_pos hn
              rw [e9]
          · rw [if_pos (Or.inr c5), fp_ag_4 c4 (fp_lb_1 c5)]
            exact ⟨rfl, rfl, fun z => by cases z⟩
        · rw [if_neg c4, fp_ag_6 c3 c4]
          exact ⟨rfl, rfl, fun _ => rfl⟩
  · -- no blank
    have e1 : fp_xn tx n (h + fp_wk w) false 2 = (true, h + fp_wk w, 0) := by
      unfold fp_xn
      rw [if_pos (Or.inr c1)]
    rw [fp_cmd_bad (k := fp_wk w) (Or.inr ⟨w, hw, Nat.le_refl _, hm⟩) (fun x hx => ?_)]
    · unfold fp_xa
      rw [e1]
      simp only [fp_xn_t, fp_xz_t]
      by_cases c3 : w < 3
      · simp [c3]
      · by_cases c4 : w = 4
        · simp [c3, c4]
        · simp [c3, c4]
    · cases e : fp_wm tx n h x (fp_wk w + 1) with
      | false => rfl
      | true =>
        have e2 := fp_wm_two hx hw e hm (by omega) (by omega)
        subst e2
        have a := ((fp_wm_iff hx).mp e (fp_wk x) (by omega)).2
        rw [hb.2.2.2] at a
        exact absurd a.symm c1
theorem fp_xa_end {tx : Nat → Nat} {n w h : Nat} (e : n ≤ h) : (fp_xa tx n w h).1 = true := by
  have e1 : fp_xn tx n h false 2 = (true, h, 0) := if_pos (Or.inr (by unfold fp_sg; rw [if_neg (by omega)]; decide))
  unfold fp_xa
  rw [e1]
  simp only [fp_xn_t, fp_xz_t]
  by_cases c3 : w < 3
  · simp [c3]
  · by_cases c4 : w = 4
    · simp [c3, c4]
    · simp [c3, c4]
/-- bounds -/
theorem fp_xn_b {tx : Nat → Nat} {n h q : Nat} (fl : Bool) (hh : h ≤ n) (hq : q ≤ 2) : h ≤ (fp_xn tx n h fl q).2.1 ∧ (fp_xn tx n h fl q).2.1 ≤ n ∧ 0 ≤ (fp_xn tx n h fl q).2.2 ∧ (fp_xn tx n h fl q).2.2 ≤ 99 := by
  unfold fp_xn
  by_cases c1 : fl = true ∨ fp_sg tx n h ≠ 32
  · rw [if_pos c1]
    exact ⟨Nat.le_refl _, hh, Int.le_refl _, (show (0 : Int) ≤ 99 by decide)⟩
  · rw [if_neg c1]
    have c2 : fp_sg tx n h = 32 := Classical.not_not.mp (fun z => c1 (Or.inr z))
    have c3 := fp_sg_lt c2 (by omega)
    by_cases c4 : fp_dct tx n (h + 1) q = 0
    · rw [if_pos c4]
      exact ⟨Nat.le_succ _, c3, Int.le_refl _, (show (0 : Int) ≤ 99 by decide)⟩
    · rw [if_neg c4]
      have d1 := fp_dct_le tx n (h + 1) q
      have d2 := fp_dct_all tx n (h + 1) q
      have d3 := fp_dvl_b (fp_dct tx n (h + 1) q) d2 (by omega)
      have d4 : 48 ≤ fp_sg tx n (h + 1 + (fp_dct tx n (h + 1) q - 1)) ∧ fp_sg tx n (h + 1 + (fp_dct tx n (h + 1) q - 1)) ≤ 57 := of_decide_eq_true (d2 (fp_dct tx n (h + 1) q - 1) (by omega))
      have d5 := fp_sg_lt (c := fp_sg tx n (h + 1 + (fp_dct tx n (h + 1) q - 1))) rfl (by omega)
      exact ⟨by show h ≤ h + 1 + _; omega, by show h + 1 + _ ≤ n; omega, d3.1, d3.2.1⟩
theorem fp_xz_b {tx : Nat → Nat} {n h : Nat} (fl : Bool) (hh : h ≤ n) (h1 : ∀ i, i < n → tx i < 128) : h ≤ (fp_xz tx n h fl).2.1 ∧ (fp_xz tx n h fl).2.1 ≤ n ∧ (fp_xz tx n h fl).2.2 < 128 := by
  unfold fp_xz
  by_cases c1 : fl = true ∨ fp_sg tx n h ≠ 32
  · rw [if_pos c1]
    exact ⟨Nat.le_refl _, hh, (show 32 < 128 by decide)⟩
  · rw [if_neg c1]
    have c2 : fp_sg tx n h = 32 := Classical.not_not.mp (fun z => c1 (Or.inr z))
    have c3 := fp_sg_lt c2 (by omega)
    by_cases c4 : fp_zby (fp_sg tx n (h + 1)) < 0
    · rw [if_pos c4]
      exact ⟨Nat.le_succ _, c3, (show 32 < 128 by decide)⟩
    · rw [if_neg c4]
      have hn : h + 1 < n := by
        rcases Nat.lt_or_ge (h + 1) n with z | z
        · exact z
        · exact absurd (by rw [fp_zby_sg z]; decide) c4
      exact ⟨by show h ≤ h + 2; omega, by show h + 2 ≤ n; omega, h1 _ hn⟩
theorem fp_xa_b {tx : Nat → Nat} {n w h : Nat} (hh : h ≤ n) (h1 : ∀ i, i < n → tx i < 128) : h ≤ (fp_xa tx n w h).2.1 ∧ (fp_xa tx n w h).2.1 ≤ n := by
  have a := fp_xn_b (tx := tx) (q := 2) false hh (by decide)
  have b := fp_xn_b (tx := tx) (q := 1) (fp_xn tx n h false 2).1 a.2.1 (by decide)
  have c := fp_xn_b (tx := tx) (q := 1) (fp_xn tx n (fp_xn tx n h false 2).2.1 (fp_xn tx n h false 2).1 1).1 b.2.1 (by decide)
  have d := fp_xz_b (tx := tx) (fp_xn tx n h false 2).1 a.2.1 h1
  unfold fp_xa
  by_cases c3 : w < 3
  · rw [if_pos c3]
    exact ⟨by dsimp only; omega, c.2.1⟩
  · rw [if_neg c3]
    by_cases c4 : w = 4
    · rw [if_pos c4]
      exact ⟨by dsimp only; omega, d.2.1⟩
    · rw [if_neg c4]
      exact ⟨a.1, a.2.1⟩

-- the keywords, as constants
def fp_kq (G : fp_G) (w : Nat) : Nat := fp_ks G "FortPlanner$Parser" (9 + 2 * w)
def fp_kqv (G : fp_G) (w : Nat) : Nat := fp_kv G "FortPlanner$Parser" (9 + 2 * w)
theorem fp_ST.cg {G : fp_G} {x vl n : Nat} {tx tx2 : Nat → Nat} {H : Heap} (h : fp_ST G x vl n tx H) (e : ∀ i, i < n → tx i = tx2 i) : fp_ST G x vl n tx2 H := by
  obtain ⟨h1, h2, h3, h4, h5⟩ := h
  refine ⟨h1, ?_, h3, fun i hi => by rw [← e i hi]; exact h4 i hi, h5⟩
  rcases h2 with ⟨a, b⟩ | ⟨c, b1, b2, b3, b4, b5, b6, b7⟩
  · exact Or.inl ⟨a, fp_At.cB (f := fun i => ((tx i : Nat) : Int)) (g := fun i => ((tx2 i : Nat) : Int)) b (fun j hj => by rw [e j hj])⟩
  · exact Or.inr ⟨c, b1, b2, b3, b4, b5, fun j hj => (b6 j hj).trans (congrArg (fun q : Nat => some (Value.int (iI (q : Int)))) (e j hj)), b7⟩
theorem fp_K.kq {G : fp_G} {U : State} (hK : fp_K G U) {H : Heap} (hB : fp_B G H) {w : Nat} (hw : w < 7) : fp_ST G (fp_kq G w) (fp_kqv G w) (fp_wk w) (fp_ww w) H := by
  rcases (show w = 0 ∨ w = 1 ∨ w = 2 ∨ w = 3 ∨ w = 4 ∨ w = 5 ∨ w = 6 by omega) with rfl | rfl | rfl | rfl | rfl | rfl | rfl
  · exact (hK.kst hB fp_kP0).1.cg (by decide)
  · exact (hK.kst hB fp_kP1).1.cg (by decide)
  · exact (hK.kst hB fp_kP2).1.cg (by decide)
  · exact (hK.kst hB fp_kP3).1.cg (by decide)
  · exact (hK.kst hB fp_kP4).1.cg (by decide)
  · exact (hK.kst hB fp_kP5).1.cg (by decide)
  · exact (hK.kst hB fp_kP6).1.cg (by decide)

/-- what a command's cells hold, against what the program says -/
def fp_ca (w : Nat) (r : Bool × Nat × Int × Int × Int) (f : Nat → Int) (lt : Nat) : Prop := f 0 = r.2.2.1 ∧ (w < 3 → f 1 = r.2.2.2.1 ∧ f 2 = r.2.2.2.2) ∧ (w = 4 → ((lt : Nat) : Int) = r.2.2.2.1) ∧ lt < 128 ∧ ∀ i, i < 3 → 0 ≤ f i ∧ f i ≤ 99
theorem fp_xa_3 {tx : Nat → Nat} {n w pos p1 p2 p3 : Nat} {f1 f2 f3 : Bool} {v1 v2 v3 : Int} (hw : w < 3) (h1 : (f1, p1, v1) = fp_xn tx n pos false 2) (h2 : (f2, p2, v2) = fp_xn tx n p1 f1 1) (h3 : (f3, p3, v3) = fp_xn tx n p2 f2 1) : fp_xa tx n w pos = (f3, p3, v1, v2, v3) := by
  unfold fp_xa
  rw [if_pos hw, ← h1]
  dsimp only
  rw [← h2]
  dsimp only
  rw [← h3]
theorem fp_xa_4 {tx : Nat → Nat} {n w pos p1 p2 c : Nat} {f1 f2 : Bool} {v1 : Int} (hw : w = 4) (h1 : (f1, p1, v1) = fp_xn tx n pos false 2) (h2 : (f2, p2, c) = fp_xz tx n p1 f1) : fp_xa tx n w pos = (f2, p2, v1, ((c : Nat) : Int), 0) := by
  unfold fp_xa
  rw [if_neg (by omega), if_pos hw, ← h1]
  dsimp only
  rw [← h2]
theorem fp_xa_0 {tx : Nat → Nat} {n w pos p1 : Nat} {f1 : Bool} {v1 : Int} (hw : ¬ w < 3) (hw2 : ¬ w = 4) (h1 : (f1, p1, v1) = fp_xn tx n pos false 2) : fp_xa tx n w pos = (f1, p1, v1, 0, 0) := by
  unfold fp_xa
  rw [if_neg hw, if_neg hw2, ← h1]
theorem fp_xn_bq {tx : Nat → Nat} {n h q p1 : Nat} {fl f1 : Bool} {v1 : Int} (e : (f1, p1, v1) = fp_xn tx n h fl q) (hh : h ≤ n) (hq : q ≤ 2) : h ≤ p1 ∧ p1 ≤ n ∧ 0 ≤ v1 ∧ v1 ≤ 99 := by
  have a := fp_xn_b (tx := tx) (q := q) fl hh hq
  rw [← e] at a
  exact a
theorem fp_xz_bq {tx : Nat → Nat} {n h p1 c : Nat} {fl f1 : Bool} (e : (f1, p1, c) = fp_xz tx n h fl) (hh : h ≤ n) (h1 : ∀ i, i < n → tx i < 128) : h ≤ p1 ∧ p1 ≤ n ∧ c < 128 := by
  have a := fp_xz_b fl hh h1
  rw [← e] at a
  exact a
theorem fp_up3 {i : Nat} {a b c : Int} (h : 0 ≤ a ∧ a ≤ 99) (h2 : 0 ≤ b ∧ b ≤ 99) (h3 : 0 ≤ c ∧ c ≤ 99) : 0 ≤ va_up (va_up (va_up (fun _ => (0 : Int)) 0 a) 1 b) 2 c i ∧ va_up (va_up (va_up (fun _ => (0 : Int)) 0 a) 1 b) 2 c i ≤ 99 := by
  simp only [va_up]
  (repeat' split) <;> omega
theorem fp_up1 {i : Nat} {a : Int} (h : 0 ≤ a ∧ a ≤ 99) : 0 ≤ va_up (fun _ => (0 : Int)) 0 a i ∧ va_up (fun _ => (0 : Int)) 0 a i ≤ 99 := by
  simp only [va_up]
  (repeat' split) <;> omega
theorem fp_ca_3 {w p1 p2 p3 n1 n2 n3 pos : Nat} {f3 : Bool} {v1 v2 v3 : Int} {r : Bool × Nat × Int × Int × Int} (e : r = (f3, p3, v1, v2, v3)) (hw : w < 3) (h1 : pos ≤ p1 ∧ p1 ≤ n1 ∧ 0 ≤ v1 ∧ v1 ≤ 99) (h2 : p1 ≤ p2 ∧ p2 ≤ n2 ∧ 0 ≤ v2 ∧ v2 ≤ 99) (h3 : p2 ≤ p3 ∧ p3 ≤ n3 ∧ 0 ≤ v3 ∧ v3 ≤ 99) : fp_ca w r (va_up (va_up (va_up (fun _ => (0 : Int)) 0 v1) 1 v2) 2 v3) 0 := by
  subst e
  exact ⟨rfl, fun _ => ⟨rfl, rfl⟩, fun z => by omega, by decide, fun i _ => fp_up3 h1.2.2 h2.2.2 h3.2.2⟩
theorem fp_ca_4 {w p1 p2 n1 n2 pos c : Nat} {f2 : Bool} {v1 : Int} {r : Bool × Nat × Int × Int × Int} (e : r = (f2, p2, v1, ((c : Nat) : Int), 0)) (hw : w = 4) (h1 : pos ≤ p1 ∧ p1 ≤ n1 ∧ 0 ≤ v1 ∧ v1 ≤ 99) (h2 : p1 ≤ p2 ∧ p2 ≤ n2 ∧ c < 128) : fp_ca w r (va_up (fun _ => (0 : Int)) 0 v1) c := by
  subst e
  exact ⟨rfl, fun z => by omega, fun _ => rfl, h2.2.2, fun i _ => fp_up1 h1.2.2⟩
theorem fp_ca_0 {w p1 n1 pos : Nat} {f1 : Bool} {v1 : Int} {r : Bool × Nat × Int × Int × Int} (e : r = (f1, p1, v1, 0, 0)) (hw : ¬ w < 3) (hw2 : ¬ w = 4) (h1 : pos ≤ p1 ∧ p1 ≤ n1 ∧ 0 ≤ v1 ∧ v1 ≤ 99) : fp_ca w r (va_up (fun _ => (0 : Int)) 0 v1) 0 := by
  subst e
  exact ⟨rfl, fun z => absurd z hw, fun z => absurd z hw2, by decide, fun i _ => fp_up1 h1.2.2⟩
