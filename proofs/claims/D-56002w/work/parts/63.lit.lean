/-! THE STATE: light -/
set_option maxRecDepth 100000
def fp_lsc (t : Nat) (sg : Int) (i : Nat) : Int := (t : Int) + sg * ((i + 1 : Nat) : Int)
def fp_lsf (S : PS) (t : Nat) (sg : Int) (i : Nat) : Nat := if 0 ≤ fp_lsc t sg i ∧ fp_lsc t sg i ≤ 11 then fp_hi S (fp_lsc t sg i).toNat else 0
/-- the greatest height within the first d columns on a side -/
def fp_lsh (S : PS) (t : Nat) (sg : Int) (d : Nat) : Nat := fp_mx (fp_lsf S t sg) d
def fp_lsd (S : PS) (t : Nat) (sg : Int) (d j : Nat) : Bool := fp_any (fun i => decide (fp_lsc t sg i = (j : Int)) && decide (fp_lsh S t sg i ≤ fp_hi S t + 2)) d
theorem fp_lsh_b {S : PS} (h : fp_ok S) {t d : Nat} {sg : Int} : fp_lsh S t sg d ≤ 42 := fp_mx_le (fun i _ => by
  unfold fp_lsf
  split
  · exact fp_hi_le h _
  · exact Nat.zero_le _)
theorem fp_lsh_in {S : PS} {t d cn : Nat} {sg : Int} (h : fp_lsc t sg d = (cn : Int)) (hc : cn < 12) : fp_lsh S t sg (d + 1) = max (fp_lsh S t sg d) (fp_hi S cn) := by
  show max _ (fp_lsf S t sg d) = _
  unfold fp_lsf
  rw [if_pos (by omega), h]
  rfl
theorem fp_lsh_out {S : PS} {t d : Nat} {sg : Int} (h : ¬ (0 ≤ fp_lsc t sg d ∧ fp_lsc t sg d ≤ 11)) : fp_lsh S t sg (d + 1) = fp_lsh S t sg d := by
  show max _ (fp_lsf S t sg d) = _
  unfold fp_lsf
  rw [if_neg h]
  exact Nat.max_eq_left (Nat.zero_le _)
theorem fp_lsd_in {S : PS} {t d cn : Nat} {sg : Int} {f : Nat → Bool} {v : Bool} (h : fp_lsc t sg d = (cn : Int)) (hv : v = decide (fp_lsh S t sg d ≤ fp_hi S t + 2)) : ∀ j, j < 12 → va_up (fun j => f j || fp_lsd S t sg d j) cn ((f cn || fp_lsd S t sg d cn) || v) j = (f j || fp_lsd S t sg (d + 1) j) := fun j _ => by
  unfold va_up
  show _ = (f j || (fp_lsd S t sg d j || (decide (fp_lsc t sg d = (j : Int)) && decide (fp_lsh S t sg d ≤ fp_hi S t + 2))))
  by_cases e : j = cn
  · subst e
    rw [if_pos rfl, h, hv, decide_eq_true rfl, Bool.true_and, Bool.or_assoc]
  · rw [if_neg e, decide_eq_false (by rw [h]; omega), Bool.false_and, Bool.or_false]
theorem fp_lsd_out {S : PS} {t d : Nat} {sg : Int} {f : Nat → Bool} (h : ¬ (0 ≤ fp_lsc t sg d ∧ fp_lsc t sg d ≤ 11)) : ∀ j, j < 12 → (f j || fp_lsd S t sg d j) = (f j || fp_lsd S t sg (d + 1) j) := fun j hj => by
  show _ = (f j || (fp_lsd S t sg d j || (decide (fp_lsc t sg d = (j : Int)) && _)))
  rw [decide_eq_false (by omega), Bool.false_and, Bool.or_false]
/-- what the first k torches light -/
def fp_lta (S : PS) (k j : Nat) : Bool := fp_any (fun t => decide (sT S t = 1) && ((decide (j = t) || fp_lsd S t (-1) 4 j) || fp_lsd S t 1 4 j)) k
theorem fp_lta_t {S : PS} {k : Nat} (h : sT S k = 1) : ∀ j, j < 12 → ((va_up (fp_lta S k) k true j || fp_lsd S k (-1) 4 j) || fp_lsd S k 1 4 j) = fp_lta S (k + 1) j := fun j _ => by
  show _ = (fp_lta S k j || (decide (sT S k = 1) && ((decide (j = k) || fp_lsd S k (-1) 4 j) || fp_lsd S k 1 4 j)))
  unfold va_up
  by_cases e : j = k
  · subst e
    rw [if_pos rfl, decide_eq_true h, decide_eq_true rfl]
    simp
  · rw [if_neg e, decide_eq_true h, decide_eq_false e]
    simp [Bool.or_assoc]
theorem fp_lta_f {S : PS} {k : Nat} (h : ¬ sT S k = 1) : ∀ j, j < 12 → fp_lta S k j = fp_lta S (k + 1) j := fun j _ => by
  show _ = (fp_lta S k j || (decide (sT S k = 1) && _))
  rw [decide_eq_false h, Bool.false_and, Bool.or_false]
theorem fp_mx_iff {f : Nat → Nat} {n M : Nat} : fp_mx f n ≤ M ↔ ∀ k, k < n → f k ≤ M := by
  induction n with
  | zero => exact ⟨fun _ k hk => absurd hk (Nat.not_lt_zero _), fun _ => Nat.zero_le _⟩
  | succ n ih =>
    show max (fp_mx f n) (f n) ≤ M ↔ _
    rw [Nat.max_le, ih]
    constructor
    · rintro ⟨h1, h2⟩ k hk
      by_cases e : k = n
      · subst e; exact h2
      · exact h1 k (by omega)
    · exact fun h => ⟨fun k hk => h k (by omega), h n (by omega)⟩
theorem fp_lsd_iff {S : PS} {t d j : Nat} {sg : Int} : fp_lsd S t sg d j = true ↔ ∃ i, i < d ∧ fp_lsc t sg i = (j : Int) ∧ fp_lsh S t sg i ≤ fp_hi S t + 2 := by
  unfold fp_lsd
  rw [fp_any_iff]
  constructor
  · rintro ⟨i, h1, h2⟩
    rw [Bool.and_eq_true, decide_eq_true_eq, decide_eq_true_eq] at h2
    exact ⟨i, h1, h2.1, h2.2⟩
  · rintro ⟨i, h1, h2, h3⟩
    exact ⟨i, h1, by rw [decide_eq_true h2, decide_eq_true h3]; rfl⟩
theorem fp_rch_iff {S : PS} (hok : fp_ok S) {t c : Nat} (ht : t < 12) : fp_rch S t c = true ↔ sT S t = 1 ∧ max t c - min t c ≤ 4 ∧ ∀ i, i < max t c - min t c - 1 → fp_hi S (min t c + 1 + i) ≤ fp_hi S t + 2 := by
  have h2 := hok.2.2.2.2 t ht
  unfold fp_rch
  rw [Bool.and_eq_true, decide_eq_true_eq, Bool.not_eq_true']
  constructor
  · rintro ⟨⟨a, b⟩, e⟩
    refine ⟨by omega, b, fun i hi => ?_⟩
    refine Decidable.byContradiction (fun z => ?_)
    rw [fp_any_t (k := i) hi (decide_eq_true (by omega))] at e
    cases e
  · rintro ⟨a, b, e⟩
    exact ⟨⟨by omega, b⟩, fp_any_f (fun i hi => decide_eq_false (by have := e i hi; omega))⟩
theorem fp_side_r {S : PS} {t c : Nat} (hc : c < 12) : fp_lsd S t 1 4 c = true ↔ t < c ∧ c - t ≤ 4 ∧ ∀ i, i < c - t - 1 → fp_hi S (t + 1 + i) ≤ fp_hi S t + 2 := by
  rw [fp_lsd_iff]
  have hf : ∀ i, t + 1 + i < 12 → fp_lsf S t 1 i = fp_hi S (t + 1 + i) := fun i hi => by
    have e : fp_lsc t 1 i = ((t + 1 + i : Nat) : Int) := by unfold fp_lsc; omega
    unfold fp_lsf
    rw [e, if_pos (by omega)]
    rfl
  constructor
  · rintro ⟨i, h1, h2, h3⟩
    unfold fp_lsc at h2
    refine ⟨by omega, by omega, fun j hj => ?_⟩
    have h4 := fp_mx_iff.mp h3 j (by omega)
    rw [hf j (by omega)] at h4
    exact h4
  · rintro ⟨h1, h2, h3⟩
    refine ⟨c - t - 1, by omega, by unfold fp_lsc; omega, fp_mx_iff.mpr (fun j hj => ?_)⟩
    rw [hf j (by omega)]
    exact h3 j hj
theorem fp_side_l {S : PS} {t c : Nat} (ht : t < 12) : fp_lsd S t (-1) 4 c = true ↔ c < t ∧ t - c ≤ 4 ∧ ∀ i, i < t - c - 1 → fp_hi S (c + 1 + i) ≤ fp_hi S t + 2 := by
  rw [fp_lsd_iff]
  have hf : ∀ i, i < t → fp_lsf S t (-1) i = fp_hi S (t - 1 - i) := fun i hi => by
    have e : fp_lsc t (-1) i = ((t - 1 - i : Nat) : Int) := by unfold fp_lsc; omega
    unfold fp_lsf
    rw [e, if_pos (by omega)]
    rfl
  constructor
  · rintro ⟨i, h1, h2, h3⟩
    unfold fp_lsc at h2
    refine ⟨by omega, by omega, fun j hj => ?_⟩
    have h4 := fp_mx_iff.mp h3 (t - c - 2 - j) (by omega)
    rw [hf _ (by omega), show t - 1 - (t - c - 2 - j) = c + 1 + j by omega] at h4
    exact h4
  · rintro ⟨h1, h2, h3⟩
    refine ⟨t - c - 1, by omega, by unfold fp_lsc; omega, fp_mx_iff.mpr (fun j hj => ?_)⟩
    rw [hf j (by omega)]
    have := h3 (t - c - 2 - j) (by omega)
    rw [show c + 1 + (t - c - 2 - j) = t - 1 - j by omega] at this
    exact this
theorem fp_lta_lit {S : PS} (hok : fp_ok S) {c : Nat} (hc : c < 12) : fp_lta S 12 c = fp_lit S c := by
  unfold fp_lta fp_lit
  refine fp_any_congr (fun t ht => ?_)
  rw [Bool.eq_iff_iff, fp_rch_iff hok ht, Bool.and_eq_true, decide_eq_true_eq, Bool.or_eq_true, Bool.or_eq_true, decide_eq_true_eq, fp_side_l ht, fp_side_r hc]
  rcases Nat.lt_trichotomy t c with h | h | h
  · rw [Nat.max_eq_right (by omega), Nat.min_eq_left (by omega)]
    constructor
    · rintro ⟨a, (b | b) | b⟩
      · omega
      · omega
      · exact ⟨a, b.2⟩
    · exact fun b => ⟨b.1, Or.inr ⟨h, b.2⟩⟩
  · subst h
    simp
  · rw [Nat.max_eq_left (by omega), Nat.min_eq_right (by omega)]
    constructor
    · rintro ⟨a, (b | b) | b⟩
      · omega
      · exact ⟨a, b.2⟩
      · omega
    · exact fun b => ⟨b.1, Or.inl (Or.inr ⟨h, b.2⟩)⟩

set_option maxRecDepth 100000
set_option maxHeartbeats 4000000 in
theorem c_X1_isColumn (G : fp_G) (c : Int) (hc : rg c) : fp_M G yX1_isColumn cX1_isColumn 1 (some .boolean) 2 34 0 0 [.int (iI (c))] (fun H => True) fp_no (fun H v H1 => v = some (.int (iI (bI (decide (0 ≤ c ∧ c ≤ 11))))) ∧ H = H1) := by
  refine fp_M.intro (by decide) (Nat.le_of_ble_eq_true rfl) ?_
  intro pg en s mi ag bl mt cd rR qQ ls X hx hb hr hlk hnm hR hQ hB hM hl
  have hS : va_S (fA fp_no s.heap.size) s.heap s.heap [] := va_S.rf
  generalize ([] : List Loc) = locs at hS ⊢
  have hb0 := hB.1
  have hsz0 := hS.1
  refine lv_iload_n hx hb dX1_isColumn_0 rfl (lv_at hl 0 rfl) ?_
  refine lv_iconst (v := (iI ((0 : Nat) : Int))) hx hb dX1_isColumn_1 rfl ?_
  refine lv_bipush (v := (iI ((11 : Nat) : Int))) hx hb dX1_isColumn_2 rfl ?_
  refine r_callS (cells1 := 0) (slots1 := 0) X hR (c_X1_isBetween G (c) 0 11 (⟨by omega, by omega⟩) (⟨by omega, by omega⟩) (⟨by omega, by omega⟩)) q450 q404 q88 q405 pd_X1_isBetween ⟨Nat.le_of_ble_eq_true rfl, Nat.le_of_ble_eq_true rfl⟩ rfl rfl (Nat.le_of_ble_eq_true rfl) (Nat.le_of_ble_eq_true rfl) rfl (Nat.le_of_ble_eq_true rfl) hl.1 dX1_isColumn_4 (hB.of hS fp_no.base) trivial hS (fun _ h => h.elim) (fun v H_4 locs hp_1 hz_2 hk_3 hS => ?_)
  obtain ⟨rfl, rfl⟩ := hp_1
  refine r_stk (st2 := [.int (iI (bI (decide (0 ≤ (c) ∧ (c) ≤ 11))))]) rfl ?_
  refine r_zret hx hb hr hlk hQ hS (Nat.le_of_ble_eq_true rfl) (Nat.le_of_ble_eq_true rfl) dX1_isColumn_7 (bI_z _) ?_
  exact ⟨rfl, rfl⟩
set_option maxHeartbeats 4000000 in
theorem c_X2_lightSide (G : fp_G) (x : Nat) (l : Nat) (ed : Nat) (z : Nat) (t : Nat) (mc : Int32) (cap : Nat) (b : Nat → Nat) (S : PS) (tc : Nat) (sg : Int) (a : Nat) (f : Nat → Bool) (hsw : fp_sw S b) (htc : tc < 12) (hsg : sg = -1 ∨ sg = 1) (hab : (g_s G).heap.size ≤ a) (hap : (a ≠ x ∧ a ≠ l ∧ a ≠ ed ∧ a ≠ z ∧ a ≠ t) ∧ ∀ k, k < sN S → b k ≠ a) : fp_M G yX2_lightSide cX2_lightSide 7 none 7 146 8 32 [.ref (x), .int (iI ((tc : Nat) : Int)), .int (iI (sg)), .ref (a)] (fun H => fp_SE G x l ed z t mc cap b S H ∧ fp_At G H a (eZ G 12 (fun j => iI (bI (f j))))) (fun q => (g_s G).heap.size ≤ q ∧ (q = a)) (fun H v H1 => v = none ∧ fp_At G H1 a (eZ G 12 (fun j => iI (bI ((fun j => f j || fp_lsd S tc sg 4 j) j))))) := by
  refine fp_M.intro (by decide) (Nat.le_of_ble_eq_true rfl) ?_
  intro pg en s mi ag bl mt cd rR qQ ls X hx hb hr hlk hnm hR hQ hB hM hl
  have hS : va_S (fA (fun q => (g_s G).heap.size ≤ q ∧ (q = a)) s.heap.size) s.heap s.heap [] := va_S.rf
  generalize ([] : List Loc) = locs at hS ⊢
  have hb0 := hB.1
  have hAb : ∀ q, (fun q => (g_s G).heap.size ≤ q ∧ (q = a)) q → (g_s G).heap.size ≤ q := fun q h => h.1
  obtain ⟨h_st, h_ar⟩ := hM
  have hsz0 := hS.1
  have lt_1 := h_st.1.lt
  have lt_2 := h_ar.lt
  have hn24 := hsw.1.1
  obtain ⟨h_o, h_l, h_z, h_t, h_bl, h_xb, h_zb, h_tb⟩ := id h_st
  have lt_3 := h_l.1.lt
  have lt_4 := h_l.2.2
  have lt_5 := h_z.lt
  have lt_6 := h_t.lt
  have hh_tc := fp_hi_le hsw.1 tc
  rcases hsg with rfl | rfl
  · skip
    refine lv_iconst (v := (iI ((0 : Nat) : Int))) hx hb dX2_lightSide_0 rfl ?_
    refine lv_istore (lv' := [(4, .int (iI ((0 : Nat) : Int))), (0, .ref (x)), (1, .int (iI ((tc : Nat) : Int))), (2, .int (iI ((-1 : Int)))), (3, .ref (a))]) hx hb dX2_lightSide_1 hl (by decide) rfl (fun ls hl => ?_)
    refine lv_iconst (v := (iI ((1 : Nat) : Int))) hx hb dX2_lightSide_3 rfl ?_
    refine lv_istore (lv' := [(5, .int (iI ((1 : Nat) : Int))), (4, .int (iI ((0 : Nat) : Int))), (0, .ref (x)), (1, .int (iI ((tc : Nat) : Int))), (2, .int (iI ((-1 : Int)))), (3, .ref (a))]) hx hb dX2_lightSide_4 hl (by decide) rfl (fun ls hl => ?_)
    have L6 : ∀ (d : Nat), d ≤ 4 → ∀ (H_7 : Heap) (locs : List Loc) (ls : Array Slot), lv_has ls 7 [(0, .ref (x)), (1, .int (iI ((tc : Nat) : Int))), (2, .int (iI ((-1 : Int)))), (3, .ref (a)), (4, .int (iI ((fp_lsh S tc (-1) d : Nat) : Int))), (5, .int (iI ((d + 1 : Nat) : Int)))] → va_S (fA (fun q => (g_s G).heap.size ≤ q ∧ (q = a)) s.heap.size) s.heap H_7 locs → (s.heap.size ≤ H_7.size) → fp_At G H_7 a (eZ G 12 (fun j => iI (bI ((fun j => f j || fp_lsd S tc (-1) d j) j)))) → W pg (g_l G) en rR s mi ag bl mt cd H_7 locs (2 * d) (8 * d) qQ (F0 mi 6 ls []) := by
      refine lp_up 4 ?_
      intro d hk6 ih6 H_7 locs ls hl hS hz_8 hE_9
      have hz_10 := hS.1
      have lt_11 := hE_9.lt
      have hlb : fp_lsh S tc (-1) d ≤ 42 := fp_lsh_b hsw.1
      have hcs : fp_lsc tc (-1) d = ((tc : Nat) : Int) + (-1 : Int) * ((d + 1 : Nat) : Int) := rfl
      refine lv_iload hx hb dX2_lightSide_6 (lv_at hl 5 rfl) ?_
      refine lv_iconst (v := (iI ((4 : Nat) : Int))) hx hb dX2_lightSide_8 rfl ?_
      refine r_icmp_gt (tgt := 69) hx hb ⟨by omega, by omega⟩ (by decide) dX2_lightSide_9 (by decide) (fun c9 => ?_) (fun c9 => ?_)
      · skip
        obtain rfl : d = 4 := by omega
        refine r_vret hx hb hr hlk hQ hS (by omega) (by omega) dX2_lightSide_69 ?_
        exact ⟨rfl, hE_9⟩
      · skip
        refine lv_iload_n hx hb dX2_lightSide_12 rfl (lv_at hl 1 rfl) ?_
        refine lv_iload_n hx hb dX2_lightSide_13 rfl (lv_at hl 2 rfl) ?_
        refine lv_iload hx hb dX2_lightSide_14 (lv_at hl 5 rfl) ?_
        refine r_imul hx hb dX2_lightSide_16 ?_
        refine r_iadd hx hb dX2_lightSide_17 ?_
        refine lv_istore (lv' := [(6, .int (iI (((tc : Nat) : Int) + (((-1 : Int)) * ((d + 1 : Nat) : Int))))), (0, .ref (x)), (1, .int (iI ((tc : Nat) : Int))), (2, .int (iI ((-1 : Int)))), (3, .ref (a)), (4, .int (iI ((fp_lsh S tc (-1) d : Nat) : Int))), (5, .int (iI ((d + 1 : Nat) : Int)))]) hx hb dX2_lightSide_18 hl (by decide) rfl (fun ls hl => ?_)
        refine lv_iload hx hb dX2_lightSide_20 (lv_at hl 0 rfl) ?_
        refine r_callSN (cells1 := (2 * d)) (slots1 := (8 * d)) X hR (c_X1_isColumn G (((tc : Nat) : Int) + (((-1 : Int)) * ((d + 1 : Nat) : Int))) (⟨by omega, by omega⟩)) q447 q448 q88 q449 ⟨by decide, by decide, rfl⟩ ⟨Nat.le_of_ble_eq_true rfl, Nat.le_of_ble_eq_true rfl⟩ rfl rfl (by omega) (by omega) rfl (Nat.le_of_ble_eq_true rfl) hl.1 dX2_lightSide_22 (hB.of hS hAb) trivial hS (fun _ h => h.elim) (fun v H_15 locs hp_12 hz_13 hk_14 hS => ?_)
        obtain ⟨rfl, rfl⟩ := hp_12
        refine r_stk (st2 := [.int (iI (bI (decide (0 ≤ (((tc : Nat) : Int) + (((-1 : Int)) * ((d + 1 : Nat) : Int))) ∧ (((tc : Nat) : Int) + (((-1 : Int)) * ((d + 1 : Nat) : Int))) ≤ 11))))]) rfl ?_
        refine r_ifeqB (tgt := 63) hx hb dX2_lightSide_25 (by decide) (fun c25 => ?_) (fun c25 => ?_)
        · skip
          have d25 := of_decide_eq_false c25
          refine lv_iinc (v := (iI (((d + 1) + 1 : Nat) : Int))) (lv' := [(5, .int (iI (((d + 1) + 1 : Nat) : Int))), (6, .int (iI (((tc : Nat) : Int) + (((-1 : Int)) * ((d + 1 : Nat) : Int))))), (0, .ref (x)), (1, .int (iI ((tc : Nat) : Int))), (2, .int (iI ((-1 : Int)))), (3, .ref (a)), (4, .int (iI ((fp_lsh S tc (-1) d : Nat) : Int)))]) hx hb dX2_lightSide_63 hl (k := 6) rfl (iI_incN _ _) (by decide) rfl (fun ls hl => ?_)
          refine lv_goto (tgt := 6) hx hb dX2_lightSide_66 (by decide) ?_
          refine W.widen (k := 2 * (d + 1)) (n := 8 * (d + 1)) (by omega) (by omega) ?_
          exact ih6 (by omega) H_7 locs ls (by rw [show Value.int (iI ((fp_lsh S tc (-1) (d + 1) : Nat) : Int)) = Value.int (iI ((fp_lsh S tc (-1) d : Nat) : Int)) from congrArg (fun q : Nat => Value.int (iI (q : Int))) (fp_lsh_out (by rw [hcs]; exact d25))]; exact lv_sub hl [2, 3, 4, 5, 6, 0] rfl) hS (by omega) (fp_At.cZ hE_9 (fp_lsd_out (by rw [hcs]; exact d25)))
        · skip
          have d25 := of_decide_eq_true c25
          obtain ⟨cn, hcn⟩ : ∃ cn : Nat, ((tc : Nat) : Int) + (-1 : Int) * ((d + 1 : Nat) : Int) = (cn : Int) := ⟨_, (Int.toNat_of_nonneg d25.1).symm⟩
          have hcn2 : cn < 12 := by omega
          have hcn3 : fp_lsc tc (-1) d = (cn : Int) := hcs.trans hcn
          have hhc := fp_hi_le hsw.1 cn
          refine lv_aload_n hx hb dX2_lightSide_28 rfl (lv_at hl 4 rfl) ?_
          refine lv_iload hx hb dX2_lightSide_29 (lv_at hl 0 rfl) ?_
          refine lv_dup2_11 hx hb dX2_lightSide_31 rfl rfl ?_
          refine r_zaldI X hE_9 (j := cn) hcn (by omega) (by decide) dX2_lightSide_32 ?_
          refine r_set (y := .int (iI (bI (f cn || fp_lsd S tc (-1) d cn)))) rfl ?_
          refine lv_iload hx hb dX2_lightSide_33 (lv_at hl 5 rfl) ?_
          refine lv_aload_n hx hb dX2_lightSide_35 rfl (lv_at hl 1 rfl) ?_
          refine lv_iload_n hx hb dX2_lightSide_36 rfl (lv_at hl 2 rfl) ?_
          have hE_16 := fp_SE.mv h_st (fp_keptS (by omega) hS (by omega)) (fp_keptS (by omega) hS (by omega)) (fp_keptS (by omega) hS (by omega)) (fp_keptS (by omega) hS (by omega)) (fp_keptS (by omega) hS (by omega)) (fun k hk => fp_keptS (h_st.2.2.2.2.1 k hk).lt hS (by have := hap.2 k hk; omega))
          refine r_callV (cells1 := (2 * d + 1)) (slots1 := (8 * d + 4)) X hR (c_X2_flame G x l ed z t mc cap b S tc hsw htc) q451 q453 qs3 q89 q454 ⟨rfl, pd_X2_flame⟩ ⟨Nat.le_of_ble_eq_true rfl, Nat.le_of_ble_eq_true rfl⟩ rfl rfl (by omega) (by omega) hE_16.1 rfl rfl (Nat.le_of_ble_eq_true rfl) hl.1 dX2_lightSide_37 (hB.of hS hAb) hE_16 hS (fun _ h => h.elim) (fun v H_20 locs hp_17 hz_18 hk_19 hS => ?_)
          obtain rfl := hp_17
          have hz_21 := hS.1
          refine r_stk (st2 := [.int (iI ((fp_hi S tc + 2 : Nat) : Int)), .int (iI ((fp_lsh S tc (-1) d : Nat) : Int)), .int (iI (bI (f cn || fp_lsd S tc (-1) d cn))), .int (iI (((tc : Nat) : Int) + (((-1 : Int)) * ((d + 1 : Nat) : Int)))), .ref (a)]) rfl ?_
          refine r_icmp_gt (tgt := 47) hx hb ⟨by omega, by omega⟩ ⟨by omega, by omega⟩ dX2_lightSide_40 (by decide) (fun c40 => ?_) (fun c40 => ?_)
          · skip
            refine lv_iconst (v := (iI ((0 : Nat) : Int))) hx hb dX2_lightSide_47 rfl ?_
            refine r_iorB (a := f cn || fp_lsd S tc (-1) d cn) (b := false) hx hb dX2_lightSide_48 ?_
            have hE_23 := fp_At.kept hE_9 (hk_19 _ (by omega) (fun z => z))
            refine r_zastB (v := (f cn || fp_lsd S tc (-1) d cn) || false) X hE_23 hS (Or.inl ⟨by omega, rfl⟩) (j := cn) hcn (by omega) (by decide) dX2_lightSide_49 (fun H_27 locs hE_24 hz_25 hq_26 hS => ?_)
            have hz_28 := hS.1
            have hE_29 : fp_At G H_27 a (eZ G 12 (fun j => iI (bI ((va_up (fun j => f j || fp_lsd S tc (-1) d j) cn ((f cn || fp_lsd S tc (-1) d cn) || false)) j)))) := hE_24.updZ
            refine lv_iload hx hb dX2_lightSide_50 (lv_at hl 5 rfl) ?_
            refine lv_aload_n hx hb dX2_lightSide_52 rfl (lv_at hl 1 rfl) ?_
            refine lv_iload hx hb dX2_lightSide_53 (lv_at hl 0 rfl) ?_
            refine r_set (y := .int (iI ((cn : Nat) : Int))) (congrArg (fun q : Int => Value.int (iI q)) hcn) ?_
            have hE_30 := fp_SE.mv h_st (fp_keptS (by omega) hS (by omega)) (fp_keptS (by omega) hS (by omega)) (fp_keptS (by omega) hS (by omega)) (fp_keptS (by omega) hS (by omega)) (fp_keptS (by omega) hS (by omega)) (fun k hk => fp_keptS (h_st.2.2.2.2.1 k hk).lt hS (by have := hap.2 k hk; omega))
            refine r_callV (cells1 := (2 * d + 1 + 1)) (slots1 := (8 * d + 4 + 4)) X hR (c_X2_height G x l ed z t mc cap b S cn hsw (by omega)) q455 q272 q273 q89 q274 ⟨rfl, pd_X2_height⟩ ⟨Nat.le_of_ble_eq_true rfl, Nat.le_of_ble_eq_true rfl⟩ rfl rfl (by omega) (by omega) hE_30.1 rfl rfl (Nat.le_of_ble_eq_true rfl) hl.1 dX2_lightSide_55 (hB.of hS hAb) hE_30 hS (fun _ h => h.elim) (fun v H_34 locs hp_31 hz_32 hk_33 hS => ?_)
            obtain rfl := hp_31
            have hz_35 := hS.1
            refine r_stk (st2 := [.int (iI ((fp_hi S cn : Nat) : Int)), .int (iI ((fp_lsh S tc (-1) d : Nat) : Int))]) rfl ?_
            refine r_maxN X hR hl.1 q424 q425 q107 q426 (by decide) (Nat.le_of_ble_eq_true rfl) (by omega) (by omega) (by omega) (by omega) dX2_lightSide_58 ?_
            refine lv_istore (lv' := [(4, .int (iI ((max (fp_lsh S tc (-1) d) (fp_hi S cn) : Nat) : Int))), (6, .int (iI (((tc : Nat) : Int) + (((-1 : Int)) * ((d + 1 : Nat) : Int))))), (0, .ref (x)), (1, .int (iI ((tc : Nat) : Int))), (2, .int (iI ((-1 : Int)))), (3, .ref (a)), (5, .int (iI ((d + 1 : Nat) : Int)))]) hx hb dX2_lightSide_61 hl (by decide) rfl (fun ls hl => ?_)
            refine lv_iinc (v := (iI (((d + 1) + 1 : Nat) : Int))) (lv' := [(5, .int (iI (((d + 1) + 1 : Nat) : Int))), (4, .int (iI ((max (fp_lsh S tc (-1) d) (fp_hi S cn) : Nat) : Int))), (6, .int (iI (((tc : Nat) : Int) + (((-1 : Int)) * ((d + 1 : Nat) : Int))))), (0, .ref (x)), (1, .int (iI ((tc : Nat) : Int))), (2, .int (iI ((-1 : Int)))), (3, .ref (a))]) hx hb dX2_lightSide_63 hl (k := 6) rfl (iI_incN _ _) (by decide) rfl (fun ls hl => ?_)
            refine lv_goto (tgt := 6) hx hb dX2_lightSide_66 (by decide) ?_
            have hE_37 := fp_At.kept hE_29 (hk_33 _ (by omega) (fun z => z))
            refine W.widen (k := 2 * (d + 1)) (n := 8 * (d + 1)) (by omega) (by omega) ?_
            exact ih6 (by omega) H_34 locs ls (by rw [show Value.int (iI ((fp_lsh S tc (-1) (d + 1) : Nat) : Int)) = Value.int (iI ((max (fp_lsh S tc (-1) d) (fp_hi S cn) : Nat) : Int)) from congrArg (fun q : Nat => Value.int (iI (q : Int))) (fp_lsh_in hcn3 hcn2)]; exact lv_sub hl [3, 4, 5, 6, 1, 0] rfl) hS (by omega) (fp_At.cZ hE_37 (fp_lsd_in hcn3 (by simp; omega)))
          · skip
            refine lv_iconst (v := (iI ((1 : Nat) : Int))) hx hb dX2_lightSide_43 rfl ?_
            refine lv_goto (tgt := 48) hx hb dX2_lightSide_44 (by decide) ?_
            refine r_iorB (a := f cn || fp_lsd S tc (-1) d cn) (b := true) hx hb dX2_lightSide_48 ?_
            have hE_39 := fp_At.kept hE_9 (hk_19 _ (by omega) (fun z => z))
            refine r_zastB (v := (f cn || fp_lsd S tc (-1) d cn) || true) X hE_39 hS (Or.inl ⟨by omega, rfl⟩) (j := cn) hcn (by omega) (by decide) dX2_lightSide_49 (fun H_43 locs hE_40 hz_41 hq_42 hS => ?_)
            have hz_44 := hS.1
            have hE_45 : fp_At G H_43 a (eZ G 12 (fun j => iI (bI ((va_up (fun j => f j || fp_lsd S tc (-1) d j) cn ((f cn || fp_lsd S tc (-1) d cn) || true)) j)))) := hE_40.updZ
            refine lv_iload hx hb dX2_lightSide_50 (lv_at hl 5 rfl) ?_
            refine lv_aload_n hx hb dX2_lightSide_52 rfl (lv_at hl 1 rfl) ?_
            refine lv_iload hx hb dX2_lightSide_53 (lv_at hl 0 rfl) ?_
            refine r_set (y := .int (iI ((cn : Nat) : Int))) (congrArg (fun q : Int => Value.int (iI q)) hcn) ?_
            have hE_46 := fp_SE.mv h_st (fp_keptS (by omega) hS (by omega)) (fp_keptS (by omega) hS (by omega)) (fp_keptS (by omega) hS (by omega)) (fp_keptS (by omega) hS (by omega)) (fp_keptS (by omega) hS (by omega)) (fun k hk => fp_keptS (h_st.2.2.2.2.1 k hk).lt hS (by have := hap.2 k hk; omega))
            refine r_callV (cells1 := (2 * d + 1 + 1)) (slots1 := (8 * d + 4 + 4)) X hR (c_X2_height G x l ed z t mc cap b S cn hsw (by omega)) q455 q272 q273 q89 q274 ⟨rfl, pd_X2_height⟩ ⟨Nat.le_of_ble_eq_true rfl, Nat.le_of_ble_eq_true rfl⟩ rfl rfl (by omega) (by omega) hE_46.1 rfl rfl (Nat.le_of_ble_eq_true rfl) hl.1 dX2_lightSide_55 (hB.of hS hAb) hE_46 hS (fun _ h => h.elim) (fun v H_50 locs hp_47 hz_48 hk_49 hS => ?_)
            obtain rfl := hp_47
            have hz_51 := hS.1
            refine r_stk (st2 := [.int (iI ((fp_hi S cn : Nat) : Int)), .int (iI ((fp_lsh S tc (-1) d : Nat) : Int))]) rfl ?_
            refine r_maxN X hR hl.1 q424 q425 q107 q426 (by decide) (Nat.le_of_ble_eq_true rfl) (by omega) (by omega) (by omega) (by omega) dX2_lightSide_58 ?_
            refine lv_istore (lv' := [(4, .int (iI ((max (fp_lsh S tc (-1) d) (fp_hi S cn) : Nat) : Int))), (6, .int (iI (((tc : Nat) : Int) + (((-1 : Int)) * ((d + 1 : Nat) : Int))))), (0, .ref (x)), (1, .int (iI ((tc : Nat) : Int))), (2, .int (iI ((-1 : Int)))), (3, .ref (a)), (5, .int (iI ((d + 1 : Nat) : Int)))]) hx hb dX2_lightSide_61 hl (by decide) rfl (fun ls hl => ?_)
            refine lv_iinc (v := (iI (((d + 1) + 1 : Nat) : Int))) (lv' := [(5, .int (iI (((d + 1) + 1 : Nat) : Int))), (4, .int (iI ((max (fp_lsh S tc (-1) d) (fp_hi S cn) : Nat) : Int))), (6, .int (iI (((tc : Nat) : Int) + (((-1 : Int)) * ((d + 1 : Nat) : Int))))), (0, .ref (x)), (1, .int (iI ((tc : Nat) : Int))), (2, .int (iI ((-1 : Int)))), (3, .ref (a))]) hx hb dX2_lightSide_63 hl (k := 6) rfl (iI_incN _ _) (by decide) rfl (fun ls hl => ?_)
            refine lv_goto (tgt := 6) hx hb dX2_lightSide_66 (by decide) ?_
            have hE_53 := fp_At.kept hE_45 (hk_49 _ (by omega) (fun z => z))
            refine W.widen (k := 2 * (d + 1)) (n := 8 * (d + 1)) (by omega) (by omega) ?_
            exact ih6 (by omega) H_50 locs ls (by rw [show Value.int (iI ((fp_lsh S tc (-1) (d + 1) : Nat) : Int)) = Value.int (iI ((max (fp_lsh S tc (-1) d) (fp_hi S cn) : Nat) : Int)) from congrArg (fun q : Nat => Value.int (iI (q : Int))) (fp_lsh_in hcn3 hcn2)]; exact lv_sub hl [3, 4, 5, 6, 1, 0] rfl) hS (by omega) (fp_At.cZ hE_53 (fp_lsd_in hcn3 (by simp; omega)))
    refine W.widen (k := 2 * 0) (n := 8 * 0) (by omega) (by omega) ?_
    exact L6 0 (by omega) s.heap locs ls (by rw [show Value.int (iI ((fp_lsh S tc (-1) 0 : Nat) : Int)) = Value.int (iI ((0 : Nat) : Int)) from congrArg (fun q : Nat => Value.int (iI (q : Int))) (rfl)]; exact lv_sub hl [2, 3, 4, 5, 1, 0] rfl) hS (Nat.le_refl _) (fp_At.cZ h_ar (fun j _ => (Bool.or_false _).symm))
  · skip
    refine lv_iconst (v := (iI ((0 : Nat) : Int))) hx hb dX2_lightSide_0 rfl ?_
    refine lv_istore (lv' := [(4, .int (iI ((0 : Nat) : Int))), (0, .ref (x)), (1, .int (iI ((tc : Nat) : Int))), (2, .int (iI ((1 : Int)))), (3, .ref (a))]) hx hb dX2_lightSide_1 hl (by decide) rfl (fun ls hl => ?_)
    refine lv_iconst (v := (iI ((1 : Nat) : Int))) hx hb dX2_lightSide_3 rfl ?_
    refine lv_istore (lv' := [(5, .int (iI ((1 : Nat) : Int))), (4, .int (iI ((0 : Nat) : Int))), (0, .ref (x)), (1, .int (iI ((tc : Nat) : Int))), (2, .int (iI ((1 : Int)))), (3, .ref (a))]) hx hb dX2_lightSide_4 hl (by decide) rfl (fun ls hl => ?_)
    have L6 : ∀ (d : Nat), d ≤ 4 → ∀ (H_54 : Heap) (locs : List Loc) (ls : Array Slot), lv_has ls 7 [(0, .ref (x)), (1, .int (iI ((tc : Nat) : Int))), (2, .int (iI ((1 : Int)))), (3, .ref (a)), (4, .int (iI ((fp_lsh S tc 1 d : Nat) : Int))), (5, .int (iI ((d + 1 : Nat) : Int)))] → va_S (fA (fun q => (g_s G).heap.size ≤ q ∧ (q = a)) s.heap.size) s.heap H_54 locs → (s.heap.size ≤ H_54.size) → fp_At G H_54 a (eZ G 12 (fun j => iI (bI ((fun j => f j || fp_lsd S tc 1 d j) j)))) → W pg (g_l G) en rR s mi ag bl mt cd H_54 locs (2 * d) (8 * d) qQ (F0 mi 6 ls []) := by
      refine lp_up 4 ?_
      intro d hk6 ih6 H_54 locs ls hl hS hz_55 hE_56
      have hz_57 := hS.1
      have lt_58 := hE_56.lt
      have hlb : fp_lsh S tc 1 d ≤ 42 := fp_lsh_b hsw.1
      have hcs : fp_lsc tc (1) d = ((tc : Nat) : Int) + (1 : Int) * ((d + 1 : Nat) : Int) := rfl
      refine lv_iload hx hb dX2_lightSide_6 (lv_at hl 5 rfl) ?_
      refine lv_iconst (v := (iI ((4 : Nat) : Int))) hx hb dX2_lightSide_8 rfl ?_
      refine r_icmp_gt (tgt := 69) hx hb ⟨by omega, by omega⟩ (by decide) dX2_lightSide_9 (by decide) (fun c9 => ?_) (fun c9 => ?_)
      · skip
        obtain rfl : d = 4 := by omega
        refine r_vret hx hb hr hlk hQ hS (by omega) (by omega) dX2_lightSide_69 ?_
        exact ⟨rfl, hE_56⟩
      · skip
        refine lv_iload_n hx hb dX2_lightSide_12 rfl (lv_at hl 1 rfl) ?_
        refine lv_iload_n hx hb dX2_lightSide_13 rfl (lv_at hl 2 rfl) ?_
        refine lv_iload hx hb dX2_lightSide_14 (lv_at hl 5 rfl) ?_
        refine r_imul hx hb dX2_lightSide_16 ?_
        refine r_iadd hx hb dX2_lightSide_17 ?_
        refine lv_istore (lv' := [(6, .int (iI (((tc : Nat) : Int) + (((1 : Int)) * ((d + 1 : Nat) : Int))))), (0, .ref (x)), (1, .int (iI ((tc : Nat) : Int))), (2, .int (iI ((1 : Int)))), (3, .ref (a)), (4, .int (iI ((fp_lsh S tc 1 d : Nat) : Int))), (5, .int (iI ((d + 1 : Nat) : Int)))]) hx hb dX2_lightSide_18 hl (by decide) rfl (fun ls hl => ?_)
        refine lv_iload hx hb dX2_lightSide_20 (lv_at hl 0 rfl) ?_
        refine r_callSN (cells1 := (2 * d)) (slots1 := (8 * d)) X hR (c_X1_isColumn G (((tc : Nat) : Int) + (((1 : Int)) * ((d + 1 : Nat) : Int))) (⟨by omega, by omega⟩)) q447 q448 q88 q449 ⟨by decide, by decide, rfl⟩ ⟨Nat.le_of_ble_eq_true rfl, Nat.le_of_ble_eq_true rfl⟩ rfl rfl (by omega) (by omega) rfl (Nat.le_of_ble_eq_true rfl) hl.1 dX2_lightSide_22 (hB.of hS hAb) trivial hS (fun _ h => h.elim) (fun v H_62 locs hp_59 hz_60 hk_61 hS => ?_)
        obtain ⟨rfl, rfl⟩ := hp_59
        refine r_stk (st2 := [.int (iI (bI (decide (0 ≤ (((tc : Nat) : Int) + (((1 : Int)) * ((d + 1 : Nat) : Int))) ∧ (((tc : Nat) : Int) + (((1 : Int)) * ((d + 1 : Nat) : Int))) ≤ 11))))]) rfl ?_
        refine r_ifeqB (tgt := 63) hx hb dX2_lightSide_25 (by decide) (fun c25 => ?_) (fun c25 => ?_)
        · skip
          have d25 := of_decide_eq_false c25
          refine lv_iinc (v := (iI (((d + 1) + 1 : Nat) : Int))) (lv' := [(5, .int (iI (((d + 1) + 1 : Nat) : Int))), (6, .int (iI (((tc : Nat) : Int) + (((1 : Int)) * ((d + 1 : Nat) : Int))))), (0, .ref (x)), (1, .int (iI ((tc : Nat) : Int))), (2, .int (iI ((1 : Int)))), (3, .ref (a)), (4, .int (iI ((fp_lsh S tc 1 d : Nat) : Int)))]) hx hb dX2_lightSide_63 hl (k := 6) rfl (iI_incN _ _) (by decide) rfl (fun ls hl => ?_)
          refine lv_goto (tgt := 6) hx hb dX2_lightSide_66 (by decide) ?_
          refine W.widen (k := 2 * (d + 1)) (n := 8 * (d + 1)) (by omega) (by omega) ?_
          exact ih6 (by omega) H_54 locs ls (by rw [show Value.int (iI ((fp_lsh S tc 1 (d + 1) : Nat) : Int)) = Value.int (iI ((fp_lsh S tc 1 d : Nat) : Int)) from congrArg (fun q : Nat => Value.int (iI (q : Int))) (fp_lsh_out (by rw [hcs]; exact d25))]; exact lv_sub hl [2, 3, 4, 5, 6, 0] rfl) hS (by omega) (fp_At.cZ hE_56 (fp_lsd_out (by rw [hcs]; exact d25)))
        · skip
          have d25 := of_decide_eq_true c25
          obtain ⟨cn, hcn⟩ : ∃ cn : Nat, ((tc : Nat) : Int) + (1 : Int) * ((d + 1 : Nat) : Int) = (cn : Int) := ⟨_, (Int.toNat_of_nonneg d25.1).symm⟩
          have hcn2 : cn < 12 := by omega
          have hcn3 : fp_lsc tc (1) d = (cn : Int) := hcs.trans hcn
          have hhc := fp_hi_le hsw.1 cn
          refine lv_aload_n hx hb dX2_lightSide_28 rfl (lv_at hl 4 rfl) ?_
          refine lv_iload hx hb dX2_lightSide_29 (lv_at hl 0 rfl) ?_
          refine lv_dup2_11 hx hb dX2_lightSide_31 rfl rfl ?_
          refine r_zaldI X hE_56 (j := cn) hcn (by omega) (by decide) dX2_lightSide_32 ?_
          refine r_set (y := .int (iI (bI (f cn || fp_lsd S tc 1 d cn)))) rfl ?_
          refine lv_iload hx hb dX2_lightSide_33 (lv_at hl 5 rfl) ?_
          refine lv_aload_n hx hb dX2_lightSide_35 rfl (lv_at hl 1 rfl) ?_
          refine lv_iload_n hx hb dX2_lightSide_36 rfl (lv_at hl 2 rfl) ?_
          have hE_63 := fp_SE.mv h_st (fp_keptS (by omega) hS (by omega)) (fp_keptS (by omega) hS (by omega)) (fp_keptS (by omega) hS (by omega)) (fp_keptS (by omega) hS (by omega)) (fp_keptS (by omega) hS (by omega)) (fun k hk => fp_keptS (h_st.2.2.2.2.1 k hk).lt hS (by have := hap.2 k hk; omega))
          refine r_callV (cells1 := (2 * d + 1)) (slots1 := (8 * d + 4)) X hR (c_X2_flame G x l ed z t mc cap b S tc hsw htc) q451 q453 qs3 q89 q454 ⟨rfl, pd_X2_flame⟩ ⟨Nat.le_of_ble_eq_true rfl, Nat.le_of_ble_eq_true rfl⟩ rfl rfl (by omega) (by omega) hE_63.1 rfl rfl (Nat.le_of_ble_eq_true rfl) hl.1 dX2_lightSide_37 (hB.of hS hAb) hE_63 hS (fun _ h => h.elim) (fun v H_67 locs hp_64 hz_65 hk_66 hS => ?_)
          obtain rfl := hp_64
          have hz_68 := hS.1
          refine r_stk (st2 := [.int (iI ((fp_hi S tc + 2 : Nat) : Int)), .int (iI ((fp_lsh S tc 1 d : Nat) : Int)), .int (iI (bI (f cn || fp_lsd S tc 1 d cn))), .int (iI (((tc : Nat) : Int) + (((1 : Int)) * ((d + 1 : Nat) : Int)))), .ref (a)]) rfl ?_
          refine r_icmp_gt (tgt := 47) hx hb ⟨by omega, by omega⟩ ⟨by omega, by omega⟩ dX2_lightSide_40 (by decide) (fun c40 => ?_) (fun c40 => ?_)
          · skip
            refine lv_iconst (v := (iI ((0 : Nat) : Int))) hx hb dX2_lightSide_47 rfl ?_
            refine r_iorB (a := f cn || fp_lsd S tc 1 d cn) (b := false) hx hb dX2_lightSide_48 ?_
            have hE_70 := fp_At.kept hE_56 (hk_66 _ (by omega) (fun z => z))
            refine r_zastB (v := (f cn || fp_lsd S tc 1 d cn) || false) X hE_70 hS (Or.inl ⟨by omega, rfl⟩) (j := cn) hcn (by omega) (by decide) dX2_lightSide_49 (fun H_74 locs hE_71 hz_72 hq_73 hS => ?_)
            have hz_75 := hS.1
            have hE_76 : fp_At G H_74 a (eZ G 12 (fun j => iI (bI ((va_up (fun j => f j || fp_lsd S tc 1 d j) cn ((f cn || fp_lsd S tc 1 d cn) || false)) j)))) := hE_71.updZ
            refine lv_iload hx hb dX2_lightSide_50 (lv_at hl 5 rfl) ?_
            refine lv_aload_n hx hb dX2_lightSide_52 rfl (lv_at hl 1 rfl) ?_
            refine lv_iload hx hb dX2_lightSide_53 (lv_at hl 0 rfl) ?_
            refine r_set (y := .int (iI ((cn : Nat) : Int))) (congrArg (fun q : Int => Value.int (iI q)) hcn) ?_
            have hE_77 := fp_SE.mv h_st (fp_keptS (by omega) hS (by omega)) (fp_keptS (by omega) hS (by omega)) (fp_keptS (by omega) hS (by omega)) (fp_keptS (by omega) hS (by omega)) (fp_keptS (by omega) hS (by omega)) (fun k hk => fp_keptS (h_st.2.2.2.2.1 k hk).lt hS (by have := hap.2 k hk; omega))
            refine r_callV (cells1 := (2 * d + 1 + 1)) (slots1 := (8 * d + 4 + 4)) X hR (c_X2_height G x l ed z t mc cap b S cn hsw (by omega)) q455 q272 q273 q89 q274 ⟨rfl, pd_X2_height⟩ ⟨Nat.le_of_ble_eq_true rfl, Nat.le_of_ble_eq_true rfl⟩ rfl rfl (by omega) (by omega) hE_77.1 rfl rfl (Nat.le_of_ble_eq_true rfl) hl.1 dX2_lightSide_55 (hB.of hS hAb) hE_77 hS (fun _ h => h.elim) (fun v H_81 locs hp_78 hz_79 hk_80 hS => ?_)
            obtain rfl := hp_78
            have hz_82 := hS.1
            refine r_stk (st2 := [.int (iI ((fp_hi S cn : Nat) : Int)), .int (iI ((fp_lsh S tc 1 d : Nat) : Int))]) rfl ?_
            refine r_maxN X hR hl.1 q424 q425 q107 q426 (by decide) (Nat.le_of_ble_eq_true rfl) (by omega) (by omega) (by omega) (by omega) dX2_lightSide_58 ?_
            refine lv_istore (lv' := [(4, .int (iI ((max (fp_lsh S tc 1 d) (fp_hi S cn) : Nat) : Int))), (6, .int (iI (((tc : Nat) : Int) + (((1 : Int)) * ((d + 1 : Nat) : Int))))), (0, .ref (x)), (1, .int (iI ((tc : Nat) : Int))), (2, .int (iI ((1 : Int)))), (3, .ref (a)), (5, .int (iI ((d + 1 : Nat) : Int)))]) hx hb dX2_lightSide_61 hl (by decide) rfl (fun ls hl => ?_)
            refine lv_iinc (v := (iI (((d + 1) + 1 : Nat) : Int))) (lv' := [(5, .int (iI (((d + 1) + 1 : Nat) : Int))), (4, .int (iI ((max (fp_lsh S tc 1 d) (fp_hi S cn) : Nat) : Int))), (6, .int (iI (((tc : Nat) : Int) + (((1 : Int)) * ((d + 1 : Nat) : Int))))), (0, .ref (x)), (1, .int (iI ((tc : Nat) : Int))), (2, .int (iI ((1 : Int)))), (3, .ref (a))]) hx hb dX2_lightSide_63 hl (k := 6) rfl (iI_incN _ _) (by decide) rfl (fun ls hl => ?_)
            refine lv_goto (tgt := 6) hx hb dX2_lightSide_66 (by decide) ?_
            have hE_84 := fp_At.kept hE_76 (hk_80 _ (by omega) (fun z => z))
            refine W.widen (k := 2 * (d + 1)) (n := 8 * (d + 1)) (by omega) (by omega) ?_
            exact ih6 (by omega) H_81 locs ls (by rw [show Value.int (iI ((fp_lsh S tc 1 (d + 1) : Nat) : Int)) = Value.int (iI ((max (fp_lsh S tc 1 d) (fp_hi S cn) : Nat) : Int)) from congrArg (fun q : Nat => Value.int (iI (q : Int))) (fp_lsh_in hcn3 hcn2)]; exact lv_sub hl [3, 4, 5, 6, 1, 0] rfl) hS (by omega) (fp_At.cZ hE_84 (fp_lsd_in hcn3 (by simp; omega)))
          · skip
            refine lv_iconst (v := (iI ((1 : Nat) : Int))) hx hb dX2_lightSide_43 rfl ?_
            refine lv_goto (tgt := 48) hx hb dX2_lightSide_44 (by decide) ?_
            refine r_iorB (a := f cn || fp_lsd S tc 1 d cn) (b := true) hx hb dX2_lightSide_48 ?_
            have hE_86 := fp_At.kept hE_56 (hk_66 _ (by omega) (fun z => z))
            refine r_zastB (v := (f cn || fp_lsd S tc 1 d cn) || true) X hE_86 hS (Or.inl ⟨by omega, rfl⟩) (j := cn) hcn (by omega) (by decide) dX2_lightSide_49 (fun H_90 locs hE_87 hz_88 hq_89 hS => ?_)
            have hz_91 := hS.1
            have hE_92 : fp_At G H_90 a (eZ G 12 (fun j => iI (bI ((va_up (fun j => f j || fp_lsd S tc 1 d j) cn ((f cn || fp_lsd S tc 1 d cn) || true)) j)))) := hE_87.updZ
            refine lv_iload hx hb dX2_lightSide_50 (lv_at hl 5 rfl) ?_
            refine lv_aload_n hx hb dX2_lightSide_52 rfl (lv_at hl 1 rfl) ?_
            refine lv_iload hx hb dX2_lightSide_53 (lv_at hl 0 rfl) ?_
            refine r_set (y := .int (iI ((cn : Nat) : Int))) (congrArg (fun q : Int => Value.int (iI q)) hcn) ?_
            have hE_93 := fp_SE.mv h_st (fp_keptS (by omega) hS (by omega)) (fp_keptS (by omega) hS (by omega)) (fp_keptS (by omega) hS (by omega)) (fp_keptS (by omega) hS (by omega)) (fp_keptS (by omega) hS (by omega)) (fun k hk => fp_keptS (h_st.2.2.2.2.1 k hk).lt hS (by have := hap.2 k hk; omega))
            refine r_callV (cells1 := (2 * d + 1 + 1)) (slots1 := (8 * d + 4 + 4)) X hR (c_X2_height G x l ed z t mc cap b S cn hsw (by omega)) q455 q272 q273 q89 q274 ⟨rfl, pd_X2_height⟩ ⟨Nat.le_of_ble_eq_true rfl, Nat.le_of_ble_eq_true rfl⟩ rfl rfl (by omega) (by omega) hE_93.1 rfl rfl (Nat.le_of_ble_eq_true rfl) hl.1 dX2_lightSide_55 (hB.of hS hAb) hE_93 hS (fun _ h => h.elim) (fun v H_97 locs hp_94 hz_95 hk_96 hS => ?_)
            obtain rfl := hp_94
            have hz_98 := hS.1
            refine r_stk (st2 := [.int (iI ((fp_hi S cn : Nat) : Int)), .int (iI ((fp_lsh S tc 1 d : Nat) : Int))]) rfl ?_
            refine r_maxN X hR hl.1 q424 q425 q107 q426 (by decide) (Nat.le_of_ble_eq_true rfl) (by omega) (by omega) (by omega) (by omega) dX2_lightSide_58 ?_
            refine lv_istore (lv' := [(4, .int (iI ((max (fp_lsh S tc 1 d) (fp_hi S cn) : Nat) : Int))), (6, .int (iI (((tc : Nat) : Int) + (((1 : Int)) * ((d + 1 : Nat) : Int))))), (0, .ref (x)), (1, .int (iI ((tc : Nat) : Int))), (2, .int (iI ((1 : Int)))), (3, .ref (a)), (5, .int (iI ((d + 1 : Nat) : Int)))]) hx hb dX2_lightSide_61 hl (by decide) rfl (fun ls hl => ?_)
            refine lv_iinc (v := (iI (((d + 1) + 1 : Nat) : Int))) (lv' := [(5, .int (iI (((d + 1) + 1 : Nat) : Int))), (4, .int (iI ((max (fp_lsh S tc 1 d) (fp_hi S cn) : Nat) : Int))), (6, .int (iI (((tc : Nat) : Int) + (((1 : Int)) * ((d + 1 : Nat) : Int))))), (0, .ref (x)), (1, .int (iI ((tc : Nat) : Int))), (2, .int (iI ((1 : Int)))), (3, .ref (a))]) hx hb dX2_lightSide_63 hl (k := 6) rfl (iI_incN _ _) (by decide) rfl (fun ls hl => ?_)
            refine lv_goto (tgt := 6) hx hb dX2_lightSide_66 (by decide) ?_
            have hE_100 := fp_At.kept hE_92 (hk_96 _ (by omega) (fun z => z))
            refine W.widen (k := 2 * (d + 1)) (n := 8 * (d + 1)) (by omega) (by omega) ?_
            exact ih6 (by omega) H_97 locs ls (by rw [show Value.int (iI ((fp_lsh S tc 1 (d + 1) : Nat) : Int)) = Value.int (iI ((max (fp_lsh S tc 1 d) (fp_hi S cn) : Nat) : Int)) from congrArg (fun q : Nat => Value.int (iI (q : Int))) (fp_lsh_in hcn3 hcn2)]; exact lv_sub hl [3, 4, 5, 6, 1, 0] rfl) hS (by omega) (fp_At.cZ hE_100 (fp_lsd_in hcn3 (by simp; omega)))
    refine W.widen (k := 2 * 0) (n := 8 * 0) (by omega) (by omega) ?_
    exact L6 0 (by omega) s.heap locs ls (by rw [show Value.int (iI ((fp_lsh S tc 1 0 : Nat) : Int)) = Value.int (iI ((0 : Nat) : Int)) from congrArg (fun q : Nat => Value.int (iI (q : Int))) (rfl)]; exact lv_sub hl [2, 3, 4, 5, 1, 0] rfl) hS (Nat.le_refl _) (fp_At.cZ h_ar (fun j _ => (Bool.or_false _).symm))
set_option maxHeartbeats 4000000 in
theorem c_X2_light (G : fp_G) (x : Nat) (l : Nat) (ed : Nat) (z : Nat) (t : Nat) (mc : Int32) (cap : Nat) (b : Nat → Nat) (S : PS) (hsw : fp_sw S b) : fp_M G yX2_light cX2_light 3 (some (.array .boolean)) 8 172 193 780 [.ref (x)] (fun H => fp_SE G x l ed z t mc cap b S H) fp_no (fun H v H1 => ∃ (a : Nat), v = some (.ref (a)) ∧ (H.size ≤ a) ∧ fp_At G H1 a (eZ G 12 (fun j => iI (bI ((fp_lit S) j))))) := by
  refine fp_M.intro (by decide) (Nat.le_of_ble_eq_true rfl) ?_
  intro pg en s mi ag bl mt cd rR qQ ls X hx hb hr hlk hnm hR hQ hB hM hl
  have hS : va_S (fA fp_no s.heap.size) s.heap s.heap [] := va_S.rf
  generalize ([] : List Loc) = locs at hS ⊢
  have hb0 := hB.1
  have h_st := hM
  have hsz0 := hS.1
  have lt_1 := h_st.1.lt
  have hn24 := hsw.1.1
  obtain ⟨h_o, h_l, h_z, h_t, h_bl, h_xb, h_zb, h_tb⟩ := id h_st
  have lt_2 := h_l.1.lt
  have lt_3 := h_l.2.2
  have lt_4 := h_z.lt
  have lt_5 := h_t.lt
  refine lv_bipush (v := (iI ((12 : Nat) : Int))) hx hb dX2_light_0 rfl ?_
  refine r_newaZ (n := 12) X hR hS q190 rfl (by decide) (Nat.le_of_ble_eq_true rfl) (Nat.le_of_ble_eq_true rfl) dX2_light_2 (fun aa H_6 hq_10 hE_7 hX_8 hz_9 hS => ?_)
  have hz_11 := hS.1
  have lt_12 := hE_7.lt
  refine lv_astore_n (lv' := [(1, .ref (aa)), (0, .ref (x))]) hx hb dX2_light_4 rfl hl (by decide) rfl (fun ls hl => ?_)
  refine lv_iconst (v := (iI ((0 : Nat) : Int))) hx hb dX2_light_5 rfl ?_
  refine lv_istore_n (lv' := [(2, .int (iI ((0 : Nat) : Int))), (1, .ref (aa)), (0, .ref (x))]) hx hb dX2_light_6 rfl hl (by decide) rfl (fun ls hl => ?_)
  have L7 : ∀ (k : Nat), k ≤ 12 → ∀ (H_13 : Heap) (locs : List Loc) (ls : Array Slot), lv_has ls 3 [(0, .ref (x)), (1, .ref (aa)), (2, .int (iI ((k : Nat) : Int)))] → va_S (fA fp_no s.heap.size) s.heap H_13 locs → (H_6.size ≤ H_13.size) → fp_At G H_13 aa (eZ G 12 (fun j => iI (bI ((fp_lta S k) j)))) → W pg (g_l G) en rR s mi ag bl mt cd H_13 locs (1 + 16 * k) (12 + 64 * k) qQ (F0 mi 7 ls []) := by
    refine lp_up 12 ?_
    intro k hk7 ih7 H_13 locs ls hl hS hz_14 hE_15
    have hz_16 := hS.1
    have lt_17 := hE_15.lt
    refine lv_iload_n hx hb dX2_light_7 rfl (lv_at hl 2 rfl) ?_
    refine lv_bipush (v := (iI ((12 : Nat) : Int))) hx hb dX2_light_8 rfl ?_
    refine r_icmp_ge (tgt := 46) hx hb ⟨by omega, by omega⟩ (by decide) dX2_light_10 (by decide) (fun c10 => ?_) (fun c10 => ?_)
    · skip
      obtain rfl : k = 12 := by omega
      refine lv_aload_n hx hb dX2_light_46 rfl (lv_at hl 1 rfl) ?_
      refine r_aret hx hb hr hlk hQ hS (by omega) (by omega) dX2_light_47 (Or.inr ⟨_, rfl⟩) (Or.inr ⟨_, rfl⟩) ?_
      exact ⟨aa, rfl, (by omega), (fp_At.cZ hE_15 (fun j hj => fp_lta_lit hsw.1 hj))⟩
    · skip
      refine lv_aload_n hx hb dX2_light_13 rfl (lv_at hl 0 rfl) ?_
      have hE_18 := h_st.ext (fp_X.ofS hS)
      refine r_get X hE_18.1 rfl in_X2 2 (by decide) q177 (Or.inl rfl) (v := .ref (t)) rfl dX2_light_14 ?_
      refine lv_iload_n hx hb dX2_light_17 rfl (lv_at hl 2 rfl) ?_
      have hE_19 := fp_At.kept h_t (fp_keptS (by omega) hS (fun z => z))
      refine r_zaldI X hE_19 (j := k) rfl (by omega) (by decide) dX2_light_18 ?_
      refine r_set (y := .int (iI (bI (decide (sT S k = 1))))) rfl ?_
      refine r_ifeqB (tgt := 40) hx hb dX2_light_19 (by decide) (fun c19 => ?_) (fun c19 => ?_)
      · skip
        have d19 := of_decide_eq_false c19
        refine lv_iinc (v := (iI ((k + 1 : Nat) : Int))) (lv' := [(2, .int (iI ((k + 1 : Nat) : Int))), (0, .ref (x)), (1, .ref (aa))]) hx hb dX2_light_40 hl (k := 2) rfl (iI_incN _ _) (by decide) rfl (fun ls hl => ?_)
        refine lv_goto (tgt := 7) hx hb dX2_light_43 (by decide) ?_
        refine W.widen (k := 1 + 16 * (k + 1)) (n := 12 + 64 * (k + 1)) (by omega) (by omega) ?_
        exact ih7 (by omega) H_13 locs ls (lv_sub hl [1, 2, 0] rfl) hS (by omega) (fp_At.cZ hE_15 (fp_lta_f d19))
      · skip
        have d19 := of_decide_eq_true c19
        refine lv_aload_n hx hb dX2_light_22 rfl (lv_at hl 1 rfl) ?_
        refine lv_iload_n hx hb dX2_light_23 rfl (lv_at hl 2 rfl) ?_
        refine lv_iconst (v := (iI ((1 : Nat) : Int))) hx hb dX2_light_24 rfl ?_
        refine r_zastB (v := true) X hE_15 hS (Or.inr (by omega)) (j := k) rfl (by omega) (by decide) dX2_light_25 (fun H_23 locs hE_20 hz_21 hq_22 hS => ?_)
        have hz_24 := hS.1
        have hE_25 : fp_At G H_23 aa (eZ G 12 (fun j => iI (bI ((va_up (fp_lta S k) k true) j)))) := hE_20.updZ
        refine lv_aload_n hx hb dX2_light_26 rfl (lv_at hl 0 rfl) ?_
        refine lv_iload_n hx hb dX2_light_27 rfl (lv_at hl 2 rfl) ?_
        refine lv_iconst (v := (iI (-1))) hx hb dX2_light_28 rfl ?_
        refine lv_aload_n hx hb dX2_light_29 rfl (lv_at hl 1 rfl) ?_
        have hE_26 := h_st.ext (fp_X.ofS hS)
        refine r_callV (cells1 := (1 + 16 * k + 8)) (slots1 := (12 + 64 * k + 32)) X hR (c_X2_lightSide G x l ed z t mc cap b S k (-1) aa (va_up (fp_lta S k) k true) hsw (by omega) (Or.inl rfl) (by omega) (⟨⟨by omega, by omega, by omega, by omega, by omega⟩, fun k hk => by have := (h_bl k hk).lt; omega⟩)) q443 q445 qs2 q89 q446 ⟨rfl, pd_X2_lightSide⟩ ⟨Nat.le_of_ble_eq_true rfl, Nat.le_of_ble_eq_true rfl⟩ rfl rfl (by omega) (by omega) hE_26.1 rfl rfl (Nat.le_of_ble_eq_true rfl) hl.1 dX2_light_30 (hB.of hS fp_no.base) ⟨hE_26, hE_25⟩ hS (fun q h => Or.inr (by have h2 : (g_s G).heap.size ≤ q ∧ (q = aa) := h; omega)) (fun v H_30 locs hp_27 hz_28 hk_29 hS => ?_)
        obtain ⟨rfl, hE_31⟩ := hp_27
        have hz_32 := hS.1
        have lt_33 := hE_31.lt
        refine r_stk (st2 := []) rfl ?_
        refine lv_aload_n hx hb dX2_light_33 rfl (lv_at hl 0 rfl) ?_
        refine lv_iload_n hx hb dX2_light_34 rfl (lv_at hl 2 rfl) ?_
        refine lv_iconst (v := (iI ((1 : Nat) : Int))) hx hb dX2_light_35 rfl ?_
        refine lv_aload_n hx hb dX2_light_36 rfl (lv_at hl 1 rfl) ?_
        have hE_34 := h_st.ext (fp_X.ofS hS)
        refine r_callV (cells1 := (1 + 16 * k + 8 + 8)) (slots1 := (12 + 64 * k + 32 + 32)) X hR (c_X2_lightSide G x l ed z t mc cap b S k 1 aa (fun j => (va_up (fp_lta S k) k true) j || fp_lsd S k (-1) 4 j) hsw (by omega) (Or.inr rfl) (by omega) (⟨⟨by omega, by omega, by omega, by omega, by omega⟩, fun k hk => by have := (h_bl k hk).lt; omega⟩)) q443 q445 qs2 q89 q446 ⟨rfl, pd_X2_lightSide⟩ ⟨Nat.le_of_ble_eq_true rfl, Nat.le_of_ble_eq_true rfl⟩ rfl rfl (by omega) (by omega) hE_34.1 rfl rfl (Nat.le_of_ble_eq_true rfl) hl.1 dX2_light_37 (hB.of hS fp_no.base) ⟨hE_34, hE_31⟩ hS (fun q h => Or.inr (by have h2 : (g_s G).heap.size ≤ q ∧ (q = aa) := h; omega)) (fun v H_38 locs hp_35 hz_36 hk_37 hS => ?_)
        obtain ⟨rfl, hE_39⟩ := hp_35
        have hz_40 := hS.1
        have lt_41 := hE_39.lt
        refine r_stk (st2 := []) rfl ?_
        refine lv_iinc (v := (iI ((k + 1 : Nat) : Int))) (lv' := [(2, .int (iI ((k + 1 : Nat) : Int))), (0, .ref (x)), (1, .ref (aa))]) hx hb dX2_light_40 hl (k := 2) rfl (iI_incN _ _) (by decide) rfl (fun ls hl => ?_)
        refine lv_goto (tgt := 7) hx hb dX2_light_43 (by decide) ?_
        refine W.widen (k := 1 + 16 * (k + 1)) (n := 12 + 64 * (k + 1)) (by omega) (by omega) ?_
        exact ih7 (by omega) H_38 locs ls (lv_sub hl [1, 2, 0] rfl) hS (by omega) (fp_At.cZ hE_39 (fp_lta_t d19))
  refine W.widen (k := 1 + 16 * 0) (n := 12 + 64 * 0) (by omega) (by omega) ?_
  exact L7 0 (by omega) H_6 locs ls (lv_sub hl [2, 1, 0] rfl) hS (Nat.le_refl _) hE_7
