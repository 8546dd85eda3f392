/-! THE PLANNER: placing -/
set_option maxRecDepth 100000
theorem fp_place_t {l w : Int} (h : (0 ≤ l ∧ l ≤ 11) ∧ (1 ≤ w ∧ w ≤ 5) ∧ l + w ≤ 12) : fp_place l w = true := decide_eq_true (by omega)
theorem fp_place_f {l w : Int} (h : ¬ ((0 ≤ l ∧ l ≤ 11) ∧ (1 ≤ w ∧ w ≤ 5) ∧ l + w ≤ 12)) : fp_place l w = false := decide_eq_false (by omega)
theorem fp_place_n {l w : Int} (h : fp_place l w = true) : ∃ ln wn : Nat, l = (ln : Int) ∧ w = (wn : Int) ∧ ln + wn ≤ 12 ∧ 1 ≤ wn ∧ wn ≤ 5 := by
  have h2 := of_decide_eq_true h
  exact ⟨l.toNat, w.toNat, by omega, by omega, by omega, by omega, by omega⟩
theorem fp_blk_n (nr kd l w wt bt : Nat) : fp_blk nr kd l w wt bt 0 = nr := rfl
theorem fp_base_l3 {S : PS} (h : fp_t30 S) (l w : Nat) : fp_base S l w ≤ 30 := fp_mx_le (fun i _ => fp_mx_le (fun k hk => by
  unfold fp_hif
  split
  · exact h k hk
  · exact Nat.zero_le _))
theorem fp_blk_k {S : PS} {kd l w wt : Nat} (h3 : fp_t30 S) (hp : sP S < 1000) (hk : kd < 3) (h : l + w ≤ 12 ∧ 1 ≤ w ∧ w ≤ 5) (ht : 1 ≤ wt ∧ wt ≤ 9) : fp_bk (fp_blk (sP S) kd l w wt (fp_base S l w)) := by
  have hb := fp_base_l3 h3 l w
  exact ⟨hp, hk, show l < 12 by omega, h.2.1, h.2.2, h.1, ht.1, ht.2, show fp_base S l w ≤ 40 by omega⟩
theorem fp_tri_dl {S : PS} {kd l w wt : Nat} (hok : fp_ok S) (hiv : fp_Iv S) (hb : fp_bk (fp_blk (sP S) kd l w wt (fp_base S l w))) : fp_dl (fp_tri S (fp_blk (sP S) kd l w wt (fp_base S l w))) := by
  have hbk : ∀ k, k < sN S + 1 → fp_bk (sB (fp_tri S (fp_blk (sP S) kd l w wt (fp_base S l w))) k) := fun k hk => by
    show fp_bk (va_up (sB S) (sN S) _ k)
    by_cases e : k = sN S
    · rw [e, va_up_self]; exact hb
    · rw [va_up_ne _ _ e]; exact hok.2.2.1 k (by omega)
  exact (hiv.2.1.tri).dl2 hbk
theorem fp_plc_n1 {S : PS} {kd : Nat} {l w wt : Int} (h : fp_place l w = true ∧ 1 ≤ wt ∧ wt ≤ 9) : fp_plc S kd l w wt ≠ 1 := by
  unfold fp_plc
  rw [if_neg (fun z => z h)]
  split
  · decide
  · split <;> decide
theorem fp_hvd_at {S : PS} {l w : Int} : ∀ d, d ≤ 9 → (∀ j, j < d → ¬ fp_plc S 0 l w ((9 - j : Nat) : Int) = 0) → fp_hv S l w = fp_hvd S l w (9 - d)
  | 0, _, _ => rfl
  | d + 1, hd, h => by
    rw [fp_hvd_at d (by omega) (fun j hj => h j (by omega))]
    have e : 9 - d = 9 - (d + 1) + 1 := by omega
    have h2 := h d (by omega)
    rw [e] at h2 ⊢
    exact fp_hvd_f h2
theorem fp_hvd_go {S : PS} {l w : Int} (h : ∀ j, j < 9 → ¬ fp_plc S 0 l w ((9 - j : Nat) : Int) = 0) : fp_hv S l w = 0 := fp_hvd_at 9 (Nat.le_refl _) h
theorem fp_hvd_hit {S : PS} {l w : Int} {d : Nat} (hd : d < 9) (h : ∀ j, j < d → ¬ fp_plc S 0 l w ((9 - j : Nat) : Int) = 0) (h2 : fp_plc S 0 l w ((9 - d : Nat) : Int) = 0) : fp_hv S l w = 9 - d := by
  rw [fp_hvd_at d (by omega) h]
  have e : 9 - d = 9 - (d + 1) + 1 := by omega
  rw [e] at h2 ⊢
  exact fp_hvd_t h2
theorem fp_hvc_1 {S : PS} {l w : Int} (h : fp_place l w = false) : fp_hvc S l w = 1 := if_pos h

set_option maxRecDepth 100000
set_option maxHeartbeats 4000000 in
theorem c_X1_checkPlace (G : fp_G) (lc : Int) (wd : Int) (hlc : rg lc) (hwd : rg wd) : fp_MX G yX1_checkPlace cX1_checkPlace 2 none 7 101 1 6 [.int (iI (lc)), .int (iI (wd))] (fun H => True) fp_no (fun H v H1 => v = none ∧ (fp_place lc wd = true) ∧ H = H1) (fun H E H1 => (E = "java/lang/IllegalArgumentException" ∧ fp_X H H1 ∧ fp_place lc wd = false)) := by
  refine fp_MX.intro (by decide) (Nat.le_of_ble_eq_true rfl) ?_
  intro pg en s mi ag bl mt cd rR qQ ls X hx hb hr hlk hnm hR hQ hT hB hM hl
  have hS : va_S (fA fp_no s.heap.size) s.heap s.heap [] := va_S.rf
  generalize ([] : List Loc) = locs at hS ⊢
  have hb0 := hB.1
  have hsz0 := hS.1
  refine lv_iload_n hx hb dX1_checkPlace_0 rfl (lv_at hl 0 rfl) ?_
  refine r_callS (cells1 := 0) (slots1 := 0) X hR (c_X1_isColumn G (lc) (⟨by omega, by omega⟩)) q1128 q448 q88 q449 pd_X1_isColumn ⟨Nat.le_of_ble_eq_true rfl, Nat.le_of_ble_eq_true rfl⟩ rfl rfl (Nat.le_of_ble_eq_true rfl) (Nat.le_of_ble_eq_true rfl) rfl (Nat.le_of_ble_eq_true rfl) hl.1 dX1_checkPlace_1 (hB.of hS fp_no.base) trivial hS (fun _ h => h.elim) (fun v H_4 locs hp_1 hz_2 hk_3 hS => ?_)
  obtain ⟨rfl, rfl⟩ := hp_1
  refine r_stk (st2 := [.int (iI (bI (decide (0 ≤ (lc) ∧ (lc) ≤ 11))))]) rfl ?_
  refine r_ifeqB (tgt := 28) hx hb dX1_checkPlace_4 (by decide) (fun c4 => ?_) (fun c4 => ?_)
  · skip
    refine lv_iconst (v := (iI ((0 : Nat) : Int))) hx hb dX1_checkPlace_28 rfl ?_
    refine x_callS (cells1 := 1) (slots1 := 6) X hR (c_X1_checkArgument G false) q1129 q1130 q88 q1131 pd_X1_checkArgument ⟨Nat.le_of_ble_eq_true rfl, Nat.le_of_ble_eq_true rfl⟩ rfl rfl (Nat.le_of_ble_eq_true rfl) (Nat.le_of_ble_eq_true rfl) rfl (Nat.le_of_ble_eq_true rfl) hl.1 dX1_checkPlace_29 (hB.of hS fp_no.base) trivial hS (fun _ h => h.elim) (fun v H_8 locs hp_5 hz_6 hk_7 hS => ?_) (fun Ex qx cx H_8 locs hp_5 hz_6 hk_7 hS hcx hvx hlx => ?_)
    · skip
      obtain ⟨rfl, rfl, hbt_9⟩ := hp_5
      refine r_stk (st2 := []) rfl ?_
      cases hbt_9
    · skip
      obtain ⟨rfl, hX9, hb9⟩ := hp_5
      exact x_out hT hlk hQ hS (Nat.le_of_ble_eq_true rfl) (Nat.le_of_ble_eq_true rfl) hcx hvx hlx ⟨rfl, fp_X.ofS hS, fp_place_f (fun z => of_decide_eq_false c4 z.1)⟩
  · skip
    refine lv_iload_n hx hb dX1_checkPlace_7 rfl (lv_at hl 1 rfl) ?_
    refine lv_iconst (v := (iI ((1 : Nat) : Int))) hx hb dX1_checkPlace_8 rfl ?_
    refine lv_iconst (v := (iI ((5 : Nat) : Int))) hx hb dX1_checkPlace_9 rfl ?_
    refine r_callS (cells1 := 0) (slots1 := 0) X hR (c_X1_isBetween G (wd) 1 5 (⟨by omega, by omega⟩) (⟨by omega, by omega⟩) (⟨by omega, by omega⟩)) q450 q404 q88 q405 pd_X1_isBetween ⟨Nat.le_of_ble_eq_true rfl, Nat.le_of_ble_eq_true rfl⟩ rfl rfl (Nat.le_of_ble_eq_true rfl) (Nat.le_of_ble_eq_true rfl) rfl (Nat.le_of_ble_eq_true rfl) hl.1 dX1_checkPlace_10 (hB.of hS fp_no.base) trivial hS (fun _ h => h.elim) (fun v H_13 locs hp_10 hz_11 hk_12 hS => ?_)
    obtain ⟨rfl, rfl⟩ := hp_10
    refine r_stk (st2 := [.int (iI (bI (decide (1 ≤ (wd) ∧ (wd) ≤ 5))))]) rfl ?_
    refine r_ifeqB (tgt := 28) hx hb dX1_checkPlace_13 (by decide) (fun c13 => ?_) (fun c13 => ?_)
    · skip
      refine lv_iconst (v := (iI ((0 : Nat) : Int))) hx hb dX1_checkPlace_28 rfl ?_
      refine x_callS (cells1 := 1) (slots1 := 6) X hR (c_X1_checkArgument G false) q1129 q1130 q88 q1131 pd_X1_checkArgument ⟨Nat.le_of_ble_eq_true rfl, Nat.le_of_ble_eq_true rfl⟩ rfl rfl (Nat.le_of_ble_eq_true rfl) (Nat.le_of_ble_eq_true rfl) rfl (Nat.le_of_ble_eq_true rfl) hl.1 dX1_checkPlace_29 (hB.of hS fp_no.base) trivial hS (fun _ h => h.elim) (fun v H_17 locs hp_14 hz_15 hk_16 hS => ?_) (fun Ex qx cx H_17 locs hp_14 hz_15 hk_16 hS hcx hvx hlx => ?_)
      · skip
        obtain ⟨rfl, rfl, hbt_18⟩ := hp_14
        refine r_stk (st2 := []) rfl ?_
        cases hbt_18
      · skip
        obtain ⟨rfl, hX9, hb9⟩ := hp_14
        exact x_out hT hlk hQ hS (Nat.le_of_ble_eq_true rfl) (Nat.le_of_ble_eq_true rfl) hcx hvx hlx ⟨rfl, fp_X.ofS hS, fp_place_f (fun z => of_decide_eq_false c13 z.2.1)⟩
    · skip
      have d4 := of_decide_eq_true c4
      have d13 := of_decide_eq_true c13
      refine lv_iload_n hx hb dX1_checkPlace_16 rfl (lv_at hl 0 rfl) ?_
      refine lv_iload_n hx hb dX1_checkPlace_17 rfl (lv_at hl 1 rfl) ?_
      refine r_iadd hx hb dX1_checkPlace_18 ?_
      refine lv_bipush (v := (iI ((12 : Nat) : Int))) hx hb dX1_checkPlace_19 rfl ?_
      refine r_icmp_gt (tgt := 28) hx hb ⟨by omega, by omega⟩ (by decide) dX1_checkPlace_21 (by decide) (fun c21 => ?_) (fun c21 => ?_)
      · skip
        refine lv_iconst (v := (iI ((0 : Nat) : Int))) hx hb dX1_checkPlace_28 rfl ?_
        refine x_callS (cells1 := 1) (slots1 := 6) X hR (c_X1_checkArgument G false) q1129 q1130 q88 q1131 pd_X1_checkArgument ⟨Nat.le_of_ble_eq_true rfl, Nat.le_of_ble_eq_true rfl⟩ rfl rfl (Nat.le_of_ble_eq_true rfl) (Nat.le_of_ble_eq_true rfl) rfl (Nat.le_of_ble_eq_true rfl) hl.1 dX1_checkPlace_29 (hB.of hS fp_no.base) trivial hS (fun _ h => h.elim) (fun v H_22 locs hp_19 hz_20 hk_21 hS => ?_) (fun Ex qx cx H_22 locs hp_19 hz_20 hk_21 hS hcx hvx hlx => ?_)
        · skip
          obtain ⟨rfl, rfl, hbt_23⟩ := hp_19
          refine r_stk (st2 := []) rfl ?_
          cases hbt_23
        · skip
          obtain ⟨rfl, hX9, hb9⟩ := hp_19
          exact x_out hT hlk hQ hS (Nat.le_of_ble_eq_true rfl) (Nat.le_of_ble_eq_true rfl) hcx hvx hlx ⟨rfl, fp_X.ofS hS, fp_place_f (by omega)⟩
      · skip
        refine lv_iconst (v := (iI ((1 : Nat) : Int))) hx hb dX1_checkPlace_24 rfl ?_
        refine lv_goto (tgt := 29) hx hb dX1_checkPlace_25 (by decide) ?_
        refine x_callS (cells1 := 1) (slots1 := 6) X hR (c_X1_checkArgument G true) q1129 q1130 q88 q1131 pd_X1_checkArgument ⟨Nat.le_of_ble_eq_true rfl, Nat.le_of_ble_eq_true rfl⟩ rfl rfl (Nat.le_of_ble_eq_true rfl) (Nat.le_of_ble_eq_true rfl) rfl (Nat.le_of_ble_eq_true rfl) hl.1 dX1_checkPlace_29 (hB.of hS fp_no.base) trivial hS (fun _ h => h.elim) (fun v H_27 locs hp_24 hz_25 hk_26 hS => ?_) (fun Ex qx cx H_27 locs hp_24 hz_25 hk_26 hS hcx hvx hlx => ?_)
        · skip
          obtain ⟨rfl, rfl, hbt_28⟩ := hp_24
          refine r_stk (st2 := []) rfl ?_
          refine x_vret hx hb hr hlk hQ hS (Nat.le_of_ble_eq_true rfl) (Nat.le_of_ble_eq_true rfl) dX1_checkPlace_32 ?_
          exact ⟨rfl, (fp_place_t ⟨d4, d13, by omega⟩), rfl⟩
        · skip
          obtain ⟨rfl, hX9, hb9⟩ := hp_24
          cases hb9
set_option maxHeartbeats 4000000 in
theorem c_X1_checkBlock (G : fp_G) (lc : Int) (wd : Int) (wt : Int) (hlc : rg lc) (hwd : rg wd) (hwt : rg wt) : fp_MX G yX1_checkBlock cX1_checkBlock 3 none 8 122 2 12 [.int (iI (lc)), .int (iI (wd)), .int (iI (wt))] (fun H => True) fp_no (fun H v H1 => v = none ∧ (fp_place lc wd = true) ∧ (1 ≤ wt ∧ wt ≤ 9) ∧ H = H1) (fun H E H1 => (E = "java/lang/IllegalArgumentException" ∧ fp_X H H1 ∧ ¬ (fp_place lc wd = true ∧ 1 ≤ wt ∧ wt ≤ 9))) := by
  refine fp_MX.intro (by decide) (Nat.le_of_ble_eq_true rfl) ?_
  intro pg en s mi ag bl mt cd rR qQ ls X hx hb hr hlk hnm hR hQ hT hB hM hl
  have hS : va_S (fA fp_no s.heap.size) s.heap s.heap [] := va_S.rf
  generalize ([] : List Loc) = locs at hS ⊢
  have hb0 := hB.1
  have hsz0 := hS.1
  refine lv_iload_n hx hb dX1_checkBlock_0 rfl (lv_at hl 0 rfl) ?_
  refine lv_iload_n hx hb dX1_checkBlock_1 rfl (lv_at hl 1 rfl) ?_
  refine x_callS (cells1 := 1) (slots1 := 6) X hR (c_X1_checkPlace G (lc) (wd) (⟨by omega, by omega⟩) (⟨by omega, by omega⟩)) q1125 q1126 q88 q1127 pd_X1_checkPlace ⟨Nat.le_of_ble_eq_true rfl, Nat.le_of_ble_eq_true rfl⟩ rfl rfl (Nat.le_of_ble_eq_true rfl) (Nat.le_of_ble_eq_true rfl) rfl (Nat.le_of_ble_eq_true rfl) hl.1 dX1_checkBlock_2 (hB.of hS fp_no.base) trivial hS (fun _ h => h.elim) (fun v H_4 locs hp_1 hz_2 hk_3 hS => ?_) (fun Ex qx cx H_4 locs hp_1 hz_2 hk_3 hS hcx hvx hlx => ?_)
  · skip
    obtain ⟨rfl, hpl_5, rfl⟩ := hp_1
    refine r_stk (st2 := []) rfl ?_
    refine lv_iload_n hx hb dX1_checkBlock_5 rfl (lv_at hl 2 rfl) ?_
    refine lv_iconst (v := (iI ((1 : Nat) : Int))) hx hb dX1_checkBlock_6 rfl ?_
    refine lv_bipush (v := (iI ((9 : Nat) : Int))) hx hb dX1_checkBlock_7 rfl ?_
    refine r_callS (cells1 := 1) (slots1 := 6) X hR (c_X1_isBetween G (wt) 1 9 (⟨by omega, by omega⟩) (⟨by omega, by omega⟩) (⟨by omega, by omega⟩)) q450 q404 q88 q405 pd_X1_isBetween ⟨Nat.le_of_ble_eq_true rfl, Nat.le_of_ble_eq_true rfl⟩ rfl rfl (Nat.le_of_ble_eq_true rfl) (Nat.le_of_ble_eq_true rfl) rfl (Nat.le_of_ble_eq_true rfl) hl.1 dX1_checkBlock_9 (hB.of hS fp_no.base) trivial hS (fun _ h => h.elim) (fun v H_9 locs hp_6 hz_7 hk_8 hS => ?_)
    obtain ⟨rfl, rfl⟩ := hp_6
    refine r_stk (st2 := [.int (iI (bI (decide (1 ≤ (wt) ∧ (wt) ≤ 9))))]) rfl ?_
    refine x_callS (cells1 := 2) (slots1 := 12) X hR (c_X1_checkArgument G (decide (1 ≤ (wt) ∧ (wt) ≤ 9))) q1129 q1130 q88 q1131 pd_X1_checkArgument ⟨Nat.le_of_ble_eq_true rfl, Nat.le_of_ble_eq_true rfl⟩ rfl rfl (Nat.le_of_ble_eq_true rfl) (Nat.le_of_ble_eq_true rfl) rfl (Nat.le_of_ble_eq_true rfl) hl.1 dX1_checkBlock_12 (hB.of hS fp_no.base) trivial hS (fun _ h => h.elim) (fun v H_13 locs hp_10 hz_11 hk_12 hS => ?_) (fun Ex qx cx H_13 locs hp_10 hz_11 hk_12 hS hcx hvx hlx => ?_)
    · skip
      obtain ⟨rfl, rfl, hbt_14⟩ := hp_10
      refine r_stk (st2 := []) rfl ?_
      have hw9 := of_decide_eq_true hbt_14
      refine x_vret hx hb hr hlk hQ hS (Nat.le_of_ble_eq_true rfl) (Nat.le_of_ble_eq_true rfl) dX1_checkBlock_15 ?_
      exact ⟨rfl, hpl_5, hw9, rfl⟩
    · skip
      rcases hp_10 with ⟨rfl, hX9, hb9⟩
      exact x_out hT hlk hQ hS (Nat.le_of_ble_eq_true rfl) (Nat.le_of_ble_eq_true rfl) hcx hvx hlx (⟨rfl, fp_X.ofS hS, fun z => of_decide_eq_false hb9 z.2⟩)
  · skip
    rcases hp_1 with ⟨rfl, hX9, hb9⟩
    exact x_out hT hlk hQ hS (Nat.le_of_ble_eq_true rfl) (Nat.le_of_ble_eq_true rfl) hcx hvx hlx (⟨rfl, fp_X.ofS hS, fun z => by rw [hb9] at z; exact absurd z.1 (by decide)⟩)
set_option maxHeartbeats 4000000 in
theorem c_X1_canPlace (G : fp_G) (x : Nat) (u : Nat) (sv : Value) (hi : Nat) (ip : Nat) (ln : Nat) (ex : Bool) (er : Int) (fa : Int) (l : Nat) (ed : Nat) (z : Nat) (t : Nat) (mc : Int32) (cap : Nat) (b : Nat → Nat) (S : PS) (kd : Nat) (lc : Int) (wd : Int) (wt : Int) (hsw : fp_sw S b) (hxb : (g_s G).heap.size ≤ x) (hkd : kd < 3) (hlc : rg lc) (hwd : rg wd) (hwt : rg wt) (hiv : fp_Iv S) (hp9 : sP S < 999) : fp_MX G yX1_canPlace cX1_canPlace 5 (some .boolean) 12 289 154 3013 [.ref (x), .int (iI ((fp_sgn kd : Nat) : Int)), .int (iI (lc)), .int (iI (wd)), .int (iI (wt))] (fun H => fp_At G H x (eO 1 [.ref (u), sv, .ref (hi), .ref (ip), .ref (ln), .int (iI (bI (ex))), .int (iI (er)), .int (iI (fa))]) ∧ fp_SE G u l ed z t mc cap b S H) (fun q => (g_s G).heap.size ≤ q ∧ (q = l ∨ q = ed)) (fun H v H1 => ∃ (ed2 : Nat), ∃ (mc2 : Int32), ∃ (cap2 : Nat), v = some (.int (iI (bI (decide (fp_plc S kd lc wd wt = 0))))) ∧ (fp_plc S kd lc wd wt ≠ 1) ∧ (ed2 = ed ∨ H.size ≤ ed2) ∧ fp_SE G u l ed2 z t mc2 cap2 b S H1) (fun H E H1 => (E = "java/lang/IllegalArgumentException" ∧ ((fp_plc S kd lc wd wt = 1) ∧ fp_SE G u l ed z t mc cap b S H1))) := by
  refine fp_MX.intro (by decide) (Nat.le_of_ble_eq_true rfl) ?_
  intro pg en s mi ag bl mt cd rR qQ ls X hx hb hr hlk hnm hR hQ hT hB hM hl
  have hS : va_S (fA (fun q => (g_s G).heap.size ≤ q ∧ (q = l ∨ q = ed)) s.heap.size) s.heap s.heap [] := va_S.rf
  generalize ([] : List Loc) = locs at hS ⊢
  have hb0 := hB.1
  have hAb : ∀ q, (fun q => (g_s G).heap.size ≤ q ∧ (q = l ∨ q = ed)) q → (g_s G).heap.size ≤ q := fun q h => h.1
  obtain ⟨h_pob, h_st⟩ := hM
  have hsz0 := hS.1
  have lt_1 := h_pob.lt
  have lt_2 := h_st.1.lt
  have hn24 := hsw.1.1
  have hed0 := (X.2.2.2.2.2.deT (A := fp_no) hB fp_no.base).2.2
  obtain ⟨hku, hkl, hkz, hkt, hkb, hxb9, hzb9, htb9⟩ := id h_st
  have hlb9 := hkl.2.2.2
  have hne_3 : fp_dif x u := fp_neOO X.2.2.2.2.2 (i := 1) (j := 2) rfl rfl (by decide) h_pob hku
  have hne_4 : fp_dif x l := fp_neOO X.2.2.2.2.2 (i := 1) (j := 8) rfl rfl (by decide) h_pob hkl.1
  have hne_5 : fp_dif x z := fp_neOA X.2.2.2.2.2 (i := 1) (t := 5) rfl rfl h_pob hkz
  have hne_6 : fp_dif x t := fp_neOA X.2.2.2.2.2 (i := 1) (t := 1) rfl rfl h_pob hkt
  have hne_7 : fp_dif x ed := fp_LE.neE hkl hed0 (by omega) (fun f9 h9 => fp_neOA X.2.2.2.2.2 (i := 1) (t := 4) rfl rfl h_pob h9)
  have hne_8 : fp_dif u l := fp_neOO X.2.2.2.2.2 (i := 2) (j := 8) rfl rfl (by decide) hku hkl.1
  have hne_9 : fp_dif u z := fp_neOA X.2.2.2.2.2 (i := 2) (t := 5) rfl rfl hku hkz
  have hne_10 : fp_dif u t := fp_neOA X.2.2.2.2.2 (i := 2) (t := 1) rfl rfl hku hkt
  have hne_11 : fp_dif u ed := fp_LE.neE hkl hed0 (by omega) (fun f9 h9 => fp_neOA X.2.2.2.2.2 (i := 2) (t := 4) rfl rfl hku h9)
  have hne_12 : fp_dif l z := fp_neOA X.2.2.2.2.2 (i := 8) (t := 5) rfl rfl hkl.1 hkz
  have hne_13 : fp_dif l t := fp_neOA X.2.2.2.2.2 (i := 8) (t := 1) rfl rfl hkl.1 hkt
  have hne_14 : fp_dif l ed := fp_LE.neE hkl hed0 (by omega) (fun f9 h9 => fp_neOA X.2.2.2.2.2 (i := 8) (t := 4) rfl rfl hkl.1 h9)
  have hne_15 : fp_dif z t := fp_neAA X.2.2.2.2.2 (t := 5) (t2 := 1) rfl rfl (by decide) hkz hkt
  have hne_16 : fp_dif z ed := fp_LE.neE hkl hed0 (by omega) (fun f9 h9 => fp_neAA X.2.2.2.2.2 (t := 5) (t2 := 4) rfl rfl (by decide) hkz h9)
  have hne_17 : fp_dif t ed := fp_LE.neE hkl hed0 (by omega) (fun f9 h9 => fp_neAA X.2.2.2.2.2 (t := 1) (t2 := 4) rfl rfl (by decide) hkt h9)
  refine lv_iload_n hx hb dX1_canPlace_0 rfl (lv_at hl 2 rfl) ?_
  refine lv_iload_n hx hb dX1_canPlace_1 rfl (lv_at hl 3 rfl) ?_
  refine lv_iload hx hb dX1_canPlace_2 (lv_at hl 4 rfl) ?_
  refine x_callS (cells1 := 2) (slots1 := 12) X hR (c_X1_checkBlock G (lc) (wd) (wt) (⟨by omega, by omega⟩) (⟨by omega, by omega⟩) (⟨by omega, by omega⟩)) q1122 q1123 q88 q1124 pd_X1_checkBlock ⟨Nat.le_of_ble_eq_true rfl, Nat.le_of_ble_eq_true rfl⟩ rfl rfl (Nat.le_of_ble_eq_true rfl) (Nat.le_of_ble_eq_true rfl) rfl (Nat.le_of_ble_eq_true rfl) hl.1 dX1_canPlace_4 (hB.of hS hAb) trivial hS (fun _ h => h.elim) (fun v H_21 locs hp_18 hz_19 hk_20 hS => ?_) (fun Ex qx cx H_21 locs hp_18 hz_19 hk_20 hS hcx hvx hlx => ?_)
  · skip
    obtain ⟨rfl, hpl_22, hw9_23, rfl⟩ := hp_18
    refine r_stk (st2 := []) rfl ?_
    obtain ⟨lcn, wdn, rfl, rfl, hlw1, hlw2⟩ := fp_place_n hpl_22
    obtain ⟨wtn, rfl⟩ : ∃ wtn : Nat, wt = ((wtn : Nat) : Int) := ⟨wt.toNat, by have := hw9_23; omega⟩
    have hw91 := hw9_23
    have hpl9 := hpl_22
    have hpl0 := hlw2
    refine lv_aload_n hx hb dX1_canPlace_7 rfl (lv_at hl 0 rfl) ?_
    refine r_get X h_pob rfl in_X1 0 (by decide) q242 (Or.inl rfl) (v := .ref (u)) rfl dX1_canPlace_8 ?_
    refine lv_aload_n hx hb dX1_canPlace_11 rfl (lv_at hl 0 rfl) ?_
    refine r_get X h_pob rfl in_X1 0 (by decide) q242 (Or.inl rfl) (v := .ref (u)) rfl dX1_canPlace_12 ?_
    refine lv_iload_n hx hb dX1_canPlace_15 rfl (lv_at hl 1 rfl) ?_
    refine lv_iload_n hx hb dX1_canPlace_16 rfl (lv_at hl 2 rfl) ?_
    refine lv_iload_n hx hb dX1_canPlace_17 rfl (lv_at hl 3 rfl) ?_
    refine lv_iload hx hb dX1_canPlace_18 (lv_at hl 4 rfl) ?_
    have hbkn := fp_blk_k (kd := kd) (l := lcn) (w := wdn) (wt := wtn) hiv.1 (by omega) hkd ⟨hlw1, hlw2⟩ ⟨by omega, by omega⟩
    refine r_callV (cells1 := 8) (slots1 := 38) X hR (c_X2_prepare G u l ed z t mc cap b S kd lcn wdn wtn hsw hkd (by omega) (by omega) (by omega)) q1137 q1138 q1139 q89 q1140 ⟨rfl, pd_X2_prepare⟩ ⟨Nat.le_of_ble_eq_true rfl, Nat.le_of_ble_eq_true rfl⟩ rfl rfl (Nat.le_of_ble_eq_true rfl) (Nat.le_of_ble_eq_true rfl) h_st.1 rfl rfl (Nat.le_of_ble_eq_true rfl) hl.1 dX1_canPlace_20 (hB.of hS hAb) h_st hS (fun _ h => h.elim) (fun v H_27 locs hp_24 hz_25 hk_26 hS => ?_)
    obtain ⟨q_28, rfl, hq_29, hE_30⟩ := hp_24
    have hz_31 := hS.1
    have lt_33 := hE_30.lt
    refine r_stk (st2 := [.ref (q_28), .ref (u)]) rfl ?_
    have hE_35 := h_st.ext (fp_X.no hz_25 hk_26)
    refine r_callV (cells1 := 154) (slots1 := 3013) X hR (c_X2_canPlace G u l ed z t mc cap b S q_28 (fp_blk (sP S) kd lcn wdn wtn (fp_base S lcn wdn)) hsw hbkn (fp_tri_dl hsw.1 hiv hbkn) (fun k hk => by have := (h_st.2.2.2.2.1 k hk).lt; show b k ≠ q_28; omega) (by omega)) q1203 q1204 q1205 q89 q1206 ⟨rfl, pd_X2_canPlace⟩ ⟨Nat.le_of_ble_eq_true rfl, Nat.le_of_ble_eq_true rfl⟩ rfl rfl (Nat.le_of_ble_eq_true rfl) (Nat.le_of_ble_eq_true rfl) hE_35.1 rfl rfl (Nat.le_of_ble_eq_true rfl) hl.1 dX1_canPlace_23 (hB.of hS hAb) ⟨hE_35, hE_30⟩ hS (fun q h => by have h2 : (g_s G).heap.size ≤ q ∧ (q = l ∨ q = ed) := h; show ((g_s G).heap.size ≤ q ∧ (q = l ∨ q = ed)) ∨ s.heap.size ≤ q; omega) (fun v H_39 locs hp_36 hz_37 hk_38 hS => ?_)
    obtain ⟨ed2_40, mc2_41, cap2_42, rfl, hed2_43, hE_44⟩ := hp_36
    have hz_45 := hS.1
    have lt_46 := hE_44.1.lt
    refine r_stk (st2 := [.int (iI (bI (fp_can S (fp_blk (sP S) kd lcn wdn wtn (fp_base S lcn wdn)))))]) rfl ?_
    refine x_zret hx hb hr hlk hQ hS (Nat.le_of_ble_eq_true rfl) (Nat.le_of_ble_eq_true rfl) dX1_canPlace_26 (bI_z _) ?_
    exact ⟨ed2_40, mc2_41, cap2_42, (congrArg (fun q : Bool => some (Value.int (iI (bI q)))) (fp_can_plc ⟨hpl9, hw91⟩)), (fp_plc_n1 ⟨hpl9, hw91⟩), (by omega), hE_44⟩
  · skip
    obtain ⟨rfl, hX9, hb9⟩ := hp_18
    have hE_48 := h_st.ext hX9
    exact x_out hT hlk hQ hS (Nat.le_of_ble_eq_true rfl) (Nat.le_of_ble_eq_true rfl) hcx hvx hlx (⟨rfl, (fp_plc_1 hb9), hE_48⟩)
set_option maxHeartbeats 4000000 in
theorem c_X1_canPlaceFoam (G : fp_G) (x : Nat) (u : Nat) (sv : Value) (hi : Nat) (ip : Nat) (ln : Nat) (ex : Bool) (er : Int) (fa : Int) (l : Nat) (ed : Nat) (z : Nat) (t : Nat) (mc : Int32) (cap : Nat) (b : Nat → Nat) (S : PS) (lc : Int) (wd : Int) (wt : Int) (hsw : fp_sw S b) (hxb : (g_s G).heap.size ≤ x) (hlc : rg lc) (hwd : rg wd) (hwt : rg wt) (hiv : fp_Iv S) (hp9 : sP S < 999) : fp_MX G yX1_canPlaceFoam cX1_canPlaceFoam 4 (some .boolean) 13 313 154 3013 [.ref (x), .int (iI (lc)), .int (iI (wd)), .int (iI (wt))] (fun H => fp_At G H x (eO 1 [.ref (u), sv, .ref (hi), .ref (ip), .ref (ln), .int (iI (bI (ex))), .int (iI (er)), .int (iI (fa))]) ∧ fp_SE G u l ed z t mc cap b S H) (fun q => (g_s G).heap.size ≤ q ∧ (q = l ∨ q = ed)) (fun H v H1 => ∃ (ed2 : Nat), ∃ (mc2 : Int32), ∃ (cap2 : Nat), v = some (.int (iI (bI (decide (fp_plc S 0 lc wd wt = 0))))) ∧ (fp_plc S 0 lc wd wt ≠ 1) ∧ (ed2 = ed ∨ H.size ≤ ed2) ∧ fp_SE G u l ed2 z t mc2 cap2 b S H1) (fun H E H1 => (E = "java/lang/IllegalArgumentException" ∧ ((fp_plc S 0 lc wd wt = 1) ∧ fp_SE G u l ed z t mc cap b S H1))) := by
  refine fp_MX.intro (by decide) (Nat.le_of_ble_eq_true rfl) ?_
  intro pg en s mi ag bl mt cd rR qQ ls X hx hb hr hlk hnm hR hQ hT hB hM hl
  have hS : va_S (fA (fun q => (g_s G).heap.size ≤ q ∧ (q = l ∨ q = ed)) s.heap.size) s.heap s.heap [] := va_S.rf
  generalize ([] : List Loc) = locs at hS ⊢
  have hb0 := hB.1
  have hAb : ∀ q, (fun q => (g_s G).heap.size ≤ q ∧ (q = l ∨ q = ed)) q → (g_s G).heap.size ≤ q := fun q h => h.1
  obtain ⟨h_pob, h_st⟩ := hM
  have hsz0 := hS.1
  have lt_1 := h_pob.lt
  have lt_2 := h_st.1.lt
  have hn24 := hsw.1.1
  have hed0 := (X.2.2.2.2.2.deT (A := fp_no) hB fp_no.base).2.2
  obtain ⟨hku, hkl, hkz, hkt, hkb, hxb9, hzb9, htb9⟩ := id h_st
  have hlb9 := hkl.2.2.2
  have hne_3 : fp_dif x u := fp_neOO X.2.2.2.2.2 (i := 1) (j := 2) rfl rfl (by decide) h_pob hku
  have hne_4 : fp_dif x l := fp_neOO X.2.2.2.2.2 (i := 1) (j := 8) rfl rfl (by decide) h_pob hkl.1
  have hne_5 : fp_dif x z := fp_neOA X.2.2.2.2.2 (i := 1) (t := 5) rfl rfl h_pob hkz
  have hne_6 : fp_dif x t := fp_neOA X.2.2.2.2.2 (i := 1) (t := 1) rfl rfl h_pob hkt
  have hne_7 : fp_dif x ed := fp_LE.neE hkl hed0 (by omega) (fun f9 h9 => fp_neOA X.2.2.2.2.2 (i := 1) (t := 4) rfl rfl h_pob h9)
  have hne_8 : fp_dif u l := fp_neOO X.2.2.2.2.2 (i := 2) (j := 8) rfl rfl (by decide) hku hkl.1
  have hne_9 : fp_dif u z := fp_neOA X.2.2.2.2.2 (i := 2) (t := 5) rfl rfl hku hkz
  have hne_10 : fp_dif u t := fp_neOA X.2.2.2.2.2 (i := 2) (t := 1) rfl rfl hku hkt
  have hne_11 : fp_dif u ed := fp_LE.neE hkl hed0 (by omega) (fun f9 h9 => fp_neOA X.2.2.2.2.2 (i := 2) (t := 4) rfl rfl hku h9)
  have hne_12 : fp_dif l z := fp_neOA X.2.2.2.2.2 (i := 8) (t := 5) rfl rfl hkl.1 hkz
  have hne_13 : fp_dif l t := fp_neOA X.2.2.2.2.2 (i := 8) (t := 1) rfl rfl hkl.1 hkt
  have hne_14 : fp_dif l ed := fp_LE.neE hkl hed0 (by omega) (fun f9 h9 => fp_neOA X.2.2.2.2.2 (i := 8) (t := 4) rfl rfl hkl.1 h9)
  have hne_15 : fp_dif z t := fp_neAA X.2.2.2.2.2 (t := 5) (t2 := 1) rfl rfl (by decide) hkz hkt
  have hne_16 : fp_dif z ed := fp_LE.neE hkl hed0 (by omega) (fun f9 h9 => fp_neAA X.2.2.2.2.2 (t := 5) (t2 := 4) rfl rfl (by decide) hkz h9)
  have hne_17 : fp_dif t ed := fp_LE.neE hkl hed0 (by omega) (fun f9 h9 => fp_neAA X.2.2.2.2.2 (t := 1) (t2 := 4) rfl rfl (by decide) hkt h9)
  refine lv_aload_n hx hb dX1_canPlaceFoam_0 rfl (lv_at hl 0 rfl) ?_
  refine lv_bipush (v := (iI ((102 : Nat) : Int))) hx hb dX1_canPlaceFoam_1 rfl ?_
  refine lv_iload_n hx hb dX1_canPlaceFoam_3 rfl (lv_at hl 1 rfl) ?_
  refine lv_iload_n hx hb dX1_canPlaceFoam_4 rfl (lv_at hl 2 rfl) ?_
  refine lv_iload_n hx hb dX1_canPlaceFoam_5 rfl (lv_at hl 3 rfl) ?_
  refine x_callV (cells1 := 154) (slots1 := 3013) X hR (c_X1_canPlace G x u sv hi ip ln ex (er) (fa) l ed z t mc cap b S 0 (lc) (wd) (wt) hsw hxb (by omega) (⟨by omega, by omega⟩) (⟨by omega, by omega⟩) (⟨by omega, by omega⟩) hiv hp9) q1400 q1402 qs28 q88 q1403 ⟨rfl, pd_X1_canPlace⟩ ⟨Nat.le_of_ble_eq_true rfl, Nat.le_of_ble_eq_true rfl⟩ rfl rfl (Nat.le_of_ble_eq_true rfl) (Nat.le_of_ble_eq_true rfl) h_pob rfl rfl (Nat.le_of_ble_eq_true rfl) hl.1 dX1_canPlaceFoam_6 (hB.of hS hAb) ⟨h_pob, h_st⟩ hS (fun q h => by have h2 : (g_s G).heap.size ≤ q ∧ (q = l ∨ q = ed) := h; show ((g_s G).heap.size ≤ q ∧ (q = l ∨ q = ed)) ∨ s.heap.size ≤ q; omega) (fun v H_21 locs hp_18 hz_19 hk_20 hS => ?_) (fun Ex qx cx H_21 locs hp_18 hz_19 hk_20 hS hcx hvx hlx => ?_)
  · skip
    obtain ⟨ed2_22, mc2_23, cap2_24, rfl, hpc_25, hed2_26, hE_27⟩ := hp_18
    have hz_28 := hS.1
    have lt_29 := hE_27.1.lt
    refine r_stk (st2 := [.int (iI (bI (decide (fp_plc S 0 (lc) (wd) (wt) = 0))))]) rfl ?_
    refine x_zret hx hb hr hlk hQ hS (Nat.le_of_ble_eq_true rfl) (Nat.le_of_ble_eq_true rfl) dX1_canPlaceFoam_9 (bI_z _) ?_
    exact ⟨ed2_22, mc2_23, cap2_24, rfl, hpc_25, (by omega), hE_27⟩
  · skip
    obtain ⟨rfl, hb9, hE_30⟩ := hp_18
    have hz_31 := hS.1
    have lt_32 := hE_30.1.lt
    exact x_out hT hlk hQ hS (Nat.le_of_ble_eq_true rfl) (Nat.le_of_ble_eq_true rfl) hcx hvx hlx (⟨rfl, hb9, hE_30⟩)
set_option maxHeartbeats 4000000 in
theorem c_X1_canPlaceBoard (G : fp_G) (x : Nat) (u : Nat) (sv : Value) (hi : Nat) (ip : Nat) (ln : Nat) (ex : Bool) (er : Int) (fa : Int) (l : Nat) (ed : Nat) (z : Nat) (t : Nat) (mc : Int32) (cap : Nat) (b : Nat → Nat) (S : PS) (lc : Int) (wd : Int) (wt : Int) (hsw : fp_sw S b) (hxb : (g_s G).heap.size ≤ x) (hlc : rg lc) (hwd : rg wd) (hwt : rg wt) (hiv : fp_Iv S) (hp9 : sP S < 999) : fp_MX G yX1_canPlaceBoard cX1_canPlaceBoard 4 (some .boolean) 13 313 154 3013 [.ref (x), .int (iI (lc)), .int (iI (wd)), .int (iI (wt))] (fun H => fp_At G H x (eO 1 [.ref (u), sv, .ref (hi), .ref (ip), .ref (ln), .int (iI (bI (ex))), .int (iI (er)), .int (iI (fa))]) ∧ fp_SE G u l ed z t mc cap b S H) (fun q => (g_s G).heap.size ≤ q ∧ (q = l ∨ q = ed)) (fun H v H1 => ∃ (ed2 : Nat), ∃ (mc2 : Int32), ∃ (cap2 : Nat), v = some (.int (iI (bI (decide (fp_plc S 1 lc wd wt = 0))))) ∧ (fp_plc S 1 lc wd wt ≠ 1) ∧ (ed2 = ed ∨ H.size ≤ ed2) ∧ fp_SE G u l ed2 z t mc2 cap2 b S H1) (fun H E H1 => (E = "java/lang/IllegalArgumentException" ∧ ((fp_plc S 1 lc wd wt = 1) ∧ fp_SE G u l ed z t mc cap b S H1))) := by
  refine fp_MX.intro (by decide) (Nat.le_of_ble_eq_true rfl) ?_
  intro pg en s mi ag bl mt cd rR qQ ls X hx hb hr hlk hnm hR hQ hT hB hM hl
  have hS : va_S (fA (fun q => (g_s G).heap.size ≤ q ∧ (q = l ∨ q = ed)) s.heap.size) s.heap s.heap [] := va_S.rf
  generalize ([] : List Loc) = locs at hS ⊢
  have hb0 := hB.1
  have hAb : ∀ q, (fun q => (g_s G).heap.size ≤ q ∧ (q = l ∨ q = ed)) q → (g_s G).heap.size ≤ q := fun q h => h.1
  obtain ⟨h_pob, h_st⟩ := hM
  have hsz0 := hS.1
  have lt_1 := h_pob.lt
  have lt_2 := h_st.1.lt
  have hn24 := hsw.1.1
  have hed0 := (X.2.2.2.2.2.deT (A := fp_no) hB fp_no.base).2.2
  obtain ⟨hku, hkl, hkz, hkt, hkb, hxb9, hzb9, htb9⟩ := id h_st
  have hlb9 := hkl.2.2.2
  have hne_3 : fp_dif x u := fp_neOO X.2.2.2.2.2 (i := 1) (j := 2) rfl rfl (by decide) h_pob hku
  have hne_4 : fp_dif x l := fp_neOO X.2.2.2.2.2 (i := 1) (j := 8) rfl rfl (by decide) h_pob hkl.1
  have hne_5 : fp_dif x z := fp_neOA X.2.2.2.2.2 (i := 1) (t := 5) rfl rfl h_pob hkz
  have hne_6 : fp_dif x t := fp_neOA X.2.2.2.2.2 (i := 1) (t := 1) rfl rfl h_pob hkt
  have hne_7 : fp_dif x ed := fp_LE.neE hkl hed0 (by omega) (fun f9 h9 => fp_neOA X.2.2.2.2.2 (i := 1) (t := 4) rfl rfl h_pob h9)
  have hne_8 : fp_dif u l := fp_neOO X.2.2.2.2.2 (i := 2) (j := 8) rfl rfl (by decide) hku hkl.1
  have hne_9 : fp_dif u z := fp_neOA X.2.2.2.2.2 (i := 2) (t := 5) rfl rfl hku hkz
  have hne_10 : fp_dif u t := fp_neOA X.2.2.2.2.2 (i := 2) (t := 1) rfl rfl hku hkt
  have hne_11 : fp_dif u ed := fp_LE.neE hkl hed0 (by omega) (fun f9 h9 => fp_neOA X.2.2.2.2.2 (i := 2) (t := 4) rfl rfl hku h9)
  have hne_12 : fp_dif l z := fp_neOA X.2.2.2.2.2 (i := 8) (t := 5) rfl rfl hkl.1 hkz
  have hne_13 : fp_dif l t := fp_neOA X.2.2.2.2.2 (i := 8) (t := 1) rfl rfl hkl.1 hkt
  have hne_14 : fp_dif l ed := fp_LE.neE hkl hed0 (by omega) (fun f9 h9 => fp_neOA X.2.2.2.2.2 (i := 8) (t := 4) rfl rfl hkl.1 h9)
  have hne_15 : fp_dif z t := fp_neAA X.2.2.2.2.2 (t := 5) (t2 := 1) rfl rfl (by decide) hkz hkt
  have hne_16 : fp_dif z ed := fp_LE.neE hkl hed0 (by omega) (fun f9 h9 => fp_neAA X.2.2.2.2.2 (t := 5) (t2 := 4) rfl rfl (by decide) hkz h9)
  have hne_17 : fp_dif t ed := fp_LE.neE hkl hed0 (by omega) (fun f9 h9 => fp_neAA X.2.2.2.2.2 (t := 1) (t2 := 4) rfl rfl (by decide) hkt h9)
  refine lv_aload_n hx hb dX1_canPlaceBoard_0 rfl (lv_at hl 0 rfl) ?_
  refine lv_bipush (v := (iI ((98 : Nat) : Int))) hx hb dX1_canPlaceBoard_1 rfl ?_
  refine lv_iload_n hx hb dX1_canPlaceBoard_3 rfl (lv_at hl 1 rfl) ?_
  refine lv_iload_n hx hb dX1_canPlaceBoard_4 rfl (lv_at hl 2 rfl) ?_
  refine lv_iload_n hx hb dX1_canPlaceBoard_5 rfl (lv_at hl 3 rfl) ?_
  refine x_callV (cells1 := 154) (slots1 := 3013) X hR (c_X1_canPlace G x u sv hi ip ln ex (er) (fa) l ed z t mc cap b S 1 (lc) (wd) (wt) hsw hxb (by omega) (⟨by omega, by omega⟩) (⟨by omega, by omega⟩) (⟨by omega, by omega⟩) hiv hp9) q1400 q1402 qs28 q88 q1403 ⟨rfl, pd_X1_canPlace⟩ ⟨Nat.le_of_ble_eq_true rfl, Nat.le_of_ble_eq_true rfl⟩ rfl rfl (Nat.le_of_ble_eq_true rfl) (Nat.le_of_ble_eq_true rfl) h_pob rfl rfl (Nat.le_of_ble_eq_true rfl) hl.1 dX1_canPlaceBoard_6 (hB.of hS hAb) ⟨h_pob, h_st⟩ hS (fun q h => by have h2 : (g_s G).heap.size ≤ q ∧ (q = l ∨ q = ed) := h; show ((g_s G).heap.size ≤ q ∧ (q = l ∨ q = ed)) ∨ s.heap.size ≤ q; omega) (fun v H_21 locs hp_18 hz_19 hk_20 hS => ?_) (fun Ex qx cx H_21 locs hp_18 hz_19 hk_20 hS hcx hvx hlx => ?_)
  · skip
    obtain ⟨ed2_22, mc2_23, cap2_24, rfl, hpc_25, hed2_26, hE_27⟩ := hp_18
    have hz_28 := hS.1
    have lt_29 := hE_27.1.lt
    refine r_stk (st2 := [.int (iI (bI (decide (fp_plc S 1 (lc) (wd) (wt) = 0))))]) rfl ?_
    refine x_zret hx hb hr hlk hQ hS (Nat.le_of_ble_eq_true rfl) (Nat.le_of_ble_eq_true rfl) dX1_canPlaceBoard_9 (bI_z _) ?_
    exact ⟨ed2_22, mc2_23, cap2_24, rfl, hpc_25, (by omega), hE_27⟩
  · skip
    obtain ⟨rfl, hb9, hE_30⟩ := hp_18
    have hz_31 := hS.1
    have lt_32 := hE_30.1.lt
    exact x_out hT hlk hQ hS (Nat.le_of_ble_eq_true rfl) (Nat.le_of_ble_eq_true rfl) hcx hvx hlx (⟨rfl, hb9, hE_30⟩)
set_option maxHeartbeats 4000000 in
theorem c_X1_canPlaceBag (G : fp_G) (x : Nat) (u : Nat) (sv : Value) (hi : Nat) (ip : Nat) (ln : Nat) (ex : Bool) (er : Int) (fa : Int) (l : Nat) (ed : Nat) (z : Nat) (t : Nat) (mc : Int32) (cap : Nat) (b : Nat → Nat) (S : PS) (lc : Int) (wd : Int) (wt : Int) (hsw : fp_sw S b) (hxb : (g_s G).heap.size ≤ x) (hlc : rg lc) (hwd : rg wd) (hwt : rg wt) (hiv : fp_Iv S) (hp9 : sP S < 999) : fp_MX G yX1_canPlaceBag cX1_canPlaceBag 4 (some .boolean) 13 313 154 3013 [.ref (x), .int (iI (lc)), .int (iI (wd)), .int (iI (wt))] (fun H => fp_At G H x (eO 1 [.ref (u), sv, .ref (hi), .ref (ip), .ref (ln), .int (iI (bI (ex))), .int (iI (er)), .int (iI (fa))]) ∧ fp_SE G u l ed z t mc cap b S H) (fun q => (g_s G).heap.size ≤ q ∧ (q = l ∨ q = ed)) (fun H v H1 => ∃ (ed2 : Nat), ∃ (mc2 : Int32), ∃ (cap2 : Nat), v = some (.int (iI (bI (decide (fp_plc S 2 lc wd wt = 0))))) ∧ (fp_plc S 2 lc wd wt ≠ 1) ∧ (ed2 = ed ∨ H.size ≤ ed2) ∧ fp_SE G u l ed2 z t mc2 cap2 b S H1) (fun H E H1 => (E = "java/lang/IllegalArgumentException" ∧ ((fp_plc S 2 lc wd wt = 1) ∧ fp_SE G u l ed z t mc cap b S H1))) := by
  refine fp_MX.intro (by decide) (Nat.le_of_ble_eq_true rfl) ?_
  intro pg en s mi ag bl mt cd rR qQ ls X hx hb hr hlk hnm hR hQ hT hB hM hl
  have hS : va_S (fA (fun q => (g_s G).heap.size ≤ q ∧ (q = l ∨ q = ed)) s.heap.size) s.heap s.heap [] := va_S.rf
  generalize ([] : List Loc) = locs at hS ⊢
  have hb0 := hB.1
  have hAb : ∀ q, (fun q => (g_s G).heap.size ≤ q ∧ (q = l ∨ q = ed)) q → (g_s G).heap.size ≤ q := fun q h => h.1
  obtain ⟨h_pob, h_st⟩ := hM
  have hsz0 := hS.1
  have lt_1 := h_pob.lt
  have lt_2 := h_st.1.lt
  have hn24 := hsw.1.1
  have hed0 := (X.2.2.2.2.2.deT (A := fp_no) hB fp_no.base).2.2
  obtain ⟨hku, hkl, hkz, hkt, hkb, hxb9, hzb9, htb9⟩ := id h_st
  have hlb9 := hkl.2.2.2
  have hne_3 : fp_dif x u := fp_neOO X.2.2.2.2.2 (i := 1) (j := 2) rfl rfl (by decide) h_pob hku
  have hne_4 : fp_dif x l := fp_neOO X.2.2.2.2.2 (i := 1) (j := 8) rfl rfl (by decide) h_pob hkl.1
  have hne_5 : fp_dif x z := fp_neOA X.2.2.2.2.2 (i := 1) (t := 5) rfl rfl h_pob hkz
  have hne_6 : fp_dif x t := fp_neOA X.2.2.2.2.2 (i := 1) (t := 1) rfl rfl h_pob hkt
  have hne_7 : fp_dif x ed := fp_LE.neE hkl hed0 (by omega) (fun f9 h9 => fp_neOA X.2.2.2.2.2 (i := 1) (t := 4) rfl rfl h_pob h9)
  have hne_8 : fp_dif u l := fp_neOO X.2.2.2.2.2 (i := 2) (j := 8) rfl rfl (by decide) hku hkl.1
  have hne_9 : fp_dif u z := fp_neOA X.2.2.2.2.2 (i := 2) (t := 5) rfl rfl hku hkz
  have hne_10 : fp_dif u t := fp_neOA X.2.2.2.2.2 (i := 2) (t := 1) rfl rfl hku hkt
  have hne_11 : fp_dif u ed := fp_LE.neE hkl hed0 (by omega) (fun f9 h9 => fp_neOA X.2.2.2.2.2 (i := 2) (t := 4) rfl rfl hku h9)
  have hne_12 : fp_dif l z := fp_neOA X.2.2.2.2.2 (i := 8) (t := 5) rfl rfl hkl.1 hkz
  have hne_13 : fp_dif l t := fp_neOA X.2.2.2.2.2 (i := 8) (t := 1) rfl rfl hkl.1 hkt
  have hne_14 : fp_dif l ed := fp_LE.neE hkl hed0 (by omega) (fun f9 h9 => fp_neOA X.2.2.2.2.2 (i := 8) (t := 4) rfl rfl hkl.1 h9)
  have hne_15 : fp_dif z t := fp_neAA X.2.2.2.2.2 (t := 5) (t2 := 1) rfl rfl (by decide) hkz hkt
  have hne_16 : fp_dif z ed := fp_LE.neE hkl hed0 (by omega) (fun f9 h9 => fp_neAA X.2.2.2.2.2 (t := 5) (t2 := 4) rfl rfl (by decide) hkz h9)
  have hne_17 : fp_dif t ed := fp_LE.neE hkl hed0 (by omega) (fun f9 h9 => fp_neAA X.2.2.2.2.2 (t := 1) (t2 := 4) rfl rfl (by decide) hkt h9)
  refine lv_aload_n hx hb dX1_canPlaceBag_0 rfl (lv_at hl 0 rfl) ?_
  refine lv_bipush (v := (iI ((103 : Nat) : Int))) hx hb dX1_canPlaceBag_1 rfl ?_
  refine lv_iload_n hx hb dX1_canPlaceBag_3 rfl (lv_at hl 1 rfl) ?_
  refine lv_iload_n hx hb dX1_canPlaceBag_4 rfl (lv_at hl 2 rfl) ?_
  refine lv_iload_n hx hb dX1_canPlaceBag_5 rfl (lv_at hl 3 rfl) ?_
  refine x_callV (cells1 := 154) (slots1 := 3013) X hR (c_X1_canPlace G x u sv hi ip ln ex (er) (fa) l ed z t mc cap b S 2 (lc) (wd) (wt) hsw hxb (by omega) (⟨by omega, by omega⟩) (⟨by omega, by omega⟩) (⟨by omega, by omega⟩) hiv hp9) q1400 q1402 qs28 q88 q1403 ⟨rfl, pd_X1_canPlace⟩ ⟨Nat.le_of_ble_eq_true rfl, Nat.le_of_ble_eq_true rfl⟩ rfl rfl (Nat.le_of_ble_eq_true rfl) (Nat.le_of_ble_eq_true rfl) h_pob rfl rfl (Nat.le_of_ble_eq_true rfl) hl.1 dX1_canPlaceBag_6 (hB.of hS hAb) ⟨h_pob, h_st⟩ hS (fun q h => by have h2 : (g_s G).heap.size ≤ q ∧ (q = l ∨ q = ed) := h; show ((g_s G).heap.size ≤ q ∧ (q = l ∨ q = ed)) ∨ s.heap.size ≤ q; omega) (fun v H_21 locs hp_18 hz_19 hk_20 hS => ?_) (fun Ex qx cx H_21 locs hp_18 hz_19 hk_20 hS hcx hvx hlx => ?_)
  · skip
    obtain ⟨ed2_22, mc2_23, cap2_24, rfl, hpc_25, hed2_26, hE_27⟩ := hp_18
    have hz_28 := hS.1
    have lt_29 := hE_27.1.lt
    refine r_stk (st2 := [.int (iI (bI (decide (fp_plc S 2 (lc) (wd) (wt) = 0))))]) rfl ?_
    refine x_zret hx hb hr hlk hQ hS (Nat.le_of_ble_eq_true rfl) (Nat.le_of_ble_eq_true rfl) dX1_canPlaceBag_9 (bI_z _) ?_
    exact ⟨ed2_22, mc2_23, cap2_24, rfl, hpc_25, (by omega), hE_27⟩
  · skip
    obtain ⟨rfl, hb9, hE_30⟩ := hp_18
    have hz_31 := hS.1
    have lt_32 := hE_30.1.lt
    exact x_out hT hlk hQ hS (Nat.le_of_ble_eq_true rfl) (Nat.le_of_ble_eq_true rfl) hcx hvx hlx (⟨rfl, hb9, hE_30⟩)
set_option maxHeartbeats 4000000 in
theorem c_X1_heaviestFoam (G : fp_G) (x : Nat) (u : Nat) (sv : Value) (hi : Nat) (ip : Nat) (ln : Nat) (ex : Bool) (er : Int) (fa : Int) (l : Nat) (ed : Nat) (z : Nat) (t : Nat) (mc : Int32) (cap : Nat) (b : Nat → Nat) (S : PS) (lc : Int) (wd : Int) (hsw : fp_sw S b) (hxb : (g_s G).heap.size ≤ x) (hlc : rg lc) (hwd : rg wd) (hiv : fp_Iv S) (hp9 : sP S < 999) : fp_MX G yX1_heaviestFoam cX1_heaviestFoam 4 (some .int) 12 289 1370 27021 [.ref (x), .int (iI (lc)), .int (iI (wd))] (fun H => fp_At G H x (eO 1 [.ref (u), sv, .ref (hi), .ref (ip), .ref (ln), .int (iI (bI (ex))), .int (iI (er)), .int (iI (fa))]) ∧ fp_SE G u l ed z t mc cap b S H) (fun q => (g_s G).heap.size ≤ q ∧ (q = l ∨ q = ed)) (fun H v H1 => ∃ (ed2 : Nat), ∃ (mc2 : Int32), ∃ (cap2 : Nat), v = some (.int (iI ((fp_hv S lc wd : Nat) : Int))) ∧ (fp_hvc S lc wd = 0) ∧ (ed2 = ed ∨ H.size ≤ ed2) ∧ fp_SE G u l ed2 z t mc2 cap2 b S H1) (fun H E H1 => (E = "java/lang/IllegalArgumentException" ∧ ((fp_hvc S lc wd = 1) ∧ fp_SE G u l ed z t mc cap b S H1)) ∨ (E = "java/util/NoSuchElementException" ∧ (∃ (ed2 : Nat), ∃ (mc2 : Int32), ∃ (cap2 : Nat), (ed2 = ed ∨ H.size ≤ ed2) ∧ (fp_hvc S lc wd = 2) ∧ fp_SE G u l ed2 z t mc2 cap2 b S H1))) := by
  refine fp_MX.intro (by decide) (Nat.le_of_ble_eq_true rfl) ?_
  intro pg en s mi ag bl mt cd rR qQ ls X hx hb hr hlk hnm hR hQ hT hB hM hl
  have hS : va_S (fA (fun q => (g_s G).heap.size ≤ q ∧ (q = l ∨ q = ed)) s.heap.size) s.heap s.heap [] := va_S.rf
  generalize ([] : List Loc) = locs at hS ⊢
  have hb0 := hB.1
  have hAb : ∀ q, (fun q => (g_s G).heap.size ≤ q ∧ (q = l ∨ q = ed)) q → (g_s G).heap.size ≤ q := fun q h => h.1
  obtain ⟨h_pob, h_st⟩ := hM
  have hsz0 := hS.1
  have lt_1 := h_pob.lt
  have lt_2 := h_st.1.lt
  have hn24 := hsw.1.1
  have hed0 := (X.2.2.2.2.2.deT (A := fp_no) hB fp_no.base).2.2
  obtain ⟨hku, hkl, hkz, hkt, hkb, hxb9, hzb9, htb9⟩ := id h_st
  have hlb9 := hkl.2.2.2
  have hne_3 : fp_dif x u := fp_neOO X.2.2.2.2.2 (i := 1) (j := 2) rfl rfl (by decide) h_pob hku
  have hne_4 : fp_dif x l := fp_neOO X.2.2.2.2.2 (i := 1) (j := 8) rfl rfl (by decide) h_pob hkl.1
  have hne_5 : fp_dif x z := fp_neOA X.2.2.2.2.2 (i := 1) (t := 5) rfl rfl h_pob hkz
  have hne_6 : fp_dif x t := fp_neOA X.2.2.2.2.2 (i := 1) (t := 1) rfl rfl h_pob hkt
  have hne_7 : fp_dif x ed := fp_LE.neE hkl hed0 (by omega) (fun f9 h9 => fp_neOA X.2.2.2.2.2 (i := 1) (t := 4) rfl rfl h_pob h9)
  have hne_8 : fp_dif u l := fp_neOO X.2.2.2.2.2 (i := 2) (j := 8) rfl rfl (by decide) hku hkl.1
  have hne_9 : fp_dif u z := fp_neOA X.2.2.2.2.2 (i := 2) (t := 5) rfl rfl hku hkz
  have hne_10 : fp_dif u t := fp_neOA X.2.2.2.2.2 (i := 2) (t := 1) rfl rfl hku hkt
  have hne_11 : fp_dif u ed := fp_LE.neE hkl hed0 (by omega) (fun f9 h9 => fp_neOA X.2.2.2.2.2 (i := 2) (t := 4) rfl rfl hku h9)
  have hne_12 : fp_dif l z := fp_neOA X.2.2.2.2.2 (i := 8) (t := 5) rfl rfl hkl.1 hkz
  have hne_13 : fp_dif l t := fp_neOA X.2.2.2.2.2 (i := 8) (t := 1) rfl rfl hkl.1 hkt
  have hne_14 : fp_dif l ed := fp_LE.neE hkl hed0 (by omega) (fun f9 h9 => fp_neOA X.2.2.2.2.2 (i := 8) (t := 4) rfl rfl hkl.1 h9)
  have hne_15 : fp_dif z t := fp_neAA X.2.2.2.2.2 (t := 5) (t2 := 1) rfl rfl (by decide) hkz hkt
  have hne_16 : fp_dif z ed := fp_LE.neE hkl hed0 (by omega) (fun f9 h9 => fp_neAA X.2.2.2.2.2 (t := 5) (t2 := 4) rfl rfl (by decide) hkz h9)
  have hne_17 : fp_dif t ed := fp_LE.neE hkl hed0 (by omega) (fun f9 h9 => fp_neAA X.2.2.2.2.2 (t := 1) (t2 := 4) rfl rfl (by decide) hkt h9)
  refine lv_iload_n hx hb dX1_heaviestFoam_0 rfl (lv_at hl 1 rfl) ?_
  refine lv_iload_n hx hb dX1_heaviestFoam_1 rfl (lv_at hl 2 rfl) ?_
  refine x_callS (cells1 := 1) (slots1 := 6) X hR (c_X1_checkPlace G (lc) (wd) (⟨by omega, by omega⟩) (⟨by omega, by omega⟩)) q1125 q1126 q88 q1127 pd_X1_checkPlace ⟨Nat.le_of_ble_eq_true rfl, Nat.le_of_ble_eq_true rfl⟩ rfl rfl (Nat.le_of_ble_eq_true rfl) (Nat.le_of_ble_eq_true rfl) rfl (Nat.le_of_ble_eq_true rfl) hl.1 dX1_heaviestFoam_2 (hB.of hS hAb) trivial hS (fun _ h => h.elim) (fun v H_21 locs hp_18 hz_19 hk_20 hS => ?_) (fun Ex qx cx H_21 locs hp_18 hz_19 hk_20 hS hcx hvx hlx => ?_)
  · skip
    obtain ⟨rfl, hpl_22, rfl⟩ := hp_18
    refine r_stk (st2 := []) rfl ?_
    obtain ⟨lcn, wdn, rfl, rfl, hlw1, hlw2⟩ := fp_place_n hpl_22
    have hpl9 := hpl_22
    have hpl0 := hlw2
    refine lv_bipush (v := (iI ((9 : Nat) : Int))) hx hb dX1_heaviestFoam_5 rfl ?_
    refine lv_istore_n (lv' := [(3, .int (iI ((9 : Nat) : Int))), (0, .ref (x)), (1, .int (iI ((lcn : Nat) : Int))), (2, .int (iI ((wdn : Nat) : Int)))]) hx hb dX1_heaviestFoam_7 rfl hl (by decide) rfl (fun ls hl => ?_)
    have L8 : ∀ (d : Nat), d ≤ 9 → ∀ (edg : Nat) (mcg : Int32) (capg : Nat) (H_23 : Heap) (locs : List Loc) (ls : Array Slot), lv_has ls 4 [(0, .ref (x)), (1, .int (iI ((lcn : Nat) : Int))), (2, .int (iI ((wdn : Nat) : Int))), (3, .int (iI ((9 - d : Nat) : Int)))] → va_S (fA (fun q => (g_s G).heap.size ≤ q ∧ (q = l ∨ q = ed)) s.heap.size) s.heap H_23 locs → (edg = ed ∨ s.heap.size ≤ edg) → (∀ j, j < d → ¬ fp_plc S 0 lcn wdn ((9 - j : Nat) : Int) = 0) → (s.heap.size ≤ H_23.size) → fp_SE G u l edg z t mcg capg b S H_23 → W pg (g_l G) en rR s mi ag bl mt cd H_23 locs (1 + 152 * d) (6 + 3001 * d) qQ (F0 mi 8 ls []) := by
      refine lp_up 9 ?_
      intro d hk8 ih8 edg mcg capg H_23 locs ls hl hS hedg hno hz_24 hE_25
      have hz_26 := hS.1
      have lt_27 := hE_25.1.lt
      refine lv_iload_n hx hb dX1_heaviestFoam_8 rfl (lv_at hl 3 rfl) ?_
      refine r_if_le (tgt := 40) hx hb ⟨by omega, by omega⟩ dX1_heaviestFoam_9 (by decide) (fun c9 => ?_) (fun c9 => ?_)
      · skip
        obtain rfl : d = 9 := by omega
        have hvz : fp_hvc S lcn wdn = 2 := fp_hvc_2 hpl9 (fp_hvd_go hno)
        refine lv_iload_n hx hb dX1_heaviestFoam_40 rfl (lv_at hl 3 rfl) ?_
        refine r_if_le (tgt := 48) hx hb ⟨by omega, by omega⟩ dX1_heaviestFoam_41 (by decide) (fun c41 => ?_) (fun c41 => ?_)
        · skip
          refine lv_iconst (v := (iI ((0 : Nat) : Int))) hx hb dX1_heaviestFoam_48 rfl ?_
          refine x_callS (cells1 := (1 + 152 * 9 + 1)) (slots1 := (6 + 3001 * 9 + 6)) X hR (c_X1_checkElement G false) q1324 q1325 q88 q1326 pd_X1_checkElement ⟨Nat.le_of_ble_eq_true rfl, Nat.le_of_ble_eq_true rfl⟩ rfl rfl (by omega) (by omega) rfl (Nat.le_of_ble_eq_true rfl) hl.1 dX1_heaviestFoam_49 (hB.of hS hAb) trivial hS (fun _ h => h.elim) (fun v H_31 locs hp_28 hz_29 hk_30 hS => ?_) (fun Ex qx cx H_31 locs hp_28 hz_29 hk_30 hS hcx hvx hlx => ?_)
          · skip
            obtain ⟨rfl, rfl, hbt_32⟩ := hp_28
            refine r_stk (st2 := []) rfl ?_
            cases hbt_32
          · skip
            obtain ⟨rfl, hX9, hb9⟩ := hp_28
            have hE_34 := hE_25.ext hX9
            exact x_out hT hlk hQ hS (by omega) (by omega) hcx hvx hlx (Or.inr ⟨rfl, edg, mcg, capg, hedg, hvz, hE_34⟩)
        · skip
          exact absurd c41 (by omega)
      · skip
        refine lv_aload_n hx hb dX1_heaviestFoam_12 rfl (lv_at hl 0 rfl) ?_
        have hE_35 := fp_At.kept h_pob (fp_keptS (by omega) hS (fun h => (fun h => h.elim (hne_4) (hne_7)) h.2))
        refine r_get X hE_35 rfl in_X1 0 (by decide) q242 (Or.inl rfl) (v := .ref (u)) rfl dX1_heaviestFoam_13 ?_
        refine lv_aload_n hx hb dX1_heaviestFoam_16 rfl (lv_at hl 0 rfl) ?_
        refine r_get X hE_35 rfl in_X1 0 (by decide) q242 (Or.inl rfl) (v := .ref (u)) rfl dX1_heaviestFoam_17 ?_
        refine lv_bipush (v := (iI ((102 : Nat) : Int))) hx hb dX1_heaviestFoam_20 rfl ?_
        refine lv_iload_n hx hb dX1_heaviestFoam_22 rfl (lv_at hl 1 rfl) ?_
        refine lv_iload_n hx hb dX1_heaviestFoam_23 rfl (lv_at hl 2 rfl) ?_
        refine lv_iload_n hx hb dX1_heaviestFoam_24 rfl (lv_at hl 3 rfl) ?_
        have hbkn := fp_blk_k (kd := 0) (l := lcn) (w := wdn) (wt := 9 - d) hiv.1 (by omega) (by decide) ⟨hlw1, hlw2⟩ ⟨by omega, by omega⟩
        refine r_callV (cells1 := (1 + 152 * d + 6)) (slots1 := (6 + 3001 * d + 26)) X hR (c_X2_prepare G u l edg z t mcg capg b S 0 lcn wdn (9 - d) hsw (by omega) (by omega) (by omega) (by omega)) q1137 q1138 q1139 q89 q1140 ⟨rfl, pd_X2_prepare⟩ ⟨Nat.le_of_ble_eq_true rfl, Nat.le_of_ble_eq_true rfl⟩ rfl rfl (by omega) (by omega) hE_25.1 rfl rfl (Nat.le_of_ble_eq_true rfl) hl.1 dX1_heaviestFoam_25 (hB.of hS hAb) hE_25 hS (fun _ h => h.elim) (fun v H_39 locs hp_36 hz_37 hk_38 hS => ?_)
        obtain ⟨q_40, rfl, hq_41, hE_42⟩ := hp_36
        have hz_43 := hS.1
        have lt_45 := hE_42.lt
        refine r_stk (st2 := [.ref (q_40), .ref (u)]) rfl ?_
        have hE_47 := hE_25.ext (fp_X.no hz_37 hk_38)
        refine r_callV (cells1 := (1 + 152 * d + 6 + 146)) (slots1 := (6 + 3001 * d + 26 + 2975)) X hR (c_X2_canPlace G u l edg z t mcg capg b S q_40 (fp_blk (sP S) 0 lcn wdn (9 - d) (fp_base S lcn wdn)) hsw hbkn (fp_tri_dl hsw.1 hiv hbkn) (fun k hk => by have := (h_st.2.2.2.2.1 k hk).lt; show b k ≠ q_40; omega) (by omega)) q1203 q1204 q1205 q89 q1206 ⟨rfl, pd_X2_canPlace⟩ ⟨Nat.le_of_ble_eq_true rfl, Nat.le_of_ble_eq_true rfl⟩ rfl rfl (by omega) (by omega) hE_47.1 rfl rfl (Nat.le_of_ble_eq_true rfl) hl.1 dX1_heaviestFoam_28 (hB.of hS hAb) ⟨hE_47, hE_42⟩ hS (fun q h => by have h2 : (g_s G).heap.size ≤ q ∧ (q = l ∨ q = edg) := h; show ((g_s G).heap.size ≤ q ∧ (q = l ∨ q = ed)) ∨ s.heap.size ≤ q; omega) (fun v H_51 locs hp_48 hz_49 hk_50 hS => ?_)
        obtain ⟨ed2_52, mc2_53, cap2_54, rfl, hed2_55, hE_56⟩ := hp_48
        have hz_57 := hS.1
        have lt_58 := hE_56.1.lt
        refine r_stk (st2 := [.int (iI (bI (fp_can S (fp_blk (sP S) 0 lcn wdn (9 - d) (fp_base S lcn wdn)))))]) rfl ?_
        have hcp := fp_can_plc (S := S) (kd := 0) (l := lcn) (w := wdn) (wt := 9 - d) ⟨hpl9, by omega, by omega⟩
        refine r_set (y := .int (iI (bI (decide (fp_plc S 0 lcn wdn ((9 - d : Nat) : Int) = 0))))) (congrArg (fun q : Bool => Value.int (iI (bI q))) hcp) ?_
        refine r_ifneB (tgt := 40) hx hb dX1_heaviestFoam_31 (by decide) (fun c31 => ?_) (fun c31 => ?_)
        · skip
          have d31 : fp_plc S 0 lcn wdn ((9 - d : Nat) : Int) = 0 := of_decide_eq_true c31
          have hvv : fp_hv S lcn wdn = 9 - d := (fp_hvd_hit (by omega) hno d31)
          refine lv_iload_n hx hb dX1_heaviestFoam_40 rfl (lv_at hl 3 rfl) ?_
          refine r_if_le (tgt := 48) hx hb ⟨by omega, by omega⟩ dX1_heaviestFoam_41 (by decide) (fun c41 => ?_) (fun c41 => ?_)
          · skip
            exact absurd c41 (by omega)
          · skip
            refine lv_iconst (v := (iI ((1 : Nat) : Int))) hx hb dX1_heaviestFoam_44 rfl ?_
            refine lv_goto (tgt := 49) hx hb dX1_heaviestFoam_45 (by decide) ?_
            refine x_callS (cells1 := (1 + 152 * d + 6 + 146 + 1)) (slots1 := (6 + 3001 * d + 26 + 2975 + 6)) X hR (c_X1_checkElement G true) q1324 q1325 q88 q1326 pd_X1_checkElement ⟨Nat.le_of_ble_eq_true rfl, Nat.le_of_ble_eq_true rfl⟩ rfl rfl (by omega) (by omega) rfl (Nat.le_of_ble_eq_true rfl) hl.1 dX1_heaviestFoam_49 (hB.of hS hAb) trivial hS (fun _ h => h.elim) (fun v H_62 locs hp_59 hz_60 hk_61 hS => ?_) (fun Ex qx cx H_62 locs hp_59 hz_60 hk_61 hS hcx hvx hlx => ?_)
            · skip
              obtain ⟨rfl, rfl, hbt_63⟩ := hp_59
              refine r_stk (st2 := []) rfl ?_
              refine lv_iload_n hx hb dX1_heaviestFoam_52 rfl (lv_at hl 3 rfl) ?_
              refine x_iret hx hb hr hlk hQ hS (by omega) (by omega) dX1_heaviestFoam_53 ?_
              exact ⟨ed2_52, mc2_53, cap2_54, (congrArg (fun q : Nat => some (Value.int (iI (q : Int)))) hvv.symm), (fp_hvc_0 hpl9 (by omega)), (by omega), hE_56⟩
            · skip
              obtain ⟨rfl, hX9, hb9⟩ := hp_59
              cases hb9
        · skip
          have d31 : ¬ fp_plc S 0 lcn wdn ((9 - d : Nat) : Int) = 0 := of_decide_eq_false c31
          refine lv_iinc (v := (iI (((9 - d : Nat) : Int) + (-1)))) (lv' := [(3, .int (iI (((9 - d : Nat) : Int) + (-1)))), (0, .ref (x)), (1, .int (iI ((lcn : Nat) : Int))), (2, .int (iI ((wdn : Nat) : Int)))]) hx hb dX1_heaviestFoam_34 hl (k := 3) rfl (iI_add _ _) (by decide) rfl (fun ls hl => ?_)
          refine lv_goto (tgt := 8) hx hb dX1_heaviestFoam_37 (by decide) ?_
          refine W.widen (k := 1 + 152 * (d + 1)) (n := 6 + 3001 * (d + 1)) (by omega) (by omega) ?_
          exact ih8 (by omega) ed2_52 mc2_53 cap2_54 H_51 locs ls (by rw [show Value.int (iI ((9 - (d + 1) : Nat) : Int)) = Value.int (iI (((9 - d : Nat) : Int) + (-1))) from congrArg (fun q : Int => Value.int (iI q)) (by omega)]; exact lv_sub hl [1, 2, 3, 0] rfl) hS (by omega) (fp_ltS hno d31) (by omega) hE_56
    refine W.widen (k := 1 + 152 * 0) (n := 6 + 3001 * 0) (by omega) (by omega) ?_
    exact L8 0 (by omega) ed mc cap s.heap locs ls (by rw [show Value.int (iI ((9 - 0 : Nat) : Int)) = Value.int (iI ((9 : Nat) : Int)) from congrArg (fun q : Nat => Value.int (iI (q : Int))) (by omega)]; exact lv_sub hl [1, 2, 3, 0] rfl) hS (Or.inl rfl) (fun j hj => absurd hj (Nat.not_lt_zero _)) (Nat.le_refl _) h_st
  · skip
    obtain ⟨rfl, hX9, hb9⟩ := hp_18
    have hE_65 := h_st.ext hX9
    exact x_out hT hlk hQ hS (Nat.le_of_ble_eq_true rfl) (Nat.le_of_ble_eq_true rfl) hcx hvx hlx (Or.inl ⟨rfl, (fp_hvc_1 hb9), hE_65⟩)
