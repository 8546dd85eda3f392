/-! THE MODEL: what it is asked, sums -/
set_option maxHeartbeats 4000000 in
theorem c_X4_steps (G : fp_G) (ad : Nat → Nat) (sc : Nat → Int) (ar : Nat → Nat → Int) (S : PS) (hA0 : fp_MA G ad) (hV : fp_VR S (ar 5)) : fp_M G yX4_steps cX4_steps 3 (some .int) 4 79 0 0 [.ref (ad 0)] (fp_ME G ad sc ar) (fp_ma ad) (fun _ v H => ∃ (r : Int), ∃ (ar2 : Nat → Nat → Int), v = some (.int (iI (r))) ∧ fp_ME G ad (va_up sc 0 (((0 : Nat) : Int))) ar2 H ∧ (0 = 0 → r = (fp_steps S : Int)) ∧ (fp_sm0 ar ar2)) := by
  refine fp_M.intro (by decide) (Nat.le_of_ble_eq_true rfl) ?_
  intro pg en s mi ag bl mt cd rR qQ ls X hx hb hr hlk hnm hR hQ hB hM hl
  have hS : va_S (fA (fp_ma ad) s.heap.size) s.heap s.heap [] := va_S.rf
  generalize ([] : List Loc) = locs at hS ⊢
  have hN24 := hV.1.1
  refine lv_aload_n hx hb dX4_steps_0 rfl (lv_at hl 0 rfl) ?_
  refine lv_iconst (v := (iI ((0 : Nat) : Int))) hx hb dX4_steps_1 rfl ?_
  refine m_put X hM hS hA0 (k := 0) (sc2 := (va_up sc 0 (((0 : Nat) : Int)))) rfl (by decide) q2009 rfl rfl rfl dX4_steps_2 rfl (fun H locs hM_1 hS => ?_)
  refine lv_iconst (v := (iI ((0 : Nat) : Int))) hx hb dX4_steps_5 rfl ?_
  refine lv_istore_n (lv' := [(1, .int (iI ((0 : Nat) : Int))), (0, .ref (ad 0))]) hx hb dX4_steps_6 rfl hl (by decide) rfl (fun ls hl => ?_)
  refine lv_iconst (v := (iI ((1 : Nat) : Int))) hx hb dX4_steps_7 rfl ?_
  refine lv_istore_n (lv' := [(2, .int (iI ((1 : Nat) : Int))), (1, .int (iI ((0 : Nat) : Int))), (0, .ref (ad 0))]) hx hb dX4_steps_8 rfl hl (by decide) rfl (fun ls hl => ?_)
  have L9 : ∀ (k : Nat), k ≤ 12 → ∀ (locs : List Loc) (ls : Array Slot),(1 ≤ k) → lv_has ls 3 [(0, .ref (ad 0)), (1, .int (iI ((fp_sm (fp_stp S) (k - 1) : Nat) : Int))), (2, .int (iI ((k : Nat) : Int)))] → va_S (fA (fp_ma ad) s.heap.size) s.heap H locs → W pg (g_l G) en rR s mi ag bl mt cd H locs 0 0 qQ (F0 mi 9 ls []) := by
    refine lp_up 12 ?_
    intro k hk9 ih9 locs ls h1 hl hS
    refine lv_iload_n hx hb dX4_steps_9 rfl (lv_at hl 2 rfl) ?_
    refine lv_bipush (v := (iI ((12 : Nat) : Int))) hx hb dX4_steps_10 rfl ?_
    refine r_icmp_ge (tgt := 68) hx hb ⟨by omega, by omega⟩ (by decide) dX4_steps_12 (by decide) (fun c12 => ?_) (fun c12 => ?_)
    · skip
      refine lv_iload_n hx hb dX4_steps_68 rfl (lv_at hl 1 rfl) ?_
      refine r_iret hx hb hr hlk hQ hS (Nat.le_of_ble_eq_true rfl) (Nat.le_of_ble_eq_true rfl) dX4_steps_69 ?_
      exact ⟨((fp_sm (fp_stp S) (k - 1) : Nat) : Int), ar, rfl, (hM_1.nrm rfl), (fun _ => (by rw [show k = 12 by omega]; rfl)), (fun k hk => by simp [fp_scr] at hk; by_cases e5 : k = 5 <;> simp_all [va_up])⟩
    · skip
      refine lv_iload_n hx hb dX4_steps_15 rfl (lv_at hl 1 rfl) ?_
      refine lv_aload_n hx hb dX4_steps_16 rfl (lv_at hl 0 rfl) ?_
      refine lv_iload_n hx hb dX4_steps_17 rfl (lv_at hl 2 rfl) ?_
      refine r_callV (cells1 := 0) (slots1 := 0) X hR (c_X4_high G ad (va_up sc 0 (((0 : Nat) : Int))) ar S hA0 hV k (by omega)) q2115 q2117 qs49 q100 q2118 ⟨rfl, pd_X4_high⟩ (by decide) rfl rfl (by decide) (by decide) hM_1.1 rfl rfl (Nat.le_of_ble_eq_true rfl) hl.1 dX4_steps_18 (hB.of hS (fp_ma.base hA0)) hM_1 hS (fun _ h => h.elim) (fun v H1 locs hp_2 hzC hkC hS => ?_)
      obtain ⟨rfl, rfl⟩ := hp_2
      refine r_stk (st2 := [.int (iI ((fp_hi S k : Nat) : Int)), .int (iI ((fp_sm (fp_stp S) (k - 1) : Nat) : Int))]) rfl ?_
      have hh21 := fp_hi_le hV.1 k
      refine lv_aload_n hx hb dX4_steps_21 rfl (lv_at hl 0 rfl) ?_
      refine lv_iload_n hx hb dX4_steps_22 rfl (lv_at hl 2 rfl) ?_
      refine lv_iconst (v := (iI ((1 : Nat) : Int))) hx hb dX4_steps_23 rfl ?_
      refine r_isub hx hb dX4_steps_24 ?_
      refine r_set (y := .int (iI ((k - 1 : Nat) : Int))) (congrArg (fun q : Int => Value.int (iI q)) (by omega)) ?_
      refine r_callV (cells1 := 0) (slots1 := 0) X hR (c_X4_high G ad (va_up sc 0 (((0 : Nat) : Int))) ar S hA0 hV (k - 1) (by omega)) q2115 q2117 qs49 q100 q2118 ⟨rfl, pd_X4_high⟩ (by decide) rfl rfl (by decide) (by decide) hM_1.1 rfl rfl (Nat.le_of_ble_eq_true rfl) hl.1 dX4_steps_25 (hB.of hS (fp_ma.base hA0)) hM_1 hS (fun _ h => h.elim) (fun v H1 locs hp_3 hzC hkC hS => ?_)
      obtain ⟨rfl, rfl⟩ := hp_3
      refine r_stk (st2 := [.int (iI ((fp_hi S (k - 1) : Nat) : Int)), .int (iI ((fp_hi S k : Nat) : Int)), .int (iI ((fp_sm (fp_stp S) (k - 1) : Nat) : Int))]) rfl ?_
      have hh28 := fp_hi_le hV.1 (k - 1)
      refine r_icmp_le (tgt := 47) hx hb ⟨by omega, by omega⟩ ⟨by omega, by omega⟩ dX4_steps_28 (by decide) (fun c28 => ?_) (fun c28 => ?_)
      · skip
        refine lv_aload_n hx hb dX4_steps_47 rfl (lv_at hl 0 rfl) ?_
        refine lv_iload_n hx hb dX4_steps_48 rfl (lv_at hl 2 rfl) ?_
        refine lv_iconst (v := (iI ((1 : Nat) : Int))) hx hb dX4_steps_49 rfl ?_
        refine r_isub hx hb dX4_steps_50 ?_
        refine r_set (y := .int (iI ((k - 1 : Nat) : Int))) (congrArg (fun q : Int => Value.int (iI q)) (by omega)) ?_
        refine r_callV (cells1 := 0) (slots1 := 0) X hR (c_X4_high G ad (va_up sc 0 (((0 : Nat) : Int))) ar S hA0 hV (k - 1) (by omega)) q2115 q2117 qs49 q100 q2118 ⟨rfl, pd_X4_high⟩ (by decide) rfl rfl (by decide) (by decide) hM_1.1 rfl rfl (Nat.le_of_ble_eq_true rfl) hl.1 dX4_steps_51 (hB.of hS (fp_ma.base hA0)) hM_1 hS (fun _ h => h.elim) (fun v H1 locs hp_4 hzC hkC hS => ?_)
        obtain ⟨rfl, rfl⟩ := hp_4
        refine r_stk (st2 := [.int (iI ((fp_hi S (k - 1) : Nat) : Int)), .int (iI ((fp_sm (fp_stp S) (k - 1) : Nat) : Int))]) rfl ?_
        have hh54 := fp_hi_le hV.1 (k - 1)
        refine lv_aload_n hx hb dX4_steps_54 rfl (lv_at hl 0 rfl) ?_
        refine lv_iload_n hx hb dX4_steps_55 rfl (lv_at hl 2 rfl) ?_
        refine r_callV (cells1 := 0) (slots1 := 0) X hR (c_X4_high G ad (va_up sc 0 (((0 : Nat) : Int))) ar S hA0 hV k (by omega)) q2115 q2117 qs49 q100 q2118 ⟨rfl, pd_X4_high⟩ (by decide) rfl rfl (by decide) (by decide) hM_1.1 rfl rfl (Nat.le_of_ble_eq_true rfl) hl.1 dX4_steps_56 (hB.of hS (fp_ma.base hA0)) hM_1 hS (fun _ h => h.elim) (fun v H1 locs hp_5 hzC hkC hS => ?_)
        obtain ⟨rfl, rfl⟩ := hp_5
        refine r_stk (st2 := [.int (iI ((fp_hi S k : Nat) : Int)), .int (iI ((fp_hi S (k - 1) : Nat) : Int)), .int (iI ((fp_sm (fp_stp S) (k - 1) : Nat) : Int))]) rfl ?_
        have hh59 := fp_hi_le hV.1 k
        refine r_isub hx hb dX4_steps_59 ?_
        refine r_set (y := .int (iI ((fp_stp S (k - 1) : Nat) : Int))) (congrArg (fun q : Int => Value.int (iI q)) (by have e : k - 1 + 1 = k := (by omega); unfold fp_stp; rw [e]; omega)) ?_
        refine r_iaddN hx hb dX4_steps_60 ?_
        refine lv_istore_n (lv' := [(1, .int (iI (((fp_sm (fp_stp S) (k - 1)) + (fp_stp S (k - 1)) : Nat) : Int))), (0, .ref (ad 0)), (2, .int (iI ((k : Nat) : Int)))]) hx hb dX4_steps_61 rfl hl (by decide) rfl (fun ls hl => ?_)
        refine lv_iinc (v := (iI ((k + 1 : Nat) : Int))) (lv' := [(2, .int (iI ((k + 1 : Nat) : Int))), (1, .int (iI (((fp_sm (fp_stp S) (k - 1)) + (fp_stp S (k - 1)) : Nat) : Int))), (0, .ref (ad 0))]) hx hb dX4_steps_62 hl (k := 2) rfl (iI_incN _ _) (by decide) rfl (fun ls hl => ?_)
        refine lv_goto (tgt := 9) hx hb dX4_steps_65 (by decide) ?_
        exact ih9 (by omega) locs ls (by omega) (by rw [show Value.int (iI ((fp_sm (fp_stp S) ((k + 1) - 1) : Nat) : Int)) = Value.int (iI (((fp_sm (fp_stp S) (k - 1)) + (fp_stp S (k - 1)) : Nat) : Int)) from congrArg (fun q : Nat => Value.int (iI (q : Int))) (by obtain ⟨q, rfl⟩ : ∃ q, k = q + 1 := ⟨k - 1, by omega⟩; rfl)]; exact lv_sub hl [2, 1, 0] rfl) hS
      · skip
        refine lv_aload_n hx hb dX4_steps_31 rfl (lv_at hl 0 rfl) ?_
        refine lv_iload_n hx hb dX4_steps_32 rfl (lv_at hl 2 rfl) ?_
        refine r_callV (cells1 := 0) (slots1 := 0) X hR (c_X4_high G ad (va_up sc 0 (((0 : Nat) : Int))) ar S hA0 hV k (by omega)) q2115 q2117 qs49 q100 q2118 ⟨rfl, pd_X4_high⟩ (by decide) rfl rfl (by decide) (by decide) hM_1.1 rfl rfl (Nat.le_of_ble_eq_true rfl) hl.1 dX4_steps_33 (hB.of hS (fp_ma.base hA0)) hM_1 hS (fun _ h => h.elim) (fun v H1 locs hp_6 hzC hkC hS => ?_)
        obtain ⟨rfl, rfl⟩ := hp_6
        refine r_stk (st2 := [.int (iI ((fp_hi S k : Nat) : Int)), .int (iI ((fp_sm (fp_stp S) (k - 1) : Nat) : Int))]) rfl ?_
        have hh36 := fp_hi_le hV.1 k
        refine lv_aload_n hx hb dX4_steps_36 rfl (lv_at hl 0 rfl) ?_
        refine lv_iload_n hx hb dX4_steps_37 rfl (lv_at hl 2 rfl) ?_
        refine lv_iconst (v := (iI ((1 : Nat) : Int))) hx hb dX4_steps_38 rfl ?_
        refine r_isub hx hb dX4_steps_39 ?_
        refine r_set (y := .int (iI ((k - 1 : Nat) : Int))) (congrArg (fun q : Int => Value.int (iI q)) (by omega)) ?_
        refine r_callV (cells1 := 0) (slots1 := 0) X hR (c_X4_high G ad (va_up sc 0 (((0 : Nat) : Int))) ar S hA0 hV (k - 1) (by omega)) q2115 q2117 qs49 q100 q2118 ⟨rfl, pd_X4_high⟩ (by decide) rfl rfl (by decide) (by decide) hM_1.1 rfl rfl (Nat.le_of_ble_eq_true rfl) hl.1 dX4_steps_40 (hB.of hS (fp_ma.base hA0)) hM_1 hS (fun _ h => h.elim) (fun v H1 locs hp_7 hzC hkC hS => ?_)
        obtain ⟨rfl, rfl⟩ := hp_7
        refine r_stk (st2 := [.int (iI ((fp_hi S (k - 1) : Nat) : Int)), .int (iI ((fp_hi S k : Nat) : Int)), .int (iI ((fp_sm (fp_stp S) (k - 1) : Nat) : Int))]) rfl ?_
        have hh43 := fp_hi_le hV.1 (k - 1)
        refine r_isub hx hb dX4_steps_43 ?_
        refine lv_goto (tgt := 60) hx hb dX4_steps_44 (by decide) ?_
        refine r_set (y := .int (iI ((fp_stp S (k - 1) : Nat) : Int))) (congrArg (fun q : Int => Value.int (iI q)) (by have e : k - 1 + 1 = k := (by omega); unfold fp_stp; rw [e]; omega)) ?_
        refine r_iaddN hx hb dX4_steps_60 ?_
        refine lv_istore_n (lv' := [(1, .int (iI (((fp_sm (fp_stp S) (k - 1)) + (fp_stp S (k - 1)) : Nat) : Int))), (0, .ref (ad 0)), (2, .int (iI ((k : Nat) : Int)))]) hx hb dX4_steps_61 rfl hl (by decide) rfl (fun ls hl => ?_)
        refine lv_iinc (v := (iI ((k + 1 : Nat) : Int))) (lv' := [(2, .int (iI ((k + 1 : Nat) : Int))), (1, .int (iI (((fp_sm (fp_stp S) (k - 1)) + (fp_stp S (k - 1)) : Nat) : Int))), (0, .ref (ad 0))]) hx hb dX4_steps_62 hl (k := 2) rfl (iI_incN _ _) (by decide) rfl (fun ls hl => ?_)
        refine lv_goto (tgt := 9) hx hb dX4_steps_65 (by decide) ?_
        exact ih9 (by omega) locs ls (by omega) (by rw [show Value.int (iI ((fp_sm (fp_stp S) ((k + 1) - 1) : Nat) : Int)) = Value.int (iI (((fp_sm (fp_stp S) (k - 1)) + (fp_stp S (k - 1)) : Nat) : Int)) from congrArg (fun q : Nat => Value.int (iI (q : Int))) (by obtain ⟨q, rfl⟩ : ∃ q, k = q + 1 := ⟨k - 1, by omega⟩; rfl)]; exact lv_sub hl [2, 1, 0] rfl) hS
  exact L9 1 (by omega) locs ls (Nat.le_refl 1) (lv_sub hl [2, 1, 0] rfl) hS
set_option maxHeartbeats 4000000 in
theorem c_X4_highestColumn (G : fp_G) (ad : Nat → Nat) (sc : Nat → Int) (ar : Nat → Nat → Int) (S : PS) (hA0 : fp_MA G ad) (hV : fp_VR S (ar 5)) : fp_M G yX4_highestColumn cX4_highestColumn 3 (some .int) 4 79 0 0 [.ref (ad 0)] (fp_ME G ad sc ar) (fp_ma ad) (fun _ v H => ∃ (r : Int), ∃ (ar2 : Nat → Nat → Int), v = some (.int (iI (r))) ∧ fp_ME G ad (va_up sc 0 (((0 : Nat) : Int))) ar2 H ∧ (0 = 0 → r = (fp_hic S : Int)) ∧ (fp_sm0 ar ar2)) := by
  refine fp_M.intro (by decide) (Nat.le_of_ble_eq_true rfl) ?_
  intro pg en s mi ag bl mt cd rR qQ ls X hx hb hr hlk hnm hR hQ hB hM hl
  have hS : va_S (fA (fp_ma ad) s.heap.size) s.heap s.heap [] := va_S.rf
  generalize ([] : List Loc) = locs at hS ⊢
  have hN24 := hV.1.1
  refine lv_aload_n hx hb dX4_highestColumn_0 rfl (lv_at hl 0 rfl) ?_
  refine lv_iconst (v := (iI ((0 : Nat) : Int))) hx hb dX4_highestColumn_1 rfl ?_
  refine m_put X hM hS hA0 (k := 0) (sc2 := (va_up sc 0 (((0 : Nat) : Int)))) rfl (by decide) q2009 rfl rfl rfl dX4_highestColumn_2 rfl (fun H locs hM_1 hS => ?_)
  refine lv_iconst (v := (iI ((0 : Nat) : Int))) hx hb dX4_highestColumn_5 rfl ?_
  refine lv_istore_n (lv' := [(1, .int (iI ((0 : Nat) : Int))), (0, .ref (ad 0))]) hx hb dX4_highestColumn_6 rfl hl (by decide) rfl (fun ls hl => ?_)
  refine lv_iconst (v := (iI ((1 : Nat) : Int))) hx hb dX4_highestColumn_7 rfl ?_
  refine lv_istore_n (lv' := [(2, .int (iI ((1 : Nat) : Int))), (1, .int (iI ((0 : Nat) : Int))), (0, .ref (ad 0))]) hx hb dX4_highestColumn_8 rfl hl (by decide) rfl (fun ls hl => ?_)
  have L9 : ∀ (k : Nat), k ≤ 12 → ∀ (locs : List Loc) (ls : Array Slot),(1 ≤ k) → lv_has ls 3 [(0, .ref (ad 0)), (1, .int (iI ((fp_best2 (fp_hi S) k : Nat) : Int))), (2, .int (iI ((k : Nat) : Int)))] → va_S (fA (fp_ma ad) s.heap.size) s.heap H locs → W pg (g_l G) en rR s mi ag bl mt cd H locs 0 0 qQ (F0 mi 9 ls []) := by
    refine lp_up 12 ?_
    intro k hk9 ih9 locs ls h1 hl hS
    have hqk : fp_best2 (fp_hi S) k < k := by rw [show k = (k - 1) + 1 by omega]; exact fp_best2_lt
    refine lv_iload_n hx hb dX4_highestColumn_9 rfl (lv_at hl 2 rfl) ?_
    refine lv_bipush (v := (iI ((12 : Nat) : Int))) hx hb dX4_highestColumn_10 rfl ?_
    refine r_icmp_ge (tgt := 36) hx hb ⟨by omega, by omega⟩ (by decide) dX4_highestColumn_12 (by decide) (fun c12 => ?_) (fun c12 => ?_)
    · skip
      refine lv_iload_n hx hb dX4_highestColumn_36 rfl (lv_at hl 1 rfl) ?_
      refine r_iret hx hb hr hlk hQ hS (Nat.le_of_ble_eq_true rfl) (Nat.le_of_ble_eq_true rfl) dX4_highestColumn_37 ?_
      exact ⟨((fp_best2 (fp_hi S) k : Nat) : Int), ar, rfl, (hM_1.nrm rfl), (fun _ => (by rw [show k = 12 by omega]; rfl)), (fun k hk => by simp [fp_scr] at hk; by_cases e5 : k = 5 <;> simp_all [va_up])⟩
    · skip
      refine lv_aload_n hx hb dX4_highestColumn_15 rfl (lv_at hl 0 rfl) ?_
      refine lv_iload_n hx hb dX4_highestColumn_16 rfl (lv_at hl 2 rfl) ?_
      refine r_callV (cells1 := 0) (slots1 := 0) X hR (c_X4_high G ad (va_up sc 0 (((0 : Nat) : Int))) ar S hA0 hV k (by omega)) q2115 q2117 qs49 q100 q2118 ⟨rfl, pd_X4_high⟩ (by decide) rfl rfl (by decide) (by decide) hM_1.1 rfl rfl (Nat.le_of_ble_eq_true rfl) hl.1 dX4_highestColumn_17 (hB.of hS (fp_ma.base hA0)) hM_1 hS (fun _ h => h.elim) (fun v H1 locs hp_2 hzC hkC hS => ?_)
      obtain ⟨rfl, rfl⟩ := hp_2
      refine r_stk (st2 := [.int (iI ((fp_hi S k : Nat) : Int))]) rfl ?_
      have hh20 := fp_hi_le hV.1 k
      refine lv_aload_n hx hb dX4_highestColumn_20 rfl (lv_at hl 0 rfl) ?_
      refine lv_iload_n hx hb dX4_highestColumn_21 rfl (lv_at hl 1 rfl) ?_
      refine r_callV (cells1 := 0) (slots1 := 0) X hR (c_X4_high G ad (va_up sc 0 (((0 : Nat) : Int))) ar S hA0 hV (fp_best2 (fp_hi S) k) (by omega)) q2115 q2117 qs49 q100 q2118 ⟨rfl, pd_X4_high⟩ (by decide) rfl rfl (by decide) (by decide) hM_1.1 rfl rfl (Nat.le_of_ble_eq_true rfl) hl.1 dX4_highestColumn_22 (hB.of hS (fp_ma.base hA0)) hM_1 hS (fun _ h => h.elim) (fun v H1 locs hp_3 hzC hkC hS => ?_)
      obtain ⟨rfl, rfl⟩ := hp_3
      refine r_stk (st2 := [.int (iI ((fp_hi S (fp_best2 (fp_hi S) k) : Nat) : Int)), .int (iI ((fp_hi S k : Nat) : Int))]) rfl ?_
      have hh25 := fp_hi_le hV.1 (fp_best2 (fp_hi S) k)
      refine r_icmp_le (tgt := 30) hx hb ⟨by omega, by omega⟩ ⟨by omega, by omega⟩ dX4_highestColumn_25 (by decide) (fun c25 => ?_) (fun c25 => ?_)
      · skip
        refine lv_iinc (v := (iI ((k + 1 : Nat) : Int))) (lv' := [(2, .int (iI ((k + 1 : Nat) : Int))), (0, .ref (ad 0)), (1, .int (iI ((fp_best2 (fp_hi S) k : Nat) : Int)))]) hx hb dX4_highestColumn_30 hl (k := 2) rfl (iI_incN _ _) (by decide) rfl (fun ls hl => ?_)
        refine lv_goto (tgt := 9) hx hb dX4_highestColumn_33 (by decide) ?_
        exact ih9 (by omega) locs ls (by omega) (by rw [show Value.int (iI ((fp_best2 (fp_hi S) (k + 1) : Nat) : Int)) = Value.int (iI ((fp_best2 (fp_hi S) k : Nat) : Int)) from congrArg (fun q : Nat => Value.int (iI (q : Int))) (fp_best2_f (by omega))]; exact lv_sub hl [1, 2, 0] rfl) hS
      · skip
        refine lv_iload_n hx hb dX4_highestColumn_28 rfl (lv_at hl 2 rfl) ?_
        refine lv_istore_n (lv' := [(1, .int (iI ((k : Nat) : Int))), (0, .ref (ad 0)), (2, .int (iI ((k : Nat) : Int)))]) hx hb dX4_highestColumn_29 rfl hl (by decide) rfl (fun ls hl => ?_)
        refine lv_iinc (v := (iI ((k + 1 : Nat) : Int))) (lv' := [(2, .int (iI ((k + 1 : Nat) : Int))), (1, .int (iI ((k : Nat) : Int))), (0, .ref (ad 0))]) hx hb dX4_highestColumn_30 hl (k := 2) rfl (iI_incN _ _) (by decide) rfl (fun ls hl => ?_)
        refine lv_goto (tgt := 9) hx hb dX4_highestColumn_33 (by decide) ?_
        exact ih9 (by omega) locs ls (by omega) (by rw [show Value.int (iI ((fp_best2 (fp_hi S) (k + 1) : Nat) : Int)) = Value.int (iI ((k : Nat) : Int)) from congrArg (fun q : Nat => Value.int (iI (q : Int))) (fp_best2_t (by omega))]; exact lv_sub hl [2, 1, 0] rfl) hS
  exact L9 1 (by omega) locs ls (Nat.le_refl 1) (by rw [show Value.int (iI ((fp_best2 (fp_hi S) 1 : Nat) : Int)) = Value.int (iI ((0 : Nat) : Int)) from congrArg (fun q : Nat => Value.int (iI (q : Int))) (fp_best2_1)]; exact lv_sub hl [2, 1, 0] rfl) hS
set_option maxHeartbeats 4000000 in
theorem c_X4_litCount (G : fp_G) (ad : Nat → Nat) (sc : Nat → Int) (ar : Nat → Nat → Int) (S : PS) (hA0 : fp_MA G ad) (hV : fp_VR S (ar 5)) : fp_M G yX4_litCount cX4_litCount 1 (some .int) 7 149 0 0 [.ref (ad 0)] (fp_ME G ad sc ar) (fp_ma ad) (fun _ v H => ∃ (r : Int), ∃ (ar2 : Nat → Nat → Int), v = some (.int (iI (r))) ∧ fp_ME G ad (va_up sc 0 (((0 : Nat) : Int))) ar2 H ∧ (0 = 0 → r = (fp_nlit S : Int)) ∧ (fp_sm0 ar ar2)) := by
  refine fp_M.intro (by decide) (Nat.le_of_ble_eq_true rfl) ?_
  intro pg en s mi ag bl mt cd rR qQ ls X hx hb hr hlk hnm hR hQ hB hM hl
  have hS : va_S (fA (fp_ma ad) s.heap.size) s.heap s.heap [] := va_S.rf
  generalize ([] : List Loc) = locs at hS ⊢
  have hN24 := hV.1.1
  refine lv_aload_n hx hb dX4_litCount_0 rfl (lv_at hl 0 rfl) ?_
  refine lv_iconst (v := (iI ((0 : Nat) : Int))) hx hb dX4_litCount_1 rfl ?_
  refine m_put X hM hS hA0 (k := 0) (sc2 := (va_up sc 0 (((0 : Nat) : Int)))) rfl (by decide) q2009 rfl rfl rfl dX4_litCount_2 rfl (fun H locs hM_1 hS => ?_)
  refine lv_aload_n hx hb dX4_litCount_5 rfl (lv_at hl 0 rfl) ?_
  refine r_callV (cells1 := 0) (slots1 := 0) X hR (c_X4_allLit G ad (va_up sc 0 (((0 : Nat) : Int))) ar S hA0 hV  ) q2400 q2402 qs74 q100 q2403 ⟨rfl, pd_X4_allLit⟩ (by decide) rfl rfl (by decide) (by decide) hM_1.1 rfl rfl (Nat.le_of_ble_eq_true rfl) hl.1 dX4_litCount_6 (hB.of hS (fp_ma.base hA0)) hM_1 hS (fun _ h => h.elim) (fun v H1 locs hp_2 hzC hkC hS => ?_)
  obtain ⟨rfl, rfl⟩ := hp_2
  refine r_stk (st2 := [.int (iI ((fp_nlit S : Nat) : Int))]) rfl ?_
  refine r_iret hx hb hr hlk hQ hS (Nat.le_of_ble_eq_true rfl) (Nat.le_of_ble_eq_true rfl) dX4_litCount_9 ?_
  exact ⟨((fp_nlit S : Nat) : Int), ar, rfl, (hM_1.nrm rfl), (fun _ => rfl), (fun k hk => by simp [fp_scr] at hk; by_cases e5 : k = 5 <;> simp_all [va_up])⟩
set_option maxHeartbeats 4000000 in
theorem c_X4_totalWeight (G : fp_G) (ad : Nat → Nat) (sc : Nat → Int) (ar : Nat → Nat → Int) (S : PS) (hA0 : fp_MA G ad) (hV : fp_VR S (ar 5)) : fp_M G yX4_totalWeight cX4_totalWeight 3 (some .int) 2 34 0 0 [.ref (ad 0)] (fp_ME G ad sc ar) (fp_ma ad) (fun _ v H => ∃ (r : Int), ∃ (ar2 : Nat → Nat → Int), v = some (.int (iI (r))) ∧ fp_ME G ad (va_up sc 0 (((0 : Nat) : Int))) ar2 H ∧ (0 = 0 → r = (fp_tw S : Int)) ∧ (fp_sm0 ar ar2)) := by
  refine fp_M.intro (by decide) (Nat.le_of_ble_eq_true rfl) ?_
  intro pg en s mi ag bl mt cd rR qQ ls X hx hb hr hlk hnm hR hQ hB hM hl
  have hS : va_S (fA (fp_ma ad) s.heap.size) s.heap s.heap [] := va_S.rf
  generalize ([] : List Loc) = locs at hS ⊢
  have hN24 := hV.1.1
  refine lv_aload_n hx hb dX4_totalWeight_0 rfl (lv_at hl 0 rfl) ?_
  refine lv_iconst (v := (iI ((0 : Nat) : Int))) hx hb dX4_totalWeight_1 rfl ?_
  refine m_put X hM hS hA0 (k := 0) (sc2 := (va_up sc 0 (((0 : Nat) : Int)))) rfl (by decide) q2009 rfl rfl rfl dX4_totalWeight_2 rfl (fun H locs hM_1 hS => ?_)
  refine lv_iconst (v := (iI ((0 : Nat) : Int))) hx hb dX4_totalWeight_5 rfl ?_
  refine lv_istore_n (lv' := [(1, .int (iI ((0 : Nat) : Int))), (0, .ref (ad 0))]) hx hb dX4_totalWeight_6 rfl hl (by decide) rfl (fun ls hl => ?_)
  refine lv_iconst (v := (iI ((0 : Nat) : Int))) hx hb dX4_totalWeight_7 rfl ?_
  refine lv_istore_n (lv' := [(2, .int (iI ((0 : Nat) : Int))), (1, .int (iI ((0 : Nat) : Int))), (0, .ref (ad 0))]) hx hb dX4_totalWeight_8 rfl hl (by decide) rfl (fun ls hl => ?_)
  have L9 : ∀ (k : Nat), k ≤ sN S → ∀ (locs : List Loc) (ls : Array Slot), lv_has ls 3 [(0, .ref (ad 0)), (1, .int (iI ((fp_sm (fun k => sB S k 4) k : Nat) : Int))), (2, .int (iI ((k : Nat) : Int)))] → va_S (fA (fp_ma ad) s.heap.size) s.heap H locs → W pg (g_l G) en rR s mi ag bl mt cd H locs 0 0 qQ (F0 mi 9 ls []) := by
    refine lp_up (sN S) ?_
    intro k hk9 ih9 locs ls hl hS
    refine lv_iload_n hx hb dX4_totalWeight_9 rfl (lv_at hl 2 rfl) ?_
    refine lv_aload_n hx hb dX4_totalWeight_10 rfl (lv_at hl 0 rfl) ?_
    refine r_get X hM_1.1 rfl in_X4 5 (by decide) q2014 (Or.inl rfl) (v := .ref (ad 5)) rfl dX4_totalWeight_11 ?_
    refine lv_iconst (v := (iI ((0 : Nat) : Int))) hx hb dX4_totalWeight_14 rfl ?_
    refine r_ialdI X (hM_1.2 5 (by decide) (by decide)) (j := 0) (n := 170) rfl (by decide) (by decide) dX4_totalWeight_15 ?_
    refine r_set (y := .int (iI ((sN S : Nat) : Int))) (congrArg (fun q : Int => Value.int (iI q)) (hV.2.1)) ?_
    refine r_icmp_ge (tgt := 34) hx hb ⟨by omega, by omega⟩ ⟨by omega, by omega⟩ dX4_totalWeight_16 (by decide) (fun c16 => ?_) (fun c16 => ?_)
    · skip
      refine lv_iload_n hx hb dX4_totalWeight_34 rfl (lv_at hl 1 rfl) ?_
      refine r_iret hx hb hr hlk hQ hS (Nat.le_of_ble_eq_true rfl) (Nat.le_of_ble_eq_true rfl) dX4_totalWeight_35 ?_
      exact ⟨((fp_sm (fun k => sB S k 4) k : Nat) : Int), ar, rfl, (hM_1.nrm rfl), (fun _ => (by rw [show k = sN S by omega]; rfl)), (fun k hk => by simp [fp_scr] at hk; by_cases e5 : k = 5 <;> simp_all [va_up])⟩
    · skip
      refine lv_iload_n hx hb dX4_totalWeight_19 rfl (lv_at hl 1 rfl) ?_
      refine lv_aload_n hx hb dX4_totalWeight_20 rfl (lv_at hl 0 rfl) ?_
      refine lv_iload_n hx hb dX4_totalWeight_21 rfl (lv_at hl 2 rfl) ?_
      refine lv_iconst (v := (iI ((4 : Nat) : Int))) hx hb dX4_totalWeight_22 rfl ?_
      refine r_callV (cells1 := 0) (slots1 := 0) X hR (c_X4_of G ad (va_up sc 0 (((0 : Nat) : Int))) ar S hA0 hV k 4 (by omega) (by omega)) q2123 q2125 qs51 q100 q2126 ⟨rfl, pd_X4_of⟩ (by decide) rfl rfl (by decide) (by decide) hM_1.1 rfl rfl (Nat.le_of_ble_eq_true rfl) hl.1 dX4_totalWeight_23 (hB.of hS (fp_ma.base hA0)) hM_1 hS (fun _ h => h.elim) (fun v H1 locs hp_2 hzC hkC hS => ?_)
      obtain ⟨rfl, rfl⟩ := hp_2
      refine r_stk (st2 := [.int (iI ((sB S k 4 : Nat) : Int)), .int (iI ((fp_sm (fun k => sB S k 4) k : Nat) : Int))]) rfl ?_
      refine r_iaddN hx hb dX4_totalWeight_26 ?_
      refine lv_istore_n (lv' := [(1, .int (iI (((fp_sm (fun k => sB S k 4) k) + (sB S k 4) : Nat) : Int))), (0, .ref (ad 0)), (2, .int (iI ((k : Nat) : Int)))]) hx hb dX4_totalWeight_27 rfl hl (by decide) rfl (fun ls hl => ?_)
      refine lv_iinc (v := (iI ((k + 1 : Nat) : Int))) (lv' := [(2, .int (iI ((k + 1 : Nat) : Int))), (1, .int (iI (((fp_sm (fun k => sB S k 4) k) + (sB S k 4) : Nat) : Int))), (0, .ref (ad 0))]) hx hb dX4_totalWeight_28 hl (k := 2) rfl (iI_incN _ _) (by decide) rfl (fun ls hl => ?_)
      refine lv_goto (tgt := 9) hx hb dX4_totalWeight_31 (by decide) ?_
      exact ih9 (by omega) locs ls (lv_sub hl [2, 1, 0] rfl) hS
  exact L9 0 (by omega) locs ls (lv_sub hl [2, 1, 0] rfl) hS
set_option maxHeartbeats 4000000 in
theorem c_X4_floorPressure (G : fp_G) (ad : Nat → Nat) (sc : Nat → Int) (ar : Nat → Nat → Int) (S : PS) (hA0 : fp_MA G ad) (hV : fp_VR S (ar 5)) : fp_M G yX4_floorPressure cX4_floorPressure 3 (some .int) 7 148 0 0 [.ref (ad 0)] (fp_ME G ad sc ar) (fp_ma ad) (fun _ v H => ∃ (r : Int), ∃ (ar2 : Nat → Nat → Int), v = some (.int (iI (r))) ∧ fp_ME G ad (va_up sc 0 (((0 : Nat) : Int))) ar2 H ∧ (0 = 0 → r = (fp_fp S : Int)) ∧ (fp_sm0 ar ar2)) := by
  refine fp_M.intro (by decide) (Nat.le_of_ble_eq_true rfl) ?_
  intro pg en s mi ag bl mt cd rR qQ ls X hx hb hr hlk hnm hR hQ hB hM hl
  have hS : va_S (fA (fp_ma ad) s.heap.size) s.heap s.heap [] := va_S.rf
  generalize ([] : List Loc) = locs at hS ⊢
  have hN24 := hV.1.1
  refine lv_aload_n hx hb dX4_floorPressure_0 rfl (lv_at hl 0 rfl) ?_
  refine lv_iconst (v := (iI ((0 : Nat) : Int))) hx hb dX4_floorPressure_1 rfl ?_
  refine m_put X hM hS hA0 (k := 0) (sc2 := (va_up sc 0 (((0 : Nat) : Int)))) rfl (by decide) q2009 rfl rfl rfl dX4_floorPressure_2 rfl (fun H locs hM_1 hS => ?_)
  refine lv_aload_n hx hb dX4_floorPressure_5 rfl (lv_at hl 0 rfl) ?_
  refine r_callV (cells1 := 0) (slots1 := 0) X hR (c_X4_weighs G ad (va_up sc 0 (((0 : Nat) : Int))) ar S hA0 hV  ) q2135 q2137 qs54 q100 q2138 ⟨rfl, pd_X4_weighs⟩ (by decide) rfl rfl (by decide) (by decide) hM_1.1 rfl rfl (Nat.le_of_ble_eq_true rfl) hl.1 dX4_floorPressure_6 (hB.of hS (fp_ma.base hA0)) hM_1 hS (fun _ h => Or.inl h) (fun v H locs hp_2 hzC hkC hS => ?_)
  obtain ⟨f_3, rfl, hM_5, hf_4⟩ := hp_2
  refine r_stk (st2 := []) rfl ?_
  refine lv_iconst (v := (iI ((0 : Nat) : Int))) hx hb dX4_floorPressure_9 rfl ?_
  refine lv_istore_n (lv' := [(1, .int (iI ((0 : Nat) : Int))), (0, .ref (ad 0))]) hx hb dX4_floorPressure_10 rfl hl (by decide) rfl (fun ls hl => ?_)
  refine lv_iconst (v := (iI ((0 : Nat) : Int))) hx hb dX4_floorPressure_11 rfl ?_
  refine lv_istore_n (lv' := [(2, .int (iI ((0 : Nat) : Int))), (1, .int (iI ((0 : Nat) : Int))), (0, .ref (ad 0))]) hx hb dX4_floorPressure_12 rfl hl (by decide) rfl (fun ls hl => ?_)
  have L13 : ∀ (k : Nat), k ≤ sN S → ∀ (locs : List Loc) (ls : Array Slot), lv_has ls 3 [(0, .ref (ad 0)), (1, .int (iI ((fp_sm (fp_fpf S) k : Nat) : Int))), (2, .int (iI ((k : Nat) : Int)))] → va_S (fA (fp_ma ad) s.heap.size) s.heap H locs → W pg (g_l G) en rR s mi ag bl mt cd H locs 0 0 qQ (F0 mi 13 ls []) := by
    refine lp_up (sN S) ?_
    intro k hk13 ih13 locs ls hl hS
    refine lv_iload_n hx hb dX4_floorPressure_13 rfl (lv_at hl 2 rfl) ?_
    refine lv_aload_n hx hb dX4_floorPressure_14 rfl (lv_at hl 0 rfl) ?_
    refine r_get X hM_5.1 rfl in_X4 5 (by decide) q2014 (Or.inl rfl) (v := .ref (ad 5)) rfl dX4_floorPressure_15 ?_
    refine lv_iconst (v := (iI ((0 : Nat) : Int))) hx hb dX4_floorPressure_18 rfl ?_
    refine r_ialdI X (hM_5.2 5 (by decide) (by decide)) (j := 0) (n := 170) rfl (by decide) (by decide) dX4_floorPressure_19 ?_
    refine r_set (y := .int (iI ((sN S : Nat) : Int))) (congrArg (fun q : Int => Value.int (iI q)) (hV.2.1)) ?_
    refine r_icmp_ge (tgt := 58) hx hb ⟨by omega, by omega⟩ ⟨by omega, by omega⟩ dX4_floorPressure_20 (by decide) (fun c20 => ?_) (fun c20 => ?_)
    · skip
      refine lv_iload_n hx hb dX4_floorPressure_58 rfl (lv_at hl 1 rfl) ?_
      refine r_iret hx hb hr hlk hQ hS (Nat.le_of_ble_eq_true rfl) (Nat.le_of_ble_eq_true rfl) dX4_floorPressure_59 ?_
      exact ⟨((fp_sm (fp_fpf S) k : Nat) : Int), (va_up ar 10 f_3), rfl, (hM_5.nrm rfl), (fun _ => (by rw [show k = sN S by omega]; rfl)), (fun k hk => by simp [fp_scr] at hk; by_cases e5 : k = 5 <;> simp_all [va_up])⟩
    · skip
      have hbk := hV.1.2.2.1 k (by omega)
      refine lv_iload_n hx hb dX4_floorPressure_23 rfl (lv_at hl 1 rfl) ?_
      refine lv_aload_n hx hb dX4_floorPressure_24 rfl (lv_at hl 0 rfl) ?_
      refine lv_iload_n hx hb dX4_floorPressure_25 rfl (lv_at hl 2 rfl) ?_
      refine lv_iconst (v := (iI ((5 : Nat) : Int))) hx hb dX4_floorPressure_26 rfl ?_
      refine r_callV (cells1 := 0) (slots1 := 0) X hR (c_X4_of G ad (va_up sc 0 (((0 : Nat) : Int))) (va_up ar 10 f_3) S hA0 hV k 5 (by omega) (by omega)) q2123 q2125 qs51 q100 q2126 ⟨rfl, pd_X4_of⟩ (by decide) rfl rfl (by decide) (by decide) hM_5.1 rfl rfl (Nat.le_of_ble_eq_true rfl) hl.1 dX4_floorPressure_27 (hB.of hS (fp_ma.base hA0)) hM_5 hS (fun _ h => h.elim) (fun v H1 locs hp_6 hzC hkC hS => ?_)
      obtain ⟨rfl, rfl⟩ := hp_6
      refine r_stk (st2 := [.int (iI ((sB S k 5 : Nat) : Int)), .int (iI ((fp_sm (fp_fpf S) k : Nat) : Int))]) rfl ?_
      refine r_if_ne (tgt := 49) hx hb ⟨by omega, by omega⟩ dX4_floorPressure_30 (by decide) (fun c30 => ?_) (fun c30 => ?_)
      · skip
        refine lv_iconst (v := (iI ((0 : Nat) : Int))) hx hb dX4_floorPressure_49 rfl ?_
        refine r_iaddN hx hb dX4_floorPressure_50 ?_
        refine lv_istore_n (lv' := [(1, .int (iI (((fp_sm (fp_fpf S) k) + 0 : Nat) : Int))), (0, .ref (ad 0)), (2, .int (iI ((k : Nat) : Int)))]) hx hb dX4_floorPressure_51 rfl hl (by decide) rfl (fun ls hl => ?_)
        refine lv_iinc (v := (iI ((k + 1 : Nat) : Int))) (lv' := [(2, .int (iI ((k + 1 : Nat) : Int))), (1, .int (iI (((fp_sm (fp_fpf S) k) + 0 : Nat) : Int))), (0, .ref (ad 0))]) hx hb dX4_floorPressure_52 hl (k := 2) rfl (iI_incN _ _) (by decide) rfl (fun ls hl => ?_)
        refine lv_goto (tgt := 13) hx hb dX4_floorPressure_55 (by decide) ?_
        exact ih13 (by omega) locs ls (by rw [show Value.int (iI ((fp_sm (fp_fpf S) (k + 1) : Nat) : Int)) = Value.int (iI (((fp_sm (fp_fpf S) k) + 0 : Nat) : Int)) from congrArg (fun q : Nat => Value.int (iI (q : Int))) (by show _ + (if sB S k 5 = 0 then _ else _) = _; first | rw [if_pos (by omega)] | rw [if_neg (by omega)])]; exact lv_sub hl [2, 1, 0] rfl) hS
      · skip
        refine lv_aload_n hx hb dX4_floorPressure_33 rfl (lv_at hl 0 rfl) ?_
        refine lv_iload_n hx hb dX4_floorPressure_34 rfl (lv_at hl 2 rfl) ?_
        refine lv_iconst (v := (iI ((4 : Nat) : Int))) hx hb dX4_floorPressure_35 rfl ?_
        refine r_callV (cells1 := 0) (slots1 := 0) X hR (c_X4_of G ad (va_up sc 0 (((0 : Nat) : Int))) (va_up ar 10 f_3) S hA0 hV k 4 (by omega) (by omega)) q2123 q2125 qs51 q100 q2126 ⟨rfl, pd_X4_of⟩ (by decide) rfl rfl (by decide) (by decide) hM_5.1 rfl rfl (Nat.le_of_ble_eq_true rfl) hl.1 dX4_floorPressure_36 (hB.of hS (fp_ma.base hA0)) hM_5 hS (fun _ h => h.elim) (fun v H1 locs hp_7 hzC hkC hS => ?_)
        obtain ⟨rfl, rfl⟩ := hp_7
        refine r_stk (st2 := [.int (iI ((sB S k 4 : Nat) : Int)), .int (iI ((fp_sm (fp_fpf S) k : Nat) : Int))]) rfl ?_
        refine lv_aload_n hx hb dX4_floorPressure_39 rfl (lv_at hl 0 rfl) ?_
        refine r_get X hM_5.1 rfl in_X4 10 (by decide) q2019 (Or.inl rfl) (v := .ref (ad 10)) rfl dX4_floorPressure_40 ?_
        refine lv_iload_n hx hb dX4_floorPressure_43 rfl (lv_at hl 2 rfl) ?_
        refine r_ialdI X (hM_5.2 10 (by decide) (by decide)) (j := k) (n := 24) rfl (by omega) (by decide) dX4_floorPressure_44 ?_
        refine r_set (y := .int (iI ((fp_ld S k : Nat) : Int))) (congrArg (fun q : Int => Value.int (iI q)) (show f_3 k = _ from hf_4 k (by omega))) ?_
        refine r_iaddN hx hb dX4_floorPressure_45 ?_
        refine lv_goto (tgt := 50) hx hb dX4_floorPressure_46 (by decide) ?_
        refine r_iaddN hx hb dX4_floorPressure_50 ?_
        refine lv_istore_n (lv' := [(1, .int (iI (((fp_sm (fp_fpf S) k) + ((sB S k 4) + (fp_ld S k)) : Nat) : Int))), (0, .ref (ad 0)), (2, .int (iI ((k : Nat) : Int)))]) hx hb dX4_floorPressure_51 rfl hl (by decide) rfl (fun ls hl => ?_)
        refine lv_iinc (v := (iI ((k + 1 : Nat) : Int))) (lv' := [(2, .int (iI ((k + 1 : Nat) : Int))), (1, .int (iI (((fp_sm (fp_fpf S) k) + ((sB S k 4) + (fp_ld S k)) : Nat) : Int))), (0, .ref (ad 0))]) hx hb dX4_floorPressure_52 hl (k := 2) rfl (iI_incN _ _) (by decide) rfl (fun ls hl => ?_)
        refine lv_goto (tgt := 13) hx hb dX4_floorPressure_55 (by decide) ?_
        exact ih13 (by omega) locs ls (by rw [show Value.int (iI ((fp_sm (fp_fpf S) (k + 1) : Nat) : Int)) = Value.int (iI (((fp_sm (fp_fpf S) k) + ((sB S k 4) + (fp_ld S k)) : Nat) : Int)) from congrArg (fun q : Nat => Value.int (iI (q : Int))) (by show _ + (if sB S k 5 = 0 then _ else _) = _; first | rw [if_pos (by omega)] | rw [if_neg (by omega)])]; exact lv_sub hl [2, 1, 0] rfl) hS
  exact L13 0 (by omega) locs ls (lv_sub hl [2, 1, 0] rfl) hS
set_option maxHeartbeats 4000000 in
theorem c_X4_isConsistent (G : fp_G) (ad : Nat → Nat) (sc : Nat → Int) (ar : Nat → Nat → Int) (S : PS) (hA0 : fp_MA G ad) (hV : fp_VR S (ar 5)) : fp_M G yX4_isConsistent cX4_isConsistent 2 (some .boolean) 8 169 0 0 [.ref (ad 0)] (fp_ME G ad sc ar) (fp_ma ad) (fun _ v H => ∃ (r : Bool), ∃ (ar2 : Nat → Nat → Int), v = some (.int (iI (bI (r)))) ∧ fp_ME G ad (va_up sc 0 (((0 : Nat) : Int))) ar2 H ∧ (0 = 0 → r = fp_bears S) ∧ (fp_sm0 ar ar2)) := by
  refine fp_M.intro (by decide) (Nat.le_of_ble_eq_true rfl) ?_
  intro pg en s mi ag bl mt cd rR qQ ls X hx hb hr hlk hnm hR hQ hB hM hl
  have hS : va_S (fA (fp_ma ad) s.heap.size) s.heap s.heap [] := va_S.rf
  generalize ([] : List Loc) = locs at hS ⊢
  have hN24 := hV.1.1
  refine lv_aload_n hx hb dX4_isConsistent_0 rfl (lv_at hl 0 rfl) ?_
  refine r_callV (cells1 := 0) (slots1 := 0) X hR (c_X4_bears G ad sc ar S hA0 hV  ) q2131 q2133 qs53 q100 q2134 ⟨rfl, pd_X4_bears⟩ (by decide) rfl rfl (by decide) (by decide) hM.1 rfl rfl (Nat.le_of_ble_eq_true rfl) hl.1 dX4_isConsistent_1 (hB.of hS (fp_ma.base hA0)) hM hS (fun _ h => Or.inl h) (fun v H locs hp_1 hzC hkC hS => ?_)
  obtain ⟨f_2, rfl, hM_4, hf_3⟩ := hp_1
  refine r_stk (st2 := [.int (iI (bI (fp_bears S)))]) rfl ?_
  refine lv_istore_n (lv' := [(1, .int (iI (bI (fp_bears S)))), (0, .ref (ad 0))]) hx hb dX4_isConsistent_4 rfl hl (by decide) rfl (fun ls hl => ?_)
  refine lv_aload_n hx hb dX4_isConsistent_5 rfl (lv_at hl 1 rfl) ?_
  refine lv_iconst (v := (iI ((0 : Nat) : Int))) hx hb dX4_isConsistent_6 rfl ?_
  refine m_put X hM_4 hS hA0 (k := 0) (sc2 := (va_up sc 0 (((0 : Nat) : Int)))) rfl (by decide) q2009 rfl rfl rfl dX4_isConsistent_7 rfl (fun H locs hM_5 hS => ?_)
  refine lv_iload_n hx hb dX4_isConsistent_10 rfl (lv_at hl 0 rfl) ?_
  refine r_zret hx hb hr hlk hQ hS (Nat.le_of_ble_eq_true rfl) (Nat.le_of_ble_eq_true rfl) dX4_isConsistent_11 (bI_z _) ?_
  exact ⟨fp_bears S, (va_up ar 10 f_2), rfl, (hM_5.nrm rfl), (fun _ => rfl), (fun k hk => by simp [fp_scr] at hk; by_cases e5 : k = 5 <;> simp_all [va_up])⟩
set_option maxHeartbeats 4000000 in
theorem c_X4_meanHeight (G : fp_G) (ad : Nat → Nat) (sc : Nat → Int) (ar : Nat → Nat → Int) (S : PS) (hA0 : fp_MA G ad) (hV : fp_VR S (ar 5)) : fp_M G yX4_meanHeight cX4_meanHeight 3 (some .double) 4 79 0 0 [.ref (ad 0)] (fp_ME G ad sc ar) (fp_ma ad) (fun _ v H => ∃ (ar2 : Nat → Nat → Int), v = some (.double (fp_div12d (fp_sumh S))) ∧ fp_ME G ad (va_up sc 0 (((0 : Nat) : Int))) ar2 H ∧ (fp_sm0 ar ar2)) := by
  refine fp_M.intro (by decide) (Nat.le_of_ble_eq_true rfl) ?_
  intro pg en s mi ag bl mt cd rR qQ ls X hx hb hr hlk hnm hR hQ hB hM hl
  have hS : va_S (fA (fp_ma ad) s.heap.size) s.heap s.heap [] := va_S.rf
  generalize ([] : List Loc) = locs at hS ⊢
  have hN24 := hV.1.1
  refine lv_aload_n hx hb dX4_meanHeight_0 rfl (lv_at hl 0 rfl) ?_
  refine lv_iconst (v := (iI ((0 : Nat) : Int))) hx hb dX4_meanHeight_1 rfl ?_
  refine m_put X hM hS hA0 (k := 0) (sc2 := (va_up sc 0 (((0 : Nat) : Int)))) rfl (by decide) q2009 rfl rfl rfl dX4_meanHeight_2 rfl (fun H locs hM_1 hS => ?_)
  refine lv_iconst (v := (iI ((0 : Nat) : Int))) hx hb dX4_meanHeight_5 rfl ?_
  refine lv_istore_n (lv' := [(1, .int (iI ((0 : Nat) : Int))), (0, .ref (ad 0))]) hx hb dX4_meanHeight_6 rfl hl (by decide) rfl (fun ls hl => ?_)
  refine lv_iconst (v := (iI ((0 : Nat) : Int))) hx hb dX4_meanHeight_7 rfl ?_
  refine lv_istore_n (lv' := [(2, .int (iI ((0 : Nat) : Int))), (1, .int (iI ((0 : Nat) : Int))), (0, .ref (ad 0))]) hx hb dX4_meanHeight_8 rfl hl (by decide) rfl (fun ls hl => ?_)
  have L9 : ∀ (k : Nat), k ≤ 12 → ∀ (locs : List Loc) (ls : Array Slot), lv_has ls 3 [(0, .ref (ad 0)), (1, .int (iI ((fp_sm (fp_hi S) k : Nat) : Int))), (2, .int (iI ((k : Nat) : Int)))] → va_S (fA (fp_ma ad) s.heap.size) s.heap H locs → W pg (g_l G) en rR s mi ag bl mt cd H locs 0 0 qQ (F0 mi 9 ls []) := by
    refine lp_up 12 ?_
    intro k hk9 ih9 locs ls hl hS
    refine lv_iload_n hx hb dX4_meanHeight_9 rfl (lv_at hl 2 rfl) ?_
    refine lv_bipush (v := (iI ((12 : Nat) : Int))) hx hb dX4_meanHeight_10 rfl ?_
    refine r_icmp_ge (tgt := 29) hx hb ⟨by omega, by omega⟩ (by decide) dX4_meanHeight_12 (by decide) (fun c12 => ?_) (fun c12 => ?_)
    · skip
      refine lv_iload_n hx hb dX4_meanHeight_29 rfl (lv_at hl 1 rfl) ?_
      refine lv_i2d hx hb dX4_meanHeight_30 ?_
      refine lv_ldc2d hx hb X.2.2.2.1 (X.2.2.2.2.1 _ q2416) dX4_meanHeight_31 ?_
      refine lv_ddiv hx hb dX4_meanHeight_34 (by rw [show fp_sm (fp_hi S) k = fp_sumh S by rw [show k = 12 by omega]; rfl]; exact fp_div12d_n (by have := fp_sm_le (f := fp_hi S) (n := 12) (M := 42) (fun c _ => fp_hi_le hV.1 c); show fp_sm (fp_hi S) 12 < 512; omega)) ?_
      refine r_dret hx hb hr hlk hQ hS (Nat.le_of_ble_eq_true rfl) (Nat.le_of_ble_eq_true rfl) dX4_meanHeight_35 ?_
      exact ⟨ar, (by rw [show fp_sumh S = fp_sm (fp_hi S) k by rw [show k = 12 by omega]; rfl]; rfl), hM_1, (fun k hk => by simp [fp_scr] at hk; by_cases e5 : k = 5 <;> simp_all [va_up])⟩
    · skip
      refine lv_iload_n hx hb dX4_meanHeight_15 rfl (lv_at hl 1 rfl) ?_
      refine lv_aload_n hx hb dX4_meanHeight_16 rfl (lv_at hl 0 rfl) ?_
      refine lv_iload_n hx hb dX4_meanHeight_17 rfl (lv_at hl 2 rfl) ?_
      refine r_callV (cells1 := 0) (slots1 := 0) X hR (c_X4_high G ad (va_up sc 0 (((0 : Nat) : Int))) ar S hA0 hV k (by omega)) q2115 q2117 qs49 q100 q2118 ⟨rfl, pd_X4_high⟩ (by decide) rfl rfl (by decide) (by decide) hM_1.1 rfl rfl (Nat.le_of_ble_eq_true rfl) hl.1 dX4_meanHeight_18 (hB.of hS (fp_ma.base hA0)) hM_1 hS (fun _ h => h.elim) (fun v H1 locs hp_2 hzC hkC hS => ?_)
      obtain ⟨rfl, rfl⟩ := hp_2
      refine r_stk (st2 := [.int (iI ((fp_hi S k : Nat) : Int)), .int (iI ((fp_sm (fp_hi S) k : Nat) : Int))]) rfl ?_
      have hh21 := fp_hi_le hV.1 k
      refine r_iaddN hx hb dX4_meanHeight_21 ?_
      refine lv_istore_n (lv' := [(1, .int (iI (((fp_sm (fp_hi S) k) + (fp_hi S k) : Nat) : Int))), (0, .ref (ad 0)), (2, .int (iI ((k : Nat) : Int)))]) hx hb dX4_meanHeight_22 rfl hl (by decide) rfl (fun ls hl => ?_)
      refine lv_iinc (v := (iI ((k + 1 : Nat) : Int))) (lv' := [(2, .int (iI ((k + 1 : Nat) : Int))), (1, .int (iI (((fp_sm (fp_hi S) k) + (fp_hi S k) : Nat) : Int))), (0, .ref (ad 0))]) hx hb dX4_meanHeight_23 hl (k := 2) rfl (iI_incN _ _) (by decide) rfl (fun ls hl => ?_)
      refine lv_goto (tgt := 9) hx hb dX4_meanHeight_26 (by decide) ?_
      exact ih9 (by omega) locs ls (lv_sub hl [2, 1, 0] rfl) hS
  exact L9 0 (by omega) locs ls (lv_sub hl [2, 1, 0] rfl) hS
set_option maxHeartbeats 4000000 in
theorem c_X4_litShare (G : fp_G) (ad : Nat → Nat) (sc : Nat → Int) (ar : Nat → Nat → Int) (S : PS) (hA0 : fp_MA G ad) (hV : fp_VR S (ar 5)) : fp_M G yX4_litShare cX4_litShare 1 (some .float) 7 149 0 0 [.ref (ad 0)] (fp_ME G ad sc ar) (fp_ma ad) (fun _ v H => ∃ (ar2 : Nat → Nat → Int), v = some (.float (fp_div12f (fp_nlit S))) ∧ fp_ME G ad (va_up sc 0 (((0 : Nat) : Int))) ar2 H ∧ (fp_sm0 ar ar2)) := by
  refine fp_M.intro (by decide) (Nat.le_of_ble_eq_true rfl) ?_
  intro pg en s mi ag bl mt cd rR qQ ls X hx hb hr hlk hnm hR hQ hB hM hl
  have hS : va_S (fA (fp_ma ad) s.heap.size) s.heap s.heap [] := va_S.rf
  generalize ([] : List Loc) = locs at hS ⊢
  have hN24 := hV.1.1
  refine lv_aload_n hx hb dX4_litShare_0 rfl (lv_at hl 0 rfl) ?_
  refine lv_iconst (v := (iI ((0 : Nat) : Int))) hx hb dX4_litShare_1 rfl ?_
  refine m_put X hM hS hA0 (k := 0) (sc2 := (va_up sc 0 (((0 : Nat) : Int)))) rfl (by decide) q2009 rfl rfl rfl dX4_litShare_2 rfl (fun H locs hM_1 hS => ?_)
  refine lv_aload_n hx hb dX4_litShare_5 rfl (lv_at hl 0 rfl) ?_
  refine r_callV (cells1 := 0) (slots1 := 0) X hR (c_X4_allLit G ad (va_up sc 0 (((0 : Nat) : Int))) ar S hA0 hV  ) q2400 q2402 qs74 q100 q2403 ⟨rfl, pd_X4_allLit⟩ (by decide) rfl rfl (by decide) (by decide) hM_1.1 rfl rfl (Nat.le_of_ble_eq_true rfl) hl.1 dX4_litShare_6 (hB.of hS (fp_ma.base hA0)) hM_1 hS (fun _ h => h.elim) (fun v H1 locs hp_2 hzC hkC hS => ?_)
  obtain ⟨rfl, rfl⟩ := hp_2
  refine r_stk (st2 := [.int (iI ((fp_nlit S : Nat) : Int))]) rfl ?_
  refine lv_i2f hx hb dX4_litShare_9 ?_
  refine lv_ldcf hx hb X.2.2.2.1 (X.2.2.2.2.1 _ q2421) dX4_litShare_10 ?_
  refine lv_fdiv hx hb dX4_litShare_12 (fp_div12f_n (by have := fp_ct_le (fp_lit S) 12; show fp_ct (fp_lit S) 12 < 13; omega)) ?_
  refine r_fret hx hb hr hlk hQ hS (Nat.le_of_ble_eq_true rfl) (Nat.le_of_ble_eq_true rfl) dX4_litShare_13 ?_
  exact ⟨ar, (by rfl), hM_1, (fun k hk => by simp [fp_scr] at hk; by_cases e5 : k = 5 <;> simp_all [va_up])⟩
