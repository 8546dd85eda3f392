/-! THE MODEL: undo, save, text -/
set_option maxHeartbeats 4000000 in
theorem c_X4_thrown (G : fp_G) (ad : Nat → Nat) (sc : Nat → Int) (ar : Nat → Nat → Int) (hA0 : fp_MA G ad) : fp_M G yX4_thrown cX4_thrown 1 (some .int) 1 12 0 0 [.ref (ad 0)] (fp_ME G ad sc ar) (fp_ma ad) (fun _ v H => v = some (.int (iI (sc 0))) ∧ fp_ME G ad sc ar H) := by
  refine fp_M.intro (by decide) (Nat.le_of_ble_eq_true rfl) ?_
  intro pg en s mi ag bl mt cd rR qQ ls X hx hb hr hlk hnm hR hQ hB hM hl
  have hS : va_S (fA (fp_ma ad) s.heap.size) s.heap s.heap [] := va_S.rf
  generalize ([] : List Loc) = locs at hS ⊢
  refine lv_aload_n hx hb dX4_thrown_0 rfl (lv_at hl 0 rfl) ?_
  refine r_get X hM.1 rfl in_X4 0 (by decide) q2009 (Or.inl rfl) (v := .int (iI (sc 0))) rfl dX4_thrown_1 ?_
  refine r_iret hx hb hr hlk hQ hS (Nat.le_of_ble_eq_true rfl) (Nat.le_of_ble_eq_true rfl) dX4_thrown_4 ?_
  exact ⟨rfl, hM⟩
set_option maxHeartbeats 4000000 in
theorem c_X4_undo (G : fp_G) (ad : Nat → Nat) (sc : Nat → Int) (ar : Nat → Nat → Int) (hA0 : fp_MA G ad) (hs : Nat → PS) (hn : Nat) (hch : sc 1 = ((hn : Nat) : Int)) (h8 : hn ≤ 8) (HR : fp_HR hs hn (ar 9)) : fp_M G yX4_undo cX4_undo 2 (some .int) 1 12 0 0 [.ref (ad 0)] (fp_ME G ad sc ar) (fp_ma ad) (fun _ v H => (v = some (.int (iI ((0 : Nat) : Int))) ∧ fp_ME G ad (va_up sc 0 (((1 : Nat) : Int))) ar H ∧ (hn = 0)) ∨ (∃ (v2 : Nat → Int), v = some (.int (iI ((hn - 1 : Nat) : Int))) ∧ fp_ME G ad (va_up (va_up sc 0 (((0 : Nat) : Int))) 1 (((hn - 1 : Nat) : Int))) (va_up ar 5 v2) H ∧ (hn ≠ 0) ∧ (fp_VR (hs (hn - 1)) v2))) := by
  refine fp_M.intro (by decide) (Nat.le_of_ble_eq_true rfl) ?_
  intro pg en s mi ag bl mt cd rR qQ ls X hx hb hr hlk hnm hR hQ hB hM hl
  have hS : va_S (fA (fp_ma ad) s.heap.size) s.heap s.heap [] := va_S.rf
  generalize ([] : List Loc) = locs at hS ⊢
  refine lv_aload_n hx hb dX4_undo_0 rfl (lv_at hl 0 rfl) ?_
  refine lv_aload_n hx hb dX4_undo_1 rfl (lv_at hl 0 rfl) ?_
  refine r_get X hM.1 rfl in_X4 1 (by decide) q2010 (Or.inl rfl) (v := .int (iI (sc 1))) rfl dX4_undo_2 ?_
  refine r_set (y := .int (iI ((hn : Nat) : Int))) (congrArg (fun q : Int => Value.int (iI q)) (hch)) ?_
  refine r_if_ne (tgt := 12) hx hb ⟨by omega, by omega⟩ dX4_undo_5 (by decide) (fun c5 => ?_) (fun c5 => ?_)
  · skip
    refine lv_iconst (v := (iI ((0 : Nat) : Int))) hx hb dX4_undo_12 rfl ?_
    refine m_put X hM hS hA0 (k := 0) (sc2 := (va_up sc 0 (((0 : Nat) : Int)))) rfl (by decide) q2009 rfl rfl rfl dX4_undo_13 rfl (fun H locs hM_1 hS => ?_)
    refine lv_aload_n hx hb dX4_undo_16 rfl (lv_at hl 0 rfl) ?_
    refine r_get X hM_1.1 rfl in_X4 0 (by decide) q2009 (Or.inl rfl) (v := .int (iI ((0 : Nat) : Int))) rfl dX4_undo_17 ?_
    refine r_if_eq (tgt := 25) hx hb (by decide) dX4_undo_20 (by decide) (fun c20 => ?_) (fun c20 => ?_)
    · skip
      refine lv_aload_n hx hb dX4_undo_25 rfl (lv_at hl 0 rfl) ?_
      refine lv_dup hx hb dX4_undo_26 rfl ?_
      refine r_get X hM_1.1 rfl in_X4 1 (by decide) q2010 (Or.inl rfl) (v := .int (iI (sc 1))) rfl dX4_undo_27 ?_
      refine r_set (y := .int (iI ((hn : Nat) : Int))) (congrArg (fun q : Int => Value.int (iI q)) (hch)) ?_
      refine lv_iconst (v := (iI ((1 : Nat) : Int))) hx hb dX4_undo_30 rfl ?_
      refine r_isub hx hb dX4_undo_31 ?_
      refine r_set (y := .int (iI ((hn - 1 : Nat) : Int))) (congrArg (fun q : Int => Value.int (iI q)) (by omega)) ?_
      refine m_put X hM_1 hS hA0 (k := 1) (sc2 := (va_up (va_up sc 0 (((0 : Nat) : Int))) 1 (((hn - 1 : Nat) : Int)))) rfl (by decide) q2010 rfl rfl rfl dX4_undo_32 rfl (fun H locs hM_2 hS => ?_)
      refine lv_iconst (v := (iI ((0 : Nat) : Int))) hx hb dX4_undo_35 rfl ?_
      refine lv_istore_n (lv' := [(1, .int (iI ((0 : Nat) : Int))), (0, .ref (ad 0))]) hx hb dX4_undo_36 rfl hl (by decide) rfl (fun ls hl => ?_)
      have L37 : ∀ (k : Nat), k ≤ 170 → ∀ (H : Heap) (locs : List Loc) (ls : Array Slot), lv_has ls 2 [(0, .ref (ad 0)), (1, .int (iI ((k : Nat) : Int)))] → va_S (fA (fp_ma ad) s.heap.size) s.heap H locs → fp_ME G ad (va_up (va_up sc 0 (((0 : Nat) : Int))) 1 (((hn - 1 : Nat) : Int))) (va_up ar 5 (fun x => if x < k then ar 9 ((hn - 1) * 170 + x) else ar 5 x)) H → W pg (g_l G) en rR s mi ag bl mt cd H locs 0 0 qQ (F0 mi 37 ls []) := by
        refine lp_up 170 ?_
        intro k hk37 ih37 H locs ls hl hS hM
        refine lv_iload_n hx hb dX4_undo_37 rfl (lv_at hl 1 rfl) ?_
        refine lv_sipush (v := (iI ((170 : Nat) : Int))) hx hb dX4_undo_38 rfl ?_
        refine r_icmp_ge (tgt := 71) hx hb ⟨by omega, by omega⟩ (by decide) dX4_undo_41 (by decide) (fun c41 => ?_) (fun c41 => ?_)
        · skip
          refine lv_aload_n hx hb dX4_undo_71 rfl (lv_at hl 0 rfl) ?_
          refine r_get X hM.1 rfl in_X4 1 (by decide) q2010 (Or.inl rfl) (v := .int (iI ((hn - 1 : Nat) : Int))) rfl dX4_undo_72 ?_
          refine r_iret hx hb hr hlk hQ hS (Nat.le_of_ble_eq_true rfl) (Nat.le_of_ble_eq_true rfl) dX4_undo_75 ?_
          exact Or.inr (⟨_, rfl, hM, (by omega), ((HR (hn - 1) (by omega)).congr (fun y hy => by rw [if_pos (by omega), show (hn - 1) * 170 + y = 170 * (hn - 1) + y by omega]))⟩)
        · skip
          refine lv_aload_n hx hb dX4_undo_44 rfl (lv_at hl 0 rfl) ?_
          refine r_get X hM.1 rfl in_X4 5 (by decide) q2014 (Or.inl rfl) (v := .ref (ad 5)) rfl dX4_undo_45 ?_
          refine lv_iload_n hx hb dX4_undo_48 rfl (lv_at hl 1 rfl) ?_
          refine lv_aload_n hx hb dX4_undo_49 rfl (lv_at hl 0 rfl) ?_
          refine r_get X hM.1 rfl in_X4 9 (by decide) q2018 (Or.inl rfl) (v := .ref (ad 9)) rfl dX4_undo_50 ?_
          refine lv_aload_n hx hb dX4_undo_53 rfl (lv_at hl 0 rfl) ?_
          refine r_get X hM.1 rfl in_X4 1 (by decide) q2010 (Or.inl rfl) (v := .int (iI ((hn - 1 : Nat) : Int))) rfl dX4_undo_54 ?_
          refine lv_sipush (v := (iI ((170 : Nat) : Int))) hx hb dX4_undo_57 rfl ?_
          refine r_imulN hx hb dX4_undo_60 ?_
          refine lv_iload_n hx hb dX4_undo_61 rfl (lv_at hl 1 rfl) ?_
          refine r_iaddN hx hb dX4_undo_62 ?_
          refine r_ialdI X (hM.2 9 (by decide) (by decide)) (j := ((hn - 1) * 170) + k) (n := 1360) rfl (by omega) (by decide) dX4_undo_63 ?_
          refine m_ast X hM hS hA0 (k := 5) (j := k) (z := ((va_up ar 5 (fun x => if x < k then ar 9 ((hn - 1) * 170 + x) else ar 5 x)) 9 (((hn - 1) * 170) + k))) (by decide) rfl (n := 170) rfl (by omega) dX4_undo_64 (fun H locs hM_3 hS => ?_)
          refine lv_iinc (v := (iI ((k + 1 : Nat) : Int))) (lv' := [(1, .int (iI ((k + 1 : Nat) : Int))), (0, .ref (ad 0))]) hx hb dX4_undo_65 hl (k := 1) rfl (iI_incN _ _) (by decide) rfl (fun ls hl => ?_)
          refine lv_goto (tgt := 37) hx hb dX4_undo_68 (by decide) ?_
          exact ih37 (by omega) H locs ls (lv_sub hl [1, 0] rfl) hS (fp_ME.st1 hM_3 (fun x hx => fp_cq_step (v := fun i => ar 9 ((hn - 1) * 170 + i)) (g := ar 5) (i := k) rfl x))
      exact L37 0 (by omega) H locs ls (lv_sub hl [1, 0] rfl) hS (fp_ME.st0 hM_2 5 (fun x hx => by rw [if_neg (Nat.not_lt_zero _)]))
    · exact absurd c20 (by omega)
  · skip
    refine lv_iconst (v := (iI ((1 : Nat) : Int))) hx hb dX4_undo_8 rfl ?_
    refine lv_goto (tgt := 13) hx hb dX4_undo_9 (by decide) ?_
    refine m_put X hM hS hA0 (k := 0) (sc2 := (va_up sc 0 (((1 : Nat) : Int)))) rfl (by decide) q2009 rfl rfl rfl dX4_undo_13 rfl (fun H locs hM_4 hS => ?_)
    refine lv_aload_n hx hb dX4_undo_16 rfl (lv_at hl 0 rfl) ?_
    refine r_get X hM_4.1 rfl in_X4 0 (by decide) q2009 (Or.inl rfl) (v := .int (iI ((1 : Nat) : Int))) rfl dX4_undo_17 ?_
    refine r_if_eq (tgt := 25) hx hb (by decide) dX4_undo_20 (by decide) (fun c20 => ?_) (fun c20 => ?_)
    · exact absurd c20 (by omega)
    · skip
      refine lv_iconst (v := (iI ((0 : Nat) : Int))) hx hb dX4_undo_23 rfl ?_
      refine r_iret hx hb hr hlk hQ hS (Nat.le_of_ble_eq_true rfl) (Nat.le_of_ble_eq_true rfl) dX4_undo_24 ?_
      exact Or.inl ⟨rfl, hM_4, (by omega)⟩
set_option maxHeartbeats 4000000 in
theorem c_X4_undoableCount (G : fp_G) (ad : Nat → Nat) (sc : Nat → Int) (ar : Nat → Nat → Int) (hA0 : fp_MA G ad) (hn : Nat) (hch : sc 1 = ((hn : Nat) : Int)) : fp_M G yX4_undoableCount cX4_undoableCount 1 (some .int) 1 12 0 0 [.ref (ad 0)] (fp_ME G ad sc ar) (fp_ma ad) (fun _ v H => v = some (.int (iI ((hn : Nat) : Int))) ∧ fp_ME G ad (va_up sc 0 (((0 : Nat) : Int))) ar H) := by
  refine fp_M.intro (by decide) (Nat.le_of_ble_eq_true rfl) ?_
  intro pg en s mi ag bl mt cd rR qQ ls X hx hb hr hlk hnm hR hQ hB hM hl
  have hS : va_S (fA (fp_ma ad) s.heap.size) s.heap s.heap [] := va_S.rf
  generalize ([] : List Loc) = locs at hS ⊢
  refine lv_aload_n hx hb dX4_undoableCount_0 rfl (lv_at hl 0 rfl) ?_
  refine lv_iconst (v := (iI ((0 : Nat) : Int))) hx hb dX4_undoableCount_1 rfl ?_
  refine m_put X hM hS hA0 (k := 0) (sc2 := (va_up sc 0 (((0 : Nat) : Int)))) rfl (by decide) q2009 rfl rfl rfl dX4_undoableCount_2 rfl (fun H locs hM_1 hS => ?_)
  refine lv_aload_n hx hb dX4_undoableCount_5 rfl (lv_at hl 0 rfl) ?_
  refine r_get X hM_1.1 rfl in_X4 1 (by decide) q2010 (Or.inl rfl) (v := .int (iI (sc 1))) rfl dX4_undoableCount_6 ?_
  refine r_set (y := .int (iI ((hn : Nat) : Int))) (congrArg (fun q : Int => Value.int (iI q)) (hch)) ?_
  refine r_iret hx hb hr hlk hQ hS (Nat.le_of_ble_eq_true rfl) (Nat.le_of_ble_eq_true rfl) dX4_undoableCount_9 ?_
  exact ⟨rfl, hM_1⟩
set_option maxHeartbeats 4000000 in
theorem c_X4_save (G : fp_G) (ad : Nat → Nat) (sc : Nat → Int) (ar : Nat → Nat → Int) (S : PS) (hA0 : fp_MA G ad) (hV : fp_VR S (ar 5)) : fp_M G yX4_save cX4_save 1 (some .int) 2 34 0 0 [.ref (ad 0)] (fp_ME G ad sc ar) (fp_ma ad) (fun _ v H => v = some (.int (iI ((sN S : Nat) : Int))) ∧ fp_ME G ad (va_up (va_up sc 0 (((0 : Nat) : Int))) 4 (((1 : Nat) : Int))) (va_up ar 7 (ar 5)) H) := by
  refine fp_M.intro (by decide) (Nat.le_of_ble_eq_true rfl) ?_
  intro pg en s mi ag bl mt cd rR qQ ls X hx hb hr hlk hnm hR hQ hB hM hl
  have hS : va_S (fA (fp_ma ad) s.heap.size) s.heap s.heap [] := va_S.rf
  generalize ([] : List Loc) = locs at hS ⊢
  have hN24 := hV.1.1
  refine lv_aload_n hx hb dX4_save_0 rfl (lv_at hl 0 rfl) ?_
  refine lv_iconst (v := (iI ((0 : Nat) : Int))) hx hb dX4_save_1 rfl ?_
  refine m_put X hM hS hA0 (k := 0) (sc2 := (va_up sc 0 (((0 : Nat) : Int)))) rfl (by decide) q2009 rfl rfl rfl dX4_save_2 rfl (fun H locs hM_1 hS => ?_)
  refine lv_aload_n hx hb dX4_save_5 rfl (lv_at hl 0 rfl) ?_
  refine r_get X hM_1.1 rfl in_X4 7 (by decide) q2016 (Or.inl rfl) (v := .ref (ad 7)) rfl dX4_save_6 ?_
  refine lv_aload_n hx hb dX4_save_9 rfl (lv_at hl 0 rfl) ?_
  refine r_get X hM_1.1 rfl in_X4 5 (by decide) q2014 (Or.inl rfl) (v := .ref (ad 5)) rfl dX4_save_10 ?_
  refine r_callS (cells1 := 0) (slots1 := 0) X hR (c_X4_lays G ad (va_up sc 0 (((0 : Nat) : Int))) ar hA0 7 5 rfl rfl (by decide) (by decide) (by decide)) q2091 q2092 q100 q2093 pd_X4_lays (by decide) rfl rfl (by decide) (by decide) rfl (Nat.le_of_ble_eq_true rfl) hl.1 dX4_save_13 (hB.of hS (fp_ma.base hA0)) hM_1 hS (fun _ h => Or.inl h) (fun v H locs hp_2 hzC hkC hS => ?_)
  obtain ⟨rfl, hM_3⟩ := hp_2
  refine r_stk (st2 := []) rfl ?_
  refine lv_aload_n hx hb dX4_save_16 rfl (lv_at hl 0 rfl) ?_
  refine lv_iconst (v := (iI ((1 : Nat) : Int))) hx hb dX4_save_17 rfl ?_
  refine m_put X hM_3 hS hA0 (k := 4) (sc2 := (va_up (va_up sc 0 (((0 : Nat) : Int))) 4 (((1 : Nat) : Int)))) rfl (by decide) q2013 rfl rfl rfl dX4_save_18 rfl (fun H locs hM_4 hS => ?_)
  refine lv_aload_n hx hb dX4_save_21 rfl (lv_at hl 0 rfl) ?_
  refine r_get X hM_4.1 rfl in_X4 5 (by decide) q2014 (Or.inl rfl) (v := .ref (ad 5)) rfl dX4_save_22 ?_
  refine lv_iconst (v := (iI ((0 : Nat) : Int))) hx hb dX4_save_25 rfl ?_
  refine r_ialdI X (hM_4.2 5 (by decide) (by decide)) (j := 0) (n := 170) rfl (by decide) (by decide) dX4_save_26 ?_
  refine r_set (y := .int (iI ((sN S : Nat) : Int))) (congrArg (fun q : Int => Value.int (iI q)) (hV.2.1)) ?_
  refine r_iret hx hb hr hlk hQ hS (Nat.le_of_ble_eq_true rfl) (Nat.le_of_ble_eq_true rfl) dX4_save_27 ?_
  exact ⟨rfl, hM_4⟩
set_option maxHeartbeats 4000000 in
theorem c_X4_restore (G : fp_G) (ad : Nat → Nat) (sc : Nat → Int) (ar : Nat → Nat → Int) (hA0 : fp_MA G ad) (T : PS) (sv : Nat) (hsv : sc 4 = ((sv : Nat) : Int)) (hsv2 : sv < 2) (hT : sv = 1 → fp_VR T (ar 7)) : fp_M G yX4_restore cX4_restore 1 (some .int) 2 34 0 0 [.ref (ad 0)] (fp_ME G ad sc ar) (fp_ma ad) (fun _ v H => (v = some (.int (iI ((0 : Nat) : Int))) ∧ fp_ME G ad (va_up sc 0 (((1 : Nat) : Int))) ar H ∧ (sv = 0)) ∨ (v = some (.int (iI ((sN T : Nat) : Int))) ∧ fp_ME G ad (va_up (va_up sc 0 (((0 : Nat) : Int))) 1 (((0 : Nat) : Int))) (va_up ar 5 (ar 7)) H ∧ (sv = 1))) := by
  refine fp_M.intro (by decide) (Nat.le_of_ble_eq_true rfl) ?_
  intro pg en s mi ag bl mt cd rR qQ ls X hx hb hr hlk hnm hR hQ hB hM hl
  have hS : va_S (fA (fp_ma ad) s.heap.size) s.heap s.heap [] := va_S.rf
  generalize ([] : List Loc) = locs at hS ⊢
  refine lv_aload_n hx hb dX4_restore_0 rfl (lv_at hl 0 rfl) ?_
  refine lv_aload_n hx hb dX4_restore_1 rfl (lv_at hl 0 rfl) ?_
  refine r_get X hM.1 rfl in_X4 4 (by decide) q2013 (Or.inl rfl) (v := .int (iI (sc 4))) rfl dX4_restore_2 ?_
  refine r_set (y := .int (iI ((sv : Nat) : Int))) (congrArg (fun q : Int => Value.int (iI q)) (hsv)) ?_
  refine r_if_eq (tgt := 12) hx hb ⟨by omega, by omega⟩ dX4_restore_5 (by decide) (fun c5 => ?_) (fun c5 => ?_)
  · skip
    refine lv_iconst (v := (iI ((1 : Nat) : Int))) hx hb dX4_restore_12 rfl ?_
    refine m_put X hM hS hA0 (k := 0) (sc2 := (va_up sc 0 (((1 : Nat) : Int)))) rfl (by decide) q2009 rfl rfl rfl dX4_restore_13 rfl (fun H locs hM_1 hS => ?_)
    refine lv_aload_n hx hb dX4_restore_16 rfl (lv_at hl 0 rfl) ?_
    refine r_get X hM_1.1 rfl in_X4 0 (by decide) q2009 (Or.inl rfl) (v := .int (iI ((1 : Nat) : Int))) rfl dX4_restore_17 ?_
    refine r_if_eq (tgt := 25) hx hb (by decide) dX4_restore_20 (by decide) (fun c20 => ?_) (fun c20 => ?_)
    · exact absurd c20 (by omega)
    · skip
      refine lv_iconst (v := (iI ((0 : Nat) : Int))) hx hb dX4_restore_23 rfl ?_
      refine r_iret hx hb hr hlk hQ hS (Nat.le_of_ble_eq_true rfl) (Nat.le_of_ble_eq_true rfl) dX4_restore_24 ?_
      exact Or.inl ⟨rfl, hM_1, (by omega)⟩
  · skip
    refine lv_iconst (v := (iI ((0 : Nat) : Int))) hx hb dX4_restore_8 rfl ?_
    refine lv_goto (tgt := 13) hx hb dX4_restore_9 (by decide) ?_
    refine m_put X hM hS hA0 (k := 0) (sc2 := (va_up sc 0 (((0 : Nat) : Int)))) rfl (by decide) q2009 rfl rfl rfl dX4_restore_13 rfl (fun H locs hM_2 hS => ?_)
    refine lv_aload_n hx hb dX4_restore_16 rfl (lv_at hl 0 rfl) ?_
    refine r_get X hM_2.1 rfl in_X4 0 (by decide) q2009 (Or.inl rfl) (v := .int (iI ((0 : Nat) : Int))) rfl dX4_restore_17 ?_
    refine r_if_eq (tgt := 25) hx hb (by decide) dX4_restore_20 (by decide) (fun c20 => ?_) (fun c20 => ?_)
    · skip
      refine lv_aload_n hx hb dX4_restore_25 rfl (lv_at hl 0 rfl) ?_
      refine r_get X hM_2.1 rfl in_X4 5 (by decide) q2014 (Or.inl rfl) (v := .ref (ad 5)) rfl dX4_restore_26 ?_
      refine lv_aload_n hx hb dX4_restore_29 rfl (lv_at hl 0 rfl) ?_
      refine r_get X hM_2.1 rfl in_X4 7 (by decide) q2016 (Or.inl rfl) (v := .ref (ad 7)) rfl dX4_restore_30 ?_
      refine r_callS (cells1 := 0) (slots1 := 0) X hR (c_X4_lays G ad (va_up sc 0 (((0 : Nat) : Int))) ar hA0 5 7 rfl rfl (by decide) (by decide) (by decide)) q2091 q2092 q100 q2093 pd_X4_lays (by decide) rfl rfl (by decide) (by decide) rfl (Nat.le_of_ble_eq_true rfl) hl.1 dX4_restore_33 (hB.of hS (fp_ma.base hA0)) hM_2 hS (fun _ h => Or.inl h) (fun v H locs hp_3 hzC hkC hS => ?_)
      obtain ⟨rfl, hM_4⟩ := hp_3
      refine r_stk (st2 := []) rfl ?_
      refine lv_aload_n hx hb dX4_restore_36 rfl (lv_at hl 0 rfl) ?_
      refine lv_iconst (v := (iI ((0 : Nat) : Int))) hx hb dX4_restore_37 rfl ?_
      refine m_put X hM_4 hS hA0 (k := 1) (sc2 := (va_up (va_up sc 0 (((0 : Nat) : Int))) 1 (((0 : Nat) : Int)))) rfl (by decide) q2010 rfl rfl rfl dX4_restore_38 rfl (fun H locs hM_5 hS => ?_)
      refine lv_aload_n hx hb dX4_restore_41 rfl (lv_at hl 0 rfl) ?_
      refine r_get X hM_5.1 rfl in_X4 5 (by decide) q2014 (Or.inl rfl) (v := .ref (ad 5)) rfl dX4_restore_42 ?_
      refine lv_iconst (v := (iI ((0 : Nat) : Int))) hx hb dX4_restore_45 rfl ?_
      refine r_ialdI X (hM_5.2 5 (by decide) (by decide)) (j := 0) (n := 170) rfl (by decide) (by decide) dX4_restore_46 ?_
      refine r_set (y := .int (iI ((sN T : Nat) : Int))) (congrArg (fun q : Int => Value.int (iI q)) ((hT (by omega)).2.1)) ?_
      refine r_iret hx hb hr hlk hQ hS (Nat.le_of_ble_eq_true rfl) (Nat.le_of_ble_eq_true rfl) dX4_restore_47 ?_
      exact Or.inr (⟨rfl, hM_5, (by omega)⟩)
    · exact absurd c20 (by omega)
set_option maxHeartbeats 4000000 in
theorem c_X4_errorPosition (G : fp_G) (ad : Nat → Nat) (sc : Nat → Int) (ar : Nat → Nat → Int) (hA0 : fp_MA G ad) (hr2 : rg (sc 2)) : fp_M G yX4_errorPosition cX4_errorPosition 1 (some .int) 1 12 0 0 [.ref (ad 0)] (fp_ME G ad sc ar) (fp_ma ad) (fun _ v H => (v = some (.int (iI ((0 : Nat) : Int))) ∧ fp_ME G ad (va_up sc 0 (((1 : Nat) : Int))) ar H ∧ (sc 2 < 0)) ∨ (v = some (.int (iI (sc 2))) ∧ fp_ME G ad (va_up sc 0 (((0 : Nat) : Int))) ar H ∧ (0 ≤ sc 2))) := by
  refine fp_M.intro (by decide) (Nat.le_of_ble_eq_true rfl) ?_
  intro pg en s mi ag bl mt cd rR qQ ls X hx hb hr hlk hnm hR hQ hB hM hl
  have hS : va_S (fA (fp_ma ad) s.heap.size) s.heap s.heap [] := va_S.rf
  generalize ([] : List Loc) = locs at hS ⊢
  refine lv_aload_n hx hb dX4_errorPosition_0 rfl (lv_at hl 0 rfl) ?_
  refine lv_aload_n hx hb dX4_errorPosition_1 rfl (lv_at hl 0 rfl) ?_
  refine r_get X hM.1 rfl in_X4 2 (by decide) q2011 (Or.inl rfl) (v := .int (iI (sc 2))) rfl dX4_errorPosition_2 ?_
  refine r_if_ge (tgt := 12) hx hb ⟨by omega, by omega⟩ dX4_errorPosition_5 (by decide) (fun c5 => ?_) (fun c5 => ?_)
  · skip
    refine lv_iconst (v := (iI ((0 : Nat) : Int))) hx hb dX4_errorPosition_12 rfl ?_
    refine m_put X hM hS hA0 (k := 0) (sc2 := (va_up sc 0 (((0 : Nat) : Int)))) rfl (by decide) q2009 rfl rfl rfl dX4_errorPosition_13 rfl (fun H locs hM_1 hS => ?_)
    refine lv_aload_n hx hb dX4_errorPosition_16 rfl (lv_at hl 0 rfl) ?_
    refine r_get X hM_1.1 rfl in_X4 0 (by decide) q2009 (Or.inl rfl) (v := .int (iI ((0 : Nat) : Int))) rfl dX4_errorPosition_17 ?_
    refine r_if_ne (tgt := 30) hx hb (by decide) dX4_errorPosition_20 (by decide) (fun c20 => ?_) (fun c20 => ?_)
    · exact absurd c20 (by omega)
    · skip
      refine lv_aload_n hx hb dX4_errorPosition_23 rfl (lv_at hl 0 rfl) ?_
      refine r_get X hM_1.1 rfl in_X4 2 (by decide) q2011 (Or.inl rfl) (v := .int (iI (sc 2))) rfl dX4_errorPosition_24 ?_
      refine lv_goto (tgt := 31) hx hb dX4_errorPosition_27 (by decide) ?_
      refine r_iret hx hb hr hlk hQ hS (Nat.le_of_ble_eq_true rfl) (Nat.le_of_ble_eq_true rfl) dX4_errorPosition_31 ?_
      exact Or.inr (⟨rfl, hM_1, (by omega)⟩)
  · skip
    refine lv_iconst (v := (iI ((1 : Nat) : Int))) hx hb dX4_errorPosition_8 rfl ?_
    refine lv_goto (tgt := 13) hx hb dX4_errorPosition_9 (by decide) ?_
    refine m_put X hM hS hA0 (k := 0) (sc2 := (va_up sc 0 (((1 : Nat) : Int)))) rfl (by decide) q2009 rfl rfl rfl dX4_errorPosition_13 rfl (fun H locs hM_2 hS => ?_)
    refine lv_aload_n hx hb dX4_errorPosition_16 rfl (lv_at hl 0 rfl) ?_
    refine r_get X hM_2.1 rfl in_X4 0 (by decide) q2009 (Or.inl rfl) (v := .int (iI ((1 : Nat) : Int))) rfl dX4_errorPosition_17 ?_
    refine r_if_ne (tgt := 30) hx hb (by decide) dX4_errorPosition_20 (by decide) (fun c20 => ?_) (fun c20 => ?_)
    · skip
      refine lv_iconst (v := (iI ((0 : Nat) : Int))) hx hb dX4_errorPosition_30 rfl ?_
      refine r_iret hx hb hr hlk hQ hS (Nat.le_of_ble_eq_true rfl) (Nat.le_of_ble_eq_true rfl) dX4_errorPosition_31 ?_
      exact Or.inl ⟨rfl, hM_2, (by omega)⟩
    · exact absurd c20 (by omega)
set_option maxHeartbeats 4000000 in
theorem c_X4_failedCommand (G : fp_G) (ad : Nat → Nat) (sc : Nat → Int) (ar : Nat → Nat → Int) (hA0 : fp_MA G ad) (hr2 : rg (sc 3)) : fp_M G yX4_failedCommand cX4_failedCommand 1 (some .int) 1 12 0 0 [.ref (ad 0)] (fp_ME G ad sc ar) (fp_ma ad) (fun _ v H => (v = some (.int (iI ((0 : Nat) : Int))) ∧ fp_ME G ad (va_up sc 0 (((1 : Nat) : Int))) ar H ∧ (sc 3 < 0)) ∨ (v = some (.int (iI (sc 3))) ∧ fp_ME G ad (va_up sc 0 (((0 : Nat) : Int))) ar H ∧ (0 ≤ sc 3))) := by
  refine fp_M.intro (by decide) (Nat.le_of_ble_eq_true rfl) ?_
  intro pg en s mi ag bl mt cd rR qQ ls X hx hb hr hlk hnm hR hQ hB hM hl
  have hS : va_S (fA (fp_ma ad) s.heap.size) s.heap s.heap [] := va_S.rf
  generalize ([] : List Loc) = locs at hS ⊢
  refine lv_aload_n hx hb dX4_failedCommand_0 rfl (lv_at hl 0 rfl) ?_
  refine lv_aload_n hx hb dX4_failedCommand_1 rfl (lv_at hl 0 rfl) ?_
  refine r_get X hM.1 rfl in_X4 3 (by decide) q2012 (Or.inl rfl) (v := .int (iI (sc 3))) rfl dX4_failedCommand_2 ?_
  refine r_if_ge (tgt := 12) hx hb ⟨by omega, by omega⟩ dX4_failedCommand_5 (by decide) (fun c5 => ?_) (fun c5 => ?_)
  · skip
    refine lv_iconst (v := (iI ((0 : Nat) : Int))) hx hb dX4_failedCommand_12 rfl ?_
    refine m_put X hM hS hA0 (k := 0) (sc2 := (va_up sc 0 (((0 : Nat) : Int)))) rfl (by decide) q2009 rfl rfl rfl dX4_failedCommand_13 rfl (fun H locs hM_1 hS => ?_)
    refine lv_aload_n hx hb dX4_failedCommand_16 rfl (lv_at hl 0 rfl) ?_
    refine r_get X hM_1.1 rfl in_X4 0 (by decide) q2009 (Or.inl rfl) (v := .int (iI ((0 : Nat) : Int))) rfl dX4_failedCommand_17 ?_
    refine r_if_ne (tgt := 30) hx hb (by decide) dX4_failedCommand_20 (by decide) (fun c20 => ?_) (fun c20 => ?_)
    · exact absurd c20 (by omega)
    · skip
      refine lv_aload_n hx hb dX4_failedCommand_23 rfl (lv_at hl 0 rfl) ?_
      refine r_get X hM_1.1 rfl in_X4 3 (by decide) q2012 (Or.inl rfl) (v := .int (iI (sc 3))) rfl dX4_failedCommand_24 ?_
      refine lv_goto (tgt := 31) hx hb dX4_failedCommand_27 (by decide) ?_
      refine r_iret hx hb hr hlk hQ hS (Nat.le_of_ble_eq_true rfl) (Nat.le_of_ble_eq_true rfl) dX4_failedCommand_31 ?_
      exact Or.inr (⟨rfl, hM_1, (by omega)⟩)
  · skip
    refine lv_iconst (v := (iI ((1 : Nat) : Int))) hx hb dX4_failedCommand_8 rfl ?_
    refine lv_goto (tgt := 13) hx hb dX4_failedCommand_9 (by decide) ?_
    refine m_put X hM hS hA0 (k := 0) (sc2 := (va_up sc 0 (((1 : Nat) : Int)))) rfl (by decide) q2009 rfl rfl rfl dX4_failedCommand_13 rfl (fun H locs hM_2 hS => ?_)
    refine lv_aload_n hx hb dX4_failedCommand_16 rfl (lv_at hl 0 rfl) ?_
    refine r_get X hM_2.1 rfl in_X4 0 (by decide) q2009 (Or.inl rfl) (v := .int (iI ((1 : Nat) : Int))) rfl dX4_failedCommand_17 ?_
    refine r_if_ne (tgt := 30) hx hb (by decide) dX4_failedCommand_20 (by decide) (fun c20 => ?_) (fun c20 => ?_)
    · skip
      refine lv_iconst (v := (iI ((0 : Nat) : Int))) hx hb dX4_failedCommand_30 rfl ?_
      refine r_iret hx hb hr hlk hQ hS (Nat.le_of_ble_eq_true rfl) (Nat.le_of_ble_eq_true rfl) dX4_failedCommand_31 ?_
      exact Or.inl ⟨rfl, hM_2, (by omega)⟩
    · exact absurd c20 (by omega)
set_option maxHeartbeats 4000000 in
theorem c_X4_append (G : fp_G) (ad : Nat → Nat) (sc : Nat → Int) (ar : Nat → Nat → Int) (hA0 : fp_MA G ad) (tn : Nat) (htn : sc 17 = ((tn : Nat) : Int)) (h60 : tn ≤ 60) (z : Int) (hz : 0 ≤ z ∧ z < 65536) : fp_M G yX4_append cX4_append 2 (some .int) 2 34 0 0 [.ref (ad 0), .int (iI (z))] (fp_ME G ad sc ar) (fp_ma ad) (fun _ v H => (v = some (.int (iI ((0 : Nat) : Int))) ∧ fp_ME G ad (va_up sc 0 (((1 : Nat) : Int))) ar H ∧ (¬ (32 ≤ z ∧ z ≤ 126))) ∨ (v = some (.int (iI ((0 : Nat) : Int))) ∧ fp_ME G ad (va_up sc 0 (((2 : Nat) : Int))) ar H ∧ ((32 ≤ z ∧ z ≤ 126) ∧ tn = 60)) ∨ (v = some (.int (iI ((tn + 1 : Nat) : Int))) ∧ fp_ME G ad (va_up (va_up sc 0 (((0 : Nat) : Int))) 17 (((tn + 1 : Nat) : Int))) (fp_ua ar 12 tn z) H ∧ ((32 ≤ z ∧ z ≤ 126) ∧ tn < 60))) := by
  refine fp_M.intro (by decide) (Nat.le_of_ble_eq_true rfl) ?_
  intro pg en s mi ag bl mt cd rR qQ ls X hx hb hr hlk hnm hR hQ hB hM hl
  have hS : va_S (fA (fp_ma ad) s.heap.size) s.heap s.heap [] := va_S.rf
  generalize ([] : List Loc) = locs at hS ⊢
  refine lv_aload_n hx hb dX4_append_0 rfl (lv_at hl 0 rfl) ?_
  refine lv_iload_n hx hb dX4_append_1 rfl (lv_at hl 1 rfl) ?_
  refine lv_bipush (v := (iI ((32 : Nat) : Int))) hx hb dX4_append_2 rfl ?_
  refine lv_bipush (v := (iI ((126 : Nat) : Int))) hx hb dX4_append_4 rfl ?_
  refine r_callS (cells1 := 0) (slots1 := 0) X hR (c_X4_isIn G (z) 32 126 (by omega) (by omega) (by omega)) q2104 q2105 q100 q2106 pd_X4_isIn (by decide) rfl rfl (by decide) (by decide) rfl (Nat.le_of_ble_eq_true rfl) hl.1 dX4_append_6 (hB.of hS (fp_ma.base hA0)) trivial hS (fun _ h => h.elim) (fun v H1 locs hp_1 hzC hkC hS => ?_)
  obtain ⟨rfl, rfl⟩ := hp_1
  refine r_stk (st2 := [.int (iI (bI (decide (32 ≤ (z) ∧ (z) ≤ 126)))), .ref (ad 0)]) rfl ?_
  refine r_ifneB (tgt := 16) hx hb dX4_append_9 (by decide) (fun c9 => ?_) (fun c9 => ?_)
  · skip
    have c9 := of_decide_eq_true c9
    refine lv_aload_n hx hb dX4_append_16 rfl (lv_at hl 0 rfl) ?_
    refine r_get X hM.1 rfl in_X4 17 (by decide) q2026 (Or.inl rfl) (v := .int (iI (sc 17))) rfl dX4_append_17 ?_
    refine r_set (y := .int (iI ((tn : Nat) : Int))) (congrArg (fun q : Int => Value.int (iI q)) (htn)) ?_
    refine lv_bipush (v := (iI ((60 : Nat) : Int))) hx hb dX4_append_20 rfl ?_
    refine r_icmp_ne (tgt := 29) hx hb ⟨by omega, by omega⟩ (by decide) dX4_append_22 (by decide) (fun c22 => ?_) (fun c22 => ?_)
    · skip
      refine lv_iconst (v := (iI ((0 : Nat) : Int))) hx hb dX4_append_29 rfl ?_
      refine m_put X hM hS hA0 (k := 0) (sc2 := (va_up sc 0 (((0 : Nat) : Int)))) rfl (by decide) q2009 rfl rfl rfl dX4_append_30 rfl (fun H locs hM_2 hS => ?_)
      refine lv_aload_n hx hb dX4_append_33 rfl (lv_at hl 0 rfl) ?_
      refine r_get X hM_2.1 rfl in_X4 0 (by decide) q2009 (Or.inl rfl) (v := .int (iI ((0 : Nat) : Int))) rfl dX4_append_34 ?_
      refine r_if_eq (tgt := 42) hx hb (by decide) dX4_append_37 (by decide) (fun c37 => ?_) (fun c37 => ?_)
      · skip
        refine lv_aload_n hx hb dX4_append_42 rfl (lv_at hl 0 rfl) ?_
        refine r_get X hM_2.1 rfl in_X4 12 (by decide) q2021 (Or.inl rfl) (v := .ref (ad 12)) rfl dX4_append_43 ?_
        refine lv_aload_n hx hb dX4_append_46 rfl (lv_at hl 0 rfl) ?_
        refine r_get X hM_2.1 rfl in_X4 17 (by decide) q2026 (Or.inl rfl) (v := .int (iI (sc 17))) rfl dX4_append_47 ?_
        refine r_set (y := .int (iI ((tn : Nat) : Int))) (congrArg (fun q : Int => Value.int (iI q)) (htn)) ?_
        refine lv_iload_n hx hb dX4_append_50 rfl (lv_at hl 1 rfl) ?_
        refine m_ast X hM_2 hS hA0 (k := 12) (j := tn) (z := (z)) (by decide) rfl (n := 60) rfl (by omega) dX4_append_51 (fun H locs hM_3 hS => ?_)
        refine lv_aload_n hx hb dX4_append_52 rfl (lv_at hl 0 rfl) ?_
        refine lv_dup hx hb dX4_append_53 rfl ?_
        refine r_get X hM_3.1 rfl in_X4 17 (by decide) q2026 (Or.inl rfl) (v := .int (iI (sc 17))) rfl dX4_append_54 ?_
        refine r_set (y := .int (iI ((tn : Nat) : Int))) (congrArg (fun q : Int => Value.int (iI q)) (htn)) ?_
        refine lv_iconst (v := (iI ((1 : Nat) : Int))) hx hb dX4_append_57 rfl ?_
        refine r_iaddN hx hb dX4_append_58 ?_
        refine m_put X hM_3 hS hA0 (k := 17) (sc2 := (va_up (va_up sc 0 (((0 : Nat) : Int))) 17 (((tn + 1 : Nat) : Int)))) rfl (by decide) q2026 rfl rfl rfl dX4_append_59 rfl (fun H locs hM_4 hS => ?_)
        refine lv_aload_n hx hb dX4_append_62 rfl (lv_at hl 0 rfl) ?_
        refine r_get X hM_4.1 rfl in_X4 17 (by decide) q2026 (Or.inl rfl) (v := .int (iI ((tn + 1 : Nat) : Int))) rfl dX4_append_63 ?_
        refine r_iret hx hb hr hlk hQ hS (Nat.le_of_ble_eq_true rfl) (Nat.le_of_ble_eq_true rfl) dX4_append_66 ?_
        exact Or.inr (Or.inr (⟨rfl, hM_4, (by omega)⟩))
      · exact absurd c37 (by omega)
    · skip
      refine lv_iconst (v := (iI ((2 : Nat) : Int))) hx hb dX4_append_25 rfl ?_
      refine lv_goto (tgt := 30) hx hb dX4_append_26 (by decide) ?_
      refine m_put X hM hS hA0 (k := 0) (sc2 := (va_up sc 0 (((2 : Nat) : Int)))) rfl (by decide) q2009 rfl rfl rfl dX4_append_30 rfl (fun H locs hM_5 hS => ?_)
      refine lv_aload_n hx hb dX4_append_33 rfl (lv_at hl 0 rfl) ?_
      refine r_get X hM_5.1 rfl in_X4 0 (by decide) q2009 (Or.inl rfl) (v := .int (iI ((2 : Nat) : Int))) rfl dX4_append_34 ?_
      refine r_if_eq (tgt := 42) hx hb (by decide) dX4_append_37 (by decide) (fun c37 => ?_) (fun c37 => ?_)
      · exact absurd c37 (by omega)
      · skip
        refine lv_iconst (v := (iI ((0 : Nat) : Int))) hx hb dX4_append_40 rfl ?_
        refine r_iret hx hb hr hlk hQ hS (Nat.le_of_ble_eq_true rfl) (Nat.le_of_ble_eq_true rfl) dX4_append_41 ?_
        exact Or.inr (Or.inl ⟨rfl, hM_5, (by omega)⟩)
  · skip
    have c9 := of_decide_eq_false c9
    refine lv_iconst (v := (iI ((1 : Nat) : Int))) hx hb dX4_append_12 rfl ?_
    refine lv_goto (tgt := 30) hx hb dX4_append_13 (by decide) ?_
    refine m_put X hM hS hA0 (k := 0) (sc2 := (va_up sc 0 (((1 : Nat) : Int)))) rfl (by decide) q2009 rfl rfl rfl dX4_append_30 rfl (fun H locs hM_6 hS => ?_)
    refine lv_aload_n hx hb dX4_append_33 rfl (lv_at hl 0 rfl) ?_
    refine r_get X hM_6.1 rfl in_X4 0 (by decide) q2009 (Or.inl rfl) (v := .int (iI ((1 : Nat) : Int))) rfl dX4_append_34 ?_
    refine r_if_eq (tgt := 42) hx hb (by decide) dX4_append_37 (by decide) (fun c37 => ?_) (fun c37 => ?_)
    · exact absurd c37 (by omega)
    · skip
      refine lv_iconst (v := (iI ((0 : Nat) : Int))) hx hb dX4_append_40 rfl ?_
      refine r_iret hx hb hr hlk hQ hS (Nat.le_of_ble_eq_true rfl) (Nat.le_of_ble_eq_true rfl) dX4_append_41 ?_
      exact Or.inl ⟨rfl, hM_6, (by omega)⟩
set_option maxHeartbeats 4000000 in
theorem c_X4_lineChar (G : fp_G) (ad : Nat → Nat) (sc : Nat → Int) (ar : Nat → Nat → Int) (hA0 : fp_MA G ad) (lx : Nat → Nat) (ln : Nat) (hln : sc 20 = ((ln : Nat) : Int)) (h80 : ln ≤ 80) (hlx : ∀ i, i < ln → ar 13 i = (lx i : Int) ∧ lx i < 256) (z : Int) (hz : rg z) : fp_M G yX4_lineChar cX4_lineChar 2 (some .char) 2 34 0 0 [.ref (ad 0), .int (iI (z))] (fp_ME G ad sc ar) (fp_ma ad) (fun _ v H => (v = some (.int (iI ((97 : Nat) : Int))) ∧ fp_ME G ad (va_up sc 0 (((1 : Nat) : Int))) ar H ∧ (¬ (0 ≤ z ∧ z < ln))) ∨ (∃ (i : Nat), v = some (.int (iI ((lx i : Nat) : Int))) ∧ fp_ME G ad (va_up sc 0 (((0 : Nat) : Int))) ar H ∧ (z = (i : Int) ∧ i < ln))) := by
  refine fp_M.intro (by decide) (Nat.le_of_ble_eq_true rfl) ?_
  intro pg en s mi ag bl mt cd rR qQ ls X hx hb hr hlk hnm hR hQ hB hM hl
  have hS : va_S (fA (fp_ma ad) s.heap.size) s.heap s.heap [] := va_S.rf
  generalize ([] : List Loc) = locs at hS ⊢
  refine lv_aload_n hx hb dX4_lineChar_0 rfl (lv_at hl 0 rfl) ?_
  refine lv_iload_n hx hb dX4_lineChar_1 rfl (lv_at hl 1 rfl) ?_
  refine lv_iconst (v := (iI ((0 : Nat) : Int))) hx hb dX4_lineChar_2 rfl ?_
  refine lv_aload_n hx hb dX4_lineChar_3 rfl (lv_at hl 0 rfl) ?_
  refine r_get X hM.1 rfl in_X4 20 (by decide) q2029 (Or.inl rfl) (v := .int (iI (sc 20))) rfl dX4_lineChar_4 ?_
  refine r_set (y := .int (iI ((ln : Nat) : Int))) (congrArg (fun q : Int => Value.int (iI q)) (hln)) ?_
  refine lv_iconst (v := (iI ((1 : Nat) : Int))) hx hb dX4_lineChar_7 rfl ?_
  refine r_isub hx hb dX4_lineChar_8 ?_
  refine r_callS (cells1 := 0) (slots1 := 0) X hR (c_X4_isIn G (z) 0 (((ln : Nat) : Int) - ((1 : Nat) : Int)) (by omega) (by omega) (by omega)) q2104 q2105 q100 q2106 pd_X4_isIn (by decide) rfl rfl (by decide) (by decide) rfl (Nat.le_of_ble_eq_true rfl) hl.1 dX4_lineChar_9 (hB.of hS (fp_ma.base hA0)) trivial hS (fun _ h => h.elim) (fun v H1 locs hp_1 hzC hkC hS => ?_)
  obtain ⟨rfl, rfl⟩ := hp_1
  refine r_stk (st2 := [.int (iI (bI (decide (0 ≤ (z) ∧ (z) ≤ (((ln : Nat) : Int) - ((1 : Nat) : Int)))))), .ref (ad 0)]) rfl ?_
  refine r_ifeqB (tgt := 19) hx hb dX4_lineChar_12 (by decide) (fun c12 => ?_) (fun c12 => ?_)
  · skip
    have c12 := of_decide_eq_false c12
    refine lv_iconst (v := (iI ((1 : Nat) : Int))) hx hb dX4_lineChar_19 rfl ?_
    refine m_put X hM hS hA0 (k := 0) (sc2 := (va_up sc 0 (((1 : Nat) : Int)))) rfl (by decide) q2009 rfl rfl rfl dX4_lineChar_20 rfl (fun H locs hM_2 hS => ?_)
    refine lv_aload_n hx hb dX4_lineChar_23 rfl (lv_at hl 0 rfl) ?_
    refine r_get X hM_2.1 rfl in_X4 0 (by decide) q2009 (Or.inl rfl) (v := .int (iI ((1 : Nat) : Int))) rfl dX4_lineChar_24 ?_
    refine r_if_ne (tgt := 40) hx hb (by decide) dX4_lineChar_27 (by decide) (fun c27 => ?_) (fun c27 => ?_)
    · skip
      refine lv_bipush (v := (iI ((97 : Nat) : Int))) hx hb dX4_lineChar_40 rfl ?_
      refine r_zret hx hb hr hlk hQ hS (Nat.le_of_ble_eq_true rfl) (Nat.le_of_ble_eq_true rfl) dX4_lineChar_42 (iI_char ⟨by omega, by omega⟩) ?_
      exact Or.inl ⟨rfl, hM_2, (by omega)⟩
    · exact absurd c27 (by omega)
  · skip
    have c12 := of_decide_eq_true c12
    obtain ⟨i, rfl⟩ : ∃ i : Nat, z = ((i : Nat) : Int) := ⟨z.toNat, by omega⟩
    refine lv_iconst (v := (iI ((0 : Nat) : Int))) hx hb dX4_lineChar_15 rfl ?_
    refine lv_goto (tgt := 20) hx hb dX4_lineChar_16 (by decide) ?_
    refine m_put X hM hS hA0 (k := 0) (sc2 := (va_up sc 0 (((0 : Nat) : Int)))) rfl (by decide) q2009 rfl rfl rfl dX4_lineChar_20 rfl (fun H locs hM_3 hS => ?_)
    refine lv_aload_n hx hb dX4_lineChar_23 rfl (lv_at hl 0 rfl) ?_
    refine r_get X hM_3.1 rfl in_X4 0 (by decide) q2009 (Or.inl rfl) (v := .int (iI ((0 : Nat) : Int))) rfl dX4_lineChar_24 ?_
    refine r_if_ne (tgt := 40) hx hb (by decide) dX4_lineChar_27 (by decide) (fun c27 => ?_) (fun c27 => ?_)
    · exact absurd c27 (by omega)
    · skip
      refine lv_aload_n hx hb dX4_lineChar_30 rfl (lv_at hl 0 rfl) ?_
      refine r_get X hM_3.1 rfl in_X4 13 (by decide) q2022 (Or.inl rfl) (v := .ref (ad 13)) rfl dX4_lineChar_31 ?_
      refine lv_iload_n hx hb dX4_lineChar_34 rfl (lv_at hl 1 rfl) ?_
      refine r_ialdI X (hM_3.2 13 (by decide) (by decide)) (j := i) (n := 80) rfl (by omega) (by decide) dX4_lineChar_35 ?_
      refine r_set (y := .int (iI ((lx i : Nat) : Int))) (congrArg (fun q : Int => Value.int (iI q)) ((hlx i (by omega)).1)) ?_
      have hlc := (hlx i (by omega)).2
      refine lv_i2c (v := (iI ((lx i : Nat) : Int))) hx hb dX4_lineChar_36 (iI_i2c ⟨by omega, by omega⟩) ?_
      refine lv_goto (tgt := 42) hx hb dX4_lineChar_37 (by decide) ?_
      refine r_zret hx hb hr hlk hQ hS (Nat.le_of_ble_eq_true rfl) (Nat.le_of_ble_eq_true rfl) dX4_lineChar_42 (iI_char ⟨by omega, by omega⟩) ?_
      exact Or.inr (⟨i, rfl, hM_3, (⟨rfl, by omega⟩)⟩)
