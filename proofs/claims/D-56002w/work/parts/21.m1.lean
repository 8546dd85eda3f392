/-! THE MODEL: what its methods read -/
set_option maxHeartbeats 4000000 in
theorem c_X4_isIn (G : fp_G) (x : Int) (lo : Int) (hi : Int) (hx1 : rg x) (hx2 : rg lo) (hx3 : rg hi) : fp_M G yX4_isIn cX4_isIn 3 (some .boolean) 1 12 0 0 [.int (iI (x)), .int (iI (lo)), .int (iI (hi))] (fun _ => True) fp_no (fun H v H' => v = some (.int (iI (bI (decide (lo ≤ x ∧ x ≤ hi))))) ∧ H = H') := by
  refine fp_M.intro (by decide) (Nat.le_of_ble_eq_true rfl) ?_
  intro pg en s mi ag bl mt cd rR qQ ls X hx hb hr hlk hnm hR hQ hB hM hl
  have hS : va_S (fA fp_no s.heap.size) s.heap s.heap [] := va_S.rf
  generalize ([] : List Loc) = locs at hS ⊢
  refine lv_iload_n hx hb dX4_isIn_0 rfl (lv_at hl 0 rfl) ?_
  refine lv_iload_n hx hb dX4_isIn_1 rfl (lv_at hl 1 rfl) ?_
  refine r_icmp_lt (tgt := 14) hx hb ⟨by omega, by omega⟩ ⟨by omega, by omega⟩ dX4_isIn_2 (by decide) (fun c2 => ?_) (fun c2 => ?_)
  · skip
    refine lv_iconst (v := (iI ((0 : Nat) : Int))) hx hb dX4_isIn_14 rfl ?_
    refine r_zret hx hb hr hlk hQ hS (Nat.le_of_ble_eq_true rfl) (Nat.le_of_ble_eq_true rfl) dX4_isIn_15 rfl ?_
    exact ⟨congrArg (fun q : Bool => some (Value.int (iI (bI q)))) (Eq.symm (decide_eq_false (by omega))), rfl⟩
  · skip
    refine lv_iload_n hx hb dX4_isIn_5 rfl (lv_at hl 0 rfl) ?_
    refine lv_iload_n hx hb dX4_isIn_6 rfl (lv_at hl 2 rfl) ?_
    refine r_icmp_gt (tgt := 14) hx hb ⟨by omega, by omega⟩ ⟨by omega, by omega⟩ dX4_isIn_7 (by decide) (fun c7 => ?_) (fun c7 => ?_)
    · skip
      refine lv_iconst (v := (iI ((0 : Nat) : Int))) hx hb dX4_isIn_14 rfl ?_
      refine r_zret hx hb hr hlk hQ hS (Nat.le_of_ble_eq_true rfl) (Nat.le_of_ble_eq_true rfl) dX4_isIn_15 rfl ?_
      exact ⟨congrArg (fun q : Bool => some (Value.int (iI (bI q)))) (Eq.symm (decide_eq_false (by omega))), rfl⟩
    · skip
      refine lv_iconst (v := (iI ((1 : Nat) : Int))) hx hb dX4_isIn_10 rfl ?_
      refine lv_goto (tgt := 15) hx hb dX4_isIn_11 (by decide) ?_
      refine r_zret hx hb hr hlk hQ hS (Nat.le_of_ble_eq_true rfl) (Nat.le_of_ble_eq_true rfl) dX4_isIn_15 rfl ?_
      exact ⟨congrArg (fun q : Bool => some (Value.int (iI (bI q)))) (Eq.symm (decide_eq_true (by omega))), rfl⟩
set_option maxHeartbeats 4000000 in
theorem c_X4_isColumn (G : fp_G) (x : Int) (hx1 : rg x) : fp_M G yX4_isColumn cX4_isColumn 1 (some .boolean) 2 34 0 0 [.int (iI (x))] (fun _ => True) fp_no (fun H v H' => v = some (.int (iI (bI (decide (0 ≤ x ∧ x ≤ 11))))) ∧ H = H') := by
  refine fp_M.intro (by decide) (Nat.le_of_ble_eq_true rfl) ?_
  intro pg en s mi ag bl mt cd rR qQ ls X hx hb hr hlk hnm hR hQ hB hM hl
  have hS : va_S (fA fp_no s.heap.size) s.heap s.heap [] := va_S.rf
  generalize ([] : List Loc) = locs at hS ⊢
  refine lv_iload_n hx hb dX4_isColumn_0 rfl (lv_at hl 0 rfl) ?_
  refine lv_iconst (v := (iI ((0 : Nat) : Int))) hx hb dX4_isColumn_1 rfl ?_
  refine lv_bipush (v := (iI ((11 : Nat) : Int))) hx hb dX4_isColumn_2 rfl ?_
  refine r_callS (cells1 := 0) (slots1 := 0) X hR (c_X4_isIn G (x) 0 11 (by omega) (by omega) (by omega)) q2104 q2105 q100 q2106 pd_X4_isIn (by decide) rfl rfl (by decide) (by decide) rfl (Nat.le_of_ble_eq_true rfl) hl.1 dX4_isColumn_4 (hB.of hS fp_no.base) trivial hS (fun _ h => h.elim) (fun v H1 locs hp_1 hzC hkC hS => ?_)
  obtain ⟨rfl, rfl⟩ := hp_1
  refine r_stk (st2 := [.int (iI (bI (decide (0 ≤ (x) ∧ (x) ≤ 11))))]) rfl ?_
  refine r_zret hx hb hr hlk hQ hS (Nat.le_of_ble_eq_true rfl) (Nat.le_of_ble_eq_true rfl) dX4_isColumn_7 (bI_z _) ?_
  exact ⟨rfl, rfl⟩
set_option maxHeartbeats 4000000 in
theorem c_X4_of (G : fp_G) (ad : Nat → Nat) (sc : Nat → Int) (ar : Nat → Nat → Int) (S : PS) (hA0 : fp_MA G ad) (hV : fp_VR S (ar 5)) (k : Nat) (w : Nat) (hk : k < sN S) (hw : w < 6) : fp_M G yX4_of cX4_of 3 (some .int) 1 12 0 0 [.ref (ad 0), .int (iI ((k : Nat) : Int)), .int (iI ((w : Nat) : Int))] (fp_ME G ad sc ar) fp_no (fun H v H' => v = some (.int (iI ((sB S k w : Nat) : Int))) ∧ H = H') := by
  refine fp_M.intro (by decide) (Nat.le_of_ble_eq_true rfl) ?_
  intro pg en s mi ag bl mt cd rR qQ ls X hx hb hr hlk hnm hR hQ hB hM hl
  have hS : va_S (fA fp_no s.heap.size) s.heap s.heap [] := va_S.rf
  generalize ([] : List Loc) = locs at hS ⊢
  have hN24 := hV.1.1
  refine lv_aload_n hx hb dX4_of_0 rfl (lv_at hl 0 rfl) ?_
  refine r_get X hM.1 rfl in_X4 5 (by decide) q2014 (Or.inl rfl) (v := .ref (ad 5)) rfl dX4_of_1 ?_
  refine lv_bipush (v := (iI ((26 : Nat) : Int))) hx hb dX4_of_4 rfl ?_
  refine lv_bipush (v := (iI ((6 : Nat) : Int))) hx hb dX4_of_6 rfl ?_
  refine lv_iload_n hx hb dX4_of_8 rfl (lv_at hl 1 rfl) ?_
  refine r_imulN hx hb dX4_of_9 ?_
  refine r_iaddN hx hb dX4_of_10 ?_
  refine lv_iload_n hx hb dX4_of_11 rfl (lv_at hl 2 rfl) ?_
  refine r_iaddN hx hb dX4_of_12 ?_
  refine r_ialdI X (hM.2 5 (by decide) (by decide)) (j := (26 + (6 * k)) + w) (n := 170) rfl (by omega) (by decide) dX4_of_13 ?_
  refine r_set (y := .int (iI ((sB S k w : Nat) : Int))) (congrArg (fun q : Int => Value.int (iI q)) (hV.2.2.2.2.2 k hk w hw)) ?_
  refine r_iret hx hb hr hlk hQ hS (Nat.le_of_ble_eq_true rfl) (Nat.le_of_ble_eq_true rfl) dX4_of_14 ?_
  exact ⟨rfl, rfl⟩
set_option maxHeartbeats 4000000 in
theorem c_X4_covers (G : fp_G) (ad : Nat → Nat) (sc : Nat → Int) (ar : Nat → Nat → Int) (S : PS) (hA0 : fp_MA G ad) (hV : fp_VR S (ar 5)) (k : Nat) (c : Nat) (hk : k < sN S) (hc : c < 12) : fp_M G yX4_covers cX4_covers 3 (some .boolean) 2 34 0 0 [.ref (ad 0), .int (iI ((k : Nat) : Int)), .int (iI ((c : Nat) : Int))] (fp_ME G ad sc ar) fp_no (fun H v H' => v = some (.int (iI (bI (fp_cov (sB S k) c)))) ∧ H = H') := by
  refine fp_M.intro (by decide) (Nat.le_of_ble_eq_true rfl) ?_
  intro pg en s mi ag bl mt cd rR qQ ls X hx hb hr hlk hnm hR hQ hB hM hl
  have hS : va_S (fA fp_no s.heap.size) s.heap s.heap [] := va_S.rf
  generalize ([] : List Loc) = locs at hS ⊢
  have hbk := hV.1.2.2.1 k hk
  refine lv_iload_n hx hb dX4_covers_0 rfl (lv_at hl 2 rfl) ?_
  refine lv_aload_n hx hb dX4_covers_1 rfl (lv_at hl 0 rfl) ?_
  refine lv_iload_n hx hb dX4_covers_2 rfl (lv_at hl 1 rfl) ?_
  refine lv_iconst (v := (iI ((2 : Nat) : Int))) hx hb dX4_covers_3 rfl ?_
  refine r_callV (cells1 := 0) (slots1 := 0) X hR (c_X4_of G ad sc ar S hA0 hV k 2 (by omega) (by omega)) q2123 q2125 qs51 q100 q2126 ⟨rfl, pd_X4_of⟩ (by decide) rfl rfl (by decide) (by decide) hM.1 rfl rfl (Nat.le_of_ble_eq_true rfl) hl.1 dX4_covers_4 (hB.of hS fp_no.base) hM hS (fun _ h => h.elim) (fun v H1 locs hp_1 hzC hkC hS => ?_)
  obtain ⟨rfl, rfl⟩ := hp_1
  refine r_stk (st2 := [.int (iI ((sB S k 2 : Nat) : Int)), .int (iI ((c : Nat) : Int))]) rfl ?_
  refine r_isub hx hb dX4_covers_7 ?_
  refine lv_iconst (v := (iI ((0 : Nat) : Int))) hx hb dX4_covers_8 rfl ?_
  refine lv_aload_n hx hb dX4_covers_9 rfl (lv_at hl 0 rfl) ?_
  refine lv_iload_n hx hb dX4_covers_10 rfl (lv_at hl 1 rfl) ?_
  refine lv_iconst (v := (iI ((3 : Nat) : Int))) hx hb dX4_covers_11 rfl ?_
  refine r_callV (cells1 := 0) (slots1 := 0) X hR (c_X4_of G ad sc ar S hA0 hV k 3 (by omega) (by omega)) q2123 q2125 qs51 q100 q2126 ⟨rfl, pd_X4_of⟩ (by decide) rfl rfl (by decide) (by decide) hM.1 rfl rfl (Nat.le_of_ble_eq_true rfl) hl.1 dX4_covers_12 (hB.of hS fp_no.base) hM hS (fun _ h => h.elim) (fun v H1 locs hp_2 hzC hkC hS => ?_)
  obtain ⟨rfl, rfl⟩ := hp_2
  refine r_stk (st2 := [.int (iI ((sB S k 3 : Nat) : Int)), .int (iI ((0 : Nat) : Int)), .int (iI (((c : Nat) : Int) - ((sB S k 2 : Nat) : Int)))]) rfl ?_
  refine lv_iconst (v := (iI ((1 : Nat) : Int))) hx hb dX4_covers_15 rfl ?_
  refine r_isub hx hb dX4_covers_16 ?_
  refine r_callS (cells1 := 0) (slots1 := 0) X hR (c_X4_isIn G (((c : Nat) : Int) - ((sB S k 2 : Nat) : Int)) 0 (((sB S k 3 : Nat) : Int) - ((1 : Nat) : Int)) (by omega) (by omega) (by omega)) q2104 q2105 q100 q2106 pd_X4_isIn (by decide) rfl rfl (by decide) (by decide) rfl (Nat.le_of_ble_eq_true rfl) hl.1 dX4_covers_17 (hB.of hS fp_no.base) trivial hS (fun _ h => h.elim) (fun v H1 locs hp_3 hzC hkC hS => ?_)
  obtain ⟨rfl, rfl⟩ := hp_3
  refine r_stk (st2 := [.int (iI (bI (decide (0 ≤ (((c : Nat) : Int) - ((sB S k 2 : Nat) : Int)) ∧ (((c : Nat) : Int) - ((sB S k 2 : Nat) : Int)) ≤ (((sB S k 3 : Nat) : Int) - ((1 : Nat) : Int))))))]) rfl ?_
  refine r_zret hx hb hr hlk hQ hS (Nat.le_of_ble_eq_true rfl) (Nat.le_of_ble_eq_true rfl) dX4_covers_20 (bI_z _) ?_
  exact ⟨congrArg (fun q : Bool => some (Value.int (iI (bI q)))) (decide_eq_decide.mpr (by omega)), rfl⟩
set_option maxHeartbeats 4000000 in
theorem c_X4_topOf (G : fp_G) (ad : Nat → Nat) (sc : Nat → Int) (ar : Nat → Nat → Int) (S : PS) (hA0 : fp_MA G ad) (hV : fp_VR S (ar 5)) (k : Nat) (hk : k < sN S) : fp_M G yX4_topOf cX4_topOf 2 (some .int) 2 34 0 0 [.ref (ad 0), .int (iI ((k : Nat) : Int))] (fp_ME G ad sc ar) fp_no (fun H v H' => v = some (.int (iI ((fp_top (sB S k) : Nat) : Int))) ∧ H = H') := by
  refine fp_M.intro (by decide) (Nat.le_of_ble_eq_true rfl) ?_
  intro pg en s mi ag bl mt cd rR qQ ls X hx hb hr hlk hnm hR hQ hB hM hl
  have hS : va_S (fA fp_no s.heap.size) s.heap s.heap [] := va_S.rf
  generalize ([] : List Loc) = locs at hS ⊢
  have hbk := hV.1.2.2.1 k hk
  refine lv_aload_n hx hb dX4_topOf_0 rfl (lv_at hl 0 rfl) ?_
  refine lv_iload_n hx hb dX4_topOf_1 rfl (lv_at hl 1 rfl) ?_
  refine lv_iconst (v := (iI ((5 : Nat) : Int))) hx hb dX4_topOf_2 rfl ?_
  refine r_callV (cells1 := 0) (slots1 := 0) X hR (c_X4_of G ad sc ar S hA0 hV k 5 (by omega) (by omega)) q2123 q2125 qs51 q100 q2126 ⟨rfl, pd_X4_of⟩ (by decide) rfl rfl (by decide) (by decide) hM.1 rfl rfl (Nat.le_of_ble_eq_true rfl) hl.1 dX4_topOf_3 (hB.of hS fp_no.base) hM hS (fun _ h => h.elim) (fun v H1 locs hp_1 hzC hkC hS => ?_)
  obtain ⟨rfl, rfl⟩ := hp_1
  refine r_stk (st2 := [.int (iI ((sB S k 5 : Nat) : Int))]) rfl ?_
  refine lv_aload_n hx hb dX4_topOf_6 rfl (lv_at hl 0 rfl) ?_
  refine lv_iload_n hx hb dX4_topOf_7 rfl (lv_at hl 1 rfl) ?_
  refine lv_iconst (v := (iI ((1 : Nat) : Int))) hx hb dX4_topOf_8 rfl ?_
  refine r_callV (cells1 := 0) (slots1 := 0) X hR (c_X4_of G ad sc ar S hA0 hV k 1 (by omega) (by omega)) q2123 q2125 qs51 q100 q2126 ⟨rfl, pd_X4_of⟩ (by decide) rfl rfl (by decide) (by decide) hM.1 rfl rfl (Nat.le_of_ble_eq_true rfl) hl.1 dX4_topOf_9 (hB.of hS fp_no.base) hM hS (fun _ h => h.elim) (fun v H1 locs hp_2 hzC hkC hS => ?_)
  obtain ⟨rfl, rfl⟩ := hp_2
  refine r_stk (st2 := [.int (iI ((sB S k 1 : Nat) : Int)), .int (iI ((sB S k 5 : Nat) : Int))]) rfl ?_
  refine r_if_ne (tgt := 19) hx hb ⟨by omega, by omega⟩ dX4_topOf_12 (by decide) (fun c12 => ?_) (fun c12 => ?_)
  · skip
    refine lv_iconst (v := (iI ((1 : Nat) : Int))) hx hb dX4_topOf_19 rfl ?_
    refine r_iaddN hx hb dX4_topOf_20 ?_
    refine r_iret hx hb hr hlk hQ hS (Nat.le_of_ble_eq_true rfl) (Nat.le_of_ble_eq_true rfl) dX4_topOf_21 ?_
    exact ⟨congrArg (fun q : Nat => some (Value.int (iI (q : Int)))) (by unfold fp_top; split <;> omega), rfl⟩
  · skip
    refine lv_iconst (v := (iI ((2 : Nat) : Int))) hx hb dX4_topOf_15 rfl ?_
    refine lv_goto (tgt := 20) hx hb dX4_topOf_16 (by decide) ?_
    refine r_iaddN hx hb dX4_topOf_20 ?_
    refine r_iret hx hb hr hlk hQ hS (Nat.le_of_ble_eq_true rfl) (Nat.le_of_ble_eq_true rfl) dX4_topOf_21 ?_
    exact ⟨congrArg (fun q : Nat => some (Value.int (iI (q : Int)))) (by unfold fp_top; split <;> omega), rfl⟩
set_option maxHeartbeats 4000000 in
theorem c_X4_strong (G : fp_G) (ad : Nat → Nat) (sc : Nat → Int) (ar : Nat → Nat → Int) (S : PS) (hA0 : fp_MA G ad) (hV : fp_VR S (ar 5)) (k : Nat) (hk : k < sN S) : fp_M G yX4_strong cX4_strong 2 (some .int) 2 34 0 0 [.ref (ad 0), .int (iI ((k : Nat) : Int))] (fp_ME G ad sc ar) fp_no (fun H v H' => v = some (.int (iI ((fp_str (sB S k) : Nat) : Int))) ∧ H = H') := by
  refine fp_M.intro (by decide) (Nat.le_of_ble_eq_true rfl) ?_
  intro pg en s mi ag bl mt cd rR qQ ls X hx hb hr hlk hnm hR hQ hB hM hl
  have hS : va_S (fA fp_no s.heap.size) s.heap s.heap [] := va_S.rf
  generalize ([] : List Loc) = locs at hS ⊢
  have hbk := hV.1.2.2.1 k hk
  refine lv_aload_n hx hb dX4_strong_0 rfl (lv_at hl 0 rfl) ?_
  refine lv_iload_n hx hb dX4_strong_1 rfl (lv_at hl 1 rfl) ?_
  refine lv_iconst (v := (iI ((1 : Nat) : Int))) hx hb dX4_strong_2 rfl ?_
  refine r_callV (cells1 := 0) (slots1 := 0) X hR (c_X4_of G ad sc ar S hA0 hV k 1 (by omega) (by omega)) q2123 q2125 qs51 q100 q2126 ⟨rfl, pd_X4_of⟩ (by decide) rfl rfl (by decide) (by decide) hM.1 rfl rfl (Nat.le_of_ble_eq_true rfl) hl.1 dX4_strong_3 (hB.of hS fp_no.base) hM hS (fun _ h => h.elim) (fun v H1 locs hp_1 hzC hkC hS => ?_)
  obtain ⟨rfl, rfl⟩ := hp_1
  refine r_stk (st2 := [.int (iI ((sB S k 1 : Nat) : Int))]) rfl ?_
  refine r_if_ne (tgt := 21) hx hb ⟨by omega, by omega⟩ dX4_strong_6 (by decide) (fun c6 => ?_) (fun c6 => ?_)
  · skip
    refine lv_aload_n hx hb dX4_strong_21 rfl (lv_at hl 0 rfl) ?_
    refine lv_iload_n hx hb dX4_strong_22 rfl (lv_at hl 1 rfl) ?_
    refine lv_iconst (v := (iI ((1 : Nat) : Int))) hx hb dX4_strong_23 rfl ?_
    refine r_callV (cells1 := 0) (slots1 := 0) X hR (c_X4_of G ad sc ar S hA0 hV k 1 (by omega) (by omega)) q2123 q2125 qs51 q100 q2126 ⟨rfl, pd_X4_of⟩ (by decide) rfl rfl (by decide) (by decide) hM.1 rfl rfl (Nat.le_of_ble_eq_true rfl) hl.1 dX4_strong_24 (hB.of hS fp_no.base) hM hS (fun _ h => h.elim) (fun v H1 locs hp_2 hzC hkC hS => ?_)
    obtain ⟨rfl, rfl⟩ := hp_2
    refine r_stk (st2 := [.int (iI ((sB S k 1 : Nat) : Int))]) rfl ?_
    refine lv_iconst (v := (iI ((1 : Nat) : Int))) hx hb dX4_strong_27 rfl ?_
    refine r_icmp_ne (tgt := 43) hx hb ⟨by omega, by omega⟩ (by decide) dX4_strong_28 (by decide) (fun c28 => ?_) (fun c28 => ?_)
    · skip
      refine lv_aload_n hx hb dX4_strong_43 rfl (lv_at hl 0 rfl) ?_
      refine lv_iload_n hx hb dX4_strong_44 rfl (lv_at hl 1 rfl) ?_
      refine lv_iconst (v := (iI ((4 : Nat) : Int))) hx hb dX4_strong_45 rfl ?_
      refine r_callV (cells1 := 0) (slots1 := 0) X hR (c_X4_of G ad sc ar S hA0 hV k 4 (by omega) (by omega)) q2123 q2125 qs51 q100 q2126 ⟨rfl, pd_X4_of⟩ (by decide) rfl rfl (by decide) (by decide) hM.1 rfl rfl (Nat.le_of_ble_eq_true rfl) hl.1 dX4_strong_46 (hB.of hS fp_no.base) hM hS (fun _ h => h.elim) (fun v H1 locs hp_3 hzC hkC hS => ?_)
      obtain ⟨rfl, rfl⟩ := hp_3
      refine r_stk (st2 := [.int (iI ((sB S k 4 : Nat) : Int))]) rfl ?_
      refine lv_bipush (v := (iI ((8 : Nat) : Int))) hx hb dX4_strong_49 rfl ?_
      refine r_iaddN hx hb dX4_strong_51 ?_
      refine r_iret hx hb hr hlk hQ hS (Nat.le_of_ble_eq_true rfl) (Nat.le_of_ble_eq_true rfl) dX4_strong_52 ?_
      exact ⟨congrArg (fun q : Nat => some (Value.int (iI (q : Int)))) (by unfold fp_str; split <;> (try split) <;> omega), rfl⟩
    · skip
      refine lv_bipush (v := (iI ((12 : Nat) : Int))) hx hb dX4_strong_31 rfl ?_
      refine lv_aload_n hx hb dX4_strong_33 rfl (lv_at hl 0 rfl) ?_
      refine lv_iload_n hx hb dX4_strong_34 rfl (lv_at hl 1 rfl) ?_
      refine lv_iconst (v := (iI ((3 : Nat) : Int))) hx hb dX4_strong_35 rfl ?_
      refine r_callV (cells1 := 0) (slots1 := 0) X hR (c_X4_of G ad sc ar S hA0 hV k 3 (by omega) (by omega)) q2123 q2125 qs51 q100 q2126 ⟨rfl, pd_X4_of⟩ (by decide) rfl rfl (by decide) (by decide) hM.1 rfl rfl (Nat.le_of_ble_eq_true rfl) hl.1 dX4_strong_36 (hB.of hS fp_no.base) hM hS (fun _ h => h.elim) (fun v H1 locs hp_4 hzC hkC hS => ?_)
      obtain ⟨rfl, rfl⟩ := hp_4
      refine r_stk (st2 := [.int (iI ((sB S k 3 : Nat) : Int)), .int (iI ((12 : Nat) : Int))]) rfl ?_
      refine r_imulN hx hb dX4_strong_39 ?_
      refine lv_goto (tgt := 52) hx hb dX4_strong_40 (by decide) ?_
      refine r_iret hx hb hr hlk hQ hS (Nat.le_of_ble_eq_true rfl) (Nat.le_of_ble_eq_true rfl) dX4_strong_52 ?_
      exact ⟨congrArg (fun q : Nat => some (Value.int (iI (q : Int)))) (by unfold fp_str; split <;> (try split) <;> omega), rfl⟩
  · skip
    refine lv_bipush (v := (iI ((6 : Nat) : Int))) hx hb dX4_strong_9 rfl ?_
    refine lv_aload_n hx hb dX4_strong_11 rfl (lv_at hl 0 rfl) ?_
    refine lv_iload_n hx hb dX4_strong_12 rfl (lv_at hl 1 rfl) ?_
    refine lv_iconst (v := (iI ((3 : Nat) : Int))) hx hb dX4_strong_13 rfl ?_
    refine r_callV (cells1 := 0) (slots1 := 0) X hR (c_X4_of G ad sc ar S hA0 hV k 3 (by omega) (by omega)) q2123 q2125 qs51 q100 q2126 ⟨rfl, pd_X4_of⟩ (by decide) rfl rfl (by decide) (by decide) hM.1 rfl rfl (Nat.le_of_ble_eq_true rfl) hl.1 dX4_strong_14 (hB.of hS fp_no.base) hM hS (fun _ h => h.elim) (fun v H1 locs hp_5 hzC hkC hS => ?_)
    obtain ⟨rfl, rfl⟩ := hp_5
    refine r_stk (st2 := [.int (iI ((sB S k 3 : Nat) : Int)), .int (iI ((6 : Nat) : Int))]) rfl ?_
    refine r_imulN hx hb dX4_strong_17 ?_
    refine lv_goto (tgt := 52) hx hb dX4_strong_18 (by decide) ?_
    refine r_iret hx hb hr hlk hQ hS (Nat.le_of_ble_eq_true rfl) (Nat.le_of_ble_eq_true rfl) dX4_strong_52 ?_
    exact ⟨congrArg (fun q : Nat => some (Value.int (iI (q : Int)))) (by unfold fp_str; split <;> (try split) <;> omega), rfl⟩
set_option maxHeartbeats 4000000 in
theorem c_X4_high (G : fp_G) (ad : Nat → Nat) (sc : Nat → Int) (ar : Nat → Nat → Int) (S : PS) (hA0 : fp_MA G ad) (hV : fp_VR S (ar 5)) (c : Nat) (hc : c < 12) : fp_M G yX4_high cX4_high 4 (some .int) 3 56 0 0 [.ref (ad 0), .int (iI ((c : Nat) : Int))] (fp_ME G ad sc ar) fp_no (fun H v H' => v = some (.int (iI ((fp_hi S c : Nat) : Int))) ∧ H = H') := by
  refine fp_M.intro (by decide) (Nat.le_of_ble_eq_true rfl) ?_
  intro pg en s mi ag bl mt cd rR qQ ls X hx hb hr hlk hnm hR hQ hB hM hl
  have hS : va_S (fA fp_no s.heap.size) s.heap s.heap [] := va_S.rf
  generalize ([] : List Loc) = locs at hS ⊢
  have hN24 := hV.1.1
  refine lv_iconst (v := (iI ((0 : Nat) : Int))) hx hb dX4_high_0 rfl ?_
  refine lv_istore_n (lv' := [(2, .int (iI ((0 : Nat) : Int))), (0, .ref (ad 0)), (1, .int (iI ((c : Nat) : Int)))]) hx hb dX4_high_1 rfl hl (by decide) rfl (fun ls hl => ?_)
  refine lv_iconst (v := (iI ((0 : Nat) : Int))) hx hb dX4_high_2 rfl ?_
  refine lv_istore_n (lv' := [(3, .int (iI ((0 : Nat) : Int))), (2, .int (iI ((0 : Nat) : Int))), (0, .ref (ad 0)), (1, .int (iI ((c : Nat) : Int)))]) hx hb dX4_high_3 rfl hl (by decide) rfl (fun ls hl => ?_)
  have L4 : ∀ (k : Nat), k ≤ sN S → ∀ (locs : List Loc) (ls : Array Slot), lv_has ls 4 [(0, .ref (ad 0)), (1, .int (iI ((c : Nat) : Int))), (2, .int (iI ((fp_mx (fp_hif S c) k : Nat) : Int))), (3, .int (iI ((k : Nat) : Int)))] → va_S (fA fp_no s.heap.size) s.heap s.heap locs → W pg (g_l G) en rR s mi ag bl mt cd s.heap locs 0 0 qQ (F0 mi 4 ls []) := by
    refine lp_up (sN S) ?_
    intro k hk4 ih4 locs ls hl hS
    have hmb : fp_mx (fp_hif S c) k ≤ 42 := fp_mx_le (fun j hj => fp_hif_le hV.1 c j (by omega))
    refine lv_iload_n hx hb dX4_high_4 rfl (lv_at hl 3 rfl) ?_
    refine lv_aload_n hx hb dX4_high_5 rfl (lv_at hl 0 rfl) ?_
    refine r_get X hM.1 rfl in_X4 5 (by decide) q2014 (Or.inl rfl) (v := .ref (ad 5)) rfl dX4_high_6 ?_
    refine lv_iconst (v := (iI ((0 : Nat) : Int))) hx hb dX4_high_9 rfl ?_
    refine r_ialdI X (hM.2 5 (by decide) (by decide)) (j := 0) (n := 170) rfl (by decide) (by decide) dX4_high_10 ?_
    refine r_set (y := .int (iI ((sN S : Nat) : Int))) (congrArg (fun q : Int => Value.int (iI q)) (hV.2.1)) ?_
    refine r_icmp_ge (tgt := 44) hx hb ⟨by omega, by omega⟩ ⟨by omega, by omega⟩ dX4_high_11 (by decide) (fun c11 => ?_) (fun c11 => ?_)
    · skip
      refine lv_iload_n hx hb dX4_high_44 rfl (lv_at hl 2 rfl) ?_
      refine r_iret hx hb hr hlk hQ hS (Nat.le_of_ble_eq_true rfl) (Nat.le_of_ble_eq_true rfl) dX4_high_45 ?_
      exact ⟨congrArg (fun q : Nat => some (Value.int (iI (q : Int)))) (by rw [show k = sN S by omega]; rfl), rfl⟩
    · skip
      have hbk := hV.1.2.2.1 k (by omega)
      have htp := fp_top_b (sB S k)
      refine lv_aload_n hx hb dX4_high_14 rfl (lv_at hl 0 rfl) ?_
      refine lv_iload_n hx hb dX4_high_15 rfl (lv_at hl 3 rfl) ?_
      refine lv_iload_n hx hb dX4_high_16 rfl (lv_at hl 1 rfl) ?_
      refine r_callV (cells1 := 0) (slots1 := 0) X hR (c_X4_covers G ad sc ar S hA0 hV k c (by omega) (by omega)) q2119 q2121 qs50 q100 q2122 ⟨rfl, pd_X4_covers⟩ (by decide) rfl rfl (by decide) (by decide) hM.1 rfl rfl (Nat.le_of_ble_eq_true rfl) hl.1 dX4_high_17 (hB.of hS fp_no.base) hM hS (fun _ h => h.elim) (fun v H1 locs hp_1 hzC hkC hS => ?_)
      obtain ⟨rfl, rfl⟩ := hp_1
      refine r_stk (st2 := [.int (iI (bI (fp_cov (sB S k) c)))]) rfl ?_
      refine r_ifeqB (tgt := 38) hx hb dX4_high_20 (by decide) (fun c20 => ?_) (fun c20 => ?_)
      · skip
        refine lv_iinc (v := (iI ((k + 1 : Nat) : Int))) (lv' := [(3, .int (iI ((k + 1 : Nat) : Int))), (0, .ref (ad 0)), (1, .int (iI ((c : Nat) : Int))), (2, .int (iI ((fp_mx (fp_hif S c) k : Nat) : Int)))]) hx hb dX4_high_38 hl (k := 3) rfl (iI_incN _ _) (by decide) rfl (fun ls hl => ?_)
        refine lv_goto (tgt := 4) hx hb dX4_high_41 (by decide) ?_
        exact ih4 (by omega) locs ls (by rw [show Value.int (iI ((fp_mx (fp_hif S c) (k + 1) : Nat) : Int)) = Value.int (iI ((fp_mx (fp_hif S c) k : Nat) : Int)) from congrArg (fun q : Nat => Value.int (iI (q : Int))) (by show max _ (if fp_cov (sB S k) c then fp_top (sB S k) else 0) = _; rw [c20]; simp <;> omega)]; exact lv_sub hl [1, 2, 3, 0] rfl) hS
      · skip
        refine lv_aload_n hx hb dX4_high_23 rfl (lv_at hl 0 rfl) ?_
        refine lv_iload_n hx hb dX4_high_24 rfl (lv_at hl 3 rfl) ?_
        refine r_callV (cells1 := 0) (slots1 := 0) X hR (c_X4_topOf G ad sc ar S hA0 hV k (by omega)) q2127 q2129 qs52 q100 q2130 ⟨rfl, pd_X4_topOf⟩ (by decide) rfl rfl (by decide) (by decide) hM.1 rfl rfl (Nat.le_of_ble_eq_true rfl) hl.1 dX4_high_25 (hB.of hS fp_no.base) hM hS (fun _ h => h.elim) (fun v H1 locs hp_2 hzC hkC hS => ?_)
        obtain ⟨rfl, rfl⟩ := hp_2
        refine r_stk (st2 := [.int (iI ((fp_top (sB S k) : Nat) : Int))]) rfl ?_
        refine lv_iload_n hx hb dX4_high_28 rfl (lv_at hl 2 rfl) ?_
        refine r_icmp_le (tgt := 38) hx hb ⟨by omega, by omega⟩ ⟨by omega, by omega⟩ dX4_high_29 (by decide) (fun c29 => ?_) (fun c29 => ?_)
        · skip
          refine lv_iinc (v := (iI ((k + 1 : Nat) : Int))) (lv' := [(3, .int (iI ((k + 1 : Nat) : Int))), (0, .ref (ad 0)), (1, .int (iI ((c : Nat) : Int))), (2, .int (iI ((fp_mx (fp_hif S c) k : Nat) : Int)))]) hx hb dX4_high_38 hl (k := 3) rfl (iI_incN _ _) (by decide) rfl (fun ls hl => ?_)
          refine lv_goto (tgt := 4) hx hb dX4_high_41 (by decide) ?_
          exact ih4 (by omega) locs ls (by rw [show Value.int (iI ((fp_mx (fp_hif S c) (k + 1) : Nat) : Int)) = Value.int (iI ((fp_mx (fp_hif S c) k : Nat) : Int)) from congrArg (fun q : Nat => Value.int (iI (q : Int))) (by show max _ (if fp_cov (sB S k) c then fp_top (sB S k) else 0) = _; rw [c20]; simp <;> omega)]; exact lv_sub hl [1, 2, 3, 0] rfl) hS
        · skip
          refine lv_aload_n hx hb dX4_high_32 rfl (lv_at hl 0 rfl) ?_
          refine lv_iload_n hx hb dX4_high_33 rfl (lv_at hl 3 rfl) ?_
          refine r_callV (cells1 := 0) (slots1 := 0) X hR (c_X4_topOf G ad sc ar S hA0 hV k (by omega)) q2127 q2129 qs52 q100 q2130 ⟨rfl, pd_X4_topOf⟩ (by decide) rfl rfl (by decide) (by decide) hM.1 rfl rfl (Nat.le_of_ble_eq_true rfl) hl.1 dX4_high_34 (hB.of hS fp_no.base) hM hS (fun _ h => h.elim) (fun v H1 locs hp_3 hzC hkC hS => ?_)
          obtain ⟨rfl, rfl⟩ := hp_3
          refine r_stk (st2 := [.int (iI ((fp_top (sB S k) : Nat) : Int))]) rfl ?_
          refine lv_istore_n (lv' := [(2, .int (iI ((fp_top (sB S k) : Nat) : Int))), (0, .ref (ad 0)), (1, .int (iI ((c : Nat) : Int))), (3, .int (iI ((k : Nat) : Int)))]) hx hb dX4_high_37 rfl hl (by decide) rfl (fun ls hl => ?_)
          refine lv_iinc (v := (iI ((k + 1 : Nat) : Int))) (lv' := [(3, .int (iI ((k + 1 : Nat) : Int))), (2, .int (iI ((fp_top (sB S k) : Nat) : Int))), (0, .ref (ad 0)), (1, .int (iI ((c : Nat) : Int)))]) hx hb dX4_high_38 hl (k := 3) rfl (iI_incN _ _) (by decide) rfl (fun ls hl => ?_)
          refine lv_goto (tgt := 4) hx hb dX4_high_41 (by decide) ?_
          exact ih4 (by omega) locs ls (by rw [show Value.int (iI ((fp_mx (fp_hif S c) (k + 1) : Nat) : Int)) = Value.int (iI ((fp_top (sB S k) : Nat) : Int)) from congrArg (fun q : Nat => Value.int (iI (q : Int))) (by show max _ (if fp_cov (sB S k) c then fp_top (sB S k) else 0) = _; rw [c20]; simp <;> omega)]; exact lv_sub hl [2, 3, 1, 0] rfl) hS
  exact L4 0 (by omega) locs ls (lv_sub hl [2, 3, 1, 0] rfl) hS
set_option maxHeartbeats 4000000 in
theorem c_X4_supports (G : fp_G) (ad : Nat → Nat) (sc : Nat → Int) (ar : Nat → Nat → Int) (S : PS) (hA0 : fp_MA G ad) (hV : fp_VR S (ar 5)) (k : Nat) (u : Nat) (hk : k < sN S) (hu : u < sN S) : fp_M G yX4_supports cX4_supports 4 (some .boolean) 3 55 0 0 [.ref (ad 0), .int (iI ((k : Nat) : Int)), .int (iI ((u : Nat) : Int))] (fp_ME G ad sc ar) fp_no (fun H v H' => v = some (.int (iI (bI (fp_sup (sB S k) (sB S u))))) ∧ H = H') := by
  refine fp_M.intro (by decide) (Nat.le_of_ble_eq_true rfl) ?_
  intro pg en s mi ag bl mt cd rR qQ ls X hx hb hr hlk hnm hR hQ hB hM hl
  have hS : va_S (fA fp_no s.heap.size) s.heap s.heap [] := va_S.rf
  generalize ([] : List Loc) = locs at hS ⊢
  have hbk := hV.1.2.2.1 k hk
  have hbu := hV.1.2.2.1 u hu
  have htp := fp_top_b (sB S k)
  refine lv_aload_n hx hb dX4_supports_0 rfl (lv_at hl 0 rfl) ?_
  refine lv_iload_n hx hb dX4_supports_1 rfl (lv_at hl 1 rfl) ?_
  refine lv_iconst (v := (iI ((2 : Nat) : Int))) hx hb dX4_supports_2 rfl ?_
  refine r_callV (cells1 := 0) (slots1 := 0) X hR (c_X4_of G ad sc ar S hA0 hV k 2 (by omega) (by omega)) q2123 q2125 qs51 q100 q2126 ⟨rfl, pd_X4_of⟩ (by decide) rfl rfl (by decide) (by decide) hM.1 rfl rfl (Nat.le_of_ble_eq_true rfl) hl.1 dX4_supports_3 (hB.of hS fp_no.base) hM hS (fun _ h => h.elim) (fun v H1 locs hp_1 hzC hkC hS => ?_)
  obtain ⟨rfl, rfl⟩ := hp_1
  refine r_stk (st2 := [.int (iI ((sB S k 2 : Nat) : Int))]) rfl ?_
  refine lv_aload_n hx hb dX4_supports_6 rfl (lv_at hl 0 rfl) ?_
  refine lv_iload_n hx hb dX4_supports_7 rfl (lv_at hl 2 rfl) ?_
  refine lv_iconst (v := (iI ((2 : Nat) : Int))) hx hb dX4_supports_8 rfl ?_
  refine r_callV (cells1 := 0) (slots1 := 0) X hR (c_X4_of G ad sc ar S hA0 hV u 2 (by omega) (by omega)) q2123 q2125 qs51 q100 q2126 ⟨rfl, pd_X4_of⟩ (by decide) rfl rfl (by decide) (by decide) hM.1 rfl rfl (Nat.le_of_ble_eq_true rfl) hl.1 dX4_supports_9 (hB.of hS fp_no.base) hM hS (fun _ h => h.elim) (fun v H1 locs hp_2 hzC hkC hS => ?_)
  obtain ⟨rfl, rfl⟩ := hp_2
  refine r_stk (st2 := [.int (iI ((sB S u 2 : Nat) : Int)), .int (iI ((sB S k 2 : Nat) : Int))]) rfl ?_
  refine lv_aload_n hx hb dX4_supports_12 rfl (lv_at hl 0 rfl) ?_
  refine lv_iload_n hx hb dX4_supports_13 rfl (lv_at hl 2 rfl) ?_
  refine lv_iconst (v := (iI ((3 : Nat) : Int))) hx hb dX4_supports_14 rfl ?_
  refine r_callV (cells1 := 0) (slots1 := 0) X hR (c_X4_of G ad sc ar S hA0 hV u 3 (by omega) (by omega)) q2123 q2125 qs51 q100 q2126 ⟨rfl, pd_X4_of⟩ (by decide) rfl rfl (by decide) (by decide) hM.1 rfl rfl (Nat.le_of_ble_eq_true rfl) hl.1 dX4_supports_15 (hB.of hS fp_no.base) hM hS (fun _ h => h.elim) (fun v H1 locs hp_3 hzC hkC hS => ?_)
  obtain ⟨rfl, rfl⟩ := hp_3
  refine r_stk (st2 := [.int (iI ((sB S u 3 : Nat) : Int)), .int (iI ((sB S u 2 : Nat) : Int)), .int (iI ((sB S k 2 : Nat) : Int))]) rfl ?_
  refine r_iaddN hx hb dX4_supports_18 ?_
  refine r_icmp_ge (tgt := 48) hx hb ⟨by omega, by omega⟩ ⟨by omega, by omega⟩ dX4_supports_19 (by decide) (fun c19 => ?_) (fun c19 => ?_)
  · skip
    refine lv_iconst (v := (iI ((0 : Nat) : Int))) hx hb dX4_supports_48 rfl ?_
    refine lv_istore_n (lv' := [(3, .int (iI ((0 : Nat) : Int))), (0, .ref (ad 0)), (1, .int (iI ((k : Nat) : Int))), (2, .int (iI ((u : Nat) : Int)))]) hx hb dX4_supports_49 rfl hl (by decide) rfl (fun ls hl => ?_)
    refine lv_iload_n hx hb dX4_supports_50 rfl (lv_at hl 0 rfl) ?_
    refine r_if_eq (tgt := 72) hx hb (by decide) dX4_supports_51 (by decide) (fun c51 => ?_) (fun c51 => ?_)
    · skip
      refine lv_iconst (v := (iI ((0 : Nat) : Int))) hx hb dX4_supports_72 rfl ?_
      refine r_zret hx hb hr hlk hQ hS (Nat.le_of_ble_eq_true rfl) (Nat.le_of_ble_eq_true rfl) dX4_supports_73 rfl ?_
      exact ⟨congrArg (fun q : Bool => some (Value.int (iI (bI q)))) (Eq.symm (decide_eq_false (by omega))), rfl⟩
    · exact absurd c51 (by omega)
  · skip
    refine lv_aload_n hx hb dX4_supports_22 rfl (lv_at hl 0 rfl) ?_
    refine lv_iload_n hx hb dX4_supports_23 rfl (lv_at hl 2 rfl) ?_
    refine lv_iconst (v := (iI ((2 : Nat) : Int))) hx hb dX4_supports_24 rfl ?_
    refine r_callV (cells1 := 0) (slots1 := 0) X hR (c_X4_of G ad sc ar S hA0 hV u 2 (by omega) (by omega)) q2123 q2125 qs51 q100 q2126 ⟨rfl, pd_X4_of⟩ (by decide) rfl rfl (by decide) (by decide) hM.1 rfl rfl (Nat.le_of_ble_eq_true rfl) hl.1 dX4_supports_25 (hB.of hS fp_no.base) hM hS (fun _ h => h.elim) (fun v H1 locs hp_4 hzC hkC hS => ?_)
    obtain ⟨rfl, rfl⟩ := hp_4
    refine r_stk (st2 := [.int (iI ((sB S u 2 : Nat) : Int))]) rfl ?_
    refine lv_aload_n hx hb dX4_supports_28 rfl (lv_at hl 0 rfl) ?_
    refine lv_iload_n hx hb dX4_supports_29 rfl (lv_at hl 1 rfl) ?_
    refine lv_iconst (v := (iI ((2 : Nat) : Int))) hx hb dX4_supports_30 rfl ?_
    refine r_callV (cells1 := 0) (slots1 := 0) X hR (c_X4_of G ad sc ar S hA0 hV k 2 (by omega) (by omega)) q2123 q2125 qs51 q100 q2126 ⟨rfl, pd_X4_of⟩ (by decide) rfl rfl (by decide) (by decide) hM.1 rfl rfl (Nat.le_of_ble_eq_true rfl) hl.1 dX4_supports_31 (hB.of hS fp_no.base) hM hS (fun _ h => h.elim) (fun v H1 locs hp_5 hzC hkC hS => ?_)
    obtain ⟨rfl, rfl⟩ := hp_5
    refine r_stk (st2 := [.int (iI ((sB S k 2 : Nat) : Int)), .int (iI ((sB S u 2 : Nat) : Int))]) rfl ?_
    refine lv_aload_n hx hb dX4_supports_34 rfl (lv_at hl 0 rfl) ?_
    refine lv_iload_n hx hb dX4_supports_35 rfl (lv_at hl 1 rfl) ?_
    refine lv_iconst (v := (iI ((3 : Nat) : Int))) hx hb dX4_supports_36 rfl ?_
    refine r_callV (cells1 := 0) (slots1 := 0) X hR (c_X4_of G ad sc ar S hA0 hV k 3 (by omega) (by omega)) q2123 q2125 qs51 q100 q2126 ⟨rfl, pd_X4_of⟩ (by decide) rfl rfl (by decide) (by decide) hM.1 rfl rfl (Nat.le_of_ble_eq_true rfl) hl.1 dX4_supports_37 (hB.of hS fp_no.base) hM hS (fun _ h => h.elim) (fun v H1 locs hp_6 hzC hkC hS => ?_)
    obtain ⟨rfl, rfl⟩ := hp_6
    refine r_stk (st2 := [.int (iI ((sB S k 3 : Nat) : Int)), .int (iI ((sB S k 2 : Nat) : Int)), .int (iI ((sB S u 2 : Nat) : Int))]) rfl ?_
    refine r_iaddN hx hb dX4_supports_40 ?_
    refine r_icmp_ge (tgt := 48) hx hb ⟨by omega, by omega⟩ ⟨by omega, by omega⟩ dX4_supports_41 (by decide) (fun c41 => ?_) (fun c41 => ?_)
    · skip
      refine lv_iconst (v := (iI ((0 : Nat) : Int))) hx hb dX4_supports_48 rfl ?_
      refine lv_istore_n (lv' := [(3, .int (iI ((0 : Nat) : Int))), (0, .ref (ad 0)), (1, .int (iI ((k : Nat) : Int))), (2, .int (iI ((u : Nat) : Int)))]) hx hb dX4_supports_49 rfl hl (by decide) rfl (fun ls hl => ?_)
      refine lv_iload_n hx hb dX4_supports_50 rfl (lv_at hl 0 rfl) ?_
      refine r_if_eq (tgt := 72) hx hb (by decide) dX4_supports_51 (by decide) (fun c51 => ?_) (fun c51 => ?_)
      · skip
        refine lv_iconst (v := (iI ((0 : Nat) : Int))) hx hb dX4_supports_72 rfl ?_
        refine r_zret hx hb hr hlk hQ hS (Nat.le_of_ble_eq_true rfl) (Nat.le_of_ble_eq_true rfl) dX4_supports_73 rfl ?_
        exact ⟨congrArg (fun q : Bool => some (Value.int (iI (bI q)))) (Eq.symm (decide_eq_false (by omega))), rfl⟩
      · exact absurd c51 (by omega)
    · skip
      refine lv_iconst (v := (iI ((1 : Nat) : Int))) hx hb dX4_supports_44 rfl ?_
      refine lv_goto (tgt := 49) hx hb dX4_supports_45 (by decide) ?_
      refine lv_istore_n (lv' := [(3, .int (iI ((1 : Nat) : Int))), (0, .ref (ad 0)), (1, .int (iI ((k : Nat) : Int))), (2, .int (iI ((u : Nat) : Int)))]) hx hb dX4_supports_49 rfl hl (by decide) rfl (fun ls hl => ?_)
      refine lv_iload_n hx hb dX4_supports_50 rfl (lv_at hl 0 rfl) ?_
      refine r_if_eq (tgt := 72) hx hb (by decide) dX4_supports_51 (by decide) (fun c51 => ?_) (fun c51 => ?_)
      · exact absurd c51 (by omega)
      · skip
        refine lv_aload_n hx hb dX4_supports_54 rfl (lv_at hl 1 rfl) ?_
        refine lv_iload_n hx hb dX4_supports_55 rfl (lv_at hl 2 rfl) ?_
        refine r_callV (cells1 := 0) (slots1 := 0) X hR (c_X4_topOf G ad sc ar S hA0 hV k (by omega)) q2127 q2129 qs52 q100 q2130 ⟨rfl, pd_X4_topOf⟩ (by decide) rfl rfl (by decide) (by decide) hM.1 rfl rfl (Nat.le_of_ble_eq_true rfl) hl.1 dX4_supports_56 (hB.of hS fp_no.base) hM hS (fun _ h => h.elim) (fun v H1 locs hp_7 hzC hkC hS => ?_)
        obtain ⟨rfl, rfl⟩ := hp_7
        refine r_stk (st2 := [.int (iI ((fp_top (sB S k) : Nat) : Int))]) rfl ?_
        refine lv_aload_n hx hb dX4_supports_59 rfl (lv_at hl 1 rfl) ?_
        refine lv_iload_n hx hb dX4_supports_60 rfl (lv_at hl 3 rfl) ?_
        refine lv_iconst (v := (iI ((5 : Nat) : Int))) hx hb dX4_supports_61 rfl ?_
        refine r_callV (cells1 := 0) (slots1 := 0) X hR (c_X4_of G ad sc ar S hA0 hV u 5 (by omega) (by omega)) q2123 q2125 qs51 q100 q2126 ⟨rfl, pd_X4_of⟩ (by decide) rfl rfl (by decide) (by decide) hM.1 rfl rfl (Nat.le_of_ble_eq_true rfl) hl.1 dX4_supports_62 (hB.of hS fp_no.base) hM hS (fun _ h => h.elim) (fun v H1 locs hp_8 hzC hkC hS => ?_)
        obtain ⟨rfl, rfl⟩ := hp_8
        refine r_stk (st2 := [.int (iI ((sB S u 5 : Nat) : Int)), .int (iI ((fp_top (sB S k) : Nat) : Int))]) rfl ?_
        refine r_icmp_ne (tgt := 72) hx hb ⟨by omega, by omega⟩ ⟨by omega, by omega⟩ dX4_supports_65 (by decide) (fun c65 => ?_) (fun c65 => ?_)
        · skip
          refine lv_iconst (v := (iI ((0 : Nat) : Int))) hx hb dX4_supports_72 rfl ?_
          refine r_zret hx hb hr hlk hQ hS (Nat.le_of_ble_eq_true rfl) (Nat.le_of_ble_eq_true rfl) dX4_supports_73 rfl ?_
          exact ⟨congrArg (fun q : Bool => some (Value.int (iI (bI q)))) (Eq.symm (decide_eq_false (by omega))), rfl⟩
        · skip
          refine lv_iconst (v := (iI ((1 : Nat) : Int))) hx hb dX4_supports_68 rfl ?_
          refine lv_goto (tgt := 73) hx hb dX4_supports_69 (by decide) ?_
          refine r_zret hx hb hr hlk hQ hS (Nat.le_of_ble_eq_true rfl) (Nat.le_of_ble_eq_true rfl) dX4_supports_73 rfl ?_
          exact ⟨congrArg (fun q : Bool => some (Value.int (iI (bI q)))) (Eq.symm (decide_eq_true (by omega))), rfl⟩
set_option maxHeartbeats 4000000 in
theorem c_X4_supporters (G : fp_G) (ad : Nat → Nat) (sc : Nat → Int) (ar : Nat → Nat → Int) (S : PS) (hA0 : fp_MA G ad) (hV : fp_VR S (ar 5)) (u : Nat) (hu : u < sN S) : fp_M G yX4_supporters cX4_supporters 4 (some .int) 4 78 0 0 [.ref (ad 0), .int (iI ((u : Nat) : Int))] (fp_ME G ad sc ar) fp_no (fun H v H' => v = some (.int (iI ((fp_nsup S u : Nat) : Int))) ∧ H = H') := by
  refine fp_M.intro (by decide) (Nat.le_of_ble_eq_true rfl) ?_
  intro pg en s mi ag bl mt cd rR qQ ls X hx hb hr hlk hnm hR hQ hB hM hl
  have hS : va_S (fA fp_no s.heap.size) s.heap s.heap [] := va_S.rf
  generalize ([] : List Loc) = locs at hS ⊢
  have hN24 := hV.1.1
  refine lv_iconst (v := (iI ((0 : Nat) : Int))) hx hb dX4_supporters_0 rfl ?_
  refine lv_istore_n (lv' := [(2, .int (iI ((0 : Nat) : Int))), (0, .ref (ad 0)), (1, .int (iI ((u : Nat) : Int)))]) hx hb dX4_supporters_1 rfl hl (by decide) rfl (fun ls hl => ?_)
  refine lv_iconst (v := (iI ((0 : Nat) : Int))) hx hb dX4_supporters_2 rfl ?_
  refine lv_istore_n (lv' := [(3, .int (iI ((0 : Nat) : Int))), (2, .int (iI ((0 : Nat) : Int))), (0, .ref (ad 0)), (1, .int (iI ((u : Nat) : Int)))]) hx hb dX4_supporters_3 rfl hl (by decide) rfl (fun ls hl => ?_)
  have L4 : ∀ (k : Nat), k ≤ sN S → ∀ (locs : List Loc) (ls : Array Slot), lv_has ls 4 [(0, .ref (ad 0)), (1, .int (iI ((u : Nat) : Int))), (2, .int (iI ((fp_ct (fp_supf S u) k : Nat) : Int))), (3, .int (iI ((k : Nat) : Int)))] → va_S (fA fp_no s.heap.size) s.heap s.heap locs → W pg (g_l G) en rR s mi ag bl mt cd s.heap locs 0 0 qQ (F0 mi 4 ls []) := by
    refine lp_up (sN S) ?_
    intro k hk4 ih4 locs ls hl hS
    refine lv_iload_n hx hb dX4_supporters_4 rfl (lv_at hl 3 rfl) ?_
    refine lv_aload_n hx hb dX4_supporters_5 rfl (lv_at hl 0 rfl) ?_
    refine r_get X hM.1 rfl in_X4 5 (by decide) q2014 (Or.inl rfl) (v := .ref (ad 5)) rfl dX4_supporters_6 ?_
    refine lv_iconst (v := (iI ((0 : Nat) : Int))) hx hb dX4_supporters_9 rfl ?_
    refine r_ialdI X (hM.2 5 (by decide) (by decide)) (j := 0) (n := 170) rfl (by decide) (by decide) dX4_supporters_10 ?_
    refine r_set (y := .int (iI ((sN S : Nat) : Int))) (congrArg (fun q : Int => Value.int (iI q)) (hV.2.1)) ?_
    refine r_icmp_ge (tgt := 37) hx hb ⟨by omega, by omega⟩ ⟨by omega, by omega⟩ dX4_supporters_11 (by decide) (fun c11 => ?_) (fun c11 => ?_)
    · skip
      refine lv_iload_n hx hb dX4_supporters_37 rfl (lv_at hl 2 rfl) ?_
      refine r_iret hx hb hr hlk hQ hS (Nat.le_of_ble_eq_true rfl) (Nat.le_of_ble_eq_true rfl) dX4_supporters_38 ?_
      exact ⟨congrArg (fun q : Nat => some (Value.int (iI (q : Int)))) (by rw [show k = sN S by omega]; rfl), rfl⟩
    · skip
      have hbk := hV.1.2.2.1 k (by omega)
      refine lv_iload_n hx hb dX4_supporters_14 rfl (lv_at hl 2 rfl) ?_
      refine lv_aload_n hx hb dX4_supporters_15 rfl (lv_at hl 0 rfl) ?_
      refine lv_iload_n hx hb dX4_supporters_16 rfl (lv_at hl 3 rfl) ?_
      refine lv_iload_n hx hb dX4_supporters_17 rfl (lv_at hl 1 rfl) ?_
      refine r_callV (cells1 := 0) (slots1 := 0) X hR (c_X4_supports G ad sc ar S hA0 hV k u (by omega) (by omega)) q2147 q2149 qs57 q100 q2150 ⟨rfl, pd_X4_supports⟩ (by decide) rfl rfl (by decide) (by decide) hM.1 rfl rfl (Nat.le_of_ble_eq_true rfl) hl.1 dX4_supporters_18 (hB.of hS fp_no.base) hM hS (fun _ h => h.elim) (fun v H1 locs hp_1 hzC hkC hS => ?_)
      obtain ⟨rfl, rfl⟩ := hp_1
      refine r_stk (st2 := [.int (iI (bI (fp_sup (sB S k) (sB S u)))), .int (iI ((fp_ct (fp_supf S u) k : Nat) : Int))]) rfl ?_
      refine r_ifeqB (tgt := 28) hx hb dX4_supporters_21 (by decide) (fun c21 => ?_) (fun c21 => ?_)
      · skip
        refine lv_iconst (v := (iI ((0 : Nat) : Int))) hx hb dX4_supporters_28 rfl ?_
        refine r_iaddN hx hb dX4_supporters_29 ?_
        refine lv_istore_n (lv' := [(2, .int (iI (((fp_ct (fp_supf S u) k) + 0 : Nat) : Int))), (0, .ref (ad 0)), (1, .int (iI ((u : Nat) : Int))), (3, .int (iI ((k : Nat) : Int)))]) hx hb dX4_supporters_30 rfl hl (by decide) rfl (fun ls hl => ?_)
        refine lv_iinc (v := (iI ((k + 1 : Nat) : Int))) (lv' := [(3, .int (iI ((k + 1 : Nat) : Int))), (2, .int (iI (((fp_ct (fp_supf S u) k) + 0 : Nat) : Int))), (0, .ref (ad 0)), (1, .int (iI ((u : Nat) : Int)))]) hx hb dX4_supporters_31 hl (k := 3) rfl (iI_incN _ _) (by decide) rfl (fun ls hl => ?_)
        refine lv_goto (tgt := 4) hx hb dX4_supporters_34 (by decide) ?_
        exact ih4 (by omega) locs ls (by rw [show Value.int (iI ((fp_ct (fp_supf S u) (k + 1) : Nat) : Int)) = Value.int (iI (((fp_ct (fp_supf S u) k) + 0 : Nat) : Int)) from congrArg (fun q : Nat => Value.int (iI (q : Int))) (by show _ + (if fp_sup (sB S k) (sB S u) then 1 else 0) = _; simp [c21])]; exact lv_sub hl [2, 3, 1, 0] rfl) hS
      · skip
        refine lv_iconst (v := (iI ((1 : Nat) : Int))) hx hb dX4_supporters_24 rfl ?_
        refine lv_goto (tgt := 29) hx hb dX4_supporters_25 (by decide) ?_
        refine r_iaddN hx hb dX4_supporters_29 ?_
        refine lv_istore_n (lv' := [(2, .int (iI (((fp_ct (fp_supf S u) k) + 1 : Nat) : Int))), (0, .ref (ad 0)), (1, .int (iI ((u : Nat) : Int))), (3, .int (iI ((k : Nat) : Int)))]) hx hb dX4_supporters_30 rfl hl (by decide) rfl (fun ls hl => ?_)
        refine lv_iinc (v := (iI ((k + 1 : Nat) : Int))) (lv' := [(3, .int (iI ((k + 1 : Nat) : Int))), (2, .int (iI (((fp_ct (fp_supf S u) k) + 1 : Nat) : Int))), (0, .ref (ad 0)), (1, .int (iI ((u : Nat) : Int)))]) hx hb dX4_supporters_31 hl (k := 3) rfl (iI_incN _ _) (by decide) rfl (fun ls hl => ?_)
        refine lv_goto (tgt := 4) hx hb dX4_supporters_34 (by decide) ?_
        exact ih4 (by omega) locs ls (by rw [show Value.int (iI ((fp_ct (fp_supf S u) (k + 1) : Nat) : Int)) = Value.int (iI (((fp_ct (fp_supf S u) k) + 1 : Nat) : Int)) from congrArg (fun q : Nat => Value.int (iI (q : Int))) (by show _ + (if fp_sup (sB S k) (sB S u) then 1 else 0) = _; simp [c21])]; exact lv_sub hl [2, 3, 1, 0] rfl) hS
  exact L4 0 (by omega) locs ls (lv_sub hl [2, 3, 1, 0] rfl) hS
set_option maxHeartbeats 4000000 in
theorem c_X4_rank (G : fp_G) (ad : Nat → Nat) (sc : Nat → Int) (ar : Nat → Nat → Int) (S : PS) (hA0 : fp_MA G ad) (hV : fp_VR S (ar 5)) (lo : Nat) (u : Nat) (hlo : lo < sN S) (hu : u < sN S) : fp_M G yX4_rank cX4_rank 5 (some .int) 4 78 0 0 [.ref (ad 0), .int (iI ((lo : Nat) : Int)), .int (iI ((u : Nat) : Int))] (fp_ME G ad sc ar) fp_no (fun H v H' => v = some (.int (iI ((fp_rk S lo u : Nat) : Int))) ∧ H = H') := by
  refine fp_M.intro (by decide) (Nat.le_of_ble_eq_true rfl) ?_
  intro pg en s mi ag bl mt cd rR qQ ls X hx hb hr hlk hnm hR hQ hB hM hl
  have hS : va_S (fA fp_no s.heap.size) s.heap s.heap [] := va_S.rf
  generalize ([] : List Loc) = locs at hS ⊢
  have hN24 := hV.1.1
  have hbl := hV.1.2.2.1 lo hlo
  refine lv_iconst (v := (iI ((0 : Nat) : Int))) hx hb dX4_rank_0 rfl ?_
  refine lv_istore_n (lv' := [(3, .int (iI ((0 : Nat) : Int))), (0, .ref (ad 0)), (1, .int (iI ((lo : Nat) : Int))), (2, .int (iI ((u : Nat) : Int)))]) hx hb dX4_rank_1 rfl hl (by decide) rfl (fun ls hl => ?_)
  refine lv_iconst (v := (iI ((0 : Nat) : Int))) hx hb dX4_rank_2 rfl ?_
  refine lv_istore (lv' := [(4, .int (iI ((0 : Nat) : Int))), (3, .int (iI ((0 : Nat) : Int))), (0, .ref (ad 0)), (1, .int (iI ((lo : Nat) : Int))), (2, .int (iI ((u : Nat) : Int)))]) hx hb dX4_rank_3 hl (by decide) rfl (fun ls hl => ?_)
  have L5 : ∀ (k : Nat), k ≤ sN S → ∀ (locs : List Loc) (ls : Array Slot), lv_has ls 5 [(0, .ref (ad 0)), (1, .int (iI ((lo : Nat) : Int))), (2, .int (iI ((u : Nat) : Int))), (3, .int (iI ((fp_ct (fp_rkf S lo u) k : Nat) : Int))), (4, .int (iI ((k : Nat) : Int)))] → va_S (fA fp_no s.heap.size) s.heap s.heap locs → W pg (g_l G) en rR s mi ag bl mt cd s.heap locs 0 0 qQ (F0 mi 5 ls []) := by
    refine lp_up (sN S) ?_
    intro k hk5 ih5 locs ls hl hS
    refine lv_iload hx hb dX4_rank_5 (lv_at hl 4 rfl) ?_
    refine lv_aload_n hx hb dX4_rank_7 rfl (lv_at hl 0 rfl) ?_
    refine r_get X hM.1 rfl in_X4 5 (by decide) q2014 (Or.inl rfl) (v := .ref (ad 5)) rfl dX4_rank_8 ?_
    refine lv_iconst (v := (iI ((0 : Nat) : Int))) hx hb dX4_rank_11 rfl ?_
    refine r_ialdI X (hM.2 5 (by decide) (by decide)) (j := 0) (n := 170) rfl (by decide) (by decide) dX4_rank_12 ?_
    refine r_set (y := .int (iI ((sN S : Nat) : Int))) (congrArg (fun q : Int => Value.int (iI q)) (hV.2.1)) ?_
    refine r_icmp_ge (tgt := 56) hx hb ⟨by omega, by omega⟩ ⟨by omega, by omega⟩ dX4_rank_13 (by decide) (fun c13 => ?_) (fun c13 => ?_)
    · skip
      refine lv_iload_n hx hb dX4_rank_56 rfl (lv_at hl 3 rfl) ?_
      refine r_iret hx hb hr hlk hQ hS (Nat.le_of_ble_eq_true rfl) (Nat.le_of_ble_eq_true rfl) dX4_rank_57 ?_
      exact ⟨congrArg (fun q : Nat => some (Value.int (iI (q : Int)))) (by rw [show k = sN S by omega]; rfl), rfl⟩
    · skip
      have hbk := hV.1.2.2.1 k (by omega)
      refine lv_iload_n hx hb dX4_rank_16 rfl (lv_at hl 3 rfl) ?_
      refine lv_aload_n hx hb dX4_rank_17 rfl (lv_at hl 0 rfl) ?_
      refine lv_iload hx hb dX4_rank_18 (lv_at hl 4 rfl) ?_
      refine lv_iload_n hx hb dX4_rank_20 rfl (lv_at hl 2 rfl) ?_
      refine r_callV (cells1 := 0) (slots1 := 0) X hR (c_X4_supports G ad sc ar S hA0 hV k u (by omega) (by omega)) q2147 q2149 qs57 q100 q2150 ⟨rfl, pd_X4_supports⟩ (by decide) rfl rfl (by decide) (by decide) hM.1 rfl rfl (Nat.le_of_ble_eq_true rfl) hl.1 dX4_rank_21 (hB.of hS fp_no.base) hM hS (fun _ h => h.elim) (fun v H1 locs hp_1 hzC hkC hS => ?_)
      obtain ⟨rfl, rfl⟩ := hp_1
      refine r_stk (st2 := [.int (iI (bI (fp_sup (sB S k) (sB S u)))), .int (iI ((fp_ct (fp_rkf S lo u) k : Nat) : Int))]) rfl ?_
      refine r_ifeqB (tgt := 47) hx hb dX4_rank_24 (by decide) (fun c24 => ?_) (fun c24 => ?_)
      · skip
        refine lv_iconst (v := (iI ((0 : Nat) : Int))) hx hb dX4_rank_47 rfl ?_
        refine r_iaddN hx hb dX4_rank_48 ?_
        refine lv_istore_n (lv' := [(3, .int (iI (((fp_ct (fp_rkf S lo u) k) + 0 : Nat) : Int))), (0, .ref (ad 0)), (1, .int (iI ((lo : Nat) : Int))), (2, .int (iI ((u : Nat) : Int))), (4, .int (iI ((k : Nat) : Int)))]) hx hb dX4_rank_49 rfl hl (by decide) rfl (fun ls hl => ?_)
        refine lv_iinc (v := (iI ((k + 1 : Nat) : Int))) (lv' := [(4, .int (iI ((k + 1 : Nat) : Int))), (3, .int (iI (((fp_ct (fp_rkf S lo u) k) + 0 : Nat) : Int))), (0, .ref (ad 0)), (1, .int (iI ((lo : Nat) : Int))), (2, .int (iI ((u : Nat) : Int)))]) hx hb dX4_rank_50 hl (k := 4) rfl (iI_incN _ _) (by decide) rfl (fun ls hl => ?_)
        refine lv_goto (tgt := 5) hx hb dX4_rank_53 (by decide) ?_
        exact ih5 (by omega) locs ls (by rw [show Value.int (iI ((fp_ct (fp_rkf S lo u) (k + 1) : Nat) : Int)) = Value.int (iI (((fp_ct (fp_rkf S lo u) k) + 0 : Nat) : Int)) from congrArg (fun q : Nat => Value.int (iI (q : Int))) (by show _ + (if (fp_sup (sB S k) (sB S u) && decide (sB S k 2 < sB S lo 2)) then 1 else 0) = _; rw [c24]; simp <;> omega)]; exact lv_sub hl [2, 3, 4, 1, 0] rfl) hS
      · skip
        refine lv_aload_n hx hb dX4_rank_27 rfl (lv_at hl 0 rfl) ?_
        refine lv_iload hx hb dX4_rank_28 (lv_at hl 4 rfl) ?_
        refine lv_iconst (v := (iI ((2 : Nat) : Int))) hx hb dX4_rank_30 rfl ?_
        refine r_callV (cells1 := 0) (slots1 := 0) X hR (c_X4_of G ad sc ar S hA0 hV k 2 (by omega) (by omega)) q2123 q2125 qs51 q100 q2126 ⟨rfl, pd_X4_of⟩ (by decide) rfl rfl (by decide) (by decide) hM.1 rfl rfl (Nat.le_of_ble_eq_true rfl) hl.1 dX4_rank_31 (hB.of hS fp_no.base) hM hS (fun _ h => h.elim) (fun v H1 locs hp_2 hzC hkC hS => ?_)
        obtain ⟨rfl, rfl⟩ := hp_2
        refine r_stk (st2 := [.int (iI ((sB S k 2 : Nat) : Int)), .int (iI ((fp_ct (fp_rkf S lo u) k : Nat) : Int))]) rfl ?_
        refine lv_aload_n hx hb dX4_rank_34 rfl (lv_at hl 0 rfl) ?_
        refine lv_iload_n hx hb dX4_rank_35 rfl (lv_at hl 1 rfl) ?_
        refine lv_iconst (v := (iI ((2 : Nat) : Int))) hx hb dX4_rank_36 rfl ?_
        refine r_callV (cells1 := 0) (slots1 := 0) X hR (c_X4_of G ad sc ar S hA0 hV lo 2 (by omega) (by omega)) q2123 q2125 qs51 q100 q2126 ⟨rfl, pd_X4_of⟩ (by decide) rfl rfl (by decide) (by decide) hM.1 rfl rfl (Nat.le_of_ble_eq_true rfl) hl.1 dX4_rank_37 (hB.of hS fp_no.base) hM hS (fun _ h => h.elim) (fun v H1 locs hp_3 hzC hkC hS => ?_)
        obtain ⟨rfl, rfl⟩ := hp_3
        refine r_stk (st2 := [.int (iI ((sB S lo 2 : Nat) : Int)), .int (iI ((sB S k 2 : Nat) : Int)), .int (iI ((fp_ct (fp_rkf S lo u) k : Nat) : Int))]) rfl ?_
        refine r_icmp_ge (tgt := 47) hx hb ⟨by omega, by omega⟩ ⟨by omega, by omega⟩ dX4_rank_40 (by decide) (fun c40 => ?_) (fun c40 => ?_)
        · skip
          refine lv_iconst (v := (iI ((0 : Nat) : Int))) hx hb dX4_rank_47 rfl ?_
          refine r_iaddN hx hb dX4_rank_48 ?_
          refine lv_istore_n (lv' := [(3, .int (iI (((fp_ct (fp_rkf S lo u) k) + 0 : Nat) : Int))), (0, .ref (ad 0)), (1, .int (iI ((lo : Nat) : Int))), (2, .int (iI ((u : Nat) : Int))), (4, .int (iI ((k : Nat) : Int)))]) hx hb dX4_rank_49 rfl hl (by decide) rfl (fun ls hl => ?_)
          refine lv_iinc (v := (iI ((k + 1 : Nat) : Int))) (lv' := [(4, .int (iI ((k + 1 : Nat) : Int))), (3, .int (iI (((fp_ct (fp_rkf S lo u) k) + 0 : Nat) : Int))), (0, .ref (ad 0)), (1, .int (iI ((lo : Nat) : Int))), (2, .int (iI ((u : Nat) : Int)))]) hx hb dX4_rank_50 hl (k := 4) rfl (iI_incN _ _) (by decide) rfl (fun ls hl => ?_)
          refine lv_goto (tgt := 5) hx hb dX4_rank_53 (by decide) ?_
          exact ih5 (by omega) locs ls (by rw [show Value.int (iI ((fp_ct (fp_rkf S lo u) (k + 1) : Nat) : Int)) = Value.int (iI (((fp_ct (fp_rkf S lo u) k) + 0 : Nat) : Int)) from congrArg (fun q : Nat => Value.int (iI (q : Int))) (by show _ + (if (fp_sup (sB S k) (sB S u) && decide (sB S k 2 < sB S lo 2)) then 1 else 0) = _; rw [c24]; simp <;> omega)]; exact lv_sub hl [2, 3, 4, 1, 0] rfl) hS
        · skip
          refine lv_iconst (v := (iI ((1 : Nat) : Int))) hx hb dX4_rank_43 rfl ?_
          refine lv_goto (tgt := 48) hx hb dX4_rank_44 (by decide) ?_
          refine r_iaddN hx hb dX4_rank_48 ?_
          refine lv_istore_n (lv' := [(3, .int (iI (((fp_ct (fp_rkf S lo u) k) + 1 : Nat) : Int))), (0, .ref (ad 0)), (1, .int (iI ((lo : Nat) : Int))), (2, .int (iI ((u : Nat) : Int))), (4, .int (iI ((k : Nat) : Int)))]) hx hb dX4_rank_49 rfl hl (by decide) rfl (fun ls hl => ?_)
          refine lv_iinc (v := (iI ((k + 1 : Nat) : Int))) (lv' := [(4, .int (iI ((k + 1 : Nat) : Int))), (3, .int (iI (((fp_ct (fp_rkf S lo u) k) + 1 : Nat) : Int))), (0, .ref (ad 0)), (1, .int (iI ((lo : Nat) : Int))), (2, .int (iI ((u : Nat) : Int)))]) hx hb dX4_rank_50 hl (k := 4) rfl (iI_incN _ _) (by decide) rfl (fun ls hl => ?_)
          refine lv_goto (tgt := 5) hx hb dX4_rank_53 (by decide) ?_
          exact ih5 (by omega) locs ls (by rw [show Value.int (iI ((fp_ct (fp_rkf S lo u) (k + 1) : Nat) : Int)) = Value.int (iI (((fp_ct (fp_rkf S lo u) k) + 1 : Nat) : Int)) from congrArg (fun q : Nat => Value.int (iI (q : Int))) (by show _ + (if (fp_sup (sB S k) (sB S u) && decide (sB S k 2 < sB S lo 2)) then 1 else 0) = _; rw [c24]; simp <;> omega)]; exact lv_sub hl [2, 3, 4, 1, 0] rfl) hS
  exact L5 0 (by omega) locs ls (lv_sub hl [2, 3, 4, 1, 0] rfl) hS
set_option maxHeartbeats 4000000 in
theorem c_X4_isPlace (G : fp_G) (l : Int) (wd : Int) (hl1 : rg l) (hw1 : rg wd) : fp_M G yX4_isPlace cX4_isPlace 2 (some .boolean) 3 54 0 0 [.int (iI (l)), .int (iI (wd))] (fun _ => True) fp_no (fun H v H' => v = some (.int (iI (bI (fp_place l wd)))) ∧ H = H') := by
  refine fp_M.intro (by decide) (Nat.le_of_ble_eq_true rfl) ?_
  intro pg en s mi ag bl mt cd rR qQ ls X hx hb hr hlk hnm hR hQ hB hM hl
  have hS : va_S (fA fp_no s.heap.size) s.heap s.heap [] := va_S.rf
  generalize ([] : List Loc) = locs at hS ⊢
  refine lv_iload_n hx hb dX4_isPlace_0 rfl (lv_at hl 0 rfl) ?_
  refine r_callS (cells1 := 0) (slots1 := 0) X hR (c_X4_isColumn G (l) (by omega)) q2101 q2102 q100 q2103 pd_X4_isColumn (by decide) rfl rfl (by decide) (by decide) rfl (Nat.le_of_ble_eq_true rfl) hl.1 dX4_isPlace_1 (hB.of hS fp_no.base) trivial hS (fun _ h => h.elim) (fun v H1 locs hp_1 hzC hkC hS => ?_)
  obtain ⟨rfl, rfl⟩ := hp_1
  refine r_stk (st2 := [.int (iI (bI (decide (0 ≤ (l) ∧ (l) ≤ 11))))]) rfl ?_
  refine r_ifeqB (tgt := 28) hx hb dX4_isPlace_4 (by decide) (fun c4 => ?_) (fun c4 => ?_)
  · skip
    have c4 := of_decide_eq_false c4
    refine lv_iconst (v := (iI ((0 : Nat) : Int))) hx hb dX4_isPlace_28 rfl ?_
    refine r_zret hx hb hr hlk hQ hS (Nat.le_of_ble_eq_true rfl) (Nat.le_of_ble_eq_true rfl) dX4_isPlace_29 rfl ?_
    exact ⟨congrArg (fun q : Bool => some (Value.int (iI (bI q)))) (Eq.symm (decide_eq_false (by omega))), rfl⟩
  · skip
    have c4 := of_decide_eq_true c4
    refine lv_iload_n hx hb dX4_isPlace_7 rfl (lv_at hl 1 rfl) ?_
    refine lv_iconst (v := (iI ((1 : Nat) : Int))) hx hb dX4_isPlace_8 rfl ?_
    refine lv_iconst (v := (iI ((5 : Nat) : Int))) hx hb dX4_isPlace_9 rfl ?_
    refine r_callS (cells1 := 0) (slots1 := 0) X hR (c_X4_isIn G (wd) 1 5 (by omega) (by omega) (by omega)) q2104 q2105 q100 q2106 pd_X4_isIn (by decide) rfl rfl (by decide) (by decide) rfl (Nat.le_of_ble_eq_true rfl) hl.1 dX4_isPlace_10 (hB.of hS fp_no.base) trivial hS (fun _ h => h.elim) (fun v H1 locs hp_2 hzC hkC hS => ?_)
    obtain ⟨rfl, rfl⟩ := hp_2
    refine r_stk (st2 := [.int (iI (bI (decide (1 ≤ (wd) ∧ (wd) ≤ 5))))]) rfl ?_
    refine r_ifeqB (tgt := 28) hx hb dX4_isPlace_13 (by decide) (fun c13 => ?_) (fun c13 => ?_)
    · skip
      have c13 := of_decide_eq_false c13
      refine lv_iconst (v := (iI ((0 : Nat) : Int))) hx hb dX4_isPlace_28 rfl ?_
      refine r_zret hx hb hr hlk hQ hS (Nat.le_of_ble_eq_true rfl) (Nat.le_of_ble_eq_true rfl) dX4_isPlace_29 rfl ?_
      exact ⟨congrArg (fun q : Bool => some (Value.int (iI (bI q)))) (Eq.symm (decide_eq_false (by omega))), rfl⟩
    · skip
      have c13 := of_decide_eq_true c13
      refine lv_iload_n hx hb dX4_isPlace_16 rfl (lv_at hl 0 rfl) ?_
      refine lv_iload_n hx hb dX4_isPlace_17 rfl (lv_at hl 1 rfl) ?_
      refine r_iadd hx hb dX4_isPlace_18 ?_
      refine lv_bipush (v := (iI ((12 : Nat) : Int))) hx hb dX4_isPlace_19 rfl ?_
      refine r_icmp_gt (tgt := 28) hx hb ⟨by omega, by omega⟩ (by decide) dX4_isPlace_21 (by decide) (fun c21 => ?_) (fun c21 => ?_)
      · skip
        refine lv_iconst (v := (iI ((0 : Nat) : Int))) hx hb dX4_isPlace_28 rfl ?_
        refine r_zret hx hb hr hlk hQ hS (Nat.le_of_ble_eq_true rfl) (Nat.le_of_ble_eq_true rfl) dX4_isPlace_29 rfl ?_
        exact ⟨congrArg (fun q : Bool => some (Value.int (iI (bI q)))) (Eq.symm (decide_eq_false (by omega))), rfl⟩
      · skip
        refine lv_iconst (v := (iI ((1 : Nat) : Int))) hx hb dX4_isPlace_24 rfl ?_
        refine lv_goto (tgt := 29) hx hb dX4_isPlace_25 (by decide) ?_
        refine r_zret hx hb hr hlk hQ hS (Nat.le_of_ble_eq_true rfl) (Nat.le_of_ble_eq_true rfl) dX4_isPlace_29 rfl ?_
        exact ⟨congrArg (fun q : Bool => some (Value.int (iI (bI q)))) (Eq.symm (decide_eq_true (by omega))), rfl⟩
set_option maxHeartbeats 4000000 in
theorem c_X4_isZoned (G : fp_G) (ad : Nat → Nat) (sc : Nat → Int) (ar : Nat → Nat → Int) (S : PS) (hA0 : fp_MA G ad) (hV : fp_VR S (ar 5)) (kd : Nat) (l : Nat) (wd : Nat) (hlw : l + wd ≤ 12) (hkd : kd < 3) : fp_M G yX4_isZoned cX4_isZoned 5 (some .boolean) 1 12 0 0 [.ref (ad 0), .int (iI ((kd : Nat) : Int)), .int (iI ((l : Nat) : Int)), .int (iI ((wd : Nat) : Int))] (fp_ME G ad sc ar) fp_no (fun H v H' => v = some (.int (iI (bI (fp_zoned S kd l wd)))) ∧ H = H') := by
  refine fp_M.intro (by decide) (Nat.le_of_ble_eq_true rfl) ?_
  intro pg en s mi ag bl mt cd rR qQ ls X hx hb hr hlk hnm hR hQ hB hM hl
  have hS : va_S (fA fp_no s.heap.size) s.heap s.heap [] := va_S.rf
  generalize ([] : List Loc) = locs at hS ⊢
  refine lv_iload_n hx hb dX4_isZoned_0 rfl (lv_at hl 2 rfl) ?_
  refine lv_istore (lv' := [(4, .int (iI ((l : Nat) : Int))), (0, .ref (ad 0)), (1, .int (iI ((kd : Nat) : Int))), (2, .int (iI ((l : Nat) : Int))), (3, .int (iI ((wd : Nat) : Int)))]) hx hb dX4_isZoned_1 hl (by decide) rfl (fun ls hl => ?_)
  have L3 : ∀ (i : Nat), i ≤ wd → ∀ (locs : List Loc) (ls : Array Slot),(∀ j, j < i → fp_zbad S kd (l + j) = false) → lv_has ls 5 [(0, .ref (ad 0)), (1, .int (iI ((kd : Nat) : Int))), (2, .int (iI ((l : Nat) : Int))), (3, .int (iI ((wd : Nat) : Int))), (4, .int (iI ((l + i : Nat) : Int)))] → va_S (fA fp_no s.heap.size) s.heap s.heap locs → W pg (g_l G) en rR s mi ag bl mt cd s.heap locs 0 0 qQ (F0 mi 3 ls []) := by
    refine lp_up wd ?_
    intro i hk3 ih3 locs ls hz hl hS
    refine lv_iload hx hb dX4_isZoned_3 (lv_at hl 4 rfl) ?_
    refine lv_iload_n hx hb dX4_isZoned_5 rfl (lv_at hl 2 rfl) ?_
    refine lv_iload_n hx hb dX4_isZoned_6 rfl (lv_at hl 3 rfl) ?_
    refine r_iaddN hx hb dX4_isZoned_7 ?_
    refine r_icmp_ge (tgt := 50) hx hb ⟨by omega, by omega⟩ ⟨by omega, by omega⟩ dX4_isZoned_8 (by decide) (fun c8 => ?_) (fun c8 => ?_)
    · skip
      refine lv_iconst (v := (iI ((1 : Nat) : Int))) hx hb dX4_isZoned_50 rfl ?_
      refine r_zret hx hb hr hlk hQ hS (Nat.le_of_ble_eq_true rfl) (Nat.le_of_ble_eq_true rfl) dX4_isZoned_51 rfl ?_
      exact ⟨congrArg (fun q : Bool => some (Value.int (iI (bI q)))) (Eq.symm (fp_zoned_t (fun j hj => hz j (by omega)))), rfl⟩
    · skip
      have hzz := hV.1.2.2.2.1 (l + i) (by omega)
      refine lv_aload_n hx hb dX4_isZoned_11 rfl (lv_at hl 0 rfl) ?_
      refine r_get X hM.1 rfl in_X4 5 (by decide) q2014 (Or.inl rfl) (v := .ref (ad 5)) rfl dX4_isZoned_12 ?_
      refine lv_iconst (v := (iI ((2 : Nat) : Int))) hx hb dX4_isZoned_15 rfl ?_
      refine lv_iload hx hb dX4_isZoned_16 (lv_at hl 4 rfl) ?_
      refine r_iaddN hx hb dX4_isZoned_18 ?_
      refine r_ialdI X (hM.2 5 (by decide) (by decide)) (j := 2 + (l + i)) (n := 170) rfl (by omega) (by decide) dX4_isZoned_19 ?_
      refine r_set (y := .int (iI ((sZ S (l + i) : Nat) : Int))) (congrArg (fun q : Int => Value.int (iI q)) (hV.2.2.2.1 (l + i) (by omega))) ?_
      refine lv_iconst (v := (iI ((2 : Nat) : Int))) hx hb dX4_isZoned_20 rfl ?_
      refine r_icmp_eq (tgt := 42) hx hb ⟨by omega, by omega⟩ (by decide) dX4_isZoned_21 (by decide) (fun c21 => ?_) (fun c21 => ?_)
      · skip
        refine lv_iconst (v := (iI ((0 : Nat) : Int))) hx hb dX4_isZoned_42 rfl ?_
        refine r_zret hx hb hr hlk hQ hS (Nat.le_of_ble_eq_true rfl) (Nat.le_of_ble_eq_true rfl) dX4_isZoned_43 rfl ?_
        exact ⟨congrArg (fun q : Bool => some (Value.int (iI (bI q)))) (Eq.symm (fp_zoned_f (i := i) (by omega) (decide_eq_true (by omega)))), rfl⟩
      · skip
        refine lv_aload_n hx hb dX4_isZoned_24 rfl (lv_at hl 0 rfl) ?_
        refine r_get X hM.1 rfl in_X4 5 (by decide) q2014 (Or.inl rfl) (v := .ref (ad 5)) rfl dX4_isZoned_25 ?_
        refine lv_iconst (v := (iI ((2 : Nat) : Int))) hx hb dX4_isZoned_28 rfl ?_
        refine lv_iload hx hb dX4_isZoned_29 (lv_at hl 4 rfl) ?_
        refine r_iaddN hx hb dX4_isZoned_31 ?_
        refine r_ialdI X (hM.2 5 (by decide) (by decide)) (j := 2 + (l + i)) (n := 170) rfl (by omega) (by decide) dX4_isZoned_32 ?_
        refine r_set (y := .int (iI ((sZ S (l + i) : Nat) : Int))) (congrArg (fun q : Int => Value.int (iI q)) (hV.2.2.2.1 (l + i) (by omega))) ?_
        refine lv_iconst (v := (iI ((1 : Nat) : Int))) hx hb dX4_isZoned_33 rfl ?_
        refine r_icmp_ne (tgt := 44) hx hb ⟨by omega, by omega⟩ (by decide) dX4_isZoned_34 (by decide) (fun c34 => ?_) (fun c34 => ?_)
        · skip
          refine lv_iinc (v := (iI (((l + i) + 1 : Nat) : Int))) (lv' := [(4, .int (iI (((l + i) + 1 : Nat) : Int))), (0, .ref (ad 0)), (1, .int (iI ((kd : Nat) : Int))), (2, .int (iI ((l : Nat) : Int))), (3, .int (iI ((wd : Nat) : Int)))]) hx hb dX4_isZoned_44 hl (k := 4) rfl (iI_incN _ _) (by decide) rfl (fun ls hl => ?_)
          refine lv_goto (tgt := 3) hx hb dX4_isZoned_47 (by decide) ?_
          exact ih3 (by omega) locs ls (lt_s hz (decide_eq_false (by omega))) (lv_sub hl [1, 2, 3, 4, 0] rfl) hS
        · skip
          refine lv_iload_n hx hb dX4_isZoned_37 rfl (lv_at hl 1 rfl) ?_
          refine lv_iconst (v := (iI ((1 : Nat) : Int))) hx hb dX4_isZoned_38 rfl ?_
          refine r_icmp_ne (tgt := 44) hx hb ⟨by omega, by omega⟩ (by decide) dX4_isZoned_39 (by decide) (fun c39 => ?_) (fun c39 => ?_)
          · skip
            refine lv_iinc (v := (iI (((l + i) + 1 : Nat) : Int))) (lv' := [(4, .int (iI (((l + i) + 1 : Nat) : Int))), (0, .ref (ad 0)), (1, .int (iI ((kd : Nat) : Int))), (2, .int (iI ((l : Nat) : Int))), (3, .int (iI ((wd : Nat) : Int)))]) hx hb dX4_isZoned_44 hl (k := 4) rfl (iI_incN _ _) (by decide) rfl (fun ls hl => ?_)
            refine lv_goto (tgt := 3) hx hb dX4_isZoned_47 (by decide) ?_
            exact ih3 (by omega) locs ls (lt_s hz (decide_eq_false (by omega))) (lv_sub hl [1, 2, 3, 4, 0] rfl) hS
          · skip
            refine lv_iconst (v := (iI ((0 : Nat) : Int))) hx hb dX4_isZoned_42 rfl ?_
            refine r_zret hx hb hr hlk hQ hS (Nat.le_of_ble_eq_true rfl) (Nat.le_of_ble_eq_true rfl) dX4_isZoned_43 rfl ?_
            exact ⟨congrArg (fun q : Bool => some (Value.int (iI (bI q)))) (Eq.symm (fp_zoned_f (i := i) (by omega) (decide_eq_true (by omega)))), rfl⟩
  exact L3 0 (by omega) locs ls lt_0 (lv_sub hl [1, 2, 3, 4, 0] rfl) hS
set_option maxHeartbeats 4000000 in
theorem c_X4_isUnder (G : fp_G) (ad : Nat → Nat) (sc : Nat → Int) (ar : Nat → Nat → Int) (S : PS) (hA0 : fp_MA G ad) (hV : fp_VR S (ar 5)) (k : Nat) (hk : k < sN S) : fp_M G yX4_isUnder cX4_isUnder 3 (some .boolean) 4 78 0 0 [.ref (ad 0), .int (iI ((k : Nat) : Int))] (fp_ME G ad sc ar) fp_no (fun H v H' => v = some (.int (iI (bI (fp_und S k)))) ∧ H = H') := by
  refine fp_M.intro (by decide) (Nat.le_of_ble_eq_true rfl) ?_
  intro pg en s mi ag bl mt cd rR qQ ls X hx hb hr hlk hnm hR hQ hB hM hl
  have hS : va_S (fA fp_no s.heap.size) s.heap s.heap [] := va_S.rf
  generalize ([] : List Loc) = locs at hS ⊢
  have hN24 := hV.1.1
  refine lv_iconst (v := (iI ((0 : Nat) : Int))) hx hb dX4_isUnder_0 rfl ?_
  refine lv_istore_n (lv' := [(2, .int (iI ((0 : Nat) : Int))), (0, .ref (ad 0)), (1, .int (iI ((k : Nat) : Int)))]) hx hb dX4_isUnder_1 rfl hl (by decide) rfl (fun ls hl => ?_)
  have L2 : ∀ (o : Nat), o ≤ sN S → ∀ (locs : List Loc) (ls : Array Slot),(∀ j, j < o → fp_sup (sB S k) (sB S j) = false) → lv_has ls 3 [(0, .ref (ad 0)), (1, .int (iI ((k : Nat) : Int))), (2, .int (iI ((o : Nat) : Int)))] → va_S (fA fp_no s.heap.size) s.heap s.heap locs → W pg (g_l G) en rR s mi ag bl mt cd s.heap locs 0 0 qQ (F0 mi 2 ls []) := by
    refine lp_up (sN S) ?_
    intro o hk2 ih2 locs ls hz hl hS
    refine lv_iload_n hx hb dX4_isUnder_2 rfl (lv_at hl 2 rfl) ?_
    refine lv_aload_n hx hb dX4_isUnder_3 rfl (lv_at hl 0 rfl) ?_
    refine r_get X hM.1 rfl in_X4 5 (by decide) q2014 (Or.inl rfl) (v := .ref (ad 5)) rfl dX4_isUnder_4 ?_
    refine lv_iconst (v := (iI ((0 : Nat) : Int))) hx hb dX4_isUnder_7 rfl ?_
    refine r_ialdI X (hM.2 5 (by decide) (by decide)) (j := 0) (n := 170) rfl (by decide) (by decide) dX4_isUnder_8 ?_
    refine r_set (y := .int (iI ((sN S : Nat) : Int))) (congrArg (fun q : Int => Value.int (iI q)) (hV.2.1)) ?_
    refine r_icmp_ge (tgt := 29) hx hb ⟨by omega, by omega⟩ ⟨by omega, by omega⟩ dX4_isUnder_9 (by decide) (fun c9 => ?_) (fun c9 => ?_)
    · skip
      refine lv_iconst (v := (iI ((0 : Nat) : Int))) hx hb dX4_isUnder_29 rfl ?_
      refine r_zret hx hb hr hlk hQ hS (Nat.le_of_ble_eq_true rfl) (Nat.le_of_ble_eq_true rfl) dX4_isUnder_30 rfl ?_
      exact ⟨congrArg (fun q : Bool => some (Value.int (iI (bI q)))) (Eq.symm (fp_any_f (fun j hj => hz j (by omega)))), rfl⟩
    · skip
      refine lv_aload_n hx hb dX4_isUnder_12 rfl (lv_at hl 0 rfl) ?_
      refine lv_iload_n hx hb dX4_isUnder_13 rfl (lv_at hl 1 rfl) ?_
      refine lv_iload_n hx hb dX4_isUnder_14 rfl (lv_at hl 2 rfl) ?_
      refine r_callV (cells1 := 0) (slots1 := 0) X hR (c_X4_supports G ad sc ar S hA0 hV k o (by omega) (by omega)) q2147 q2149 qs57 q100 q2150 ⟨rfl, pd_X4_supports⟩ (by decide) rfl rfl (by decide) (by decide) hM.1 rfl rfl (Nat.le_of_ble_eq_true rfl) hl.1 dX4_isUnder_15 (hB.of hS fp_no.base) hM hS (fun _ h => h.elim) (fun v H1 locs hp_1 hzC hkC hS => ?_)
      obtain ⟨rfl, rfl⟩ := hp_1
      refine r_stk (st2 := [.int (iI (bI (fp_sup (sB S k) (sB S o))))]) rfl ?_
      refine r_ifeqB (tgt := 23) hx hb dX4_isUnder_18 (by decide) (fun c18 => ?_) (fun c18 => ?_)
      · skip
        refine lv_iinc (v := (iI ((o + 1 : Nat) : Int))) (lv' := [(2, .int (iI ((o + 1 : Nat) : Int))), (0, .ref (ad 0)), (1, .int (iI ((k : Nat) : Int)))]) hx hb dX4_isUnder_23 hl (k := 2) rfl (iI_incN _ _) (by decide) rfl (fun ls hl => ?_)
        refine lv_goto (tgt := 2) hx hb dX4_isUnder_26 (by decide) ?_
        exact ih2 (by omega) locs ls (lt_s hz c18) (lv_sub hl [1, 2, 0] rfl) hS
      · skip
        refine lv_iconst (v := (iI ((1 : Nat) : Int))) hx hb dX4_isUnder_21 rfl ?_
        refine r_zret hx hb hr hlk hQ hS (Nat.le_of_ble_eq_true rfl) (Nat.le_of_ble_eq_true rfl) dX4_isUnder_22 rfl ?_
        exact ⟨congrArg (fun q : Bool => some (Value.int (iI (bI q)))) (Eq.symm (fp_any_t (k := o) (by omega) c18)), rfl⟩
  exact L2 0 (by omega) locs ls lt_0 (lv_sub hl [1, 2, 0] rfl) hS
set_option maxHeartbeats 4000000 in
theorem c_X4_torches (G : fp_G) (ad : Nat → Nat) (sc : Nat → Int) (ar : Nat → Nat → Int) (S : PS) (hA0 : fp_MA G ad) (hV : fp_VR S (ar 5)) : fp_M G yX4_torches cX4_torches 3 (some .int) 1 12 0 0 [.ref (ad 0)] (fp_ME G ad sc ar) fp_no (fun H v H' => v = some (.int (iI ((fp_tor S : Nat) : Int))) ∧ H = H') := by
  refine fp_M.intro (by decide) (Nat.le_of_ble_eq_true rfl) ?_
  intro pg en s mi ag bl mt cd rR qQ ls X hx hb hr hlk hnm hR hQ hB hM hl
  have hS : va_S (fA fp_no s.heap.size) s.heap s.heap [] := va_S.rf
  generalize ([] : List Loc) = locs at hS ⊢
  refine lv_iconst (v := (iI ((0 : Nat) : Int))) hx hb dX4_torches_0 rfl ?_
  refine lv_istore_n (lv' := [(1, .int (iI ((0 : Nat) : Int))), (0, .ref (ad 0))]) hx hb dX4_torches_1 rfl hl (by decide) rfl (fun ls hl => ?_)
  refine lv_iconst (v := (iI ((0 : Nat) : Int))) hx hb dX4_torches_2 rfl ?_
  refine lv_istore_n (lv' := [(2, .int (iI ((0 : Nat) : Int))), (1, .int (iI ((0 : Nat) : Int))), (0, .ref (ad 0))]) hx hb dX4_torches_3 rfl hl (by decide) rfl (fun ls hl => ?_)
  have L4 : ∀ (q : Nat), q ≤ 12 → ∀ (locs : List Loc) (ls : Array Slot), lv_has ls 3 [(0, .ref (ad 0)), (1, .int (iI ((fp_sm (sT S) q : Nat) : Int))), (2, .int (iI ((q : Nat) : Int)))] → va_S (fA fp_no s.heap.size) s.heap s.heap locs → W pg (g_l G) en rR s mi ag bl mt cd s.heap locs 0 0 qQ (F0 mi 4 ls []) := by
    refine lp_up 12 ?_
    intro q hk4 ih4 locs ls hl hS
    refine lv_iload_n hx hb dX4_torches_4 rfl (lv_at hl 2 rfl) ?_
    refine lv_bipush (v := (iI ((12 : Nat) : Int))) hx hb dX4_torches_5 rfl ?_
    refine r_icmp_ge (tgt := 28) hx hb ⟨by omega, by omega⟩ (by decide) dX4_torches_7 (by decide) (fun c7 => ?_) (fun c7 => ?_)
    · skip
      refine lv_iload_n hx hb dX4_torches_28 rfl (lv_at hl 1 rfl) ?_
      refine r_iret hx hb hr hlk hQ hS (Nat.le_of_ble_eq_true rfl) (Nat.le_of_ble_eq_true rfl) dX4_torches_29 ?_
      exact ⟨congrArg (fun q : Nat => some (Value.int (iI (q : Int)))) (by rw [show q = 12 by omega]; rfl), rfl⟩
    · skip
      refine lv_iload_n hx hb dX4_torches_10 rfl (lv_at hl 1 rfl) ?_
      refine lv_aload_n hx hb dX4_torches_11 rfl (lv_at hl 0 rfl) ?_
      refine r_get X hM.1 rfl in_X4 5 (by decide) q2014 (Or.inl rfl) (v := .ref (ad 5)) rfl dX4_torches_12 ?_
      refine lv_bipush (v := (iI ((14 : Nat) : Int))) hx hb dX4_torches_15 rfl ?_
      refine lv_iload_n hx hb dX4_torches_17 rfl (lv_at hl 2 rfl) ?_
      refine r_iaddN hx hb dX4_torches_18 ?_
      refine r_ialdI X (hM.2 5 (by decide) (by decide)) (j := 14 + q) (n := 170) rfl (by omega) (by decide) dX4_torches_19 ?_
      refine r_set (y := .int (iI ((sT S q : Nat) : Int))) (congrArg (fun q : Int => Value.int (iI q)) (hV.2.2.2.2.1 q (by omega))) ?_
      refine r_iaddN hx hb dX4_torches_20 ?_
      refine lv_istore_n (lv' := [(1, .int (iI (((fp_sm (sT S) q) + (sT S q) : Nat) : Int))), (0, .ref (ad 0)), (2, .int (iI ((q : Nat) : Int)))]) hx hb dX4_torches_21 rfl hl (by decide) rfl (fun ls hl => ?_)
      refine lv_iinc (v := (iI ((q + 1 : Nat) : Int))) (lv' := [(2, .int (iI ((q + 1 : Nat) : Int))), (1, .int (iI (((fp_sm (sT S) q) + (sT S q) : Nat) : Int))), (0, .ref (ad 0))]) hx hb dX4_torches_22 hl (k := 2) rfl (iI_incN _ _) (by decide) rfl (fun ls hl => ?_)
      refine lv_goto (tgt := 4) hx hb dX4_torches_25 (by decide) ?_
      exact ih4 (by omega) locs ls (by rw [show Value.int (iI ((fp_sm (sT S) (q + 1) : Nat) : Int)) = Value.int (iI (((fp_sm (sT S) q) + (sT S q) : Nat) : Int)) from congrArg (fun q : Nat => Value.int (iI (q : Int))) (rfl)]; exact lv_sub hl [2, 1, 0] rfl) hS
  exact L4 0 (by omega) locs ls (lv_sub hl [2, 1, 0] rfl) hS
set_option maxHeartbeats 4000000 in
theorem c_X4_zoneBy (G : fp_G) (z : Int) (hz : rg z) : fp_M G yX4_zoneBy cX4_zoneBy 1 (some .int) 1 12 0 0 [.int (iI (z))] (fun _ => True) fp_no (fun H v H' => v = some (.int (iI (fp_zby z))) ∧ H = H') := by
  refine fp_M.intro (by decide) (Nat.le_of_ble_eq_true rfl) ?_
  intro pg en s mi ag bl mt cd rR qQ ls X hx hb hr hlk hnm hR hQ hB hM hl
  have hS : va_S (fA fp_no s.heap.size) s.heap s.heap [] := va_S.rf
  generalize ([] : List Loc) = locs at hS ⊢
  refine lv_iload_n hx hb dX4_zoneBy_0 rfl (lv_at hl 0 rfl) ?_
  refine lv_bipush (v := (iI ((111 : Nat) : Int))) hx hb dX4_zoneBy_1 rfl ?_
  refine r_icmp_ne (tgt := 10) hx hb ⟨by omega, by omega⟩ (by decide) dX4_zoneBy_3 (by decide) (fun c3 => ?_) (fun c3 => ?_)
  · skip
    refine lv_iload_n hx hb dX4_zoneBy_10 rfl (lv_at hl 0 rfl) ?_
    refine lv_bipush (v := (iI ((113 : Nat) : Int))) hx hb dX4_zoneBy_11 rfl ?_
    refine r_icmp_ne (tgt := 20) hx hb ⟨by omega, by omega⟩ (by decide) dX4_zoneBy_13 (by decide) (fun c13 => ?_) (fun c13 => ?_)
    · skip
      refine lv_iload_n hx hb dX4_zoneBy_20 rfl (lv_at hl 0 rfl) ?_
      refine lv_bipush (v := (iI ((99 : Nat) : Int))) hx hb dX4_zoneBy_21 rfl ?_
      refine r_icmp_ne (tgt := 30) hx hb ⟨by omega, by omega⟩ (by decide) dX4_zoneBy_23 (by decide) (fun c23 => ?_) (fun c23 => ?_)
      · skip
        refine lv_iconst (v := (iI (-1))) hx hb dX4_zoneBy_30 rfl ?_
        refine r_iret hx hb hr hlk hQ hS (Nat.le_of_ble_eq_true rfl) (Nat.le_of_ble_eq_true rfl) dX4_zoneBy_31 ?_
        exact ⟨congrArg (fun q : Int => some (Value.int (iI q))) (show (-1) = fp_zby z by unfold fp_zby; split <;> (try split) <;> (try split) <;> omega), rfl⟩
      · skip
        refine lv_iconst (v := (iI ((2 : Nat) : Int))) hx hb dX4_zoneBy_26 rfl ?_
        refine lv_goto (tgt := 31) hx hb dX4_zoneBy_27 (by decide) ?_
        refine r_iret hx hb hr hlk hQ hS (Nat.le_of_ble_eq_true rfl) (Nat.le_of_ble_eq_true rfl) dX4_zoneBy_31 ?_
        exact ⟨congrArg (fun q : Int => some (Value.int (iI q))) (show ((2 : Nat) : Int) = fp_zby z by unfold fp_zby; split <;> (try split) <;> (try split) <;> omega), rfl⟩
    · skip
      refine lv_iconst (v := (iI ((1 : Nat) : Int))) hx hb dX4_zoneBy_16 rfl ?_
      refine lv_goto (tgt := 31) hx hb dX4_zoneBy_17 (by decide) ?_
      refine r_iret hx hb hr hlk hQ hS (Nat.le_of_ble_eq_true rfl) (Nat.le_of_ble_eq_true rfl) dX4_zoneBy_31 ?_
      exact ⟨congrArg (fun q : Int => some (Value.int (iI q))) (show ((1 : Nat) : Int) = fp_zby z by unfold fp_zby; split <;> (try split) <;> (try split) <;> omega), rfl⟩
  · skip
    refine lv_iconst (v := (iI ((0 : Nat) : Int))) hx hb dX4_zoneBy_6 rfl ?_
    refine lv_goto (tgt := 31) hx hb dX4_zoneBy_7 (by decide) ?_
    refine r_iret hx hb hr hlk hQ hS (Nat.le_of_ble_eq_true rfl) (Nat.le_of_ble_eq_true rfl) dX4_zoneBy_31 ?_
    exact ⟨congrArg (fun q : Int => some (Value.int (iI q))) (show ((0 : Nat) : Int) = fp_zby z by unfold fp_zby; split <;> (try split) <;> (try split) <;> omega), rfl⟩
set_option maxHeartbeats 4000000 in
theorem c_X4_letterOf (G : fp_G) (z : Nat) (hz : z < 3) : fp_M G yX4_letterOf cX4_letterOf 1 (some .int) 1 12 0 0 [.int (iI ((z : Nat) : Int))] (fun _ => True) fp_no (fun H v H' => v = some (.int (iI ((fp_zlet z : Nat) : Int))) ∧ H = H') := by
  refine fp_M.intro (by decide) (Nat.le_of_ble_eq_true rfl) ?_
  intro pg en s mi ag bl mt cd rR qQ ls X hx hb hr hlk hnm hR hQ hB hM hl
  have hS : va_S (fA fp_no s.heap.size) s.heap s.heap [] := va_S.rf
  generalize ([] : List Loc) = locs at hS ⊢
  refine lv_iload_n hx hb dX4_letterOf_0 rfl (lv_at hl 0 rfl) ?_
  refine r_if_ne (tgt := 9) hx hb ⟨by omega, by omega⟩ dX4_letterOf_1 (by decide) (fun c1 => ?_) (fun c1 => ?_)
  · skip
    refine lv_iload_n hx hb dX4_letterOf_9 rfl (lv_at hl 0 rfl) ?_
    refine lv_iconst (v := (iI ((1 : Nat) : Int))) hx hb dX4_letterOf_10 rfl ?_
    refine r_icmp_ne (tgt := 19) hx hb ⟨by omega, by omega⟩ (by decide) dX4_letterOf_11 (by decide) (fun c11 => ?_) (fun c11 => ?_)
    · skip
      refine lv_bipush (v := (iI ((99 : Nat) : Int))) hx hb dX4_letterOf_19 rfl ?_
      refine r_iret hx hb hr hlk hQ hS (Nat.le_of_ble_eq_true rfl) (Nat.le_of_ble_eq_true rfl) dX4_letterOf_21 ?_
      exact ⟨congrArg (fun q : Nat => some (Value.int (iI (q : Int)))) (by unfold fp_zlet; split <;> (try split) <;> omega), rfl⟩
    · skip
      refine lv_bipush (v := (iI ((113 : Nat) : Int))) hx hb dX4_letterOf_14 rfl ?_
      refine lv_goto (tgt := 21) hx hb dX4_letterOf_16 (by decide) ?_
      refine r_iret hx hb hr hlk hQ hS (Nat.le_of_ble_eq_true rfl) (Nat.le_of_ble_eq_true rfl) dX4_letterOf_21 ?_
      exact ⟨congrArg (fun q : Nat => some (Value.int (iI (q : Int)))) (by unfold fp_zlet; split <;> (try split) <;> omega), rfl⟩
  · skip
    refine lv_bipush (v := (iI ((111 : Nat) : Int))) hx hb dX4_letterOf_4 rfl ?_
    refine lv_goto (tgt := 21) hx hb dX4_letterOf_6 (by decide) ?_
    refine r_iret hx hb hr hlk hQ hS (Nat.le_of_ble_eq_true rfl) (Nat.le_of_ble_eq_true rfl) dX4_letterOf_21 ?_
    exact ⟨congrArg (fun q : Nat => some (Value.int (iI (q : Int)))) (by unfold fp_zlet; split <;> (try split) <;> omega), rfl⟩
set_option maxHeartbeats 4000000 in
theorem c_X4_reaches (G : fp_G) (ad : Nat → Nat) (sc : Nat → Int) (ar : Nat → Nat → Int) (S : PS) (hA0 : fp_MA G ad) (hV : fp_VR S (ar 5)) (t : Nat) (c : Nat) (ht : t < 12) (hc : c < 12) : fp_M G yX4_reaches cX4_reaches 7 (some .boolean) 4 79 0 0 [.ref (ad 0), .int (iI ((t : Nat) : Int)), .int (iI ((c : Nat) : Int))] (fp_ME G ad sc ar) fp_no (fun H v H' => v = some (.int (iI (bI (fp_rch S t c)))) ∧ H = H') := by
  refine fp_M.intro (by decide) (Nat.le_of_ble_eq_true rfl) ?_
  intro pg en s mi ag bl mt cd rR qQ ls X hx hb hr hlk hnm hR hQ hB hM hl
  have hS : va_S (fA fp_no s.heap.size) s.heap s.heap [] := va_S.rf
  generalize ([] : List Loc) = locs at hS ⊢
  have htt := hV.1.2.2.2.2 t ht
  refine lv_iload_n hx hb dX4_reaches_0 rfl (lv_at hl 1 rfl) ?_
  refine lv_iload_n hx hb dX4_reaches_1 rfl (lv_at hl 2 rfl) ?_
  refine r_icmp_ge (tgt := 9) hx hb ⟨by omega, by omega⟩ ⟨by omega, by omega⟩ dX4_reaches_2 (by decide) (fun c2 => ?_) (fun c2 => ?_)
  · skip
    have hmx : min t c = c ∧ max t c = t := ⟨by omega, by omega⟩
    refine lv_iload_n hx hb dX4_reaches_9 rfl (lv_at hl 2 rfl) ?_
    refine lv_istore_n (lv' := [(3, .int (iI ((c : Nat) : Int))), (0, .ref (ad 0)), (1, .int (iI ((t : Nat) : Int))), (2, .int (iI ((c : Nat) : Int)))]) hx hb dX4_reaches_10 rfl hl (by decide) rfl (fun ls hl => ?_)
    refine lv_iload_n hx hb dX4_reaches_11 rfl (lv_at hl 2 rfl) ?_
    refine lv_iload_n hx hb dX4_reaches_12 rfl (lv_at hl 3 rfl) ?_
    refine r_iaddN hx hb dX4_reaches_13 ?_
    refine lv_iconst (v := (iI ((2 : Nat) : Int))) hx hb dX4_reaches_14 rfl ?_
    refine lv_iload_n hx hb dX4_reaches_15 rfl (lv_at hl 0 rfl) ?_
    refine r_imulN hx hb dX4_reaches_16 ?_
    refine r_isub hx hb dX4_reaches_17 ?_
    refine lv_istore (lv' := [(4, .int (iI (((t + c : Nat) : Int) - ((2 * c : Nat) : Int)))), (3, .int (iI ((c : Nat) : Int))), (0, .ref (ad 0)), (1, .int (iI ((t : Nat) : Int))), (2, .int (iI ((c : Nat) : Int)))]) hx hb dX4_reaches_18 hl (by decide) rfl (fun ls hl => ?_)
    refine lv_aload_n hx hb dX4_reaches_20 rfl (lv_at hl 2 rfl) ?_
    refine lv_iload_n hx hb dX4_reaches_21 rfl (lv_at hl 3 rfl) ?_
    refine r_callV (cells1 := 0) (slots1 := 0) X hR (c_X4_high G ad sc ar S hA0 hV t (by omega)) q2115 q2117 qs49 q100 q2118 ⟨rfl, pd_X4_high⟩ (by decide) rfl rfl (by decide) (by decide) hM.1 rfl rfl (Nat.le_of_ble_eq_true rfl) hl.1 dX4_reaches_22 (hB.of hS fp_no.base) hM hS (fun _ h => h.elim) (fun v H1 locs hp_1 hzC hkC hS => ?_)
    obtain ⟨rfl, rfl⟩ := hp_1
    refine r_stk (st2 := [.int (iI ((fp_hi S t : Nat) : Int))]) rfl ?_
    have hh25 := fp_hi_le hV.1 t
    refine lv_iconst (v := (iI ((2 : Nat) : Int))) hx hb dX4_reaches_25 rfl ?_
    refine r_iaddN hx hb dX4_reaches_26 ?_
    refine lv_istore (lv' := [(5, .int (iI (((fp_hi S t) + 2 : Nat) : Int))), (4, .int (iI (((t + c : Nat) : Int) - ((2 * c : Nat) : Int)))), (3, .int (iI ((c : Nat) : Int))), (0, .ref (ad 0)), (1, .int (iI ((t : Nat) : Int))), (2, .int (iI ((c : Nat) : Int)))]) hx hb dX4_reaches_27 hl (by decide) rfl (fun ls hl => ?_)
    refine lv_aload_n hx hb dX4_reaches_29 rfl (lv_at hl 3 rfl) ?_
    refine r_get X hM.1 rfl in_X4 5 (by decide) q2014 (Or.inl rfl) (v := .ref (ad 5)) rfl dX4_reaches_30 ?_
    refine lv_bipush (v := (iI ((14 : Nat) : Int))) hx hb dX4_reaches_33 rfl ?_
    refine lv_iload_n hx hb dX4_reaches_35 rfl (lv_at hl 4 rfl) ?_
    refine r_iaddN hx hb dX4_reaches_36 ?_
    refine r_ialdI X (hM.2 5 (by decide) (by decide)) (j := 14 + t) (n := 170) rfl (by omega) (by decide) dX4_reaches_37 ?_
    refine r_set (y := .int (iI ((sT S t : Nat) : Int))) (congrArg (fun q : Int => Value.int (iI q)) (hV.2.2.2.2.1 t ht)) ?_
    refine r_if_eq (tgt := 47) hx hb ⟨by omega, by omega⟩ dX4_reaches_38 (by decide) (fun c38 => ?_) (fun c38 => ?_)
    · skip
      refine lv_iconst (v := (iI ((0 : Nat) : Int))) hx hb dX4_reaches_47 rfl ?_
      refine r_zret hx hb hr hlk hQ hS (Nat.le_of_ble_eq_true rfl) (Nat.le_of_ble_eq_true rfl) dX4_reaches_48 rfl ?_
      exact ⟨congrArg (fun q : Bool => some (Value.int (iI (bI q)))) (Eq.symm (fp_rch_f1 (by omega))), rfl⟩
    · skip
      refine lv_iload hx hb dX4_reaches_41 (lv_at hl 1 rfl) ?_
      refine lv_iconst (v := (iI ((4 : Nat) : Int))) hx hb dX4_reaches_43 rfl ?_
      refine r_icmp_le (tgt := 49) hx hb ⟨by omega, by omega⟩ (by decide) dX4_reaches_44 (by decide) (fun c44 => ?_) (fun c44 => ?_)
      · skip
        refine lv_iload_n hx hb dX4_reaches_49 rfl (lv_at hl 2 rfl) ?_
        refine lv_iconst (v := (iI ((1 : Nat) : Int))) hx hb dX4_reaches_50 rfl ?_
        refine r_iaddN hx hb dX4_reaches_51 ?_
        refine lv_istore (lv' := [(6, .int (iI ((c + 1 : Nat) : Int))), (5, .int (iI (((fp_hi S t) + 2 : Nat) : Int))), (4, .int (iI (((t + c : Nat) : Int) - ((2 * c : Nat) : Int)))), (3, .int (iI ((c : Nat) : Int))), (0, .ref (ad 0)), (1, .int (iI ((t : Nat) : Int))), (2, .int (iI ((c : Nat) : Int)))]) hx hb dX4_reaches_52 hl (by decide) rfl (fun ls hl => ?_)
        have L54 : ∀ (i : Nat), i ≤ max t c - min t c - 1 → ∀ (locs : List Loc) (ls : Array Slot),(∀ j, j < i → ¬ (fp_hi S t + 2 < fp_hi S (min t c + 1 + j))) → lv_has ls 7 [(0, .ref (ad 0)), (1, .int (iI ((t : Nat) : Int))), (2, .int (iI ((c : Nat) : Int))), (3, .int (iI ((c : Nat) : Int))), (4, .int (iI (((t + c : Nat) : Int) - ((2 * c : Nat) : Int)))), (5, .int (iI (((fp_hi S t) + 2 : Nat) : Int))), (6, .int (iI ((c + 1 + i : Nat) : Int)))] → va_S (fA fp_no s.heap.size) s.heap s.heap locs → W pg (g_l G) en rR s mi ag bl mt cd s.heap locs 0 0 qQ (F0 mi 54 ls []) := by
          refine lp_up (max t c - min t c - 1) ?_
          intro i hk54 ih54 locs ls hz hl hS
          refine lv_iload hx hb dX4_reaches_54 (lv_at hl 6 rfl) ?_
          refine lv_iload_n hx hb dX4_reaches_56 rfl (lv_at hl 3 rfl) ?_
          refine lv_iload hx hb dX4_reaches_57 (lv_at hl 4 rfl) ?_
          refine r_iadd hx hb dX4_reaches_59 ?_
          refine r_icmp_ge (tgt := 82) hx hb ⟨by omega, by omega⟩ ⟨by omega, by omega⟩ dX4_reaches_60 (by decide) (fun c60 => ?_) (fun c60 => ?_)
          · skip
            refine lv_iconst (v := (iI ((1 : Nat) : Int))) hx hb dX4_reaches_82 rfl ?_
            refine r_zret hx hb hr hlk hQ hS (Nat.le_of_ble_eq_true rfl) (Nat.le_of_ble_eq_true rfl) dX4_reaches_83 rfl ?_
            exact ⟨congrArg (fun q : Bool => some (Value.int (iI (bI q)))) (Eq.symm (fp_rch_t (by omega) (fun j hj => hz j (by omega)))), rfl⟩
          · skip
            refine lv_aload_n hx hb dX4_reaches_63 rfl (lv_at hl 0 rfl) ?_
            refine lv_iload hx hb dX4_reaches_64 (lv_at hl 6 rfl) ?_
            refine r_callV (cells1 := 0) (slots1 := 0) X hR (c_X4_high G ad sc ar S hA0 hV (c + 1 + i) (by omega)) q2115 q2117 qs49 q100 q2118 ⟨rfl, pd_X4_high⟩ (by decide) rfl rfl (by decide) (by decide) hM.1 rfl rfl (Nat.le_of_ble_eq_true rfl) hl.1 dX4_reaches_66 (hB.of hS fp_no.base) hM hS (fun _ h => h.elim) (fun v H1 locs hp_2 hzC hkC hS => ?_)
            obtain ⟨rfl, rfl⟩ := hp_2
            refine r_stk (st2 := [.int (iI ((fp_hi S (c + 1 + i) : Nat) : Int))]) rfl ?_
            have hh69 := fp_hi_le hV.1 (c + 1 + i)
            refine lv_iload hx hb dX4_reaches_69 (lv_at hl 5 rfl) ?_
            refine r_icmp_le (tgt := 76) hx hb ⟨by omega, by omega⟩ ⟨by omega, by omega⟩ dX4_reaches_71 (by decide) (fun c71 => ?_) (fun c71 => ?_)
            · skip
              refine lv_iinc (v := (iI (((c + 1 + i) + 1 : Nat) : Int))) (lv' := [(6, .int (iI (((c + 1 + i) + 1 : Nat) : Int))), (0, .ref (ad 0)), (1, .int (iI ((t : Nat) : Int))), (2, .int (iI ((c : Nat) : Int))), (3, .int (iI ((c : Nat) : Int))), (4, .int (iI (((t + c : Nat) : Int) - ((2 * c : Nat) : Int)))), (5, .int (iI (((fp_hi S t) + 2 : Nat) : Int)))]) hx hb dX4_reaches_76 hl (k := 6) rfl (iI_incN _ _) (by decide) rfl (fun ls hl => ?_)
              refine lv_goto (tgt := 54) hx hb dX4_reaches_79 (by decide) ?_
              exact ih54 (by omega) locs ls (lt_s hz (by rw [show min t c + 1 + i = c + 1 + i by omega]; omega)) (lv_sub hl [1, 2, 3, 4, 5, 6, 0] rfl) hS
            · skip
              refine lv_iconst (v := (iI ((0 : Nat) : Int))) hx hb dX4_reaches_74 rfl ?_
              refine r_zret hx hb hr hlk hQ hS (Nat.le_of_ble_eq_true rfl) (Nat.le_of_ble_eq_true rfl) dX4_reaches_75 rfl ?_
              exact ⟨congrArg (fun q : Bool => some (Value.int (iI (bI q)))) (Eq.symm (fp_rch_f2 (j := i) (by omega) (by rw [show min t c + 1 + i = c + 1 + i by omega]; omega))), rfl⟩
        exact L54 0 (by omega) locs ls lt_0 (lv_sub hl [4, 5, 6, 3, 2, 1, 0] rfl) hS
      · skip
        refine lv_iconst (v := (iI ((0 : Nat) : Int))) hx hb dX4_reaches_47 rfl ?_
        refine r_zret hx hb hr hlk hQ hS (Nat.le_of_ble_eq_true rfl) (Nat.le_of_ble_eq_true rfl) dX4_reaches_48 rfl ?_
        exact ⟨congrArg (fun q : Bool => some (Value.int (iI (bI q)))) (Eq.symm (fp_rch_f1 (by omega))), rfl⟩
  · skip
    have hmx : min t c = t ∧ max t c = c := ⟨by omega, by omega⟩
    refine lv_iload_n hx hb dX4_reaches_5 rfl (lv_at hl 1 rfl) ?_
    refine lv_goto (tgt := 10) hx hb dX4_reaches_6 (by decide) ?_
    refine lv_istore_n (lv' := [(3, .int (iI ((t : Nat) : Int))), (0, .ref (ad 0)), (1, .int (iI ((t : Nat) : Int))), (2, .int (iI ((c : Nat) : Int)))]) hx hb dX4_reaches_10 rfl hl (by decide) rfl (fun ls hl => ?_)
    refine lv_iload_n hx hb dX4_reaches_11 rfl (lv_at hl 2 rfl) ?_
    refine lv_iload_n hx hb dX4_reaches_12 rfl (lv_at hl 3 rfl) ?_
    refine r_iaddN hx hb dX4_reaches_13 ?_
    refine lv_iconst (v := (iI ((2 : Nat) : Int))) hx hb dX4_reaches_14 rfl ?_
    refine lv_iload_n hx hb dX4_reaches_15 rfl (lv_at hl 0 rfl) ?_
    refine r_imulN hx hb dX4_reaches_16 ?_
    refine r_isub hx hb dX4_reaches_17 ?_
    refine lv_istore (lv' := [(4, .int (iI (((t + c : Nat) : Int) - ((2 * t : Nat) : Int)))), (3, .int (iI ((t : Nat) : Int))), (0, .ref (ad 0)), (1, .int (iI ((t : Nat) : Int))), (2, .int (iI ((c : Nat) : Int)))]) hx hb dX4_reaches_18 hl (by decide) rfl (fun ls hl => ?_)
    refine lv_aload_n hx hb dX4_reaches_20 rfl (lv_at hl 2 rfl) ?_
    refine lv_iload_n hx hb dX4_reaches_21 rfl (lv_at hl 3 rfl) ?_
    refine r_callV (cells1 := 0) (slots1 := 0) X hR (c_X4_high G ad sc ar S hA0 hV t (by omega)) q2115 q2117 qs49 q100 q2118 ⟨rfl, pd_X4_high⟩ (by decide) rfl rfl (by decide) (by decide) hM.1 rfl rfl (Nat.le_of_ble_eq_true rfl) hl.1 dX4_reaches_22 (hB.of hS fp_no.base) hM hS (fun _ h => h.elim) (fun v H1 locs hp_3 hzC hkC hS => ?_)
    obtain ⟨rfl, rfl⟩ := hp_3
    refine r_stk (st2 := [.int (iI ((fp_hi S t : Nat) : Int))]) rfl ?_
    have hh25 := fp_hi_le hV.1 t
    refine lv_iconst (v := (iI ((2 : Nat) : Int))) hx hb dX4_reaches_25 rfl ?_
    refine r_iaddN hx hb dX4_reaches_26 ?_
    refine lv_istore (lv' := [(5, .int (iI (((fp_hi S t) + 2 : Nat) : Int))), (4, .int (iI (((t + c : Nat) : Int) - ((2 * t : Nat) : Int)))), (3, .int (iI ((t : Nat) : Int))), (0, .ref (ad 0)), (1, .int (iI ((t : Nat) : Int))), (2, .int (iI ((c : Nat) : Int)))]) hx hb dX4_reaches_27 hl (by decide) rfl (fun ls hl => ?_)
    refine lv_aload_n hx hb dX4_reaches_29 rfl (lv_at hl 3 rfl) ?_
    refine r_get X hM.1 rfl in_X4 5 (by decide) q2014 (Or.inl rfl) (v := .ref (ad 5)) rfl dX4_reaches_30 ?_
    refine lv_bipush (v := (iI ((14 : Nat) : Int))) hx hb dX4_reaches_33 rfl ?_
    refine lv_iload_n hx hb dX4_reaches_35 rfl (lv_at hl 4 rfl) ?_
    refine r_iaddN hx hb dX4_reaches_36 ?_
    refine r_ialdI X (hM.2 5 (by decide) (by decide)) (j := 14 + t) (n := 170) rfl (by omega) (by decide) dX4_reaches_37 ?_
    refine r_set (y := .int (iI ((sT S t : Nat) : Int))) (congrArg (fun q : Int => Value.int (iI q)) (hV.2.2.2.2.1 t ht)) ?_
    refine r_if_eq (tgt := 47) hx hb ⟨by omega, by omega⟩ dX4_reaches_38 (by decide) (fun c38 => ?_) (fun c38 => ?_)
    · skip
      refine lv_iconst (v := (iI ((0 : Nat) : Int))) hx hb dX4_reaches_47 rfl ?_
      refine r_zret hx hb hr hlk hQ hS (Nat.le_of_ble_eq_true rfl) (Nat.le_of_ble_eq_true rfl) dX4_reaches_48 rfl ?_
      exact ⟨congrArg (fun q : Bool => some (Value.int (iI (bI q)))) (Eq.symm (fp_rch_f1 (by omega))), rfl⟩
    · skip
      refine lv_iload hx hb dX4_reaches_41 (lv_at hl 1 rfl) ?_
      refine lv_iconst (v := (iI ((4 : Nat) : Int))) hx hb dX4_reaches_43 rfl ?_
      refine r_icmp_le (tgt := 49) hx hb ⟨by omega, by omega⟩ (by decide) dX4_reaches_44 (by decide) (fun c44 => ?_) (fun c44 => ?_)
      · skip
        refine lv_iload_n hx hb dX4_reaches_49 rfl (lv_at hl 2 rfl) ?_
        refine lv_iconst (v := (iI ((1 : Nat) : Int))) hx hb dX4_reaches_50 rfl ?_
        refine r_iaddN hx hb dX4_reaches_51 ?_
        refine lv_istore (lv' := [(6, .int (iI ((t + 1 : Nat) : Int))), (5, .int (iI (((fp_hi S t) + 2 : Nat) : Int))), (4, .int (iI (((t + c : Nat) : Int) - ((2 * t : Nat) : Int)))), (3, .int (iI ((t : Nat) : Int))), (0, .ref (ad 0)), (1, .int (iI ((t : Nat) : Int))), (2, .int (iI ((c : Nat) : Int)))]) hx hb dX4_reaches_52 hl (by decide) rfl (fun ls hl => ?_)
        have L54 : ∀ (i : Nat), i ≤ max t c - min t c - 1 → ∀ (locs : List Loc) (ls : Array Slot),(∀ j, j < i → ¬ (fp_hi S t + 2 < fp_hi S (min t c + 1 + j))) → lv_has ls 7 [(0, .ref (ad 0)), (1, .int (iI ((t : Nat) : Int))), (2, .int (iI ((c : Nat) : Int))), (3, .int (iI ((t : Nat) : Int))), (4, .int (iI (((t + c : Nat) : Int) - ((2 * t : Nat) : Int)))), (5, .int (iI (((fp_hi S t) + 2 : Nat) : Int))), (6, .int (iI ((t + 1 + i : Nat) : Int)))] → va_S (fA fp_no s.heap.size) s.heap s.heap locs → W pg (g_l G) en rR s mi ag bl mt cd s.heap locs 0 0 qQ (F0 mi 54 ls []) := by
          refine lp_up (max t c - min t c - 1) ?_
          intro i hk54 ih54 locs ls hz hl hS
          refine lv_iload hx hb dX4_reaches_54 (lv_at hl 6 rfl) ?_
          refine lv_iload_n hx hb dX4_reaches_56 rfl (lv_at hl 3 rfl) ?_
          refine lv_iload hx hb dX4_reaches_57 (lv_at hl 4 rfl) ?_
          refine r_iadd hx hb dX4_reaches_59 ?_
          refine r_icmp_ge (tgt := 82) hx hb ⟨by omega, by omega⟩ ⟨by omega, by omega⟩ dX4_reaches_60 (by decide) (fun c60 => ?_) (fun c60 => ?_)
          · skip
            refine lv_iconst (v := (iI ((1 : Nat) : Int))) hx hb dX4_reaches_82 rfl ?_
            refine r_zret hx hb hr hlk hQ hS (Nat.le_of_ble_eq_true rfl) (Nat.le_of_ble_eq_true rfl) dX4_reaches_83 rfl ?_
            exact ⟨congrArg (fun q : Bool => some (Value.int (iI (bI q)))) (Eq.symm (fp_rch_t (by omega) (fun j hj => hz j (by omega)))), rfl⟩
          · skip
            refine lv_aload_n hx hb dX4_reaches_63 rfl (lv_at hl 0 rfl) ?_
            refine lv_iload hx hb dX4_reaches_64 (lv_at hl 6 rfl) ?_
            refine r_callV (cells1 := 0) (slots1 := 0) X hR (c_X4_high G ad sc ar S hA0 hV (t + 1 + i) (by omega)) q2115 q2117 qs49 q100 q2118 ⟨rfl, pd_X4_high⟩ (by decide) rfl rfl (by decide) (by decide) hM.1 rfl rfl (Nat.le_of_ble_eq_true rfl) hl.1 dX4_reaches_66 (hB.of hS fp_no.base) hM hS (fun _ h => h.elim) (fun v H1 locs hp_4 hzC hkC hS => ?_)
            obtain ⟨rfl, rfl⟩ := hp_4
            refine r_stk (st2 := [.int (iI ((fp_hi S (t + 1 + i) : Nat) : Int))]) rfl ?_
            have hh69 := fp_hi_le hV.1 (t + 1 + i)
            refine lv_iload hx hb dX4_reaches_69 (lv_at hl 5 rfl) ?_
            refine r_icmp_le (tgt := 76) hx hb ⟨by omega, by omega⟩ ⟨by omega, by omega⟩ dX4_reaches_71 (by decide) (fun c71 => ?_) (fun c71 => ?_)
            · skip
              refine lv_iinc (v := (iI (((t + 1 + i) + 1 : Nat) : Int))) (lv' := [(6, .int (iI (((t + 1 + i) + 1 : Nat) : Int))), (0, .ref (ad 0)), (1, .int (iI ((t : Nat) : Int))), (2, .int (iI ((c : Nat) : Int))), (3, .int (iI ((t : Nat) : Int))), (4, .int (iI (((t + c : Nat) : Int) - ((2 * t : Nat) : Int)))), (5, .int (iI (((fp_hi S t) + 2 : Nat) : Int)))]) hx hb dX4_reaches_76 hl (k := 6) rfl (iI_incN _ _) (by decide) rfl (fun ls hl => ?_)
              refine lv_goto (tgt := 54) hx hb dX4_reaches_79 (by decide) ?_
              exact ih54 (by omega) locs ls (lt_s hz (by rw [show min t c + 1 + i = t + 1 + i by omega]; omega)) (lv_sub hl [1, 2, 3, 4, 5, 6, 0] rfl) hS
            · skip
              refine lv_iconst (v := (iI ((0 : Nat) : Int))) hx hb dX4_reaches_74 rfl ?_
              refine r_zret hx hb hr hlk hQ hS (Nat.le_of_ble_eq_true rfl) (Nat.le_of_ble_eq_true rfl) dX4_reaches_75 rfl ?_
              exact ⟨congrArg (fun q : Bool => some (Value.int (iI (bI q)))) (Eq.symm (fp_rch_f2 (j := i) (by omega) (by rw [show min t c + 1 + i = t + 1 + i by omega]; omega))), rfl⟩
        exact L54 0 (by omega) locs ls lt_0 (lv_sub hl [4, 5, 6, 3, 2, 1, 0] rfl) hS
      · skip
        refine lv_iconst (v := (iI ((0 : Nat) : Int))) hx hb dX4_reaches_47 rfl ?_
        refine r_zret hx hb hr hlk hQ hS (Nat.le_of_ble_eq_true rfl) (Nat.le_of_ble_eq_true rfl) dX4_reaches_48 rfl ?_
        exact ⟨congrArg (fun q : Bool => some (Value.int (iI (bI q)))) (Eq.symm (fp_rch_f1 (by omega))), rfl⟩
set_option maxHeartbeats 4000000 in
theorem c_X4_lit (G : fp_G) (ad : Nat → Nat) (sc : Nat → Int) (ar : Nat → Nat → Int) (S : PS) (hA0 : fp_MA G ad) (hV : fp_VR S (ar 5)) (c : Nat) (hc : c < 12) : fp_M G yX4_lit cX4_lit 3 (some .boolean) 5 105 0 0 [.ref (ad 0), .int (iI ((c : Nat) : Int))] (fp_ME G ad sc ar) fp_no (fun H v H' => v = some (.int (iI (bI (fp_lit S c)))) ∧ H = H') := by
  refine fp_M.intro (by decide) (Nat.le_of_ble_eq_true rfl) ?_
  intro pg en s mi ag bl mt cd rR qQ ls X hx hb hr hlk hnm hR hQ hB hM hl
  have hS : va_S (fA fp_no s.heap.size) s.heap s.heap [] := va_S.rf
  generalize ([] : List Loc) = locs at hS ⊢
  refine lv_iconst (v := (iI ((0 : Nat) : Int))) hx hb dX4_lit_0 rfl ?_
  refine lv_istore_n (lv' := [(2, .int (iI ((0 : Nat) : Int))), (0, .ref (ad 0)), (1, .int (iI ((c : Nat) : Int)))]) hx hb dX4_lit_1 rfl hl (by decide) rfl (fun ls hl => ?_)
  have L2 : ∀ (t : Nat), t ≤ 12 → ∀ (locs : List Loc) (ls : Array Slot),(∀ j, j < t → fp_rch S j c = false) → lv_has ls 3 [(0, .ref (ad 0)), (1, .int (iI ((c : Nat) : Int))), (2, .int (iI ((t : Nat) : Int)))] → va_S (fA fp_no s.heap.size) s.heap s.heap locs → W pg (g_l G) en rR s mi ag bl mt cd s.heap locs 0 0 qQ (F0 mi 2 ls []) := by
    refine lp_up 12 ?_
    intro t hk2 ih2 locs ls hz hl hS
    refine lv_iload_n hx hb dX4_lit_2 rfl (lv_at hl 2 rfl) ?_
    refine lv_bipush (v := (iI ((12 : Nat) : Int))) hx hb dX4_lit_3 rfl ?_
    refine r_icmp_ge (tgt := 25) hx hb ⟨by omega, by omega⟩ (by decide) dX4_lit_5 (by decide) (fun c5 => ?_) (fun c5 => ?_)
    · skip
      refine lv_iconst (v := (iI ((0 : Nat) : Int))) hx hb dX4_lit_25 rfl ?_
      refine r_zret hx hb hr hlk hQ hS (Nat.le_of_ble_eq_true rfl) (Nat.le_of_ble_eq_true rfl) dX4_lit_26 rfl ?_
      exact ⟨congrArg (fun q : Bool => some (Value.int (iI (bI q)))) (Eq.symm (fp_any_f (fun j hj => hz j (by omega)))), rfl⟩
    · skip
      refine lv_aload_n hx hb dX4_lit_8 rfl (lv_at hl 0 rfl) ?_
      refine lv_iload_n hx hb dX4_lit_9 rfl (lv_at hl 2 rfl) ?_
      refine lv_iload_n hx hb dX4_lit_10 rfl (lv_at hl 1 rfl) ?_
      refine r_callV (cells1 := 0) (slots1 := 0) X hR (c_X4_reaches G ad sc ar S hA0 hV t c (by omega) (by omega)) q2387 q2389 qs73 q100 q2390 ⟨rfl, pd_X4_reaches⟩ (by decide) rfl rfl (by decide) (by decide) hM.1 rfl rfl (Nat.le_of_ble_eq_true rfl) hl.1 dX4_lit_11 (hB.of hS fp_no.base) hM hS (fun _ h => h.elim) (fun v H1 locs hp_1 hzC hkC hS => ?_)
      obtain ⟨rfl, rfl⟩ := hp_1
      refine r_stk (st2 := [.int (iI (bI (fp_rch S t c)))]) rfl ?_
      refine r_ifeqB (tgt := 19) hx hb dX4_lit_14 (by decide) (fun c14 => ?_) (fun c14 => ?_)
      · skip
        refine lv_iinc (v := (iI ((t + 1 : Nat) : Int))) (lv' := [(2, .int (iI ((t + 1 : Nat) : Int))), (0, .ref (ad 0)), (1, .int (iI ((c : Nat) : Int)))]) hx hb dX4_lit_19 hl (k := 2) rfl (iI_incN _ _) (by decide) rfl (fun ls hl => ?_)
        refine lv_goto (tgt := 2) hx hb dX4_lit_22 (by decide) ?_
        exact ih2 (by omega) locs ls (lt_s hz c14) (lv_sub hl [1, 2, 0] rfl) hS
      · skip
        refine lv_iconst (v := (iI ((1 : Nat) : Int))) hx hb dX4_lit_17 rfl ?_
        refine r_zret hx hb hr hlk hQ hS (Nat.le_of_ble_eq_true rfl) (Nat.le_of_ble_eq_true rfl) dX4_lit_18 rfl ?_
        exact ⟨congrArg (fun q : Bool => some (Value.int (iI (bI q)))) (Eq.symm (fp_any_t (k := t) (by omega) c14)), rfl⟩
  exact L2 0 (by omega) locs ls lt_0 (lv_sub hl [1, 2, 0] rfl) hS
set_option maxHeartbeats 4000000 in
theorem c_X4_allLit (G : fp_G) (ad : Nat → Nat) (sc : Nat → Int) (ar : Nat → Nat → Int) (S : PS) (hA0 : fp_MA G ad) (hV : fp_VR S (ar 5)) : fp_M G yX4_allLit cX4_allLit 3 (some .int) 6 127 0 0 [.ref (ad 0)] (fp_ME G ad sc ar) fp_no (fun H v H' => v = some (.int (iI ((fp_nlit S : Nat) : Int))) ∧ H = H') := by
  refine fp_M.intro (by decide) (Nat.le_of_ble_eq_true rfl) ?_
  intro pg en s mi ag bl mt cd rR qQ ls X hx hb hr hlk hnm hR hQ hB hM hl
  have hS : va_S (fA fp_no s.heap.size) s.heap s.heap [] := va_S.rf
  generalize ([] : List Loc) = locs at hS ⊢
  refine lv_iconst (v := (iI ((0 : Nat) : Int))) hx hb dX4_allLit_0 rfl ?_
  refine lv_istore_n (lv' := [(1, .int (iI ((0 : Nat) : Int))), (0, .ref (ad 0))]) hx hb dX4_allLit_1 rfl hl (by decide) rfl (fun ls hl => ?_)
  refine lv_iconst (v := (iI ((0 : Nat) : Int))) hx hb dX4_allLit_2 rfl ?_
  refine lv_istore_n (lv' := [(2, .int (iI ((0 : Nat) : Int))), (1, .int (iI ((0 : Nat) : Int))), (0, .ref (ad 0))]) hx hb dX4_allLit_3 rfl hl (by decide) rfl (fun ls hl => ?_)
  have L4 : ∀ (q : Nat), q ≤ 12 → ∀ (locs : List Loc) (ls : Array Slot), lv_has ls 3 [(0, .ref (ad 0)), (1, .int (iI ((fp_ct (fp_lit S) q : Nat) : Int))), (2, .int (iI ((q : Nat) : Int)))] → va_S (fA fp_no s.heap.size) s.heap s.heap locs → W pg (g_l G) en rR s mi ag bl mt cd s.heap locs 0 0 qQ (F0 mi 4 ls []) := by
    refine lp_up 12 ?_
    intro q hk4 ih4 locs ls hl hS
    refine lv_iload_n hx hb dX4_allLit_4 rfl (lv_at hl 2 rfl) ?_
    refine lv_bipush (v := (iI ((12 : Nat) : Int))) hx hb dX4_allLit_5 rfl ?_
    refine r_icmp_ge (tgt := 32) hx hb ⟨by omega, by omega⟩ (by decide) dX4_allLit_7 (by decide) (fun c7 => ?_) (fun c7 => ?_)
    · skip
      refine lv_iload_n hx hb dX4_allLit_32 rfl (lv_at hl 1 rfl) ?_
      refine r_iret hx hb hr hlk hQ hS (Nat.le_of_ble_eq_true rfl) (Nat.le_of_ble_eq_true rfl) dX4_allLit_33 ?_
      exact ⟨congrArg (fun q : Nat => some (Value.int (iI (q : Int)))) (by rw [show q = 12 by omega]; rfl), rfl⟩
    · skip
      refine lv_iload_n hx hb dX4_allLit_10 rfl (lv_at hl 1 rfl) ?_
      refine lv_aload_n hx hb dX4_allLit_11 rfl (lv_at hl 0 rfl) ?_
      refine lv_iload_n hx hb dX4_allLit_12 rfl (lv_at hl 2 rfl) ?_
      refine r_callV (cells1 := 0) (slots1 := 0) X hR (c_X4_lit G ad sc ar S hA0 hV q (by omega)) q2383 q2385 qs72 q100 q2386 ⟨rfl, pd_X4_lit⟩ (by decide) rfl rfl (by decide) (by decide) hM.1 rfl rfl (Nat.le_of_ble_eq_true rfl) hl.1 dX4_allLit_13 (hB.of hS fp_no.base) hM hS (fun _ h => h.elim) (fun v H1 locs hp_1 hzC hkC hS => ?_)
      obtain ⟨rfl, rfl⟩ := hp_1
      refine r_stk (st2 := [.int (iI (bI (fp_lit S q))), .int (iI ((fp_ct (fp_lit S) q : Nat) : Int))]) rfl ?_
      refine r_ifeqB (tgt := 23) hx hb dX4_allLit_16 (by decide) (fun c16 => ?_) (fun c16 => ?_)
      · skip
        refine lv_iconst (v := (iI ((0 : Nat) : Int))) hx hb dX4_allLit_23 rfl ?_
        refine r_iaddN hx hb dX4_allLit_24 ?_
        refine lv_istore_n (lv' := [(1, .int (iI (((fp_ct (fp_lit S) q) + 0 : Nat) : Int))), (0, .ref (ad 0)), (2, .int (iI ((q : Nat) : Int)))]) hx hb dX4_allLit_25 rfl hl (by decide) rfl (fun ls hl => ?_)
        refine lv_iinc (v := (iI ((q + 1 : Nat) : Int))) (lv' := [(2, .int (iI ((q + 1 : Nat) : Int))), (1, .int (iI (((fp_ct (fp_lit S) q) + 0 : Nat) : Int))), (0, .ref (ad 0))]) hx hb dX4_allLit_26 hl (k := 2) rfl (iI_incN _ _) (by decide) rfl (fun ls hl => ?_)
        refine lv_goto (tgt := 4) hx hb dX4_allLit_29 (by decide) ?_
        exact ih4 (by omega) locs ls (by rw [show Value.int (iI ((fp_ct (fp_lit S) (q + 1) : Nat) : Int)) = Value.int (iI (((fp_ct (fp_lit S) q) + 0 : Nat) : Int)) from congrArg (fun q : Nat => Value.int (iI (q : Int))) (by show _ + (if fp_lit S q then 1 else 0) = _; rw [c16]; simp)]; exact lv_sub hl [2, 1, 0] rfl) hS
      · skip
        refine lv_iconst (v := (iI ((1 : Nat) : Int))) hx hb dX4_allLit_19 rfl ?_
        refine lv_goto (tgt := 24) hx hb dX4_allLit_20 (by decide) ?_
        refine r_iaddN hx hb dX4_allLit_24 ?_
        refine lv_istore_n (lv' := [(1, .int (iI (((fp_ct (fp_lit S) q) + 1 : Nat) : Int))), (0, .ref (ad 0)), (2, .int (iI ((q : Nat) : Int)))]) hx hb dX4_allLit_25 rfl hl (by decide) rfl (fun ls hl => ?_)
        refine lv_iinc (v := (iI ((q + 1 : Nat) : Int))) (lv' := [(2, .int (iI ((q + 1 : Nat) : Int))), (1, .int (iI (((fp_ct (fp_lit S) q) + 1 : Nat) : Int))), (0, .ref (ad 0))]) hx hb dX4_allLit_26 hl (k := 2) rfl (iI_incN _ _) (by decide) rfl (fun ls hl => ?_)
        refine lv_goto (tgt := 4) hx hb dX4_allLit_29 (by decide) ?_
        exact ih4 (by omega) locs ls (by rw [show Value.int (iI ((fp_ct (fp_lit S) (q + 1) : Nat) : Int)) = Value.int (iI (((fp_ct (fp_lit S) q) + 1 : Nat) : Int)) from congrArg (fun q : Nat => Value.int (iI (q : Int))) (by show _ + (if fp_lit S q then 1 else 0) = _; rw [c16]; simp)]; exact lv_sub hl [2, 1, 0] rfl) hS
  exact L4 0 (by omega) locs ls (lv_sub hl [2, 1, 0] rfl) hS
