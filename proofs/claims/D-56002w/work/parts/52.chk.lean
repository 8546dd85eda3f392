/-! THE PLANNER: its checks -/
set_option maxRecDepth 100000
theorem tw_checkArgument : fp_thw "FortPlanner" 42 "java/lang/IllegalArgumentException" := ⟨by decide +kernel, by decide +kernel, by decide +kernel⟩
theorem c_X1_checkArgument (G : fp_G) (b : Bool) : fp_MX G yX1_checkArgument cX1_checkArgument 1 none 6 81 1 6 [.int (iI (bI b))] (fun _ => True) fp_no (fun H v H1 => v = none ∧ H = H1 ∧ b = true) (fun H E H1 => E = "java/lang/IllegalArgumentException" ∧ fp_X H H1 ∧ b = false) := by
  refine fp_MX.intro (by decide) (Nat.le_of_ble_eq_true rfl) ?_
  intro pg en s mi ag bl mt cd rR qQ ls X hx hb hr hlk hnm hR hQ hT hB hM hl
  have hS : va_S (fA fp_no s.heap.size) s.heap s.heap [] := va_S.rf
  refine lv_iload_n hx hb dX1_checkArgument_0 rfl (lv_at hl 0 rfl) ?_
  refine r_ifneB (tgt := 12) hx hb dX1_checkArgument_1 (by decide) (fun c1 => ?_) (fun c1 => ?_)
  · exact x_vret hx hb hr hlk hQ hS (by decide) (by decide) dX1_checkArgument_12 ⟨rfl, rfl, c1⟩
  · exact x_throw0 (E := "java/lang/IllegalArgumentException") (ik := 40) (ic := 42) X hR hQ hB fp_no.base hT hlk hS tw_checkArgument (by decide) q1132 q104 (by decide) (by decide) (by decide +kernel) hl.1 dX1_checkArgument_4 dX1_checkArgument_7 dX1_checkArgument_8 dX1_checkArgument_11 (by decide) (by decide) (by decide) (by decide) (by decide) (by decide) (fun H1 h => ⟨rfl, h, c1⟩)
theorem tw_checkState : fp_thw "FortPlanner" 45 "java/lang/IllegalStateException" := ⟨by decide +kernel, by decide +kernel, by decide +kernel⟩
theorem c_X1_checkState (G : fp_G) (b : Bool) : fp_MX G yX1_checkState cX1_checkState 1 none 6 81 1 6 [.int (iI (bI b))] (fun _ => True) fp_no (fun H v H1 => v = none ∧ H = H1 ∧ b = true) (fun H E H1 => E = "java/lang/IllegalStateException" ∧ fp_X H H1 ∧ b = false) := by
  refine fp_MX.intro (by decide) (Nat.le_of_ble_eq_true rfl) ?_
  intro pg en s mi ag bl mt cd rR qQ ls X hx hb hr hlk hnm hR hQ hT hB hM hl
  have hS : va_S (fA fp_no s.heap.size) s.heap s.heap [] := va_S.rf
  refine lv_iload_n hx hb dX1_checkState_0 rfl (lv_at hl 0 rfl) ?_
  refine r_ifneB (tgt := 12) hx hb dX1_checkState_1 (by decide) (fun c1 => ?_) (fun c1 => ?_)
  · exact x_vret hx hb hr hlk hQ hS (by decide) (by decide) dX1_checkState_12 ⟨rfl, rfl, c1⟩
  · exact x_throw0 (E := "java/lang/IllegalStateException") (ik := 43) (ic := 45) X hR hQ hB fp_no.base hT hlk hS tw_checkState (by decide) q1237 q121 (by decide) (by decide) (by decide +kernel) hl.1 dX1_checkState_4 dX1_checkState_7 dX1_checkState_8 dX1_checkState_11 (by decide) (by decide) (by decide) (by decide) (by decide) (by decide) (fun H1 h => ⟨rfl, h, c1⟩)
theorem tw_checkElement : fp_thw "FortPlanner" 48 "java/util/NoSuchElementException" := ⟨by decide +kernel, by decide +kernel, by decide +kernel⟩
theorem c_X1_checkElement (G : fp_G) (b : Bool) : fp_MX G yX1_checkElement cX1_checkElement 1 none 6 81 1 6 [.int (iI (bI b))] (fun _ => True) fp_no (fun H v H1 => v = none ∧ H = H1 ∧ b = true) (fun H E H1 => E = "java/util/NoSuchElementException" ∧ fp_X H H1 ∧ b = false) := by
  refine fp_MX.intro (by decide) (Nat.le_of_ble_eq_true rfl) ?_
  intro pg en s mi ag bl mt cd rR qQ ls X hx hb hr hlk hnm hR hQ hT hB hM hl
  have hS : va_S (fA fp_no s.heap.size) s.heap s.heap [] := va_S.rf
  refine lv_iload_n hx hb dX1_checkElement_0 rfl (lv_at hl 0 rfl) ?_
  refine r_ifneB (tgt := 12) hx hb dX1_checkElement_1 (by decide) (fun c1 => ?_) (fun c1 => ?_)
  · exact x_vret hx hb hr hlk hQ hS (by decide) (by decide) dX1_checkElement_12 ⟨rfl, rfl, c1⟩
  · exact x_throw0 (E := "java/util/NoSuchElementException") (ik := 46) (ic := 48) X hR hQ hB fp_no.base hT hlk hS tw_checkElement (by decide) q1327 q106 (by decide) (by decide) (by decide +kernel) hl.1 dX1_checkElement_4 dX1_checkElement_7 dX1_checkElement_8 dX1_checkElement_11 (by decide) (by decide) (by decide) (by decide) (by decide) (by decide) (fun H1 h => ⟨rfl, h, c1⟩)
theorem tw_checkIndex : fp_thw "FortPlanner" 51 "java/lang/IndexOutOfBoundsException" := ⟨by decide +kernel, by decide +kernel, by decide +kernel⟩
theorem c_X1_checkIndex (G : fp_G) (b : Bool) : fp_MX G yX1_checkIndex cX1_checkIndex 1 none 6 81 1 6 [.int (iI (bI b))] (fun _ => True) fp_no (fun H v H1 => v = none ∧ H = H1 ∧ b = true) (fun H E H1 => E = "java/lang/IndexOutOfBoundsException" ∧ fp_X H H1 ∧ b = false) := by
  refine fp_MX.intro (by decide) (Nat.le_of_ble_eq_true rfl) ?_
  intro pg en s mi ag bl mt cd rR qQ ls X hx hb hr hlk hnm hR hQ hT hB hM hl
  have hS : va_S (fA fp_no s.heap.size) s.heap s.heap [] := va_S.rf
  refine lv_iload_n hx hb dX1_checkIndex_0 rfl (lv_at hl 0 rfl) ?_
  refine r_ifneB (tgt := 12) hx hb dX1_checkIndex_1 (by decide) (fun c1 => ?_) (fun c1 => ?_)
  · exact x_vret hx hb hr hlk hQ hS (by decide) (by decide) dX1_checkIndex_12 ⟨rfl, rfl, c1⟩
  · exact x_throw0 (E := "java/lang/IndexOutOfBoundsException") (ik := 49) (ic := 51) X hR hQ hB fp_no.base hT hlk hS tw_checkIndex (by decide) q1353 q117 (by decide) (by decide) (by decide +kernel) hl.1 dX1_checkIndex_4 dX1_checkIndex_7 dX1_checkIndex_8 dX1_checkIndex_11 (by decide) (by decide) (by decide) (by decide) (by decide) (by decide) (fun H1 h => ⟨rfl, h, c1⟩)
