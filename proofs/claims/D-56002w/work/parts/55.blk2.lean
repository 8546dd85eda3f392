/-! THE BLOCKS: how they are made -/
set_option maxRecDepth 100000
theorem c_X5_init_0 (G : fp_G) (a n l w wt bo : Nat) : fp_M G yX5_init cX5_init 6 none 1 20 0 0 [.ref a, .int (iI ((n : Nat) : Int)), .int (iI ((l : Nat) : Int)), .int (iI ((w : Nat) : Int)), .int (iI ((wt : Nat) : Int)), .int (iI ((bo : Nat) : Int))] (fun H => fp_At G H a (eO 3 [.int 0, .int 0, .int 0, .int 0, .int 0])) (fun q => q = a) (fun H v H1 => v = none ∧ fp_At G H1 a (eO 3 [.int (iI ((n : Nat) : Int)), .int (iI ((l : Nat) : Int)), .int (iI ((w : Nat) : Int)), .int (iI ((wt : Nat) : Int)), .int (iI ((bo : Nat) : Int))])) := by
  refine fp_M.intro (by decide) (Nat.le_of_ble_eq_true rfl) ?_
  intro pg en s mi ag bl mt cd rR qQ ls X hx hb hr hlk hnm hR hQ hB hM hl
  have hS : va_S (fA (fun q => q = a) s.heap.size) s.heap s.heap [] := va_S.rf
  generalize ([] : List Loc) = locs at hS ⊢
  refine lv_aload_n hx hb dX5_init_0 rfl (lv_at hl 0 rfl) ?_
  refine r_objInit X hR q1152 q132 q133 hl.1 (by decide) (by decide) dX5_init_1 ?_
  refine lv_aload_n hx hb dX5_init_4 rfl (lv_at hl 0 rfl) ?_
  refine lv_iload_n hx hb dX5_init_5 rfl (lv_at hl 1 rfl) ?_
  refine r_putF X hM hS (Or.inl rfl) rfl in_X6 tyX6_ok nmX6 0 (by decide) q1153 (Or.inl rfl) rfl hnm rfl rfl rfl (show 0 < 5 by decide) dX5_init_6 (fun H locs hM hz hq hS => ?_)
  refine lv_aload_n hx hb dX5_init_9 rfl (lv_at hl 0 rfl) ?_
  refine lv_iload_n hx hb dX5_init_10 rfl (lv_at hl 2 rfl) ?_
  refine r_putF X hM hS (Or.inl rfl) rfl in_X6 tyX6_ok nmX6 1 (by decide) q1156 (Or.inl rfl) rfl hnm rfl rfl rfl (show 1 < 5 by decide) dX5_init_11 (fun H locs hM hz hq hS => ?_)
  refine lv_aload_n hx hb dX5_init_14 rfl (lv_at hl 0 rfl) ?_
  refine lv_iload_n hx hb dX5_init_15 rfl (lv_at hl 3 rfl) ?_
  refine r_putF X hM hS (Or.inl rfl) rfl in_X6 tyX6_ok nmX6 2 (by decide) q1159 (Or.inl rfl) rfl hnm rfl rfl rfl (show 2 < 5 by decide) dX5_init_16 (fun H locs hM hz hq hS => ?_)
  refine lv_aload_n hx hb dX5_init_19 rfl (lv_at hl 0 rfl) ?_
  refine lv_iload hx hb dX5_init_20 (lv_at hl 4 rfl) ?_
  refine r_putF X hM hS (Or.inl rfl) rfl in_X6 tyX6_ok nmX6 3 (by decide) q1161 (Or.inl rfl) rfl hnm rfl rfl rfl (show 3 < 5 by decide) dX5_init_22 (fun H locs hM hz hq hS => ?_)
  refine lv_aload_n hx hb dX5_init_25 rfl (lv_at hl 0 rfl) ?_
  refine lv_iload hx hb dX5_init_26 (lv_at hl 5 rfl) ?_
  refine r_putF X hM hS (Or.inl rfl) rfl in_X6 tyX6_ok nmX6 4 (by decide) q1164 (Or.inl rfl) rfl hnm rfl rfl rfl (show 4 < 5 by decide) dX5_init_28 (fun H locs hM hz hq hS => ?_)
  exact r_vret hx hb hr hlk hQ hS (by decide) (by decide) dX5_init_31 ⟨rfl, hM⟩
theorem c_X5_init_1 (G : fp_G) (a n l w wt bo : Nat) : fp_M G yX5_init cX5_init 6 none 1 20 0 0 [.ref a, .int (iI ((n : Nat) : Int)), .int (iI ((l : Nat) : Int)), .int (iI ((w : Nat) : Int)), .int (iI ((wt : Nat) : Int)), .int (iI ((bo : Nat) : Int))] (fun H => fp_At G H a (eO 4 [.int 0, .int 0, .int 0, .int 0, .int 0])) (fun q => q = a) (fun H v H1 => v = none ∧ fp_At G H1 a (eO 4 [.int (iI ((n : Nat) : Int)), .int (iI ((l : Nat) : Int)), .int (iI ((w : Nat) : Int)), .int (iI ((wt : Nat) : Int)), .int (iI ((bo : Nat) : Int))])) := by
  refine fp_M.intro (by decide) (Nat.le_of_ble_eq_true rfl) ?_
  intro pg en s mi ag bl mt cd rR qQ ls X hx hb hr hlk hnm hR hQ hB hM hl
  have hS : va_S (fA (fun q => q = a) s.heap.size) s.heap s.heap [] := va_S.rf
  generalize ([] : List Loc) = locs at hS ⊢
  refine lv_aload_n hx hb dX5_init_0 rfl (lv_at hl 0 rfl) ?_
  refine r_objInit X hR q1152 q132 q133 hl.1 (by decide) (by decide) dX5_init_1 ?_
  refine lv_aload_n hx hb dX5_init_4 rfl (lv_at hl 0 rfl) ?_
  refine lv_iload_n hx hb dX5_init_5 rfl (lv_at hl 1 rfl) ?_
  refine r_putF X hM hS (Or.inl rfl) rfl in_X7 tyX7_ok nmX7 0 (by decide) q1153 (Or.inl rfl) rfl hnm rfl rfl rfl (show 0 < 5 by decide) dX5_init_6 (fun H locs hM hz hq hS => ?_)
  refine lv_aload_n hx hb dX5_init_9 rfl (lv_at hl 0 rfl) ?_
  refine lv_iload_n hx hb dX5_init_10 rfl (lv_at hl 2 rfl) ?_
  refine r_putF X hM hS (Or.inl rfl) rfl in_X7 tyX7_ok nmX7 1 (by decide) q1156 (Or.inl rfl) rfl hnm rfl rfl rfl (show 1 < 5 by decide) dX5_init_11 (fun H locs hM hz hq hS => ?_)
  refine lv_aload_n hx hb dX5_init_14 rfl (lv_at hl 0 rfl) ?_
  refine lv_iload_n hx hb dX5_init_15 rfl (lv_at hl 3 rfl) ?_
  refine r_putF X hM hS (Or.inl rfl) rfl in_X7 tyX7_ok nmX7 2 (by decide) q1159 (Or.inl rfl) rfl hnm rfl rfl rfl (show 2 < 5 by decide) dX5_init_16 (fun H locs hM hz hq hS => ?_)
  refine lv_aload_n hx hb dX5_init_19 rfl (lv_at hl 0 rfl) ?_
  refine lv_iload hx hb dX5_init_20 (lv_at hl 4 rfl) ?_
  refine r_putF X hM hS (Or.inl rfl) rfl in_X7 tyX7_ok nmX7 3 (by decide) q1161 (Or.inl rfl) rfl hnm rfl rfl rfl (show 3 < 5 by decide) dX5_init_22 (fun H locs hM hz hq hS => ?_)
  refine lv_aload_n hx hb dX5_init_25 rfl (lv_at hl 0 rfl) ?_
  refine lv_iload hx hb dX5_init_26 (lv_at hl 5 rfl) ?_
  refine r_putF X hM hS (Or.inl rfl) rfl in_X7 tyX7_ok nmX7 4 (by decide) q1164 (Or.inl rfl) rfl hnm rfl rfl rfl (show 4 < 5 by decide) dX5_init_28 (fun H locs hM hz hq hS => ?_)
  exact r_vret hx hb hr hlk hQ hS (by decide) (by decide) dX5_init_31 ⟨rfl, hM⟩
theorem c_X5_init_2 (G : fp_G) (a n l w wt bo : Nat) : fp_M G yX5_init cX5_init 6 none 1 20 0 0 [.ref a, .int (iI ((n : Nat) : Int)), .int (iI ((l : Nat) : Int)), .int (iI ((w : Nat) : Int)), .int (iI ((wt : Nat) : Int)), .int (iI ((bo : Nat) : Int))] (fun H => fp_At G H a (eO 5 [.int 0, .int 0, .int 0, .int 0, .int 0, .int 0])) (fun q => q = a) (fun H v H1 => v = none ∧ fp_At G H1 a (eO 5 [.int (iI ((n : Nat) : Int)), .int (iI ((l : Nat) : Int)), .int (iI ((w : Nat) : Int)), .int (iI ((wt : Nat) : Int)), .int (iI ((bo : Nat) : Int)), .int 0])) := by
  refine fp_M.intro (by decide) (Nat.le_of_ble_eq_true rfl) ?_
  intro pg en s mi ag bl mt cd rR qQ ls X hx hb hr hlk hnm hR hQ hB hM hl
  have hS : va_S (fA (fun q => q = a) s.heap.size) s.heap s.heap [] := va_S.rf
  generalize ([] : List Loc) = locs at hS ⊢
  refine lv_aload_n hx hb dX5_init_0 rfl (lv_at hl 0 rfl) ?_
  refine r_objInit X hR q1152 q132 q133 hl.1 (by decide) (by decide) dX5_init_1 ?_
  refine lv_aload_n hx hb dX5_init_4 rfl (lv_at hl 0 rfl) ?_
  refine lv_iload_n hx hb dX5_init_5 rfl (lv_at hl 1 rfl) ?_
  refine r_putF X hM hS (Or.inl rfl) rfl in_X8 tyX8_ok nmX8 0 (by decide) q1153 (Or.inl rfl) rfl hnm rfl rfl rfl (show 0 < 6 by decide) dX5_init_6 (fun H locs hM hz hq hS => ?_)
  refine lv_aload_n hx hb dX5_init_9 rfl (lv_at hl 0 rfl) ?_
  refine lv_iload_n hx hb dX5_init_10 rfl (lv_at hl 2 rfl) ?_
  refine r_putF X hM hS (Or.inl rfl) rfl in_X8 tyX8_ok nmX8 1 (by decide) q1156 (Or.inl rfl) rfl hnm rfl rfl rfl (show 1 < 6 by decide) dX5_init_11 (fun H locs hM hz hq hS => ?_)
  refine lv_aload_n hx hb dX5_init_14 rfl (lv_at hl 0 rfl) ?_
  refine lv_iload_n hx hb dX5_init_15 rfl (lv_at hl 3 rfl) ?_
  refine r_putF X hM hS (Or.inl rfl) rfl in_X8 tyX8_ok nmX8 2 (by decide) q1159 (Or.inl rfl) rfl hnm rfl rfl rfl (show 2 < 6 by decide) dX5_init_16 (fun H locs hM hz hq hS => ?_)
  refine lv_aload_n hx hb dX5_init_19 rfl (lv_at hl 0 rfl) ?_
  refine lv_iload hx hb dX5_init_20 (lv_at hl 4 rfl) ?_
  refine r_putF X hM hS (Or.inl rfl) rfl in_X8 tyX8_ok nmX8 3 (by decide) q1161 (Or.inl rfl) rfl hnm rfl rfl rfl (show 3 < 6 by decide) dX5_init_22 (fun H locs hM hz hq hS => ?_)
  refine lv_aload_n hx hb dX5_init_25 rfl (lv_at hl 0 rfl) ?_
  refine lv_iload hx hb dX5_init_26 (lv_at hl 5 rfl) ?_
  refine r_putF X hM hS (Or.inl rfl) rfl in_X8 tyX8_ok nmX8 4 (by decide) q1164 (Or.inl rfl) rfl hnm rfl rfl rfl (show 4 < 6 by decide) dX5_init_28 (fun H locs hM hz hq hS => ?_)
  exact r_vret hx hb hr hlk hQ hS (by decide) (by decide) dX5_init_31 ⟨rfl, hM⟩
theorem c_X6_init (G : fp_G) (a n l w wt bo : Nat) : fp_M G yX6_init cX6_init 6 none 2 60 0 0 [.ref a, .int (iI ((n : Nat) : Int)), .int (iI ((l : Nat) : Int)), .int (iI ((w : Nat) : Int)), .int (iI ((wt : Nat) : Int)), .int (iI ((bo : Nat) : Int))] (fun H => fp_At G H a (eO 3 [.int 0, .int 0, .int 0, .int 0, .int 0])) (fun q => q = a) (fun H v H1 => v = none ∧ fp_At G H1 a (eO 3 [.int (iI ((n : Nat) : Int)), .int (iI ((l : Nat) : Int)), .int (iI ((w : Nat) : Int)), .int (iI ((wt : Nat) : Int)), .int (iI ((bo : Nat) : Int))])) := by
  refine fp_M.intro (by decide) (Nat.le_of_ble_eq_true rfl) ?_
  intro pg en s mi ag bl mt cd rR qQ ls X hx hb hr hlk hnm hR hQ hB hM hl
  have hS : va_S (fA (fun q => q = a) s.heap.size) s.heap s.heap [] := va_S.rf
  generalize ([] : List Loc) = locs at hS ⊢
  refine lv_aload_n hx hb dX6_init_0 rfl (lv_at hl 0 rfl) ?_
  refine lv_iload_n hx hb dX6_init_1 rfl (lv_at hl 1 rfl) ?_
  refine lv_iload_n hx hb dX6_init_2 rfl (lv_at hl 2 rfl) ?_
  refine lv_iload_n hx hb dX6_init_3 rfl (lv_at hl 3 rfl) ?_
  refine lv_iload hx hb dX6_init_4 (lv_at hl 4 rfl) ?_
  refine lv_iload hx hb dX6_init_6 (lv_at hl 5 rfl) ?_
  refine r_callI (cells1 := 0) (slots1 := 0) X hR (c_X5_init_0 G a n l w wt bo) q1149 q1150 q108 q1151 rfl pd_X5_init ⟨by decide, by decide⟩ rfl rfl (by decide) (by decide) rfl (Nat.le_of_ble_eq_true rfl) hl.1 dX6_init_8 hB hM hS (fun _ h => Or.inl h) (fun v H locs hp _ _ hS => ?_)
  obtain ⟨rfl, hM⟩ := hp
  exact r_vret hx hb hr hlk hQ hS (by decide) (by decide) dX6_init_11 ⟨rfl, hM⟩
theorem c_X7_init (G : fp_G) (a n l w wt bo : Nat) : fp_M G yX7_init cX7_init 6 none 2 60 0 0 [.ref a, .int (iI ((n : Nat) : Int)), .int (iI ((l : Nat) : Int)), .int (iI ((w : Nat) : Int)), .int (iI ((wt : Nat) : Int)), .int (iI ((bo : Nat) : Int))] (fun H => fp_At G H a (eO 4 [.int 0, .int 0, .int 0, .int 0, .int 0])) (fun q => q = a) (fun H v H1 => v = none ∧ fp_At G H1 a (eO 4 [.int (iI ((n : Nat) : Int)), .int (iI ((l : Nat) : Int)), .int (iI ((w : Nat) : Int)), .int (iI ((wt : Nat) : Int)), .int (iI ((bo : Nat) : Int))])) := by
  refine fp_M.intro (by decide) (Nat.le_of_ble_eq_true rfl) ?_
  intro pg en s mi ag bl mt cd rR qQ ls X hx hb hr hlk hnm hR hQ hB hM hl
  have hS : va_S (fA (fun q => q = a) s.heap.size) s.heap s.heap [] := va_S.rf
  generalize ([] : List Loc) = locs at hS ⊢
  refine lv_aload_n hx hb dX7_init_0 rfl (lv_at hl 0 rfl) ?_
  refine lv_iload_n hx hb dX7_init_1 rfl (lv_at hl 1 rfl) ?_
  refine lv_iload_n hx hb dX7_init_2 rfl (lv_at hl 2 rfl) ?_
  refine lv_iload_n hx hb dX7_init_3 rfl (lv_at hl 3 rfl) ?_
  refine lv_iload hx hb dX7_init_4 (lv_at hl 4 rfl) ?_
  refine lv_iload hx hb dX7_init_6 (lv_at hl 5 rfl) ?_
  refine r_callI (cells1 := 0) (slots1 := 0) X hR (c_X5_init_1 G a n l w wt bo) q1182 q1150 q108 q1151 rfl pd_X5_init ⟨by decide, by decide⟩ rfl rfl (by decide) (by decide) rfl (Nat.le_of_ble_eq_true rfl) hl.1 dX7_init_8 hB hM hS (fun _ h => Or.inl h) (fun v H locs hp _ _ hS => ?_)
  obtain ⟨rfl, hM⟩ := hp
  exact r_vret hx hb hr hlk hQ hS (by decide) (by decide) dX7_init_11 ⟨rfl, hM⟩
theorem c_X8_init (G : fp_G) (a n l w wt bo : Nat) : fp_M G yX8_init cX8_init 6 none 2 60 0 0 [.ref a, .int (iI ((n : Nat) : Int)), .int (iI ((l : Nat) : Int)), .int (iI ((w : Nat) : Int)), .int (iI ((wt : Nat) : Int)), .int (iI ((bo : Nat) : Int))] (fun H => fp_At G H a (eO 5 [.int 0, .int 0, .int 0, .int 0, .int 0, .int 0])) (fun q => q = a) (fun H v H1 => v = none ∧ fp_At G H1 a (eO 5 [.int (iI ((n : Nat) : Int)), .int (iI ((l : Nat) : Int)), .int (iI ((w : Nat) : Int)), .int (iI ((wt : Nat) : Int)), .int (iI ((bo : Nat) : Int)), .int (iI ((wt : Nat) : Int))])) := by
  refine fp_M.intro (by decide) (Nat.le_of_ble_eq_true rfl) ?_
  intro pg en s mi ag bl mt cd rR qQ ls X hx hb hr hlk hnm hR hQ hB hM hl
  have hS : va_S (fA (fun q => q = a) s.heap.size) s.heap s.heap [] := va_S.rf
  generalize ([] : List Loc) = locs at hS ⊢
  refine lv_aload_n hx hb dX8_init_0 rfl (lv_at hl 0 rfl) ?_
  refine lv_iload_n hx hb dX8_init_1 rfl (lv_at hl 1 rfl) ?_
  refine lv_iload_n hx hb dX8_init_2 rfl (lv_at hl 2 rfl) ?_
  refine lv_iload_n hx hb dX8_init_3 rfl (lv_at hl 3 rfl) ?_
  refine lv_iload hx hb dX8_init_4 (lv_at hl 4 rfl) ?_
  refine lv_iload hx hb dX8_init_6 (lv_at hl 5 rfl) ?_
  refine r_callI (cells1 := 0) (slots1 := 0) X hR (c_X5_init_2 G a n l w wt bo) q1193 q1150 q108 q1151 rfl pd_X5_init ⟨by decide, by decide⟩ rfl rfl (by decide) (by decide) rfl (Nat.le_of_ble_eq_true rfl) hl.1 dX8_init_8 hB hM hS (fun _ h => Or.inl h) (fun v H locs hp _ _ hS => ?_)
  obtain ⟨rfl, hM⟩ := hp
  refine lv_aload_n hx hb dX8_init_11 rfl (lv_at hl 0 rfl) ?_
  refine lv_iload hx hb dX8_init_12 (lv_at hl 4 rfl) ?_
  refine r_putF X hM hS (Or.inl rfl) rfl in_X8 tyX8_ok nmX8 5 (by decide) q1194 (Or.inl rfl) rfl hnm rfl rfl rfl (show 5 < 6 by decide) dX8_init_14 (fun H locs hM hz hq hS => ?_)
  exact r_vret hx hb hr hlk hQ hS (by decide) (by decide) dX8_init_17 ⟨rfl, hM⟩
theorem c_X1_create_0 (G : fp_G) (n l w wt bo : Nat) : fp_M G yX1_create cX1_create 6 (some (.object "FortPlanner$Block")) 3 100 1 5 [.int (iI ((102 : Nat) : Int)), .int (iI ((n : Nat) : Int)), .int (iI ((l : Nat) : Int)), .int (iI ((w : Nat) : Int)), .int (iI ((wt : Nat) : Int)), .int (iI ((bo : Nat) : Int))] (fun _ => True) fp_no (fun H v H1 => v = some (.ref H.size) ∧ fp_At G H1 H.size (fp_bE (fp_blk n 0 l w wt bo))) := by
  refine fp_M.intro (by decide) (Nat.le_of_ble_eq_true rfl) ?_
  intro pg en s mi ag bl mt cd rR qQ ls X hx hb hr hlk hnm hR hQ hB hM hl
  have hS : va_S (fA fp_no s.heap.size) s.heap s.heap [] := va_S.rf
  generalize ([] : List Loc) = locs at hS ⊢
  refine lv_iload_n hx hb dX1_create_0 rfl (lv_at hl 0 rfl) ?_
  refine lv_lookup (off := 27) (tgt := 28) hx hb dX1_create_1 (by decide) (by decide) (by decide) ?_
  refine r_new (ty0 := tyX6) (fs := [.int 0, .int 0, .int 0, .int 0, .int 0]) X hR hS (ci := 3) rfl in_X6 tyX6_ok q1144 q1145 q109 (fun j hj => by rcases (show j = 0 ∨ j = 1 ∨ j = 2 ∨ j = 3 ∨ j = 4 by omega) with rfl | rfl | rfl | rfl | rfl <;> rfl) (by decide) (by decide) dX1_create_28 (fun q H1 hq hM hxt hz hS => ?_)
  subst hq
  refine lv_dup hx hb dX1_create_31 rfl ?_
  refine lv_iload_n hx hb dX1_create_32 rfl (lv_at hl 1 rfl) ?_
  refine lv_iload_n hx hb dX1_create_33 rfl (lv_at hl 2 rfl) ?_
  refine lv_iload_n hx hb dX1_create_34 rfl (lv_at hl 3 rfl) ?_
  refine lv_iload hx hb dX1_create_35 (lv_at hl 4 rfl) ?_
  refine lv_iload hx hb dX1_create_37 (lv_at hl 5 rfl) ?_
  refine r_callI (cells1 := 1) (slots1 := 5) X hR (c_X6_init G s.heap.size n l w wt bo) q1146 q1147 q109 q1148 rfl pd_X6_init ⟨by decide, by decide⟩ rfl rfl (by decide) (by decide) rfl (Nat.le_of_ble_eq_true rfl) hl.1 dX1_create_39 (hB.ext hxt) hM hS (fun q h => Or.inr (Nat.le_of_eq h.symm)) (fun v H2 locs hp _ _ hS => ?_)
  obtain ⟨rfl, hM⟩ := hp
  exact r_aret hx hb hr hlk hQ hS (by decide) (by decide) dX1_create_42 (Or.inl ⟨_, rfl⟩) (Or.inr ⟨_, rfl⟩) ⟨rfl, by rw [fp_bE_0 (b := fp_blk n 0 l w wt bo) rfl]; exact hM⟩
theorem c_X1_create_1 (G : fp_G) (n l w wt bo : Nat) : fp_M G yX1_create cX1_create 6 (some (.object "FortPlanner$Block")) 3 100 1 5 [.int (iI ((98 : Nat) : Int)), .int (iI ((n : Nat) : Int)), .int (iI ((l : Nat) : Int)), .int (iI ((w : Nat) : Int)), .int (iI ((wt : Nat) : Int)), .int (iI ((bo : Nat) : Int))] (fun _ => True) fp_no (fun H v H1 => v = some (.ref H.size) ∧ fp_At G H1 H.size (fp_bE (fp_blk n 1 l w wt bo))) := by
  refine fp_M.intro (by decide) (Nat.le_of_ble_eq_true rfl) ?_
  intro pg en s mi ag bl mt cd rR qQ ls X hx hb hr hlk hnm hR hQ hB hM hl
  have hS : va_S (fA fp_no s.heap.size) s.heap s.heap [] := va_S.rf
  generalize ([] : List Loc) = locs at hS ⊢
  refine lv_iload_n hx hb dX1_create_0 rfl (lv_at hl 0 rfl) ?_
  refine lv_lookup (off := 42) (tgt := 43) hx hb dX1_create_1 (by decide) (by decide) (by decide) ?_
  refine r_new (ty0 := tyX7) (fs := [.int 0, .int 0, .int 0, .int 0, .int 0]) X hR hS (ci := 4) rfl in_X7 tyX7_ok q1177 q1178 q110 (fun j hj => by rcases (show j = 0 ∨ j = 1 ∨ j = 2 ∨ j = 3 ∨ j = 4 by omega) with rfl | rfl | rfl | rfl | rfl <;> rfl) (by decide) (by decide) dX1_create_43 (fun q H1 hq hM hxt hz hS => ?_)
  subst hq
  refine lv_dup hx hb dX1_create_46 rfl ?_
  refine lv_iload_n hx hb dX1_create_47 rfl (lv_at hl 1 rfl) ?_
  refine lv_iload_n hx hb dX1_create_48 rfl (lv_at hl 2 rfl) ?_
  refine lv_iload_n hx hb dX1_create_49 rfl (lv_at hl 3 rfl) ?_
  refine lv_iload hx hb dX1_create_50 (lv_at hl 4 rfl) ?_
  refine lv_iload hx hb dX1_create_52 (lv_at hl 5 rfl) ?_
  refine r_callI (cells1 := 1) (slots1 := 5) X hR (c_X7_init G s.heap.size n l w wt bo) q1179 q1180 q110 q1181 rfl pd_X7_init ⟨by decide, by decide⟩ rfl rfl (by decide) (by decide) rfl (Nat.le_of_ble_eq_true rfl) hl.1 dX1_create_54 (hB.ext hxt) hM hS (fun q h => Or.inr (Nat.le_of_eq h.symm)) (fun v H2 locs hp _ _ hS => ?_)
  obtain ⟨rfl, hM⟩ := hp
  exact r_aret hx hb hr hlk hQ hS (by decide) (by decide) dX1_create_57 (Or.inl ⟨_, rfl⟩) (Or.inr ⟨_, rfl⟩) ⟨rfl, by rw [fp_bE_1 (b := fp_blk n 1 l w wt bo) rfl]; exact hM⟩
theorem c_X1_create_2 (G : fp_G) (n l w wt bo : Nat) : fp_M G yX1_create cX1_create 6 (some (.object "FortPlanner$Block")) 3 100 1 6 [.int (iI ((103 : Nat) : Int)), .int (iI ((n : Nat) : Int)), .int (iI ((l : Nat) : Int)), .int (iI ((w : Nat) : Int)), .int (iI ((wt : Nat) : Int)), .int (iI ((bo : Nat) : Int))] (fun _ => True) fp_no (fun H v H1 => v = some (.ref H.size) ∧ fp_At G H1 H.size (fp_bE (fp_blk n 2 l w wt bo))) := by
  refine fp_M.intro (by decide) (Nat.le_of_ble_eq_true rfl) ?_
  intro pg en s mi ag bl mt cd rR qQ ls X hx hb hr hlk hnm hR hQ hB hM hl
  have hS : va_S (fA fp_no s.heap.size) s.heap s.heap [] := va_S.rf
  generalize ([] : List Loc) = locs at hS ⊢
  refine lv_iload_n hx hb dX1_create_0 rfl (lv_at hl 0 rfl) ?_
  refine lv_lookup (off := 57) (tgt := 58) hx hb dX1_create_1 (by decide) (by decide) (by decide) ?_
  refine r_new (ty0 := tyX8) (fs := [.int 0, .int 0, .int 0, .int 0, .int 0, .int 0]) X hR hS (ci := 5) rfl in_X8 tyX8_ok q1188 q1189 q111 (fun j hj => by rcases (show j = 0 ∨ j = 1 ∨ j = 2 ∨ j = 3 ∨ j = 4 ∨ j = 5 by omega) with rfl | rfl | rfl | rfl | rfl | rfl <;> rfl) (by decide) (by decide) dX1_create_58 (fun q H1 hq hM hxt hz hS => ?_)
  subst hq
  refine lv_dup hx hb dX1_create_61 rfl ?_
  refine lv_iload_n hx hb dX1_create_62 rfl (lv_at hl 1 rfl) ?_
  refine lv_iload_n hx hb dX1_create_63 rfl (lv_at hl 2 rfl) ?_
  refine lv_iload_n hx hb dX1_create_64 rfl (lv_at hl 3 rfl) ?_
  refine lv_iload hx hb dX1_create_65 (lv_at hl 4 rfl) ?_
  refine lv_iload hx hb dX1_create_67 (lv_at hl 5 rfl) ?_
  refine r_callI (cells1 := 1) (slots1 := 6) X hR (c_X8_init G s.heap.size n l w wt bo) q1190 q1191 q111 q1192 rfl pd_X8_init ⟨by decide, by decide⟩ rfl rfl (by decide) (by decide) rfl (Nat.le_of_ble_eq_true rfl) hl.1 dX1_create_69 (hB.ext hxt) hM hS (fun q h => Or.inr (Nat.le_of_eq h.symm)) (fun v H2 locs hp _ _ hS => ?_)
  obtain ⟨rfl, hM⟩ := hp
  exact r_aret hx hb hr hlk hQ hS (by decide) (by decide) dX1_create_72 (Or.inl ⟨_, rfl⟩) (Or.inr ⟨_, rfl⟩) ⟨rfl, by rw [fp_bE_2 (b := fp_blk n 2 l w wt bo) rfl]; exact hM⟩
