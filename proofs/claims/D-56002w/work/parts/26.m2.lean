/-! THE MODEL: what changes it -/
set_option maxHeartbeats 4000000 in
theorem c_X4_fail (G : fp_G) (ad : Nat → Nat) (sc : Nat → Int) (ar : Nat → Nat → Int) (hA0 : fp_MA G ad) (pl : Int) : fp_M G yX4_fail cX4_fail 2 (some .int) 1 12 0 0 [.ref (ad 0), .int (iI (pl))] (fp_ME G ad sc ar) (fp_ma ad) (fun _ v H => v = some (.int (iI ((0 : Nat) : Int))) ∧ fp_ME G ad (va_up sc 0 ((pl))) ar H) := by
  refine fp_M.intro (by decide) (Nat.le_of_ble_eq_true rfl) ?_
  intro pg en s mi ag bl mt cd rR qQ ls X hx hb hr hlk hnm hR hQ hB hM hl
  have hS : va_S (fA (fp_ma ad) s.heap.size) s.heap s.heap [] := va_S.rf
  generalize ([] : List Loc) = locs at hS ⊢
  refine lv_aload_n hx hb dX4_fail_0 rfl (lv_at hl 0 rfl) ?_
  refine lv_iload_n hx hb dX4_fail_1 rfl (lv_at hl 1 rfl) ?_
  refine m_put X hM hS hA0 (k := 0) (sc2 := (va_up sc 0 ((pl)))) rfl (by decide) q2009 rfl rfl rfl dX4_fail_2 rfl (fun H locs hM_1 hS => ?_)
  refine lv_iconst (v := (iI ((0 : Nat) : Int))) hx hb dX4_fail_5 rfl ?_
  refine r_iret hx hb hr hlk hQ hS (Nat.le_of_ble_eq_true rfl) (Nat.le_of_ble_eq_true rfl) dX4_fail_6 ?_
  exact ⟨rfl, hM_1⟩
set_option maxHeartbeats 4000000 in
theorem c_X4_lays (G : fp_G) (ad : Nat → Nat) (sc : Nat → Int) (ar : Nat → Nat → Int) (hA0 : fp_MA G ad) (i : Nat) (j : Nat) (hi : fp_ml i = 170) (hj : fp_ml j = 170) (hij : j ≠ i) (hi5 : 5 ≤ i ∧ i < 17) (hj5 : 5 ≤ j ∧ j < 17) : fp_M G yX4_lays cX4_lays 3 none 1 12 0 0 [.ref (ad i), .ref (ad j)] (fp_ME G ad sc ar) (fp_ma ad) (fun _ v H => v = none ∧ fp_ME G ad sc (va_up ar i (ar j)) H) := by
  refine fp_M.intro (by decide) (Nat.le_of_ble_eq_true rfl) ?_
  intro pg en s mi ag bl mt cd rR qQ ls X hx hb hr hlk hnm hR hQ hB hM hl
  have hS : va_S (fA (fp_ma ad) s.heap.size) s.heap s.heap [] := va_S.rf
  generalize ([] : List Loc) = locs at hS ⊢
  refine lv_iconst (v := (iI ((0 : Nat) : Int))) hx hb dX4_lays_0 rfl ?_
  refine lv_istore_n (lv' := [(2, .int (iI ((0 : Nat) : Int))), (0, .ref (ad i)), (1, .ref (ad j))]) hx hb dX4_lays_1 rfl hl (by decide) rfl (fun ls hl => ?_)
  have L2 : ∀ (k : Nat), k ≤ 170 → ∀ (H : Heap) (locs : List Loc) (ls : Array Slot), lv_has ls 3 [(0, .ref (ad i)), (1, .ref (ad j)), (2, .int (iI ((k : Nat) : Int)))] → va_S (fA (fp_ma ad) s.heap.size) s.heap H locs → fp_ME G ad sc (va_up ar i (fun x => if x < k then ar j x else ar i x)) H → W pg (g_l G) en rR s mi ag bl mt cd H locs 0 0 qQ (F0 mi 2 ls []) := by
    refine lp_up 170 ?_
    intro k hk2 ih2 H locs ls hl hS hM
    refine lv_iload_n hx hb dX4_lays_2 rfl (lv_at hl 2 rfl) ?_
    refine lv_sipush (v := (iI ((170 : Nat) : Int))) hx hb dX4_lays_3 rfl ?_
    refine r_icmp_ge (tgt := 21) hx hb ⟨by omega, by omega⟩ (by decide) dX4_lays_6 (by decide) (fun c6 => ?_) (fun c6 => ?_)
    · skip
      refine r_vret hx hb hr hlk hQ hS (Nat.le_of_ble_eq_true rfl) (Nat.le_of_ble_eq_true rfl) dX4_lays_21 ?_
      exact ⟨rfl, (fp_ME.congr hM (fun q _ _ y hy => by by_cases e : q = i <;> simp [va_up, e] <;> (subst e; omega)))⟩
    · skip
      refine lv_aload_n hx hb dX4_lays_9 rfl (lv_at hl 0 rfl) ?_
      refine lv_iload_n hx hb dX4_lays_10 rfl (lv_at hl 2 rfl) ?_
      refine lv_aload_n hx hb dX4_lays_11 rfl (lv_at hl 1 rfl) ?_
      refine lv_iload_n hx hb dX4_lays_12 rfl (lv_at hl 2 rfl) ?_
      refine r_ialdI X (hM.2 j hj5.1 hj5.2) (j := k) (n := fp_ml j) rfl (by rw [hj]; omega) (by rw [hj]; decide) dX4_lays_13 ?_
      refine r_set (y := .int (iI (ar j k))) (congrArg (fun q : Int => Value.int (iI q)) (congrFun (va_up_ne _ _ hij) _)) ?_
      refine m_ast X hM hS hA0 (k := i) (j := k) (z := (ar j k)) hi5 rfl (n := 170) hi (by omega) dX4_lays_14 (fun H locs hM_1 hS => ?_)
      refine lv_iinc (v := (iI ((k + 1 : Nat) : Int))) (lv' := [(2, .int (iI ((k + 1 : Nat) : Int))), (0, .ref (ad i)), (1, .ref (ad j))]) hx hb dX4_lays_15 hl (k := 2) rfl (iI_incN _ _) (by decide) rfl (fun ls hl => ?_)
      refine lv_goto (tgt := 2) hx hb dX4_lays_18 (by decide) ?_
      exact ih2 (by omega) H locs ls (lv_sub hl [1, 2, 0] rfl) hS (fp_ME.st1 hM_1 (fun x hx => by by_cases e : x = k <;> (try subst e) <;> simp [va_up, *] <;> (try omega)))
  exact L2 0 (by omega) (s.heap) locs ls (lv_sub hl [1, 2, 0] rfl) hS (fp_ME.st0 hM i (fun x hx => by rw [if_neg (Nat.not_lt_zero _)]))
set_option maxHeartbeats 4000000 in
theorem c_X4_begins (G : fp_G) (ad : Nat → Nat) (sc : Nat → Int) (ar : Nat → Nat → Int) (hA0 : fp_MA G ad) : fp_M G yX4_begins cX4_begins 1 none 2 34 0 0 [.ref (ad 0)] (fp_ME G ad sc ar) (fp_ma ad) (fun _ v H => v = none ∧ fp_ME G ad (va_up sc 0 (((0 : Nat) : Int))) (va_up ar 6 (ar 5)) H) := by
  refine fp_M.intro (by decide) (Nat.le_of_ble_eq_true rfl) ?_
  intro pg en s mi ag bl mt cd rR qQ ls X hx hb hr hlk hnm hR hQ hB hM hl
  have hS : va_S (fA (fp_ma ad) s.heap.size) s.heap s.heap [] := va_S.rf
  generalize ([] : List Loc) = locs at hS ⊢
  refine lv_aload_n hx hb dX4_begins_0 rfl (lv_at hl 0 rfl) ?_
  refine lv_iconst (v := (iI ((0 : Nat) : Int))) hx hb dX4_begins_1 rfl ?_
  refine m_put X hM hS hA0 (k := 0) (sc2 := (va_up sc 0 (((0 : Nat) : Int)))) rfl (by decide) q2009 rfl rfl rfl dX4_begins_2 rfl (fun H locs hM_1 hS => ?_)
  refine lv_aload_n hx hb dX4_begins_5 rfl (lv_at hl 0 rfl) ?_
  refine r_get X hM_1.1 rfl in_X4 6 (by decide) q2015 (Or.inl rfl) (v := .ref (ad 6)) rfl dX4_begins_6 ?_
  refine lv_aload_n hx hb dX4_begins_9 rfl (lv_at hl 0 rfl) ?_
  refine r_get X hM_1.1 rfl in_X4 5 (by decide) q2014 (Or.inl rfl) (v := .ref (ad 5)) rfl dX4_begins_10 ?_
  refine r_callS (cells1 := 0) (slots1 := 0) X hR (c_X4_lays G ad (va_up sc 0 (((0 : Nat) : Int))) ar hA0 6 5 rfl rfl (by decide) (by decide) (by decide)) q2091 q2092 q100 q2093 pd_X4_lays (by decide) rfl rfl (by decide) (by decide) rfl (Nat.le_of_ble_eq_true rfl) hl.1 dX4_begins_13 (hB.of hS (fp_ma.base hA0)) hM_1 hS (fun _ h => Or.inl h) (fun v H locs hp_2 hzC hkC hS => ?_)
  obtain ⟨rfl, hM_3⟩ := hp_2
  refine r_stk (st2 := []) rfl ?_
  refine r_vret hx hb hr hlk hQ hS (Nat.le_of_ble_eq_true rfl) (Nat.le_of_ble_eq_true rfl) dX4_begins_16 ?_
  exact ⟨rfl, hM_3⟩
set_option maxHeartbeats 4000000 in
theorem c_X4_finds (G : fp_G) (ad : Nat → Nat) (sc : Nat → Int) (ar : Nat → Nat → Int) (S : PS) (hA0 : fp_MA G ad) (hV : fp_VR S (ar 5)) (z : Int) (hz : rg z) : fp_M G yX4_finds cX4_finds 3 (some .int) 2 34 0 0 [.ref (ad 0), .int (iI (z))] (fp_ME G ad sc ar) (fp_ma ad) (fun _ v H => (∃ (kf : Nat), v = some (.int (iI ((kf : Nat) : Int))) ∧ fp_ME G ad (va_up sc 0 (((0 : Nat) : Int))) ar H ∧ (kf < sN S) ∧ ((sB S kf 0 : Int) = z) ∧ (fp_fnd S z = kf)) ∨ (v = some (.int (iI (-1))) ∧ fp_ME G ad (va_up sc 0 (((1 : Nat) : Int))) ar H ∧ (fp_fnd S z = sN S))) := by
  refine fp_M.intro (by decide) (Nat.le_of_ble_eq_true rfl) ?_
  intro pg en s mi ag bl mt cd rR qQ ls X hx hb hr hlk hnm hR hQ hB hM hl
  have hS : va_S (fA (fp_ma ad) s.heap.size) s.heap s.heap [] := va_S.rf
  generalize ([] : List Loc) = locs at hS ⊢
  have hN24 := hV.1.1
  refine lv_aload_n hx hb dX4_finds_0 rfl (lv_at hl 0 rfl) ?_
  refine lv_iconst (v := (iI ((0 : Nat) : Int))) hx hb dX4_finds_1 rfl ?_
  refine m_put X hM hS hA0 (k := 0) (sc2 := (va_up sc 0 (((0 : Nat) : Int)))) rfl (by decide) q2009 rfl rfl rfl dX4_finds_2 rfl (fun H locs hM_1 hS => ?_)
  refine lv_iconst (v := (iI ((0 : Nat) : Int))) hx hb dX4_finds_5 rfl ?_
  refine lv_istore_n (lv' := [(2, .int (iI ((0 : Nat) : Int))), (0, .ref (ad 0)), (1, .int (iI (z)))]) hx hb dX4_finds_6 rfl hl (by decide) rfl (fun ls hl => ?_)
  have L7 : ∀ (k : Nat), k ≤ sN S → ∀ (locs : List Loc) (ls : Array Slot),(∀ j, j < k → decide ((sB S j 0 : Int) = z) = false) → lv_has ls 3 [(0, .ref (ad 0)), (1, .int (iI (z))), (2, .int (iI ((k : Nat) : Int)))] → va_S (fA (fp_ma ad) s.heap.size) s.heap H locs → W pg (g_l G) en rR s mi ag bl mt cd H locs 0 0 qQ (F0 mi 7 ls []) := by
    refine lp_up (sN S) ?_
    intro k hk7 ih7 locs ls hq hl hS
    refine lv_iload_n hx hb dX4_finds_7 rfl (lv_at hl 2 rfl) ?_
    refine lv_aload_n hx hb dX4_finds_8 rfl (lv_at hl 0 rfl) ?_
    refine r_get X hM_1.1 rfl in_X4 5 (by decide) q2014 (Or.inl rfl) (v := .ref (ad 5)) rfl dX4_finds_9 ?_
    refine lv_iconst (v := (iI ((0 : Nat) : Int))) hx hb dX4_finds_12 rfl ?_
    refine r_ialdI X (hM_1.2 5 (by decide) (by decide)) (j := 0) (n := 170) rfl (by decide) (by decide) dX4_finds_13 ?_
    refine r_set (y := .int (iI ((sN S : Nat) : Int))) (congrArg (fun q : Int => Value.int (iI q)) (hV.2.1)) ?_
    refine r_icmp_ge (tgt := 35) hx hb ⟨by omega, by omega⟩ ⟨by omega, by omega⟩ dX4_finds_14 (by decide) (fun c14 => ?_) (fun c14 => ?_)
    · skip
      refine lv_aload_n hx hb dX4_finds_35 rfl (lv_at hl 0 rfl) ?_
      refine lv_iconst (v := (iI ((1 : Nat) : Int))) hx hb dX4_finds_36 rfl ?_
      refine m_put X hM_1 hS hA0 (k := 0) (sc2 := (va_up sc 0 (((1 : Nat) : Int)))) rfl (by decide) q2009 rfl rfl rfl dX4_finds_37 rfl (fun H locs hM_2 hS => ?_)
      refine lv_iconst (v := (iI (-1))) hx hb dX4_finds_40 rfl ?_
      refine r_iret hx hb hr hlk hQ hS (Nat.le_of_ble_eq_true rfl) (Nat.le_of_ble_eq_true rfl) dX4_finds_41 ?_
      exact Or.inr (⟨rfl, hM_2, (fp_fi_n (fun j hj => hq j (by omega)))⟩)
    · skip
      have hbk := hV.1.2.2.1 k (by omega)
      refine lv_aload_n hx hb dX4_finds_17 rfl (lv_at hl 0 rfl) ?_
      refine lv_iload_n hx hb dX4_finds_18 rfl (lv_at hl 2 rfl) ?_
      refine lv_iconst (v := (iI ((0 : Nat) : Int))) hx hb dX4_finds_19 rfl ?_
      refine r_callV (cells1 := 0) (slots1 := 0) X hR (c_X4_of G ad (va_up sc 0 (((0 : Nat) : Int))) ar S hA0 hV k 0 (by omega) (by omega)) q2123 q2125 qs51 q100 q2126 ⟨rfl, pd_X4_of⟩ (by decide) rfl rfl (by decide) (by decide) hM_1.1 rfl rfl (Nat.le_of_ble_eq_true rfl) hl.1 dX4_finds_20 (hB.of hS (fp_ma.base hA0)) hM_1 hS (fun _ h => h.elim) (fun v H1 locs hp_3 hzC hkC hS => ?_)
      obtain ⟨rfl, rfl⟩ := hp_3
      refine r_stk (st2 := [.int (iI ((sB S k 0 : Nat) : Int))]) rfl ?_
      refine lv_iload_n hx hb dX4_finds_23 rfl (lv_at hl 1 rfl) ?_
      refine r_icmp_ne (tgt := 29) hx hb ⟨by omega, by omega⟩ ⟨by omega, by omega⟩ dX4_finds_24 (by decide) (fun c24 => ?_) (fun c24 => ?_)
      · skip
        refine lv_iinc (v := (iI ((k + 1 : Nat) : Int))) (lv' := [(2, .int (iI ((k + 1 : Nat) : Int))), (0, .ref (ad 0)), (1, .int (iI (z)))]) hx hb dX4_finds_29 hl (k := 2) rfl (iI_incN _ _) (by decide) rfl (fun ls hl => ?_)
        refine lv_goto (tgt := 7) hx hb dX4_finds_32 (by decide) ?_
        exact ih7 (by omega) locs ls (lt_s hq (decide_eq_false (by omega))) (lv_sub hl [1, 2, 0] rfl) hS
      · skip
        refine lv_iload_n hx hb dX4_finds_27 rfl (lv_at hl 2 rfl) ?_
        refine r_iret hx hb hr hlk hQ hS (Nat.le_of_ble_eq_true rfl) (Nat.le_of_ble_eq_true rfl) dX4_finds_28 ?_
        exact Or.inl ⟨k, rfl, hM_1, (by omega), (by omega), (fp_fi_eq (by omega) (decide_eq_true (by omega)) hq)⟩
  exact L7 0 (by omega) locs ls lt_0 (lv_sub hl [1, 2, 0] rfl) hS
set_option maxHeartbeats 4000000 in
theorem c_X4_passesOn (G : fp_G) (ad : Nat → Nat) (sc : Nat → Int) (ar : Nat → Nat → Int) (S : PS) (hA0 : fp_MA G ad) (hV : fp_VR S (ar 5)) (L : Nat → Nat) (hL : ∀ j, j < sN S → ar 10 j = (L j : Int)) (hLb : ∀ j, j < sN S → L j ≤ 167772160) (u : Nat) (hu : u < sN S) : fp_M G yX4_passesOn cX4_passesOn 5 none 5 102 0 0 [.ref (ad 0), .int (iI ((u : Nat) : Int))] (fp_ME G ad sc ar) (fp_ma ad) (fun _ v H => ∃ (f : Nat → Int), v = none ∧ fp_ME G ad sc (va_up ar 10 f) H ∧ (∀ j, j < sN S → f j = (fp_pass S u L j : Int))) := by
  refine fp_M.intro (by decide) (Nat.le_of_ble_eq_true rfl) ?_
  intro pg en s mi ag bl mt cd rR qQ ls X hx hb hr hlk hnm hR hQ hB hM hl
  have hS : va_S (fA (fp_ma ad) s.heap.size) s.heap s.heap [] := va_S.rf
  generalize ([] : List Loc) = locs at hS ⊢
  have hN24 := hV.1.1
  have hbu := hV.1.2.2.1 u hu
  have hLu := hLb u hu
  refine lv_aload_n hx hb dX4_passesOn_0 rfl (lv_at hl 0 rfl) ?_
  refine lv_iload_n hx hb dX4_passesOn_1 rfl (lv_at hl 1 rfl) ?_
  refine r_callV (cells1 := 0) (slots1 := 0) X hR (c_X4_supporters G ad sc ar S hA0 hV u (by omega)) q2143 q2145 qs56 q100 q2146 ⟨rfl, pd_X4_supporters⟩ (by decide) rfl rfl (by decide) (by decide) hM.1 rfl rfl (Nat.le_of_ble_eq_true rfl) hl.1 dX4_passesOn_2 (hB.of hS (fp_ma.base hA0)) hM hS (fun _ h => h.elim) (fun v H1 locs hp_1 hzC hkC hS => ?_)
  obtain ⟨rfl, rfl⟩ := hp_1
  refine r_stk (st2 := [.int (iI ((fp_nsup S u : Nat) : Int))]) rfl ?_
  refine lv_istore_n (lv' := [(2, .int (iI ((fp_nsup S u : Nat) : Int))), (0, .ref (ad 0)), (1, .int (iI ((u : Nat) : Int)))]) hx hb dX4_passesOn_5 rfl hl (by decide) rfl (fun ls hl => ?_)
  refine lv_aload_n hx hb dX4_passesOn_6 rfl (lv_at hl 1 rfl) ?_
  refine lv_iload_n hx hb dX4_passesOn_7 rfl (lv_at hl 2 rfl) ?_
  refine lv_iconst (v := (iI ((4 : Nat) : Int))) hx hb dX4_passesOn_8 rfl ?_
  refine r_callV (cells1 := 0) (slots1 := 0) X hR (c_X4_of G ad sc ar S hA0 hV u 4 (by omega) (by omega)) q2123 q2125 qs51 q100 q2126 ⟨rfl, pd_X4_of⟩ (by decide) rfl rfl (by decide) (by decide) hM.1 rfl rfl (Nat.le_of_ble_eq_true rfl) hl.1 dX4_passesOn_9 (hB.of hS (fp_ma.base hA0)) hM hS (fun _ h => h.elim) (fun v H1 locs hp_2 hzC hkC hS => ?_)
  obtain ⟨rfl, rfl⟩ := hp_2
  refine r_stk (st2 := [.int (iI ((sB S u 4 : Nat) : Int))]) rfl ?_
  refine lv_aload_n hx hb dX4_passesOn_12 rfl (lv_at hl 1 rfl) ?_
  refine r_get X hM.1 rfl in_X4 10 (by decide) q2019 (Or.inl rfl) (v := .ref (ad 10)) rfl dX4_passesOn_13 ?_
  refine lv_iload_n hx hb dX4_passesOn_16 rfl (lv_at hl 2 rfl) ?_
  refine r_ialdI X (hM.2 10 (by decide) (by decide)) (j := u) (n := 24) rfl (by omega) (by decide) dX4_passesOn_17 ?_
  refine r_set (y := .int (iI ((L u : Nat) : Int))) (congrArg (fun q : Int => Value.int (iI q)) (hL u hu)) ?_
  refine r_iaddN hx hb dX4_passesOn_18 ?_
  refine lv_istore_n (lv' := [(3, .int (iI (((sB S u 4) + (L u) : Nat) : Int))), (2, .int (iI ((fp_nsup S u : Nat) : Int))), (0, .ref (ad 0)), (1, .int (iI ((u : Nat) : Int)))]) hx hb dX4_passesOn_19 rfl hl (by decide) rfl (fun ls hl => ?_)
  refine lv_iconst (v := (iI ((0 : Nat) : Int))) hx hb dX4_passesOn_20 rfl ?_
  refine lv_istore (lv' := [(4, .int (iI ((0 : Nat) : Int))), (3, .int (iI (((sB S u 4) + (L u) : Nat) : Int))), (2, .int (iI ((fp_nsup S u : Nat) : Int))), (0, .ref (ad 0)), (1, .int (iI ((u : Nat) : Int)))]) hx hb dX4_passesOn_21 hl (by decide) rfl (fun ls hl => ?_)
  have L23 : ∀ (k : Nat), k ≤ sN S → ∀ (f : Nat → Int) (H : Heap) (locs : List Loc) (ls : Array Slot),(fp_ps S u L f k) → lv_has ls 5 [(0, .ref (ad 0)), (1, .int (iI ((u : Nat) : Int))), (2, .int (iI ((fp_nsup S u : Nat) : Int))), (3, .int (iI (((sB S u 4) + (L u) : Nat) : Int))), (4, .int (iI ((k : Nat) : Int)))] → va_S (fA (fp_ma ad) s.heap.size) s.heap H locs → fp_ME G ad sc (va_up ar 10 f) H → W pg (g_l G) en rR s mi ag bl mt cd H locs 0 0 qQ (F0 mi 23 ls []) := by
    refine lp_up (sN S) ?_
    intro k hk23 ih23 f H locs ls hf hl hS hM
    refine lv_iload hx hb dX4_passesOn_23 (lv_at hl 4 rfl) ?_
    refine lv_aload_n hx hb dX4_passesOn_25 rfl (lv_at hl 0 rfl) ?_
    refine r_get X hM.1 rfl in_X4 5 (by decide) q2014 (Or.inl rfl) (v := .ref (ad 5)) rfl dX4_passesOn_26 ?_
    refine lv_iconst (v := (iI ((0 : Nat) : Int))) hx hb dX4_passesOn_29 rfl ?_
    refine r_ialdI X (hM.2 5 (by decide) (by decide)) (j := 0) (n := 170) rfl (by decide) (by decide) dX4_passesOn_30 ?_
    refine r_set (y := .int (iI ((sN S : Nat) : Int))) (congrArg (fun q : Int => Value.int (iI q)) (hV.2.1)) ?_
    refine r_icmp_ge (tgt := 82) hx hb ⟨by omega, by omega⟩ ⟨by omega, by omega⟩ dX4_passesOn_31 (by decide) (fun c31 => ?_) (fun c31 => ?_)
    · skip
      refine r_vret hx hb hr hlk hQ hS (Nat.le_of_ble_eq_true rfl) (Nat.le_of_ble_eq_true rfl) dX4_passesOn_82 ?_
      exact ⟨f, rfl, hM, (fp_ps_n (by rw [show sN S = k by omega]; exact hf))⟩
    · skip
      have hbk := hV.1.2.2.1 k (by omega)
      refine lv_aload_n hx hb dX4_passesOn_34 rfl (lv_at hl 0 rfl) ?_
      refine lv_iload hx hb dX4_passesOn_35 (lv_at hl 4 rfl) ?_
      refine lv_iload_n hx hb dX4_passesOn_37 rfl (lv_at hl 1 rfl) ?_
      refine r_callV (cells1 := 0) (slots1 := 0) X hR (c_X4_supports G ad sc (va_up ar 10 f) S hA0 hV k u (by omega) (by omega)) q2147 q2149 qs57 q100 q2150 ⟨rfl, pd_X4_supports⟩ (by decide) rfl rfl (by decide) (by decide) hM.1 rfl rfl (Nat.le_of_ble_eq_true rfl) hl.1 dX4_passesOn_38 (hB.of hS (fp_ma.base hA0)) hM hS (fun _ h => h.elim) (fun v H1 locs hp_3 hzC hkC hS => ?_)
      obtain ⟨rfl, rfl⟩ := hp_3
      refine r_stk (st2 := [.int (iI (bI (fp_sup (sB S k) (sB S u))))]) rfl ?_
      refine r_ifeqB (tgt := 76) hx hb dX4_passesOn_41 (by decide) (fun c41 => ?_) (fun c41 => ?_)
      · skip
        refine lv_iinc (v := (iI ((k + 1 : Nat) : Int))) (lv' := [(4, .int (iI ((k + 1 : Nat) : Int))), (0, .ref (ad 0)), (1, .int (iI ((u : Nat) : Int))), (2, .int (iI ((fp_nsup S u : Nat) : Int))), (3, .int (iI (((sB S u 4) + (L u) : Nat) : Int)))]) hx hb dX4_passesOn_76 hl (k := 4) rfl (iI_incN _ _) (by decide) rfl (fun ls hl => ?_)
        refine lv_goto (tgt := 23) hx hb dX4_passesOn_79 (by decide) ?_
        exact ih23 (by omega) f H locs ls (fp_ps0 hf c41) (lv_sub hl [1, 2, 3, 4, 0] rfl) hS hM
      · skip
        refine lv_aload_n hx hb dX4_passesOn_44 rfl (lv_at hl 0 rfl) ?_
        refine r_get X hM.1 rfl in_X4 10 (by decide) q2019 (Or.inl rfl) (v := .ref (ad 10)) rfl dX4_passesOn_45 ?_
        refine lv_iload hx hb dX4_passesOn_48 (lv_at hl 4 rfl) ?_
        refine lv_dup2_11 hx hb dX4_passesOn_50 rfl rfl ?_
        refine r_ialdI X (hM.2 10 (by decide) (by decide)) (j := k) (n := 24) rfl (by omega) (by decide) dX4_passesOn_51 ?_
        refine r_set (y := .int (iI ((L k : Nat) : Int))) (congrArg (fun q : Int => Value.int (iI q)) (show f k = _ from fp_psr hf (by omega))) ?_
        refine lv_iload_n hx hb dX4_passesOn_52 rfl (lv_at hl 3 rfl) ?_
        have hnp : 0 < fp_nsup S u := fp_ct_pos (k := k) (by omega) c41
        have hnl : fp_nsup S u ≤ sN S := fp_ct_le _ _
        refine lv_iload_n hx hb dX4_passesOn_53 rfl (lv_at hl 2 rfl) ?_
        refine r_idivN hx hb ⟨by omega, by omega, by omega⟩ dX4_passesOn_54 ?_
        refine lv_aload_n hx hb dX4_passesOn_55 rfl (lv_at hl 0 rfl) ?_
        refine lv_iload hx hb dX4_passesOn_56 (lv_at hl 4 rfl) ?_
        refine lv_iload_n hx hb dX4_passesOn_58 rfl (lv_at hl 1 rfl) ?_
        refine r_callV (cells1 := 0) (slots1 := 0) X hR (c_X4_rank G ad sc (va_up ar 10 f) S hA0 hV k u (by omega) (by omega)) q2151 q2153 qs58 q100 q2154 ⟨rfl, pd_X4_rank⟩ (by decide) rfl rfl (by decide) (by decide) hM.1 rfl rfl (Nat.le_of_ble_eq_true rfl) hl.1 dX4_passesOn_59 (hB.of hS (fp_ma.base hA0)) hM hS (fun _ h => h.elim) (fun v H1 locs hp_4 hzC hkC hS => ?_)
        obtain ⟨rfl, rfl⟩ := hp_4
        refine r_stk (st2 := [.int (iI ((fp_rk S k u : Nat) : Int)), .int (iI ((((sB S u 4) + (L u)) / (fp_nsup S u) : Nat) : Int)), .int (iI ((L k : Nat) : Int)), .int (iI ((k : Nat) : Int)), .ref (ad 10)]) rfl ?_
        refine lv_iload_n hx hb dX4_passesOn_62 rfl (lv_at hl 3 rfl) ?_
        refine lv_iload_n hx hb dX4_passesOn_63 rfl (lv_at hl 2 rfl) ?_
        have hrl : fp_rk S k u ≤ sN S := fp_ct_le _ _
        refine r_iremN hx hb ⟨by omega, by omega, by omega⟩ dX4_passesOn_64 ?_
        have hml := Nat.mod_lt (sB S u 4 + L u) hnp
        refine r_icmp_ge (tgt := 72) hx hb ⟨by omega, by omega⟩ ⟨by omega, by omega⟩ dX4_passesOn_65 (by decide) (fun c65 => ?_) (fun c65 => ?_)
        · skip
          refine lv_iconst (v := (iI ((0 : Nat) : Int))) hx hb dX4_passesOn_72 rfl ?_
          refine r_iaddN hx hb dX4_passesOn_73 ?_
          refine r_iaddN hx hb dX4_passesOn_74 ?_
          refine m_ast X hM hS hA0 (k := 10) (j := k) (z := (((L k) + ((((sB S u 4) + (L u)) / (fp_nsup S u)) + 0) : Nat) : Int)) (by decide) rfl (n := 24) rfl (by omega) dX4_passesOn_75 (fun H locs hM_5 hS => ?_)
          refine lv_iinc (v := (iI ((k + 1 : Nat) : Int))) (lv' := [(4, .int (iI ((k + 1 : Nat) : Int))), (0, .ref (ad 0)), (1, .int (iI ((u : Nat) : Int))), (2, .int (iI ((fp_nsup S u : Nat) : Int))), (3, .int (iI (((sB S u 4) + (L u) : Nat) : Int)))]) hx hb dX4_passesOn_76 hl (k := 4) rfl (iI_incN _ _) (by decide) rfl (fun ls hl => ?_)
          refine lv_goto (tgt := 23) hx hb dX4_passesOn_79 (by decide) ?_
          exact ih23 (by omega) (va_up f k ((((L k) + ((((sB S u 4) + (L u)) / (fp_nsup S u)) + 0) : Nat) : Int))) H locs ls (fp_ps1 hf c41 (by show ((((L k) + ((((sB S u 4) + (L u)) / (fp_nsup S u)) + 0) : Nat) : Int) : Int) = _; rw [fp_shr_f (by omega)])) (lv_sub hl [1, 2, 3, 4, 0] rfl) hS (fp_ME.st1 hM_5 (fun _ _ => rfl))
        · skip
          refine lv_iconst (v := (iI ((1 : Nat) : Int))) hx hb dX4_passesOn_68 rfl ?_
          refine lv_goto (tgt := 73) hx hb dX4_passesOn_69 (by decide) ?_
          refine r_iaddN hx hb dX4_passesOn_73 ?_
          refine r_iaddN hx hb dX4_passesOn_74 ?_
          refine m_ast X hM hS hA0 (k := 10) (j := k) (z := (((L k) + ((((sB S u 4) + (L u)) / (fp_nsup S u)) + 1) : Nat) : Int)) (by decide) rfl (n := 24) rfl (by omega) dX4_passesOn_75 (fun H locs hM_6 hS => ?_)
          refine lv_iinc (v := (iI ((k + 1 : Nat) : Int))) (lv' := [(4, .int (iI ((k + 1 : Nat) : Int))), (0, .ref (ad 0)), (1, .int (iI ((u : Nat) : Int))), (2, .int (iI ((fp_nsup S u : Nat) : Int))), (3, .int (iI (((sB S u 4) + (L u) : Nat) : Int)))]) hx hb dX4_passesOn_76 hl (k := 4) rfl (iI_incN _ _) (by decide) rfl (fun ls hl => ?_)
          refine lv_goto (tgt := 23) hx hb dX4_passesOn_79 (by decide) ?_
          exact ih23 (by omega) (va_up f k ((((L k) + ((((sB S u 4) + (L u)) / (fp_nsup S u)) + 1) : Nat) : Int))) H locs ls (fp_ps1 hf c41 (by show ((((L k) + ((((sB S u 4) + (L u)) / (fp_nsup S u)) + 1) : Nat) : Int) : Int) = _; rw [fp_shr_t (by omega)])) (lv_sub hl [1, 2, 3, 4, 0] rfl) hS (fp_ME.st1 hM_6 (fun _ _ => rfl))
  exact L23 0 (by omega) (ar 10) (s.heap) locs ls (fp_ps_0 hL) (lv_sub hl [3, 4, 2, 1, 0] rfl) hS (fp_ME.st0 hM 10 (fun _ _ => rfl))
set_option maxHeartbeats 4000000 in
theorem c_X4_weighs (G : fp_G) (ad : Nat → Nat) (sc : Nat → Int) (ar : Nat → Nat → Int) (S : PS) (hA0 : fp_MA G ad) (hV : fp_VR S (ar 5)) : fp_M G yX4_weighs cX4_weighs 3 none 6 126 0 0 [.ref (ad 0)] (fp_ME G ad sc ar) (fp_ma ad) (fun _ v H => ∃ (f : Nat → Int), v = none ∧ fp_ME G ad sc (va_up ar 10 f) H ∧ (∀ j, j < sN S → f j = (fp_ld S j : Int))) := by
  refine fp_M.intro (by decide) (Nat.le_of_ble_eq_true rfl) ?_
  intro pg en s mi ag bl mt cd rR qQ ls X hx hb hr hlk hnm hR hQ hB hM hl
  have hS : va_S (fA (fp_ma ad) s.heap.size) s.heap s.heap [] := va_S.rf
  generalize ([] : List Loc) = locs at hS ⊢
  have hN24 := hV.1.1
  refine lv_iconst (v := (iI ((0 : Nat) : Int))) hx hb dX4_weighs_0 rfl ?_
  refine lv_istore_n (lv' := [(1, .int (iI ((0 : Nat) : Int))), (0, .ref (ad 0))]) hx hb dX4_weighs_1 rfl hl (by decide) rfl (fun ls hl => ?_)
  have L2 : ∀ (k : Nat), k ≤ sN S → ∀ (f : Nat → Int) (H : Heap) (locs : List Loc) (ls : Array Slot),(∀ j, j < k → f j = 0) → lv_has ls 3 [(0, .ref (ad 0)), (1, .int (iI ((k : Nat) : Int)))] → va_S (fA (fp_ma ad) s.heap.size) s.heap H locs → fp_ME G ad sc (va_up ar 10 f) H → W pg (g_l G) en rR s mi ag bl mt cd H locs 0 0 qQ (F0 mi 2 ls []) := by
    refine lp_up (sN S) ?_
    intro k hk2 ih2 f H locs ls hf hl hS hM
    refine lv_iload_n hx hb dX4_weighs_2 rfl (lv_at hl 1 rfl) ?_
    refine lv_aload_n hx hb dX4_weighs_3 rfl (lv_at hl 0 rfl) ?_
    refine r_get X hM.1 rfl in_X4 5 (by decide) q2014 (Or.inl rfl) (v := .ref (ad 5)) rfl dX4_weighs_4 ?_
    refine lv_iconst (v := (iI ((0 : Nat) : Int))) hx hb dX4_weighs_7 rfl ?_
    refine r_ialdI X (hM.2 5 (by decide) (by decide)) (j := 0) (n := 170) rfl (by decide) (by decide) dX4_weighs_8 ?_
    refine r_set (y := .int (iI ((sN S : Nat) : Int))) (congrArg (fun q : Int => Value.int (iI q)) (hV.2.1)) ?_
    refine r_icmp_ge (tgt := 25) hx hb ⟨by omega, by omega⟩ ⟨by omega, by omega⟩ dX4_weighs_9 (by decide) (fun c9 => ?_) (fun c9 => ?_)
    · skip
      refine lv_bipush (v := (iI ((30 : Nat) : Int))) hx hb dX4_weighs_25 rfl ?_
      refine lv_istore_n (lv' := [(1, .int (iI ((30 : Nat) : Int))), (0, .ref (ad 0))]) hx hb dX4_weighs_27 rfl hl (by decide) rfl (fun ls hl => ?_)
      have L28 : ∀ (i : Nat), i ≤ 30 → ∀ (f : Nat → Int) (H : Heap) (locs : List Loc) (ls : Array Slot),(∀ j, j < sN S → f j = (fp_lout S i j : Int)) → lv_has ls 3 [(0, .ref (ad 0)), (1, .int (iI (30 - ((i : Nat) : Int))))] → va_S (fA (fp_ma ad) s.heap.size) s.heap H locs → fp_ME G ad sc (va_up ar 10 f) H → W pg (g_l G) en rR s mi ag bl mt cd H locs 0 0 qQ (F0 mi 28 ls []) := by
        refine lp_up 30 ?_
        intro i hk28 ih28 f H locs ls hf hl hS hM
        refine lv_iload_n hx hb dX4_weighs_28 rfl (lv_at hl 1 rfl) ?_
        refine r_if_le (tgt := 71) hx hb ⟨by omega, by omega⟩ dX4_weighs_29 (by decide) (fun c29 => ?_) (fun c29 => ?_)
        · skip
          refine r_vret hx hb hr hlk hQ hS (Nat.le_of_ble_eq_true rfl) (Nat.le_of_ble_eq_true rfl) dX4_weighs_71 ?_
          exact ⟨f, rfl, hM, (fun j hj => by rw [show fp_ld S = fp_lout S i by rw [show i = 30 by omega]; rfl]; exact hf j hj)⟩
        · skip
          refine lv_iconst (v := (iI ((0 : Nat) : Int))) hx hb dX4_weighs_32 rfl ?_
          refine lv_istore_n (lv' := [(2, .int (iI ((0 : Nat) : Int))), (0, .ref (ad 0)), (1, .int (iI (30 - ((i : Nat) : Int))))]) hx hb dX4_weighs_33 rfl hl (by decide) rfl (fun ls hl => ?_)
          have L34 : ∀ (q : Nat), q ≤ sN S → ∀ (g : Nat → Int) (H : Heap) (locs : List Loc) (ls : Array Slot),(∀ j, j < sN S → g j = (fp_lin S (30 - i) (fp_lout S i) q j : Int)) → lv_has ls 3 [(0, .ref (ad 0)), (1, .int (iI (30 - ((i : Nat) : Int)))), (2, .int (iI ((q : Nat) : Int)))] → va_S (fA (fp_ma ad) s.heap.size) s.heap H locs → fp_ME G ad sc (va_up ar 10 g) H → W pg (g_l G) en rR s mi ag bl mt cd H locs 0 0 qQ (F0 mi 34 ls []) := by
            refine lp_up (sN S) ?_
            intro q hk34 ih34 g H locs ls hg hl hS hM
            refine lv_iload_n hx hb dX4_weighs_34 rfl (lv_at hl 2 rfl) ?_
            refine lv_aload_n hx hb dX4_weighs_35 rfl (lv_at hl 0 rfl) ?_
            refine r_get X hM.1 rfl in_X4 5 (by decide) q2014 (Or.inl rfl) (v := .ref (ad 5)) rfl dX4_weighs_36 ?_
            refine lv_iconst (v := (iI ((0 : Nat) : Int))) hx hb dX4_weighs_39 rfl ?_
            refine r_ialdI X (hM.2 5 (by decide) (by decide)) (j := 0) (n := 170) rfl (by decide) (by decide) dX4_weighs_40 ?_
            refine r_set (y := .int (iI ((sN S : Nat) : Int))) (congrArg (fun q : Int => Value.int (iI q)) (hV.2.1)) ?_
            refine r_icmp_ge (tgt := 65) hx hb ⟨by omega, by omega⟩ ⟨by omega, by omega⟩ dX4_weighs_41 (by decide) (fun c41 => ?_) (fun c41 => ?_)
            · skip
              refine lv_iinc (v := (iI ((30 - ((i : Nat) : Int)) + (-1)))) (lv' := [(1, .int (iI ((30 - ((i : Nat) : Int)) + (-1)))), (0, .ref (ad 0)), (2, .int (iI ((q : Nat) : Int)))]) hx hb dX4_weighs_65 hl (k := 1) rfl (iI_add _ _) (by decide) rfl (fun ls hl => ?_)
              refine lv_goto (tgt := 28) hx hb dX4_weighs_68 (by decide) ?_
              exact ih28 (by omega) g H locs ls (fun j hj => by show _ = ((fp_lin S (30 - i) (fp_lout S i) (sN S) j : Nat) : Int); rw [show sN S = q by omega]; exact hg j hj) (by rw [show Value.int (iI (30 - (((i + 1) : Nat) : Int))) = Value.int (iI ((30 - ((i : Nat) : Int)) + (-1))) from congrArg (fun q : Int => Value.int (iI q)) (by omega)]; exact lv_sub hl [1, 0] rfl) hS hM
            · skip
              have hbk := hV.1.2.2.1 q (by omega)
              refine lv_aload_n hx hb dX4_weighs_44 rfl (lv_at hl 0 rfl) ?_
              refine lv_iload_n hx hb dX4_weighs_45 rfl (lv_at hl 2 rfl) ?_
              refine lv_iconst (v := (iI ((5 : Nat) : Int))) hx hb dX4_weighs_46 rfl ?_
              refine r_callV (cells1 := 0) (slots1 := 0) X hR (c_X4_of G ad sc (va_up ar 10 g) S hA0 hV q 5 (by omega) (by omega)) q2123 q2125 qs51 q100 q2126 ⟨rfl, pd_X4_of⟩ (by decide) rfl rfl (by decide) (by decide) hM.1 rfl rfl (Nat.le_of_ble_eq_true rfl) hl.1 dX4_weighs_47 (hB.of hS (fp_ma.base hA0)) hM hS (fun _ h => h.elim) (fun v H1 locs hp_1 hzC hkC hS => ?_)
              obtain ⟨rfl, rfl⟩ := hp_1
              refine r_stk (st2 := [.int (iI ((sB S q 5 : Nat) : Int))]) rfl ?_
              refine lv_iload_n hx hb dX4_weighs_50 rfl (lv_at hl 1 rfl) ?_
              refine r_icmp_ne (tgt := 59) hx hb ⟨by omega, by omega⟩ ⟨by omega, by omega⟩ dX4_weighs_51 (by decide) (fun c51 => ?_) (fun c51 => ?_)
              · skip
                refine lv_iinc (v := (iI ((q + 1 : Nat) : Int))) (lv' := [(2, .int (iI ((q + 1 : Nat) : Int))), (0, .ref (ad 0)), (1, .int (iI (30 - ((i : Nat) : Int))))]) hx hb dX4_weighs_59 hl (k := 2) rfl (iI_incN _ _) (by decide) rfl (fun ls hl => ?_)
                refine lv_goto (tgt := 34) hx hb dX4_weighs_62 (by decide) ?_
                exact ih34 (by omega) g H locs ls (fun j hj => by rw [fp_lin_f (by omega)]; exact hg j hj) (lv_sub hl [1, 2, 0] rfl) hS hM
              · skip
                refine lv_aload_n hx hb dX4_weighs_54 rfl (lv_at hl 0 rfl) ?_
                refine lv_iload_n hx hb dX4_weighs_55 rfl (lv_at hl 2 rfl) ?_
                refine r_callV (cells1 := 0) (slots1 := 0) X hR (c_X4_passesOn G ad sc (va_up ar 10 g) S hA0 hV (fp_lin S (30 - i) (fp_lout S i) q) hg (fun j _ => fp_stage_b hV.1 (by omega) (by omega) j) q (by omega)) q2139 q2141 qs55 q100 q2142 ⟨rfl, pd_X4_passesOn⟩ (by decide) rfl rfl (by decide) (by decide) hM.1 rfl rfl (Nat.le_of_ble_eq_true rfl) hl.1 dX4_weighs_56 (hB.of hS (fp_ma.base hA0)) hM hS (fun _ h => Or.inl h) (fun v H locs hp_2 hzC hkC hS => ?_)
                obtain ⟨f_3, rfl, hM_5, hf_4⟩ := hp_2
                refine r_stk (st2 := []) rfl ?_
                refine lv_iinc (v := (iI ((q + 1 : Nat) : Int))) (lv' := [(2, .int (iI ((q + 1 : Nat) : Int))), (0, .ref (ad 0)), (1, .int (iI (30 - ((i : Nat) : Int))))]) hx hb dX4_weighs_59 hl (k := 2) rfl (iI_incN _ _) (by decide) rfl (fun ls hl => ?_)
                refine lv_goto (tgt := 34) hx hb dX4_weighs_62 (by decide) ?_
                exact ih34 (by omega) f_3 H locs ls (fun j hj => by rw [fp_lin_t (by omega)]; exact hf_4 j hj) (lv_sub hl [1, 2, 0] rfl) hS (hM_5.uu)
          exact L34 0 (by omega) f H locs ls hf (lv_sub hl [1, 2, 0] rfl) hS hM
      exact L28 0 (by omega) f H locs ls (fun j hj => hf j (by omega)) (lv_sub hl [1, 0] rfl) hS hM
    · skip
      refine lv_aload_n hx hb dX4_weighs_12 rfl (lv_at hl 0 rfl) ?_
      refine r_get X hM.1 rfl in_X4 10 (by decide) q2019 (Or.inl rfl) (v := .ref (ad 10)) rfl dX4_weighs_13 ?_
      refine lv_iload_n hx hb dX4_weighs_16 rfl (lv_at hl 1 rfl) ?_
      refine lv_iconst (v := (iI ((0 : Nat) : Int))) hx hb dX4_weighs_17 rfl ?_
      refine m_ast X hM hS hA0 (k := 10) (j := k) (z := ((0 : Nat) : Int)) (by decide) rfl (n := 24) rfl (by omega) dX4_weighs_18 (fun H locs hM_6 hS => ?_)
      refine lv_iinc (v := (iI ((k + 1 : Nat) : Int))) (lv' := [(1, .int (iI ((k + 1 : Nat) : Int))), (0, .ref (ad 0))]) hx hb dX4_weighs_19 hl (k := 1) rfl (iI_incN _ _) (by decide) rfl (fun ls hl => ?_)
      refine lv_goto (tgt := 2) hx hb dX4_weighs_22 (by decide) ?_
      exact ih2 (by omega) (va_up f k (((0 : Nat) : Int))) H locs ls (lt_s (fun a ha => by rw [va_up_ne _ _ (by omega)]; exact hf a ha) (va_up_self _ _ _)) (lv_sub hl [1, 0] rfl) hS (fp_ME.st1 hM_6 (fun _ _ => rfl))
  exact L2 0 (by omega) (ar 10) (s.heap) locs ls lt_0 (lv_sub hl [1, 0] rfl) hS (fp_ME.st0 hM 10 (fun _ _ => rfl))
set_option maxHeartbeats 4000000 in
theorem c_X4_bears (G : fp_G) (ad : Nat → Nat) (sc : Nat → Int) (ar : Nat → Nat → Int) (S : PS) (hA0 : fp_MA G ad) (hV : fp_VR S (ar 5)) : fp_M G yX4_bears cX4_bears 2 (some .boolean) 7 148 0 0 [.ref (ad 0)] (fp_ME G ad sc ar) (fp_ma ad) (fun _ v H => ∃ (f : Nat → Int), v = some (.int (iI (bI (fp_bears S)))) ∧ fp_ME G ad sc (va_up ar 10 f) H ∧ (∀ j, j < sN S → f j = (fp_ld S j : Int))) := by
  refine fp_M.intro (by decide) (Nat.le_of_ble_eq_true rfl) ?_
  intro pg en s mi ag bl mt cd rR qQ ls X hx hb hr hlk hnm hR hQ hB hM hl
  have hS : va_S (fA (fp_ma ad) s.heap.size) s.heap s.heap [] := va_S.rf
  generalize ([] : List Loc) = locs at hS ⊢
  have hN24 := hV.1.1
  refine lv_aload_n hx hb dX4_bears_0 rfl (lv_at hl 0 rfl) ?_
  refine r_callV (cells1 := 0) (slots1 := 0) X hR (c_X4_weighs G ad sc ar S hA0 hV  ) q2135 q2137 qs54 q100 q2138 ⟨rfl, pd_X4_weighs⟩ (by decide) rfl rfl (by decide) (by decide) hM.1 rfl rfl (Nat.le_of_ble_eq_true rfl) hl.1 dX4_bears_1 (hB.of hS (fp_ma.base hA0)) hM hS (fun _ h => Or.inl h) (fun v H locs hp_1 hzC hkC hS => ?_)
  obtain ⟨f_2, rfl, hM_4, hf_3⟩ := hp_1
  refine r_stk (st2 := []) rfl ?_
  refine lv_iconst (v := (iI ((0 : Nat) : Int))) hx hb dX4_bears_4 rfl ?_
  refine lv_istore_n (lv' := [(1, .int (iI ((0 : Nat) : Int))), (0, .ref (ad 0))]) hx hb dX4_bears_5 rfl hl (by decide) rfl (fun ls hl => ?_)
  have L6 : ∀ (k : Nat), k ≤ sN S → ∀ (locs : List Loc) (ls : Array Slot),(∀ j, j < k → ¬ (fp_str (sB S j) < fp_ld S j)) → lv_has ls 2 [(0, .ref (ad 0)), (1, .int (iI ((k : Nat) : Int)))] → va_S (fA (fp_ma ad) s.heap.size) s.heap H locs → W pg (g_l G) en rR s mi ag bl mt cd H locs 0 0 qQ (F0 mi 6 ls []) := by
    refine lp_up (sN S) ?_
    intro k hk6 ih6 locs ls hbs hl hS
    refine lv_iload_n hx hb dX4_bears_6 rfl (lv_at hl 1 rfl) ?_
    refine lv_aload_n hx hb dX4_bears_7 rfl (lv_at hl 0 rfl) ?_
    refine r_get X hM_4.1 rfl in_X4 5 (by decide) q2014 (Or.inl rfl) (v := .ref (ad 5)) rfl dX4_bears_8 ?_
    refine lv_iconst (v := (iI ((0 : Nat) : Int))) hx hb dX4_bears_11 rfl ?_
    refine r_ialdI X (hM_4.2 5 (by decide) (by decide)) (j := 0) (n := 170) rfl (by decide) (by decide) dX4_bears_12 ?_
    refine r_set (y := .int (iI ((sN S : Nat) : Int))) (congrArg (fun q : Int => Value.int (iI q)) (hV.2.1)) ?_
    refine r_icmp_ge (tgt := 38) hx hb ⟨by omega, by omega⟩ ⟨by omega, by omega⟩ dX4_bears_13 (by decide) (fun c13 => ?_) (fun c13 => ?_)
    · skip
      refine lv_iconst (v := (iI ((1 : Nat) : Int))) hx hb dX4_bears_38 rfl ?_
      refine r_zret hx hb hr hlk hQ hS (Nat.le_of_ble_eq_true rfl) (Nat.le_of_ble_eq_true rfl) dX4_bears_39 rfl ?_
      exact ⟨f_2, (congrArg (fun q : Bool => some (Value.int (iI (bI q)))) (Eq.symm (fp_bears_t (fun j hj => hbs j (by omega))))), hM_4, hf_3⟩
    · skip
      have hbk := hV.1.2.2.1 k (by omega)
      have hld := fp_ld_b hV.1 k
      refine lv_aload_n hx hb dX4_bears_16 rfl (lv_at hl 0 rfl) ?_
      refine r_get X hM_4.1 rfl in_X4 10 (by decide) q2019 (Or.inl rfl) (v := .ref (ad 10)) rfl dX4_bears_17 ?_
      refine lv_iload_n hx hb dX4_bears_20 rfl (lv_at hl 1 rfl) ?_
      refine r_ialdI X (hM_4.2 10 (by decide) (by decide)) (j := k) (n := 24) rfl (by omega) (by decide) dX4_bears_21 ?_
      refine r_set (y := .int (iI ((fp_ld S k : Nat) : Int))) (congrArg (fun q : Int => Value.int (iI q)) (show f_2 k = _ from hf_3 k (by omega))) ?_
      refine lv_aload_n hx hb dX4_bears_22 rfl (lv_at hl 0 rfl) ?_
      refine lv_iload_n hx hb dX4_bears_23 rfl (lv_at hl 1 rfl) ?_
      refine r_callV (cells1 := 0) (slots1 := 0) X hR (c_X4_strong G ad sc (va_up ar 10 f_2) S hA0 hV k (by omega)) q2155 q2157 qs59 q100 q2158 ⟨rfl, pd_X4_strong⟩ (by decide) rfl rfl (by decide) (by decide) hM_4.1 rfl rfl (Nat.le_of_ble_eq_true rfl) hl.1 dX4_bears_24 (hB.of hS (fp_ma.base hA0)) hM_4 hS (fun _ h => h.elim) (fun v H1 locs hp_5 hzC hkC hS => ?_)
      obtain ⟨rfl, rfl⟩ := hp_5
      refine r_stk (st2 := [.int (iI ((fp_str (sB S k) : Nat) : Int)), .int (iI ((fp_ld S k : Nat) : Int))]) rfl ?_
      have hst := fp_str_b (hV.1.2.2.1 k (by omega))
      refine r_icmp_le (tgt := 32) hx hb ⟨by omega, by omega⟩ ⟨by omega, by omega⟩ dX4_bears_27 (by decide) (fun c27 => ?_) (fun c27 => ?_)
      · skip
        refine lv_iinc (v := (iI ((k + 1 : Nat) : Int))) (lv' := [(1, .int (iI ((k + 1 : Nat) : Int))), (0, .ref (ad 0))]) hx hb dX4_bears_32 hl (k := 1) rfl (iI_incN _ _) (by decide) rfl (fun ls hl => ?_)
        refine lv_goto (tgt := 6) hx hb dX4_bears_35 (by decide) ?_
        exact ih6 (by omega) locs ls (lt_s hbs (by omega)) (lv_sub hl [1, 0] rfl) hS
      · skip
        refine lv_iconst (v := (iI ((0 : Nat) : Int))) hx hb dX4_bears_30 rfl ?_
        refine r_zret hx hb hr hlk hQ hS (Nat.le_of_ble_eq_true rfl) (Nat.le_of_ble_eq_true rfl) dX4_bears_31 rfl ?_
        exact ⟨f_2, (congrArg (fun q : Bool => some (Value.int (iI (bI q)))) (Eq.symm (fp_bears_f (k := k) (by omega) (by omega)))), hM_4, hf_3⟩
  exact L6 0 (by omega) locs ls lt_0 (lv_sub hl [1, 0] rfl) hS
