/-! THE MODEL: what it is asked -/
set_option maxHeartbeats 4000000 in
theorem c_X4_blockCount (G : fp_G) (ad : Nat → Nat) (sc : Nat → Int) (ar : Nat → Nat → Int) (S : PS) (hA0 : fp_MA G ad) (hV : fp_VR S (ar 5)) : fp_M G yX4_blockCount cX4_blockCount 1 (some .int) 1 12 0 0 [.ref (ad 0)] (fp_ME G ad sc ar) (fp_ma ad) (fun _ v H => ∃ (r : Int), ∃ (ar2 : Nat → Nat → Int), v = some (.int (iI (r))) ∧ fp_ME G ad (va_up sc 0 (((0 : Nat) : Int))) ar2 H ∧ (0 = 0 → r = (sN S : Int)) ∧ (fp_sm0 ar ar2)) := by
  refine fp_M.intro (by decide) (Nat.le_of_ble_eq_true rfl) ?_
  intro pg en s mi ag bl mt cd rR qQ ls X hx hb hr hlk hnm hR hQ hB hM hl
  have hS : va_S (fA (fp_ma ad) s.heap.size) s.heap s.heap [] := va_S.rf
  generalize ([] : List Loc) = locs at hS ⊢
  have hN24 := hV.1.1
  refine lv_aload_n hx hb dX4_blockCount_0 rfl (lv_at hl 0 rfl) ?_
  refine lv_iconst (v := (iI ((0 : Nat) : Int))) hx hb dX4_blockCount_1 rfl ?_
  refine m_put X hM hS hA0 (k := 0) (sc2 := (va_up sc 0 (((0 : Nat) : Int)))) rfl (by decide) q2009 rfl rfl rfl dX4_blockCount_2 rfl (fun H locs hM_1 hS => ?_)
  refine lv_aload_n hx hb dX4_blockCount_5 rfl (lv_at hl 0 rfl) ?_
  refine r_get X hM_1.1 rfl in_X4 5 (by decide) q2014 (Or.inl rfl) (v := .ref (ad 5)) rfl dX4_blockCount_6 ?_
  refine lv_iconst (v := (iI ((0 : Nat) : Int))) hx hb dX4_blockCount_9 rfl ?_
  refine r_ialdI X (hM_1.2 5 (by decide) (by decide)) (j := 0) (n := 170) rfl (by decide) (by decide) dX4_blockCount_10 ?_
  refine r_set (y := .int (iI ((sN S : Nat) : Int))) (congrArg (fun q : Int => Value.int (iI q)) (hV.2.1)) ?_
  refine r_iret hx hb hr hlk hQ hS (Nat.le_of_ble_eq_true rfl) (Nat.le_of_ble_eq_true rfl) dX4_blockCount_11 ?_
  exact ⟨((sN S : Nat) : Int), ar, rfl, (hM_1.nrm rfl), (fun _ => rfl), (fun k hk => by simp [fp_scr] at hk; by_cases e5 : k = 5 <;> simp_all [va_up])⟩
set_option maxHeartbeats 4000000 in
theorem c_X4_placedCount (G : fp_G) (ad : Nat → Nat) (sc : Nat → Int) (ar : Nat → Nat → Int) (S : PS) (hA0 : fp_MA G ad) (hV : fp_VR S (ar 5)) : fp_M G yX4_placedCount cX4_placedCount 1 (some .int) 1 12 0 0 [.ref (ad 0)] (fp_ME G ad sc ar) (fp_ma ad) (fun _ v H => ∃ (r : Int), ∃ (ar2 : Nat → Nat → Int), v = some (.int (iI (r))) ∧ fp_ME G ad (va_up sc 0 (((0 : Nat) : Int))) ar2 H ∧ (0 = 0 → r = (sP S : Int)) ∧ (fp_sm0 ar ar2)) := by
  refine fp_M.intro (by decide) (Nat.le_of_ble_eq_true rfl) ?_
  intro pg en s mi ag bl mt cd rR qQ ls X hx hb hr hlk hnm hR hQ hB hM hl
  have hS : va_S (fA (fp_ma ad) s.heap.size) s.heap s.heap [] := va_S.rf
  generalize ([] : List Loc) = locs at hS ⊢
  have hN24 := hV.1.1
  refine lv_aload_n hx hb dX4_placedCount_0 rfl (lv_at hl 0 rfl) ?_
  refine lv_iconst (v := (iI ((0 : Nat) : Int))) hx hb dX4_placedCount_1 rfl ?_
  refine m_put X hM hS hA0 (k := 0) (sc2 := (va_up sc 0 (((0 : Nat) : Int)))) rfl (by decide) q2009 rfl rfl rfl dX4_placedCount_2 rfl (fun H locs hM_1 hS => ?_)
  refine lv_aload_n hx hb dX4_placedCount_5 rfl (lv_at hl 0 rfl) ?_
  refine r_get X hM_1.1 rfl in_X4 5 (by decide) q2014 (Or.inl rfl) (v := .ref (ad 5)) rfl dX4_placedCount_6 ?_
  refine lv_iconst (v := (iI ((1 : Nat) : Int))) hx hb dX4_placedCount_9 rfl ?_
  refine r_ialdI X (hM_1.2 5 (by decide) (by decide)) (j := 1) (n := 170) rfl (by decide) (by decide) dX4_placedCount_10 ?_
  refine r_set (y := .int (iI ((sP S : Nat) : Int))) (congrArg (fun q : Int => Value.int (iI q)) (hV.2.2.1)) ?_
  refine r_iret hx hb hr hlk hQ hS (Nat.le_of_ble_eq_true rfl) (Nat.le_of_ble_eq_true rfl) dX4_placedCount_11 ?_
  exact ⟨((sP S : Nat) : Int), ar, rfl, (hM_1.nrm rfl), (fun _ => rfl), (fun k hk => by simp [fp_scr] at hk; by_cases e5 : k = 5 <;> simp_all [va_up])⟩
set_option maxHeartbeats 4000000 in
theorem c_X4_isPresent (G : fp_G) (ad : Nat → Nat) (sc : Nat → Int) (ar : Nat → Nat → Int) (S : PS) (hA0 : fp_MA G ad) (hV : fp_VR S (ar 5)) (z : Int) (hz : rg z) : fp_M G yX4_isPresent cX4_isPresent 3 (some .boolean) 3 56 0 0 [.ref (ad 0), .int (iI (z))] (fp_ME G ad sc ar) (fp_ma ad) (fun _ v H => ∃ (r : Bool), ∃ (ar2 : Nat → Nat → Int), v = some (.int (iI (bI (r)))) ∧ fp_ME G ad (va_up sc 0 (((0 : Nat) : Int))) ar2 H ∧ (0 = 0 → r = decide (fp_fnd S z < sN S)) ∧ (fp_sm0 ar ar2)) := by
  refine fp_M.intro (by decide) (Nat.le_of_ble_eq_true rfl) ?_
  intro pg en s mi ag bl mt cd rR qQ ls X hx hb hr hlk hnm hR hQ hB hM hl
  have hS : va_S (fA (fp_ma ad) s.heap.size) s.heap s.heap [] := va_S.rf
  generalize ([] : List Loc) = locs at hS ⊢
  have hN24 := hV.1.1
  refine lv_aload_n hx hb dX4_isPresent_0 rfl (lv_at hl 0 rfl) ?_
  refine lv_iload_n hx hb dX4_isPresent_1 rfl (lv_at hl 1 rfl) ?_
  refine r_callV (cells1 := 0) (slots1 := 0) X hR (c_X4_finds G ad sc ar S hA0 hV (z) (by omega)) q2179 q2181 qs62 q100 q2182 ⟨rfl, pd_X4_finds⟩ (by decide) rfl rfl (by decide) (by decide) hM.1 rfl rfl (Nat.le_of_ble_eq_true rfl) hl.1 dX4_isPresent_2 (hB.of hS (fp_ma.base hA0)) hM hS (fun _ h => Or.inl h) (fun v H locs hp_1 hzC hkC hS => ?_)
  rcases hp_1 with ⟨kf_2, rfl, hM_6, hkf_3, hkn_4, hkl_5⟩ | ⟨rfl, hM_8, hnf_7⟩
  · skip
    have hM_9 := fp_ME.nrm (sc2 := (va_up sc 0 (((0 : Nat) : Int)))) hM_6 rfl
    refine r_stk (st2 := [.int (iI ((kf_2 : Nat) : Int))]) rfl ?_
    refine r_if_lt (tgt := 12) hx hb ⟨by omega, by omega⟩ dX4_isPresent_5 (by decide) (fun c5 => ?_) (fun c5 => ?_)
    · exact absurd c5 (by omega)
    · skip
      refine lv_iconst (v := (iI ((1 : Nat) : Int))) hx hb dX4_isPresent_8 rfl ?_
      refine lv_goto (tgt := 13) hx hb dX4_isPresent_9 (by decide) ?_
      refine lv_istore_n (lv' := [(2, .int (iI ((1 : Nat) : Int))), (0, .ref (ad 0)), (1, .int (iI (z)))]) hx hb dX4_isPresent_13 rfl hl (by decide) rfl (fun ls hl => ?_)
      refine lv_aload_n hx hb dX4_isPresent_14 rfl (lv_at hl 1 rfl) ?_
      refine lv_iconst (v := (iI ((0 : Nat) : Int))) hx hb dX4_isPresent_15 rfl ?_
      refine m_put X hM_9 hS hA0 (k := 0) (sc2 := (va_up sc 0 (((0 : Nat) : Int)))) rfl (by decide) q2009 rfl rfl rfl dX4_isPresent_16 rfl (fun H locs hM_10 hS => ?_)
      refine lv_iload_n hx hb dX4_isPresent_19 rfl (lv_at hl 0 rfl) ?_
      refine r_zret hx hb hr hlk hQ hS (Nat.le_of_ble_eq_true rfl) (Nat.le_of_ble_eq_true rfl) dX4_isPresent_20 rfl ?_
      exact ⟨true, ar, rfl, (hM_10.nrm rfl), (fun _ => ((decide_eq_true (by rw [hkl_5]; exact hkf_3)).symm)), (fun k hk => by simp [fp_scr] at hk; by_cases e5 : k = 5 <;> simp_all [va_up])⟩
  · skip
    have hM_11 := fp_ME.nrm (sc2 := (va_up sc 0 (((1 : Nat) : Int)))) hM_8 rfl
    refine r_stk (st2 := [.int (iI (-1))]) rfl ?_
    refine r_if_lt (tgt := 12) hx hb (by decide) dX4_isPresent_5 (by decide) (fun c5 => ?_) (fun c5 => ?_)
    · skip
      refine lv_iconst (v := (iI ((0 : Nat) : Int))) hx hb dX4_isPresent_12 rfl ?_
      refine lv_istore_n (lv' := [(2, .int (iI ((0 : Nat) : Int))), (0, .ref (ad 0)), (1, .int (iI (z)))]) hx hb dX4_isPresent_13 rfl hl (by decide) rfl (fun ls hl => ?_)
      refine lv_aload_n hx hb dX4_isPresent_14 rfl (lv_at hl 1 rfl) ?_
      refine lv_iconst (v := (iI ((0 : Nat) : Int))) hx hb dX4_isPresent_15 rfl ?_
      refine m_put X hM_11 hS hA0 (k := 0) (sc2 := (va_up sc 0 (((0 : Nat) : Int)))) rfl (by decide) q2009 rfl rfl rfl dX4_isPresent_16 rfl (fun H locs hM_12 hS => ?_)
      refine lv_iload_n hx hb dX4_isPresent_19 rfl (lv_at hl 0 rfl) ?_
      refine r_zret hx hb hr hlk hQ hS (Nat.le_of_ble_eq_true rfl) (Nat.le_of_ble_eq_true rfl) dX4_isPresent_20 rfl ?_
      exact ⟨false, ar, rfl, (hM_12.nrm rfl), (fun _ => ((decide_eq_false (by rw [hnf_7]; exact Nat.lt_irrefl _)).symm)), (fun k hk => by simp [fp_scr] at hk; by_cases e5 : k = 5 <;> simp_all [va_up])⟩
    · exact absurd c5 (by omega)
set_option maxHeartbeats 4000000 in
theorem c_X4_blockAt (G : fp_G) (ad : Nat → Nat) (sc : Nat → Int) (ar : Nat → Nat → Int) (S : PS) (hA0 : fp_MA G ad) (hV : fp_VR S (ar 5)) (z : Int) (hz : rg z) : fp_M G yX4_blockAt cX4_blockAt 2 (some .int) 2 34 0 0 [.ref (ad 0), .int (iI (z))] (fp_ME G ad sc ar) (fp_ma ad) (fun _ v H => ∃ (r : Int), ∃ (ar2 : Nat → Nat → Int), v = some (.int (iI (r))) ∧ fp_ME G ad (va_up sc 0 (((fp_atc S z : Nat) : Int))) ar2 H ∧ (fp_atc S z = 0 → r = (sB S z.toNat 0 : Int)) ∧ (fp_sm0 ar ar2)) := by
  refine fp_M.intro (by decide) (Nat.le_of_ble_eq_true rfl) ?_
  intro pg en s mi ag bl mt cd rR qQ ls X hx hb hr hlk hnm hR hQ hB hM hl
  have hS : va_S (fA (fp_ma ad) s.heap.size) s.heap s.heap [] := va_S.rf
  generalize ([] : List Loc) = locs at hS ⊢
  have hN24 := hV.1.1
  refine lv_aload_n hx hb dX4_blockAt_0 rfl (lv_at hl 0 rfl) ?_
  refine lv_iload_n hx hb dX4_blockAt_1 rfl (lv_at hl 1 rfl) ?_
  refine lv_iconst (v := (iI ((0 : Nat) : Int))) hx hb dX4_blockAt_2 rfl ?_
  refine lv_aload_n hx hb dX4_blockAt_3 rfl (lv_at hl 0 rfl) ?_
  refine r_get X hM.1 rfl in_X4 5 (by decide) q2014 (Or.inl rfl) (v := .ref (ad 5)) rfl dX4_blockAt_4 ?_
  refine lv_iconst (v := (iI ((0 : Nat) : Int))) hx hb dX4_blockAt_7 rfl ?_
  refine r_ialdI X (hM.2 5 (by decide) (by decide)) (j := 0) (n := 170) rfl (by decide) (by decide) dX4_blockAt_8 ?_
  refine r_set (y := .int (iI ((sN S : Nat) : Int))) (congrArg (fun q : Int => Value.int (iI q)) (hV.2.1)) ?_
  refine lv_iconst (v := (iI ((1 : Nat) : Int))) hx hb dX4_blockAt_9 rfl ?_
  refine r_isub hx hb dX4_blockAt_10 ?_
  refine r_callS (cells1 := 0) (slots1 := 0) X hR (c_X4_isIn G (z) 0 (((sN S : Nat) : Int) - ((1 : Nat) : Int)) (by omega) (by omega) (by omega)) q2104 q2105 q100 q2106 pd_X4_isIn (by decide) rfl rfl (by decide) (by decide) rfl (Nat.le_of_ble_eq_true rfl) hl.1 dX4_blockAt_11 (hB.of hS (fp_ma.base hA0)) trivial hS (fun _ h => h.elim) (fun v H1 locs hp_1 hzC hkC hS => ?_)
  obtain ⟨rfl, rfl⟩ := hp_1
  refine r_stk (st2 := [.int (iI (bI (decide (0 ≤ (z) ∧ (z) ≤ (((sN S : Nat) : Int) - ((1 : Nat) : Int)))))), .ref (ad 0)]) rfl ?_
  refine r_ifeqB (tgt := 21) hx hb dX4_blockAt_14 (by decide) (fun c14 => ?_) (fun c14 => ?_)
  · skip
    have c14 := of_decide_eq_false c14
    refine lv_iconst (v := (iI ((1 : Nat) : Int))) hx hb dX4_blockAt_21 rfl ?_
    refine m_put X hM hS hA0 (k := 0) (sc2 := (va_up sc 0 (((1 : Nat) : Int)))) rfl (by decide) q2009 rfl rfl rfl dX4_blockAt_22 rfl (fun H locs hM_2 hS => ?_)
    refine lv_aload_n hx hb dX4_blockAt_25 rfl (lv_at hl 0 rfl) ?_
    refine r_get X hM_2.1 rfl in_X4 0 (by decide) q2009 (Or.inl rfl) (v := .int (iI ((1 : Nat) : Int))) rfl dX4_blockAt_26 ?_
    refine r_if_ne (tgt := 41) hx hb (by decide) dX4_blockAt_29 (by decide) (fun c29 => ?_) (fun c29 => ?_)
    · skip
      refine lv_iconst (v := (iI ((0 : Nat) : Int))) hx hb dX4_blockAt_41 rfl ?_
      refine r_iret hx hb hr hlk hQ hS (Nat.le_of_ble_eq_true rfl) (Nat.le_of_ble_eq_true rfl) dX4_blockAt_42 ?_
      exact ⟨((0 : Nat) : Int), ar, rfl, (by rw [show fp_atc S z = 1 from if_neg (by omega)]; exact hM_2.nrm rfl), (fun z0 => absurd ((show fp_atc S z = 1 from if_neg (by omega)).symm.trans z0) (by decide)), (fun k hk => by simp [fp_scr] at hk; by_cases e5 : k = 5 <;> simp_all [va_up])⟩
    · exact absurd c29 (by omega)
  · skip
    have c14 := of_decide_eq_true c14
    obtain ⟨k, rfl⟩ : ∃ k : Nat, z = ((k : Nat) : Int) := ⟨z.toNat, by omega⟩
    refine lv_iconst (v := (iI ((0 : Nat) : Int))) hx hb dX4_blockAt_17 rfl ?_
    refine lv_goto (tgt := 22) hx hb dX4_blockAt_18 (by decide) ?_
    refine m_put X hM hS hA0 (k := 0) (sc2 := (va_up sc 0 (((0 : Nat) : Int)))) rfl (by decide) q2009 rfl rfl rfl dX4_blockAt_22 rfl (fun H locs hM_3 hS => ?_)
    refine lv_aload_n hx hb dX4_blockAt_25 rfl (lv_at hl 0 rfl) ?_
    refine r_get X hM_3.1 rfl in_X4 0 (by decide) q2009 (Or.inl rfl) (v := .int (iI ((0 : Nat) : Int))) rfl dX4_blockAt_26 ?_
    refine r_if_ne (tgt := 41) hx hb (by decide) dX4_blockAt_29 (by decide) (fun c29 => ?_) (fun c29 => ?_)
    · exact absurd c29 (by omega)
    · skip
      refine lv_aload_n hx hb dX4_blockAt_32 rfl (lv_at hl 0 rfl) ?_
      refine lv_iload_n hx hb dX4_blockAt_33 rfl (lv_at hl 1 rfl) ?_
      refine lv_iconst (v := (iI ((0 : Nat) : Int))) hx hb dX4_blockAt_34 rfl ?_
      refine r_callV (cells1 := 0) (slots1 := 0) X hR (c_X4_of G ad (va_up sc 0 (((0 : Nat) : Int))) ar S hA0 hV k 0 (by omega) (by omega)) q2123 q2125 qs51 q100 q2126 ⟨rfl, pd_X4_of⟩ (by decide) rfl rfl (by decide) (by decide) hM_3.1 rfl rfl (Nat.le_of_ble_eq_true rfl) hl.1 dX4_blockAt_35 (hB.of hS (fp_ma.base hA0)) hM_3 hS (fun _ h => h.elim) (fun v H1 locs hp_4 hzC hkC hS => ?_)
      obtain ⟨rfl, rfl⟩ := hp_4
      refine r_stk (st2 := [.int (iI ((sB S k 0 : Nat) : Int))]) rfl ?_
      refine lv_goto (tgt := 42) hx hb dX4_blockAt_38 (by decide) ?_
      refine r_iret hx hb hr hlk hQ hS (Nat.le_of_ble_eq_true rfl) (Nat.le_of_ble_eq_true rfl) dX4_blockAt_42 ?_
      exact ⟨((sB S k 0 : Nat) : Int), ar, rfl, (by rw [show fp_atc S ((k : Nat) : Int) = 0 from if_pos (by omega)]; exact hM_3.nrm rfl), (fun _ => rfl), (fun k hk => by simp [fp_scr] at hk; by_cases e5 : k = 5 <;> simp_all [va_up])⟩
set_option maxHeartbeats 4000000 in
theorem c_X4_isOf (G : fp_G) (ad : Nat → Nat) (sc : Nat → Int) (ar : Nat → Nat → Int) (S : PS) (hA0 : fp_MA G ad) (hV : fp_VR S (ar 5)) (z : Int) (kd : Nat) (hz : rg z) (hkd : kd < 3) : fp_M G yX4_isOf cX4_isOf 4 (some .boolean) 3 56 0 0 [.ref (ad 0), .int (iI (z)), .int (iI ((kd : Nat) : Int))] (fp_ME G ad sc ar) (fp_ma ad) (fun _ v H => ∃ (r : Bool), ∃ (ar2 : Nat → Nat → Int), v = some (.int (iI (bI (r)))) ∧ fp_ME G ad (va_up sc 0 (((fp_fc S z : Nat) : Int))) ar2 H ∧ (fp_fc S z = 0 → r = decide (sB S (fp_fnd S z) 1 = kd)) ∧ (fp_sm0 ar ar2)) := by
  refine fp_M.intro (by decide) (Nat.le_of_ble_eq_true rfl) ?_
  intro pg en s mi ag bl mt cd rR qQ ls X hx hb hr hlk hnm hR hQ hB hM hl
  have hS : va_S (fA (fp_ma ad) s.heap.size) s.heap s.heap [] := va_S.rf
  generalize ([] : List Loc) = locs at hS ⊢
  have hN24 := hV.1.1
  refine lv_aload_n hx hb dX4_isOf_0 rfl (lv_at hl 0 rfl) ?_
  refine lv_iload_n hx hb dX4_isOf_1 rfl (lv_at hl 1 rfl) ?_
  refine r_callV (cells1 := 0) (slots1 := 0) X hR (c_X4_finds G ad sc ar S hA0 hV (z) (by omega)) q2179 q2181 qs62 q100 q2182 ⟨rfl, pd_X4_finds⟩ (by decide) rfl rfl (by decide) (by decide) hM.1 rfl rfl (Nat.le_of_ble_eq_true rfl) hl.1 dX4_isOf_2 (hB.of hS (fp_ma.base hA0)) hM hS (fun _ h => Or.inl h) (fun v H locs hp_1 hzC hkC hS => ?_)
  rcases hp_1 with ⟨kf_2, rfl, hM_6, hkf_3, hkn_4, hkl_5⟩ | ⟨rfl, hM_8, hnf_7⟩
  · skip
    have hM_9 := fp_ME.nrm (sc2 := (va_up sc 0 (((0 : Nat) : Int)))) hM_6 rfl
    refine r_stk (st2 := [.int (iI ((kf_2 : Nat) : Int))]) rfl ?_
    refine lv_istore_n (lv' := [(3, .int (iI ((kf_2 : Nat) : Int))), (0, .ref (ad 0)), (1, .int (iI (z))), (2, .int (iI ((kd : Nat) : Int)))]) hx hb dX4_isOf_5 rfl hl (by decide) rfl (fun ls hl => ?_)
    refine lv_iload_n hx hb dX4_isOf_6 rfl (lv_at hl 0 rfl) ?_
    refine r_if_lt (tgt := 24) hx hb ⟨by omega, by omega⟩ dX4_isOf_7 (by decide) (fun c7 => ?_) (fun c7 => ?_)
    · exact absurd c7 (by omega)
    · skip
      refine lv_aload_n hx hb dX4_isOf_10 rfl (lv_at hl 1 rfl) ?_
      refine lv_iload_n hx hb dX4_isOf_11 rfl (lv_at hl 0 rfl) ?_
      refine lv_iconst (v := (iI ((1 : Nat) : Int))) hx hb dX4_isOf_12 rfl ?_
      refine r_callV (cells1 := 0) (slots1 := 0) X hR (c_X4_of G ad (va_up sc 0 (((0 : Nat) : Int))) ar S hA0 hV kf_2 1 (by omega) (by omega)) q2123 q2125 qs51 q100 q2126 ⟨rfl, pd_X4_of⟩ (by decide) rfl rfl (by decide) (by decide) hM_9.1 rfl rfl (Nat.le_of_ble_eq_true rfl) hl.1 dX4_isOf_13 (hB.of hS (fp_ma.base hA0)) hM_9 hS (fun _ h => h.elim) (fun v H1 locs hp_10 hzC hkC hS => ?_)
      obtain ⟨rfl, rfl⟩ := hp_10
      refine r_stk (st2 := [.int (iI ((sB S kf_2 1 : Nat) : Int))]) rfl ?_
      have hbk := hV.1.2.2.1 kf_2 hkf_3
      refine lv_iload_n hx hb dX4_isOf_16 rfl (lv_at hl 3 rfl) ?_
      refine r_icmp_ne (tgt := 24) hx hb ⟨by omega, by omega⟩ ⟨by omega, by omega⟩ dX4_isOf_17 (by decide) (fun c17 => ?_) (fun c17 => ?_)
      · skip
        refine lv_iconst (v := (iI ((0 : Nat) : Int))) hx hb dX4_isOf_24 rfl ?_
        refine r_zret hx hb hr hlk hQ hS (Nat.le_of_ble_eq_true rfl) (Nat.le_of_ble_eq_true rfl) dX4_isOf_25 rfl ?_
        exact ⟨false, ar, rfl, (by rw [show fp_fc S z = 0 from fp_fc_0 hkl_5 hkf_3]; exact hM_9.nrm rfl), (fun _ => (by rw [hkl_5]; exact (decide_eq_false (by omega)).symm)), (fun k hk => by simp [fp_scr] at hk; by_cases e5 : k = 5 <;> simp_all [va_up])⟩
      · skip
        refine lv_iconst (v := (iI ((1 : Nat) : Int))) hx hb dX4_isOf_20 rfl ?_
        refine lv_goto (tgt := 25) hx hb dX4_isOf_21 (by decide) ?_
        refine r_zret hx hb hr hlk hQ hS (Nat.le_of_ble_eq_true rfl) (Nat.le_of_ble_eq_true rfl) dX4_isOf_25 rfl ?_
        exact ⟨true, ar, rfl, (by rw [show fp_fc S z = 0 from fp_fc_0 hkl_5 hkf_3]; exact hM_9.nrm rfl), (fun _ => (by rw [hkl_5]; exact (decide_eq_true (by omega)).symm)), (fun k hk => by simp [fp_scr] at hk; by_cases e5 : k = 5 <;> simp_all [va_up])⟩
  · skip
    have hM_11 := fp_ME.nrm (sc2 := (va_up sc 0 (((1 : Nat) : Int)))) hM_8 rfl
    refine r_stk (st2 := [.int (iI (-1))]) rfl ?_
    refine lv_istore_n (lv' := [(3, .int (iI (-1))), (0, .ref (ad 0)), (1, .int (iI (z))), (2, .int (iI ((kd : Nat) : Int)))]) hx hb dX4_isOf_5 rfl hl (by decide) rfl (fun ls hl => ?_)
    refine lv_iload_n hx hb dX4_isOf_6 rfl (lv_at hl 0 rfl) ?_
    refine r_if_lt (tgt := 24) hx hb (by decide) dX4_isOf_7 (by decide) (fun c7 => ?_) (fun c7 => ?_)
    · skip
      refine lv_iconst (v := (iI ((0 : Nat) : Int))) hx hb dX4_isOf_24 rfl ?_
      refine r_zret hx hb hr hlk hQ hS (Nat.le_of_ble_eq_true rfl) (Nat.le_of_ble_eq_true rfl) dX4_isOf_25 rfl ?_
      exact ⟨false, ar, rfl, (by rw [show fp_fc S z = 1 from fp_fc_1 hnf_7]; exact hM_11.nrm rfl), (fun z0 => absurd ((show fp_fc S z = 1 from fp_fc_1 hnf_7).symm.trans z0) (by decide)), (fun k hk => by simp [fp_scr] at hk; by_cases e5 : k = 5 <;> simp_all [va_up])⟩
    · exact absurd c7 (by omega)
set_option maxHeartbeats 4000000 in
theorem c_X4_isFoam (G : fp_G) (ad : Nat → Nat) (sc : Nat → Int) (ar : Nat → Nat → Int) (S : PS) (hA0 : fp_MA G ad) (hV : fp_VR S (ar 5)) (z : Int) (hz : rg z) : fp_M G yX4_isFoam cX4_isFoam 2 (some .boolean) 4 79 0 0 [.ref (ad 0), .int (iI (z))] (fp_ME G ad sc ar) (fp_ma ad) (fun _ v H => ∃ (r : Bool), ∃ (ar2 : Nat → Nat → Int), v = some (.int (iI (bI (r)))) ∧ fp_ME G ad (va_up sc 0 (((fp_fc S z : Nat) : Int))) ar2 H ∧ (fp_fc S z = 0 → r = decide (sB S (fp_fnd S z) 1 = 0)) ∧ (fp_sm0 ar ar2)) := by
  refine fp_M.intro (by decide) (Nat.le_of_ble_eq_true rfl) ?_
  intro pg en s mi ag bl mt cd rR qQ ls X hx hb hr hlk hnm hR hQ hB hM hl
  have hS : va_S (fA (fp_ma ad) s.heap.size) s.heap s.heap [] := va_S.rf
  generalize ([] : List Loc) = locs at hS ⊢
  have hN24 := hV.1.1
  refine lv_aload_n hx hb dX4_isFoam_0 rfl (lv_at hl 0 rfl) ?_
  refine lv_iload_n hx hb dX4_isFoam_1 rfl (lv_at hl 1 rfl) ?_
  refine lv_iconst (v := (iI ((0 : Nat) : Int))) hx hb dX4_isFoam_2 rfl ?_
  refine r_callV (cells1 := 0) (slots1 := 0) X hR (c_X4_isOf G ad sc ar S hA0 hV (z) 0 (by omega) (by decide)) q2257 q2259 qs68 q100 q2260 ⟨rfl, pd_X4_isOf⟩ (by decide) rfl rfl (by decide) (by decide) hM.1 rfl rfl (Nat.le_of_ble_eq_true rfl) hl.1 dX4_isFoam_3 (hB.of hS (fp_ma.base hA0)) hM hS (fun _ h => Or.inl h) (fun v H locs hp_1 hzC hkC hS => ?_)
  obtain ⟨r_2, ar2_3, rfl, hM_6, hr_4, hsm_5⟩ := hp_1
  have hM_7 := fp_ME.nrm (sc2 := (va_up sc 0 (((fp_fc S (z) : Nat) : Int)))) hM_6 rfl
  refine r_stk (st2 := [.int (iI (bI (r_2)))]) rfl ?_
  refine r_zret hx hb hr hlk hQ hS (Nat.le_of_ble_eq_true rfl) (Nat.le_of_ble_eq_true rfl) dX4_isFoam_6 (bI_z _) ?_
  exact ⟨r_2, ar2_3, rfl, (hM_7.nrm rfl), hr_4, hsm_5⟩
set_option maxHeartbeats 4000000 in
theorem c_X4_isBoard (G : fp_G) (ad : Nat → Nat) (sc : Nat → Int) (ar : Nat → Nat → Int) (S : PS) (hA0 : fp_MA G ad) (hV : fp_VR S (ar 5)) (z : Int) (hz : rg z) : fp_M G yX4_isBoard cX4_isBoard 2 (some .boolean) 4 79 0 0 [.ref (ad 0), .int (iI (z))] (fp_ME G ad sc ar) (fp_ma ad) (fun _ v H => ∃ (r : Bool), ∃ (ar2 : Nat → Nat → Int), v = some (.int (iI (bI (r)))) ∧ fp_ME G ad (va_up sc 0 (((fp_fc S z : Nat) : Int))) ar2 H ∧ (fp_fc S z = 0 → r = decide (sB S (fp_fnd S z) 1 = 1)) ∧ (fp_sm0 ar ar2)) := by
  refine fp_M.intro (by decide) (Nat.le_of_ble_eq_true rfl) ?_
  intro pg en s mi ag bl mt cd rR qQ ls X hx hb hr hlk hnm hR hQ hB hM hl
  have hS : va_S (fA (fp_ma ad) s.heap.size) s.heap s.heap [] := va_S.rf
  generalize ([] : List Loc) = locs at hS ⊢
  have hN24 := hV.1.1
  refine lv_aload_n hx hb dX4_isBoard_0 rfl (lv_at hl 0 rfl) ?_
  refine lv_iload_n hx hb dX4_isBoard_1 rfl (lv_at hl 1 rfl) ?_
  refine lv_iconst (v := (iI ((1 : Nat) : Int))) hx hb dX4_isBoard_2 rfl ?_
  refine r_callV (cells1 := 0) (slots1 := 0) X hR (c_X4_isOf G ad sc ar S hA0 hV (z) 1 (by omega) (by decide)) q2257 q2259 qs68 q100 q2260 ⟨rfl, pd_X4_isOf⟩ (by decide) rfl rfl (by decide) (by decide) hM.1 rfl rfl (Nat.le_of_ble_eq_true rfl) hl.1 dX4_isBoard_3 (hB.of hS (fp_ma.base hA0)) hM hS (fun _ h => Or.inl h) (fun v H locs hp_1 hzC hkC hS => ?_)
  obtain ⟨r_2, ar2_3, rfl, hM_6, hr_4, hsm_5⟩ := hp_1
  have hM_7 := fp_ME.nrm (sc2 := (va_up sc 0 (((fp_fc S (z) : Nat) : Int)))) hM_6 rfl
  refine r_stk (st2 := [.int (iI (bI (r_2)))]) rfl ?_
  refine r_zret hx hb hr hlk hQ hS (Nat.le_of_ble_eq_true rfl) (Nat.le_of_ble_eq_true rfl) dX4_isBoard_6 (bI_z _) ?_
  exact ⟨r_2, ar2_3, rfl, (hM_7.nrm rfl), hr_4, hsm_5⟩
set_option maxHeartbeats 4000000 in
theorem c_X4_tells (G : fp_G) (ad : Nat → Nat) (sc : Nat → Int) (ar : Nat → Nat → Int) (S : PS) (hA0 : fp_MA G ad) (hV : fp_VR S (ar 5)) (z : Int) (x : Nat) (hz : rg z) (hx : x < 6) : fp_M G yX4_tells cX4_tells 4 (some .int) 3 56 0 0 [.ref (ad 0), .int (iI (z)), .int (iI ((x : Nat) : Int))] (fp_ME G ad sc ar) (fp_ma ad) (fun _ v H => ∃ (r : Int), ∃ (ar2 : Nat → Nat → Int), v = some (.int (iI (r))) ∧ fp_ME G ad (va_up sc 0 (((fp_fc S z : Nat) : Int))) ar2 H ∧ (fp_fc S z = 0 → r = (sB S (fp_fnd S z) x : Int)) ∧ (fp_sm0 ar ar2)) := by
  refine fp_M.intro (by decide) (Nat.le_of_ble_eq_true rfl) ?_
  intro pg en s mi ag bl mt cd rR qQ ls X hx hb hr hlk hnm hR hQ hB hM hl
  have hS : va_S (fA (fp_ma ad) s.heap.size) s.heap s.heap [] := va_S.rf
  generalize ([] : List Loc) = locs at hS ⊢
  have hN24 := hV.1.1
  refine lv_aload_n hx hb dX4_tells_0 rfl (lv_at hl 0 rfl) ?_
  refine lv_iload_n hx hb dX4_tells_1 rfl (lv_at hl 1 rfl) ?_
  refine r_callV (cells1 := 0) (slots1 := 0) X hR (c_X4_finds G ad sc ar S hA0 hV (z) (by omega)) q2179 q2181 qs62 q100 q2182 ⟨rfl, pd_X4_finds⟩ (by decide) rfl rfl (by decide) (by decide) hM.1 rfl rfl (Nat.le_of_ble_eq_true rfl) hl.1 dX4_tells_2 (hB.of hS (fp_ma.base hA0)) hM hS (fun _ h => Or.inl h) (fun v H locs hp_1 hzC hkC hS => ?_)
  rcases hp_1 with ⟨kf_2, rfl, hM_6, hkf_3, hkn_4, hkl_5⟩ | ⟨rfl, hM_8, hnf_7⟩
  · skip
    have hM_9 := fp_ME.nrm (sc2 := (va_up sc 0 (((0 : Nat) : Int)))) hM_6 rfl
    refine r_stk (st2 := [.int (iI ((kf_2 : Nat) : Int))]) rfl ?_
    refine lv_istore_n (lv' := [(3, .int (iI ((kf_2 : Nat) : Int))), (0, .ref (ad 0)), (1, .int (iI (z))), (2, .int (iI ((x : Nat) : Int)))]) hx hb dX4_tells_5 rfl hl (by decide) rfl (fun ls hl => ?_)
    refine lv_iload_n hx hb dX4_tells_6 rfl (lv_at hl 0 rfl) ?_
    refine r_if_ge (tgt := 14) hx hb ⟨by omega, by omega⟩ dX4_tells_7 (by decide) (fun c7 => ?_) (fun c7 => ?_)
    · skip
      refine lv_aload_n hx hb dX4_tells_14 rfl (lv_at hl 1 rfl) ?_
      refine lv_iload_n hx hb dX4_tells_15 rfl (lv_at hl 0 rfl) ?_
      refine lv_iload_n hx hb dX4_tells_16 rfl (lv_at hl 3 rfl) ?_
      refine r_callV (cells1 := 0) (slots1 := 0) X hR (c_X4_of G ad (va_up sc 0 (((0 : Nat) : Int))) ar S hA0 hV kf_2 x (by omega) (by omega)) q2123 q2125 qs51 q100 q2126 ⟨rfl, pd_X4_of⟩ (by decide) rfl rfl (by decide) (by decide) hM_9.1 rfl rfl (Nat.le_of_ble_eq_true rfl) hl.1 dX4_tells_17 (hB.of hS (fp_ma.base hA0)) hM_9 hS (fun _ h => h.elim) (fun v H1 locs hp_10 hzC hkC hS => ?_)
      obtain ⟨rfl, rfl⟩ := hp_10
      refine r_stk (st2 := [.int (iI ((sB S kf_2 x : Nat) : Int))]) rfl ?_
      refine r_iret hx hb hr hlk hQ hS (Nat.le_of_ble_eq_true rfl) (Nat.le_of_ble_eq_true rfl) dX4_tells_20 ?_
      exact ⟨((sB S kf_2 x : Nat) : Int), ar, rfl, (by rw [show fp_fc S z = 0 from fp_fc_0 hkl_5 hkf_3]; exact hM_9.nrm rfl), (fun _ => (by rw [hkl_5])), (fun k hk => by simp [fp_scr] at hk; by_cases e5 : k = 5 <;> simp_all [va_up])⟩
    · exact absurd c7 (by omega)
  · skip
    have hM_11 := fp_ME.nrm (sc2 := (va_up sc 0 (((1 : Nat) : Int)))) hM_8 rfl
    refine r_stk (st2 := [.int (iI (-1))]) rfl ?_
    refine lv_istore_n (lv' := [(3, .int (iI (-1))), (0, .ref (ad 0)), (1, .int (iI (z))), (2, .int (iI ((x : Nat) : Int)))]) hx hb dX4_tells_5 rfl hl (by decide) rfl (fun ls hl => ?_)
    refine lv_iload_n hx hb dX4_tells_6 rfl (lv_at hl 0 rfl) ?_
    refine r_if_ge (tgt := 14) hx hb (by decide) dX4_tells_7 (by decide) (fun c7 => ?_) (fun c7 => ?_)
    · exact absurd c7 (by omega)
    · skip
      refine lv_iconst (v := (iI ((0 : Nat) : Int))) hx hb dX4_tells_10 rfl ?_
      refine lv_goto (tgt := 20) hx hb dX4_tells_11 (by decide) ?_
      refine r_iret hx hb hr hlk hQ hS (Nat.le_of_ble_eq_true rfl) (Nat.le_of_ble_eq_true rfl) dX4_tells_20 ?_
      exact ⟨((0 : Nat) : Int), ar, rfl, (by rw [show fp_fc S z = 1 from fp_fc_1 hnf_7]; exact hM_11.nrm rfl), (fun z0 => absurd ((show fp_fc S z = 1 from fp_fc_1 hnf_7).symm.trans z0) (by decide)), (fun k hk => by simp [fp_scr] at hk; by_cases e5 : k = 5 <;> simp_all [va_up])⟩
set_option maxHeartbeats 4000000 in
theorem c_X4_left (G : fp_G) (ad : Nat → Nat) (sc : Nat → Int) (ar : Nat → Nat → Int) (S : PS) (hA0 : fp_MA G ad) (hV : fp_VR S (ar 5)) (z : Int) (hz : rg z) : fp_M G yX4_left cX4_left 2 (some .int) 4 79 0 0 [.ref (ad 0), .int (iI (z))] (fp_ME G ad sc ar) (fp_ma ad) (fun _ v H => ∃ (r : Int), ∃ (ar2 : Nat → Nat → Int), v = some (.int (iI (r))) ∧ fp_ME G ad (va_up sc 0 (((fp_fc S z : Nat) : Int))) ar2 H ∧ (fp_fc S z = 0 → r = (sB S (fp_fnd S z) 2 : Int)) ∧ (fp_sm0 ar ar2)) := by
  refine fp_M.intro (by decide) (Nat.le_of_ble_eq_true rfl) ?_
  intro pg en s mi ag bl mt cd rR qQ ls X hx hb hr hlk hnm hR hQ hB hM hl
  have hS : va_S (fA (fp_ma ad) s.heap.size) s.heap s.heap [] := va_S.rf
  generalize ([] : List Loc) = locs at hS ⊢
  have hN24 := hV.1.1
  refine lv_aload_n hx hb dX4_left_0 rfl (lv_at hl 0 rfl) ?_
  refine lv_iload_n hx hb dX4_left_1 rfl (lv_at hl 1 rfl) ?_
  refine lv_iconst (v := (iI ((2 : Nat) : Int))) hx hb dX4_left_2 rfl ?_
  refine r_callV (cells1 := 0) (slots1 := 0) X hR (c_X4_tells G ad sc ar S hA0 hV (z) 2 (by omega) (by decide)) q2269 q2271 qs69 q100 q2272 ⟨rfl, pd_X4_tells⟩ (by decide) rfl rfl (by decide) (by decide) hM.1 rfl rfl (Nat.le_of_ble_eq_true rfl) hl.1 dX4_left_3 (hB.of hS (fp_ma.base hA0)) hM hS (fun _ h => Or.inl h) (fun v H locs hp_1 hzC hkC hS => ?_)
  obtain ⟨r_2, ar2_3, rfl, hM_6, hr_4, hsm_5⟩ := hp_1
  have hM_7 := fp_ME.nrm (sc2 := (va_up sc 0 (((fp_fc S (z) : Nat) : Int)))) hM_6 rfl
  refine r_stk (st2 := [.int (iI (r_2))]) rfl ?_
  refine r_iret hx hb hr hlk hQ hS (Nat.le_of_ble_eq_true rfl) (Nat.le_of_ble_eq_true rfl) dX4_left_6 ?_
  exact ⟨r_2, ar2_3, rfl, (hM_7.nrm rfl), hr_4, hsm_5⟩
set_option maxHeartbeats 4000000 in
theorem c_X4_width (G : fp_G) (ad : Nat → Nat) (sc : Nat → Int) (ar : Nat → Nat → Int) (S : PS) (hA0 : fp_MA G ad) (hV : fp_VR S (ar 5)) (z : Int) (hz : rg z) : fp_M G yX4_width cX4_width 2 (some .int) 4 79 0 0 [.ref (ad 0), .int (iI (z))] (fp_ME G ad sc ar) (fp_ma ad) (fun _ v H => ∃ (r : Int), ∃ (ar2 : Nat → Nat → Int), v = some (.int (iI (r))) ∧ fp_ME G ad (va_up sc 0 (((fp_fc S z : Nat) : Int))) ar2 H ∧ (fp_fc S z = 0 → r = (sB S (fp_fnd S z) 3 : Int)) ∧ (fp_sm0 ar ar2)) := by
  refine fp_M.intro (by decide) (Nat.le_of_ble_eq_true rfl) ?_
  intro pg en s mi ag bl mt cd rR qQ ls X hx hb hr hlk hnm hR hQ hB hM hl
  have hS : va_S (fA (fp_ma ad) s.heap.size) s.heap s.heap [] := va_S.rf
  generalize ([] : List Loc) = locs at hS ⊢
  have hN24 := hV.1.1
  refine lv_aload_n hx hb dX4_width_0 rfl (lv_at hl 0 rfl) ?_
  refine lv_iload_n hx hb dX4_width_1 rfl (lv_at hl 1 rfl) ?_
  refine lv_iconst (v := (iI ((3 : Nat) : Int))) hx hb dX4_width_2 rfl ?_
  refine r_callV (cells1 := 0) (slots1 := 0) X hR (c_X4_tells G ad sc ar S hA0 hV (z) 3 (by omega) (by decide)) q2269 q2271 qs69 q100 q2272 ⟨rfl, pd_X4_tells⟩ (by decide) rfl rfl (by decide) (by decide) hM.1 rfl rfl (Nat.le_of_ble_eq_true rfl) hl.1 dX4_width_3 (hB.of hS (fp_ma.base hA0)) hM hS (fun _ h => Or.inl h) (fun v H locs hp_1 hzC hkC hS => ?_)
  obtain ⟨r_2, ar2_3, rfl, hM_6, hr_4, hsm_5⟩ := hp_1
  have hM_7 := fp_ME.nrm (sc2 := (va_up sc 0 (((fp_fc S (z) : Nat) : Int)))) hM_6 rfl
  refine r_stk (st2 := [.int (iI (r_2))]) rfl ?_
  refine r_iret hx hb hr hlk hQ hS (Nat.le_of_ble_eq_true rfl) (Nat.le_of_ble_eq_true rfl) dX4_width_6 ?_
  exact ⟨r_2, ar2_3, rfl, (hM_7.nrm rfl), hr_4, hsm_5⟩
set_option maxHeartbeats 4000000 in
theorem c_X4_weight (G : fp_G) (ad : Nat → Nat) (sc : Nat → Int) (ar : Nat → Nat → Int) (S : PS) (hA0 : fp_MA G ad) (hV : fp_VR S (ar 5)) (z : Int) (hz : rg z) : fp_M G yX4_weight cX4_weight 2 (some .int) 4 79 0 0 [.ref (ad 0), .int (iI (z))] (fp_ME G ad sc ar) (fp_ma ad) (fun _ v H => ∃ (r : Int), ∃ (ar2 : Nat → Nat → Int), v = some (.int (iI (r))) ∧ fp_ME G ad (va_up sc 0 (((fp_fc S z : Nat) : Int))) ar2 H ∧ (fp_fc S z = 0 → r = (sB S (fp_fnd S z) 4 : Int)) ∧ (fp_sm0 ar ar2)) := by
  refine fp_M.intro (by decide) (Nat.le_of_ble_eq_true rfl) ?_
  intro pg en s mi ag bl mt cd rR qQ ls X hx hb hr hlk hnm hR hQ hB hM hl
  have hS : va_S (fA (fp_ma ad) s.heap.size) s.heap s.heap [] := va_S.rf
  generalize ([] : List Loc) = locs at hS ⊢
  have hN24 := hV.1.1
  refine lv_aload_n hx hb dX4_weight_0 rfl (lv_at hl 0 rfl) ?_
  refine lv_iload_n hx hb dX4_weight_1 rfl (lv_at hl 1 rfl) ?_
  refine lv_iconst (v := (iI ((4 : Nat) : Int))) hx hb dX4_weight_2 rfl ?_
  refine r_callV (cells1 := 0) (slots1 := 0) X hR (c_X4_tells G ad sc ar S hA0 hV (z) 4 (by omega) (by decide)) q2269 q2271 qs69 q100 q2272 ⟨rfl, pd_X4_tells⟩ (by decide) rfl rfl (by decide) (by decide) hM.1 rfl rfl (Nat.le_of_ble_eq_true rfl) hl.1 dX4_weight_3 (hB.of hS (fp_ma.base hA0)) hM hS (fun _ h => Or.inl h) (fun v H locs hp_1 hzC hkC hS => ?_)
  obtain ⟨r_2, ar2_3, rfl, hM_6, hr_4, hsm_5⟩ := hp_1
  have hM_7 := fp_ME.nrm (sc2 := (va_up sc 0 (((fp_fc S (z) : Nat) : Int)))) hM_6 rfl
  refine r_stk (st2 := [.int (iI (r_2))]) rfl ?_
  refine r_iret hx hb hr hlk hQ hS (Nat.le_of_ble_eq_true rfl) (Nat.le_of_ble_eq_true rfl) dX4_weight_6 ?_
  exact ⟨r_2, ar2_3, rfl, (hM_7.nrm rfl), hr_4, hsm_5⟩
set_option maxHeartbeats 4000000 in
theorem c_X4_bottom (G : fp_G) (ad : Nat → Nat) (sc : Nat → Int) (ar : Nat → Nat → Int) (S : PS) (hA0 : fp_MA G ad) (hV : fp_VR S (ar 5)) (z : Int) (hz : rg z) : fp_M G yX4_bottom cX4_bottom 2 (some .int) 4 79 0 0 [.ref (ad 0), .int (iI (z))] (fp_ME G ad sc ar) (fp_ma ad) (fun _ v H => ∃ (r : Int), ∃ (ar2 : Nat → Nat → Int), v = some (.int (iI (r))) ∧ fp_ME G ad (va_up sc 0 (((fp_fc S z : Nat) : Int))) ar2 H ∧ (fp_fc S z = 0 → r = (sB S (fp_fnd S z) 5 : Int)) ∧ (fp_sm0 ar ar2)) := by
  refine fp_M.intro (by decide) (Nat.le_of_ble_eq_true rfl) ?_
  intro pg en s mi ag bl mt cd rR qQ ls X hx hb hr hlk hnm hR hQ hB hM hl
  have hS : va_S (fA (fp_ma ad) s.heap.size) s.heap s.heap [] := va_S.rf
  generalize ([] : List Loc) = locs at hS ⊢
  have hN24 := hV.1.1
  refine lv_aload_n hx hb dX4_bottom_0 rfl (lv_at hl 0 rfl) ?_
  refine lv_iload_n hx hb dX4_bottom_1 rfl (lv_at hl 1 rfl) ?_
  refine lv_iconst (v := (iI ((5 : Nat) : Int))) hx hb dX4_bottom_2 rfl ?_
  refine r_callV (cells1 := 0) (slots1 := 0) X hR (c_X4_tells G ad sc ar S hA0 hV (z) 5 (by omega) (by decide)) q2269 q2271 qs69 q100 q2272 ⟨rfl, pd_X4_tells⟩ (by decide) rfl rfl (by decide) (by decide) hM.1 rfl rfl (Nat.le_of_ble_eq_true rfl) hl.1 dX4_bottom_3 (hB.of hS (fp_ma.base hA0)) hM hS (fun _ h => Or.inl h) (fun v H locs hp_1 hzC hkC hS => ?_)
  obtain ⟨r_2, ar2_3, rfl, hM_6, hr_4, hsm_5⟩ := hp_1
  have hM_7 := fp_ME.nrm (sc2 := (va_up sc 0 (((fp_fc S (z) : Nat) : Int)))) hM_6 rfl
  refine r_stk (st2 := [.int (iI (r_2))]) rfl ?_
  refine r_iret hx hb hr hlk hQ hS (Nat.le_of_ble_eq_true rfl) (Nat.le_of_ble_eq_true rfl) dX4_bottom_6 ?_
  exact ⟨r_2, ar2_3, rfl, (hM_7.nrm rfl), hr_4, hsm_5⟩
set_option maxHeartbeats 4000000 in
theorem c_X4_strength (G : fp_G) (ad : Nat → Nat) (sc : Nat → Int) (ar : Nat → Nat → Int) (S : PS) (hA0 : fp_MA G ad) (hV : fp_VR S (ar 5)) (z : Int) (hz : rg z) : fp_M G yX4_strength cX4_strength 3 (some .int) 3 56 0 0 [.ref (ad 0), .int (iI (z))] (fp_ME G ad sc ar) (fp_ma ad) (fun _ v H => ∃ (r : Int), ∃ (ar2 : Nat → Nat → Int), v = some (.int (iI (r))) ∧ fp_ME G ad (va_up sc 0 (((fp_fc S z : Nat) : Int))) ar2 H ∧ (fp_fc S z = 0 → r = (fp_str (sB S (fp_fnd S z)) : Int)) ∧ (fp_sm0 ar ar2)) := by
  refine fp_M.intro (by decide) (Nat.le_of_ble_eq_true rfl) ?_
  intro pg en s mi ag bl mt cd rR qQ ls X hx hb hr hlk hnm hR hQ hB hM hl
  have hS : va_S (fA (fp_ma ad) s.heap.size) s.heap s.heap [] := va_S.rf
  generalize ([] : List Loc) = locs at hS ⊢
  have hN24 := hV.1.1
  refine lv_aload_n hx hb dX4_strength_0 rfl (lv_at hl 0 rfl) ?_
  refine lv_iload_n hx hb dX4_strength_1 rfl (lv_at hl 1 rfl) ?_
  refine r_callV (cells1 := 0) (slots1 := 0) X hR (c_X4_finds G ad sc ar S hA0 hV (z) (by omega)) q2179 q2181 qs62 q100 q2182 ⟨rfl, pd_X4_finds⟩ (by decide) rfl rfl (by decide) (by decide) hM.1 rfl rfl (Nat.le_of_ble_eq_true rfl) hl.1 dX4_strength_2 (hB.of hS (fp_ma.base hA0)) hM hS (fun _ h => Or.inl h) (fun v H locs hp_1 hzC hkC hS => ?_)
  rcases hp_1 with ⟨kf_2, rfl, hM_6, hkf_3, hkn_4, hkl_5⟩ | ⟨rfl, hM_8, hnf_7⟩
  · skip
    have hM_9 := fp_ME.nrm (sc2 := (va_up sc 0 (((0 : Nat) : Int)))) hM_6 rfl
    refine r_stk (st2 := [.int (iI ((kf_2 : Nat) : Int))]) rfl ?_
    refine lv_istore_n (lv' := [(2, .int (iI ((kf_2 : Nat) : Int))), (0, .ref (ad 0)), (1, .int (iI (z)))]) hx hb dX4_strength_5 rfl hl (by decide) rfl (fun ls hl => ?_)
    refine lv_iload_n hx hb dX4_strength_6 rfl (lv_at hl 0 rfl) ?_
    refine r_if_ge (tgt := 14) hx hb ⟨by omega, by omega⟩ dX4_strength_7 (by decide) (fun c7 => ?_) (fun c7 => ?_)
    · skip
      refine lv_aload_n hx hb dX4_strength_14 rfl (lv_at hl 1 rfl) ?_
      refine lv_iload_n hx hb dX4_strength_15 rfl (lv_at hl 0 rfl) ?_
      refine r_callV (cells1 := 0) (slots1 := 0) X hR (c_X4_strong G ad (va_up sc 0 (((0 : Nat) : Int))) ar S hA0 hV kf_2 (by omega)) q2155 q2157 qs59 q100 q2158 ⟨rfl, pd_X4_strong⟩ (by decide) rfl rfl (by decide) (by decide) hM_9.1 rfl rfl (Nat.le_of_ble_eq_true rfl) hl.1 dX4_strength_16 (hB.of hS (fp_ma.base hA0)) hM_9 hS (fun _ h => h.elim) (fun v H1 locs hp_10 hzC hkC hS => ?_)
      obtain ⟨rfl, rfl⟩ := hp_10
      refine r_stk (st2 := [.int (iI ((fp_str (sB S kf_2) : Nat) : Int))]) rfl ?_
      refine r_iret hx hb hr hlk hQ hS (Nat.le_of_ble_eq_true rfl) (Nat.le_of_ble_eq_true rfl) dX4_strength_19 ?_
      exact ⟨((fp_str (sB S kf_2) : Nat) : Int), ar, rfl, (by rw [show fp_fc S z = 0 from fp_fc_0 hkl_5 hkf_3]; exact hM_9.nrm rfl), (fun _ => (by rw [hkl_5])), (fun k hk => by simp [fp_scr] at hk; by_cases e5 : k = 5 <;> simp_all [va_up])⟩
    · exact absurd c7 (by omega)
  · skip
    have hM_11 := fp_ME.nrm (sc2 := (va_up sc 0 (((1 : Nat) : Int)))) hM_8 rfl
    refine r_stk (st2 := [.int (iI (-1))]) rfl ?_
    refine lv_istore_n (lv' := [(2, .int (iI (-1))), (0, .ref (ad 0)), (1, .int (iI (z)))]) hx hb dX4_strength_5 rfl hl (by decide) rfl (fun ls hl => ?_)
    refine lv_iload_n hx hb dX4_strength_6 rfl (lv_at hl 0 rfl) ?_
    refine r_if_ge (tgt := 14) hx hb (by decide) dX4_strength_7 (by decide) (fun c7 => ?_) (fun c7 => ?_)
    · exact absurd c7 (by omega)
    · skip
      refine lv_iconst (v := (iI ((0 : Nat) : Int))) hx hb dX4_strength_10 rfl ?_
      refine lv_goto (tgt := 19) hx hb dX4_strength_11 (by decide) ?_
      refine r_iret hx hb hr hlk hQ hS (Nat.le_of_ble_eq_true rfl) (Nat.le_of_ble_eq_true rfl) dX4_strength_19 ?_
      exact ⟨((0 : Nat) : Int), ar, rfl, (by rw [show fp_fc S z = 1 from fp_fc_1 hnf_7]; exact hM_11.nrm rfl), (fun z0 => absurd ((show fp_fc S z = 1 from fp_fc_1 hnf_7).symm.trans z0) (by decide)), (fun k hk => by simp [fp_scr] at hk; by_cases e5 : k = 5 <;> simp_all [va_up])⟩
set_option maxHeartbeats 4000000 in
theorem c_X4_top (G : fp_G) (ad : Nat → Nat) (sc : Nat → Int) (ar : Nat → Nat → Int) (S : PS) (hA0 : fp_MA G ad) (hV : fp_VR S (ar 5)) (z : Int) (hz : rg z) : fp_M G yX4_top cX4_top 3 (some .int) 3 56 0 0 [.ref (ad 0), .int (iI (z))] (fp_ME G ad sc ar) (fp_ma ad) (fun _ v H => ∃ (r : Int), ∃ (ar2 : Nat → Nat → Int), v = some (.int (iI (r))) ∧ fp_ME G ad (va_up sc 0 (((fp_fc S z : Nat) : Int))) ar2 H ∧ (fp_fc S z = 0 → r = (fp_top (sB S (fp_fnd S z)) : Int)) ∧ (fp_sm0 ar ar2)) := by
  refine fp_M.intro (by decide) (Nat.le_of_ble_eq_true rfl) ?_
  intro pg en s mi ag bl mt cd rR qQ ls X hx hb hr hlk hnm hR hQ hB hM hl
  have hS : va_S (fA (fp_ma ad) s.heap.size) s.heap s.heap [] := va_S.rf
  generalize ([] : List Loc) = locs at hS ⊢
  have hN24 := hV.1.1
  refine lv_aload_n hx hb dX4_top_0 rfl (lv_at hl 0 rfl) ?_
  refine lv_iload_n hx hb dX4_top_1 rfl (lv_at hl 1 rfl) ?_
  refine r_callV (cells1 := 0) (slots1 := 0) X hR (c_X4_finds G ad sc ar S hA0 hV (z) (by omega)) q2179 q2181 qs62 q100 q2182 ⟨rfl, pd_X4_finds⟩ (by decide) rfl rfl (by decide) (by decide) hM.1 rfl rfl (Nat.le_of_ble_eq_true rfl) hl.1 dX4_top_2 (hB.of hS (fp_ma.base hA0)) hM hS (fun _ h => Or.inl h) (fun v H locs hp_1 hzC hkC hS => ?_)
  rcases hp_1 with ⟨kf_2, rfl, hM_6, hkf_3, hkn_4, hkl_5⟩ | ⟨rfl, hM_8, hnf_7⟩
  · skip
    have hM_9 := fp_ME.nrm (sc2 := (va_up sc 0 (((0 : Nat) : Int)))) hM_6 rfl
    refine r_stk (st2 := [.int (iI ((kf_2 : Nat) : Int))]) rfl ?_
    refine lv_istore_n (lv' := [(2, .int (iI ((kf_2 : Nat) : Int))), (0, .ref (ad 0)), (1, .int (iI (z)))]) hx hb dX4_top_5 rfl hl (by decide) rfl (fun ls hl => ?_)
    refine lv_iload_n hx hb dX4_top_6 rfl (lv_at hl 0 rfl) ?_
    refine r_if_ge (tgt := 14) hx hb ⟨by omega, by omega⟩ dX4_top_7 (by decide) (fun c7 => ?_) (fun c7 => ?_)
    · skip
      refine lv_aload_n hx hb dX4_top_14 rfl (lv_at hl 1 rfl) ?_
      refine lv_iload_n hx hb dX4_top_15 rfl (lv_at hl 0 rfl) ?_
      refine r_callV (cells1 := 0) (slots1 := 0) X hR (c_X4_topOf G ad (va_up sc 0 (((0 : Nat) : Int))) ar S hA0 hV kf_2 (by omega)) q2127 q2129 qs52 q100 q2130 ⟨rfl, pd_X4_topOf⟩ (by decide) rfl rfl (by decide) (by decide) hM_9.1 rfl rfl (Nat.le_of_ble_eq_true rfl) hl.1 dX4_top_16 (hB.of hS (fp_ma.base hA0)) hM_9 hS (fun _ h => h.elim) (fun v H1 locs hp_10 hzC hkC hS => ?_)
      obtain ⟨rfl, rfl⟩ := hp_10
      refine r_stk (st2 := [.int (iI ((fp_top (sB S kf_2) : Nat) : Int))]) rfl ?_
      refine r_iret hx hb hr hlk hQ hS (Nat.le_of_ble_eq_true rfl) (Nat.le_of_ble_eq_true rfl) dX4_top_19 ?_
      exact ⟨((fp_top (sB S kf_2) : Nat) : Int), ar, rfl, (by rw [show fp_fc S z = 0 from fp_fc_0 hkl_5 hkf_3]; exact hM_9.nrm rfl), (fun _ => (by rw [hkl_5])), (fun k hk => by simp [fp_scr] at hk; by_cases e5 : k = 5 <;> simp_all [va_up])⟩
    · exact absurd c7 (by omega)
  · skip
    have hM_11 := fp_ME.nrm (sc2 := (va_up sc 0 (((1 : Nat) : Int)))) hM_8 rfl
    refine r_stk (st2 := [.int (iI (-1))]) rfl ?_
    refine lv_istore_n (lv' := [(2, .int (iI (-1))), (0, .ref (ad 0)), (1, .int (iI (z)))]) hx hb dX4_top_5 rfl hl (by decide) rfl (fun ls hl => ?_)
    refine lv_iload_n hx hb dX4_top_6 rfl (lv_at hl 0 rfl) ?_
    refine r_if_ge (tgt := 14) hx hb (by decide) dX4_top_7 (by decide) (fun c7 => ?_) (fun c7 => ?_)
    · exact absurd c7 (by omega)
    · skip
      refine lv_iconst (v := (iI ((0 : Nat) : Int))) hx hb dX4_top_10 rfl ?_
      refine lv_goto (tgt := 19) hx hb dX4_top_11 (by decide) ?_
      refine r_iret hx hb hr hlk hQ hS (Nat.le_of_ble_eq_true rfl) (Nat.le_of_ble_eq_true rfl) dX4_top_19 ?_
      exact ⟨((0 : Nat) : Int), ar, rfl, (by rw [show fp_fc S z = 1 from fp_fc_1 hnf_7]; exact hM_11.nrm rfl), (fun z0 => absurd ((show fp_fc S z = 1 from fp_fc_1 hnf_7).symm.trans z0) (by decide)), (fun k hk => by simp [fp_scr] at hk; by_cases e5 : k = 5 <;> simp_all [va_up])⟩
set_option maxHeartbeats 4000000 in
theorem c_X4_supporterCount (G : fp_G) (ad : Nat → Nat) (sc : Nat → Int) (ar : Nat → Nat → Int) (S : PS) (hA0 : fp_MA G ad) (hV : fp_VR S (ar 5)) (z : Int) (hz : rg z) : fp_M G yX4_supporterCount cX4_supporterCount 3 (some .int) 5 101 0 0 [.ref (ad 0), .int (iI (z))] (fp_ME G ad sc ar) (fp_ma ad) (fun _ v H => ∃ (r : Int), ∃ (ar2 : Nat → Nat → Int), v = some (.int (iI (r))) ∧ fp_ME G ad (va_up sc 0 (((fp_fc S z : Nat) : Int))) ar2 H ∧ (fp_fc S z = 0 → r = (fp_nsup S (fp_fnd S z) : Int)) ∧ (fp_sm0 ar ar2)) := by
  refine fp_M.intro (by decide) (Nat.le_of_ble_eq_true rfl) ?_
  intro pg en s mi ag bl mt cd rR qQ ls X hx hb hr hlk hnm hR hQ hB hM hl
  have hS : va_S (fA (fp_ma ad) s.heap.size) s.heap s.heap [] := va_S.rf
  generalize ([] : List Loc) = locs at hS ⊢
  have hN24 := hV.1.1
  refine lv_aload_n hx hb dX4_supporterCount_0 rfl (lv_at hl 0 rfl) ?_
  refine lv_iload_n hx hb dX4_supporterCount_1 rfl (lv_at hl 1 rfl) ?_
  refine r_callV (cells1 := 0) (slots1 := 0) X hR (c_X4_finds G ad sc ar S hA0 hV (z) (by omega)) q2179 q2181 qs62 q100 q2182 ⟨rfl, pd_X4_finds⟩ (by decide) rfl rfl (by decide) (by decide) hM.1 rfl rfl (Nat.le_of_ble_eq_true rfl) hl.1 dX4_supporterCount_2 (hB.of hS (fp_ma.base hA0)) hM hS (fun _ h => Or.inl h) (fun v H locs hp_1 hzC hkC hS => ?_)
  rcases hp_1 with ⟨kf_2, rfl, hM_6, hkf_3, hkn_4, hkl_5⟩ | ⟨rfl, hM_8, hnf_7⟩
  · skip
    have hM_9 := fp_ME.nrm (sc2 := (va_up sc 0 (((0 : Nat) : Int)))) hM_6 rfl
    refine r_stk (st2 := [.int (iI ((kf_2 : Nat) : Int))]) rfl ?_
    refine lv_istore_n (lv' := [(2, .int (iI ((kf_2 : Nat) : Int))), (0, .ref (ad 0)), (1, .int (iI (z)))]) hx hb dX4_supporterCount_5 rfl hl (by decide) rfl (fun ls hl => ?_)
    refine lv_iload_n hx hb dX4_supporterCount_6 rfl (lv_at hl 0 rfl) ?_
    refine r_if_ge (tgt := 14) hx hb ⟨by omega, by omega⟩ dX4_supporterCount_7 (by decide) (fun c7 => ?_) (fun c7 => ?_)
    · skip
      refine lv_aload_n hx hb dX4_supporterCount_14 rfl (lv_at hl 1 rfl) ?_
      refine lv_iload_n hx hb dX4_supporterCount_15 rfl (lv_at hl 0 rfl) ?_
      refine r_callV (cells1 := 0) (slots1 := 0) X hR (c_X4_supporters G ad (va_up sc 0 (((0 : Nat) : Int))) ar S hA0 hV kf_2 (by omega)) q2143 q2145 qs56 q100 q2146 ⟨rfl, pd_X4_supporters⟩ (by decide) rfl rfl (by decide) (by decide) hM_9.1 rfl rfl (Nat.le_of_ble_eq_true rfl) hl.1 dX4_supporterCount_16 (hB.of hS (fp_ma.base hA0)) hM_9 hS (fun _ h => h.elim) (fun v H1 locs hp_10 hzC hkC hS => ?_)
      obtain ⟨rfl, rfl⟩ := hp_10
      refine r_stk (st2 := [.int (iI ((fp_nsup S kf_2 : Nat) : Int))]) rfl ?_
      refine r_iret hx hb hr hlk hQ hS (Nat.le_of_ble_eq_true rfl) (Nat.le_of_ble_eq_true rfl) dX4_supporterCount_19 ?_
      exact ⟨((fp_nsup S kf_2 : Nat) : Int), ar, rfl, (by rw [show fp_fc S z = 0 from fp_fc_0 hkl_5 hkf_3]; exact hM_9.nrm rfl), (fun _ => (by rw [hkl_5])), (fun k hk => by simp [fp_scr] at hk; by_cases e5 : k = 5 <;> simp_all [va_up])⟩
    · exact absurd c7 (by omega)
  · skip
    have hM_11 := fp_ME.nrm (sc2 := (va_up sc 0 (((1 : Nat) : Int)))) hM_8 rfl
    refine r_stk (st2 := [.int (iI (-1))]) rfl ?_
    refine lv_istore_n (lv' := [(2, .int (iI (-1))), (0, .ref (ad 0)), (1, .int (iI (z)))]) hx hb dX4_supporterCount_5 rfl hl (by decide) rfl (fun ls hl => ?_)
    refine lv_iload_n hx hb dX4_supporterCount_6 rfl (lv_at hl 0 rfl) ?_
    refine r_if_ge (tgt := 14) hx hb (by decide) dX4_supporterCount_7 (by decide) (fun c7 => ?_) (fun c7 => ?_)
    · exact absurd c7 (by omega)
    · skip
      refine lv_iconst (v := (iI ((0 : Nat) : Int))) hx hb dX4_supporterCount_10 rfl ?_
      refine lv_goto (tgt := 19) hx hb dX4_supporterCount_11 (by decide) ?_
      refine r_iret hx hb hr hlk hQ hS (Nat.le_of_ble_eq_true rfl) (Nat.le_of_ble_eq_true rfl) dX4_supporterCount_19 ?_
      exact ⟨((0 : Nat) : Int), ar, rfl, (by rw [show fp_fc S z = 1 from fp_fc_1 hnf_7]; exact hM_11.nrm rfl), (fun z0 => absurd ((show fp_fc S z = 1 from fp_fc_1 hnf_7).symm.trans z0) (by decide)), (fun k hk => by simp [fp_scr] at hk; by_cases e5 : k = 5 <;> simp_all [va_up])⟩
set_option maxHeartbeats 4000000 in
theorem c_X4_isSupporting (G : fp_G) (ad : Nat → Nat) (sc : Nat → Int) (ar : Nat → Nat → Int) (S : PS) (hA0 : fp_MA G ad) (hV : fp_VR S (ar 5)) (z : Int) (hz : rg z) : fp_M G yX4_isSupporting cX4_isSupporting 3 (some .boolean) 5 100 0 0 [.ref (ad 0), .int (iI (z))] (fp_ME G ad sc ar) (fp_ma ad) (fun _ v H => ∃ (r : Bool), ∃ (ar2 : Nat → Nat → Int), v = some (.int (iI (bI (r)))) ∧ fp_ME G ad (va_up sc 0 (((fp_fc S z : Nat) : Int))) ar2 H ∧ (fp_fc S z = 0 → r = fp_und S (fp_fnd S z)) ∧ (fp_sm0 ar ar2)) := by
  refine fp_M.intro (by decide) (Nat.le_of_ble_eq_true rfl) ?_
  intro pg en s mi ag bl mt cd rR qQ ls X hx hb hr hlk hnm hR hQ hB hM hl
  have hS : va_S (fA (fp_ma ad) s.heap.size) s.heap s.heap [] := va_S.rf
  generalize ([] : List Loc) = locs at hS ⊢
  have hN24 := hV.1.1
  refine lv_aload_n hx hb dX4_isSupporting_0 rfl (lv_at hl 0 rfl) ?_
  refine lv_iload_n hx hb dX4_isSupporting_1 rfl (lv_at hl 1 rfl) ?_
  refine r_callV (cells1 := 0) (slots1 := 0) X hR (c_X4_finds G ad sc ar S hA0 hV (z) (by omega)) q2179 q2181 qs62 q100 q2182 ⟨rfl, pd_X4_finds⟩ (by decide) rfl rfl (by decide) (by decide) hM.1 rfl rfl (Nat.le_of_ble_eq_true rfl) hl.1 dX4_isSupporting_2 (hB.of hS (fp_ma.base hA0)) hM hS (fun _ h => Or.inl h) (fun v H locs hp_1 hzC hkC hS => ?_)
  rcases hp_1 with ⟨kf_2, rfl, hM_6, hkf_3, hkn_4, hkl_5⟩ | ⟨rfl, hM_8, hnf_7⟩
  · skip
    have hM_9 := fp_ME.nrm (sc2 := (va_up sc 0 (((0 : Nat) : Int)))) hM_6 rfl
    refine r_stk (st2 := [.int (iI ((kf_2 : Nat) : Int))]) rfl ?_
    refine lv_istore_n (lv' := [(2, .int (iI ((kf_2 : Nat) : Int))), (0, .ref (ad 0)), (1, .int (iI (z)))]) hx hb dX4_isSupporting_5 rfl hl (by decide) rfl (fun ls hl => ?_)
    refine lv_iload_n hx hb dX4_isSupporting_6 rfl (lv_at hl 0 rfl) ?_
    refine r_if_lt (tgt := 22) hx hb ⟨by omega, by omega⟩ dX4_isSupporting_7 (by decide) (fun c7 => ?_) (fun c7 => ?_)
    · exact absurd c7 (by omega)
    · skip
      refine lv_aload_n hx hb dX4_isSupporting_10 rfl (lv_at hl 1 rfl) ?_
      refine lv_iload_n hx hb dX4_isSupporting_11 rfl (lv_at hl 0 rfl) ?_
      refine r_callV (cells1 := 0) (slots1 := 0) X hR (c_X4_isUnder G ad (va_up sc 0 (((0 : Nat) : Int))) ar S hA0 hV kf_2 (by omega)) q2183 q2185 qs63 q100 q2186 ⟨rfl, pd_X4_isUnder⟩ (by decide) rfl rfl (by decide) (by decide) hM_9.1 rfl rfl (Nat.le_of_ble_eq_true rfl) hl.1 dX4_isSupporting_12 (hB.of hS (fp_ma.base hA0)) hM_9 hS (fun _ h => h.elim) (fun v H1 locs hp_10 hzC hkC hS => ?_)
      obtain ⟨rfl, rfl⟩ := hp_10
      refine r_stk (st2 := [.int (iI (bI (fp_und S kf_2)))]) rfl ?_
      refine r_ifeqB (tgt := 22) hx hb dX4_isSupporting_15 (by decide) (fun c15 => ?_) (fun c15 => ?_)
      · skip
        refine lv_iconst (v := (iI ((0 : Nat) : Int))) hx hb dX4_isSupporting_22 rfl ?_
        refine r_zret hx hb hr hlk hQ hS (Nat.le_of_ble_eq_true rfl) (Nat.le_of_ble_eq_true rfl) dX4_isSupporting_23 rfl ?_
        exact ⟨false, ar, rfl, (by rw [show fp_fc S z = 0 from fp_fc_0 hkl_5 hkf_3]; exact hM_9.nrm rfl), (fun _ => (by rw [hkl_5, c15])), (fun k hk => by simp [fp_scr] at hk; by_cases e5 : k = 5 <;> simp_all [va_up])⟩
      · skip
        refine lv_iconst (v := (iI ((1 : Nat) : Int))) hx hb dX4_isSupporting_18 rfl ?_
        refine lv_goto (tgt := 23) hx hb dX4_isSupporting_19 (by decide) ?_
        refine r_zret hx hb hr hlk hQ hS (Nat.le_of_ble_eq_true rfl) (Nat.le_of_ble_eq_true rfl) dX4_isSupporting_23 rfl ?_
        exact ⟨true, ar, rfl, (by rw [show fp_fc S z = 0 from fp_fc_0 hkl_5 hkf_3]; exact hM_9.nrm rfl), (fun _ => (by rw [hkl_5, c15])), (fun k hk => by simp [fp_scr] at hk; by_cases e5 : k = 5 <;> simp_all [va_up])⟩
  · skip
    have hM_11 := fp_ME.nrm (sc2 := (va_up sc 0 (((1 : Nat) : Int)))) hM_8 rfl
    refine r_stk (st2 := [.int (iI (-1))]) rfl ?_
    refine lv_istore_n (lv' := [(2, .int (iI (-1))), (0, .ref (ad 0)), (1, .int (iI (z)))]) hx hb dX4_isSupporting_5 rfl hl (by decide) rfl (fun ls hl => ?_)
    refine lv_iload_n hx hb dX4_isSupporting_6 rfl (lv_at hl 0 rfl) ?_
    refine r_if_lt (tgt := 22) hx hb (by decide) dX4_isSupporting_7 (by decide) (fun c7 => ?_) (fun c7 => ?_)
    · skip
      refine lv_iconst (v := (iI ((0 : Nat) : Int))) hx hb dX4_isSupporting_22 rfl ?_
      refine r_zret hx hb hr hlk hQ hS (Nat.le_of_ble_eq_true rfl) (Nat.le_of_ble_eq_true rfl) dX4_isSupporting_23 rfl ?_
      exact ⟨false, ar, rfl, (by rw [show fp_fc S z = 1 from fp_fc_1 hnf_7]; exact hM_11.nrm rfl), (fun z0 => absurd ((show fp_fc S z = 1 from fp_fc_1 hnf_7).symm.trans z0) (by decide)), (fun k hk => by simp [fp_scr] at hk; by_cases e5 : k = 5 <;> simp_all [va_up])⟩
    · exact absurd c7 (by omega)
set_option maxHeartbeats 4000000 in
theorem c_X4_load (G : fp_G) (ad : Nat → Nat) (sc : Nat → Int) (ar : Nat → Nat → Int) (S : PS) (hA0 : fp_MA G ad) (hV : fp_VR S (ar 5)) (z : Int) (hz : rg z) : fp_M G yX4_load cX4_load 3 (some .int) 7 148 0 0 [.ref (ad 0), .int (iI (z))] (fp_ME G ad sc ar) (fp_ma ad) (fun _ v H => ∃ (r : Int), ∃ (ar2 : Nat → Nat → Int), v = some (.int (iI (r))) ∧ fp_ME G ad (va_up sc 0 (((fp_fc S z : Nat) : Int))) ar2 H ∧ (fp_fc S z = 0 → r = (fp_ld S (fp_fnd S z) : Int)) ∧ (fp_sm0 ar ar2)) := by
  refine fp_M.intro (by decide) (Nat.le_of_ble_eq_true rfl) ?_
  intro pg en s mi ag bl mt cd rR qQ ls X hx hb hr hlk hnm hR hQ hB hM hl
  have hS : va_S (fA (fp_ma ad) s.heap.size) s.heap s.heap [] := va_S.rf
  generalize ([] : List Loc) = locs at hS ⊢
  have hN24 := hV.1.1
  refine lv_aload_n hx hb dX4_load_0 rfl (lv_at hl 0 rfl) ?_
  refine lv_iload_n hx hb dX4_load_1 rfl (lv_at hl 1 rfl) ?_
  refine r_callV (cells1 := 0) (slots1 := 0) X hR (c_X4_finds G ad sc ar S hA0 hV (z) (by omega)) q2179 q2181 qs62 q100 q2182 ⟨rfl, pd_X4_finds⟩ (by decide) rfl rfl (by decide) (by decide) hM.1 rfl rfl (Nat.le_of_ble_eq_true rfl) hl.1 dX4_load_2 (hB.of hS (fp_ma.base hA0)) hM hS (fun _ h => Or.inl h) (fun v H locs hp_1 hzC hkC hS => ?_)
  rcases hp_1 with ⟨kf_2, rfl, hM_6, hkf_3, hkn_4, hkl_5⟩ | ⟨rfl, hM_8, hnf_7⟩
  · skip
    have hM_9 := fp_ME.nrm (sc2 := (va_up sc 0 (((0 : Nat) : Int)))) hM_6 rfl
    refine r_stk (st2 := [.int (iI ((kf_2 : Nat) : Int))]) rfl ?_
    refine lv_istore_n (lv' := [(2, .int (iI ((kf_2 : Nat) : Int))), (0, .ref (ad 0)), (1, .int (iI (z)))]) hx hb dX4_load_5 rfl hl (by decide) rfl (fun ls hl => ?_)
    refine lv_iload_n hx hb dX4_load_6 rfl (lv_at hl 0 rfl) ?_
    refine r_if_ge (tgt := 12) hx hb ⟨by omega, by omega⟩ dX4_load_7 (by decide) (fun c7 => ?_) (fun c7 => ?_)
    · skip
      refine lv_aload_n hx hb dX4_load_12 rfl (lv_at hl 1 rfl) ?_
      refine r_callV (cells1 := 0) (slots1 := 0) X hR (c_X4_weighs G ad (va_up sc 0 (((0 : Nat) : Int))) ar S hA0 hV  ) q2135 q2137 qs54 q100 q2138 ⟨rfl, pd_X4_weighs⟩ (by decide) rfl rfl (by decide) (by decide) hM_9.1 rfl rfl (Nat.le_of_ble_eq_true rfl) hl.1 dX4_load_13 (hB.of hS (fp_ma.base hA0)) hM_9 hS (fun _ h => Or.inl h) (fun v H locs hp_10 hzC hkC hS => ?_)
      obtain ⟨f_11, rfl, hM_13, hf_12⟩ := hp_10
      refine r_stk (st2 := []) rfl ?_
      refine lv_aload_n hx hb dX4_load_16 rfl (lv_at hl 1 rfl) ?_
      refine r_get X hM_13.1 rfl in_X4 10 (by decide) q2019 (Or.inl rfl) (v := .ref (ad 10)) rfl dX4_load_17 ?_
      refine lv_iload_n hx hb dX4_load_20 rfl (lv_at hl 0 rfl) ?_
      refine r_ialdI X (hM_13.2 10 (by decide) (by decide)) (j := kf_2) (n := 24) rfl (by omega) (by decide) dX4_load_21 ?_
      refine r_set (y := .int (iI ((fp_ld S kf_2 : Nat) : Int))) (congrArg (fun q : Int => Value.int (iI q)) (show f_11 kf_2 = _ from hf_12 kf_2 (by omega))) ?_
      refine r_iret hx hb hr hlk hQ hS (Nat.le_of_ble_eq_true rfl) (Nat.le_of_ble_eq_true rfl) dX4_load_22 ?_
      exact ⟨((fp_ld S kf_2 : Nat) : Int), (va_up ar 10 f_11), rfl, (by rw [show fp_fc S z = 0 from fp_fc_0 hkl_5 hkf_3]; exact hM_13.nrm rfl), (fun _ => (by rw [hkl_5])), (fun k hk => by simp [fp_scr] at hk; by_cases e5 : k = 5 <;> simp_all [va_up])⟩
    · exact absurd c7 (by omega)
  · skip
    have hM_14 := fp_ME.nrm (sc2 := (va_up sc 0 (((1 : Nat) : Int)))) hM_8 rfl
    refine r_stk (st2 := [.int (iI (-1))]) rfl ?_
    refine lv_istore_n (lv' := [(2, .int (iI (-1))), (0, .ref (ad 0)), (1, .int (iI (z)))]) hx hb dX4_load_5 rfl hl (by decide) rfl (fun ls hl => ?_)
    refine lv_iload_n hx hb dX4_load_6 rfl (lv_at hl 0 rfl) ?_
    refine r_if_ge (tgt := 12) hx hb (by decide) dX4_load_7 (by decide) (fun c7 => ?_) (fun c7 => ?_)
    · exact absurd c7 (by omega)
    · skip
      refine lv_iconst (v := (iI ((0 : Nat) : Int))) hx hb dX4_load_10 rfl ?_
      refine r_iret hx hb hr hlk hQ hS (Nat.le_of_ble_eq_true rfl) (Nat.le_of_ble_eq_true rfl) dX4_load_11 ?_
      exact ⟨((0 : Nat) : Int), ar, rfl, (by rw [show fp_fc S z = 1 from fp_fc_1 hnf_7]; exact hM_14.nrm rfl), (fun z0 => absurd ((show fp_fc S z = 1 from fp_fc_1 hnf_7).symm.trans z0) (by decide)), (fun k hk => by simp [fp_scr] at hk; by_cases e5 : k = 5 <;> simp_all [va_up])⟩
set_option maxHeartbeats 4000000 in
theorem c_X4_loadByRecursion (G : fp_G) (ad : Nat → Nat) (sc : Nat → Int) (ar : Nat → Nat → Int) (S : PS) (hA0 : fp_MA G ad) (hV : fp_VR S (ar 5)) (z : Int) (hz : rg z) : fp_M G yX4_loadByRecursion cX4_loadByRecursion 2 (some .int) 8 170 0 0 [.ref (ad 0), .int (iI (z))] (fp_ME G ad sc ar) (fp_ma ad) (fun _ v H => ∃ (r : Int), ∃ (ar2 : Nat → Nat → Int), v = some (.int (iI (r))) ∧ fp_ME G ad (va_up sc 0 (((fp_fc S z : Nat) : Int))) ar2 H ∧ (fp_fc S z = 0 → r = (fp_ld S (fp_fnd S z) : Int)) ∧ (fp_sm0 ar ar2)) := by
  refine fp_M.intro (by decide) (Nat.le_of_ble_eq_true rfl) ?_
  intro pg en s mi ag bl mt cd rR qQ ls X hx hb hr hlk hnm hR hQ hB hM hl
  have hS : va_S (fA (fp_ma ad) s.heap.size) s.heap s.heap [] := va_S.rf
  generalize ([] : List Loc) = locs at hS ⊢
  have hN24 := hV.1.1
  refine lv_aload_n hx hb dX4_loadByRecursion_0 rfl (lv_at hl 0 rfl) ?_
  refine lv_iload_n hx hb dX4_loadByRecursion_1 rfl (lv_at hl 1 rfl) ?_
  refine r_callV (cells1 := 0) (slots1 := 0) X hR (c_X4_load G ad sc ar S hA0 hV (z) (by omega)) q2313 q2306 q2307 q100 q2308 ⟨rfl, pd_X4_load⟩ (by decide) rfl rfl (by decide) (by decide) hM.1 rfl rfl (Nat.le_of_ble_eq_true rfl) hl.1 dX4_loadByRecursion_2 (hB.of hS (fp_ma.base hA0)) hM hS (fun _ h => Or.inl h) (fun v H locs hp_1 hzC hkC hS => ?_)
  obtain ⟨r_2, ar2_3, rfl, hM_6, hr_4, hsm_5⟩ := hp_1
  have hM_7 := fp_ME.nrm (sc2 := (va_up sc 0 (((fp_fc S (z) : Nat) : Int)))) hM_6 rfl
  refine r_stk (st2 := [.int (iI (r_2))]) rfl ?_
  refine r_iret hx hb hr hlk hQ hS (Nat.le_of_ble_eq_true rfl) (Nat.le_of_ble_eq_true rfl) dX4_loadByRecursion_5 ?_
  exact ⟨r_2, ar2_3, rfl, (hM_7.nrm rfl), hr_4, hsm_5⟩
set_option maxHeartbeats 4000000 in
theorem c_X4_slack (G : fp_G) (ad : Nat → Nat) (sc : Nat → Int) (ar : Nat → Nat → Int) (S : PS) (hA0 : fp_MA G ad) (hV : fp_VR S (ar 5)) (z : Int) (hz : rg z) : fp_M G yX4_slack cX4_slack 3 (some .int) 7 148 0 0 [.ref (ad 0), .int (iI (z))] (fp_ME G ad sc ar) (fp_ma ad) (fun _ v H => ∃ (r : Int), ∃ (ar2 : Nat → Nat → Int), v = some (.int (iI (r))) ∧ fp_ME G ad (va_up sc 0 (((fp_fc S z : Nat) : Int))) ar2 H ∧ (fp_fc S z = 0 → r = fp_slk S (fp_fnd S z)) ∧ (fp_sm0 ar ar2)) := by
  refine fp_M.intro (by decide) (Nat.le_of_ble_eq_true rfl) ?_
  intro pg en s mi ag bl mt cd rR qQ ls X hx hb hr hlk hnm hR hQ hB hM hl
  have hS : va_S (fA (fp_ma ad) s.heap.size) s.heap s.heap [] := va_S.rf
  generalize ([] : List Loc) = locs at hS ⊢
  have hN24 := hV.1.1
  refine lv_aload_n hx hb dX4_slack_0 rfl (lv_at hl 0 rfl) ?_
  refine lv_iload_n hx hb dX4_slack_1 rfl (lv_at hl 1 rfl) ?_
  refine r_callV (cells1 := 0) (slots1 := 0) X hR (c_X4_finds G ad sc ar S hA0 hV (z) (by omega)) q2179 q2181 qs62 q100 q2182 ⟨rfl, pd_X4_finds⟩ (by decide) rfl rfl (by decide) (by decide) hM.1 rfl rfl (Nat.le_of_ble_eq_true rfl) hl.1 dX4_slack_2 (hB.of hS (fp_ma.base hA0)) hM hS (fun _ h => Or.inl h) (fun v H locs hp_1 hzC hkC hS => ?_)
  rcases hp_1 with ⟨kf_2, rfl, hM_6, hkf_3, hkn_4, hkl_5⟩ | ⟨rfl, hM_8, hnf_7⟩
  · skip
    have hM_9 := fp_ME.nrm (sc2 := (va_up sc 0 (((0 : Nat) : Int)))) hM_6 rfl
    refine r_stk (st2 := [.int (iI ((kf_2 : Nat) : Int))]) rfl ?_
    refine lv_istore_n (lv' := [(2, .int (iI ((kf_2 : Nat) : Int))), (0, .ref (ad 0)), (1, .int (iI (z)))]) hx hb dX4_slack_5 rfl hl (by decide) rfl (fun ls hl => ?_)
    refine lv_iload_n hx hb dX4_slack_6 rfl (lv_at hl 0 rfl) ?_
    refine r_if_ge (tgt := 12) hx hb ⟨by omega, by omega⟩ dX4_slack_7 (by decide) (fun c7 => ?_) (fun c7 => ?_)
    · skip
      refine lv_aload_n hx hb dX4_slack_12 rfl (lv_at hl 1 rfl) ?_
      refine r_callV (cells1 := 0) (slots1 := 0) X hR (c_X4_weighs G ad (va_up sc 0 (((0 : Nat) : Int))) ar S hA0 hV  ) q2135 q2137 qs54 q100 q2138 ⟨rfl, pd_X4_weighs⟩ (by decide) rfl rfl (by decide) (by decide) hM_9.1 rfl rfl (Nat.le_of_ble_eq_true rfl) hl.1 dX4_slack_13 (hB.of hS (fp_ma.base hA0)) hM_9 hS (fun _ h => Or.inl h) (fun v H locs hp_10 hzC hkC hS => ?_)
      obtain ⟨f_11, rfl, hM_13, hf_12⟩ := hp_10
      refine r_stk (st2 := []) rfl ?_
      refine lv_aload_n hx hb dX4_slack_16 rfl (lv_at hl 1 rfl) ?_
      refine lv_iload_n hx hb dX4_slack_17 rfl (lv_at hl 0 rfl) ?_
      refine r_callV (cells1 := 0) (slots1 := 0) X hR (c_X4_strong G ad (va_up sc 0 (((0 : Nat) : Int))) (va_up ar 10 f_11) S hA0 hV kf_2 (by omega)) q2155 q2157 qs59 q100 q2158 ⟨rfl, pd_X4_strong⟩ (by decide) rfl rfl (by decide) (by decide) hM_13.1 rfl rfl (Nat.le_of_ble_eq_true rfl) hl.1 dX4_slack_18 (hB.of hS (fp_ma.base hA0)) hM_13 hS (fun _ h => h.elim) (fun v H1 locs hp_14 hzC hkC hS => ?_)
      obtain ⟨rfl, rfl⟩ := hp_14
      refine r_stk (st2 := [.int (iI ((fp_str (sB S kf_2) : Nat) : Int))]) rfl ?_
      refine lv_aload_n hx hb dX4_slack_21 rfl (lv_at hl 1 rfl) ?_
      refine r_get X hM_13.1 rfl in_X4 10 (by decide) q2019 (Or.inl rfl) (v := .ref (ad 10)) rfl dX4_slack_22 ?_
      refine lv_iload_n hx hb dX4_slack_25 rfl (lv_at hl 0 rfl) ?_
      refine r_ialdI X (hM_13.2 10 (by decide) (by decide)) (j := kf_2) (n := 24) rfl (by omega) (by decide) dX4_slack_26 ?_
      refine r_set (y := .int (iI ((fp_ld S kf_2 : Nat) : Int))) (congrArg (fun q : Int => Value.int (iI q)) (show f_11 kf_2 = _ from hf_12 kf_2 (by omega))) ?_
      refine r_isub hx hb dX4_slack_27 ?_
      refine r_iret hx hb hr hlk hQ hS (Nat.le_of_ble_eq_true rfl) (Nat.le_of_ble_eq_true rfl) dX4_slack_28 ?_
      exact ⟨(((fp_str (sB S kf_2) : Nat) : Int) - ((fp_ld S kf_2 : Nat) : Int)), (va_up ar 10 f_11), rfl, (by rw [show fp_fc S z = 0 from fp_fc_0 hkl_5 hkf_3]; exact hM_13.nrm rfl), (fun _ => (by rw [hkl_5]; rfl)), (fun k hk => by simp [fp_scr] at hk; by_cases e5 : k = 5 <;> simp_all [va_up])⟩
    · exact absurd c7 (by omega)
  · skip
    have hM_15 := fp_ME.nrm (sc2 := (va_up sc 0 (((1 : Nat) : Int)))) hM_8 rfl
    refine r_stk (st2 := [.int (iI (-1))]) rfl ?_
    refine lv_istore_n (lv' := [(2, .int (iI (-1))), (0, .ref (ad 0)), (1, .int (iI (z)))]) hx hb dX4_slack_5 rfl hl (by decide) rfl (fun ls hl => ?_)
    refine lv_iload_n hx hb dX4_slack_6 rfl (lv_at hl 0 rfl) ?_
    refine r_if_ge (tgt := 12) hx hb (by decide) dX4_slack_7 (by decide) (fun c7 => ?_) (fun c7 => ?_)
    · exact absurd c7 (by omega)
    · skip
      refine lv_iconst (v := (iI ((0 : Nat) : Int))) hx hb dX4_slack_10 rfl ?_
      refine r_iret hx hb hr hlk hQ hS (Nat.le_of_ble_eq_true rfl) (Nat.le_of_ble_eq_true rfl) dX4_slack_11 ?_
      exact ⟨((0 : Nat) : Int), ar, rfl, (by rw [show fp_fc S z = 1 from fp_fc_1 hnf_7]; exact hM_15.nrm rfl), (fun z0 => absurd ((show fp_fc S z = 1 from fp_fc_1 hnf_7).symm.trans z0) (by decide)), (fun k hk => by simp [fp_scr] at hk; by_cases e5 : k = 5 <;> simp_all [va_up])⟩
