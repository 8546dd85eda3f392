/-! THE MODEL: what changes its state -/
set_option maxHeartbeats 4000000 in
theorem c_X4_zones (G : fp_G) (ad : Nat → Nat) (sc : Nat → Int) (ar : Nat → Nat → Int) (S : PS) (hA0 : fp_MA G ad) (hV : fp_VR S (ar 5)) (col : Int) (zl : Int) (hcol : rg col) (hzl : rg zl) : fp_M G yX4_zones cX4_zones 4 (some .int) 3 54 0 0 [.ref (ad 0), .int (iI (col)), .int (iI (zl))] (fp_ME G ad sc ar) (fp_ma ad) (fun _ v H => (v = some (.int (iI ((0 : Nat) : Int))) ∧ fp_ME G ad (va_up sc 0 (((1 : Nat) : Int))) ar H ∧ (¬ (0 ≤ col ∧ col ≤ 11))) ∨ (v = some (.int (iI ((0 : Nat) : Int))) ∧ fp_ME G ad (va_up sc 0 (((2 : Nat) : Int))) ar H ∧ (0 ≤ col ∧ col ≤ 11) ∧ (fp_zby zl < 0)) ∨ (∃ (c : Nat), ∃ (v2 : Nat → Int), v = some (.int (iI ((fp_zlet (sZ S c) : Nat) : Int))) ∧ fp_ME G ad sc (va_up ar 5 v2) H ∧ (col = (c : Int) ∧ c < 12) ∧ (0 ≤ fp_zby zl) ∧ (fp_VR (fp_setz S c (fp_zby zl).toNat) v2))) := by
  refine fp_M.intro (by decide) (Nat.le_of_ble_eq_true rfl) ?_
  intro pg en s mi ag bl mt cd rR qQ ls X hx hb hr hlk hnm hR hQ hB hM hl
  have hS : va_S (fA (fp_ma ad) s.heap.size) s.heap s.heap [] := va_S.rf
  generalize ([] : List Loc) = locs at hS ⊢
  have hN24 := hV.1.1
  refine lv_iload_n hx hb dX4_zones_0 rfl (lv_at hl 1 rfl) ?_
  refine r_callS (cells1 := 0) (slots1 := 0) X hR (c_X4_isColumn G (col) (by omega)) q2101 q2102 q100 q2103 pd_X4_isColumn (by decide) rfl rfl (by decide) (by decide) rfl (Nat.le_of_ble_eq_true rfl) hl.1 dX4_zones_1 (hB.of hS (fp_ma.base hA0)) trivial hS (fun _ h => h.elim) (fun v H1 locs hp_1 hzC hkC hS => ?_)
  obtain ⟨rfl, rfl⟩ := hp_1
  refine r_stk (st2 := [.int (iI (bI (decide (0 ≤ (col) ∧ (col) ≤ 11))))]) rfl ?_
  refine r_ifneB (tgt := 13) hx hb dX4_zones_4 (by decide) (fun c4 => ?_) (fun c4 => ?_)
  · skip
    have c4 := of_decide_eq_true c4
    obtain ⟨c, rfl⟩ : ∃ c : Nat, col = ((c : Nat) : Int) := ⟨col.toNat, by omega⟩
    refine lv_iload_n hx hb dX4_zones_13 rfl (lv_at hl 2 rfl) ?_
    have hzb := fp_zby_b zl
    refine r_callS (cells1 := 0) (slots1 := 0) X hR (c_X4_zoneBy G (zl) (by omega)) q2195 q2196 q100 q2197 pd_X4_zoneBy (by decide) rfl rfl (by decide) (by decide) rfl (Nat.le_of_ble_eq_true rfl) hl.1 dX4_zones_14 (hB.of hS (fp_ma.base hA0)) trivial hS (fun _ h => h.elim) (fun v H1 locs hp_2 hzC hkC hS => ?_)
    obtain ⟨rfl, rfl⟩ := hp_2
    refine r_stk (st2 := [.int (iI (fp_zby (zl)))]) rfl ?_
    refine r_if_ge (tgt := 26) hx hb ⟨by omega, by omega⟩ dX4_zones_17 (by decide) (fun c17 => ?_) (fun c17 => ?_)
    · skip
      refine lv_aload_n hx hb dX4_zones_26 rfl (lv_at hl 0 rfl) ?_
      refine r_get X hM.1 rfl in_X4 5 (by decide) q2014 (Or.inl rfl) (v := .ref (ad 5)) rfl dX4_zones_27 ?_
      refine lv_iconst (v := (iI ((2 : Nat) : Int))) hx hb dX4_zones_30 rfl ?_
      refine lv_iload_n hx hb dX4_zones_31 rfl (lv_at hl 1 rfl) ?_
      refine r_iaddN hx hb dX4_zones_32 ?_
      refine r_ialdI X (hM.2 5 (by decide) (by decide)) (j := 2 + c) (n := 170) rfl (by omega) (by decide) dX4_zones_33 ?_
      refine r_set (y := .int (iI ((sZ S c : Nat) : Int))) (congrArg (fun q : Int => Value.int (iI q)) (hV.2.2.2.1 c (by omega))) ?_
      refine lv_istore_n (lv' := [(3, .int (iI ((sZ S c : Nat) : Int))), (0, .ref (ad 0)), (1, .int (iI ((c : Nat) : Int))), (2, .int (iI (zl)))]) hx hb dX4_zones_34 rfl hl (by decide) rfl (fun ls hl => ?_)
      refine lv_aload_n hx hb dX4_zones_35 rfl (lv_at hl 1 rfl) ?_
      refine r_get X hM.1 rfl in_X4 5 (by decide) q2014 (Or.inl rfl) (v := .ref (ad 5)) rfl dX4_zones_36 ?_
      refine lv_iconst (v := (iI ((2 : Nat) : Int))) hx hb dX4_zones_39 rfl ?_
      refine lv_iload_n hx hb dX4_zones_40 rfl (lv_at hl 2 rfl) ?_
      refine r_iaddN hx hb dX4_zones_41 ?_
      refine lv_iload_n hx hb dX4_zones_42 rfl (lv_at hl 3 rfl) ?_
      refine r_callS (cells1 := 0) (slots1 := 0) X hR (c_X4_zoneBy G (zl) (by omega)) q2195 q2196 q100 q2197 pd_X4_zoneBy (by decide) rfl rfl (by decide) (by decide) rfl (Nat.le_of_ble_eq_true rfl) hl.1 dX4_zones_43 (hB.of hS (fp_ma.base hA0)) trivial hS (fun _ h => h.elim) (fun v H1 locs hp_3 hzC hkC hS => ?_)
      obtain ⟨rfl, rfl⟩ := hp_3
      refine r_stk (st2 := [.int (iI (fp_zby (zl))), .int (iI ((2 + c : Nat) : Int)), .ref (ad 5)]) rfl ?_
      refine m_ast X hM hS hA0 (k := 5) (j := 2 + c) (z := (fp_zby (zl))) (by decide) rfl (n := 170) rfl (by omega) dX4_zones_46 (fun H locs hM_4 hS => ?_)
      refine lv_iload_n hx hb dX4_zones_47 rfl (lv_at hl 0 rfl) ?_
      have hzc := hV.1.2.2.2.1 c (by omega)
      refine r_callS (cells1 := 0) (slots1 := 0) X hR (c_X4_letterOf G (sZ S c) (by omega)) q2198 q2199 q100 q2200 pd_X4_letterOf (by decide) rfl rfl (by decide) (by decide) rfl (Nat.le_of_ble_eq_true rfl) hl.1 dX4_zones_48 (hB.of hS (fp_ma.base hA0)) trivial hS (fun _ h => h.elim) (fun v H1 locs hp_5 hzC hkC hS => ?_)
      obtain ⟨rfl, rfl⟩ := hp_5
      refine r_stk (st2 := [.int (iI ((fp_zlet (sZ S c) : Nat) : Int))]) rfl ?_
      refine r_iret hx hb hr hlk hQ hS (Nat.le_of_ble_eq_true rfl) (Nat.le_of_ble_eq_true rfl) dX4_zones_51 ?_
      exact Or.inr (Or.inr (⟨c, _, rfl, hM_4, (⟨rfl, by omega⟩), (by omega), (hV.setz (by omega) (by omega) (by omega))⟩))
    · skip
      refine lv_aload_n hx hb dX4_zones_20 rfl (lv_at hl 0 rfl) ?_
      refine lv_iconst (v := (iI ((2 : Nat) : Int))) hx hb dX4_zones_21 rfl ?_
      refine r_callV (cells1 := 0) (slots1 := 0) X hR (c_X4_fail G ad sc ar hA0 2 ) q2107 q2109 qs47 q100 q2110 ⟨rfl, pd_X4_fail⟩ (by decide) rfl rfl (by decide) (by decide) hM.1 rfl rfl (Nat.le_of_ble_eq_true rfl) hl.1 dX4_zones_22 (hB.of hS (fp_ma.base hA0)) hM hS (fun _ h => Or.inl h) (fun v H locs hp_6 hzC hkC hS => ?_)
      obtain ⟨rfl, hM_7⟩ := hp_6
      have hM_8 := fp_ME.nrm (sc2 := (va_up sc 0 ((2)))) hM_7 rfl
      refine r_stk (st2 := [.int (iI ((0 : Nat) : Int))]) rfl ?_
      refine r_iret hx hb hr hlk hQ hS (Nat.le_of_ble_eq_true rfl) (Nat.le_of_ble_eq_true rfl) dX4_zones_25 ?_
      exact Or.inr (Or.inl ⟨rfl, (hM_8.nrm rfl), (by omega), (by omega)⟩)
  · skip
    have c4 := of_decide_eq_false c4
    refine lv_aload_n hx hb dX4_zones_7 rfl (lv_at hl 0 rfl) ?_
    refine lv_iconst (v := (iI ((1 : Nat) : Int))) hx hb dX4_zones_8 rfl ?_
    refine r_callV (cells1 := 0) (slots1 := 0) X hR (c_X4_fail G ad sc ar hA0 1 ) q2107 q2109 qs47 q100 q2110 ⟨rfl, pd_X4_fail⟩ (by decide) rfl rfl (by decide) (by decide) hM.1 rfl rfl (Nat.le_of_ble_eq_true rfl) hl.1 dX4_zones_9 (hB.of hS (fp_ma.base hA0)) hM hS (fun _ h => Or.inl h) (fun v H locs hp_9 hzC hkC hS => ?_)
    obtain ⟨rfl, hM_10⟩ := hp_9
    have hM_11 := fp_ME.nrm (sc2 := (va_up sc 0 ((1)))) hM_10 rfl
    refine r_stk (st2 := [.int (iI ((0 : Nat) : Int))]) rfl ?_
    refine r_iret hx hb hr hlk hQ hS (Nat.le_of_ble_eq_true rfl) (Nat.le_of_ble_eq_true rfl) dX4_zones_12 ?_
    exact Or.inl ⟨rfl, (hM_11.nrm rfl), (by omega)⟩
set_option maxHeartbeats 4000000 in
theorem c_X4_lights (G : fp_G) (ad : Nat → Nat) (sc : Nat → Int) (ar : Nat → Nat → Int) (S : PS) (hA0 : fp_MA G ad) (hV : fp_VR S (ar 5)) (col : Int) (is : Nat) (hcol : rg col) (his : is < 2) : fp_M G yX4_lights cX4_lights 3 (some .int) 3 54 0 0 [.ref (ad 0), .int (iI (col)), .int (iI ((is : Nat) : Int))] (fp_ME G ad sc ar) (fp_ma ad) (fun _ v H => (v = some (.int (iI ((0 : Nat) : Int))) ∧ fp_ME G ad (va_up sc 0 (((1 : Nat) : Int))) ar H ∧ (¬ (0 ≤ col ∧ col ≤ 11))) ∨ (∃ (c : Nat), v = some (.int (iI ((0 : Nat) : Int))) ∧ fp_ME G ad (va_up sc 0 (((2 : Nat) : Int))) ar H ∧ (col = (c : Int) ∧ c < 12) ∧ (sT S c = is)) ∨ (∃ (c : Nat), ∃ (v2 : Nat → Int), v = some (.int (iI ((fp_tor (fp_sett S c is) : Nat) : Int))) ∧ fp_ME G ad sc (va_up ar 5 v2) H ∧ (col = (c : Int) ∧ c < 12) ∧ (sT S c ≠ is) ∧ (fp_VR (fp_sett S c is) v2))) := by
  refine fp_M.intro (by decide) (Nat.le_of_ble_eq_true rfl) ?_
  intro pg en s mi ag bl mt cd rR qQ ls X hx hb hr hlk hnm hR hQ hB hM hl
  have hS : va_S (fA (fp_ma ad) s.heap.size) s.heap s.heap [] := va_S.rf
  generalize ([] : List Loc) = locs at hS ⊢
  have hN24 := hV.1.1
  refine lv_iload_n hx hb dX4_lights_0 rfl (lv_at hl 1 rfl) ?_
  refine r_callS (cells1 := 0) (slots1 := 0) X hR (c_X4_isColumn G (col) (by omega)) q2101 q2102 q100 q2103 pd_X4_isColumn (by decide) rfl rfl (by decide) (by decide) rfl (Nat.le_of_ble_eq_true rfl) hl.1 dX4_lights_1 (hB.of hS (fp_ma.base hA0)) trivial hS (fun _ h => h.elim) (fun v H1 locs hp_1 hzC hkC hS => ?_)
  obtain ⟨rfl, rfl⟩ := hp_1
  refine r_stk (st2 := [.int (iI (bI (decide (0 ≤ (col) ∧ (col) ≤ 11))))]) rfl ?_
  refine r_ifneB (tgt := 13) hx hb dX4_lights_4 (by decide) (fun c4 => ?_) (fun c4 => ?_)
  · skip
    have c4 := of_decide_eq_true c4
    obtain ⟨c, rfl⟩ : ∃ c : Nat, col = ((c : Nat) : Int) := ⟨col.toNat, by omega⟩
    refine lv_aload_n hx hb dX4_lights_13 rfl (lv_at hl 0 rfl) ?_
    refine r_get X hM.1 rfl in_X4 5 (by decide) q2014 (Or.inl rfl) (v := .ref (ad 5)) rfl dX4_lights_14 ?_
    refine lv_bipush (v := (iI ((14 : Nat) : Int))) hx hb dX4_lights_17 rfl ?_
    refine lv_iload_n hx hb dX4_lights_19 rfl (lv_at hl 1 rfl) ?_
    refine r_iaddN hx hb dX4_lights_20 ?_
    refine r_ialdI X (hM.2 5 (by decide) (by decide)) (j := 14 + c) (n := 170) rfl (by omega) (by decide) dX4_lights_21 ?_
    refine r_set (y := .int (iI ((sT S c : Nat) : Int))) (congrArg (fun q : Int => Value.int (iI q)) (hV.2.2.2.2.1 c (by omega))) ?_
    have htc := hV.1.2.2.2.2 c (by omega)
    refine lv_iload_n hx hb dX4_lights_22 rfl (lv_at hl 2 rfl) ?_
    refine r_icmp_ne (tgt := 32) hx hb ⟨by omega, by omega⟩ ⟨by omega, by omega⟩ dX4_lights_23 (by decide) (fun c23 => ?_) (fun c23 => ?_)
    · skip
      refine lv_aload_n hx hb dX4_lights_32 rfl (lv_at hl 0 rfl) ?_
      refine r_get X hM.1 rfl in_X4 5 (by decide) q2014 (Or.inl rfl) (v := .ref (ad 5)) rfl dX4_lights_33 ?_
      refine lv_bipush (v := (iI ((14 : Nat) : Int))) hx hb dX4_lights_36 rfl ?_
      refine lv_iload_n hx hb dX4_lights_38 rfl (lv_at hl 1 rfl) ?_
      refine r_iaddN hx hb dX4_lights_39 ?_
      refine lv_iload_n hx hb dX4_lights_40 rfl (lv_at hl 2 rfl) ?_
      refine m_ast X hM hS hA0 (k := 5) (j := 14 + c) (z := ((is : Nat) : Int)) (by decide) rfl (n := 170) rfl (by omega) dX4_lights_41 (fun H locs hM_2 hS => ?_)
      have hV2 := hV.sett (c := c) (t := is) (z := ((is : Nat) : Int)) (by omega) rfl his
      refine lv_aload_n hx hb dX4_lights_42 rfl (lv_at hl 0 rfl) ?_
      refine r_callV (cells1 := 0) (slots1 := 0) X hR (c_X4_torches G ad sc (fp_ua ar 5 (14 + c) (((is : Nat) : Int))) (fp_sett S c is) hA0 hV2  ) q2209 q2211 qs66 q100 q2212 ⟨rfl, pd_X4_torches⟩ (by decide) rfl rfl (by decide) (by decide) hM_2.1 rfl rfl (Nat.le_of_ble_eq_true rfl) hl.1 dX4_lights_43 (hB.of hS (fp_ma.base hA0)) hM_2 hS (fun _ h => h.elim) (fun v H1 locs hp_3 hzC hkC hS => ?_)
      obtain ⟨rfl, rfl⟩ := hp_3
      refine r_stk (st2 := [.int (iI ((fp_tor (fp_sett S c is) : Nat) : Int))]) rfl ?_
      refine r_iret hx hb hr hlk hQ hS (Nat.le_of_ble_eq_true rfl) (Nat.le_of_ble_eq_true rfl) dX4_lights_46 ?_
      exact Or.inr (Or.inr (⟨c, _, rfl, hM_2, (⟨rfl, by omega⟩), (by omega), hV2⟩))
    · skip
      refine lv_aload_n hx hb dX4_lights_26 rfl (lv_at hl 0 rfl) ?_
      refine lv_iconst (v := (iI ((2 : Nat) : Int))) hx hb dX4_lights_27 rfl ?_
      refine r_callV (cells1 := 0) (slots1 := 0) X hR (c_X4_fail G ad sc ar hA0 2 ) q2107 q2109 qs47 q100 q2110 ⟨rfl, pd_X4_fail⟩ (by decide) rfl rfl (by decide) (by decide) hM.1 rfl rfl (Nat.le_of_ble_eq_true rfl) hl.1 dX4_lights_28 (hB.of hS (fp_ma.base hA0)) hM hS (fun _ h => Or.inl h) (fun v H locs hp_4 hzC hkC hS => ?_)
      obtain ⟨rfl, hM_5⟩ := hp_4
      have hM_6 := fp_ME.nrm (sc2 := (va_up sc 0 ((2)))) hM_5 rfl
      refine r_stk (st2 := [.int (iI ((0 : Nat) : Int))]) rfl ?_
      refine r_iret hx hb hr hlk hQ hS (Nat.le_of_ble_eq_true rfl) (Nat.le_of_ble_eq_true rfl) dX4_lights_31 ?_
      exact Or.inr (Or.inl ⟨c, rfl, (hM_6.nrm rfl), (⟨rfl, by omega⟩), (by omega)⟩)
  · skip
    have c4 := of_decide_eq_false c4
    refine lv_aload_n hx hb dX4_lights_7 rfl (lv_at hl 0 rfl) ?_
    refine lv_iconst (v := (iI ((1 : Nat) : Int))) hx hb dX4_lights_8 rfl ?_
    refine r_callV (cells1 := 0) (slots1 := 0) X hR (c_X4_fail G ad sc ar hA0 1 ) q2107 q2109 qs47 q100 q2110 ⟨rfl, pd_X4_fail⟩ (by decide) rfl rfl (by decide) (by decide) hM.1 rfl rfl (Nat.le_of_ble_eq_true rfl) hl.1 dX4_lights_9 (hB.of hS (fp_ma.base hA0)) hM hS (fun _ h => Or.inl h) (fun v H locs hp_7 hzC hkC hS => ?_)
    obtain ⟨rfl, hM_8⟩ := hp_7
    have hM_9 := fp_ME.nrm (sc2 := (va_up sc 0 ((1)))) hM_8 rfl
    refine r_stk (st2 := [.int (iI ((0 : Nat) : Int))]) rfl ?_
    refine r_iret hx hb hr hlk hQ hS (Nat.le_of_ble_eq_true rfl) (Nat.le_of_ble_eq_true rfl) dX4_lights_12 ?_
    exact Or.inl ⟨rfl, (hM_9.nrm rfl), (by omega)⟩
set_option maxHeartbeats 4000000 in
theorem c_X4_takes (G : fp_G) (ad : Nat → Nat) (sc : Nat → Int) (ar : Nat → Nat → Int) (S : PS) (hA0 : fp_MA G ad) (hV : fp_VR S (ar 5)) (z : Int) (hz : rg z) : fp_M G yX4_takes cX4_takes 4 (some .int) 5 100 0 0 [.ref (ad 0), .int (iI (z))] (fp_ME G ad sc ar) (fp_ma ad) (fun _ v H => (v = some (.int (iI ((0 : Nat) : Int))) ∧ fp_ME G ad (va_up sc 0 (((1 : Nat) : Int))) ar H ∧ (fp_fnd S z = sN S)) ∨ (∃ (kf : Nat), v = some (.int (iI ((0 : Nat) : Int))) ∧ fp_ME G ad (va_up sc 0 (((2 : Nat) : Int))) ar H ∧ (kf < sN S ∧ fp_fnd S z = kf) ∧ (fp_und S kf = true)) ∨ (∃ (kf : Nat), ∃ (v2 : Nat → Int), v = some (.int (iI ((sN S - 1 : Nat) : Int))) ∧ fp_ME G ad (va_up sc 0 (((0 : Nat) : Int))) (va_up ar 5 v2) H ∧ (kf < sN S ∧ fp_fnd S z = kf) ∧ (fp_und S kf = false) ∧ (fp_VR (fp_del S kf) v2))) := by
  refine fp_M.intro (by decide) (Nat.le_of_ble_eq_true rfl) ?_
  intro pg en s mi ag bl mt cd rR qQ ls X hx hb hr hlk hnm hR hQ hB hM hl
  have hS : va_S (fA (fp_ma ad) s.heap.size) s.heap s.heap [] := va_S.rf
  generalize ([] : List Loc) = locs at hS ⊢
  have hN24 := hV.1.1
  refine lv_aload_n hx hb dX4_takes_0 rfl (lv_at hl 0 rfl) ?_
  refine lv_iload_n hx hb dX4_takes_1 rfl (lv_at hl 1 rfl) ?_
  refine r_callV (cells1 := 0) (slots1 := 0) X hR (c_X4_finds G ad sc ar S hA0 hV (z) (by omega)) q2179 q2181 qs62 q100 q2182 ⟨rfl, pd_X4_finds⟩ (by decide) rfl rfl (by decide) (by decide) hM.1 rfl rfl (Nat.le_of_ble_eq_true rfl) hl.1 dX4_takes_2 (hB.of hS (fp_ma.base hA0)) hM hS (fun _ h => Or.inl h) (fun v H locs hp_1 hzC hkC hS => ?_)
  rcases hp_1 with ⟨kf_2, rfl, hM_6, hkf_3, hkn_4, hkl_5⟩ | ⟨rfl, hM_8, hnf_7⟩
  · skip
    have hM_9 := fp_ME.nrm (sc2 := (va_up sc 0 (((0 : Nat) : Int)))) hM_6 rfl
    refine r_stk (st2 := [.int (iI ((kf_2 : Nat) : Int))]) rfl ?_
    refine lv_istore_n (lv' := [(2, .int (iI ((kf_2 : Nat) : Int))), (0, .ref (ad 0)), (1, .int (iI (z)))]) hx hb dX4_takes_5 rfl hl (by decide) rfl (fun ls hl => ?_)
    refine lv_aload_n hx hb dX4_takes_6 rfl (lv_at hl 1 rfl) ?_
    refine r_get X hM_9.1 rfl in_X4 0 (by decide) q2009 (Or.inl rfl) (v := .int (iI ((0 : Nat) : Int))) rfl dX4_takes_7 ?_
    refine r_if_eq (tgt := 15) hx hb (by decide) dX4_takes_10 (by decide) (fun c10 => ?_) (fun c10 => ?_)
    · skip
      refine lv_aload_n hx hb dX4_takes_15 rfl (lv_at hl 1 rfl) ?_
      refine lv_iload_n hx hb dX4_takes_16 rfl (lv_at hl 0 rfl) ?_
      refine r_callV (cells1 := 0) (slots1 := 0) X hR (c_X4_isUnder G ad (va_up sc 0 (((0 : Nat) : Int))) ar S hA0 hV kf_2 (by omega)) q2183 q2185 qs63 q100 q2186 ⟨rfl, pd_X4_isUnder⟩ (by decide) rfl rfl (by decide) (by decide) hM_9.1 rfl rfl (Nat.le_of_ble_eq_true rfl) hl.1 dX4_takes_17 (hB.of hS (fp_ma.base hA0)) hM_9 hS (fun _ h => h.elim) (fun v H1 locs hp_10 hzC hkC hS => ?_)
      obtain ⟨rfl, rfl⟩ := hp_10
      refine r_stk (st2 := [.int (iI (bI (fp_und S kf_2)))]) rfl ?_
      refine r_ifeqB (tgt := 29) hx hb dX4_takes_20 (by decide) (fun c20 => ?_) (fun c20 => ?_)
      · skip
        refine lv_bipush (v := (iI ((26 : Nat) : Int))) hx hb dX4_takes_29 rfl ?_
        refine lv_bipush (v := (iI ((6 : Nat) : Int))) hx hb dX4_takes_31 rfl ?_
        refine lv_iload_n hx hb dX4_takes_33 rfl (lv_at hl 0 rfl) ?_
        refine r_imulN hx hb dX4_takes_34 ?_
        refine r_iaddN hx hb dX4_takes_35 ?_
        refine lv_istore_n (lv' := [(3, .int (iI ((26 + (6 * kf_2) : Nat) : Int))), (2, .int (iI ((kf_2 : Nat) : Int))), (0, .ref (ad 0)), (1, .int (iI (z)))]) hx hb dX4_takes_36 rfl hl (by decide) rfl (fun ls hl => ?_)
        have L37 : ∀ (i : Nat), i ≤ 144 - 6 * kf_2 → ∀ (H : Heap) (locs : List Loc) (ls : Array Slot), lv_has ls 4 [(0, .ref (ad 0)), (1, .int (iI (z))), (2, .int (iI ((kf_2 : Nat) : Int))), (3, .int (iI ((26 + 6 * kf_2 + i : Nat) : Int)))] → va_S (fA (fp_ma ad) s.heap.size) s.heap H locs → fp_ME G ad (va_up sc 0 (((0 : Nat) : Int))) (va_up ar 5 (fun x => if 26 + 6 * kf_2 ≤ x ∧ x < 26 + 6 * kf_2 + i then (if x + 6 < 170 then ar 5 (x + 6) else 0) else ar 5 x)) H → W pg (g_l G) en rR s mi ag bl mt cd H locs 0 0 qQ (F0 mi 37 ls []) := by
          refine lp_up (144 - 6 * kf_2) ?_
          intro i hk37 ih37 H locs ls hl hS hM
          refine lv_iload_n hx hb dX4_takes_37 rfl (lv_at hl 3 rfl) ?_
          refine lv_sipush (v := (iI ((170 : Nat) : Int))) hx hb dX4_takes_38 rfl ?_
          refine r_icmp_ge (tgt := 79) hx hb ⟨by omega, by omega⟩ (by decide) dX4_takes_41 (by decide) (fun c41 => ?_) (fun c41 => ?_)
          · skip
            obtain ⟨v1, hv1⟩ : ∃ v1 : Nat → Int, v1 = (fun x => if 26 + 6 * kf_2 ≤ x ∧ x < 26 + 6 * kf_2 + i then (if x + 6 < 170 then ar 5 (x + 6) else 0) else ar 5 x) := ⟨_, rfl⟩
            rw [← hv1] at hM
            have hv2 : ∀ x, v1 x = if 26 + 6 * kf_2 ≤ x ∧ x < 26 + 6 * kf_2 + i then (if x + 6 < 170 then ar 5 (x + 6) else 0) else ar 5 x := fun x => by rw [hv1]
            refine lv_aload_n hx hb dX4_takes_79 rfl (lv_at hl 0 rfl) ?_
            refine r_get X hM.1 rfl in_X4 5 (by decide) q2014 (Or.inl rfl) (v := .ref (ad 5)) rfl dX4_takes_80 ?_
            refine lv_iconst (v := (iI ((0 : Nat) : Int))) hx hb dX4_takes_83 rfl ?_
            refine lv_dup2_11 hx hb dX4_takes_84 rfl rfl ?_
            refine r_ialdI X (hM.2 5 (by decide) (by decide)) (j := 0) (n := 170) rfl (by decide) (by decide) dX4_takes_85 ?_
            refine r_set (y := .int (iI ((sN S : Nat) : Int))) (congrArg (fun q : Int => Value.int (iI q)) (show va_up ar 5 v1 5 0 = _ from by rw [va_up_self, hv2, if_neg (by omega)]; exact hV.2.1)) ?_
            refine lv_iconst (v := (iI ((1 : Nat) : Int))) hx hb dX4_takes_86 rfl ?_
            refine r_isub hx hb dX4_takes_87 ?_
            refine m_ast X hM hS hA0 (k := 5) (j := 0) (z := (((sN S : Nat) : Int) - ((1 : Nat) : Int))) (by decide) rfl (n := 170) rfl (by decide) dX4_takes_88 (fun H locs hM_11 hS => ?_)
            refine lv_aload_n hx hb dX4_takes_89 rfl (lv_at hl 0 rfl) ?_
            refine r_get X hM_11.1 rfl in_X4 5 (by decide) q2014 (Or.inl rfl) (v := .ref (ad 5)) rfl dX4_takes_90 ?_
            refine lv_iconst (v := (iI ((0 : Nat) : Int))) hx hb dX4_takes_93 rfl ?_
            refine r_ialdI X (hM_11.2 5 (by decide) (by decide)) (j := 0) (n := 170) rfl (by decide) (by decide) dX4_takes_94 ?_
            refine r_set (y := .int (iI ((sN S - 1 : Nat) : Int))) (congrArg (fun q : Int => Value.int (iI q)) (show va_up (va_up ar 5 v1) 5 _ 5 0 = _ from by rw [va_up_self, va_up_self]; omega)) ?_
            refine r_iret hx hb hr hlk hQ hS (Nat.le_of_ble_eq_true rfl) (Nat.le_of_ble_eq_true rfl) dX4_takes_95 ?_
            exact Or.inr (Or.inr (⟨kf_2, _, rfl, (fp_ME.uu hM_11), (⟨by omega, by omega⟩), c20, (fp_VR.del hV (by omega) (by rw [va_up_self]; omega) (fun y h1 h2 => by rw [va_up_self, va_up_ne _ _ (by omega), hv2, if_neg (by omega)]) (fun y h1 h2 => by rw [va_up_self, va_up_ne _ _ (by omega), hv2, if_pos (by omega), if_pos h2]))⟩))
          · skip
            refine lv_aload_n hx hb dX4_takes_44 rfl (lv_at hl 0 rfl) ?_
            refine r_get X hM.1 rfl in_X4 5 (by decide) q2014 (Or.inl rfl) (v := .ref (ad 5)) rfl dX4_takes_45 ?_
            refine lv_iload_n hx hb dX4_takes_48 rfl (lv_at hl 3 rfl) ?_
            refine lv_iload_n hx hb dX4_takes_49 rfl (lv_at hl 3 rfl) ?_
            refine lv_bipush (v := (iI ((6 : Nat) : Int))) hx hb dX4_takes_50 rfl ?_
            refine r_iaddN hx hb dX4_takes_52 ?_
            refine lv_sipush (v := (iI ((170 : Nat) : Int))) hx hb dX4_takes_53 rfl ?_
            refine r_icmp_ge (tgt := 71) hx hb ⟨by omega, by omega⟩ (by decide) dX4_takes_56 (by decide) (fun c56 => ?_) (fun c56 => ?_)
            · skip
              refine lv_iconst (v := (iI ((0 : Nat) : Int))) hx hb dX4_takes_71 rfl ?_
              refine m_ast X hM hS hA0 (k := 5) (j := 26 + 6 * kf_2 + i) (z := ((0 : Nat) : Int)) (by decide) rfl (n := 170) rfl (by omega) dX4_takes_72 (fun H locs hM_12 hS => ?_)
              refine lv_iinc (v := (iI (((26 + 6 * kf_2 + i) + 1 : Nat) : Int))) (lv' := [(3, .int (iI (((26 + 6 * kf_2 + i) + 1 : Nat) : Int))), (0, .ref (ad 0)), (1, .int (iI (z))), (2, .int (iI ((kf_2 : Nat) : Int)))]) hx hb dX4_takes_73 hl (k := 3) rfl (iI_incN _ _) (by decide) rfl (fun ls hl => ?_)
              refine lv_goto (tgt := 37) hx hb dX4_takes_76 (by decide) ?_
              exact ih37 (by omega) H locs ls (lv_sub hl [1, 2, 3, 0] rfl) hS (fp_ME.st1 hM_12 (fun x hx => fp_dl_step (by first | (rw [if_pos (by omega)]; done) | (rw [if_neg (by omega)]; rfl)) x))
            · skip
              refine lv_aload_n hx hb dX4_takes_59 rfl (lv_at hl 0 rfl) ?_
              refine r_get X hM.1 rfl in_X4 5 (by decide) q2014 (Or.inl rfl) (v := .ref (ad 5)) rfl dX4_takes_60 ?_
              refine lv_iload_n hx hb dX4_takes_63 rfl (lv_at hl 3 rfl) ?_
              refine lv_bipush (v := (iI ((6 : Nat) : Int))) hx hb dX4_takes_64 rfl ?_
              refine r_iaddN hx hb dX4_takes_66 ?_
              refine r_ialdI X (hM.2 5 (by decide) (by decide)) (j := (26 + 6 * kf_2 + i) + 6) (n := 170) rfl (by omega) (by decide) dX4_takes_67 ?_
              refine r_set (y := .int (iI (ar 5 (26 + 6 * kf_2 + i + 6)))) (congrArg (fun q : Int => Value.int (iI q)) (show va_up ar 5 _ 5 _ = _ from by rw [va_up_self]; rw [if_neg (by omega)])) ?_
              refine lv_goto (tgt := 72) hx hb dX4_takes_68 (by decide) ?_
              refine m_ast X hM hS hA0 (k := 5) (j := 26 + 6 * kf_2 + i) (z := (ar 5 (26 + 6 * kf_2 + i + 6))) (by decide) rfl (n := 170) rfl (by omega) dX4_takes_72 (fun H locs hM_13 hS => ?_)
              refine lv_iinc (v := (iI (((26 + 6 * kf_2 + i) + 1 : Nat) : Int))) (lv' := [(3, .int (iI (((26 + 6 * kf_2 + i) + 1 : Nat) : Int))), (0, .ref (ad 0)), (1, .int (iI (z))), (2, .int (iI ((kf_2 : Nat) : Int)))]) hx hb dX4_takes_73 hl (k := 3) rfl (iI_incN _ _) (by decide) rfl (fun ls hl => ?_)
              refine lv_goto (tgt := 37) hx hb dX4_takes_76 (by decide) ?_
              exact ih37 (by omega) H locs ls (lv_sub hl [1, 2, 3, 0] rfl) hS (fp_ME.st1 hM_13 (fun x hx => fp_dl_step (by first | (rw [if_pos (by omega)]; done) | (rw [if_neg (by omega)]; rfl)) x))
        exact L37 0 (by omega) H locs ls (lv_sub hl [2, 3, 1, 0] rfl) hS (fp_ME.st0 hM_9 5 (fun x hx => by rw [if_neg (by omega)]))
      · skip
        refine lv_aload_n hx hb dX4_takes_23 rfl (lv_at hl 1 rfl) ?_
        refine lv_iconst (v := (iI ((2 : Nat) : Int))) hx hb dX4_takes_24 rfl ?_
        refine r_callV (cells1 := 0) (slots1 := 0) X hR (c_X4_fail G ad (va_up sc 0 (((0 : Nat) : Int))) ar hA0 2 ) q2107 q2109 qs47 q100 q2110 ⟨rfl, pd_X4_fail⟩ (by decide) rfl rfl (by decide) (by decide) hM_9.1 rfl rfl (Nat.le_of_ble_eq_true rfl) hl.1 dX4_takes_25 (hB.of hS (fp_ma.base hA0)) hM_9 hS (fun _ h => Or.inl h) (fun v H locs hp_14 hzC hkC hS => ?_)
        obtain ⟨rfl, hM_15⟩ := hp_14
        have hM_16 := fp_ME.nrm (sc2 := (va_up sc 0 ((2)))) hM_15 rfl
        refine r_stk (st2 := [.int (iI ((0 : Nat) : Int))]) rfl ?_
        refine r_iret hx hb hr hlk hQ hS (Nat.le_of_ble_eq_true rfl) (Nat.le_of_ble_eq_true rfl) dX4_takes_28 ?_
        exact Or.inr (Or.inl ⟨kf_2, rfl, (hM_16.nrm rfl), (⟨by omega, by omega⟩), c20⟩)
    · exact absurd c10 (by omega)
  · skip
    have hM_17 := fp_ME.nrm (sc2 := (va_up sc 0 (((1 : Nat) : Int)))) hM_8 rfl
    refine r_stk (st2 := [.int (iI (-1))]) rfl ?_
    refine lv_istore_n (lv' := [(2, .int (iI (-1))), (0, .ref (ad 0)), (1, .int (iI (z)))]) hx hb dX4_takes_5 rfl hl (by decide) rfl (fun ls hl => ?_)
    refine lv_aload_n hx hb dX4_takes_6 rfl (lv_at hl 1 rfl) ?_
    refine r_get X hM_17.1 rfl in_X4 0 (by decide) q2009 (Or.inl rfl) (v := .int (iI ((1 : Nat) : Int))) rfl dX4_takes_7 ?_
    refine r_if_eq (tgt := 15) hx hb (by decide) dX4_takes_10 (by decide) (fun c10 => ?_) (fun c10 => ?_)
    · exact absurd c10 (by omega)
    · skip
      refine lv_iconst (v := (iI ((0 : Nat) : Int))) hx hb dX4_takes_13 rfl ?_
      refine r_iret hx hb hr hlk hQ hS (Nat.le_of_ble_eq_true rfl) (Nat.le_of_ble_eq_true rfl) dX4_takes_14 ?_
      exact Or.inl ⟨rfl, hM_17, hnf_7⟩
