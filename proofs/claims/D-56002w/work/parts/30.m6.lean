/-! THE MODEL: its changes -/
set_option maxHeartbeats 4000000 in
theorem c_X4_placeFoam (G : fp_G) (ad : Nat → Nat) (sc : Nat → Int) (ar : Nat → Nat → Int) (S : PS) (hA0 : fp_MA G ad) (hV : fp_VR S (ar 5)) (hs : Nat → PS) (hn : Nat) (hch : sc 1 = ((hn : Nat) : Int)) (h8 : hn ≤ 8) (HR : fp_HR hs hn (ar 9)) (l : Int) (wd : Int) (wt : Int) (hl1 : rg l) (hw1 : rg wd) (ht1 : rg wt) (hsp : sP S < 999) (h30 : ∀ k, k < sN S → fp_top (sB S k) ≤ 30) : fp_M G yX4_placeFoam cX4_placeFoam 4 (some .int) 9 196 0 0 [.ref (ad 0), .int (iI (l)), .int (iI (wd)), .int (iI (wt))] (fp_ME G ad sc ar) (fp_ma ad) (fun _ v H => (∃ (ar2 : Nat → Nat → Int), v = some (.int (iI ((0 : Nat) : Int))) ∧ fp_ME G ad (va_up sc 0 (((1 : Nat) : Int))) ar2 H ∧ (fp_VR S (ar2 5)) ∧ (fp_sm0 ar ar2) ∧ (fp_plc S 0 l wd wt = 1)) ∨ (∃ (ar2 : Nat → Nat → Int), v = some (.int (iI ((0 : Nat) : Int))) ∧ fp_ME G ad (va_up sc 0 (((2 : Nat) : Int))) ar2 H ∧ (fp_VR S (ar2 5)) ∧ (fp_sm0 ar ar2) ∧ (fp_plc S 0 l wd wt = 2)) ∨ (∃ (ar2 : Nat → Nat → Int), v = some (.int (iI ((sP S : Nat) : Int))) ∧ fp_ME G ad (va_up (va_up sc 0 (((0 : Nat) : Int))) 1 (((fp_hn hn : Nat) : Int))) ar2 H ∧ (fp_VR (fp_add S 0 l.toNat wd.toNat wt.toNat) (ar2 5)) ∧ (fp_HR (fp_hpush hs hn S) (fp_hn hn) (ar2 9)) ∧ (fp_sm1 ar ar2) ∧ (fp_plc S 0 l wd wt = 0))) := by
  refine fp_M.intro (by decide) (Nat.le_of_ble_eq_true rfl) ?_
  intro pg en s mi ag bl mt cd rR qQ ls X hx hb hr hlk hnm hR hQ hB hM hl
  have hS : va_S (fA (fp_ma ad) s.heap.size) s.heap s.heap [] := va_S.rf
  generalize ([] : List Loc) = locs at hS ⊢
  have hN24 := hV.1.1
  refine lv_aload_n hx hb dX4_placeFoam_0 rfl (lv_at hl 0 rfl) ?_
  refine r_callV (cells1 := 0) (slots1 := 0) X hR (c_X4_begins G ad sc ar hA0  ) q2087 q2089 qs45 q100 q2090 ⟨rfl, pd_X4_begins⟩ (by decide) rfl rfl (by decide) (by decide) hM.1 rfl rfl (Nat.le_of_ble_eq_true rfl) hl.1 dX4_placeFoam_1 (hB.of hS (fp_ma.base hA0)) hM hS (fun _ h => Or.inl h) (fun v H locs hp_1 hzC hkC hS => ?_)
  obtain ⟨rfl, hM_2⟩ := hp_1
  have hM_3 := fp_ME.nrm (sc2 := (va_up sc 0 (((0 : Nat) : Int)))) hM_2 rfl
  refine r_stk (st2 := []) rfl ?_
  refine lv_aload_n hx hb dX4_placeFoam_4 rfl (lv_at hl 0 rfl) ?_
  refine lv_aload_n hx hb dX4_placeFoam_5 rfl (lv_at hl 0 rfl) ?_
  refine lv_iconst (v := (iI ((0 : Nat) : Int))) hx hb dX4_placeFoam_6 rfl ?_
  refine lv_iload_n hx hb dX4_placeFoam_7 rfl (lv_at hl 1 rfl) ?_
  refine lv_iload_n hx hb dX4_placeFoam_8 rfl (lv_at hl 2 rfl) ?_
  refine lv_iload_n hx hb dX4_placeFoam_9 rfl (lv_at hl 3 rfl) ?_
  refine r_callV (cells1 := 0) (slots1 := 0) X hR (c_X4_places G ad (va_up sc 0 (((0 : Nat) : Int))) (va_up ar 6 (ar 5)) S hA0 hV 0 (l) (wd) (wt) (by decide) (by omega) (by omega) (by omega) (by omega) h30) q2094 q2096 qs46 q100 q2097 ⟨rfl, pd_X4_places⟩ (by decide) rfl rfl (by decide) (by decide) hM_3.1 rfl rfl (Nat.le_of_ble_eq_true rfl) hl.1 dX4_placeFoam_10 (hB.of hS (fp_ma.base hA0)) hM_3 hS (fun _ h => Or.inl h) (fun v H locs hp_4 hzC hkC hS => ?_)
  rcases hp_4 with ⟨rfl, hM_6, hpc_5⟩ | ⟨v2_7, f_8, rfl, hM_10, hpc_9⟩ | ⟨v2_11, f_12, rfl, hM_15, hpc_13, hV2_14⟩
  · skip
    have hM_16 := fp_ME.nrm (sc2 := (va_up sc 0 (((1 : Nat) : Int)))) hM_6 rfl
    refine r_stk (st2 := [.int (iI ((0 : Nat) : Int)), .ref (ad 0)]) rfl ?_
    refine r_callV (cells1 := 0) (slots1 := 0) X hR (c_X4_ends G ad (va_up sc 0 (((1 : Nat) : Int))) (va_up ar 6 (ar 5)) hA0 S hs hn hch h8 HR hV (show rg ((1 : Nat) : Int) by decide) 0 ) q2159 q2161 qs60 q100 q2162 ⟨rfl, pd_X4_ends⟩ (by decide) rfl rfl (by decide) (by decide) hM_16.1 rfl rfl (Nat.le_of_ble_eq_true rfl) hl.1 dX4_placeFoam_13 (hB.of hS (fp_ma.base hA0)) hM_16 hS (fun _ h => Or.inl h) (fun v H locs hp_17 hzC hkC hS => ?_)
    rcases hp_17 with ⟨rfl, hM_19, hth_18⟩ | ⟨pa_20, rfl, hM_23, hth_21, HR2_22⟩
    · skip
      refine r_stk (st2 := [.int (iI ((0 : Nat) : Int))]) rfl ?_
      refine r_iret hx hb hr hlk hQ hS (Nat.le_of_ble_eq_true rfl) (Nat.le_of_ble_eq_true rfl) dX4_placeFoam_16 ?_
      exact Or.inl ⟨(va_up (va_up ar 6 (ar 5)) 5 ((va_up ar 6 (ar 5)) 6)), rfl, hM_19, hV, (fun k hk => by simp [fp_scr] at hk; by_cases e5 : k = 5 <;> simp_all [va_up]), hpc_5⟩
    · skip
      exact absurd (show ((1 : Nat) : Int) = 0 from hth_21) (by decide)
  · skip
    have hM_24 := fp_ME.nrm (sc2 := (va_up sc 0 (((2 : Nat) : Int)))) hM_10 rfl
    refine r_stk (st2 := [.int (iI ((0 : Nat) : Int)), .ref (ad 0)]) rfl ?_
    refine r_callV (cells1 := 0) (slots1 := 0) X hR (c_X4_ends G ad (va_up sc 0 (((2 : Nat) : Int))) (va_up (va_up (va_up ar 6 (ar 5)) 5 v2_7) 10 f_8) hA0 S hs hn hch h8 HR hV (show rg ((2 : Nat) : Int) by decide) 0 ) q2159 q2161 qs60 q100 q2162 ⟨rfl, pd_X4_ends⟩ (by decide) rfl rfl (by decide) (by decide) hM_24.1 rfl rfl (Nat.le_of_ble_eq_true rfl) hl.1 dX4_placeFoam_13 (hB.of hS (fp_ma.base hA0)) hM_24 hS (fun _ h => Or.inl h) (fun v H locs hp_25 hzC hkC hS => ?_)
    rcases hp_25 with ⟨rfl, hM_27, hth_26⟩ | ⟨pa_28, rfl, hM_31, hth_29, HR2_30⟩
    · skip
      refine r_stk (st2 := [.int (iI ((0 : Nat) : Int))]) rfl ?_
      refine r_iret hx hb hr hlk hQ hS (Nat.le_of_ble_eq_true rfl) (Nat.le_of_ble_eq_true rfl) dX4_placeFoam_16 ?_
      exact Or.inr (Or.inl ⟨(va_up (va_up (va_up (va_up ar 6 (ar 5)) 5 v2_7) 10 f_8) 5 ((va_up (va_up (va_up ar 6 (ar 5)) 5 v2_7) 10 f_8) 6)), rfl, hM_27, hV, (fun k hk => by simp [fp_scr] at hk; by_cases e5 : k = 5 <;> simp_all [va_up]), hpc_9⟩)
    · skip
      exact absurd (show ((2 : Nat) : Int) = 0 from hth_29) (by decide)
  · skip
    refine r_stk (st2 := [.int (iI ((sP S : Nat) : Int)), .ref (ad 0)]) rfl ?_
    refine r_callV (cells1 := 0) (slots1 := 0) X hR (c_X4_ends G ad (va_up sc 0 (((0 : Nat) : Int))) (va_up (va_up (va_up ar 6 (ar 5)) 5 v2_11) 10 f_12) hA0 S hs hn hch h8 HR hV (show rg ((0 : Nat) : Int) by decide) ((sP S : Nat) : Int) ) q2159 q2161 qs60 q100 q2162 ⟨rfl, pd_X4_ends⟩ (by decide) rfl rfl (by decide) (by decide) hM_15.1 rfl rfl (Nat.le_of_ble_eq_true rfl) hl.1 dX4_placeFoam_13 (hB.of hS (fp_ma.base hA0)) hM_15 hS (fun _ h => Or.inl h) (fun v H locs hp_32 hzC hkC hS => ?_)
    rcases hp_32 with ⟨rfl, hM_34, hth_33⟩ | ⟨pa_35, rfl, hM_38, hth_36, HR2_37⟩
    · skip
      exact absurd rfl (show ((0 : Nat) : Int) ≠ 0 from hth_33)
    · skip
      have hM_39 := fp_ME.nrm (sc2 := (va_up (va_up sc 0 (((0 : Nat) : Int))) 1 (((fp_hn hn : Nat) : Int)))) hM_38 rfl
      refine r_stk (st2 := [.int (iI (((sP S : Nat) : Int)))]) rfl ?_
      refine r_iret hx hb hr hlk hQ hS (Nat.le_of_ble_eq_true rfl) (Nat.le_of_ble_eq_true rfl) dX4_placeFoam_16 ?_
      exact Or.inr (Or.inr (⟨(va_up (va_up (va_up (va_up ar 6 (ar 5)) 5 v2_11) 10 f_12) 9 pa_35), rfl, (hM_39.nrm rfl), hV2_14, HR2_37, (fun k hk h5 h9 => by simp [fp_scr] at hk; simp_all [va_up]), hpc_13⟩))
set_option maxHeartbeats 4000000 in
theorem c_X4_placeBoard (G : fp_G) (ad : Nat → Nat) (sc : Nat → Int) (ar : Nat → Nat → Int) (S : PS) (hA0 : fp_MA G ad) (hV : fp_VR S (ar 5)) (hs : Nat → PS) (hn : Nat) (hch : sc 1 = ((hn : Nat) : Int)) (h8 : hn ≤ 8) (HR : fp_HR hs hn (ar 9)) (l : Int) (wd : Int) (wt : Int) (hl1 : rg l) (hw1 : rg wd) (ht1 : rg wt) (hsp : sP S < 999) (h30 : ∀ k, k < sN S → fp_top (sB S k) ≤ 30) : fp_M G yX4_placeBoard cX4_placeBoard 4 (some .int) 9 196 0 0 [.ref (ad 0), .int (iI (l)), .int (iI (wd)), .int (iI (wt))] (fp_ME G ad sc ar) (fp_ma ad) (fun _ v H => (∃ (ar2 : Nat → Nat → Int), v = some (.int (iI ((0 : Nat) : Int))) ∧ fp_ME G ad (va_up sc 0 (((1 : Nat) : Int))) ar2 H ∧ (fp_VR S (ar2 5)) ∧ (fp_sm0 ar ar2) ∧ (fp_plc S 1 l wd wt = 1)) ∨ (∃ (ar2 : Nat → Nat → Int), v = some (.int (iI ((0 : Nat) : Int))) ∧ fp_ME G ad (va_up sc 0 (((2 : Nat) : Int))) ar2 H ∧ (fp_VR S (ar2 5)) ∧ (fp_sm0 ar ar2) ∧ (fp_plc S 1 l wd wt = 2)) ∨ (∃ (ar2 : Nat → Nat → Int), v = some (.int (iI ((sP S : Nat) : Int))) ∧ fp_ME G ad (va_up (va_up sc 0 (((0 : Nat) : Int))) 1 (((fp_hn hn : Nat) : Int))) ar2 H ∧ (fp_VR (fp_add S 1 l.toNat wd.toNat wt.toNat) (ar2 5)) ∧ (fp_HR (fp_hpush hs hn S) (fp_hn hn) (ar2 9)) ∧ (fp_sm1 ar ar2) ∧ (fp_plc S 1 l wd wt = 0))) := by
  refine fp_M.intro (by decide) (Nat.le_of_ble_eq_true rfl) ?_
  intro pg en s mi ag bl mt cd rR qQ ls X hx hb hr hlk hnm hR hQ hB hM hl
  have hS : va_S (fA (fp_ma ad) s.heap.size) s.heap s.heap [] := va_S.rf
  generalize ([] : List Loc) = locs at hS ⊢
  have hN24 := hV.1.1
  refine lv_aload_n hx hb dX4_placeBoard_0 rfl (lv_at hl 0 rfl) ?_
  refine r_callV (cells1 := 0) (slots1 := 0) X hR (c_X4_begins G ad sc ar hA0  ) q2087 q2089 qs45 q100 q2090 ⟨rfl, pd_X4_begins⟩ (by decide) rfl rfl (by decide) (by decide) hM.1 rfl rfl (Nat.le_of_ble_eq_true rfl) hl.1 dX4_placeBoard_1 (hB.of hS (fp_ma.base hA0)) hM hS (fun _ h => Or.inl h) (fun v H locs hp_1 hzC hkC hS => ?_)
  obtain ⟨rfl, hM_2⟩ := hp_1
  have hM_3 := fp_ME.nrm (sc2 := (va_up sc 0 (((0 : Nat) : Int)))) hM_2 rfl
  refine r_stk (st2 := []) rfl ?_
  refine lv_aload_n hx hb dX4_placeBoard_4 rfl (lv_at hl 0 rfl) ?_
  refine lv_aload_n hx hb dX4_placeBoard_5 rfl (lv_at hl 0 rfl) ?_
  refine lv_iconst (v := (iI ((1 : Nat) : Int))) hx hb dX4_placeBoard_6 rfl ?_
  refine lv_iload_n hx hb dX4_placeBoard_7 rfl (lv_at hl 1 rfl) ?_
  refine lv_iload_n hx hb dX4_placeBoard_8 rfl (lv_at hl 2 rfl) ?_
  refine lv_iload_n hx hb dX4_placeBoard_9 rfl (lv_at hl 3 rfl) ?_
  refine r_callV (cells1 := 0) (slots1 := 0) X hR (c_X4_places G ad (va_up sc 0 (((0 : Nat) : Int))) (va_up ar 6 (ar 5)) S hA0 hV 1 (l) (wd) (wt) (by decide) (by omega) (by omega) (by omega) (by omega) h30) q2094 q2096 qs46 q100 q2097 ⟨rfl, pd_X4_places⟩ (by decide) rfl rfl (by decide) (by decide) hM_3.1 rfl rfl (Nat.le_of_ble_eq_true rfl) hl.1 dX4_placeBoard_10 (hB.of hS (fp_ma.base hA0)) hM_3 hS (fun _ h => Or.inl h) (fun v H locs hp_4 hzC hkC hS => ?_)
  rcases hp_4 with ⟨rfl, hM_6, hpc_5⟩ | ⟨v2_7, f_8, rfl, hM_10, hpc_9⟩ | ⟨v2_11, f_12, rfl, hM_15, hpc_13, hV2_14⟩
  · skip
    have hM_16 := fp_ME.nrm (sc2 := (va_up sc 0 (((1 : Nat) : Int)))) hM_6 rfl
    refine r_stk (st2 := [.int (iI ((0 : Nat) : Int)), .ref (ad 0)]) rfl ?_
    refine r_callV (cells1 := 0) (slots1 := 0) X hR (c_X4_ends G ad (va_up sc 0 (((1 : Nat) : Int))) (va_up ar 6 (ar 5)) hA0 S hs hn hch h8 HR hV (show rg ((1 : Nat) : Int) by decide) 0 ) q2159 q2161 qs60 q100 q2162 ⟨rfl, pd_X4_ends⟩ (by decide) rfl rfl (by decide) (by decide) hM_16.1 rfl rfl (Nat.le_of_ble_eq_true rfl) hl.1 dX4_placeBoard_13 (hB.of hS (fp_ma.base hA0)) hM_16 hS (fun _ h => Or.inl h) (fun v H locs hp_17 hzC hkC hS => ?_)
    rcases hp_17 with ⟨rfl, hM_19, hth_18⟩ | ⟨pa_20, rfl, hM_23, hth_21, HR2_22⟩
    · skip
      refine r_stk (st2 := [.int (iI ((0 : Nat) : Int))]) rfl ?_
      refine r_iret hx hb hr hlk hQ hS (Nat.le_of_ble_eq_true rfl) (Nat.le_of_ble_eq_true rfl) dX4_placeBoard_16 ?_
      exact Or.inl ⟨(va_up (va_up ar 6 (ar 5)) 5 ((va_up ar 6 (ar 5)) 6)), rfl, hM_19, hV, (fun k hk => by simp [fp_scr] at hk; by_cases e5 : k = 5 <;> simp_all [va_up]), hpc_5⟩
    · skip
      exact absurd (show ((1 : Nat) : Int) = 0 from hth_21) (by decide)
  · skip
    have hM_24 := fp_ME.nrm (sc2 := (va_up sc 0 (((2 : Nat) : Int)))) hM_10 rfl
    refine r_stk (st2 := [.int (iI ((0 : Nat) : Int)), .ref (ad 0)]) rfl ?_
    refine r_callV (cells1 := 0) (slots1 := 0) X hR (c_X4_ends G ad (va_up sc 0 (((2 : Nat) : Int))) (va_up (va_up (va_up ar 6 (ar 5)) 5 v2_7) 10 f_8) hA0 S hs hn hch h8 HR hV (show rg ((2 : Nat) : Int) by decide) 0 ) q2159 q2161 qs60 q100 q2162 ⟨rfl, pd_X4_ends⟩ (by decide) rfl rfl (by decide) (by decide) hM_24.1 rfl rfl (Nat.le_of_ble_eq_true rfl) hl.1 dX4_placeBoard_13 (hB.of hS (fp_ma.base hA0)) hM_24 hS (fun _ h => Or.inl h) (fun v H locs hp_25 hzC hkC hS => ?_)
    rcases hp_25 with ⟨rfl, hM_27, hth_26⟩ | ⟨pa_28, rfl, hM_31, hth_29, HR2_30⟩
    · skip
      refine r_stk (st2 := [.int (iI ((0 : Nat) : Int))]) rfl ?_
      refine r_iret hx hb hr hlk hQ hS (Nat.le_of_ble_eq_true rfl) (Nat.le_of_ble_eq_true rfl) dX4_placeBoard_16 ?_
      exact Or.inr (Or.inl ⟨(va_up (va_up (va_up (va_up ar 6 (ar 5)) 5 v2_7) 10 f_8) 5 ((va_up (va_up (va_up ar 6 (ar 5)) 5 v2_7) 10 f_8) 6)), rfl, hM_27, hV, (fun k hk => by simp [fp_scr] at hk; by_cases e5 : k = 5 <;> simp_all [va_up]), hpc_9⟩)
    · skip
      exact absurd (show ((2 : Nat) : Int) = 0 from hth_29) (by decide)
  · skip
    refine r_stk (st2 := [.int (iI ((sP S : Nat) : Int)), .ref (ad 0)]) rfl ?_
    refine r_callV (cells1 := 0) (slots1 := 0) X hR (c_X4_ends G ad (va_up sc 0 (((0 : Nat) : Int))) (va_up (va_up (va_up ar 6 (ar 5)) 5 v2_11) 10 f_12) hA0 S hs hn hch h8 HR hV (show rg ((0 : Nat) : Int) by decide) ((sP S : Nat) : Int) ) q2159 q2161 qs60 q100 q2162 ⟨rfl, pd_X4_ends⟩ (by decide) rfl rfl (by decide) (by decide) hM_15.1 rfl rfl (Nat.le_of_ble_eq_true rfl) hl.1 dX4_placeBoard_13 (hB.of hS (fp_ma.base hA0)) hM_15 hS (fun _ h => Or.inl h) (fun v H locs hp_32 hzC hkC hS => ?_)
    rcases hp_32 with ⟨rfl, hM_34, hth_33⟩ | ⟨pa_35, rfl, hM_38, hth_36, HR2_37⟩
    · skip
      exact absurd rfl (show ((0 : Nat) : Int) ≠ 0 from hth_33)
    · skip
      have hM_39 := fp_ME.nrm (sc2 := (va_up (va_up sc 0 (((0 : Nat) : Int))) 1 (((fp_hn hn : Nat) : Int)))) hM_38 rfl
      refine r_stk (st2 := [.int (iI (((sP S : Nat) : Int)))]) rfl ?_
      refine r_iret hx hb hr hlk hQ hS (Nat.le_of_ble_eq_true rfl) (Nat.le_of_ble_eq_true rfl) dX4_placeBoard_16 ?_
      exact Or.inr (Or.inr (⟨(va_up (va_up (va_up (va_up ar 6 (ar 5)) 5 v2_11) 10 f_12) 9 pa_35), rfl, (hM_39.nrm rfl), hV2_14, HR2_37, (fun k hk h5 h9 => by simp [fp_scr] at hk; simp_all [va_up]), hpc_13⟩))
set_option maxHeartbeats 4000000 in
theorem c_X4_placeBag (G : fp_G) (ad : Nat → Nat) (sc : Nat → Int) (ar : Nat → Nat → Int) (S : PS) (hA0 : fp_MA G ad) (hV : fp_VR S (ar 5)) (hs : Nat → PS) (hn : Nat) (hch : sc 1 = ((hn : Nat) : Int)) (h8 : hn ≤ 8) (HR : fp_HR hs hn (ar 9)) (l : Int) (wd : Int) (wt : Int) (hl1 : rg l) (hw1 : rg wd) (ht1 : rg wt) (hsp : sP S < 999) (h30 : ∀ k, k < sN S → fp_top (sB S k) ≤ 30) : fp_M G yX4_placeBag cX4_placeBag 4 (some .int) 9 196 0 0 [.ref (ad 0), .int (iI (l)), .int (iI (wd)), .int (iI (wt))] (fp_ME G ad sc ar) (fp_ma ad) (fun _ v H => (∃ (ar2 : Nat → Nat → Int), v = some (.int (iI ((0 : Nat) : Int))) ∧ fp_ME G ad (va_up sc 0 (((1 : Nat) : Int))) ar2 H ∧ (fp_VR S (ar2 5)) ∧ (fp_sm0 ar ar2) ∧ (fp_plc S 2 l wd wt = 1)) ∨ (∃ (ar2 : Nat → Nat → Int), v = some (.int (iI ((0 : Nat) : Int))) ∧ fp_ME G ad (va_up sc 0 (((2 : Nat) : Int))) ar2 H ∧ (fp_VR S (ar2 5)) ∧ (fp_sm0 ar ar2) ∧ (fp_plc S 2 l wd wt = 2)) ∨ (∃ (ar2 : Nat → Nat → Int), v = some (.int (iI ((sP S : Nat) : Int))) ∧ fp_ME G ad (va_up (va_up sc 0 (((0 : Nat) : Int))) 1 (((fp_hn hn : Nat) : Int))) ar2 H ∧ (fp_VR (fp_add S 2 l.toNat wd.toNat wt.toNat) (ar2 5)) ∧ (fp_HR (fp_hpush hs hn S) (fp_hn hn) (ar2 9)) ∧ (fp_sm1 ar ar2) ∧ (fp_plc S 2 l wd wt = 0))) := by
  refine fp_M.intro (by decide) (Nat.le_of_ble_eq_true rfl) ?_
  intro pg en s mi ag bl mt cd rR qQ ls X hx hb hr hlk hnm hR hQ hB hM hl
  have hS : va_S (fA (fp_ma ad) s.heap.size) s.heap s.heap [] := va_S.rf
  generalize ([] : List Loc) = locs at hS ⊢
  have hN24 := hV.1.1
  refine lv_aload_n hx hb dX4_placeBag_0 rfl (lv_at hl 0 rfl) ?_
  refine r_callV (cells1 := 0) (slots1 := 0) X hR (c_X4_begins G ad sc ar hA0  ) q2087 q2089 qs45 q100 q2090 ⟨rfl, pd_X4_begins⟩ (by decide) rfl rfl (by decide) (by decide) hM.1 rfl rfl (Nat.le_of_ble_eq_true rfl) hl.1 dX4_placeBag_1 (hB.of hS (fp_ma.base hA0)) hM hS (fun _ h => Or.inl h) (fun v H locs hp_1 hzC hkC hS => ?_)
  obtain ⟨rfl, hM_2⟩ := hp_1
  have hM_3 := fp_ME.nrm (sc2 := (va_up sc 0 (((0 : Nat) : Int)))) hM_2 rfl
  refine r_stk (st2 := []) rfl ?_
  refine lv_aload_n hx hb dX4_placeBag_4 rfl (lv_at hl 0 rfl) ?_
  refine lv_aload_n hx hb dX4_placeBag_5 rfl (lv_at hl 0 rfl) ?_
  refine lv_iconst (v := (iI ((2 : Nat) : Int))) hx hb dX4_placeBag_6 rfl ?_
  refine lv_iload_n hx hb dX4_placeBag_7 rfl (lv_at hl 1 rfl) ?_
  refine lv_iload_n hx hb dX4_placeBag_8 rfl (lv_at hl 2 rfl) ?_
  refine lv_iload_n hx hb dX4_placeBag_9 rfl (lv_at hl 3 rfl) ?_
  refine r_callV (cells1 := 0) (slots1 := 0) X hR (c_X4_places G ad (va_up sc 0 (((0 : Nat) : Int))) (va_up ar 6 (ar 5)) S hA0 hV 2 (l) (wd) (wt) (by decide) (by omega) (by omega) (by omega) (by omega) h30) q2094 q2096 qs46 q100 q2097 ⟨rfl, pd_X4_places⟩ (by decide) rfl rfl (by decide) (by decide) hM_3.1 rfl rfl (Nat.le_of_ble_eq_true rfl) hl.1 dX4_placeBag_10 (hB.of hS (fp_ma.base hA0)) hM_3 hS (fun _ h => Or.inl h) (fun v H locs hp_4 hzC hkC hS => ?_)
  rcases hp_4 with ⟨rfl, hM_6, hpc_5⟩ | ⟨v2_7, f_8, rfl, hM_10, hpc_9⟩ | ⟨v2_11, f_12, rfl, hM_15, hpc_13, hV2_14⟩
  · skip
    have hM_16 := fp_ME.nrm (sc2 := (va_up sc 0 (((1 : Nat) : Int)))) hM_6 rfl
    refine r_stk (st2 := [.int (iI ((0 : Nat) : Int)), .ref (ad 0)]) rfl ?_
    refine r_callV (cells1 := 0) (slots1 := 0) X hR (c_X4_ends G ad (va_up sc 0 (((1 : Nat) : Int))) (va_up ar 6 (ar 5)) hA0 S hs hn hch h8 HR hV (show rg ((1 : Nat) : Int) by decide) 0 ) q2159 q2161 qs60 q100 q2162 ⟨rfl, pd_X4_ends⟩ (by decide) rfl rfl (by decide) (by decide) hM_16.1 rfl rfl (Nat.le_of_ble_eq_true rfl) hl.1 dX4_placeBag_13 (hB.of hS (fp_ma.base hA0)) hM_16 hS (fun _ h => Or.inl h) (fun v H locs hp_17 hzC hkC hS => ?_)
    rcases hp_17 with ⟨rfl, hM_19, hth_18⟩ | ⟨pa_20, rfl, hM_23, hth_21, HR2_22⟩
    · skip
      refine r_stk (st2 := [.int (iI ((0 : Nat) : Int))]) rfl ?_
      refine r_iret hx hb hr hlk hQ hS (Nat.le_of_ble_eq_true rfl) (Nat.le_of_ble_eq_true rfl) dX4_placeBag_16 ?_
      exact Or.inl ⟨(va_up (va_up ar 6 (ar 5)) 5 ((va_up ar 6 (ar 5)) 6)), rfl, hM_19, hV, (fun k hk => by simp [fp_scr] at hk; by_cases e5 : k = 5 <;> simp_all [va_up]), hpc_5⟩
    · skip
      exact absurd (show ((1 : Nat) : Int) = 0 from hth_21) (by decide)
  · skip
    have hM_24 := fp_ME.nrm (sc2 := (va_up sc 0 (((2 : Nat) : Int)))) hM_10 rfl
    refine r_stk (st2 := [.int (iI ((0 : Nat) : Int)), .ref (ad 0)]) rfl ?_
    refine r_callV (cells1 := 0) (slots1 := 0) X hR (c_X4_ends G ad (va_up sc 0 (((2 : Nat) : Int))) (va_up (va_up (va_up ar 6 (ar 5)) 5 v2_7) 10 f_8) hA0 S hs hn hch h8 HR hV (show rg ((2 : Nat) : Int) by decide) 0 ) q2159 q2161 qs60 q100 q2162 ⟨rfl, pd_X4_ends⟩ (by decide) rfl rfl (by decide) (by decide) hM_24.1 rfl rfl (Nat.le_of_ble_eq_true rfl) hl.1 dX4_placeBag_13 (hB.of hS (fp_ma.base hA0)) hM_24 hS (fun _ h => Or.inl h) (fun v H locs hp_25 hzC hkC hS => ?_)
    rcases hp_25 with ⟨rfl, hM_27, hth_26⟩ | ⟨pa_28, rfl, hM_31, hth_29, HR2_30⟩
    · skip
      refine r_stk (st2 := [.int (iI ((0 : Nat) : Int))]) rfl ?_
      refine r_iret hx hb hr hlk hQ hS (Nat.le_of_ble_eq_true rfl) (Nat.le_of_ble_eq_true rfl) dX4_placeBag_16 ?_
      exact Or.inr (Or.inl ⟨(va_up (va_up (va_up (va_up ar 6 (ar 5)) 5 v2_7) 10 f_8) 5 ((va_up (va_up (va_up ar 6 (ar 5)) 5 v2_7) 10 f_8) 6)), rfl, hM_27, hV, (fun k hk => by simp [fp_scr] at hk; by_cases e5 : k = 5 <;> simp_all [va_up]), hpc_9⟩)
    · skip
      exact absurd (show ((2 : Nat) : Int) = 0 from hth_29) (by decide)
  · skip
    refine r_stk (st2 := [.int (iI ((sP S : Nat) : Int)), .ref (ad 0)]) rfl ?_
    refine r_callV (cells1 := 0) (slots1 := 0) X hR (c_X4_ends G ad (va_up sc 0 (((0 : Nat) : Int))) (va_up (va_up (va_up ar 6 (ar 5)) 5 v2_11) 10 f_12) hA0 S hs hn hch h8 HR hV (show rg ((0 : Nat) : Int) by decide) ((sP S : Nat) : Int) ) q2159 q2161 qs60 q100 q2162 ⟨rfl, pd_X4_ends⟩ (by decide) rfl rfl (by decide) (by decide) hM_15.1 rfl rfl (Nat.le_of_ble_eq_true rfl) hl.1 dX4_placeBag_13 (hB.of hS (fp_ma.base hA0)) hM_15 hS (fun _ h => Or.inl h) (fun v H locs hp_32 hzC hkC hS => ?_)
    rcases hp_32 with ⟨rfl, hM_34, hth_33⟩ | ⟨pa_35, rfl, hM_38, hth_36, HR2_37⟩
    · skip
      exact absurd rfl (show ((0 : Nat) : Int) ≠ 0 from hth_33)
    · skip
      have hM_39 := fp_ME.nrm (sc2 := (va_up (va_up sc 0 (((0 : Nat) : Int))) 1 (((fp_hn hn : Nat) : Int)))) hM_38 rfl
      refine r_stk (st2 := [.int (iI (((sP S : Nat) : Int)))]) rfl ?_
      refine r_iret hx hb hr hlk hQ hS (Nat.le_of_ble_eq_true rfl) (Nat.le_of_ble_eq_true rfl) dX4_placeBag_16 ?_
      exact Or.inr (Or.inr (⟨(va_up (va_up (va_up (va_up ar 6 (ar 5)) 5 v2_11) 10 f_12) 9 pa_35), rfl, (hM_39.nrm rfl), hV2_14, HR2_37, (fun k hk h5 h9 => by simp [fp_scr] at hk; simp_all [va_up]), hpc_13⟩))
set_option maxHeartbeats 4000000 in
theorem c_X4_remove (G : fp_G) (ad : Nat → Nat) (sc : Nat → Int) (ar : Nat → Nat → Int) (S : PS) (hA0 : fp_MA G ad) (hV : fp_VR S (ar 5)) (hs : Nat → PS) (hn : Nat) (hch : sc 1 = ((hn : Nat) : Int)) (h8 : hn ≤ 8) (HR : fp_HR hs hn (ar 9)) (z : Int) (hz : rg z) : fp_M G yX4_remove cX4_remove 2 (some .int) 6 123 0 0 [.ref (ad 0), .int (iI (z))] (fp_ME G ad sc ar) (fp_ma ad) (fun _ v H => (∃ (ar2 : Nat → Nat → Int), v = some (.int (iI ((0 : Nat) : Int))) ∧ fp_ME G ad (va_up sc 0 (((1 : Nat) : Int))) ar2 H ∧ (fp_VR S (ar2 5)) ∧ (fp_sm0 ar ar2) ∧ (fp_fnd S z = sN S)) ∨ (∃ (ar2 : Nat → Nat → Int), v = some (.int (iI ((0 : Nat) : Int))) ∧ fp_ME G ad (va_up sc 0 (((2 : Nat) : Int))) ar2 H ∧ (fp_VR S (ar2 5)) ∧ (fp_sm0 ar ar2) ∧ (fp_fnd S z < sN S) ∧ (fp_und S (fp_fnd S z) = true)) ∨ (∃ (ar2 : Nat → Nat → Int), v = some (.int (iI ((sN S - 1 : Nat) : Int))) ∧ fp_ME G ad (va_up (va_up sc 0 (((0 : Nat) : Int))) 1 (((fp_hn hn : Nat) : Int))) ar2 H ∧ (fp_VR (fp_del S (fp_fnd S z)) (ar2 5)) ∧ (fp_HR (fp_hpush hs hn S) (fp_hn hn) (ar2 9)) ∧ (fp_sm1 ar ar2) ∧ (fp_fnd S z < sN S) ∧ (fp_und S (fp_fnd S z) = false))) := by
  refine fp_M.intro (by decide) (Nat.le_of_ble_eq_true rfl) ?_
  intro pg en s mi ag bl mt cd rR qQ ls X hx hb hr hlk hnm hR hQ hB hM hl
  have hS : va_S (fA (fp_ma ad) s.heap.size) s.heap s.heap [] := va_S.rf
  generalize ([] : List Loc) = locs at hS ⊢
  have hN24 := hV.1.1
  refine lv_aload_n hx hb dX4_remove_0 rfl (lv_at hl 0 rfl) ?_
  refine r_callV (cells1 := 0) (slots1 := 0) X hR (c_X4_begins G ad sc ar hA0  ) q2087 q2089 qs45 q100 q2090 ⟨rfl, pd_X4_begins⟩ (by decide) rfl rfl (by decide) (by decide) hM.1 rfl rfl (Nat.le_of_ble_eq_true rfl) hl.1 dX4_remove_1 (hB.of hS (fp_ma.base hA0)) hM hS (fun _ h => Or.inl h) (fun v H locs hp_1 hzC hkC hS => ?_)
  obtain ⟨rfl, hM_2⟩ := hp_1
  have hM_3 := fp_ME.nrm (sc2 := (va_up sc 0 (((0 : Nat) : Int)))) hM_2 rfl
  refine r_stk (st2 := []) rfl ?_
  refine lv_aload_n hx hb dX4_remove_4 rfl (lv_at hl 0 rfl) ?_
  refine lv_aload_n hx hb dX4_remove_5 rfl (lv_at hl 0 rfl) ?_
  refine lv_iload_n hx hb dX4_remove_6 rfl (lv_at hl 1 rfl) ?_
  refine r_callV (cells1 := 0) (slots1 := 0) X hR (c_X4_takes G ad (va_up sc 0 (((0 : Nat) : Int))) (va_up ar 6 (ar 5)) S hA0 hV (z) (by omega)) q2175 q2177 qs61 q100 q2178 ⟨rfl, pd_X4_takes⟩ (by decide) rfl rfl (by decide) (by decide) hM_3.1 rfl rfl (Nat.le_of_ble_eq_true rfl) hl.1 dX4_remove_7 (hB.of hS (fp_ma.base hA0)) hM_3 hS (fun _ h => Or.inl h) (fun v H locs hp_4 hzC hkC hS => ?_)
  rcases hp_4 with ⟨rfl, hM_6, hnf_5⟩ | ⟨kf_7, rfl, hM_10, hkf_8, hu_9⟩ | ⟨kf_11, v2_12, rfl, hM_16, hkf_13, hu_14, hV2_15⟩
  · skip
    have hM_17 := fp_ME.nrm (sc2 := (va_up sc 0 (((1 : Nat) : Int)))) hM_6 rfl
    refine r_stk (st2 := [.int (iI ((0 : Nat) : Int)), .ref (ad 0)]) rfl ?_
    refine r_callV (cells1 := 0) (slots1 := 0) X hR (c_X4_ends G ad (va_up sc 0 (((1 : Nat) : Int))) (va_up ar 6 (ar 5)) hA0 S hs hn hch h8 HR hV (show rg ((1 : Nat) : Int) by decide) 0 ) q2159 q2161 qs60 q100 q2162 ⟨rfl, pd_X4_ends⟩ (by decide) rfl rfl (by decide) (by decide) hM_17.1 rfl rfl (Nat.le_of_ble_eq_true rfl) hl.1 dX4_remove_10 (hB.of hS (fp_ma.base hA0)) hM_17 hS (fun _ h => Or.inl h) (fun v H locs hp_18 hzC hkC hS => ?_)
    rcases hp_18 with ⟨rfl, hM_20, hth_19⟩ | ⟨pa_21, rfl, hM_24, hth_22, HR2_23⟩
    · skip
      refine r_stk (st2 := [.int (iI ((0 : Nat) : Int))]) rfl ?_
      refine r_iret hx hb hr hlk hQ hS (Nat.le_of_ble_eq_true rfl) (Nat.le_of_ble_eq_true rfl) dX4_remove_13 ?_
      exact Or.inl ⟨(va_up (va_up ar 6 (ar 5)) 5 ((va_up ar 6 (ar 5)) 6)), rfl, hM_20, hV, (fun k hk => by simp [fp_scr] at hk; by_cases e5 : k = 5 <;> simp_all [va_up]), hnf_5⟩
    · skip
      exact absurd (show ((1 : Nat) : Int) = 0 from hth_22) (by decide)
  · skip
    have hM_25 := fp_ME.nrm (sc2 := (va_up sc 0 (((2 : Nat) : Int)))) hM_10 rfl
    refine r_stk (st2 := [.int (iI ((0 : Nat) : Int)), .ref (ad 0)]) rfl ?_
    refine r_callV (cells1 := 0) (slots1 := 0) X hR (c_X4_ends G ad (va_up sc 0 (((2 : Nat) : Int))) (va_up ar 6 (ar 5)) hA0 S hs hn hch h8 HR hV (show rg ((2 : Nat) : Int) by decide) 0 ) q2159 q2161 qs60 q100 q2162 ⟨rfl, pd_X4_ends⟩ (by decide) rfl rfl (by decide) (by decide) hM_25.1 rfl rfl (Nat.le_of_ble_eq_true rfl) hl.1 dX4_remove_10 (hB.of hS (fp_ma.base hA0)) hM_25 hS (fun _ h => Or.inl h) (fun v H locs hp_26 hzC hkC hS => ?_)
    rcases hp_26 with ⟨rfl, hM_28, hth_27⟩ | ⟨pa_29, rfl, hM_32, hth_30, HR2_31⟩
    · skip
      refine r_stk (st2 := [.int (iI ((0 : Nat) : Int))]) rfl ?_
      refine r_iret hx hb hr hlk hQ hS (Nat.le_of_ble_eq_true rfl) (Nat.le_of_ble_eq_true rfl) dX4_remove_13 ?_
      exact Or.inr (Or.inl ⟨(va_up (va_up ar 6 (ar 5)) 5 ((va_up ar 6 (ar 5)) 6)), rfl, hM_28, hV, (fun k hk => by simp [fp_scr] at hk; by_cases e5 : k = 5 <;> simp_all [va_up]), (by rw [hkf_8.2]; exact hkf_8.1), (by rw [hkf_8.2]; exact hu_9)⟩)
    · skip
      exact absurd (show ((2 : Nat) : Int) = 0 from hth_30) (by decide)
  · skip
    have hM_33 := fp_ME.nrm (sc2 := (va_up sc 0 (((0 : Nat) : Int)))) hM_16 rfl
    refine r_stk (st2 := [.int (iI ((sN S - 1 : Nat) : Int)), .ref (ad 0)]) rfl ?_
    refine r_callV (cells1 := 0) (slots1 := 0) X hR (c_X4_ends G ad (va_up sc 0 (((0 : Nat) : Int))) (va_up (va_up ar 6 (ar 5)) 5 v2_12) hA0 S hs hn hch h8 HR hV (show rg ((0 : Nat) : Int) by decide) ((sN S - 1 : Nat) : Int) ) q2159 q2161 qs60 q100 q2162 ⟨rfl, pd_X4_ends⟩ (by decide) rfl rfl (by decide) (by decide) hM_33.1 rfl rfl (Nat.le_of_ble_eq_true rfl) hl.1 dX4_remove_10 (hB.of hS (fp_ma.base hA0)) hM_33 hS (fun _ h => Or.inl h) (fun v H locs hp_34 hzC hkC hS => ?_)
    rcases hp_34 with ⟨rfl, hM_36, hth_35⟩ | ⟨pa_37, rfl, hM_40, hth_38, HR2_39⟩
    · skip
      exact absurd rfl (show ((0 : Nat) : Int) ≠ 0 from hth_35)
    · skip
      have hM_41 := fp_ME.nrm (sc2 := (va_up (va_up sc 0 (((0 : Nat) : Int))) 1 (((fp_hn hn : Nat) : Int)))) hM_40 rfl
      refine r_stk (st2 := [.int (iI (((sN S - 1 : Nat) : Int)))]) rfl ?_
      refine r_iret hx hb hr hlk hQ hS (Nat.le_of_ble_eq_true rfl) (Nat.le_of_ble_eq_true rfl) dX4_remove_13 ?_
      exact Or.inr (Or.inr (⟨(va_up (va_up (va_up ar 6 (ar 5)) 5 v2_12) 9 pa_37), rfl, (hM_41.nrm rfl), (by rw [hkf_13.2]; exact hV2_15), HR2_39, (fun k hk h5 h9 => by simp [fp_scr] at hk; simp_all [va_up]), (by rw [hkf_13.2]; exact hkf_13.1), (by rw [hkf_13.2]; exact hu_14)⟩))
set_option maxHeartbeats 4000000 in
theorem c_X4_setZone (G : fp_G) (ad : Nat → Nat) (sc : Nat → Int) (ar : Nat → Nat → Int) (S : PS) (hA0 : fp_MA G ad) (hV : fp_VR S (ar 5)) (hs : Nat → PS) (hn : Nat) (hch : sc 1 = ((hn : Nat) : Int)) (h8 : hn ≤ 8) (HR : fp_HR hs hn (ar 9)) (col : Int) (zl : Int) (hcol : rg col) (hzl : rg zl) : fp_M G yX4_setZone cX4_setZone 4 (some .char) 4 77 0 0 [.ref (ad 0), .int (iI (col)), .int (iI (zl))] (fp_ME G ad sc ar) (fp_ma ad) (fun _ v H => (∃ (ar2 : Nat → Nat → Int), v = some (.int (iI ((97 : Nat) : Int))) ∧ fp_ME G ad (va_up sc 0 (((1 : Nat) : Int))) ar2 H ∧ (fp_VR S (ar2 5)) ∧ (fp_sm0 ar ar2) ∧ (¬ (0 ≤ col ∧ col ≤ 11))) ∨ (∃ (ar2 : Nat → Nat → Int), v = some (.int (iI ((97 : Nat) : Int))) ∧ fp_ME G ad (va_up sc 0 (((2 : Nat) : Int))) ar2 H ∧ (fp_VR S (ar2 5)) ∧ (fp_sm0 ar ar2) ∧ (0 ≤ col ∧ col ≤ 11) ∧ (fp_zby zl < 0)) ∨ (∃ (c : Nat), ∃ (ar2 : Nat → Nat → Int), v = some (.int (iI ((fp_zlet (sZ S c) : Nat) : Int))) ∧ fp_ME G ad (va_up (va_up sc 0 (((0 : Nat) : Int))) 1 (((fp_hn hn : Nat) : Int))) ar2 H ∧ (fp_VR (fp_setz S c (fp_zby zl).toNat) (ar2 5)) ∧ (fp_HR (fp_hpush hs hn S) (fp_hn hn) (ar2 9)) ∧ (fp_sm1 ar ar2) ∧ (col = (c : Int) ∧ c < 12) ∧ (0 ≤ fp_zby zl))) := by
  refine fp_M.intro (by decide) (Nat.le_of_ble_eq_true rfl) ?_
  intro pg en s mi ag bl mt cd rR qQ ls X hx hb hr hlk hnm hR hQ hB hM hl
  have hS : va_S (fA (fp_ma ad) s.heap.size) s.heap s.heap [] := va_S.rf
  generalize ([] : List Loc) = locs at hS ⊢
  have hN24 := hV.1.1
  refine lv_aload_n hx hb dX4_setZone_0 rfl (lv_at hl 0 rfl) ?_
  refine r_callV (cells1 := 0) (slots1 := 0) X hR (c_X4_begins G ad sc ar hA0  ) q2087 q2089 qs45 q100 q2090 ⟨rfl, pd_X4_begins⟩ (by decide) rfl rfl (by decide) (by decide) hM.1 rfl rfl (Nat.le_of_ble_eq_true rfl) hl.1 dX4_setZone_1 (hB.of hS (fp_ma.base hA0)) hM hS (fun _ h => Or.inl h) (fun v H locs hp_1 hzC hkC hS => ?_)
  obtain ⟨rfl, hM_2⟩ := hp_1
  have hM_3 := fp_ME.nrm (sc2 := (va_up sc 0 (((0 : Nat) : Int)))) hM_2 rfl
  refine r_stk (st2 := []) rfl ?_
  refine lv_aload_n hx hb dX4_setZone_4 rfl (lv_at hl 0 rfl) ?_
  refine lv_aload_n hx hb dX4_setZone_5 rfl (lv_at hl 0 rfl) ?_
  refine lv_iload_n hx hb dX4_setZone_6 rfl (lv_at hl 1 rfl) ?_
  refine lv_iload_n hx hb dX4_setZone_7 rfl (lv_at hl 2 rfl) ?_
  refine r_callV (cells1 := 0) (slots1 := 0) X hR (c_X4_zones G ad (va_up sc 0 (((0 : Nat) : Int))) (va_up ar 6 (ar 5)) S hA0 hV (col) (zl) (by omega) (by omega)) q2191 q2193 qs64 q100 q2194 ⟨rfl, pd_X4_zones⟩ (by decide) rfl rfl (by decide) (by decide) hM_3.1 rfl rfl (Nat.le_of_ble_eq_true rfl) hl.1 dX4_setZone_8 (hB.of hS (fp_ma.base hA0)) hM_3 hS (fun _ h => Or.inl h) (fun v H locs hp_4 hzC hkC hS => ?_)
  rcases hp_4 with ⟨rfl, hM_6, hc_5⟩ | ⟨rfl, hM_9, hc_7, hz_8⟩ | ⟨c_10, v2_11, rfl, hM_15, hcc_12, hz_13, hV2_14⟩
  · skip
    have hM_16 := fp_ME.nrm (sc2 := (va_up sc 0 (((1 : Nat) : Int)))) hM_6 rfl
    refine r_stk (st2 := [.int (iI ((0 : Nat) : Int)), .ref (ad 0)]) rfl ?_
    refine r_callV (cells1 := 0) (slots1 := 0) X hR (c_X4_ends G ad (va_up sc 0 (((1 : Nat) : Int))) (va_up ar 6 (ar 5)) hA0 S hs hn hch h8 HR hV (show rg ((1 : Nat) : Int) by decide) 0 ) q2159 q2161 qs60 q100 q2162 ⟨rfl, pd_X4_ends⟩ (by decide) rfl rfl (by decide) (by decide) hM_16.1 rfl rfl (Nat.le_of_ble_eq_true rfl) hl.1 dX4_setZone_11 (hB.of hS (fp_ma.base hA0)) hM_16 hS (fun _ h => Or.inl h) (fun v H locs hp_17 hzC hkC hS => ?_)
    rcases hp_17 with ⟨rfl, hM_19, hth_18⟩ | ⟨pa_20, rfl, hM_23, hth_21, HR2_22⟩
    · skip
      refine r_stk (st2 := [.int (iI ((0 : Nat) : Int))]) rfl ?_
      refine lv_istore_n (lv' := [(3, .int (iI ((0 : Nat) : Int))), (0, .ref (ad 0)), (1, .int (iI (col))), (2, .int (iI (zl)))]) hx hb dX4_setZone_14 rfl hl (by decide) rfl (fun ls hl => ?_)
      refine lv_aload_n hx hb dX4_setZone_15 rfl (lv_at hl 1 rfl) ?_
      refine r_get X hM_19.1 rfl in_X4 0 (by decide) q2009 (Or.inl rfl) (v := .int (iI ((1 : Nat) : Int))) rfl dX4_setZone_16 ?_
      refine r_if_ne (tgt := 27) hx hb (by decide) dX4_setZone_19 (by decide) (fun c19 => ?_) (fun c19 => ?_)
      · skip
        refine lv_bipush (v := (iI ((97 : Nat) : Int))) hx hb dX4_setZone_27 rfl ?_
        refine r_zret hx hb hr hlk hQ hS (Nat.le_of_ble_eq_true rfl) (Nat.le_of_ble_eq_true rfl) dX4_setZone_29 (iI_char ⟨by omega, by omega⟩) ?_
        exact Or.inl ⟨(va_up (va_up ar 6 (ar 5)) 5 ((va_up ar 6 (ar 5)) 6)), rfl, hM_19, hV, (fun k hk => by simp [fp_scr] at hk; by_cases e5 : k = 5 <;> simp_all [va_up]), hc_5⟩
      · exact absurd c19 (by omega)
    · skip
      exact absurd (show ((1 : Nat) : Int) = 0 from hth_21) (by decide)
  · skip
    have hM_24 := fp_ME.nrm (sc2 := (va_up sc 0 (((2 : Nat) : Int)))) hM_9 rfl
    refine r_stk (st2 := [.int (iI ((0 : Nat) : Int)), .ref (ad 0)]) rfl ?_
    refine r_callV (cells1 := 0) (slots1 := 0) X hR (c_X4_ends G ad (va_up sc 0 (((2 : Nat) : Int))) (va_up ar 6 (ar 5)) hA0 S hs hn hch h8 HR hV (show rg ((2 : Nat) : Int) by decide) 0 ) q2159 q2161 qs60 q100 q2162 ⟨rfl, pd_X4_ends⟩ (by decide) rfl rfl (by decide) (by decide) hM_24.1 rfl rfl (Nat.le_of_ble_eq_true rfl) hl.1 dX4_setZone_11 (hB.of hS (fp_ma.base hA0)) hM_24 hS (fun _ h => Or.inl h) (fun v H locs hp_25 hzC hkC hS => ?_)
    rcases hp_25 with ⟨rfl, hM_27, hth_26⟩ | ⟨pa_28, rfl, hM_31, hth_29, HR2_30⟩
    · skip
      refine r_stk (st2 := [.int (iI ((0 : Nat) : Int))]) rfl ?_
      refine lv_istore_n (lv' := [(3, .int (iI ((0 : Nat) : Int))), (0, .ref (ad 0)), (1, .int (iI (col))), (2, .int (iI (zl)))]) hx hb dX4_setZone_14 rfl hl (by decide) rfl (fun ls hl => ?_)
      refine lv_aload_n hx hb dX4_setZone_15 rfl (lv_at hl 1 rfl) ?_
      refine r_get X hM_27.1 rfl in_X4 0 (by decide) q2009 (Or.inl rfl) (v := .int (iI ((2 : Nat) : Int))) rfl dX4_setZone_16 ?_
      refine r_if_ne (tgt := 27) hx hb (by decide) dX4_setZone_19 (by decide) (fun c19 => ?_) (fun c19 => ?_)
      · skip
        refine lv_bipush (v := (iI ((97 : Nat) : Int))) hx hb dX4_setZone_27 rfl ?_
        refine r_zret hx hb hr hlk hQ hS (Nat.le_of_ble_eq_true rfl) (Nat.le_of_ble_eq_true rfl) dX4_setZone_29 (iI_char ⟨by omega, by omega⟩) ?_
        exact Or.inr (Or.inl ⟨(va_up (va_up ar 6 (ar 5)) 5 ((va_up ar 6 (ar 5)) 6)), rfl, hM_27, hV, (fun k hk => by simp [fp_scr] at hk; by_cases e5 : k = 5 <;> simp_all [va_up]), hc_7, hz_8⟩)
      · exact absurd c19 (by omega)
    · skip
      exact absurd (show ((2 : Nat) : Int) = 0 from hth_29) (by decide)
  · skip
    refine r_stk (st2 := [.int (iI ((fp_zlet (sZ S c_10) : Nat) : Int)), .ref (ad 0)]) rfl ?_
    refine r_callV (cells1 := 0) (slots1 := 0) X hR (c_X4_ends G ad (va_up sc 0 (((0 : Nat) : Int))) (va_up (va_up ar 6 (ar 5)) 5 v2_11) hA0 S hs hn hch h8 HR hV (show rg ((0 : Nat) : Int) by decide) ((fp_zlet (sZ S c_10) : Nat) : Int) ) q2159 q2161 qs60 q100 q2162 ⟨rfl, pd_X4_ends⟩ (by decide) rfl rfl (by decide) (by decide) hM_15.1 rfl rfl (Nat.le_of_ble_eq_true rfl) hl.1 dX4_setZone_11 (hB.of hS (fp_ma.base hA0)) hM_15 hS (fun _ h => Or.inl h) (fun v H locs hp_32 hzC hkC hS => ?_)
    rcases hp_32 with ⟨rfl, hM_34, hth_33⟩ | ⟨pa_35, rfl, hM_38, hth_36, HR2_37⟩
    · skip
      exact absurd rfl (show ((0 : Nat) : Int) ≠ 0 from hth_33)
    · skip
      have hM_39 := fp_ME.nrm (sc2 := (va_up (va_up sc 0 (((0 : Nat) : Int))) 1 (((fp_hn hn : Nat) : Int)))) hM_38 rfl
      refine r_stk (st2 := [.int (iI (((fp_zlet (sZ S c_10) : Nat) : Int)))]) rfl ?_
      refine lv_istore_n (lv' := [(3, .int (iI (((fp_zlet (sZ S c_10) : Nat) : Int)))), (0, .ref (ad 0)), (1, .int (iI (col))), (2, .int (iI (zl)))]) hx hb dX4_setZone_14 rfl hl (by decide) rfl (fun ls hl => ?_)
      refine lv_aload_n hx hb dX4_setZone_15 rfl (lv_at hl 1 rfl) ?_
      refine r_get X hM_39.1 rfl in_X4 0 (by decide) q2009 (Or.inl rfl) (v := .int (iI ((0 : Nat) : Int))) rfl dX4_setZone_16 ?_
      refine r_if_ne (tgt := 27) hx hb (by decide) dX4_setZone_19 (by decide) (fun c19 => ?_) (fun c19 => ?_)
      · exact absurd c19 (by omega)
      · skip
        have hlb := fp_zlet_b (sZ S c_10)
        refine lv_iload_n hx hb dX4_setZone_22 rfl (lv_at hl 0 rfl) ?_
        refine lv_i2c (v := (iI (((fp_zlet (sZ S c_10) : Nat) : Int)))) hx hb dX4_setZone_23 (iI_i2c ⟨by omega, by omega⟩) ?_
        refine lv_goto (tgt := 29) hx hb dX4_setZone_24 (by decide) ?_
        refine r_zret hx hb hr hlk hQ hS (Nat.le_of_ble_eq_true rfl) (Nat.le_of_ble_eq_true rfl) dX4_setZone_29 (iI_char ⟨by omega, by omega⟩) ?_
        exact Or.inr (Or.inr (⟨c_10, (va_up (va_up (va_up ar 6 (ar 5)) 5 v2_11) 9 pa_35), rfl, (hM_39.nrm rfl), hV2_14, HR2_37, (fun k hk h5 h9 => by simp [fp_scr] at hk; simp_all [va_up]), hcc_12, hz_13⟩))
set_option maxHeartbeats 4000000 in
theorem c_X4_addTorch (G : fp_G) (ad : Nat → Nat) (sc : Nat → Int) (ar : Nat → Nat → Int) (S : PS) (hA0 : fp_MA G ad) (hV : fp_VR S (ar 5)) (hs : Nat → PS) (hn : Nat) (hch : sc 1 = ((hn : Nat) : Int)) (h8 : hn ≤ 8) (HR : fp_HR hs hn (ar 9)) (col : Int) (hcol : rg col) : fp_M G yX4_addTorch cX4_addTorch 2 (some .int) 4 76 0 0 [.ref (ad 0), .int (iI (col))] (fp_ME G ad sc ar) (fp_ma ad) (fun _ v H => (∃ (ar2 : Nat → Nat → Int), v = some (.int (iI ((0 : Nat) : Int))) ∧ fp_ME G ad (va_up sc 0 (((1 : Nat) : Int))) ar2 H ∧ (fp_VR S (ar2 5)) ∧ (fp_sm0 ar ar2) ∧ (¬ (0 ≤ col ∧ col ≤ 11))) ∨ (∃ (c : Nat), ∃ (ar2 : Nat → Nat → Int), v = some (.int (iI ((0 : Nat) : Int))) ∧ fp_ME G ad (va_up sc 0 (((2 : Nat) : Int))) ar2 H ∧ (fp_VR S (ar2 5)) ∧ (fp_sm0 ar ar2) ∧ (col = (c : Int) ∧ c < 12) ∧ (sT S c = 1)) ∨ (∃ (c : Nat), ∃ (ar2 : Nat → Nat → Int), v = some (.int (iI ((fp_tor (fp_sett S c 1) : Nat) : Int))) ∧ fp_ME G ad (va_up (va_up sc 0 (((0 : Nat) : Int))) 1 (((fp_hn hn : Nat) : Int))) ar2 H ∧ (fp_VR (fp_sett S c 1) (ar2 5)) ∧ (fp_HR (fp_hpush hs hn S) (fp_hn hn) (ar2 9)) ∧ (fp_sm1 ar ar2) ∧ (col = (c : Int) ∧ c < 12) ∧ (sT S c ≠ 1))) := by
  refine fp_M.intro (by decide) (Nat.le_of_ble_eq_true rfl) ?_
  intro pg en s mi ag bl mt cd rR qQ ls X hx hb hr hlk hnm hR hQ hB hM hl
  have hS : va_S (fA (fp_ma ad) s.heap.size) s.heap s.heap [] := va_S.rf
  generalize ([] : List Loc) = locs at hS ⊢
  have hN24 := hV.1.1
  refine lv_aload_n hx hb dX4_addTorch_0 rfl (lv_at hl 0 rfl) ?_
  refine r_callV (cells1 := 0) (slots1 := 0) X hR (c_X4_begins G ad sc ar hA0  ) q2087 q2089 qs45 q100 q2090 ⟨rfl, pd_X4_begins⟩ (by decide) rfl rfl (by decide) (by decide) hM.1 rfl rfl (Nat.le_of_ble_eq_true rfl) hl.1 dX4_addTorch_1 (hB.of hS (fp_ma.base hA0)) hM hS (fun _ h => Or.inl h) (fun v H locs hp_1 hzC hkC hS => ?_)
  obtain ⟨rfl, hM_2⟩ := hp_1
  have hM_3 := fp_ME.nrm (sc2 := (va_up sc 0 (((0 : Nat) : Int)))) hM_2 rfl
  refine r_stk (st2 := []) rfl ?_
  refine lv_aload_n hx hb dX4_addTorch_4 rfl (lv_at hl 0 rfl) ?_
  refine lv_aload_n hx hb dX4_addTorch_5 rfl (lv_at hl 0 rfl) ?_
  refine lv_iload_n hx hb dX4_addTorch_6 rfl (lv_at hl 1 rfl) ?_
  refine lv_iconst (v := (iI ((1 : Nat) : Int))) hx hb dX4_addTorch_7 rfl ?_
  refine r_callV (cells1 := 0) (slots1 := 0) X hR (c_X4_lights G ad (va_up sc 0 (((0 : Nat) : Int))) (va_up ar 6 (ar 5)) S hA0 hV (col) 1 (by omega) (by decide)) q2205 q2207 qs65 q100 q2208 ⟨rfl, pd_X4_lights⟩ (by decide) rfl rfl (by decide) (by decide) hM_3.1 rfl rfl (Nat.le_of_ble_eq_true rfl) hl.1 dX4_addTorch_8 (hB.of hS (fp_ma.base hA0)) hM_3 hS (fun _ h => Or.inl h) (fun v H locs hp_4 hzC hkC hS => ?_)
  rcases hp_4 with ⟨rfl, hM_6, hc_5⟩ | ⟨c_7, rfl, hM_10, hcc_8, ht_9⟩ | ⟨c_11, v2_12, rfl, hM_16, hcc_13, ht_14, hV2_15⟩
  · skip
    have hM_17 := fp_ME.nrm (sc2 := (va_up sc 0 (((1 : Nat) : Int)))) hM_6 rfl
    refine r_stk (st2 := [.int (iI ((0 : Nat) : Int)), .ref (ad 0)]) rfl ?_
    refine r_callV (cells1 := 0) (slots1 := 0) X hR (c_X4_ends G ad (va_up sc 0 (((1 : Nat) : Int))) (va_up ar 6 (ar 5)) hA0 S hs hn hch h8 HR hV (show rg ((1 : Nat) : Int) by decide) 0 ) q2159 q2161 qs60 q100 q2162 ⟨rfl, pd_X4_ends⟩ (by decide) rfl rfl (by decide) (by decide) hM_17.1 rfl rfl (Nat.le_of_ble_eq_true rfl) hl.1 dX4_addTorch_11 (hB.of hS (fp_ma.base hA0)) hM_17 hS (fun _ h => Or.inl h) (fun v H locs hp_18 hzC hkC hS => ?_)
    rcases hp_18 with ⟨rfl, hM_20, hth_19⟩ | ⟨pa_21, rfl, hM_24, hth_22, HR2_23⟩
    · skip
      refine r_stk (st2 := [.int (iI ((0 : Nat) : Int))]) rfl ?_
      refine r_iret hx hb hr hlk hQ hS (Nat.le_of_ble_eq_true rfl) (Nat.le_of_ble_eq_true rfl) dX4_addTorch_14 ?_
      exact Or.inl ⟨(va_up (va_up ar 6 (ar 5)) 5 ((va_up ar 6 (ar 5)) 6)), rfl, hM_20, hV, (fun k hk => by simp [fp_scr] at hk; by_cases e5 : k = 5 <;> simp_all [va_up]), hc_5⟩
    · skip
      exact absurd (show ((1 : Nat) : Int) = 0 from hth_22) (by decide)
  · skip
    have hM_25 := fp_ME.nrm (sc2 := (va_up sc 0 (((2 : Nat) : Int)))) hM_10 rfl
    refine r_stk (st2 := [.int (iI ((0 : Nat) : Int)), .ref (ad 0)]) rfl ?_
    refine r_callV (cells1 := 0) (slots1 := 0) X hR (c_X4_ends G ad (va_up sc 0 (((2 : Nat) : Int))) (va_up ar 6 (ar 5)) hA0 S hs hn hch h8 HR hV (show rg ((2 : Nat) : Int) by decide) 0 ) q2159 q2161 qs60 q100 q2162 ⟨rfl, pd_X4_ends⟩ (by decide) rfl rfl (by decide) (by decide) hM_25.1 rfl rfl (Nat.le_of_ble_eq_true rfl) hl.1 dX4_addTorch_11 (hB.of hS (fp_ma.base hA0)) hM_25 hS (fun _ h => Or.inl h) (fun v H locs hp_26 hzC hkC hS => ?_)
    rcases hp_26 with ⟨rfl, hM_28, hth_27⟩ | ⟨pa_29, rfl, hM_32, hth_30, HR2_31⟩
    · skip
      refine r_stk (st2 := [.int (iI ((0 : Nat) : Int))]) rfl ?_
      refine r_iret hx hb hr hlk hQ hS (Nat.le_of_ble_eq_true rfl) (Nat.le_of_ble_eq_true rfl) dX4_addTorch_14 ?_
      exact Or.inr (Or.inl ⟨c_7, (va_up (va_up ar 6 (ar 5)) 5 ((va_up ar 6 (ar 5)) 6)), rfl, hM_28, hV, (fun k hk => by simp [fp_scr] at hk; by_cases e5 : k = 5 <;> simp_all [va_up]), hcc_8, ht_9⟩)
    · skip
      exact absurd (show ((2 : Nat) : Int) = 0 from hth_30) (by decide)
  · skip
    refine r_stk (st2 := [.int (iI ((fp_tor (fp_sett S c_11 1) : Nat) : Int)), .ref (ad 0)]) rfl ?_
    refine r_callV (cells1 := 0) (slots1 := 0) X hR (c_X4_ends G ad (va_up sc 0 (((0 : Nat) : Int))) (va_up (va_up ar 6 (ar 5)) 5 v2_12) hA0 S hs hn hch h8 HR hV (show rg ((0 : Nat) : Int) by decide) ((fp_tor (fp_sett S c_11 1) : Nat) : Int) ) q2159 q2161 qs60 q100 q2162 ⟨rfl, pd_X4_ends⟩ (by decide) rfl rfl (by decide) (by decide) hM_16.1 rfl rfl (Nat.le_of_ble_eq_true rfl) hl.1 dX4_addTorch_11 (hB.of hS (fp_ma.base hA0)) hM_16 hS (fun _ h => Or.inl h) (fun v H locs hp_33 hzC hkC hS => ?_)
    rcases hp_33 with ⟨rfl, hM_35, hth_34⟩ | ⟨pa_36, rfl, hM_39, hth_37, HR2_38⟩
    · skip
      exact absurd rfl (show ((0 : Nat) : Int) ≠ 0 from hth_34)
    · skip
      have hM_40 := fp_ME.nrm (sc2 := (va_up (va_up sc 0 (((0 : Nat) : Int))) 1 (((fp_hn hn : Nat) : Int)))) hM_39 rfl
      refine r_stk (st2 := [.int (iI (((fp_tor (fp_sett S c_11 1) : Nat) : Int)))]) rfl ?_
      refine r_iret hx hb hr hlk hQ hS (Nat.le_of_ble_eq_true rfl) (Nat.le_of_ble_eq_true rfl) dX4_addTorch_14 ?_
      exact Or.inr (Or.inr (⟨c_11, (va_up (va_up (va_up ar 6 (ar 5)) 5 v2_12) 9 pa_36), rfl, (hM_40.nrm rfl), hV2_15, HR2_38, (fun k hk h5 h9 => by simp [fp_scr] at hk; simp_all [va_up]), hcc_13, ht_14⟩))
set_option maxHeartbeats 4000000 in
theorem c_X4_removeTorch (G : fp_G) (ad : Nat → Nat) (sc : Nat → Int) (ar : Nat → Nat → Int) (S : PS) (hA0 : fp_MA G ad) (hV : fp_VR S (ar 5)) (hs : Nat → PS) (hn : Nat) (hch : sc 1 = ((hn : Nat) : Int)) (h8 : hn ≤ 8) (HR : fp_HR hs hn (ar 9)) (col : Int) (hcol : rg col) : fp_M G yX4_removeTorch cX4_removeTorch 2 (some .int) 4 76 0 0 [.ref (ad 0), .int (iI (col))] (fp_ME G ad sc ar) (fp_ma ad) (fun _ v H => (∃ (ar2 : Nat → Nat → Int), v = some (.int (iI ((0 : Nat) : Int))) ∧ fp_ME G ad (va_up sc 0 (((1 : Nat) : Int))) ar2 H ∧ (fp_VR S (ar2 5)) ∧ (fp_sm0 ar ar2) ∧ (¬ (0 ≤ col ∧ col ≤ 11))) ∨ (∃ (c : Nat), ∃ (ar2 : Nat → Nat → Int), v = some (.int (iI ((0 : Nat) : Int))) ∧ fp_ME G ad (va_up sc 0 (((2 : Nat) : Int))) ar2 H ∧ (fp_VR S (ar2 5)) ∧ (fp_sm0 ar ar2) ∧ (col = (c : Int) ∧ c < 12) ∧ (sT S c = 0)) ∨ (∃ (c : Nat), ∃ (ar2 : Nat → Nat → Int), v = some (.int (iI ((fp_tor (fp_sett S c 0) : Nat) : Int))) ∧ fp_ME G ad (va_up (va_up sc 0 (((0 : Nat) : Int))) 1 (((fp_hn hn : Nat) : Int))) ar2 H ∧ (fp_VR (fp_sett S c 0) (ar2 5)) ∧ (fp_HR (fp_hpush hs hn S) (fp_hn hn) (ar2 9)) ∧ (fp_sm1 ar ar2) ∧ (col = (c : Int) ∧ c < 12) ∧ (sT S c ≠ 0))) := by
  refine fp_M.intro (by decide) (Nat.le_of_ble_eq_true rfl) ?_
  intro pg en s mi ag bl mt cd rR qQ ls X hx hb hr hlk hnm hR hQ hB hM hl
  have hS : va_S (fA (fp_ma ad) s.heap.size) s.heap s.heap [] := va_S.rf
  generalize ([] : List Loc) = locs at hS ⊢
  have hN24 := hV.1.1
  refine lv_aload_n hx hb dX4_removeTorch_0 rfl (lv_at hl 0 rfl) ?_
  refine r_callV (cells1 := 0) (slots1 := 0) X hR (c_X4_begins G ad sc ar hA0  ) q2087 q2089 qs45 q100 q2090 ⟨rfl, pd_X4_begins⟩ (by decide) rfl rfl (by decide) (by decide) hM.1 rfl rfl (Nat.le_of_ble_eq_true rfl) hl.1 dX4_removeTorch_1 (hB.of hS (fp_ma.base hA0)) hM hS (fun _ h => Or.inl h) (fun v H locs hp_1 hzC hkC hS => ?_)
  obtain ⟨rfl, hM_2⟩ := hp_1
  have hM_3 := fp_ME.nrm (sc2 := (va_up sc 0 (((0 : Nat) : Int)))) hM_2 rfl
  refine r_stk (st2 := []) rfl ?_
  refine lv_aload_n hx hb dX4_removeTorch_4 rfl (lv_at hl 0 rfl) ?_
  refine lv_aload_n hx hb dX4_removeTorch_5 rfl (lv_at hl 0 rfl) ?_
  refine lv_iload_n hx hb dX4_removeTorch_6 rfl (lv_at hl 1 rfl) ?_
  refine lv_iconst (v := (iI ((0 : Nat) : Int))) hx hb dX4_removeTorch_7 rfl ?_
  refine r_callV (cells1 := 0) (slots1 := 0) X hR (c_X4_lights G ad (va_up sc 0 (((0 : Nat) : Int))) (va_up ar 6 (ar 5)) S hA0 hV (col) 0 (by omega) (by decide)) q2205 q2207 qs65 q100 q2208 ⟨rfl, pd_X4_lights⟩ (by decide) rfl rfl (by decide) (by decide) hM_3.1 rfl rfl (Nat.le_of_ble_eq_true rfl) hl.1 dX4_removeTorch_8 (hB.of hS (fp_ma.base hA0)) hM_3 hS (fun _ h => Or.inl h) (fun v H locs hp_4 hzC hkC hS => ?_)
  rcases hp_4 with ⟨rfl, hM_6, hc_5⟩ | ⟨c_7, rfl, hM_10, hcc_8, ht_9⟩ | ⟨c_11, v2_12, rfl, hM_16, hcc_13, ht_14, hV2_15⟩
  · skip
    have hM_17 := fp_ME.nrm (sc2 := (va_up sc 0 (((1 : Nat) : Int)))) hM_6 rfl
    refine r_stk (st2 := [.int (iI ((0 : Nat) : Int)), .ref (ad 0)]) rfl ?_
    refine r_callV (cells1 := 0) (slots1 := 0) X hR (c_X4_ends G ad (va_up sc 0 (((1 : Nat) : Int))) (va_up ar 6 (ar 5)) hA0 S hs hn hch h8 HR hV (show rg ((1 : Nat) : Int) by decide) 0 ) q2159 q2161 qs60 q100 q2162 ⟨rfl, pd_X4_ends⟩ (by decide) rfl rfl (by decide) (by decide) hM_17.1 rfl rfl (Nat.le_of_ble_eq_true rfl) hl.1 dX4_removeTorch_11 (hB.of hS (fp_ma.base hA0)) hM_17 hS (fun _ h => Or.inl h) (fun v H locs hp_18 hzC hkC hS => ?_)
    rcases hp_18 with ⟨rfl, hM_20, hth_19⟩ | ⟨pa_21, rfl, hM_24, hth_22, HR2_23⟩
    · skip
      refine r_stk (st2 := [.int (iI ((0 : Nat) : Int))]) rfl ?_
      refine r_iret hx hb hr hlk hQ hS (Nat.le_of_ble_eq_true rfl) (Nat.le_of_ble_eq_true rfl) dX4_removeTorch_14 ?_
      exact Or.inl ⟨(va_up (va_up ar 6 (ar 5)) 5 ((va_up ar 6 (ar 5)) 6)), rfl, hM_20, hV, (fun k hk => by simp [fp_scr] at hk; by_cases e5 : k = 5 <;> simp_all [va_up]), hc_5⟩
    · skip
      exact absurd (show ((1 : Nat) : Int) = 0 from hth_22) (by decide)
  · skip
    have hM_25 := fp_ME.nrm (sc2 := (va_up sc 0 (((2 : Nat) : Int)))) hM_10 rfl
    refine r_stk (st2 := [.int (iI ((0 : Nat) : Int)), .ref (ad 0)]) rfl ?_
    refine r_callV (cells1 := 0) (slots1 := 0) X hR (c_X4_ends G ad (va_up sc 0 (((2 : Nat) : Int))) (va_up ar 6 (ar 5)) hA0 S hs hn hch h8 HR hV (show rg ((2 : Nat) : Int) by decide) 0 ) q2159 q2161 qs60 q100 q2162 ⟨rfl, pd_X4_ends⟩ (by decide) rfl rfl (by decide) (by decide) hM_25.1 rfl rfl (Nat.le_of_ble_eq_true rfl) hl.1 dX4_removeTorch_11 (hB.of hS (fp_ma.base hA0)) hM_25 hS (fun _ h => Or.inl h) (fun v H locs hp_26 hzC hkC hS => ?_)
    rcases hp_26 with ⟨rfl, hM_28, hth_27⟩ | ⟨pa_29, rfl, hM_32, hth_30, HR2_31⟩
    · skip
      refine r_stk (st2 := [.int (iI ((0 : Nat) : Int))]) rfl ?_
      refine r_iret hx hb hr hlk hQ hS (Nat.le_of_ble_eq_true rfl) (Nat.le_of_ble_eq_true rfl) dX4_removeTorch_14 ?_
      exact Or.inr (Or.inl ⟨c_7, (va_up (va_up ar 6 (ar 5)) 5 ((va_up ar 6 (ar 5)) 6)), rfl, hM_28, hV, (fun k hk => by simp [fp_scr] at hk; by_cases e5 : k = 5 <;> simp_all [va_up]), hcc_8, ht_9⟩)
    · skip
      exact absurd (show ((2 : Nat) : Int) = 0 from hth_30) (by decide)
  · skip
    refine r_stk (st2 := [.int (iI ((fp_tor (fp_sett S c_11 0) : Nat) : Int)), .ref (ad 0)]) rfl ?_
    refine r_callV (cells1 := 0) (slots1 := 0) X hR (c_X4_ends G ad (va_up sc 0 (((0 : Nat) : Int))) (va_up (va_up ar 6 (ar 5)) 5 v2_12) hA0 S hs hn hch h8 HR hV (show rg ((0 : Nat) : Int) by decide) ((fp_tor (fp_sett S c_11 0) : Nat) : Int) ) q2159 q2161 qs60 q100 q2162 ⟨rfl, pd_X4_ends⟩ (by decide) rfl rfl (by decide) (by decide) hM_16.1 rfl rfl (Nat.le_of_ble_eq_true rfl) hl.1 dX4_removeTorch_11 (hB.of hS (fp_ma.base hA0)) hM_16 hS (fun _ h => Or.inl h) (fun v H locs hp_33 hzC hkC hS => ?_)
    rcases hp_33 with ⟨rfl, hM_35, hth_34⟩ | ⟨pa_36, rfl, hM_39, hth_37, HR2_38⟩
    · skip
      exact absurd rfl (show ((0 : Nat) : Int) ≠ 0 from hth_34)
    · skip
      have hM_40 := fp_ME.nrm (sc2 := (va_up (va_up sc 0 (((0 : Nat) : Int))) 1 (((fp_hn hn : Nat) : Int)))) hM_39 rfl
      refine r_stk (st2 := [.int (iI (((fp_tor (fp_sett S c_11 0) : Nat) : Int)))]) rfl ?_
      refine r_iret hx hb hr hlk hQ hS (Nat.le_of_ble_eq_true rfl) (Nat.le_of_ble_eq_true rfl) dX4_removeTorch_14 ?_
      exact Or.inr (Or.inr (⟨c_11, (va_up (va_up (va_up ar 6 (ar 5)) 5 v2_12) 9 pa_36), rfl, (hM_40.nrm rfl), hV2_15, HR2_38, (fun k hk h5 h9 => by simp [fp_scr] at hk; simp_all [va_up]), hcc_13, ht_14⟩))
