/-! THE MODEL: commands -/
set_option maxHeartbeats 4000000 in
theorem c_X4_does (G : fp_G) (ad : Nat → Nat) (sc : Nat → Int) (ar : Nat → Nat → Int) (S : PS) (hA0 : fp_MA G ad) (hV : fp_VR S (ar 5)) (hth : sc 0 = 0) (w : Nat) (one : Int) (two : Int) (three : Int) (hw7 : w < 7) (hr1 : rg one) (hr2 : rg two) (hr3 : rg three) (hsp : sP S < 999) (h30 : ∀ k, k < sN S → fp_top (sB S k) ≤ 30) : fp_M G yX4_does cX4_does 5 (some .int) 9 196 0 0 [.ref (ad 0), .int (iI ((w : Nat) : Int)), .int (iI (one)), .int (iI (two)), .int (iI (three))] (fp_ME G ad sc ar) (fp_ma ad) (fun _ v H => (∃ (z : Int), ∃ (t : Nat), ∃ (v2 : Nat → Int), ∃ (f : Nat → Int), v = some (.int (iI (z))) ∧ fp_ME G ad (va_up sc 0 (((t : Nat) : Int))) (va_up (va_up ar 5 v2) 10 f) H ∧ ((fp_do S w one two three).1 = t) ∧ (t ≠ 0)) ∨ (∃ (z : Int), ∃ (v2 : Nat → Int), ∃ (f : Nat → Int), v = some (.int (iI (z))) ∧ fp_ME G ad (va_up sc 0 (((0 : Nat) : Int))) (va_up (va_up ar 5 v2) 10 f) H ∧ ((fp_do S w one two three).1 = 0) ∧ (fp_VR (fp_do S w one two three).2 v2))) := by
  refine fp_M.intro (by decide) (Nat.le_of_ble_eq_true rfl) ?_
  intro pg en s mi ag bl mt cd rR qQ ls X hx hb hr hlk hnm hR hQ hB hM hl
  have hS : va_S (fA (fp_ma ad) s.heap.size) s.heap s.heap [] := va_S.rf
  generalize ([] : List Loc) = locs at hS ⊢
  have hN24 := hV.1.1
  refine lv_iload_n hx hb dX4_does_0 rfl (lv_at hl 1 rfl) ?_
  rcases (show w = 0 ∨ w = 1 ∨ w = 2 ∨ w = 3 ∨ w = 4 ∨ w = 5 ∨ w = 6 by omega) with rfl | rfl | rfl | rfl | rfl | rfl | rfl
  · skip
    refine lv_tableIn (x := (iI ((0 : Nat) : Int))) (off := 39) (tgt := 40) hx hb dX4_does_1 (by decide) (by decide) rfl (by decide) ?_
    refine lv_aload_n hx hb dX4_does_40 rfl (lv_at hl 0 rfl) ?_
    refine lv_iload_n hx hb dX4_does_41 rfl (lv_at hl 1 rfl) ?_
    refine lv_iload_n hx hb dX4_does_42 rfl (lv_at hl 2 rfl) ?_
    refine lv_iload_n hx hb dX4_does_43 rfl (lv_at hl 3 rfl) ?_
    refine lv_iload hx hb dX4_does_44 (lv_at hl 4 rfl) ?_
    refine r_callV (cells1 := 0) (slots1 := 0) X hR (c_X4_places G ad sc ar S hA0 hV 0 (one) (two) (three) (by decide) hr1 hr2 hr3 hsp h30) q2094 q2096 qs46 q100 q2097 ⟨rfl, pd_X4_places⟩ (by decide) rfl rfl (by decide) (by decide) hM.1 rfl rfl (Nat.le_of_ble_eq_true rfl) hl.1 dX4_does_46 (hB.of hS (fp_ma.base hA0)) hM hS (fun _ h => Or.inl h) (fun v H locs hp_1 hzC hkC hS => ?_)
    rcases hp_1 with ⟨rfl, hM_3, hpc_2⟩ | ⟨v2_4, f_5, rfl, hM_7, hpc_6⟩ | ⟨v2_8, f_9, rfl, hM_12, hpc_10, hV2_11⟩
    · skip
      have hM_13 := fp_ME.nrm (sc2 := (va_up sc 0 (((1 : Nat) : Int)))) hM_3 rfl
      refine r_stk (st2 := [.int (iI ((0 : Nat) : Int))]) rfl ?_
      refine r_iret hx hb hr hlk hQ hS (Nat.le_of_ble_eq_true rfl) (Nat.le_of_ble_eq_true rfl) dX4_does_49 ?_
      exact Or.inl ⟨((0 : Nat) : Int), 1, (ar 5), (ar 10), rfl, ((fp_ME.st0 hM_13 5 (fun _ _ => rfl)).st0 10 (fun _ _ => rfl)), hpc_2, (by decide)⟩
    · skip
      have hM_14 := fp_ME.nrm (sc2 := (va_up sc 0 (((2 : Nat) : Int)))) hM_7 rfl
      refine r_stk (st2 := [.int (iI ((0 : Nat) : Int))]) rfl ?_
      refine r_iret hx hb hr hlk hQ hS (Nat.le_of_ble_eq_true rfl) (Nat.le_of_ble_eq_true rfl) dX4_does_49 ?_
      exact Or.inl ⟨((0 : Nat) : Int), 2, v2_4, f_5, rfl, hM_14, hpc_6, (by decide)⟩
    · skip
      refine r_stk (st2 := [.int (iI ((sP S : Nat) : Int))]) rfl ?_
      refine r_iret hx hb hr hlk hQ hS (Nat.le_of_ble_eq_true rfl) (Nat.le_of_ble_eq_true rfl) dX4_does_49 ?_
      exact Or.inr (⟨((sP S : Nat) : Int), v2_8, f_9, rfl, (fp_ME.upe hM_12 hth), hpc_10, hV2_11⟩)
  · skip
    refine lv_tableIn (x := (iI ((1 : Nat) : Int))) (off := 39) (tgt := 40) hx hb dX4_does_1 (by decide) (by decide) rfl (by decide) ?_
    refine lv_aload_n hx hb dX4_does_40 rfl (lv_at hl 0 rfl) ?_
    refine lv_iload_n hx hb dX4_does_41 rfl (lv_at hl 1 rfl) ?_
    refine lv_iload_n hx hb dX4_does_42 rfl (lv_at hl 2 rfl) ?_
    refine lv_iload_n hx hb dX4_does_43 rfl (lv_at hl 3 rfl) ?_
    refine lv_iload hx hb dX4_does_44 (lv_at hl 4 rfl) ?_
    refine r_callV (cells1 := 0) (slots1 := 0) X hR (c_X4_places G ad sc ar S hA0 hV 1 (one) (two) (three) (by decide) hr1 hr2 hr3 hsp h30) q2094 q2096 qs46 q100 q2097 ⟨rfl, pd_X4_places⟩ (by decide) rfl rfl (by decide) (by decide) hM.1 rfl rfl (Nat.le_of_ble_eq_true rfl) hl.1 dX4_does_46 (hB.of hS (fp_ma.base hA0)) hM hS (fun _ h => Or.inl h) (fun v H locs hp_15 hzC hkC hS => ?_)
    rcases hp_15 with ⟨rfl, hM_17, hpc_16⟩ | ⟨v2_18, f_19, rfl, hM_21, hpc_20⟩ | ⟨v2_22, f_23, rfl, hM_26, hpc_24, hV2_25⟩
    · skip
      have hM_27 := fp_ME.nrm (sc2 := (va_up sc 0 (((1 : Nat) : Int)))) hM_17 rfl
      refine r_stk (st2 := [.int (iI ((0 : Nat) : Int))]) rfl ?_
      refine r_iret hx hb hr hlk hQ hS (Nat.le_of_ble_eq_true rfl) (Nat.le_of_ble_eq_true rfl) dX4_does_49 ?_
      exact Or.inl ⟨((0 : Nat) : Int), 1, (ar 5), (ar 10), rfl, ((fp_ME.st0 hM_27 5 (fun _ _ => rfl)).st0 10 (fun _ _ => rfl)), hpc_16, (by decide)⟩
    · skip
      have hM_28 := fp_ME.nrm (sc2 := (va_up sc 0 (((2 : Nat) : Int)))) hM_21 rfl
      refine r_stk (st2 := [.int (iI ((0 : Nat) : Int))]) rfl ?_
      refine r_iret hx hb hr hlk hQ hS (Nat.le_of_ble_eq_true rfl) (Nat.le_of_ble_eq_true rfl) dX4_does_49 ?_
      exact Or.inl ⟨((0 : Nat) : Int), 2, v2_18, f_19, rfl, hM_28, hpc_20, (by decide)⟩
    · skip
      refine r_stk (st2 := [.int (iI ((sP S : Nat) : Int))]) rfl ?_
      refine r_iret hx hb hr hlk hQ hS (Nat.le_of_ble_eq_true rfl) (Nat.le_of_ble_eq_true rfl) dX4_does_49 ?_
      exact Or.inr (⟨((sP S : Nat) : Int), v2_22, f_23, rfl, (fp_ME.upe hM_26 hth), hpc_24, hV2_25⟩)
  · skip
    refine lv_tableIn (x := (iI ((2 : Nat) : Int))) (off := 39) (tgt := 40) hx hb dX4_does_1 (by decide) (by decide) rfl (by decide) ?_
    refine lv_aload_n hx hb dX4_does_40 rfl (lv_at hl 0 rfl) ?_
    refine lv_iload_n hx hb dX4_does_41 rfl (lv_at hl 1 rfl) ?_
    refine lv_iload_n hx hb dX4_does_42 rfl (lv_at hl 2 rfl) ?_
    refine lv_iload_n hx hb dX4_does_43 rfl (lv_at hl 3 rfl) ?_
    refine lv_iload hx hb dX4_does_44 (lv_at hl 4 rfl) ?_
    refine r_callV (cells1 := 0) (slots1 := 0) X hR (c_X4_places G ad sc ar S hA0 hV 2 (one) (two) (three) (by decide) hr1 hr2 hr3 hsp h30) q2094 q2096 qs46 q100 q2097 ⟨rfl, pd_X4_places⟩ (by decide) rfl rfl (by decide) (by decide) hM.1 rfl rfl (Nat.le_of_ble_eq_true rfl) hl.1 dX4_does_46 (hB.of hS (fp_ma.base hA0)) hM hS (fun _ h => Or.inl h) (fun v H locs hp_29 hzC hkC hS => ?_)
    rcases hp_29 with ⟨rfl, hM_31, hpc_30⟩ | ⟨v2_32, f_33, rfl, hM_35, hpc_34⟩ | ⟨v2_36, f_37, rfl, hM_40, hpc_38, hV2_39⟩
    · skip
      have hM_41 := fp_ME.nrm (sc2 := (va_up sc 0 (((1 : Nat) : Int)))) hM_31 rfl
      refine r_stk (st2 := [.int (iI ((0 : Nat) : Int))]) rfl ?_
      refine r_iret hx hb hr hlk hQ hS (Nat.le_of_ble_eq_true rfl) (Nat.le_of_ble_eq_true rfl) dX4_does_49 ?_
      exact Or.inl ⟨((0 : Nat) : Int), 1, (ar 5), (ar 10), rfl, ((fp_ME.st0 hM_41 5 (fun _ _ => rfl)).st0 10 (fun _ _ => rfl)), hpc_30, (by decide)⟩
    · skip
      have hM_42 := fp_ME.nrm (sc2 := (va_up sc 0 (((2 : Nat) : Int)))) hM_35 rfl
      refine r_stk (st2 := [.int (iI ((0 : Nat) : Int))]) rfl ?_
      refine r_iret hx hb hr hlk hQ hS (Nat.le_of_ble_eq_true rfl) (Nat.le_of_ble_eq_true rfl) dX4_does_49 ?_
      exact Or.inl ⟨((0 : Nat) : Int), 2, v2_32, f_33, rfl, hM_42, hpc_34, (by decide)⟩
    · skip
      refine r_stk (st2 := [.int (iI ((sP S : Nat) : Int))]) rfl ?_
      refine r_iret hx hb hr hlk hQ hS (Nat.le_of_ble_eq_true rfl) (Nat.le_of_ble_eq_true rfl) dX4_does_49 ?_
      exact Or.inr (⟨((sP S : Nat) : Int), v2_36, f_37, rfl, (fp_ME.upe hM_40 hth), hpc_38, hV2_39⟩)
  · skip
    refine lv_tableIn (x := (iI ((3 : Nat) : Int))) (off := 49) (tgt := 50) hx hb dX4_does_1 (by decide) (by decide) rfl (by decide) ?_
    refine lv_aload_n hx hb dX4_does_50 rfl (lv_at hl 0 rfl) ?_
    refine lv_iload_n hx hb dX4_does_51 rfl (lv_at hl 2 rfl) ?_
    refine r_callV (cells1 := 0) (slots1 := 0) X hR (c_X4_takes G ad sc ar S hA0 hV (one) hr1) q2175 q2177 qs61 q100 q2178 ⟨rfl, pd_X4_takes⟩ (by decide) rfl rfl (by decide) (by decide) hM.1 rfl rfl (Nat.le_of_ble_eq_true rfl) hl.1 dX4_does_52 (hB.of hS (fp_ma.base hA0)) hM hS (fun _ h => Or.inl h) (fun v H locs hp_43 hzC hkC hS => ?_)
    rcases hp_43 with ⟨rfl, hM_45, hnf_44⟩ | ⟨kf_46, rfl, hM_49, hkf_47, hu_48⟩ | ⟨kf_50, v2_51, rfl, hM_55, hkf_52, hu_53, hV2_54⟩
    · skip
      have hM_56 := fp_ME.nrm (sc2 := (va_up sc 0 (((1 : Nat) : Int)))) hM_45 rfl
      refine r_stk (st2 := [.int (iI ((0 : Nat) : Int))]) rfl ?_
      refine r_iret hx hb hr hlk hQ hS (Nat.le_of_ble_eq_true rfl) (Nat.le_of_ble_eq_true rfl) dX4_does_55 ?_
      exact Or.inl ⟨((0 : Nat) : Int), 1, (ar 5), (ar 10), rfl, ((fp_ME.st0 hM_56 5 (fun _ _ => rfl)).st0 10 (fun _ _ => rfl)), (if_pos hnf_44), (by decide)⟩
    · skip
      have hM_57 := fp_ME.nrm (sc2 := (va_up sc 0 (((2 : Nat) : Int)))) hM_49 rfl
      refine r_stk (st2 := [.int (iI ((0 : Nat) : Int))]) rfl ?_
      refine r_iret hx hb hr hlk hQ hS (Nat.le_of_ble_eq_true rfl) (Nat.le_of_ble_eq_true rfl) dX4_does_55 ?_
      exact Or.inl ⟨((0 : Nat) : Int), 2, (ar 5), (ar 10), rfl, ((fp_ME.st0 hM_57 5 (fun _ _ => rfl)).st0 10 (fun _ _ => rfl)), ((if_neg (by have := hkf_47.2; omega)).trans (if_pos (by rw [hkf_47.2]; exact hu_48))), (by decide)⟩
    · skip
      have hM_58 := fp_ME.nrm (sc2 := (va_up sc 0 (((0 : Nat) : Int)))) hM_55 rfl
      refine r_stk (st2 := [.int (iI ((sN S - 1 : Nat) : Int))]) rfl ?_
      refine r_iret hx hb hr hlk hQ hS (Nat.le_of_ble_eq_true rfl) (Nat.le_of_ble_eq_true rfl) dX4_does_55 ?_
      exact Or.inr (⟨((sN S - 1 : Nat) : Int), v2_51, (ar 10), rfl, (fp_ME.st0 hM_58 10 (fun _ _ => rfl)), ((if_neg (by have := hkf_52; omega)).trans (if_neg (by rw [hkf_52.2, hu_53]; decide))), (show fp_VR (fp_del S (fp_fnd S one)) _ from by rw [hkf_52.2]; exact hV2_54)⟩)
  · skip
    refine lv_tableIn (x := (iI ((4 : Nat) : Int))) (off := 55) (tgt := 56) hx hb dX4_does_1 (by decide) (by decide) rfl (by decide) ?_
    refine lv_aload_n hx hb dX4_does_56 rfl (lv_at hl 0 rfl) ?_
    refine lv_iload_n hx hb dX4_does_57 rfl (lv_at hl 2 rfl) ?_
    refine lv_iload_n hx hb dX4_does_58 rfl (lv_at hl 3 rfl) ?_
    refine r_callV (cells1 := 0) (slots1 := 0) X hR (c_X4_zones G ad sc ar S hA0 hV (one) (two) hr1 hr2) q2191 q2193 qs64 q100 q2194 ⟨rfl, pd_X4_zones⟩ (by decide) rfl rfl (by decide) (by decide) hM.1 rfl rfl (Nat.le_of_ble_eq_true rfl) hl.1 dX4_does_59 (hB.of hS (fp_ma.base hA0)) hM hS (fun _ h => Or.inl h) (fun v H locs hp_59 hzC hkC hS => ?_)
    rcases hp_59 with ⟨rfl, hM_61, hc_60⟩ | ⟨rfl, hM_64, hc_62, hz_63⟩ | ⟨c_65, v2_66, rfl, hM_70, hcc_67, hz_68, hV2_69⟩
    · skip
      have hM_71 := fp_ME.nrm (sc2 := (va_up sc 0 (((1 : Nat) : Int)))) hM_61 rfl
      refine r_stk (st2 := [.int (iI ((0 : Nat) : Int))]) rfl ?_
      refine r_iret hx hb hr hlk hQ hS (Nat.le_of_ble_eq_true rfl) (Nat.le_of_ble_eq_true rfl) dX4_does_62 ?_
      exact Or.inl ⟨((0 : Nat) : Int), 1, (ar 5), (ar 10), rfl, ((fp_ME.st0 hM_71 5 (fun _ _ => rfl)).st0 10 (fun _ _ => rfl)), (if_pos hc_60), (by decide)⟩
    · skip
      have hM_72 := fp_ME.nrm (sc2 := (va_up sc 0 (((2 : Nat) : Int)))) hM_64 rfl
      refine r_stk (st2 := [.int (iI ((0 : Nat) : Int))]) rfl ?_
      refine r_iret hx hb hr hlk hQ hS (Nat.le_of_ble_eq_true rfl) (Nat.le_of_ble_eq_true rfl) dX4_does_62 ?_
      exact Or.inl ⟨((0 : Nat) : Int), 2, (ar 5), (ar 10), rfl, ((fp_ME.st0 hM_72 5 (fun _ _ => rfl)).st0 10 (fun _ _ => rfl)), ((if_neg (fun z => z hc_62)).trans (if_pos hz_63)), (by decide)⟩
    · skip
      refine r_stk (st2 := [.int (iI ((fp_zlet (sZ S c_65) : Nat) : Int))]) rfl ?_
      refine r_iret hx hb hr hlk hQ hS (Nat.le_of_ble_eq_true rfl) (Nat.le_of_ble_eq_true rfl) dX4_does_62 ?_
      exact Or.inr (⟨((fp_zlet (sZ S c_65) : Nat) : Int), v2_66, (ar 10), rfl, (fp_ME.st0 (fp_ME.upe hM_70 hth) 10 (fun _ _ => rfl)), ((if_neg (fun z => z (by have := hcc_67; omega))).trans (if_neg (by have := hz_68; omega))), (show fp_VR (fp_setz S one.toNat _) _ from by rw [show one.toNat = c_65 by have := hcc_67; omega]; exact hV2_69)⟩)
  · skip
    refine lv_tableIn (x := (iI ((5 : Nat) : Int))) (off := 62) (tgt := 63) hx hb dX4_does_1 (by decide) (by decide) rfl (by decide) ?_
    refine lv_aload_n hx hb dX4_does_63 rfl (lv_at hl 0 rfl) ?_
    refine lv_iload_n hx hb dX4_does_64 rfl (lv_at hl 2 rfl) ?_
    refine lv_iconst (v := (iI ((1 : Nat) : Int))) hx hb dX4_does_65 rfl ?_
    refine r_callV (cells1 := 0) (slots1 := 0) X hR (c_X4_lights G ad sc ar S hA0 hV (one) 1 hr1 (by decide)) q2205 q2207 qs65 q100 q2208 ⟨rfl, pd_X4_lights⟩ (by decide) rfl rfl (by decide) (by decide) hM.1 rfl rfl (Nat.le_of_ble_eq_true rfl) hl.1 dX4_does_66 (hB.of hS (fp_ma.base hA0)) hM hS (fun _ h => Or.inl h) (fun v H locs hp_73 hzC hkC hS => ?_)
    rcases hp_73 with ⟨rfl, hM_75, hc_74⟩ | ⟨c_76, rfl, hM_79, hcc_77, ht_78⟩ | ⟨c_80, v2_81, rfl, hM_85, hcc_82, ht_83, hV2_84⟩
    · skip
      have hM_86 := fp_ME.nrm (sc2 := (va_up sc 0 (((1 : Nat) : Int)))) hM_75 rfl
      refine r_stk (st2 := [.int (iI ((0 : Nat) : Int))]) rfl ?_
      refine r_iret hx hb hr hlk hQ hS (Nat.le_of_ble_eq_true rfl) (Nat.le_of_ble_eq_true rfl) dX4_does_69 ?_
      exact Or.inl ⟨((0 : Nat) : Int), 1, (ar 5), (ar 10), rfl, ((fp_ME.st0 hM_86 5 (fun _ _ => rfl)).st0 10 (fun _ _ => rfl)), (if_pos hc_74), (by decide)⟩
    · skip
      have hM_87 := fp_ME.nrm (sc2 := (va_up sc 0 (((2 : Nat) : Int)))) hM_79 rfl
      refine r_stk (st2 := [.int (iI ((0 : Nat) : Int))]) rfl ?_
      refine r_iret hx hb hr hlk hQ hS (Nat.le_of_ble_eq_true rfl) (Nat.le_of_ble_eq_true rfl) dX4_does_69 ?_
      exact Or.inl ⟨((0 : Nat) : Int), 2, (ar 5), (ar 10), rfl, ((fp_ME.st0 hM_87 5 (fun _ _ => rfl)).st0 10 (fun _ _ => rfl)), ((if_neg (fun z => z (by have := hcc_77; omega))).trans (if_pos (show sT S one.toNat = 1 from by rw [show one.toNat = c_76 by have := hcc_77; omega]; exact ht_78))), (by decide)⟩
    · skip
      refine r_stk (st2 := [.int (iI ((fp_tor (fp_sett S c_80 1) : Nat) : Int))]) rfl ?_
      refine r_iret hx hb hr hlk hQ hS (Nat.le_of_ble_eq_true rfl) (Nat.le_of_ble_eq_true rfl) dX4_does_69 ?_
      exact Or.inr (⟨((fp_tor (fp_sett S c_80 1) : Nat) : Int), v2_81, (ar 10), rfl, (fp_ME.st0 (fp_ME.upe hM_85 hth) 10 (fun _ _ => rfl)), ((if_neg (fun z => z (by have := hcc_82; omega))).trans (if_neg (show ¬ sT S one.toNat = 1 from by rw [show one.toNat = c_80 by have := hcc_82; omega]; exact ht_83))), (show fp_VR (fp_sett S one.toNat 1) _ from by rw [show one.toNat = c_80 by have := hcc_82; omega]; exact hV2_84)⟩)
  · skip
    refine lv_tableOut (x := (iI ((6 : Nat) : Int))) (tgt := 70) hx hb dX4_does_1 (by decide) (by decide) ?_
    refine lv_aload_n hx hb dX4_does_70 rfl (lv_at hl 0 rfl) ?_
    refine lv_iload_n hx hb dX4_does_71 rfl (lv_at hl 2 rfl) ?_
    refine lv_iconst (v := (iI ((0 : Nat) : Int))) hx hb dX4_does_72 rfl ?_
    refine r_callV (cells1 := 0) (slots1 := 0) X hR (c_X4_lights G ad sc ar S hA0 hV (one) 0 hr1 (by decide)) q2205 q2207 qs65 q100 q2208 ⟨rfl, pd_X4_lights⟩ (by decide) rfl rfl (by decide) (by decide) hM.1 rfl rfl (Nat.le_of_ble_eq_true rfl) hl.1 dX4_does_73 (hB.of hS (fp_ma.base hA0)) hM hS (fun _ h => Or.inl h) (fun v H locs hp_88 hzC hkC hS => ?_)
    rcases hp_88 with ⟨rfl, hM_90, hc_89⟩ | ⟨c_91, rfl, hM_94, hcc_92, ht_93⟩ | ⟨c_95, v2_96, rfl, hM_100, hcc_97, ht_98, hV2_99⟩
    · skip
      have hM_101 := fp_ME.nrm (sc2 := (va_up sc 0 (((1 : Nat) : Int)))) hM_90 rfl
      refine r_stk (st2 := [.int (iI ((0 : Nat) : Int))]) rfl ?_
      refine r_iret hx hb hr hlk hQ hS (Nat.le_of_ble_eq_true rfl) (Nat.le_of_ble_eq_true rfl) dX4_does_76 ?_
      exact Or.inl ⟨((0 : Nat) : Int), 1, (ar 5), (ar 10), rfl, ((fp_ME.st0 hM_101 5 (fun _ _ => rfl)).st0 10 (fun _ _ => rfl)), (if_pos hc_89), (by decide)⟩
    · skip
      have hM_102 := fp_ME.nrm (sc2 := (va_up sc 0 (((2 : Nat) : Int)))) hM_94 rfl
      refine r_stk (st2 := [.int (iI ((0 : Nat) : Int))]) rfl ?_
      refine r_iret hx hb hr hlk hQ hS (Nat.le_of_ble_eq_true rfl) (Nat.le_of_ble_eq_true rfl) dX4_does_76 ?_
      exact Or.inl ⟨((0 : Nat) : Int), 2, (ar 5), (ar 10), rfl, ((fp_ME.st0 hM_102 5 (fun _ _ => rfl)).st0 10 (fun _ _ => rfl)), ((if_neg (fun z => z (by have := hcc_92; omega))).trans (if_pos (show sT S one.toNat = 0 from by rw [show one.toNat = c_91 by have := hcc_92; omega]; exact ht_93))), (by decide)⟩
    · skip
      refine r_stk (st2 := [.int (iI ((fp_tor (fp_sett S c_95 0) : Nat) : Int))]) rfl ?_
      refine r_iret hx hb hr hlk hQ hS (Nat.le_of_ble_eq_true rfl) (Nat.le_of_ble_eq_true rfl) dX4_does_76 ?_
      exact Or.inr (⟨((fp_tor (fp_sett S c_95 0) : Nat) : Int), v2_96, (ar 10), rfl, (fp_ME.st0 (fp_ME.upe hM_100 hth) 10 (fun _ _ => rfl)), ((if_neg (fun z => z (by have := hcc_97; omega))).trans (if_neg (show ¬ sT S one.toNat = 0 from by rw [show one.toNat = c_95 by have := hcc_97; omega]; exact ht_98))), (show fp_VR (fp_sett S one.toNat 0) _ from by rw [show one.toNat = c_95 by have := hcc_97; omega]; exact hV2_99)⟩)
set_option maxHeartbeats 4000000 in
theorem c_X4_command (G : fp_G) (ad : Nat → Nat) (sc : Nat → Int) (ar : Nat → Nat → Int) (hA0 : fp_MA G ad) (tx : Nat → Nat) (tn : Nat) (h : Nat) (hh : sc 18 = ((h : Nat) : Int)) (ht : sc 19 = ((tn : Nat) : Int)) (h60 : tn ≤ 60) (hle : h ≤ tn) (htx : ∀ i, i < tn → ar 12 i = (tx i : Int)) (htb : ∀ i, i < tn → tx i < 256) (hwd : ∀ i, i < 39 → ar 15 i = (fp_wd i : Int)) (hwa : ∀ i, i < 8 → ar 16 i = (fp_wa i : Int)) (S : PS) (hV : fp_VR S (ar 5)) (hth : sc 0 = 0) (dg : Nat) (hdg : sc 22 = ((dg : Nat) : Int)) (hdg2 : dg < 2) (hw0 : sc 21 = 0) (hsp : sP S < 999) (h30 : fp_t30 S) : fp_M G yX4_command cX4_command 6 none 10 220 0 0 [.ref (ad 0)] (fp_ME G ad sc ar) (fp_ma ad) (fun _ v H => (∃ (c : FC), ∃ (f : Nat → Int), v = none ∧ fp_ME G ad (va_up (va_up sc 18 (((c.2.1 : Nat) : Int))) 21 (((1 : Nat) : Int))) (va_up ar 14 f) H ∧ ((fp_cmd tx tn h) = c) ∧ (c.1 = true) ∧ (c.2.1 ≤ tn)) ∨ (∃ (c : FC), ∃ (f : Nat → Int), v = none ∧ fp_ME G ad (va_up (va_up sc 18 (((c.2.1 : Nat) : Int))) 21 (((0 : Nat) : Int))) (va_up ar 14 f) H ∧ (dg = 0) ∧ ((fp_cmd tx tn h) = c) ∧ (c.1 = false) ∧ (c.2.1 ≤ tn) ∧ (h < c.2.1)) ∨ (∃ (c : FC), ∃ (f : Nat → Int), ∃ (t : Nat), ∃ (v2 : Nat → Int), ∃ (f2 : Nat → Int), v = none ∧ fp_ME G ad (va_up (va_up (va_up sc 18 (((c.2.1 : Nat) : Int))) 21 (((0 : Nat) : Int))) 0 (((t : Nat) : Int))) (va_up (va_up (va_up ar 14 f) 5 v2) 10 f2) H ∧ (dg = 1) ∧ ((fp_cmd tx tn h) = c) ∧ (c.1 = false) ∧ (c.2.1 ≤ tn) ∧ (h < c.2.1) ∧ ((fp_dc S c.2.2).1 = t) ∧ (t ≠ 0)) ∨ (∃ (c : FC), ∃ (f : Nat → Int), ∃ (v2 : Nat → Int), ∃ (f2 : Nat → Int), v = none ∧ fp_ME G ad (va_up (va_up (va_up sc 18 (((c.2.1 : Nat) : Int))) 21 (((0 : Nat) : Int))) 0 (((0 : Nat) : Int))) (va_up (va_up (va_up ar 14 f) 5 v2) 10 f2) H ∧ (dg = 1) ∧ ((fp_cmd tx tn h) = c) ∧ (c.1 = false) ∧ (c.2.1 ≤ tn) ∧ (h < c.2.1) ∧ ((fp_dc S c.2.2).1 = 0) ∧ (fp_VR (fp_dc S c.2.2).2 v2))) := by
  refine fp_M.intro (by decide) (Nat.le_of_ble_eq_true rfl) ?_
  intro pg en s mi ag bl mt cd rR qQ ls X hx hb hr hlk hnm hR hQ hB hM hl
  have hS : va_S (fA (fp_ma ad) s.heap.size) s.heap s.heap [] := va_S.rf
  generalize ([] : List Loc) = locs at hS ⊢
  have hN24 := hV.1.1
  refine lv_aload_n hx hb dX4_command_0 rfl (lv_at hl 0 rfl) ?_
  refine r_callV (cells1 := 0) (slots1 := 0) X hR (c_X4_word G ad sc ar hA0 tx tn h hh ht h60 hle htx htb hwd hwa  hw0) q2466 q2468 qs80 q100 q2469 ⟨rfl, pd_X4_word⟩ (by decide) rfl rfl (by decide) (by decide) hM.1 rfl rfl (Nat.le_of_ble_eq_true rfl) hl.1 dX4_command_1 (hB.of hS (fp_ma.base hA0)) hM hS (fun _ h => Or.inl h) (fun v H locs hp_1 hzC hkC hS => ?_)
  rcases hp_1 with ⟨w_2, f_3, rfl, hM_7, hw7_4, hwm_5, hle2_6⟩ | ⟨q_8, f_9, rfl, hM_14, hq1_10, hq2_11, hq3_12, hle2_13⟩
  · skip
    have hM_15 := fp_ME.nrm (sc2 := (va_up (va_up sc 18 (((h + fp_wl w_2 : Nat) : Int))) 21 (((0 : Nat) : Int)))) hM_7 rfl
    refine r_stk (st2 := [.int (iI ((w_2 : Nat) : Int))]) rfl ?_
    refine lv_istore_n (lv' := [(1, .int (iI ((w_2 : Nat) : Int))), (0, .ref (ad 0))]) hx hb dX4_command_4 rfl hl (by decide) rfl (fun ls hl => ?_)
    refine lv_iconst (v := (iI ((0 : Nat) : Int))) hx hb dX4_command_5 rfl ?_
    refine lv_istore_n (lv' := [(2, .int (iI ((0 : Nat) : Int))), (1, .int (iI ((w_2 : Nat) : Int))), (0, .ref (ad 0))]) hx hb dX4_command_6 rfl hl (by decide) rfl (fun ls hl => ?_)
    refine lv_iconst (v := (iI ((0 : Nat) : Int))) hx hb dX4_command_7 rfl ?_
    refine lv_istore_n (lv' := [(3, .int (iI ((0 : Nat) : Int))), (2, .int (iI ((0 : Nat) : Int))), (1, .int (iI ((w_2 : Nat) : Int))), (0, .ref (ad 0))]) hx hb dX4_command_8 rfl hl (by decide) rfl (fun ls hl => ?_)
    refine lv_aload_n hx hb dX4_command_9 rfl (lv_at hl 3 rfl) ?_
    refine r_get X hM_15.1 rfl in_X4 21 (by decide) q2030 (Or.inl rfl) (v := .int (iI ((0 : Nat) : Int))) rfl dX4_command_10 ?_
    refine r_if_eq (tgt := 20) hx hb (by decide) dX4_command_13 (by decide) (fun c13 => ?_) (fun c13 => ?_)
    · skip
      refine lv_aload_n hx hb dX4_command_20 rfl (lv_at hl 3 rfl) ?_
      refine lv_iconst (v := (iI ((2 : Nat) : Int))) hx hb dX4_command_21 rfl ?_
      refine r_callV (cells1 := 0) (slots1 := 0) X hR (c_X4_digits G ad (va_up (va_up sc 18 (((h + fp_wl w_2 : Nat) : Int))) 21 (((0 : Nat) : Int))) (va_up ar 14 f_3) hA0 tx tn (h + fp_wl w_2) rfl ht h60 hle2_6 htx htb 2 (by decide) rfl) q2474 q2476 qs82 q100 q2477 ⟨rfl, pd_X4_digits⟩ (by decide) rfl rfl (by decide) (by decide) hM_15.1 rfl rfl (Nat.le_of_ble_eq_true rfl) hl.1 dX4_command_22 (hB.of hS (fp_ma.base hA0)) hM_15 hS (fun _ h => Or.inl h) (fun v H locs hp_16 hzC hkC hS => ?_)
      rcases hp_16 with ⟨rfl, hM_19, hd_17, hle2_18⟩ | ⟨rfl, hM_22, hd_20, hle2_21⟩
      · skip
        have hM_23 := fp_ME.nrm (sc2 := (va_up (va_up sc 18 ((((h + fp_wl w_2) + fp_dct tx tn (h + fp_wl w_2) 2 : Nat) : Int))) 21 (((0 : Nat) : Int)))) hM_19 rfl
        refine r_stk (st2 := [.int (iI (fp_dvl tx tn (h + fp_wl w_2) (fp_dct tx tn (h + fp_wl w_2) 2)))]) rfl ?_
        refine lv_istore (lv' := [(4, .int (iI (fp_dvl tx tn (h + fp_wl w_2) (fp_dct tx tn (h + fp_wl w_2) 2)))), (3, .int (iI ((0 : Nat) : Int))), (2, .int (iI ((0 : Nat) : Int))), (1, .int (iI ((w_2 : Nat) : Int))), (0, .ref (ad 0))]) hx hb dX4_command_25 hl (by decide) rfl (fun ls hl => ?_)
        refine lv_iload_n hx hb dX4_command_27 rfl (lv_at hl 3 rfl) ?_
        refine lv_iconst (v := (iI ((3 : Nat) : Int))) hx hb dX4_command_28 rfl ?_
        refine r_icmp_ge (tgt := 44) hx hb ⟨by omega, by omega⟩ (by decide) dX4_command_29 (by decide) (fun c29 => ?_) (fun c29 => ?_)
        · skip
          refine lv_iload_n hx hb dX4_command_44 rfl (lv_at hl 3 rfl) ?_
          refine lv_iconst (v := (iI ((3 : Nat) : Int))) hx hb dX4_command_45 rfl ?_
          refine r_icmp_ge (tgt := 61) hx hb ⟨by omega, by omega⟩ (by decide) dX4_command_46 (by decide) (fun c46 => ?_) (fun c46 => ?_)
          · skip
            refine lv_iload_n hx hb dX4_command_61 rfl (lv_at hl 3 rfl) ?_
            refine lv_iconst (v := (iI ((4 : Nat) : Int))) hx hb dX4_command_62 rfl ?_
            refine r_icmp_ne (tgt := 78) hx hb ⟨by omega, by omega⟩ (by decide) dX4_command_63 (by decide) (fun c63 => ?_) (fun c63 => ?_)
            · skip
              refine lv_aload_n hx hb dX4_command_78 rfl (lv_at hl 4 rfl) ?_
              refine r_get X hM_23.1 rfl in_X4 21 (by decide) q2030 (Or.inl rfl) (v := .int (iI ((0 : Nat) : Int))) rfl dX4_command_79 ?_
              refine r_if_ne (tgt := 92) hx hb (by decide) dX4_command_82 (by decide) (fun c82 => ?_) (fun c82 => ?_)
              · exact absurd c82 (by omega)
              · skip
                refine lv_aload_n hx hb dX4_command_85 rfl (lv_at hl 4 rfl) ?_
                refine r_get X hM_23.1 rfl in_X4 22 (by decide) q2031 (Or.inl rfl) (v := .int (iI (sc 22))) rfl dX4_command_86 ?_
                refine r_set (y := .int (iI ((dg : Nat) : Int))) (congrArg (fun q : Int => Value.int (iI q)) (hdg)) ?_
                refine r_if_ne (tgt := 93) hx hb ⟨by omega, by omega⟩ dX4_command_89 (by decide) (fun c89 => ?_) (fun c89 => ?_)
                · skip
                  refine lv_aload_n hx hb dX4_command_93 rfl (lv_at hl 4 rfl) ?_
                  refine lv_iload_n hx hb dX4_command_94 rfl (lv_at hl 3 rfl) ?_
                  refine lv_iload hx hb dX4_command_95 (lv_at hl 0 rfl) ?_
                  refine lv_iload_n hx hb dX4_command_97 rfl (lv_at hl 2 rfl) ?_
                  refine lv_iload_n hx hb dX4_command_98 rfl (lv_at hl 1 rfl) ?_
                  refine r_callV (cells1 := 0) (slots1 := 0) X hR (c_X4_does G ad (va_up (va_up sc 18 ((((h + fp_wl w_2) + fp_dct tx tn (h + fp_wl w_2) 2 : Nat) : Int))) 21 (((0 : Nat) : Int))) (va_up ar 14 f_3) S hA0 hV hth w_2 (fp_dvl tx tn (h + fp_wl w_2) (fp_dct tx tn (h + fp_wl w_2) 2)) 0 0 (by omega) (by first | exact fp_dvl_rg2 _ _ _ | exact fp_dvl_rg1 _ _ _ | exact fp_sg_rg htb _ | decide) (by first | exact fp_dvl_rg2 _ _ _ | exact fp_dvl_rg1 _ _ _ | exact fp_sg_rg htb _ | decide) (by first | exact fp_dvl_rg2 _ _ _ | exact fp_dvl_rg1 _ _ _ | exact fp_sg_rg htb _ | decide) hsp h30) q2490 q2492 qs86 q100 q2493 ⟨rfl, pd_X4_does⟩ (by decide) rfl rfl (by decide) (by decide) hM_23.1 rfl rfl (Nat.le_of_ble_eq_true rfl) hl.1 dX4_command_99 (hB.of hS (fp_ma.base hA0)) hM_23 hS (fun _ h => Or.inl h) (fun v H locs hp_24 hzC hkC hS => ?_)
                  rcases hp_24 with ⟨z_25, t_26, v2_27, f_28, rfl, hM_31, hd_29, ht0_30⟩ | ⟨z_32, v2_33, f_34, rfl, hM_37, hd_35, hV2_36⟩
                  · skip
                    have hM_38 := fp_ME.nrm (sc2 := (va_up (va_up (va_up sc 18 ((((h + fp_wl w_2) + fp_dct tx tn (h + fp_wl w_2) 2 : Nat) : Int))) 21 (((0 : Nat) : Int))) 0 (((t_26 : Nat) : Int)))) hM_31 rfl
                    refine r_stk (st2 := [.int (iI (z_25))]) rfl ?_
                    refine lv_istore (lv' := [(5, .int (iI (z_25))), (4, .int (iI (fp_dvl tx tn (h + fp_wl w_2) (fp_dct tx tn (h + fp_wl w_2) 2)))), (3, .int (iI ((0 : Nat) : Int))), (2, .int (iI ((0 : Nat) : Int))), (1, .int (iI ((w_2 : Nat) : Int))), (0, .ref (ad 0))]) hx hb dX4_command_102 hl (by decide) rfl (fun ls hl => ?_)
                    refine r_vret hx hb hr hlk hQ hS (Nat.le_of_ble_eq_true rfl) (Nat.le_of_ble_eq_true rfl) dX4_command_104 ?_
                    exact Or.inr (Or.inr (Or.inl ⟨(false, (h + fp_wl w_2) + fp_dct tx tn (h + fp_wl w_2) 2, w_2, (fp_dvl tx tn (h + fp_wl w_2) (fp_dct tx tn (h + fp_wl w_2) 2)), ((0 : Nat) : Int), ((0 : Nat) : Int)), f_3, t_26, v2_27, f_28, rfl, (hM_38.nrm rfl), (by omega), ((fp_cmd_3 hw7_4 hwm_5 hd_17).trans (fp_ag_6 (by omega) (by omega))), rfl, hle2_18, (by have := fp_wa_b hw7_4; show h < (h + fp_wl w_2) + fp_dct tx tn (h + fp_wl w_2) 2; omega), hd_29, ht0_30⟩))
                  · skip
                    have hM_39 := fp_ME.nrm (sc2 := (va_up (va_up (va_up sc 18 ((((h + fp_wl w_2) + fp_dct tx tn (h + fp_wl w_2) 2 : Nat) : Int))) 21 (((0 : Nat) : Int))) 0 (((0 : Nat) : Int)))) hM_37 rfl
                    refine r_stk (st2 := [.int (iI (z_32))]) rfl ?_
                    refine lv_istore (lv' := [(5, .int (iI (z_32))), (4, .int (iI (fp_dvl tx tn (h + fp_wl w_2) (fp_dct tx tn (h + fp_wl w_2) 2)))), (3, .int (iI ((0 : Nat) : Int))), (2, .int (iI ((0 : Nat) : Int))), (1, .int (iI ((w_2 : Nat) : Int))), (0, .ref (ad 0))]) hx hb dX4_command_102 hl (by decide) rfl (fun ls hl => ?_)
                    refine r_vret hx hb hr hlk hQ hS (Nat.le_of_ble_eq_true rfl) (Nat.le_of_ble_eq_true rfl) dX4_command_104 ?_
                    exact Or.inr (Or.inr (Or.inr (⟨(false, (h + fp_wl w_2) + fp_dct tx tn (h + fp_wl w_2) 2, w_2, (fp_dvl tx tn (h + fp_wl w_2) (fp_dct tx tn (h + fp_wl w_2) 2)), ((0 : Nat) : Int), ((0 : Nat) : Int)), f_3, v2_33, f_34, rfl, (hM_39.nrm rfl), (by omega), ((fp_cmd_3 hw7_4 hwm_5 hd_17).trans (fp_ag_6 (by omega) (by omega))), rfl, hle2_18, (by have := fp_wa_b hw7_4; show h < (h + fp_wl w_2) + fp_dct tx tn (h + fp_wl w_2) 2; omega), hd_35, hV2_36⟩)))
                · skip
                  refine r_vret hx hb hr hlk hQ hS (Nat.le_of_ble_eq_true rfl) (Nat.le_of_ble_eq_true rfl) dX4_command_92 ?_
                  exact Or.inr (Or.inl ⟨(false, (h + fp_wl w_2) + fp_dct tx tn (h + fp_wl w_2) 2, w_2, (fp_dvl tx tn (h + fp_wl w_2) (fp_dct tx tn (h + fp_wl w_2) 2)), ((0 : Nat) : Int), ((0 : Nat) : Int)), f_3, rfl, (hM_23.nrm rfl), (by omega), ((fp_cmd_3 hw7_4 hwm_5 hd_17).trans (fp_ag_6 (by omega) (by omega))), rfl, hle2_18, (by have := fp_wa_b hw7_4; show h < (h + fp_wl w_2) + fp_dct tx tn (h + fp_wl w_2) 2; omega)⟩)
            · skip
              refine lv_aload_n hx hb dX4_command_66 rfl (lv_at hl 4 rfl) ?_
              refine r_get X hM_23.1 rfl in_X4 21 (by decide) q2030 (Or.inl rfl) (v := .int (iI ((0 : Nat) : Int))) rfl dX4_command_67 ?_
              refine r_if_ne (tgt := 78) hx hb (by decide) dX4_command_70 (by decide) (fun c70 => ?_) (fun c70 => ?_)
              · exact absurd c70 (by omega)
              · skip
                refine lv_aload_n hx hb dX4_command_73 rfl (lv_at hl 4 rfl) ?_
                refine r_callV (cells1 := 0) (slots1 := 0) X hR (c_X4_letterBehind G ad (va_up (va_up sc 18 ((((h + fp_wl w_2) + fp_dct tx tn (h + fp_wl w_2) 2 : Nat) : Int))) 21 (((0 : Nat) : Int))) (va_up ar 14 f_3) hA0 tx tn ((h + fp_wl w_2) + fp_dct tx tn (h + fp_wl w_2) 2) rfl ht h60 hle2_18 htx htb  rfl) q2486 q2488 qs85 q100 q2489 ⟨rfl, pd_X4_letterBehind⟩ (by decide) rfl rfl (by decide) (by decide) hM_23.1 rfl rfl (Nat.le_of_ble_eq_true rfl) hl.1 dX4_command_74 (hB.of hS (fp_ma.base hA0)) hM_23 hS (fun _ h => Or.inl h) (fun v H locs hp_40 hzC hkC hS => ?_)
                rcases hp_40 with ⟨rfl, hM_44, hs_41, hz_42, hle2_43⟩ | ⟨rfl, hM_48, hs_45, hz_46, hle2_47⟩ | ⟨rfl, hM_51, hs_49, hle2_50⟩
                · skip
                  have hM_52 := fp_ME.nrm (sc2 := (va_up (va_up sc 18 (((((h + fp_wl w_2) + fp_dct tx tn (h + fp_wl w_2) 2) + 2 : Nat) : Int))) 21 (((0 : Nat) : Int)))) hM_44 rfl
                  refine r_stk (st2 := [.int (iI (fp_sg tx tn (((h + fp_wl w_2) + fp_dct tx tn (h + fp_wl w_2) 2) + 1)))]) rfl ?_
                  refine lv_istore_n (lv' := [(2, .int (iI (fp_sg tx tn (((h + fp_wl w_2) + fp_dct tx tn (h + fp_wl w_2) 2) + 1)))), (4, .int (iI (fp_dvl tx tn (h + fp_wl w_2) (fp_dct tx tn (h + fp_wl w_2) 2)))), (3, .int (iI ((0 : Nat) : Int))), (1, .int (iI ((w_2 : Nat) : Int))), (0, .ref (ad 0))]) hx hb dX4_command_77 rfl hl (by decide) rfl (fun ls hl => ?_)
                  refine lv_aload_n hx hb dX4_command_78 rfl (lv_at hl 4 rfl) ?_
                  refine r_get X hM_52.1 rfl in_X4 21 (by decide) q2030 (Or.inl rfl) (v := .int (iI ((0 : Nat) : Int))) rfl dX4_command_79 ?_
                  refine r_if_ne (tgt := 92) hx hb (by decide) dX4_command_82 (by decide) (fun c82 => ?_) (fun c82 => ?_)
                  · exact absurd c82 (by omega)
                  · skip
                    refine lv_aload_n hx hb dX4_command_85 rfl (lv_at hl 4 rfl) ?_
                    refine r_get X hM_52.1 rfl in_X4 22 (by decide) q2031 (Or.inl rfl) (v := .int (iI (sc 22))) rfl dX4_command_86 ?_
                    refine r_set (y := .int (iI ((dg : Nat) : Int))) (congrArg (fun q : Int => Value.int (iI q)) (hdg)) ?_
                    refine r_if_ne (tgt := 93) hx hb ⟨by omega, by omega⟩ dX4_command_89 (by decide) (fun c89 => ?_) (fun c89 => ?_)
                    · skip
                      refine lv_aload_n hx hb dX4_command_93 rfl (lv_at hl 4 rfl) ?_
                      refine lv_iload_n hx hb dX4_command_94 rfl (lv_at hl 3 rfl) ?_
                      refine lv_iload hx hb dX4_command_95 (lv_at hl 1 rfl) ?_
                      refine lv_iload_n hx hb dX4_command_97 rfl (lv_at hl 0 rfl) ?_
                      refine lv_iload_n hx hb dX4_command_98 rfl (lv_at hl 2 rfl) ?_
                      refine r_callV (cells1 := 0) (slots1 := 0) X hR (c_X4_does G ad (va_up (va_up sc 18 (((((h + fp_wl w_2) + fp_dct tx tn (h + fp_wl w_2) 2) + 2 : Nat) : Int))) 21 (((0 : Nat) : Int))) (va_up ar 14 f_3) S hA0 hV hth w_2 (fp_dvl tx tn (h + fp_wl w_2) (fp_dct tx tn (h + fp_wl w_2) 2)) (fp_sg tx tn (((h + fp_wl w_2) + fp_dct tx tn (h + fp_wl w_2) 2) + 1)) 0 (by omega) (by first | exact fp_dvl_rg2 _ _ _ | exact fp_dvl_rg1 _ _ _ | exact fp_sg_rg htb _ | decide) (by first | exact fp_dvl_rg2 _ _ _ | exact fp_dvl_rg1 _ _ _ | exact fp_sg_rg htb _ | decide) (by first | exact fp_dvl_rg2 _ _ _ | exact fp_dvl_rg1 _ _ _ | exact fp_sg_rg htb _ | decide) hsp h30) q2490 q2492 qs86 q100 q2493 ⟨rfl, pd_X4_does⟩ (by decide) rfl rfl (by decide) (by decide) hM_52.1 rfl rfl (Nat.le_of_ble_eq_true rfl) hl.1 dX4_command_99 (hB.of hS (fp_ma.base hA0)) hM_52 hS (fun _ h => Or.inl h) (fun v H locs hp_53 hzC hkC hS => ?_)
                      rcases hp_53 with ⟨z_54, t_55, v2_56, f_57, rfl, hM_60, hd_58, ht0_59⟩ | ⟨z_61, v2_62, f_63, rfl, hM_66, hd_64, hV2_65⟩
                      · skip
                        have hM_67 := fp_ME.nrm (sc2 := (va_up (va_up (va_up sc 18 (((((h + fp_wl w_2) + fp_dct tx tn (h + fp_wl w_2) 2) + 2 : Nat) : Int))) 21 (((0 : Nat) : Int))) 0 (((t_55 : Nat) : Int)))) hM_60 rfl
                        refine r_stk (st2 := [.int (iI (z_54))]) rfl ?_
                        refine lv_istore (lv' := [(5, .int (iI (z_54))), (2, .int (iI (fp_sg tx tn (((h + fp_wl w_2) + fp_dct tx tn (h + fp_wl w_2) 2) + 1)))), (4, .int (iI (fp_dvl tx tn (h + fp_wl w_2) (fp_dct tx tn (h + fp_wl w_2) 2)))), (3, .int (iI ((0 : Nat) : Int))), (1, .int (iI ((w_2 : Nat) : Int))), (0, .ref (ad 0))]) hx hb dX4_command_102 hl (by decide) rfl (fun ls hl => ?_)
                        refine r_vret hx hb hr hlk hQ hS (Nat.le_of_ble_eq_true rfl) (Nat.le_of_ble_eq_true rfl) dX4_command_104 ?_
                        exact Or.inr (Or.inr (Or.inl ⟨(false, ((h + fp_wl w_2) + fp_dct tx tn (h + fp_wl w_2) 2) + 2, w_2, (fp_dvl tx tn (h + fp_wl w_2) (fp_dct tx tn (h + fp_wl w_2) 2)), (fp_sg tx tn (((h + fp_wl w_2) + fp_dct tx tn (h + fp_wl w_2) 2) + 1)), ((0 : Nat) : Int)), f_3, t_55, v2_56, f_57, rfl, (hM_67.nrm rfl), (by omega), ((fp_cmd_3 hw7_4 hwm_5 hd_17).trans (fp_ag_5 (by omega) (fp_lb_3 hs_41 hz_42))), rfl, hle2_43, (by have := fp_wa_b hw7_4; show h < ((h + fp_wl w_2) + fp_dct tx tn (h + fp_wl w_2) 2) + 2; omega), hd_58, ht0_59⟩))
                      · skip
                        have hM_68 := fp_ME.nrm (sc2 := (va_up (va_up (va_up sc 18 (((((h + fp_wl w_2) + fp_dct tx tn (h + fp_wl w_2) 2) + 2 : Nat) : Int))) 21 (((0 : Nat) : Int))) 0 (((0 : Nat) : Int)))) hM_66 rfl
                        refine r_stk (st2 := [.int (iI (z_61))]) rfl ?_
                        refine lv_istore (lv' := [(5, .int (iI (z_61))), (2, .int (iI (fp_sg tx tn (((h + fp_wl w_2) + fp_dct tx tn (h + fp_wl w_2) 2) + 1)))), (4, .int (iI (fp_dvl tx tn (h + fp_wl w_2) (fp_dct tx tn (h + fp_wl w_2) 2)))), (3, .int (iI ((0 : Nat) : Int))), (1, .int (iI ((w_2 : Nat) : Int))), (0, .ref (ad 0))]) hx hb dX4_command_102 hl (by decide) rfl (fun ls hl => ?_)
                        refine r_vret hx hb hr hlk hQ hS (Nat.le_of_ble_eq_true rfl) (Nat.le_of_ble_eq_true rfl) dX4_command_104 ?_
                        exact Or.inr (Or.inr (Or.inr (⟨(false, ((h + fp_wl w_2) + fp_dct tx tn (h + fp_wl w_2) 2) + 2, w_2, (fp_dvl tx tn (h + fp_wl w_2) (fp_dct tx tn (h + fp_wl w_2) 2)), (fp_sg tx tn (((h + fp_wl w_2) + fp_dct tx tn (h + fp_wl w_2) 2) + 1)), ((0 : Nat) : Int)), f_3, v2_62, f_63, rfl, (hM_68.nrm rfl), (by omega), ((fp_cmd_3 hw7_4 hwm_5 hd_17).trans (fp_ag_5 (by omega) (fp_lb_3 hs_41 hz_42))), rfl, hle2_43, (by have := fp_wa_b hw7_4; show h < ((h + fp_wl w_2) + fp_dct tx tn (h + fp_wl w_2) 2) + 2; omega), hd_64, hV2_65⟩)))
                    · skip
                      refine r_vret hx hb hr hlk hQ hS (Nat.le_of_ble_eq_true rfl) (Nat.le_of_ble_eq_true rfl) dX4_command_92 ?_
                      exact Or.inr (Or.inl ⟨(false, ((h + fp_wl w_2) + fp_dct tx tn (h + fp_wl w_2) 2) + 2, w_2, (fp_dvl tx tn (h + fp_wl w_2) (fp_dct tx tn (h + fp_wl w_2) 2)), (fp_sg tx tn (((h + fp_wl w_2) + fp_dct tx tn (h + fp_wl w_2) 2) + 1)), ((0 : Nat) : Int)), f_3, rfl, (hM_52.nrm rfl), (by omega), ((fp_cmd_3 hw7_4 hwm_5 hd_17).trans (fp_ag_5 (by omega) (fp_lb_3 hs_41 hz_42))), rfl, hle2_43, (by have := fp_wa_b hw7_4; show h < ((h + fp_wl w_2) + fp_dct tx tn (h + fp_wl w_2) 2) + 2; omega)⟩)
                · skip
                  have hM_69 := fp_ME.nrm (sc2 := (va_up (va_up sc 18 (((((h + fp_wl w_2) + fp_dct tx tn (h + fp_wl w_2) 2) + 1 : Nat) : Int))) 21 (((1 : Nat) : Int)))) hM_48 rfl
                  refine r_stk (st2 := [.int (iI (fp_sg tx tn (((h + fp_wl w_2) + fp_dct tx tn (h + fp_wl w_2) 2) + 1)))]) rfl ?_
                  refine lv_istore_n (lv' := [(2, .int (iI (fp_sg tx tn (((h + fp_wl w_2) + fp_dct tx tn (h + fp_wl w_2) 2) + 1)))), (4, .int (iI (fp_dvl tx tn (h + fp_wl w_2) (fp_dct tx tn (h + fp_wl w_2) 2)))), (3, .int (iI ((0 : Nat) : Int))), (1, .int (iI ((w_2 : Nat) : Int))), (0, .ref (ad 0))]) hx hb dX4_command_77 rfl hl (by decide) rfl (fun ls hl => ?_)
                  refine lv_aload_n hx hb dX4_command_78 rfl (lv_at hl 4 rfl) ?_
                  refine r_get X hM_69.1 rfl in_X4 21 (by decide) q2030 (Or.inl rfl) (v := .int (iI ((1 : Nat) : Int))) rfl dX4_command_79 ?_
                  refine r_if_ne (tgt := 92) hx hb (by decide) dX4_command_82 (by decide) (fun c82 => ?_) (fun c82 => ?_)
                  · skip
                    refine r_vret hx hb hr hlk hQ hS (Nat.le_of_ble_eq_true rfl) (Nat.le_of_ble_eq_true rfl) dX4_command_92 ?_
                    exact Or.inl ⟨(true, ((h + fp_wl w_2) + fp_dct tx tn (h + fp_wl w_2) 2) + 1, 0, 0, 0, 0), f_3, rfl, (hM_69.nrm rfl), ((fp_cmd_3 hw7_4 hwm_5 hd_17).trans (fp_ag_4 (by omega) (fp_lb_2 hs_45 hz_46))), rfl, hle2_47⟩
                  · exact absurd c82 (by omega)
                · skip
                  have hM_70 := fp_ME.nrm (sc2 := (va_up (va_up sc 18 (((((h + fp_wl w_2) + fp_dct tx tn (h + fp_wl w_2) 2) : Nat) : Int))) 21 (((1 : Nat) : Int)))) hM_51 rfl
                  refine r_stk (st2 := [.int (iI ((0 : Nat) : Int))]) rfl ?_
                  refine lv_istore_n (lv' := [(2, .int (iI ((0 : Nat) : Int))), (4, .int (iI (fp_dvl tx tn (h + fp_wl w_2) (fp_dct tx tn (h + fp_wl w_2) 2)))), (3, .int (iI ((0 : Nat) : Int))), (1, .int (iI ((w_2 : Nat) : Int))), (0, .ref (ad 0))]) hx hb dX4_command_77 rfl hl (by decide) rfl (fun ls hl => ?_)
                  refine lv_aload_n hx hb dX4_command_78 rfl (lv_at hl 4 rfl) ?_
                  refine r_get X hM_70.1 rfl in_X4 21 (by decide) q2030 (Or.inl rfl) (v := .int (iI ((1 : Nat) : Int))) rfl dX4_command_79 ?_
                  refine r_if_ne (tgt := 92) hx hb (by decide) dX4_command_82 (by decide) (fun c82 => ?_) (fun c82 => ?_)
                  · skip
                    refine r_vret hx hb hr hlk hQ hS (Nat.le_of_ble_eq_true rfl) (Nat.le_of_ble_eq_true rfl) dX4_command_92 ?_
                    exact Or.inl ⟨(true, ((h + fp_wl w_2) + fp_dct tx tn (h + fp_wl w_2) 2), 0, 0, 0, 0), f_3, rfl, (hM_70.nrm rfl), ((fp_cmd_3 hw7_4 hwm_5 hd_17).trans (fp_ag_4 (by omega) (fp_lb_1 hs_49))), rfl, hle2_50⟩
                  · exact absurd c82 (by omega)
          · skip
            exfalso; omega
        · skip
          refine lv_aload_n hx hb dX4_command_32 rfl (lv_at hl 4 rfl) ?_
          refine r_get X hM_23.1 rfl in_X4 21 (by decide) q2030 (Or.inl rfl) (v := .int (iI ((0 : Nat) : Int))) rfl dX4_command_33 ?_
          refine r_if_ne (tgt := 44) hx hb (by decide) dX4_command_36 (by decide) (fun c36 => ?_) (fun c36 => ?_)
          · exact absurd c36 (by omega)
          · skip
            refine lv_aload_n hx hb dX4_command_39 rfl (lv_at hl 4 rfl) ?_
            refine r_callV (cells1 := 0) (slots1 := 0) X hR (c_X4_digitBehind G ad (va_up (va_up sc 18 ((((h + fp_wl w_2) + fp_dct tx tn (h + fp_wl w_2) 2 : Nat) : Int))) 21 (((0 : Nat) : Int))) (va_up ar 14 f_3) hA0 tx tn ((h + fp_wl w_2) + fp_dct tx tn (h + fp_wl w_2) 2) rfl ht h60 hle2_18 htx htb  rfl) q2478 q2480 qs83 q100 q2481 ⟨rfl, pd_X4_digitBehind⟩ (by decide) rfl rfl (by decide) (by decide) hM_23.1 rfl rfl (Nat.le_of_ble_eq_true rfl) hl.1 dX4_command_40 (hB.of hS (fp_ma.base hA0)) hM_23 hS (fun _ h => Or.inl h) (fun v H locs hp_71 hzC hkC hS => ?_)
            rcases hp_71 with ⟨rfl, hM_75, hs_72, hd_73, hle2_74⟩ | ⟨rfl, hM_79, hs_76, hd_77, hle2_78⟩ | ⟨rfl, hM_82, hs_80, hle2_81⟩
            · skip
              have hM_83 := fp_ME.nrm (sc2 := (va_up (va_up sc 18 (((((h + fp_wl w_2) + fp_dct tx tn (h + fp_wl w_2) 2) + 1 + fp_dct tx tn (((h + fp_wl w_2) + fp_dct tx tn (h + fp_wl w_2) 2) + 1) 1 : Nat) : Int))) 21 (((0 : Nat) : Int)))) hM_75 rfl
              refine r_stk (st2 := [.int (iI (fp_dvl tx tn (((h + fp_wl w_2) + fp_dct tx tn (h + fp_wl w_2) 2) + 1) (fp_dct tx tn (((h + fp_wl w_2) + fp_dct tx tn (h + fp_wl w_2) 2) + 1) 1)))]) rfl ?_
              refine lv_istore_n (lv' := [(2, .int (iI (fp_dvl tx tn (((h + fp_wl w_2) + fp_dct tx tn (h + fp_wl w_2) 2) + 1) (fp_dct tx tn (((h + fp_wl w_2) + fp_dct tx tn (h + fp_wl w_2) 2) + 1) 1)))), (4, .int (iI (fp_dvl tx tn (h + fp_wl w_2) (fp_dct tx tn (h + fp_wl w_2) 2)))), (3, .int (iI ((0 : Nat) : Int))), (1, .int (iI ((w_2 : Nat) : Int))), (0, .ref (ad 0))]) hx hb dX4_command_43 rfl hl (by decide) rfl (fun ls hl => ?_)
              refine lv_iload_n hx hb dX4_command_44 rfl (lv_at hl 3 rfl) ?_
              refine lv_iconst (v := (iI ((3 : Nat) : Int))) hx hb dX4_command_45 rfl ?_
              refine r_icmp_ge (tgt := 61) hx hb ⟨by omega, by omega⟩ (by decide) dX4_command_46 (by decide) (fun c46 => ?_) (fun c46 => ?_)
              · skip
                exfalso; omega
              · skip
                refine lv_aload_n hx hb dX4_command_49 rfl (lv_at hl 4 rfl) ?_
                refine r_get X hM_83.1 rfl in_X4 21 (by decide) q2030 (Or.inl rfl) (v := .int (iI ((0 : Nat) : Int))) rfl dX4_command_50 ?_
                refine r_if_ne (tgt := 61) hx hb (by decide) dX4_command_53 (by decide) (fun c53 => ?_) (fun c53 => ?_)
                · exact absurd c53 (by omega)
                · skip
                  refine lv_aload_n hx hb dX4_command_56 rfl (lv_at hl 4 rfl) ?_
                  refine r_callV (cells1 := 0) (slots1 := 0) X hR (c_X4_digitBehind G ad (va_up (va_up sc 18 (((((h + fp_wl w_2) + fp_dct tx tn (h + fp_wl w_2) 2) + 1 + fp_dct tx tn (((h + fp_wl w_2) + fp_dct tx tn (h + fp_wl w_2) 2) + 1) 1 : Nat) : Int))) 21 (((0 : Nat) : Int))) (va_up ar 14 f_3) hA0 tx tn (((h + fp_wl w_2) + fp_dct tx tn (h + fp_wl w_2) 2) + 1 + fp_dct tx tn (((h + fp_wl w_2) + fp_dct tx tn (h + fp_wl w_2) 2) + 1) 1) rfl ht h60 hle2_74 htx htb  rfl) q2478 q2480 qs83 q100 q2481 ⟨rfl, pd_X4_digitBehind⟩ (by decide) rfl rfl (by decide) (by decide) hM_83.1 rfl rfl (Nat.le_of_ble_eq_true rfl) hl.1 dX4_command_57 (hB.of hS (fp_ma.base hA0)) hM_83 hS (fun _ h => Or.inl h) (fun v H locs hp_84 hzC hkC hS => ?_)
                  rcases hp_84 with ⟨rfl, hM_88, hs_85, hd_86, hle2_87⟩ | ⟨rfl, hM_92, hs_89, hd_90, hle2_91⟩ | ⟨rfl, hM_95, hs_93, hle2_94⟩
                  · skip
                    have hM_96 := fp_ME.nrm (sc2 := (va_up (va_up sc 18 ((((((h + fp_wl w_2) + fp_dct tx tn (h + fp_wl w_2) 2) + 1 + fp_dct tx tn (((h + fp_wl w_2) + fp_dct tx tn (h + fp_wl w_2) 2) + 1) 1) + 1 + fp_dct tx tn ((((h + fp_wl w_2) + fp_dct tx tn (h + fp_wl w_2) 2) + 1 + fp_dct tx tn (((h + fp_wl w_2) + fp_dct tx tn (h + fp_wl w_2) 2) + 1) 1) + 1) 1 : Nat) : Int))) 21 (((0 : Nat) : Int)))) hM_88 rfl
                    refine r_stk (st2 := [.int (iI (fp_dvl tx tn ((((h + fp_wl w_2) + fp_dct tx tn (h + fp_wl w_2) 2) + 1 + fp_dct tx tn (((h + fp_wl w_2) + fp_dct tx tn (h + fp_wl w_2) 2) + 1) 1) + 1) (fp_dct tx tn ((((h + fp_wl w_2) + fp_dct tx tn (h + fp_wl w_2) 2) + 1 + fp_dct tx tn (((h + fp_wl w_2) + fp_dct tx tn (h + fp_wl w_2) 2) + 1) 1) + 1) 1)))]) rfl ?_
                    refine lv_istore_n (lv' := [(3, .int (iI (fp_dvl tx tn ((((h + fp_wl w_2) + fp_dct tx tn (h + fp_wl w_2) 2) + 1 + fp_dct tx tn (((h + fp_wl w_2) + fp_dct tx tn (h + fp_wl w_2) 2) + 1) 1) + 1) (fp_dct tx tn ((((h + fp_wl w_2) + fp_dct tx tn (h + fp_wl w_2) 2) + 1 + fp_dct tx tn (((h + fp_wl w_2) + fp_dct tx tn (h + fp_wl w_2) 2) + 1) 1) + 1) 1)))), (2, .int (iI (fp_dvl tx tn (((h + fp_wl w_2) + fp_dct tx tn (h + fp_wl w_2) 2) + 1) (fp_dct tx tn (((h + fp_wl w_2) + fp_dct tx tn (h + fp_wl w_2) 2) + 1) 1)))), (4, .int (iI (fp_dvl tx tn (h + fp_wl w_2) (fp_dct tx tn (h + fp_wl w_2) 2)))), (1, .int (iI ((w_2 : Nat) : Int))), (0, .ref (ad 0))]) hx hb dX4_command_60 rfl hl (by decide) rfl (fun ls hl => ?_)
                    refine lv_iload_n hx hb dX4_command_61 rfl (lv_at hl 3 rfl) ?_
                    refine lv_iconst (v := (iI ((4 : Nat) : Int))) hx hb dX4_command_62 rfl ?_
                    refine r_icmp_ne (tgt := 78) hx hb ⟨by omega, by omega⟩ (by decide) dX4_command_63 (by decide) (fun c63 => ?_) (fun c63 => ?_)
                    · skip
                      refine lv_aload_n hx hb dX4_command_78 rfl (lv_at hl 4 rfl) ?_
                      refine r_get X hM_96.1 rfl in_X4 21 (by decide) q2030 (Or.inl rfl) (v := .int (iI ((0 : Nat) : Int))) rfl dX4_command_79 ?_
                      refine r_if_ne (tgt := 92) hx hb (by decide) dX4_command_82 (by decide) (fun c82 => ?_) (fun c82 => ?_)
                      · exact absurd c82 (by omega)
                      · skip
                        refine lv_aload_n hx hb dX4_command_85 rfl (lv_at hl 4 rfl) ?_
                        refine r_get X hM_96.1 rfl in_X4 22 (by decide) q2031 (Or.inl rfl) (v := .int (iI (sc 22))) rfl dX4_command_86 ?_
                        refine r_set (y := .int (iI ((dg : Nat) : Int))) (congrArg (fun q : Int => Value.int (iI q)) (hdg)) ?_
                        refine r_if_ne (tgt := 93) hx hb ⟨by omega, by omega⟩ dX4_command_89 (by decide) (fun c89 => ?_) (fun c89 => ?_)
                        · skip
                          refine lv_aload_n hx hb dX4_command_93 rfl (lv_at hl 4 rfl) ?_
                          refine lv_iload_n hx hb dX4_command_94 rfl (lv_at hl 3 rfl) ?_
                          refine lv_iload hx hb dX4_command_95 (lv_at hl 2 rfl) ?_
                          refine lv_iload_n hx hb dX4_command_97 rfl (lv_at hl 1 rfl) ?_
                          refine lv_iload_n hx hb dX4_command_98 rfl (lv_at hl 0 rfl) ?_
                          refine r_callV (cells1 := 0) (slots1 := 0) X hR (c_X4_does G ad (va_up (va_up sc 18 ((((((h + fp_wl w_2) + fp_dct tx tn (h + fp_wl w_2) 2) + 1 + fp_dct tx tn (((h + fp_wl w_2) + fp_dct tx tn (h + fp_wl w_2) 2) + 1) 1) + 1 + fp_dct tx tn ((((h + fp_wl w_2) + fp_dct tx tn (h + fp_wl w_2) 2) + 1 + fp_dct tx tn (((h + fp_wl w_2) + fp_dct tx tn (h + fp_wl w_2) 2) + 1) 1) + 1) 1 : Nat) : Int))) 21 (((0 : Nat) : Int))) (va_up ar 14 f_3) S hA0 hV hth w_2 (fp_dvl tx tn (h + fp_wl w_2) (fp_dct tx tn (h + fp_wl w_2) 2)) (fp_dvl tx tn (((h + fp_wl w_2) + fp_dct tx tn (h + fp_wl w_2) 2) + 1) (fp_dct tx tn (((h + fp_wl w_2) + fp_dct tx tn (h + fp_wl w_2) 2) + 1) 1)) (fp_dvl tx tn ((((h + fp_wl w_2) + fp_dct tx tn (h + fp_wl w_2) 2) + 1 + fp_dct tx tn (((h + fp_wl w_2) + fp_dct tx tn (h + fp_wl w_2) 2) + 1) 1) + 1) (fp_dct tx tn ((((h + fp_wl w_2) + fp_dct tx tn (h + fp_wl w_2) 2) + 1 + fp_dct tx tn (((h + fp_wl w_2) + fp_dct tx tn (h + fp_wl w_2) 2) + 1) 1) + 1) 1)) (by omega) (by first | exact fp_dvl_rg2 _ _ _ | exact fp_dvl_rg1 _ _ _ | exact fp_sg_rg htb _ | decide) (by first | exact fp_dvl_rg2 _ _ _ | exact fp_dvl_rg1 _ _ _ | exact fp_sg_rg htb _ | decide) (by first | exact fp_dvl_rg2 _ _ _ | exact fp_dvl_rg1 _ _ _ | exact fp_sg_rg htb _ | decide) hsp h30) q2490 q2492 qs86 q100 q2493 ⟨rfl, pd_X4_does⟩ (by decide) rfl rfl (by decide) (by decide) hM_96.1 rfl rfl (Nat.le_of_ble_eq_true rfl) hl.1 dX4_command_99 (hB.of hS (fp_ma.base hA0)) hM_96 hS (fun _ h => Or.inl h) (fun v H locs hp_97 hzC hkC hS => ?_)
                          rcases hp_97 with ⟨z_98, t_99, v2_100, f_101, rfl, hM_104, hd_102, ht0_103⟩ | ⟨z_105, v2_106, f_107, rfl, hM_110, hd_108, hV2_109⟩
                          · skip
                            have hM_111 := fp_ME.nrm (sc2 := (va_up (va_up (va_up sc 18 ((((((h + fp_wl w_2) + fp_dct tx tn (h + fp_wl w_2) 2) + 1 + fp_dct tx tn (((h + fp_wl w_2) + fp_dct tx tn (h + fp_wl w_2) 2) + 1) 1) + 1 + fp_dct tx tn ((((h + fp_wl w_2) + fp_dct tx tn (h + fp_wl w_2) 2) + 1 + fp_dct tx tn (((h + fp_wl w_2) + fp_dct tx tn (h + fp_wl w_2) 2) + 1) 1) + 1) 1 : Nat) : Int))) 21 (((0 : Nat) : Int))) 0 (((t_99 : Nat) : Int)))) hM_104 rfl
                            refine r_stk (st2 := [.int (iI (z_98))]) rfl ?_
                            refine lv_istore (lv' := [(5, .int (iI (z_98))), (3, .int (iI (fp_dvl tx tn ((((h + fp_wl w_2) + fp_dct tx tn (h + fp_wl w_2) 2) + 1 + fp_dct tx tn (((h + fp_wl w_2) + fp_dct tx tn (h + fp_wl w_2) 2) + 1) 1) + 1) (fp_dct tx tn ((((h + fp_wl w_2) + fp_dct tx tn (h + fp_wl w_2) 2) + 1 + fp_dct tx tn (((h + fp_wl w_2) + fp_dct tx tn (h + fp_wl w_2) 2) + 1) 1) + 1) 1)))), (2, .int (iI (fp_dvl tx tn (((h + fp_wl w_2) + fp_dct tx tn (h + fp_wl w_2) 2) + 1) (fp_dct tx tn (((h + fp_wl w_2) + fp_dct tx tn (h + fp_wl w_2) 2) + 1) 1)))), (4, .int (iI (fp_dvl tx tn (h + fp_wl w_2) (fp_dct tx tn (h + fp_wl w_2) 2)))), (1, .int (iI ((w_2 : Nat) : Int))), (0, .ref (ad 0))]) hx hb dX4_command_102 hl (by decide) rfl (fun ls hl => ?_)
                            refine r_vret hx hb hr hlk hQ hS (Nat.le_of_ble_eq_true rfl) (Nat.le_of_ble_eq_true rfl) dX4_command_104 ?_
                            exact Or.inr (Or.inr (Or.inl ⟨(false, (((h + fp_wl w_2) + fp_dct tx tn (h + fp_wl w_2) 2) + 1 + fp_dct tx tn (((h + fp_wl w_2) + fp_dct tx tn (h + fp_wl w_2) 2) + 1) 1) + 1 + fp_dct tx tn ((((h + fp_wl w_2) + fp_dct tx tn (h + fp_wl w_2) 2) + 1 + fp_dct tx tn (((h + fp_wl w_2) + fp_dct tx tn (h + fp_wl w_2) 2) + 1) 1) + 1) 1, w_2, (fp_dvl tx tn (h + fp_wl w_2) (fp_dct tx tn (h + fp_wl w_2) 2)), (fp_dvl tx tn (((h + fp_wl w_2) + fp_dct tx tn (h + fp_wl w_2) 2) + 1) (fp_dct tx tn (((h + fp_wl w_2) + fp_dct tx tn (h + fp_wl w_2) 2) + 1) 1)), (fp_dvl tx tn ((((h + fp_wl w_2) + fp_dct tx tn (h + fp_wl w_2) 2) + 1 + fp_dct tx tn (((h + fp_wl w_2) + fp_dct tx tn (h + fp_wl w_2) 2) + 1) 1) + 1) (fp_dct tx tn ((((h + fp_wl w_2) + fp_dct tx tn (h + fp_wl w_2) 2) + 1 + fp_dct tx tn (((h + fp_wl w_2) + fp_dct tx tn (h + fp_wl w_2) 2) + 1) 1) + 1) 1))), f_3, t_99, v2_100, f_101, rfl, (hM_111.nrm rfl), (by omega), ((fp_cmd_3 hw7_4 hwm_5 hd_17).trans (fp_ag_3 (by omega) (fp_db_3 hs_72 hd_73) (fp_db_3 hs_85 hd_86))), rfl, hle2_87, (by have := fp_wa_b hw7_4; show h < (((h + fp_wl w_2) + fp_dct tx tn (h + fp_wl w_2) 2) + 1 + fp_dct tx tn (((h + fp_wl w_2) + fp_dct tx tn (h + fp_wl w_2) 2) + 1) 1) + 1 + fp_dct tx tn ((((h + fp_wl w_2) + fp_dct tx tn (h + fp_wl w_2) 2) + 1 + fp_dct tx tn (((h + fp_wl w_2) + fp_dct tx tn (h + fp_wl w_2) 2) + 1) 1) + 1) 1; omega), hd_102, ht0_103⟩))
                          · skip
                            have hM_112 := fp_ME.nrm (sc2 := (va_up (va_up (va_up sc 18 ((((((h + fp_wl w_2) + fp_dct tx tn (h + fp_wl w_2) 2) + 1 + fp_dct tx tn (((h + fp_wl w_2) + fp_dct tx tn (h + fp_wl w_2) 2) + 1) 1) + 1 + fp_dct tx tn ((((h + fp_wl w_2) + fp_dct tx tn (h + fp_wl w_2) 2) + 1 + fp_dct tx tn (((h + fp_wl w_2) + fp_dct tx tn (h + fp_wl w_2) 2) + 1) 1) + 1) 1 : Nat) : Int))) 21 (((0 : Nat) : Int))) 0 (((0 : Nat) : Int)))) hM_110 rfl
                            refine r_stk (st2 := [.int (iI (z_105))]) rfl ?_
                            refine lv_istore (lv' := [(5, .int (iI (z_105))), (3, .int (iI (fp_dvl tx tn ((((h + fp_wl w_2) + fp_dct tx tn (h + fp_wl w_2) 2) + 1 + fp_dct tx tn (((h + fp_wl w_2) + fp_dct tx tn (h + fp_wl w_2) 2) + 1) 1) + 1) (fp_dct tx tn ((((h + fp_wl w_2) + fp_dct tx tn (h + fp_wl w_2) 2) + 1 + fp_dct tx tn (((h + fp_wl w_2) + fp_dct tx tn (h + fp_wl w_2) 2) + 1) 1) + 1) 1)))), (2, .int (iI (fp_dvl tx tn (((h + fp_wl w_2) + fp_dct tx tn (h + fp_wl w_2) 2) + 1) (fp_dct tx tn (((h + fp_wl w_2) + fp_dct tx tn (h + fp_wl w_2) 2) + 1) 1)))), (4, .int (iI (fp_dvl tx tn (h + fp_wl w_2) (fp_dct tx tn (h + fp_wl w_2) 2)))), (1, .int (iI ((w_2 : Nat) : Int))), (0, .ref (ad 0))]) hx hb dX4_command_102 hl (by decide) rfl (fun ls hl => ?_)
                            refine r_vret hx hb hr hlk hQ hS (Nat.le_of_ble_eq_true rfl) (Nat.le_of_ble_eq_true rfl) dX4_command_104 ?_
                            exact Or.inr (Or.inr (Or.inr (⟨(false, (((h + fp_wl w_2) + fp_dct tx tn (h + fp_wl w_2) 2) + 1 + fp_dct tx tn (((h + fp_wl w_2) + fp_dct tx tn (h + fp_wl w_2) 2) + 1) 1) + 1 + fp_dct tx tn ((((h + fp_wl w_2) + fp_dct tx tn (h + fp_wl w_2) 2) + 1 + fp_dct tx tn (((h + fp_wl w_2) + fp_dct tx tn (h + fp_wl w_2) 2) + 1) 1) + 1) 1, w_2, (fp_dvl tx tn (h + fp_wl w_2) (fp_dct tx tn (h + fp_wl w_2) 2)), (fp_dvl tx tn (((h + fp_wl w_2) + fp_dct tx tn (h + fp_wl w_2) 2) + 1) (fp_dct tx tn (((h + fp_wl w_2) + fp_dct tx tn (h + fp_wl w_2) 2) + 1) 1)), (fp_dvl tx tn ((((h + fp_wl w_2) + fp_dct tx tn (h + fp_wl w_2) 2) + 1 + fp_dct tx tn (((h + fp_wl w_2) + fp_dct tx tn (h + fp_wl w_2) 2) + 1) 1) + 1) (fp_dct tx tn ((((h + fp_wl w_2) + fp_dct tx tn (h + fp_wl w_2) 2) + 1 + fp_dct tx tn (((h + fp_wl w_2) + fp_dct tx tn (h + fp_wl w_2) 2) + 1) 1) + 1) 1))), f_3, v2_106, f_107, rfl, (hM_112.nrm rfl), (by omega), ((fp_cmd_3 hw7_4 hwm_5 hd_17).trans (fp_ag_3 (by omega) (fp_db_3 hs_72 hd_73) (fp_db_3 hs_85 hd_86))), rfl, hle2_87, (by have := fp_wa_b hw7_4; show h < (((h + fp_wl w_2) + fp_dct tx tn (h + fp_wl w_2) 2) + 1 + fp_dct tx tn (((h + fp_wl w_2) + fp_dct tx tn (h + fp_wl w_2) 2) + 1) 1) + 1 + fp_dct tx tn ((((h + fp_wl w_2) + fp_dct tx tn (h + fp_wl w_2) 2) + 1 + fp_dct tx tn (((h + fp_wl w_2) + fp_dct tx tn (h + fp_wl w_2) 2) + 1) 1) + 1) 1; omega), hd_108, hV2_109⟩)))
                        · skip
                          refine r_vret hx hb hr hlk hQ hS (Nat.le_of_ble_eq_true rfl) (Nat.le_of_ble_eq_true rfl) dX4_command_92 ?_
                          exact Or.inr (Or.inl ⟨(false, (((h + fp_wl w_2) + fp_dct tx tn (h + fp_wl w_2) 2) + 1 + fp_dct tx tn (((h + fp_wl w_2) + fp_dct tx tn (h + fp_wl w_2) 2) + 1) 1) + 1 + fp_dct tx tn ((((h + fp_wl w_2) + fp_dct tx tn (h + fp_wl w_2) 2) + 1 + fp_dct tx tn (((h + fp_wl w_2) + fp_dct tx tn (h + fp_wl w_2) 2) + 1) 1) + 1) 1, w_2, (fp_dvl tx tn (h + fp_wl w_2) (fp_dct tx tn (h + fp_wl w_2) 2)), (fp_dvl tx tn (((h + fp_wl w_2) + fp_dct tx tn (h + fp_wl w_2) 2) + 1) (fp_dct tx tn (((h + fp_wl w_2) + fp_dct tx tn (h + fp_wl w_2) 2) + 1) 1)), (fp_dvl tx tn ((((h + fp_wl w_2) + fp_dct tx tn (h + fp_wl w_2) 2) + 1 + fp_dct tx tn (((h + fp_wl w_2) + fp_dct tx tn (h + fp_wl w_2) 2) + 1) 1) + 1) (fp_dct tx tn ((((h + fp_wl w_2) + fp_dct tx tn (h + fp_wl w_2) 2) + 1 + fp_dct tx tn (((h + fp_wl w_2) + fp_dct tx tn (h + fp_wl w_2) 2) + 1) 1) + 1) 1))), f_3, rfl, (hM_96.nrm rfl), (by omega), ((fp_cmd_3 hw7_4 hwm_5 hd_17).trans (fp_ag_3 (by omega) (fp_db_3 hs_72 hd_73) (fp_db_3 hs_85 hd_86))), rfl, hle2_87, (by have := fp_wa_b hw7_4; show h < (((h + fp_wl w_2) + fp_dct tx tn (h + fp_wl w_2) 2) + 1 + fp_dct tx tn (((h + fp_wl w_2) + fp_dct tx tn (h + fp_wl w_2) 2) + 1) 1) + 1 + fp_dct tx tn ((((h + fp_wl w_2) + fp_dct tx tn (h + fp_wl w_2) 2) + 1 + fp_dct tx tn (((h + fp_wl w_2) + fp_dct tx tn (h + fp_wl w_2) 2) + 1) 1) + 1) 1; omega)⟩)
                    · skip
                      exfalso; omega
                  · skip
                    have hM_113 := fp_ME.nrm (sc2 := (va_up (va_up sc 18 ((((((h + fp_wl w_2) + fp_dct tx tn (h + fp_wl w_2) 2) + 1 + fp_dct tx tn (((h + fp_wl w_2) + fp_dct tx tn (h + fp_wl w_2) 2) + 1) 1) + 1 : Nat) : Int))) 21 (((1 : Nat) : Int)))) hM_92 rfl
                    refine r_stk (st2 := [.int (iI ((0 : Nat) : Int))]) rfl ?_
                    refine lv_istore_n (lv' := [(3, .int (iI ((0 : Nat) : Int))), (2, .int (iI (fp_dvl tx tn (((h + fp_wl w_2) + fp_dct tx tn (h + fp_wl w_2) 2) + 1) (fp_dct tx tn (((h + fp_wl w_2) + fp_dct tx tn (h + fp_wl w_2) 2) + 1) 1)))), (4, .int (iI (fp_dvl tx tn (h + fp_wl w_2) (fp_dct tx tn (h + fp_wl w_2) 2)))), (1, .int (iI ((w_2 : Nat) : Int))), (0, .ref (ad 0))]) hx hb dX4_command_60 rfl hl (by decide) rfl (fun ls hl => ?_)
                    refine lv_iload_n hx hb dX4_command_61 rfl (lv_at hl 3 rfl) ?_
                    refine lv_iconst (v := (iI ((4 : Nat) : Int))) hx hb dX4_command_62 rfl ?_
                    refine r_icmp_ne (tgt := 78) hx hb ⟨by omega, by omega⟩ (by decide) dX4_command_63 (by decide) (fun c63 => ?_) (fun c63 => ?_)
                    · skip
                      refine lv_aload_n hx hb dX4_command_78 rfl (lv_at hl 4 rfl) ?_
                      refine r_get X hM_113.1 rfl in_X4 21 (by decide) q2030 (Or.inl rfl) (v := .int (iI ((1 : Nat) : Int))) rfl dX4_command_79 ?_
                      refine r_if_ne (tgt := 92) hx hb (by decide) dX4_command_82 (by decide) (fun c82 => ?_) (fun c82 => ?_)
                      · skip
                        refine r_vret hx hb hr hlk hQ hS (Nat.le_of_ble_eq_true rfl) (Nat.le_of_ble_eq_true rfl) dX4_command_92 ?_
                        exact Or.inl ⟨(true, (((h + fp_wl w_2) + fp_dct tx tn (h + fp_wl w_2) 2) + 1 + fp_dct tx tn (((h + fp_wl w_2) + fp_dct tx tn (h + fp_wl w_2) 2) + 1) 1) + 1, 0, 0, 0, 0), f_3, rfl, (hM_113.nrm rfl), ((fp_cmd_3 hw7_4 hwm_5 hd_17).trans (fp_ag_2 (by omega) (fp_db_3 hs_72 hd_73) (fp_db_2 hs_89 hd_90))), rfl, hle2_91⟩
                      · exact absurd c82 (by omega)
                    · skip
                      exfalso; omega
                  · skip
                    have hM_114 := fp_ME.nrm (sc2 := (va_up (va_up sc 18 ((((((h + fp_wl w_2) + fp_dct tx tn (h + fp_wl w_2) 2) + 1 + fp_dct tx tn (((h + fp_wl w_2) + fp_dct tx tn (h + fp_wl w_2) 2) + 1) 1) : Nat) : Int))) 21 (((1 : Nat) : Int)))) hM_95 rfl
                    refine r_stk (st2 := [.int (iI ((0 : Nat) : Int))]) rfl ?_
                    refine lv_istore_n (lv' := [(3, .int (iI ((0 : Nat) : Int))), (2, .int (iI (fp_dvl tx tn (((h + fp_wl w_2) + fp_dct tx tn (h + fp_wl w_2) 2) + 1) (fp_dct tx tn (((h + fp_wl w_2) + fp_dct tx tn (h + fp_wl w_2) 2) + 1) 1)))), (4, .int (iI (fp_dvl tx tn (h + fp_wl w_2) (fp_dct tx tn (h + fp_wl w_2) 2)))), (1, .int (iI ((w_2 : Nat) : Int))), (0, .ref (ad 0))]) hx hb dX4_command_60 rfl hl (by decide) rfl (fun ls hl => ?_)
                    refine lv_iload_n hx hb dX4_command_61 rfl (lv_at hl 3 rfl) ?_
                    refine lv_iconst (v := (iI ((4 : Nat) : Int))) hx hb dX4_command_62 rfl ?_
                    refine r_icmp_ne (tgt := 78) hx hb ⟨by omega, by omega⟩ (by decide) dX4_command_63 (by decide) (fun c63 => ?_) (fun c63 => ?_)
                    · skip
                      refine lv_aload_n hx hb dX4_command_78 rfl (lv_at hl 4 rfl) ?_
                      refine r_get X hM_114.1 rfl in_X4 21 (by decide) q2030 (Or.inl rfl) (v := .int (iI ((1 : Nat) : Int))) rfl dX4_command_79 ?_
                      refine r_if_ne (tgt := 92) hx hb (by decide) dX4_command_82 (by decide) (fun c82 => ?_) (fun c82 => ?_)
                      · skip
                        refine r_vret hx hb hr hlk hQ hS (Nat.le_of_ble_eq_true rfl) (Nat.le_of_ble_eq_true rfl) dX4_command_92 ?_
                        exact Or.inl ⟨(true, (((h + fp_wl w_2) + fp_dct tx tn (h + fp_wl w_2) 2) + 1 + fp_dct tx tn (((h + fp_wl w_2) + fp_dct tx tn (h + fp_wl w_2) 2) + 1) 1), 0, 0, 0, 0), f_3, rfl, (hM_114.nrm rfl), ((fp_cmd_3 hw7_4 hwm_5 hd_17).trans (fp_ag_2 (by omega) (fp_db_3 hs_72 hd_73) (fp_db_1 hs_93))), rfl, hle2_94⟩
                      · exact absurd c82 (by omega)
                    · skip
                      exfalso; omega
            · skip
              have hM_115 := fp_ME.nrm (sc2 := (va_up (va_up sc 18 (((((h + fp_wl w_2) + fp_dct tx tn (h + fp_wl w_2) 2) + 1 : Nat) : Int))) 21 (((1 : Nat) : Int)))) hM_79 rfl
              refine r_stk (st2 := [.int (iI ((0 : Nat) : Int))]) rfl ?_
              refine lv_istore_n (lv' := [(2, .int (iI ((0 : Nat) : Int))), (4, .int (iI (fp_dvl tx tn (h + fp_wl w_2) (fp_dct tx tn (h + fp_wl w_2) 2)))), (3, .int (iI ((0 : Nat) : Int))), (1, .int (iI ((w_2 : Nat) : Int))), (0, .ref (ad 0))]) hx hb dX4_command_43 rfl hl (by decide) rfl (fun ls hl => ?_)
              refine lv_iload_n hx hb dX4_command_44 rfl (lv_at hl 3 rfl) ?_
              refine lv_iconst (v := (iI ((3 : Nat) : Int))) hx hb dX4_command_45 rfl ?_
              refine r_icmp_ge (tgt := 61) hx hb ⟨by omega, by omega⟩ (by decide) dX4_command_46 (by decide) (fun c46 => ?_) (fun c46 => ?_)
              · skip
                exfalso; omega
              · skip
                refine lv_aload_n hx hb dX4_command_49 rfl (lv_at hl 4 rfl) ?_
                refine r_get X hM_115.1 rfl in_X4 21 (by decide) q2030 (Or.inl rfl) (v := .int (iI ((1 : Nat) : Int))) rfl dX4_command_50 ?_
                refine r_if_ne (tgt := 61) hx hb (by decide) dX4_command_53 (by decide) (fun c53 => ?_) (fun c53 => ?_)
                · skip
                  refine lv_iload_n hx hb dX4_command_61 rfl (lv_at hl 3 rfl) ?_
                  refine lv_iconst (v := (iI ((4 : Nat) : Int))) hx hb dX4_command_62 rfl ?_
                  refine r_icmp_ne (tgt := 78) hx hb ⟨by omega, by omega⟩ (by decide) dX4_command_63 (by decide) (fun c63 => ?_) (fun c63 => ?_)
                  · skip
                    refine lv_aload_n hx hb dX4_command_78 rfl (lv_at hl 4 rfl) ?_
                    refine r_get X hM_115.1 rfl in_X4 21 (by decide) q2030 (Or.inl rfl) (v := .int (iI ((1 : Nat) : Int))) rfl dX4_command_79 ?_
                    refine r_if_ne (tgt := 92) hx hb (by decide) dX4_command_82 (by decide) (fun c82 => ?_) (fun c82 => ?_)
                    · skip
                      refine r_vret hx hb hr hlk hQ hS (Nat.le_of_ble_eq_true rfl) (Nat.le_of_ble_eq_true rfl) dX4_command_92 ?_
                      exact Or.inl ⟨(true, ((h + fp_wl w_2) + fp_dct tx tn (h + fp_wl w_2) 2) + 1, 0, 0, 0, 0), f_3, rfl, (hM_115.nrm rfl), ((fp_cmd_3 hw7_4 hwm_5 hd_17).trans (fp_ag_1 (by omega) (fp_db_2 hs_76 hd_77))), rfl, hle2_78⟩
                    · exact absurd c82 (by omega)
                  · skip
                    exfalso; omega
                · exact absurd c53 (by omega)
            · skip
              have hM_116 := fp_ME.nrm (sc2 := (va_up (va_up sc 18 (((((h + fp_wl w_2) + fp_dct tx tn (h + fp_wl w_2) 2) : Nat) : Int))) 21 (((1 : Nat) : Int)))) hM_82 rfl
              refine r_stk (st2 := [.int (iI ((0 : Nat) : Int))]) rfl ?_
              refine lv_istore_n (lv' := [(2, .int (iI ((0 : Nat) : Int))), (4, .int (iI (fp_dvl tx tn (h + fp_wl w_2) (fp_dct tx tn (h + fp_wl w_2) 2)))), (3, .int (iI ((0 : Nat) : Int))), (1, .int (iI ((w_2 : Nat) : Int))), (0, .ref (ad 0))]) hx hb dX4_command_43 rfl hl (by decide) rfl (fun ls hl => ?_)
              refine lv_iload_n hx hb dX4_command_44 rfl (lv_at hl 3 rfl) ?_
              refine lv_iconst (v := (iI ((3 : Nat) : Int))) hx hb dX4_command_45 rfl ?_
              refine r_icmp_ge (tgt := 61) hx hb ⟨by omega, by omega⟩ (by decide) dX4_command_46 (by decide) (fun c46 => ?_) (fun c46 => ?_)
              · skip
                exfalso; omega
              · skip
                refine lv_aload_n hx hb dX4_command_49 rfl (lv_at hl 4 rfl) ?_
                refine r_get X hM_116.1 rfl in_X4 21 (by decide) q2030 (Or.inl rfl) (v := .int (iI ((1 : Nat) : Int))) rfl dX4_command_50 ?_
                refine r_if_ne (tgt := 61) hx hb (by decide) dX4_command_53 (by decide) (fun c53 => ?_) (fun c53 => ?_)
                · skip
                  refine lv_iload_n hx hb dX4_command_61 rfl (lv_at hl 3 rfl) ?_
                  refine lv_iconst (v := (iI ((4 : Nat) : Int))) hx hb dX4_command_62 rfl ?_
                  refine r_icmp_ne (tgt := 78) hx hb ⟨by omega, by omega⟩ (by decide) dX4_command_63 (by decide) (fun c63 => ?_) (fun c63 => ?_)
                  · skip
                    refine lv_aload_n hx hb dX4_command_78 rfl (lv_at hl 4 rfl) ?_
                    refine r_get X hM_116.1 rfl in_X4 21 (by decide) q2030 (Or.inl rfl) (v := .int (iI ((1 : Nat) : Int))) rfl dX4_command_79 ?_
                    refine r_if_ne (tgt := 92) hx hb (by decide) dX4_command_82 (by decide) (fun c82 => ?_) (fun c82 => ?_)
                    · skip
                      refine r_vret hx hb hr hlk hQ hS (Nat.le_of_ble_eq_true rfl) (Nat.le_of_ble_eq_true rfl) dX4_command_92 ?_
                      exact Or.inl ⟨(true, ((h + fp_wl w_2) + fp_dct tx tn (h + fp_wl w_2) 2), 0, 0, 0, 0), f_3, rfl, (hM_116.nrm rfl), ((fp_cmd_3 hw7_4 hwm_5 hd_17).trans (fp_ag_1 (by omega) (fp_db_1 hs_80))), rfl, hle2_81⟩
                    · exact absurd c82 (by omega)
                  · skip
                    exfalso; omega
                · exact absurd c53 (by omega)
      · skip
        have hM_117 := fp_ME.nrm (sc2 := (va_up (va_up sc 18 ((((h + fp_wl w_2) : Nat) : Int))) 21 (((1 : Nat) : Int)))) hM_22 rfl
        refine r_stk (st2 := [.int (iI ((0 : Nat) : Int))]) rfl ?_
        refine lv_istore (lv' := [(4, .int (iI ((0 : Nat) : Int))), (3, .int (iI ((0 : Nat) : Int))), (2, .int (iI ((0 : Nat) : Int))), (1, .int (iI ((w_2 : Nat) : Int))), (0, .ref (ad 0))]) hx hb dX4_command_25 hl (by decide) rfl (fun ls hl => ?_)
        refine lv_iload_n hx hb dX4_command_27 rfl (lv_at hl 3 rfl) ?_
        refine lv_iconst (v := (iI ((3 : Nat) : Int))) hx hb dX4_command_28 rfl ?_
        refine r_icmp_ge (tgt := 44) hx hb ⟨by omega, by omega⟩ (by decide) dX4_command_29 (by decide) (fun c29 => ?_) (fun c29 => ?_)
        · skip
          refine lv_iload_n hx hb dX4_command_44 rfl (lv_at hl 3 rfl) ?_
          refine lv_iconst (v := (iI ((3 : Nat) : Int))) hx hb dX4_command_45 rfl ?_
          refine r_icmp_ge (tgt := 61) hx hb ⟨by omega, by omega⟩ (by decide) dX4_command_46 (by decide) (fun c46 => ?_) (fun c46 => ?_)
          · skip
            refine lv_iload_n hx hb dX4_command_61 rfl (lv_at hl 3 rfl) ?_
            refine lv_iconst (v := (iI ((4 : Nat) : Int))) hx hb dX4_command_62 rfl ?_
            refine r_icmp_ne (tgt := 78) hx hb ⟨by omega, by omega⟩ (by decide) dX4_command_63 (by decide) (fun c63 => ?_) (fun c63 => ?_)
            · skip
              refine lv_aload_n hx hb dX4_command_78 rfl (lv_at hl 4 rfl) ?_
              refine r_get X hM_117.1 rfl in_X4 21 (by decide) q2030 (Or.inl rfl) (v := .int (iI ((1 : Nat) : Int))) rfl dX4_command_79 ?_
              refine r_if_ne (tgt := 92) hx hb (by decide) dX4_command_82 (by decide) (fun c82 => ?_) (fun c82 => ?_)
              · skip
                refine r_vret hx hb hr hlk hQ hS (Nat.le_of_ble_eq_true rfl) (Nat.le_of_ble_eq_true rfl) dX4_command_92 ?_
                exact Or.inl ⟨(true, (h + fp_wl w_2), 0, 0, 0, 0), f_3, rfl, (hM_117.nrm rfl), (fp_cmd_2 hw7_4 hwm_5 hd_20), rfl, hle2_21⟩
              · exact absurd c82 (by omega)
            · skip
              refine lv_aload_n hx hb dX4_command_66 rfl (lv_at hl 4 rfl) ?_
              refine r_get X hM_117.1 rfl in_X4 21 (by decide) q2030 (Or.inl rfl) (v := .int (iI ((1 : Nat) : Int))) rfl dX4_command_67 ?_
              refine r_if_ne (tgt := 78) hx hb (by decide) dX4_command_70 (by decide) (fun c70 => ?_) (fun c70 => ?_)
              · skip
                refine lv_aload_n hx hb dX4_command_78 rfl (lv_at hl 4 rfl) ?_
                refine r_get X hM_117.1 rfl in_X4 21 (by decide) q2030 (Or.inl rfl) (v := .int (iI ((1 : Nat) : Int))) rfl dX4_command_79 ?_
                refine r_if_ne (tgt := 92) hx hb (by decide) dX4_command_82 (by decide) (fun c82 => ?_) (fun c82 => ?_)
                · skip
                  refine r_vret hx hb hr hlk hQ hS (Nat.le_of_ble_eq_true rfl) (Nat.le_of_ble_eq_true rfl) dX4_command_92 ?_
                  exact Or.inl ⟨(true, (h + fp_wl w_2), 0, 0, 0, 0), f_3, rfl, (hM_117.nrm rfl), (fp_cmd_2 hw7_4 hwm_5 hd_20), rfl, hle2_21⟩
                · exact absurd c82 (by omega)
              · exact absurd c70 (by omega)
          · skip
            exfalso; omega
        · skip
          refine lv_aload_n hx hb dX4_command_32 rfl (lv_at hl 4 rfl) ?_
          refine r_get X hM_117.1 rfl in_X4 21 (by decide) q2030 (Or.inl rfl) (v := .int (iI ((1 : Nat) : Int))) rfl dX4_command_33 ?_
          refine r_if_ne (tgt := 44) hx hb (by decide) dX4_command_36 (by decide) (fun c36 => ?_) (fun c36 => ?_)
          · skip
            refine lv_iload_n hx hb dX4_command_44 rfl (lv_at hl 3 rfl) ?_
            refine lv_iconst (v := (iI ((3 : Nat) : Int))) hx hb dX4_command_45 rfl ?_
            refine r_icmp_ge (tgt := 61) hx hb ⟨by omega, by omega⟩ (by decide) dX4_command_46 (by decide) (fun c46 => ?_) (fun c46 => ?_)
            · skip
              exfalso; omega
            · skip
              refine lv_aload_n hx hb dX4_command_49 rfl (lv_at hl 4 rfl) ?_
              refine r_get X hM_117.1 rfl in_X4 21 (by decide) q2030 (Or.inl rfl) (v := .int (iI ((1 : Nat) : Int))) rfl dX4_command_50 ?_
              refine r_if_ne (tgt := 61) hx hb (by decide) dX4_command_53 (by decide) (fun c53 => ?_) (fun c53 => ?_)
              · skip
                refine lv_iload_n hx hb dX4_command_61 rfl (lv_at hl 3 rfl) ?_
                refine lv_iconst (v := (iI ((4 : Nat) : Int))) hx hb dX4_command_62 rfl ?_
                refine r_icmp_ne (tgt := 78) hx hb ⟨by omega, by omega⟩ (by decide) dX4_command_63 (by decide) (fun c63 => ?_) (fun c63 => ?_)
                · skip
                  refine lv_aload_n hx hb dX4_command_78 rfl (lv_at hl 4 rfl) ?_
                  refine r_get X hM_117.1 rfl in_X4 21 (by decide) q2030 (Or.inl rfl) (v := .int (iI ((1 : Nat) : Int))) rfl dX4_command_79 ?_
                  refine r_if_ne (tgt := 92) hx hb (by decide) dX4_command_82 (by decide) (fun c82 => ?_) (fun c82 => ?_)
                  · skip
                    refine r_vret hx hb hr hlk hQ hS (Nat.le_of_ble_eq_true rfl) (Nat.le_of_ble_eq_true rfl) dX4_command_92 ?_
                    exact Or.inl ⟨(true, (h + fp_wl w_2), 0, 0, 0, 0), f_3, rfl, (hM_117.nrm rfl), (fp_cmd_2 hw7_4 hwm_5 hd_20), rfl, hle2_21⟩
                  · exact absurd c82 (by omega)
                · skip
                  exfalso; omega
              · exact absurd c53 (by omega)
          · exact absurd c36 (by omega)
    · exact absurd c13 (by omega)
  · skip
    have hM_118 := fp_ME.nrm (sc2 := (va_up (va_up sc 18 (((h + q_8 : Nat) : Int))) 21 (((1 : Nat) : Int)))) hM_14 rfl
    refine r_stk (st2 := [.int (iI (-1))]) rfl ?_
    refine lv_istore_n (lv' := [(1, .int (iI (-1))), (0, .ref (ad 0))]) hx hb dX4_command_4 rfl hl (by decide) rfl (fun ls hl => ?_)
    refine lv_iconst (v := (iI ((0 : Nat) : Int))) hx hb dX4_command_5 rfl ?_
    refine lv_istore_n (lv' := [(2, .int (iI ((0 : Nat) : Int))), (1, .int (iI (-1))), (0, .ref (ad 0))]) hx hb dX4_command_6 rfl hl (by decide) rfl (fun ls hl => ?_)
    refine lv_iconst (v := (iI ((0 : Nat) : Int))) hx hb dX4_command_7 rfl ?_
    refine lv_istore_n (lv' := [(3, .int (iI ((0 : Nat) : Int))), (2, .int (iI ((0 : Nat) : Int))), (1, .int (iI (-1))), (0, .ref (ad 0))]) hx hb dX4_command_8 rfl hl (by decide) rfl (fun ls hl => ?_)
    refine lv_aload_n hx hb dX4_command_9 rfl (lv_at hl 3 rfl) ?_
    refine r_get X hM_118.1 rfl in_X4 21 (by decide) q2030 (Or.inl rfl) (v := .int (iI ((1 : Nat) : Int))) rfl dX4_command_10 ?_
    refine r_if_eq (tgt := 20) hx hb (by decide) dX4_command_13 (by decide) (fun c13 => ?_) (fun c13 => ?_)
    · exact absurd c13 (by omega)
    · skip
      refine lv_iconst (v := (iI ((0 : Nat) : Int))) hx hb dX4_command_16 rfl ?_
      refine lv_goto (tgt := 25) hx hb dX4_command_17 (by decide) ?_
      refine lv_istore (lv' := [(4, .int (iI ((0 : Nat) : Int))), (3, .int (iI ((0 : Nat) : Int))), (2, .int (iI ((0 : Nat) : Int))), (1, .int (iI (-1))), (0, .ref (ad 0))]) hx hb dX4_command_25 hl (by decide) rfl (fun ls hl => ?_)
      refine lv_iload_n hx hb dX4_command_27 rfl (lv_at hl 3 rfl) ?_
      refine lv_iconst (v := (iI ((3 : Nat) : Int))) hx hb dX4_command_28 rfl ?_
      refine r_icmp_ge (tgt := 44) hx hb (by decide) (by decide) dX4_command_29 (by decide) (fun c29 => ?_) (fun c29 => ?_)
      · exact absurd c29 (by omega)
      · skip
        refine lv_aload_n hx hb dX4_command_32 rfl (lv_at hl 4 rfl) ?_
        refine r_get X hM_118.1 rfl in_X4 21 (by decide) q2030 (Or.inl rfl) (v := .int (iI ((1 : Nat) : Int))) rfl dX4_command_33 ?_
        refine r_if_ne (tgt := 44) hx hb (by decide) dX4_command_36 (by decide) (fun c36 => ?_) (fun c36 => ?_)
        · skip
          refine lv_iload_n hx hb dX4_command_44 rfl (lv_at hl 3 rfl) ?_
          refine lv_iconst (v := (iI ((3 : Nat) : Int))) hx hb dX4_command_45 rfl ?_
          refine r_icmp_ge (tgt := 61) hx hb (by decide) (by decide) dX4_command_46 (by decide) (fun c46 => ?_) (fun c46 => ?_)
          · exact absurd c46 (by omega)
          · skip
            refine lv_aload_n hx hb dX4_command_49 rfl (lv_at hl 4 rfl) ?_
            refine r_get X hM_118.1 rfl in_X4 21 (by decide) q2030 (Or.inl rfl) (v := .int (iI ((1 : Nat) : Int))) rfl dX4_command_50 ?_
            refine r_if_ne (tgt := 61) hx hb (by decide) dX4_command_53 (by decide) (fun c53 => ?_) (fun c53 => ?_)
            · skip
              refine lv_iload_n hx hb dX4_command_61 rfl (lv_at hl 3 rfl) ?_
              refine lv_iconst (v := (iI ((4 : Nat) : Int))) hx hb dX4_command_62 rfl ?_
              refine r_icmp_ne (tgt := 78) hx hb (by decide) (by decide) dX4_command_63 (by decide) (fun c63 => ?_) (fun c63 => ?_)
              · skip
                refine lv_aload_n hx hb dX4_command_78 rfl (lv_at hl 4 rfl) ?_
                refine r_get X hM_118.1 rfl in_X4 21 (by decide) q2030 (Or.inl rfl) (v := .int (iI ((1 : Nat) : Int))) rfl dX4_command_79 ?_
                refine r_if_ne (tgt := 92) hx hb (by decide) dX4_command_82 (by decide) (fun c82 => ?_) (fun c82 => ?_)
                · skip
                  refine r_vret hx hb hr hlk hQ hS (Nat.le_of_ble_eq_true rfl) (Nat.le_of_ble_eq_true rfl) dX4_command_92 ?_
                  exact Or.inl ⟨(true, h + q_8, 0, 0, 0, 0), f_9, rfl, (hM_118.nrm rfl), (fp_cmd_1 hq3_12 hq1_10 hq2_11), rfl, hle2_13⟩
                · exact absurd c82 (by omega)
              · exact absurd c63 (by omega)
            · exact absurd c53 (by omega)
        · exact absurd c36 (by omega)
