/-! THE MODEL: what it is asked, on -/
set_option maxHeartbeats 4000000 in
theorem c_X4_supporterAt (G : fp_G) (ad : Nat → Nat) (sc : Nat → Int) (ar : Nat → Nat → Int) (S : PS) (hA0 : fp_MA G ad) (hV : fp_VR S (ar 5)) (z : Int) (pos : Int) (hz : rg z) (hpos : rg pos) : fp_M G yX4_supporterAt cX4_supporterAt 5 (some .int) 5 102 0 0 [.ref (ad 0), .int (iI (z)), .int (iI (pos))] (fp_ME G ad sc ar) (fp_ma ad) (fun _ v H => ∃ (r : Int), ∃ (ar2 : Nat → Nat → Int), v = some (.int (iI (r))) ∧ fp_ME G ad (va_up sc 0 (((fp_satc S z pos : Nat) : Int))) ar2 H ∧ (fp_satc S z pos = 0 → r = (sB S (fp_sat S (fp_fnd S z) pos) 0 : Int)) ∧ (fp_sm0 ar ar2)) := by
  refine fp_M.intro (by decide) (Nat.le_of_ble_eq_true rfl) ?_
  intro pg en s mi ag bl mt cd rR qQ ls X hx hb hr hlk hnm hR hQ hB hM hl
  have hS : va_S (fA (fp_ma ad) s.heap.size) s.heap s.heap [] := va_S.rf
  generalize ([] : List Loc) = locs at hS ⊢
  have hN24 := hV.1.1
  refine lv_aload_n hx hb dX4_supporterAt_0 rfl (lv_at hl 0 rfl) ?_
  refine lv_iload_n hx hb dX4_supporterAt_1 rfl (lv_at hl 1 rfl) ?_
  refine r_callV (cells1 := 0) (slots1 := 0) X hR (c_X4_finds G ad sc ar S hA0 hV (z) (by omega)) q2179 q2181 qs62 q100 q2182 ⟨rfl, pd_X4_finds⟩ (by decide) rfl rfl (by decide) (by decide) hM.1 rfl rfl (Nat.le_of_ble_eq_true rfl) hl.1 dX4_supporterAt_2 (hB.of hS (fp_ma.base hA0)) hM hS (fun _ h => Or.inl h) (fun v H locs hp_1 hzC hkC hS => ?_)
  rcases hp_1 with ⟨kf_2, rfl, hM_6, hkf_3, hkn_4, hkl_5⟩ | ⟨rfl, hM_8, hnf_7⟩
  · skip
    have hM_9 := fp_ME.nrm (sc2 := (va_up sc 0 (((0 : Nat) : Int)))) hM_6 rfl
    refine r_stk (st2 := [.int (iI ((kf_2 : Nat) : Int))]) rfl ?_
    refine lv_istore_n (lv' := [(3, .int (iI ((kf_2 : Nat) : Int))), (0, .ref (ad 0)), (1, .int (iI (z))), (2, .int (iI (pos)))]) hx hb dX4_supporterAt_5 rfl hl (by decide) rfl (fun ls hl => ?_)
    refine lv_iload_n hx hb dX4_supporterAt_6 rfl (lv_at hl 0 rfl) ?_
    refine r_if_ge (tgt := 12) hx hb ⟨by omega, by omega⟩ dX4_supporterAt_7 (by decide) (fun c7 => ?_) (fun c7 => ?_)
    · skip
      refine lv_iconst (v := (iI ((0 : Nat) : Int))) hx hb dX4_supporterAt_12 rfl ?_
      refine lv_istore (lv' := [(4, .int (iI ((0 : Nat) : Int))), (3, .int (iI ((kf_2 : Nat) : Int))), (0, .ref (ad 0)), (1, .int (iI (z))), (2, .int (iI (pos)))]) hx hb dX4_supporterAt_13 hl (by decide) rfl (fun ls hl => ?_)
      have L15 : ∀ (k : Nat), k ≤ sN S → ∀ (locs : List Loc) (ls : Array Slot),(∀ j, j < k → (fp_sup (sB S j) (sB S kf_2) && decide ((fp_rk S j kf_2 : Int) = pos)) = false) → lv_has ls 5 [(0, .ref (ad 0)), (1, .int (iI (z))), (2, .int (iI (pos))), (3, .int (iI ((kf_2 : Nat) : Int))), (4, .int (iI ((k : Nat) : Int)))] → va_S (fA (fp_ma ad) s.heap.size) s.heap H locs → W pg (g_l G) en rR s mi ag bl mt cd H locs 0 0 qQ (F0 mi 15 ls []) := by
        refine lp_up (sN S) ?_
        intro k hk15 ih15 locs ls hq hl hS
        refine lv_iload hx hb dX4_supporterAt_15 (lv_at hl 4 rfl) ?_
        refine lv_aload_n hx hb dX4_supporterAt_17 rfl (lv_at hl 0 rfl) ?_
        refine r_get X hM_9.1 rfl in_X4 5 (by decide) q2014 (Or.inl rfl) (v := .ref (ad 5)) rfl dX4_supporterAt_18 ?_
        refine lv_iconst (v := (iI ((0 : Nat) : Int))) hx hb dX4_supporterAt_21 rfl ?_
        refine r_ialdI X (hM_9.2 5 (by decide) (by decide)) (j := 0) (n := 170) rfl (by decide) (by decide) dX4_supporterAt_22 ?_
        refine r_set (y := .int (iI ((sN S : Nat) : Int))) (congrArg (fun q : Int => Value.int (iI q)) (hV.2.1)) ?_
        refine r_icmp_ge (tgt := 61) hx hb ⟨by omega, by omega⟩ ⟨by omega, by omega⟩ dX4_supporterAt_23 (by decide) (fun c23 => ?_) (fun c23 => ?_)
        · skip
          refine lv_aload_n hx hb dX4_supporterAt_61 rfl (lv_at hl 0 rfl) ?_
          refine lv_iconst (v := (iI ((1 : Nat) : Int))) hx hb dX4_supporterAt_62 rfl ?_
          refine r_callV (cells1 := 0) (slots1 := 0) X hR (c_X4_fail G ad (va_up sc 0 (((0 : Nat) : Int))) ar hA0 1 ) q2107 q2109 qs47 q100 q2110 ⟨rfl, pd_X4_fail⟩ (by decide) rfl rfl (by decide) (by decide) hM_9.1 rfl rfl (Nat.le_of_ble_eq_true rfl) hl.1 dX4_supporterAt_63 (hB.of hS (fp_ma.base hA0)) hM_9 hS (fun _ h => Or.inl h) (fun v H locs hp_10 hzC hkC hS => ?_)
          obtain ⟨rfl, hM_11⟩ := hp_10
          have hM_12 := fp_ME.nrm (sc2 := (va_up sc 0 ((1)))) hM_11 rfl
          refine r_stk (st2 := [.int (iI ((0 : Nat) : Int))]) rfl ?_
          refine r_iret hx hb hr hlk hQ hS (Nat.le_of_ble_eq_true rfl) (Nat.le_of_ble_eq_true rfl) dX4_supporterAt_66 ?_
          exact ⟨((0 : Nat) : Int), ar, rfl, (by rw [show fp_satc S z pos = 1 from fp_satc_2 hkl_5 (fun j hj => hq j (by omega))]; exact hM_12.nrm rfl), (fun z0 => absurd ((show fp_satc S z pos = 1 from fp_satc_2 hkl_5 (fun j hj => hq j (by omega))).symm.trans z0) (by decide)), (fun k hk => by simp [fp_scr] at hk; by_cases e5 : k = 5 <;> simp_all [va_up])⟩
        · skip
          refine lv_aload_n hx hb dX4_supporterAt_26 rfl (lv_at hl 0 rfl) ?_
          refine lv_iload hx hb dX4_supporterAt_27 (lv_at hl 4 rfl) ?_
          refine lv_iload_n hx hb dX4_supporterAt_29 rfl (lv_at hl 3 rfl) ?_
          refine r_callV (cells1 := 0) (slots1 := 0) X hR (c_X4_supports G ad (va_up sc 0 (((0 : Nat) : Int))) ar S hA0 hV k kf_2 (by omega) (by omega)) q2147 q2149 qs57 q100 q2150 ⟨rfl, pd_X4_supports⟩ (by decide) rfl rfl (by decide) (by decide) hM_9.1 rfl rfl (Nat.le_of_ble_eq_true rfl) hl.1 dX4_supporterAt_30 (hB.of hS (fp_ma.base hA0)) hM_9 hS (fun _ h => h.elim) (fun v H1 locs hp_13 hzC hkC hS => ?_)
          obtain ⟨rfl, rfl⟩ := hp_13
          refine r_stk (st2 := [.int (iI (bI (fp_sup (sB S k) (sB S kf_2))))]) rfl ?_
          refine r_ifeqB (tgt := 55) hx hb dX4_supporterAt_33 (by decide) (fun c33 => ?_) (fun c33 => ?_)
          · skip
            refine lv_iinc (v := (iI ((k + 1 : Nat) : Int))) (lv' := [(4, .int (iI ((k + 1 : Nat) : Int))), (0, .ref (ad 0)), (1, .int (iI (z))), (2, .int (iI (pos))), (3, .int (iI ((kf_2 : Nat) : Int)))]) hx hb dX4_supporterAt_55 hl (k := 4) rfl (iI_incN _ _) (by decide) rfl (fun ls hl => ?_)
            refine lv_goto (tgt := 15) hx hb dX4_supporterAt_58 (by decide) ?_
            exact ih15 (by omega) locs ls (lt_s hq (by rw [c33]; rfl)) (lv_sub hl [1, 2, 3, 4, 0] rfl) hS
          · skip
            refine lv_aload_n hx hb dX4_supporterAt_36 rfl (lv_at hl 0 rfl) ?_
            refine lv_iload hx hb dX4_supporterAt_37 (lv_at hl 4 rfl) ?_
            refine lv_iload_n hx hb dX4_supporterAt_39 rfl (lv_at hl 3 rfl) ?_
            refine r_callV (cells1 := 0) (slots1 := 0) X hR (c_X4_rank G ad (va_up sc 0 (((0 : Nat) : Int))) ar S hA0 hV k kf_2 (by omega) (by omega)) q2151 q2153 qs58 q100 q2154 ⟨rfl, pd_X4_rank⟩ (by decide) rfl rfl (by decide) (by decide) hM_9.1 rfl rfl (Nat.le_of_ble_eq_true rfl) hl.1 dX4_supporterAt_40 (hB.of hS (fp_ma.base hA0)) hM_9 hS (fun _ h => h.elim) (fun v H1 locs hp_14 hzC hkC hS => ?_)
            obtain ⟨rfl, rfl⟩ := hp_14
            refine r_stk (st2 := [.int (iI ((fp_rk S k kf_2 : Nat) : Int))]) rfl ?_
            have hrl : fp_rk S k kf_2 ≤ sN S := fp_ct_le _ _
            refine lv_iload_n hx hb dX4_supporterAt_43 rfl (lv_at hl 2 rfl) ?_
            refine r_icmp_ne (tgt := 55) hx hb ⟨by omega, by omega⟩ ⟨by omega, by omega⟩ dX4_supporterAt_44 (by decide) (fun c44 => ?_) (fun c44 => ?_)
            · skip
              refine lv_iinc (v := (iI ((k + 1 : Nat) : Int))) (lv' := [(4, .int (iI ((k + 1 : Nat) : Int))), (0, .ref (ad 0)), (1, .int (iI (z))), (2, .int (iI (pos))), (3, .int (iI ((kf_2 : Nat) : Int)))]) hx hb dX4_supporterAt_55 hl (k := 4) rfl (iI_incN _ _) (by decide) rfl (fun ls hl => ?_)
              refine lv_goto (tgt := 15) hx hb dX4_supporterAt_58 (by decide) ?_
              exact ih15 (by omega) locs ls (lt_s hq (by rw [c33, decide_eq_false (by omega)]; rfl)) (lv_sub hl [1, 2, 3, 4, 0] rfl) hS
            · skip
              refine lv_aload_n hx hb dX4_supporterAt_47 rfl (lv_at hl 0 rfl) ?_
              refine lv_iload hx hb dX4_supporterAt_48 (lv_at hl 4 rfl) ?_
              refine lv_iconst (v := (iI ((0 : Nat) : Int))) hx hb dX4_supporterAt_50 rfl ?_
              refine r_callV (cells1 := 0) (slots1 := 0) X hR (c_X4_of G ad (va_up sc 0 (((0 : Nat) : Int))) ar S hA0 hV k 0 (by omega) (by omega)) q2123 q2125 qs51 q100 q2126 ⟨rfl, pd_X4_of⟩ (by decide) rfl rfl (by decide) (by decide) hM_9.1 rfl rfl (Nat.le_of_ble_eq_true rfl) hl.1 dX4_supporterAt_51 (hB.of hS (fp_ma.base hA0)) hM_9 hS (fun _ h => h.elim) (fun v H1 locs hp_15 hzC hkC hS => ?_)
              obtain ⟨rfl, rfl⟩ := hp_15
              refine r_stk (st2 := [.int (iI ((sB S k 0 : Nat) : Int))]) rfl ?_
              refine r_iret hx hb hr hlk hQ hS (Nat.le_of_ble_eq_true rfl) (Nat.le_of_ble_eq_true rfl) dX4_supporterAt_54 ?_
              exact ⟨((sB S k 0 : Nat) : Int), ar, rfl, (by rw [show fp_satc S z pos = 0 from (fp_satc_0 hkl_5 hkf_3 (k := k) (by omega) c33 (by omega) hq).2]; exact hM_9.nrm rfl), (fun _ => (by rw [(fp_satc_0 hkl_5 hkf_3 (k := k) (by omega) c33 (by omega) hq).1])), (fun k hk => by simp [fp_scr] at hk; by_cases e5 : k = 5 <;> simp_all [va_up])⟩
      exact L15 0 (by omega) locs ls lt_0 (lv_sub hl [2, 3, 4, 1, 0] rfl) hS
    · exact absurd c7 (by omega)
  · skip
    have hM_16 := fp_ME.nrm (sc2 := (va_up sc 0 (((1 : Nat) : Int)))) hM_8 rfl
    refine r_stk (st2 := [.int (iI (-1))]) rfl ?_
    refine lv_istore_n (lv' := [(3, .int (iI (-1))), (0, .ref (ad 0)), (1, .int (iI (z))), (2, .int (iI (pos)))]) hx hb dX4_supporterAt_5 rfl hl (by decide) rfl (fun ls hl => ?_)
    refine lv_iload_n hx hb dX4_supporterAt_6 rfl (lv_at hl 0 rfl) ?_
    refine r_if_ge (tgt := 12) hx hb (by decide) dX4_supporterAt_7 (by decide) (fun c7 => ?_) (fun c7 => ?_)
    · exact absurd c7 (by omega)
    · skip
      refine lv_iconst (v := (iI ((0 : Nat) : Int))) hx hb dX4_supporterAt_10 rfl ?_
      refine r_iret hx hb hr hlk hQ hS (Nat.le_of_ble_eq_true rfl) (Nat.le_of_ble_eq_true rfl) dX4_supporterAt_11 ?_
      exact ⟨((0 : Nat) : Int), ar, rfl, (by rw [show fp_satc S z pos = 1 from fp_satc_1 hnf_7]; exact hM_16.nrm rfl), (fun z0 => absurd ((show fp_satc S z pos = 1 from fp_satc_1 hnf_7).symm.trans z0) (by decide)), (fun k hk => by simp [fp_scr] at hk; by_cases e5 : k = 5 <;> simp_all [va_up])⟩
set_option maxHeartbeats 4000000 in
theorem c_X4_weakest (G : fp_G) (ad : Nat → Nat) (sc : Nat → Int) (ar : Nat → Nat → Int) (S : PS) (hA0 : fp_MA G ad) (hV : fp_VR S (ar 5)) : fp_M G yX4_weakest cX4_weakest 3 (some .int) 7 148 0 0 [.ref (ad 0)] (fp_ME G ad sc ar) (fp_ma ad) (fun _ v H => ∃ (r : Int), ∃ (ar2 : Nat → Nat → Int), v = some (.int (iI (r))) ∧ fp_ME G ad (va_up sc 0 (((fp_wkc S : Nat) : Int))) ar2 H ∧ (fp_wkc S = 0 → r = (sB S (fp_best (fp_slk S) (sN S)) 0 : Int)) ∧ (fp_sm0 ar ar2)) := by
  refine fp_M.intro (by decide) (Nat.le_of_ble_eq_true rfl) ?_
  intro pg en s mi ag bl mt cd rR qQ ls X hx hb hr hlk hnm hR hQ hB hM hl
  have hS : va_S (fA (fp_ma ad) s.heap.size) s.heap s.heap [] := va_S.rf
  generalize ([] : List Loc) = locs at hS ⊢
  have hN24 := hV.1.1
  refine lv_aload_n hx hb dX4_weakest_0 rfl (lv_at hl 0 rfl) ?_
  refine lv_aload_n hx hb dX4_weakest_1 rfl (lv_at hl 0 rfl) ?_
  refine r_get X hM.1 rfl in_X4 5 (by decide) q2014 (Or.inl rfl) (v := .ref (ad 5)) rfl dX4_weakest_2 ?_
  refine lv_iconst (v := (iI ((0 : Nat) : Int))) hx hb dX4_weakest_5 rfl ?_
  refine r_ialdI X (hM.2 5 (by decide) (by decide)) (j := 0) (n := 170) rfl (by decide) (by decide) dX4_weakest_6 ?_
  refine r_set (y := .int (iI ((sN S : Nat) : Int))) (congrArg (fun q : Int => Value.int (iI q)) (hV.2.1)) ?_
  refine r_if_ne (tgt := 14) hx hb ⟨by omega, by omega⟩ dX4_weakest_7 (by decide) (fun c7 => ?_) (fun c7 => ?_)
  · skip
    refine lv_iconst (v := (iI ((0 : Nat) : Int))) hx hb dX4_weakest_14 rfl ?_
    refine m_put X hM hS hA0 (k := 0) (sc2 := (va_up sc 0 (((0 : Nat) : Int)))) rfl (by decide) q2009 rfl rfl rfl dX4_weakest_15 rfl (fun H locs hM_1 hS => ?_)
    refine lv_aload_n hx hb dX4_weakest_18 rfl (lv_at hl 0 rfl) ?_
    refine r_callV (cells1 := 0) (slots1 := 0) X hR (c_X4_weighs G ad (va_up sc 0 (((0 : Nat) : Int))) ar S hA0 hV  ) q2135 q2137 qs54 q100 q2138 ⟨rfl, pd_X4_weighs⟩ (by decide) rfl rfl (by decide) (by decide) hM_1.1 rfl rfl (Nat.le_of_ble_eq_true rfl) hl.1 dX4_weakest_19 (hB.of hS (fp_ma.base hA0)) hM_1 hS (fun _ h => Or.inl h) (fun v H locs hp_2 hzC hkC hS => ?_)
    obtain ⟨f_3, rfl, hM_5, hf_4⟩ := hp_2
    refine r_stk (st2 := []) rfl ?_
    refine lv_iconst (v := (iI ((0 : Nat) : Int))) hx hb dX4_weakest_22 rfl ?_
    refine lv_istore_n (lv' := [(1, .int (iI ((0 : Nat) : Int))), (0, .ref (ad 0))]) hx hb dX4_weakest_23 rfl hl (by decide) rfl (fun ls hl => ?_)
    refine lv_iconst (v := (iI ((1 : Nat) : Int))) hx hb dX4_weakest_24 rfl ?_
    refine lv_istore_n (lv' := [(2, .int (iI ((1 : Nat) : Int))), (1, .int (iI ((0 : Nat) : Int))), (0, .ref (ad 0))]) hx hb dX4_weakest_25 rfl hl (by decide) rfl (fun ls hl => ?_)
    have L26 : ∀ (k : Nat), k ≤ max 1 (sN S) → ∀ (locs : List Loc) (ls : Array Slot),(1 ≤ k) → lv_has ls 3 [(0, .ref (ad 0)), (1, .int (iI ((fp_best (fp_slk S) k : Nat) : Int))), (2, .int (iI ((k : Nat) : Int)))] → va_S (fA (fp_ma ad) s.heap.size) s.heap H locs → W pg (g_l G) en rR s mi ag bl mt cd H locs 0 0 qQ (F0 mi 26 ls []) := by
      refine lp_up (max 1 (sN S)) ?_
      intro k hk26 ih26 locs ls h1 hl hS
      have hqk : fp_best (fp_slk S) k < k := by rw [show k = (k - 1) + 1 by omega]; exact fp_best_lt
      refine lv_iload_n hx hb dX4_weakest_26 rfl (lv_at hl 2 rfl) ?_
      refine lv_aload_n hx hb dX4_weakest_27 rfl (lv_at hl 0 rfl) ?_
      refine r_get X hM_5.1 rfl in_X4 5 (by decide) q2014 (Or.inl rfl) (v := .ref (ad 5)) rfl dX4_weakest_28 ?_
      refine lv_iconst (v := (iI ((0 : Nat) : Int))) hx hb dX4_weakest_31 rfl ?_
      refine r_ialdI X (hM_5.2 5 (by decide) (by decide)) (j := 0) (n := 170) rfl (by decide) (by decide) dX4_weakest_32 ?_
      refine r_set (y := .int (iI ((sN S : Nat) : Int))) (congrArg (fun q : Int => Value.int (iI q)) (hV.2.1)) ?_
      refine r_icmp_ge (tgt := 71) hx hb ⟨by omega, by omega⟩ ⟨by omega, by omega⟩ dX4_weakest_33 (by decide) (fun c33 => ?_) (fun c33 => ?_)
      · skip
        refine lv_aload_n hx hb dX4_weakest_71 rfl (lv_at hl 0 rfl) ?_
        refine r_get X hM_5.1 rfl in_X4 0 (by decide) q2009 (Or.inl rfl) (v := .int (iI ((0 : Nat) : Int))) rfl dX4_weakest_72 ?_
        refine r_if_ne (tgt := 87) hx hb (by decide) dX4_weakest_75 (by decide) (fun c75 => ?_) (fun c75 => ?_)
        · exact absurd c75 (by omega)
        · skip
          refine lv_aload_n hx hb dX4_weakest_78 rfl (lv_at hl 0 rfl) ?_
          refine lv_iload_n hx hb dX4_weakest_79 rfl (lv_at hl 1 rfl) ?_
          refine lv_iconst (v := (iI ((0 : Nat) : Int))) hx hb dX4_weakest_80 rfl ?_
          refine r_callV (cells1 := 0) (slots1 := 0) X hR (c_X4_of G ad (va_up sc 0 (((0 : Nat) : Int))) (va_up ar 10 f_3) S hA0 hV (fp_best (fp_slk S) k) 0 (by omega) (by omega)) q2123 q2125 qs51 q100 q2126 ⟨rfl, pd_X4_of⟩ (by decide) rfl rfl (by decide) (by decide) hM_5.1 rfl rfl (Nat.le_of_ble_eq_true rfl) hl.1 dX4_weakest_81 (hB.of hS (fp_ma.base hA0)) hM_5 hS (fun _ h => h.elim) (fun v H1 locs hp_6 hzC hkC hS => ?_)
          obtain ⟨rfl, rfl⟩ := hp_6
          refine r_stk (st2 := [.int (iI ((sB S (fp_best (fp_slk S) k) 0 : Nat) : Int))]) rfl ?_
          refine lv_goto (tgt := 88) hx hb dX4_weakest_84 (by decide) ?_
          refine r_iret hx hb hr hlk hQ hS (Nat.le_of_ble_eq_true rfl) (Nat.le_of_ble_eq_true rfl) dX4_weakest_88 ?_
          exact ⟨((sB S (fp_best (fp_slk S) k) 0 : Nat) : Int), (va_up ar 10 f_3), rfl, (by rw [show fp_wkc S = 0 from if_neg (by omega)]; exact hM_5.nrm rfl), (fun _ => (by rw [show sN S = k by omega])), (fun k hk => by simp [fp_scr] at hk; by_cases e5 : k = 5 <;> simp_all [va_up])⟩
      · skip
        refine lv_aload_n hx hb dX4_weakest_36 rfl (lv_at hl 0 rfl) ?_
        refine lv_iload_n hx hb dX4_weakest_37 rfl (lv_at hl 2 rfl) ?_
        refine r_callV (cells1 := 0) (slots1 := 0) X hR (c_X4_strong G ad (va_up sc 0 (((0 : Nat) : Int))) (va_up ar 10 f_3) S hA0 hV k (by omega)) q2155 q2157 qs59 q100 q2158 ⟨rfl, pd_X4_strong⟩ (by decide) rfl rfl (by decide) (by decide) hM_5.1 rfl rfl (Nat.le_of_ble_eq_true rfl) hl.1 dX4_weakest_38 (hB.of hS (fp_ma.base hA0)) hM_5 hS (fun _ h => h.elim) (fun v H1 locs hp_7 hzC hkC hS => ?_)
        obtain ⟨rfl, rfl⟩ := hp_7
        refine r_stk (st2 := [.int (iI ((fp_str (sB S k) : Nat) : Int))]) rfl ?_
        refine lv_aload_n hx hb dX4_weakest_41 rfl (lv_at hl 0 rfl) ?_
        refine r_get X hM_5.1 rfl in_X4 10 (by decide) q2019 (Or.inl rfl) (v := .ref (ad 10)) rfl dX4_weakest_42 ?_
        refine lv_iload_n hx hb dX4_weakest_45 rfl (lv_at hl 2 rfl) ?_
        refine r_ialdI X (hM_5.2 10 (by decide) (by decide)) (j := k) (n := 24) rfl (by omega) (by decide) dX4_weakest_46 ?_
        refine r_set (y := .int (iI ((fp_ld S k : Nat) : Int))) (congrArg (fun q : Int => Value.int (iI q)) (show f_3 k = _ from hf_4 k (by omega))) ?_
        refine r_isub hx hb dX4_weakest_47 ?_
        refine lv_aload_n hx hb dX4_weakest_48 rfl (lv_at hl 0 rfl) ?_
        refine lv_iload_n hx hb dX4_weakest_49 rfl (lv_at hl 1 rfl) ?_
        refine r_callV (cells1 := 0) (slots1 := 0) X hR (c_X4_strong G ad (va_up sc 0 (((0 : Nat) : Int))) (va_up ar 10 f_3) S hA0 hV (fp_best (fp_slk S) k) (by omega)) q2155 q2157 qs59 q100 q2158 ⟨rfl, pd_X4_strong⟩ (by decide) rfl rfl (by decide) (by decide) hM_5.1 rfl rfl (Nat.le_of_ble_eq_true rfl) hl.1 dX4_weakest_50 (hB.of hS (fp_ma.base hA0)) hM_5 hS (fun _ h => h.elim) (fun v H1 locs hp_8 hzC hkC hS => ?_)
        obtain ⟨rfl, rfl⟩ := hp_8
        refine r_stk (st2 := [.int (iI ((fp_str (sB S (fp_best (fp_slk S) k)) : Nat) : Int)), .int (iI (((fp_str (sB S k) : Nat) : Int) - ((fp_ld S k : Nat) : Int)))]) rfl ?_
        refine lv_aload_n hx hb dX4_weakest_53 rfl (lv_at hl 0 rfl) ?_
        refine r_get X hM_5.1 rfl in_X4 10 (by decide) q2019 (Or.inl rfl) (v := .ref (ad 10)) rfl dX4_weakest_54 ?_
        refine lv_iload_n hx hb dX4_weakest_57 rfl (lv_at hl 1 rfl) ?_
        refine r_ialdI X (hM_5.2 10 (by decide) (by decide)) (j := fp_best (fp_slk S) k) (n := 24) rfl (by omega) (by decide) dX4_weakest_58 ?_
        refine r_set (y := .int (iI ((fp_ld S (fp_best (fp_slk S) k) : Nat) : Int))) (congrArg (fun q : Int => Value.int (iI q)) (show f_3 (fp_best (fp_slk S) k) = _ from hf_4 (fp_best (fp_slk S) k) (by omega))) ?_
        refine r_isub hx hb dX4_weakest_59 ?_
        have hlb0 := fp_ld_b hV.1 k
        have hsb0 := fp_str_b (hV.1.2.2.1 k (by omega))
        have hlb1 := fp_ld_b hV.1 (fp_best (fp_slk S) k)
        have hsb1 := fp_str_b (hV.1.2.2.1 (fp_best (fp_slk S) k) (by omega))
        refine r_icmp_ge (tgt := 65) hx hb ⟨by omega, by omega⟩ ⟨by omega, by omega⟩ dX4_weakest_60 (by decide) (fun c60 => ?_) (fun c60 => ?_)
        · skip
          refine lv_iinc (v := (iI ((k + 1 : Nat) : Int))) (lv' := [(2, .int (iI ((k + 1 : Nat) : Int))), (0, .ref (ad 0)), (1, .int (iI ((fp_best (fp_slk S) k : Nat) : Int)))]) hx hb dX4_weakest_65 hl (k := 2) rfl (iI_incN _ _) (by decide) rfl (fun ls hl => ?_)
          refine lv_goto (tgt := 26) hx hb dX4_weakest_68 (by decide) ?_
          exact ih26 (by omega) locs ls (by omega) (by rw [show Value.int (iI ((fp_best (fp_slk S) (k + 1) : Nat) : Int)) = Value.int (iI ((fp_best (fp_slk S) k : Nat) : Int)) from congrArg (fun q : Nat => Value.int (iI (q : Int))) (fp_best_f (f := fp_slk S) (show ¬ ((fp_str (sB S k) : Int) - fp_ld S k < (fp_str (sB S (fp_best (fp_slk S) k)) : Int) - fp_ld S (fp_best (fp_slk S) k)) by omega))]; exact lv_sub hl [1, 2, 0] rfl) hS
        · skip
          refine lv_iload_n hx hb dX4_weakest_63 rfl (lv_at hl 2 rfl) ?_
          refine lv_istore_n (lv' := [(1, .int (iI ((k : Nat) : Int))), (0, .ref (ad 0)), (2, .int (iI ((k : Nat) : Int)))]) hx hb dX4_weakest_64 rfl hl (by decide) rfl (fun ls hl => ?_)
          refine lv_iinc (v := (iI ((k + 1 : Nat) : Int))) (lv' := [(2, .int (iI ((k + 1 : Nat) : Int))), (1, .int (iI ((k : Nat) : Int))), (0, .ref (ad 0))]) hx hb dX4_weakest_65 hl (k := 2) rfl (iI_incN _ _) (by decide) rfl (fun ls hl => ?_)
          refine lv_goto (tgt := 26) hx hb dX4_weakest_68 (by decide) ?_
          exact ih26 (by omega) locs ls (by omega) (by rw [show Value.int (iI ((fp_best (fp_slk S) (k + 1) : Nat) : Int)) = Value.int (iI ((k : Nat) : Int)) from congrArg (fun q : Nat => Value.int (iI (q : Int))) (fp_best_t (f := fp_slk S) (show ((fp_str (sB S k) : Int) - fp_ld S k < (fp_str (sB S (fp_best (fp_slk S) k)) : Int) - fp_ld S (fp_best (fp_slk S) k)) by omega))]; exact lv_sub hl [2, 1, 0] rfl) hS
    exact L26 1 (by omega) locs ls (Nat.le_refl 1) (by rw [show Value.int (iI ((fp_best (fp_slk S) 1 : Nat) : Int)) = Value.int (iI ((0 : Nat) : Int)) from congrArg (fun q : Nat => Value.int (iI (q : Int))) (fp_best_1)]; exact lv_sub hl [2, 1, 0] rfl) hS
  · skip
    refine lv_iconst (v := (iI ((1 : Nat) : Int))) hx hb dX4_weakest_10 rfl ?_
    refine lv_goto (tgt := 15) hx hb dX4_weakest_11 (by decide) ?_
    refine m_put X hM hS hA0 (k := 0) (sc2 := (va_up sc 0 (((1 : Nat) : Int)))) rfl (by decide) q2009 rfl rfl rfl dX4_weakest_15 rfl (fun H locs hM_9 hS => ?_)
    refine lv_aload_n hx hb dX4_weakest_18 rfl (lv_at hl 0 rfl) ?_
    refine r_callV (cells1 := 0) (slots1 := 0) X hR (c_X4_weighs G ad (va_up sc 0 (((1 : Nat) : Int))) ar S hA0 hV  ) q2135 q2137 qs54 q100 q2138 ⟨rfl, pd_X4_weighs⟩ (by decide) rfl rfl (by decide) (by decide) hM_9.1 rfl rfl (Nat.le_of_ble_eq_true rfl) hl.1 dX4_weakest_19 (hB.of hS (fp_ma.base hA0)) hM_9 hS (fun _ h => Or.inl h) (fun v H locs hp_10 hzC hkC hS => ?_)
    obtain ⟨f_11, rfl, hM_13, hf_12⟩ := hp_10
    refine r_stk (st2 := []) rfl ?_
    refine lv_iconst (v := (iI ((0 : Nat) : Int))) hx hb dX4_weakest_22 rfl ?_
    refine lv_istore_n (lv' := [(1, .int (iI ((0 : Nat) : Int))), (0, .ref (ad 0))]) hx hb dX4_weakest_23 rfl hl (by decide) rfl (fun ls hl => ?_)
    refine lv_iconst (v := (iI ((1 : Nat) : Int))) hx hb dX4_weakest_24 rfl ?_
    refine lv_istore_n (lv' := [(2, .int (iI ((1 : Nat) : Int))), (1, .int (iI ((0 : Nat) : Int))), (0, .ref (ad 0))]) hx hb dX4_weakest_25 rfl hl (by decide) rfl (fun ls hl => ?_)
    have L26 : ∀ (k : Nat), k ≤ max 1 (sN S) → ∀ (locs : List Loc) (ls : Array Slot),(1 ≤ k) → lv_has ls 3 [(0, .ref (ad 0)), (1, .int (iI ((fp_best (fp_slk S) k : Nat) : Int))), (2, .int (iI ((k : Nat) : Int)))] → va_S (fA (fp_ma ad) s.heap.size) s.heap H locs → W pg (g_l G) en rR s mi ag bl mt cd H locs 0 0 qQ (F0 mi 26 ls []) := by
      refine lp_up (max 1 (sN S)) ?_
      intro k hk26 ih26 locs ls h1 hl hS
      have hqk : fp_best (fp_slk S) k < k := by rw [show k = (k - 1) + 1 by omega]; exact fp_best_lt
      refine lv_iload_n hx hb dX4_weakest_26 rfl (lv_at hl 2 rfl) ?_
      refine lv_aload_n hx hb dX4_weakest_27 rfl (lv_at hl 0 rfl) ?_
      refine r_get X hM_13.1 rfl in_X4 5 (by decide) q2014 (Or.inl rfl) (v := .ref (ad 5)) rfl dX4_weakest_28 ?_
      refine lv_iconst (v := (iI ((0 : Nat) : Int))) hx hb dX4_weakest_31 rfl ?_
      refine r_ialdI X (hM_13.2 5 (by decide) (by decide)) (j := 0) (n := 170) rfl (by decide) (by decide) dX4_weakest_32 ?_
      refine r_set (y := .int (iI ((sN S : Nat) : Int))) (congrArg (fun q : Int => Value.int (iI q)) (hV.2.1)) ?_
      refine r_icmp_ge (tgt := 71) hx hb ⟨by omega, by omega⟩ ⟨by omega, by omega⟩ dX4_weakest_33 (by decide) (fun c33 => ?_) (fun c33 => ?_)
      · skip
        refine lv_aload_n hx hb dX4_weakest_71 rfl (lv_at hl 0 rfl) ?_
        refine r_get X hM_13.1 rfl in_X4 0 (by decide) q2009 (Or.inl rfl) (v := .int (iI ((1 : Nat) : Int))) rfl dX4_weakest_72 ?_
        refine r_if_ne (tgt := 87) hx hb (by decide) dX4_weakest_75 (by decide) (fun c75 => ?_) (fun c75 => ?_)
        · skip
          refine lv_iconst (v := (iI ((0 : Nat) : Int))) hx hb dX4_weakest_87 rfl ?_
          refine r_iret hx hb hr hlk hQ hS (Nat.le_of_ble_eq_true rfl) (Nat.le_of_ble_eq_true rfl) dX4_weakest_88 ?_
          exact ⟨((0 : Nat) : Int), (va_up ar 10 f_11), rfl, (by rw [show fp_wkc S = 1 from if_pos (by omega)]; exact hM_13.nrm rfl), (fun z0 => absurd ((show fp_wkc S = 1 from if_pos (by omega)).symm.trans z0) (by decide)), (fun k hk => by simp [fp_scr] at hk; by_cases e5 : k = 5 <;> simp_all [va_up])⟩
        · exact absurd c75 (by omega)
      · skip
        refine lv_aload_n hx hb dX4_weakest_36 rfl (lv_at hl 0 rfl) ?_
        refine lv_iload_n hx hb dX4_weakest_37 rfl (lv_at hl 2 rfl) ?_
        refine r_callV (cells1 := 0) (slots1 := 0) X hR (c_X4_strong G ad (va_up sc 0 (((1 : Nat) : Int))) (va_up ar 10 f_11) S hA0 hV k (by omega)) q2155 q2157 qs59 q100 q2158 ⟨rfl, pd_X4_strong⟩ (by decide) rfl rfl (by decide) (by decide) hM_13.1 rfl rfl (Nat.le_of_ble_eq_true rfl) hl.1 dX4_weakest_38 (hB.of hS (fp_ma.base hA0)) hM_13 hS (fun _ h => h.elim) (fun v H1 locs hp_14 hzC hkC hS => ?_)
        obtain ⟨rfl, rfl⟩ := hp_14
        refine r_stk (st2 := [.int (iI ((fp_str (sB S k) : Nat) : Int))]) rfl ?_
        refine lv_aload_n hx hb dX4_weakest_41 rfl (lv_at hl 0 rfl) ?_
        refine r_get X hM_13.1 rfl in_X4 10 (by decide) q2019 (Or.inl rfl) (v := .ref (ad 10)) rfl dX4_weakest_42 ?_
        refine lv_iload_n hx hb dX4_weakest_45 rfl (lv_at hl 2 rfl) ?_
        refine r_ialdI X (hM_13.2 10 (by decide) (by decide)) (j := k) (n := 24) rfl (by omega) (by decide) dX4_weakest_46 ?_
        refine r_set (y := .int (iI ((fp_ld S k : Nat) : Int))) (congrArg (fun q : Int => Value.int (iI q)) (show f_11 k = _ from hf_12 k (by omega))) ?_
        refine r_isub hx hb dX4_weakest_47 ?_
        refine lv_aload_n hx hb dX4_weakest_48 rfl (lv_at hl 0 rfl) ?_
        refine lv_iload_n hx hb dX4_weakest_49 rfl (lv_at hl 1 rfl) ?_
        refine r_callV (cells1 := 0) (slots1 := 0) X hR (c_X4_strong G ad (va_up sc 0 (((1 : Nat) : Int))) (va_up ar 10 f_11) S hA0 hV (fp_best (fp_slk S) k) (by omega)) q2155 q2157 qs59 q100 q2158 ⟨rfl, pd_X4_strong⟩ (by decide) rfl rfl (by decide) (by decide) hM_13.1 rfl rfl (Nat.le_of_ble_eq_true rfl) hl.1 dX4_weakest_50 (hB.of hS (fp_ma.base hA0)) hM_13 hS (fun _ h => h.elim) (fun v H1 locs hp_15 hzC hkC hS => ?_)
        obtain ⟨rfl, rfl⟩ := hp_15
        refine r_stk (st2 := [.int (iI ((fp_str (sB S (fp_best (fp_slk S) k)) : Nat) : Int)), .int (iI (((fp_str (sB S k) : Nat) : Int) - ((fp_ld S k : Nat) : Int)))]) rfl ?_
        refine lv_aload_n hx hb dX4_weakest_53 rfl (lv_at hl 0 rfl) ?_
        refine r_get X hM_13.1 rfl in_X4 10 (by decide) q2019 (Or.inl rfl) (v := .ref (ad 10)) rfl dX4_weakest_54 ?_
        refine lv_iload_n hx hb dX4_weakest_57 rfl (lv_at hl 1 rfl) ?_
        refine r_ialdI X (hM_13.2 10 (by decide) (by decide)) (j := fp_best (fp_slk S) k) (n := 24) rfl (by omega) (by decide) dX4_weakest_58 ?_
        refine r_set (y := .int (iI ((fp_ld S (fp_best (fp_slk S) k) : Nat) : Int))) (congrArg (fun q : Int => Value.int (iI q)) (show f_11 (fp_best (fp_slk S) k) = _ from hf_12 (fp_best (fp_slk S) k) (by omega))) ?_
        refine r_isub hx hb dX4_weakest_59 ?_
        have hlb0 := fp_ld_b hV.1 k
        have hsb0 := fp_str_b (hV.1.2.2.1 k (by omega))
        have hlb1 := fp_ld_b hV.1 (fp_best (fp_slk S) k)
        have hsb1 := fp_str_b (hV.1.2.2.1 (fp_best (fp_slk S) k) (by omega))
        refine r_icmp_ge (tgt := 65) hx hb ⟨by omega, by omega⟩ ⟨by omega, by omega⟩ dX4_weakest_60 (by decide) (fun c60 => ?_) (fun c60 => ?_)
        · skip
          refine lv_iinc (v := (iI ((k + 1 : Nat) : Int))) (lv' := [(2, .int (iI ((k + 1 : Nat) : Int))), (0, .ref (ad 0)), (1, .int (iI ((fp_best (fp_slk S) k : Nat) : Int)))]) hx hb dX4_weakest_65 hl (k := 2) rfl (iI_incN _ _) (by decide) rfl (fun ls hl => ?_)
          refine lv_goto (tgt := 26) hx hb dX4_weakest_68 (by decide) ?_
          exact ih26 (by omega) locs ls (by omega) (by rw [show Value.int (iI ((fp_best (fp_slk S) (k + 1) : Nat) : Int)) = Value.int (iI ((fp_best (fp_slk S) k : Nat) : Int)) from congrArg (fun q : Nat => Value.int (iI (q : Int))) (fp_best_f (f := fp_slk S) (show ¬ ((fp_str (sB S k) : Int) - fp_ld S k < (fp_str (sB S (fp_best (fp_slk S) k)) : Int) - fp_ld S (fp_best (fp_slk S) k)) by omega))]; exact lv_sub hl [1, 2, 0] rfl) hS
        · skip
          refine lv_iload_n hx hb dX4_weakest_63 rfl (lv_at hl 2 rfl) ?_
          refine lv_istore_n (lv' := [(1, .int (iI ((k : Nat) : Int))), (0, .ref (ad 0)), (2, .int (iI ((k : Nat) : Int)))]) hx hb dX4_weakest_64 rfl hl (by decide) rfl (fun ls hl => ?_)
          refine lv_iinc (v := (iI ((k + 1 : Nat) : Int))) (lv' := [(2, .int (iI ((k + 1 : Nat) : Int))), (1, .int (iI ((k : Nat) : Int))), (0, .ref (ad 0))]) hx hb dX4_weakest_65 hl (k := 2) rfl (iI_incN _ _) (by decide) rfl (fun ls hl => ?_)
          refine lv_goto (tgt := 26) hx hb dX4_weakest_68 (by decide) ?_
          exact ih26 (by omega) locs ls (by omega) (by rw [show Value.int (iI ((fp_best (fp_slk S) (k + 1) : Nat) : Int)) = Value.int (iI ((k : Nat) : Int)) from congrArg (fun q : Nat => Value.int (iI (q : Int))) (fp_best_t (f := fp_slk S) (show ((fp_str (sB S k) : Int) - fp_ld S k < (fp_str (sB S (fp_best (fp_slk S) k)) : Int) - fp_ld S (fp_best (fp_slk S) k)) by omega))]; exact lv_sub hl [2, 1, 0] rfl) hS
    exact L26 1 (by omega) locs ls (Nat.le_refl 1) (by rw [show Value.int (iI ((fp_best (fp_slk S) 1 : Nat) : Int)) = Value.int (iI ((0 : Nat) : Int)) from congrArg (fun q : Nat => Value.int (iI (q : Int))) (fp_best_1)]; exact lv_sub hl [2, 1, 0] rfl) hS
set_option maxHeartbeats 4000000 in
theorem c_X4_blockBySlack (G : fp_G) (ad : Nat → Nat) (sc : Nat → Int) (ar : Nat → Nat → Int) (S : PS) (hA0 : fp_MA G ad) (hV : fp_VR S (ar 5)) (pos : Int) (hpos : rg pos) : fp_M G yX4_blockBySlack cX4_blockBySlack 6 (some .int) 7 148 0 0 [.ref (ad 0), .int (iI (pos))] (fp_ME G ad sc ar) (fp_ma ad) (fun _ v H => ∃ (r : Int), ∃ (ar2 : Nat → Nat → Int), v = some (.int (iI (r))) ∧ fp_ME G ad (va_up sc 0 (((fp_bslc S pos : Nat) : Int))) ar2 H ∧ (fp_bslc S pos = 0 → r = (sB S (fp_bsl S pos) 0 : Int)) ∧ (fp_sm0 ar ar2)) := by
  refine fp_M.intro (by decide) (Nat.le_of_ble_eq_true rfl) ?_
  intro pg en s mi ag bl mt cd rR qQ ls X hx hb hr hlk hnm hR hQ hB hM hl
  have hS : va_S (fA (fp_ma ad) s.heap.size) s.heap s.heap [] := va_S.rf
  generalize ([] : List Loc) = locs at hS ⊢
  have hN24 := hV.1.1
  refine lv_aload_n hx hb dX4_blockBySlack_0 rfl (lv_at hl 0 rfl) ?_
  refine lv_iconst (v := (iI ((0 : Nat) : Int))) hx hb dX4_blockBySlack_1 rfl ?_
  refine m_put X hM hS hA0 (k := 0) (sc2 := (va_up sc 0 (((0 : Nat) : Int)))) rfl (by decide) q2009 rfl rfl rfl dX4_blockBySlack_2 rfl (fun H locs hM_1 hS => ?_)
  refine lv_aload_n hx hb dX4_blockBySlack_5 rfl (lv_at hl 0 rfl) ?_
  refine r_callV (cells1 := 0) (slots1 := 0) X hR (c_X4_weighs G ad (va_up sc 0 (((0 : Nat) : Int))) ar S hA0 hV  ) q2135 q2137 qs54 q100 q2138 ⟨rfl, pd_X4_weighs⟩ (by decide) rfl rfl (by decide) (by decide) hM_1.1 rfl rfl (Nat.le_of_ble_eq_true rfl) hl.1 dX4_blockBySlack_6 (hB.of hS (fp_ma.base hA0)) hM_1 hS (fun _ h => Or.inl h) (fun v H locs hp_2 hzC hkC hS => ?_)
  obtain ⟨f_3, rfl, hM_5, hf_4⟩ := hp_2
  refine r_stk (st2 := []) rfl ?_
  refine lv_iconst (v := (iI ((0 : Nat) : Int))) hx hb dX4_blockBySlack_9 rfl ?_
  refine lv_istore_n (lv' := [(2, .int (iI ((0 : Nat) : Int))), (0, .ref (ad 0)), (1, .int (iI (pos)))]) hx hb dX4_blockBySlack_10 rfl hl (by decide) rfl (fun ls hl => ?_)
  have L11 : ∀ (k : Nat), k ≤ sN S → ∀ (locs : List Loc) (ls : Array Slot),(∀ j, j < k → decide ((fp_srk S j : Int) = pos) = false) → lv_has ls 6 [(0, .ref (ad 0)), (1, .int (iI (pos))), (2, .int (iI ((k : Nat) : Int)))] → va_S (fA (fp_ma ad) s.heap.size) s.heap H locs → W pg (g_l G) en rR s mi ag bl mt cd H locs 0 0 qQ (F0 mi 11 ls []) := by
    refine lp_up (sN S) ?_
    intro k hk11 ih11 locs ls hq hl hS
    refine lv_iload_n hx hb dX4_blockBySlack_11 rfl (lv_at hl 2 rfl) ?_
    refine lv_aload_n hx hb dX4_blockBySlack_12 rfl (lv_at hl 0 rfl) ?_
    refine r_get X hM_5.1 rfl in_X4 5 (by decide) q2014 (Or.inl rfl) (v := .ref (ad 5)) rfl dX4_blockBySlack_13 ?_
    refine lv_iconst (v := (iI ((0 : Nat) : Int))) hx hb dX4_blockBySlack_16 rfl ?_
    refine r_ialdI X (hM_5.2 5 (by decide) (by decide)) (j := 0) (n := 170) rfl (by decide) (by decide) dX4_blockBySlack_17 ?_
    refine r_set (y := .int (iI ((sN S : Nat) : Int))) (congrArg (fun q : Int => Value.int (iI q)) (hV.2.1)) ?_
    refine r_icmp_ge (tgt := 127) hx hb ⟨by omega, by omega⟩ ⟨by omega, by omega⟩ dX4_blockBySlack_18 (by decide) (fun c18 => ?_) (fun c18 => ?_)
    · skip
      refine lv_aload_n hx hb dX4_blockBySlack_127 rfl (lv_at hl 0 rfl) ?_
      refine lv_iconst (v := (iI ((1 : Nat) : Int))) hx hb dX4_blockBySlack_128 rfl ?_
      refine r_callV (cells1 := 0) (slots1 := 0) X hR (c_X4_fail G ad (va_up sc 0 (((0 : Nat) : Int))) (va_up ar 10 f_3) hA0 1 ) q2107 q2109 qs47 q100 q2110 ⟨rfl, pd_X4_fail⟩ (by decide) rfl rfl (by decide) (by decide) hM_5.1 rfl rfl (Nat.le_of_ble_eq_true rfl) hl.1 dX4_blockBySlack_129 (hB.of hS (fp_ma.base hA0)) hM_5 hS (fun _ h => Or.inl h) (fun v H locs hp_6 hzC hkC hS => ?_)
      obtain ⟨rfl, hM_7⟩ := hp_6
      have hM_8 := fp_ME.nrm (sc2 := (va_up sc 0 ((1)))) hM_7 rfl
      refine r_stk (st2 := [.int (iI ((0 : Nat) : Int))]) rfl ?_
      refine r_iret hx hb hr hlk hQ hS (Nat.le_of_ble_eq_true rfl) (Nat.le_of_ble_eq_true rfl) dX4_blockBySlack_132 ?_
      exact ⟨((0 : Nat) : Int), (va_up ar 10 f_3), rfl, (by rw [show fp_bslc S pos = 1 from if_neg (by rw [show fp_bsl S pos = sN S from fp_fi_n (fun j hj => hq j (by omega))]; omega)]; exact hM_8.nrm rfl), (fun z0 => absurd ((show fp_bslc S pos = 1 from if_neg (by rw [show fp_bsl S pos = sN S from fp_fi_n (fun j hj => hq j (by omega))]; omega)).symm.trans z0) (by decide)), (fun k hk => by simp [fp_scr] at hk; by_cases e5 : k = 5 <;> simp_all [va_up])⟩
    · skip
      refine lv_iconst (v := (iI ((0 : Nat) : Int))) hx hb dX4_blockBySlack_21 rfl ?_
      refine lv_istore_n (lv' := [(3, .int (iI ((0 : Nat) : Int))), (0, .ref (ad 0)), (1, .int (iI (pos))), (2, .int (iI ((k : Nat) : Int)))]) hx hb dX4_blockBySlack_22 rfl hl (by decide) rfl (fun ls hl => ?_)
      refine lv_aload_n hx hb dX4_blockBySlack_23 rfl (lv_at hl 1 rfl) ?_
      refine lv_iload_n hx hb dX4_blockBySlack_24 rfl (lv_at hl 3 rfl) ?_
      refine r_callV (cells1 := 0) (slots1 := 0) X hR (c_X4_strong G ad (va_up sc 0 (((0 : Nat) : Int))) (va_up ar 10 f_3) S hA0 hV k (by omega)) q2155 q2157 qs59 q100 q2158 ⟨rfl, pd_X4_strong⟩ (by decide) rfl rfl (by decide) (by decide) hM_5.1 rfl rfl (Nat.le_of_ble_eq_true rfl) hl.1 dX4_blockBySlack_25 (hB.of hS (fp_ma.base hA0)) hM_5 hS (fun _ h => h.elim) (fun v H1 locs hp_9 hzC hkC hS => ?_)
      obtain ⟨rfl, rfl⟩ := hp_9
      refine r_stk (st2 := [.int (iI ((fp_str (sB S k) : Nat) : Int))]) rfl ?_
      refine lv_aload_n hx hb dX4_blockBySlack_28 rfl (lv_at hl 1 rfl) ?_
      refine r_get X hM_5.1 rfl in_X4 10 (by decide) q2019 (Or.inl rfl) (v := .ref (ad 10)) rfl dX4_blockBySlack_29 ?_
      refine lv_iload_n hx hb dX4_blockBySlack_32 rfl (lv_at hl 3 rfl) ?_
      refine r_ialdI X (hM_5.2 10 (by decide) (by decide)) (j := k) (n := 24) rfl (by omega) (by decide) dX4_blockBySlack_33 ?_
      refine r_set (y := .int (iI ((fp_ld S k : Nat) : Int))) (congrArg (fun q : Int => Value.int (iI q)) (show f_3 k = _ from hf_4 k (by omega))) ?_
      refine r_isub hx hb dX4_blockBySlack_34 ?_
      refine lv_istore (lv' := [(4, .int (iI (((fp_str (sB S k) : Nat) : Int) - ((fp_ld S k : Nat) : Int)))), (3, .int (iI ((0 : Nat) : Int))), (0, .ref (ad 0)), (1, .int (iI (pos))), (2, .int (iI ((k : Nat) : Int)))]) hx hb dX4_blockBySlack_35 hl (by decide) rfl (fun ls hl => ?_)
      have hlb0 := fp_ld_b hV.1 k
      have hsb0 := fp_str_b (hV.1.2.2.1 k (by omega))
      refine lv_iconst (v := (iI ((0 : Nat) : Int))) hx hb dX4_blockBySlack_37 rfl ?_
      refine lv_istore (lv' := [(5, .int (iI ((0 : Nat) : Int))), (4, .int (iI (((fp_str (sB S k) : Nat) : Int) - ((fp_ld S k : Nat) : Int)))), (3, .int (iI ((0 : Nat) : Int))), (0, .ref (ad 0)), (1, .int (iI (pos))), (2, .int (iI ((k : Nat) : Int)))]) hx hb dX4_blockBySlack_38 hl (by decide) rfl (fun ls hl => ?_)
      have L40 : ∀ (o : Nat), o ≤ sN S → ∀ (locs : List Loc) (ls : Array Slot), lv_has ls 6 [(0, .ref (ad 0)), (1, .int (iI (pos))), (2, .int (iI ((k : Nat) : Int))), (3, .int (iI ((fp_ct (fp_srf S k) o : Nat) : Int))), (4, .int (iI (((fp_str (sB S k) : Nat) : Int) - ((fp_ld S k : Nat) : Int)))), (5, .int (iI ((o : Nat) : Int)))] → va_S (fA (fp_ma ad) s.heap.size) s.heap H locs → W pg (g_l G) en rR s mi ag bl mt cd H locs 0 0 qQ (F0 mi 40 ls []) := by
        refine lp_up (sN S) ?_
        intro o hk40 ih40 locs ls hl hS
        have hcl : fp_ct (fp_srf S k) o ≤ o := fp_ct_le _ _
        refine lv_iload hx hb dX4_blockBySlack_40 (lv_at hl 5 rfl) ?_
        refine lv_aload_n hx hb dX4_blockBySlack_42 rfl (lv_at hl 0 rfl) ?_
        refine r_get X hM_5.1 rfl in_X4 5 (by decide) q2014 (Or.inl rfl) (v := .ref (ad 5)) rfl dX4_blockBySlack_43 ?_
        refine lv_iconst (v := (iI ((0 : Nat) : Int))) hx hb dX4_blockBySlack_46 rfl ?_
        refine r_ialdI X (hM_5.2 5 (by decide) (by decide)) (j := 0) (n := 170) rfl (by decide) (by decide) dX4_blockBySlack_47 ?_
        refine r_set (y := .int (iI ((sN S : Nat) : Int))) (congrArg (fun q : Int => Value.int (iI q)) (hV.2.1)) ?_
        refine r_icmp_ge (tgt := 109) hx hb ⟨by omega, by omega⟩ ⟨by omega, by omega⟩ dX4_blockBySlack_48 (by decide) (fun c48 => ?_) (fun c48 => ?_)
        · skip
          refine lv_iload_n hx hb dX4_blockBySlack_109 rfl (lv_at hl 3 rfl) ?_
          have hcl : fp_ct (fp_srf S k) o ≤ o := fp_ct_le _ _
          refine lv_iload_n hx hb dX4_blockBySlack_110 rfl (lv_at hl 1 rfl) ?_
          refine r_icmp_ne (tgt := 121) hx hb ⟨by omega, by omega⟩ ⟨by omega, by omega⟩ dX4_blockBySlack_111 (by decide) (fun c111 => ?_) (fun c111 => ?_)
          · skip
            refine lv_iinc (v := (iI ((k + 1 : Nat) : Int))) (lv' := [(2, .int (iI ((k + 1 : Nat) : Int))), (0, .ref (ad 0)), (1, .int (iI (pos))), (3, .int (iI ((fp_ct (fp_srf S k) o : Nat) : Int))), (4, .int (iI (((fp_str (sB S k) : Nat) : Int) - ((fp_ld S k : Nat) : Int)))), (5, .int (iI ((o : Nat) : Int)))]) hx hb dX4_blockBySlack_121 hl (k := 2) rfl (iI_incN _ _) (by decide) rfl (fun ls hl => ?_)
            refine lv_goto (tgt := 11) hx hb dX4_blockBySlack_124 (by decide) ?_
            exact ih11 (by omega) locs ls (lt_s hq (decide_eq_false (by rw [show fp_srk S k = fp_ct (fp_srf S k) o from by rw [show o = sN S by omega]; rfl]; omega))) (lv_sub hl [1, 2, 0] rfl) hS
          · skip
            refine lv_aload_n hx hb dX4_blockBySlack_114 rfl (lv_at hl 0 rfl) ?_
            refine lv_iload_n hx hb dX4_blockBySlack_115 rfl (lv_at hl 2 rfl) ?_
            refine lv_iconst (v := (iI ((0 : Nat) : Int))) hx hb dX4_blockBySlack_116 rfl ?_
            refine r_callV (cells1 := 0) (slots1 := 0) X hR (c_X4_of G ad (va_up sc 0 (((0 : Nat) : Int))) (va_up ar 10 f_3) S hA0 hV k 0 (by omega) (by omega)) q2123 q2125 qs51 q100 q2126 ⟨rfl, pd_X4_of⟩ (by decide) rfl rfl (by decide) (by decide) hM_5.1 rfl rfl (Nat.le_of_ble_eq_true rfl) hl.1 dX4_blockBySlack_117 (hB.of hS (fp_ma.base hA0)) hM_5 hS (fun _ h => h.elim) (fun v H1 locs hp_10 hzC hkC hS => ?_)
            obtain ⟨rfl, rfl⟩ := hp_10
            refine r_stk (st2 := [.int (iI ((sB S k 0 : Nat) : Int))]) rfl ?_
            refine r_iret hx hb hr hlk hQ hS (Nat.le_of_ble_eq_true rfl) (Nat.le_of_ble_eq_true rfl) dX4_blockBySlack_120 ?_
            exact ⟨((sB S k 0 : Nat) : Int), (va_up ar 10 f_3), rfl, (by rw [show fp_bslc S pos = 0 from if_pos (by rw [show fp_bsl S pos = k from fp_fi_eq (by omega) (decide_eq_true (by rw [show fp_srk S k = fp_ct (fp_srf S k) o from by rw [show o = sN S by omega]; rfl]; omega)) hq]; omega)]; exact hM_5.nrm rfl), (fun _ => (by rw [show fp_bsl S pos = k from fp_fi_eq (by omega) (decide_eq_true (by rw [show fp_srk S k = fp_ct (fp_srf S k) o from by rw [show o = sN S by omega]; rfl]; omega)) hq])), (fun k hk => by simp [fp_scr] at hk; by_cases e5 : k = 5 <;> simp_all [va_up])⟩
        · skip
          refine lv_iload_n hx hb dX4_blockBySlack_51 rfl (lv_at hl 3 rfl) ?_
          refine lv_aload_n hx hb dX4_blockBySlack_52 rfl (lv_at hl 0 rfl) ?_
          refine lv_iload hx hb dX4_blockBySlack_53 (lv_at hl 5 rfl) ?_
          refine r_callV (cells1 := 0) (slots1 := 0) X hR (c_X4_strong G ad (va_up sc 0 (((0 : Nat) : Int))) (va_up ar 10 f_3) S hA0 hV o (by omega)) q2155 q2157 qs59 q100 q2158 ⟨rfl, pd_X4_strong⟩ (by decide) rfl rfl (by decide) (by decide) hM_5.1 rfl rfl (Nat.le_of_ble_eq_true rfl) hl.1 dX4_blockBySlack_55 (hB.of hS (fp_ma.base hA0)) hM_5 hS (fun _ h => h.elim) (fun v H1 locs hp_11 hzC hkC hS => ?_)
          obtain ⟨rfl, rfl⟩ := hp_11
          refine r_stk (st2 := [.int (iI ((fp_str (sB S o) : Nat) : Int)), .int (iI ((fp_ct (fp_srf S k) o : Nat) : Int))]) rfl ?_
          refine lv_aload_n hx hb dX4_blockBySlack_58 rfl (lv_at hl 0 rfl) ?_
          refine r_get X hM_5.1 rfl in_X4 10 (by decide) q2019 (Or.inl rfl) (v := .ref (ad 10)) rfl dX4_blockBySlack_59 ?_
          refine lv_iload hx hb dX4_blockBySlack_62 (lv_at hl 5 rfl) ?_
          refine r_ialdI X (hM_5.2 10 (by decide) (by decide)) (j := o) (n := 24) rfl (by omega) (by decide) dX4_blockBySlack_64 ?_
          refine r_set (y := .int (iI ((fp_ld S o : Nat) : Int))) (congrArg (fun q : Int => Value.int (iI q)) (show f_3 o = _ from hf_4 o (by omega))) ?_
          refine r_isub hx hb dX4_blockBySlack_65 ?_
          have hlb0 := fp_ld_b hV.1 k
          have hsb0 := fp_str_b (hV.1.2.2.1 k (by omega))
          have hlb1 := fp_ld_b hV.1 o
          have hsb1 := fp_str_b (hV.1.2.2.1 o (by omega))
          refine lv_iload hx hb dX4_blockBySlack_66 (lv_at hl 4 rfl) ?_
          refine r_icmp_lt (tgt := 96) hx hb ⟨by omega, by omega⟩ ⟨by omega, by omega⟩ dX4_blockBySlack_68 (by decide) (fun c68 => ?_) (fun c68 => ?_)
          · skip
            refine lv_iconst (v := (iI ((1 : Nat) : Int))) hx hb dX4_blockBySlack_96 rfl ?_
            refine lv_goto (tgt := 101) hx hb dX4_blockBySlack_97 (by decide) ?_
            refine r_iaddN hx hb dX4_blockBySlack_101 ?_
            refine lv_istore_n (lv' := [(3, .int (iI (((fp_ct (fp_srf S k) o) + 1 : Nat) : Int))), (0, .ref (ad 0)), (1, .int (iI (pos))), (2, .int (iI ((k : Nat) : Int))), (4, .int (iI (((fp_str (sB S k) : Nat) : Int) - ((fp_ld S k : Nat) : Int)))), (5, .int (iI ((o : Nat) : Int)))]) hx hb dX4_blockBySlack_102 rfl hl (by decide) rfl (fun ls hl => ?_)
            refine lv_iinc (v := (iI ((o + 1 : Nat) : Int))) (lv' := [(5, .int (iI ((o + 1 : Nat) : Int))), (3, .int (iI (((fp_ct (fp_srf S k) o) + 1 : Nat) : Int))), (0, .ref (ad 0)), (1, .int (iI (pos))), (2, .int (iI ((k : Nat) : Int))), (4, .int (iI (((fp_str (sB S k) : Nat) : Int) - ((fp_ld S k : Nat) : Int))))]) hx hb dX4_blockBySlack_103 hl (k := 5) rfl (iI_incN _ _) (by decide) rfl (fun ls hl => ?_)
            refine lv_goto (tgt := 40) hx hb dX4_blockBySlack_106 (by decide) ?_
            exact ih40 (by omega) locs ls (by rw [show Value.int (iI ((fp_ct (fp_srf S k) (o + 1) : Nat) : Int)) = Value.int (iI (((fp_ct (fp_srf S k) o) + 1 : Nat) : Int)) from congrArg (fun q : Nat => Value.int (iI (q : Int))) (by show _ + (if fp_srf S k o then 1 else 0) = _; rw [show fp_srf S k o = true from by unfold fp_srf fp_slk; exact decide_eq_true (by omega)]; rfl)]; exact lv_sub hl [2, 3, 4, 1, 5, 0] rfl) hS
          · skip
            refine lv_aload_n hx hb dX4_blockBySlack_71 rfl (lv_at hl 0 rfl) ?_
            refine lv_iload hx hb dX4_blockBySlack_72 (lv_at hl 5 rfl) ?_
            refine r_callV (cells1 := 0) (slots1 := 0) X hR (c_X4_strong G ad (va_up sc 0 (((0 : Nat) : Int))) (va_up ar 10 f_3) S hA0 hV o (by omega)) q2155 q2157 qs59 q100 q2158 ⟨rfl, pd_X4_strong⟩ (by decide) rfl rfl (by decide) (by decide) hM_5.1 rfl rfl (Nat.le_of_ble_eq_true rfl) hl.1 dX4_blockBySlack_74 (hB.of hS (fp_ma.base hA0)) hM_5 hS (fun _ h => h.elim) (fun v H1 locs hp_12 hzC hkC hS => ?_)
            obtain ⟨rfl, rfl⟩ := hp_12
            refine r_stk (st2 := [.int (iI ((fp_str (sB S o) : Nat) : Int)), .int (iI ((fp_ct (fp_srf S k) o : Nat) : Int))]) rfl ?_
            refine lv_aload_n hx hb dX4_blockBySlack_77 rfl (lv_at hl 0 rfl) ?_
            refine r_get X hM_5.1 rfl in_X4 10 (by decide) q2019 (Or.inl rfl) (v := .ref (ad 10)) rfl dX4_blockBySlack_78 ?_
            refine lv_iload hx hb dX4_blockBySlack_81 (lv_at hl 5 rfl) ?_
            refine r_ialdI X (hM_5.2 10 (by decide) (by decide)) (j := o) (n := 24) rfl (by omega) (by decide) dX4_blockBySlack_83 ?_
            refine r_set (y := .int (iI ((fp_ld S o : Nat) : Int))) (congrArg (fun q : Int => Value.int (iI q)) (show f_3 o = _ from hf_4 o (by omega))) ?_
            refine r_isub hx hb dX4_blockBySlack_84 ?_
            have hlb0 := fp_ld_b hV.1 k
            have hsb0 := fp_str_b (hV.1.2.2.1 k (by omega))
            have hlb1 := fp_ld_b hV.1 o
            have hsb1 := fp_str_b (hV.1.2.2.1 o (by omega))
            refine lv_iload hx hb dX4_blockBySlack_85 (lv_at hl 4 rfl) ?_
            refine r_icmp_ne (tgt := 100) hx hb ⟨by omega, by omega⟩ ⟨by omega, by omega⟩ dX4_blockBySlack_87 (by decide) (fun c87 => ?_) (fun c87 => ?_)
            · skip
              refine lv_iconst (v := (iI ((0 : Nat) : Int))) hx hb dX4_blockBySlack_100 rfl ?_
              refine r_iaddN hx hb dX4_blockBySlack_101 ?_
              refine lv_istore_n (lv' := [(3, .int (iI (((fp_ct (fp_srf S k) o) + 0 : Nat) : Int))), (0, .ref (ad 0)), (1, .int (iI (pos))), (2, .int (iI ((k : Nat) : Int))), (4, .int (iI (((fp_str (sB S k) : Nat) : Int) - ((fp_ld S k : Nat) : Int)))), (5, .int (iI ((o : Nat) : Int)))]) hx hb dX4_blockBySlack_102 rfl hl (by decide) rfl (fun ls hl => ?_)
              refine lv_iinc (v := (iI ((o + 1 : Nat) : Int))) (lv' := [(5, .int (iI ((o + 1 : Nat) : Int))), (3, .int (iI (((fp_ct (fp_srf S k) o) + 0 : Nat) : Int))), (0, .ref (ad 0)), (1, .int (iI (pos))), (2, .int (iI ((k : Nat) : Int))), (4, .int (iI (((fp_str (sB S k) : Nat) : Int) - ((fp_ld S k : Nat) : Int))))]) hx hb dX4_blockBySlack_103 hl (k := 5) rfl (iI_incN _ _) (by decide) rfl (fun ls hl => ?_)
              refine lv_goto (tgt := 40) hx hb dX4_blockBySlack_106 (by decide) ?_
              exact ih40 (by omega) locs ls (by rw [show Value.int (iI ((fp_ct (fp_srf S k) (o + 1) : Nat) : Int)) = Value.int (iI (((fp_ct (fp_srf S k) o) + 0 : Nat) : Int)) from congrArg (fun q : Nat => Value.int (iI (q : Int))) (by show _ + (if fp_srf S k o then 1 else 0) = _; rw [show fp_srf S k o = false from by unfold fp_srf fp_slk; exact decide_eq_false (by omega)]; rfl)]; exact lv_sub hl [2, 3, 4, 1, 5, 0] rfl) hS
            · skip
              refine lv_iload hx hb dX4_blockBySlack_90 (lv_at hl 5 rfl) ?_
              refine lv_iload_n hx hb dX4_blockBySlack_92 rfl (lv_at hl 2 rfl) ?_
              refine r_icmp_ge (tgt := 100) hx hb ⟨by omega, by omega⟩ ⟨by omega, by omega⟩ dX4_blockBySlack_93 (by decide) (fun c93 => ?_) (fun c93 => ?_)
              · skip
                refine lv_iconst (v := (iI ((0 : Nat) : Int))) hx hb dX4_blockBySlack_100 rfl ?_
                refine r_iaddN hx hb dX4_blockBySlack_101 ?_
                refine lv_istore_n (lv' := [(3, .int (iI (((fp_ct (fp_srf S k) o) + 0 : Nat) : Int))), (0, .ref (ad 0)), (1, .int (iI (pos))), (2, .int (iI ((k : Nat) : Int))), (4, .int (iI (((fp_str (sB S k) : Nat) : Int) - ((fp_ld S k : Nat) : Int)))), (5, .int (iI ((o : Nat) : Int)))]) hx hb dX4_blockBySlack_102 rfl hl (by decide) rfl (fun ls hl => ?_)
                refine lv_iinc (v := (iI ((o + 1 : Nat) : Int))) (lv' := [(5, .int (iI ((o + 1 : Nat) : Int))), (3, .int (iI (((fp_ct (fp_srf S k) o) + 0 : Nat) : Int))), (0, .ref (ad 0)), (1, .int (iI (pos))), (2, .int (iI ((k : Nat) : Int))), (4, .int (iI (((fp_str (sB S k) : Nat) : Int) - ((fp_ld S k : Nat) : Int))))]) hx hb dX4_blockBySlack_103 hl (k := 5) rfl (iI_incN _ _) (by decide) rfl (fun ls hl => ?_)
                refine lv_goto (tgt := 40) hx hb dX4_blockBySlack_106 (by decide) ?_
                exact ih40 (by omega) locs ls (by rw [show Value.int (iI ((fp_ct (fp_srf S k) (o + 1) : Nat) : Int)) = Value.int (iI (((fp_ct (fp_srf S k) o) + 0 : Nat) : Int)) from congrArg (fun q : Nat => Value.int (iI (q : Int))) (by show _ + (if fp_srf S k o then 1 else 0) = _; rw [show fp_srf S k o = false from by unfold fp_srf fp_slk; exact decide_eq_false (by omega)]; rfl)]; exact lv_sub hl [2, 3, 4, 1, 5, 0] rfl) hS
              · skip
                refine lv_iconst (v := (iI ((1 : Nat) : Int))) hx hb dX4_blockBySlack_96 rfl ?_
                refine lv_goto (tgt := 101) hx hb dX4_blockBySlack_97 (by decide) ?_
                refine r_iaddN hx hb dX4_blockBySlack_101 ?_
                refine lv_istore_n (lv' := [(3, .int (iI (((fp_ct (fp_srf S k) o) + 1 : Nat) : Int))), (0, .ref (ad 0)), (1, .int (iI (pos))), (2, .int (iI ((k : Nat) : Int))), (4, .int (iI (((fp_str (sB S k) : Nat) : Int) - ((fp_ld S k : Nat) : Int)))), (5, .int (iI ((o : Nat) : Int)))]) hx hb dX4_blockBySlack_102 rfl hl (by decide) rfl (fun ls hl => ?_)
                refine lv_iinc (v := (iI ((o + 1 : Nat) : Int))) (lv' := [(5, .int (iI ((o + 1 : Nat) : Int))), (3, .int (iI (((fp_ct (fp_srf S k) o) + 1 : Nat) : Int))), (0, .ref (ad 0)), (1, .int (iI (pos))), (2, .int (iI ((k : Nat) : Int))), (4, .int (iI (((fp_str (sB S k) : Nat) : Int) - ((fp_ld S k : Nat) : Int))))]) hx hb dX4_blockBySlack_103 hl (k := 5) rfl (iI_incN _ _) (by decide) rfl (fun ls hl => ?_)
                refine lv_goto (tgt := 40) hx hb dX4_blockBySlack_106 (by decide) ?_
                exact ih40 (by omega) locs ls (by rw [show Value.int (iI ((fp_ct (fp_srf S k) (o + 1) : Nat) : Int)) = Value.int (iI (((fp_ct (fp_srf S k) o) + 1 : Nat) : Int)) from congrArg (fun q : Nat => Value.int (iI (q : Int))) (by show _ + (if fp_srf S k o then 1 else 0) = _; rw [show fp_srf S k o = true from by unfold fp_srf fp_slk; exact decide_eq_true (by omega)]; rfl)]; exact lv_sub hl [2, 3, 4, 1, 5, 0] rfl) hS
      exact L40 0 (by omega) locs ls (lv_sub hl [3, 4, 5, 2, 1, 0] rfl) hS
  exact L11 0 (by omega) locs ls lt_0 (lv_sub hl [1, 2, 0] rfl) hS
set_option maxHeartbeats 4000000 in
theorem c_X4_height (G : fp_G) (ad : Nat → Nat) (sc : Nat → Int) (ar : Nat → Nat → Int) (S : PS) (hA0 : fp_MA G ad) (hV : fp_VR S (ar 5)) (col : Int) (hcol : rg col) : fp_M G yX4_height cX4_height 2 (some .int) 4 79 0 0 [.ref (ad 0), .int (iI (col))] (fp_ME G ad sc ar) (fp_ma ad) (fun _ v H => ∃ (r : Int), ∃ (ar2 : Nat → Nat → Int), v = some (.int (iI (r))) ∧ fp_ME G ad (va_up sc 0 (((fp_cc col : Nat) : Int))) ar2 H ∧ (fp_cc col = 0 → r = (fp_hi S col.toNat : Int)) ∧ (fp_sm0 ar ar2)) := by
  refine fp_M.intro (by decide) (Nat.le_of_ble_eq_true rfl) ?_
  intro pg en s mi ag bl mt cd rR qQ ls X hx hb hr hlk hnm hR hQ hB hM hl
  have hS : va_S (fA (fp_ma ad) s.heap.size) s.heap s.heap [] := va_S.rf
  generalize ([] : List Loc) = locs at hS ⊢
  have hN24 := hV.1.1
  refine lv_aload_n hx hb dX4_height_0 rfl (lv_at hl 0 rfl) ?_
  refine lv_iload_n hx hb dX4_height_1 rfl (lv_at hl 1 rfl) ?_
  refine r_callS (cells1 := 0) (slots1 := 0) X hR (c_X4_isColumn G (col) (by omega)) q2101 q2102 q100 q2103 pd_X4_isColumn (by decide) rfl rfl (by decide) (by decide) rfl (Nat.le_of_ble_eq_true rfl) hl.1 dX4_height_2 (hB.of hS (fp_ma.base hA0)) trivial hS (fun _ h => h.elim) (fun v H1 locs hp_1 hzC hkC hS => ?_)
  obtain ⟨rfl, rfl⟩ := hp_1
  refine r_stk (st2 := [.int (iI (bI (decide (0 ≤ (col) ∧ (col) ≤ 11)))), .ref (ad 0)]) rfl ?_
  refine r_ifeqB (tgt := 12) hx hb dX4_height_5 (by decide) (fun c5 => ?_) (fun c5 => ?_)
  · skip
    have c5 := of_decide_eq_false c5
    refine lv_iconst (v := (iI ((1 : Nat) : Int))) hx hb dX4_height_12 rfl ?_
    refine m_put X hM hS hA0 (k := 0) (sc2 := (va_up sc 0 (((1 : Nat) : Int)))) rfl (by decide) q2009 rfl rfl rfl dX4_height_13 rfl (fun H locs hM_2 hS => ?_)
    refine lv_aload_n hx hb dX4_height_16 rfl (lv_at hl 0 rfl) ?_
    refine r_get X hM_2.1 rfl in_X4 0 (by decide) q2009 (Or.inl rfl) (v := .int (iI ((1 : Nat) : Int))) rfl dX4_height_17 ?_
    refine r_if_ne (tgt := 31) hx hb (by decide) dX4_height_20 (by decide) (fun c20 => ?_) (fun c20 => ?_)
    · skip
      refine lv_iconst (v := (iI ((0 : Nat) : Int))) hx hb dX4_height_31 rfl ?_
      refine r_iret hx hb hr hlk hQ hS (Nat.le_of_ble_eq_true rfl) (Nat.le_of_ble_eq_true rfl) dX4_height_32 ?_
      exact ⟨((0 : Nat) : Int), ar, rfl, (by rw [show fp_cc col = 1 from fp_cc_1 (by omega)]; exact hM_2.nrm rfl), (fun z0 => absurd ((show fp_cc col = 1 from fp_cc_1 (by omega)).symm.trans z0) (by decide)), (fun k hk => by simp [fp_scr] at hk; by_cases e5 : k = 5 <;> simp_all [va_up])⟩
    · exact absurd c20 (by omega)
  · skip
    have c5 := of_decide_eq_true c5
    obtain ⟨c, rfl⟩ : ∃ c : Nat, col = ((c : Nat) : Int) := ⟨col.toNat, by omega⟩
    refine lv_iconst (v := (iI ((0 : Nat) : Int))) hx hb dX4_height_8 rfl ?_
    refine lv_goto (tgt := 13) hx hb dX4_height_9 (by decide) ?_
    refine m_put X hM hS hA0 (k := 0) (sc2 := (va_up sc 0 (((0 : Nat) : Int)))) rfl (by decide) q2009 rfl rfl rfl dX4_height_13 rfl (fun H locs hM_3 hS => ?_)
    refine lv_aload_n hx hb dX4_height_16 rfl (lv_at hl 0 rfl) ?_
    refine r_get X hM_3.1 rfl in_X4 0 (by decide) q2009 (Or.inl rfl) (v := .int (iI ((0 : Nat) : Int))) rfl dX4_height_17 ?_
    refine r_if_ne (tgt := 31) hx hb (by decide) dX4_height_20 (by decide) (fun c20 => ?_) (fun c20 => ?_)
    · exact absurd c20 (by omega)
    · skip
      refine lv_aload_n hx hb dX4_height_23 rfl (lv_at hl 0 rfl) ?_
      refine lv_iload_n hx hb dX4_height_24 rfl (lv_at hl 1 rfl) ?_
      refine r_callV (cells1 := 0) (slots1 := 0) X hR (c_X4_high G ad (va_up sc 0 (((0 : Nat) : Int))) ar S hA0 hV c (by omega)) q2115 q2117 qs49 q100 q2118 ⟨rfl, pd_X4_high⟩ (by decide) rfl rfl (by decide) (by decide) hM_3.1 rfl rfl (Nat.le_of_ble_eq_true rfl) hl.1 dX4_height_25 (hB.of hS (fp_ma.base hA0)) hM_3 hS (fun _ h => h.elim) (fun v H1 locs hp_4 hzC hkC hS => ?_)
      obtain ⟨rfl, rfl⟩ := hp_4
      refine r_stk (st2 := [.int (iI ((fp_hi S c : Nat) : Int))]) rfl ?_
      have hh28 := fp_hi_le hV.1 c
      refine lv_goto (tgt := 32) hx hb dX4_height_28 (by decide) ?_
      refine r_iret hx hb hr hlk hQ hS (Nat.le_of_ble_eq_true rfl) (Nat.le_of_ble_eq_true rfl) dX4_height_32 ?_
      exact ⟨((fp_hi S c : Nat) : Int), ar, rfl, (by rw [show fp_cc ((c : Nat) : Int) = 0 from fp_cc_0 (by omega)]; exact hM_3.nrm rfl), (fun _ => rfl), (fun k hk => by simp [fp_scr] at hk; by_cases e5 : k = 5 <;> simp_all [va_up])⟩
set_option maxHeartbeats 4000000 in
theorem c_X4_holes (G : fp_G) (ad : Nat → Nat) (sc : Nat → Int) (ar : Nat → Nat → Int) (S : PS) (hA0 : fp_MA G ad) (hV : fp_VR S (ar 5)) (col : Int) (hcol : rg col) : fp_M G yX4_holes cX4_holes 4 (some .int) 4 79 0 0 [.ref (ad 0), .int (iI (col))] (fp_ME G ad sc ar) (fp_ma ad) (fun _ v H => ∃ (r : Int), ∃ (ar2 : Nat → Nat → Int), v = some (.int (iI (r))) ∧ fp_ME G ad (va_up sc 0 (((fp_cc col : Nat) : Int))) ar2 H ∧ (fp_cc col = 0 → r = fp_hol S col.toNat) ∧ (fp_sm0 ar ar2)) := by
  refine fp_M.intro (by decide) (Nat.le_of_ble_eq_true rfl) ?_
  intro pg en s mi ag bl mt cd rR qQ ls X hx hb hr hlk hnm hR hQ hB hM hl
  have hS : va_S (fA (fp_ma ad) s.heap.size) s.heap s.heap [] := va_S.rf
  generalize ([] : List Loc) = locs at hS ⊢
  have hN24 := hV.1.1
  refine lv_aload_n hx hb dX4_holes_0 rfl (lv_at hl 0 rfl) ?_
  refine lv_iload_n hx hb dX4_holes_1 rfl (lv_at hl 1 rfl) ?_
  refine r_callS (cells1 := 0) (slots1 := 0) X hR (c_X4_isColumn G (col) (by omega)) q2101 q2102 q100 q2103 pd_X4_isColumn (by decide) rfl rfl (by decide) (by decide) rfl (Nat.le_of_ble_eq_true rfl) hl.1 dX4_holes_2 (hB.of hS (fp_ma.base hA0)) trivial hS (fun _ h => h.elim) (fun v H1 locs hp_1 hzC hkC hS => ?_)
  obtain ⟨rfl, rfl⟩ := hp_1
  refine r_stk (st2 := [.int (iI (bI (decide (0 ≤ (col) ∧ (col) ≤ 11)))), .ref (ad 0)]) rfl ?_
  refine r_ifeqB (tgt := 12) hx hb dX4_holes_5 (by decide) (fun c5 => ?_) (fun c5 => ?_)
  · skip
    have c5 := of_decide_eq_false c5
    refine lv_iconst (v := (iI ((1 : Nat) : Int))) hx hb dX4_holes_12 rfl ?_
    refine m_put X hM hS hA0 (k := 0) (sc2 := (va_up sc 0 (((1 : Nat) : Int)))) rfl (by decide) q2009 rfl rfl rfl dX4_holes_13 rfl (fun H locs hM_2 hS => ?_)
    refine lv_aload_n hx hb dX4_holes_16 rfl (lv_at hl 0 rfl) ?_
    refine r_get X hM_2.1 rfl in_X4 0 (by decide) q2009 (Or.inl rfl) (v := .int (iI ((1 : Nat) : Int))) rfl dX4_holes_17 ?_
    refine r_if_eq (tgt := 25) hx hb (by decide) dX4_holes_20 (by decide) (fun c20 => ?_) (fun c20 => ?_)
    · exact absurd c20 (by omega)
    · skip
      refine lv_iconst (v := (iI ((0 : Nat) : Int))) hx hb dX4_holes_23 rfl ?_
      refine r_iret hx hb hr hlk hQ hS (Nat.le_of_ble_eq_true rfl) (Nat.le_of_ble_eq_true rfl) dX4_holes_24 ?_
      exact ⟨((0 : Nat) : Int), ar, rfl, (by rw [show fp_cc col = 1 from fp_cc_1 (by omega)]; exact hM_2.nrm rfl), (fun z0 => absurd ((show fp_cc col = 1 from fp_cc_1 (by omega)).symm.trans z0) (by decide)), (fun k hk => by simp [fp_scr] at hk; by_cases e5 : k = 5 <;> simp_all [va_up])⟩
  · skip
    have c5 := of_decide_eq_true c5
    obtain ⟨c, rfl⟩ : ∃ c : Nat, col = ((c : Nat) : Int) := ⟨col.toNat, by omega⟩
    refine lv_iconst (v := (iI ((0 : Nat) : Int))) hx hb dX4_holes_8 rfl ?_
    refine lv_goto (tgt := 13) hx hb dX4_holes_9 (by decide) ?_
    refine m_put X hM hS hA0 (k := 0) (sc2 := (va_up sc 0 (((0 : Nat) : Int)))) rfl (by decide) q2009 rfl rfl rfl dX4_holes_13 rfl (fun H locs hM_3 hS => ?_)
    refine lv_aload_n hx hb dX4_holes_16 rfl (lv_at hl 0 rfl) ?_
    refine r_get X hM_3.1 rfl in_X4 0 (by decide) q2009 (Or.inl rfl) (v := .int (iI ((0 : Nat) : Int))) rfl dX4_holes_17 ?_
    refine r_if_eq (tgt := 25) hx hb (by decide) dX4_holes_20 (by decide) (fun c20 => ?_) (fun c20 => ?_)
    · skip
      refine lv_aload_n hx hb dX4_holes_25 rfl (lv_at hl 0 rfl) ?_
      refine lv_iload_n hx hb dX4_holes_26 rfl (lv_at hl 1 rfl) ?_
      refine r_callV (cells1 := 0) (slots1 := 0) X hR (c_X4_high G ad (va_up sc 0 (((0 : Nat) : Int))) ar S hA0 hV c (by omega)) q2115 q2117 qs49 q100 q2118 ⟨rfl, pd_X4_high⟩ (by decide) rfl rfl (by decide) (by decide) hM_3.1 rfl rfl (Nat.le_of_ble_eq_true rfl) hl.1 dX4_holes_27 (hB.of hS (fp_ma.base hA0)) hM_3 hS (fun _ h => h.elim) (fun v H1 locs hp_4 hzC hkC hS => ?_)
      obtain ⟨rfl, rfl⟩ := hp_4
      refine r_stk (st2 := [.int (iI ((fp_hi S c : Nat) : Int))]) rfl ?_
      have hh30 := fp_hi_le hV.1 c
      refine lv_istore_n (lv' := [(2, .int (iI ((fp_hi S c : Nat) : Int))), (0, .ref (ad 0)), (1, .int (iI ((c : Nat) : Int)))]) hx hb dX4_holes_30 rfl hl (by decide) rfl (fun ls hl => ?_)
      refine lv_iconst (v := (iI ((0 : Nat) : Int))) hx hb dX4_holes_31 rfl ?_
      refine lv_istore_n (lv' := [(3, .int (iI ((0 : Nat) : Int))), (2, .int (iI ((fp_hi S c : Nat) : Int))), (0, .ref (ad 0)), (1, .int (iI ((c : Nat) : Int)))]) hx hb dX4_holes_32 rfl hl (by decide) rfl (fun ls hl => ?_)
      have L33 : ∀ (k : Nat), k ≤ sN S → ∀ (locs : List Loc) (ls : Array Slot), lv_has ls 4 [(0, .ref (ad 0)), (1, .int (iI ((c : Nat) : Int))), (2, .int (iI ((fp_hi S c : Int) - (fp_sm (fp_thf S c) k : Int)))), (3, .int (iI ((k : Nat) : Int)))] → va_S (fA (fp_ma ad) s.heap.size) s.heap H locs → W pg (g_l G) en rR s mi ag bl mt cd H locs 0 0 qQ (F0 mi 33 ls []) := by
        refine lp_up (sN S) ?_
        intro k hk33 ih33 locs ls hl hS
        refine lv_iload_n hx hb dX4_holes_33 rfl (lv_at hl 3 rfl) ?_
        refine lv_aload_n hx hb dX4_holes_34 rfl (lv_at hl 0 rfl) ?_
        refine r_get X hM_3.1 rfl in_X4 5 (by decide) q2014 (Or.inl rfl) (v := .ref (ad 5)) rfl dX4_holes_35 ?_
        refine lv_iconst (v := (iI ((0 : Nat) : Int))) hx hb dX4_holes_38 rfl ?_
        refine r_ialdI X (hM_3.2 5 (by decide) (by decide)) (j := 0) (n := 170) rfl (by decide) (by decide) dX4_holes_39 ?_
        refine r_set (y := .int (iI ((sN S : Nat) : Int))) (congrArg (fun q : Int => Value.int (iI q)) (hV.2.1)) ?_
        refine r_icmp_ge (tgt := 77) hx hb ⟨by omega, by omega⟩ ⟨by omega, by omega⟩ dX4_holes_40 (by decide) (fun c40 => ?_) (fun c40 => ?_)
        · skip
          refine lv_iload_n hx hb dX4_holes_77 rfl (lv_at hl 2 rfl) ?_
          refine r_iret hx hb hr hlk hQ hS (Nat.le_of_ble_eq_true rfl) (Nat.le_of_ble_eq_true rfl) dX4_holes_78 ?_
          exact ⟨((fp_hi S c : Int) - (fp_sm (fp_thf S c) k : Int)), ar, rfl, (by rw [show fp_cc ((c : Nat) : Int) = 0 from fp_cc_0 (by omega)]; exact hM_3.nrm rfl), (fun _ => (by rw [show k = sN S by omega]; rfl)), (fun k hk => by simp [fp_scr] at hk; by_cases e5 : k = 5 <;> simp_all [va_up])⟩
        · skip
          refine lv_iload_n hx hb dX4_holes_43 rfl (lv_at hl 2 rfl) ?_
          refine lv_aload_n hx hb dX4_holes_44 rfl (lv_at hl 0 rfl) ?_
          refine lv_iload_n hx hb dX4_holes_45 rfl (lv_at hl 3 rfl) ?_
          refine lv_iload_n hx hb dX4_holes_46 rfl (lv_at hl 1 rfl) ?_
          refine r_callV (cells1 := 0) (slots1 := 0) X hR (c_X4_covers G ad (va_up sc 0 (((0 : Nat) : Int))) ar S hA0 hV k c (by omega) (by omega)) q2119 q2121 qs50 q100 q2122 ⟨rfl, pd_X4_covers⟩ (by decide) rfl rfl (by decide) (by decide) hM_3.1 rfl rfl (Nat.le_of_ble_eq_true rfl) hl.1 dX4_holes_47 (hB.of hS (fp_ma.base hA0)) hM_3 hS (fun _ h => h.elim) (fun v H1 locs hp_5 hzC hkC hS => ?_)
          obtain ⟨rfl, rfl⟩ := hp_5
          refine r_stk (st2 := [.int (iI (bI (fp_cov (sB S k) c))), .int (iI ((fp_hi S c : Int) - (fp_sm (fp_thf S c) k : Int)))]) rfl ?_
          refine r_ifeqB (tgt := 68) hx hb dX4_holes_50 (by decide) (fun c50 => ?_) (fun c50 => ?_)
          · skip
            refine lv_iconst (v := (iI ((0 : Nat) : Int))) hx hb dX4_holes_68 rfl ?_
            refine r_isub hx hb dX4_holes_69 ?_
            refine lv_istore_n (lv' := [(2, .int (iI (((fp_hi S c : Int) - (fp_sm (fp_thf S c) k : Int)) - ((0 : Nat) : Int)))), (0, .ref (ad 0)), (1, .int (iI ((c : Nat) : Int))), (3, .int (iI ((k : Nat) : Int)))]) hx hb dX4_holes_70 rfl hl (by decide) rfl (fun ls hl => ?_)
            refine lv_iinc (v := (iI ((k + 1 : Nat) : Int))) (lv' := [(3, .int (iI ((k + 1 : Nat) : Int))), (2, .int (iI (((fp_hi S c : Int) - (fp_sm (fp_thf S c) k : Int)) - ((0 : Nat) : Int)))), (0, .ref (ad 0)), (1, .int (iI ((c : Nat) : Int)))]) hx hb dX4_holes_71 hl (k := 3) rfl (iI_incN _ _) (by decide) rfl (fun ls hl => ?_)
            refine lv_goto (tgt := 33) hx hb dX4_holes_74 (by decide) ?_
            exact ih33 (by omega) locs ls (by rw [show Value.int (iI ((fp_hi S c : Int) - (fp_sm (fp_thf S c) (k + 1) : Int))) = Value.int (iI (((fp_hi S c : Int) - (fp_sm (fp_thf S c) k : Int)) - ((0 : Nat) : Int))) from congrArg (fun q : Int => Value.int (iI q)) (by show _ - (((fp_sm (fp_thf S c) k + fp_thf S c k : Nat)) : Int) = _; unfold fp_thf; rw [c50]; simp <;> omega)]; exact lv_sub hl [2, 3, 1, 0] rfl) hS
          · skip
            refine lv_aload_n hx hb dX4_holes_53 rfl (lv_at hl 0 rfl) ?_
            refine lv_iload_n hx hb dX4_holes_54 rfl (lv_at hl 3 rfl) ?_
            refine r_callV (cells1 := 0) (slots1 := 0) X hR (c_X4_topOf G ad (va_up sc 0 (((0 : Nat) : Int))) ar S hA0 hV k (by omega)) q2127 q2129 qs52 q100 q2130 ⟨rfl, pd_X4_topOf⟩ (by decide) rfl rfl (by decide) (by decide) hM_3.1 rfl rfl (Nat.le_of_ble_eq_true rfl) hl.1 dX4_holes_55 (hB.of hS (fp_ma.base hA0)) hM_3 hS (fun _ h => h.elim) (fun v H1 locs hp_6 hzC hkC hS => ?_)
            obtain ⟨rfl, rfl⟩ := hp_6
            refine r_stk (st2 := [.int (iI ((fp_top (sB S k) : Nat) : Int)), .int (iI ((fp_hi S c : Int) - (fp_sm (fp_thf S c) k : Int)))]) rfl ?_
            refine lv_aload_n hx hb dX4_holes_58 rfl (lv_at hl 0 rfl) ?_
            refine lv_iload_n hx hb dX4_holes_59 rfl (lv_at hl 3 rfl) ?_
            refine lv_iconst (v := (iI ((5 : Nat) : Int))) hx hb dX4_holes_60 rfl ?_
            refine r_callV (cells1 := 0) (slots1 := 0) X hR (c_X4_of G ad (va_up sc 0 (((0 : Nat) : Int))) ar S hA0 hV k 5 (by omega) (by omega)) q2123 q2125 qs51 q100 q2126 ⟨rfl, pd_X4_of⟩ (by decide) rfl rfl (by decide) (by decide) hM_3.1 rfl rfl (Nat.le_of_ble_eq_true rfl) hl.1 dX4_holes_61 (hB.of hS (fp_ma.base hA0)) hM_3 hS (fun _ h => h.elim) (fun v H1 locs hp_7 hzC hkC hS => ?_)
            obtain ⟨rfl, rfl⟩ := hp_7
            refine r_stk (st2 := [.int (iI ((sB S k 5 : Nat) : Int)), .int (iI ((fp_top (sB S k) : Nat) : Int)), .int (iI ((fp_hi S c : Int) - (fp_sm (fp_thf S c) k : Int)))]) rfl ?_
            have htp := fp_top_b (sB S k)
            refine r_isub hx hb dX4_holes_64 ?_
            refine lv_goto (tgt := 69) hx hb dX4_holes_65 (by decide) ?_
            refine r_isub hx hb dX4_holes_69 ?_
            refine lv_istore_n (lv' := [(2, .int (iI (((fp_hi S c : Int) - (fp_sm (fp_thf S c) k : Int)) - (((fp_top (sB S k) : Nat) : Int) - ((sB S k 5 : Nat) : Int))))), (0, .ref (ad 0)), (1, .int (iI ((c : Nat) : Int))), (3, .int (iI ((k : Nat) : Int)))]) hx hb dX4_holes_70 rfl hl (by decide) rfl (fun ls hl => ?_)
            refine lv_iinc (v := (iI ((k + 1 : Nat) : Int))) (lv' := [(3, .int (iI ((k + 1 : Nat) : Int))), (2, .int (iI (((fp_hi S c : Int) - (fp_sm (fp_thf S c) k : Int)) - (((fp_top (sB S k) : Nat) : Int) - ((sB S k 5 : Nat) : Int))))), (0, .ref (ad 0)), (1, .int (iI ((c : Nat) : Int)))]) hx hb dX4_holes_71 hl (k := 3) rfl (iI_incN _ _) (by decide) rfl (fun ls hl => ?_)
            refine lv_goto (tgt := 33) hx hb dX4_holes_74 (by decide) ?_
            exact ih33 (by omega) locs ls (by rw [show Value.int (iI ((fp_hi S c : Int) - (fp_sm (fp_thf S c) (k + 1) : Int))) = Value.int (iI (((fp_hi S c : Int) - (fp_sm (fp_thf S c) k : Int)) - (((fp_top (sB S k) : Nat) : Int) - ((sB S k 5 : Nat) : Int)))) from congrArg (fun q : Int => Value.int (iI q)) (by show _ - (((fp_sm (fp_thf S c) k + fp_thf S c k : Nat)) : Int) = _; unfold fp_thf; rw [c50]; simp <;> omega)]; exact lv_sub hl [2, 3, 1, 0] rfl) hS
      exact L33 0 (by omega) locs ls (by rw [show Value.int (iI ((fp_hi S c : Int) - (fp_sm (fp_thf S c) 0 : Int))) = Value.int (iI ((fp_hi S c : Nat) : Int)) from congrArg (fun q : Int => Value.int (iI q)) (by show _ - ((0 : Nat) : Int) = _; omega)]; exact lv_sub hl [2, 3, 1, 0] rfl) hS
    · exact absurd c20 (by omega)
set_option maxHeartbeats 4000000 in
theorem c_X4_holesByHeights (G : fp_G) (ad : Nat → Nat) (sc : Nat → Int) (ar : Nat → Nat → Int) (S : PS) (hA0 : fp_MA G ad) (hV : fp_VR S (ar 5)) (col : Int) (hcol : rg col) : fp_M G yX4_holesByHeights cX4_holesByHeights 2 (some .int) 5 102 0 0 [.ref (ad 0), .int (iI (col))] (fp_ME G ad sc ar) (fp_ma ad) (fun _ v H => ∃ (r : Int), ∃ (ar2 : Nat → Nat → Int), v = some (.int (iI (r))) ∧ fp_ME G ad (va_up sc 0 (((fp_cc col : Nat) : Int))) ar2 H ∧ (fp_cc col = 0 → r = fp_hol S col.toNat) ∧ (fp_sm0 ar ar2)) := by
  refine fp_M.intro (by decide) (Nat.le_of_ble_eq_true rfl) ?_
  intro pg en s mi ag bl mt cd rR qQ ls X hx hb hr hlk hnm hR hQ hB hM hl
  have hS : va_S (fA (fp_ma ad) s.heap.size) s.heap s.heap [] := va_S.rf
  generalize ([] : List Loc) = locs at hS ⊢
  have hN24 := hV.1.1
  refine lv_aload_n hx hb dX4_holesByHeights_0 rfl (lv_at hl 0 rfl) ?_
  refine lv_iload_n hx hb dX4_holesByHeights_1 rfl (lv_at hl 1 rfl) ?_
  refine r_callV (cells1 := 0) (slots1 := 0) X hR (c_X4_holes G ad sc ar S hA0 hV (col) (by omega)) q2362 q2355 q2356 q100 q2357 ⟨rfl, pd_X4_holes⟩ (by decide) rfl rfl (by decide) (by decide) hM.1 rfl rfl (Nat.le_of_ble_eq_true rfl) hl.1 dX4_holesByHeights_2 (hB.of hS (fp_ma.base hA0)) hM hS (fun _ h => Or.inl h) (fun v H locs hp_1 hzC hkC hS => ?_)
  obtain ⟨r_2, ar2_3, rfl, hM_6, hr_4, hsm_5⟩ := hp_1
  have hM_7 := fp_ME.nrm (sc2 := (va_up sc 0 (((fp_cc (col) : Nat) : Int)))) hM_6 rfl
  refine r_stk (st2 := [.int (iI (r_2))]) rfl ?_
  refine r_iret hx hb hr hlk hQ hS (Nat.le_of_ble_eq_true rfl) (Nat.le_of_ble_eq_true rfl) dX4_holesByHeights_5 ?_
  exact ⟨r_2, ar2_3, rfl, (hM_7.nrm rfl), hr_4, hsm_5⟩
set_option maxHeartbeats 4000000 in
theorem c_X4_zone (G : fp_G) (ad : Nat → Nat) (sc : Nat → Int) (ar : Nat → Nat → Int) (S : PS) (hA0 : fp_MA G ad) (hV : fp_VR S (ar 5)) (col : Int) (hcol : rg col) : fp_M G yX4_zone cX4_zone 2 (some .char) 3 54 0 0 [.ref (ad 0), .int (iI (col))] (fp_ME G ad sc ar) (fp_ma ad) (fun _ v H => ∃ (r : Int), ∃ (ar2 : Nat → Nat → Int), v = some (.int (iI (r))) ∧ fp_ME G ad (va_up sc 0 (((fp_cc col : Nat) : Int))) ar2 H ∧ (fp_cc col = 0 → r = (fp_zlet (sZ S col.toNat) : Int)) ∧ (fp_sm0 ar ar2)) := by
  refine fp_M.intro (by decide) (Nat.le_of_ble_eq_true rfl) ?_
  intro pg en s mi ag bl mt cd rR qQ ls X hx hb hr hlk hnm hR hQ hB hM hl
  have hS : va_S (fA (fp_ma ad) s.heap.size) s.heap s.heap [] := va_S.rf
  generalize ([] : List Loc) = locs at hS ⊢
  have hN24 := hV.1.1
  refine lv_aload_n hx hb dX4_zone_0 rfl (lv_at hl 0 rfl) ?_
  refine lv_iload_n hx hb dX4_zone_1 rfl (lv_at hl 1 rfl) ?_
  refine r_callS (cells1 := 0) (slots1 := 0) X hR (c_X4_isColumn G (col) (by omega)) q2101 q2102 q100 q2103 pd_X4_isColumn (by decide) rfl rfl (by decide) (by decide) rfl (Nat.le_of_ble_eq_true rfl) hl.1 dX4_zone_2 (hB.of hS (fp_ma.base hA0)) trivial hS (fun _ h => h.elim) (fun v H1 locs hp_1 hzC hkC hS => ?_)
  obtain ⟨rfl, rfl⟩ := hp_1
  refine r_stk (st2 := [.int (iI (bI (decide (0 ≤ (col) ∧ (col) ≤ 11)))), .ref (ad 0)]) rfl ?_
  refine r_ifeqB (tgt := 12) hx hb dX4_zone_5 (by decide) (fun c5 => ?_) (fun c5 => ?_)
  · skip
    have c5 := of_decide_eq_false c5
    refine lv_iconst (v := (iI ((1 : Nat) : Int))) hx hb dX4_zone_12 rfl ?_
    refine m_put X hM hS hA0 (k := 0) (sc2 := (va_up sc 0 (((1 : Nat) : Int)))) rfl (by decide) q2009 rfl rfl rfl dX4_zone_13 rfl (fun H locs hM_2 hS => ?_)
    refine lv_aload_n hx hb dX4_zone_16 rfl (lv_at hl 0 rfl) ?_
    refine r_get X hM_2.1 rfl in_X4 0 (by decide) q2009 (Or.inl rfl) (v := .int (iI ((1 : Nat) : Int))) rfl dX4_zone_17 ?_
    refine r_if_ne (tgt := 38) hx hb (by decide) dX4_zone_20 (by decide) (fun c20 => ?_) (fun c20 => ?_)
    · skip
      refine lv_bipush (v := (iI ((97 : Nat) : Int))) hx hb dX4_zone_38 rfl ?_
      refine r_zret hx hb hr hlk hQ hS (Nat.le_of_ble_eq_true rfl) (Nat.le_of_ble_eq_true rfl) dX4_zone_40 (iI_char ⟨by omega, by omega⟩) ?_
      exact ⟨((97 : Nat) : Int), ar, rfl, (by rw [show fp_cc col = 1 from fp_cc_1 (by omega)]; exact hM_2.nrm rfl), (fun z0 => absurd ((show fp_cc col = 1 from fp_cc_1 (by omega)).symm.trans z0) (by decide)), (fun k hk => by simp [fp_scr] at hk; by_cases e5 : k = 5 <;> simp_all [va_up])⟩
    · exact absurd c20 (by omega)
  · skip
    have c5 := of_decide_eq_true c5
    obtain ⟨c, rfl⟩ : ∃ c : Nat, col = ((c : Nat) : Int) := ⟨col.toNat, by omega⟩
    refine lv_iconst (v := (iI ((0 : Nat) : Int))) hx hb dX4_zone_8 rfl ?_
    refine lv_goto (tgt := 13) hx hb dX4_zone_9 (by decide) ?_
    refine m_put X hM hS hA0 (k := 0) (sc2 := (va_up sc 0 (((0 : Nat) : Int)))) rfl (by decide) q2009 rfl rfl rfl dX4_zone_13 rfl (fun H locs hM_3 hS => ?_)
    refine lv_aload_n hx hb dX4_zone_16 rfl (lv_at hl 0 rfl) ?_
    refine r_get X hM_3.1 rfl in_X4 0 (by decide) q2009 (Or.inl rfl) (v := .int (iI ((0 : Nat) : Int))) rfl dX4_zone_17 ?_
    refine r_if_ne (tgt := 38) hx hb (by decide) dX4_zone_20 (by decide) (fun c20 => ?_) (fun c20 => ?_)
    · exact absurd c20 (by omega)
    · skip
      refine lv_aload_n hx hb dX4_zone_23 rfl (lv_at hl 0 rfl) ?_
      refine r_get X hM_3.1 rfl in_X4 5 (by decide) q2014 (Or.inl rfl) (v := .ref (ad 5)) rfl dX4_zone_24 ?_
      refine lv_iconst (v := (iI ((2 : Nat) : Int))) hx hb dX4_zone_27 rfl ?_
      refine lv_iload_n hx hb dX4_zone_28 rfl (lv_at hl 1 rfl) ?_
      refine r_iaddN hx hb dX4_zone_29 ?_
      refine r_ialdI X (hM_3.2 5 (by decide) (by decide)) (j := 2 + c) (n := 170) rfl (by omega) (by decide) dX4_zone_30 ?_
      refine r_set (y := .int (iI ((sZ S c : Nat) : Int))) (congrArg (fun q : Int => Value.int (iI q)) (hV.2.2.2.1 c (by omega))) ?_
      have hzc := hV.1.2.2.2.1 c (by omega)
      have hzl := fp_zlet_b (sZ S c)
      refine r_callS (cells1 := 0) (slots1 := 0) X hR (c_X4_letterOf G (sZ S c) (by omega)) q2198 q2199 q100 q2200 pd_X4_letterOf (by decide) rfl rfl (by decide) (by decide) rfl (Nat.le_of_ble_eq_true rfl) hl.1 dX4_zone_31 (hB.of hS (fp_ma.base hA0)) trivial hS (fun _ h => h.elim) (fun v H1 locs hp_4 hzC hkC hS => ?_)
      obtain ⟨rfl, rfl⟩ := hp_4
      refine r_stk (st2 := [.int (iI ((fp_zlet (sZ S c) : Nat) : Int))]) rfl ?_
      refine lv_i2c (v := (iI ((fp_zlet (sZ S c) : Nat) : Int))) hx hb dX4_zone_34 (iI_i2c ⟨by omega, by omega⟩) ?_
      refine lv_goto (tgt := 40) hx hb dX4_zone_35 (by decide) ?_
      refine r_zret hx hb hr hlk hQ hS (Nat.le_of_ble_eq_true rfl) (Nat.le_of_ble_eq_true rfl) dX4_zone_40 (iI_char ⟨by omega, by omega⟩) ?_
      exact ⟨((fp_zlet (sZ S c) : Nat) : Int), ar, rfl, (by rw [show fp_cc ((c : Nat) : Int) = 0 from fp_cc_0 (by omega)]; exact hM_3.nrm rfl), (fun _ => rfl), (fun k hk => by simp [fp_scr] at hk; by_cases e5 : k = 5 <;> simp_all [va_up])⟩
set_option maxHeartbeats 4000000 in
theorem c_X4_hasTorch (G : fp_G) (ad : Nat → Nat) (sc : Nat → Int) (ar : Nat → Nat → Int) (S : PS) (hA0 : fp_MA G ad) (hV : fp_VR S (ar 5)) (col : Int) (hcol : rg col) : fp_M G yX4_hasTorch cX4_hasTorch 2 (some .boolean) 3 54 0 0 [.ref (ad 0), .int (iI (col))] (fp_ME G ad sc ar) (fp_ma ad) (fun _ v H => ∃ (r : Bool), ∃ (ar2 : Nat → Nat → Int), v = some (.int (iI (bI (r)))) ∧ fp_ME G ad (va_up sc 0 (((fp_cc col : Nat) : Int))) ar2 H ∧ (fp_cc col = 0 → r = decide (sT S col.toNat = 1)) ∧ (fp_sm0 ar ar2)) := by
  refine fp_M.intro (by decide) (Nat.le_of_ble_eq_true rfl) ?_
  intro pg en s mi ag bl mt cd rR qQ ls X hx hb hr hlk hnm hR hQ hB hM hl
  have hS : va_S (fA (fp_ma ad) s.heap.size) s.heap s.heap [] := va_S.rf
  generalize ([] : List Loc) = locs at hS ⊢
  have hN24 := hV.1.1
  refine lv_aload_n hx hb dX4_hasTorch_0 rfl (lv_at hl 0 rfl) ?_
  refine lv_iload_n hx hb dX4_hasTorch_1 rfl (lv_at hl 1 rfl) ?_
  refine r_callS (cells1 := 0) (slots1 := 0) X hR (c_X4_isColumn G (col) (by omega)) q2101 q2102 q100 q2103 pd_X4_isColumn (by decide) rfl rfl (by decide) (by decide) rfl (Nat.le_of_ble_eq_true rfl) hl.1 dX4_hasTorch_2 (hB.of hS (fp_ma.base hA0)) trivial hS (fun _ h => h.elim) (fun v H1 locs hp_1 hzC hkC hS => ?_)
  obtain ⟨rfl, rfl⟩ := hp_1
  refine r_stk (st2 := [.int (iI (bI (decide (0 ≤ (col) ∧ (col) ≤ 11)))), .ref (ad 0)]) rfl ?_
  refine r_ifeqB (tgt := 12) hx hb dX4_hasTorch_5 (by decide) (fun c5 => ?_) (fun c5 => ?_)
  · skip
    have c5 := of_decide_eq_false c5
    refine lv_iconst (v := (iI ((1 : Nat) : Int))) hx hb dX4_hasTorch_12 rfl ?_
    refine m_put X hM hS hA0 (k := 0) (sc2 := (va_up sc 0 (((1 : Nat) : Int)))) rfl (by decide) q2009 rfl rfl rfl dX4_hasTorch_13 rfl (fun H locs hM_2 hS => ?_)
    refine lv_aload_n hx hb dX4_hasTorch_16 rfl (lv_at hl 0 rfl) ?_
    refine r_get X hM_2.1 rfl in_X4 0 (by decide) q2009 (Or.inl rfl) (v := .int (iI ((1 : Nat) : Int))) rfl dX4_hasTorch_17 ?_
    refine r_if_ne (tgt := 40) hx hb (by decide) dX4_hasTorch_20 (by decide) (fun c20 => ?_) (fun c20 => ?_)
    · skip
      refine lv_iconst (v := (iI ((0 : Nat) : Int))) hx hb dX4_hasTorch_40 rfl ?_
      refine r_zret hx hb hr hlk hQ hS (Nat.le_of_ble_eq_true rfl) (Nat.le_of_ble_eq_true rfl) dX4_hasTorch_41 rfl ?_
      exact ⟨false, ar, rfl, (by rw [show fp_cc col = 1 from fp_cc_1 (by omega)]; exact hM_2.nrm rfl), (fun z0 => absurd ((show fp_cc col = 1 from fp_cc_1 (by omega)).symm.trans z0) (by decide)), (fun k hk => by simp [fp_scr] at hk; by_cases e5 : k = 5 <;> simp_all [va_up])⟩
    · exact absurd c20 (by omega)
  · skip
    have c5 := of_decide_eq_true c5
    obtain ⟨c, rfl⟩ : ∃ c : Nat, col = ((c : Nat) : Int) := ⟨col.toNat, by omega⟩
    refine lv_iconst (v := (iI ((0 : Nat) : Int))) hx hb dX4_hasTorch_8 rfl ?_
    refine lv_goto (tgt := 13) hx hb dX4_hasTorch_9 (by decide) ?_
    refine m_put X hM hS hA0 (k := 0) (sc2 := (va_up sc 0 (((0 : Nat) : Int)))) rfl (by decide) q2009 rfl rfl rfl dX4_hasTorch_13 rfl (fun H locs hM_3 hS => ?_)
    refine lv_aload_n hx hb dX4_hasTorch_16 rfl (lv_at hl 0 rfl) ?_
    refine r_get X hM_3.1 rfl in_X4 0 (by decide) q2009 (Or.inl rfl) (v := .int (iI ((0 : Nat) : Int))) rfl dX4_hasTorch_17 ?_
    refine r_if_ne (tgt := 40) hx hb (by decide) dX4_hasTorch_20 (by decide) (fun c20 => ?_) (fun c20 => ?_)
    · exact absurd c20 (by omega)
    · skip
      refine lv_aload_n hx hb dX4_hasTorch_23 rfl (lv_at hl 0 rfl) ?_
      refine r_get X hM_3.1 rfl in_X4 5 (by decide) q2014 (Or.inl rfl) (v := .ref (ad 5)) rfl dX4_hasTorch_24 ?_
      refine lv_bipush (v := (iI ((14 : Nat) : Int))) hx hb dX4_hasTorch_27 rfl ?_
      refine lv_iload_n hx hb dX4_hasTorch_29 rfl (lv_at hl 1 rfl) ?_
      refine r_iaddN hx hb dX4_hasTorch_30 ?_
      refine r_ialdI X (hM_3.2 5 (by decide) (by decide)) (j := 14 + c) (n := 170) rfl (by omega) (by decide) dX4_hasTorch_31 ?_
      refine r_set (y := .int (iI ((sT S c : Nat) : Int))) (congrArg (fun q : Int => Value.int (iI q)) (hV.2.2.2.2.1 c (by omega))) ?_
      have htc := hV.1.2.2.2.2 c (by omega)
      refine lv_iconst (v := (iI ((1 : Nat) : Int))) hx hb dX4_hasTorch_32 rfl ?_
      refine r_icmp_ne (tgt := 40) hx hb ⟨by omega, by omega⟩ (by decide) dX4_hasTorch_33 (by decide) (fun c33 => ?_) (fun c33 => ?_)
      · skip
        refine lv_iconst (v := (iI ((0 : Nat) : Int))) hx hb dX4_hasTorch_40 rfl ?_
        refine r_zret hx hb hr hlk hQ hS (Nat.le_of_ble_eq_true rfl) (Nat.le_of_ble_eq_true rfl) dX4_hasTorch_41 rfl ?_
        exact ⟨false, ar, rfl, (by rw [show fp_cc ((c : Nat) : Int) = 0 from fp_cc_0 (by omega)]; exact hM_3.nrm rfl), (fun _ => ((decide_eq_false (by show ¬ sT S c = 1; omega)).symm)), (fun k hk => by simp [fp_scr] at hk; by_cases e5 : k = 5 <;> simp_all [va_up])⟩
      · skip
        refine lv_iconst (v := (iI ((1 : Nat) : Int))) hx hb dX4_hasTorch_36 rfl ?_
        refine lv_goto (tgt := 41) hx hb dX4_hasTorch_37 (by decide) ?_
        refine r_zret hx hb hr hlk hQ hS (Nat.le_of_ble_eq_true rfl) (Nat.le_of_ble_eq_true rfl) dX4_hasTorch_41 rfl ?_
        exact ⟨true, ar, rfl, (by rw [show fp_cc ((c : Nat) : Int) = 0 from fp_cc_0 (by omega)]; exact hM_3.nrm rfl), (fun _ => ((decide_eq_true (by show sT S c = 1; omega)).symm)), (fun k hk => by simp [fp_scr] at hk; by_cases e5 : k = 5 <;> simp_all [va_up])⟩
set_option maxHeartbeats 4000000 in
theorem c_X4_isLit (G : fp_G) (ad : Nat → Nat) (sc : Nat → Int) (ar : Nat → Nat → Int) (S : PS) (hA0 : fp_MA G ad) (hV : fp_VR S (ar 5)) (col : Int) (hcol : rg col) : fp_M G yX4_isLit cX4_isLit 2 (some .boolean) 6 127 0 0 [.ref (ad 0), .int (iI (col))] (fp_ME G ad sc ar) (fp_ma ad) (fun _ v H => ∃ (r : Bool), ∃ (ar2 : Nat → Nat → Int), v = some (.int (iI (bI (r)))) ∧ fp_ME G ad (va_up sc 0 (((fp_cc col : Nat) : Int))) ar2 H ∧ (fp_cc col = 0 → r = fp_lit S col.toNat) ∧ (fp_sm0 ar ar2)) := by
  refine fp_M.intro (by decide) (Nat.le_of_ble_eq_true rfl) ?_
  intro pg en s mi ag bl mt cd rR qQ ls X hx hb hr hlk hnm hR hQ hB hM hl
  have hS : va_S (fA (fp_ma ad) s.heap.size) s.heap s.heap [] := va_S.rf
  generalize ([] : List Loc) = locs at hS ⊢
  have hN24 := hV.1.1
  refine lv_aload_n hx hb dX4_isLit_0 rfl (lv_at hl 0 rfl) ?_
  refine lv_iload_n hx hb dX4_isLit_1 rfl (lv_at hl 1 rfl) ?_
  refine r_callS (cells1 := 0) (slots1 := 0) X hR (c_X4_isColumn G (col) (by omega)) q2101 q2102 q100 q2103 pd_X4_isColumn (by decide) rfl rfl (by decide) (by decide) rfl (Nat.le_of_ble_eq_true rfl) hl.1 dX4_isLit_2 (hB.of hS (fp_ma.base hA0)) trivial hS (fun _ h => h.elim) (fun v H1 locs hp_1 hzC hkC hS => ?_)
  obtain ⟨rfl, rfl⟩ := hp_1
  refine r_stk (st2 := [.int (iI (bI (decide (0 ≤ (col) ∧ (col) ≤ 11)))), .ref (ad 0)]) rfl ?_
  refine r_ifeqB (tgt := 12) hx hb dX4_isLit_5 (by decide) (fun c5 => ?_) (fun c5 => ?_)
  · skip
    have c5 := of_decide_eq_false c5
    refine lv_iconst (v := (iI ((1 : Nat) : Int))) hx hb dX4_isLit_12 rfl ?_
    refine m_put X hM hS hA0 (k := 0) (sc2 := (va_up sc 0 (((1 : Nat) : Int)))) rfl (by decide) q2009 rfl rfl rfl dX4_isLit_13 rfl (fun H locs hM_2 hS => ?_)
    refine lv_aload_n hx hb dX4_isLit_16 rfl (lv_at hl 0 rfl) ?_
    refine r_get X hM_2.1 rfl in_X4 0 (by decide) q2009 (Or.inl rfl) (v := .int (iI ((1 : Nat) : Int))) rfl dX4_isLit_17 ?_
    refine r_if_ne (tgt := 35) hx hb (by decide) dX4_isLit_20 (by decide) (fun c20 => ?_) (fun c20 => ?_)
    · skip
      refine lv_iconst (v := (iI ((0 : Nat) : Int))) hx hb dX4_isLit_35 rfl ?_
      refine r_zret hx hb hr hlk hQ hS (Nat.le_of_ble_eq_true rfl) (Nat.le_of_ble_eq_true rfl) dX4_isLit_36 rfl ?_
      exact ⟨false, ar, rfl, (by rw [show fp_cc col = 1 from fp_cc_1 (by omega)]; exact hM_2.nrm rfl), (fun z0 => absurd ((show fp_cc col = 1 from fp_cc_1 (by omega)).symm.trans z0) (by decide)), (fun k hk => by simp [fp_scr] at hk; by_cases e5 : k = 5 <;> simp_all [va_up])⟩
    · exact absurd c20 (by omega)
  · skip
    have c5 := of_decide_eq_true c5
    obtain ⟨c, rfl⟩ : ∃ c : Nat, col = ((c : Nat) : Int) := ⟨col.toNat, by omega⟩
    refine lv_iconst (v := (iI ((0 : Nat) : Int))) hx hb dX4_isLit_8 rfl ?_
    refine lv_goto (tgt := 13) hx hb dX4_isLit_9 (by decide) ?_
    refine m_put X hM hS hA0 (k := 0) (sc2 := (va_up sc 0 (((0 : Nat) : Int)))) rfl (by decide) q2009 rfl rfl rfl dX4_isLit_13 rfl (fun H locs hM_3 hS => ?_)
    refine lv_aload_n hx hb dX4_isLit_16 rfl (lv_at hl 0 rfl) ?_
    refine r_get X hM_3.1 rfl in_X4 0 (by decide) q2009 (Or.inl rfl) (v := .int (iI ((0 : Nat) : Int))) rfl dX4_isLit_17 ?_
    refine r_if_ne (tgt := 35) hx hb (by decide) dX4_isLit_20 (by decide) (fun c20 => ?_) (fun c20 => ?_)
    · exact absurd c20 (by omega)
    · skip
      refine lv_aload_n hx hb dX4_isLit_23 rfl (lv_at hl 0 rfl) ?_
      refine lv_iload_n hx hb dX4_isLit_24 rfl (lv_at hl 1 rfl) ?_
      refine r_callV (cells1 := 0) (slots1 := 0) X hR (c_X4_lit G ad (va_up sc 0 (((0 : Nat) : Int))) ar S hA0 hV c (by omega)) q2383 q2385 qs72 q100 q2386 ⟨rfl, pd_X4_lit⟩ (by decide) rfl rfl (by decide) (by decide) hM_3.1 rfl rfl (Nat.le_of_ble_eq_true rfl) hl.1 dX4_isLit_25 (hB.of hS (fp_ma.base hA0)) hM_3 hS (fun _ h => h.elim) (fun v H1 locs hp_4 hzC hkC hS => ?_)
      obtain ⟨rfl, rfl⟩ := hp_4
      refine r_stk (st2 := [.int (iI (bI (fp_lit S c)))]) rfl ?_
      refine r_ifeqB (tgt := 35) hx hb dX4_isLit_28 (by decide) (fun c28 => ?_) (fun c28 => ?_)
      · skip
        refine lv_iconst (v := (iI ((0 : Nat) : Int))) hx hb dX4_isLit_35 rfl ?_
        refine r_zret hx hb hr hlk hQ hS (Nat.le_of_ble_eq_true rfl) (Nat.le_of_ble_eq_true rfl) dX4_isLit_36 rfl ?_
        exact ⟨false, ar, rfl, (by rw [show fp_cc ((c : Nat) : Int) = 0 from fp_cc_0 (by omega)]; exact hM_3.nrm rfl), (fun _ => (c28.symm)), (fun k hk => by simp [fp_scr] at hk; by_cases e5 : k = 5 <;> simp_all [va_up])⟩
      · skip
        refine lv_iconst (v := (iI ((1 : Nat) : Int))) hx hb dX4_isLit_31 rfl ?_
        refine lv_goto (tgt := 36) hx hb dX4_isLit_32 (by decide) ?_
        refine r_zret hx hb hr hlk hQ hS (Nat.le_of_ble_eq_true rfl) (Nat.le_of_ble_eq_true rfl) dX4_isLit_36 rfl ?_
        exact ⟨true, ar, rfl, (by rw [show fp_cc ((c : Nat) : Int) = 0 from fp_cc_0 (by omega)]; exact hM_3.nrm rfl), (fun _ => (c28.symm)), (fun k hk => by simp [fp_scr] at hk; by_cases e5 : k = 5 <;> simp_all [va_up])⟩
set_option maxHeartbeats 4000000 in
theorem c_X4_isLitByMaxima (G : fp_G) (ad : Nat → Nat) (sc : Nat → Int) (ar : Nat → Nat → Int) (S : PS) (hA0 : fp_MA G ad) (hV : fp_VR S (ar 5)) (col : Int) (hcol : rg col) : fp_M G yX4_isLitByMaxima cX4_isLitByMaxima 2 (some .boolean) 7 148 0 0 [.ref (ad 0), .int (iI (col))] (fp_ME G ad sc ar) (fp_ma ad) (fun _ v H => ∃ (r : Bool), ∃ (ar2 : Nat → Nat → Int), v = some (.int (iI (bI (r)))) ∧ fp_ME G ad (va_up sc 0 (((fp_cc col : Nat) : Int))) ar2 H ∧ (fp_cc col = 0 → r = fp_lit S col.toNat) ∧ (fp_sm0 ar ar2)) := by
  refine fp_M.intro (by decide) (Nat.le_of_ble_eq_true rfl) ?_
  intro pg en s mi ag bl mt cd rR qQ ls X hx hb hr hlk hnm hR hQ hB hM hl
  have hS : va_S (fA (fp_ma ad) s.heap.size) s.heap s.heap [] := va_S.rf
  generalize ([] : List Loc) = locs at hS ⊢
  have hN24 := hV.1.1
  refine lv_aload_n hx hb dX4_isLitByMaxima_0 rfl (lv_at hl 0 rfl) ?_
  refine lv_iload_n hx hb dX4_isLitByMaxima_1 rfl (lv_at hl 1 rfl) ?_
  refine r_callV (cells1 := 0) (slots1 := 0) X hR (c_X4_isLit G ad sc ar S hA0 hV (col) (by omega)) q2395 q2380 q2381 q100 q2382 ⟨rfl, pd_X4_isLit⟩ (by decide) rfl rfl (by decide) (by decide) hM.1 rfl rfl (Nat.le_of_ble_eq_true rfl) hl.1 dX4_isLitByMaxima_2 (hB.of hS (fp_ma.base hA0)) hM hS (fun _ h => Or.inl h) (fun v H locs hp_1 hzC hkC hS => ?_)
  obtain ⟨r_2, ar2_3, rfl, hM_6, hr_4, hsm_5⟩ := hp_1
  have hM_7 := fp_ME.nrm (sc2 := (va_up sc 0 (((fp_cc (col) : Nat) : Int)))) hM_6 rfl
  refine r_stk (st2 := [.int (iI (bI (r_2)))]) rfl ?_
  refine r_zret hx hb hr hlk hQ hS (Nat.le_of_ble_eq_true rfl) (Nat.le_of_ble_eq_true rfl) dX4_isLitByMaxima_5 (bI_z _) ?_
  exact ⟨r_2, ar2_3, rfl, (hM_7.nrm rfl), hr_4, hsm_5⟩
