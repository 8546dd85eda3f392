/-! THE MODEL: levels -/
set_option maxHeartbeats 4000000 in
theorem c_X4_ranks (G : fp_G) (ad : Nat → Nat) (sc : Nat → Int) (ar : Nat → Nat → Int) (S : PS) (hA0 : fp_MA G ad) (hV : fp_VR S (ar 5)) (h30 : fp_t30 S) : fp_M G yX4_ranks cX4_ranks 4 none 4 78 0 0 [.ref (ad 0)] (fp_ME G ad sc ar) (fp_ma ad) (fun _ v H => ∃ (f : Nat → Int), v = none ∧ fp_ME G ad sc (va_up ar 11 f) H ∧ (∀ k, k < sN S → f k = (fp_lv S k : Int))) := by
  refine fp_M.intro (by decide) (Nat.le_of_ble_eq_true rfl) ?_
  intro pg en s mi ag bl mt cd rR qQ ls X hx hb hr hlk hnm hR hQ hB hM hl
  have hS : va_S (fA (fp_ma ad) s.heap.size) s.heap s.heap [] := va_S.rf
  generalize ([] : List Loc) = locs at hS ⊢
  have hN24 := hV.1.1
  refine lv_iconst (v := (iI ((0 : Nat) : Int))) hx hb dX4_ranks_0 rfl ?_
  refine lv_istore_n (lv' := [(1, .int (iI ((0 : Nat) : Int))), (0, .ref (ad 0))]) hx hb dX4_ranks_1 rfl hl (by decide) rfl (fun ls hl => ?_)
  have L2 : ∀ (b : Nat), b ≤ 31 → ∀ (f : Nat → Int) (H : Heap) (locs : List Loc) (ls : Array Slot),(fp_lvs S f b 0) → lv_has ls 4 [(0, .ref (ad 0)), (1, .int (iI ((b : Nat) : Int)))] → va_S (fA (fp_ma ad) s.heap.size) s.heap H locs → fp_ME G ad sc (va_up ar 11 f) H → W pg (g_l G) en rR s mi ag bl mt cd H locs 0 0 qQ (F0 mi 2 ls []) := by
    refine lp_up 31 ?_
    intro b hk2 ih2 f H locs ls hv hl hS hM
    refine lv_iload_n hx hb dX4_ranks_2 rfl (lv_at hl 1 rfl) ?_
    refine lv_bipush (v := (iI ((30 : Nat) : Int))) hx hb dX4_ranks_3 rfl ?_
    refine r_icmp_gt (tgt := 108) hx hb ⟨by omega, by omega⟩ (by decide) dX4_ranks_5 (by decide) (fun c5 => ?_) (fun c5 => ?_)
    · skip
      refine r_vret hx hb hr hlk hQ hS (Nat.le_of_ble_eq_true rfl) (Nat.le_of_ble_eq_true rfl) dX4_ranks_108 ?_
      exact ⟨f, rfl, hM, (fun k hk => hv k hk (by have := fp_t30_b h30 hk; omega))⟩
    · skip
      refine lv_iconst (v := (iI ((0 : Nat) : Int))) hx hb dX4_ranks_8 rfl ?_
      refine lv_istore_n (lv' := [(2, .int (iI ((0 : Nat) : Int))), (0, .ref (ad 0)), (1, .int (iI ((b : Nat) : Int)))]) hx hb dX4_ranks_9 rfl hl (by decide) rfl (fun ls hl => ?_)
      have L10 : ∀ (k : Nat), k ≤ sN S → ∀ (f : Nat → Int) (H : Heap) (locs : List Loc) (ls : Array Slot),(fp_lvs S f b k) → lv_has ls 4 [(0, .ref (ad 0)), (1, .int (iI ((b : Nat) : Int))), (2, .int (iI ((k : Nat) : Int)))] → va_S (fA (fp_ma ad) s.heap.size) s.heap H locs → fp_ME G ad sc (va_up ar 11 f) H → W pg (g_l G) en rR s mi ag bl mt cd H locs 0 0 qQ (F0 mi 10 ls []) := by
        refine lp_up (sN S) ?_
        intro k hk10 ih10 f H locs ls hv hl hS hM
        refine lv_iload_n hx hb dX4_ranks_10 rfl (lv_at hl 2 rfl) ?_
        refine lv_aload_n hx hb dX4_ranks_11 rfl (lv_at hl 0 rfl) ?_
        refine r_get X hM.1 rfl in_X4 5 (by decide) q2014 (Or.inl rfl) (v := .ref (ad 5)) rfl dX4_ranks_12 ?_
        refine lv_iconst (v := (iI ((0 : Nat) : Int))) hx hb dX4_ranks_15 rfl ?_
        refine r_ialdI X (hM.2 5 (by decide) (by decide)) (j := 0) (n := 170) rfl (by decide) (by decide) dX4_ranks_16 ?_
        refine r_set (y := .int (iI ((sN S : Nat) : Int))) (congrArg (fun q : Int => Value.int (iI q)) (hV.2.1)) ?_
        refine r_icmp_ge (tgt := 102) hx hb ⟨by omega, by omega⟩ ⟨by omega, by omega⟩ dX4_ranks_17 (by decide) (fun c17 => ?_) (fun c17 => ?_)
        · skip
          refine lv_iinc (v := (iI ((b + 1 : Nat) : Int))) (lv' := [(1, .int (iI ((b + 1 : Nat) : Int))), (0, .ref (ad 0)), (2, .int (iI ((k : Nat) : Int)))]) hx hb dX4_ranks_102 hl (k := 1) rfl (iI_incN _ _) (by decide) rfl (fun ls hl => ?_)
          refine lv_goto (tgt := 2) hx hb dX4_ranks_105 (by decide) ?_
          exact ih2 (by omega) f H locs ls (hv.up (by omega)) (lv_sub hl [1, 0] rfl) hS hM
        · skip
          have hbk := hV.1.2.2.1 k (by omega)
          refine lv_aload_n hx hb dX4_ranks_20 rfl (lv_at hl 0 rfl) ?_
          refine lv_iload_n hx hb dX4_ranks_21 rfl (lv_at hl 2 rfl) ?_
          refine lv_iconst (v := (iI ((5 : Nat) : Int))) hx hb dX4_ranks_22 rfl ?_
          refine r_callV (cells1 := 0) (slots1 := 0) X hR (c_X4_of G ad sc (va_up ar 11 f) S hA0 hV k 5 (by omega) (by omega)) q2123 q2125 qs51 q100 q2126 ⟨rfl, pd_X4_of⟩ (by decide) rfl rfl (by decide) (by decide) hM.1 rfl rfl (Nat.le_of_ble_eq_true rfl) hl.1 dX4_ranks_23 (hB.of hS (fp_ma.base hA0)) hM hS (fun _ h => h.elim) (fun v H1 locs hp_1 hzC hkC hS => ?_)
          obtain ⟨rfl, rfl⟩ := hp_1
          refine r_stk (st2 := [.int (iI ((sB S k 5 : Nat) : Int))]) rfl ?_
          refine lv_iload_n hx hb dX4_ranks_26 rfl (lv_at hl 1 rfl) ?_
          refine r_icmp_eq (tgt := 33) hx hb ⟨by omega, by omega⟩ ⟨by omega, by omega⟩ dX4_ranks_27 (by decide) (fun c27 => ?_) (fun c27 => ?_)
          · skip
            have hbk2 : sB S k 5 = b := by omega
            refine lv_aload_n hx hb dX4_ranks_33 rfl (lv_at hl 0 rfl) ?_
            refine r_get X hM.1 rfl in_X4 11 (by decide) q2020 (Or.inl rfl) (v := .ref (ad 11)) rfl dX4_ranks_34 ?_
            refine lv_iload_n hx hb dX4_ranks_37 rfl (lv_at hl 2 rfl) ?_
            refine lv_iconst (v := (iI ((0 : Nat) : Int))) hx hb dX4_ranks_38 rfl ?_
            refine m_ast X hM hS hA0 (k := 11) (j := k) (z := ((0 : Nat) : Int)) (by decide) rfl (n := 24) rfl (by omega) dX4_ranks_39 (fun H locs hM_2 hS => ?_)
            refine lv_iconst (v := (iI ((0 : Nat) : Int))) hx hb dX4_ranks_40 rfl ?_
            refine lv_istore_n (lv' := [(3, .int (iI ((0 : Nat) : Int))), (0, .ref (ad 0)), (1, .int (iI ((b : Nat) : Int))), (2, .int (iI ((k : Nat) : Int)))]) hx hb dX4_ranks_41 rfl hl (by decide) rfl (fun ls hl => ?_)
            have L42 : ∀ (o : Nat), o ≤ sN S → ∀ (f : Nat → Int) (H : Heap) (locs : List Loc) (ls : Array Slot),(fp_lvs S f b k) → (f k = (fp_lvp S k o : Int)) → lv_has ls 4 [(0, .ref (ad 0)), (1, .int (iI ((b : Nat) : Int))), (2, .int (iI ((k : Nat) : Int))), (3, .int (iI ((o : Nat) : Int)))] → va_S (fA (fp_ma ad) s.heap.size) s.heap H locs → fp_ME G ad sc (va_up ar 11 f) H → W pg (g_l G) en rR s mi ag bl mt cd H locs 0 0 qQ (F0 mi 42 ls []) := by
              refine lp_up (sN S) ?_
              intro o hk42 ih42 f H locs ls hv2 hk2 hl hS hM
              refine lv_iload_n hx hb dX4_ranks_42 rfl (lv_at hl 3 rfl) ?_
              refine lv_aload_n hx hb dX4_ranks_43 rfl (lv_at hl 0 rfl) ?_
              refine r_get X hM.1 rfl in_X4 5 (by decide) q2014 (Or.inl rfl) (v := .ref (ad 5)) rfl dX4_ranks_44 ?_
              refine lv_iconst (v := (iI ((0 : Nat) : Int))) hx hb dX4_ranks_47 rfl ?_
              refine r_ialdI X (hM.2 5 (by decide) (by decide)) (j := 0) (n := 170) rfl (by decide) (by decide) dX4_ranks_48 ?_
              refine r_set (y := .int (iI ((sN S : Nat) : Int))) (congrArg (fun q : Int => Value.int (iI q)) (hV.2.1)) ?_
              refine r_icmp_ge (tgt := 96) hx hb ⟨by omega, by omega⟩ ⟨by omega, by omega⟩ dX4_ranks_49 (by decide) (fun c49 => ?_) (fun c49 => ?_)
              · skip
                refine lv_iinc (v := (iI ((k + 1 : Nat) : Int))) (lv' := [(2, .int (iI ((k + 1 : Nat) : Int))), (0, .ref (ad 0)), (1, .int (iI ((b : Nat) : Int))), (3, .int (iI ((o : Nat) : Int)))]) hx hb dX4_ranks_96 hl (k := 2) rfl (iI_incN _ _) (by decide) rfl (fun ls hl => ?_)
                refine lv_goto (tgt := 10) hx hb dX4_ranks_99 (by decide) ?_
                exact ih10 (by omega) f H locs ls (hv2.next hk2 (by omega)) (lv_sub hl [1, 2, 0] rfl) hS hM
              · skip
                refine lv_aload_n hx hb dX4_ranks_52 rfl (lv_at hl 0 rfl) ?_
                refine lv_iload_n hx hb dX4_ranks_53 rfl (lv_at hl 3 rfl) ?_
                refine lv_iload_n hx hb dX4_ranks_54 rfl (lv_at hl 2 rfl) ?_
                refine r_callV (cells1 := 0) (slots1 := 0) X hR (c_X4_supports G ad sc (va_up ar 11 f) S hA0 hV o k (by omega) (by omega)) q2147 q2149 qs57 q100 q2150 ⟨rfl, pd_X4_supports⟩ (by decide) rfl rfl (by decide) (by decide) hM.1 rfl rfl (Nat.le_of_ble_eq_true rfl) hl.1 dX4_ranks_55 (hB.of hS (fp_ma.base hA0)) hM hS (fun _ h => h.elim) (fun v H1 locs hp_3 hzC hkC hS => ?_)
                obtain ⟨rfl, rfl⟩ := hp_3
                refine r_stk (st2 := [.int (iI (bI (fp_sup (sB S o) (sB S k))))]) rfl ?_
                refine r_ifeqB (tgt := 90) hx hb dX4_ranks_58 (by decide) (fun c58 => ?_) (fun c58 => ?_)
                · skip
                  have c58 : fp_supf S k o = false := c58
                  refine lv_iinc (v := (iI ((o + 1 : Nat) : Int))) (lv' := [(3, .int (iI ((o + 1 : Nat) : Int))), (0, .ref (ad 0)), (1, .int (iI ((b : Nat) : Int))), (2, .int (iI ((k : Nat) : Int)))]) hx hb dX4_ranks_90 hl (k := 3) rfl (iI_incN _ _) (by decide) rfl (fun ls hl => ?_)
                  refine lv_goto (tgt := 42) hx hb dX4_ranks_93 (by decide) ?_
                  exact ih42 (by omega) f H locs ls hv2 (by rw [fp_lvp_f c58]; exact hk2) (lv_sub hl [1, 2, 3, 0] rfl) hS hM
                · skip
                  have c58 : fp_supf S k o = true := c58
                  have hl1 := fp_lv_b S o
                  have hl2 := fp_lvp_b (S := S) (k := k) o
                  have hl3 := fp_t30_b h30 (k := k) (by omega)
                  have hl4 := fp_sup_bot c58
                  refine lv_aload_n hx hb dX4_ranks_61 rfl (lv_at hl 0 rfl) ?_
                  refine r_get X hM.1 rfl in_X4 11 (by decide) q2020 (Or.inl rfl) (v := .ref (ad 11)) rfl dX4_ranks_62 ?_
                  refine lv_iload_n hx hb dX4_ranks_65 rfl (lv_at hl 3 rfl) ?_
                  refine r_ialdI X (hM.2 11 (by decide) (by decide)) (j := o) (n := 24) rfl (by omega) (by decide) dX4_ranks_66 ?_
                  refine r_set (y := .int (iI ((fp_lv S o : Nat) : Int))) (congrArg (fun q : Int => Value.int (iI q)) (hv2.at hbk2 c58 (by omega))) ?_
                  refine lv_aload_n hx hb dX4_ranks_67 rfl (lv_at hl 0 rfl) ?_
                  refine r_get X hM.1 rfl in_X4 11 (by decide) q2020 (Or.inl rfl) (v := .ref (ad 11)) rfl dX4_ranks_68 ?_
                  refine lv_iload_n hx hb dX4_ranks_71 rfl (lv_at hl 2 rfl) ?_
                  refine r_ialdI X (hM.2 11 (by decide) (by decide)) (j := k) (n := 24) rfl (by omega) (by decide) dX4_ranks_72 ?_
                  refine r_set (y := .int (iI ((fp_lvp S k o : Nat) : Int))) (congrArg (fun q : Int => Value.int (iI q)) (hk2)) ?_
                  refine r_icmp_lt (tgt := 90) hx hb ⟨by omega, by omega⟩ ⟨by omega, by omega⟩ dX4_ranks_73 (by decide) (fun c73 => ?_) (fun c73 => ?_)
                  · skip
                    refine lv_iinc (v := (iI ((o + 1 : Nat) : Int))) (lv' := [(3, .int (iI ((o + 1 : Nat) : Int))), (0, .ref (ad 0)), (1, .int (iI ((b : Nat) : Int))), (2, .int (iI ((k : Nat) : Int)))]) hx hb dX4_ranks_90 hl (k := 3) rfl (iI_incN _ _) (by decide) rfl (fun ls hl => ?_)
                    refine lv_goto (tgt := 42) hx hb dX4_ranks_93 (by decide) ?_
                    exact ih42 (by omega) f H locs ls hv2 (by rw [fp_lvp_t c58, Nat.max_eq_left (by omega)]; exact hk2) (lv_sub hl [1, 2, 3, 0] rfl) hS hM
                  · skip
                    refine lv_aload_n hx hb dX4_ranks_76 rfl (lv_at hl 0 rfl) ?_
                    refine r_get X hM.1 rfl in_X4 11 (by decide) q2020 (Or.inl rfl) (v := .ref (ad 11)) rfl dX4_ranks_77 ?_
                    refine lv_iload_n hx hb dX4_ranks_80 rfl (lv_at hl 2 rfl) ?_
                    refine lv_aload_n hx hb dX4_ranks_81 rfl (lv_at hl 0 rfl) ?_
                    refine r_get X hM.1 rfl in_X4 11 (by decide) q2020 (Or.inl rfl) (v := .ref (ad 11)) rfl dX4_ranks_82 ?_
                    refine lv_iload_n hx hb dX4_ranks_85 rfl (lv_at hl 3 rfl) ?_
                    refine r_ialdI X (hM.2 11 (by decide) (by decide)) (j := o) (n := 24) rfl (by omega) (by decide) dX4_ranks_86 ?_
                    refine r_set (y := .int (iI ((fp_lv S o : Nat) : Int))) (congrArg (fun q : Int => Value.int (iI q)) (hv2.at hbk2 c58 (by omega))) ?_
                    refine lv_iconst (v := (iI ((1 : Nat) : Int))) hx hb dX4_ranks_87 rfl ?_
                    refine r_iaddN hx hb dX4_ranks_88 ?_
                    refine m_ast X hM hS hA0 (k := 11) (j := k) (z := (((fp_lv S o) + 1 : Nat) : Int)) (by decide) rfl (n := 24) rfl (by omega) dX4_ranks_89 (fun H locs hM_4 hS => ?_)
                    refine lv_iinc (v := (iI ((o + 1 : Nat) : Int))) (lv' := [(3, .int (iI ((o + 1 : Nat) : Int))), (0, .ref (ad 0)), (1, .int (iI ((b : Nat) : Int))), (2, .int (iI ((k : Nat) : Int)))]) hx hb dX4_ranks_90 hl (k := 3) rfl (iI_incN _ _) (by decide) rfl (fun ls hl => ?_)
                    refine lv_goto (tgt := 42) hx hb dX4_ranks_93 (by decide) ?_
                    exact ih42 (by omega) (va_up f k ((((fp_lv S o) + 1 : Nat) : Int))) H locs ls (hv2.set hbk2 (fun j hj => va_up_ne _ _ hj)) (by rw [va_up_self, fp_lvp_t c58]; omega) (lv_sub hl [1, 2, 3, 0] rfl) hS (fp_ME.st1 hM_4 (fun _ _ => rfl))
            exact L42 0 (by omega) (va_up f k (((0 : Nat) : Int))) H locs ls (hv.set hbk2 (fun j hj => va_up_ne _ _ hj)) (by rw [va_up_self]; rfl) (lv_sub hl [1, 2, 3, 0] rfl) hS (fp_ME.st1 hM_2 (fun _ _ => rfl))
          · skip
            refine lv_goto (tgt := 96) hx hb dX4_ranks_30 (by decide) ?_
            refine lv_iinc (v := (iI ((k + 1 : Nat) : Int))) (lv' := [(2, .int (iI ((k + 1 : Nat) : Int))), (0, .ref (ad 0)), (1, .int (iI ((b : Nat) : Int)))]) hx hb dX4_ranks_96 hl (k := 2) rfl (iI_incN _ _) (by decide) rfl (fun ls hl => ?_)
            refine lv_goto (tgt := 10) hx hb dX4_ranks_99 (by decide) ?_
            exact ih10 (by omega) f H locs ls (hv.skip (by omega)) (lv_sub hl [1, 2, 0] rfl) hS hM
      exact L10 0 (by omega) f H locs ls hv (lv_sub hl [1, 2, 0] rfl) hS hM
  exact L2 0 (by omega) (ar 11) (s.heap) locs ls (fp_lvs.s0) (lv_sub hl [1, 0] rfl) hS (fp_ME.st0 hM 11 (fun _ _ => rfl))
set_option maxHeartbeats 4000000 in
theorem c_X4_level (G : fp_G) (ad : Nat → Nat) (sc : Nat → Int) (ar : Nat → Nat → Int) (S : PS) (hA0 : fp_MA G ad) (hV : fp_VR S (ar 5)) (z : Int) (hz : rg z) (h30 : fp_t30 S) : fp_M G yX4_level cX4_level 3 (some .int) 5 101 0 0 [.ref (ad 0), .int (iI (z))] (fp_ME G ad sc ar) (fp_ma ad) (fun _ v H => ∃ (r : Int), ∃ (ar2 : Nat → Nat → Int), v = some (.int (iI (r))) ∧ fp_ME G ad (va_up sc 0 (((fp_fc S z : Nat) : Int))) ar2 H ∧ (fp_fc S z = 0 → r = (fp_lv S (fp_fnd S z) : Int)) ∧ (fp_sm0 ar ar2)) := by
  refine fp_M.intro (by decide) (Nat.le_of_ble_eq_true rfl) ?_
  intro pg en s mi ag bl mt cd rR qQ ls X hx hb hr hlk hnm hR hQ hB hM hl
  have hS : va_S (fA (fp_ma ad) s.heap.size) s.heap s.heap [] := va_S.rf
  generalize ([] : List Loc) = locs at hS ⊢
  have hN24 := hV.1.1
  refine lv_aload_n hx hb dX4_level_0 rfl (lv_at hl 0 rfl) ?_
  refine lv_iload_n hx hb dX4_level_1 rfl (lv_at hl 1 rfl) ?_
  refine r_callV (cells1 := 0) (slots1 := 0) X hR (c_X4_finds G ad sc ar S hA0 hV (z) (by omega)) q2179 q2181 qs62 q100 q2182 ⟨rfl, pd_X4_finds⟩ (by decide) rfl rfl (by decide) (by decide) hM.1 rfl rfl (Nat.le_of_ble_eq_true rfl) hl.1 dX4_level_2 (hB.of hS (fp_ma.base hA0)) hM hS (fun _ h => Or.inl h) (fun v H locs hp_1 hzC hkC hS => ?_)
  rcases hp_1 with ⟨kf_2, rfl, hM_6, hkf_3, hkn_4, hkl_5⟩ | ⟨rfl, hM_8, hnf_7⟩
  · skip
    have hM_9 := fp_ME.nrm (sc2 := (va_up sc 0 (((0 : Nat) : Int)))) hM_6 rfl
    refine r_stk (st2 := [.int (iI ((kf_2 : Nat) : Int))]) rfl ?_
    refine lv_istore_n (lv' := [(2, .int (iI ((kf_2 : Nat) : Int))), (0, .ref (ad 0)), (1, .int (iI (z)))]) hx hb dX4_level_5 rfl hl (by decide) rfl (fun ls hl => ?_)
    refine lv_iload_n hx hb dX4_level_6 rfl (lv_at hl 0 rfl) ?_
    refine r_if_ge (tgt := 12) hx hb ⟨by omega, by omega⟩ dX4_level_7 (by decide) (fun c7 => ?_) (fun c7 => ?_)
    · skip
      refine lv_aload_n hx hb dX4_level_12 rfl (lv_at hl 1 rfl) ?_
      refine r_callV (cells1 := 0) (slots1 := 0) X hR (c_X4_ranks G ad (va_up sc 0 (((0 : Nat) : Int))) ar S hA0 hV  h30) q2330 q2332 qs70 q100 q2333 ⟨rfl, pd_X4_ranks⟩ (by decide) rfl rfl (by decide) (by decide) hM_9.1 rfl rfl (Nat.le_of_ble_eq_true rfl) hl.1 dX4_level_13 (hB.of hS (fp_ma.base hA0)) hM_9 hS (fun _ h => Or.inl h) (fun v H locs hp_10 hzC hkC hS => ?_)
      obtain ⟨f_11, rfl, hM_13, hf_12⟩ := hp_10
      refine r_stk (st2 := []) rfl ?_
      refine lv_aload_n hx hb dX4_level_16 rfl (lv_at hl 1 rfl) ?_
      refine r_get X hM_13.1 rfl in_X4 11 (by decide) q2020 (Or.inl rfl) (v := .ref (ad 11)) rfl dX4_level_17 ?_
      refine lv_iload_n hx hb dX4_level_20 rfl (lv_at hl 0 rfl) ?_
      refine r_ialdI X (hM_13.2 11 (by decide) (by decide)) (j := kf_2) (n := 24) rfl (by omega) (by decide) dX4_level_21 ?_
      refine r_set (y := .int (iI ((fp_lv S kf_2 : Nat) : Int))) (congrArg (fun q : Int => Value.int (iI q)) (hf_12 _ hkf_3)) ?_
      have hlb := fp_lv_b S kf_2
      have hl3 := fp_t30_b h30 hkf_3
      refine r_iret hx hb hr hlk hQ hS (Nat.le_of_ble_eq_true rfl) (Nat.le_of_ble_eq_true rfl) dX4_level_22 ?_
      exact ⟨((fp_lv S kf_2 : Nat) : Int), (va_up ar 11 f_11), rfl, (by rw [show fp_fc S z = 0 from fp_fc_0 hkl_5 hkf_3]; exact hM_13.nrm rfl), (fun _ => (by rw [hkl_5])), (fun k hk => by simp [fp_scr] at hk; by_cases e5 : k = 5 <;> simp_all [va_up])⟩
    · exact absurd c7 (by omega)
  · skip
    have hM_14 := fp_ME.nrm (sc2 := (va_up sc 0 (((1 : Nat) : Int)))) hM_8 rfl
    refine r_stk (st2 := [.int (iI (-1))]) rfl ?_
    refine lv_istore_n (lv' := [(2, .int (iI (-1))), (0, .ref (ad 0)), (1, .int (iI (z)))]) hx hb dX4_level_5 rfl hl (by decide) rfl (fun ls hl => ?_)
    refine lv_iload_n hx hb dX4_level_6 rfl (lv_at hl 0 rfl) ?_
    refine r_if_ge (tgt := 12) hx hb (by decide) dX4_level_7 (by decide) (fun c7 => ?_) (fun c7 => ?_)
    · exact absurd c7 (by omega)
    · skip
      refine lv_iconst (v := (iI ((0 : Nat) : Int))) hx hb dX4_level_10 rfl ?_
      refine r_iret hx hb hr hlk hQ hS (Nat.le_of_ble_eq_true rfl) (Nat.le_of_ble_eq_true rfl) dX4_level_11 ?_
      exact ⟨((0 : Nat) : Int), ar, rfl, (by rw [show fp_fc S z = 1 from fp_fc_1 hnf_7]; exact hM_14.nrm rfl), (fun z0 => absurd ((show fp_fc S z = 1 from fp_fc_1 hnf_7).symm.trans z0) (by decide)), (fun k hk => by simp [fp_scr] at hk; by_cases e5 : k = 5 <;> simp_all [va_up])⟩
set_option maxHeartbeats 4000000 in
theorem c_X4_levelCount (G : fp_G) (ad : Nat → Nat) (sc : Nat → Int) (ar : Nat → Nat → Int) (S : PS) (hA0 : fp_MA G ad) (hV : fp_VR S (ar 5)) (h30 : fp_t30 S) : fp_M G yX4_levelCount cX4_levelCount 4 (some .int) 5 101 0 0 [.ref (ad 0)] (fp_ME G ad sc ar) (fp_ma ad) (fun _ v H => ∃ (r : Int), ∃ (ar2 : Nat → Nat → Int), v = some (.int (iI (r))) ∧ fp_ME G ad (va_up sc 0 (((0 : Nat) : Int))) ar2 H ∧ (0 = 0 → r = (fp_nlv S : Int)) ∧ (fp_sm0 ar ar2)) := by
  refine fp_M.intro (by decide) (Nat.le_of_ble_eq_true rfl) ?_
  intro pg en s mi ag bl mt cd rR qQ ls X hx hb hr hlk hnm hR hQ hB hM hl
  have hS : va_S (fA (fp_ma ad) s.heap.size) s.heap s.heap [] := va_S.rf
  generalize ([] : List Loc) = locs at hS ⊢
  have hN24 := hV.1.1
  refine lv_aload_n hx hb dX4_levelCount_0 rfl (lv_at hl 0 rfl) ?_
  refine lv_iconst (v := (iI ((0 : Nat) : Int))) hx hb dX4_levelCount_1 rfl ?_
  refine m_put X hM hS hA0 (k := 0) (sc2 := (va_up sc 0 (((0 : Nat) : Int)))) rfl (by decide) q2009 rfl rfl rfl dX4_levelCount_2 rfl (fun H locs hM_1 hS => ?_)
  refine lv_aload_n hx hb dX4_levelCount_5 rfl (lv_at hl 0 rfl) ?_
  refine r_callV (cells1 := 0) (slots1 := 0) X hR (c_X4_ranks G ad (va_up sc 0 (((0 : Nat) : Int))) ar S hA0 hV  h30) q2330 q2332 qs70 q100 q2333 ⟨rfl, pd_X4_ranks⟩ (by decide) rfl rfl (by decide) (by decide) hM_1.1 rfl rfl (Nat.le_of_ble_eq_true rfl) hl.1 dX4_levelCount_6 (hB.of hS (fp_ma.base hA0)) hM_1 hS (fun _ h => Or.inl h) (fun v H locs hp_2 hzC hkC hS => ?_)
  obtain ⟨f_3, rfl, hM_5, hf_4⟩ := hp_2
  refine r_stk (st2 := []) rfl ?_
  refine lv_iconst (v := (iI ((0 : Nat) : Int))) hx hb dX4_levelCount_9 rfl ?_
  refine lv_istore_n (lv' := [(1, .int (iI ((0 : Nat) : Int))), (0, .ref (ad 0))]) hx hb dX4_levelCount_10 rfl hl (by decide) rfl (fun ls hl => ?_)
  refine lv_iconst (v := (iI ((0 : Nat) : Int))) hx hb dX4_levelCount_11 rfl ?_
  refine lv_istore_n (lv' := [(2, .int (iI ((0 : Nat) : Int))), (1, .int (iI ((0 : Nat) : Int))), (0, .ref (ad 0))]) hx hb dX4_levelCount_12 rfl hl (by decide) rfl (fun ls hl => ?_)
  refine lv_iconst (v := (iI ((0 : Nat) : Int))) hx hb dX4_levelCount_13 rfl ?_
  refine lv_istore_n (lv' := [(3, .int (iI ((0 : Nat) : Int))), (2, .int (iI ((0 : Nat) : Int))), (1, .int (iI ((0 : Nat) : Int))), (0, .ref (ad 0))]) hx hb dX4_levelCount_14 rfl hl (by decide) rfl (fun ls hl => ?_)
  have L15 : ∀ (k : Nat), k ≤ sN S → ∀ (locs : List Loc) (ls : Array Slot), lv_has ls 4 [(0, .ref (ad 0)), (1, .int (iI ((fp_lset S k : Nat) : Int))), (2, .int (iI ((0 : Nat) : Int))), (3, .int (iI ((k : Nat) : Int)))] → va_S (fA (fp_ma ad) s.heap.size) s.heap H locs → W pg (g_l G) en rR s mi ag bl mt cd H locs 0 0 qQ (F0 mi 15 ls []) := by
    refine lp_up (sN S) ?_
    intro k hk15 ih15 locs ls hl hS
    have hlt := fp_lset_lt h30 hk15
    have hlv := fp_lv_b S k
    have hbt : k < sN S → sB S k 5 ≤ 29 := fun z => fp_t30_b h30 z
    refine lv_iload_n hx hb dX4_levelCount_15 rfl (lv_at hl 3 rfl) ?_
    refine lv_aload_n hx hb dX4_levelCount_16 rfl (lv_at hl 0 rfl) ?_
    refine r_get X hM_5.1 rfl in_X4 5 (by decide) q2014 (Or.inl rfl) (v := .ref (ad 5)) rfl dX4_levelCount_17 ?_
    refine lv_iconst (v := (iI ((0 : Nat) : Int))) hx hb dX4_levelCount_20 rfl ?_
    refine r_ialdI X (hM_5.2 5 (by decide) (by decide)) (j := 0) (n := 170) rfl (by decide) (by decide) dX4_levelCount_21 ?_
    refine r_set (y := .int (iI ((sN S : Nat) : Int))) (congrArg (fun q : Int => Value.int (iI q)) (hV.2.1)) ?_
    refine r_icmp_ge (tgt := 42) hx hb ⟨by omega, by omega⟩ ⟨by omega, by omega⟩ dX4_levelCount_22 (by decide) (fun c22 => ?_) (fun c22 => ?_)
    · skip
      obtain rfl : k = sN S := by omega
      refine lv_iload_n hx hb dX4_levelCount_42 rfl (lv_at hl 1 rfl) ?_
      refine lv_istore_n (lv' := [(3, .int (iI ((fp_lset S (sN S) : Nat) : Int))), (0, .ref (ad 0)), (1, .int (iI ((fp_lset S (sN S) : Nat) : Int))), (2, .int (iI ((0 : Nat) : Int)))]) hx hb dX4_levelCount_43 rfl hl (by decide) rfl (fun ls hl => ?_)
      have L44 : ∀ (n : Nat), n ≤ 32 → ∀ (x : Nat) (locs : List Loc) (ls : Array Slot),(fp_pst x n (fp_nlv S)) → lv_has ls 4 [(0, .ref (ad 0)), (1, .int (iI ((fp_lset S (sN S) : Nat) : Int))), (2, .int (iI ((n : Nat) : Int))), (3, .int (iI ((x : Nat) : Int)))] → va_S (fA (fp_ma ad) s.heap.size) s.heap H locs → W pg (g_l G) en rR s mi ag bl mt cd H locs 0 0 qQ (F0 mi 44 ls []) := by
        refine lp_up 32 ?_
        intro n hk44 ih44 x locs ls hps hl hS
        have hpb := hps.b (fp_pop_le _ _)
        refine lv_iload_n hx hb dX4_levelCount_44 rfl (lv_at hl 3 rfl) ?_
        refine r_if_eq (tgt := 60) hx hb ⟨by omega, by omega⟩ dX4_levelCount_45 (by decide) (fun c45 => ?_) (fun c45 => ?_)
        · skip
          refine lv_iload_n hx hb dX4_levelCount_60 rfl (lv_at hl 2 rfl) ?_
          refine r_iret hx hb hr hlk hQ hS (Nat.le_of_ble_eq_true rfl) (Nat.le_of_ble_eq_true rfl) dX4_levelCount_61 ?_
          exact ⟨((n : Nat) : Int), (va_up ar 11 f_3), rfl, (hM_5.nrm rfl), (fun _ => (congrArg (fun q : Nat => (q : Int)) (hps.z (by omega)))), (fun k hk => by simp [fp_scr] at hk; by_cases e5 : k = 5 <;> simp_all [va_up])⟩
        · skip
          refine lv_iinc (v := (iI ((n + 1 : Nat) : Int))) (lv' := [(2, .int (iI ((n + 1 : Nat) : Int))), (0, .ref (ad 0)), (1, .int (iI ((fp_lset S (sN S) : Nat) : Int))), (3, .int (iI ((x : Nat) : Int)))]) hx hb dX4_levelCount_48 hl (k := 2) rfl (iI_incN _ _) (by decide) rfl (fun ls hl => ?_)
          refine lv_iload_n hx hb dX4_levelCount_51 rfl (lv_at hl 3 rfl) ?_
          refine lv_iload_n hx hb dX4_levelCount_52 rfl (lv_at hl 3 rfl) ?_
          refine lv_iconst (v := (iI ((1 : Nat) : Int))) hx hb dX4_levelCount_53 rfl ?_
          refine r_isub hx hb dX4_levelCount_54 ?_
          refine r_set (y := .int (iI ((x - 1 : Nat) : Int))) (congrArg (fun q : Int => Value.int (iI q)) (by omega)) ?_
          refine lv_iand hx hb dX4_levelCount_55 ?_
          refine r_set (y := .int (iI ((x &&& (x - 1) : Nat) : Int))) (congrArg Value.int (iN_and _ _)) ?_
          refine lv_istore_n (lv' := [(3, .int (iI ((x &&& (x - 1) : Nat) : Int))), (2, .int (iI ((n + 1 : Nat) : Int))), (0, .ref (ad 0)), (1, .int (iI ((fp_lset S (sN S) : Nat) : Int)))]) hx hb dX4_levelCount_56 rfl hl (by decide) rfl (fun ls hl => ?_)
          refine lv_goto (tgt := 44) hx hb dX4_levelCount_57 (by decide) ?_
          exact ih44 (by omega) (x &&& (x - 1)) locs ls (hps.step (by omega)) (lv_sub hl [2, 3, 1, 0] rfl) hS
      exact L44 0 (by omega) (fp_lset S (sN S)) locs ls (⟨fp_lset_lt h30 (Nat.le_refl _), rfl⟩) (lv_sub hl [1, 2, 3, 0] rfl) hS
    · skip
      refine lv_iload_n hx hb dX4_levelCount_25 rfl (lv_at hl 1 rfl) ?_
      refine lv_iconst (v := (iI ((1 : Nat) : Int))) hx hb dX4_levelCount_26 rfl ?_
      refine lv_aload_n hx hb dX4_levelCount_27 rfl (lv_at hl 0 rfl) ?_
      refine r_get X hM_5.1 rfl in_X4 11 (by decide) q2020 (Or.inl rfl) (v := .ref (ad 11)) rfl dX4_levelCount_28 ?_
      refine lv_iload_n hx hb dX4_levelCount_31 rfl (lv_at hl 3 rfl) ?_
      refine r_ialdI X (hM_5.2 11 (by decide) (by decide)) (j := k) (n := 24) rfl (by omega) (by decide) dX4_levelCount_32 ?_
      refine r_set (y := .int (iI ((fp_lv S k : Nat) : Int))) (congrArg (fun q : Int => Value.int (iI q)) (hf_4 k (by omega))) ?_
      refine lv_ishl hx hb dX4_levelCount_33 ?_
      refine r_set (y := .int (iI ((2 ^ fp_lv S k : Nat) : Int))) (congrArg Value.int (iN_shl (by have := hbt (by omega); omega))) ?_
      refine lv_ior hx hb dX4_levelCount_34 ?_
      refine r_set (y := .int (iI ((fp_lset S k ||| 2 ^ fp_lv S k : Nat) : Int))) (congrArg Value.int (iN_or _ _)) ?_
      refine lv_istore_n (lv' := [(1, .int (iI ((fp_lset S k ||| 2 ^ fp_lv S k : Nat) : Int))), (0, .ref (ad 0)), (2, .int (iI ((0 : Nat) : Int))), (3, .int (iI ((k : Nat) : Int)))]) hx hb dX4_levelCount_35 rfl hl (by decide) rfl (fun ls hl => ?_)
      refine lv_iinc (v := (iI ((k + 1 : Nat) : Int))) (lv' := [(3, .int (iI ((k + 1 : Nat) : Int))), (1, .int (iI ((fp_lset S k ||| 2 ^ fp_lv S k : Nat) : Int))), (0, .ref (ad 0)), (2, .int (iI ((0 : Nat) : Int)))]) hx hb dX4_levelCount_36 hl (k := 3) rfl (iI_incN _ _) (by decide) rfl (fun ls hl => ?_)
      refine lv_goto (tgt := 15) hx hb dX4_levelCount_39 (by decide) ?_
      exact ih15 (by omega) locs ls (by rw [show Value.int (iI ((fp_lset S (k + 1) : Nat) : Int)) = Value.int (iI ((fp_lset S k ||| 2 ^ fp_lv S k : Nat) : Int)) from rfl]; exact lv_sub hl [2, 1, 3, 0] rfl) hS
  exact L15 0 (by omega) locs ls (by rw [show Value.int (iI ((fp_lset S 0 : Nat) : Int)) = Value.int (iI ((0 : Nat) : Int)) from rfl]; exact lv_sub hl [3, 2, 1, 0] rfl) hS
