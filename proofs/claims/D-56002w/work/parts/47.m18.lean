/-! THE MODEL: what stands above -/
set_option maxHeartbeats 4000000 in
theorem c_X4_above (G : fp_G) (ad : Nat → Nat) (sc : Nat → Int) (ar : Nat → Nat → Int) (S : PS) (hA0 : fp_MA G ad) (hV : fp_VR S (ar 5)) (lo : Nat) (hlo : lo < sN S) : fp_M G yX4_above cX4_above 6 (some .int) 4 78 0 0 [.ref (ad 0), .int (iI ((lo : Nat) : Int))] (fp_ME G ad sc ar) (fp_ma ad) (fun _ v H => ∃ (x : Nat), v = some (.int (iI ((x : Nat) : Int))) ∧ fp_ME G ad sc ar H ∧ (x < 16777216) ∧ (∀ k, x.testBit k = (decide (k < sN S) && fp_ab S lo k))) := by
  refine fp_M.intro (by decide) (Nat.le_of_ble_eq_true rfl) ?_
  intro pg en s mi ag bl mt cd rR qQ ls X hx hb hr hlk hnm hR hQ hB hM hl
  have hS : va_S (fA (fp_ma ad) s.heap.size) s.heap s.heap [] := va_S.rf
  generalize ([] : List Loc) = locs at hS ⊢
  have hN24 := hV.1.1
  refine lv_iconst (v := (iI ((0 : Nat) : Int))) hx hb dX4_above_0 rfl ?_
  refine lv_istore_n (lv' := [(2, .int (iI ((0 : Nat) : Int))), (0, .ref (ad 0)), (1, .int (iI ((lo : Nat) : Int)))]) hx hb dX4_above_1 rfl hl (by decide) rfl (fun ls hl => ?_)
  refine lv_iconst (v := (iI (-1))) hx hb dX4_above_2 rfl ?_
  refine lv_istore_n (lv' := [(3, .int (iI (-1))), (2, .int (iI ((0 : Nat) : Int))), (0, .ref (ad 0)), (1, .int (iI ((lo : Nat) : Int)))]) hx hb dX4_above_3 rfl hl (by decide) rfl (fun ls hl => ?_)
  have L4 : ∀ (q : Nat), q ≤ 33554434 → ∀ (x : Nat) (wz : Int) (locs : List Loc) (ls : Array Slot),(fp_aw S lo q x wz) → lv_has ls 6 [(0, .ref (ad 0)), (1, .int (iI ((lo : Nat) : Int))), (2, .int (iI ((x : Nat) : Int))), (3, .int (iI (wz)))] → va_S (fA (fp_ma ad) s.heap.size) s.heap s.heap locs → W pg (g_l G) en rR s mi ag bl mt cd s.heap locs 0 0 qQ (F0 mi 4 ls []) := by
    refine lp_up 33554434 ?_
    intro q hk4 ih4 x wz locs ls haw hl hS
    have hab := haw.b
    have hN24 := hV.1.1
    refine lv_iload_n hx hb dX4_above_4 rfl (lv_at hl 2 rfl) ?_
    refine lv_iload_n hx hb dX4_above_5 rfl (lv_at hl 3 rfl) ?_
    refine r_icmp_eq (tgt := 92) hx hb ⟨by omega, by omega⟩ ⟨by omega, by omega⟩ dX4_above_6 (by decide) (fun c6 => ?_) (fun c6 => ?_)
    · skip
      refine lv_iload_n hx hb dX4_above_92 rfl (lv_at hl 2 rfl) ?_
      refine r_iret hx hb hr hlk hQ hS (Nat.le_of_ble_eq_true rfl) (Nat.le_of_ble_eq_true rfl) dX4_above_93 ?_
      exact ⟨x, rfl, hM, ((haw.done (by omega)).1), ((haw.done (by omega)).2)⟩
    · skip
      refine lv_iload_n hx hb dX4_above_9 rfl (lv_at hl 2 rfl) ?_
      refine lv_istore_n (lv' := [(3, .int (iI ((x : Nat) : Int))), (0, .ref (ad 0)), (1, .int (iI ((lo : Nat) : Int))), (2, .int (iI ((x : Nat) : Int)))]) hx hb dX4_above_10 rfl hl (by decide) rfl (fun ls hl => ?_)
      refine lv_iconst (v := (iI ((0 : Nat) : Int))) hx hb dX4_above_11 rfl ?_
      refine lv_istore (lv' := [(4, .int (iI ((0 : Nat) : Int))), (3, .int (iI ((x : Nat) : Int))), (0, .ref (ad 0)), (1, .int (iI ((lo : Nat) : Int))), (2, .int (iI ((x : Nat) : Int)))]) hx hb dX4_above_12 hl (by decide) rfl (fun ls hl => ?_)
      have L14 : ∀ (k : Nat), k ≤ sN S → ∀ (locs : List Loc) (ls : Array Slot), lv_has ls 6 [(0, .ref (ad 0)), (1, .int (iI ((lo : Nat) : Int))), (2, .int (iI ((fp_as S lo x k : Nat) : Int))), (3, .int (iI ((x : Nat) : Int))), (4, .int (iI ((k : Nat) : Int)))] → va_S (fA (fp_ma ad) s.heap.size) s.heap s.heap locs → W pg (g_l G) en rR s mi ag bl mt cd s.heap locs 0 0 qQ (F0 mi 14 ls []) := by
        refine lp_up (sN S) ?_
        intro k hk14 ih14 locs ls hl hS
        have hal := fp_as_lt (S := S) (lo := lo) hab.1 (k := k) (by omega)
        refine lv_iload hx hb dX4_above_14 (lv_at hl 4 rfl) ?_
        refine lv_aload_n hx hb dX4_above_16 rfl (lv_at hl 0 rfl) ?_
        refine r_get X hM.1 rfl in_X4 5 (by decide) q2014 (Or.inl rfl) (v := .ref (ad 5)) rfl dX4_above_17 ?_
        refine lv_iconst (v := (iI ((0 : Nat) : Int))) hx hb dX4_above_20 rfl ?_
        refine r_ialdI X (hM.2 5 (by decide) (by decide)) (j := 0) (n := 170) rfl (by decide) (by decide) dX4_above_21 ?_
        refine r_set (y := .int (iI ((sN S : Nat) : Int))) (congrArg (fun q : Int => Value.int (iI q)) (hV.2.1)) ?_
        refine r_icmp_ge (tgt := 89) hx hb ⟨by omega, by omega⟩ ⟨by omega, by omega⟩ dX4_above_22 (by decide) (fun c22 => ?_) (fun c22 => ?_)
        · skip
          obtain rfl : k = sN S := by omega
          refine lv_goto (tgt := 4) hx hb dX4_above_89 (by decide) ?_
          exact ih4 (by omega) (fp_as S lo x (sN S)) ((x : Nat) : Int) locs ls (haw.step (by omega) hV.1.1) (lv_sub hl [0, 1, 2, 3] rfl) hS
        · skip
          refine lv_iconst (v := (iI ((0 : Nat) : Int))) hx hb dX4_above_25 rfl ?_
          refine lv_istore (lv' := [(5, .int (iI ((0 : Nat) : Int))), (0, .ref (ad 0)), (1, .int (iI ((lo : Nat) : Int))), (2, .int (iI ((fp_as S lo x k : Nat) : Int))), (3, .int (iI ((x : Nat) : Int))), (4, .int (iI ((k : Nat) : Int)))]) hx hb dX4_above_26 hl (by decide) rfl (fun ls hl => ?_)
          have L28 : ∀ (o : Nat), o ≤ sN S → ∀ (locs : List Loc) (ls : Array Slot), lv_has ls 6 [(0, .ref (ad 0)), (1, .int (iI ((lo : Nat) : Int))), (2, .int (iI ((fp_ao S lo x k (fp_as S lo x k) o : Nat) : Int))), (3, .int (iI ((x : Nat) : Int))), (4, .int (iI ((k : Nat) : Int))), (5, .int (iI ((o : Nat) : Int)))] → va_S (fA (fp_ma ad) s.heap.size) s.heap s.heap locs → W pg (g_l G) en rR s mi ag bl mt cd s.heap locs 0 0 qQ (F0 mi 28 ls []) := by
            refine lp_up (sN S) ?_
            intro o hk28 ih28 locs ls hl hS
            have hbl : k < sN S → fp_ao S lo x k (fp_as S lo x k) o < 16777216 := fun z => fp_ao_lt hal (by omega) o
            refine lv_iload hx hb dX4_above_28 (lv_at hl 5 rfl) ?_
            refine lv_aload_n hx hb dX4_above_30 rfl (lv_at hl 0 rfl) ?_
            refine r_get X hM.1 rfl in_X4 5 (by decide) q2014 (Or.inl rfl) (v := .ref (ad 5)) rfl dX4_above_31 ?_
            refine lv_iconst (v := (iI ((0 : Nat) : Int))) hx hb dX4_above_34 rfl ?_
            refine r_ialdI X (hM.2 5 (by decide) (by decide)) (j := 0) (n := 170) rfl (by decide) (by decide) dX4_above_35 ?_
            refine r_set (y := .int (iI ((sN S : Nat) : Int))) (congrArg (fun q : Int => Value.int (iI q)) (hV.2.1)) ?_
            refine r_icmp_ge (tgt := 83) hx hb ⟨by omega, by omega⟩ ⟨by omega, by omega⟩ dX4_above_36 (by decide) (fun c36 => ?_) (fun c36 => ?_)
            · skip
              obtain rfl : o = sN S := by omega
              refine lv_iinc (v := (iI ((k + 1 : Nat) : Int))) (lv' := [(4, .int (iI ((k + 1 : Nat) : Int))), (0, .ref (ad 0)), (1, .int (iI ((lo : Nat) : Int))), (2, .int (iI ((fp_as S lo x (k + 1) : Nat) : Int))), (3, .int (iI ((x : Nat) : Int))), (5, .int (iI ((sN S : Nat) : Int)))]) hx hb dX4_above_83 hl (k := 4) rfl (iI_incN _ _) (by decide) rfl (fun ls hl => ?_)
              refine lv_goto (tgt := 14) hx hb dX4_above_86 (by decide) ?_
              exact ih14 (by omega) locs ls (lv_sub hl [1, 2, 3, 4, 0] rfl) hS
            · skip
              refine lv_iload_n hx hb dX4_above_39 rfl (lv_at hl 2 rfl) ?_
              refine lv_aload_n hx hb dX4_above_40 rfl (lv_at hl 0 rfl) ?_
              refine lv_iload hx hb dX4_above_41 (lv_at hl 5 rfl) ?_
              refine lv_iload hx hb dX4_above_43 (lv_at hl 4 rfl) ?_
              refine r_callV (cells1 := 0) (slots1 := 0) X hR (c_X4_supports G ad sc ar S hA0 hV o k (by omega) (by omega)) q2147 q2149 qs57 q100 q2150 ⟨rfl, pd_X4_supports⟩ (by decide) rfl rfl (by decide) (by decide) hM.1 rfl rfl (Nat.le_of_ble_eq_true rfl) hl.1 dX4_above_45 (hB.of hS (fp_ma.base hA0)) hM hS (fun _ h => h.elim) (fun v H1 locs hp_1 hzC hkC hS => ?_)
              obtain ⟨rfl, rfl⟩ := hp_1
              refine r_stk (st2 := [.int (iI (bI (fp_sup (sB S o) (sB S k)))), .int (iI ((fp_ao S lo x k (fp_as S lo x k) o : Nat) : Int))]) rfl ?_
              refine r_ifeqB (tgt := 74) hx hb dX4_above_48 (by decide) (fun c48 => ?_) (fun c48 => ?_)
              · skip
                have c48 : fp_supf S k o = false := c48
                refine lv_iconst (v := (iI ((0 : Nat) : Int))) hx hb dX4_above_74 rfl ?_
                refine lv_ior hx hb dX4_above_75 ?_
                refine r_set (y := .int (iI ((fp_ao S lo x k (fp_as S lo x k) (o + 1) : Nat) : Int))) (congrArg Value.int ((iN_or _ _).trans (congrArg (fun q : Nat => iI (q : Int)) (fp_ao_n (fp_ab_sf (Or.inl c48))).symm))) ?_
                refine lv_istore_n (lv' := [(2, .int (iI ((fp_ao S lo x k (fp_as S lo x k) (o + 1) : Nat) : Int))), (0, .ref (ad 0)), (1, .int (iI ((lo : Nat) : Int))), (3, .int (iI ((x : Nat) : Int))), (4, .int (iI ((k : Nat) : Int))), (5, .int (iI ((o : Nat) : Int)))]) hx hb dX4_above_76 rfl hl (by decide) rfl (fun ls hl => ?_)
                refine lv_iinc (v := (iI ((o + 1 : Nat) : Int))) (lv' := [(5, .int (iI ((o + 1 : Nat) : Int))), (2, .int (iI ((fp_ao S lo x k (fp_as S lo x k) (o + 1) : Nat) : Int))), (0, .ref (ad 0)), (1, .int (iI ((lo : Nat) : Int))), (3, .int (iI ((x : Nat) : Int))), (4, .int (iI ((k : Nat) : Int)))]) hx hb dX4_above_77 hl (k := 5) rfl (iI_incN _ _) (by decide) rfl (fun ls hl => ?_)
                refine lv_goto (tgt := 28) hx hb dX4_above_80 (by decide) ?_
                exact ih28 (by omega) locs ls (lv_sub hl [2, 3, 1, 4, 5, 0] rfl) hS
              · skip
                have c48 : fp_supf S k o = true := c48
                refine lv_iload hx hb dX4_above_51 (lv_at hl 5 rfl) ?_
                refine lv_iload_n hx hb dX4_above_53 rfl (lv_at hl 1 rfl) ?_
                refine r_icmp_eq (tgt := 67) hx hb ⟨by omega, by omega⟩ ⟨by omega, by omega⟩ dX4_above_54 (by decide) (fun c54 => ?_) (fun c54 => ?_)
                · skip
                  refine lv_iconst (v := (iI ((1 : Nat) : Int))) hx hb dX4_above_67 rfl ?_
                  refine lv_iload hx hb dX4_above_68 (lv_at hl 4 rfl) ?_
                  refine lv_ishl hx hb dX4_above_70 ?_
                  refine r_set (y := .int (iI ((2 ^ k : Nat) : Int))) (congrArg Value.int (iN_shl (by omega))) ?_
                  refine lv_goto (tgt := 75) hx hb dX4_above_71 (by decide) ?_
                  refine lv_ior hx hb dX4_above_75 ?_
                  refine r_set (y := .int (iI ((fp_ao S lo x k (fp_as S lo x k) (o + 1) : Nat) : Int))) (congrArg Value.int ((iN_or _ _).trans (congrArg (fun q : Nat => iI (q : Int)) (fp_ao_s (fp_ab_st c48 (Or.inl (decide_eq_true (by omega))))).symm))) ?_
                  refine lv_istore_n (lv' := [(2, .int (iI ((fp_ao S lo x k (fp_as S lo x k) (o + 1) : Nat) : Int))), (0, .ref (ad 0)), (1, .int (iI ((lo : Nat) : Int))), (3, .int (iI ((x : Nat) : Int))), (4, .int (iI ((k : Nat) : Int))), (5, .int (iI ((o : Nat) : Int)))]) hx hb dX4_above_76 rfl hl (by decide) rfl (fun ls hl => ?_)
                  refine lv_iinc (v := (iI ((o + 1 : Nat) : Int))) (lv' := [(5, .int (iI ((o + 1 : Nat) : Int))), (2, .int (iI ((fp_ao S lo x k (fp_as S lo x k) (o + 1) : Nat) : Int))), (0, .ref (ad 0)), (1, .int (iI ((lo : Nat) : Int))), (3, .int (iI ((x : Nat) : Int))), (4, .int (iI ((k : Nat) : Int)))]) hx hb dX4_above_77 hl (k := 5) rfl (iI_incN _ _) (by decide) rfl (fun ls hl => ?_)
                  refine lv_goto (tgt := 28) hx hb dX4_above_80 (by decide) ?_
                  exact ih28 (by omega) locs ls (lv_sub hl [2, 3, 1, 4, 5, 0] rfl) hS
                · skip
                  refine lv_iload_n hx hb dX4_above_57 rfl (lv_at hl 3 rfl) ?_
                  refine lv_iload hx hb dX4_above_58 (lv_at hl 5 rfl) ?_
                  refine lv_ishr hx hb dX4_above_60 ?_
                  refine lv_iconst (v := (iI ((1 : Nat) : Int))) hx hb dX4_above_61 rfl ?_
                  refine lv_iand hx hb dX4_above_62 ?_
                  refine r_set (y := .int (iI (bI (x.testBit o)))) (congrArg Value.int (iN_bit (by omega) (by omega))) ?_
                  refine lv_iconst (v := (iI ((1 : Nat) : Int))) hx hb dX4_above_63 rfl ?_
                  refine r_icmp_ne (tgt := 74) hx hb (bI_rg _) (by decide) dX4_above_64 (by decide) (fun c64 => ?_) (fun c64 => ?_)
                  · skip
                    have c64 : x.testBit o = false := by cases e : x.testBit o; rfl; exact absurd (by rw [e]; rfl) c64
                    refine lv_iconst (v := (iI ((0 : Nat) : Int))) hx hb dX4_above_74 rfl ?_
                    refine lv_ior hx hb dX4_above_75 ?_
                    refine r_set (y := .int (iI ((fp_ao S lo x k (fp_as S lo x k) (o + 1) : Nat) : Int))) (congrArg Value.int ((iN_or _ _).trans (congrArg (fun q : Nat => iI (q : Int)) (fp_ao_n (fp_ab_sf (Or.inr ⟨decide_eq_false (by omega), c64⟩))).symm))) ?_
                    refine lv_istore_n (lv' := [(2, .int (iI ((fp_ao S lo x k (fp_as S lo x k) (o + 1) : Nat) : Int))), (0, .ref (ad 0)), (1, .int (iI ((lo : Nat) : Int))), (3, .int (iI ((x : Nat) : Int))), (4, .int (iI ((k : Nat) : Int))), (5, .int (iI ((o : Nat) : Int)))]) hx hb dX4_above_76 rfl hl (by decide) rfl (fun ls hl => ?_)
                    refine lv_iinc (v := (iI ((o + 1 : Nat) : Int))) (lv' := [(5, .int (iI ((o + 1 : Nat) : Int))), (2, .int (iI ((fp_ao S lo x k (fp_as S lo x k) (o + 1) : Nat) : Int))), (0, .ref (ad 0)), (1, .int (iI ((lo : Nat) : Int))), (3, .int (iI ((x : Nat) : Int))), (4, .int (iI ((k : Nat) : Int)))]) hx hb dX4_above_77 hl (k := 5) rfl (iI_incN _ _) (by decide) rfl (fun ls hl => ?_)
                    refine lv_goto (tgt := 28) hx hb dX4_above_80 (by decide) ?_
                    exact ih28 (by omega) locs ls (lv_sub hl [2, 3, 1, 4, 5, 0] rfl) hS
                  · skip
                    have c64 : x.testBit o = true := by cases e : x.testBit o; rw [e] at c64; exact absurd c64 (by decide); rfl
                    refine lv_iconst (v := (iI ((1 : Nat) : Int))) hx hb dX4_above_67 rfl ?_
                    refine lv_iload hx hb dX4_above_68 (lv_at hl 4 rfl) ?_
                    refine lv_ishl hx hb dX4_above_70 ?_
                    refine r_set (y := .int (iI ((2 ^ k : Nat) : Int))) (congrArg Value.int (iN_shl (by omega))) ?_
                    refine lv_goto (tgt := 75) hx hb dX4_above_71 (by decide) ?_
                    refine lv_ior hx hb dX4_above_75 ?_
                    refine r_set (y := .int (iI ((fp_ao S lo x k (fp_as S lo x k) (o + 1) : Nat) : Int))) (congrArg Value.int ((iN_or _ _).trans (congrArg (fun q : Nat => iI (q : Int)) (fp_ao_s (fp_ab_st c48 (Or.inr c64))).symm))) ?_
                    refine lv_istore_n (lv' := [(2, .int (iI ((fp_ao S lo x k (fp_as S lo x k) (o + 1) : Nat) : Int))), (0, .ref (ad 0)), (1, .int (iI ((lo : Nat) : Int))), (3, .int (iI ((x : Nat) : Int))), (4, .int (iI ((k : Nat) : Int))), (5, .int (iI ((o : Nat) : Int)))]) hx hb dX4_above_76 rfl hl (by decide) rfl (fun ls hl => ?_)
                    refine lv_iinc (v := (iI ((o + 1 : Nat) : Int))) (lv' := [(5, .int (iI ((o + 1 : Nat) : Int))), (2, .int (iI ((fp_ao S lo x k (fp_as S lo x k) (o + 1) : Nat) : Int))), (0, .ref (ad 0)), (1, .int (iI ((lo : Nat) : Int))), (3, .int (iI ((x : Nat) : Int))), (4, .int (iI ((k : Nat) : Int)))]) hx hb dX4_above_77 hl (k := 5) rfl (iI_incN _ _) (by decide) rfl (fun ls hl => ?_)
                    refine lv_goto (tgt := 28) hx hb dX4_above_80 (by decide) ?_
                    exact ih28 (by omega) locs ls (lv_sub hl [2, 3, 1, 4, 5, 0] rfl) hS
          exact L28 0 (by omega) locs ls (by rw [show Value.int (iI ((fp_ao S lo x k (fp_as S lo x k) 0 : Nat) : Int)) = Value.int (iI ((fp_as S lo x k : Nat) : Int)) from rfl]; exact lv_sub hl [1, 2, 3, 4, 5, 0] rfl) hS
      exact L14 0 (by omega) locs ls (by rw [show Value.int (iI ((fp_as S lo x 0 : Nat) : Int)) = Value.int (iI ((x : Nat) : Int)) from rfl]; exact lv_sub hl [2, 3, 4, 1, 0] rfl) hS
  exact L4 0 (by omega) 0 (-1) locs ls (fp_aw.s0 S lo) (lv_sub hl [2, 3, 1, 0] rfl) hS
set_option maxHeartbeats 4000000 in
theorem c_X4_countAbove (G : fp_G) (ad : Nat → Nat) (sc : Nat → Int) (ar : Nat → Nat → Int) (S : PS) (hA0 : fp_MA G ad) (hV : fp_VR S (ar 5)) (z : Int) (hz : rg z) : fp_M G yX4_countAbove cX4_countAbove 5 (some .int) 5 103 0 0 [.ref (ad 0), .int (iI (z))] (fp_ME G ad sc ar) (fp_ma ad) (fun _ v H => ∃ (r : Int), ∃ (ar2 : Nat → Nat → Int), v = some (.int (iI (r))) ∧ fp_ME G ad (va_up sc 0 (((fp_fc S z : Nat) : Int))) ar2 H ∧ (fp_fc S z = 0 → r = (fp_ct (fp_ab S (fp_fnd S z)) (sN S) : Int)) ∧ (fp_sm0 ar ar2)) := by
  refine fp_M.intro (by decide) (Nat.le_of_ble_eq_true rfl) ?_
  intro pg en s mi ag bl mt cd rR qQ ls X hx hb hr hlk hnm hR hQ hB hM hl
  have hS : va_S (fA (fp_ma ad) s.heap.size) s.heap s.heap [] := va_S.rf
  generalize ([] : List Loc) = locs at hS ⊢
  have hN24 := hV.1.1
  refine lv_aload_n hx hb dX4_countAbove_0 rfl (lv_at hl 0 rfl) ?_
  refine lv_iload_n hx hb dX4_countAbove_1 rfl (lv_at hl 1 rfl) ?_
  refine r_callV (cells1 := 0) (slots1 := 0) X hR (c_X4_finds G ad sc ar S hA0 hV (z) (by omega)) q2179 q2181 qs62 q100 q2182 ⟨rfl, pd_X4_finds⟩ (by decide) rfl rfl (by decide) (by decide) hM.1 rfl rfl (Nat.le_of_ble_eq_true rfl) hl.1 dX4_countAbove_2 (hB.of hS (fp_ma.base hA0)) hM hS (fun _ h => Or.inl h) (fun v H locs hp_1 hzC hkC hS => ?_)
  rcases hp_1 with ⟨kf_2, rfl, hM_6, hkf_3, hkn_4, hkl_5⟩ | ⟨rfl, hM_8, hnf_7⟩
  · skip
    have hM_9 := fp_ME.nrm (sc2 := (va_up sc 0 (((0 : Nat) : Int)))) hM_6 rfl
    refine r_stk (st2 := [.int (iI ((kf_2 : Nat) : Int))]) rfl ?_
    refine lv_istore_n (lv' := [(2, .int (iI ((kf_2 : Nat) : Int))), (0, .ref (ad 0)), (1, .int (iI (z)))]) hx hb dX4_countAbove_5 rfl hl (by decide) rfl (fun ls hl => ?_)
    refine lv_iconst (v := (iI ((0 : Nat) : Int))) hx hb dX4_countAbove_6 rfl ?_
    refine lv_istore_n (lv' := [(3, .int (iI ((0 : Nat) : Int))), (2, .int (iI ((kf_2 : Nat) : Int))), (0, .ref (ad 0)), (1, .int (iI (z)))]) hx hb dX4_countAbove_7 rfl hl (by decide) rfl (fun ls hl => ?_)
    refine lv_iload_n hx hb dX4_countAbove_8 rfl (lv_at hl 1 rfl) ?_
    refine r_if_ge (tgt := 14) hx hb ⟨by omega, by omega⟩ dX4_countAbove_9 (by decide) (fun c9 => ?_) (fun c9 => ?_)
    · skip
      refine lv_aload_n hx hb dX4_countAbove_14 rfl (lv_at hl 2 rfl) ?_
      refine lv_iload_n hx hb dX4_countAbove_15 rfl (lv_at hl 1 rfl) ?_
      refine r_callV (cells1 := 0) (slots1 := 0) X hR (c_X4_above G ad (va_up sc 0 (((0 : Nat) : Int))) ar S hA0 hV kf_2 (by omega)) q2342 q2344 qs71 q100 q2345 ⟨rfl, pd_X4_above⟩ (by decide) rfl rfl (by decide) (by decide) hM_9.1 rfl rfl (Nat.le_of_ble_eq_true rfl) hl.1 dX4_countAbove_16 (hB.of hS (fp_ma.base hA0)) hM_9 hS (fun _ h => Or.inl h) (fun v H locs hp_10 hzC hkC hS => ?_)
      obtain ⟨x_11, rfl, hM_14, hx24_12, hxb_13⟩ := hp_10
      refine r_stk (st2 := [.int (iI ((x_11 : Nat) : Int))]) rfl ?_
      have hx31 := Nat.lt_trans hx24_12 (show 16777216 < 2147483648 by decide)
      refine lv_istore (lv' := [(4, .int (iI ((x_11 : Nat) : Int))), (3, .int (iI ((0 : Nat) : Int))), (2, .int (iI ((kf_2 : Nat) : Int))), (0, .ref (ad 0)), (1, .int (iI (z)))]) hx hb dX4_countAbove_19 hl (by decide) rfl (fun ls hl => ?_)
      have L21 : ∀ (n : Nat), n ≤ 32 → ∀ (x : Nat) (locs : List Loc) (ls : Array Slot),(fp_pst x n (fp_ct (fp_ab S kf_2) (sN S))) → lv_has ls 5 [(0, .ref (ad 0)), (1, .int (iI (z))), (2, .int (iI ((kf_2 : Nat) : Int))), (3, .int (iI ((n : Nat) : Int))), (4, .int (iI ((x : Nat) : Int)))] → va_S (fA (fp_ma ad) s.heap.size) s.heap H locs → W pg (g_l G) en rR s mi ag bl mt cd H locs 0 0 qQ (F0 mi 21 ls []) := by
        refine lp_up 32 ?_
        intro n hk21 ih21 x locs ls hps hl hS
        have hpb := hps.b (Nat.le_trans (fp_ct_le _ _) (Nat.le_trans hN24 (by decide)))
        refine lv_iload hx hb dX4_countAbove_21 (lv_at hl 4 rfl) ?_
        refine r_if_eq (tgt := 41) hx hb ⟨by omega, by omega⟩ dX4_countAbove_23 (by decide) (fun c23 => ?_) (fun c23 => ?_)
        · skip
          refine lv_iload_n hx hb dX4_countAbove_41 rfl (lv_at hl 3 rfl) ?_
          refine r_iret hx hb hr hlk hQ hS (Nat.le_of_ble_eq_true rfl) (Nat.le_of_ble_eq_true rfl) dX4_countAbove_42 ?_
          exact ⟨((n : Nat) : Int), ar, rfl, (by rw [show fp_fc S z = 0 from fp_fc_0 hkl_5 hkf_3]; exact hM_14.nrm rfl), (fun _ => (congrArg (fun q : Nat => (q : Int)) ((hps.z (by omega)).trans (by rw [hkl_5])))), (fun k hk => by simp [fp_scr] at hk; by_cases e5 : k = 5 <;> simp_all [va_up])⟩
        · skip
          refine lv_iinc (v := (iI ((n + 1 : Nat) : Int))) (lv' := [(3, .int (iI ((n + 1 : Nat) : Int))), (0, .ref (ad 0)), (1, .int (iI (z))), (2, .int (iI ((kf_2 : Nat) : Int))), (4, .int (iI ((x : Nat) : Int)))]) hx hb dX4_countAbove_26 hl (k := 3) rfl (iI_incN _ _) (by decide) rfl (fun ls hl => ?_)
          refine lv_iload hx hb dX4_countAbove_29 (lv_at hl 4 rfl) ?_
          refine lv_iload hx hb dX4_countAbove_31 (lv_at hl 4 rfl) ?_
          refine lv_iconst (v := (iI ((1 : Nat) : Int))) hx hb dX4_countAbove_33 rfl ?_
          refine r_isub hx hb dX4_countAbove_34 ?_
          refine r_set (y := .int (iI ((x - 1 : Nat) : Int))) (congrArg (fun q : Int => Value.int (iI q)) (by omega)) ?_
          refine lv_iand hx hb dX4_countAbove_35 ?_
          refine r_set (y := .int (iI ((x &&& (x - 1) : Nat) : Int))) (congrArg Value.int (iN_and _ _)) ?_
          refine lv_istore (lv' := [(4, .int (iI ((x &&& (x - 1) : Nat) : Int))), (3, .int (iI ((n + 1 : Nat) : Int))), (0, .ref (ad 0)), (1, .int (iI (z))), (2, .int (iI ((kf_2 : Nat) : Int)))]) hx hb dX4_countAbove_36 hl (by decide) rfl (fun ls hl => ?_)
          refine lv_goto (tgt := 21) hx hb dX4_countAbove_38 (by decide) ?_
          exact ih21 (by omega) (x &&& (x - 1)) locs ls (hps.step (by omega)) (lv_sub hl [2, 3, 4, 1, 0] rfl) hS
      exact L21 0 (by omega) x_11 locs ls (⟨Nat.lt_trans hx24_12 (by decide), by have := fp_ab_pop hV.1.1 hxb_13; exact this⟩) (lv_sub hl [3, 4, 2, 1, 0] rfl) hS
    · exact absurd c9 (by omega)
  · skip
    have hM_15 := fp_ME.nrm (sc2 := (va_up sc 0 (((1 : Nat) : Int)))) hM_8 rfl
    refine r_stk (st2 := [.int (iI (-1))]) rfl ?_
    refine lv_istore_n (lv' := [(2, .int (iI (-1))), (0, .ref (ad 0)), (1, .int (iI (z)))]) hx hb dX4_countAbove_5 rfl hl (by decide) rfl (fun ls hl => ?_)
    refine lv_iconst (v := (iI ((0 : Nat) : Int))) hx hb dX4_countAbove_6 rfl ?_
    refine lv_istore_n (lv' := [(3, .int (iI ((0 : Nat) : Int))), (2, .int (iI (-1))), (0, .ref (ad 0)), (1, .int (iI (z)))]) hx hb dX4_countAbove_7 rfl hl (by decide) rfl (fun ls hl => ?_)
    refine lv_iload_n hx hb dX4_countAbove_8 rfl (lv_at hl 1 rfl) ?_
    refine r_if_ge (tgt := 14) hx hb (by decide) dX4_countAbove_9 (by decide) (fun c9 => ?_) (fun c9 => ?_)
    · exact absurd c9 (by omega)
    · skip
      refine lv_iconst (v := (iI ((0 : Nat) : Int))) hx hb dX4_countAbove_12 rfl ?_
      refine r_iret hx hb hr hlk hQ hS (Nat.le_of_ble_eq_true rfl) (Nat.le_of_ble_eq_true rfl) dX4_countAbove_13 ?_
      exact ⟨((0 : Nat) : Int), ar, rfl, (by rw [show fp_fc S z = 1 from fp_fc_1 hnf_7]; exact hM_15.nrm rfl), (fun z0 => absurd ((show fp_fc S z = 1 from fp_fc_1 hnf_7).symm.trans z0) (by decide)), (fun k hk => by simp [fp_scr] at hk; by_cases e5 : k = 5 <;> simp_all [va_up])⟩
set_option maxHeartbeats 4000000 in
theorem c_X4_isAbove (G : fp_G) (ad : Nat → Nat) (sc : Nat → Int) (ar : Nat → Nat → Int) (S : PS) (hA0 : fp_MA G ad) (hV : fp_VR S (ar 5)) (z : Int) (z2 : Int) (hz : rg z) (hz2 : rg z2) : fp_M G yX4_isAbove cX4_isAbove 5 (some .boolean) 5 103 0 0 [.ref (ad 0), .int (iI (z)), .int (iI (z2))] (fp_ME G ad sc ar) (fp_ma ad) (fun _ v H => ∃ (r : Bool), ∃ (ar2 : Nat → Nat → Int), v = some (.int (iI (bI (r)))) ∧ fp_ME G ad (va_up sc 0 (((fp_fc2 S z z2 : Nat) : Int))) ar2 H ∧ (fp_fc2 S z z2 = 0 → r = fp_ab S (fp_fnd S z2) (fp_fnd S z)) ∧ (fp_sm0 ar ar2)) := by
  refine fp_M.intro (by decide) (Nat.le_of_ble_eq_true rfl) ?_
  intro pg en s mi ag bl mt cd rR qQ ls X hx hb hr hlk hnm hR hQ hB hM hl
  have hS : va_S (fA (fp_ma ad) s.heap.size) s.heap s.heap [] := va_S.rf
  generalize ([] : List Loc) = locs at hS ⊢
  have hN24 := hV.1.1
  refine lv_aload_n hx hb dX4_isAbove_0 rfl (lv_at hl 0 rfl) ?_
  refine lv_iload_n hx hb dX4_isAbove_1 rfl (lv_at hl 1 rfl) ?_
  refine r_callV (cells1 := 0) (slots1 := 0) X hR (c_X4_finds G ad sc ar S hA0 hV (z) (by omega)) q2179 q2181 qs62 q100 q2182 ⟨rfl, pd_X4_finds⟩ (by decide) rfl rfl (by decide) (by decide) hM.1 rfl rfl (Nat.le_of_ble_eq_true rfl) hl.1 dX4_isAbove_2 (hB.of hS (fp_ma.base hA0)) hM hS (fun _ h => Or.inl h) (fun v H locs hp_1 hzC hkC hS => ?_)
  rcases hp_1 with ⟨kf_2, rfl, hM_6, hkf_3, hkn_4, hkl_5⟩ | ⟨rfl, hM_8, hnf_7⟩
  · skip
    have hM_9 := fp_ME.nrm (sc2 := (va_up sc 0 (((0 : Nat) : Int)))) hM_6 rfl
    refine r_stk (st2 := [.int (iI ((kf_2 : Nat) : Int))]) rfl ?_
    refine lv_istore_n (lv' := [(3, .int (iI ((kf_2 : Nat) : Int))), (0, .ref (ad 0)), (1, .int (iI (z))), (2, .int (iI (z2)))]) hx hb dX4_isAbove_5 rfl hl (by decide) rfl (fun ls hl => ?_)
    refine lv_iload_n hx hb dX4_isAbove_6 rfl (lv_at hl 0 rfl) ?_
    refine r_if_ge (tgt := 14) hx hb ⟨by omega, by omega⟩ dX4_isAbove_7 (by decide) (fun c7 => ?_) (fun c7 => ?_)
    · skip
      refine lv_aload_n hx hb dX4_isAbove_14 rfl (lv_at hl 1 rfl) ?_
      refine lv_iload_n hx hb dX4_isAbove_15 rfl (lv_at hl 3 rfl) ?_
      refine r_callV (cells1 := 0) (slots1 := 0) X hR (c_X4_finds G ad (va_up sc 0 (((0 : Nat) : Int))) ar S hA0 hV (z2) hz2) q2179 q2181 qs62 q100 q2182 ⟨rfl, pd_X4_finds⟩ (by decide) rfl rfl (by decide) (by decide) hM_9.1 rfl rfl (Nat.le_of_ble_eq_true rfl) hl.1 dX4_isAbove_16 (hB.of hS (fp_ma.base hA0)) hM_9 hS (fun _ h => Or.inl h) (fun v H locs hp_10 hzC hkC hS => ?_)
      rcases hp_10 with ⟨kf_11, rfl, hM_15, hkf_12, hkn_13, hkl_14⟩ | ⟨rfl, hM_17, hnf_16⟩
      · skip
        have hM_18 := fp_ME.nrm (sc2 := (va_up sc 0 (((0 : Nat) : Int)))) hM_15 rfl
        refine r_stk (st2 := [.int (iI ((kf_11 : Nat) : Int))]) rfl ?_
        refine lv_istore (lv' := [(4, .int (iI ((kf_11 : Nat) : Int))), (3, .int (iI ((kf_2 : Nat) : Int))), (0, .ref (ad 0)), (1, .int (iI (z))), (2, .int (iI (z2)))]) hx hb dX4_isAbove_19 hl (by decide) rfl (fun ls hl => ?_)
        refine lv_iload hx hb dX4_isAbove_21 (lv_at hl 0 rfl) ?_
        refine r_if_lt (tgt := 44) hx hb ⟨by omega, by omega⟩ dX4_isAbove_23 (by decide) (fun c23 => ?_) (fun c23 => ?_)
        · exact absurd c23 (by omega)
        · skip
          refine lv_aload_n hx hb dX4_isAbove_26 rfl (lv_at hl 2 rfl) ?_
          refine lv_iload hx hb dX4_isAbove_27 (lv_at hl 0 rfl) ?_
          refine r_callV (cells1 := 0) (slots1 := 0) X hR (c_X4_above G ad (va_up sc 0 (((0 : Nat) : Int))) ar S hA0 hV kf_11 (by omega)) q2342 q2344 qs71 q100 q2345 ⟨rfl, pd_X4_above⟩ (by decide) rfl rfl (by decide) (by decide) hM_18.1 rfl rfl (Nat.le_of_ble_eq_true rfl) hl.1 dX4_isAbove_29 (hB.of hS (fp_ma.base hA0)) hM_18 hS (fun _ h => Or.inl h) (fun v H locs hp_19 hzC hkC hS => ?_)
          obtain ⟨x_20, rfl, hM_23, hx24_21, hxb_22⟩ := hp_19
          refine r_stk (st2 := [.int (iI ((x_20 : Nat) : Int))]) rfl ?_
          refine lv_iload_n hx hb dX4_isAbove_32 rfl (lv_at hl 1 rfl) ?_
          refine lv_ishr hx hb dX4_isAbove_33 ?_
          refine lv_iconst (v := (iI ((1 : Nat) : Int))) hx hb dX4_isAbove_34 rfl ?_
          refine lv_iand hx hb dX4_isAbove_35 ?_
          have hx31 := Nat.lt_trans hx24_21 (show 16777216 < 2147483648 by decide)
          refine r_set (y := .int (iI (bI (x_20.testBit kf_2)))) (congrArg Value.int (iN_bit hx31 (by omega))) ?_
          refine lv_iconst (v := (iI ((1 : Nat) : Int))) hx hb dX4_isAbove_36 rfl ?_
          refine r_icmp_ne (tgt := 44) hx hb (bI_rg _) (by decide) dX4_isAbove_37 (by decide) (fun c37 => ?_) (fun c37 => ?_)
          · skip
            have cb : x_20.testBit kf_2 = false := by cases e : x_20.testBit kf_2; rfl; exact absurd (by rw [e]; rfl) c37
            refine lv_iconst (v := (iI ((0 : Nat) : Int))) hx hb dX4_isAbove_44 rfl ?_
            refine r_zret hx hb hr hlk hQ hS (Nat.le_of_ble_eq_true rfl) (Nat.le_of_ble_eq_true rfl) dX4_isAbove_45 rfl ?_
            exact ⟨false, ar, rfl, (by rw [show fp_fc2 S z z2 = 0 from if_pos ⟨by rw [hkl_5]; exact hkf_3, by rw [hkl_14]; exact hkf_12⟩]; exact hM_23.nrm rfl), (fun _ => (by have e := hxb_22 kf_2; rw [decide_eq_true hkf_3, Bool.true_and, cb] at e; rw [hkl_14, hkl_5]; exact e)), (fun k hk => by simp [fp_scr] at hk; by_cases e5 : k = 5 <;> simp_all [va_up])⟩
          · skip
            have cb : x_20.testBit kf_2 = true := by cases e : x_20.testBit kf_2; rw [e] at c37; exact absurd c37 (by decide); rfl
            refine lv_iconst (v := (iI ((1 : Nat) : Int))) hx hb dX4_isAbove_40 rfl ?_
            refine lv_goto (tgt := 45) hx hb dX4_isAbove_41 (by decide) ?_
            refine r_zret hx hb hr hlk hQ hS (Nat.le_of_ble_eq_true rfl) (Nat.le_of_ble_eq_true rfl) dX4_isAbove_45 rfl ?_
            exact ⟨true, ar, rfl, (by rw [show fp_fc2 S z z2 = 0 from if_pos ⟨by rw [hkl_5]; exact hkf_3, by rw [hkl_14]; exact hkf_12⟩]; exact hM_23.nrm rfl), (fun _ => (by have e := hxb_22 kf_2; rw [decide_eq_true hkf_3, Bool.true_and, cb] at e; rw [hkl_14, hkl_5]; exact e)), (fun k hk => by simp [fp_scr] at hk; by_cases e5 : k = 5 <;> simp_all [va_up])⟩
      · skip
        have hM_24 := fp_ME.nrm (sc2 := (va_up sc 0 (((1 : Nat) : Int)))) hM_17 rfl
        refine r_stk (st2 := [.int (iI (-1))]) rfl ?_
        refine lv_istore (lv' := [(4, .int (iI (-1))), (3, .int (iI ((kf_2 : Nat) : Int))), (0, .ref (ad 0)), (1, .int (iI (z))), (2, .int (iI (z2)))]) hx hb dX4_isAbove_19 hl (by decide) rfl (fun ls hl => ?_)
        refine lv_iload hx hb dX4_isAbove_21 (lv_at hl 0 rfl) ?_
        refine r_if_lt (tgt := 44) hx hb (by decide) dX4_isAbove_23 (by decide) (fun c23 => ?_) (fun c23 => ?_)
        · skip
          refine lv_iconst (v := (iI ((0 : Nat) : Int))) hx hb dX4_isAbove_44 rfl ?_
          refine r_zret hx hb hr hlk hQ hS (Nat.le_of_ble_eq_true rfl) (Nat.le_of_ble_eq_true rfl) dX4_isAbove_45 rfl ?_
          exact ⟨false, ar, rfl, (by rw [show fp_fc2 S z z2 = 1 from if_neg (fun q => by rw [hnf_16] at q; exact absurd q.2 (Nat.lt_irrefl _))]; exact hM_24.nrm rfl), (fun z0 => absurd ((show fp_fc2 S z z2 = 1 from if_neg (fun q => by rw [hnf_16] at q; exact absurd q.2 (Nat.lt_irrefl _))).symm.trans z0) (by decide)), (fun k hk => by simp [fp_scr] at hk; by_cases e5 : k = 5 <;> simp_all [va_up])⟩
        · exact absurd c23 (by omega)
    · exact absurd c7 (by omega)
  · skip
    have hM_25 := fp_ME.nrm (sc2 := (va_up sc 0 (((1 : Nat) : Int)))) hM_8 rfl
    refine r_stk (st2 := [.int (iI (-1))]) rfl ?_
    refine lv_istore_n (lv' := [(3, .int (iI (-1))), (0, .ref (ad 0)), (1, .int (iI (z))), (2, .int (iI (z2)))]) hx hb dX4_isAbove_5 rfl hl (by decide) rfl (fun ls hl => ?_)
    refine lv_iload_n hx hb dX4_isAbove_6 rfl (lv_at hl 0 rfl) ?_
    refine r_if_ge (tgt := 14) hx hb (by decide) dX4_isAbove_7 (by decide) (fun c7 => ?_) (fun c7 => ?_)
    · exact absurd c7 (by omega)
    · skip
      refine lv_iconst (v := (iI (-1))) hx hb dX4_isAbove_10 rfl ?_
      refine lv_goto (tgt := 19) hx hb dX4_isAbove_11 (by decide) ?_
      refine lv_istore (lv' := [(4, .int (iI (-1))), (3, .int (iI (-1))), (0, .ref (ad 0)), (1, .int (iI (z))), (2, .int (iI (z2)))]) hx hb dX4_isAbove_19 hl (by decide) rfl (fun ls hl => ?_)
      refine lv_iload hx hb dX4_isAbove_21 (lv_at hl 0 rfl) ?_
      refine r_if_lt (tgt := 44) hx hb (by decide) dX4_isAbove_23 (by decide) (fun c23 => ?_) (fun c23 => ?_)
      · skip
        refine lv_iconst (v := (iI ((0 : Nat) : Int))) hx hb dX4_isAbove_44 rfl ?_
        refine r_zret hx hb hr hlk hQ hS (Nat.le_of_ble_eq_true rfl) (Nat.le_of_ble_eq_true rfl) dX4_isAbove_45 rfl ?_
        exact ⟨false, ar, rfl, (by rw [show fp_fc2 S z z2 = 1 from if_neg (fun q => by rw [hnf_7] at q; exact absurd q.1 (Nat.lt_irrefl _))]; exact hM_25.nrm rfl), (fun z0 => absurd ((show fp_fc2 S z z2 = 1 from if_neg (fun q => by rw [hnf_7] at q; exact absurd q.1 (Nat.lt_irrefl _))).symm.trans z0) (by decide)), (fun k hk => by simp [fp_scr] at hk; by_cases e5 : k = 5 <;> simp_all [va_up])⟩
      · exact absurd c23 (by omega)
