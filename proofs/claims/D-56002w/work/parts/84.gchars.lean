/-! INTEGER: getChars -/
set_option maxRecDepth 100000
theorem fp_dgp (n : Nat) : 1 ≤ sb_dg n := by
  unfold sb_dg
  (repeat' split) <;> omega
theorem fp_dg100b {w : Nat} (h : 100 ≤ w) : 3 ≤ sb_dg w := by
  unfold sb_dg
  (repeat' split) <;> omega
theorem fp_dg2b {w : Nat} (h : 10 ≤ w) : 2 ≤ sb_dg w := by
  unfold sb_dg
  (repeat' split) <;> omega
theorem fp_dg1b {w : Nat} (h : w < 10) : sb_dg w = 1 := by
  unfold sb_dg
  rw [if_pos h]

set_option maxRecDepth 100000
set_option maxHeartbeats 4000000 in
theorem c_J22_getChars (G : fp_G) (z : Nat) (p : Nat) (b : Nat) (c : Nat) (f : Nat → Int) (hz9 : z < 1000000000) (hpz : sb_dg z ≤ p) (hpc : p ≤ c) (hcn : c ≤ 1000000) (hbb : (g_s G).heap.size ≤ b) : fp_M G yJ22_getChars cJ22_getChars 7 (some .int) 1 12 0 0 [.int (iI ((z : Nat) : Int)), .int (iI ((p : Nat) : Int)), .ref (b)] (fun H => fp_At G H b (eB G c (fun j => iI (f j)))) (fun q => (g_s G).heap.size ≤ q ∧ (q = b)) (fun H v H1 => ∃ (g : Nat → Int), v = some (.int (iI ((p - sb_dg z : Nat) : Int))) ∧ (fp_dp z p (sb_dg z) f g) ∧ fp_At G H1 b (eB G c (fun j => iI (g j)))) := by
  refine fp_M.intro (by decide) (Nat.le_of_ble_eq_true rfl) ?_
  intro pg en s mi ag bl mt cd rR qQ ls X hx hb hr hlk hnm hR hQ hB hM hl
  have hS : va_S (fA (fun q => (g_s G).heap.size ≤ q ∧ (q = b)) s.heap.size) s.heap s.heap [] := va_S.rf
  generalize ([] : List Loc) = locs at hS ⊢
  have hb0 := hB.1
  have hAb : ∀ q, (fun q => (g_s G).heap.size ≤ q ∧ (q = b)) q → (g_s G).heap.size ≤ q := fun q h => h.1
  have h_a := hM
  have hsz0 := hS.1
  have lt_1 := h_a.lt
  refine lv_iload_n hx hb dJ22_getChars_0 rfl (lv_at hl 1 rfl) ?_
  refine lv_istore (lv' := [(5, .int (iI ((p : Nat) : Int))), (0, .int (iI ((z : Nat) : Int))), (1, .int (iI ((p : Nat) : Int))), (2, .ref (b))]) hx hb dJ22_getChars_1 hl (by decide) rfl (fun ls hl => ?_)
  refine lv_iload_n hx hb dJ22_getChars_3 rfl (lv_at hl 1 rfl) ?_
  refine r_if_ge (tgt := 11) hx hb ⟨by omega, by omega⟩ dJ22_getChars_4 (by decide) (fun c4 => ?_) (fun c4 => ?_)
  · skip
    refine lv_iconst (v := (iI ((0 : Nat) : Int))) hx hb dJ22_getChars_11 rfl ?_
    refine lv_istore (lv' := [(6, .int (iI ((0 : Nat) : Int))), (5, .int (iI ((p : Nat) : Int))), (0, .int (iI ((z : Nat) : Int))), (1, .int (iI ((p : Nat) : Int))), (2, .ref (b))]) hx hb dJ22_getChars_12 hl (by decide) rfl (fun ls hl => ?_)
    refine lv_iload hx hb dJ22_getChars_14 (lv_at hl 0 rfl) ?_
    refine r_if_ne (tgt := 22) hx hb (by decide) dJ22_getChars_16 (by decide) (fun c16 => ?_) (fun c16 => ?_)
    · exact absurd c16 (by omega)
    · skip
      refine lv_iload_n hx hb dJ22_getChars_19 rfl (lv_at hl 2 rfl) ?_
      refine r_ineg hx hb dJ22_getChars_20 ?_
      refine lv_istore_n (lv' := [(0, .int (iI (-((z : Nat) : Int)))), (6, .int (iI ((0 : Nat) : Int))), (5, .int (iI ((p : Nat) : Int))), (1, .int (iI ((p : Nat) : Int))), (2, .ref (b))]) hx hb dJ22_getChars_21 rfl hl (by decide) rfl (fun ls hl => ?_)
      have L22 : ∀ (k : Nat), k ≤ 9 → ∀ (g : Nat → Int) (H_2 : Heap) (locs : List Loc) (ls : Array Slot), lv_has ls 7 [(0, .int (iI (-((fp_hw z k : Nat) : Int)))), (1, .int (iI ((p : Nat) : Int))), (2, .ref (b)), (5, .int (iI ((p - 2 * k : Nat) : Int))), (6, .int (iI ((0 : Nat) : Int)))] → va_S (fA (fun q => (g_s G).heap.size ≤ q ∧ (q = b)) s.heap.size) s.heap H_2 locs → (fp_dp z p (2 * k) f g) → (sb_dg z = 2 * k + sb_dg (fp_hw z k)) → (s.heap.size ≤ H_2.size) → fp_At G H_2 b (eB G c (fun j => iI (g j))) → W pg (g_l G) en rR s mi ag bl mt cd H_2 locs 0 0 qQ (F0 mi 22 ls []) := by
        refine lp_up 9 ?_
        intro k hk22 ih22 g H_2 locs ls hl hS hdp hdz hz_3 hE_4
        have hz_5 := hS.1
        have lt_6 := hE_4.lt
        have hwl := fp_hw_le z k
        have hd9 := fp_dg9 hz9
        have hd1 := fp_dgp (fp_hw z k)
        have hws := fp_hw_s z k
        refine lv_iload_n hx hb dJ22_getChars_22 rfl (lv_at hl 0 rfl) ?_
        refine lv_bipush (v := (iI (-100))) hx hb dJ22_getChars_23 rfl ?_
        refine r_icmp_gt (tgt := 72) hx hb ⟨by omega, by omega⟩ (by decide) dJ22_getChars_25 (by decide) (fun c25 => ?_) (fun c25 => ?_)
        · skip
          refine lv_aload_n hx hb dJ22_getChars_72 rfl (lv_at hl 2 rfl) ?_
          refine lv_iinc (v := (iI (((p - 2 * k : Nat) : Int) + (-1)))) (lv' := [(5, .int (iI (((p - 2 * k : Nat) : Int) + (-1)))), (0, .int (iI (-((fp_hw z k : Nat) : Int)))), (1, .int (iI ((p : Nat) : Int))), (2, .ref (b)), (6, .int (iI ((0 : Nat) : Int)))]) hx hb dJ22_getChars_73 hl (k := 3) rfl (iI_add _ _) (by decide) rfl (fun ls hl => ?_)
          refine lv_iload hx hb dJ22_getChars_76 (lv_at hl 0 rfl) ?_
          refine r_gets X hB hAb hS q714 (lw_all_tbl q120) (X.2.2.2.2.2.dO hB hAb).2.1 q713 rfl dJ22_getChars_78 ?_
          refine lv_iload_n hx hb dJ22_getChars_81 rfl (lv_at hl 1 rfl) ?_
          refine r_ineg hx hb dJ22_getChars_82 ?_
          refine r_tbld X (X.2.2.2.2.2.dO hB (fA.base hAb hB.1)).1 hS (j := fp_hw z k) (by omega) (by omega) (by decide) rfl dJ22_getChars_83 ?_
          refine r_bastI X hE_4 hS (Or.inl ⟨by omega, rfl⟩) (j := p - 1 - 2 * k) (by omega) (by omega) (by omega) ⟨by omega, by omega⟩ dJ22_getChars_84 (fun H_10 locs hE_7 hz_8 hq_9 hS => ?_)
          have hz_11 := hS.1
          have hE_12 : fp_At G H_10 b (eB G c (fun j => iI ((va_up g (p - 1 - 2 * k) ((48 + (fp_hw z k) % 10 : Nat) : Int)) j))) := hE_7.updB
          refine lv_iload_n hx hb dJ22_getChars_85 rfl (lv_at hl 1 rfl) ?_
          refine lv_bipush (v := (iI (-9))) hx hb dJ22_getChars_86 rfl ?_
          refine r_icmp_ge (tgt := 104) hx hb ⟨by omega, by omega⟩ (by decide) dJ22_getChars_88 (by decide) (fun c88 => ?_) (fun c88 => ?_)
          · skip
            have hd3 := fp_dg1b (w := fp_hw z k) (by omega)
            refine lv_iload hx hb dJ22_getChars_104 (lv_at hl 4 rfl) ?_
            refine r_if_eq (tgt := 118) hx hb (by decide) dJ22_getChars_106 (by decide) (fun c106 => ?_) (fun c106 => ?_)
            · skip
              refine lv_iload hx hb dJ22_getChars_118 (lv_at hl 0 rfl) ?_
              refine r_iret hx hb hr hlk hQ hS (Nat.le_of_ble_eq_true rfl) (Nat.le_of_ble_eq_true rfl) dJ22_getChars_120 ?_
              exact ⟨(va_up g (p - 1 - 2 * k) ((48 + (fp_hw z k) % 10 : Nat) : Int)), (congrArg (fun q : Int => some (Value.int (iI q))) (by omega)), (by rw [show sb_dg z = 2 * k + 1 by omega]; exact (hdp.s (k := 2 * k) (by omega) (by rw [fp_hw_o]))), hE_12⟩
            · exact absurd c106 (by omega)
          · skip
            have hd2 := fp_dg2b (w := fp_hw z k) (by omega)
            refine lv_aload_n hx hb dJ22_getChars_91 rfl (lv_at hl 3 rfl) ?_
            refine lv_iinc (v := (iI ((((p - 2 * k : Nat) : Int) + (-1)) + (-1)))) (lv' := [(5, .int (iI ((((p - 2 * k : Nat) : Int) + (-1)) + (-1)))), (0, .int (iI (-((fp_hw z k : Nat) : Int)))), (1, .int (iI ((p : Nat) : Int))), (2, .ref (b)), (6, .int (iI ((0 : Nat) : Int)))]) hx hb dJ22_getChars_92 hl (k := 0) rfl (iI_add _ _) (by decide) rfl (fun ls hl => ?_)
            refine lv_iload hx hb dJ22_getChars_95 (lv_at hl 0 rfl) ?_
            refine r_gets X hB hAb hS q716 (lw_all_tbl q120) (X.2.2.2.2.2.dT hB hAb).2.1 q715 rfl dJ22_getChars_97 ?_
            refine lv_iload_n hx hb dJ22_getChars_100 rfl (lv_at hl 1 rfl) ?_
            refine r_ineg hx hb dJ22_getChars_101 ?_
            refine r_tbld X (X.2.2.2.2.2.dT hB (fA.base hAb hB.1)).1 hS (j := fp_hw z k) (by omega) (by omega) (by decide) rfl dJ22_getChars_102 ?_
            refine r_bastI X hE_12 hS (Or.inl ⟨by omega, rfl⟩) (j := p - 1 - (2 * k + 1)) (by omega) (by omega) (by omega) ⟨by omega, by omega⟩ dJ22_getChars_103 (fun H_16 locs hE_13 hz_14 hq_15 hS => ?_)
            have hz_17 := hS.1
            have hE_18 : fp_At G H_16 b (eB G c (fun j => iI ((va_up (va_up g (p - 1 - 2 * k) ((48 + (fp_hw z k) % 10 : Nat) : Int)) (p - 1 - (2 * k + 1)) ((48 + (fp_hw z k) / 10 : Nat) : Int)) j))) := hE_13.updB
            have hd3 := fp_dg2 (n := fp_hw z k) (by omega)
            refine lv_iload hx hb dJ22_getChars_104 (lv_at hl 4 rfl) ?_
            refine r_if_eq (tgt := 118) hx hb (by decide) dJ22_getChars_106 (by decide) (fun c106 => ?_) (fun c106 => ?_)
            · skip
              refine lv_iload hx hb dJ22_getChars_118 (lv_at hl 0 rfl) ?_
              refine r_iret hx hb hr hlk hQ hS (Nat.le_of_ble_eq_true rfl) (Nat.le_of_ble_eq_true rfl) dJ22_getChars_120 ?_
              exact ⟨(va_up (va_up g (p - 1 - 2 * k) ((48 + (fp_hw z k) % 10 : Nat) : Int)) (p - 1 - (2 * k + 1)) ((48 + (fp_hw z k) / 10 : Nat) : Int)), (congrArg (fun q : Int => some (Value.int (iI q))) (by omega)), (by rw [show sb_dg z = 2 * k + 1 + 1 by omega]; exact ((hdp.s (k := 2 * k) (by omega) (by rw [fp_hw_o])).s (k := 2 * k + 1) (by omega) (by rw [fp_hw_t]; omega))), hE_18⟩
            · exact absurd c106 (by omega)
        · skip
          have hd100 := fp_dg100b (w := fp_hw z k) (by omega)
          refine lv_iload_n hx hb dJ22_getChars_28 rfl (lv_at hl 0 rfl) ?_
          refine lv_bipush (v := (iI ((100 : Nat) : Int))) hx hb dJ22_getChars_29 rfl ?_
          refine lv_idiv hx hb dJ22_getChars_31 (by decide) ?_
          refine r_set (y := .int (iI (-((fp_hw z k / 100 : Nat) : Int)))) (congrArg Value.int (fp_divn (by omega))) ?_
          refine lv_istore_n (lv' := [(3, .int (iI (-((fp_hw z k / 100 : Nat) : Int)))), (0, .int (iI (-((fp_hw z k : Nat) : Int)))), (1, .int (iI ((p : Nat) : Int))), (2, .ref (b)), (5, .int (iI ((p - 2 * k : Nat) : Int))), (6, .int (iI ((0 : Nat) : Int)))]) hx hb dJ22_getChars_32 rfl hl (by decide) rfl (fun ls hl => ?_)
          refine lv_iload_n hx hb dJ22_getChars_33 rfl (lv_at hl 0 rfl) ?_
          refine lv_bipush (v := (iI ((100 : Nat) : Int))) hx hb dJ22_getChars_34 rfl ?_
          refine r_imul hx hb dJ22_getChars_36 ?_
          refine lv_iload_n hx hb dJ22_getChars_37 rfl (lv_at hl 1 rfl) ?_
          refine r_isub hx hb dJ22_getChars_38 ?_
          refine r_set (y := .int (iI ((fp_hw z k % 100 : Nat) : Int))) (congrArg (fun q : Int => Value.int (iI q)) (by omega)) ?_
          refine lv_istore (lv' := [(4, .int (iI ((fp_hw z k % 100 : Nat) : Int))), (3, .int (iI (-((fp_hw z k / 100 : Nat) : Int)))), (0, .int (iI (-((fp_hw z k : Nat) : Int)))), (1, .int (iI ((p : Nat) : Int))), (2, .ref (b)), (5, .int (iI ((p - 2 * k : Nat) : Int))), (6, .int (iI ((0 : Nat) : Int)))]) hx hb dJ22_getChars_39 hl (by decide) rfl (fun ls hl => ?_)
          refine lv_iload_n hx hb dJ22_getChars_41 rfl (lv_at hl 1 rfl) ?_
          refine lv_istore_n (lv' := [(0, .int (iI (-((fp_hw z k / 100 : Nat) : Int)))), (4, .int (iI ((fp_hw z k % 100 : Nat) : Int))), (3, .int (iI (-((fp_hw z k / 100 : Nat) : Int)))), (1, .int (iI ((p : Nat) : Int))), (2, .ref (b)), (5, .int (iI ((p - 2 * k : Nat) : Int))), (6, .int (iI ((0 : Nat) : Int)))]) hx hb dJ22_getChars_42 rfl hl (by decide) rfl (fun ls hl => ?_)
          refine lv_aload_n hx hb dJ22_getChars_43 rfl (lv_at hl 4 rfl) ?_
          refine lv_iinc (v := (iI (((p - 2 * k : Nat) : Int) + (-1)))) (lv' := [(5, .int (iI (((p - 2 * k : Nat) : Int) + (-1)))), (0, .int (iI (-((fp_hw z k / 100 : Nat) : Int)))), (4, .int (iI ((fp_hw z k % 100 : Nat) : Int))), (3, .int (iI (-((fp_hw z k / 100 : Nat) : Int)))), (1, .int (iI ((p : Nat) : Int))), (2, .ref (b)), (6, .int (iI ((0 : Nat) : Int)))]) hx hb dJ22_getChars_44 hl (k := 5) rfl (iI_add _ _) (by decide) rfl (fun ls hl => ?_)
          refine lv_iload hx hb dJ22_getChars_47 (lv_at hl 0 rfl) ?_
          refine r_gets X hB hAb hS q714 (lw_all_tbl q120) (X.2.2.2.2.2.dO hB hAb).2.1 q713 rfl dJ22_getChars_49 ?_
          refine lv_iload hx hb dJ22_getChars_52 (lv_at hl 2 rfl) ?_
          refine r_tbld X (X.2.2.2.2.2.dO hB (fA.base hAb hB.1)).1 hS (j := fp_hw z k % 100) rfl (by omega) (by decide) rfl dJ22_getChars_54 ?_
          refine r_bastI X hE_4 hS (Or.inl ⟨by omega, rfl⟩) (j := p - 1 - 2 * k) (by omega) (by omega) (by omega) ⟨by omega, by omega⟩ dJ22_getChars_55 (fun H_22 locs hE_19 hz_20 hq_21 hS => ?_)
          have hz_23 := hS.1
          have hE_24 : fp_At G H_22 b (eB G c (fun j => iI ((va_up g (p - 1 - 2 * k) ((48 + (fp_hw z k % 100) % 10 : Nat) : Int)) j))) := hE_19.updB
          refine lv_aload_n hx hb dJ22_getChars_56 rfl (lv_at hl 5 rfl) ?_
          refine lv_iinc (v := (iI ((((p - 2 * k : Nat) : Int) + (-1)) + (-1)))) (lv' := [(5, .int (iI ((((p - 2 * k : Nat) : Int) + (-1)) + (-1)))), (0, .int (iI (-((fp_hw z k / 100 : Nat) : Int)))), (4, .int (iI ((fp_hw z k % 100 : Nat) : Int))), (3, .int (iI (-((fp_hw z k / 100 : Nat) : Int)))), (1, .int (iI ((p : Nat) : Int))), (2, .ref (b)), (6, .int (iI ((0 : Nat) : Int)))]) hx hb dJ22_getChars_57 hl (k := 0) rfl (iI_add _ _) (by decide) rfl (fun ls hl => ?_)
          refine lv_iload hx hb dJ22_getChars_60 (lv_at hl 0 rfl) ?_
          refine r_gets X hB hAb hS q716 (lw_all_tbl q120) (X.2.2.2.2.2.dT hB hAb).2.1 q715 rfl dJ22_getChars_62 ?_
          refine lv_iload hx hb dJ22_getChars_65 (lv_at hl 2 rfl) ?_
          refine r_tbld X (X.2.2.2.2.2.dT hB (fA.base hAb hB.1)).1 hS (j := fp_hw z k % 100) rfl (by omega) (by decide) rfl dJ22_getChars_67 ?_
          refine r_bastI X hE_24 hS (Or.inl ⟨by omega, rfl⟩) (j := p - 1 - (2 * k + 1)) (by omega) (by omega) (by omega) ⟨by omega, by omega⟩ dJ22_getChars_68 (fun H_28 locs hE_25 hz_26 hq_27 hS => ?_)
          have hz_29 := hS.1
          have hE_30 : fp_At G H_28 b (eB G c (fun j => iI ((va_up (va_up g (p - 1 - 2 * k) ((48 + (fp_hw z k % 100) % 10 : Nat) : Int)) (p - 1 - (2 * k + 1)) ((48 + (fp_hw z k % 100) / 10 : Nat) : Int)) j))) := hE_25.updB
          refine lv_goto (tgt := 22) hx hb dJ22_getChars_69 (by decide) ?_
          exact ih22 (by omega) (va_up (va_up g (p - 1 - 2 * k) ((48 + (fp_hw z k % 100) % 10 : Nat) : Int)) (p - 1 - (2 * k + 1)) ((48 + (fp_hw z k % 100) / 10 : Nat) : Int)) H_28 locs ls (by rw [show Value.int (iI (-((fp_hw z (k + 1) : Nat) : Int))) = Value.int (iI (-((fp_hw z k / 100 : Nat) : Int))) from congrArg (fun q : Int => Value.int (iI q)) (by omega), show Value.int (iI ((p - 2 * (k + 1) : Nat) : Int)) = Value.int (iI ((((p - 2 * k : Nat) : Int) + (-1)) + (-1))) from congrArg (fun q : Int => Value.int (iI q)) (by omega)]; exact lv_sub hl [1, 4, 5, 0, 6] rfl) hS ((hdp.s (k := 2 * k) (by omega) (by rw [fp_hw_o]; omega)).s (k := 2 * k + 1) (by omega) (by rw [fp_hw_t]; omega)) (fp_hw_d hz9 hdz (by omega)) (by omega) hE_30
      exact L22 0 (by omega) f s.heap locs ls (by rw [show Value.int (iI (-((fp_hw z 0 : Nat) : Int))) = Value.int (iI (-((z : Nat) : Int))) from congrArg (fun q : Int => Value.int (iI q)) (by rw [fp_hw_0]), show Value.int (iI ((p - 2 * 0 : Nat) : Int)) = Value.int (iI ((p : Nat) : Int)) from congrArg (fun q : Int => Value.int (iI q)) (by omega)]; exact lv_sub hl [0, 3, 4, 2, 1] rfl) hS (fp_dp.z) (by rw [fp_hw_0]; omega) (Nat.le_refl _) h_a
  · exact absurd c4 (by omega)
