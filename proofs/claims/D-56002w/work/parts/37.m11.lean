/-! THE MODEL: the line -/
set_option maxHeartbeats 4000000 in
theorem c_X4_writes (G : fp_G) (ad : Nat → Nat) (sc : Nat → Int) (ar : Nat → Nat → Int) (hA0 : fp_MA G ad) (L : FL) (hln : sc 20 = ((L.2 : Nat) : Int)) (hlx : fp_LX L (ar 13)) (c : Nat) (hz : c < 256) (h80 : L.2 < 80) : fp_M G yX4_writes cX4_writes 2 none 1 12 0 0 [.ref (ad 0), .int (iI ((c : Nat) : Int))] (fp_ME G ad sc ar) (fp_ma ad) (fun _ v H => ∃ (a : Nat → Int), v = none ∧ fp_ME G ad (va_up sc 20 ((((fp_pc L c).2 : Nat) : Int))) (va_up ar 13 a) H ∧ (fp_LX (fp_pc L c) a)) := by
  refine fp_M.intro (by decide) (Nat.le_of_ble_eq_true rfl) ?_
  intro pg en s mi ag bl mt cd rR qQ ls X hx hb hr hlk hnm hR hQ hB hM hl
  have hS : va_S (fA (fp_ma ad) s.heap.size) s.heap s.heap [] := va_S.rf
  generalize ([] : List Loc) = locs at hS ⊢
  refine lv_aload_n hx hb dX4_writes_0 rfl (lv_at hl 0 rfl) ?_
  refine r_get X hM.1 rfl in_X4 13 (by decide) q2022 (Or.inl rfl) (v := .ref (ad 13)) rfl dX4_writes_1 ?_
  refine lv_aload_n hx hb dX4_writes_4 rfl (lv_at hl 0 rfl) ?_
  refine r_get X hM.1 rfl in_X4 20 (by decide) q2029 (Or.inl rfl) (v := .int (iI (sc 20))) rfl dX4_writes_5 ?_
  refine r_set (y := .int (iI ((L.2 : Nat) : Int))) (congrArg (fun q : Int => Value.int (iI q)) (hln)) ?_
  refine lv_iload_n hx hb dX4_writes_8 rfl (lv_at hl 1 rfl) ?_
  refine m_ast X hM hS hA0 (k := 13) (j := L.2) (z := ((c : Nat) : Int)) (by decide) rfl (n := 80) rfl (by omega) dX4_writes_9 (fun H locs hM_1 hS => ?_)
  refine lv_aload_n hx hb dX4_writes_10 rfl (lv_at hl 0 rfl) ?_
  refine lv_dup hx hb dX4_writes_11 rfl ?_
  refine r_get X hM_1.1 rfl in_X4 20 (by decide) q2029 (Or.inl rfl) (v := .int (iI (sc 20))) rfl dX4_writes_12 ?_
  refine r_set (y := .int (iI ((L.2 : Nat) : Int))) (congrArg (fun q : Int => Value.int (iI q)) (hln)) ?_
  refine lv_iconst (v := (iI ((1 : Nat) : Int))) hx hb dX4_writes_15 rfl ?_
  refine r_iaddN hx hb dX4_writes_16 ?_
  refine m_put X hM_1 hS hA0 (k := 20) (sc2 := (va_up sc 20 ((((L.2) + 1 : Nat) : Int)))) rfl (by decide) q2029 rfl rfl rfl dX4_writes_17 rfl (fun H locs hM_2 hS => ?_)
  refine r_vret hx hb hr hlk hQ hS (Nat.le_of_ble_eq_true rfl) (Nat.le_of_ble_eq_true rfl) dX4_writes_20 ?_
  exact ⟨_, rfl, (hM_2.nrm rfl), (hlx.put2 hz rfl)⟩
set_option maxHeartbeats 4000000 in
theorem c_X4_writesNumber (G : fp_G) (ad : Nat → Nat) (sc : Nat → Int) (ar : Nat → Nat → Int) (hA0 : fp_MA G ad) (L : FL) (hln : sc 20 = ((L.2 : Nat) : Int)) (hlx : fp_LX L (ar 13)) (n : Nat) (hn9 : n < 1000000000) (h80 : L.2 + sb_dg n ≤ 80) : fp_M G yX4_writesNumber cX4_writesNumber 3 none 2 33 0 0 [.ref (ad 0), .int (iI ((n : Nat) : Int))] (fp_ME G ad sc ar) (fp_ma ad) (fun _ v H => ∃ (a : Nat → Int), v = none ∧ fp_ME G ad (va_up sc 20 ((((fp_pn L n).2 : Nat) : Int))) (va_up ar 13 a) H ∧ (fp_LX (fp_pn L n) a)) := by
  refine fp_M.intro (by decide) (Nat.le_of_ble_eq_true rfl) ?_
  intro pg en s mi ag bl mt cd rR qQ ls X hx hb hr hlk hnm hR hQ hB hM hl
  have hS : va_S (fA (fp_ma ad) s.heap.size) s.heap s.heap [] := va_S.rf
  generalize ([] : List Loc) = locs at hS ⊢
  have hd9 := fp_dg9 hn9
  have hd1 := (sb_dg_in n).1
  refine lv_iconst (v := (iI ((1 : Nat) : Int))) hx hb dX4_writesNumber_0 rfl ?_
  refine lv_istore_n (lv' := [(2, .int (iI ((1 : Nat) : Int))), (0, .ref (ad 0)), (1, .int (iI ((n : Nat) : Int)))]) hx hb dX4_writesNumber_1 rfl hl (by decide) rfl (fun ls hl => ?_)
  have L2 : ∀ (d : Nat), d ≤ sb_dg n - 1 → ∀ (locs : List Loc) (ls : Array Slot), lv_has ls 3 [(0, .ref (ad 0)), (1, .int (iI ((n : Nat) : Int))), (2, .int (iI ((10 ^ d : Nat) : Int)))] → va_S (fA (fp_ma ad) s.heap.size) s.heap s.heap locs → W pg (g_l G) en rR s mi ag bl mt cd s.heap locs 0 0 qQ (F0 mi 2 ls []) := by
    refine lp_up (sb_dg n - 1) ?_
    intro d hk2 ih2 locs ls hl hS
    have hp10 : 0 < 10 ^ d := Nat.pow_pos (by decide)
    have hp8 : 10 ^ d ≤ 10 ^ 8 := Nat.pow_le_pow_right (by decide) (by omega)
    have hp9 : (10 : Nat) ^ 8 = 100000000 := by decide
    have hdv := Nat.div_le_self n (10 ^ d)
    have hdz := Int.natCast_nonneg (n / 10 ^ d)
    refine lv_iload_n hx hb dX4_writesNumber_2 rfl (lv_at hl 1 rfl) ?_
    refine lv_iload_n hx hb dX4_writesNumber_3 rfl (lv_at hl 2 rfl) ?_
    refine r_idivN hx hb ⟨by omega, by omega, by omega⟩ dX4_writesNumber_4 ?_
    refine lv_bipush (v := (iI ((10 : Nat) : Int))) hx hb dX4_writesNumber_5 rfl ?_
    refine r_icmp_lt (tgt := 18) hx hb ⟨by omega, by omega⟩ (by decide) dX4_writesNumber_7 (by decide) (fun c7 => ?_) (fun c7 => ?_)
    · skip
      have c7 : sb_dg n ≤ d + 1 := by have := fp_dg_iff (d := d) hn9 (by omega); omega
      have L18 : ∀ (j : Nat), j ≤ sb_dg n → ∀ (a : Nat → Int) (H : Heap) (locs : List Loc) (ls : Array Slot),(fp_LX (fp_pj L n j) a) → lv_has ls 3 [(0, .ref (ad 0)), (1, .int (iI ((n : Nat) : Int))), (2, .int (iI ((fp_ten n j : Nat) : Int)))] → va_S (fA (fp_ma ad) s.heap.size) s.heap H locs → fp_ME G ad (va_up sc 20 ((((fp_pj L n j).2 : Nat) : Int))) (va_up ar 13 a) H → W pg (g_l G) en rR s mi ag bl mt cd H locs 0 0 qQ (F0 mi 18 ls []) := by
        refine lp_up (sb_dg n) ?_
        intro j hk18 ih18 a H locs ls hla hl hS hM
        have htp : j < sb_dg n → 0 < fp_ten n j := fp_ten_pos
        have htz : j = sb_dg n → fp_ten n j = 0 := fun h => by rw [h]; exact fp_ten_z n
        have htl := fp_ten_le hd9 j
        refine lv_iload_n hx hb dX4_writesNumber_18 rfl (lv_at hl 2 rfl) ?_
        refine r_if_le (tgt := 43) hx hb ⟨by omega, by omega⟩ dX4_writesNumber_19 (by decide) (fun c19 => ?_) (fun c19 => ?_)
        · skip
          refine r_vret hx hb hr hlk hQ hS (Nat.le_of_ble_eq_true rfl) (Nat.le_of_ble_eq_true rfl) dX4_writesNumber_43 ?_
          exact ⟨a, rfl, (by rw [show (fp_pn L n).2 = (fp_pj L n j).2 by show L.2 + sb_dg n = L.2 + j; omega]; exact hM), (hla.of (by show L.2 + sb_dg n = L.2 + j; omega) (fun _ _ => rfl))⟩
        · skip
          refine lv_aload_n hx hb dX4_writesNumber_22 rfl (lv_at hl 0 rfl) ?_
          refine lv_bipush (v := (iI ((48 : Nat) : Int))) hx hb dX4_writesNumber_23 rfl ?_
          refine lv_iload_n hx hb dX4_writesNumber_25 rfl (lv_at hl 1 rfl) ?_
          refine lv_iload_n hx hb dX4_writesNumber_26 rfl (lv_at hl 2 rfl) ?_
          have hdt := Nat.div_le_self n (fp_ten n j)
          have hdy := Int.natCast_nonneg (n / fp_ten n j)
          refine r_idivN hx hb ⟨by omega, by omega, by omega⟩ dX4_writesNumber_27 ?_
          refine lv_bipush (v := (iI ((10 : Nat) : Int))) hx hb dX4_writesNumber_28 rfl ?_
          refine r_iremN hx hb ⟨by omega, by omega, by omega⟩ dX4_writesNumber_30 ?_
          refine r_iaddN hx hb dX4_writesNumber_31 ?_
          have hch : n / fp_ten n j % 10 < 10 := Nat.mod_lt _ (by decide)
          refine r_callV (cells1 := 0) (slots1 := 0) X hR (c_X4_writes G ad (va_up sc 20 ((((fp_pj L n j).2 : Nat) : Int))) (va_up ar 13 a) hA0 (fp_pj L n j) rfl hla (48 + ((n / (fp_ten n j)) % 10)) (by omega) (by show L.2 + j < 80; omega)) q2434 q2436 qs76 q100 q2437 ⟨rfl, pd_X4_writes⟩ (by decide) rfl rfl (by decide) (by decide) hM.1 rfl rfl (Nat.le_of_ble_eq_true rfl) hl.1 dX4_writesNumber_32 (hB.of hS (fp_ma.base hA0)) hM hS (fun _ h => Or.inl h) (fun v H locs hp_1 hzC hkC hS => ?_)
          obtain ⟨a_2, rfl, hM_4, hlx2_3⟩ := hp_1
          have hM_5 := fp_ME.nrm (sc2 := (va_up sc 20 ((((fp_pc (fp_pj L n j) (48 + ((n / (fp_ten n j)) % 10))).2 : Nat) : Int)))) hM_4 rfl
          refine r_stk (st2 := []) rfl ?_
          refine lv_iload_n hx hb dX4_writesNumber_35 rfl (lv_at hl 2 rfl) ?_
          refine lv_bipush (v := (iI ((10 : Nat) : Int))) hx hb dX4_writesNumber_36 rfl ?_
          refine r_idivN hx hb ⟨by omega, by omega, by omega⟩ dX4_writesNumber_38 ?_
          refine lv_istore_n (lv' := [(2, .int (iI (((fp_ten n j) / 10 : Nat) : Int))), (0, .ref (ad 0)), (1, .int (iI ((n : Nat) : Int)))]) hx hb dX4_writesNumber_39 rfl hl (by decide) rfl (fun ls hl => ?_)
          refine lv_goto (tgt := 18) hx hb dX4_writesNumber_40 (by decide) ?_
          exact ih18 (by omega) a_2 H locs ls (hlx2_3.pjs (by unfold sb_dec; rw [fp_ten_eq (by omega)])) (by rw [show Value.int (iI ((fp_ten n (j + 1) : Nat) : Int)) = Value.int (iI (((fp_ten n j) / 10 : Nat) : Int)) from congrArg (fun q : Nat => Value.int (iI (q : Int))) ((fp_ten_s n j).symm)]; exact lv_sub hl [1, 2, 0] rfl) hS (hM_5.uu)
      exact L18 0 (by omega) (ar 13) (s.heap) locs ls (hlx.pj0 n) (by rw [show Value.int (iI ((fp_ten n 0 : Nat) : Int)) = Value.int (iI ((10 ^ d : Nat) : Int)) from congrArg (fun q : Nat => Value.int (iI (q : Int))) (by rw [fp_ten_eq (by omega), show d = sb_dg n - 1 - 0 by omega])]; exact lv_sub hl [0, 1, 2] rfl) hS (fp_ME.upe (fp_ME.st0 hM 13 (fun _ _ => rfl)) hln)
    · skip
      have c7 : sb_dg n > d + 1 := by have := fp_dg_iff (d := d) hn9 (by omega); omega
      refine lv_iload_n hx hb dX4_writesNumber_10 rfl (lv_at hl 2 rfl) ?_
      refine lv_bipush (v := (iI ((10 : Nat) : Int))) hx hb dX4_writesNumber_11 rfl ?_
      refine r_imulN hx hb dX4_writesNumber_13 ?_
      refine lv_istore_n (lv' := [(2, .int (iI (((10 ^ d) * 10 : Nat) : Int))), (0, .ref (ad 0)), (1, .int (iI ((n : Nat) : Int)))]) hx hb dX4_writesNumber_14 rfl hl (by decide) rfl (fun ls hl => ?_)
      refine lv_goto (tgt := 2) hx hb dX4_writesNumber_15 (by decide) ?_
      exact ih2 (by omega) locs ls (by rw [show Value.int (iI ((10 ^ (d + 1) : Nat) : Int)) = Value.int (iI (((10 ^ d) * 10 : Nat) : Int)) from congrArg (fun q : Nat => Value.int (iI (q : Int))) (Nat.pow_succ 10 d)]; exact lv_sub hl [1, 2, 0] rfl) hS
  exact L2 0 (by omega) locs ls (lv_sub hl [1, 2, 0] rfl) hS
set_option maxHeartbeats 4000000 in
theorem c_X4_writesBehind (G : fp_G) (ad : Nat → Nat) (sc : Nat → Int) (ar : Nat → Nat → Int) (hA0 : fp_MA G ad) (L : FL) (hln : sc 20 = ((L.2 : Nat) : Int)) (hlx : fp_LX L (ar 13)) (c : Nat) (n : Nat) (hz : c < 256) (hn9 : n < 1000000000) (h80 : L.2 + 1 + sb_dg n ≤ 80) : fp_M G yX4_writesBehind cX4_writesBehind 3 none 3 55 0 0 [.ref (ad 0), .int (iI ((c : Nat) : Int)), .int (iI ((n : Nat) : Int))] (fp_ME G ad sc ar) (fp_ma ad) (fun _ v H => ∃ (a : Nat → Int), v = none ∧ fp_ME G ad (va_up sc 20 ((((fp_pn (fp_pc L c) n).2 : Nat) : Int))) (va_up ar 13 a) H ∧ (fp_LX (fp_pn (fp_pc L c) n) a)) := by
  refine fp_M.intro (by decide) (Nat.le_of_ble_eq_true rfl) ?_
  intro pg en s mi ag bl mt cd rR qQ ls X hx hb hr hlk hnm hR hQ hB hM hl
  have hS : va_S (fA (fp_ma ad) s.heap.size) s.heap s.heap [] := va_S.rf
  generalize ([] : List Loc) = locs at hS ⊢
  have hd1 := (sb_dg_in n).1
  refine lv_aload_n hx hb dX4_writesBehind_0 rfl (lv_at hl 0 rfl) ?_
  refine lv_iload_n hx hb dX4_writesBehind_1 rfl (lv_at hl 1 rfl) ?_
  refine r_callV (cells1 := 0) (slots1 := 0) X hR (c_X4_writes G ad sc ar hA0 L hln hlx c (by omega) (by omega)) q2434 q2436 qs76 q100 q2437 ⟨rfl, pd_X4_writes⟩ (by decide) rfl rfl (by decide) (by decide) hM.1 rfl rfl (Nat.le_of_ble_eq_true rfl) hl.1 dX4_writesBehind_2 (hB.of hS (fp_ma.base hA0)) hM hS (fun _ h => Or.inl h) (fun v H locs hp_1 hzC hkC hS => ?_)
  obtain ⟨a_2, rfl, hM_4, hlx2_3⟩ := hp_1
  have hM_5 := fp_ME.nrm (sc2 := (va_up sc 20 ((((fp_pc L c).2 : Nat) : Int)))) hM_4 rfl
  refine r_stk (st2 := []) rfl ?_
  refine lv_aload_n hx hb dX4_writesBehind_5 rfl (lv_at hl 0 rfl) ?_
  refine lv_iload_n hx hb dX4_writesBehind_6 rfl (lv_at hl 2 rfl) ?_
  refine r_callV (cells1 := 0) (slots1 := 0) X hR (c_X4_writesNumber G ad (va_up sc 20 ((((fp_pc L c).2 : Nat) : Int))) (va_up ar 13 a_2) hA0 (fp_pc L c) rfl hlx2_3 n (by omega) (by show L.2 + 1 + sb_dg n ≤ 80; omega)) q2438 q2440 qs77 q100 q2441 ⟨rfl, pd_X4_writesNumber⟩ (by decide) rfl rfl (by decide) (by decide) hM_5.1 rfl rfl (Nat.le_of_ble_eq_true rfl) hl.1 dX4_writesBehind_7 (hB.of hS (fp_ma.base hA0)) hM_5 hS (fun _ h => Or.inl h) (fun v H locs hp_6 hzC hkC hS => ?_)
  obtain ⟨a_7, rfl, hM_9, hlx2_8⟩ := hp_6
  have hM_10 := fp_ME.nrm (sc2 := (va_up sc 20 ((((fp_pn (fp_pc L c) n).2 : Nat) : Int)))) hM_9 rfl
  refine r_stk (st2 := []) rfl ?_
  refine r_vret hx hb hr hlk hQ hS (Nat.le_of_ble_eq_true rfl) (Nat.le_of_ble_eq_true rfl) dX4_writesBehind_10 ?_
  exact ⟨_, rfl, (hM_10.uu), hlx2_8⟩
set_option maxHeartbeats 4000000 in
theorem c_X4_formatBlock (G : fp_G) (ad : Nat → Nat) (sc : Nat → Int) (ar : Nat → Nat → Int) (S : PS) (hA0 : fp_MA G ad) (hV : fp_VR S (ar 5)) (z : Int) (hz : rg z) : fp_M G yX4_formatBlock cX4_formatBlock 3 (some .int) 7 148 0 0 [.ref (ad 0), .int (iI (z))] (fp_ME G ad sc ar) (fp_ma ad) (fun _ v H => (v = some (.int (iI ((0 : Nat) : Int))) ∧ fp_ME G ad (va_up sc 0 (((1 : Nat) : Int))) ar H ∧ (fp_fnd S z = sN S)) ∨ (∃ (ar2 : Nat → Nat → Int), v = some (.int (iI (((fp_fbl S (fp_fnd S z)).2 : Nat) : Int))) ∧ fp_ME G ad (va_up (va_up sc 0 (((0 : Nat) : Int))) 20 ((((fp_fbl S (fp_fnd S z)).2 : Nat) : Int))) ar2 H ∧ (fp_fnd S z < sN S) ∧ (fp_LX (fp_fbl S (fp_fnd S z)) (ar2 13)) ∧ (fp_sm2 ar ar2))) := by
  refine fp_M.intro (by decide) (Nat.le_of_ble_eq_true rfl) ?_
  intro pg en s mi ag bl mt cd rR qQ ls X hx hb hr hlk hnm hR hQ hB hM hl
  have hS : va_S (fA (fp_ma ad) s.heap.size) s.heap s.heap [] := va_S.rf
  generalize ([] : List Loc) = locs at hS ⊢
  have hN24 := hV.1.1
  refine lv_aload_n hx hb dX4_formatBlock_0 rfl (lv_at hl 0 rfl) ?_
  refine lv_iload_n hx hb dX4_formatBlock_1 rfl (lv_at hl 1 rfl) ?_
  refine r_callV (cells1 := 0) (slots1 := 0) X hR (c_X4_finds G ad sc ar S hA0 hV (z) (by omega)) q2179 q2181 qs62 q100 q2182 ⟨rfl, pd_X4_finds⟩ (by decide) rfl rfl (by decide) (by decide) hM.1 rfl rfl (Nat.le_of_ble_eq_true rfl) hl.1 dX4_formatBlock_2 (hB.of hS (fp_ma.base hA0)) hM hS (fun _ h => Or.inl h) (fun v H locs hp_1 hzC hkC hS => ?_)
  rcases hp_1 with ⟨kf_2, rfl, hM_6, hkf_3, hkn_4, hkl_5⟩ | ⟨rfl, hM_8, hnf_7⟩
  · skip
    have hM_9 := fp_ME.nrm (sc2 := (va_up sc 0 (((0 : Nat) : Int)))) hM_6 rfl
    refine r_stk (st2 := [.int (iI ((kf_2 : Nat) : Int))]) rfl ?_
    obtain rfl := hkn_4
    refine lv_istore_n (lv' := [(2, .int (iI ((kf_2 : Nat) : Int))), (0, .ref (ad 0)), (1, .int (iI ((sB S kf_2 0 : Nat) : Int)))]) hx hb dX4_formatBlock_5 rfl hl (by decide) rfl (fun ls hl => ?_)
    refine lv_iload_n hx hb dX4_formatBlock_6 rfl (lv_at hl 0 rfl) ?_
    refine r_if_ge (tgt := 12) hx hb ⟨by omega, by omega⟩ dX4_formatBlock_7 (by decide) (fun c7 => ?_) (fun c7 => ?_)
    · skip
      refine lv_aload_n hx hb dX4_formatBlock_12 rfl (lv_at hl 1 rfl) ?_
      refine r_callV (cells1 := 0) (slots1 := 0) X hR (c_X4_weighs G ad (va_up sc 0 (((0 : Nat) : Int))) ar S hA0 hV  ) q2135 q2137 qs54 q100 q2138 ⟨rfl, pd_X4_weighs⟩ (by decide) rfl rfl (by decide) (by decide) hM_9.1 rfl rfl (Nat.le_of_ble_eq_true rfl) hl.1 dX4_formatBlock_13 (hB.of hS (fp_ma.base hA0)) hM_9 hS (fun _ h => Or.inl h) (fun v H locs hp_10 hzC hkC hS => ?_)
      obtain ⟨f_11, rfl, hM_13, hf_12⟩ := hp_10
      refine r_stk (st2 := []) rfl ?_
      refine lv_aload_n hx hb dX4_formatBlock_16 rfl (lv_at hl 1 rfl) ?_
      refine lv_iconst (v := (iI ((0 : Nat) : Int))) hx hb dX4_formatBlock_17 rfl ?_
      refine m_put X hM_13 hS hA0 (k := 20) (sc2 := (va_up (va_up sc 0 (((0 : Nat) : Int))) 20 (((0 : Nat) : Int)))) rfl (by decide) q2029 rfl rfl rfl dX4_formatBlock_18 rfl (fun H locs hM_14 hS => ?_)
      have hdg0 := (sb_dg_in (sB S kf_2 0)).2
      have hdg1 := (sb_dg_in (sB S kf_2 2)).2
      have hdg2 := (sb_dg_in (sB S kf_2 3)).2
      have hdg3 := (sb_dg_in (sB S kf_2 5)).2
      have hdg4 := (sb_dg_in (sB S kf_2 4)).2
      have hdg5 := (sb_dg_in (fp_ld S kf_2)).2
      have hdg6 := (sb_dg_in (fp_str (sB S kf_2))).2
      have hbk := hV.1.2.2.1 kf_2 hkf_3
      have hldb := fp_ld_b hV.1 kf_2
      have hstb := fp_str_b hbk
      refine lv_aload_n hx hb dX4_formatBlock_21 rfl (lv_at hl 1 rfl) ?_
      refine lv_aload_n hx hb dX4_formatBlock_22 rfl (lv_at hl 1 rfl) ?_
      refine lv_iload_n hx hb dX4_formatBlock_23 rfl (lv_at hl 0 rfl) ?_
      refine lv_iconst (v := (iI ((1 : Nat) : Int))) hx hb dX4_formatBlock_24 rfl ?_
      refine r_callV (cells1 := 0) (slots1 := 0) X hR (c_X4_of G ad (va_up (va_up sc 0 (((0 : Nat) : Int))) 20 (((0 : Nat) : Int))) (va_up ar 10 f_11) S hA0 hV kf_2 1 (by omega) (by omega)) q2123 q2125 qs51 q100 q2126 ⟨rfl, pd_X4_of⟩ (by decide) rfl rfl (by decide) (by decide) hM_14.1 rfl rfl (Nat.le_of_ble_eq_true rfl) hl.1 dX4_formatBlock_25 (hB.of hS (fp_ma.base hA0)) hM_14 hS (fun _ h => h.elim) (fun v H1 locs hp_15 hzC hkC hS => ?_)
      obtain ⟨rfl, rfl⟩ := hp_15
      refine r_stk (st2 := [.int (iI ((sB S kf_2 1 : Nat) : Int)), .ref (ad 0)]) rfl ?_
      refine r_if_ne (tgt := 36) hx hb ⟨by omega, by omega⟩ dX4_formatBlock_28 (by decide) (fun c28 => ?_) (fun c28 => ?_)
      · skip
        refine lv_aload_n hx hb dX4_formatBlock_36 rfl (lv_at hl 1 rfl) ?_
        refine lv_iload_n hx hb dX4_formatBlock_37 rfl (lv_at hl 0 rfl) ?_
        refine lv_iconst (v := (iI ((1 : Nat) : Int))) hx hb dX4_formatBlock_38 rfl ?_
        refine r_callV (cells1 := 0) (slots1 := 0) X hR (c_X4_of G ad (va_up (va_up sc 0 (((0 : Nat) : Int))) 20 (((0 : Nat) : Int))) (va_up ar 10 f_11) S hA0 hV kf_2 1 (by omega) (by omega)) q2123 q2125 qs51 q100 q2126 ⟨rfl, pd_X4_of⟩ (by decide) rfl rfl (by decide) (by decide) hM_14.1 rfl rfl (Nat.le_of_ble_eq_true rfl) hl.1 dX4_formatBlock_39 (hB.of hS (fp_ma.base hA0)) hM_14 hS (fun _ h => h.elim) (fun v H1 locs hp_16 hzC hkC hS => ?_)
        obtain ⟨rfl, rfl⟩ := hp_16
        refine r_stk (st2 := [.int (iI ((sB S kf_2 1 : Nat) : Int)), .ref (ad 0)]) rfl ?_
        refine lv_iconst (v := (iI ((1 : Nat) : Int))) hx hb dX4_formatBlock_42 rfl ?_
        refine r_icmp_ne (tgt := 51) hx hb ⟨by omega, by omega⟩ (by decide) dX4_formatBlock_43 (by decide) (fun c43 => ?_) (fun c43 => ?_)
        · skip
          refine lv_bipush (v := (iI ((103 : Nat) : Int))) hx hb dX4_formatBlock_51 rfl ?_
          refine r_set (y := .int (iI ((fp_let (sB S kf_2) : Nat) : Int))) (congrArg (fun q : Nat => Value.int (iI (q : Int))) (by unfold fp_let; split <;> (try split) <;> omega)) ?_
          have hleb : fp_let (sB S kf_2) ≤ 103 := by unfold fp_let; split <;> (try split) <;> omega
          refine lv_iload_n hx hb dX4_formatBlock_53 rfl (lv_at hl 2 rfl) ?_
          refine r_callV (cells1 := 0) (slots1 := 0) X hR (c_X4_writesBehind G ad (va_up (va_up sc 0 (((0 : Nat) : Int))) 20 (((0 : Nat) : Int))) (va_up ar 10 f_11) hA0 fp_L0 rfl (fp_LX.zero _) (fp_let (sB S kf_2)) (sB S kf_2 0) (by omega) (by omega) (by simp only [fp_pn, fp_pc, fp_L0]; omega)) q2430 q2432 qs75 q100 q2433 ⟨rfl, pd_X4_writesBehind⟩ (by decide) rfl rfl (by decide) (by decide) hM_14.1 rfl rfl (Nat.le_of_ble_eq_true rfl) hl.1 dX4_formatBlock_54 (hB.of hS (fp_ma.base hA0)) hM_14 hS (fun _ h => Or.inl h) (fun v H locs hp_17 hzC hkC hS => ?_)
          obtain ⟨a_18, rfl, hM_20, hlx2_19⟩ := hp_17
          have hM_21 := fp_ME.nrm (sc2 := (va_up (va_up sc 0 (((0 : Nat) : Int))) 20 ((((fp_pn (fp_pc fp_L0 (fp_let (sB S kf_2))) (sB S kf_2 0)).2 : Nat) : Int)))) hM_20 rfl
          refine r_stk (st2 := []) rfl ?_
          refine lv_aload_n hx hb dX4_formatBlock_57 rfl (lv_at hl 1 rfl) ?_
          refine lv_bipush (v := (iI ((91 : Nat) : Int))) hx hb dX4_formatBlock_58 rfl ?_
          refine lv_aload_n hx hb dX4_formatBlock_60 rfl (lv_at hl 1 rfl) ?_
          refine lv_iload_n hx hb dX4_formatBlock_61 rfl (lv_at hl 0 rfl) ?_
          refine lv_iconst (v := (iI ((2 : Nat) : Int))) hx hb dX4_formatBlock_62 rfl ?_
          refine r_callV (cells1 := 0) (slots1 := 0) X hR (c_X4_of G ad (va_up (va_up sc 0 (((0 : Nat) : Int))) 20 ((((fp_pn (fp_pc fp_L0 (fp_let (sB S kf_2))) (sB S kf_2 0)).2 : Nat) : Int))) (va_up (va_up ar 10 f_11) 13 a_18) S hA0 hV kf_2 2 (by omega) (by omega)) q2123 q2125 qs51 q100 q2126 ⟨rfl, pd_X4_of⟩ (by decide) rfl rfl (by decide) (by decide) hM_21.1 rfl rfl (Nat.le_of_ble_eq_true rfl) hl.1 dX4_formatBlock_63 (hB.of hS (fp_ma.base hA0)) hM_21 hS (fun _ h => h.elim) (fun v H1 locs hp_22 hzC hkC hS => ?_)
          obtain ⟨rfl, rfl⟩ := hp_22
          refine r_stk (st2 := [.int (iI ((sB S kf_2 2 : Nat) : Int)), .int (iI ((91 : Nat) : Int)), .ref (ad 0)]) rfl ?_
          refine r_callV (cells1 := 0) (slots1 := 0) X hR (c_X4_writesBehind G ad (va_up (va_up sc 0 (((0 : Nat) : Int))) 20 ((((fp_pn (fp_pc fp_L0 (fp_let (sB S kf_2))) (sB S kf_2 0)).2 : Nat) : Int))) (va_up (va_up ar 10 f_11) 13 a_18) hA0 (fp_pn (fp_pc fp_L0 (fp_let (sB S kf_2))) (sB S kf_2 0)) rfl hlx2_19 91 (sB S kf_2 2) (by omega) (by omega) (by simp only [fp_pn, fp_pc, fp_L0]; omega)) q2430 q2432 qs75 q100 q2433 ⟨rfl, pd_X4_writesBehind⟩ (by decide) rfl rfl (by decide) (by decide) hM_21.1 rfl rfl (Nat.le_of_ble_eq_true rfl) hl.1 dX4_formatBlock_66 (hB.of hS (fp_ma.base hA0)) hM_21 hS (fun _ h => Or.inl h) (fun v H locs hp_23 hzC hkC hS => ?_)
          obtain ⟨a_24, rfl, hM_26, hlx2_25⟩ := hp_23
          have hM_27 := fp_ME.nrm (sc2 := (va_up (va_up sc 0 (((0 : Nat) : Int))) 20 ((((fp_pn (fp_pc (fp_pn (fp_pc fp_L0 (fp_let (sB S kf_2))) (sB S kf_2 0)) 91) (sB S kf_2 2)).2 : Nat) : Int)))) hM_26 rfl
          refine r_stk (st2 := []) rfl ?_
          refine lv_aload_n hx hb dX4_formatBlock_69 rfl (lv_at hl 1 rfl) ?_
          refine lv_bipush (v := (iI ((43 : Nat) : Int))) hx hb dX4_formatBlock_70 rfl ?_
          refine lv_aload_n hx hb dX4_formatBlock_72 rfl (lv_at hl 1 rfl) ?_
          refine lv_iload_n hx hb dX4_formatBlock_73 rfl (lv_at hl 0 rfl) ?_
          refine lv_iconst (v := (iI ((3 : Nat) : Int))) hx hb dX4_formatBlock_74 rfl ?_
          refine r_callV (cells1 := 0) (slots1 := 0) X hR (c_X4_of G ad (va_up (va_up sc 0 (((0 : Nat) : Int))) 20 ((((fp_pn (fp_pc (fp_pn (fp_pc fp_L0 (fp_let (sB S kf_2))) (sB S kf_2 0)) 91) (sB S kf_2 2)).2 : Nat) : Int))) (va_up (va_up (va_up ar 10 f_11) 13 a_18) 13 a_24) S hA0 hV kf_2 3 (by omega) (by omega)) q2123 q2125 qs51 q100 q2126 ⟨rfl, pd_X4_of⟩ (by decide) rfl rfl (by decide) (by decide) hM_27.1 rfl rfl (Nat.le_of_ble_eq_true rfl) hl.1 dX4_formatBlock_75 (hB.of hS (fp_ma.base hA0)) hM_27 hS (fun _ h => h.elim) (fun v H1 locs hp_28 hzC hkC hS => ?_)
          obtain ⟨rfl, rfl⟩ := hp_28
          refine r_stk (st2 := [.int (iI ((sB S kf_2 3 : Nat) : Int)), .int (iI ((43 : Nat) : Int)), .ref (ad 0)]) rfl ?_
          refine r_callV (cells1 := 0) (slots1 := 0) X hR (c_X4_writesBehind G ad (va_up (va_up sc 0 (((0 : Nat) : Int))) 20 ((((fp_pn (fp_pc (fp_pn (fp_pc fp_L0 (fp_let (sB S kf_2))) (sB S kf_2 0)) 91) (sB S kf_2 2)).2 : Nat) : Int))) (va_up (va_up (va_up ar 10 f_11) 13 a_18) 13 a_24) hA0 (fp_pn (fp_pc (fp_pn (fp_pc fp_L0 (fp_let (sB S kf_2))) (sB S kf_2 0)) 91) (sB S kf_2 2)) rfl hlx2_25 43 (sB S kf_2 3) (by omega) (by omega) (by simp only [fp_pn, fp_pc, fp_L0]; omega)) q2430 q2432 qs75 q100 q2433 ⟨rfl, pd_X4_writesBehind⟩ (by decide) rfl rfl (by decide) (by decide) hM_27.1 rfl rfl (Nat.le_of_ble_eq_true rfl) hl.1 dX4_formatBlock_78 (hB.of hS (fp_ma.base hA0)) hM_27 hS (fun _ h => Or.inl h) (fun v H locs hp_29 hzC hkC hS => ?_)
          obtain ⟨a_30, rfl, hM_32, hlx2_31⟩ := hp_29
          have hM_33 := fp_ME.nrm (sc2 := (va_up (va_up sc 0 (((0 : Nat) : Int))) 20 ((((fp_pn (fp_pc (fp_pn (fp_pc (fp_pn (fp_pc fp_L0 (fp_let (sB S kf_2))) (sB S kf_2 0)) 91) (sB S kf_2 2)) 43) (sB S kf_2 3)).2 : Nat) : Int)))) hM_32 rfl
          refine r_stk (st2 := []) rfl ?_
          refine lv_aload_n hx hb dX4_formatBlock_81 rfl (lv_at hl 1 rfl) ?_
          refine lv_bipush (v := (iI ((93 : Nat) : Int))) hx hb dX4_formatBlock_82 rfl ?_
          refine r_callV (cells1 := 0) (slots1 := 0) X hR (c_X4_writes G ad (va_up (va_up sc 0 (((0 : Nat) : Int))) 20 ((((fp_pn (fp_pc (fp_pn (fp_pc (fp_pn (fp_pc fp_L0 (fp_let (sB S kf_2))) (sB S kf_2 0)) 91) (sB S kf_2 2)) 43) (sB S kf_2 3)).2 : Nat) : Int))) (va_up (va_up (va_up (va_up ar 10 f_11) 13 a_18) 13 a_24) 13 a_30) hA0 (fp_pn (fp_pc (fp_pn (fp_pc (fp_pn (fp_pc fp_L0 (fp_let (sB S kf_2))) (sB S kf_2 0)) 91) (sB S kf_2 2)) 43) (sB S kf_2 3)) rfl hlx2_31 93 (by omega) (by simp only [fp_pn, fp_pc, fp_L0]; omega)) q2434 q2436 qs76 q100 q2437 ⟨rfl, pd_X4_writes⟩ (by decide) rfl rfl (by decide) (by decide) hM_33.1 rfl rfl (Nat.le_of_ble_eq_true rfl) hl.1 dX4_formatBlock_84 (hB.of hS (fp_ma.base hA0)) hM_33 hS (fun _ h => Or.inl h) (fun v H locs hp_34 hzC hkC hS => ?_)
          obtain ⟨a_35, rfl, hM_37, hlx2_36⟩ := hp_34
          have hM_38 := fp_ME.nrm (sc2 := (va_up (va_up sc 0 (((0 : Nat) : Int))) 20 ((((fp_pc (fp_pn (fp_pc (fp_pn (fp_pc (fp_pn (fp_pc fp_L0 (fp_let (sB S kf_2))) (sB S kf_2 0)) 91) (sB S kf_2 2)) 43) (sB S kf_2 3)) 93).2 : Nat) : Int)))) hM_37 rfl
          refine r_stk (st2 := []) rfl ?_
          refine lv_aload_n hx hb dX4_formatBlock_87 rfl (lv_at hl 1 rfl) ?_
          refine lv_bipush (v := (iI ((64 : Nat) : Int))) hx hb dX4_formatBlock_88 rfl ?_
          refine lv_aload_n hx hb dX4_formatBlock_90 rfl (lv_at hl 1 rfl) ?_
          refine lv_iload_n hx hb dX4_formatBlock_91 rfl (lv_at hl 0 rfl) ?_
          refine lv_iconst (v := (iI ((5 : Nat) : Int))) hx hb dX4_formatBlock_92 rfl ?_
          refine r_callV (cells1 := 0) (slots1 := 0) X hR (c_X4_of G ad (va_up (va_up sc 0 (((0 : Nat) : Int))) 20 ((((fp_pc (fp_pn (fp_pc (fp_pn (fp_pc (fp_pn (fp_pc fp_L0 (fp_let (sB S kf_2))) (sB S kf_2 0)) 91) (sB S kf_2 2)) 43) (sB S kf_2 3)) 93).2 : Nat) : Int))) (va_up (va_up (va_up (va_up (va_up ar 10 f_11) 13 a_18) 13 a_24) 13 a_30) 13 a_35) S hA0 hV kf_2 5 (by omega) (by omega)) q2123 q2125 qs51 q100 q2126 ⟨rfl, pd_X4_of⟩ (by decide) rfl rfl (by decide) (by decide) hM_38.1 rfl rfl (Nat.le_of_ble_eq_true rfl) hl.1 dX4_formatBlock_93 (hB.of hS (fp_ma.base hA0)) hM_38 hS (fun _ h => h.elim) (fun v H1 locs hp_39 hzC hkC hS => ?_)
          obtain ⟨rfl, rfl⟩ := hp_39
          refine r_stk (st2 := [.int (iI ((sB S kf_2 5 : Nat) : Int)), .int (iI ((64 : Nat) : Int)), .ref (ad 0)]) rfl ?_
          refine r_callV (cells1 := 0) (slots1 := 0) X hR (c_X4_writesBehind G ad (va_up (va_up sc 0 (((0 : Nat) : Int))) 20 ((((fp_pc (fp_pn (fp_pc (fp_pn (fp_pc (fp_pn (fp_pc fp_L0 (fp_let (sB S kf_2))) (sB S kf_2 0)) 91) (sB S kf_2 2)) 43) (sB S kf_2 3)) 93).2 : Nat) : Int))) (va_up (va_up (va_up (va_up (va_up ar 10 f_11) 13 a_18) 13 a_24) 13 a_30) 13 a_35) hA0 (fp_pc (fp_pn (fp_pc (fp_pn (fp_pc (fp_pn (fp_pc fp_L0 (fp_let (sB S kf_2))) (sB S kf_2 0)) 91) (sB S kf_2 2)) 43) (sB S kf_2 3)) 93) rfl hlx2_36 64 (sB S kf_2 5) (by omega) (by omega) (by simp only [fp_pn, fp_pc, fp_L0]; omega)) q2430 q2432 qs75 q100 q2433 ⟨rfl, pd_X4_writesBehind⟩ (by decide) rfl rfl (by decide) (by decide) hM_38.1 rfl rfl (Nat.le_of_ble_eq_true rfl) hl.1 dX4_formatBlock_96 (hB.of hS (fp_ma.base hA0)) hM_38 hS (fun _ h => Or.inl h) (fun v H locs hp_40 hzC hkC hS => ?_)
          obtain ⟨a_41, rfl, hM_43, hlx2_42⟩ := hp_40
          have hM_44 := fp_ME.nrm (sc2 := (va_up (va_up sc 0 (((0 : Nat) : Int))) 20 ((((fp_pn (fp_pc (fp_pc (fp_pn (fp_pc (fp_pn (fp_pc (fp_pn (fp_pc fp_L0 (fp_let (sB S kf_2))) (sB S kf_2 0)) 91) (sB S kf_2 2)) 43) (sB S kf_2 3)) 93) 64) (sB S kf_2 5)).2 : Nat) : Int)))) hM_43 rfl
          refine r_stk (st2 := []) rfl ?_
          refine lv_aload_n hx hb dX4_formatBlock_99 rfl (lv_at hl 1 rfl) ?_
          refine lv_bipush (v := (iI ((42 : Nat) : Int))) hx hb dX4_formatBlock_100 rfl ?_
          refine lv_aload_n hx hb dX4_formatBlock_102 rfl (lv_at hl 1 rfl) ?_
          refine lv_iload_n hx hb dX4_formatBlock_103 rfl (lv_at hl 0 rfl) ?_
          refine lv_iconst (v := (iI ((4 : Nat) : Int))) hx hb dX4_formatBlock_104 rfl ?_
          refine r_callV (cells1 := 0) (slots1 := 0) X hR (c_X4_of G ad (va_up (va_up sc 0 (((0 : Nat) : Int))) 20 ((((fp_pn (fp_pc (fp_pc (fp_pn (fp_pc (fp_pn (fp_pc (fp_pn (fp_pc fp_L0 (fp_let (sB S kf_2))) (sB S kf_2 0)) 91) (sB S kf_2 2)) 43) (sB S kf_2 3)) 93) 64) (sB S kf_2 5)).2 : Nat) : Int))) (va_up (va_up (va_up (va_up (va_up (va_up ar 10 f_11) 13 a_18) 13 a_24) 13 a_30) 13 a_35) 13 a_41) S hA0 hV kf_2 4 (by omega) (by omega)) q2123 q2125 qs51 q100 q2126 ⟨rfl, pd_X4_of⟩ (by decide) rfl rfl (by decide) (by decide) hM_44.1 rfl rfl (Nat.le_of_ble_eq_true rfl) hl.1 dX4_formatBlock_105 (hB.of hS (fp_ma.base hA0)) hM_44 hS (fun _ h => h.elim) (fun v H1 locs hp_45 hzC hkC hS => ?_)
          obtain ⟨rfl, rfl⟩ := hp_45
          refine r_stk (st2 := [.int (iI ((sB S kf_2 4 : Nat) : Int)), .int (iI ((42 : Nat) : Int)), .ref (ad 0)]) rfl ?_
          refine r_callV (cells1 := 0) (slots1 := 0) X hR (c_X4_writesBehind G ad (va_up (va_up sc 0 (((0 : Nat) : Int))) 20 ((((fp_pn (fp_pc (fp_pc (fp_pn (fp_pc (fp_pn (fp_pc (fp_pn (fp_pc fp_L0 (fp_let (sB S kf_2))) (sB S kf_2 0)) 91) (sB S kf_2 2)) 43) (sB S kf_2 3)) 93) 64) (sB S kf_2 5)).2 : Nat) : Int))) (va_up (va_up (va_up (va_up (va_up (va_up ar 10 f_11) 13 a_18) 13 a_24) 13 a_30) 13 a_35) 13 a_41) hA0 (fp_pn (fp_pc (fp_pc (fp_pn (fp_pc (fp_pn (fp_pc (fp_pn (fp_pc fp_L0 (fp_let (sB S kf_2))) (sB S kf_2 0)) 91) (sB S kf_2 2)) 43) (sB S kf_2 3)) 93) 64) (sB S kf_2 5)) rfl hlx2_42 42 (sB S kf_2 4) (by omega) (by omega) (by simp only [fp_pn, fp_pc, fp_L0]; omega)) q2430 q2432 qs75 q100 q2433 ⟨rfl, pd_X4_writesBehind⟩ (by decide) rfl rfl (by decide) (by decide) hM_44.1 rfl rfl (Nat.le_of_ble_eq_true rfl) hl.1 dX4_formatBlock_108 (hB.of hS (fp_ma.base hA0)) hM_44 hS (fun _ h => Or.inl h) (fun v H locs hp_46 hzC hkC hS => ?_)
          obtain ⟨a_47, rfl, hM_49, hlx2_48⟩ := hp_46
          have hM_50 := fp_ME.nrm (sc2 := (va_up (va_up sc 0 (((0 : Nat) : Int))) 20 ((((fp_pn (fp_pc (fp_pn (fp_pc (fp_pc (fp_pn (fp_pc (fp_pn (fp_pc (fp_pn (fp_pc fp_L0 (fp_let (sB S kf_2))) (sB S kf_2 0)) 91) (sB S kf_2 2)) 43) (sB S kf_2 3)) 93) 64) (sB S kf_2 5)) 42) (sB S kf_2 4)).2 : Nat) : Int)))) hM_49 rfl
          refine r_stk (st2 := []) rfl ?_
          refine lv_aload_n hx hb dX4_formatBlock_111 rfl (lv_at hl 1 rfl) ?_
          refine lv_bipush (v := (iI ((32 : Nat) : Int))) hx hb dX4_formatBlock_112 rfl ?_
          refine lv_aload_n hx hb dX4_formatBlock_114 rfl (lv_at hl 1 rfl) ?_
          refine r_get X hM_50.1 rfl in_X4 10 (by decide) q2019 (Or.inl rfl) (v := .ref (ad 10)) rfl dX4_formatBlock_115 ?_
          refine lv_iload_n hx hb dX4_formatBlock_118 rfl (lv_at hl 0 rfl) ?_
          refine r_ialdI X (hM_50.2 10 (by decide) (by decide)) (j := kf_2) (n := 24) rfl (by omega) (by decide) dX4_formatBlock_119 ?_
          refine r_set (y := .int (iI ((fp_ld S kf_2 : Nat) : Int))) (congrArg (fun q : Int => Value.int (iI q)) (show f_11 kf_2 = _ from hf_12 kf_2 hkf_3)) ?_
          refine r_callV (cells1 := 0) (slots1 := 0) X hR (c_X4_writesBehind G ad (va_up (va_up sc 0 (((0 : Nat) : Int))) 20 ((((fp_pn (fp_pc (fp_pn (fp_pc (fp_pc (fp_pn (fp_pc (fp_pn (fp_pc (fp_pn (fp_pc fp_L0 (fp_let (sB S kf_2))) (sB S kf_2 0)) 91) (sB S kf_2 2)) 43) (sB S kf_2 3)) 93) 64) (sB S kf_2 5)) 42) (sB S kf_2 4)).2 : Nat) : Int))) (va_up (va_up (va_up (va_up (va_up (va_up (va_up ar 10 f_11) 13 a_18) 13 a_24) 13 a_30) 13 a_35) 13 a_41) 13 a_47) hA0 (fp_pn (fp_pc (fp_pn (fp_pc (fp_pc (fp_pn (fp_pc (fp_pn (fp_pc (fp_pn (fp_pc fp_L0 (fp_let (sB S kf_2))) (sB S kf_2 0)) 91) (sB S kf_2 2)) 43) (sB S kf_2 3)) 93) 64) (sB S kf_2 5)) 42) (sB S kf_2 4)) rfl hlx2_48 32 (fp_ld S kf_2) (by omega) (by omega) (by simp only [fp_pn, fp_pc, fp_L0]; omega)) q2430 q2432 qs75 q100 q2433 ⟨rfl, pd_X4_writesBehind⟩ (by decide) rfl rfl (by decide) (by decide) hM_50.1 rfl rfl (Nat.le_of_ble_eq_true rfl) hl.1 dX4_formatBlock_120 (hB.of hS (fp_ma.base hA0)) hM_50 hS (fun _ h => Or.inl h) (fun v H locs hp_51 hzC hkC hS => ?_)
          obtain ⟨a_52, rfl, hM_54, hlx2_53⟩ := hp_51
          have hM_55 := fp_ME.nrm (sc2 := (va_up (va_up sc 0 (((0 : Nat) : Int))) 20 ((((fp_pn (fp_pc (fp_pn (fp_pc (fp_pn (fp_pc (fp_pc (fp_pn (fp_pc (fp_pn (fp_pc (fp_pn (fp_pc fp_L0 (fp_let (sB S kf_2))) (sB S kf_2 0)) 91) (sB S kf_2 2)) 43) (sB S kf_2 3)) 93) 64) (sB S kf_2 5)) 42) (sB S kf_2 4)) 32) (fp_ld S kf_2)).2 : Nat) : Int)))) hM_54 rfl
          refine r_stk (st2 := []) rfl ?_
          refine lv_aload_n hx hb dX4_formatBlock_123 rfl (lv_at hl 1 rfl) ?_
          refine lv_bipush (v := (iI ((47 : Nat) : Int))) hx hb dX4_formatBlock_124 rfl ?_
          refine lv_aload_n hx hb dX4_formatBlock_126 rfl (lv_at hl 1 rfl) ?_
          refine lv_iload_n hx hb dX4_formatBlock_127 rfl (lv_at hl 0 rfl) ?_
          refine r_callV (cells1 := 0) (slots1 := 0) X hR (c_X4_strong G ad (va_up (va_up sc 0 (((0 : Nat) : Int))) 20 ((((fp_pn (fp_pc (fp_pn (fp_pc (fp_pn (fp_pc (fp_pc (fp_pn (fp_pc (fp_pn (fp_pc (fp_pn (fp_pc fp_L0 (fp_let (sB S kf_2))) (sB S kf_2 0)) 91) (sB S kf_2 2)) 43) (sB S kf_2 3)) 93) 64) (sB S kf_2 5)) 42) (sB S kf_2 4)) 32) (fp_ld S kf_2)).2 : Nat) : Int))) (va_up (va_up (va_up (va_up (va_up (va_up (va_up (va_up ar 10 f_11) 13 a_18) 13 a_24) 13 a_30) 13 a_35) 13 a_41) 13 a_47) 13 a_52) S hA0 hV kf_2 (by omega)) q2155 q2157 qs59 q100 q2158 ⟨rfl, pd_X4_strong⟩ (by decide) rfl rfl (by decide) (by decide) hM_55.1 rfl rfl (Nat.le_of_ble_eq_true rfl) hl.1 dX4_formatBlock_128 (hB.of hS (fp_ma.base hA0)) hM_55 hS (fun _ h => h.elim) (fun v H1 locs hp_56 hzC hkC hS => ?_)
          obtain ⟨rfl, rfl⟩ := hp_56
          refine r_stk (st2 := [.int (iI ((fp_str (sB S kf_2) : Nat) : Int)), .int (iI ((47 : Nat) : Int)), .ref (ad 0)]) rfl ?_
          refine r_callV (cells1 := 0) (slots1 := 0) X hR (c_X4_writesBehind G ad (va_up (va_up sc 0 (((0 : Nat) : Int))) 20 ((((fp_pn (fp_pc (fp_pn (fp_pc (fp_pn (fp_pc (fp_pc (fp_pn (fp_pc (fp_pn (fp_pc (fp_pn (fp_pc fp_L0 (fp_let (sB S kf_2))) (sB S kf_2 0)) 91) (sB S kf_2 2)) 43) (sB S kf_2 3)) 93) 64) (sB S kf_2 5)) 42) (sB S kf_2 4)) 32) (fp_ld S kf_2)).2 : Nat) : Int))) (va_up (va_up (va_up (va_up (va_up (va_up (va_up (va_up ar 10 f_11) 13 a_18) 13 a_24) 13 a_30) 13 a_35) 13 a_41) 13 a_47) 13 a_52) hA0 (fp_pn (fp_pc (fp_pn (fp_pc (fp_pn (fp_pc (fp_pc (fp_pn (fp_pc (fp_pn (fp_pc (fp_pn (fp_pc fp_L0 (fp_let (sB S kf_2))) (sB S kf_2 0)) 91) (sB S kf_2 2)) 43) (sB S kf_2 3)) 93) 64) (sB S kf_2 5)) 42) (sB S kf_2 4)) 32) (fp_ld S kf_2)) rfl hlx2_53 47 (fp_str (sB S kf_2)) (by omega) (by omega) (by simp only [fp_pn, fp_pc, fp_L0]; omega)) q2430 q2432 qs75 q100 q2433 ⟨rfl, pd_X4_writesBehind⟩ (by decide) rfl rfl (by decide) (by decide) hM_55.1 rfl rfl (Nat.le_of_ble_eq_true rfl) hl.1 dX4_formatBlock_131 (hB.of hS (fp_ma.base hA0)) hM_55 hS (fun _ h => Or.inl h) (fun v H locs hp_57 hzC hkC hS => ?_)
          obtain ⟨a_58, rfl, hM_60, hlx2_59⟩ := hp_57
          have hM_61 := fp_ME.nrm (sc2 := (va_up (va_up sc 0 (((0 : Nat) : Int))) 20 ((((fp_pn (fp_pc (fp_pn (fp_pc (fp_pn (fp_pc (fp_pn (fp_pc (fp_pc (fp_pn (fp_pc (fp_pn (fp_pc (fp_pn (fp_pc fp_L0 (fp_let (sB S kf_2))) (sB S kf_2 0)) 91) (sB S kf_2 2)) 43) (sB S kf_2 3)) 93) 64) (sB S kf_2 5)) 42) (sB S kf_2 4)) 32) (fp_ld S kf_2)) 47) (fp_str (sB S kf_2))).2 : Nat) : Int)))) hM_60 rfl
          refine r_stk (st2 := []) rfl ?_
          refine lv_aload_n hx hb dX4_formatBlock_134 rfl (lv_at hl 1 rfl) ?_
          refine r_get X hM_61.1 rfl in_X4 20 (by decide) q2029 (Or.inl rfl) (v := .int (iI (((fp_pn (fp_pc (fp_pn (fp_pc (fp_pn (fp_pc (fp_pn (fp_pc (fp_pc (fp_pn (fp_pc (fp_pn (fp_pc (fp_pn (fp_pc fp_L0 (fp_let (sB S kf_2))) (sB S kf_2 0)) 91) (sB S kf_2 2)) 43) (sB S kf_2 3)) 93) 64) (sB S kf_2 5)) 42) (sB S kf_2 4)) 32) (fp_ld S kf_2)) 47) (fp_str (sB S kf_2))).2 : Nat) : Int))) rfl dX4_formatBlock_135 ?_
          refine r_iret hx hb hr hlk hQ hS (Nat.le_of_ble_eq_true rfl) (Nat.le_of_ble_eq_true rfl) dX4_formatBlock_138 ?_
          exact Or.inr (⟨(va_up (va_up (va_up (va_up (va_up (va_up (va_up (va_up (va_up ar 10 f_11) 13 a_18) 13 a_24) 13 a_30) 13 a_35) 13 a_41) 13 a_47) 13 a_52) 13 a_58), (by rw [hkl_5]; rfl), (by rw [hkl_5]; exact hM_61.nrm rfl), (by rw [hkl_5]; exact hkf_3), (by rw [hkl_5]; exact hlx2_59), (fun k hk h13 => by simp [fp_scr] at hk; simp_all [va_up])⟩)
        · skip
          refine lv_bipush (v := (iI ((98 : Nat) : Int))) hx hb dX4_formatBlock_46 rfl ?_
          refine lv_goto (tgt := 53) hx hb dX4_formatBlock_48 (by decide) ?_
          refine r_set (y := .int (iI ((fp_let (sB S kf_2) : Nat) : Int))) (congrArg (fun q : Nat => Value.int (iI (q : Int))) (by unfold fp_let; split <;> (try split) <;> omega)) ?_
          have hleb : fp_let (sB S kf_2) ≤ 103 := by unfold fp_let; split <;> (try split) <;> omega
          refine lv_iload_n hx hb dX4_formatBlock_53 rfl (lv_at hl 2 rfl) ?_
          refine r_callV (cells1 := 0) (slots1 := 0) X hR (c_X4_writesBehind G ad (va_up (va_up sc 0 (((0 : Nat) : Int))) 20 (((0 : Nat) : Int))) (va_up ar 10 f_11) hA0 fp_L0 rfl (fp_LX.zero _) (fp_let (sB S kf_2)) (sB S kf_2 0) (by omega) (by omega) (by simp only [fp_pn, fp_pc, fp_L0]; omega)) q2430 q2432 qs75 q100 q2433 ⟨rfl, pd_X4_writesBehind⟩ (by decide) rfl rfl (by decide) (by decide) hM_14.1 rfl rfl (Nat.le_of_ble_eq_true rfl) hl.1 dX4_formatBlock_54 (hB.of hS (fp_ma.base hA0)) hM_14 hS (fun _ h => Or.inl h) (fun v H locs hp_62 hzC hkC hS => ?_)
          obtain ⟨a_63, rfl, hM_65, hlx2_64⟩ := hp_62
          have hM_66 := fp_ME.nrm (sc2 := (va_up (va_up sc 0 (((0 : Nat) : Int))) 20 ((((fp_pn (fp_pc fp_L0 (fp_let (sB S kf_2))) (sB S kf_2 0)).2 : Nat) : Int)))) hM_65 rfl
          refine r_stk (st2 := []) rfl ?_
          refine lv_aload_n hx hb dX4_formatBlock_57 rfl (lv_at hl 1 rfl) ?_
          refine lv_bipush (v := (iI ((91 : Nat) : Int))) hx hb dX4_formatBlock_58 rfl ?_
          refine lv_aload_n hx hb dX4_formatBlock_60 rfl (lv_at hl 1 rfl) ?_
          refine lv_iload_n hx hb dX4_formatBlock_61 rfl (lv_at hl 0 rfl) ?_
          refine lv_iconst (v := (iI ((2 : Nat) : Int))) hx hb dX4_formatBlock_62 rfl ?_
          refine r_callV (cells1 := 0) (slots1 := 0) X hR (c_X4_of G ad (va_up (va_up sc 0 (((0 : Nat) : Int))) 20 ((((fp_pn (fp_pc fp_L0 (fp_let (sB S kf_2))) (sB S kf_2 0)).2 : Nat) : Int))) (va_up (va_up ar 10 f_11) 13 a_63) S hA0 hV kf_2 2 (by omega) (by omega)) q2123 q2125 qs51 q100 q2126 ⟨rfl, pd_X4_of⟩ (by decide) rfl rfl (by decide) (by decide) hM_66.1 rfl rfl (Nat.le_of_ble_eq_true rfl) hl.1 dX4_formatBlock_63 (hB.of hS (fp_ma.base hA0)) hM_66 hS (fun _ h => h.elim) (fun v H1 locs hp_67 hzC hkC hS => ?_)
          obtain ⟨rfl, rfl⟩ := hp_67
          refine r_stk (st2 := [.int (iI ((sB S kf_2 2 : Nat) : Int)), .int (iI ((91 : Nat) : Int)), .ref (ad 0)]) rfl ?_
          refine r_callV (cells1 := 0) (slots1 := 0) X hR (c_X4_writesBehind G ad (va_up (va_up sc 0 (((0 : Nat) : Int))) 20 ((((fp_pn (fp_pc fp_L0 (fp_let (sB S kf_2))) (sB S kf_2 0)).2 : Nat) : Int))) (va_up (va_up ar 10 f_11) 13 a_63) hA0 (fp_pn (fp_pc fp_L0 (fp_let (sB S kf_2))) (sB S kf_2 0)) rfl hlx2_64 91 (sB S kf_2 2) (by omega) (by omega) (by simp only [fp_pn, fp_pc, fp_L0]; omega)) q2430 q2432 qs75 q100 q2433 ⟨rfl, pd_X4_writesBehind⟩ (by decide) rfl rfl (by decide) (by decide) hM_66.1 rfl rfl (Nat.le_of_ble_eq_true rfl) hl.1 dX4_formatBlock_66 (hB.of hS (fp_ma.base hA0)) hM_66 hS (fun _ h => Or.inl h) (fun v H locs hp_68 hzC hkC hS => ?_)
          obtain ⟨a_69, rfl, hM_71, hlx2_70⟩ := hp_68
          have hM_72 := fp_ME.nrm (sc2 := (va_up (va_up sc 0 (((0 : Nat) : Int))) 20 ((((fp_pn (fp_pc (fp_pn (fp_pc fp_L0 (fp_let (sB S kf_2))) (sB S kf_2 0)) 91) (sB S kf_2 2)).2 : Nat) : Int)))) hM_71 rfl
          refine r_stk (st2 := []) rfl ?_
          refine lv_aload_n hx hb dX4_formatBlock_69 rfl (lv_at hl 1 rfl) ?_
          refine lv_bipush (v := (iI ((43 : Nat) : Int))) hx hb dX4_formatBlock_70 rfl ?_
          refine lv_aload_n hx hb dX4_formatBlock_72 rfl (lv_at hl 1 rfl) ?_
          refine lv_iload_n hx hb dX4_formatBlock_73 rfl (lv_at hl 0 rfl) ?_
          refine lv_iconst (v := (iI ((3 : Nat) : Int))) hx hb dX4_formatBlock_74 rfl ?_
          refine r_callV (cells1 := 0) (slots1 := 0) X hR (c_X4_of G ad (va_up (va_up sc 0 (((0 : Nat) : Int))) 20 ((((fp_pn (fp_pc (fp_pn (fp_pc fp_L0 (fp_let (sB S kf_2))) (sB S kf_2 0)) 91) (sB S kf_2 2)).2 : Nat) : Int))) (va_up (va_up (va_up ar 10 f_11) 13 a_63) 13 a_69) S hA0 hV kf_2 3 (by omega) (by omega)) q2123 q2125 qs51 q100 q2126 ⟨rfl, pd_X4_of⟩ (by decide) rfl rfl (by decide) (by decide) hM_72.1 rfl rfl (Nat.le_of_ble_eq_true rfl) hl.1 dX4_formatBlock_75 (hB.of hS (fp_ma.base hA0)) hM_72 hS (fun _ h => h.elim) (fun v H1 locs hp_73 hzC hkC hS => ?_)
          obtain ⟨rfl, rfl⟩ := hp_73
          refine r_stk (st2 := [.int (iI ((sB S kf_2 3 : Nat) : Int)), .int (iI ((43 : Nat) : Int)), .ref (ad 0)]) rfl ?_
          refine r_callV (cells1 := 0) (slots1 := 0) X hR (c_X4_writesBehind G ad (va_up (va_up sc 0 (((0 : Nat) : Int))) 20 ((((fp_pn (fp_pc (fp_pn (fp_pc fp_L0 (fp_let (sB S kf_2))) (sB S kf_2 0)) 91) (sB S kf_2 2)).2 : Nat) : Int))) (va_up (va_up (va_up ar 10 f_11) 13 a_63) 13 a_69) hA0 (fp_pn (fp_pc (fp_pn (fp_pc fp_L0 (fp_let (sB S kf_2))) (sB S kf_2 0)) 91) (sB S kf_2 2)) rfl hlx2_70 43 (sB S kf_2 3) (by omega) (by omega) (by simp only [fp_pn, fp_pc, fp_L0]; omega)) q2430 q2432 qs75 q100 q2433 ⟨rfl, pd_X4_writesBehind⟩ (by decide) rfl rfl (by decide) (by decide) hM_72.1 rfl rfl (Nat.le_of_ble_eq_true rfl) hl.1 dX4_formatBlock_78 (hB.of hS (fp_ma.base hA0)) hM_72 hS (fun _ h => Or.inl h) (fun v H locs hp_74 hzC hkC hS => ?_)
          obtain ⟨a_75, rfl, hM_77, hlx2_76⟩ := hp_74
          have hM_78 := fp_ME.nrm (sc2 := (va_up (va_up sc 0 (((0 : Nat) : Int))) 20 ((((fp_pn (fp_pc (fp_pn (fp_pc (fp_pn (fp_pc fp_L0 (fp_let (sB S kf_2))) (sB S kf_2 0)) 91) (sB S kf_2 2)) 43) (sB S kf_2 3)).2 : Nat) : Int)))) hM_77 rfl
          refine r_stk (st2 := []) rfl ?_
          refine lv_aload_n hx hb dX4_formatBlock_81 rfl (lv_at hl 1 rfl) ?_
          refine lv_bipush (v := (iI ((93 : Nat) : Int))) hx hb dX4_formatBlock_82 rfl ?_
          refine r_callV (cells1 := 0) (slots1 := 0) X hR (c_X4_writes G ad (va_up (va_up sc 0 (((0 : Nat) : Int))) 20 ((((fp_pn (fp_pc (fp_pn (fp_pc (fp_pn (fp_pc fp_L0 (fp_let (sB S kf_2))) (sB S kf_2 0)) 91) (sB S kf_2 2)) 43) (sB S kf_2 3)).2 : Nat) : Int))) (va_up (va_up (va_up (va_up ar 10 f_11) 13 a_63) 13 a_69) 13 a_75) hA0 (fp_pn (fp_pc (fp_pn (fp_pc (fp_pn (fp_pc fp_L0 (fp_let (sB S kf_2))) (sB S kf_2 0)) 91) (sB S kf_2 2)) 43) (sB S kf_2 3)) rfl hlx2_76 93 (by omega) (by simp only [fp_pn, fp_pc, fp_L0]; omega)) q2434 q2436 qs76 q100 q2437 ⟨rfl, pd_X4_writes⟩ (by decide) rfl rfl (by decide) (by decide) hM_78.1 rfl rfl (Nat.le_of_ble_eq_true rfl) hl.1 dX4_formatBlock_84 (hB.of hS (fp_ma.base hA0)) hM_78 hS (fun _ h => Or.inl h) (fun v H locs hp_79 hzC hkC hS => ?_)
          obtain ⟨a_80, rfl, hM_82, hlx2_81⟩ := hp_79
          have hM_83 := fp_ME.nrm (sc2 := (va_up (va_up sc 0 (((0 : Nat) : Int))) 20 ((((fp_pc (fp_pn (fp_pc (fp_pn (fp_pc (fp_pn (fp_pc fp_L0 (fp_let (sB S kf_2))) (sB S kf_2 0)) 91) (sB S kf_2 2)) 43) (sB S kf_2 3)) 93).2 : Nat) : Int)))) hM_82 rfl
          refine r_stk (st2 := []) rfl ?_
          refine lv_aload_n hx hb dX4_formatBlock_87 rfl (lv_at hl 1 rfl) ?_
          refine lv_bipush (v := (iI ((64 : Nat) : Int))) hx hb dX4_formatBlock_88 rfl ?_
          refine lv_aload_n hx hb dX4_formatBlock_90 rfl (lv_at hl 1 rfl) ?_
          refine lv_iload_n hx hb dX4_formatBlock_91 rfl (lv_at hl 0 rfl) ?_
          refine lv_iconst (v := (iI ((5 : Nat) : Int))) hx hb dX4_formatBlock_92 rfl ?_
          refine r_callV (cells1 := 0) (slots1 := 0) X hR (c_X4_of G ad (va_up (va_up sc 0 (((0 : Nat) : Int))) 20 ((((fp_pc (fp_pn (fp_pc (fp_pn (fp_pc (fp_pn (fp_pc fp_L0 (fp_let (sB S kf_2))) (sB S kf_2 0)) 91) (sB S kf_2 2)) 43) (sB S kf_2 3)) 93).2 : Nat) : Int))) (va_up (va_up (va_up (va_up (va_up ar 10 f_11) 13 a_63) 13 a_69) 13 a_75) 13 a_80) S hA0 hV kf_2 5 (by omega) (by omega)) q2123 q2125 qs51 q100 q2126 ⟨rfl, pd_X4_of⟩ (by decide) rfl rfl (by decide) (by decide) hM_83.1 rfl rfl (Nat.le_of_ble_eq_true rfl) hl.1 dX4_formatBlock_93 (hB.of hS (fp_ma.base hA0)) hM_83 hS (fun _ h => h.elim) (fun v H1 locs hp_84 hzC hkC hS => ?_)
          obtain ⟨rfl, rfl⟩ := hp_84
          refine r_stk (st2 := [.int (iI ((sB S kf_2 5 : Nat) : Int)), .int (iI ((64 : Nat) : Int)), .ref (ad 0)]) rfl ?_
          refine r_callV (cells1 := 0) (slots1 := 0) X hR (c_X4_writesBehind G ad (va_up (va_up sc 0 (((0 : Nat) : Int))) 20 ((((fp_pc (fp_pn (fp_pc (fp_pn (fp_pc (fp_pn (fp_pc fp_L0 (fp_let (sB S kf_2))) (sB S kf_2 0)) 91) (sB S kf_2 2)) 43) (sB S kf_2 3)) 93).2 : Nat) : Int))) (va_up (va_up (va_up (va_up (va_up ar 10 f_11) 13 a_63) 13 a_69) 13 a_75) 13 a_80) hA0 (fp_pc (fp_pn (fp_pc (fp_pn (fp_pc (fp_pn (fp_pc fp_L0 (fp_let (sB S kf_2))) (sB S kf_2 0)) 91) (sB S kf_2 2)) 43) (sB S kf_2 3)) 93) rfl hlx2_81 64 (sB S kf_2 5) (by omega) (by omega) (by simp only [fp_pn, fp_pc, fp_L0]; omega)) q2430 q2432 qs75 q100 q2433 ⟨rfl, pd_X4_writesBehind⟩ (by decide) rfl rfl (by decide) (by decide) hM_83.1 rfl rfl (Nat.le_of_ble_eq_true rfl) hl.1 dX4_formatBlock_96 (hB.of hS (fp_ma.base hA0)) hM_83 hS (fun _ h => Or.inl h) (fun v H locs hp_85 hzC hkC hS => ?_)
          obtain ⟨a_86, rfl, hM_88, hlx2_87⟩ := hp_85
          have hM_89 := fp_ME.nrm (sc2 := (va_up (va_up sc 0 (((0 : Nat) : Int))) 20 ((((fp_pn (fp_pc (fp_pc (fp_pn (fp_pc (fp_pn (fp_pc (fp_pn (fp_pc fp_L0 (fp_let (sB S kf_2))) (sB S kf_2 0)) 91) (sB S kf_2 2)) 43) (sB S kf_2 3)) 93) 64) (sB S kf_2 5)).2 : Nat) : Int)))) hM_88 rfl
          refine r_stk (st2 := []) rfl ?_
          refine lv_aload_n hx hb dX4_formatBlock_99 rfl (lv_at hl 1 rfl) ?_
          refine lv_bipush (v := (iI ((42 : Nat) : Int))) hx hb dX4_formatBlock_100 rfl ?_
          refine lv_aload_n hx hb dX4_formatBlock_102 rfl (lv_at hl 1 rfl) ?_
          refine lv_iload_n hx hb dX4_formatBlock_103 rfl (lv_at hl 0 rfl) ?_
          refine lv_iconst (v := (iI ((4 : Nat) : Int))) hx hb dX4_formatBlock_104 rfl ?_
          refine r_callV (cells1 := 0) (slots1 := 0) X hR (c_X4_of G ad (va_up (va_up sc 0 (((0 : Nat) : Int))) 20 ((((fp_pn (fp_pc (fp_pc (fp_pn (fp_pc (fp_pn (fp_pc (fp_pn (fp_pc fp_L0 (fp_let (sB S kf_2))) (sB S kf_2 0)) 91) (sB S kf_2 2)) 43) (sB S kf_2 3)) 93) 64) (sB S kf_2 5)).2 : Nat) : Int))) (va_up (va_up (va_up (va_up (va_up (va_up ar 10 f_11) 13 a_63) 13 a_69) 13 a_75) 13 a_80) 13 a_86) S hA0 hV kf_2 4 (by omega) (by omega)) q2123 q2125 qs51 q100 q2126 ⟨rfl, pd_X4_of⟩ (by decide) rfl rfl (by decide) (by decide) hM_89.1 rfl rfl (Nat.le_of_ble_eq_true rfl) hl.1 dX4_formatBlock_105 (hB.of hS (fp_ma.base hA0)) hM_89 hS (fun _ h => h.elim) (fun v H1 locs hp_90 hzC hkC hS => ?_)
          obtain ⟨rfl, rfl⟩ := hp_90
          refine r_stk (st2 := [.int (iI ((sB S kf_2 4 : Nat) : Int)), .int (iI ((42 : Nat) : Int)), .ref (ad 0)]) rfl ?_
          refine r_callV (cells1 := 0) (slots1 := 0) X hR (c_X4_writesBehind G ad (va_up (va_up sc 0 (((0 : Nat) : Int))) 20 ((((fp_pn (fp_pc (fp_pc (fp_pn (fp_pc (fp_pn (fp_pc (fp_pn (fp_pc fp_L0 (fp_let (sB S kf_2))) (sB S kf_2 0)) 91) (sB S kf_2 2)) 43) (sB S kf_2 3)) 93) 64) (sB S kf_2 5)).2 : Nat) : Int))) (va_up (va_up (va_up (va_up (va_up (va_up ar 10 f_11) 13 a_63) 13 a_69) 13 a_75) 13 a_80) 13 a_86) hA0 (fp_pn (fp_pc (fp_pc (fp_pn (fp_pc (fp_pn (fp_pc (fp_pn (fp_pc fp_L0 (fp_let (sB S kf_2))) (sB S kf_2 0)) 91) (sB S kf_2 2)) 43) (sB S kf_2 3)) 93) 64) (sB S kf_2 5)) rfl hlx2_87 42 (sB S kf_2 4) (by omega) (by omega) (by simp only [fp_pn, fp_pc, fp_L0]; omega)) q2430 q2432 qs75 q100 q2433 ⟨rfl, pd_X4_writesBehind⟩ (by decide) rfl rfl (by decide) (by decide) hM_89.1 rfl rfl (Nat.le_of_ble_eq_true rfl) hl.1 dX4_formatBlock_108 (hB.of hS (fp_ma.base hA0)) hM_89 hS (fun _ h => Or.inl h) (fun v H locs hp_91 hzC hkC hS => ?_)
          obtain ⟨a_92, rfl, hM_94, hlx2_93⟩ := hp_91
          have hM_95 := fp_ME.nrm (sc2 := (va_up (va_up sc 0 (((0 : Nat) : Int))) 20 ((((fp_pn (fp_pc (fp_pn (fp_pc (fp_pc (fp_pn (fp_pc (fp_pn (fp_pc (fp_pn (fp_pc fp_L0 (fp_let (sB S kf_2))) (sB S kf_2 0)) 91) (sB S kf_2 2)) 43) (sB S kf_2 3)) 93) 64) (sB S kf_2 5)) 42) (sB S kf_2 4)).2 : Nat) : Int)))) hM_94 rfl
          refine r_stk (st2 := []) rfl ?_
          refine lv_aload_n hx hb dX4_formatBlock_111 rfl (lv_at hl 1 rfl) ?_
          refine lv_bipush (v := (iI ((32 : Nat) : Int))) hx hb dX4_formatBlock_112 rfl ?_
          refine lv_aload_n hx hb dX4_formatBlock_114 rfl (lv_at hl 1 rfl) ?_
          refine r_get X hM_95.1 rfl in_X4 10 (by decide) q2019 (Or.inl rfl) (v := .ref (ad 10)) rfl dX4_formatBlock_115 ?_
          refine lv_iload_n hx hb dX4_formatBlock_118 rfl (lv_at hl 0 rfl) ?_
          refine r_ialdI X (hM_95.2 10 (by decide) (by decide)) (j := kf_2) (n := 24) rfl (by omega) (by decide) dX4_formatBlock_119 ?_
          refine r_set (y := .int (iI ((fp_ld S kf_2 : Nat) : Int))) (congrArg (fun q : Int => Value.int (iI q)) (show f_11 kf_2 = _ from hf_12 kf_2 hkf_3)) ?_
          refine r_callV (cells1 := 0) (slots1 := 0) X hR (c_X4_writesBehind G ad (va_up (va_up sc 0 (((0 : Nat) : Int))) 20 ((((fp_pn (fp_pc (fp_pn (fp_pc (fp_pc (fp_pn (fp_pc (fp_pn (fp_pc (fp_pn (fp_pc fp_L0 (fp_let (sB S kf_2))) (sB S kf_2 0)) 91) (sB S kf_2 2)) 43) (sB S kf_2 3)) 93) 64) (sB S kf_2 5)) 42) (sB S kf_2 4)).2 : Nat) : Int))) (va_up (va_up (va_up (va_up (va_up (va_up (va_up ar 10 f_11) 13 a_63) 13 a_69) 13 a_75) 13 a_80) 13 a_86) 13 a_92) hA0 (fp_pn (fp_pc (fp_pn (fp_pc (fp_pc (fp_pn (fp_pc (fp_pn (fp_pc (fp_pn (fp_pc fp_L0 (fp_let (sB S kf_2))) (sB S kf_2 0)) 91) (sB S kf_2 2)) 43) (sB S kf_2 3)) 93) 64) (sB S kf_2 5)) 42) (sB S kf_2 4)) rfl hlx2_93 32 (fp_ld S kf_2) (by omega) (by omega) (by simp only [fp_pn, fp_pc, fp_L0]; omega)) q2430 q2432 qs75 q100 q2433 ⟨rfl, pd_X4_writesBehind⟩ (by decide) rfl rfl (by decide) (by decide) hM_95.1 rfl rfl (Nat.le_of_ble_eq_true rfl) hl.1 dX4_formatBlock_120 (hB.of hS (fp_ma.base hA0)) hM_95 hS (fun _ h => Or.inl h) (fun v H locs hp_96 hzC hkC hS => ?_)
          obtain ⟨a_97, rfl, hM_99, hlx2_98⟩ := hp_96
          have hM_100 := fp_ME.nrm (sc2 := (va_up (va_up sc 0 (((0 : Nat) : Int))) 20 ((((fp_pn (fp_pc (fp_pn (fp_pc (fp_pn (fp_pc (fp_pc (fp_pn (fp_pc (fp_pn (fp_pc (fp_pn (fp_pc fp_L0 (fp_let (sB S kf_2))) (sB S kf_2 0)) 91) (sB S kf_2 2)) 43) (sB S kf_2 3)) 93) 64) (sB S kf_2 5)) 42) (sB S kf_2 4)) 32) (fp_ld S kf_2)).2 : Nat) : Int)))) hM_99 rfl
          refine r_stk (st2 := []) rfl ?_
          refine lv_aload_n hx hb dX4_formatBlock_123 rfl (lv_at hl 1 rfl) ?_
          refine lv_bipush (v := (iI ((47 : Nat) : Int))) hx hb dX4_formatBlock_124 rfl ?_
          refine lv_aload_n hx hb dX4_formatBlock_126 rfl (lv_at hl 1 rfl) ?_
          refine lv_iload_n hx hb dX4_formatBlock_127 rfl (lv_at hl 0 rfl) ?_
          refine r_callV (cells1 := 0) (slots1 := 0) X hR (c_X4_strong G ad (va_up (va_up sc 0 (((0 : Nat) : Int))) 20 ((((fp_pn (fp_pc (fp_pn (fp_pc (fp_pn (fp_pc (fp_pc (fp_pn (fp_pc (fp_pn (fp_pc (fp_pn (fp_pc fp_L0 (fp_let (sB S kf_2))) (sB S kf_2 0)) 91) (sB S kf_2 2)) 43) (sB S kf_2 3)) 93) 64) (sB S kf_2 5)) 42) (sB S kf_2 4)) 32) (fp_ld S kf_2)).2 : Nat) : Int))) (va_up (va_up (va_up (va_up (va_up (va_up (va_up (va_up ar 10 f_11) 13 a_63) 13 a_69) 13 a_75) 13 a_80) 13 a_86) 13 a_92) 13 a_97) S hA0 hV kf_2 (by omega)) q2155 q2157 qs59 q100 q2158 ⟨rfl, pd_X4_strong⟩ (by decide) rfl rfl (by decide) (by decide) hM_100.1 rfl rfl (Nat.le_of_ble_eq_true rfl) hl.1 dX4_formatBlock_128 (hB.of hS (fp_ma.base hA0)) hM_100 hS (fun _ h => h.elim) (fun v H1 locs hp_101 hzC hkC hS => ?_)
          obtain ⟨rfl, rfl⟩ := hp_101
          refine r_stk (st2 := [.int (iI ((fp_str (sB S kf_2) : Nat) : Int)), .int (iI ((47 : Nat) : Int)), .ref (ad 0)]) rfl ?_
          refine r_callV (cells1 := 0) (slots1 := 0) X hR (c_X4_writesBehind G ad (va_up (va_up sc 0 (((0 : Nat) : Int))) 20 ((((fp_pn (fp_pc (fp_pn (fp_pc (fp_pn (fp_pc (fp_pc (fp_pn (fp_pc (fp_pn (fp_pc (fp_pn (fp_pc fp_L0 (fp_let (sB S kf_2))) (sB S kf_2 0)) 91) (sB S kf_2 2)) 43) (sB S kf_2 3)) 93) 64) (sB S kf_2 5)) 42) (sB S kf_2 4)) 32) (fp_ld S kf_2)).2 : Nat) : Int))) (va_up (va_up (va_up (va_up (va_up (va_up (va_up (va_up ar 10 f_11) 13 a_63) 13 a_69) 13 a_75) 13 a_80) 13 a_86) 13 a_92) 13 a_97) hA0 (fp_pn (fp_pc (fp_pn (fp_pc (fp_pn (fp_pc (fp_pc (fp_pn (fp_pc (fp_pn (fp_pc (fp_pn (fp_pc fp_L0 (fp_let (sB S kf_2))) (sB S kf_2 0)) 91) (sB S kf_2 2)) 43) (sB S kf_2 3)) 93) 64) (sB S kf_2 5)) 42) (sB S kf_2 4)) 32) (fp_ld S kf_2)) rfl hlx2_98 47 (fp_str (sB S kf_2)) (by omega) (by omega) (by simp only [fp_pn, fp_pc, fp_L0]; omega)) q2430 q2432 qs75 q100 q2433 ⟨rfl, pd_X4_writesBehind⟩ (by decide) rfl rfl (by decide) (by decide) hM_100.1 rfl rfl (Nat.le_of_ble_eq_true rfl) hl.1 dX4_formatBlock_131 (hB.of hS (fp_ma.base hA0)) hM_100 hS (fun _ h => Or.inl h) (fun v H locs hp_102 hzC hkC hS => ?_)
          obtain ⟨a_103, rfl, hM_105, hlx2_104⟩ := hp_102
          have hM_106 := fp_ME.nrm (sc2 := (va_up (va_up sc 0 (((0 : Nat) : Int))) 20 ((((fp_pn (fp_pc (fp_pn (fp_pc (fp_pn (fp_pc (fp_pn (fp_pc (fp_pc (fp_pn (fp_pc (fp_pn (fp_pc (fp_pn (fp_pc fp_L0 (fp_let (sB S kf_2))) (sB S kf_2 0)) 91) (sB S kf_2 2)) 43) (sB S kf_2 3)) 93) 64) (sB S kf_2 5)) 42) (sB S kf_2 4)) 32) (fp_ld S kf_2)) 47) (fp_str (sB S kf_2))).2 : Nat) : Int)))) hM_105 rfl
          refine r_stk (st2 := []) rfl ?_
          refine lv_aload_n hx hb dX4_formatBlock_134 rfl (lv_at hl 1 rfl) ?_
          refine r_get X hM_106.1 rfl in_X4 20 (by decide) q2029 (Or.inl rfl) (v := .int (iI (((fp_pn (fp_pc (fp_pn (fp_pc (fp_pn (fp_pc (fp_pn (fp_pc (fp_pc (fp_pn (fp_pc (fp_pn (fp_pc (fp_pn (fp_pc fp_L0 (fp_let (sB S kf_2))) (sB S kf_2 0)) 91) (sB S kf_2 2)) 43) (sB S kf_2 3)) 93) 64) (sB S kf_2 5)) 42) (sB S kf_2 4)) 32) (fp_ld S kf_2)) 47) (fp_str (sB S kf_2))).2 : Nat) : Int))) rfl dX4_formatBlock_135 ?_
          refine r_iret hx hb hr hlk hQ hS (Nat.le_of_ble_eq_true rfl) (Nat.le_of_ble_eq_true rfl) dX4_formatBlock_138 ?_
          exact Or.inr (⟨(va_up (va_up (va_up (va_up (va_up (va_up (va_up (va_up (va_up ar 10 f_11) 13 a_63) 13 a_69) 13 a_75) 13 a_80) 13 a_86) 13 a_92) 13 a_97) 13 a_103), (by rw [hkl_5]; rfl), (by rw [hkl_5]; exact hM_106.nrm rfl), (by rw [hkl_5]; exact hkf_3), (by rw [hkl_5]; exact hlx2_104), (fun k hk h13 => by simp [fp_scr] at hk; simp_all [va_up])⟩)
      · skip
        refine lv_bipush (v := (iI ((102 : Nat) : Int))) hx hb dX4_formatBlock_31 rfl ?_
        refine lv_goto (tgt := 53) hx hb dX4_formatBlock_33 (by decide) ?_
        refine r_set (y := .int (iI ((fp_let (sB S kf_2) : Nat) : Int))) (congrArg (fun q : Nat => Value.int (iI (q : Int))) (by unfold fp_let; split <;> (try split) <;> omega)) ?_
        have hleb : fp_let (sB S kf_2) ≤ 103 := by unfold fp_let; split <;> (try split) <;> omega
        refine lv_iload_n hx hb dX4_formatBlock_53 rfl (lv_at hl 2 rfl) ?_
        refine r_callV (cells1 := 0) (slots1 := 0) X hR (c_X4_writesBehind G ad (va_up (va_up sc 0 (((0 : Nat) : Int))) 20 (((0 : Nat) : Int))) (va_up ar 10 f_11) hA0 fp_L0 rfl (fp_LX.zero _) (fp_let (sB S kf_2)) (sB S kf_2 0) (by omega) (by omega) (by simp only [fp_pn, fp_pc, fp_L0]; omega)) q2430 q2432 qs75 q100 q2433 ⟨rfl, pd_X4_writesBehind⟩ (by decide) rfl rfl (by decide) (by decide) hM_14.1 rfl rfl (Nat.le_of_ble_eq_true rfl) hl.1 dX4_formatBlock_54 (hB.of hS (fp_ma.base hA0)) hM_14 hS (fun _ h => Or.inl h) (fun v H locs hp_107 hzC hkC hS => ?_)
        obtain ⟨a_108, rfl, hM_110, hlx2_109⟩ := hp_107
        have hM_111 := fp_ME.nrm (sc2 := (va_up (va_up sc 0 (((0 : Nat) : Int))) 20 ((((fp_pn (fp_pc fp_L0 (fp_let (sB S kf_2))) (sB S kf_2 0)).2 : Nat) : Int)))) hM_110 rfl
        refine r_stk (st2 := []) rfl ?_
        refine lv_aload_n hx hb dX4_formatBlock_57 rfl (lv_at hl 1 rfl) ?_
        refine lv_bipush (v := (iI ((91 : Nat) : Int))) hx hb dX4_formatBlock_58 rfl ?_
        refine lv_aload_n hx hb dX4_formatBlock_60 rfl (lv_at hl 1 rfl) ?_
        refine lv_iload_n hx hb dX4_formatBlock_61 rfl (lv_at hl 0 rfl) ?_
        refine lv_iconst (v := (iI ((2 : Nat) : Int))) hx hb dX4_formatBlock_62 rfl ?_
        refine r_callV (cells1 := 0) (slots1 := 0) X hR (c_X4_of G ad (va_up (va_up sc 0 (((0 : Nat) : Int))) 20 ((((fp_pn (fp_pc fp_L0 (fp_let (sB S kf_2))) (sB S kf_2 0)).2 : Nat) : Int))) (va_up (va_up ar 10 f_11) 13 a_108) S hA0 hV kf_2 2 (by omega) (by omega)) q2123 q2125 qs51 q100 q2126 ⟨rfl, pd_X4_of⟩ (by decide) rfl rfl (by decide) (by decide) hM_111.1 rfl rfl (Nat.le_of_ble_eq_true rfl) hl.1 dX4_formatBlock_63 (hB.of hS (fp_ma.base hA0)) hM_111 hS (fun _ h => h.elim) (fun v H1 locs hp_112 hzC hkC hS => ?_)
        obtain ⟨rfl, rfl⟩ := hp_112
        refine r_stk (st2 := [.int (iI ((sB S kf_2 2 : Nat) : Int)), .int (iI ((91 : Nat) : Int)), .ref (ad 0)]) rfl ?_
        refine r_callV (cells1 := 0) (slots1 := 0) X hR (c_X4_writesBehind G ad (va_up (va_up sc 0 (((0 : Nat) : Int))) 20 ((((fp_pn (fp_pc fp_L0 (fp_let (sB S kf_2))) (sB S kf_2 0)).2 : Nat) : Int))) (va_up (va_up ar 10 f_11) 13 a_108) hA0 (fp_pn (fp_pc fp_L0 (fp_let (sB S kf_2))) (sB S kf_2 0)) rfl hlx2_109 91 (sB S kf_2 2) (by omega) (by omega) (by simp only [fp_pn, fp_pc, fp_L0]; omega)) q2430 q2432 qs75 q100 q2433 ⟨rfl, pd_X4_writesBehind⟩ (by decide) rfl rfl (by decide) (by decide) hM_111.1 rfl rfl (Nat.le_of_ble_eq_true rfl) hl.1 dX4_formatBlock_66 (hB.of hS (fp_ma.base hA0)) hM_111 hS (fun _ h => Or.inl h) (fun v H locs hp_113 hzC hkC hS => ?_)
        obtain ⟨a_114, rfl, hM_116, hlx2_115⟩ := hp_113
        have hM_117 := fp_ME.nrm (sc2 := (va_up (va_up sc 0 (((0 : Nat) : Int))) 20 ((((fp_pn (fp_pc (fp_pn (fp_pc fp_L0 (fp_let (sB S kf_2))) (sB S kf_2 0)) 91) (sB S kf_2 2)).2 : Nat) : Int)))) hM_116 rfl
        refine r_stk (st2 := []) rfl ?_
        refine lv_aload_n hx hb dX4_formatBlock_69 rfl (lv_at hl 1 rfl) ?_
        refine lv_bipush (v := (iI ((43 : Nat) : Int))) hx hb dX4_formatBlock_70 rfl ?_
        refine lv_aload_n hx hb dX4_formatBlock_72 rfl (lv_at hl 1 rfl) ?_
        refine lv_iload_n hx hb dX4_formatBlock_73 rfl (lv_at hl 0 rfl) ?_
        refine lv_iconst (v := (iI ((3 : Nat) : Int))) hx hb dX4_formatBlock_74 rfl ?_
        refine r_callV (cells1 := 0) (slots1 := 0) X hR (c_X4_of G ad (va_up (va_up sc 0 (((0 : Nat) : Int))) 20 ((((fp_pn (fp_pc (fp_pn (fp_pc fp_L0 (fp_let (sB S kf_2))) (sB S kf_2 0)) 91) (sB S kf_2 2)).2 : Nat) : Int))) (va_up (va_up (va_up ar 10 f_11) 13 a_108) 13 a_114) S hA0 hV kf_2 3 (by omega) (by omega)) q2123 q2125 qs51 q100 q2126 ⟨rfl, pd_X4_of⟩ (by decide) rfl rfl (by decide) (by decide) hM_117.1 rfl rfl (Nat.le_of_ble_eq_true rfl) hl.1 dX4_formatBlock_75 (hB.of hS (fp_ma.base hA0)) hM_117 hS (fun _ h => h.elim) (fun v H1 locs hp_118 hzC hkC hS => ?_)
        obtain ⟨rfl, rfl⟩ := hp_118
        refine r_stk (st2 := [.int (iI ((sB S kf_2 3 : Nat) : Int)), .int (iI ((43 : Nat) : Int)), .ref (ad 0)]) rfl ?_
        refine r_callV (cells1 := 0) (slots1 := 0) X hR (c_X4_writesBehind G ad (va_up (va_up sc 0 (((0 : Nat) : Int))) 20 ((((fp_pn (fp_pc (fp_pn (fp_pc fp_L0 (fp_let (sB S kf_2))) (sB S kf_2 0)) 91) (sB S kf_2 2)).2 : Nat) : Int))) (va_up (va_up (va_up ar 10 f_11) 13 a_108) 13 a_114) hA0 (fp_pn (fp_pc (fp_pn (fp_pc fp_L0 (fp_let (sB S kf_2))) (sB S kf_2 0)) 91) (sB S kf_2 2)) rfl hlx2_115 43 (sB S kf_2 3) (by omega) (by omega) (by simp only [fp_pn, fp_pc, fp_L0]; omega)) q2430 q2432 qs75 q100 q2433 ⟨rfl, pd_X4_writesBehind⟩ (by decide) rfl rfl (by decide) (by decide) hM_117.1 rfl rfl (Nat.le_of_ble_eq_true rfl) hl.1 dX4_formatBlock_78 (hB.of hS (fp_ma.base hA0)) hM_117 hS (fun _ h => Or.inl h) (fun v H locs hp_119 hzC hkC hS => ?_)
        obtain ⟨a_120, rfl, hM_122, hlx2_121⟩ := hp_119
        have hM_123 := fp_ME.nrm (sc2 := (va_up (va_up sc 0 (((0 : Nat) : Int))) 20 ((((fp_pn (fp_pc (fp_pn (fp_pc (fp_pn (fp_pc fp_L0 (fp_let (sB S kf_2))) (sB S kf_2 0)) 91) (sB S kf_2 2)) 43) (sB S kf_2 3)).2 : Nat) : Int)))) hM_122 rfl
        refine r_stk (st2 := []) rfl ?_
        refine lv_aload_n hx hb dX4_formatBlock_81 rfl (lv_at hl 1 rfl) ?_
        refine lv_bipush (v := (iI ((93 : Nat) : Int))) hx hb dX4_formatBlock_82 rfl ?_
        refine r_callV (cells1 := 0) (slots1 := 0) X hR (c_X4_writes G ad (va_up (va_up sc 0 (((0 : Nat) : Int))) 20 ((((fp_pn (fp_pc (fp_pn (fp_pc (fp_pn (fp_pc fp_L0 (fp_let (sB S kf_2))) (sB S kf_2 0)) 91) (sB S kf_2 2)) 43) (sB S kf_2 3)).2 : Nat) : Int))) (va_up (va_up (va_up (va_up ar 10 f_11) 13 a_108) 13 a_114) 13 a_120) hA0 (fp_pn (fp_pc (fp_pn (fp_pc (fp_pn (fp_pc fp_L0 (fp_let (sB S kf_2))) (sB S kf_2 0)) 91) (sB S kf_2 2)) 43) (sB S kf_2 3)) rfl hlx2_121 93 (by omega) (by simp only [fp_pn, fp_pc, fp_L0]; omega)) q2434 q2436 qs76 q100 q2437 ⟨rfl, pd_X4_writes⟩ (by decide) rfl rfl (by decide) (by decide) hM_123.1 rfl rfl (Nat.le_of_ble_eq_true rfl) hl.1 dX4_formatBlock_84 (hB.of hS (fp_ma.base hA0)) hM_123 hS (fun _ h => Or.inl h) (fun v H locs hp_124 hzC hkC hS => ?_)
        obtain ⟨a_125, rfl, hM_127, hlx2_126⟩ := hp_124
        have hM_128 := fp_ME.nrm (sc2 := (va_up (va_up sc 0 (((0 : Nat) : Int))) 20 ((((fp_pc (fp_pn (fp_pc (fp_pn (fp_pc (fp_pn (fp_pc fp_L0 (fp_let (sB S kf_2))) (sB S kf_2 0)) 91) (sB S kf_2 2)) 43) (sB S kf_2 3)) 93).2 : Nat) : Int)))) hM_127 rfl
        refine r_stk (st2 := []) rfl ?_
        refine lv_aload_n hx hb dX4_formatBlock_87 rfl (lv_at hl 1 rfl) ?_
        refine lv_bipush (v := (iI ((64 : Nat) : Int))) hx hb dX4_formatBlock_88 rfl ?_
        refine lv_aload_n hx hb dX4_formatBlock_90 rfl (lv_at hl 1 rfl) ?_
        refine lv_iload_n hx hb dX4_formatBlock_91 rfl (lv_at hl 0 rfl) ?_
        refine lv_iconst (v := (iI ((5 : Nat) : Int))) hx hb dX4_formatBlock_92 rfl ?_
        refine r_callV (cells1 := 0) (slots1 := 0) X hR (c_X4_of G ad (va_up (va_up sc 0 (((0 : Nat) : Int))) 20 ((((fp_pc (fp_pn (fp_pc (fp_pn (fp_pc (fp_pn (fp_pc fp_L0 (fp_let (sB S kf_2))) (sB S kf_2 0)) 91) (sB S kf_2 2)) 43) (sB S kf_2 3)) 93).2 : Nat) : Int))) (va_up (va_up (va_up (va_up (va_up ar 10 f_11) 13 a_108) 13 a_114) 13 a_120) 13 a_125) S hA0 hV kf_2 5 (by omega) (by omega)) q2123 q2125 qs51 q100 q2126 ⟨rfl, pd_X4_of⟩ (by decide) rfl rfl (by decide) (by decide) hM_128.1 rfl rfl (Nat.le_of_ble_eq_true rfl) hl.1 dX4_formatBlock_93 (hB.of hS (fp_ma.base hA0)) hM_128 hS (fun _ h => h.elim) (fun v H1 locs hp_129 hzC hkC hS => ?_)
        obtain ⟨rfl, rfl⟩ := hp_129
        refine r_stk (st2 := [.int (iI ((sB S kf_2 5 : Nat) : Int)), .int (iI ((64 : Nat) : Int)), .ref (ad 0)]) rfl ?_
        refine r_callV (cells1 := 0) (slots1 := 0) X hR (c_X4_writesBehind G ad (va_up (va_up sc 0 (((0 : Nat) : Int))) 20 ((((fp_pc (fp_pn (fp_pc (fp_pn (fp_pc (fp_pn (fp_pc fp_L0 (fp_let (sB S kf_2))) (sB S kf_2 0)) 91) (sB S kf_2 2)) 43) (sB S kf_2 3)) 93).2 : Nat) : Int))) (va_up (va_up (va_up (va_up (va_up ar 10 f_11) 13 a_108) 13 a_114) 13 a_120) 13 a_125) hA0 (fp_pc (fp_pn (fp_pc (fp_pn (fp_pc (fp_pn (fp_pc fp_L0 (fp_let (sB S kf_2))) (sB S kf_2 0)) 91) (sB S kf_2 2)) 43) (sB S kf_2 3)) 93) rfl hlx2_126 64 (sB S kf_2 5) (by omega) (by omega) (by simp only [fp_pn, fp_pc, fp_L0]; omega)) q2430 q2432 qs75 q100 q2433 ⟨rfl, pd_X4_writesBehind⟩ (by decide) rfl rfl (by decide) (by decide) hM_128.1 rfl rfl (Nat.le_of_ble_eq_true rfl) hl.1 dX4_formatBlock_96 (hB.of hS (fp_ma.base hA0)) hM_128 hS (fun _ h => Or.inl h) (fun v H locs hp_130 hzC hkC hS => ?_)
        obtain ⟨a_131, rfl, hM_133, hlx2_132⟩ := hp_130
        have hM_134 := fp_ME.nrm (sc2 := (va_up (va_up sc 0 (((0 : Nat) : Int))) 20 ((((fp_pn (fp_pc (fp_pc (fp_pn (fp_pc (fp_pn (fp_pc (fp_pn (fp_pc fp_L0 (fp_let (sB S kf_2))) (sB S kf_2 0)) 91) (sB S kf_2 2)) 43) (sB S kf_2 3)) 93) 64) (sB S kf_2 5)).2 : Nat) : Int)))) hM_133 rfl
        refine r_stk (st2 := []) rfl ?_
        refine lv_aload_n hx hb dX4_formatBlock_99 rfl (lv_at hl 1 rfl) ?_
        refine lv_bipush (v := (iI ((42 : Nat) : Int))) hx hb dX4_formatBlock_100 rfl ?_
        refine lv_aload_n hx hb dX4_formatBlock_102 rfl (lv_at hl 1 rfl) ?_
        refine lv_iload_n hx hb dX4_formatBlock_103 rfl (lv_at hl 0 rfl) ?_
        refine lv_iconst (v := (iI ((4 : Nat) : Int))) hx hb dX4_formatBlock_104 rfl ?_
        refine r_callV (cells1 := 0) (slots1 := 0) X hR (c_X4_of G ad (va_up (va_up sc 0 (((0 : Nat) : Int))) 20 ((((fp_pn (fp_pc (fp_pc (fp_pn (fp_pc (fp_pn (fp_pc (fp_pn (fp_pc fp_L0 (fp_let (sB S kf_2))) (sB S kf_2 0)) 91) (sB S kf_2 2)) 43) (sB S kf_2 3)) 93) 64) (sB S kf_2 5)).2 : Nat) : Int))) (va_up (va_up (va_up (va_up (va_up (va_up ar 10 f_11) 13 a_108) 13 a_114) 13 a_120) 13 a_125) 13 a_131) S hA0 hV kf_2 4 (by omega) (by omega)) q2123 q2125 qs51 q100 q2126 ⟨rfl, pd_X4_of⟩ (by decide) rfl rfl (by decide) (by decide) hM_134.1 rfl rfl (Nat.le_of_ble_eq_true rfl) hl.1 dX4_formatBlock_105 (hB.of hS (fp_ma.base hA0)) hM_134 hS (fun _ h => h.elim) (fun v H1 locs hp_135 hzC hkC hS => ?_)
        obtain ⟨rfl, rfl⟩ := hp_135
        refine r_stk (st2 := [.int (iI ((sB S kf_2 4 : Nat) : Int)), .int (iI ((42 : Nat) : Int)), .ref (ad 0)]) rfl ?_
        refine r_callV (cells1 := 0) (slots1 := 0) X hR (c_X4_writesBehind G ad (va_up (va_up sc 0 (((0 : Nat) : Int))) 20 ((((fp_pn (fp_pc (fp_pc (fp_pn (fp_pc (fp_pn (fp_pc (fp_pn (fp_pc fp_L0 (fp_let (sB S kf_2))) (sB S kf_2 0)) 91) (sB S kf_2 2)) 43) (sB S kf_2 3)) 93) 64) (sB S kf_2 5)).2 : Nat) : Int))) (va_up (va_up (va_up (va_up (va_up (va_up ar 10 f_11) 13 a_108) 13 a_114) 13 a_120) 13 a_125) 13 a_131) hA0 (fp_pn (fp_pc (fp_pc (fp_pn (fp_pc (fp_pn (fp_pc (fp_pn (fp_pc fp_L0 (fp_let (sB S kf_2))) (sB S kf_2 0)) 91) (sB S kf_2 2)) 43) (sB S kf_2 3)) 93) 64) (sB S kf_2 5)) rfl hlx2_132 42 (sB S kf_2 4) (by omega) (by omega) (by simp only [fp_pn, fp_pc, fp_L0]; omega)) q2430 q2432 qs75 q100 q2433 ⟨rfl, pd_X4_writesBehind⟩ (by decide) rfl rfl (by decide) (by decide) hM_134.1 rfl rfl (Nat.le_of_ble_eq_true rfl) hl.1 dX4_formatBlock_108 (hB.of hS (fp_ma.base hA0)) hM_134 hS (fun _ h => Or.inl h) (fun v H locs hp_136 hzC hkC hS => ?_)
        obtain ⟨a_137, rfl, hM_139, hlx2_138⟩ := hp_136
        have hM_140 := fp_ME.nrm (sc2 := (va_up (va_up sc 0 (((0 : Nat) : Int))) 20 ((((fp_pn (fp_pc (fp_pn (fp_pc (fp_pc (fp_pn (fp_pc (fp_pn (fp_pc (fp_pn (fp_pc fp_L0 (fp_let (sB S kf_2))) (sB S kf_2 0)) 91) (sB S kf_2 2)) 43) (sB S kf_2 3)) 93) 64) (sB S kf_2 5)) 42) (sB S kf_2 4)).2 : Nat) : Int)))) hM_139 rfl
        refine r_stk (st2 := []) rfl ?_
        refine lv_aload_n hx hb dX4_formatBlock_111 rfl (lv_at hl 1 rfl) ?_
        refine lv_bipush (v := (iI ((32 : Nat) : Int))) hx hb dX4_formatBlock_112 rfl ?_
        refine lv_aload_n hx hb dX4_formatBlock_114 rfl (lv_at hl 1 rfl) ?_
        refine r_get X hM_140.1 rfl in_X4 10 (by decide) q2019 (Or.inl rfl) (v := .ref (ad 10)) rfl dX4_formatBlock_115 ?_
        refine lv_iload_n hx hb dX4_formatBlock_118 rfl (lv_at hl 0 rfl) ?_
        refine r_ialdI X (hM_140.2 10 (by decide) (by decide)) (j := kf_2) (n := 24) rfl (by omega) (by decide) dX4_formatBlock_119 ?_
        refine r_set (y := .int (iI ((fp_ld S kf_2 : Nat) : Int))) (congrArg (fun q : Int => Value.int (iI q)) (show f_11 kf_2 = _ from hf_12 kf_2 hkf_3)) ?_
        refine r_callV (cells1 := 0) (slots1 := 0) X hR (c_X4_writesBehind G ad (va_up (va_up sc 0 (((0 : Nat) : Int))) 20 ((((fp_pn (fp_pc (fp_pn (fp_pc (fp_pc (fp_pn (fp_pc (fp_pn (fp_pc (fp_pn (fp_pc fp_L0 (fp_let (sB S kf_2))) (sB S kf_2 0)) 91) (sB S kf_2 2)) 43) (sB S kf_2 3)) 93) 64) (sB S kf_2 5)) 42) (sB S kf_2 4)).2 : Nat) : Int))) (va_up (va_up (va_up (va_up (va_up (va_up (va_up ar 10 f_11) 13 a_108) 13 a_114) 13 a_120) 13 a_125) 13 a_131) 13 a_137) hA0 (fp_pn (fp_pc (fp_pn (fp_pc (fp_pc (fp_pn (fp_pc (fp_pn (fp_pc (fp_pn (fp_pc fp_L0 (fp_let (sB S kf_2))) (sB S kf_2 0)) 91) (sB S kf_2 2)) 43) (sB S kf_2 3)) 93) 64) (sB S kf_2 5)) 42) (sB S kf_2 4)) rfl hlx2_138 32 (fp_ld S kf_2) (by omega) (by omega) (by simp only [fp_pn, fp_pc, fp_L0]; omega)) q2430 q2432 qs75 q100 q2433 ⟨rfl, pd_X4_writesBehind⟩ (by decide) rfl rfl (by decide) (by decide) hM_140.1 rfl rfl (Nat.le_of_ble_eq_true rfl) hl.1 dX4_formatBlock_120 (hB.of hS (fp_ma.base hA0)) hM_140 hS (fun _ h => Or.inl h) (fun v H locs hp_141 hzC hkC hS => ?_)
        obtain ⟨a_142, rfl, hM_144, hlx2_143⟩ := hp_141
        have hM_145 := fp_ME.nrm (sc2 := (va_up (va_up sc 0 (((0 : Nat) : Int))) 20 ((((fp_pn (fp_pc (fp_pn (fp_pc (fp_pn (fp_pc (fp_pc (fp_pn (fp_pc (fp_pn (fp_pc (fp_pn (fp_pc fp_L0 (fp_let (sB S kf_2))) (sB S kf_2 0)) 91) (sB S kf_2 2)) 43) (sB S kf_2 3)) 93) 64) (sB S kf_2 5)) 42) (sB S kf_2 4)) 32) (fp_ld S kf_2)).2 : Nat) : Int)))) hM_144 rfl
        refine r_stk (st2 := []) rfl ?_
        refine lv_aload_n hx hb dX4_formatBlock_123 rfl (lv_at hl 1 rfl) ?_
        refine lv_bipush (v := (iI ((47 : Nat) : Int))) hx hb dX4_formatBlock_124 rfl ?_
        refine lv_aload_n hx hb dX4_formatBlock_126 rfl (lv_at hl 1 rfl) ?_
        refine lv_iload_n hx hb dX4_formatBlock_127 rfl (lv_at hl 0 rfl) ?_
        refine r_callV (cells1 := 0) (slots1 := 0) X hR (c_X4_strong G ad (va_up (va_up sc 0 (((0 : Nat) : Int))) 20 ((((fp_pn (fp_pc (fp_pn (fp_pc (fp_pn (fp_pc (fp_pc (fp_pn (fp_pc (fp_pn (fp_pc (fp_pn (fp_pc fp_L0 (fp_let (sB S kf_2))) (sB S kf_2 0)) 91) (sB S kf_2 2)) 43) (sB S kf_2 3)) 93) 64) (sB S kf_2 5)) 42) (sB S kf_2 4)) 32) (fp_ld S kf_2)).2 : Nat) : Int))) (va_up (va_up (va_up (va_up (va_up (va_up (va_up (va_up ar 10 f_11) 13 a_108) 13 a_114) 13 a_120) 13 a_125) 13 a_131) 13 a_137) 13 a_142) S hA0 hV kf_2 (by omega)) q2155 q2157 qs59 q100 q2158 ⟨rfl, pd_X4_strong⟩ (by decide) rfl rfl (by decide) (by decide) hM_145.1 rfl rfl (Nat.le_of_ble_eq_true rfl) hl.1 dX4_formatBlock_128 (hB.of hS (fp_ma.base hA0)) hM_145 hS (fun _ h => h.elim) (fun v H1 locs hp_146 hzC hkC hS => ?_)
        obtain ⟨rfl, rfl⟩ := hp_146
        refine r_stk (st2 := [.int (iI ((fp_str (sB S kf_2) : Nat) : Int)), .int (iI ((47 : Nat) : Int)), .ref (ad 0)]) rfl ?_
        refine r_callV (cells1 := 0) (slots1 := 0) X hR (c_X4_writesBehind G ad (va_up (va_up sc 0 (((0 : Nat) : Int))) 20 ((((fp_pn (fp_pc (fp_pn (fp_pc (fp_pn (fp_pc (fp_pc (fp_pn (fp_pc (fp_pn (fp_pc (fp_pn (fp_pc fp_L0 (fp_let (sB S kf_2))) (sB S kf_2 0)) 91) (sB S kf_2 2)) 43) (sB S kf_2 3)) 93) 64) (sB S kf_2 5)) 42) (sB S kf_2 4)) 32) (fp_ld S kf_2)).2 : Nat) : Int))) (va_up (va_up (va_up (va_up (va_up (va_up (va_up (va_up ar 10 f_11) 13 a_108) 13 a_114) 13 a_120) 13 a_125) 13 a_131) 13 a_137) 13 a_142) hA0 (fp_pn (fp_pc (fp_pn (fp_pc (fp_pn (fp_pc (fp_pc (fp_pn (fp_pc (fp_pn (fp_pc (fp_pn (fp_pc fp_L0 (fp_let (sB S kf_2))) (sB S kf_2 0)) 91) (sB S kf_2 2)) 43) (sB S kf_2 3)) 93) 64) (sB S kf_2 5)) 42) (sB S kf_2 4)) 32) (fp_ld S kf_2)) rfl hlx2_143 47 (fp_str (sB S kf_2)) (by omega) (by omega) (by simp only [fp_pn, fp_pc, fp_L0]; omega)) q2430 q2432 qs75 q100 q2433 ⟨rfl, pd_X4_writesBehind⟩ (by decide) rfl rfl (by decide) (by decide) hM_145.1 rfl rfl (Nat.le_of_ble_eq_true rfl) hl.1 dX4_formatBlock_131 (hB.of hS (fp_ma.base hA0)) hM_145 hS (fun _ h => Or.inl h) (fun v H locs hp_147 hzC hkC hS => ?_)
        obtain ⟨a_148, rfl, hM_150, hlx2_149⟩ := hp_147
        have hM_151 := fp_ME.nrm (sc2 := (va_up (va_up sc 0 (((0 : Nat) : Int))) 20 ((((fp_pn (fp_pc (fp_pn (fp_pc (fp_pn (fp_pc (fp_pn (fp_pc (fp_pc (fp_pn (fp_pc (fp_pn (fp_pc (fp_pn (fp_pc fp_L0 (fp_let (sB S kf_2))) (sB S kf_2 0)) 91) (sB S kf_2 2)) 43) (sB S kf_2 3)) 93) 64) (sB S kf_2 5)) 42) (sB S kf_2 4)) 32) (fp_ld S kf_2)) 47) (fp_str (sB S kf_2))).2 : Nat) : Int)))) hM_150 rfl
        refine r_stk (st2 := []) rfl ?_
        refine lv_aload_n hx hb dX4_formatBlock_134 rfl (lv_at hl 1 rfl) ?_
        refine r_get X hM_151.1 rfl in_X4 20 (by decide) q2029 (Or.inl rfl) (v := .int (iI (((fp_pn (fp_pc (fp_pn (fp_pc (fp_pn (fp_pc (fp_pn (fp_pc (fp_pc (fp_pn (fp_pc (fp_pn (fp_pc (fp_pn (fp_pc fp_L0 (fp_let (sB S kf_2))) (sB S kf_2 0)) 91) (sB S kf_2 2)) 43) (sB S kf_2 3)) 93) 64) (sB S kf_2 5)) 42) (sB S kf_2 4)) 32) (fp_ld S kf_2)) 47) (fp_str (sB S kf_2))).2 : Nat) : Int))) rfl dX4_formatBlock_135 ?_
        refine r_iret hx hb hr hlk hQ hS (Nat.le_of_ble_eq_true rfl) (Nat.le_of_ble_eq_true rfl) dX4_formatBlock_138 ?_
        exact Or.inr (⟨(va_up (va_up (va_up (va_up (va_up (va_up (va_up (va_up (va_up ar 10 f_11) 13 a_108) 13 a_114) 13 a_120) 13 a_125) 13 a_131) 13 a_137) 13 a_142) 13 a_148), (by rw [hkl_5]; rfl), (by rw [hkl_5]; exact hM_151.nrm rfl), (by rw [hkl_5]; exact hkf_3), (by rw [hkl_5]; exact hlx2_149), (fun k hk h13 => by simp [fp_scr] at hk; simp_all [va_up])⟩)
    · exact absurd c7 (by omega)
  · skip
    have hM_152 := fp_ME.nrm (sc2 := (va_up sc 0 (((1 : Nat) : Int)))) hM_8 rfl
    refine r_stk (st2 := [.int (iI (-1))]) rfl ?_
    refine lv_istore_n (lv' := [(2, .int (iI (-1))), (0, .ref (ad 0)), (1, .int (iI (z)))]) hx hb dX4_formatBlock_5 rfl hl (by decide) rfl (fun ls hl => ?_)
    refine lv_iload_n hx hb dX4_formatBlock_6 rfl (lv_at hl 0 rfl) ?_
    refine r_if_ge (tgt := 12) hx hb (by decide) dX4_formatBlock_7 (by decide) (fun c7 => ?_) (fun c7 => ?_)
    · exact absurd c7 (by omega)
    · skip
      refine lv_iconst (v := (iI ((0 : Nat) : Int))) hx hb dX4_formatBlock_10 rfl ?_
      refine r_iret hx hb hr hlk hQ hS (Nat.le_of_ble_eq_true rfl) (Nat.le_of_ble_eq_true rfl) dX4_formatBlock_11 ?_
      exact Or.inl ⟨rfl, hM_152, hnf_7⟩
set_option maxHeartbeats 4000000 in
theorem c_X4_formatHeights (G : fp_G) (ad : Nat → Nat) (sc : Nat → Int) (ar : Nat → Nat → Int) (S : PS) (hA0 : fp_MA G ad) (hV : fp_VR S (ar 5)) : fp_M G yX4_formatHeights cX4_formatHeights 2 (some .int) 4 79 0 0 [.ref (ad 0)] (fp_ME G ad sc ar) (fp_ma ad) (fun _ v H => ∃ (ar2 : Nat → Nat → Int), v = some (.int (iI (((fp_fhl S 12).2 : Nat) : Int))) ∧ fp_ME G ad (va_up (va_up sc 0 (((0 : Nat) : Int))) 20 ((((fp_fhl S 12).2 : Nat) : Int))) ar2 H ∧ (fp_LX (fp_fhl S 12) (ar2 13)) ∧ (fp_sm2 ar ar2)) := by
  refine fp_M.intro (by decide) (Nat.le_of_ble_eq_true rfl) ?_
  intro pg en s mi ag bl mt cd rR qQ ls X hx hb hr hlk hnm hR hQ hB hM hl
  have hS : va_S (fA (fp_ma ad) s.heap.size) s.heap s.heap [] := va_S.rf
  generalize ([] : List Loc) = locs at hS ⊢
  have hN24 := hV.1.1
  refine lv_aload_n hx hb dX4_formatHeights_0 rfl (lv_at hl 0 rfl) ?_
  refine lv_iconst (v := (iI ((0 : Nat) : Int))) hx hb dX4_formatHeights_1 rfl ?_
  refine m_put X hM hS hA0 (k := 0) (sc2 := (va_up sc 0 (((0 : Nat) : Int)))) rfl (by decide) q2009 rfl rfl rfl dX4_formatHeights_2 rfl (fun H locs hM_1 hS => ?_)
  refine lv_aload_n hx hb dX4_formatHeights_5 rfl (lv_at hl 0 rfl) ?_
  refine lv_iconst (v := (iI ((0 : Nat) : Int))) hx hb dX4_formatHeights_6 rfl ?_
  refine m_put X hM_1 hS hA0 (k := 20) (sc2 := (va_up (va_up sc 0 (((0 : Nat) : Int))) 20 (((0 : Nat) : Int)))) rfl (by decide) q2029 rfl rfl rfl dX4_formatHeights_7 rfl (fun H locs hM_2 hS => ?_)
  refine lv_iconst (v := (iI ((0 : Nat) : Int))) hx hb dX4_formatHeights_10 rfl ?_
  refine lv_istore_n (lv' := [(1, .int (iI ((0 : Nat) : Int))), (0, .ref (ad 0))]) hx hb dX4_formatHeights_11 rfl hl (by decide) rfl (fun ls hl => ?_)
  have L12 : ∀ (q : Nat), q ≤ 12 → ∀ (a : Nat → Int) (H : Heap) (locs : List Loc) (ls : Array Slot),(fp_LX (fp_fhl S q) a) → lv_has ls 2 [(0, .ref (ad 0)), (1, .int (iI ((q : Nat) : Int)))] → va_S (fA (fp_ma ad) s.heap.size) s.heap H locs → fp_ME G ad (va_up (va_up sc 0 (((0 : Nat) : Int))) 20 ((((fp_fhl S q).2 : Nat) : Int))) (va_up ar 13 a) H → W pg (g_l G) en rR s mi ag bl mt cd H locs 0 0 qQ (F0 mi 12 ls []) := by
    refine lp_up 12 ?_
    intro q hk12 ih12 a H locs ls hla hl hS hM
    refine lv_iload_n hx hb dX4_formatHeights_12 rfl (lv_at hl 1 rfl) ?_
    refine lv_bipush (v := (iI ((12 : Nat) : Int))) hx hb dX4_formatHeights_13 rfl ?_
    refine r_icmp_ge (tgt := 62) hx hb ⟨by omega, by omega⟩ (by decide) dX4_formatHeights_15 (by decide) (fun c15 => ?_) (fun c15 => ?_)
    · skip
      refine lv_aload_n hx hb dX4_formatHeights_62 rfl (lv_at hl 0 rfl) ?_
      refine r_get X hM.1 rfl in_X4 20 (by decide) q2029 (Or.inl rfl) (v := .int (iI (((fp_fhl S q).2 : Nat) : Int))) rfl dX4_formatHeights_63 ?_
      refine r_iret hx hb hr hlk hQ hS (Nat.le_of_ble_eq_true rfl) (Nat.le_of_ble_eq_true rfl) dX4_formatHeights_66 ?_
      exact ⟨(va_up ar 13 a), (congrArg (fun q : Nat => some (Value.int (iI (q : Int)))) (by rw [show q = 12 by omega])), (by rw [show 12 = q by omega]; exact hM), (by rw [show 12 = q by omega]; exact hla), (fun k hk h13 => by simp [fp_scr] at hk; simp_all [va_up])⟩
    · skip
      refine lv_iload_n hx hb dX4_formatHeights_18 rfl (lv_at hl 1 rfl) ?_
      refine r_if_le (tgt := 28) hx hb ⟨by omega, by omega⟩ dX4_formatHeights_19 (by decide) (fun c19 => ?_) (fun c19 => ?_)
      · skip
        have hf1 : fp_fh1 (fp_fhl S q) q = fp_fhl S q := if_pos (by omega)
        refine lv_aload_n hx hb dX4_formatHeights_28 rfl (lv_at hl 0 rfl) ?_
        refine r_get X hM.1 rfl in_X4 5 (by decide) q2014 (Or.inl rfl) (v := .ref (ad 5)) rfl dX4_formatHeights_29 ?_
        refine lv_bipush (v := (iI ((14 : Nat) : Int))) hx hb dX4_formatHeights_32 rfl ?_
        refine lv_iload_n hx hb dX4_formatHeights_34 rfl (lv_at hl 1 rfl) ?_
        refine r_iaddN hx hb dX4_formatHeights_35 ?_
        refine r_ialdI X (hM.2 5 (by decide) (by decide)) (j := 14 + q) (n := 170) rfl (by omega) (by decide) dX4_formatHeights_36 ?_
        refine r_set (y := .int (iI ((sT S q : Nat) : Int))) (congrArg (fun q : Int => Value.int (iI q)) (hV.2.2.2.2.1 q (by omega))) ?_
        have htc := hV.1.2.2.2.2 q (by omega)
        refine lv_iconst (v := (iI ((1 : Nat) : Int))) hx hb dX4_formatHeights_37 rfl ?_
        refine r_icmp_ne (tgt := 47) hx hb ⟨by omega, by omega⟩ (by decide) dX4_formatHeights_38 (by decide) (fun c38 => ?_) (fun c38 => ?_)
        · skip
          have hf2 : fp_fh2 S (fp_fh1 (fp_fhl S q) q) q = fp_fhl S q := by rw [hf1]; exact if_neg (by omega)
          refine lv_aload_n hx hb dX4_formatHeights_47 rfl (lv_at hl 0 rfl) ?_
          refine lv_aload_n hx hb dX4_formatHeights_48 rfl (lv_at hl 0 rfl) ?_
          refine lv_iload_n hx hb dX4_formatHeights_49 rfl (lv_at hl 1 rfl) ?_
          refine r_callV (cells1 := 0) (slots1 := 0) X hR (c_X4_high G ad (va_up (va_up sc 0 (((0 : Nat) : Int))) 20 ((((fp_fhl S q).2 : Nat) : Int))) (va_up ar 13 a) S hA0 hV q (by omega)) q2115 q2117 qs49 q100 q2118 ⟨rfl, pd_X4_high⟩ (by decide) rfl rfl (by decide) (by decide) hM.1 rfl rfl (Nat.le_of_ble_eq_true rfl) hl.1 dX4_formatHeights_50 (hB.of hS (fp_ma.base hA0)) hM hS (fun _ h => h.elim) (fun v H1 locs hp_3 hzC hkC hS => ?_)
          obtain ⟨rfl, rfl⟩ := hp_3
          refine r_stk (st2 := [.int (iI ((fp_hi S q : Nat) : Int)), .ref (ad 0)]) rfl ?_
          have hh53 := fp_hi_le hV.1 q
          refine r_callV (cells1 := 0) (slots1 := 0) X hR (c_X4_writesNumber G ad (va_up (va_up sc 0 (((0 : Nat) : Int))) 20 ((((fp_fhl S q).2 : Nat) : Int))) (va_up ar 13 a) hA0 (fp_fhl S q) rfl hla (fp_hi S q) (by omega) (by have := fp_fhl_le hV.1 q; have h2 := fp_dg2 (n := fp_hi S q) (by omega); (try simp only [fp_pc]); omega)) q2438 q2440 qs77 q100 q2441 ⟨rfl, pd_X4_writesNumber⟩ (by decide) rfl rfl (by decide) (by decide) hM.1 rfl rfl (Nat.le_of_ble_eq_true rfl) hl.1 dX4_formatHeights_53 (hB.of hS (fp_ma.base hA0)) hM hS (fun _ h => Or.inl h) (fun v H locs hp_4 hzC hkC hS => ?_)
          obtain ⟨a_5, rfl, hM_7, hlx2_6⟩ := hp_4
          have hM_8 := fp_ME.nrm (sc2 := (va_up (va_up sc 0 (((0 : Nat) : Int))) 20 ((((fp_pn (fp_fhl S q) (fp_hi S q)).2 : Nat) : Int)))) hM_7 rfl
          refine r_stk (st2 := []) rfl ?_
          refine lv_iinc (v := (iI ((q + 1 : Nat) : Int))) (lv' := [(1, .int (iI ((q + 1 : Nat) : Int))), (0, .ref (ad 0))]) hx hb dX4_formatHeights_56 hl (k := 1) rfl (iI_incN _ _) (by decide) rfl (fun ls hl => ?_)
          refine lv_goto (tgt := 12) hx hb dX4_formatHeights_59 (by decide) ?_
          exact ih12 (by omega) a_5 H locs ls (by show fp_LX (fp_pn (fp_fh2 S (fp_fh1 (fp_fhl S q) q) q) (fp_hi S q)) _; rw [hf2]; exact hlx2_6) (lv_sub hl [1, 0] rfl) hS (by show fp_ME G ad (va_up (va_up sc 0 ((0 : Nat) : Int)) 20 (((fp_pn (fp_fh2 S (fp_fh1 (fp_fhl S q) q) q) (fp_hi S q)).2 : Nat) : Int)) _ _; rw [hf2]; exact (hM_8).uu)
        · skip
          have hf2 : fp_fh2 S (fp_fh1 (fp_fhl S q) q) q = fp_pc (fp_fhl S q) 33 := by rw [hf1]; exact if_pos (by omega)
          refine lv_aload_n hx hb dX4_formatHeights_41 rfl (lv_at hl 0 rfl) ?_
          refine lv_bipush (v := (iI ((33 : Nat) : Int))) hx hb dX4_formatHeights_42 rfl ?_
          refine r_callV (cells1 := 0) (slots1 := 0) X hR (c_X4_writes G ad (va_up (va_up sc 0 (((0 : Nat) : Int))) 20 ((((fp_fhl S q).2 : Nat) : Int))) (va_up ar 13 a) hA0 (fp_fhl S q) rfl hla 33 (by omega) (by have := fp_fhl_le hV.1 q; (try simp only [fp_pc]); omega)) q2434 q2436 qs76 q100 q2437 ⟨rfl, pd_X4_writes⟩ (by decide) rfl rfl (by decide) (by decide) hM.1 rfl rfl (Nat.le_of_ble_eq_true rfl) hl.1 dX4_formatHeights_44 (hB.of hS (fp_ma.base hA0)) hM hS (fun _ h => Or.inl h) (fun v H locs hp_9 hzC hkC hS => ?_)
          obtain ⟨a_10, rfl, hM_12, hlx2_11⟩ := hp_9
          have hM_13 := fp_ME.nrm (sc2 := (va_up (va_up sc 0 (((0 : Nat) : Int))) 20 ((((fp_pc (fp_fhl S q) 33).2 : Nat) : Int)))) hM_12 rfl
          refine r_stk (st2 := []) rfl ?_
          refine lv_aload_n hx hb dX4_formatHeights_47 rfl (lv_at hl 0 rfl) ?_
          refine lv_aload_n hx hb dX4_formatHeights_48 rfl (lv_at hl 0 rfl) ?_
          refine lv_iload_n hx hb dX4_formatHeights_49 rfl (lv_at hl 1 rfl) ?_
          refine r_callV (cells1 := 0) (slots1 := 0) X hR (c_X4_high G ad (va_up (va_up sc 0 (((0 : Nat) : Int))) 20 ((((fp_pc (fp_fhl S q) 33).2 : Nat) : Int))) (va_up (va_up ar 13 a) 13 a_10) S hA0 hV q (by omega)) q2115 q2117 qs49 q100 q2118 ⟨rfl, pd_X4_high⟩ (by decide) rfl rfl (by decide) (by decide) hM_13.1 rfl rfl (Nat.le_of_ble_eq_true rfl) hl.1 dX4_formatHeights_50 (hB.of hS (fp_ma.base hA0)) hM_13 hS (fun _ h => h.elim) (fun v H1 locs hp_14 hzC hkC hS => ?_)
          obtain ⟨rfl, rfl⟩ := hp_14
          refine r_stk (st2 := [.int (iI ((fp_hi S q : Nat) : Int)), .ref (ad 0)]) rfl ?_
          have hh53 := fp_hi_le hV.1 q
          refine r_callV (cells1 := 0) (slots1 := 0) X hR (c_X4_writesNumber G ad (va_up (va_up sc 0 (((0 : Nat) : Int))) 20 ((((fp_pc (fp_fhl S q) 33).2 : Nat) : Int))) (va_up (va_up ar 13 a) 13 a_10) hA0 (fp_pc (fp_fhl S q) 33) rfl hlx2_11 (fp_hi S q) (by omega) (by have := fp_fhl_le hV.1 q; have h2 := fp_dg2 (n := fp_hi S q) (by omega); (try simp only [fp_pc]); omega)) q2438 q2440 qs77 q100 q2441 ⟨rfl, pd_X4_writesNumber⟩ (by decide) rfl rfl (by decide) (by decide) hM_13.1 rfl rfl (Nat.le_of_ble_eq_true rfl) hl.1 dX4_formatHeights_53 (hB.of hS (fp_ma.base hA0)) hM_13 hS (fun _ h => Or.inl h) (fun v H locs hp_15 hzC hkC hS => ?_)
          obtain ⟨a_16, rfl, hM_18, hlx2_17⟩ := hp_15
          have hM_19 := fp_ME.nrm (sc2 := (va_up (va_up sc 0 (((0 : Nat) : Int))) 20 ((((fp_pn (fp_pc (fp_fhl S q) 33) (fp_hi S q)).2 : Nat) : Int)))) hM_18 rfl
          refine r_stk (st2 := []) rfl ?_
          refine lv_iinc (v := (iI ((q + 1 : Nat) : Int))) (lv' := [(1, .int (iI ((q + 1 : Nat) : Int))), (0, .ref (ad 0))]) hx hb dX4_formatHeights_56 hl (k := 1) rfl (iI_incN _ _) (by decide) rfl (fun ls hl => ?_)
          refine lv_goto (tgt := 12) hx hb dX4_formatHeights_59 (by decide) ?_
          exact ih12 (by omega) a_16 H locs ls (by show fp_LX (fp_pn (fp_fh2 S (fp_fh1 (fp_fhl S q) q) q) (fp_hi S q)) _; rw [hf2]; exact hlx2_17) (lv_sub hl [1, 0] rfl) hS (by show fp_ME G ad (va_up (va_up sc 0 ((0 : Nat) : Int)) 20 (((fp_pn (fp_fh2 S (fp_fh1 (fp_fhl S q) q) q) (fp_hi S q)).2 : Nat) : Int)) _ _; rw [hf2]; exact ((hM_19).uu).uu)
      · skip
        have hf1 : fp_fh1 (fp_fhl S q) q = fp_pc (fp_fhl S q) 32 := if_neg (by omega)
        refine lv_aload_n hx hb dX4_formatHeights_22 rfl (lv_at hl 0 rfl) ?_
        refine lv_bipush (v := (iI ((32 : Nat) : Int))) hx hb dX4_formatHeights_23 rfl ?_
        refine r_callV (cells1 := 0) (slots1 := 0) X hR (c_X4_writes G ad (va_up (va_up sc 0 (((0 : Nat) : Int))) 20 ((((fp_fhl S q).2 : Nat) : Int))) (va_up ar 13 a) hA0 (fp_fhl S q) rfl hla 32 (by omega) (by have := fp_fhl_le hV.1 q; (try simp only [fp_pc]); omega)) q2434 q2436 qs76 q100 q2437 ⟨rfl, pd_X4_writes⟩ (by decide) rfl rfl (by decide) (by decide) hM.1 rfl rfl (Nat.le_of_ble_eq_true rfl) hl.1 dX4_formatHeights_25 (hB.of hS (fp_ma.base hA0)) hM hS (fun _ h => Or.inl h) (fun v H locs hp_20 hzC hkC hS => ?_)
        obtain ⟨a_21, rfl, hM_23, hlx2_22⟩ := hp_20
        have hM_24 := fp_ME.nrm (sc2 := (va_up (va_up sc 0 (((0 : Nat) : Int))) 20 ((((fp_pc (fp_fhl S q) 32).2 : Nat) : Int)))) hM_23 rfl
        refine r_stk (st2 := []) rfl ?_
        refine lv_aload_n hx hb dX4_formatHeights_28 rfl (lv_at hl 0 rfl) ?_
        refine r_get X hM_24.1 rfl in_X4 5 (by decide) q2014 (Or.inl rfl) (v := .ref (ad 5)) rfl dX4_formatHeights_29 ?_
        refine lv_bipush (v := (iI ((14 : Nat) : Int))) hx hb dX4_formatHeights_32 rfl ?_
        refine lv_iload_n hx hb dX4_formatHeights_34 rfl (lv_at hl 1 rfl) ?_
        refine r_iaddN hx hb dX4_formatHeights_35 ?_
        refine r_ialdI X (hM_24.2 5 (by decide) (by decide)) (j := 14 + q) (n := 170) rfl (by omega) (by decide) dX4_formatHeights_36 ?_
        refine r_set (y := .int (iI ((sT S q : Nat) : Int))) (congrArg (fun q : Int => Value.int (iI q)) (hV.2.2.2.2.1 q (by omega))) ?_
        have htc := hV.1.2.2.2.2 q (by omega)
        refine lv_iconst (v := (iI ((1 : Nat) : Int))) hx hb dX4_formatHeights_37 rfl ?_
        refine r_icmp_ne (tgt := 47) hx hb ⟨by omega, by omega⟩ (by decide) dX4_formatHeights_38 (by decide) (fun c38 => ?_) (fun c38 => ?_)
        · skip
          have hf2 : fp_fh2 S (fp_fh1 (fp_fhl S q) q) q = (fp_pc (fp_fhl S q) 32) := by rw [hf1]; exact if_neg (by omega)
          refine lv_aload_n hx hb dX4_formatHeights_47 rfl (lv_at hl 0 rfl) ?_
          refine lv_aload_n hx hb dX4_formatHeights_48 rfl (lv_at hl 0 rfl) ?_
          refine lv_iload_n hx hb dX4_formatHeights_49 rfl (lv_at hl 1 rfl) ?_
          refine r_callV (cells1 := 0) (slots1 := 0) X hR (c_X4_high G ad (va_up (va_up sc 0 (((0 : Nat) : Int))) 20 ((((fp_pc (fp_fhl S q) 32).2 : Nat) : Int))) (va_up (va_up ar 13 a) 13 a_21) S hA0 hV q (by omega)) q2115 q2117 qs49 q100 q2118 ⟨rfl, pd_X4_high⟩ (by decide) rfl rfl (by decide) (by decide) hM_24.1 rfl rfl (Nat.le_of_ble_eq_true rfl) hl.1 dX4_formatHeights_50 (hB.of hS (fp_ma.base hA0)) hM_24 hS (fun _ h => h.elim) (fun v H1 locs hp_25 hzC hkC hS => ?_)
          obtain ⟨rfl, rfl⟩ := hp_25
          refine r_stk (st2 := [.int (iI ((fp_hi S q : Nat) : Int)), .ref (ad 0)]) rfl ?_
          have hh53 := fp_hi_le hV.1 q
          refine r_callV (cells1 := 0) (slots1 := 0) X hR (c_X4_writesNumber G ad (va_up (va_up sc 0 (((0 : Nat) : Int))) 20 ((((fp_pc (fp_fhl S q) 32).2 : Nat) : Int))) (va_up (va_up ar 13 a) 13 a_21) hA0 (fp_pc (fp_fhl S q) 32) rfl hlx2_22 (fp_hi S q) (by omega) (by have := fp_fhl_le hV.1 q; have h2 := fp_dg2 (n := fp_hi S q) (by omega); (try simp only [fp_pc]); omega)) q2438 q2440 qs77 q100 q2441 ⟨rfl, pd_X4_writesNumber⟩ (by decide) rfl rfl (by decide) (by decide) hM_24.1 rfl rfl (Nat.le_of_ble_eq_true rfl) hl.1 dX4_formatHeights_53 (hB.of hS (fp_ma.base hA0)) hM_24 hS (fun _ h => Or.inl h) (fun v H locs hp_26 hzC hkC hS => ?_)
          obtain ⟨a_27, rfl, hM_29, hlx2_28⟩ := hp_26
          have hM_30 := fp_ME.nrm (sc2 := (va_up (va_up sc 0 (((0 : Nat) : Int))) 20 ((((fp_pn (fp_pc (fp_fhl S q) 32) (fp_hi S q)).2 : Nat) : Int)))) hM_29 rfl
          refine r_stk (st2 := []) rfl ?_
          refine lv_iinc (v := (iI ((q + 1 : Nat) : Int))) (lv' := [(1, .int (iI ((q + 1 : Nat) : Int))), (0, .ref (ad 0))]) hx hb dX4_formatHeights_56 hl (k := 1) rfl (iI_incN _ _) (by decide) rfl (fun ls hl => ?_)
          refine lv_goto (tgt := 12) hx hb dX4_formatHeights_59 (by decide) ?_
          exact ih12 (by omega) a_27 H locs ls (by show fp_LX (fp_pn (fp_fh2 S (fp_fh1 (fp_fhl S q) q) q) (fp_hi S q)) _; rw [hf2]; exact hlx2_28) (lv_sub hl [1, 0] rfl) hS (by show fp_ME G ad (va_up (va_up sc 0 ((0 : Nat) : Int)) 20 (((fp_pn (fp_fh2 S (fp_fh1 (fp_fhl S q) q) q) (fp_hi S q)).2 : Nat) : Int)) _ _; rw [hf2]; exact ((hM_30).uu).uu)
        · skip
          have hf2 : fp_fh2 S (fp_fh1 (fp_fhl S q) q) q = fp_pc ((fp_pc (fp_fhl S q) 32)) 33 := by rw [hf1]; exact if_pos (by omega)
          refine lv_aload_n hx hb dX4_formatHeights_41 rfl (lv_at hl 0 rfl) ?_
          refine lv_bipush (v := (iI ((33 : Nat) : Int))) hx hb dX4_formatHeights_42 rfl ?_
          refine r_callV (cells1 := 0) (slots1 := 0) X hR (c_X4_writes G ad (va_up (va_up sc 0 (((0 : Nat) : Int))) 20 ((((fp_pc (fp_fhl S q) 32).2 : Nat) : Int))) (va_up (va_up ar 13 a) 13 a_21) hA0 (fp_pc (fp_fhl S q) 32) rfl hlx2_22 33 (by omega) (by have := fp_fhl_le hV.1 q; (try simp only [fp_pc]); omega)) q2434 q2436 qs76 q100 q2437 ⟨rfl, pd_X4_writes⟩ (by decide) rfl rfl (by decide) (by decide) hM_24.1 rfl rfl (Nat.le_of_ble_eq_true rfl) hl.1 dX4_formatHeights_44 (hB.of hS (fp_ma.base hA0)) hM_24 hS (fun _ h => Or.inl h) (fun v H locs hp_31 hzC hkC hS => ?_)
          obtain ⟨a_32, rfl, hM_34, hlx2_33⟩ := hp_31
          have hM_35 := fp_ME.nrm (sc2 := (va_up (va_up sc 0 (((0 : Nat) : Int))) 20 ((((fp_pc (fp_pc (fp_fhl S q) 32) 33).2 : Nat) : Int)))) hM_34 rfl
          refine r_stk (st2 := []) rfl ?_
          refine lv_aload_n hx hb dX4_formatHeights_47 rfl (lv_at hl 0 rfl) ?_
          refine lv_aload_n hx hb dX4_formatHeights_48 rfl (lv_at hl 0 rfl) ?_
          refine lv_iload_n hx hb dX4_formatHeights_49 rfl (lv_at hl 1 rfl) ?_
          refine r_callV (cells1 := 0) (slots1 := 0) X hR (c_X4_high G ad (va_up (va_up sc 0 (((0 : Nat) : Int))) 20 ((((fp_pc (fp_pc (fp_fhl S q) 32) 33).2 : Nat) : Int))) (va_up (va_up (va_up ar 13 a) 13 a_21) 13 a_32) S hA0 hV q (by omega)) q2115 q2117 qs49 q100 q2118 ⟨rfl, pd_X4_high⟩ (by decide) rfl rfl (by decide) (by decide) hM_35.1 rfl rfl (Nat.le_of_ble_eq_true rfl) hl.1 dX4_formatHeights_50 (hB.of hS (fp_ma.base hA0)) hM_35 hS (fun _ h => h.elim) (fun v H1 locs hp_36 hzC hkC hS => ?_)
          obtain ⟨rfl, rfl⟩ := hp_36
          refine r_stk (st2 := [.int (iI ((fp_hi S q : Nat) : Int)), .ref (ad 0)]) rfl ?_
          have hh53 := fp_hi_le hV.1 q
          refine r_callV (cells1 := 0) (slots1 := 0) X hR (c_X4_writesNumber G ad (va_up (va_up sc 0 (((0 : Nat) : Int))) 20 ((((fp_pc (fp_pc (fp_fhl S q) 32) 33).2 : Nat) : Int))) (va_up (va_up (va_up ar 13 a) 13 a_21) 13 a_32) hA0 (fp_pc (fp_pc (fp_fhl S q) 32) 33) rfl hlx2_33 (fp_hi S q) (by omega) (by have := fp_fhl_le hV.1 q; have h2 := fp_dg2 (n := fp_hi S q) (by omega); (try simp only [fp_pc]); omega)) q2438 q2440 qs77 q100 q2441 ⟨rfl, pd_X4_writesNumber⟩ (by decide) rfl rfl (by decide) (by decide) hM_35.1 rfl rfl (Nat.le_of_ble_eq_true rfl) hl.1 dX4_formatHeights_53 (hB.of hS (fp_ma.base hA0)) hM_35 hS (fun _ h => Or.inl h) (fun v H locs hp_37 hzC hkC hS => ?_)
          obtain ⟨a_38, rfl, hM_40, hlx2_39⟩ := hp_37
          have hM_41 := fp_ME.nrm (sc2 := (va_up (va_up sc 0 (((0 : Nat) : Int))) 20 ((((fp_pn (fp_pc (fp_pc (fp_fhl S q) 32) 33) (fp_hi S q)).2 : Nat) : Int)))) hM_40 rfl
          refine r_stk (st2 := []) rfl ?_
          refine lv_iinc (v := (iI ((q + 1 : Nat) : Int))) (lv' := [(1, .int (iI ((q + 1 : Nat) : Int))), (0, .ref (ad 0))]) hx hb dX4_formatHeights_56 hl (k := 1) rfl (iI_incN _ _) (by decide) rfl (fun ls hl => ?_)
          refine lv_goto (tgt := 12) hx hb dX4_formatHeights_59 (by decide) ?_
          exact ih12 (by omega) a_38 H locs ls (by show fp_LX (fp_pn (fp_fh2 S (fp_fh1 (fp_fhl S q) q) q) (fp_hi S q)) _; rw [hf2]; exact hlx2_39) (lv_sub hl [1, 0] rfl) hS (by show fp_ME G ad (va_up (va_up sc 0 ((0 : Nat) : Int)) 20 (((fp_pn (fp_fh2 S (fp_fh1 (fp_fhl S q) q) q) (fp_hi S q)).2 : Nat) : Int)) _ _; rw [hf2]; exact (((hM_41).uu).uu).uu)
  exact L12 0 (by omega) (ar 13) H locs ls (fp_LX.zero _) (lv_sub hl [1, 0] rfl) hS (fp_ME.st0 hM_2 13 (fun _ _ => rfl))
