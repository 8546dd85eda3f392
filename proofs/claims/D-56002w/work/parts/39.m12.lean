/-! THE MODEL: programs -/
set_option maxHeartbeats 4000000 in
theorem c_X4_sign (G : fp_G) (ad : Nat → Nat) (sc : Nat → Int) (ar : Nat → Nat → Int) (hA0 : fp_MA G ad) (tx : Nat → Nat) (tn : Nat) (h : Nat) (hh : sc 18 = ((h : Nat) : Int)) (ht : sc 19 = ((tn : Nat) : Int)) (h60 : tn ≤ 60) (hle : h ≤ tn) (htx : ∀ i, i < tn → ar 12 i = (tx i : Int)) (htb : ∀ i, i < tn → tx i < 256) : fp_M G yX4_sign cX4_sign 1 (some .int) 1 12 0 0 [.ref (ad 0)] (fp_ME G ad sc ar) fp_no (fun H v H' => v = some (.int (iI (fp_sg tx tn h))) ∧ H = H') := by
  refine fp_M.intro (by decide) (Nat.le_of_ble_eq_true rfl) ?_
  intro pg en s mi ag bl mt cd rR qQ ls X hx hb hr hlk hnm hR hQ hB hM hl
  have hS : va_S (fA fp_no s.heap.size) s.heap s.heap [] := va_S.rf
  generalize ([] : List Loc) = locs at hS ⊢
  refine lv_aload_n hx hb dX4_sign_0 rfl (lv_at hl 0 rfl) ?_
  refine r_get X hM.1 rfl in_X4 18 (by decide) q2027 (Or.inl rfl) (v := .int (iI (sc 18))) rfl dX4_sign_1 ?_
  refine r_set (y := .int (iI ((h : Nat) : Int))) (congrArg (fun q : Int => Value.int (iI q)) (hh)) ?_
  refine lv_aload_n hx hb dX4_sign_4 rfl (lv_at hl 0 rfl) ?_
  refine r_get X hM.1 rfl in_X4 19 (by decide) q2028 (Or.inl rfl) (v := .int (iI (sc 19))) rfl dX4_sign_5 ?_
  refine r_set (y := .int (iI ((tn : Nat) : Int))) (congrArg (fun q : Int => Value.int (iI q)) (ht)) ?_
  refine r_icmp_ge (tgt := 23) hx hb ⟨by omega, by omega⟩ ⟨by omega, by omega⟩ dX4_sign_8 (by decide) (fun c8 => ?_) (fun c8 => ?_)
  · skip
    refine lv_iconst (v := (iI (-1))) hx hb dX4_sign_23 rfl ?_
    refine r_iret hx hb hr hlk hQ hS (Nat.le_of_ble_eq_true rfl) (Nat.le_of_ble_eq_true rfl) dX4_sign_24 ?_
    exact ⟨congrArg (fun q : Int => some (Value.int (iI q))) (show (-1) = fp_sg tx tn h from (if_neg (by omega)).symm), rfl⟩
  · skip
    refine lv_aload_n hx hb dX4_sign_11 rfl (lv_at hl 0 rfl) ?_
    refine r_get X hM.1 rfl in_X4 12 (by decide) q2021 (Or.inl rfl) (v := .ref (ad 12)) rfl dX4_sign_12 ?_
    refine lv_aload_n hx hb dX4_sign_15 rfl (lv_at hl 0 rfl) ?_
    refine r_get X hM.1 rfl in_X4 18 (by decide) q2027 (Or.inl rfl) (v := .int (iI (sc 18))) rfl dX4_sign_16 ?_
    refine r_set (y := .int (iI ((h : Nat) : Int))) (congrArg (fun q : Int => Value.int (iI q)) (hh)) ?_
    refine r_ialdI X (hM.2 12 (by decide) (by decide)) (j := h) (n := 60) rfl (by omega) (by decide) dX4_sign_19 ?_
    refine r_set (y := .int (iI ((tx h : Nat) : Int))) (congrArg (fun q : Int => Value.int (iI q)) (htx h (by omega))) ?_
    refine lv_goto (tgt := 24) hx hb dX4_sign_20 (by decide) ?_
    refine r_iret hx hb hr hlk hQ hS (Nat.le_of_ble_eq_true rfl) (Nat.le_of_ble_eq_true rfl) dX4_sign_24 ?_
    exact ⟨congrArg (fun q : Int => some (Value.int (iI q))) (show ((tx h : Nat) : Int) = fp_sg tx tn h from (if_pos (by omega)).symm), rfl⟩
set_option maxHeartbeats 4000000 in
theorem c_X4_mark (G : fp_G) (ad : Nat → Nat) (sc : Nat → Int) (ar : Nat → Nat → Int) (hA0 : fp_MA G ad) (tx : Nat → Nat) (tn : Nat) (h : Nat) (hh : sc 18 = ((h : Nat) : Int)) (ht : sc 19 = ((tn : Nat) : Int)) (h60 : tn ≤ 60) (hle : h ≤ tn) (htx : ∀ i, i < tn → ar 12 i = (tx i : Int)) (htb : ∀ i, i < tn → tx i < 256) (c : Int) (hc : rg c) (hc0 : 0 ≤ c) (hw0 : sc 21 = 0) : fp_M G yX4_mark cX4_mark 2 none 2 32 0 0 [.ref (ad 0), .int (iI (c))] (fp_ME G ad sc ar) (fp_ma ad) (fun _ v H => (v = none ∧ fp_ME G ad (va_up (va_up sc 18 (((h + 1 : Nat) : Int))) 21 (((0 : Nat) : Int))) ar H ∧ (fp_sg tx tn h = c) ∧ (h + 1 ≤ tn)) ∨ (v = none ∧ fp_ME G ad (va_up (va_up sc 18 (((h : Nat) : Int))) 21 (((1 : Nat) : Int))) ar H ∧ (fp_sg tx tn h ≠ c) ∧ (h ≤ tn))) := by
  refine fp_M.intro (by decide) (Nat.le_of_ble_eq_true rfl) ?_
  intro pg en s mi ag bl mt cd rR qQ ls X hx hb hr hlk hnm hR hQ hB hM hl
  have hS : va_S (fA (fp_ma ad) s.heap.size) s.heap s.heap [] := va_S.rf
  generalize ([] : List Loc) = locs at hS ⊢
  refine lv_aload_n hx hb dX4_mark_0 rfl (lv_at hl 0 rfl) ?_
  refine r_get X hM.1 rfl in_X4 21 (by decide) q2030 (Or.inl rfl) (v := .int (iI (sc 21))) rfl dX4_mark_1 ?_
  refine r_set (y := .int (iI ((0 : Nat) : Int))) (congrArg (fun q : Int => Value.int (iI q)) (hw0)) ?_
  refine r_if_eq (tgt := 8) hx hb (by decide) dX4_mark_4 (by decide) (fun c4 => ?_) (fun c4 => ?_)
  · skip
    refine lv_aload_n hx hb dX4_mark_8 rfl (lv_at hl 0 rfl) ?_
    refine lv_aload_n hx hb dX4_mark_9 rfl (lv_at hl 0 rfl) ?_
    refine r_callV (cells1 := 0) (slots1 := 0) X hR (c_X4_sign G ad sc ar hA0 tx tn h hh ht h60 hle htx htb  ) q2470 q2472 qs81 q100 q2473 ⟨rfl, pd_X4_sign⟩ (by decide) rfl rfl (by decide) (by decide) hM.1 rfl rfl (Nat.le_of_ble_eq_true rfl) hl.1 dX4_mark_10 (hB.of hS (fp_ma.base hA0)) hM hS (fun _ h => h.elim) (fun v H1 locs hp_1 hzC hkC hS => ?_)
    obtain ⟨rfl, rfl⟩ := hp_1
    refine r_stk (st2 := [.int (iI (fp_sg tx tn h)), .ref (ad 0)]) rfl ?_
    have hsb13 := fp_sg_b htb h
    refine lv_iload_n hx hb dX4_mark_13 rfl (lv_at hl 1 rfl) ?_
    refine r_icmp_eq (tgt := 21) hx hb ⟨by omega, by omega⟩ ⟨by omega, by omega⟩ dX4_mark_14 (by decide) (fun c14 => ?_) (fun c14 => ?_)
    · skip
      refine lv_iconst (v := (iI ((0 : Nat) : Int))) hx hb dX4_mark_21 rfl ?_
      refine m_put X hM hS hA0 (k := 21) (sc2 := (va_up sc 21 (((0 : Nat) : Int)))) rfl (by decide) q2030 rfl rfl rfl dX4_mark_22 rfl (fun H locs hM_2 hS => ?_)
      refine lv_aload_n hx hb dX4_mark_25 rfl (lv_at hl 0 rfl) ?_
      refine lv_dup hx hb dX4_mark_26 rfl ?_
      refine r_get X hM_2.1 rfl in_X4 18 (by decide) q2027 (Or.inl rfl) (v := .int (iI (sc 18))) rfl dX4_mark_27 ?_
      refine r_set (y := .int (iI ((h : Nat) : Int))) (congrArg (fun q : Int => Value.int (iI q)) (hh)) ?_
      refine lv_aload_n hx hb dX4_mark_30 rfl (lv_at hl 0 rfl) ?_
      refine r_get X hM_2.1 rfl in_X4 21 (by decide) q2030 (Or.inl rfl) (v := .int (iI ((0 : Nat) : Int))) rfl dX4_mark_31 ?_
      refine r_if_eq (tgt := 41) hx hb (by decide) dX4_mark_34 (by decide) (fun c34 => ?_) (fun c34 => ?_)
      · skip
        refine lv_iconst (v := (iI ((1 : Nat) : Int))) hx hb dX4_mark_41 rfl ?_
        refine r_iaddN hx hb dX4_mark_42 ?_
        refine m_put X hM_2 hS hA0 (k := 18) (sc2 := (va_up (va_up sc 21 (((0 : Nat) : Int))) 18 (((h + 1 : Nat) : Int)))) rfl (by decide) q2027 rfl rfl rfl dX4_mark_43 rfl (fun H locs hM_3 hS => ?_)
        refine r_vret hx hb hr hlk hQ hS (Nat.le_of_ble_eq_true rfl) (Nat.le_of_ble_eq_true rfl) dX4_mark_46 ?_
        exact Or.inl ⟨rfl, (hM_3.nrm rfl), (by omega), (by have := fp_sg_lt (tx := tx) (n := tn) (k := h) (c := c) (by omega) hc0; omega)⟩
      · exact absurd c34 (by omega)
    · skip
      refine lv_iconst (v := (iI ((1 : Nat) : Int))) hx hb dX4_mark_17 rfl ?_
      refine lv_goto (tgt := 22) hx hb dX4_mark_18 (by decide) ?_
      refine m_put X hM hS hA0 (k := 21) (sc2 := (va_up sc 21 (((1 : Nat) : Int)))) rfl (by decide) q2030 rfl rfl rfl dX4_mark_22 rfl (fun H locs hM_4 hS => ?_)
      refine lv_aload_n hx hb dX4_mark_25 rfl (lv_at hl 0 rfl) ?_
      refine lv_dup hx hb dX4_mark_26 rfl ?_
      refine r_get X hM_4.1 rfl in_X4 18 (by decide) q2027 (Or.inl rfl) (v := .int (iI (sc 18))) rfl dX4_mark_27 ?_
      refine r_set (y := .int (iI ((h : Nat) : Int))) (congrArg (fun q : Int => Value.int (iI q)) (hh)) ?_
      refine lv_aload_n hx hb dX4_mark_30 rfl (lv_at hl 0 rfl) ?_
      refine r_get X hM_4.1 rfl in_X4 21 (by decide) q2030 (Or.inl rfl) (v := .int (iI ((1 : Nat) : Int))) rfl dX4_mark_31 ?_
      refine r_if_eq (tgt := 41) hx hb (by decide) dX4_mark_34 (by decide) (fun c34 => ?_) (fun c34 => ?_)
      · exact absurd c34 (by omega)
      · skip
        refine lv_iconst (v := (iI ((0 : Nat) : Int))) hx hb dX4_mark_37 rfl ?_
        refine lv_goto (tgt := 42) hx hb dX4_mark_38 (by decide) ?_
        refine r_iaddN hx hb dX4_mark_42 ?_
        refine m_put X hM_4 hS hA0 (k := 18) (sc2 := (va_up (va_up sc 21 (((1 : Nat) : Int))) 18 (((h + 0 : Nat) : Int)))) rfl (by decide) q2027 rfl rfl rfl dX4_mark_43 rfl (fun H locs hM_5 hS => ?_)
        refine r_vret hx hb hr hlk hQ hS (Nat.le_of_ble_eq_true rfl) (Nat.le_of_ble_eq_true rfl) dX4_mark_46 ?_
        exact Or.inr (⟨rfl, (hM_5.nrm rfl), (by omega), hle⟩)
  · exact absurd c4 (by omega)
set_option maxHeartbeats 4000000 in
theorem c_X4_digits (G : fp_G) (ad : Nat → Nat) (sc : Nat → Int) (ar : Nat → Nat → Int) (hA0 : fp_MA G ad) (tx : Nat → Nat) (tn : Nat) (h : Nat) (hh : sc 18 = ((h : Nat) : Int)) (ht : sc 19 = ((tn : Nat) : Int)) (h60 : tn ≤ 60) (hle : h ≤ tn) (htx : ∀ i, i < tn → ar 12 i = (tx i : Int)) (htb : ∀ i, i < tn → tx i < 256) (q : Nat) (hq : q ≤ 2 ∧ 1 ≤ q) (hw0 : sc 21 = 0) : fp_M G yX4_digits cX4_digits 4 (some .int) 2 34 0 0 [.ref (ad 0), .int (iI ((q : Nat) : Int))] (fp_ME G ad sc ar) (fp_ma ad) (fun _ v H => (v = some (.int (iI (fp_dvl tx tn h (fp_dct tx tn h q)))) ∧ fp_ME G ad (va_up (va_up sc 18 (((h + fp_dct tx tn h q : Nat) : Int))) 21 (((0 : Nat) : Int))) ar H ∧ (0 < fp_dct tx tn h q) ∧ (h + fp_dct tx tn h q ≤ tn)) ∨ (v = some (.int (iI ((0 : Nat) : Int))) ∧ fp_ME G ad (va_up (va_up sc 18 (((h : Nat) : Int))) 21 (((1 : Nat) : Int))) ar H ∧ (fp_dct tx tn h q = 0) ∧ (h ≤ tn))) := by
  refine fp_M.intro (by decide) (Nat.le_of_ble_eq_true rfl) ?_
  intro pg en s mi ag bl mt cd rR qQ ls X hx hb hr hlk hnm hR hQ hB hM hl
  have hS : va_S (fA (fp_ma ad) s.heap.size) s.heap s.heap [] := va_S.rf
  generalize ([] : List Loc) = locs at hS ⊢
  refine lv_iconst (v := (iI ((0 : Nat) : Int))) hx hb dX4_digits_0 rfl ?_
  refine lv_istore_n (lv' := [(2, .int (iI ((0 : Nat) : Int))), (0, .ref (ad 0)), (1, .int (iI ((q : Nat) : Int)))]) hx hb dX4_digits_1 rfl hl (by decide) rfl (fun ls hl => ?_)
  refine lv_iconst (v := (iI ((0 : Nat) : Int))) hx hb dX4_digits_2 rfl ?_
  refine lv_istore_n (lv' := [(3, .int (iI ((0 : Nat) : Int))), (2, .int (iI ((0 : Nat) : Int))), (0, .ref (ad 0)), (1, .int (iI ((q : Nat) : Int)))]) hx hb dX4_digits_3 rfl hl (by decide) rfl (fun ls hl => ?_)
  have L4 : ∀ (k : Nat), k ≤ q → ∀ (H : Heap) (locs : List Loc) (ls : Array Slot),(∀ i, i < k → fp_isd tx tn (h + i) = true) → (h + k ≤ tn) → lv_has ls 4 [(0, .ref (ad 0)), (1, .int (iI ((q : Nat) : Int))), (2, .int (iI (fp_dvl tx tn h k))), (3, .int (iI ((k : Nat) : Int)))] → va_S (fA (fp_ma ad) s.heap.size) s.heap H locs → fp_ME G ad (va_up sc 18 (((h + k : Nat) : Int))) ar H → W pg (g_l G) en rR s mi ag bl mt cd H locs 0 0 qQ (F0 mi 4 ls []) := by
    refine lp_up q ?_
    intro k hk4 ih4 H locs ls hda hkl hl hS hM
    have hvb := fp_dvl_b k hda (by omega)
    refine lv_aload_n hx hb dX4_digits_4 rfl (lv_at hl 0 rfl) ?_
    refine r_get X hM.1 rfl in_X4 21 (by decide) q2030 (Or.inl rfl) (v := .int (iI (sc 21))) rfl dX4_digits_5 ?_
    refine r_set (y := .int (iI ((0 : Nat) : Int))) (congrArg (fun q : Int => Value.int (iI q)) (hw0)) ?_
    refine r_if_ne (tgt := 59) hx hb (by decide) dX4_digits_8 (by decide) (fun c8 => ?_) (fun c8 => ?_)
    · exact absurd c8 (by omega)
    · skip
      refine lv_iload_n hx hb dX4_digits_11 rfl (lv_at hl 3 rfl) ?_
      refine lv_iload_n hx hb dX4_digits_12 rfl (lv_at hl 1 rfl) ?_
      refine r_icmp_ge (tgt := 59) hx hb ⟨by omega, by omega⟩ ⟨by omega, by omega⟩ dX4_digits_13 (by decide) (fun c13 => ?_) (fun c13 => ?_)
      · skip
        refine lv_aload_n hx hb dX4_digits_59 rfl (lv_at hl 0 rfl) ?_
        refine lv_dup hx hb dX4_digits_60 rfl ?_
        refine r_get X hM.1 rfl in_X4 21 (by decide) q2030 (Or.inl rfl) (v := .int (iI (sc 21))) rfl dX4_digits_61 ?_
        refine r_set (y := .int (iI ((0 : Nat) : Int))) (congrArg (fun q : Int => Value.int (iI q)) (hw0)) ?_
        refine lv_iload_n hx hb dX4_digits_64 rfl (lv_at hl 3 rfl) ?_
        refine r_if_ne (tgt := 72) hx hb ⟨by omega, by omega⟩ dX4_digits_65 (by decide) (fun c65 => ?_) (fun c65 => ?_)
        · skip
          refine lv_iconst (v := (iI ((0 : Nat) : Int))) hx hb dX4_digits_72 rfl ?_
          refine r_iorB (a := false) (b := false) hx hb dX4_digits_73 ?_
          refine r_set (y := .int (iI ((0 : Nat) : Int))) rfl ?_
          refine m_put X hM hS hA0 (k := 21) (sc2 := (va_up (va_up sc 18 (((h + k : Nat) : Int))) 21 (((0 : Nat) : Int)))) rfl (by decide) q2030 rfl rfl rfl dX4_digits_74 rfl (fun H locs hM_1 hS => ?_)
          refine lv_iload_n hx hb dX4_digits_77 rfl (lv_at hl 2 rfl) ?_
          refine r_iret hx hb hr hlk hQ hS (Nat.le_of_ble_eq_true rfl) (Nat.le_of_ble_eq_true rfl) dX4_digits_78 ?_
          exact Or.inl ⟨(by rw [show fp_dct tx tn h q = k from fp_dct_eq (by omega) hda (by first | exact Or.inl (by omega) | exact Or.inr hid)]), (by rw [show fp_dct tx tn h q = k from fp_dct_eq (by omega) hda (by first | exact Or.inl (by omega) | exact Or.inr hid)]; exact hM_1), (by rw [show fp_dct tx tn h q = k from fp_dct_eq (by omega) hda (by first | exact Or.inl (by omega) | exact Or.inr hid)]; omega), (by rw [show fp_dct tx tn h q = k from fp_dct_eq (by omega) hda (by first | exact Or.inl (by omega) | exact Or.inr hid)]; exact hkl)⟩
        · skip
          refine lv_iconst (v := (iI ((1 : Nat) : Int))) hx hb dX4_digits_68 rfl ?_
          refine lv_goto (tgt := 73) hx hb dX4_digits_69 (by decide) ?_
          refine r_iorB (a := false) (b := true) hx hb dX4_digits_73 ?_
          refine r_set (y := .int (iI ((1 : Nat) : Int))) rfl ?_
          refine m_put X hM hS hA0 (k := 21) (sc2 := (va_up (va_up sc 18 (((h + k : Nat) : Int))) 21 (((1 : Nat) : Int)))) rfl (by decide) q2030 rfl rfl rfl dX4_digits_74 rfl (fun H locs hM_2 hS => ?_)
          refine lv_iload_n hx hb dX4_digits_77 rfl (lv_at hl 2 rfl) ?_
          refine r_iret hx hb hr hlk hQ hS (Nat.le_of_ble_eq_true rfl) (Nat.le_of_ble_eq_true rfl) dX4_digits_78 ?_
          exact Or.inr (⟨(congrArg (fun q : Int => some (Value.int (iI q))) (by rw [show k = 0 by omega]; rfl)), (by have e : (k : Nat) = 0 := (by omega); rw [show h = h + k by omega]; exact hM_2), (by rw [show fp_dct tx tn h q = k from fp_dct_eq (by omega) hda (by first | exact Or.inl (by omega) | exact Or.inr hid)]; omega), hle⟩)
      · skip
        refine lv_aload_n hx hb dX4_digits_16 rfl (lv_at hl 0 rfl) ?_
        refine r_callV (cells1 := 0) (slots1 := 0) X hR (c_X4_sign G ad (va_up sc 18 (((h + k : Nat) : Int))) ar hA0 tx tn (h + k) rfl ht h60 hkl htx htb  ) q2470 q2472 qs81 q100 q2473 ⟨rfl, pd_X4_sign⟩ (by decide) rfl rfl (by decide) (by decide) hM.1 rfl rfl (Nat.le_of_ble_eq_true rfl) hl.1 dX4_digits_17 (hB.of hS (fp_ma.base hA0)) hM hS (fun _ h => h.elim) (fun v H1 locs hp_3 hzC hkC hS => ?_)
        obtain ⟨rfl, rfl⟩ := hp_3
        refine r_stk (st2 := [.int (iI (fp_sg tx tn (h + k)))]) rfl ?_
        have hsb20 := fp_sg_b htb (h + k)
        refine lv_bipush (v := (iI ((48 : Nat) : Int))) hx hb dX4_digits_20 rfl ?_
        refine lv_bipush (v := (iI ((57 : Nat) : Int))) hx hb dX4_digits_22 rfl ?_
        refine r_callS (cells1 := 0) (slots1 := 0) X hR (c_X4_isIn G (fp_sg tx tn (h + k)) 48 57 (by omega) (by omega) (by omega)) q2104 q2105 q100 q2106 pd_X4_isIn (by decide) rfl rfl (by decide) (by decide) rfl (Nat.le_of_ble_eq_true rfl) hl.1 dX4_digits_24 (hB.of hS (fp_ma.base hA0)) trivial hS (fun _ h => h.elim) (fun v H1 locs hp_4 hzC hkC hS => ?_)
        obtain ⟨rfl, rfl⟩ := hp_4
        refine r_stk (st2 := [.int (iI (bI (decide (48 ≤ (fp_sg tx tn (h + k)) ∧ (fp_sg tx tn (h + k)) ≤ 57))))]) rfl ?_
        refine r_ifeqB (tgt := 59) hx hb dX4_digits_27 (by decide) (fun c27 => ?_) (fun c27 => ?_)
        · skip
          have hid : fp_isd tx tn (h + k) = false := c27
          have c27 := of_decide_eq_false c27
          refine lv_aload_n hx hb dX4_digits_59 rfl (lv_at hl 0 rfl) ?_
          refine lv_dup hx hb dX4_digits_60 rfl ?_
          refine r_get X hM.1 rfl in_X4 21 (by decide) q2030 (Or.inl rfl) (v := .int (iI (sc 21))) rfl dX4_digits_61 ?_
          refine r_set (y := .int (iI ((0 : Nat) : Int))) (congrArg (fun q : Int => Value.int (iI q)) (hw0)) ?_
          refine lv_iload_n hx hb dX4_digits_64 rfl (lv_at hl 3 rfl) ?_
          refine r_if_ne (tgt := 72) hx hb ⟨by omega, by omega⟩ dX4_digits_65 (by decide) (fun c65 => ?_) (fun c65 => ?_)
          · skip
            refine lv_iconst (v := (iI ((0 : Nat) : Int))) hx hb dX4_digits_72 rfl ?_
            refine r_iorB (a := false) (b := false) hx hb dX4_digits_73 ?_
            refine r_set (y := .int (iI ((0 : Nat) : Int))) rfl ?_
            refine m_put X hM hS hA0 (k := 21) (sc2 := (va_up (va_up sc 18 (((h + k : Nat) : Int))) 21 (((0 : Nat) : Int)))) rfl (by decide) q2030 rfl rfl rfl dX4_digits_74 rfl (fun H locs hM_5 hS => ?_)
            refine lv_iload_n hx hb dX4_digits_77 rfl (lv_at hl 2 rfl) ?_
            refine r_iret hx hb hr hlk hQ hS (Nat.le_of_ble_eq_true rfl) (Nat.le_of_ble_eq_true rfl) dX4_digits_78 ?_
            exact Or.inl ⟨(by rw [show fp_dct tx tn h q = k from fp_dct_eq (by omega) hda (by first | exact Or.inl (by omega) | exact Or.inr hid)]), (by rw [show fp_dct tx tn h q = k from fp_dct_eq (by omega) hda (by first | exact Or.inl (by omega) | exact Or.inr hid)]; exact hM_5), (by rw [show fp_dct tx tn h q = k from fp_dct_eq (by omega) hda (by first | exact Or.inl (by omega) | exact Or.inr hid)]; omega), (by rw [show fp_dct tx tn h q = k from fp_dct_eq (by omega) hda (by first | exact Or.inl (by omega) | exact Or.inr hid)]; exact hkl)⟩
          · skip
            refine lv_iconst (v := (iI ((1 : Nat) : Int))) hx hb dX4_digits_68 rfl ?_
            refine lv_goto (tgt := 73) hx hb dX4_digits_69 (by decide) ?_
            refine r_iorB (a := false) (b := true) hx hb dX4_digits_73 ?_
            refine r_set (y := .int (iI ((1 : Nat) : Int))) rfl ?_
            refine m_put X hM hS hA0 (k := 21) (sc2 := (va_up (va_up sc 18 (((h + k : Nat) : Int))) 21 (((1 : Nat) : Int)))) rfl (by decide) q2030 rfl rfl rfl dX4_digits_74 rfl (fun H locs hM_6 hS => ?_)
            refine lv_iload_n hx hb dX4_digits_77 rfl (lv_at hl 2 rfl) ?_
            refine r_iret hx hb hr hlk hQ hS (Nat.le_of_ble_eq_true rfl) (Nat.le_of_ble_eq_true rfl) dX4_digits_78 ?_
            exact Or.inr (⟨(congrArg (fun q : Int => some (Value.int (iI q))) (by rw [show k = 0 by omega]; rfl)), (by have e : (k : Nat) = 0 := (by omega); rw [show h = h + k by omega]; exact hM_6), (by rw [show fp_dct tx tn h q = k from fp_dct_eq (by omega) hda (by first | exact Or.inl (by omega) | exact Or.inr hid)]; omega), hle⟩)
        · skip
          have hid : fp_isd tx tn (h + k) = true := c27
          have c27 := of_decide_eq_true c27
          refine lv_bipush (v := (iI ((10 : Nat) : Int))) hx hb dX4_digits_30 rfl ?_
          refine lv_iload_n hx hb dX4_digits_32 rfl (lv_at hl 2 rfl) ?_
          refine r_imul hx hb dX4_digits_33 ?_
          refine lv_aload_n hx hb dX4_digits_34 rfl (lv_at hl 0 rfl) ?_
          refine r_callV (cells1 := 0) (slots1 := 0) X hR (c_X4_sign G ad (va_up sc 18 (((h + k : Nat) : Int))) ar hA0 tx tn (h + k) rfl ht h60 hkl htx htb  ) q2470 q2472 qs81 q100 q2473 ⟨rfl, pd_X4_sign⟩ (by decide) rfl rfl (by decide) (by decide) hM.1 rfl rfl (Nat.le_of_ble_eq_true rfl) hl.1 dX4_digits_35 (hB.of hS (fp_ma.base hA0)) hM hS (fun _ h => h.elim) (fun v H1 locs hp_7 hzC hkC hS => ?_)
          obtain ⟨rfl, rfl⟩ := hp_7
          refine r_stk (st2 := [.int (iI (fp_sg tx tn (h + k))), .int (iI (((10 : Nat) : Int) * (fp_dvl tx tn h k)))]) rfl ?_
          have hsb38 := fp_sg_b htb (h + k)
          refine r_iadd hx hb dX4_digits_38 ?_
          refine lv_bipush (v := (iI ((48 : Nat) : Int))) hx hb dX4_digits_39 rfl ?_
          refine r_isub hx hb dX4_digits_41 ?_
          refine lv_istore_n (lv' := [(2, .int (iI (((((10 : Nat) : Int) * (fp_dvl tx tn h k)) + (fp_sg tx tn (h + k))) - ((48 : Nat) : Int)))), (0, .ref (ad 0)), (1, .int (iI ((q : Nat) : Int))), (3, .int (iI ((k : Nat) : Int)))]) hx hb dX4_digits_42 rfl hl (by decide) rfl (fun ls hl => ?_)
          refine lv_aload_n hx hb dX4_digits_43 rfl (lv_at hl 1 rfl) ?_
          refine lv_dup hx hb dX4_digits_44 rfl ?_
          refine r_get X hM.1 rfl in_X4 18 (by decide) q2027 (Or.inl rfl) (v := .int (iI ((h + k : Nat) : Int))) rfl dX4_digits_45 ?_
          refine lv_iconst (v := (iI ((1 : Nat) : Int))) hx hb dX4_digits_48 rfl ?_
          refine r_iaddN hx hb dX4_digits_49 ?_
          refine m_put X hM hS hA0 (k := 18) (sc2 := (va_up sc 18 ((((h + k) + 1 : Nat) : Int)))) rfl (by decide) q2027 rfl rfl rfl dX4_digits_50 rfl (fun H locs hM_8 hS => ?_)
          refine lv_iinc (v := (iI ((k + 1 : Nat) : Int))) (lv' := [(3, .int (iI ((k + 1 : Nat) : Int))), (2, .int (iI (((((10 : Nat) : Int) * (fp_dvl tx tn h k)) + (fp_sg tx tn (h + k))) - ((48 : Nat) : Int)))), (0, .ref (ad 0)), (1, .int (iI ((q : Nat) : Int)))]) hx hb dX4_digits_53 hl (k := 3) rfl (iI_incN _ _) (by decide) rfl (fun ls hl => ?_)
          refine lv_goto (tgt := 4) hx hb dX4_digits_56 (by decide) ?_
          exact ih4 (by omega) H locs ls (lt_s hda hid) (by have := fp_sg_lt (tx := tx) (n := tn) (k := h + k) (c := fp_sg tx tn (h + k)) rfl (by omega); omega) (by rw [show Value.int (iI (fp_dvl tx tn h (k + 1))) = Value.int (iI (((((10 : Nat) : Int) * (fp_dvl tx tn h k)) + (fp_sg tx tn (h + k))) - ((48 : Nat) : Int))) from congrArg (fun q : Int => Value.int (iI q)) (by show 10 * fp_dvl tx tn h k + fp_sg tx tn (h + k) - 48 = _; omega)]; exact lv_sub hl [2, 3, 1, 0] rfl) hS hM_8
  exact L4 0 (by omega) (s.heap) locs ls lt_0 (by omega) (lv_sub hl [2, 3, 1, 0] rfl) hS (fp_ME.upe hM hh)
set_option maxHeartbeats 4000000 in
theorem c_X4_digitBehind (G : fp_G) (ad : Nat → Nat) (sc : Nat → Int) (ar : Nat → Nat → Int) (hA0 : fp_MA G ad) (tx : Nat → Nat) (tn : Nat) (h : Nat) (hh : sc 18 = ((h : Nat) : Int)) (ht : sc 19 = ((tn : Nat) : Int)) (h60 : tn ≤ 60) (hle : h ≤ tn) (htx : ∀ i, i < tn → ar 12 i = (tx i : Int)) (htb : ∀ i, i < tn → tx i < 256) (hw0 : sc 21 = 0) : fp_M G yX4_digitBehind cX4_digitBehind 1 (some .int) 3 57 0 0 [.ref (ad 0)] (fp_ME G ad sc ar) (fp_ma ad) (fun _ v H => (v = some (.int (iI (fp_dvl tx tn (h + 1) (fp_dct tx tn (h + 1) 1)))) ∧ fp_ME G ad (va_up (va_up sc 18 (((h + 1 + fp_dct tx tn (h + 1) 1 : Nat) : Int))) 21 (((0 : Nat) : Int))) ar H ∧ (fp_sg tx tn h = 32) ∧ (0 < fp_dct tx tn (h + 1) 1) ∧ (h + 1 + fp_dct tx tn (h + 1) 1 ≤ tn)) ∨ (v = some (.int (iI ((0 : Nat) : Int))) ∧ fp_ME G ad (va_up (va_up sc 18 (((h + 1 : Nat) : Int))) 21 (((1 : Nat) : Int))) ar H ∧ (fp_sg tx tn h = 32) ∧ (fp_dct tx tn (h + 1) 1 = 0) ∧ (h + 1 ≤ tn)) ∨ (v = some (.int (iI ((0 : Nat) : Int))) ∧ fp_ME G ad (va_up (va_up sc 18 (((h : Nat) : Int))) 21 (((1 : Nat) : Int))) ar H ∧ (fp_sg tx tn h ≠ 32) ∧ (h ≤ tn))) := by
  refine fp_M.intro (by decide) (Nat.le_of_ble_eq_true rfl) ?_
  intro pg en s mi ag bl mt cd rR qQ ls X hx hb hr hlk hnm hR hQ hB hM hl
  have hS : va_S (fA (fp_ma ad) s.heap.size) s.heap s.heap [] := va_S.rf
  generalize ([] : List Loc) = locs at hS ⊢
  refine lv_aload_n hx hb dX4_digitBehind_0 rfl (lv_at hl 0 rfl) ?_
  refine lv_bipush (v := (iI ((32 : Nat) : Int))) hx hb dX4_digitBehind_1 rfl ?_
  refine r_callV (cells1 := 0) (slots1 := 0) X hR (c_X4_mark G ad sc ar hA0 tx tn h hh ht h60 hle htx htb 32 (by decide) (by decide) hw0) q2482 q2484 qs84 q100 q2485 ⟨rfl, pd_X4_mark⟩ (by decide) rfl rfl (by decide) (by decide) hM.1 rfl rfl (Nat.le_of_ble_eq_true rfl) hl.1 dX4_digitBehind_3 (hB.of hS (fp_ma.base hA0)) hM hS (fun _ h => Or.inl h) (fun v H locs hp_1 hzC hkC hS => ?_)
  rcases hp_1 with ⟨rfl, hM_4, hs_2, hle2_3⟩ | ⟨rfl, hM_7, hs_5, hle2_6⟩
  · skip
    have hM_8 := fp_ME.nrm (sc2 := (va_up (va_up sc 18 (((h + 1 : Nat) : Int))) 21 (((0 : Nat) : Int)))) hM_4 rfl
    refine r_stk (st2 := []) rfl ?_
    refine lv_aload_n hx hb dX4_digitBehind_6 rfl (lv_at hl 0 rfl) ?_
    refine r_get X hM_8.1 rfl in_X4 21 (by decide) q2030 (Or.inl rfl) (v := .int (iI ((0 : Nat) : Int))) rfl dX4_digitBehind_7 ?_
    refine r_if_eq (tgt := 17) hx hb (by decide) dX4_digitBehind_10 (by decide) (fun c10 => ?_) (fun c10 => ?_)
    · skip
      refine lv_aload_n hx hb dX4_digitBehind_17 rfl (lv_at hl 0 rfl) ?_
      refine lv_iconst (v := (iI ((1 : Nat) : Int))) hx hb dX4_digitBehind_18 rfl ?_
      refine r_callV (cells1 := 0) (slots1 := 0) X hR (c_X4_digits G ad (va_up (va_up sc 18 (((h + 1 : Nat) : Int))) 21 (((0 : Nat) : Int))) ar hA0 tx tn (h + 1) rfl ht h60 hle2_3 htx htb 1 (by decide) rfl) q2474 q2476 qs82 q100 q2477 ⟨rfl, pd_X4_digits⟩ (by decide) rfl rfl (by decide) (by decide) hM_8.1 rfl rfl (Nat.le_of_ble_eq_true rfl) hl.1 dX4_digitBehind_19 (hB.of hS (fp_ma.base hA0)) hM_8 hS (fun _ h => Or.inl h) (fun v H locs hp_9 hzC hkC hS => ?_)
      rcases hp_9 with ⟨rfl, hM_12, hd_10, hle2_11⟩ | ⟨rfl, hM_15, hd_13, hle2_14⟩
      · skip
        have hM_16 := fp_ME.nrm (sc2 := (va_up (va_up sc 18 ((((h + 1) + fp_dct tx tn (h + 1) 1 : Nat) : Int))) 21 (((0 : Nat) : Int)))) hM_12 rfl
        refine r_stk (st2 := [.int (iI (fp_dvl tx tn (h + 1) (fp_dct tx tn (h + 1) 1)))]) rfl ?_
        refine r_iret hx hb hr hlk hQ hS (Nat.le_of_ble_eq_true rfl) (Nat.le_of_ble_eq_true rfl) dX4_digitBehind_22 ?_
        exact Or.inl ⟨rfl, (hM_16.nrm rfl), hs_2, hd_10, hle2_11⟩
      · skip
        have hM_17 := fp_ME.nrm (sc2 := (va_up (va_up sc 18 ((((h + 1) : Nat) : Int))) 21 (((1 : Nat) : Int)))) hM_15 rfl
        refine r_stk (st2 := [.int (iI ((0 : Nat) : Int))]) rfl ?_
        refine r_iret hx hb hr hlk hQ hS (Nat.le_of_ble_eq_true rfl) (Nat.le_of_ble_eq_true rfl) dX4_digitBehind_22 ?_
        exact Or.inr (Or.inl ⟨rfl, (hM_17.nrm rfl), hs_2, hd_13, hle2_14⟩)
    · exact absurd c10 (by omega)
  · skip
    have hM_18 := fp_ME.nrm (sc2 := (va_up (va_up sc 18 (((h : Nat) : Int))) 21 (((1 : Nat) : Int)))) hM_7 rfl
    refine r_stk (st2 := []) rfl ?_
    refine lv_aload_n hx hb dX4_digitBehind_6 rfl (lv_at hl 0 rfl) ?_
    refine r_get X hM_18.1 rfl in_X4 21 (by decide) q2030 (Or.inl rfl) (v := .int (iI ((1 : Nat) : Int))) rfl dX4_digitBehind_7 ?_
    refine r_if_eq (tgt := 17) hx hb (by decide) dX4_digitBehind_10 (by decide) (fun c10 => ?_) (fun c10 => ?_)
    · exact absurd c10 (by omega)
    · skip
      refine lv_iconst (v := (iI ((0 : Nat) : Int))) hx hb dX4_digitBehind_13 rfl ?_
      refine lv_goto (tgt := 22) hx hb dX4_digitBehind_14 (by decide) ?_
      refine r_iret hx hb hr hlk hQ hS (Nat.le_of_ble_eq_true rfl) (Nat.le_of_ble_eq_true rfl) dX4_digitBehind_22 ?_
      exact Or.inr (Or.inr (⟨rfl, hM_18, hs_5, hle2_6⟩))
set_option maxHeartbeats 4000000 in
theorem c_X4_letterBehind (G : fp_G) (ad : Nat → Nat) (sc : Nat → Int) (ar : Nat → Nat → Int) (hA0 : fp_MA G ad) (tx : Nat → Nat) (tn : Nat) (h : Nat) (hh : sc 18 = ((h : Nat) : Int)) (ht : sc 19 = ((tn : Nat) : Int)) (h60 : tn ≤ 60) (hle : h ≤ tn) (htx : ∀ i, i < tn → ar 12 i = (tx i : Int)) (htb : ∀ i, i < tn → tx i < 256) (hw0 : sc 21 = 0) : fp_M G yX4_letterBehind cX4_letterBehind 2 (some .int) 3 53 0 0 [.ref (ad 0)] (fp_ME G ad sc ar) (fp_ma ad) (fun _ v H => (v = some (.int (iI (fp_sg tx tn (h + 1)))) ∧ fp_ME G ad (va_up (va_up sc 18 (((h + 2 : Nat) : Int))) 21 (((0 : Nat) : Int))) ar H ∧ (fp_sg tx tn h = 32) ∧ (0 ≤ fp_zby (fp_sg tx tn (h + 1))) ∧ (h + 2 ≤ tn)) ∨ (v = some (.int (iI (fp_sg tx tn (h + 1)))) ∧ fp_ME G ad (va_up (va_up sc 18 (((h + 1 : Nat) : Int))) 21 (((1 : Nat) : Int))) ar H ∧ (fp_sg tx tn h = 32) ∧ (fp_zby (fp_sg tx tn (h + 1)) < 0) ∧ (h + 1 ≤ tn)) ∨ (v = some (.int (iI ((0 : Nat) : Int))) ∧ fp_ME G ad (va_up (va_up sc 18 (((h : Nat) : Int))) 21 (((1 : Nat) : Int))) ar H ∧ (fp_sg tx tn h ≠ 32) ∧ (h ≤ tn))) := by
  refine fp_M.intro (by decide) (Nat.le_of_ble_eq_true rfl) ?_
  intro pg en s mi ag bl mt cd rR qQ ls X hx hb hr hlk hnm hR hQ hB hM hl
  have hS : va_S (fA (fp_ma ad) s.heap.size) s.heap s.heap [] := va_S.rf
  generalize ([] : List Loc) = locs at hS ⊢
  refine lv_aload_n hx hb dX4_letterBehind_0 rfl (lv_at hl 0 rfl) ?_
  refine lv_bipush (v := (iI ((32 : Nat) : Int))) hx hb dX4_letterBehind_1 rfl ?_
  refine r_callV (cells1 := 0) (slots1 := 0) X hR (c_X4_mark G ad sc ar hA0 tx tn h hh ht h60 hle htx htb 32 (by decide) (by decide) hw0) q2482 q2484 qs84 q100 q2485 ⟨rfl, pd_X4_mark⟩ (by decide) rfl rfl (by decide) (by decide) hM.1 rfl rfl (Nat.le_of_ble_eq_true rfl) hl.1 dX4_letterBehind_3 (hB.of hS (fp_ma.base hA0)) hM hS (fun _ h => Or.inl h) (fun v H locs hp_1 hzC hkC hS => ?_)
  rcases hp_1 with ⟨rfl, hM_4, hs_2, hle2_3⟩ | ⟨rfl, hM_7, hs_5, hle2_6⟩
  · skip
    have hM_8 := fp_ME.nrm (sc2 := (va_up (va_up sc 18 (((h + 1 : Nat) : Int))) 21 (((0 : Nat) : Int)))) hM_4 rfl
    refine r_stk (st2 := []) rfl ?_
    refine lv_aload_n hx hb dX4_letterBehind_6 rfl (lv_at hl 0 rfl) ?_
    refine r_get X hM_8.1 rfl in_X4 21 (by decide) q2030 (Or.inl rfl) (v := .int (iI ((0 : Nat) : Int))) rfl dX4_letterBehind_7 ?_
    refine r_if_eq (tgt := 15) hx hb (by decide) dX4_letterBehind_10 (by decide) (fun c10 => ?_) (fun c10 => ?_)
    · skip
      refine lv_aload_n hx hb dX4_letterBehind_15 rfl (lv_at hl 0 rfl) ?_
      refine r_callV (cells1 := 0) (slots1 := 0) X hR (c_X4_sign G ad (va_up (va_up sc 18 (((h + 1 : Nat) : Int))) 21 (((0 : Nat) : Int))) ar hA0 tx tn (h + 1) rfl ht h60 hle2_3 htx htb  ) q2470 q2472 qs81 q100 q2473 ⟨rfl, pd_X4_sign⟩ (by decide) rfl rfl (by decide) (by decide) hM_8.1 rfl rfl (Nat.le_of_ble_eq_true rfl) hl.1 dX4_letterBehind_16 (hB.of hS (fp_ma.base hA0)) hM_8 hS (fun _ h => h.elim) (fun v H1 locs hp_9 hzC hkC hS => ?_)
      obtain ⟨rfl, rfl⟩ := hp_9
      refine r_stk (st2 := [.int (iI (fp_sg tx tn (h + 1)))]) rfl ?_
      have hsb19 := fp_sg_b htb (h + 1)
      refine lv_istore_n (lv' := [(1, .int (iI (fp_sg tx tn (h + 1)))), (0, .ref (ad 0))]) hx hb dX4_letterBehind_19 rfl hl (by decide) rfl (fun ls hl => ?_)
      refine lv_aload_n hx hb dX4_letterBehind_20 rfl (lv_at hl 1 rfl) ?_
      refine lv_iload_n hx hb dX4_letterBehind_21 rfl (lv_at hl 0 rfl) ?_
      refine r_callS (cells1 := 0) (slots1 := 0) X hR (c_X4_zoneBy G (fp_sg tx tn (h + 1)) (by omega)) q2195 q2196 q100 q2197 pd_X4_zoneBy (by decide) rfl rfl (by decide) (by decide) rfl (Nat.le_of_ble_eq_true rfl) hl.1 dX4_letterBehind_22 (hB.of hS (fp_ma.base hA0)) trivial hS (fun _ h => h.elim) (fun v H1 locs hp_10 hzC hkC hS => ?_)
      obtain ⟨rfl, rfl⟩ := hp_10
      refine r_stk (st2 := [.int (iI (fp_zby (fp_sg tx tn (h + 1)))), .ref (ad 0)]) rfl ?_
      have hzb := fp_zby_b (fp_sg tx tn (h + 1))
      refine r_if_ge (tgt := 32) hx hb ⟨by omega, by omega⟩ dX4_letterBehind_25 (by decide) (fun c25 => ?_) (fun c25 => ?_)
      · skip
        refine lv_iconst (v := (iI ((0 : Nat) : Int))) hx hb dX4_letterBehind_32 rfl ?_
        refine m_put X hM_8 hS hA0 (k := 21) (sc2 := (va_up (va_up sc 18 (((h + 1 : Nat) : Int))) 21 (((0 : Nat) : Int)))) rfl (by decide) q2030 rfl rfl rfl dX4_letterBehind_33 rfl (fun H locs hM_11 hS => ?_)
        refine lv_aload_n hx hb dX4_letterBehind_36 rfl (lv_at hl 1 rfl) ?_
        refine lv_dup hx hb dX4_letterBehind_37 rfl ?_
        refine r_get X hM_11.1 rfl in_X4 18 (by decide) q2027 (Or.inl rfl) (v := .int (iI ((h + 1 : Nat) : Int))) rfl dX4_letterBehind_38 ?_
        refine lv_aload_n hx hb dX4_letterBehind_41 rfl (lv_at hl 1 rfl) ?_
        refine r_get X hM_11.1 rfl in_X4 21 (by decide) q2030 (Or.inl rfl) (v := .int (iI ((0 : Nat) : Int))) rfl dX4_letterBehind_42 ?_
        refine r_if_eq (tgt := 52) hx hb (by decide) dX4_letterBehind_45 (by decide) (fun c45 => ?_) (fun c45 => ?_)
        · skip
          refine lv_iconst (v := (iI ((1 : Nat) : Int))) hx hb dX4_letterBehind_52 rfl ?_
          refine r_iaddN hx hb dX4_letterBehind_53 ?_
          refine m_put X hM_11 hS hA0 (k := 18) (sc2 := (va_up (va_up sc 21 (((0 : Nat) : Int))) 18 ((((h + 1) + 1 : Nat) : Int)))) rfl (by decide) q2027 rfl rfl rfl dX4_letterBehind_54 rfl (fun H locs hM_12 hS => ?_)
          refine lv_iload_n hx hb dX4_letterBehind_57 rfl (lv_at hl 0 rfl) ?_
          refine r_iret hx hb hr hlk hQ hS (Nat.le_of_ble_eq_true rfl) (Nat.le_of_ble_eq_true rfl) dX4_letterBehind_58 ?_
          exact Or.inl ⟨rfl, (hM_12.nrm rfl), hs_2, (by omega), (by rcases Nat.lt_or_ge (h + 1) tn with q | q; omega; rw [fp_zby_sg q] at c25; omega)⟩
        · exact absurd c45 (by omega)
      · skip
        refine lv_iconst (v := (iI ((1 : Nat) : Int))) hx hb dX4_letterBehind_28 rfl ?_
        refine lv_goto (tgt := 33) hx hb dX4_letterBehind_29 (by decide) ?_
        refine m_put X hM_8 hS hA0 (k := 21) (sc2 := (va_up (va_up sc 18 (((h + 1 : Nat) : Int))) 21 (((1 : Nat) : Int)))) rfl (by decide) q2030 rfl rfl rfl dX4_letterBehind_33 rfl (fun H locs hM_13 hS => ?_)
        refine lv_aload_n hx hb dX4_letterBehind_36 rfl (lv_at hl 1 rfl) ?_
        refine lv_dup hx hb dX4_letterBehind_37 rfl ?_
        refine r_get X hM_13.1 rfl in_X4 18 (by decide) q2027 (Or.inl rfl) (v := .int (iI ((h + 1 : Nat) : Int))) rfl dX4_letterBehind_38 ?_
        refine lv_aload_n hx hb dX4_letterBehind_41 rfl (lv_at hl 1 rfl) ?_
        refine r_get X hM_13.1 rfl in_X4 21 (by decide) q2030 (Or.inl rfl) (v := .int (iI ((1 : Nat) : Int))) rfl dX4_letterBehind_42 ?_
        refine r_if_eq (tgt := 52) hx hb (by decide) dX4_letterBehind_45 (by decide) (fun c45 => ?_) (fun c45 => ?_)
        · exact absurd c45 (by omega)
        · skip
          refine lv_iconst (v := (iI ((0 : Nat) : Int))) hx hb dX4_letterBehind_48 rfl ?_
          refine lv_goto (tgt := 53) hx hb dX4_letterBehind_49 (by decide) ?_
          refine r_iaddN hx hb dX4_letterBehind_53 ?_
          refine m_put X hM_13 hS hA0 (k := 18) (sc2 := (va_up (va_up sc 21 (((1 : Nat) : Int))) 18 ((((h + 1) + 0 : Nat) : Int)))) rfl (by decide) q2027 rfl rfl rfl dX4_letterBehind_54 rfl (fun H locs hM_14 hS => ?_)
          refine lv_iload_n hx hb dX4_letterBehind_57 rfl (lv_at hl 0 rfl) ?_
          refine r_iret hx hb hr hlk hQ hS (Nat.le_of_ble_eq_true rfl) (Nat.le_of_ble_eq_true rfl) dX4_letterBehind_58 ?_
          exact Or.inr (Or.inl ⟨rfl, (hM_14.nrm rfl), hs_2, (by omega), hle2_3⟩)
    · exact absurd c10 (by omega)
  · skip
    have hM_15 := fp_ME.nrm (sc2 := (va_up (va_up sc 18 (((h : Nat) : Int))) 21 (((1 : Nat) : Int)))) hM_7 rfl
    refine r_stk (st2 := []) rfl ?_
    refine lv_aload_n hx hb dX4_letterBehind_6 rfl (lv_at hl 0 rfl) ?_
    refine r_get X hM_15.1 rfl in_X4 21 (by decide) q2030 (Or.inl rfl) (v := .int (iI ((1 : Nat) : Int))) rfl dX4_letterBehind_7 ?_
    refine r_if_eq (tgt := 15) hx hb (by decide) dX4_letterBehind_10 (by decide) (fun c10 => ?_) (fun c10 => ?_)
    · exact absurd c10 (by omega)
    · skip
      refine lv_iconst (v := (iI ((0 : Nat) : Int))) hx hb dX4_letterBehind_13 rfl ?_
      refine r_iret hx hb hr hlk hQ hS (Nat.le_of_ble_eq_true rfl) (Nat.le_of_ble_eq_true rfl) dX4_letterBehind_14 ?_
      exact Or.inr (Or.inr (⟨rfl, hM_15, hs_5, hle2_6⟩))
