/-! THE PARSER -/
set_option maxRecDepth 100000
set_option maxHeartbeats 4000000 in
theorem c_X9_isAtEnd (G : fp_G) (x : Nat) (kw : Nat) (p : Nat) (pv : Nat) (l : Nat) (n : Nat) (tx : Nat → Nat) (pos : Nat) (fl : Bool) (hpos : pos ≤ n) : fp_M G yX9_isAtEnd cX9_isAtEnd 1 (some .boolean) 3 52 0 0 [.ref (x)] (fun H => fp_At G H x (eO 6 [.ref (kw), .ref (p), .ref (l), .int (iI ((pos : Nat) : Int)), .int (iI (bI (fl)))]) ∧ fp_HS G p pv n tx H) fp_no (fun H v H1 => v = some (.int (iI (bI (decide (pos = n))))) ∧ H = H1) := by
  refine fp_M.intro (by decide) (Nat.le_of_ble_eq_true rfl) ?_
  intro pg en s mi ag bl mt cd rR qQ ls X hx hb hr hlk hnm hR hQ hB hM hl
  have hS : va_S (fA fp_no s.heap.size) s.heap s.heap [] := va_S.rf
  generalize ([] : List Loc) = locs at hS ⊢
  have hb0 := hB.1
  obtain ⟨h_o, h_pg⟩ := hM
  have hsz0 := hS.1
  have lt_1 := h_o.lt
  have lt_2 := h_pg.lt
  have lt_3 := h_pg.2.1.lt
  have hpg := h_pg.2.2.1
  refine lv_aload_n hx hb dX9_isAtEnd_0 rfl (lv_at hl 0 rfl) ?_
  refine r_get X h_o rfl in_X9 3 (by decide) q1743 (Or.inl rfl) (v := .int (iI ((pos : Nat) : Int))) rfl dX9_isAtEnd_1 ?_
  refine lv_aload_n hx hb dX9_isAtEnd_4 rfl (lv_at hl 0 rfl) ?_
  refine r_get X h_o rfl in_X9 1 (by decide) q1740 (Or.inl rfl) (v := .ref (p)) rfl dX9_isAtEnd_5 ?_
  refine r_callVR (cells1 := 0) (slots1 := 0) X hR (c_J7_length G p pv n tx) q1775 q658 q659 q98 q660 ⟨rfl, pd_J7_length⟩ ⟨Nat.le_of_ble_eq_true rfl, Nat.le_of_ble_eq_true rfl⟩ rfl rfl (Nat.le_of_ble_eq_true rfl) (Nat.le_of_ble_eq_true rfl) (fp_SO.recv X ((fp_HS.st h_pg).1) hB fp_no.base hS) rfl (Nat.le_of_ble_eq_true rfl) hl.1 dX9_isAtEnd_8 (hB.of hS fp_no.base) (fp_HS.st h_pg) hS (fun _ h => h.elim) (fun v H_7 locs hp_4 hz_5 hk_6 hS => ?_)
  obtain ⟨rfl, rfl⟩ := hp_4
  refine r_stk (st2 := [.int (iI ((n : Nat) : Int)), .int (iI ((pos : Nat) : Int))]) rfl ?_
  refine r_icmp_ne (tgt := 18) hx hb ⟨by omega, by omega⟩ ⟨by omega, by omega⟩ dX9_isAtEnd_11 (by decide) (fun c11 => ?_) (fun c11 => ?_)
  · skip
    refine lv_iconst (v := (iI ((0 : Nat) : Int))) hx hb dX9_isAtEnd_18 rfl ?_
    refine r_zret hx hb hr hlk hQ hS (Nat.le_of_ble_eq_true rfl) (Nat.le_of_ble_eq_true rfl) dX9_isAtEnd_19 rfl ?_
    exact ⟨(congrArg (fun q : Bool => some (Value.int (iI (bI q)))) (Eq.symm (show decide (pos = n) = false from decide_eq_false (by omega)))), rfl⟩
  · skip
    refine lv_iconst (v := (iI ((1 : Nat) : Int))) hx hb dX9_isAtEnd_14 rfl ?_
    refine lv_goto (tgt := 19) hx hb dX9_isAtEnd_15 (by decide) ?_
    refine r_zret hx hb hr hlk hQ hS (Nat.le_of_ble_eq_true rfl) (Nat.le_of_ble_eq_true rfl) dX9_isAtEnd_19 rfl ?_
    exact ⟨(congrArg (fun q : Bool => some (Value.int (iI (bI q)))) (Eq.symm (show decide (pos = n) = true from decide_eq_true (by omega)))), rfl⟩
set_option maxHeartbeats 4000000 in
theorem c_X9_isNextBetween (G : fp_G) (x : Nat) (kw : Nat) (p : Nat) (pv : Nat) (l : Nat) (n : Nat) (tx : Nat → Nat) (pos : Nat) (fl : Bool) (lo : Nat) (hi : Nat) (hpos : pos ≤ n) (hlo : lo < 65536 ∧ hi < 65536) : fp_M G yX9_isNextBetween cX9_isNextBetween 3 (some .boolean) 5 97 0 0 [.ref (x), .int (iI ((lo : Nat) : Int)), .int (iI ((hi : Nat) : Int))] (fun H => fp_At G H x (eO 6 [.ref (kw), .ref (p), .ref (l), .int (iI ((pos : Nat) : Int)), .int (iI (bI (fl)))]) ∧ fp_HS G p pv n tx H) fp_no (fun H v H1 => v = some (.int (iI (bI (decide (((lo : Nat) : Int) ≤ fp_sg tx n pos ∧ fp_sg tx n pos ≤ ((hi : Nat) : Int)))))) ∧ H = H1) := by
  refine fp_M.intro (by decide) (Nat.le_of_ble_eq_true rfl) ?_
  intro pg en s mi ag bl mt cd rR qQ ls X hx hb hr hlk hnm hR hQ hB hM hl
  have hS : va_S (fA fp_no s.heap.size) s.heap s.heap [] := va_S.rf
  generalize ([] : List Loc) = locs at hS ⊢
  have hb0 := hB.1
  obtain ⟨h_o, h_pg⟩ := hM
  have hsz0 := hS.1
  have lt_1 := h_o.lt
  have lt_2 := h_pg.lt
  have lt_3 := h_pg.2.1.lt
  have hpg := h_pg.2.2.1
  refine lv_aload_n hx hb dX9_isNextBetween_0 rfl (lv_at hl 0 rfl) ?_
  refine r_callV (cells1 := 0) (slots1 := 0) X hR (c_X9_isAtEnd G x kw p pv l n tx pos fl hpos) q1771 q1773 qs35 q124 q1774 ⟨rfl, pd_X9_isAtEnd⟩ ⟨Nat.le_of_ble_eq_true rfl, Nat.le_of_ble_eq_true rfl⟩ rfl rfl (Nat.le_of_ble_eq_true rfl) (Nat.le_of_ble_eq_true rfl) h_o rfl rfl (Nat.le_of_ble_eq_true rfl) hl.1 dX9_isNextBetween_1 (hB.of hS fp_no.base) ⟨h_o, h_pg⟩ hS (fun _ h => h.elim) (fun v H_7 locs hp_4 hz_5 hk_6 hS => ?_)
  obtain ⟨rfl, rfl⟩ := hp_4
  refine r_stk (st2 := [.int (iI (bI (decide (pos = n))))]) rfl ?_
  refine r_ifneB (tgt := 41) hx hb dX9_isNextBetween_4 (by decide) (fun c4 => ?_) (fun c4 => ?_)
  · skip
    have hat := of_decide_eq_true c4
    have hsg : fp_sg tx n pos = -1 := if_neg (by omega)
    refine lv_iconst (v := (iI ((0 : Nat) : Int))) hx hb dX9_isNextBetween_41 rfl ?_
    refine r_zret hx hb hr hlk hQ hS (Nat.le_of_ble_eq_true rfl) (Nat.le_of_ble_eq_true rfl) dX9_isNextBetween_42 rfl ?_
    exact ⟨(congrArg (fun q : Bool => some (Value.int (iI (bI q)))) (Eq.symm (show decide (((lo : Nat) : Int) ≤ fp_sg tx n pos ∧ fp_sg tx n pos ≤ ((hi : Nat) : Int)) = false from decide_eq_false (by rw [hsg]; omega)))), rfl⟩
  · skip
    have hat := of_decide_eq_false c4
    have hsg : fp_sg tx n pos = ((tx pos : Nat) : Int) := if_pos (by omega)
    have htp := hpg.1 pos (by omega)
    refine lv_aload_n hx hb dX9_isNextBetween_7 rfl (lv_at hl 0 rfl) ?_
    refine r_get X h_o rfl in_X9 1 (by decide) q1740 (Or.inl rfl) (v := .ref (p)) rfl dX9_isNextBetween_8 ?_
    refine lv_aload_n hx hb dX9_isNextBetween_11 rfl (lv_at hl 0 rfl) ?_
    refine r_get X h_o rfl in_X9 3 (by decide) q1743 (Or.inl rfl) (v := .int (iI ((pos : Nat) : Int))) rfl dX9_isNextBetween_12 ?_
    refine r_callVR (cells1 := 0) (slots1 := 0) X hR (c_J7_charAt G p pv n tx pos (by omega)) q1812 q1813 q1814 q98 q1815 ⟨rfl, pd_J7_charAt⟩ ⟨Nat.le_of_ble_eq_true rfl, Nat.le_of_ble_eq_true rfl⟩ rfl rfl (Nat.le_of_ble_eq_true rfl) (Nat.le_of_ble_eq_true rfl) (fp_SO.recv X ((fp_HS.st h_pg).1) hB fp_no.base hS) rfl (Nat.le_of_ble_eq_true rfl) hl.1 dX9_isNextBetween_15 (hB.of hS fp_no.base) (fp_HS.st h_pg) hS (fun _ h => h.elim) (fun v H_11 locs hp_8 hz_9 hk_10 hS => ?_)
    obtain ⟨rfl, rfl⟩ := hp_8
    refine r_stk (st2 := [.int (iI ((tx pos : Nat) : Int))]) rfl ?_
    refine lv_iload_n hx hb dX9_isNextBetween_18 rfl (lv_at hl 1 rfl) ?_
    refine r_icmp_lt (tgt := 41) hx hb ⟨by omega, by omega⟩ ⟨by omega, by omega⟩ dX9_isNextBetween_19 (by decide) (fun c19 => ?_) (fun c19 => ?_)
    · skip
      refine lv_iconst (v := (iI ((0 : Nat) : Int))) hx hb dX9_isNextBetween_41 rfl ?_
      refine r_zret hx hb hr hlk hQ hS (Nat.le_of_ble_eq_true rfl) (Nat.le_of_ble_eq_true rfl) dX9_isNextBetween_42 rfl ?_
      exact ⟨(congrArg (fun q : Bool => some (Value.int (iI (bI q)))) (Eq.symm (show decide (((lo : Nat) : Int) ≤ fp_sg tx n pos ∧ fp_sg tx n pos ≤ ((hi : Nat) : Int)) = false from decide_eq_false (by rw [hsg]; omega)))), rfl⟩
    · skip
      refine lv_aload_n hx hb dX9_isNextBetween_22 rfl (lv_at hl 0 rfl) ?_
      refine r_get X h_o rfl in_X9 1 (by decide) q1740 (Or.inl rfl) (v := .ref (p)) rfl dX9_isNextBetween_23 ?_
      refine lv_aload_n hx hb dX9_isNextBetween_26 rfl (lv_at hl 0 rfl) ?_
      refine r_get X h_o rfl in_X9 3 (by decide) q1743 (Or.inl rfl) (v := .int (iI ((pos : Nat) : Int))) rfl dX9_isNextBetween_27 ?_
      refine r_callVR (cells1 := 0) (slots1 := 0) X hR (c_J7_charAt G p pv n tx pos (by omega)) q1812 q1813 q1814 q98 q1815 ⟨rfl, pd_J7_charAt⟩ ⟨Nat.le_of_ble_eq_true rfl, Nat.le_of_ble_eq_true rfl⟩ rfl rfl (Nat.le_of_ble_eq_true rfl) (Nat.le_of_ble_eq_true rfl) (fp_SO.recv X ((fp_HS.st h_pg).1) hB fp_no.base hS) rfl (Nat.le_of_ble_eq_true rfl) hl.1 dX9_isNextBetween_30 (hB.of hS fp_no.base) (fp_HS.st h_pg) hS (fun _ h => h.elim) (fun v H_15 locs hp_12 hz_13 hk_14 hS => ?_)
      obtain ⟨rfl, rfl⟩ := hp_12
      refine r_stk (st2 := [.int (iI ((tx pos : Nat) : Int))]) rfl ?_
      refine lv_iload_n hx hb dX9_isNextBetween_33 rfl (lv_at hl 2 rfl) ?_
      refine r_icmp_gt (tgt := 41) hx hb ⟨by omega, by omega⟩ ⟨by omega, by omega⟩ dX9_isNextBetween_34 (by decide) (fun c34 => ?_) (fun c34 => ?_)
      · skip
        refine lv_iconst (v := (iI ((0 : Nat) : Int))) hx hb dX9_isNextBetween_41 rfl ?_
        refine r_zret hx hb hr hlk hQ hS (Nat.le_of_ble_eq_true rfl) (Nat.le_of_ble_eq_true rfl) dX9_isNextBetween_42 rfl ?_
        exact ⟨(congrArg (fun q : Bool => some (Value.int (iI (bI q)))) (Eq.symm (show decide (((lo : Nat) : Int) ≤ fp_sg tx n pos ∧ fp_sg tx n pos ≤ ((hi : Nat) : Int)) = false from decide_eq_false (by rw [hsg]; omega)))), rfl⟩
      · skip
        refine lv_iconst (v := (iI ((1 : Nat) : Int))) hx hb dX9_isNextBetween_37 rfl ?_
        refine lv_goto (tgt := 42) hx hb dX9_isNextBetween_38 (by decide) ?_
        refine r_zret hx hb hr hlk hQ hS (Nat.le_of_ble_eq_true rfl) (Nat.le_of_ble_eq_true rfl) dX9_isNextBetween_42 rfl ?_
        exact ⟨(congrArg (fun q : Bool => some (Value.int (iI (bI q)))) (Eq.symm (show decide (((lo : Nat) : Int) ≤ fp_sg tx n pos ∧ fp_sg tx n pos ≤ ((hi : Nat) : Int)) = true from decide_eq_true (by rw [hsg]; omega)))), rfl⟩
set_option maxHeartbeats 4000000 in
theorem c_X9_isNext (G : fp_G) (x : Nat) (kw : Nat) (p : Nat) (pv : Nat) (l : Nat) (n : Nat) (tx : Nat → Nat) (pos : Nat) (fl : Bool) (ch : Nat) (hpos : pos ≤ n) (hch : ch < 65536) : fp_M G yX9_isNext cX9_isNext 2 (some .boolean) 6 119 0 0 [.ref (x), .int (iI ((ch : Nat) : Int))] (fun H => fp_At G H x (eO 6 [.ref (kw), .ref (p), .ref (l), .int (iI ((pos : Nat) : Int)), .int (iI (bI (fl)))]) ∧ fp_HS G p pv n tx H) fp_no (fun H v H1 => v = some (.int (iI (bI (decide (fp_sg tx n pos = ((ch : Nat) : Int)))))) ∧ H = H1) := by
  refine fp_M.intro (by decide) (Nat.le_of_ble_eq_true rfl) ?_
  intro pg en s mi ag bl mt cd rR qQ ls X hx hb hr hlk hnm hR hQ hB hM hl
  have hS : va_S (fA fp_no s.heap.size) s.heap s.heap [] := va_S.rf
  generalize ([] : List Loc) = locs at hS ⊢
  have hb0 := hB.1
  obtain ⟨h_o, h_pg⟩ := hM
  have hsz0 := hS.1
  have lt_1 := h_o.lt
  have lt_2 := h_pg.lt
  have lt_3 := h_pg.2.1.lt
  refine lv_aload_n hx hb dX9_isNext_0 rfl (lv_at hl 0 rfl) ?_
  refine lv_iload_n hx hb dX9_isNext_1 rfl (lv_at hl 1 rfl) ?_
  refine lv_iload_n hx hb dX9_isNext_2 rfl (lv_at hl 1 rfl) ?_
  refine r_callV (cells1 := 0) (slots1 := 0) X hR (c_X9_isNextBetween G x kw p pv l n tx pos fl ch ch hpos (by omega)) q1859 q1861 qs41 q124 q1862 ⟨rfl, pd_X9_isNextBetween⟩ ⟨Nat.le_of_ble_eq_true rfl, Nat.le_of_ble_eq_true rfl⟩ rfl rfl (Nat.le_of_ble_eq_true rfl) (Nat.le_of_ble_eq_true rfl) h_o rfl rfl (Nat.le_of_ble_eq_true rfl) hl.1 dX9_isNext_3 (hB.of hS fp_no.base) ⟨h_o, h_pg⟩ hS (fun _ h => h.elim) (fun v H_7 locs hp_4 hz_5 hk_6 hS => ?_)
  obtain ⟨rfl, rfl⟩ := hp_4
  refine r_stk (st2 := [.int (iI (bI (decide (((ch : Nat) : Int) ≤ fp_sg tx n pos ∧ fp_sg tx n pos ≤ ((ch : Nat) : Int)))))]) rfl ?_
  refine r_zret hx hb hr hlk hQ hS (Nat.le_of_ble_eq_true rfl) (Nat.le_of_ble_eq_true rfl) dX9_isNext_6 (bI_z _) ?_
  exact ⟨(congrArg (fun q : Bool => some (Value.int (iI (bI q)))) (decide_eq_decide.mpr (by omega))), rfl⟩
set_option maxHeartbeats 4000000 in
theorem c_X9_expectBlank (G : fp_G) (x : Nat) (kw : Nat) (p : Nat) (pv : Nat) (l : Nat) (n : Nat) (tx : Nat → Nat) (pos : Nat) (fl : Bool) (hpos : pos ≤ n) (hxb : (g_s G).heap.size ≤ x) : fp_M G yX9_expectBlank cX9_expectBlank 1 none 7 140 0 0 [.ref (x)] (fun H => fp_At G H x (eO 6 [.ref (kw), .ref (p), .ref (l), .int (iI ((pos : Nat) : Int)), .int (iI (bI (fl)))]) ∧ fp_HS G p pv n tx H) (fun q => (g_s G).heap.size ≤ q ∧ (q = x)) (fun H v H1 => ∃ (fl2 : Bool), ∃ (pos2 : Nat), v = none ∧ (fl2 = (fl || !decide (fp_sg tx n pos = 32)) ∧ pos2 = if fl2 = true then pos else pos + 1) ∧ fp_At G H1 x (eO 6 [.ref (kw), .ref (p), .ref (l), .int (iI ((pos2 : Nat) : Int)), .int (iI (bI (fl2)))])) := by
  refine fp_M.intro (by decide) (Nat.le_of_ble_eq_true rfl) ?_
  intro pg en s mi ag bl mt cd rR qQ ls X hx hb hr hlk hnm hR hQ hB hM hl
  have hS : va_S (fA (fun q => (g_s G).heap.size ≤ q ∧ (q = x)) s.heap.size) s.heap s.heap [] := va_S.rf
  generalize ([] : List Loc) = locs at hS ⊢
  have hb0 := hB.1
  have hAb : ∀ q, (fun q => (g_s G).heap.size ≤ q ∧ (q = x)) q → (g_s G).heap.size ≤ q := fun q h => h.1
  obtain ⟨h_o, h_pg⟩ := hM
  have hsz0 := hS.1
  have lt_1 := h_o.lt
  have lt_2 := h_pg.lt
  have lt_3 := h_pg.2.1.lt
  have hpg := h_pg.2.2.1
  obtain ⟨⟨hp1, hp2, hpo, hpp⟩, hprow, -⟩ := id h_pg
  have hne_4 : fp_dif x p := fp_neOO X.2.2.2.2.2 (i := 6) (j := 12) rfl rfl (by decide) h_o hpo
  have hne_5 : fp_dif x pv := fp_neOA X.2.2.2.2.2 (i := 6) (t := 2) rfl rfl h_o hprow
  have hne_6 : fp_dif p pv := fp_neOA X.2.2.2.2.2 (i := 12) (t := 2) rfl rfl hpo hprow
  cases fl
  · skip
    refine lv_aload_n hx hb dX9_expectBlank_0 rfl (lv_at hl 0 rfl) ?_
    refine lv_dup hx hb dX9_expectBlank_1 rfl ?_
    refine r_get X h_o rfl in_X9 4 (by decide) q1745 (Or.inl rfl) (v := .int (iI (bI (false)))) rfl dX9_expectBlank_2 ?_
    refine lv_aload_n hx hb dX9_expectBlank_5 rfl (lv_at hl 0 rfl) ?_
    refine lv_bipush (v := (iI ((32 : Nat) : Int))) hx hb dX9_expectBlank_6 rfl ?_
    refine r_callV (cells1 := 0) (slots1 := 0) X hR (c_X9_isNext G x kw p pv l n tx pos false 32 hpos (by omega)) q1855 q1857 qs40 q124 q1858 ⟨rfl, pd_X9_isNext⟩ ⟨Nat.le_of_ble_eq_true rfl, Nat.le_of_ble_eq_true rfl⟩ rfl rfl (Nat.le_of_ble_eq_true rfl) (Nat.le_of_ble_eq_true rfl) h_o rfl rfl (Nat.le_of_ble_eq_true rfl) hl.1 dX9_expectBlank_8 (hB.of hS hAb) ⟨h_o, h_pg⟩ hS (fun _ h => h.elim) (fun v H_10 locs hp_7 hz_8 hk_9 hS => ?_)
    obtain ⟨rfl, rfl⟩ := hp_7
    refine r_stk (st2 := [.int (iI (bI (decide (fp_sg tx n pos = ((32 : Nat) : Int))))), .int (iI (bI (false))), .ref (x)]) rfl ?_
    refine r_ifneB (tgt := 18) hx hb dX9_expectBlank_11 (by decide) (fun c11 => ?_) (fun c11 => ?_)
    · skip
      have hsg32 : fp_sg tx n pos = 32 := of_decide_eq_true c11
      refine lv_iconst (v := (iI ((0 : Nat) : Int))) hx hb dX9_expectBlank_18 rfl ?_
      refine r_iorB (a := false) (b := false) hx hb dX9_expectBlank_19 ?_
      refine r_set (y := .int (iI ((0 : Nat) : Int))) rfl ?_
      refine r_put X h_o hS (Or.inl ⟨by omega, rfl⟩) rfl in_X9 tyX9_ok nmX9 4 (by decide) q1745 (Or.inl rfl) rfl rfl rfl (show 4 < 5 by decide) dX9_expectBlank_20 (fun H_14 locs hE_11 hz_12 hq_13 hS => ?_)
      have hz_15 := hS.1
      refine lv_aload_n hx hb dX9_expectBlank_23 rfl (lv_at hl 0 rfl) ?_
      refine lv_dup hx hb dX9_expectBlank_24 rfl ?_
      refine r_get X hE_11 rfl in_X9 3 (by decide) q1743 (Or.inl rfl) (v := .int (iI ((pos : Nat) : Int))) rfl dX9_expectBlank_25 ?_
      refine lv_aload_n hx hb dX9_expectBlank_28 rfl (lv_at hl 0 rfl) ?_
      refine r_get X hE_11 rfl in_X9 4 (by decide) q1745 (Or.inl rfl) (v := .int (iI ((0 : Nat) : Int))) rfl dX9_expectBlank_29 ?_
      refine r_if_eq (tgt := 39) hx hb (by decide) dX9_expectBlank_32 (by decide) (fun c32 => ?_) (fun c32 => ?_)
      · skip
        refine lv_iconst (v := (iI ((1 : Nat) : Int))) hx hb dX9_expectBlank_39 rfl ?_
        refine r_iaddN hx hb dX9_expectBlank_40 ?_
        refine r_put X hE_11 hS (Or.inl ⟨by omega, rfl⟩) rfl in_X9 tyX9_ok nmX9 3 (by decide) q1743 (Or.inl rfl) rfl rfl rfl (show 3 < 5 by decide) dX9_expectBlank_41 (fun H_19 locs hE_16 hz_17 hq_18 hS => ?_)
        have hz_20 := hS.1
        refine r_vret hx hb hr hlk hQ hS (Nat.le_of_ble_eq_true rfl) (Nat.le_of_ble_eq_true rfl) dX9_expectBlank_44 ?_
        exact ⟨false, pos + 1, rfl, (by simp [hsg32]), hE_16⟩
      · exact absurd c32 (by omega)
    · skip
      have hsg32 : ¬ fp_sg tx n pos = 32 := of_decide_eq_false c11
      refine lv_iconst (v := (iI ((1 : Nat) : Int))) hx hb dX9_expectBlank_14 rfl ?_
      refine lv_goto (tgt := 19) hx hb dX9_expectBlank_15 (by decide) ?_
      refine r_iorB (a := false) (b := true) hx hb dX9_expectBlank_19 ?_
      refine r_set (y := .int (iI ((1 : Nat) : Int))) rfl ?_
      refine r_put X h_o hS (Or.inl ⟨by omega, rfl⟩) rfl in_X9 tyX9_ok nmX9 4 (by decide) q1745 (Or.inl rfl) rfl rfl rfl (show 4 < 5 by decide) dX9_expectBlank_20 (fun H_24 locs hE_21 hz_22 hq_23 hS => ?_)
      have hz_25 := hS.1
      refine lv_aload_n hx hb dX9_expectBlank_23 rfl (lv_at hl 0 rfl) ?_
      refine lv_dup hx hb dX9_expectBlank_24 rfl ?_
      refine r_get X hE_21 rfl in_X9 3 (by decide) q1743 (Or.inl rfl) (v := .int (iI ((pos : Nat) : Int))) rfl dX9_expectBlank_25 ?_
      refine lv_aload_n hx hb dX9_expectBlank_28 rfl (lv_at hl 0 rfl) ?_
      refine r_get X hE_21 rfl in_X9 4 (by decide) q1745 (Or.inl rfl) (v := .int (iI ((1 : Nat) : Int))) rfl dX9_expectBlank_29 ?_
      refine r_if_eq (tgt := 39) hx hb (by decide) dX9_expectBlank_32 (by decide) (fun c32 => ?_) (fun c32 => ?_)
      · exact absurd c32 (by omega)
      · skip
        refine lv_iconst (v := (iI ((0 : Nat) : Int))) hx hb dX9_expectBlank_35 rfl ?_
        refine lv_goto (tgt := 40) hx hb dX9_expectBlank_36 (by decide) ?_
        refine r_iaddN hx hb dX9_expectBlank_40 ?_
        refine r_put X hE_21 hS (Or.inl ⟨by omega, rfl⟩) rfl in_X9 tyX9_ok nmX9 3 (by decide) q1743 (Or.inl rfl) rfl rfl rfl (show 3 < 5 by decide) dX9_expectBlank_41 (fun H_29 locs hE_26 hz_27 hq_28 hS => ?_)
        have hz_30 := hS.1
        refine r_vret hx hb hr hlk hQ hS (Nat.le_of_ble_eq_true rfl) (Nat.le_of_ble_eq_true rfl) dX9_expectBlank_44 ?_
        exact ⟨true, pos + 0, rfl, (by simp [hsg32]), hE_26⟩
  · skip
    refine lv_aload_n hx hb dX9_expectBlank_0 rfl (lv_at hl 0 rfl) ?_
    refine lv_dup hx hb dX9_expectBlank_1 rfl ?_
    refine r_get X h_o rfl in_X9 4 (by decide) q1745 (Or.inl rfl) (v := .int (iI (bI (true)))) rfl dX9_expectBlank_2 ?_
    refine lv_aload_n hx hb dX9_expectBlank_5 rfl (lv_at hl 0 rfl) ?_
    refine lv_bipush (v := (iI ((32 : Nat) : Int))) hx hb dX9_expectBlank_6 rfl ?_
    refine r_callV (cells1 := 0) (slots1 := 0) X hR (c_X9_isNext G x kw p pv l n tx pos true 32 hpos (by omega)) q1855 q1857 qs40 q124 q1858 ⟨rfl, pd_X9_isNext⟩ ⟨Nat.le_of_ble_eq_true rfl, Nat.le_of_ble_eq_true rfl⟩ rfl rfl (Nat.le_of_ble_eq_true rfl) (Nat.le_of_ble_eq_true rfl) h_o rfl rfl (Nat.le_of_ble_eq_true rfl) hl.1 dX9_expectBlank_8 (hB.of hS hAb) ⟨h_o, h_pg⟩ hS (fun _ h => h.elim) (fun v H_34 locs hp_31 hz_32 hk_33 hS => ?_)
    obtain ⟨rfl, rfl⟩ := hp_31
    refine r_stk (st2 := [.int (iI (bI (decide (fp_sg tx n pos = ((32 : Nat) : Int))))), .int (iI (bI (true))), .ref (x)]) rfl ?_
    refine r_ifneB (tgt := 18) hx hb dX9_expectBlank_11 (by decide) (fun c11 => ?_) (fun c11 => ?_)
    · skip
      have hsg32 : fp_sg tx n pos = 32 := of_decide_eq_true c11
      refine lv_iconst (v := (iI ((0 : Nat) : Int))) hx hb dX9_expectBlank_18 rfl ?_
      refine r_iorB (a := true) (b := false) hx hb dX9_expectBlank_19 ?_
      refine r_set (y := .int (iI ((1 : Nat) : Int))) rfl ?_
      refine r_put X h_o hS (Or.inl ⟨by omega, rfl⟩) rfl in_X9 tyX9_ok nmX9 4 (by decide) q1745 (Or.inl rfl) rfl rfl rfl (show 4 < 5 by decide) dX9_expectBlank_20 (fun H_38 locs hE_35 hz_36 hq_37 hS => ?_)
      have hz_39 := hS.1
      refine lv_aload_n hx hb dX9_expectBlank_23 rfl (lv_at hl 0 rfl) ?_
      refine lv_dup hx hb dX9_expectBlank_24 rfl ?_
      refine r_get X hE_35 rfl in_X9 3 (by decide) q1743 (Or.inl rfl) (v := .int (iI ((pos : Nat) : Int))) rfl dX9_expectBlank_25 ?_
      refine lv_aload_n hx hb dX9_expectBlank_28 rfl (lv_at hl 0 rfl) ?_
      refine r_get X hE_35 rfl in_X9 4 (by decide) q1745 (Or.inl rfl) (v := .int (iI ((1 : Nat) : Int))) rfl dX9_expectBlank_29 ?_
      refine r_if_eq (tgt := 39) hx hb (by decide) dX9_expectBlank_32 (by decide) (fun c32 => ?_) (fun c32 => ?_)
      · exact absurd c32 (by omega)
      · skip
        refine lv_iconst (v := (iI ((0 : Nat) : Int))) hx hb dX9_expectBlank_35 rfl ?_
        refine lv_goto (tgt := 40) hx hb dX9_expectBlank_36 (by decide) ?_
        refine r_iaddN hx hb dX9_expectBlank_40 ?_
        refine r_put X hE_35 hS (Or.inl ⟨by omega, rfl⟩) rfl in_X9 tyX9_ok nmX9 3 (by decide) q1743 (Or.inl rfl) rfl rfl rfl (show 3 < 5 by decide) dX9_expectBlank_41 (fun H_43 locs hE_40 hz_41 hq_42 hS => ?_)
        have hz_44 := hS.1
        refine r_vret hx hb hr hlk hQ hS (Nat.le_of_ble_eq_true rfl) (Nat.le_of_ble_eq_true rfl) dX9_expectBlank_44 ?_
        exact ⟨true, pos + 0, rfl, (by simp [hsg32]), hE_40⟩
    · skip
      have hsg32 : ¬ fp_sg tx n pos = 32 := of_decide_eq_false c11
      refine lv_iconst (v := (iI ((1 : Nat) : Int))) hx hb dX9_expectBlank_14 rfl ?_
      refine lv_goto (tgt := 19) hx hb dX9_expectBlank_15 (by decide) ?_
      refine r_iorB (a := true) (b := true) hx hb dX9_expectBlank_19 ?_
      refine r_set (y := .int (iI ((1 : Nat) : Int))) rfl ?_
      refine r_put X h_o hS (Or.inl ⟨by omega, rfl⟩) rfl in_X9 tyX9_ok nmX9 4 (by decide) q1745 (Or.inl rfl) rfl rfl rfl (show 4 < 5 by decide) dX9_expectBlank_20 (fun H_48 locs hE_45 hz_46 hq_47 hS => ?_)
      have hz_49 := hS.1
      refine lv_aload_n hx hb dX9_expectBlank_23 rfl (lv_at hl 0 rfl) ?_
      refine lv_dup hx hb dX9_expectBlank_24 rfl ?_
      refine r_get X hE_45 rfl in_X9 3 (by decide) q1743 (Or.inl rfl) (v := .int (iI ((pos : Nat) : Int))) rfl dX9_expectBlank_25 ?_
      refine lv_aload_n hx hb dX9_expectBlank_28 rfl (lv_at hl 0 rfl) ?_
      refine r_get X hE_45 rfl in_X9 4 (by decide) q1745 (Or.inl rfl) (v := .int (iI ((1 : Nat) : Int))) rfl dX9_expectBlank_29 ?_
      refine r_if_eq (tgt := 39) hx hb (by decide) dX9_expectBlank_32 (by decide) (fun c32 => ?_) (fun c32 => ?_)
      · exact absurd c32 (by omega)
      · skip
        refine lv_iconst (v := (iI ((0 : Nat) : Int))) hx hb dX9_expectBlank_35 rfl ?_
        refine lv_goto (tgt := 40) hx hb dX9_expectBlank_36 (by decide) ?_
        refine r_iaddN hx hb dX9_expectBlank_40 ?_
        refine r_put X hE_45 hS (Or.inl ⟨by omega, rfl⟩) rfl in_X9 tyX9_ok nmX9 3 (by decide) q1743 (Or.inl rfl) rfl rfl rfl (show 3 < 5 by decide) dX9_expectBlank_41 (fun H_53 locs hE_50 hz_51 hq_52 hS => ?_)
        have hz_54 := hS.1
        refine r_vret hx hb hr hlk hQ hS (Nat.le_of_ble_eq_true rfl) (Nat.le_of_ble_eq_true rfl) dX9_expectBlank_44 ?_
        exact ⟨true, pos + 0, rfl, (by simp [hsg32]), hE_50⟩
set_option maxHeartbeats 4000000 in
theorem c_X9_parseNumber (G : fp_G) (x : Nat) (kw : Nat) (p : Nat) (pv : Nat) (l : Nat) (n : Nat) (tx : Nat → Nat) (pos : Nat) (fl : Bool) (q : Nat) (hpos : pos ≤ n) (hxb : (g_s G).heap.size ≤ x) (hq : 0 < q ∧ q ≤ 2) : fp_M G yX9_parseNumber cX9_parseNumber 4 (some .int) 8 160 0 0 [.ref (x), .int (iI ((q : Nat) : Int))] (fun H => fp_At G H x (eO 6 [.ref (kw), .ref (p), .ref (l), .int (iI ((pos : Nat) : Int)), .int (iI (bI (fl)))]) ∧ fp_HS G p pv n tx H) (fun q => (g_s G).heap.size ≤ q ∧ (q = x)) (fun H v H1 => ∃ (fl2 : Bool), ∃ (pos2 : Nat), ∃ (vn : Int), v = some (.int (iI (vn))) ∧ ((fl2, pos2, vn) = fp_xn tx n pos fl q) ∧ fp_At G H1 x (eO 6 [.ref (kw), .ref (p), .ref (l), .int (iI ((pos2 : Nat) : Int)), .int (iI (bI (fl2)))])) := by
  refine fp_M.intro (by decide) (Nat.le_of_ble_eq_true rfl) ?_
  intro pg en s mi ag bl mt cd rR qQ ls X hx hb hr hlk hnm hR hQ hB hM hl
  have hS : va_S (fA (fun q => (g_s G).heap.size ≤ q ∧ (q = x)) s.heap.size) s.heap s.heap [] := va_S.rf
  generalize ([] : List Loc) = locs at hS ⊢
  have hb0 := hB.1
  have hAb : ∀ q, (fun q => (g_s G).heap.size ≤ q ∧ (q = x)) q → (g_s G).heap.size ≤ q := fun q h => h.1
  obtain ⟨h_o, h_pg⟩ := hM
  have hsz0 := hS.1
  have lt_1 := h_o.lt
  have lt_2 := h_pg.lt
  have lt_3 := h_pg.2.1.lt
  have hpg := h_pg.2.2.1
  obtain ⟨⟨hp1, hp2, hpo, hpp⟩, hprow, -⟩ := id h_pg
  have hne_4 : fp_dif x p := fp_neOO X.2.2.2.2.2 (i := 6) (j := 12) rfl rfl (by decide) h_o hpo
  have hne_5 : fp_dif x pv := fp_neOA X.2.2.2.2.2 (i := 6) (t := 2) rfl rfl h_o hprow
  have hne_6 : fp_dif p pv := fp_neOA X.2.2.2.2.2 (i := 12) (t := 2) rfl rfl hpo hprow
  refine lv_aload_n hx hb dX9_parseNumber_0 rfl (lv_at hl 0 rfl) ?_
  refine r_callV (cells1 := 0) (slots1 := 0) X hR (c_X9_expectBlank G x kw p pv l n tx pos fl hpos hxb) q1851 q1853 qs39 q124 q1854 ⟨rfl, pd_X9_expectBlank⟩ ⟨Nat.le_of_ble_eq_true rfl, Nat.le_of_ble_eq_true rfl⟩ rfl rfl (Nat.le_of_ble_eq_true rfl) (Nat.le_of_ble_eq_true rfl) h_o rfl rfl (Nat.le_of_ble_eq_true rfl) hl.1 dX9_parseNumber_1 (hB.of hS hAb) ⟨h_o, h_pg⟩ hS (fun q h => by have h2 : (g_s G).heap.size ≤ q ∧ (q = x) := h; show ((g_s G).heap.size ≤ q ∧ (q = x)) ∨ s.heap.size ≤ q; omega) (fun v H_10 locs hp_7 hz_8 hk_9 hS => ?_)
  obtain ⟨fl2_11, pos2_12, rfl, hxb_13, hE_14⟩ := hp_7
  have hz_15 := hS.1
  have lt_16 := hE_14.lt
  refine r_stk (st2 := []) rfl ?_
  obtain ⟨hf1, hf2⟩ := hxb_13
  cases hfl2 : fl2_11 with
  | true =>
    rw [hfl2] at hf1 hf2 hE_14
    rw [if_pos rfl] at hf2
    obtain rfl : pos = pos2_12 := hf2.symm
    refine lv_iconst (v := (iI ((0 : Nat) : Int))) hx hb dX9_parseNumber_4 rfl ?_
    refine lv_istore_n (lv' := [(2, .int (iI ((0 : Nat) : Int))), (0, .ref (x)), (1, .int (iI ((q : Nat) : Int)))]) hx hb dX9_parseNumber_5 rfl hl (by decide) rfl (fun ls hl => ?_)
    refine lv_iconst (v := (iI ((0 : Nat) : Int))) hx hb dX9_parseNumber_6 rfl ?_
    refine lv_istore_n (lv' := [(3, .int (iI ((0 : Nat) : Int))), (2, .int (iI ((0 : Nat) : Int))), (0, .ref (x)), (1, .int (iI ((q : Nat) : Int)))]) hx hb dX9_parseNumber_7 rfl hl (by decide) rfl (fun ls hl => ?_)
    refine lv_aload_n hx hb dX9_parseNumber_8 rfl (lv_at hl 2 rfl) ?_
    refine r_get X hE_14 rfl in_X9 4 (by decide) q1745 (Or.inl rfl) (v := .int (iI (bI (true)))) rfl dX9_parseNumber_9 ?_
    refine r_ifneB (tgt := 67) hx hb dX9_parseNumber_12 (by decide) (fun c12 => ?_) (fun c12 => ?_)
    · skip
      refine lv_aload_n hx hb dX9_parseNumber_67 rfl (lv_at hl 2 rfl) ?_
      refine lv_dup hx hb dX9_parseNumber_68 rfl ?_
      refine r_get X hE_14 rfl in_X9 4 (by decide) q1745 (Or.inl rfl) (v := .int (iI (bI (true)))) rfl dX9_parseNumber_69 ?_
      refine lv_iload_n hx hb dX9_parseNumber_72 rfl (lv_at hl 0 rfl) ?_
      refine r_if_ne (tgt := 80) hx hb (by decide) dX9_parseNumber_73 (by decide) (fun c73 => ?_) (fun c73 => ?_)
      · exact absurd c73 (by omega)
      · skip
        refine lv_iconst (v := (iI ((1 : Nat) : Int))) hx hb dX9_parseNumber_76 rfl ?_
        refine lv_goto (tgt := 81) hx hb dX9_parseNumber_77 (by decide) ?_
        refine r_iorB (a := true) (b := true) hx hb dX9_parseNumber_81 ?_
        refine r_set (y := .int (iI ((1 : Nat) : Int))) rfl ?_
        refine r_put X hE_14 hS (Or.inl ⟨by omega, rfl⟩) rfl in_X9 tyX9_ok nmX9 4 (by decide) q1745 (Or.inl rfl) rfl rfl rfl (show 4 < 5 by decide) dX9_parseNumber_82 (fun H_20 locs hE_17 hz_18 hq_19 hS => ?_)
        have hz_21 := hS.1
        refine lv_iload_n hx hb dX9_parseNumber_85 rfl (lv_at hl 1 rfl) ?_
        refine r_iret hx hb hr hlk hQ hS (Nat.le_of_ble_eq_true rfl) (Nat.le_of_ble_eq_true rfl) dX9_parseNumber_86 ?_
        exact ⟨true, pos, 0, rfl, ((if_pos (by simpa using hf1.symm)).symm), hE_17⟩
    · exact absurd c12 (by decide)
  | false =>
    rw [hfl2] at hf1 hf2 hE_14
    rw [if_neg Bool.false_ne_true] at hf2
    subst hf2
    obtain ⟨hflf, hsg32⟩ : fl = false ∧ fp_sg tx n pos = 32 := by simpa using hf1.symm
    have hpn := fp_sg_lt hsg32 (by omega)
    refine lv_iconst (v := (iI ((0 : Nat) : Int))) hx hb dX9_parseNumber_4 rfl ?_
    refine lv_istore_n (lv' := [(2, .int (iI ((0 : Nat) : Int))), (0, .ref (x)), (1, .int (iI ((q : Nat) : Int)))]) hx hb dX9_parseNumber_5 rfl hl (by decide) rfl (fun ls hl => ?_)
    refine lv_iconst (v := (iI ((0 : Nat) : Int))) hx hb dX9_parseNumber_6 rfl ?_
    refine lv_istore_n (lv' := [(3, .int (iI ((0 : Nat) : Int))), (2, .int (iI ((0 : Nat) : Int))), (0, .ref (x)), (1, .int (iI ((q : Nat) : Int)))]) hx hb dX9_parseNumber_7 rfl hl (by decide) rfl (fun ls hl => ?_)
    have L8 : ∀ (k : Nat), k ≤ q → ∀ (H_22 : Heap) (locs : List Loc) (ls : Array Slot), lv_has ls 4 [(0, .ref (x)), (1, .int (iI ((q : Nat) : Int))), (2, .int (iI (fp_dvl tx n (pos + 1) k))), (3, .int (iI ((k : Nat) : Int)))] → va_S (fA (fun q => (g_s G).heap.size ≤ q ∧ (q = x)) s.heap.size) s.heap H_22 locs → (∀ i, i < k → fp_isd tx n (pos + 1 + i) = true) → (pos + 1 + k ≤ n) → (H_10.size ≤ H_22.size) → fp_At G H_22 x (eO 6 [.ref (kw), .ref (p), .ref (l), .int (iI ((pos + 1 + k : Nat) : Int)), .int (iI (bI (false)))]) → W pg (g_l G) en rR s mi ag bl mt cd H_22 locs 0 0 qQ (F0 mi 8 ls []) := by
      refine lp_up q ?_
      intro k hk8 ih8 H_22 locs ls hl hS hds hkn hz_23 hE_24
      have hz_25 := hS.1
      have lt_26 := hE_24.lt
      have hdb := fp_dvl_b (tx := tx) (n := n) (h := pos + 1) k hds (by omega)
      refine lv_aload_n hx hb dX9_parseNumber_8 rfl (lv_at hl 0 rfl) ?_
      refine r_get X hE_24 rfl in_X9 4 (by decide) q1745 (Or.inl rfl) (v := .int (iI (bI (false)))) rfl dX9_parseNumber_9 ?_
      refine r_ifneB (tgt := 67) hx hb dX9_parseNumber_12 (by decide) (fun c12 => ?_) (fun c12 => ?_)
      · exact absurd c12 (by decide)
      · skip
        refine lv_iload_n hx hb dX9_parseNumber_15 rfl (lv_at hl 3 rfl) ?_
        refine lv_iload_n hx hb dX9_parseNumber_16 rfl (lv_at hl 1 rfl) ?_
        refine r_icmp_ge (tgt := 67) hx hb ⟨by omega, by omega⟩ ⟨by omega, by omega⟩ dX9_parseNumber_17 (by decide) (fun c17 => ?_) (fun c17 => ?_)
        · skip
          refine lv_aload_n hx hb dX9_parseNumber_67 rfl (lv_at hl 0 rfl) ?_
          refine lv_dup hx hb dX9_parseNumber_68 rfl ?_
          refine r_get X hE_24 rfl in_X9 4 (by decide) q1745 (Or.inl rfl) (v := .int (iI (bI (false)))) rfl dX9_parseNumber_69 ?_
          refine lv_iload_n hx hb dX9_parseNumber_72 rfl (lv_at hl 3 rfl) ?_
          refine r_if_ne (tgt := 80) hx hb ⟨by omega, by omega⟩ dX9_parseNumber_73 (by decide) (fun c73 => ?_) (fun c73 => ?_)
          · skip
            refine lv_iconst (v := (iI ((0 : Nat) : Int))) hx hb dX9_parseNumber_80 rfl ?_
            refine r_iorB (a := false) (b := false) hx hb dX9_parseNumber_81 ?_
            refine r_set (y := .int (iI ((0 : Nat) : Int))) rfl ?_
            refine r_put X hE_24 hS (Or.inl ⟨by omega, rfl⟩) rfl in_X9 tyX9_ok nmX9 4 (by decide) q1745 (Or.inl rfl) rfl rfl rfl (show 4 < 5 by decide) dX9_parseNumber_82 (fun H_30 locs hE_27 hz_28 hq_29 hS => ?_)
            have hz_31 := hS.1
            refine lv_iload_n hx hb dX9_parseNumber_85 rfl (lv_at hl 2 rfl) ?_
            refine r_iret hx hb hr hlk hQ hS (Nat.le_of_ble_eq_true rfl) (Nat.le_of_ble_eq_true rfl) dX9_parseNumber_86 ?_
            exact ⟨false, pos + 1 + k, fp_dvl tx n (pos + 1) k, rfl, (fp_xn_3 hflf hsg32 (by omega) (fp_dct_eq (by omega) hds (Or.inl (by omega)))), hE_27⟩
          · skip
            refine lv_iconst (v := (iI ((1 : Nat) : Int))) hx hb dX9_parseNumber_76 rfl ?_
            refine lv_goto (tgt := 81) hx hb dX9_parseNumber_77 (by decide) ?_
            refine r_iorB (a := false) (b := true) hx hb dX9_parseNumber_81 ?_
            refine r_set (y := .int (iI ((1 : Nat) : Int))) rfl ?_
            refine r_put X hE_24 hS (Or.inl ⟨by omega, rfl⟩) rfl in_X9 tyX9_ok nmX9 4 (by decide) q1745 (Or.inl rfl) rfl rfl rfl (show 4 < 5 by decide) dX9_parseNumber_82 (fun H_35 locs hE_32 hz_33 hq_34 hS => ?_)
            have hz_36 := hS.1
            refine lv_iload_n hx hb dX9_parseNumber_85 rfl (lv_at hl 2 rfl) ?_
            refine r_iret hx hb hr hlk hQ hS (Nat.le_of_ble_eq_true rfl) (Nat.le_of_ble_eq_true rfl) dX9_parseNumber_86 ?_
            exact ⟨true, pos + 1 + k, 0, (by rw [show k = 0 by omega]; rfl), (by have h9 := fp_dct_eq (q := q) (by omega) hds (Or.inl (by omega)); have h8 : k = 0 := (by omega); subst h8; exact fp_xn_2 hflf hsg32 h9), hE_32⟩
        · skip
          refine lv_aload_n hx hb dX9_parseNumber_20 rfl (lv_at hl 0 rfl) ?_
          refine lv_bipush (v := (iI ((48 : Nat) : Int))) hx hb dX9_parseNumber_21 rfl ?_
          refine lv_bipush (v := (iI ((57 : Nat) : Int))) hx hb dX9_parseNumber_23 rfl ?_
          have hE_37 := fp_HS.mv h_pg (fp_keptS (by omega) hS (fun h => (Ne.symm (hne_4)) h.2)) (fp_keptS (by omega) hS (fun h => (Ne.symm (hne_5)) h.2))
          refine r_callV (cells1 := 0) (slots1 := 0) X hR (c_X9_isNextBetween G x kw p pv l n tx (pos + 1 + k) false 48 57 (by omega) (by omega)) q1859 q1861 qs41 q124 q1862 ⟨rfl, pd_X9_isNextBetween⟩ ⟨Nat.le_of_ble_eq_true rfl, Nat.le_of_ble_eq_true rfl⟩ rfl rfl (Nat.le_of_ble_eq_true rfl) (Nat.le_of_ble_eq_true rfl) hE_24 rfl rfl (Nat.le_of_ble_eq_true rfl) hl.1 dX9_parseNumber_25 (hB.of hS hAb) ⟨hE_24, hE_37⟩ hS (fun _ h => h.elim) (fun v H_41 locs hp_38 hz_39 hk_40 hS => ?_)
          obtain ⟨rfl, rfl⟩ := hp_38
          refine r_stk (st2 := [.int (iI (bI (decide (((48 : Nat) : Int) ≤ fp_sg tx n (pos + 1 + k) ∧ fp_sg tx n (pos + 1 + k) ≤ ((57 : Nat) : Int)))))]) rfl ?_
          refine r_ifeqB (tgt := 67) hx hb dX9_parseNumber_28 (by decide) (fun c28 => ?_) (fun c28 => ?_)
          · skip
            have hdk : fp_isd tx n (pos + 1 + k) = false := c28
            refine lv_aload_n hx hb dX9_parseNumber_67 rfl (lv_at hl 0 rfl) ?_
            refine lv_dup hx hb dX9_parseNumber_68 rfl ?_
            refine r_get X hE_24 rfl in_X9 4 (by decide) q1745 (Or.inl rfl) (v := .int (iI (bI (false)))) rfl dX9_parseNumber_69 ?_
            refine lv_iload_n hx hb dX9_parseNumber_72 rfl (lv_at hl 3 rfl) ?_
            refine r_if_ne (tgt := 80) hx hb ⟨by omega, by omega⟩ dX9_parseNumber_73 (by decide) (fun c73 => ?_) (fun c73 => ?_)
            · skip
              refine lv_iconst (v := (iI ((0 : Nat) : Int))) hx hb dX9_parseNumber_80 rfl ?_
              refine r_iorB (a := false) (b := false) hx hb dX9_parseNumber_81 ?_
              refine r_set (y := .int (iI ((0 : Nat) : Int))) rfl ?_
              refine r_put X hE_24 hS (Or.inl ⟨by omega, rfl⟩) rfl in_X9 tyX9_ok nmX9 4 (by decide) q1745 (Or.inl rfl) rfl rfl rfl (show 4 < 5 by decide) dX9_parseNumber_82 (fun H_45 locs hE_42 hz_43 hq_44 hS => ?_)
              have hz_46 := hS.1
              refine lv_iload_n hx hb dX9_parseNumber_85 rfl (lv_at hl 2 rfl) ?_
              refine r_iret hx hb hr hlk hQ hS (Nat.le_of_ble_eq_true rfl) (Nat.le_of_ble_eq_true rfl) dX9_parseNumber_86 ?_
              exact ⟨false, pos + 1 + k, fp_dvl tx n (pos + 1) k, rfl, (fp_xn_3 hflf hsg32 (by omega) (fp_dct_eq (by omega) hds (Or.inr hdk))), hE_42⟩
            · skip
              refine lv_iconst (v := (iI ((1 : Nat) : Int))) hx hb dX9_parseNumber_76 rfl ?_
              refine lv_goto (tgt := 81) hx hb dX9_parseNumber_77 (by decide) ?_
              refine r_iorB (a := false) (b := true) hx hb dX9_parseNumber_81 ?_
              refine r_set (y := .int (iI ((1 : Nat) : Int))) rfl ?_
              refine r_put X hE_24 hS (Or.inl ⟨by omega, rfl⟩) rfl in_X9 tyX9_ok nmX9 4 (by decide) q1745 (Or.inl rfl) rfl rfl rfl (show 4 < 5 by decide) dX9_parseNumber_82 (fun H_50 locs hE_47 hz_48 hq_49 hS => ?_)
              have hz_51 := hS.1
              refine lv_iload_n hx hb dX9_parseNumber_85 rfl (lv_at hl 2 rfl) ?_
              refine r_iret hx hb hr hlk hQ hS (Nat.le_of_ble_eq_true rfl) (Nat.le_of_ble_eq_true rfl) dX9_parseNumber_86 ?_
              exact ⟨true, pos + 1 + k, 0, (by rw [show k = 0 by omega]; rfl), (by have h9 := fp_dct_eq (q := q) (by omega) hds (Or.inr hdk); have h8 : k = 0 := (by omega); subst h8; exact fp_xn_2 hflf hsg32 h9), hE_47⟩
          · skip
            have hdk : fp_isd tx n (pos + 1 + k) = true := c28
            have hdd := of_decide_eq_true hdk
            have hlt := fp_sg_lt (tx := tx) (n := n) (k := pos + 1 + k) rfl (by omega)
            have hsk : fp_sg tx n (pos + 1 + k) = ((tx (pos + 1 + k) : Nat) : Int) := if_pos hlt
            refine lv_bipush (v := (iI ((10 : Nat) : Int))) hx hb dX9_parseNumber_31 rfl ?_
            refine lv_iload_n hx hb dX9_parseNumber_33 rfl (lv_at hl 2 rfl) ?_
            refine r_imul hx hb dX9_parseNumber_34 ?_
            refine lv_aload_n hx hb dX9_parseNumber_35 rfl (lv_at hl 0 rfl) ?_
            refine r_get X hE_24 rfl in_X9 1 (by decide) q1740 (Or.inl rfl) (v := .ref (p)) rfl dX9_parseNumber_36 ?_
            refine lv_aload_n hx hb dX9_parseNumber_39 rfl (lv_at hl 0 rfl) ?_
            refine r_get X hE_24 rfl in_X9 3 (by decide) q1743 (Or.inl rfl) (v := .int (iI ((pos + 1 + k : Nat) : Int))) rfl dX9_parseNumber_40 ?_
            refine r_callVR (cells1 := 0) (slots1 := 0) X hR (c_J7_charAt G p pv n tx (pos + 1 + k) (by omega)) q1812 q1813 q1814 q98 q1815 ⟨rfl, pd_J7_charAt⟩ ⟨Nat.le_of_ble_eq_true rfl, Nat.le_of_ble_eq_true rfl⟩ rfl rfl (Nat.le_of_ble_eq_true rfl) (Nat.le_of_ble_eq_true rfl) (fp_SO.recv X ((fp_HS.st hE_37).1) hB hAb hS) rfl (Nat.le_of_ble_eq_true rfl) hl.1 dX9_parseNumber_43 (hB.of hS hAb) (fp_HS.st hE_37) hS (fun _ h => h.elim) (fun v H_55 locs hp_52 hz_53 hk_54 hS => ?_)
            obtain ⟨rfl, rfl⟩ := hp_52
            refine r_stk (st2 := [.int (iI ((tx (pos + 1 + k) : Nat) : Int)), .int (iI (((10 : Nat) : Int) * (fp_dvl tx n (pos + 1) k)))]) rfl ?_
            refine r_iadd hx hb dX9_parseNumber_46 ?_
            refine lv_bipush (v := (iI ((48 : Nat) : Int))) hx hb dX9_parseNumber_47 rfl ?_
            refine r_isub hx hb dX9_parseNumber_49 ?_
            refine r_set (y := .int (iI (fp_dvl tx n (pos + 1) (k + 1)))) (congrArg (fun q : Int => Value.int (iI q)) (by show _ = 10 * fp_dvl tx n (pos + 1) k + fp_sg tx n (pos + 1 + k) - 48; rw [hsk]; omega)) ?_
            refine lv_istore_n (lv' := [(2, .int (iI (fp_dvl tx n (pos + 1) (k + 1)))), (0, .ref (x)), (1, .int (iI ((q : Nat) : Int))), (3, .int (iI ((k : Nat) : Int)))]) hx hb dX9_parseNumber_50 rfl hl (by decide) rfl (fun ls hl => ?_)
            refine lv_aload_n hx hb dX9_parseNumber_51 rfl (lv_at hl 1 rfl) ?_
            refine lv_dup hx hb dX9_parseNumber_52 rfl ?_
            refine r_get X hE_24 rfl in_X9 3 (by decide) q1743 (Or.inl rfl) (v := .int (iI ((pos + 1 + k : Nat) : Int))) rfl dX9_parseNumber_53 ?_
            refine lv_iconst (v := (iI ((1 : Nat) : Int))) hx hb dX9_parseNumber_56 rfl ?_
            refine r_iaddN hx hb dX9_parseNumber_57 ?_
            refine r_put X hE_24 hS (Or.inl ⟨by omega, rfl⟩) rfl in_X9 tyX9_ok nmX9 3 (by decide) q1743 (Or.inl rfl) rfl rfl rfl (show 3 < 5 by decide) dX9_parseNumber_58 (fun H_59 locs hE_56 hz_57 hq_58 hS => ?_)
            have hz_60 := hS.1
            refine lv_iinc (v := (iI ((k + 1 : Nat) : Int))) (lv' := [(3, .int (iI ((k + 1 : Nat) : Int))), (2, .int (iI (fp_dvl tx n (pos + 1) (k + 1)))), (0, .ref (x)), (1, .int (iI ((q : Nat) : Int)))]) hx hb dX9_parseNumber_61 hl (k := 3) rfl (iI_incN _ _) (by decide) rfl (fun ls hl => ?_)
            refine lv_goto (tgt := 8) hx hb dX9_parseNumber_64 (by decide) ?_
            exact ih8 (by omega) H_59 locs ls (lv_sub hl [2, 3, 1, 0] rfl) hS (fp_ltS hds hdk) (by omega) (by omega) hE_56
    exact L8 0 (by omega) H_10 locs ls (by rw [show Value.int (iI (fp_dvl tx n (pos + 1) 0)) = Value.int (iI ((0 : Nat) : Int)) from rfl]; exact lv_sub hl [2, 3, 1, 0] rfl) hS (fun i hi => absurd hi (Nat.not_lt_zero i)) (by omega) (Nat.le_refl _) hE_14
set_option maxHeartbeats 4000000 in
theorem c_X9_parseZone (G : fp_G) (x : Nat) (kw : Nat) (p : Nat) (pv : Nat) (l : Nat) (n : Nat) (tx : Nat → Nat) (pos : Nat) (fl : Bool) (hpos : pos ≤ n) (hxb : (g_s G).heap.size ≤ x) : fp_M G yX9_parseZone cX9_parseZone 1 (some .char) 8 160 0 0 [.ref (x)] (fun H => fp_At G H x (eO 6 [.ref (kw), .ref (p), .ref (l), .int (iI ((pos : Nat) : Int)), .int (iI (bI (fl)))]) ∧ fp_HS G p pv n tx H) (fun q => (g_s G).heap.size ≤ q ∧ (q = x)) (fun H v H1 => ∃ (fl2 : Bool), ∃ (pos2 : Nat), ∃ (c : Nat), v = some (.int (iI ((c : Nat) : Int))) ∧ ((fl2, pos2, c) = fp_xz tx n pos fl) ∧ fp_At G H1 x (eO 6 [.ref (kw), .ref (p), .ref (l), .int (iI ((pos2 : Nat) : Int)), .int (iI (bI (fl2)))])) := by
  refine fp_M.intro (by decide) (Nat.le_of_ble_eq_true rfl) ?_
  intro pg en s mi ag bl mt cd rR qQ ls X hx hb hr hlk hnm hR hQ hB hM hl
  have hS : va_S (fA (fun q => (g_s G).heap.size ≤ q ∧ (q = x)) s.heap.size) s.heap s.heap [] := va_S.rf
  generalize ([] : List Loc) = locs at hS ⊢
  have hb0 := hB.1
  have hAb : ∀ q, (fun q => (g_s G).heap.size ≤ q ∧ (q = x)) q → (g_s G).heap.size ≤ q := fun q h => h.1
  obtain ⟨h_o, h_pg⟩ := hM
  have hsz0 := hS.1
  have lt_1 := h_o.lt
  have lt_2 := h_pg.lt
  have lt_3 := h_pg.2.1.lt
  have hpg := h_pg.2.2.1
  obtain ⟨⟨hp1, hp2, hpo, hpp⟩, hprow, -⟩ := id h_pg
  have hne_4 : fp_dif x p := fp_neOO X.2.2.2.2.2 (i := 6) (j := 12) rfl rfl (by decide) h_o hpo
  have hne_5 : fp_dif x pv := fp_neOA X.2.2.2.2.2 (i := 6) (t := 2) rfl rfl h_o hprow
  have hne_6 : fp_dif p pv := fp_neOA X.2.2.2.2.2 (i := 12) (t := 2) rfl rfl hpo hprow
  refine lv_aload_n hx hb dX9_parseZone_0 rfl (lv_at hl 0 rfl) ?_
  refine r_callV (cells1 := 0) (slots1 := 0) X hR (c_X9_expectBlank G x kw p pv l n tx pos fl hpos hxb) q1851 q1853 qs39 q124 q1854 ⟨rfl, pd_X9_expectBlank⟩ ⟨Nat.le_of_ble_eq_true rfl, Nat.le_of_ble_eq_true rfl⟩ rfl rfl (Nat.le_of_ble_eq_true rfl) (Nat.le_of_ble_eq_true rfl) h_o rfl rfl (Nat.le_of_ble_eq_true rfl) hl.1 dX9_parseZone_1 (hB.of hS hAb) ⟨h_o, h_pg⟩ hS (fun q h => by have h2 : (g_s G).heap.size ≤ q ∧ (q = x) := h; show ((g_s G).heap.size ≤ q ∧ (q = x)) ∨ s.heap.size ≤ q; omega) (fun v H_10 locs hp_7 hz_8 hk_9 hS => ?_)
  obtain ⟨fl2_11, pos2_12, rfl, hxb_13, hE_14⟩ := hp_7
  have hz_15 := hS.1
  have lt_16 := hE_14.lt
  refine r_stk (st2 := []) rfl ?_
  obtain ⟨hf1, hf2⟩ := hxb_13
  cases hfl2 : fl2_11 with
  | true =>
    rw [hfl2] at hf1 hf2 hE_14
    rw [if_pos rfl] at hf2
    obtain rfl : pos = pos2_12 := hf2.symm
    refine lv_aload_n hx hb dX9_parseZone_4 rfl (lv_at hl 0 rfl) ?_
    refine lv_dup hx hb dX9_parseZone_5 rfl ?_
    refine r_get X hE_14 rfl in_X9 4 (by decide) q1745 (Or.inl rfl) (v := .int (iI (bI (true)))) rfl dX9_parseZone_6 ?_
    refine lv_aload_n hx hb dX9_parseZone_9 rfl (lv_at hl 0 rfl) ?_
    refine lv_bipush (v := (iI ((111 : Nat) : Int))) hx hb dX9_parseZone_10 rfl ?_
    have hE_17 := fp_HS.mv h_pg (fp_keptS (by omega) hS (fun h => (Ne.symm (hne_4)) h.2)) (fp_keptS (by omega) hS (fun h => (Ne.symm (hne_5)) h.2))
    refine r_callV (cells1 := 0) (slots1 := 0) X hR (c_X9_isNext G x kw p pv l n tx pos true 111 hpos (by omega)) q1855 q1857 qs40 q124 q1858 ⟨rfl, pd_X9_isNext⟩ ⟨Nat.le_of_ble_eq_true rfl, Nat.le_of_ble_eq_true rfl⟩ rfl rfl (Nat.le_of_ble_eq_true rfl) (Nat.le_of_ble_eq_true rfl) hE_14 rfl rfl (Nat.le_of_ble_eq_true rfl) hl.1 dX9_parseZone_12 (hB.of hS hAb) ⟨hE_14, hE_17⟩ hS (fun _ h => h.elim) (fun v H_21 locs hp_18 hz_19 hk_20 hS => ?_)
    obtain ⟨rfl, rfl⟩ := hp_18
    refine r_stk (st2 := [.int (iI (bI (decide (fp_sg tx n pos = ((111 : Nat) : Int))))), .int (iI (bI (true))), .ref (x)]) rfl ?_
    refine r_ifneB (tgt := 40) hx hb dX9_parseZone_15 (by decide) (fun c15 => ?_) (fun c15 => ?_)
    · skip
      have hz111 := of_decide_eq_true c15
      refine lv_iconst (v := (iI ((0 : Nat) : Int))) hx hb dX9_parseZone_40 rfl ?_
      refine r_iorB (a := true) (b := false) hx hb dX9_parseZone_41 ?_
      refine r_set (y := .int (iI ((1 : Nat) : Int))) rfl ?_
      refine r_put X hE_14 hS (Or.inl ⟨by omega, rfl⟩) rfl in_X9 tyX9_ok nmX9 4 (by decide) q1745 (Or.inl rfl) rfl rfl rfl (show 4 < 5 by decide) dX9_parseZone_42 (fun H_25 locs hE_22 hz_23 hq_24 hS => ?_)
      have hz_26 := hS.1
      refine lv_aload_n hx hb dX9_parseZone_45 rfl (lv_at hl 0 rfl) ?_
      refine r_get X hE_22 rfl in_X9 4 (by decide) q1745 (Or.inl rfl) (v := .int (iI ((1 : Nat) : Int))) rfl dX9_parseZone_46 ?_
      refine r_if_eq (tgt := 55) hx hb (by decide) dX9_parseZone_49 (by decide) (fun c49 => ?_) (fun c49 => ?_)
      · exact absurd c49 (by omega)
      · skip
        refine lv_bipush (v := (iI ((32 : Nat) : Int))) hx hb dX9_parseZone_52 rfl ?_
        refine r_zret hx hb hr hlk hQ hS (Nat.le_of_ble_eq_true rfl) (Nat.le_of_ble_eq_true rfl) dX9_parseZone_54 (iI_char ⟨by omega, by omega⟩) ?_
        exact ⟨true, pos, 32, rfl, ((if_pos (by simpa using hf1.symm)).symm), hE_22⟩
    · skip
      have hz111 := of_decide_eq_false c15
      refine lv_aload_n hx hb dX9_parseZone_18 rfl (lv_at hl 0 rfl) ?_
      refine lv_bipush (v := (iI ((113 : Nat) : Int))) hx hb dX9_parseZone_19 rfl ?_
      refine r_callV (cells1 := 0) (slots1 := 0) X hR (c_X9_isNext G x kw p pv l n tx pos true 113 hpos (by omega)) q1855 q1857 qs40 q124 q1858 ⟨rfl, pd_X9_isNext⟩ ⟨Nat.le_of_ble_eq_true rfl, Nat.le_of_ble_eq_true rfl⟩ rfl rfl (Nat.le_of_ble_eq_true rfl) (Nat.le_of_ble_eq_true rfl) hE_14 rfl rfl (Nat.le_of_ble_eq_true rfl) hl.1 dX9_parseZone_21 (hB.of hS hAb) ⟨hE_14, hE_17⟩ hS (fun _ h => h.elim) (fun v H_30 locs hp_27 hz_28 hk_29 hS => ?_)
      obtain ⟨rfl, rfl⟩ := hp_27
      refine r_stk (st2 := [.int (iI (bI (decide (fp_sg tx n pos = ((113 : Nat) : Int))))), .int (iI (bI (true))), .ref (x)]) rfl ?_
      refine r_ifneB (tgt := 40) hx hb dX9_parseZone_24 (by decide) (fun c24 => ?_) (fun c24 => ?_)
      · skip
        have hz113 := of_decide_eq_true c24
        refine lv_iconst (v := (iI ((0 : Nat) : Int))) hx hb dX9_parseZone_40 rfl ?_
        refine r_iorB (a := true) (b := false) hx hb dX9_parseZone_41 ?_
        refine r_set (y := .int (iI ((1 : Nat) : Int))) rfl ?_
        refine r_put X hE_14 hS (Or.inl ⟨by omega, rfl⟩) rfl in_X9 tyX9_ok nmX9 4 (by decide) q1745 (Or.inl rfl) rfl rfl rfl (show 4 < 5 by decide) dX9_parseZone_42 (fun H_34 locs hE_31 hz_32 hq_33 hS => ?_)
        have hz_35 := hS.1
        refine lv_aload_n hx hb dX9_parseZone_45 rfl (lv_at hl 0 rfl) ?_
        refine r_get X hE_31 rfl in_X9 4 (by decide) q1745 (Or.inl rfl) (v := .int (iI ((1 : Nat) : Int))) rfl dX9_parseZone_46 ?_
        refine r_if_eq (tgt := 55) hx hb (by decide) dX9_parseZone_49 (by decide) (fun c49 => ?_) (fun c49 => ?_)
        · exact absurd c49 (by omega)
        · skip
          refine lv_bipush (v := (iI ((32 : Nat) : Int))) hx hb dX9_parseZone_52 rfl ?_
          refine r_zret hx hb hr hlk hQ hS (Nat.le_of_ble_eq_true rfl) (Nat.le_of_ble_eq_true rfl) dX9_parseZone_54 (iI_char ⟨by omega, by omega⟩) ?_
          exact ⟨true, pos, 32, rfl, ((if_pos (by simpa using hf1.symm)).symm), hE_31⟩
      · skip
        have hz113 := of_decide_eq_false c24
        refine lv_aload_n hx hb dX9_parseZone_27 rfl (lv_at hl 0 rfl) ?_
        refine lv_bipush (v := (iI ((99 : Nat) : Int))) hx hb dX9_parseZone_28 rfl ?_
        refine r_callV (cells1 := 0) (slots1 := 0) X hR (c_X9_isNext G x kw p pv l n tx pos true 99 hpos (by omega)) q1855 q1857 qs40 q124 q1858 ⟨rfl, pd_X9_isNext⟩ ⟨Nat.le_of_ble_eq_true rfl, Nat.le_of_ble_eq_true rfl⟩ rfl rfl (Nat.le_of_ble_eq_true rfl) (Nat.le_of_ble_eq_true rfl) hE_14 rfl rfl (Nat.le_of_ble_eq_true rfl) hl.1 dX9_parseZone_30 (hB.of hS hAb) ⟨hE_14, hE_17⟩ hS (fun _ h => h.elim) (fun v H_39 locs hp_36 hz_37 hk_38 hS => ?_)
        obtain ⟨rfl, rfl⟩ := hp_36
        refine r_stk (st2 := [.int (iI (bI (decide (fp_sg tx n pos = ((99 : Nat) : Int))))), .int (iI (bI (true))), .ref (x)]) rfl ?_
        refine r_ifneB (tgt := 40) hx hb dX9_parseZone_33 (by decide) (fun c33 => ?_) (fun c33 => ?_)
        · skip
          have hz99 := of_decide_eq_true c33
          refine lv_iconst (v := (iI ((0 : Nat) : Int))) hx hb dX9_parseZone_40 rfl ?_
          refine r_iorB (a := true) (b := false) hx hb dX9_parseZone_41 ?_
          refine r_set (y := .int (iI ((1 : Nat) : Int))) rfl ?_
          refine r_put X hE_14 hS (Or.inl ⟨by omega, rfl⟩) rfl in_X9 tyX9_ok nmX9 4 (by decide) q1745 (Or.inl rfl) rfl rfl rfl (show 4 < 5 by decide) dX9_parseZone_42 (fun H_43 locs hE_40 hz_41 hq_42 hS => ?_)
          have hz_44 := hS.1
          refine lv_aload_n hx hb dX9_parseZone_45 rfl (lv_at hl 0 rfl) ?_
          refine r_get X hE_40 rfl in_X9 4 (by decide) q1745 (Or.inl rfl) (v := .int (iI ((1 : Nat) : Int))) rfl dX9_parseZone_46 ?_
          refine r_if_eq (tgt := 55) hx hb (by decide) dX9_parseZone_49 (by decide) (fun c49 => ?_) (fun c49 => ?_)
          · exact absurd c49 (by omega)
          · skip
            refine lv_bipush (v := (iI ((32 : Nat) : Int))) hx hb dX9_parseZone_52 rfl ?_
            refine r_zret hx hb hr hlk hQ hS (Nat.le_of_ble_eq_true rfl) (Nat.le_of_ble_eq_true rfl) dX9_parseZone_54 (iI_char ⟨by omega, by omega⟩) ?_
            exact ⟨true, pos, 32, rfl, ((if_pos (by simpa using hf1.symm)).symm), hE_40⟩
        · skip
          have hz99 := of_decide_eq_false c33
          refine lv_iconst (v := (iI ((1 : Nat) : Int))) hx hb dX9_parseZone_36 rfl ?_
          refine lv_goto (tgt := 41) hx hb dX9_parseZone_37 (by decide) ?_
          refine r_iorB (a := true) (b := true) hx hb dX9_parseZone_41 ?_
          refine r_set (y := .int (iI ((1 : Nat) : Int))) rfl ?_
          refine r_put X hE_14 hS (Or.inl ⟨by omega, rfl⟩) rfl in_X9 tyX9_ok nmX9 4 (by decide) q1745 (Or.inl rfl) rfl rfl rfl (show 4 < 5 by decide) dX9_parseZone_42 (fun H_48 locs hE_45 hz_46 hq_47 hS => ?_)
          have hz_49 := hS.1
          refine lv_aload_n hx hb dX9_parseZone_45 rfl (lv_at hl 0 rfl) ?_
          refine r_get X hE_45 rfl in_X9 4 (by decide) q1745 (Or.inl rfl) (v := .int (iI ((1 : Nat) : Int))) rfl dX9_parseZone_46 ?_
          refine r_if_eq (tgt := 55) hx hb (by decide) dX9_parseZone_49 (by decide) (fun c49 => ?_) (fun c49 => ?_)
          · exact absurd c49 (by omega)
          · skip
            refine lv_bipush (v := (iI ((32 : Nat) : Int))) hx hb dX9_parseZone_52 rfl ?_
            refine r_zret hx hb hr hlk hQ hS (Nat.le_of_ble_eq_true rfl) (Nat.le_of_ble_eq_true rfl) dX9_parseZone_54 (iI_char ⟨by omega, by omega⟩) ?_
            exact ⟨true, pos, 32, rfl, ((if_pos (by simpa using hf1.symm)).symm), hE_45⟩
  | false =>
    rw [hfl2] at hf1 hf2 hE_14
    rw [if_neg Bool.false_ne_true] at hf2
    subst hf2
    obtain ⟨hflf, hsg32⟩ : fl = false ∧ fp_sg tx n pos = 32 := by simpa using hf1.symm
    have hpn := fp_sg_lt hsg32 (by omega)
    refine lv_aload_n hx hb dX9_parseZone_4 rfl (lv_at hl 0 rfl) ?_
    refine lv_dup hx hb dX9_parseZone_5 rfl ?_
    refine r_get X hE_14 rfl in_X9 4 (by decide) q1745 (Or.inl rfl) (v := .int (iI (bI (false)))) rfl dX9_parseZone_6 ?_
    refine lv_aload_n hx hb dX9_parseZone_9 rfl (lv_at hl 0 rfl) ?_
    refine lv_bipush (v := (iI ((111 : Nat) : Int))) hx hb dX9_parseZone_10 rfl ?_
    have hE_50 := fp_HS.mv h_pg (fp_keptS (by omega) hS (fun h => (Ne.symm (hne_4)) h.2)) (fp_keptS (by omega) hS (fun h => (Ne.symm (hne_5)) h.2))
    refine r_callV (cells1 := 0) (slots1 := 0) X hR (c_X9_isNext G x kw p pv l n tx (pos + 1) false 111 (by omega) (by omega)) q1855 q1857 qs40 q124 q1858 ⟨rfl, pd_X9_isNext⟩ ⟨Nat.le_of_ble_eq_true rfl, Nat.le_of_ble_eq_true rfl⟩ rfl rfl (Nat.le_of_ble_eq_true rfl) (Nat.le_of_ble_eq_true rfl) hE_14 rfl rfl (Nat.le_of_ble_eq_true rfl) hl.1 dX9_parseZone_12 (hB.of hS hAb) ⟨hE_14, hE_50⟩ hS (fun _ h => h.elim) (fun v H_54 locs hp_51 hz_52 hk_53 hS => ?_)
    obtain ⟨rfl, rfl⟩ := hp_51
    refine r_stk (st2 := [.int (iI (bI (decide (fp_sg tx n (pos + 1) = ((111 : Nat) : Int))))), .int (iI (bI (false))), .ref (x)]) rfl ?_
    refine r_ifneB (tgt := 40) hx hb dX9_parseZone_15 (by decide) (fun c15 => ?_) (fun c15 => ?_)
    · skip
      have hz111 := of_decide_eq_true c15
      have hzp := fp_sg_lt hz111 (by omega)
      have hzt : fp_sg tx n (pos + 1) = ((tx (pos + 1) : Nat) : Int) := if_pos hzp
      have hzc : fp_zby (fp_sg tx n (pos + 1)) = 0 := by rw [hz111]; rfl
      refine lv_iconst (v := (iI ((0 : Nat) : Int))) hx hb dX9_parseZone_40 rfl ?_
      refine r_iorB (a := false) (b := false) hx hb dX9_parseZone_41 ?_
      refine r_set (y := .int (iI ((0 : Nat) : Int))) rfl ?_
      refine r_put X hE_14 hS (Or.inl ⟨by omega, rfl⟩) rfl in_X9 tyX9_ok nmX9 4 (by decide) q1745 (Or.inl rfl) rfl rfl rfl (show 4 < 5 by decide) dX9_parseZone_42 (fun H_58 locs hE_55 hz_56 hq_57 hS => ?_)
      have hz_59 := hS.1
      refine lv_aload_n hx hb dX9_parseZone_45 rfl (lv_at hl 0 rfl) ?_
      refine r_get X hE_55 rfl in_X9 4 (by decide) q1745 (Or.inl rfl) (v := .int (iI ((0 : Nat) : Int))) rfl dX9_parseZone_46 ?_
      refine r_if_eq (tgt := 55) hx hb (by decide) dX9_parseZone_49 (by decide) (fun c49 => ?_) (fun c49 => ?_)
      · skip
        refine lv_aload_n hx hb dX9_parseZone_55 rfl (lv_at hl 0 rfl) ?_
        refine lv_dup hx hb dX9_parseZone_56 rfl ?_
        refine r_get X hE_55 rfl in_X9 3 (by decide) q1743 (Or.inl rfl) (v := .int (iI (((pos + 1) : Nat) : Int))) rfl dX9_parseZone_57 ?_
        refine lv_iconst (v := (iI ((1 : Nat) : Int))) hx hb dX9_parseZone_60 rfl ?_
        refine r_iaddN hx hb dX9_parseZone_61 ?_
        refine r_put X hE_55 hS (Or.inl ⟨by omega, rfl⟩) rfl in_X9 tyX9_ok nmX9 3 (by decide) q1743 (Or.inl rfl) rfl rfl rfl (show 3 < 5 by decide) dX9_parseZone_62 (fun H_63 locs hE_60 hz_61 hq_62 hS => ?_)
        have hz_64 := hS.1
        refine lv_aload_n hx hb dX9_parseZone_65 rfl (lv_at hl 0 rfl) ?_
        refine r_get X hE_60 rfl in_X9 1 (by decide) q1740 (Or.inl rfl) (v := .ref (p)) rfl dX9_parseZone_66 ?_
        refine lv_aload_n hx hb dX9_parseZone_69 rfl (lv_at hl 0 rfl) ?_
        refine r_get X hE_60 rfl in_X9 3 (by decide) q1743 (Or.inl rfl) (v := .int (iI (((pos + 1) + 1 : Nat) : Int))) rfl dX9_parseZone_70 ?_
        refine lv_iconst (v := (iI ((1 : Nat) : Int))) hx hb dX9_parseZone_73 rfl ?_
        refine r_isub hx hb dX9_parseZone_74 ?_
        refine r_set (y := .int (iI ((pos + 1 : Nat) : Int))) (congrArg (fun q : Int => Value.int (iI q)) (by omega)) ?_
        have hE_65 := fp_HS.mv h_pg (fp_keptS (by omega) hS (fun h => (Ne.symm (hne_4)) h.2)) (fp_keptS (by omega) hS (fun h => (Ne.symm (hne_5)) h.2))
        refine r_callVR (cells1 := 0) (slots1 := 0) X hR (c_J7_charAt G p pv n tx (pos + 1) (by omega)) q1812 q1813 q1814 q98 q1815 ⟨rfl, pd_J7_charAt⟩ ⟨Nat.le_of_ble_eq_true rfl, Nat.le_of_ble_eq_true rfl⟩ rfl rfl (Nat.le_of_ble_eq_true rfl) (Nat.le_of_ble_eq_true rfl) (fp_SO.recv X ((fp_HS.st hE_65).1) hB hAb hS) rfl (Nat.le_of_ble_eq_true rfl) hl.1 dX9_parseZone_75 (hB.of hS hAb) (fp_HS.st hE_65) hS (fun _ h => h.elim) (fun v H_69 locs hp_66 hz_67 hk_68 hS => ?_)
        obtain ⟨rfl, rfl⟩ := hp_66
        refine r_stk (st2 := [.int (iI ((tx (pos + 1) : Nat) : Int))]) rfl ?_
        have h128z := hpg.1 (pos + 1) (by omega)
        refine r_zret hx hb hr hlk hQ hS (Nat.le_of_ble_eq_true rfl) (Nat.le_of_ble_eq_true rfl) dX9_parseZone_78 (iI_char ⟨by omega, by omega⟩) ?_
        exact ⟨false, pos + 2, tx (pos + 1), rfl, (fp_xz_3 hflf hsg32 (by omega)), hE_60⟩
      · exact absurd c49 (by omega)
    · skip
      have hz111 := of_decide_eq_false c15
      refine lv_aload_n hx hb dX9_parseZone_18 rfl (lv_at hl 0 rfl) ?_
      refine lv_bipush (v := (iI ((113 : Nat) : Int))) hx hb dX9_parseZone_19 rfl ?_
      refine r_callV (cells1 := 0) (slots1 := 0) X hR (c_X9_isNext G x kw p pv l n tx (pos + 1) false 113 (by omega) (by omega)) q1855 q1857 qs40 q124 q1858 ⟨rfl, pd_X9_isNext⟩ ⟨Nat.le_of_ble_eq_true rfl, Nat.le_of_ble_eq_true rfl⟩ rfl rfl (Nat.le_of_ble_eq_true rfl) (Nat.le_of_ble_eq_true rfl) hE_14 rfl rfl (Nat.le_of_ble_eq_true rfl) hl.1 dX9_parseZone_21 (hB.of hS hAb) ⟨hE_14, hE_50⟩ hS (fun _ h => h.elim) (fun v H_73 locs hp_70 hz_71 hk_72 hS => ?_)
      obtain ⟨rfl, rfl⟩ := hp_70
      refine r_stk (st2 := [.int (iI (bI (decide (fp_sg tx n (pos + 1) = ((113 : Nat) : Int))))), .int (iI (bI (false))), .ref (x)]) rfl ?_
      refine r_ifneB (tgt := 40) hx hb dX9_parseZone_24 (by decide) (fun c24 => ?_) (fun c24 => ?_)
      · skip
        have hz113 := of_decide_eq_true c24
        have hzp := fp_sg_lt hz113 (by omega)
        have hzt : fp_sg tx n (pos + 1) = ((tx (pos + 1) : Nat) : Int) := if_pos hzp
        have hzc : fp_zby (fp_sg tx n (pos + 1)) = 1 := by rw [hz113]; rfl
        refine lv_iconst (v := (iI ((0 : Nat) : Int))) hx hb dX9_parseZone_40 rfl ?_
        refine r_iorB (a := false) (b := false) hx hb dX9_parseZone_41 ?_
        refine r_set (y := .int (iI ((0 : Nat) : Int))) rfl ?_
        refine r_put X hE_14 hS (Or.inl ⟨by omega, rfl⟩) rfl in_X9 tyX9_ok nmX9 4 (by decide) q1745 (Or.inl rfl) rfl rfl rfl (show 4 < 5 by decide) dX9_parseZone_42 (fun H_77 locs hE_74 hz_75 hq_76 hS => ?_)
        have hz_78 := hS.1
        refine lv_aload_n hx hb dX9_parseZone_45 rfl (lv_at hl 0 rfl) ?_
        refine r_get X hE_74 rfl in_X9 4 (by decide) q1745 (Or.inl rfl) (v := .int (iI ((0 : Nat) : Int))) rfl dX9_parseZone_46 ?_
        refine r_if_eq (tgt := 55) hx hb (by decide) dX9_parseZone_49 (by decide) (fun c49 => ?_) (fun c49 => ?_)
        · skip
          refine lv_aload_n hx hb dX9_parseZone_55 rfl (lv_at hl 0 rfl) ?_
          refine lv_dup hx hb dX9_parseZone_56 rfl ?_
          refine r_get X hE_74 rfl in_X9 3 (by decide) q1743 (Or.inl rfl) (v := .int (iI (((pos + 1) : Nat) : Int))) rfl dX9_parseZone_57 ?_
          refine lv_iconst (v := (iI ((1 : Nat) : Int))) hx hb dX9_parseZone_60 rfl ?_
          refine r_iaddN hx hb dX9_parseZone_61 ?_
          refine r_put X hE_74 hS (Or.inl ⟨by omega, rfl⟩) rfl in_X9 tyX9_ok nmX9 3 (by decide) q1743 (Or.inl rfl) rfl rfl rfl (show 3 < 5 by decide) dX9_parseZone_62 (fun H_82 locs hE_79 hz_80 hq_81 hS => ?_)
          have hz_83 := hS.1
          refine lv_aload_n hx hb dX9_parseZone_65 rfl (lv_at hl 0 rfl) ?_
          refine r_get X hE_79 rfl in_X9 1 (by decide) q1740 (Or.inl rfl) (v := .ref (p)) rfl dX9_parseZone_66 ?_
          refine lv_aload_n hx hb dX9_parseZone_69 rfl (lv_at hl 0 rfl) ?_
          refine r_get X hE_79 rfl in_X9 3 (by decide) q1743 (Or.inl rfl) (v := .int (iI (((pos + 1) + 1 : Nat) : Int))) rfl dX9_parseZone_70 ?_
          refine lv_iconst (v := (iI ((1 : Nat) : Int))) hx hb dX9_parseZone_73 rfl ?_
          refine r_isub hx hb dX9_parseZone_74 ?_
          refine r_set (y := .int (iI ((pos + 1 : Nat) : Int))) (congrArg (fun q : Int => Value.int (iI q)) (by omega)) ?_
          have hE_84 := fp_HS.mv h_pg (fp_keptS (by omega) hS (fun h => (Ne.symm (hne_4)) h.2)) (fp_keptS (by omega) hS (fun h => (Ne.symm (hne_5)) h.2))
          refine r_callVR (cells1 := 0) (slots1 := 0) X hR (c_J7_charAt G p pv n tx (pos + 1) (by omega)) q1812 q1813 q1814 q98 q1815 ⟨rfl, pd_J7_charAt⟩ ⟨Nat.le_of_ble_eq_true rfl, Nat.le_of_ble_eq_true rfl⟩ rfl rfl (Nat.le_of_ble_eq_true rfl) (Nat.le_of_ble_eq_true rfl) (fp_SO.recv X ((fp_HS.st hE_84).1) hB hAb hS) rfl (Nat.le_of_ble_eq_true rfl) hl.1 dX9_parseZone_75 (hB.of hS hAb) (fp_HS.st hE_84) hS (fun _ h => h.elim) (fun v H_88 locs hp_85 hz_86 hk_87 hS => ?_)
          obtain ⟨rfl, rfl⟩ := hp_85
          refine r_stk (st2 := [.int (iI ((tx (pos + 1) : Nat) : Int))]) rfl ?_
          have h128z := hpg.1 (pos + 1) (by omega)
          refine r_zret hx hb hr hlk hQ hS (Nat.le_of_ble_eq_true rfl) (Nat.le_of_ble_eq_true rfl) dX9_parseZone_78 (iI_char ⟨by omega, by omega⟩) ?_
          exact ⟨false, pos + 2, tx (pos + 1), rfl, (fp_xz_3 hflf hsg32 (by omega)), hE_79⟩
        · exact absurd c49 (by omega)
      · skip
        have hz113 := of_decide_eq_false c24
        refine lv_aload_n hx hb dX9_parseZone_27 rfl (lv_at hl 0 rfl) ?_
        refine lv_bipush (v := (iI ((99 : Nat) : Int))) hx hb dX9_parseZone_28 rfl ?_
        refine r_callV (cells1 := 0) (slots1 := 0) X hR (c_X9_isNext G x kw p pv l n tx (pos + 1) false 99 (by omega) (by omega)) q1855 q1857 qs40 q124 q1858 ⟨rfl, pd_X9_isNext⟩ ⟨Nat.le_of_ble_eq_true rfl, Nat.le_of_ble_eq_true rfl⟩ rfl rfl (Nat.le_of_ble_eq_true rfl) (Nat.le_of_ble_eq_true rfl) hE_14 rfl rfl (Nat.le_of_ble_eq_true rfl) hl.1 dX9_parseZone_30 (hB.of hS hAb) ⟨hE_14, hE_50⟩ hS (fun _ h => h.elim) (fun v H_92 locs hp_89 hz_90 hk_91 hS => ?_)
        obtain ⟨rfl, rfl⟩ := hp_89
        refine r_stk (st2 := [.int (iI (bI (decide (fp_sg tx n (pos + 1) = ((99 : Nat) : Int))))), .int (iI (bI (false))), .ref (x)]) rfl ?_
        refine r_ifneB (tgt := 40) hx hb dX9_parseZone_33 (by decide) (fun c33 => ?_) (fun c33 => ?_)
        · skip
          have hz99 := of_decide_eq_true c33
          have hzp := fp_sg_lt hz99 (by omega)
          have hzt : fp_sg tx n (pos + 1) = ((tx (pos + 1) : Nat) : Int) := if_pos hzp
          have hzc : fp_zby (fp_sg tx n (pos + 1)) = 2 := by rw [hz99]; rfl
          refine lv_iconst (v := (iI ((0 : Nat) : Int))) hx hb dX9_parseZone_40 rfl ?_
          refine r_iorB (a := false) (b := false) hx hb dX9_parseZone_41 ?_
          refine r_set (y := .int (iI ((0 : Nat) : Int))) rfl ?_
          refine r_put X hE_14 hS (Or.inl ⟨by omega, rfl⟩) rfl in_X9 tyX9_ok nmX9 4 (by decide) q1745 (Or.inl rfl) rfl rfl rfl (show 4 < 5 by decide) dX9_parseZone_42 (fun H_96 locs hE_93 hz_94 hq_95 hS => ?_)
          have hz_97 := hS.1
          refine lv_aload_n hx hb dX9_parseZone_45 rfl (lv_at hl 0 rfl) ?_
          refine r_get X hE_93 rfl in_X9 4 (by decide) q1745 (Or.inl rfl) (v := .int (iI ((0 : Nat) : Int))) rfl dX9_parseZone_46 ?_
          refine r_if_eq (tgt := 55) hx hb (by decide) dX9_parseZone_49 (by decide) (fun c49 => ?_) (fun c49 => ?_)
          · skip
            refine lv_aload_n hx hb dX9_parseZone_55 rfl (lv_at hl 0 rfl) ?_
            refine lv_dup hx hb dX9_parseZone_56 rfl ?_
            refine r_get X hE_93 rfl in_X9 3 (by decide) q1743 (Or.inl rfl) (v := .int (iI (((pos + 1) : Nat) : Int))) rfl dX9_parseZone_57 ?_
            refine lv_iconst (v := (iI ((1 : Nat) : Int))) hx hb dX9_parseZone_60 rfl ?_
            refine r_iaddN hx hb dX9_parseZone_61 ?_
            refine r_put X hE_93 hS (Or.inl ⟨by omega, rfl⟩) rfl in_X9 tyX9_ok nmX9 3 (by decide) q1743 (Or.inl rfl) rfl rfl rfl (show 3 < 5 by decide) dX9_parseZone_62 (fun H_101 locs hE_98 hz_99 hq_100 hS => ?_)
            have hz_102 := hS.1
            refine lv_aload_n hx hb dX9_parseZone_65 rfl (lv_at hl 0 rfl) ?_
            refine r_get X hE_98 rfl in_X9 1 (by decide) q1740 (Or.inl rfl) (v := .ref (p)) rfl dX9_parseZone_66 ?_
            refine lv_aload_n hx hb dX9_parseZone_69 rfl (lv_at hl 0 rfl) ?_
            refine r_get X hE_98 rfl in_X9 3 (by decide) q1743 (Or.inl rfl) (v := .int (iI (((pos + 1) + 1 : Nat) : Int))) rfl dX9_parseZone_70 ?_
            refine lv_iconst (v := (iI ((1 : Nat) : Int))) hx hb dX9_parseZone_73 rfl ?_
            refine r_isub hx hb dX9_parseZone_74 ?_
            refine r_set (y := .int (iI ((pos + 1 : Nat) : Int))) (congrArg (fun q : Int => Value.int (iI q)) (by omega)) ?_
            have hE_103 := fp_HS.mv h_pg (fp_keptS (by omega) hS (fun h => (Ne.symm (hne_4)) h.2)) (fp_keptS (by omega) hS (fun h => (Ne.symm (hne_5)) h.2))
            refine r_callVR (cells1 := 0) (slots1 := 0) X hR (c_J7_charAt G p pv n tx (pos + 1) (by omega)) q1812 q1813 q1814 q98 q1815 ⟨rfl, pd_J7_charAt⟩ ⟨Nat.le_of_ble_eq_true rfl, Nat.le_of_ble_eq_true rfl⟩ rfl rfl (Nat.le_of_ble_eq_true rfl) (Nat.le_of_ble_eq_true rfl) (fp_SO.recv X ((fp_HS.st hE_103).1) hB hAb hS) rfl (Nat.le_of_ble_eq_true rfl) hl.1 dX9_parseZone_75 (hB.of hS hAb) (fp_HS.st hE_103) hS (fun _ h => h.elim) (fun v H_107 locs hp_104 hz_105 hk_106 hS => ?_)
            obtain ⟨rfl, rfl⟩ := hp_104
            refine r_stk (st2 := [.int (iI ((tx (pos + 1) : Nat) : Int))]) rfl ?_
            have h128z := hpg.1 (pos + 1) (by omega)
            refine r_zret hx hb hr hlk hQ hS (Nat.le_of_ble_eq_true rfl) (Nat.le_of_ble_eq_true rfl) dX9_parseZone_78 (iI_char ⟨by omega, by omega⟩) ?_
            exact ⟨false, pos + 2, tx (pos + 1), rfl, (fp_xz_3 hflf hsg32 (by omega)), hE_98⟩
          · exact absurd c49 (by omega)
        · skip
          have hz99 := of_decide_eq_false c33
          refine lv_iconst (v := (iI ((1 : Nat) : Int))) hx hb dX9_parseZone_36 rfl ?_
          refine lv_goto (tgt := 41) hx hb dX9_parseZone_37 (by decide) ?_
          refine r_iorB (a := false) (b := true) hx hb dX9_parseZone_41 ?_
          refine r_set (y := .int (iI ((1 : Nat) : Int))) rfl ?_
          refine r_put X hE_14 hS (Or.inl ⟨by omega, rfl⟩) rfl in_X9 tyX9_ok nmX9 4 (by decide) q1745 (Or.inl rfl) rfl rfl rfl (show 4 < 5 by decide) dX9_parseZone_42 (fun H_111 locs hE_108 hz_109 hq_110 hS => ?_)
          have hz_112 := hS.1
          refine lv_aload_n hx hb dX9_parseZone_45 rfl (lv_at hl 0 rfl) ?_
          refine r_get X hE_108 rfl in_X9 4 (by decide) q1745 (Or.inl rfl) (v := .int (iI ((1 : Nat) : Int))) rfl dX9_parseZone_46 ?_
          refine r_if_eq (tgt := 55) hx hb (by decide) dX9_parseZone_49 (by decide) (fun c49 => ?_) (fun c49 => ?_)
          · exact absurd c49 (by omega)
          · skip
            refine lv_bipush (v := (iI ((32 : Nat) : Int))) hx hb dX9_parseZone_52 rfl ?_
            refine r_zret hx hb hr hlk hQ hS (Nat.le_of_ble_eq_true rfl) (Nat.le_of_ble_eq_true rfl) dX9_parseZone_54 (iI_char ⟨by omega, by omega⟩) ?_
            exact ⟨true, pos + 1, 32, rfl, (fp_xz_2 hflf hsg32 (by rw [fp_zby_n hz111 hz113 hz99]; decide)), hE_108⟩
set_option maxHeartbeats 4000000 in
theorem c_X9_hasPrefix (G : fp_G) (a : Nat) (qa : Nat) (n : Nat) (tx : Nat → Nat) (c : Nat) (qc : Nat) (m : Nat) (ty : Nat → Nat) : fp_M G yX9_hasPrefix cX9_hasPrefix 4 (some .boolean) 5 97 0 0 [.ref (a), .ref (c)] (fun H => fp_ST G a qa n tx H ∧ fp_ST G c qc m ty H) fp_no (fun H v H1 => v = some (.int (iI (bI (fp_pfx n tx m ty)))) ∧ H = H1) := by
  refine fp_M.intro (by decide) (Nat.le_of_ble_eq_true rfl) ?_
  intro pg en s mi ag bl mt cd rR qQ ls X hx hb hr hlk hnm hR hQ hB hM hl
  have hS : va_S (fA fp_no s.heap.size) s.heap s.heap [] := va_S.rf
  generalize ([] : List Loc) = locs at hS ⊢
  have hb0 := hB.1
  obtain ⟨h_s1, h_s2⟩ := hM
  have hsz0 := hS.1
  have lt_1 := h_s1.1.2
  have lt_2 := h_s1.2.2.1
  have lt_3 := h_s2.1.2
  have lt_4 := h_s2.2.2.1
  have hn1 := h_s1.2.2.2
  have hn2 := h_s2.2.2.2
  refine lv_aload_n hx hb dX9_hasPrefix_0 rfl (lv_at hl 1 rfl) ?_
  refine r_callVR (cells1 := 0) (slots1 := 0) X hR (c_J7_length G c qc m ty) q1775 q658 q659 q98 q660 ⟨rfl, pd_J7_length⟩ ⟨Nat.le_of_ble_eq_true rfl, Nat.le_of_ble_eq_true rfl⟩ rfl rfl (Nat.le_of_ble_eq_true rfl) (Nat.le_of_ble_eq_true rfl) (fp_SO.recv X (h_s2.1) hB fp_no.base hS) rfl (Nat.le_of_ble_eq_true rfl) hl.1 dX9_hasPrefix_1 (hB.of hS fp_no.base) h_s2 hS (fun _ h => h.elim) (fun v H_8 locs hp_5 hz_6 hk_7 hS => ?_)
  obtain ⟨rfl, rfl⟩ := hp_5
  refine r_stk (st2 := [.int (iI ((m : Nat) : Int))]) rfl ?_
  refine lv_aload_n hx hb dX9_hasPrefix_4 rfl (lv_at hl 0 rfl) ?_
  refine r_callVR (cells1 := 0) (slots1 := 0) X hR (c_J7_length G a qa n tx) q1775 q658 q659 q98 q660 ⟨rfl, pd_J7_length⟩ ⟨Nat.le_of_ble_eq_true rfl, Nat.le_of_ble_eq_true rfl⟩ rfl rfl (Nat.le_of_ble_eq_true rfl) (Nat.le_of_ble_eq_true rfl) (fp_SO.recv X (h_s1.1) hB fp_no.base hS) rfl (Nat.le_of_ble_eq_true rfl) hl.1 dX9_hasPrefix_5 (hB.of hS fp_no.base) h_s1 hS (fun _ h => h.elim) (fun v H_12 locs hp_9 hz_10 hk_11 hS => ?_)
  obtain ⟨rfl, rfl⟩ := hp_9
  refine r_stk (st2 := [.int (iI ((n : Nat) : Int)), .int (iI ((m : Nat) : Int))]) rfl ?_
  refine r_icmp_gt (tgt := 15) hx hb ⟨by omega, by omega⟩ ⟨by omega, by omega⟩ dX9_hasPrefix_8 (by decide) (fun c8 => ?_) (fun c8 => ?_)
  · skip
    refine lv_iconst (v := (iI ((0 : Nat) : Int))) hx hb dX9_hasPrefix_15 rfl ?_
    refine lv_istore_n (lv' := [(2, .int (iI ((0 : Nat) : Int))), (0, .ref (a)), (1, .ref (c))]) hx hb dX9_hasPrefix_16 rfl hl (by decide) rfl (fun ls hl => ?_)
    refine lv_iconst (v := (iI ((0 : Nat) : Int))) hx hb dX9_hasPrefix_17 rfl ?_
    refine lv_istore_n (lv' := [(3, .int (iI ((0 : Nat) : Int))), (2, .int (iI ((0 : Nat) : Int))), (0, .ref (a)), (1, .ref (c))]) hx hb dX9_hasPrefix_18 rfl hl (by decide) rfl (fun ls hl => ?_)
    have L19 : ∀ (k : Nat), k ≤ m → ∀ (g : Bool) (locs : List Loc) (ls : Array Slot),(g = true ↔ m ≤ n ∧ ∀ i, i < k → tx i = ty i) → lv_has ls 4 [(0, .ref (a)), (1, .ref (c)), (2, .int (iI (bI (g)))), (3, .int (iI ((k : Nat) : Int)))] → va_S (fA fp_no s.heap.size) s.heap s.heap locs → W pg (g_l G) en rR s mi ag bl mt cd s.heap locs 0 0 qQ (F0 mi 19 ls []) := by
      refine lp_up m ?_
      intro k hk19 ih19 g locs ls hgk hl hS
      refine lv_iload_n hx hb dX9_hasPrefix_19 rfl (lv_at hl 2 rfl) ?_
      refine r_ifeqB (tgt := 56) hx hb dX9_hasPrefix_20 (by decide) (fun c20 => ?_) (fun c20 => ?_)
      · skip
        refine lv_iload_n hx hb dX9_hasPrefix_56 rfl (lv_at hl 2 rfl) ?_
        refine r_zret hx hb hr hlk hQ hS (Nat.le_of_ble_eq_true rfl) (Nat.le_of_ble_eq_true rfl) dX9_hasPrefix_57 (bI_z _) ?_
        exact ⟨(congrArg (fun q : Bool => some (Value.int (iI (bI q)))) (show g = fp_pfx n tx m ty from fp_pfx_1 hgk c20 (by omega))), rfl⟩
      · skip
        refine lv_iload_n hx hb dX9_hasPrefix_23 rfl (lv_at hl 3 rfl) ?_
        refine lv_aload_n hx hb dX9_hasPrefix_24 rfl (lv_at hl 1 rfl) ?_
        refine r_callVR (cells1 := 0) (slots1 := 0) X hR (c_J7_length G c qc m ty) q1775 q658 q659 q98 q660 ⟨rfl, pd_J7_length⟩ ⟨Nat.le_of_ble_eq_true rfl, Nat.le_of_ble_eq_true rfl⟩ rfl rfl (Nat.le_of_ble_eq_true rfl) (Nat.le_of_ble_eq_true rfl) (fp_SO.recv X (h_s2.1) hB fp_no.base hS) rfl (Nat.le_of_ble_eq_true rfl) hl.1 dX9_hasPrefix_25 (hB.of hS fp_no.base) h_s2 hS (fun _ h => h.elim) (fun v H_16 locs hp_13 hz_14 hk_15 hS => ?_)
        obtain ⟨rfl, rfl⟩ := hp_13
        refine r_stk (st2 := [.int (iI ((m : Nat) : Int)), .int (iI ((k : Nat) : Int))]) rfl ?_
        refine r_icmp_ge (tgt := 56) hx hb ⟨by omega, by omega⟩ ⟨by omega, by omega⟩ dX9_hasPrefix_28 (by decide) (fun c28 => ?_) (fun c28 => ?_)
        · skip
          refine lv_iload_n hx hb dX9_hasPrefix_56 rfl (lv_at hl 2 rfl) ?_
          refine r_zret hx hb hr hlk hQ hS (Nat.le_of_ble_eq_true rfl) (Nat.le_of_ble_eq_true rfl) dX9_hasPrefix_57 (bI_z _) ?_
          exact ⟨(congrArg (fun q : Bool => some (Value.int (iI (bI q)))) (show g = fp_pfx n tx m ty from fp_pfx_2 hgk (by omega))), rfl⟩
        · skip
          refine lv_aload_n hx hb dX9_hasPrefix_31 rfl (lv_at hl 0 rfl) ?_
          refine lv_iload_n hx hb dX9_hasPrefix_32 rfl (lv_at hl 3 rfl) ?_
          have hgn := (hgk.mp c20).1
          have hx1 := hn1.1 k (by omega)
          have hx2 := hn2.1 k (by omega)
          refine r_callVR (cells1 := 0) (slots1 := 0) X hR (c_J7_charAt G a qa n tx k (by omega)) q1812 q1813 q1814 q98 q1815 ⟨rfl, pd_J7_charAt⟩ ⟨Nat.le_of_ble_eq_true rfl, Nat.le_of_ble_eq_true rfl⟩ rfl rfl (Nat.le_of_ble_eq_true rfl) (Nat.le_of_ble_eq_true rfl) (fp_SO.recv X (h_s1.1) hB fp_no.base hS) rfl (Nat.le_of_ble_eq_true rfl) hl.1 dX9_hasPrefix_33 (hB.of hS fp_no.base) h_s1 hS (fun _ h => h.elim) (fun v H_20 locs hp_17 hz_18 hk_19 hS => ?_)
          obtain ⟨rfl, rfl⟩ := hp_17
          refine r_stk (st2 := [.int (iI ((tx k : Nat) : Int))]) rfl ?_
          refine lv_aload_n hx hb dX9_hasPrefix_36 rfl (lv_at hl 1 rfl) ?_
          refine lv_iload_n hx hb dX9_hasPrefix_37 rfl (lv_at hl 3 rfl) ?_
          refine r_callVR (cells1 := 0) (slots1 := 0) X hR (c_J7_charAt G c qc m ty k (by omega)) q1812 q1813 q1814 q98 q1815 ⟨rfl, pd_J7_charAt⟩ ⟨Nat.le_of_ble_eq_true rfl, Nat.le_of_ble_eq_true rfl⟩ rfl rfl (Nat.le_of_ble_eq_true rfl) (Nat.le_of_ble_eq_true rfl) (fp_SO.recv X (h_s2.1) hB fp_no.base hS) rfl (Nat.le_of_ble_eq_true rfl) hl.1 dX9_hasPrefix_38 (hB.of hS fp_no.base) h_s2 hS (fun _ h => h.elim) (fun v H_24 locs hp_21 hz_22 hk_23 hS => ?_)
          obtain ⟨rfl, rfl⟩ := hp_21
          refine r_stk (st2 := [.int (iI ((ty k : Nat) : Int)), .int (iI ((tx k : Nat) : Int))]) rfl ?_
          refine r_icmp_ne (tgt := 48) hx hb ⟨by omega, by omega⟩ ⟨by omega, by omega⟩ dX9_hasPrefix_41 (by decide) (fun c41 => ?_) (fun c41 => ?_)
          · skip
            refine lv_iconst (v := (iI ((0 : Nat) : Int))) hx hb dX9_hasPrefix_48 rfl ?_
            refine lv_istore_n (lv' := [(2, .int (iI ((0 : Nat) : Int))), (0, .ref (a)), (1, .ref (c)), (3, .int (iI ((k : Nat) : Int)))]) hx hb dX9_hasPrefix_49 rfl hl (by decide) rfl (fun ls hl => ?_)
            refine lv_iinc (v := (iI ((k + 1 : Nat) : Int))) (lv' := [(3, .int (iI ((k + 1 : Nat) : Int))), (2, .int (iI ((0 : Nat) : Int))), (0, .ref (a)), (1, .ref (c))]) hx hb dX9_hasPrefix_50 hl (k := 3) rfl (iI_incN _ _) (by decide) rfl (fun ls hl => ?_)
            refine lv_goto (tgt := 19) hx hb dX9_hasPrefix_53 (by decide) ?_
            exact ih19 (by omega) false locs ls (⟨(fun h => by cases h), (fun h => by have h9 := h.2 k (by omega); omega)⟩) (by rw [show Value.int (iI (bI (false))) = Value.int (iI ((0 : Nat) : Int)) from rfl]; exact lv_sub hl [2, 3, 1, 0] rfl) hS
          · skip
            refine lv_iconst (v := (iI ((1 : Nat) : Int))) hx hb dX9_hasPrefix_44 rfl ?_
            refine lv_goto (tgt := 49) hx hb dX9_hasPrefix_45 (by decide) ?_
            refine lv_istore_n (lv' := [(2, .int (iI ((1 : Nat) : Int))), (0, .ref (a)), (1, .ref (c)), (3, .int (iI ((k : Nat) : Int)))]) hx hb dX9_hasPrefix_49 rfl hl (by decide) rfl (fun ls hl => ?_)
            refine lv_iinc (v := (iI ((k + 1 : Nat) : Int))) (lv' := [(3, .int (iI ((k + 1 : Nat) : Int))), (2, .int (iI ((1 : Nat) : Int))), (0, .ref (a)), (1, .ref (c))]) hx hb dX9_hasPrefix_50 hl (k := 3) rfl (iI_incN _ _) (by decide) rfl (fun ls hl => ?_)
            refine lv_goto (tgt := 19) hx hb dX9_hasPrefix_53 (by decide) ?_
            exact ih19 (by omega) true locs ls (⟨fun _ => ⟨(hgk.mp c20).1, fp_ltS (hgk.mp c20).2 (by omega)⟩, fun _ => rfl⟩) (by rw [show Value.int (iI (bI (true))) = Value.int (iI ((1 : Nat) : Int)) from rfl]; exact lv_sub hl [2, 3, 1, 0] rfl) hS
    exact L19 0 (by omega) false locs ls (⟨(fun h => by cases h), (fun h => by omega)⟩) (by rw [show Value.int (iI (bI (false))) = Value.int (iI ((0 : Nat) : Int)) from rfl]; exact lv_sub hl [2, 3, 1, 0] rfl) hS
  · skip
    refine lv_iconst (v := (iI ((1 : Nat) : Int))) hx hb dX9_hasPrefix_11 rfl ?_
    refine lv_goto (tgt := 16) hx hb dX9_hasPrefix_12 (by decide) ?_
    refine lv_istore_n (lv' := [(2, .int (iI ((1 : Nat) : Int))), (0, .ref (a)), (1, .ref (c))]) hx hb dX9_hasPrefix_16 rfl hl (by decide) rfl (fun ls hl => ?_)
    refine lv_iconst (v := (iI ((0 : Nat) : Int))) hx hb dX9_hasPrefix_17 rfl ?_
    refine lv_istore_n (lv' := [(3, .int (iI ((0 : Nat) : Int))), (2, .int (iI ((1 : Nat) : Int))), (0, .ref (a)), (1, .ref (c))]) hx hb dX9_hasPrefix_18 rfl hl (by decide) rfl (fun ls hl => ?_)
    have L19 : ∀ (k : Nat), k ≤ m → ∀ (g : Bool) (locs : List Loc) (ls : Array Slot),(g = true ↔ m ≤ n ∧ ∀ i, i < k → tx i = ty i) → lv_has ls 4 [(0, .ref (a)), (1, .ref (c)), (2, .int (iI (bI (g)))), (3, .int (iI ((k : Nat) : Int)))] → va_S (fA fp_no s.heap.size) s.heap s.heap locs → W pg (g_l G) en rR s mi ag bl mt cd s.heap locs 0 0 qQ (F0 mi 19 ls []) := by
      refine lp_up m ?_
      intro k hk19 ih19 g locs ls hgk hl hS
      refine lv_iload_n hx hb dX9_hasPrefix_19 rfl (lv_at hl 2 rfl) ?_
      refine r_ifeqB (tgt := 56) hx hb dX9_hasPrefix_20 (by decide) (fun c20 => ?_) (fun c20 => ?_)
      · skip
        refine lv_iload_n hx hb dX9_hasPrefix_56 rfl (lv_at hl 2 rfl) ?_
        refine r_zret hx hb hr hlk hQ hS (Nat.le_of_ble_eq_true rfl) (Nat.le_of_ble_eq_true rfl) dX9_hasPrefix_57 (bI_z _) ?_
        exact ⟨(congrArg (fun q : Bool => some (Value.int (iI (bI q)))) (show g = fp_pfx n tx m ty from fp_pfx_1 hgk c20 (by omega))), rfl⟩
      · skip
        refine lv_iload_n hx hb dX9_hasPrefix_23 rfl (lv_at hl 3 rfl) ?_
        refine lv_aload_n hx hb dX9_hasPrefix_24 rfl (lv_at hl 1 rfl) ?_
        refine r_callVR (cells1 := 0) (slots1 := 0) X hR (c_J7_length G c qc m ty) q1775 q658 q659 q98 q660 ⟨rfl, pd_J7_length⟩ ⟨Nat.le_of_ble_eq_true rfl, Nat.le_of_ble_eq_true rfl⟩ rfl rfl (Nat.le_of_ble_eq_true rfl) (Nat.le_of_ble_eq_true rfl) (fp_SO.recv X (h_s2.1) hB fp_no.base hS) rfl (Nat.le_of_ble_eq_true rfl) hl.1 dX9_hasPrefix_25 (hB.of hS fp_no.base) h_s2 hS (fun _ h => h.elim) (fun v H_28 locs hp_25 hz_26 hk_27 hS => ?_)
        obtain ⟨rfl, rfl⟩ := hp_25
        refine r_stk (st2 := [.int (iI ((m : Nat) : Int)), .int (iI ((k : Nat) : Int))]) rfl ?_
        refine r_icmp_ge (tgt := 56) hx hb ⟨by omega, by omega⟩ ⟨by omega, by omega⟩ dX9_hasPrefix_28 (by decide) (fun c28 => ?_) (fun c28 => ?_)
        · skip
          refine lv_iload_n hx hb dX9_hasPrefix_56 rfl (lv_at hl 2 rfl) ?_
          refine r_zret hx hb hr hlk hQ hS (Nat.le_of_ble_eq_true rfl) (Nat.le_of_ble_eq_true rfl) dX9_hasPrefix_57 (bI_z _) ?_
          exact ⟨(congrArg (fun q : Bool => some (Value.int (iI (bI q)))) (show g = fp_pfx n tx m ty from fp_pfx_2 hgk (by omega))), rfl⟩
        · skip
          refine lv_aload_n hx hb dX9_hasPrefix_31 rfl (lv_at hl 0 rfl) ?_
          refine lv_iload_n hx hb dX9_hasPrefix_32 rfl (lv_at hl 3 rfl) ?_
          have hgn := (hgk.mp c20).1
          have hx1 := hn1.1 k (by omega)
          have hx2 := hn2.1 k (by omega)
          refine r_callVR (cells1 := 0) (slots1 := 0) X hR (c_J7_charAt G a qa n tx k (by omega)) q1812 q1813 q1814 q98 q1815 ⟨rfl, pd_J7_charAt⟩ ⟨Nat.le_of_ble_eq_true rfl, Nat.le_of_ble_eq_true rfl⟩ rfl rfl (Nat.le_of_ble_eq_true rfl) (Nat.le_of_ble_eq_true rfl) (fp_SO.recv X (h_s1.1) hB fp_no.base hS) rfl (Nat.le_of_ble_eq_true rfl) hl.1 dX9_hasPrefix_33 (hB.of hS fp_no.base) h_s1 hS (fun _ h => h.elim) (fun v H_32 locs hp_29 hz_30 hk_31 hS => ?_)
          obtain ⟨rfl, rfl⟩ := hp_29
          refine r_stk (st2 := [.int (iI ((tx k : Nat) : Int))]) rfl ?_
          refine lv_aload_n hx hb dX9_hasPrefix_36 rfl (lv_at hl 1 rfl) ?_
          refine lv_iload_n hx hb dX9_hasPrefix_37 rfl (lv_at hl 3 rfl) ?_
          refine r_callVR (cells1 := 0) (slots1 := 0) X hR (c_J7_charAt G c qc m ty k (by omega)) q1812 q1813 q1814 q98 q1815 ⟨rfl, pd_J7_charAt⟩ ⟨Nat.le_of_ble_eq_true rfl, Nat.le_of_ble_eq_true rfl⟩ rfl rfl (Nat.le_of_ble_eq_true rfl) (Nat.le_of_ble_eq_true rfl) (fp_SO.recv X (h_s2.1) hB fp_no.base hS) rfl (Nat.le_of_ble_eq_true rfl) hl.1 dX9_hasPrefix_38 (hB.of hS fp_no.base) h_s2 hS (fun _ h => h.elim) (fun v H_36 locs hp_33 hz_34 hk_35 hS => ?_)
          obtain ⟨rfl, rfl⟩ := hp_33
          refine r_stk (st2 := [.int (iI ((ty k : Nat) : Int)), .int (iI ((tx k : Nat) : Int))]) rfl ?_
          refine r_icmp_ne (tgt := 48) hx hb ⟨by omega, by omega⟩ ⟨by omega, by omega⟩ dX9_hasPrefix_41 (by decide) (fun c41 => ?_) (fun c41 => ?_)
          · skip
            refine lv_iconst (v := (iI ((0 : Nat) : Int))) hx hb dX9_hasPrefix_48 rfl ?_
            refine lv_istore_n (lv' := [(2, .int (iI ((0 : Nat) : Int))), (0, .ref (a)), (1, .ref (c)), (3, .int (iI ((k : Nat) : Int)))]) hx hb dX9_hasPrefix_49 rfl hl (by decide) rfl (fun ls hl => ?_)
            refine lv_iinc (v := (iI ((k + 1 : Nat) : Int))) (lv' := [(3, .int (iI ((k + 1 : Nat) : Int))), (2, .int (iI ((0 : Nat) : Int))), (0, .ref (a)), (1, .ref (c))]) hx hb dX9_hasPrefix_50 hl (k := 3) rfl (iI_incN _ _) (by decide) rfl (fun ls hl => ?_)
            refine lv_goto (tgt := 19) hx hb dX9_hasPrefix_53 (by decide) ?_
            exact ih19 (by omega) false locs ls (⟨(fun h => by cases h), (fun h => by have h9 := h.2 k (by omega); omega)⟩) (by rw [show Value.int (iI (bI (false))) = Value.int (iI ((0 : Nat) : Int)) from rfl]; exact lv_sub hl [2, 3, 1, 0] rfl) hS
          · skip
            refine lv_iconst (v := (iI ((1 : Nat) : Int))) hx hb dX9_hasPrefix_44 rfl ?_
            refine lv_goto (tgt := 49) hx hb dX9_hasPrefix_45 (by decide) ?_
            refine lv_istore_n (lv' := [(2, .int (iI ((1 : Nat) : Int))), (0, .ref (a)), (1, .ref (c)), (3, .int (iI ((k : Nat) : Int)))]) hx hb dX9_hasPrefix_49 rfl hl (by decide) rfl (fun ls hl => ?_)
            refine lv_iinc (v := (iI ((k + 1 : Nat) : Int))) (lv' := [(3, .int (iI ((k + 1 : Nat) : Int))), (2, .int (iI ((1 : Nat) : Int))), (0, .ref (a)), (1, .ref (c))]) hx hb dX9_hasPrefix_50 hl (k := 3) rfl (iI_incN _ _) (by decide) rfl (fun ls hl => ?_)
            refine lv_goto (tgt := 19) hx hb dX9_hasPrefix_53 (by decide) ?_
            exact ih19 (by omega) true locs ls (⟨fun _ => ⟨(hgk.mp c20).1, fp_ltS (hgk.mp c20).2 (by omega)⟩, fun _ => rfl⟩) (by rw [show Value.int (iI (bI (true))) = Value.int (iI ((1 : Nat) : Int)) from rfl]; exact lv_sub hl [2, 3, 1, 0] rfl) hS
    exact L19 0 (by omega) true locs ls (⟨fun _ => ⟨by omega, fun i hi => absurd hi (Nat.not_lt_zero i)⟩, fun _ => rfl⟩) (by rw [show Value.int (iI (bI (true))) = Value.int (iI ((1 : Nat) : Int)) from rfl]; exact lv_sub hl [2, 3, 1, 0] rfl) hS
set_option maxHeartbeats 4000000 in
theorem c_X9_isKeyword (G : fp_G) (x : Nat) (kw : Nat) (p : Nat) (l : Nat) (pos : Nat) (fl : Bool) (c : Nat) (qc : Nat) (m : Nat) (ty : Nat → Nat) (wh : Bool) : fp_M G yX9_isKeyword cX9_isKeyword 7 (some .boolean) 6 120 0 0 [.ref (x), .ref (c), .int (iI (bI (wh)))] (fun H => fp_At G H x (eO 6 [.ref (kw), .ref (p), .ref (l), .int (iI ((pos : Nat) : Int)), .int (iI (bI (fl)))]) ∧ fp_At G H kw (eQ G 6 7 (fun i => some (fp_kq G i))) ∧ fp_ST G c qc m ty H) fp_no (fun H v H1 => v = some (.int (iI (bI (fp_isk m ty wh)))) ∧ H = H1) := by
  refine fp_M.intro (by decide) (Nat.le_of_ble_eq_true rfl) ?_
  intro pg en s mi ag bl mt cd rR qQ ls X hx hb hr hlk hnm hR hQ hB hM hl
  have hS : va_S (fA fp_no s.heap.size) s.heap s.heap [] := va_S.rf
  generalize ([] : List Loc) = locs at hS ⊢
  have hb0 := hB.1
  obtain ⟨h_o, h_kr, h_s2⟩ := hM
  have hsz0 := hS.1
  have lt_1 := h_o.lt
  have lt_2 := h_kr.lt
  have lt_3 := h_s2.1.2
  have lt_4 := h_s2.2.2.1
  refine lv_aload_n hx hb dX9_isKeyword_0 rfl (lv_at hl 0 rfl) ?_
  refine r_get X h_o rfl in_X9 0 (by decide) q1739 (Or.inl rfl) (v := .ref (kw)) rfl dX9_isKeyword_1 ?_
  refine lv_astore_n (lv' := [(3, .ref (kw)), (0, .ref (x)), (1, .ref (c)), (2, .int (iI (bI (wh))))]) hx hb dX9_isKeyword_4 rfl hl (by decide) rfl (fun ls hl => ?_)
  refine lv_aload_n hx hb dX9_isKeyword_5 rfl (lv_at hl 0 rfl) ?_
  refine r_alen X (t := 6) rfl h_kr (v := (iI ((7 : Nat) : Int))) rfl dX9_isKeyword_6 ?_
  refine lv_istore (lv' := [(4, .int (iI ((7 : Nat) : Int))), (3, .ref (kw)), (0, .ref (x)), (1, .ref (c)), (2, .int (iI (bI (wh))))]) hx hb dX9_isKeyword_7 hl (by decide) rfl (fun ls hl => ?_)
  refine lv_iconst (v := (iI ((0 : Nat) : Int))) hx hb dX9_isKeyword_9 rfl ?_
  refine lv_istore (lv' := [(5, .int (iI ((0 : Nat) : Int))), (4, .int (iI ((7 : Nat) : Int))), (3, .ref (kw)), (0, .ref (x)), (1, .ref (c)), (2, .int (iI (bI (wh))))]) hx hb dX9_isKeyword_10 hl (by decide) rfl (fun ls hl => ?_)
  have L12 : ∀ (k : Nat), k ≤ 7 → ∀ (locs : List Loc) (ls : Array Slot),(∀ i, i < k → (if wh = true then fp_teq (fp_wk i) (fp_ww i) m ty else fp_pfx (fp_wk i) (fp_ww i) m ty) = false) → lv_has ls 7 [(0, .ref (x)), (1, .ref (c)), (2, .int (iI (bI (wh)))), (3, .ref (kw)), (4, .int (iI ((7 : Nat) : Int))), (5, .int (iI ((k : Nat) : Int)))] → va_S (fA fp_no s.heap.size) s.heap s.heap locs → W pg (g_l G) en rR s mi ag bl mt cd s.heap locs 0 0 qQ (F0 mi 12 ls []) := by
    refine lp_up 7 ?_
    intro k hk12 ih12 locs ls hno hl hS
    refine lv_iload hx hb dX9_isKeyword_12 (lv_at hl 5 rfl) ?_
    refine lv_iload hx hb dX9_isKeyword_14 (lv_at hl 4 rfl) ?_
    refine r_icmp_ge (tgt := 58) hx hb ⟨by omega, by omega⟩ (by decide) dX9_isKeyword_16 (by decide) (fun c16 => ?_) (fun c16 => ?_)
    · skip
      refine lv_iconst (v := (iI ((0 : Nat) : Int))) hx hb dX9_isKeyword_58 rfl ?_
      refine r_zret hx hb hr hlk hQ hS (Nat.le_of_ble_eq_true rfl) (Nat.le_of_ble_eq_true rfl) dX9_isKeyword_59 rfl ?_
      exact ⟨(congrArg (fun q : Bool => some (Value.int (iI (bI q)))) (Eq.symm (show (fp_isk m ty wh) = false from fp_any_f (fun i hi => hno i (by omega))))), rfl⟩
    · skip
      refine lv_aload_n hx hb dX9_isKeyword_19 rfl (lv_at hl 3 rfl) ?_
      refine lv_iload hx hb dX9_isKeyword_20 (lv_at hl 5 rfl) ?_
      refine r_aaldI X rfl h_kr (j := k) rfl (by omega) (by decide) dX9_isKeyword_22 ?_
      refine r_set (y := .ref (fp_kq G k)) rfl ?_
      have hkq_5 := X.2.2.2.2.2.kq (hB.of hS fp_no.base) (w := k) (by omega)
      have lt_6 := hkq_5.1.2
      have lt_7 := hkq_5.2.2.1
      refine lv_astore (lv' := [(6, .ref (fp_kq G k)), (0, .ref (x)), (1, .ref (c)), (2, .int (iI (bI (wh)))), (3, .ref (kw)), (4, .int (iI ((7 : Nat) : Int))), (5, .int (iI ((k : Nat) : Int)))]) hx hb dX9_isKeyword_23 hl (by decide) rfl (fun ls hl => ?_)
      refine lv_iload_n hx hb dX9_isKeyword_25 rfl (lv_at hl 3 rfl) ?_
      refine r_ifeqB (tgt := 41) hx hb dX9_isKeyword_26 (by decide) (fun c26 => ?_) (fun c26 => ?_)
      · skip
        refine lv_aload hx hb dX9_isKeyword_41 (lv_at hl 0 rfl) ?_
        refine lv_aload_n hx hb dX9_isKeyword_43 rfl (lv_at hl 2 rfl) ?_
        refine r_callS (cells1 := 0) (slots1 := 0) X hR (c_X9_hasPrefix G (fp_kq G k) (fp_kqv G k) (fp_wk k) (fp_ww k) c qc m ty) q1809 q1810 q124 q1811 pd_X9_hasPrefix ⟨Nat.le_of_ble_eq_true rfl, Nat.le_of_ble_eq_true rfl⟩ rfl rfl (Nat.le_of_ble_eq_true rfl) (Nat.le_of_ble_eq_true rfl) rfl (Nat.le_of_ble_eq_true rfl) hl.1 dX9_isKeyword_44 (hB.of hS fp_no.base) ⟨hkq_5, h_s2⟩ hS (fun _ h => h.elim) (fun v H_11 locs hp_8 hz_9 hk_10 hS => ?_)
        obtain ⟨rfl, rfl⟩ := hp_8
        refine r_stk (st2 := [.int (iI (bI (fp_pfx (fp_wk k) (fp_ww k) m ty)))]) rfl ?_
        refine r_ifeqB (tgt := 52) hx hb dX9_isKeyword_47 (by decide) (fun c47 => ?_) (fun c47 => ?_)
        · skip
          refine lv_iinc (v := (iI ((k + 1 : Nat) : Int))) (lv' := [(5, .int (iI ((k + 1 : Nat) : Int))), (6, .ref (fp_kq G k)), (0, .ref (x)), (1, .ref (c)), (2, .int (iI (bI (wh)))), (3, .ref (kw)), (4, .int (iI ((7 : Nat) : Int)))]) hx hb dX9_isKeyword_52 hl (k := 6) rfl (iI_incN _ _) (by decide) rfl (fun ls hl => ?_)
          refine lv_goto (tgt := 12) hx hb dX9_isKeyword_55 (by decide) ?_
          exact ih12 (by omega) locs ls (fp_ltS hno (by rw [if_neg (by rw [c26]; exact Bool.false_ne_true)]; exact c47)) (lv_sub hl [2, 3, 4, 5, 6, 0] rfl) hS
        · skip
          refine lv_iconst (v := (iI ((1 : Nat) : Int))) hx hb dX9_isKeyword_50 rfl ?_
          refine r_zret hx hb hr hlk hQ hS (Nat.le_of_ble_eq_true rfl) (Nat.le_of_ble_eq_true rfl) dX9_isKeyword_51 rfl ?_
          exact ⟨(congrArg (fun q : Bool => some (Value.int (iI (bI q)))) (Eq.symm (show (fp_isk m ty wh) = true from fp_any_t (k := k) (by omega) (by rw [if_neg (by rw [c26]; exact Bool.false_ne_true)]; exact c47)))), rfl⟩
      · skip
        refine lv_aload hx hb dX9_isKeyword_29 (lv_at hl 0 rfl) ?_
        refine lv_aload_n hx hb dX9_isKeyword_31 rfl (lv_at hl 2 rfl) ?_
        refine r_callVR (cells1 := 0) (slots1 := 0) X hR (c_J7_equals G (fp_kq G k) (fp_kqv G k) (fp_wk k) (fp_ww k) c qc m ty) q1808 q900 q2532 q98 q901 ⟨rfl, pd_J7_equals⟩ ⟨Nat.le_of_ble_eq_true rfl, Nat.le_of_ble_eq_true rfl⟩ rfl rfl (Nat.le_of_ble_eq_true rfl) (Nat.le_of_ble_eq_true rfl) (fp_SO.recv X (hkq_5.1) hB fp_no.base hS) rfl (Nat.le_of_ble_eq_true rfl) hl.1 dX9_isKeyword_32 (hB.of hS fp_no.base) ⟨hkq_5, h_s2⟩ hS (fun _ h => h.elim) (fun v H_15 locs hp_12 hz_13 hk_14 hS => ?_)
        obtain ⟨rfl, rfl⟩ := hp_12
        refine r_stk (st2 := [.int (iI (bI (fp_teq (fp_wk k) (fp_ww k) m ty)))]) rfl ?_
        refine r_ifeqB (tgt := 52) hx hb dX9_isKeyword_35 (by decide) (fun c35 => ?_) (fun c35 => ?_)
        · skip
          refine lv_iinc (v := (iI ((k + 1 : Nat) : Int))) (lv' := [(5, .int (iI ((k + 1 : Nat) : Int))), (6, .ref (fp_kq G k)), (0, .ref (x)), (1, .ref (c)), (2, .int (iI (bI (wh)))), (3, .ref (kw)), (4, .int (iI ((7 : Nat) : Int)))]) hx hb dX9_isKeyword_52 hl (k := 6) rfl (iI_incN _ _) (by decide) rfl (fun ls hl => ?_)
          refine lv_goto (tgt := 12) hx hb dX9_isKeyword_55 (by decide) ?_
          exact ih12 (by omega) locs ls (fp_ltS hno (by rw [if_pos c26]; exact c35)) (lv_sub hl [2, 3, 4, 5, 6, 0] rfl) hS
        · skip
          refine lv_goto (tgt := 50) hx hb dX9_isKeyword_38 (by decide) ?_
          refine lv_iconst (v := (iI ((1 : Nat) : Int))) hx hb dX9_isKeyword_50 rfl ?_
          refine r_zret hx hb hr hlk hQ hS (Nat.le_of_ble_eq_true rfl) (Nat.le_of_ble_eq_true rfl) dX9_isKeyword_51 rfl ?_
          exact ⟨(congrArg (fun q : Bool => some (Value.int (iI (bI q)))) (Eq.symm (show (fp_isk m ty wh) = true from fp_any_t (k := k) (by omega) (by rw [if_pos c26]; exact c35)))), rfl⟩
  exact L12 0 (by omega) locs ls (fun i hi => absurd hi (Nat.not_lt_zero _)) (lv_sub hl [3, 4, 5, 2, 1, 0] rfl) hS
set_option maxHeartbeats 4000000 in
theorem c_J21_newString_0 (G : fp_G) (vl : Nat) (i0 : Nat) : fp_M G yJ21_newString cJ21_newString 3 (some (.object "java/lang/String")) 1 12 0 0 [.ref (vl), .int (iI ((i0 : Nat) : Int)), .int (iI ((0 : Nat) : Int))] (fun H => True) fp_no (fun H v H1 => ∃ (x : Nat), ∃ (q : Nat), ∃ (ty2 : Nat → Nat), v = some (.ref (x)) ∧ fp_ST G x q 0 ty2 H1) := by
  refine fp_M.intro (by decide) (Nat.le_of_ble_eq_true rfl) ?_
  intro pg en s mi ag bl mt cd rR qQ ls X hx hb hr hlk hnm hR hQ hB hM hl
  have hS : va_S (fA fp_no s.heap.size) s.heap s.heap [] := va_S.rf
  generalize ([] : List Loc) = locs at hS ⊢
  have hb0 := hB.1
  have hsz0 := hS.1
  refine lv_iload_n hx hb dJ21_newString_0 rfl (lv_at hl 2 rfl) ?_
  refine r_if_ne (tgt := 7) hx hb (by decide) dJ21_newString_1 (by decide) (fun c1 => ?_) (fun c1 => ?_)
  · exact absurd c1 (by omega)
  · skip
    refine r_ldcS X q1789 (X.2.2.2.2.2.kst hB fp_kLe).2.1 dJ21_newString_4 ?_
    have hk_1 := (X.2.2.2.2.2.kst (hB.of hS fp_no.base) fp_kLe).1
    have lt_2 := hk_1.1.2
    have lt_3 := hk_1.2.2.1
    refine r_aret hx hb hr hlk hQ hS (Nat.le_of_ble_eq_true rfl) (Nat.le_of_ble_eq_true rfl) dJ21_newString_6 (Or.inl ⟨_, rfl⟩) (Or.inr ⟨_, rfl⟩) ?_
    exact ⟨_, _, _, rfl, hk_1⟩
set_option maxHeartbeats 4000000 in
theorem c_J7_substring_0 (G : fp_G) (y : Nat) (q : Nat) (n : Nat) (ty : Nat → Nat) (i0 : Nat) (hi : i0 ≤ n) : fp_M G yJ7_substring cJ7_substring 5 (some (.object "java/lang/String")) 3 57 0 0 [.ref (y), .int (iI ((i0 : Nat) : Int)), .int (iI ((i0 : Nat) : Int))] (fun H => fp_HS G y q n ty H) fp_no (fun H v H1 => ∃ (x : Nat), ∃ (r : Nat), ∃ (ty2 : Nat → Nat), v = some (.ref (x)) ∧ fp_ST G x r 0 ty2 H1) := by
  refine fp_M.intro (by decide) (Nat.le_of_ble_eq_true rfl) ?_
  intro pg en s mi ag bl mt cd rR qQ ls X hx hb hr hlk hnm hR hQ hB hM hl
  have hS : va_S (fA fp_no s.heap.size) s.heap s.heap [] := va_S.rf
  generalize ([] : List Loc) = locs at hS ⊢
  have hb0 := hB.1
  have h_hs := hM
  have hsz0 := hS.1
  have lt_1 := h_hs.lt
  have lt_2 := h_hs.2.1.lt
  obtain ⟨⟨h1, h2, hso, hh⟩, hrow, ⟨h128, hn1000⟩, hyb, hqb⟩ := id h_hs
  have lt_3 := hrow.lt
  refine lv_aload_n hx hb dJ7_substring_0 rfl (lv_at hl 0 rfl) ?_
  refine r_callVR (cells1 := 0) (slots1 := 0) X hR (c_J7_length G y q n ty) q1780 q658 q659 q98 q660 ⟨rfl, pd_J7_length⟩ ⟨Nat.le_of_ble_eq_true rfl, Nat.le_of_ble_eq_true rfl⟩ rfl rfl (Nat.le_of_ble_eq_true rfl) (Nat.le_of_ble_eq_true rfl) (fp_SO.recv X ((fp_HS.st h_hs).1) hB fp_no.base hS) rfl (Nat.le_of_ble_eq_true rfl) hl.1 dJ7_substring_1 (hB.of hS fp_no.base) (fp_HS.st h_hs) hS (fun _ h => h.elim) (fun v H_7 locs hp_4 hz_5 hk_6 hS => ?_)
  obtain ⟨rfl, rfl⟩ := hp_4
  refine r_stk (st2 := [.int (iI ((n : Nat) : Int))]) rfl ?_
  refine lv_istore_n (lv' := [(3, .int (iI ((n : Nat) : Int))), (0, .ref (y)), (1, .int (iI ((i0 : Nat) : Int))), (2, .int (iI ((i0 : Nat) : Int)))]) hx hb dJ7_substring_4 rfl hl (by decide) rfl (fun ls hl => ?_)
  refine lv_iload_n hx hb dJ7_substring_5 rfl (lv_at hl 2 rfl) ?_
  refine lv_iload_n hx hb dJ7_substring_6 rfl (lv_at hl 3 rfl) ?_
  refine lv_iload_n hx hb dJ7_substring_7 rfl (lv_at hl 0 rfl) ?_
  refine r_callS (cells1 := 0) (slots1 := 0) X hR (c_J7_checkBoundsBeginEnd G i0 i0 n (by omega) (by omega)) q1781 q641 q98 q642 pd_J7_checkBoundsBeginEnd ⟨Nat.le_of_ble_eq_true rfl, Nat.le_of_ble_eq_true rfl⟩ rfl rfl (Nat.le_of_ble_eq_true rfl) (Nat.le_of_ble_eq_true rfl) rfl (Nat.le_of_ble_eq_true rfl) hl.1 dJ7_substring_8 (hB.of hS fp_no.base) trivial hS (fun _ h => h.elim) (fun v H_11 locs hp_8 hz_9 hk_10 hS => ?_)
  obtain ⟨rfl, rfl⟩ := hp_8
  refine r_stk (st2 := []) rfl ?_
  refine lv_iload_n hx hb dJ7_substring_11 rfl (lv_at hl 2 rfl) ?_
  refine r_if_ne (tgt := 22) hx hb ⟨by omega, by omega⟩ dJ7_substring_12 (by decide) (fun c12 => ?_) (fun c12 => ?_)
  · skip
    refine lv_iload_n hx hb dJ7_substring_22 rfl (lv_at hl 3 rfl) ?_
    refine lv_iload_n hx hb dJ7_substring_23 rfl (lv_at hl 2 rfl) ?_
    refine r_isub hx hb dJ7_substring_24 ?_
    refine r_set (y := .int (iI ((0 : Nat) : Int))) (congrArg (fun q : Int => Value.int (iI q)) (by omega)) ?_
    refine lv_istore (lv' := [(4, .int (iI ((0 : Nat) : Int))), (3, .int (iI ((n : Nat) : Int))), (0, .ref (y)), (1, .int (iI ((i0 : Nat) : Int))), (2, .int (iI ((i0 : Nat) : Int)))]) hx hb dJ7_substring_25 hl (by decide) rfl (fun ls hl => ?_)
    refine lv_aload_n hx hb dJ7_substring_27 rfl (lv_at hl 2 rfl) ?_
    refine r_callVR (cells1 := 0) (slots1 := 0) X hR (c_J7_isLatin1 G y q n ty) q1782 q1783 q1784 q98 q1785 ⟨rfl, pd_J7_isLatin1⟩ ⟨Nat.le_of_ble_eq_true rfl, Nat.le_of_ble_eq_true rfl⟩ rfl rfl (Nat.le_of_ble_eq_true rfl) (Nat.le_of_ble_eq_true rfl) (fp_SO.recv X ((fp_HS.st h_hs).1) hB fp_no.base hS) rfl (Nat.le_of_ble_eq_true rfl) hl.1 dJ7_substring_28 (hB.of hS fp_no.base) (fp_HS.st h_hs) hS (fun _ h => h.elim) (fun v H_15 locs hp_12 hz_13 hk_14 hS => ?_)
    obtain ⟨rfl, rfl⟩ := hp_12
    refine r_stk (st2 := [.int (iI (bI (true)))]) rfl ?_
    refine r_ifeqB (tgt := 47) hx hb dJ7_substring_31 (by decide) (fun c31 => ?_) (fun c31 => ?_)
    · exact absurd c31 (by decide)
    · skip
      have lt_16 := (fp_HS.st h_hs).1.2
      refine lv_aload_n hx hb dJ7_substring_34 rfl (lv_at hl 2 rfl) ?_
      refine r_sval X ((fp_HS.st h_hs).1) hB fp_no.base hS q804 dJ7_substring_35 ?_
      refine lv_iload_n hx hb dJ7_substring_38 rfl (lv_at hl 3 rfl) ?_
      refine lv_iload hx hb dJ7_substring_39 (lv_at hl 0 rfl) ?_
      refine r_callS (cells1 := 0) (slots1 := 0) X hR (c_J21_newString_0 G q i0) q1786 q1787 q118 q1788 pd_J21_newString ⟨Nat.le_of_ble_eq_true rfl, Nat.le_of_ble_eq_true rfl⟩ rfl rfl (Nat.le_of_ble_eq_true rfl) (Nat.le_of_ble_eq_true rfl) rfl (Nat.le_of_ble_eq_true rfl) hl.1 dJ7_substring_41 (hB.of hS fp_no.base) trivial hS (fun _ h => h.elim) (fun v H_20 locs hp_17 hz_18 hk_19 hS => ?_)
      obtain ⟨x_21, q_22, ty2_23, rfl, hE_24⟩ := hp_17
      have hz_25 := hS.1
      have lt_27 := hE_24.1.2
      have lt_28 := hE_24.2.2.1
      refine r_stk (st2 := [.ref (x_21)]) rfl ?_
      refine lv_goto (tgt := 57) hx hb dJ7_substring_44 (by decide) ?_
      refine r_aret hx hb hr hlk hQ hS (Nat.le_of_ble_eq_true rfl) (Nat.le_of_ble_eq_true rfl) dJ7_substring_57 (Or.inl ⟨_, rfl⟩) (Or.inr ⟨_, rfl⟩) ?_
      exact ⟨x_21, q_22, ty2_23, rfl, hE_24⟩
  · skip
    refine lv_iload_n hx hb dJ7_substring_15 rfl (lv_at hl 3 rfl) ?_
    refine lv_iload_n hx hb dJ7_substring_16 rfl (lv_at hl 0 rfl) ?_
    refine r_icmp_ne (tgt := 22) hx hb ⟨by omega, by omega⟩ ⟨by omega, by omega⟩ dJ7_substring_17 (by decide) (fun c17 => ?_) (fun c17 => ?_)
    · skip
      refine lv_iload_n hx hb dJ7_substring_22 rfl (lv_at hl 3 rfl) ?_
      refine lv_iload_n hx hb dJ7_substring_23 rfl (lv_at hl 2 rfl) ?_
      refine r_isub hx hb dJ7_substring_24 ?_
      refine r_set (y := .int (iI ((0 : Nat) : Int))) (congrArg (fun q : Int => Value.int (iI q)) (by omega)) ?_
      refine lv_istore (lv' := [(4, .int (iI ((0 : Nat) : Int))), (3, .int (iI ((n : Nat) : Int))), (0, .ref (y)), (1, .int (iI ((i0 : Nat) : Int))), (2, .int (iI ((i0 : Nat) : Int)))]) hx hb dJ7_substring_25 hl (by decide) rfl (fun ls hl => ?_)
      refine lv_aload_n hx hb dJ7_substring_27 rfl (lv_at hl 2 rfl) ?_
      refine r_callVR (cells1 := 0) (slots1 := 0) X hR (c_J7_isLatin1 G y q n ty) q1782 q1783 q1784 q98 q1785 ⟨rfl, pd_J7_isLatin1⟩ ⟨Nat.le_of_ble_eq_true rfl, Nat.le_of_ble_eq_true rfl⟩ rfl rfl (Nat.le_of_ble_eq_true rfl) (Nat.le_of_ble_eq_true rfl) (fp_SO.recv X ((fp_HS.st h_hs).1) hB fp_no.base hS) rfl (Nat.le_of_ble_eq_true rfl) hl.1 dJ7_substring_28 (hB.of hS fp_no.base) (fp_HS.st h_hs) hS (fun _ h => h.elim) (fun v H_32 locs hp_29 hz_30 hk_31 hS => ?_)
      obtain ⟨rfl, rfl⟩ := hp_29
      refine r_stk (st2 := [.int (iI (bI (true)))]) rfl ?_
      refine r_ifeqB (tgt := 47) hx hb dJ7_substring_31 (by decide) (fun c31 => ?_) (fun c31 => ?_)
      · exact absurd c31 (by decide)
      · skip
        have lt_33 := (fp_HS.st h_hs).1.2
        refine lv_aload_n hx hb dJ7_substring_34 rfl (lv_at hl 2 rfl) ?_
        refine r_sval X ((fp_HS.st h_hs).1) hB fp_no.base hS q804 dJ7_substring_35 ?_
        refine lv_iload_n hx hb dJ7_substring_38 rfl (lv_at hl 3 rfl) ?_
        refine lv_iload hx hb dJ7_substring_39 (lv_at hl 0 rfl) ?_
        refine r_callS (cells1 := 0) (slots1 := 0) X hR (c_J21_newString_0 G q i0) q1786 q1787 q118 q1788 pd_J21_newString ⟨Nat.le_of_ble_eq_true rfl, Nat.le_of_ble_eq_true rfl⟩ rfl rfl (Nat.le_of_ble_eq_true rfl) (Nat.le_of_ble_eq_true rfl) rfl (Nat.le_of_ble_eq_true rfl) hl.1 dJ7_substring_41 (hB.of hS fp_no.base) trivial hS (fun _ h => h.elim) (fun v H_37 locs hp_34 hz_35 hk_36 hS => ?_)
        obtain ⟨x_38, q_39, ty2_40, rfl, hE_41⟩ := hp_34
        have hz_42 := hS.1
        have lt_44 := hE_41.1.2
        have lt_45 := hE_41.2.2.1
        refine r_stk (st2 := [.ref (x_38)]) rfl ?_
        refine lv_goto (tgt := 57) hx hb dJ7_substring_44 (by decide) ?_
        refine r_aret hx hb hr hlk hQ hS (Nat.le_of_ble_eq_true rfl) (Nat.le_of_ble_eq_true rfl) dJ7_substring_57 (Or.inl ⟨_, rfl⟩) (Or.inr ⟨_, rfl⟩) ?_
        exact ⟨x_38, q_39, ty2_40, rfl, hE_41⟩
    · skip
      refine lv_aload_n hx hb dJ7_substring_20 rfl (lv_at hl 1 rfl) ?_
      refine r_aret hx hb hr hlk hQ hS (Nat.le_of_ble_eq_true rfl) (Nat.le_of_ble_eq_true rfl) dJ7_substring_21 (Or.inl ⟨_, rfl⟩) (Or.inr ⟨_, rfl⟩) ?_
      exact ⟨y, q, ty, rfl, (fp_HS.st0 h_hs (by omega))⟩
set_option maxHeartbeats 4000000 in
theorem c_X9_parseKeyword (G : fp_G) (x : Nat) (kw : Nat) (p : Nat) (pv : Nat) (l : Nat) (n : Nat) (tx : Nat → Nat) (pos : Nat) (fl : Bool) (hpos : pos ≤ n) (hxb : (g_s G).heap.size ≤ x) (hfl : fl = false) (hn24 : n ≤ 24) : fp_M G yX9_parseKeyword cX9_parseKeyword 3 (some (.object "java/lang/String")) 7 152 52 728 [.ref (x)] (fun H => fp_At G H x (eO 6 [.ref (kw), .ref (p), .ref (l), .int (iI ((pos : Nat) : Int)), .int (iI (bI (fl)))]) ∧ fp_HS G p pv n tx H ∧ fp_At G H kw (eQ G 6 7 (fun i => some (fp_kq G i)))) (fun q => (g_s G).heap.size ≤ q ∧ (q = x)) (fun H v H1 => ∃ (y : Nat), ∃ (qy : Nat), ∃ (k : Nat), ∃ (fl2 : Bool), v = some (.ref (y)) ∧ (pos + k ≤ n) ∧ (k = 0 ∨ fp_isk k (fun i => tx (pos + i)) false = true) ∧ (pos + k = n ∨ fp_isk (k + 1) (fun i => tx (pos + i)) false = false) ∧ (fl2 = !fp_isk k (fun i => tx (pos + i)) true) ∧ (fl2 = false → fp_HS G y qy k (fun i => tx (pos + i)) H1 ∧ ((y = p ∧ qy = pv ∧ pos = 0 ∧ k = n) ∨ (H.size ≤ y ∧ H.size ≤ qy))) ∧ fp_At G H1 x (eO 6 [.ref (kw), .ref (p), .ref (l), .int (iI ((pos + k : Nat) : Int)), .int (iI (bI (fl2)))])) := by
  refine fp_M.intro (by decide) (Nat.le_of_ble_eq_true rfl) ?_
  intro pg en s mi ag bl mt cd rR qQ ls X hx hb hr hlk hnm hR hQ hB hM hl
  have hS : va_S (fA (fun q => (g_s G).heap.size ≤ q ∧ (q = x)) s.heap.size) s.heap s.heap [] := va_S.rf
  generalize ([] : List Loc) = locs at hS ⊢
  have hb0 := hB.1
  have hAb : ∀ q, (fun q => (g_s G).heap.size ≤ q ∧ (q = x)) q → (g_s G).heap.size ≤ q := fun q h => h.1
  obtain ⟨h_o, h_pg, h_kr⟩ := hM
  have hsz0 := hS.1
  have lt_1 := h_o.lt
  have lt_2 := h_pg.lt
  have lt_3 := h_pg.2.1.lt
  have lt_4 := h_kr.lt
  have hpg := h_pg.2.2.1
  obtain rfl : fl = false := hfl
  obtain ⟨⟨hp1, hp2, hpo, hpp⟩, hprow, -⟩ := id h_pg
  have hne_5 : fp_dif x p := fp_neOO X.2.2.2.2.2 (i := 6) (j := 12) rfl rfl (by decide) h_o hpo
  have hne_6 : fp_dif x pv := fp_neOA X.2.2.2.2.2 (i := 6) (t := 2) rfl rfl h_o hprow
  have hne_7 : fp_dif x kw := fp_neOA X.2.2.2.2.2 (i := 6) (t := 6) rfl rfl h_o h_kr
  have hne_8 : fp_dif p pv := fp_neOA X.2.2.2.2.2 (i := 12) (t := 2) rfl rfl hpo hprow
  have hne_9 : fp_dif p kw := fp_neOA X.2.2.2.2.2 (i := 12) (t := 6) rfl rfl hpo h_kr
  have hne_10 : fp_dif pv kw := fp_neAA X.2.2.2.2.2 (t := 2) (t2 := 6) rfl rfl (by decide) hprow h_kr
  refine lv_aload_n hx hb dX9_parseKeyword_0 rfl (lv_at hl 0 rfl) ?_
  refine r_get X h_o rfl in_X9 3 (by decide) q1743 (Or.inl rfl) (v := .int (iI ((pos : Nat) : Int))) rfl dX9_parseKeyword_1 ?_
  refine lv_istore_n (lv' := [(1, .int (iI ((pos : Nat) : Int))), (0, .ref (x))]) hx hb dX9_parseKeyword_4 rfl hl (by decide) rfl (fun ls hl => ?_)
  have L5 : ∀ (k : Nat), k ≤ n - pos → ∀ (H_11 : Heap) (locs : List Loc) (ls : Array Slot), lv_has ls 3 [(0, .ref (x)), (1, .int (iI ((pos : Nat) : Int)))] → va_S (fA (fun q => (g_s G).heap.size ≤ q ∧ (q = x)) s.heap.size) s.heap H_11 locs → (k = 0 ∨ fp_isk k (fun i => tx (pos + i)) false = true) → (s.heap.size ≤ H_11.size) → fp_At G H_11 x (eO 6 [.ref (kw), .ref (p), .ref (l), .int (iI ((pos + k : Nat) : Int)), .int (iI (bI (false)))]) → W pg (g_l G) en rR s mi ag bl mt cd H_11 locs (2 * k) (28 * k) qQ (F0 mi 5 ls []) := by
    refine lp_up (n - pos) ?_
    intro k hk5 ih5 H_11 locs ls hl hS hkw hz_12 hE_13
    have hz_14 := hS.1
    have lt_15 := hE_13.lt
    refine lv_aload_n hx hb dX9_parseKeyword_5 rfl (lv_at hl 0 rfl) ?_
    have hE_16 := fp_HS.mv h_pg (fp_keptS (by omega) hS (fun h => (Ne.symm (hne_5)) h.2)) (fp_keptS (by omega) hS (fun h => (Ne.symm (hne_6)) h.2))
    refine r_callV (cells1 := (2 * k)) (slots1 := (28 * k)) X hR (c_X9_isAtEnd G x kw p pv l n tx (pos + k) false (by omega)) q1771 q1773 qs35 q124 q1774 ⟨rfl, pd_X9_isAtEnd⟩ ⟨Nat.le_of_ble_eq_true rfl, Nat.le_of_ble_eq_true rfl⟩ rfl rfl (by omega) (by omega) hE_13 rfl rfl (Nat.le_of_ble_eq_true rfl) hl.1 dX9_parseKeyword_6 (hB.of hS hAb) ⟨hE_13, hE_16⟩ hS (fun _ h => h.elim) (fun v H_20 locs hp_17 hz_18 hk_19 hS => ?_)
    obtain ⟨rfl, rfl⟩ := hp_17
    refine r_stk (st2 := [.int (iI (bI (decide ((pos + k) = n))))]) rfl ?_
    refine r_ifneB (tgt := 47) hx hb dX9_parseKeyword_9 (by decide) (fun c9 => ?_) (fun c9 => ?_)
    · skip
      have d9 := of_decide_eq_true c9
      rcases Nat.eq_zero_or_pos k with hk0 | hk0
      · skip
        obtain rfl : k = 0 := hk0
        refine lv_aload_n hx hb dX9_parseKeyword_47 rfl (lv_at hl 0 rfl) ?_
        refine r_get X hE_13 rfl in_X9 1 (by decide) q1740 (Or.inl rfl) (v := .ref (p)) rfl dX9_parseKeyword_48 ?_
        refine lv_iload_n hx hb dX9_parseKeyword_51 rfl (lv_at hl 1 rfl) ?_
        refine lv_aload_n hx hb dX9_parseKeyword_52 rfl (lv_at hl 0 rfl) ?_
        refine r_get X hE_13 rfl in_X9 3 (by decide) q1743 (Or.inl rfl) (v := .int (iI ((pos + 0 : Nat) : Int))) rfl dX9_parseKeyword_53 ?_
        refine r_set (y := .int (iI ((pos : Nat) : Int))) rfl ?_
        refine r_callVR (cells1 := (2 * 0)) (slots1 := (28 * 0)) X hR (c_J7_substring_0 G p pv n tx pos hpos) q1776 q1777 q1778 q98 q1779 ⟨rfl, pd_J7_substring⟩ ⟨Nat.le_of_ble_eq_true rfl, Nat.le_of_ble_eq_true rfl⟩ rfl rfl (by omega) (by omega) (fp_SO.recv X ((fp_HS.st hE_16).1) hB hAb hS) rfl (Nat.le_of_ble_eq_true rfl) hl.1 dX9_parseKeyword_56 (hB.of hS hAb) hE_16 hS (fun _ h => h.elim) (fun v H_24 locs hp_21 hz_22 hk_23 hS => ?_)
        obtain ⟨x_25, r_26, ty2_27, rfl, hE_28⟩ := hp_21
        have hz_29 := hS.1
        have lt_31 := hE_28.1.2
        have lt_32 := hE_28.2.2.1
        refine r_stk (st2 := [.ref (x_25)]) rfl ?_
        refine lv_astore_n (lv' := [(2, .ref (x_25)), (0, .ref (x)), (1, .int (iI ((pos : Nat) : Int)))]) hx hb dX9_parseKeyword_59 rfl hl (by decide) rfl (fun ls hl => ?_)
        refine lv_aload_n hx hb dX9_parseKeyword_60 rfl (lv_at hl 1 rfl) ?_
        refine lv_aload_n hx hb dX9_parseKeyword_61 rfl (lv_at hl 1 rfl) ?_
        refine lv_aload_n hx hb dX9_parseKeyword_62 rfl (lv_at hl 0 rfl) ?_
        refine lv_iconst (v := (iI ((1 : Nat) : Int))) hx hb dX9_parseKeyword_63 rfl ?_
        have hE_34 := fp_At.kept hE_13 (hk_23 _ (by omega) (fun z => z))
        have hE_35 := fp_At.kept h_kr (fp_keptS (by omega) hS (fun h => (Ne.symm (hne_7)) h.2))
        refine r_callV (cells1 := (2 * 0)) (slots1 := (28 * 0)) X hR (c_X9_isKeyword G x kw p l (pos + 0) false x_25 r_26 0 ty2_27 true) q1804 q1806 qs36 q124 q1807 ⟨rfl, pd_X9_isKeyword⟩ ⟨Nat.le_of_ble_eq_true rfl, Nat.le_of_ble_eq_true rfl⟩ rfl rfl (by omega) (by omega) hE_34 rfl rfl (Nat.le_of_ble_eq_true rfl) hl.1 dX9_parseKeyword_64 (hB.of hS hAb) ⟨hE_34, hE_35, hE_28⟩ hS (fun _ h => h.elim) (fun v H_39 locs hp_36 hz_37 hk_38 hS => ?_)
        obtain ⟨rfl, rfl⟩ := hp_36
        refine r_stk (st2 := [.int (iI (bI (fp_isk 0 ty2_27 true))), .ref (x)]) rfl ?_
        refine r_ifneB (tgt := 74) hx hb dX9_parseKeyword_67 (by decide) (fun c67 => ?_) (fun c67 => ?_)
        · skip
          rw [fp_isk_0] at c67; cases c67
        · skip
          refine lv_iconst (v := (iI ((1 : Nat) : Int))) hx hb dX9_parseKeyword_70 rfl ?_
          refine lv_goto (tgt := 75) hx hb dX9_parseKeyword_71 (by decide) ?_
          refine r_put X hE_34 hS (Or.inl ⟨by omega, rfl⟩) rfl in_X9 tyX9_ok nmX9 4 (by decide) q1745 (Or.inl rfl) rfl rfl rfl (show 4 < 5 by decide) dX9_parseKeyword_75 (fun H_43 locs hE_40 hz_41 hq_42 hS => ?_)
          have hz_44 := hS.1
          refine lv_aload_n hx hb dX9_parseKeyword_78 rfl (lv_at hl 0 rfl) ?_
          refine r_aret hx hb hr hlk hQ hS (by omega) (by omega) dX9_parseKeyword_79 (Or.inl ⟨_, rfl⟩) (Or.inr ⟨_, rfl⟩) ?_
          exact ⟨x_25, r_26, 0, true, rfl, (by omega), (Or.inl rfl), (Or.inl (by omega)), (by rw [fp_isk_0]; rfl), (fun h => by cases h), hE_40⟩
      · skip
        refine lv_aload_n hx hb dX9_parseKeyword_47 rfl (lv_at hl 0 rfl) ?_
        refine r_get X hE_13 rfl in_X9 1 (by decide) q1740 (Or.inl rfl) (v := .ref (p)) rfl dX9_parseKeyword_48 ?_
        refine lv_iload_n hx hb dX9_parseKeyword_51 rfl (lv_at hl 1 rfl) ?_
        refine lv_aload_n hx hb dX9_parseKeyword_52 rfl (lv_at hl 0 rfl) ?_
        refine r_get X hE_13 rfl in_X9 3 (by decide) q1743 (Or.inl rfl) (v := .int (iI ((pos + k : Nat) : Int))) rfl dX9_parseKeyword_53 ?_
        refine r_callVR (cells1 := (2 * k + 2)) (slots1 := (28 * k + (4 + ((pos + k) - pos)))) X hR (c_J7_substring G p pv n tx pos (pos + k) (by omega)) q1776 q1777 q1778 q98 q1779 ⟨rfl, pd_J7_substring⟩ ⟨Nat.le_of_ble_eq_true rfl, Nat.le_of_ble_eq_true rfl⟩ rfl rfl (by omega) (by omega) (fp_SO.recv X ((fp_HS.st hE_16).1) hB hAb hS) rfl (Nat.le_of_ble_eq_true rfl) hl.1 dX9_parseKeyword_56 (hB.of hS hAb) hE_16 hS (fun _ h => h.elim) (fun v H_48 locs hp_45 hz_46 hk_47 hS => ?_)
        obtain ⟨x_49, r_50, rfl, hx_51, hE_52⟩ := hp_45
        have hz_53 := hS.1
        have lt_55 := hE_52.lt
        have lt_56 := hE_52.2.1.lt
        refine r_stk (st2 := [.ref (x_49)]) rfl ?_
        obtain ⟨⟨hs1, hs2, hSo, hs3⟩, hSrow, -⟩ := id hE_52
        have hE_58 := fp_At.kept hE_13 (hk_47 _ (by omega) (fun z => z))
        have hne_59 : fp_dif x x_49 := fp_neOO X.2.2.2.2.2 (i := 6) (j := 12) rfl rfl (by decide) hE_58 hSo
        have hne_60 : fp_dif x r_50 := fp_neOA X.2.2.2.2.2 (i := 6) (t := 2) rfl rfl hE_58 hSrow
        have hne_61 : fp_dif x_49 r_50 := fp_neOA X.2.2.2.2.2 (i := 12) (t := 2) rfl rfl hSo hSrow
        refine lv_astore_n (lv' := [(2, .ref (x_49)), (0, .ref (x)), (1, .int (iI ((pos : Nat) : Int)))]) hx hb dX9_parseKeyword_59 rfl hl (by decide) rfl (fun ls hl => ?_)
        refine lv_aload_n hx hb dX9_parseKeyword_60 rfl (lv_at hl 1 rfl) ?_
        refine lv_aload_n hx hb dX9_parseKeyword_61 rfl (lv_at hl 1 rfl) ?_
        refine lv_aload_n hx hb dX9_parseKeyword_62 rfl (lv_at hl 0 rfl) ?_
        refine lv_iconst (v := (iI ((1 : Nat) : Int))) hx hb dX9_parseKeyword_63 rfl ?_
        have hE_62 := fp_At.kept h_kr (fp_keptS (by omega) hS (fun h => (Ne.symm (hne_7)) h.2))
        refine r_callV (cells1 := (2 * k + 2)) (slots1 := (28 * k + (4 + ((pos + k) - pos)))) X hR (c_X9_isKeyword G x kw p l (pos + k) false x_49 r_50 ((pos + k) - pos) (fun i => tx (pos + i)) true) q1804 q1806 qs36 q124 q1807 ⟨rfl, pd_X9_isKeyword⟩ ⟨Nat.le_of_ble_eq_true rfl, Nat.le_of_ble_eq_true rfl⟩ rfl rfl (by omega) (by omega) hE_58 rfl rfl (Nat.le_of_ble_eq_true rfl) hl.1 dX9_parseKeyword_64 (hB.of hS hAb) ⟨hE_58, hE_62, (fp_HS.st hE_52)⟩ hS (fun _ h => h.elim) (fun v H_66 locs hp_63 hz_64 hk_65 hS => ?_)
        obtain ⟨rfl, rfl⟩ := hp_63
        refine r_stk (st2 := [.int (iI (bI (fp_isk ((pos + k) - pos) (fun i => tx (pos + i)) true))), .ref (x)]) rfl ?_
        refine r_ifneB (tgt := 74) hx hb dX9_parseKeyword_67 (by decide) (fun c67 => ?_) (fun c67 => ?_)
        · skip
          rw [show pos + k - pos = k by omega] at c67
          refine lv_iconst (v := (iI ((0 : Nat) : Int))) hx hb dX9_parseKeyword_74 rfl ?_
          refine r_put X hE_58 hS (Or.inl ⟨by omega, rfl⟩) rfl in_X9 tyX9_ok nmX9 4 (by decide) q1745 (Or.inl rfl) rfl rfl rfl (show 4 < 5 by decide) dX9_parseKeyword_75 (fun H_70 locs hE_67 hz_68 hq_69 hS => ?_)
          have hz_71 := hS.1
          refine lv_aload_n hx hb dX9_parseKeyword_78 rfl (lv_at hl 0 rfl) ?_
          have hE_73 := fp_HS.mv hE_52 (hq_69 _ (Ne.symm (hne_59))) (hq_69 _ (Ne.symm (hne_60)))
          have hsubf : fp_HS G x_49 r_50 k (fun i => tx (pos + i)) H_70 := by have h9 := hE_73; rw [show pos + k - pos = k by omega] at h9; exact h9
          refine r_aret hx hb hr hlk hQ hS (by omega) (by omega) dX9_parseKeyword_79 (Or.inl ⟨_, rfl⟩) (Or.inr ⟨_, rfl⟩) ?_
          exact ⟨x_49, r_50, k, false, rfl, (by omega), hkw, (Or.inl (by omega)), (by rw [c67]; rfl), (fun _ => ⟨hsubf, by omega⟩), hE_67⟩
        · skip
          rw [show pos + k - pos = k by omega] at c67
          refine lv_iconst (v := (iI ((1 : Nat) : Int))) hx hb dX9_parseKeyword_70 rfl ?_
          refine lv_goto (tgt := 75) hx hb dX9_parseKeyword_71 (by decide) ?_
          refine r_put X hE_58 hS (Or.inl ⟨by omega, rfl⟩) rfl in_X9 tyX9_ok nmX9 4 (by decide) q1745 (Or.inl rfl) rfl rfl rfl (show 4 < 5 by decide) dX9_parseKeyword_75 (fun H_77 locs hE_74 hz_75 hq_76 hS => ?_)
          have hz_78 := hS.1
          refine lv_aload_n hx hb dX9_parseKeyword_78 rfl (lv_at hl 0 rfl) ?_
          have hE_80 := fp_HS.mv hE_52 (hq_76 _ (Ne.symm (hne_59))) (hq_76 _ (Ne.symm (hne_60)))
          have hsubf : fp_HS G x_49 r_50 k (fun i => tx (pos + i)) H_77 := by have h9 := hE_80; rw [show pos + k - pos = k by omega] at h9; exact h9
          refine r_aret hx hb hr hlk hQ hS (by omega) (by omega) dX9_parseKeyword_79 (Or.inl ⟨_, rfl⟩) (Or.inr ⟨_, rfl⟩) ?_
          exact ⟨x_49, r_50, k, true, rfl, (by omega), hkw, (Or.inl (by omega)), (by rw [c67]; rfl), (fun h => by cases h), hE_74⟩
    · skip
      have d9 := of_decide_eq_false c9
      refine lv_aload_n hx hb dX9_parseKeyword_12 rfl (lv_at hl 0 rfl) ?_
      refine lv_aload_n hx hb dX9_parseKeyword_13 rfl (lv_at hl 0 rfl) ?_
      refine r_get X hE_13 rfl in_X9 1 (by decide) q1740 (Or.inl rfl) (v := .ref (p)) rfl dX9_parseKeyword_14 ?_
      refine lv_iload_n hx hb dX9_parseKeyword_17 rfl (lv_at hl 1 rfl) ?_
      refine lv_aload_n hx hb dX9_parseKeyword_18 rfl (lv_at hl 0 rfl) ?_
      refine r_get X hE_13 rfl in_X9 3 (by decide) q1743 (Or.inl rfl) (v := .int (iI ((pos + k : Nat) : Int))) rfl dX9_parseKeyword_19 ?_
      refine lv_iconst (v := (iI ((1 : Nat) : Int))) hx hb dX9_parseKeyword_22 rfl ?_
      refine r_iaddN hx hb dX9_parseKeyword_23 ?_
      refine r_callVR (cells1 := (2 * k + 2)) (slots1 := (28 * k + (4 + (((pos + k) + 1) - pos)))) X hR (c_J7_substring G p pv n tx pos ((pos + k) + 1) (by omega)) q1776 q1777 q1778 q98 q1779 ⟨rfl, pd_J7_substring⟩ ⟨Nat.le_of_ble_eq_true rfl, Nat.le_of_ble_eq_true rfl⟩ rfl rfl (by omega) (by omega) (fp_SO.recv X ((fp_HS.st hE_16).1) hB hAb hS) rfl (Nat.le_of_ble_eq_true rfl) hl.1 dX9_parseKeyword_24 (hB.of hS hAb) hE_16 hS (fun _ h => h.elim) (fun v H_84 locs hp_81 hz_82 hk_83 hS => ?_)
      obtain ⟨x_85, r_86, rfl, hx_87, hE_88⟩ := hp_81
      have hz_89 := hS.1
      have lt_91 := hE_88.lt
      have lt_92 := hE_88.2.1.lt
      refine r_stk (st2 := [.ref (x_85), .ref (x)]) rfl ?_
      refine lv_iconst (v := (iI ((0 : Nat) : Int))) hx hb dX9_parseKeyword_27 rfl ?_
      have hE_94 := fp_At.kept hE_13 (hk_83 _ (by omega) (fun z => z))
      have hE_95 := fp_At.kept h_kr (fp_keptS (by omega) hS (fun h => (Ne.symm (hne_7)) h.2))
      refine r_callV (cells1 := (2 * k + 2)) (slots1 := (28 * k + (4 + (((pos + k) + 1) - pos)))) X hR (c_X9_isKeyword G x kw p l (pos + k) false x_85 r_86 (((pos + k) + 1) - pos) (fun i => tx (pos + i)) false) q1804 q1806 qs36 q124 q1807 ⟨rfl, pd_X9_isKeyword⟩ ⟨Nat.le_of_ble_eq_true rfl, Nat.le_of_ble_eq_true rfl⟩ rfl rfl (by omega) (by omega) hE_94 rfl rfl (Nat.le_of_ble_eq_true rfl) hl.1 dX9_parseKeyword_28 (hB.of hS hAb) ⟨hE_94, hE_95, (fp_HS.st hE_88)⟩ hS (fun _ h => h.elim) (fun v H_99 locs hp_96 hz_97 hk_98 hS => ?_)
      obtain ⟨rfl, rfl⟩ := hp_96
      refine r_stk (st2 := [.int (iI (bI (fp_isk (((pos + k) + 1) - pos) (fun i => tx (pos + i)) false)))]) rfl ?_
      refine r_ifeqB (tgt := 47) hx hb dX9_parseKeyword_31 (by decide) (fun c31 => ?_) (fun c31 => ?_)
      · skip
        rw [show pos + k + 1 - pos = k + 1 by omega] at c31
        rcases Nat.eq_zero_or_pos k with hk0 | hk0
        · skip
          obtain rfl : k = 0 := hk0
          refine lv_aload_n hx hb dX9_parseKeyword_47 rfl (lv_at hl 0 rfl) ?_
          refine r_get X hE_94 rfl in_X9 1 (by decide) q1740 (Or.inl rfl) (v := .ref (p)) rfl dX9_parseKeyword_48 ?_
          refine lv_iload_n hx hb dX9_parseKeyword_51 rfl (lv_at hl 1 rfl) ?_
          refine lv_aload_n hx hb dX9_parseKeyword_52 rfl (lv_at hl 0 rfl) ?_
          refine r_get X hE_94 rfl in_X9 3 (by decide) q1743 (Or.inl rfl) (v := .int (iI ((pos + 0 : Nat) : Int))) rfl dX9_parseKeyword_53 ?_
          refine r_set (y := .int (iI ((pos : Nat) : Int))) rfl ?_
          have hE_100 := fp_HS.mv h_pg (fp_keptS (by omega) hS (fun h => (Ne.symm (hne_5)) h.2)) (fp_keptS (by omega) hS (fun h => (Ne.symm (hne_6)) h.2))
          refine r_callVR (cells1 := (2 * 0 + 2)) (slots1 := (28 * 0 + (4 + (((pos + 0) + 1) - pos)))) X hR (c_J7_substring_0 G p pv n tx pos hpos) q1776 q1777 q1778 q98 q1779 ⟨rfl, pd_J7_substring⟩ ⟨Nat.le_of_ble_eq_true rfl, Nat.le_of_ble_eq_true rfl⟩ rfl rfl (by omega) (by omega) (fp_SO.recv X ((fp_HS.st hE_100).1) hB hAb hS) rfl (Nat.le_of_ble_eq_true rfl) hl.1 dX9_parseKeyword_56 (hB.of hS hAb) hE_100 hS (fun _ h => h.elim) (fun v H_104 locs hp_101 hz_102 hk_103 hS => ?_)
          obtain ⟨x_105, r_106, ty2_107, rfl, hE_108⟩ := hp_101
          have hz_109 := hS.1
          have lt_111 := hE_108.1.2
          have lt_112 := hE_108.2.2.1
          refine r_stk (st2 := [.ref (x_105)]) rfl ?_
          refine lv_astore_n (lv' := [(2, .ref (x_105)), (0, .ref (x)), (1, .int (iI ((pos : Nat) : Int)))]) hx hb dX9_parseKeyword_59 rfl hl (by decide) rfl (fun ls hl => ?_)
          refine lv_aload_n hx hb dX9_parseKeyword_60 rfl (lv_at hl 1 rfl) ?_
          refine lv_aload_n hx hb dX9_parseKeyword_61 rfl (lv_at hl 1 rfl) ?_
          refine lv_aload_n hx hb dX9_parseKeyword_62 rfl (lv_at hl 0 rfl) ?_
          refine lv_iconst (v := (iI ((1 : Nat) : Int))) hx hb dX9_parseKeyword_63 rfl ?_
          have hE_114 := fp_At.kept hE_94 (hk_103 _ (by omega) (fun z => z))
          have hE_115 := fp_At.kept h_kr (fp_keptS (by omega) hS (fun h => (Ne.symm (hne_7)) h.2))
          refine r_callV (cells1 := (2 * 0 + 2)) (slots1 := (28 * 0 + (4 + (((pos + 0) + 1) - pos)))) X hR (c_X9_isKeyword G x kw p l (pos + 0) false x_105 r_106 0 ty2_107 true) q1804 q1806 qs36 q124 q1807 ⟨rfl, pd_X9_isKeyword⟩ ⟨Nat.le_of_ble_eq_true rfl, Nat.le_of_ble_eq_true rfl⟩ rfl rfl (by omega) (by omega) hE_114 rfl rfl (Nat.le_of_ble_eq_true rfl) hl.1 dX9_parseKeyword_64 (hB.of hS hAb) ⟨hE_114, hE_115, hE_108⟩ hS (fun _ h => h.elim) (fun v H_119 locs hp_116 hz_117 hk_118 hS => ?_)
          obtain ⟨rfl, rfl⟩ := hp_116
          refine r_stk (st2 := [.int (iI (bI (fp_isk 0 ty2_107 true))), .ref (x)]) rfl ?_
          refine r_ifneB (tgt := 74) hx hb dX9_parseKeyword_67 (by decide) (fun c67 => ?_) (fun c67 => ?_)
          · skip
            rw [fp_isk_0] at c67; cases c67
          · skip
            refine lv_iconst (v := (iI ((1 : Nat) : Int))) hx hb dX9_parseKeyword_70 rfl ?_
            refine lv_goto (tgt := 75) hx hb dX9_parseKeyword_71 (by decide) ?_
            refine r_put X hE_114 hS (Or.inl ⟨by omega, rfl⟩) rfl in_X9 tyX9_ok nmX9 4 (by decide) q1745 (Or.inl rfl) rfl rfl rfl (show 4 < 5 by decide) dX9_parseKeyword_75 (fun H_123 locs hE_120 hz_121 hq_122 hS => ?_)
            have hz_124 := hS.1
            refine lv_aload_n hx hb dX9_parseKeyword_78 rfl (lv_at hl 0 rfl) ?_
            refine r_aret hx hb hr hlk hQ hS (by omega) (by omega) dX9_parseKeyword_79 (Or.inl ⟨_, rfl⟩) (Or.inr ⟨_, rfl⟩) ?_
            exact ⟨x_105, r_106, 0, true, rfl, (by omega), (Or.inl rfl), (Or.inr c31), (by rw [fp_isk_0]; rfl), (fun h => by cases h), hE_120⟩
        · skip
          refine lv_aload_n hx hb dX9_parseKeyword_47 rfl (lv_at hl 0 rfl) ?_
          refine r_get X hE_94 rfl in_X9 1 (by decide) q1740 (Or.inl rfl) (v := .ref (p)) rfl dX9_parseKeyword_48 ?_
          refine lv_iload_n hx hb dX9_parseKeyword_51 rfl (lv_at hl 1 rfl) ?_
          refine lv_aload_n hx hb dX9_parseKeyword_52 rfl (lv_at hl 0 rfl) ?_
          refine r_get X hE_94 rfl in_X9 3 (by decide) q1743 (Or.inl rfl) (v := .int (iI ((pos + k : Nat) : Int))) rfl dX9_parseKeyword_53 ?_
          have hE_125 := fp_HS.mv h_pg (fp_keptS (by omega) hS (fun h => (Ne.symm (hne_5)) h.2)) (fp_keptS (by omega) hS (fun h => (Ne.symm (hne_6)) h.2))
          refine r_callVR (cells1 := (2 * k + 2 + 2)) (slots1 := (28 * k + (4 + (((pos + k) + 1) - pos)) + (4 + ((pos + k) - pos)))) X hR (c_J7_substring G p pv n tx pos (pos + k) (by omega)) q1776 q1777 q1778 q98 q1779 ⟨rfl, pd_J7_substring⟩ ⟨Nat.le_of_ble_eq_true rfl, Nat.le_of_ble_eq_true rfl⟩ rfl rfl (by omega) (by omega) (fp_SO.recv X ((fp_HS.st hE_125).1) hB hAb hS) rfl (Nat.le_of_ble_eq_true rfl) hl.1 dX9_parseKeyword_56 (hB.of hS hAb) hE_125 hS (fun _ h => h.elim) (fun v H_129 locs hp_126 hz_127 hk_128 hS => ?_)
          obtain ⟨x_130, r_131, rfl, hx_132, hE_133⟩ := hp_126
          have hz_134 := hS.1
          have lt_136 := hE_133.lt
          have lt_137 := hE_133.2.1.lt
          refine r_stk (st2 := [.ref (x_130)]) rfl ?_
          obtain ⟨⟨hs1, hs2, hSo, hs3⟩, hSrow, -⟩ := id hE_133
          have hE_139 := fp_At.kept hE_94 (hk_128 _ (by omega) (fun z => z))
          have hne_140 : fp_dif x x_130 := fp_neOO X.2.2.2.2.2 (i := 6) (j := 12) rfl rfl (by decide) hE_139 hSo
          have hne_141 : fp_dif x r_131 := fp_neOA X.2.2.2.2.2 (i := 6) (t := 2) rfl rfl hE_139 hSrow
          have hne_142 : fp_dif x_130 r_131 := fp_neOA X.2.2.2.2.2 (i := 12) (t := 2) rfl rfl hSo hSrow
          refine lv_astore_n (lv' := [(2, .ref (x_130)), (0, .ref (x)), (1, .int (iI ((pos : Nat) : Int)))]) hx hb dX9_parseKeyword_59 rfl hl (by decide) rfl (fun ls hl => ?_)
          refine lv_aload_n hx hb dX9_parseKeyword_60 rfl (lv_at hl 1 rfl) ?_
          refine lv_aload_n hx hb dX9_parseKeyword_61 rfl (lv_at hl 1 rfl) ?_
          refine lv_aload_n hx hb dX9_parseKeyword_62 rfl (lv_at hl 0 rfl) ?_
          refine lv_iconst (v := (iI ((1 : Nat) : Int))) hx hb dX9_parseKeyword_63 rfl ?_
          have hE_143 := fp_At.kept h_kr (fp_keptS (by omega) hS (fun h => (Ne.symm (hne_7)) h.2))
          refine r_callV (cells1 := (2 * k + 2 + 2)) (slots1 := (28 * k + (4 + (((pos + k) + 1) - pos)) + (4 + ((pos + k) - pos)))) X hR (c_X9_isKeyword G x kw p l (pos + k) false x_130 r_131 ((pos + k) - pos) (fun i => tx (pos + i)) true) q1804 q1806 qs36 q124 q1807 ⟨rfl, pd_X9_isKeyword⟩ ⟨Nat.le_of_ble_eq_true rfl, Nat.le_of_ble_eq_true rfl⟩ rfl rfl (by omega) (by omega) hE_139 rfl rfl (Nat.le_of_ble_eq_true rfl) hl.1 dX9_parseKeyword_64 (hB.of hS hAb) ⟨hE_139, hE_143, (fp_HS.st hE_133)⟩ hS (fun _ h => h.elim) (fun v H_147 locs hp_144 hz_145 hk_146 hS => ?_)
          obtain ⟨rfl, rfl⟩ := hp_144
          refine r_stk (st2 := [.int (iI (bI (fp_isk ((pos + k) - pos) (fun i => tx (pos + i)) true))), .ref (x)]) rfl ?_
          refine r_ifneB (tgt := 74) hx hb dX9_parseKeyword_67 (by decide) (fun c67 => ?_) (fun c67 => ?_)
          · skip
            rw [show pos + k - pos = k by omega] at c67
            refine lv_iconst (v := (iI ((0 : Nat) : Int))) hx hb dX9_parseKeyword_74 rfl ?_
            refine r_put X hE_139 hS (Or.inl ⟨by omega, rfl⟩) rfl in_X9 tyX9_ok nmX9 4 (by decide) q1745 (Or.inl rfl) rfl rfl rfl (show 4 < 5 by decide) dX9_parseKeyword_75 (fun H_151 locs hE_148 hz_149 hq_150 hS => ?_)
            have hz_152 := hS.1
            refine lv_aload_n hx hb dX9_parseKeyword_78 rfl (lv_at hl 0 rfl) ?_
            have hE_154 := fp_HS.mv hE_133 (hq_150 _ (Ne.symm (hne_140))) (hq_150 _ (Ne.symm (hne_141)))
            have hsubf : fp_HS G x_130 r_131 k (fun i => tx (pos + i)) H_151 := by have h9 := hE_154; rw [show pos + k - pos = k by omega] at h9; exact h9
            refine r_aret hx hb hr hlk hQ hS (by omega) (by omega) dX9_parseKeyword_79 (Or.inl ⟨_, rfl⟩) (Or.inr ⟨_, rfl⟩) ?_
            exact ⟨x_130, r_131, k, false, rfl, (by omega), hkw, (Or.inr c31), (by rw [c67]; rfl), (fun _ => ⟨hsubf, by omega⟩), hE_148⟩
          · skip
            rw [show pos + k - pos = k by omega] at c67
            refine lv_iconst (v := (iI ((1 : Nat) : Int))) hx hb dX9_parseKeyword_70 rfl ?_
            refine lv_goto (tgt := 75) hx hb dX9_parseKeyword_71 (by decide) ?_
            refine r_put X hE_139 hS (Or.inl ⟨by omega, rfl⟩) rfl in_X9 tyX9_ok nmX9 4 (by decide) q1745 (Or.inl rfl) rfl rfl rfl (show 4 < 5 by decide) dX9_parseKeyword_75 (fun H_158 locs hE_155 hz_156 hq_157 hS => ?_)
            have hz_159 := hS.1
            refine lv_aload_n hx hb dX9_parseKeyword_78 rfl (lv_at hl 0 rfl) ?_
            have hE_161 := fp_HS.mv hE_133 (hq_157 _ (Ne.symm (hne_140))) (hq_157 _ (Ne.symm (hne_141)))
            have hsubf : fp_HS G x_130 r_131 k (fun i => tx (pos + i)) H_158 := by have h9 := hE_161; rw [show pos + k - pos = k by omega] at h9; exact h9
            refine r_aret hx hb hr hlk hQ hS (by omega) (by omega) dX9_parseKeyword_79 (Or.inl ⟨_, rfl⟩) (Or.inr ⟨_, rfl⟩) ?_
            exact ⟨x_130, r_131, k, true, rfl, (by omega), hkw, (Or.inr c31), (by rw [c67]; rfl), (fun h => by cases h), hE_155⟩
      · skip
        rw [show pos + k + 1 - pos = k + 1 by omega] at c31
        refine lv_aload_n hx hb dX9_parseKeyword_34 rfl (lv_at hl 0 rfl) ?_
        refine lv_dup hx hb dX9_parseKeyword_35 rfl ?_
        refine r_get X hE_94 rfl in_X9 3 (by decide) q1743 (Or.inl rfl) (v := .int (iI ((pos + k : Nat) : Int))) rfl dX9_parseKeyword_36 ?_
        refine lv_iconst (v := (iI ((1 : Nat) : Int))) hx hb dX9_parseKeyword_39 rfl ?_
        refine r_iaddN hx hb dX9_parseKeyword_40 ?_
        refine r_put X hE_94 hS (Or.inl ⟨by omega, rfl⟩) rfl in_X9 tyX9_ok nmX9 3 (by decide) q1743 (Or.inl rfl) rfl rfl rfl (show 3 < 5 by decide) dX9_parseKeyword_41 (fun H_165 locs hE_162 hz_163 hq_164 hS => ?_)
        have hz_166 := hS.1
        refine lv_goto (tgt := 5) hx hb dX9_parseKeyword_44 (by decide) ?_
        refine W.widen (k := 2 * (k + 1)) (n := 28 * (k + 1)) (by omega) (by omega) ?_
        exact ih5 (by omega) H_165 locs ls (lv_sub hl [0, 1] rfl) hS (Or.inr c31) (by omega) hE_162
  refine W.widen (k := 2 * 0) (n := 28 * 0) (by omega) (by omega) ?_
  exact L5 0 (by omega) s.heap locs ls (lv_sub hl [1, 0] rfl) hS (Or.inl rfl) (Nat.le_refl _) h_o
