/-! STRINGBUILDER: append(String), toString -/
set_option maxRecDepth 100000
theorem fp_cta {f : Nat → Int} {n m : Nat} {tx ty : Nat → Nat} (h : ∀ i, i < n → f i = ((tx i : Nat) : Int) ∧ tx i < 128) (h2 : ∀ i, i < m → ty i < 128) : ∀ i, i < n + m → va_cpy (fun i => ((ty i : Nat) : Int)) f 0 n m i = ((sb_cat tx n ty i : Nat) : Int) ∧ sb_cat tx n ty i < 128 := by
  intro i hi
  unfold va_cpy
  rcases Nat.lt_or_ge i n with h1 | h1
  · rw [if_neg (by omega), sb_cat_lo h1]
    exact h i h1
  · obtain ⟨j, rfl⟩ := Nat.exists_eq_add_of_le h1
    rw [if_pos (by omega), sb_cat_hi]
    refine ⟨?_, h2 j (by omega)⟩
    show ((ty (0 + (n + j - n)) : Nat) : Int) = _
    rw [show 0 + (n + j - n) = j by omega]
theorem fp_ctu {f : Nat → Int} {n m cap : Nat} {ty : Nat → Nat} (h : ∀ i, i < cap → -128 ≤ f i ∧ f i < 128) (h2 : ∀ i, i < m → ty i < 128) : ∀ i, i < cap → -128 ≤ va_cpy (fun i => ((ty i : Nat) : Int)) f 0 n m i ∧ va_cpy (fun i => ((ty i : Nat) : Int)) f 0 n m i < 128 := by
  intro i hi
  unfold va_cpy
  by_cases e : n ≤ i ∧ i < n + m
  · rw [if_pos e]
    have h3 := h2 (0 + (i - n)) (by omega)
    show -128 ≤ ((ty (0 + (i - n)) : Nat) : Int) ∧ ((ty (0 + (i - n)) : Nat) : Int) < 128
    omega
  · rw [if_neg e]
    exact h i hi

set_option maxRecDepth 100000
set_option maxHeartbeats 4000000 in
theorem c_J7_getBytes (G : fp_G) (y : Nat) (q : Nat) (m : Nat) (ty : Nat → Nat) (d : Nat) (cap : Nat) (g : Nat → Int) (p : Nat) (hp : p + m ≤ cap) (hc : cap ≤ 1000) (hdb : (g_s G).heap.size ≤ d) : fp_M G yJ7_getBytes cJ7_getBytes 4 none 2 60 0 0 [.ref (y), .ref (d), .int (iI ((p : Nat) : Int)), .int (iI ((0 : Nat) : Int))] (fun H => fp_ST G y q m ty H ∧ fp_At G H d (eB G cap (fun j => iI (g j)))) (fun q => (g_s G).heap.size ≤ q ∧ (q = d)) (fun H v H1 => v = none ∧ fp_At G H1 d (eB G cap (fun j => iI ((va_cpy (fun i => ((ty i : Nat) : Int)) g 0 p m) j)))) := by
  refine fp_M.intro (by decide) (Nat.le_of_ble_eq_true rfl) ?_
  intro pg en s mi ag bl mt cd rR qQ ls X hx hb hr hlk hnm hR hQ hB hM hl
  have hS : va_S (fA (fun q => (g_s G).heap.size ≤ q ∧ (q = d)) s.heap.size) s.heap s.heap [] := va_S.rf
  generalize ([] : List Loc) = locs at hS ⊢
  have hb0 := hB.1
  have hAb : ∀ q, (fun q => (g_s G).heap.size ≤ q ∧ (q = d)) q → (g_s G).heap.size ≤ q := fun q h => h.1
  obtain ⟨h_st, h_row⟩ := hM
  have hsz0 := hS.1
  have lt_1 := h_st.1.2
  have lt_2 := h_st.2.2.1
  have lt_3 := h_row.lt
  have hrow9 := h_st.2
  have lt_4 := hrow9.2.1
  have hm1000 := hrow9.2.2.2
  refine lv_aload_n hx hb dJ7_getBytes_0 rfl (lv_at hl 0 rfl) ?_
  refine r_callVR (cells1 := 0) (slots1 := 0) X hR (c_J7_coder G y q m ty) q661 q662 q663 q98 q664 ⟨rfl, pd_J7_coder⟩ ⟨Nat.le_of_ble_eq_true rfl, Nat.le_of_ble_eq_true rfl⟩ rfl rfl (Nat.le_of_ble_eq_true rfl) (Nat.le_of_ble_eq_true rfl) (fp_SO.recv X (h_st.1) hB hAb hS) rfl (Nat.le_of_ble_eq_true rfl) hl.1 dJ7_getBytes_1 (hB.of hS hAb) h_st hS (fun _ h => h.elim) (fun v H_8 locs hp_5 hz_6 hk_7 hS => ?_)
  obtain ⟨rfl, rfl⟩ := hp_5
  refine r_stk (st2 := [.int (iI ((0 : Nat) : Int))]) rfl ?_
  refine lv_iload_n hx hb dJ7_getBytes_4 rfl (lv_at hl 3 rfl) ?_
  refine r_icmp_ne (tgt := 28) hx hb (by decide) (by decide) dJ7_getBytes_5 (by decide) (fun c5 => ?_) (fun c5 => ?_)
  · exact absurd c5 (by omega)
  · skip
    refine lv_aload_n hx hb dJ7_getBytes_8 rfl (lv_at hl 0 rfl) ?_
    refine r_sval X (h_st.1) hB hAb hS q804 dJ7_getBytes_9 ?_
    refine lv_iconst (v := (iI ((0 : Nat) : Int))) hx hb dJ7_getBytes_12 rfl ?_
    refine lv_aload_n hx hb dJ7_getBytes_13 rfl (lv_at hl 1 rfl) ?_
    refine lv_iload_n hx hb dJ7_getBytes_14 rfl (lv_at hl 2 rfl) ?_
    refine lv_iload_n hx hb dJ7_getBytes_15 rfl (lv_at hl 3 rfl) ?_
    refine lv_ishl hx hb dJ7_getBytes_16 ?_
    refine r_set (y := .int (iI ((p : Nat) : Int))) (congrArg Value.int (fp_shl0 _)) ?_
    refine lv_aload_n hx hb dJ7_getBytes_17 rfl (lv_at hl 0 rfl) ?_
    refine r_sval X (h_st.1) hB hAb hS q804 dJ7_getBytes_18 ?_
    refine r_rlen X hrow9 hB hAb hS dJ7_getBytes_21 ?_
    refine r_rcopy (sp := 0) (dp := p) (n := m) X hR hl.1 hrow9 hB hAb h_row hS (Or.inl ⟨by omega, rfl⟩) q698 q625 q624 q114 (by omega) (by omega) (by omega) (by omega) (by omega) (by omega) (by decide) (Nat.le_of_ble_eq_true rfl) dJ7_getBytes_22 (fun H_12 locs hE_9 hz_10 hq_11 hS => ?_)
    have hz_13 := hS.1
    refine lv_goto (tgt := 43) hx hb dJ7_getBytes_25 (by decide) ?_
    refine r_vret hx hb hr hlk hQ hS (Nat.le_of_ble_eq_true rfl) (Nat.le_of_ble_eq_true rfl) dJ7_getBytes_43 ?_
    exact ⟨rfl, hE_9⟩
set_option maxHeartbeats 4000000 in
theorem c_J5_inflateIfNeededFor (G : fp_G) (x : Nat) (vl : Nat) (n : Nat) (ml : Nat) (y : Nat) (q : Nat) (m : Nat) (ty : Nat → Nat) : fp_M G yJ5_inflateIfNeededFor cJ5_inflateIfNeededFor 2 none 2 32 0 0 [.ref (x), .ref (y)] (fun H => fp_At G H x (eO 11 [.ref (vl), .int (iI ((0 : Nat) : Int)), .int (iI ((ml : Nat) : Int)), .int (iI ((n : Nat) : Int))]) ∧ fp_ST G y q m ty H) fp_no (fun H v H1 => v = none ∧ H = H1) := by
  refine fp_M.intro (by decide) (Nat.le_of_ble_eq_true rfl) ?_
  intro pg en s mi ag bl mt cd rR qQ ls X hx hb hr hlk hnm hR hQ hB hM hl
  have hS : va_S (fA fp_no s.heap.size) s.heap s.heap [] := va_S.rf
  generalize ([] : List Loc) = locs at hS ⊢
  have hb0 := hB.1
  obtain ⟨h_o, h_st⟩ := hM
  have hsz0 := hS.1
  have lt_1 := h_o.lt
  have lt_2 := h_st.1.2
  have lt_3 := h_st.2.2.1
  refine r_gets X hB fp_no.base hS q219 (lw_all_tbl q98) (X.2.2.2.2.2.cs) q218 rfl dJ5_inflateIfNeededFor_0 ?_
  refine r_set (y := .int (iI ((1 : Nat) : Int))) rfl ?_
  refine r_if_eq (tgt := 21) hx hb (by decide) dJ5_inflateIfNeededFor_3 (by decide) (fun c3 => ?_) (fun c3 => ?_)
  · exact absurd c3 (by omega)
  · skip
    refine lv_aload_n hx hb dJ5_inflateIfNeededFor_6 rfl (lv_at hl 0 rfl) ?_
    refine r_get X h_o rfl in_J6 1 (by decide) q228 (Or.inl rfl) (v := .int (iI ((0 : Nat) : Int))) rfl dJ5_inflateIfNeededFor_7 ?_
    refine lv_aload_n hx hb dJ5_inflateIfNeededFor_10 rfl (lv_at hl 1 rfl) ?_
    refine r_callVR (cells1 := 0) (slots1 := 0) X hR (c_J7_coder G y q m ty) q674 q662 q663 q98 q664 ⟨rfl, pd_J7_coder⟩ ⟨Nat.le_of_ble_eq_true rfl, Nat.le_of_ble_eq_true rfl⟩ rfl rfl (Nat.le_of_ble_eq_true rfl) (Nat.le_of_ble_eq_true rfl) (fp_SO.recv X (h_st.1) hB fp_no.base hS) rfl (Nat.le_of_ble_eq_true rfl) hl.1 dJ5_inflateIfNeededFor_11 (hB.of hS fp_no.base) h_st hS (fun _ h => h.elim) (fun v H_7 locs hp_4 hz_5 hk_6 hS => ?_)
    obtain ⟨rfl, rfl⟩ := hp_4
    refine r_stk (st2 := [.int (iI ((0 : Nat) : Int)), .int (iI ((0 : Nat) : Int))]) rfl ?_
    refine r_icmp_eq (tgt := 21) hx hb (by decide) (by decide) dJ5_inflateIfNeededFor_14 (by decide) (fun c14 => ?_) (fun c14 => ?_)
    · skip
      refine r_vret hx hb hr hlk hQ hS (Nat.le_of_ble_eq_true rfl) (Nat.le_of_ble_eq_true rfl) dJ5_inflateIfNeededFor_21 ?_
      exact ⟨rfl, rfl⟩
    · exact absurd c14 (by omega)
set_option maxHeartbeats 4000000 in
theorem c_J5_putStringAt (G : fp_G) (x : Nat) (vl : Nat) (cap : Nat) (n : Nat) (ml : Nat) (f : Nat → Int) (y : Nat) (q : Nat) (m : Nat) (ty : Nat → Nat) (p : Nat) (hp : p + m ≤ cap) (hc : cap ≤ 1000) (hdb : (g_s G).heap.size ≤ vl) : fp_M G yJ5_putStringAt cJ5_putStringAt 3 none 3 83 0 0 [.ref (x), .int (iI ((p : Nat) : Int)), .ref (y)] (fun H => fp_At G H x (eO 11 [.ref (vl), .int (iI ((0 : Nat) : Int)), .int (iI ((ml : Nat) : Int)), .int (iI ((n : Nat) : Int))]) ∧ fp_At G H vl (eB G cap (fun j => iI (f j))) ∧ fp_ST G y q m ty H) (fun q => (g_s G).heap.size ≤ q ∧ (q = vl)) (fun H v H1 => v = none ∧ fp_At G H1 vl (eB G cap (fun j => iI ((va_cpy (fun i => ((ty i : Nat) : Int)) f 0 p m) j)))) := by
  refine fp_M.intro (by decide) (Nat.le_of_ble_eq_true rfl) ?_
  intro pg en s mi ag bl mt cd rR qQ ls X hx hb hr hlk hnm hR hQ hB hM hl
  have hS : va_S (fA (fun q => (g_s G).heap.size ≤ q ∧ (q = vl)) s.heap.size) s.heap s.heap [] := va_S.rf
  generalize ([] : List Loc) = locs at hS ⊢
  have hb0 := hB.1
  have hAb : ∀ q, (fun q => (g_s G).heap.size ≤ q ∧ (q = vl)) q → (g_s G).heap.size ≤ q := fun q h => h.1
  obtain ⟨h_o, h_row, h_st⟩ := hM
  have hsz0 := hS.1
  have lt_1 := h_o.lt
  have lt_2 := h_row.lt
  have lt_3 := h_st.1.2
  have lt_4 := h_st.2.2.1
  refine lv_aload_n hx hb dJ5_putStringAt_0 rfl (lv_at hl 0 rfl) ?_
  refine lv_aload_n hx hb dJ5_putStringAt_1 rfl (lv_at hl 2 rfl) ?_
  refine r_callVP (cells1 := 0) (slots1 := 0) X hR (c_J5_inflateIfNeededFor G x vl n ml y q m ty) q670 q672 q671 q2525 q96 q673 ⟨by decide, by decide, rfl⟩ ⟨Nat.le_of_ble_eq_true rfl, Nat.le_of_ble_eq_true rfl⟩ rfl rfl (Nat.le_of_ble_eq_true rfl) (Nat.le_of_ble_eq_true rfl) h_o rfl rfl (Nat.le_of_ble_eq_true rfl) hl.1 dJ5_putStringAt_2 (hB.of hS hAb) ⟨h_o, h_st⟩ hS (fun _ h => h.elim) (fun v H_8 locs hp_5 hz_6 hk_7 hS => ?_)
  obtain ⟨rfl, rfl⟩ := hp_5
  refine r_stk (st2 := []) rfl ?_
  refine lv_aload_n hx hb dJ5_putStringAt_5 rfl (lv_at hl 2 rfl) ?_
  refine lv_aload_n hx hb dJ5_putStringAt_6 rfl (lv_at hl 0 rfl) ?_
  refine r_get X h_o rfl in_J6 0 (by decide) q227 (Or.inl rfl) (v := .ref (vl)) rfl dJ5_putStringAt_7 ?_
  refine lv_iload_n hx hb dJ5_putStringAt_10 rfl (lv_at hl 1 rfl) ?_
  refine lv_aload_n hx hb dJ5_putStringAt_11 rfl (lv_at hl 0 rfl) ?_
  refine r_get X h_o rfl in_J6 1 (by decide) q228 (Or.inl rfl) (v := .int (iI ((0 : Nat) : Int))) rfl dJ5_putStringAt_12 ?_
  refine r_callVR (cells1 := 0) (slots1 := 0) X hR (c_J7_getBytes G y q m ty vl cap f p hp hc hdb) q694 q695 q696 q98 q697 ⟨rfl, pd_J7_getBytes⟩ ⟨Nat.le_of_ble_eq_true rfl, Nat.le_of_ble_eq_true rfl⟩ rfl rfl (Nat.le_of_ble_eq_true rfl) (Nat.le_of_ble_eq_true rfl) (fp_SO.recv X (h_st.1) hB hAb hS) rfl (Nat.le_of_ble_eq_true rfl) hl.1 dJ5_putStringAt_15 (hB.of hS hAb) ⟨h_st, h_row⟩ hS (fun q h => by have h2 : (g_s G).heap.size ≤ q ∧ (q = vl) := h; show ((g_s G).heap.size ≤ q ∧ (q = vl)) ∨ s.heap.size ≤ q; omega) (fun v H_12 locs hp_9 hz_10 hk_11 hS => ?_)
  obtain ⟨rfl, hE_13⟩ := hp_9
  have hz_14 := hS.1
  have lt_15 := hE_13.lt
  refine r_stk (st2 := []) rfl ?_
  refine r_vret hx hb hr hlk hQ hS (Nat.le_of_ble_eq_true rfl) (Nat.le_of_ble_eq_true rfl) dJ5_putStringAt_18 ?_
  exact ⟨rfl, hE_13⟩
set_option maxHeartbeats 4000000 in
theorem c_J5_append (G : fp_G) (x : Nat) (vl : Nat) (cap : Nat) (n : Nat) (ml : Nat) (tx : Nat → Nat) (y : Nat) (q : Nat) (m : Nat) (ty : Nat → Nat) (hn : n + m ≤ 99) (hyb : y < (g_s G).heap.size ∧ q < (g_s G).heap.size) : fp_M G yJ5_append cJ5_append 3 (some (.object "java/lang/AbstractStringBuilder")) 5 110 1 202 [.ref (x), .ref (y)] (fun H => fp_SB G x vl cap n ml tx H ∧ fp_ST G y q m ty H) (fun q => (g_s G).heap.size ≤ q ∧ (q = x ∨ q = vl)) (fun H v H1 => ∃ (vl2 : Nat), ∃ (cap2 : Nat), v = some (.ref (x)) ∧ (vl2 = vl ∨ H.size ≤ vl2) ∧ fp_SB G x vl2 cap2 (n + m) ml (sb_cat tx n ty) H1) := by
  refine fp_M.intro (by decide) (Nat.le_of_ble_eq_true rfl) ?_
  intro pg en s mi ag bl mt cd rR qQ ls X hx hb hr hlk hnm hR hQ hB hM hl
  have hS : va_S (fA (fun q => (g_s G).heap.size ≤ q ∧ (q = x ∨ q = vl)) s.heap.size) s.heap s.heap [] := va_S.rf
  generalize ([] : List Loc) = locs at hS ⊢
  have hb0 := hB.1
  have hAb : ∀ q, (fun q => (g_s G).heap.size ≤ q ∧ (q = x ∨ q = vl)) q → (g_s G).heap.size ≤ q := fun q h => h.1
  obtain ⟨h_sb, h_st⟩ := hM
  have hsz0 := hS.1
  have lt_1 := h_sb.1.lt
  have lt_2 := h_sb.2.2.1.1
  have lt_3 := h_st.1.2
  have lt_4 := h_st.2.2.1
  have hsb0 := h_sb.2.2
  have hty := h_st.2.2.2.1
  refine lv_aload_n hx hb dJ5_append_0 rfl (lv_at hl 1 rfl) ?_
  refine lv_ifnonnull hx hb dJ5_append_1 (tgt := 9) (by decide) ?_
  refine lv_aload_n hx hb dJ5_append_9 rfl (lv_at hl 1 rfl) ?_
  refine r_callVR (cells1 := 0) (slots1 := 0) X hR (c_J7_length G y q m ty) q657 q658 q659 q98 q660 ⟨rfl, pd_J7_length⟩ ⟨Nat.le_of_ble_eq_true rfl, Nat.le_of_ble_eq_true rfl⟩ rfl rfl (Nat.le_of_ble_eq_true rfl) (Nat.le_of_ble_eq_true rfl) (fp_SO.recv X (h_st.1) hB hAb hS) rfl (Nat.le_of_ble_eq_true rfl) hl.1 dJ5_append_10 (hB.of hS hAb) h_st hS (fun _ h => h.elim) (fun v H_8 locs hp_5 hz_6 hk_7 hS => ?_)
  obtain ⟨rfl, rfl⟩ := hp_5
  refine r_stk (st2 := [.int (iI ((m : Nat) : Int))]) rfl ?_
  refine lv_istore_n (lv' := [(2, .int (iI ((m : Nat) : Int))), (0, .ref (x)), (1, .ref (y))]) hx hb dJ5_append_13 rfl hl (by decide) rfl (fun ls hl => ?_)
  refine lv_aload_n hx hb dJ5_append_14 rfl (lv_at hl 1 rfl) ?_
  refine lv_aload_n hx hb dJ5_append_15 rfl (lv_at hl 1 rfl) ?_
  refine r_get X h_sb.1 rfl in_J6 3 (by decide) q231 (Or.inl rfl) (v := .int (iI ((n : Nat) : Int))) rfl dJ5_append_16 ?_
  refine lv_iload_n hx hb dJ5_append_19 rfl (lv_at hl 0 rfl) ?_
  refine r_iaddN hx hb dJ5_append_20 ?_
  refine r_callVP (cells1 := 1) (slots1 := 202) X hR (c_J5_ensureCapacityInternal G x vl cap n ml tx (n + m) (by omega)) q593 q595 q594 q2522 q96 q596 ⟨by decide, by decide, rfl⟩ ⟨Nat.le_of_ble_eq_true rfl, Nat.le_of_ble_eq_true rfl⟩ rfl rfl (Nat.le_of_ble_eq_true rfl) (Nat.le_of_ble_eq_true rfl) h_sb.1 rfl rfl (Nat.le_of_ble_eq_true rfl) hl.1 dJ5_append_21 (hB.of hS hAb) h_sb hS (fun q h => by have h2 : (g_s G).heap.size ≤ q ∧ (q = x) := h; show ((g_s G).heap.size ≤ q ∧ (q = x ∨ q = vl)) ∨ s.heap.size ≤ q; omega) (fun v H_12 locs hp_9 hz_10 hk_11 hS => ?_)
  obtain ⟨vl2_13, cap2_14, rfl, hv2_15, hm2_16, hE_17⟩ := hp_9
  have hz_18 := hS.1
  have lt_19 := hE_17.1.lt
  have lt_20 := hE_17.2.2.1.1
  refine r_stk (st2 := []) rfl ?_
  obtain ⟨hso_s_21, ⟨f_s_21, hsr_s_21, hsf_s_21, hsw_s_21⟩, hsb_s_21, hsx_s_21, hsv_s_21⟩ := id hE_17
  have lt_22 := hsr_s_21.lt
  have hxv_s_21 : fp_dif x vl2_13 := fp_SB.ne X.2.2.2.2.2 hE_17
  refine lv_aload_n hx hb dJ5_append_24 rfl (lv_at hl 1 rfl) ?_
  refine lv_aload_n hx hb dJ5_append_25 rfl (lv_at hl 1 rfl) ?_
  refine r_get X hso_s_21 rfl in_J6 3 (by decide) q231 (Or.inl rfl) (v := .int (iI ((n : Nat) : Int))) rfl dJ5_append_26 ?_
  refine lv_aload_n hx hb dJ5_append_29 rfl (lv_at hl 2 rfl) ?_
  have hE_23 := fp_ST.mv h_st (fp_keptS (by omega) hS (by omega)) (fp_keptS (by omega) hS (by omega))
  refine r_callVP (cells1 := 1) (slots1 := 202) X hR (c_J5_putStringAt G x vl2_13 cap2_14 n ml f_s_21 y q m ty n (by omega) (by omega) (by omega)) q666 q668 q667 q2524 q96 q669 ⟨by decide, by decide, rfl⟩ ⟨Nat.le_of_ble_eq_true rfl, Nat.le_of_ble_eq_true rfl⟩ rfl rfl (Nat.le_of_ble_eq_true rfl) (Nat.le_of_ble_eq_true rfl) hso_s_21 rfl rfl (Nat.le_of_ble_eq_true rfl) hl.1 dJ5_append_30 (hB.of hS hAb) ⟨hso_s_21, hsr_s_21, hE_23⟩ hS (fun q h => by have h2 : (g_s G).heap.size ≤ q ∧ (q = vl2_13) := h; show ((g_s G).heap.size ≤ q ∧ (q = x ∨ q = vl)) ∨ s.heap.size ≤ q; omega) (fun v H_27 locs hp_24 hz_25 hk_26 hS => ?_)
  obtain ⟨rfl, hE_28⟩ := hp_24
  have hz_29 := hS.1
  have lt_30 := hE_28.lt
  refine r_stk (st2 := []) rfl ?_
  refine lv_aload_n hx hb dJ5_append_33 rfl (lv_at hl 1 rfl) ?_
  refine lv_dup hx hb dJ5_append_34 rfl ?_
  have hE_32 := fp_At.kept hso_s_21 (hk_26 _ (by omega) (fun h => (hxv_s_21) h.2))
  refine r_get X hE_32 rfl in_J6 3 (by decide) q231 (Or.inl rfl) (v := .int (iI ((n : Nat) : Int))) rfl dJ5_append_35 ?_
  refine lv_iload_n hx hb dJ5_append_38 rfl (lv_at hl 0 rfl) ?_
  refine r_iaddN hx hb dJ5_append_39 ?_
  refine r_put X hE_32 hS (Or.inl ⟨by omega, Or.inl rfl⟩) rfl in_J6 tyJ6_ok nmJ6 3 (by decide) q231 (Or.inl rfl) rfl rfl rfl (show 3 < 4 by decide) dJ5_append_40 (fun H_36 locs hE_33 hz_34 hq_35 hS => ?_)
  have hz_37 := hS.1
  refine lv_aload_n hx hb dJ5_append_43 rfl (lv_at hl 1 rfl) ?_
  refine r_aret hx hb hr hlk hQ hS (Nat.le_of_ble_eq_true rfl) (Nat.le_of_ble_eq_true rfl) dJ5_append_44 (Or.inl ⟨_, rfl⟩) (Or.inr ⟨_, rfl⟩) ?_
  have hE_39 := fp_At.kept hE_28 (hq_35 _ (Ne.symm (hxv_s_21)))
  exact ⟨vl2_13, cap2_14, rfl, (by omega), (⟨hE_33, ⟨_, hE_39, fp_cta hsf_s_21 hty, fp_ctu hsw_s_21 hty⟩, ⟨hE_39.lt, by omega, by omega, by omega, by omega⟩, hsx_s_21, hsv_s_21⟩)⟩
set_option maxHeartbeats 4000000 in
theorem c_J6_append (G : fp_G) (x : Nat) (vl : Nat) (cap : Nat) (n : Nat) (ml : Nat) (tx : Nat → Nat) (y : Nat) (q : Nat) (m : Nat) (ty : Nat → Nat) (hn : n + m ≤ 99) (hyb : y < (g_s G).heap.size ∧ q < (g_s G).heap.size) : fp_M G yJ6_append cJ6_append 2 (some (.object "java/lang/StringBuilder")) 6 132 1 202 [.ref (x), .ref (y)] (fun H => fp_SB G x vl cap n ml tx H ∧ fp_ST G y q m ty H) (fun q => (g_s G).heap.size ≤ q ∧ (q = x ∨ q = vl)) (fun H v H1 => ∃ (vl2 : Nat), ∃ (cap2 : Nat), v = some (.ref (x)) ∧ (vl2 = vl ∨ H.size ≤ vl2) ∧ fp_SB G x vl2 cap2 (n + m) ml (sb_cat tx n ty) H1) := by
  refine fp_M.intro (by decide) (Nat.le_of_ble_eq_true rfl) ?_
  intro pg en s mi ag bl mt cd rR qQ ls X hx hb hr hlk hnm hR hQ hB hM hl
  have hS : va_S (fA (fun q => (g_s G).heap.size ≤ q ∧ (q = x ∨ q = vl)) s.heap.size) s.heap s.heap [] := va_S.rf
  generalize ([] : List Loc) = locs at hS ⊢
  have hb0 := hB.1
  have hAb : ∀ q, (fun q => (g_s G).heap.size ≤ q ∧ (q = x ∨ q = vl)) q → (g_s G).heap.size ≤ q := fun q h => h.1
  obtain ⟨h_sb, h_st⟩ := hM
  have hsz0 := hS.1
  have lt_1 := h_sb.1.lt
  have lt_2 := h_sb.2.2.1.1
  have lt_3 := h_st.1.2
  have lt_4 := h_st.2.2.1
  refine lv_aload_n hx hb dJ6_append_0 rfl (lv_at hl 0 rfl) ?_
  refine lv_aload_n hx hb dJ6_append_1 rfl (lv_at hl 1 rfl) ?_
  refine r_callP (cells1 := 1) (slots1 := 202) X hR (c_J5_append G x vl cap n ml tx y q m ty hn hyb) q586 q2520 q240 q587 q96 q588 ⟨by decide, rfl⟩ ⟨Nat.le_of_ble_eq_true rfl, Nat.le_of_ble_eq_true rfl⟩ rfl rfl (Nat.le_of_ble_eq_true rfl) (Nat.le_of_ble_eq_true rfl) h_sb.1 rfl rfl (Nat.le_of_ble_eq_true rfl) hl.1 dJ6_append_2 (hB.of hS hAb) ⟨h_sb, h_st⟩ hS (fun q h => by have h2 : (g_s G).heap.size ≤ q ∧ (q = x ∨ q = vl) := h; show ((g_s G).heap.size ≤ q ∧ (q = x ∨ q = vl)) ∨ s.heap.size ≤ q; omega) (fun v H_8 locs hp_5 hz_6 hk_7 hS => ?_)
  obtain ⟨vl2_9, cap2_10, rfl, hv2_11, hE_12⟩ := hp_5
  have hz_13 := hS.1
  have lt_14 := hE_12.1.lt
  have lt_15 := hE_12.2.2.1.1
  refine r_stk (st2 := [.ref (x)]) rfl ?_
  refine lv_pop hx hb dJ6_append_5 rfl ?_
  refine lv_aload_n hx hb dJ6_append_6 rfl (lv_at hl 0 rfl) ?_
  refine r_aret hx hb hr hlk hQ hS (Nat.le_of_ble_eq_true rfl) (Nat.le_of_ble_eq_true rfl) dJ6_append_7 (Or.inl ⟨_, rfl⟩) (Or.inr ⟨_, rfl⟩) ?_
  exact ⟨vl2_9, cap2_10, rfl, (by omega), hE_12⟩
set_option maxHeartbeats 4000000 in
theorem c_J5_getValue (G : fp_G) (x : Nat) (vl : Nat) (cap : Nat) (n : Nat) (ml : Nat) (tx : Nat → Nat) : fp_M G yJ5_getValue cJ5_getValue 1 (some (.array .byte)) 1 12 0 0 [.ref (x)] (fun H => fp_SB G x vl cap n ml tx H) fp_no (fun H v H1 => v = some (.ref (vl)) ∧ H = H1) := by
  refine fp_M.intro (by decide) (Nat.le_of_ble_eq_true rfl) ?_
  intro pg en s mi ag bl mt cd rR qQ ls X hx hb hr hlk hnm hR hQ hB hM hl
  have hS : va_S (fA fp_no s.heap.size) s.heap s.heap [] := va_S.rf
  generalize ([] : List Loc) = locs at hS ⊢
  have hb0 := hB.1
  have h_sb := hM
  have hsz0 := hS.1
  have lt_1 := h_sb.1.lt
  have lt_2 := h_sb.2.2.1.1
  refine lv_aload_n hx hb dJ5_getValue_0 rfl (lv_at hl 0 rfl) ?_
  refine r_get X h_sb.1 rfl in_J6 0 (by decide) q227 (Or.inl rfl) (v := .ref (vl)) rfl dJ5_getValue_1 ?_
  refine r_aret hx hb hr hlk hQ hS (Nat.le_of_ble_eq_true rfl) (Nat.le_of_ble_eq_true rfl) dJ5_getValue_4 (Or.inr ⟨_, rfl⟩) (Or.inr ⟨_, rfl⟩) ?_
  exact ⟨rfl, rfl⟩
set_option maxHeartbeats 4000000 in
theorem c_J7_init_2 (G : fp_G) (y : Nat) (x : Nat) (vl : Nat) (cap : Nat) (n : Nat) (ml : Nat) (tx : Nat → Nat) (hyb : (g_s G).heap.size ≤ y) (hyx : y ≠ x ∧ y ≠ vl) : fp_M G yJ7_init_2 cJ7_init_2 5 none 4 106 1 n [.ref (y), .ref (x), .null] (fun H => fp_At G H y (eO 12 [.null, .int (iI ((0 : Nat) : Int)), .int (iI ((0 : Nat) : Int)), .int (iI ((0 : Nat) : Int))]) ∧ fp_SB G x vl cap n ml tx H) (fun q => (g_s G).heap.size ≤ q ∧ (q = y)) (fun H v H1 => ∃ (q : Nat), v = none ∧ (H.size ≤ q) ∧ fp_HS G y q n tx H1) := by
  refine fp_M.intro (by decide) (Nat.le_of_ble_eq_true rfl) ?_
  intro pg en s mi ag bl mt cd rR qQ ls X hx hb hr hlk hnm hR hQ hB hM hl
  have hS : va_S (fA (fun q => (g_s G).heap.size ≤ q ∧ (q = y)) s.heap.size) s.heap s.heap [] := va_S.rf
  generalize ([] : List Loc) = locs at hS ⊢
  have hb0 := hB.1
  have hAb : ∀ q, (fun q => (g_s G).heap.size ≤ q ∧ (q = y)) q → (g_s G).heap.size ≤ q := fun q h => h.1
  obtain ⟨h_o, h_sb⟩ := hM
  have hsz0 := hS.1
  have lt_1 := h_o.lt
  have lt_2 := h_sb.1.lt
  have lt_3 := h_sb.2.2.1.1
  obtain ⟨-, ⟨f, hsr, hsf, hsw⟩, hsb, hsx, hsv⟩ := id h_sb
  have lt_4 := hsr.lt
  refine lv_aload_n hx hb dJ7_init_2_0 rfl (lv_at hl 0 rfl) ?_
  refine r_objInit X hR q738 q132 q133 hl.1 (by decide) (Nat.le_of_ble_eq_true rfl) dJ7_init_2_1 ?_
  refine lv_aload_n hx hb dJ7_init_2_4 rfl (lv_at hl 1 rfl) ?_
  refine r_callU (x := ⟨"java/lang/AbstractStringBuilder", "getValue", "()[B"⟩) (cells1 := 0) (slots1 := 0) X hR (c_J5_getValue G x vl cap n ml tx) q739 q741 (Or.inr ⟨q740, _, _, _, q743⟩) q742 q740 q96 q743 ⟨by decide, by decide, rfl⟩ ⟨Nat.le_of_ble_eq_true rfl, Nat.le_of_ble_eq_true rfl⟩ rfl rfl (Nat.le_of_ble_eq_true rfl) (by omega) h_sb.1 rfl rfl (Nat.le_of_ble_eq_true rfl) hl.1 dJ7_init_2_5 (hB.of hS hAb) h_sb hS (fun _ h => h.elim) (fun v H_8 locs hp_5 hz_6 hk_7 hS => ?_)
  obtain ⟨rfl, rfl⟩ := hp_5
  refine r_stk (st2 := [.ref (vl)]) rfl ?_
  refine lv_astore_n (lv' := [(3, .ref (vl)), (0, .ref (y)), (1, .ref (x)), (2, .null)]) hx hb dJ7_init_2_8 rfl hl (by decide) rfl (fun ls hl => ?_)
  refine lv_aload_n hx hb dJ7_init_2_9 rfl (lv_at hl 2 rfl) ?_
  refine r_callU (x := ⟨"java/lang/AbstractStringBuilder", "length", "()I"⟩) (cells1 := 0) (slots1 := 0) X hR (c_J6_length G x vl cap n ml tx) q744 q746 (Or.inr ⟨q745, _, _, _, q751⟩) q747 q748 q97 q749 ⟨by decide, by decide, rfl⟩ ⟨Nat.le_of_ble_eq_true rfl, Nat.le_of_ble_eq_true rfl⟩ rfl rfl (Nat.le_of_ble_eq_true rfl) (by omega) h_sb.1 rfl rfl (Nat.le_of_ble_eq_true rfl) hl.1 dJ7_init_2_10 (hB.of hS hAb) h_sb hS (fun _ h => h.elim) (fun v H_12 locs hp_9 hz_10 hk_11 hS => ?_)
  obtain ⟨rfl, rfl⟩ := hp_9
  refine r_stk (st2 := [.int (iI ((n : Nat) : Int))]) rfl ?_
  refine lv_istore (lv' := [(4, .int (iI ((n : Nat) : Int))), (3, .ref (vl)), (0, .ref (y)), (1, .ref (x)), (2, .null)]) hx hb dJ7_init_2_13 hl (by decide) rfl (fun ls hl => ?_)
  refine lv_aload_n hx hb dJ7_init_2_15 rfl (lv_at hl 3 rfl) ?_
  refine r_callU (x := ⟨"java/lang/AbstractStringBuilder", "isLatin1", "()Z"⟩) (cells1 := 0) (slots1 := 0) X hR (c_J5_isLatin1 G x vl cap n ml tx) q752 q628 (Or.inr ⟨q627, _, _, _, q630⟩) q629 q627 q96 q630 ⟨by decide, by decide, rfl⟩ ⟨Nat.le_of_ble_eq_true rfl, Nat.le_of_ble_eq_true rfl⟩ rfl rfl (Nat.le_of_ble_eq_true rfl) (by omega) h_sb.1 rfl rfl (Nat.le_of_ble_eq_true rfl) hl.1 dJ7_init_2_16 (hB.of hS hAb) h_sb hS (fun _ h => h.elim) (fun v H_16 locs hp_13 hz_14 hk_15 hS => ?_)
  obtain ⟨rfl, rfl⟩ := hp_13
  refine r_stk (st2 := [.int (iI (bI (true)))]) rfl ?_
  refine r_ifeqB (tgt := 41) hx hb dJ7_init_2_19 (by decide) (fun c19 => ?_) (fun c19 => ?_)
  · exact absurd c19 (by decide)
  · skip
    refine lv_aload_n hx hb dJ7_init_2_22 rfl (lv_at hl 2 rfl) ?_
    refine lv_iconst (v := (iI ((0 : Nat) : Int))) hx hb dJ7_init_2_23 rfl ?_
    refine r_putF X h_o hS (Or.inl ⟨by omega, rfl⟩) rfl in_J7 tyJ7_ok nmJ7 1 (by decide) q805 (Or.inl rfl) rfl hnm rfl rfl rfl (show 1 < 4 by decide) dJ7_init_2_24 (fun H_20 locs hE_17 hz_18 hq_19 hS => ?_)
    have hz_21 := hS.1
    refine lv_aload_n hx hb dJ7_init_2_27 rfl (lv_at hl 2 rfl) ?_
    refine lv_aload_n hx hb dJ7_init_2_28 rfl (lv_at hl 1 rfl) ?_
    refine lv_iconst (v := (iI ((0 : Nat) : Int))) hx hb dJ7_init_2_29 rfl ?_
    refine lv_iload hx hb dJ7_init_2_30 (lv_at hl 0 rfl) ?_
    have hE_22 := fp_At.kept hsr (fp_keptS (by omega) hS (by omega))
    refine r_callS (cells1 := 1) (slots1 := (0 + (n - 0))) X hR (c_J17_copyOfRange G vl f cap 0 n (by omega) (by omega) hsw) q753 q754 q113 q755 pd_J17_copyOfRange ⟨Nat.le_of_ble_eq_true rfl, Nat.le_of_ble_eq_true rfl⟩ rfl rfl (Nat.le_of_ble_eq_true rfl) (by omega) rfl (Nat.le_of_ble_eq_true rfl) hl.1 dJ7_init_2_32 (hB.of hS hAb) hE_22 hS (fun _ h => h.elim) (fun v H_26 locs hp_23 hz_24 hk_25 hS => ?_)
    obtain ⟨q_27, rfl, hq_28, hE_29⟩ := hp_23
    have hz_30 := hS.1
    have lt_32 := hE_29.lt
    refine r_stk (st2 := [.ref (q_27), .ref (y)]) rfl ?_
    have hE_34 := fp_At.kept hE_17 (hk_25 _ (by omega) (fun z => z))
    refine r_putF X hE_34 hS (Or.inl ⟨by omega, rfl⟩) rfl in_J7 tyJ7_ok nmJ7 0 (by decide) q804 (Or.inl rfl) rfl hnm rfl rfl rfl (show 0 < 4 by decide) dJ7_init_2_35 (fun H_38 locs hE_35 hz_36 hq_37 hS => ?_)
    have hz_39 := hS.1
    refine lv_goto (tgt := 97) hx hb dJ7_init_2_38 (by decide) ?_
    refine r_vret hx hb hr hlk hQ hS (Nat.le_of_ble_eq_true rfl) (by omega) dJ7_init_2_97 ?_
    have hE_41 := fp_At.kept hE_29 (hq_37 _ (by omega))
    exact ⟨q_27, rfl, (by omega), (⟨⟨_, _, hE_35, Or.inr ⟨rfl, rfl⟩⟩, fp_At.cB hE_41 (fun j hj => by rw [Nat.zero_add]; exact (hsf j hj).1), ⟨fun i hi => (hsf i hi).2, by omega⟩, hyb, by omega⟩)⟩
set_option maxHeartbeats 4000000 in
theorem c_J7_init (G : fp_G) (y : Nat) (x : Nat) (vl : Nat) (cap : Nat) (n : Nat) (ml : Nat) (tx : Nat → Nat) (hyb : (g_s G).heap.size ≤ y) (hyx : y ≠ x ∧ y ≠ vl) : fp_M G yJ7_init cJ7_init 2 none 5 130 1 n [.ref (y), .ref (x)] (fun H => fp_At G H y (eO 12 [.null, .int (iI ((0 : Nat) : Int)), .int (iI ((0 : Nat) : Int)), .int (iI ((0 : Nat) : Int))]) ∧ fp_SB G x vl cap n ml tx H) (fun q => (g_s G).heap.size ≤ q ∧ (q = y)) (fun H v H1 => ∃ (q : Nat), v = none ∧ (H.size ≤ q) ∧ fp_HS G y q n tx H1) := by
  refine fp_M.intro (by decide) (Nat.le_of_ble_eq_true rfl) ?_
  intro pg en s mi ag bl mt cd rR qQ ls X hx hb hr hlk hnm hR hQ hB hM hl
  have hS : va_S (fA (fun q => (g_s G).heap.size ≤ q ∧ (q = y)) s.heap.size) s.heap s.heap [] := va_S.rf
  generalize ([] : List Loc) = locs at hS ⊢
  have hb0 := hB.1
  have hAb : ∀ q, (fun q => (g_s G).heap.size ≤ q ∧ (q = y)) q → (g_s G).heap.size ≤ q := fun q h => h.1
  obtain ⟨h_o, h_sb⟩ := hM
  have hsz0 := hS.1
  have lt_1 := h_o.lt
  have lt_2 := h_sb.1.lt
  have lt_3 := h_sb.2.2.1.1
  refine lv_aload_n hx hb dJ7_init_0 rfl (lv_at hl 0 rfl) ?_
  refine lv_aload_n hx hb dJ7_init_1 rfl (lv_at hl 1 rfl) ?_
  refine lv_null hx hb dJ7_init_2 ?_
  refine r_callI (cells1 := 1) (slots1 := (0 + n)) X hR (c_J7_init_2 G y x vl cap n ml tx hyb hyx) q735 q736 q98 q737 rfl ⟨by decide, by decide, rfl⟩ ⟨Nat.le_of_ble_eq_true rfl, Nat.le_of_ble_eq_true rfl⟩ rfl rfl (Nat.le_of_ble_eq_true rfl) (by omega) rfl (Nat.le_of_ble_eq_true rfl) hl.1 dJ7_init_3 (hB.of hS hAb) ⟨h_o, h_sb⟩ hS (fun q h => by have h2 : (g_s G).heap.size ≤ q ∧ (q = y) := h; show ((g_s G).heap.size ≤ q ∧ (q = y)) ∨ s.heap.size ≤ q; omega) (fun v H_7 locs hp_4 hz_5 hk_6 hS => ?_)
  obtain ⟨q_8, rfl, hq_9, hE_10⟩ := hp_4
  have hz_11 := hS.1
  have lt_13 := hE_10.lt
  have lt_14 := hE_10.2.1.lt
  refine r_stk (st2 := []) rfl ?_
  refine r_vret hx hb hr hlk hQ hS (Nat.le_of_ble_eq_true rfl) (by omega) dJ7_init_6 ?_
  exact ⟨q_8, rfl, (by omega), hE_10⟩
set_option maxHeartbeats 4000000 in
theorem c_J6_toString (G : fp_G) (x : Nat) (vl : Nat) (cap : Nat) (n : Nat) (ml : Nat) (tx : Nat → Nat) : fp_M G yJ6_toString cJ6_toString 1 (some (.object "java/lang/String")) 6 151 2 (4 + n) [.ref (x)] (fun H => fp_SB G x vl cap n ml tx H) fp_no (fun H v H1 => ∃ (y : Nat), ∃ (q : Nat), v = some (.ref (y)) ∧ (H.size ≤ y ∧ H.size ≤ q) ∧ fp_HS G y q n tx H1) := by
  refine fp_M.intro (by decide) (Nat.le_of_ble_eq_true rfl) ?_
  intro pg en s mi ag bl mt cd rR qQ ls X hx hb hr hlk hnm hR hQ hB hM hl
  have hS : va_S (fA fp_no s.heap.size) s.heap s.heap [] := va_S.rf
  generalize ([] : List Loc) = locs at hS ⊢
  have hb0 := hB.1
  have h_sb := hM
  have hsz0 := hS.1
  have lt_1 := h_sb.1.lt
  have lt_2 := h_sb.2.2.1.1
  have hsb0 := h_sb.2.2
  refine r_new (ci := 12) (fs := [.null, .int (iI ((0 : Nat) : Int)), .int (iI ((0 : Nat) : Int)), .int (iI ((0 : Nat) : Int))]) X hR hS rfl in_J7 tyJ7_ok q730 q731 q98 (by intro j hj; rcases (show j = 0 ∨ j = 1 ∨ j = 2 ∨ j = 3 by omega) with rfl | rfl | rfl | rfl <;> rfl) (Nat.le_of_ble_eq_true rfl) (by omega) dJ6_toString_0 (fun yn H_3 hq_7 hE_4 hX_5 hz_6 hS => ?_)
  have hz_8 := hS.1
  have lt_9 := hE_4.lt
  refine lv_dup hx hb dJ6_toString_3 rfl ?_
  refine lv_aload_n hx hb dJ6_toString_4 rfl (lv_at hl 0 rfl) ?_
  have hE_10 := h_sb.ext (fp_X.ofS hS)
  refine r_callI (cells1 := 2) (slots1 := (4 + n)) X hR (c_J7_init G yn x vl cap n ml tx (by omega) (by omega)) q732 q733 q98 q734 rfl ⟨by decide, by decide, rfl⟩ ⟨Nat.le_of_ble_eq_true rfl, Nat.le_of_ble_eq_true rfl⟩ rfl rfl (Nat.le_of_ble_eq_true rfl) (by omega) rfl (Nat.le_of_ble_eq_true rfl) hl.1 dJ6_toString_5 (hB.of hS fp_no.base) ⟨hE_4, hE_10⟩ hS (fun q h => Or.inr (by have h2 : (g_s G).heap.size ≤ q ∧ (q = yn) := h; omega)) (fun v H_14 locs hp_11 hz_12 hk_13 hS => ?_)
  obtain ⟨q_15, rfl, hq_16, hE_17⟩ := hp_11
  have hz_18 := hS.1
  have lt_20 := hE_17.lt
  have lt_21 := hE_17.2.1.lt
  refine r_stk (st2 := [.ref (yn)]) rfl ?_
  refine r_aret hx hb hr hlk hQ hS (Nat.le_of_ble_eq_true rfl) (by omega) dJ6_toString_8 (Or.inl ⟨_, rfl⟩) (Or.inr ⟨_, rfl⟩) ?_
  exact ⟨yn, q_15, rfl, (by omega), hE_17⟩
