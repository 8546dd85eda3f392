/-! THE PLANNER: text, undo, saved copy -/
set_option maxRecDepth 100000
set_option maxHeartbeats 4000000 in
theorem c_X1_append (G : fp_G) (x : Nat) (u : Nat) (sv : Value) (hi : Nat) (ip : Nat) (ln : Nat) (ex : Bool) (er : Int) (fa : Int) (iv : Nat) (ic : Nat) (n : Nat) (ml : Nat) (tx : Nat → Nat) (zc : Int) (hzc : 0 ≤ zc ∧ zc < 65536) (hn60 : n ≤ 60) : fp_MX G yX1_append cX1_append 2 (some .int) 7 152 3 214 [.ref (x), .int (iI (zc))] (fun H => fp_At G H x (eO 1 [.ref (u), sv, .ref (hi), .ref (ip), .ref (ln), .int (iI (bI (ex))), .int (iI (er)), .int (iI (fa))]) ∧ fp_SB G ip iv ic n ml tx H) (fun q => (g_s G).heap.size ≤ q ∧ (q = ip ∨ q = iv)) (fun H v H1 => ∃ (iv2 : Nat), ∃ (ic2 : Nat), v = some (.int (iI ((n + 1 : Nat) : Int))) ∧ ((32 ≤ zc ∧ zc ≤ 126) ∧ n < 60) ∧ (iv2 = iv ∨ H.size ≤ iv2) ∧ fp_SB G ip iv2 ic2 (n + 1) ml (va_up tx n zc.toNat) H1) (fun H E H1 => (E = "java/lang/IllegalArgumentException" ∧ ((¬ (32 ≤ zc ∧ zc ≤ 126)) ∧ fp_SB G ip iv ic n ml tx H1)) ∨ (E = "java/lang/IllegalStateException" ∧ ((32 ≤ zc ∧ zc ≤ 126) ∧ (n = 60) ∧ fp_SB G ip iv ic n ml tx H1))) := by
  refine fp_MX.intro (by decide) (Nat.le_of_ble_eq_true rfl) ?_
  intro pg en s mi ag bl mt cd rR qQ ls X hx hb hr hlk hnm hR hQ hT hB hM hl
  have hS : va_S (fA (fun q => (g_s G).heap.size ≤ q ∧ (q = ip ∨ q = iv)) s.heap.size) s.heap s.heap [] := va_S.rf
  generalize ([] : List Loc) = locs at hS ⊢
  have hb0 := hB.1
  have hAb : ∀ q, (fun q => (g_s G).heap.size ≤ q ∧ (q = ip ∨ q = iv)) q → (g_s G).heap.size ≤ q := fun q h => h.1
  obtain ⟨h_pob, h_sb⟩ := hM
  have hsz0 := hS.1
  have lt_1 := h_pob.lt
  have lt_2 := h_sb.1.lt
  have lt_3 := h_sb.2.2.1.1
  obtain ⟨hso, ⟨fsb, hsr, -⟩, hsw9, hsb1, hsb2⟩ := id h_sb
  have hne_4 : fp_dif x ip := fp_neOO X.2.2.2.2.2 (i := 1) (j := 11) rfl rfl (by decide) h_pob hso
  have hne_5 : fp_dif x iv := fp_neOA X.2.2.2.2.2 (i := 1) (t := 2) rfl rfl h_pob hsr
  have hne_6 : fp_dif ip iv := fp_neOA X.2.2.2.2.2 (i := 11) (t := 2) rfl rfl hso hsr
  refine lv_iload_n hx hb dX1_append_0 rfl (lv_at hl 1 rfl) ?_
  refine lv_bipush (v := (iI ((32 : Nat) : Int))) hx hb dX1_append_1 rfl ?_
  refine lv_bipush (v := (iI ((126 : Nat) : Int))) hx hb dX1_append_3 rfl ?_
  refine r_callS (cells1 := 0) (slots1 := 0) X hR (c_X1_isBetween G (zc) 32 126 (⟨by omega, by omega⟩) (⟨by omega, by omega⟩) (⟨by omega, by omega⟩)) q450 q404 q88 q405 pd_X1_isBetween ⟨Nat.le_of_ble_eq_true rfl, Nat.le_of_ble_eq_true rfl⟩ rfl rfl (Nat.le_of_ble_eq_true rfl) (Nat.le_of_ble_eq_true rfl) rfl (Nat.le_of_ble_eq_true rfl) hl.1 dX1_append_5 (hB.of hS hAb) trivial hS (fun _ h => h.elim) (fun v H_10 locs hp_7 hz_8 hk_9 hS => ?_)
  obtain ⟨rfl, rfl⟩ := hp_7
  refine r_stk (st2 := [.int (iI (bI (decide (32 ≤ (zc) ∧ (zc) ≤ 126))))]) rfl ?_
  refine x_callS (cells1 := 1) (slots1 := 6) X hR (c_X1_checkArgument G (decide (32 ≤ (zc) ∧ (zc) ≤ 126))) q1129 q1130 q88 q1131 pd_X1_checkArgument ⟨Nat.le_of_ble_eq_true rfl, Nat.le_of_ble_eq_true rfl⟩ rfl rfl (Nat.le_of_ble_eq_true rfl) (Nat.le_of_ble_eq_true rfl) rfl (Nat.le_of_ble_eq_true rfl) hl.1 dX1_append_8 (hB.of hS hAb) trivial hS (fun _ h => h.elim) (fun v H_14 locs hp_11 hz_12 hk_13 hS => ?_) (fun Ex qx cx H_14 locs hp_11 hz_12 hk_13 hS hcx hvx hlx => ?_)
  · skip
    obtain ⟨rfl, rfl, hbt_15⟩ := hp_11
    refine r_stk (st2 := []) rfl ?_
    have hck9 := of_decide_eq_true hbt_15
    obtain ⟨cn, rfl⟩ : ∃ cn : Nat, zc = ((cn : Nat) : Int) := ⟨zc.toNat, by omega⟩
    refine lv_aload_n hx hb dX1_append_11 rfl (lv_at hl 0 rfl) ?_
    refine r_get X h_pob rfl in_X1 3 (by decide) q245 (Or.inl rfl) (v := .ref (ip)) rfl dX1_append_12 ?_
    refine r_callV (cells1 := 1) (slots1 := 6) X hR (c_J6_length G ip iv ic n ml tx) q1079 q748 q2529 q97 q749 ⟨rfl, pd_J6_length⟩ ⟨Nat.le_of_ble_eq_true rfl, Nat.le_of_ble_eq_true rfl⟩ rfl rfl (Nat.le_of_ble_eq_true rfl) (Nat.le_of_ble_eq_true rfl) h_sb.1 rfl rfl (Nat.le_of_ble_eq_true rfl) hl.1 dX1_append_15 (hB.of hS hAb) h_sb hS (fun _ h => h.elim) (fun v H_19 locs hp_16 hz_17 hk_18 hS => ?_)
    obtain ⟨rfl, rfl⟩ := hp_16
    refine r_stk (st2 := [.int (iI ((n : Nat) : Int))]) rfl ?_
    refine lv_bipush (v := (iI ((60 : Nat) : Int))) hx hb dX1_append_18 rfl ?_
    refine r_icmp_ge (tgt := 27) hx hb ⟨by omega, by omega⟩ (by decide) dX1_append_20 (by decide) (fun c20 => ?_) (fun c20 => ?_)
    · skip
      refine lv_iconst (v := (iI ((0 : Nat) : Int))) hx hb dX1_append_27 rfl ?_
      refine x_callS (cells1 := 2) (slots1 := 12) X hR (c_X1_checkState G false) q1234 q1235 q88 q1236 pd_X1_checkState ⟨Nat.le_of_ble_eq_true rfl, Nat.le_of_ble_eq_true rfl⟩ rfl rfl (Nat.le_of_ble_eq_true rfl) (Nat.le_of_ble_eq_true rfl) rfl (Nat.le_of_ble_eq_true rfl) hl.1 dX1_append_28 (hB.of hS hAb) trivial hS (fun _ h => h.elim) (fun v H_23 locs hp_20 hz_21 hk_22 hS => ?_) (fun Ex qx cx H_23 locs hp_20 hz_21 hk_22 hS hcx hvx hlx => ?_)
      · skip
        obtain ⟨rfl, rfl, hbt_24⟩ := hp_20
        refine r_stk (st2 := []) rfl ?_
        cases hbt_24
      · skip
        obtain ⟨rfl, hX9, hb9⟩ := hp_20
        have hE_26 := h_sb.ext hX9
        exact x_out hT hlk hQ hS (Nat.le_of_ble_eq_true rfl) (Nat.le_of_ble_eq_true rfl) hcx hvx hlx (Or.inr ⟨rfl, by omega, by omega, hE_26⟩)
    · skip
      refine lv_iconst (v := (iI ((1 : Nat) : Int))) hx hb dX1_append_23 rfl ?_
      refine lv_goto (tgt := 28) hx hb dX1_append_24 (by decide) ?_
      refine x_callS (cells1 := 2) (slots1 := 12) X hR (c_X1_checkState G true) q1234 q1235 q88 q1236 pd_X1_checkState ⟨Nat.le_of_ble_eq_true rfl, Nat.le_of_ble_eq_true rfl⟩ rfl rfl (Nat.le_of_ble_eq_true rfl) (Nat.le_of_ble_eq_true rfl) rfl (Nat.le_of_ble_eq_true rfl) hl.1 dX1_append_28 (hB.of hS hAb) trivial hS (fun _ h => h.elim) (fun v H_30 locs hp_27 hz_28 hk_29 hS => ?_) (fun Ex qx cx H_30 locs hp_27 hz_28 hk_29 hS hcx hvx hlx => ?_)
      · skip
        obtain ⟨rfl, rfl, hbt_31⟩ := hp_27
        refine r_stk (st2 := []) rfl ?_
        refine lv_aload_n hx hb dX1_append_31 rfl (lv_at hl 0 rfl) ?_
        refine r_get X h_pob rfl in_X1 3 (by decide) q245 (Or.inl rfl) (v := .ref (ip)) rfl dX1_append_32 ?_
        refine lv_iload_n hx hb dX1_append_35 rfl (lv_at hl 1 rfl) ?_
        refine r_callV (cells1 := 3) (slots1 := 214) X hR (c_J6_append_3 G ip iv ic n ml tx cn (by omega) (by omega)) q1669 q1670 q1671 q97 q1672 ⟨rfl, pd_J6_append_3⟩ ⟨Nat.le_of_ble_eq_true rfl, Nat.le_of_ble_eq_true rfl⟩ rfl rfl (Nat.le_of_ble_eq_true rfl) (Nat.le_of_ble_eq_true rfl) h_sb.1 rfl rfl (Nat.le_of_ble_eq_true rfl) hl.1 dX1_append_36 (hB.of hS hAb) h_sb hS (fun q h => by have h2 : (g_s G).heap.size ≤ q ∧ (q = ip ∨ q = iv) := h; show ((g_s G).heap.size ≤ q ∧ (q = ip ∨ q = iv)) ∨ s.heap.size ≤ q; omega) (fun v H_35 locs hp_32 hz_33 hk_34 hS => ?_)
        obtain ⟨vl2_36, cap2_37, rfl, hv2_38, hE_39⟩ := hp_32
        have hz_40 := hS.1
        have lt_41 := hE_39.1.lt
        have lt_42 := hE_39.2.2.1.1
        refine r_stk (st2 := [.ref (ip)]) rfl ?_
        refine lv_pop hx hb dX1_append_39 rfl ?_
        refine lv_aload_n hx hb dX1_append_40 rfl (lv_at hl 0 rfl) ?_
        have hE_43 := fp_At.kept h_pob (fp_keptS (by omega) hS (fun h => (fun h => h.elim (hne_4) (hne_5)) h.2))
        refine r_get X hE_43 rfl in_X1 3 (by decide) q245 (Or.inl rfl) (v := .ref (ip)) rfl dX1_append_41 ?_
        refine r_callV (cells1 := 3) (slots1 := 214) X hR (c_J6_length G ip vl2_36 cap2_37 (n + 1) ml (va_up tx n cn)) q1079 q748 q2529 q97 q749 ⟨rfl, pd_J6_length⟩ ⟨Nat.le_of_ble_eq_true rfl, Nat.le_of_ble_eq_true rfl⟩ rfl rfl (Nat.le_of_ble_eq_true rfl) (Nat.le_of_ble_eq_true rfl) hE_39.1 rfl rfl (Nat.le_of_ble_eq_true rfl) hl.1 dX1_append_44 (hB.of hS hAb) hE_39 hS (fun _ h => h.elim) (fun v H_47 locs hp_44 hz_45 hk_46 hS => ?_)
        obtain ⟨rfl, rfl⟩ := hp_44
        refine r_stk (st2 := [.int (iI (((n + 1) : Nat) : Int))]) rfl ?_
        refine x_iret hx hb hr hlk hQ hS (Nat.le_of_ble_eq_true rfl) (Nat.le_of_ble_eq_true rfl) dX1_append_47 ?_
        exact ⟨vl2_36, cap2_37, rfl, (⟨by omega, by omega⟩), (by omega), hE_39⟩
      · skip
        obtain ⟨rfl, hX9, hb9⟩ := hp_27
        cases hb9
  · skip
    obtain ⟨rfl, hX9, hb9⟩ := hp_11
    have hE_49 := h_sb.ext hX9
    exact x_out hT hlk hQ hS (Nat.le_of_ble_eq_true rfl) (Nat.le_of_ble_eq_true rfl) hcx hvx hlx (Or.inl ⟨rfl, (of_decide_eq_false hb9), hE_49⟩)
set_option maxHeartbeats 4000000 in
theorem c_X1_undo_0 (G : fp_G) (x : Nat) (u : Nat) (sv : Value) (hi : Nat) (ip : Nat) (ln : Nat) (ex : Bool) (er : Int) (fa : Int) (el : Nat) (hd : Nat) (q : Nat → Nat) : fp_MX G yX1_undo cX1_undo 1 (some .int) 7 101 1 6 [.ref (x)] (fun H => fp_At G H x (eO 1 [.ref (u), sv, .ref (hi), .ref (ip), .ref (ln), .int (iI (bI (ex))), .int (iI (er)), .int (iI (fa))]) ∧ fp_DQ G hi el hd 0 q H) fp_no (fun H v H1 => v = some (.int (iI ((0 : Nat) : Int))) ∧ (False)) (fun H E H1 => (E = "java/lang/IllegalStateException" ∧ fp_X H H1 ∧ True)) := by
  refine fp_MX.intro (by decide) (Nat.le_of_ble_eq_true rfl) ?_
  intro pg en s mi ag bl mt cd rR qQ ls X hx hb hr hlk hnm hR hQ hT hB hM hl
  have hS : va_S (fA fp_no s.heap.size) s.heap s.heap [] := va_S.rf
  generalize ([] : List Loc) = locs at hS ⊢
  have hb0 := hB.1
  obtain ⟨h_pob, h_dq⟩ := hM
  have hsz0 := hS.1
  have lt_1 := h_pob.lt
  have lt_2 := h_dq.1.lt
  have lt_3 := h_dq.2.2.1.1
  refine lv_aload_n hx hb dX1_undo_0 rfl (lv_at hl 0 rfl) ?_
  refine r_get X h_pob rfl in_X1 2 (by decide) q244 (Or.inl rfl) (v := .ref (hi)) rfl dX1_undo_1 ?_
  refine r_callV (cells1 := 0) (slots1 := 0) X hR (c_J4_isEmpty G hi el hd 0 q) q1974 q1975 q1976 q95 q1977 ⟨rfl, pd_J4_isEmpty⟩ ⟨Nat.le_of_ble_eq_true rfl, Nat.le_of_ble_eq_true rfl⟩ rfl rfl (Nat.le_of_ble_eq_true rfl) (Nat.le_of_ble_eq_true rfl) h_dq.1 rfl rfl (Nat.le_of_ble_eq_true rfl) hl.1 dX1_undo_4 (hB.of hS fp_no.base) h_dq hS (fun _ h => h.elim) (fun v H_7 locs hp_4 hz_5 hk_6 hS => ?_)
  obtain ⟨rfl, rfl⟩ := hp_4
  refine r_stk (st2 := [.int (iI (bI (decide (0 = 0))))]) rfl ?_
  refine r_ifneB (tgt := 14) hx hb dX1_undo_7 (by decide) (fun c7 => ?_) (fun c7 => ?_)
  · skip
    refine lv_iconst (v := (iI ((0 : Nat) : Int))) hx hb dX1_undo_14 rfl ?_
    refine x_callS (cells1 := 1) (slots1 := 6) X hR (c_X1_checkState G false) q1234 q1235 q88 q1236 pd_X1_checkState ⟨Nat.le_of_ble_eq_true rfl, Nat.le_of_ble_eq_true rfl⟩ rfl rfl (Nat.le_of_ble_eq_true rfl) (Nat.le_of_ble_eq_true rfl) rfl (Nat.le_of_ble_eq_true rfl) hl.1 dX1_undo_15 (hB.of hS fp_no.base) trivial hS (fun _ h => h.elim) (fun v H_11 locs hp_8 hz_9 hk_10 hS => ?_) (fun Ex qx cx H_11 locs hp_8 hz_9 hk_10 hS hcx hvx hlx => ?_)
    · skip
      obtain ⟨rfl, rfl, hbt_12⟩ := hp_8
      refine r_stk (st2 := []) rfl ?_
      cases hbt_12
    · skip
      obtain ⟨rfl, hX9, hb9⟩ := hp_8
      exact x_out hT hlk hQ hS (Nat.le_of_ble_eq_true rfl) (Nat.le_of_ble_eq_true rfl) hcx hvx hlx ⟨rfl, fp_X.ofS hS, trivial⟩
  · skip
    exact absurd c7 (by decide)
set_option maxHeartbeats 4000000 in
theorem c_X1_undo (G : fp_G) (x : Nat) (u : Nat) (sv : Value) (hi : Nat) (ip : Nat) (ln : Nat) (ex : Bool) (er : Int) (fa : Int) (el : Nat) (hd : Nat) (hn : Nat) (q : Nat → Nat) (l2 : Nat) (ed2 : Nat) (z2 : Nat) (t2 : Nat) (mc2 : Int32) (cap2 : Nat) (b2 : Nat → Nat) (T : PS) (hxb : (g_s G).heap.size ≤ x) (hn0 : 0 < hn) (hde : fp_dif ed2 el) : fp_MX G yX1_undo cX1_undo 1 (some .int) 7 101 1 6 [.ref (x)] (fun H => fp_At G H x (eO 1 [.ref (u), sv, .ref (hi), .ref (ip), .ref (ln), .int (iI (bI (ex))), .int (iI (er)), .int (iI (fa))]) ∧ fp_DQ G hi el hd hn q H ∧ fp_SE G (q (hn - 1)) l2 ed2 z2 t2 mc2 cap2 b2 T H) (fun q => (g_s G).heap.size ≤ q ∧ (q = x ∨ q = hi ∨ q = el)) (fun H v H1 => v = some (.int (iI ((hn - 1 : Nat) : Int))) ∧ fp_At G H1 x (eO 1 [.ref ((q (hn - 1))), sv, .ref (hi), .ref (ip), .ref (ln), .int (iI (bI (ex))), .int (iI (er)), .int (iI (fa))]) ∧ fp_DQ G hi el hd (hn - 1) q H1 ∧ fp_SE G (q (hn - 1)) l2 ed2 z2 t2 mc2 cap2 b2 T H1) (fun H E H1 => (E = "java/lang/IllegalStateException" ∧ ((False)))) := by
  refine fp_MX.intro (by decide) (Nat.le_of_ble_eq_true rfl) ?_
  intro pg en s mi ag bl mt cd rR qQ ls X hx hb hr hlk hnm hR hQ hT hB hM hl
  have hS : va_S (fA (fun q => (g_s G).heap.size ≤ q ∧ (q = x ∨ q = hi ∨ q = el)) s.heap.size) s.heap s.heap [] := va_S.rf
  generalize ([] : List Loc) = locs at hS ⊢
  have hb0 := hB.1
  have hAb : ∀ q, (fun q => (g_s G).heap.size ≤ q ∧ (q = x ∨ q = hi ∨ q = el)) q → (g_s G).heap.size ≤ q := fun q h => h.1
  obtain ⟨h_pob, h_dq, h_st2⟩ := hM
  have hsz0 := hS.1
  have lt_1 := h_pob.lt
  have lt_2 := h_dq.1.lt
  have lt_3 := h_dq.2.2.1.1
  have lt_4 := h_st2.1.lt
  have hed0 := (X.2.2.2.2.2.deT (A := fp_no) hB fp_no.base).2.2
  obtain ⟨hdo, ⟨fdq, hdr, -⟩, hdq9, hdb1, hdb2⟩ := id h_dq
  have hdlt := hdo.lt
  have hnSh := fp_SE.nO X.2.2.2.2.2 hed0 h_st2 (j := 10) rfl ⟨by decide, by decide, by decide, by decide, by decide⟩ hdo hdb1
  have hnSe := fp_SE.nQ X.2.2.2.2.2 h_st2 hdr hde
  have hnSx := fp_SE.nO X.2.2.2.2.2 hed0 h_st2 (j := 1) rfl ⟨by decide, by decide, by decide, by decide, by decide⟩ h_pob hxb
  have hne_5 : fp_dif x hi := fp_neOO X.2.2.2.2.2 (i := 1) (j := 10) rfl rfl (by decide) h_pob hdo
  have hne_6 : fp_dif x el := fp_neOA X.2.2.2.2.2 (i := 1) (t := 4) rfl rfl h_pob hdr
  have hne_7 : fp_dif hi el := fp_neOA X.2.2.2.2.2 (i := 10) (t := 4) rfl rfl hdo hdr
  refine lv_aload_n hx hb dX1_undo_0 rfl (lv_at hl 0 rfl) ?_
  refine r_get X h_pob rfl in_X1 2 (by decide) q244 (Or.inl rfl) (v := .ref (hi)) rfl dX1_undo_1 ?_
  refine r_callV (cells1 := 0) (slots1 := 0) X hR (c_J4_isEmpty G hi el hd hn q) q1974 q1975 q1976 q95 q1977 ⟨rfl, pd_J4_isEmpty⟩ ⟨Nat.le_of_ble_eq_true rfl, Nat.le_of_ble_eq_true rfl⟩ rfl rfl (Nat.le_of_ble_eq_true rfl) (Nat.le_of_ble_eq_true rfl) h_dq.1 rfl rfl (Nat.le_of_ble_eq_true rfl) hl.1 dX1_undo_4 (hB.of hS hAb) h_dq hS (fun _ h => h.elim) (fun v H_11 locs hp_8 hz_9 hk_10 hS => ?_)
  obtain ⟨rfl, rfl⟩ := hp_8
  refine r_stk (st2 := [.int (iI (bI (decide (hn = 0))))]) rfl ?_
  refine r_ifneB (tgt := 14) hx hb dX1_undo_7 (by decide) (fun c7 => ?_) (fun c7 => ?_)
  · skip
    exact absurd (of_decide_eq_true c7) (by omega)
  · skip
    refine lv_iconst (v := (iI ((1 : Nat) : Int))) hx hb dX1_undo_10 rfl ?_
    refine lv_goto (tgt := 15) hx hb dX1_undo_11 (by decide) ?_
    refine x_callS (cells1 := 1) (slots1 := 6) X hR (c_X1_checkState G true) q1234 q1235 q88 q1236 pd_X1_checkState ⟨Nat.le_of_ble_eq_true rfl, Nat.le_of_ble_eq_true rfl⟩ rfl rfl (Nat.le_of_ble_eq_true rfl) (Nat.le_of_ble_eq_true rfl) rfl (Nat.le_of_ble_eq_true rfl) hl.1 dX1_undo_15 (hB.of hS hAb) trivial hS (fun _ h => h.elim) (fun v H_15 locs hp_12 hz_13 hk_14 hS => ?_) (fun Ex qx cx H_15 locs hp_12 hz_13 hk_14 hS hcx hvx hlx => ?_)
    · skip
      obtain ⟨rfl, rfl, hbt_16⟩ := hp_12
      refine r_stk (st2 := []) rfl ?_
      refine lv_aload_n hx hb dX1_undo_18 rfl (lv_at hl 0 rfl) ?_
      refine lv_aload_n hx hb dX1_undo_19 rfl (lv_at hl 0 rfl) ?_
      refine r_get X h_pob rfl in_X1 2 (by decide) q244 (Or.inl rfl) (v := .ref (hi)) rfl dX1_undo_20 ?_
      refine r_callV (cells1 := 1) (slots1 := 6) X hR (c_J4_removeLast G hi el hd hn q hn0) q1978 q1979 q1980 q95 q1981 ⟨rfl, pd_J4_removeLast⟩ ⟨Nat.le_of_ble_eq_true rfl, Nat.le_of_ble_eq_true rfl⟩ rfl rfl (Nat.le_of_ble_eq_true rfl) (Nat.le_of_ble_eq_true rfl) h_dq.1 rfl rfl (Nat.le_of_ble_eq_true rfl) hl.1 dX1_undo_23 (hB.of hS hAb) h_dq hS (fun q h => by have h2 : (g_s G).heap.size ≤ q ∧ (q = hi ∨ q = el) := h; show ((g_s G).heap.size ≤ q ∧ (q = x ∨ q = hi ∨ q = el)) ∨ s.heap.size ≤ q; omega) (fun v H_20 locs hp_17 hz_18 hk_19 hS => ?_)
      obtain ⟨rfl, hE_21⟩ := hp_17
      have hz_22 := hS.1
      have lt_23 := hE_21.1.lt
      have lt_24 := hE_21.2.2.1.1
      refine r_stk (st2 := [.ref (q (hn - 1)), .ref (x)]) rfl ?_
      have hE_26 := fp_SE.mvA h_st2 (fun q9 hq9 hs9 => hk_19 _ hq9 (fun h8 => (fun h9 => h9.elim (hnSh.t q9 hs9 h8.1) (hnSe.t q9 hs9 h8.1)) h8.2))
      refine r_castS X hE_26.1 rfl q134 dX1_undo_26 ?_
      have hE_28 := fp_At.kept h_pob (hk_19 _ (by omega) (fun h => (fun h => h.elim (hne_5) (hne_6)) h.2))
      refine r_put X hE_28 hS (Or.inl ⟨by omega, Or.inl rfl⟩) rfl in_X1 tyX1_ok nmX1 0 (by decide) q242 (Or.inl rfl) rfl rfl rfl (show 0 < 8 by decide) dX1_undo_29 (fun H_32 locs hE_29 hz_30 hq_31 hS => ?_)
      have hz_33 := hS.1
      refine lv_aload_n hx hb dX1_undo_32 rfl (lv_at hl 0 rfl) ?_
      refine r_get X hE_29 rfl in_X1 2 (by decide) q244 (Or.inl rfl) (v := .ref (hi)) rfl dX1_undo_33 ?_
      have hE_35 := fp_DQ.mv hE_21 (hq_31 _ (Ne.symm (hne_5))) (hq_31 _ (Ne.symm (hne_6)))
      refine r_callV (cells1 := 1) (slots1 := 6) X hR (c_J4_size G hi el hd (hn - 1) q) q1084 q1085 q1086 q95 q1087 ⟨rfl, pd_J4_size⟩ ⟨Nat.le_of_ble_eq_true rfl, Nat.le_of_ble_eq_true rfl⟩ rfl rfl (Nat.le_of_ble_eq_true rfl) (Nat.le_of_ble_eq_true rfl) hE_35.1 rfl rfl (Nat.le_of_ble_eq_true rfl) hl.1 dX1_undo_36 (hB.of hS hAb) hE_35 hS (fun _ h => h.elim) (fun v H_39 locs hp_36 hz_37 hk_38 hS => ?_)
      obtain ⟨rfl, rfl⟩ := hp_36
      refine r_stk (st2 := [.int (iI (((hn - 1) : Nat) : Int))]) rfl ?_
      refine x_iret hx hb hr hlk hQ hS (Nat.le_of_ble_eq_true rfl) (Nat.le_of_ble_eq_true rfl) dX1_undo_39 ?_
      have hE_41 := fp_SE.mvA hE_26 (fun q9 hq9 hs9 => hq_31 _ (hnSx q9 hs9))
      exact ⟨rfl, hE_29, hE_35, hE_41⟩
    · skip
      obtain ⟨rfl, hX9, hb9⟩ := hp_12
      cases hb9
set_option maxHeartbeats 4000000 in
theorem c_X1_save (G : fp_G) (x : Nat) (u : Nat) (sv : Value) (hi : Nat) (ip : Nat) (ln : Nat) (ex : Bool) (er : Int) (fa : Int) (l : Nat) (ed : Nat) (z : Nat) (t : Nat) (mc : Int32) (cap : Nat) (b : Nat → Nat) (S : PS) (hsw : fp_sw S b) (hxb : (g_s G).heap.size ≤ x) : fp_M G yX1_save cX1_save 1 (some .int) 9 214 9 149 [.ref (x)] (fun H => fp_At G H x (eO 1 [.ref (u), sv, .ref (hi), .ref (ip), .ref (ln), .int (iI (bI (ex))), .int (iI (er)), .int (iI (fa))]) ∧ fp_SE G u l ed z t mc cap b S H) (fun q => (g_s G).heap.size ≤ q ∧ (q = x)) (fun H v H1 => ∃ (y9 : Nat), ∃ (l9 : Nat), ∃ (e9 : Nat), ∃ (z9 : Nat), ∃ (t9 : Nat), ∃ (m9 : Int32), ∃ (c9 : Nat), v = some (.int (iI ((sN S : Nat) : Int))) ∧ (H.size ≤ y9 ∧ H.size ≤ l9 ∧ H.size ≤ z9 ∧ H.size ≤ t9) ∧ (e9 = fp_de G ∨ H.size ≤ e9) ∧ fp_At G H1 x (eO 1 [.ref (u), .ref (y9), .ref (hi), .ref (ip), .ref (ln), .int (iI (bI (ex))), .int (iI (er)), .int (iI (fa))]) ∧ fp_SE G y9 l9 e9 z9 t9 m9 c9 b S H1) := by
  refine fp_M.intro (by decide) (Nat.le_of_ble_eq_true rfl) ?_
  intro pg en s mi ag bl mt cd rR qQ ls X hx hb hr hlk hnm hR hQ hB hM hl
  have hS : va_S (fA (fun q => (g_s G).heap.size ≤ q ∧ (q = x)) s.heap.size) s.heap s.heap [] := va_S.rf
  generalize ([] : List Loc) = locs at hS ⊢
  have hb0 := hB.1
  have hAb : ∀ q, (fun q => (g_s G).heap.size ≤ q ∧ (q = x)) q → (g_s G).heap.size ≤ q := fun q h => h.1
  obtain ⟨h_pob, h_st⟩ := hM
  have hsz0 := hS.1
  have lt_1 := h_pob.lt
  have lt_2 := h_st.1.lt
  have hn24 := hsw.1.1
  have hed0 := (X.2.2.2.2.2.deT (A := fp_no) hB fp_no.base).2.2
  have hnSx := fp_SE.nO X.2.2.2.2.2 hed0 h_st (j := 1) rfl ⟨by decide, by decide, by decide, by decide, by decide⟩ h_pob hxb
  have hxlt := h_pob.lt
  obtain ⟨h_o, h_l, h_z, h_t, h_bl, h_xb, h_zb, h_tb⟩ := id h_st
  have lt_3 := h_l.1.lt
  have lt_4 := h_l.2.2
  have lt_5 := h_z.lt
  have lt_6 := h_t.lt
  refine lv_aload_n hx hb dX1_save_0 rfl (lv_at hl 0 rfl) ?_
  refine lv_aload_n hx hb dX1_save_1 rfl (lv_at hl 0 rfl) ?_
  refine r_get X h_pob rfl in_X1 0 (by decide) q242 (Or.inl rfl) (v := .ref (u)) rfl dX1_save_2 ?_
  refine r_callV (cells1 := 9) (slots1 := 149) X hR (c_X2_copy G u l ed z t mc cap b S hsw) q1095 q1096 q1097 q89 q1098 ⟨rfl, pd_X2_copy⟩ ⟨Nat.le_of_ble_eq_true rfl, Nat.le_of_ble_eq_true rfl⟩ rfl rfl (Nat.le_of_ble_eq_true rfl) (Nat.le_of_ble_eq_true rfl) h_st.1 rfl rfl (Nat.le_of_ble_eq_true rfl) hl.1 dX1_save_5 (hB.of hS hAb) h_st hS (fun _ h => h.elim) (fun v H_10 locs hp_7 hz_8 hk_9 hS => ?_)
  obtain ⟨y_11, l2_12, ed2_13, z2_14, t2_15, mc2_16, cap2_17, rfl, hy_18, hed2_19, hE_20⟩ := hp_7
  have hz_21 := hS.1
  have lt_23 := hE_20.1.lt
  refine r_stk (st2 := [.ref (y_11), .ref (x)]) rfl ?_
  have hcf9 : s.heap.size ≤ y_11 ∧ s.heap.size ≤ l2_12 ∧ s.heap.size ≤ z2_14 ∧ s.heap.size ≤ t2_15 := by omega
  have hce9 : ed2_13 = fp_de G ∨ s.heap.size ≤ ed2_13 := by omega
  have hnT_24 : fp_nT G y_11 l2_12 ed2_13 z2_14 t2_15 b (sN S) x := fp_nT.fresh hcf9 hce9 hed0 (by omega) (fun k hk => hnSx (b k) (Or.inr (Or.inr (Or.inr (Or.inr (Or.inr ⟨k, hk, rfl⟩))))))
  have hE_26 := fp_At.kept h_pob (hk_9 _ (by omega) (fun z => z))
  refine r_put X hE_26 hS (Or.inl ⟨by omega, rfl⟩) rfl in_X1 tyX1_ok nmX1 1 (by decide) q243 (Or.inl rfl) rfl rfl rfl (show 1 < 8 by decide) dX1_save_8 (fun H_30 locs hE_27 hz_28 hq_29 hS => ?_)
  have hz_31 := hS.1
  refine lv_aload_n hx hb dX1_save_11 rfl (lv_at hl 0 rfl) ?_
  refine r_get X hE_27 rfl in_X1 0 (by decide) q242 (Or.inl rfl) (v := .ref (u)) rfl dX1_save_12 ?_
  have hE_32 := fp_SE.mvA h_st (fun q9 hq9 hs9 => fp_keptS hq9 hS (fun h9 => (hnSx q9 hs9) h9.2))
  refine r_getN X hE_32.1 rfl in_X2 0 (by decide) q174 (Or.inl rfl) (v := .ref (l)) rfl dX1_save_15 ?_
  have hE_33 := fp_LE.mv h_l (fp_keptS (by omega) hS (fun h => (hnSx l (Or.inr (Or.inl rfl))) h.2)) (fp_keptS (by omega) hS (fun h => (hnSx ed (Or.inr (Or.inr (Or.inl rfl)))) h.2))
  refine r_callV (cells1 := 9) (slots1 := 149) X hR (c_J2_size G l ed mc (sN S) cap b) q460 q461 q462 q92 q463 ⟨rfl, pd_J2_size⟩ ⟨Nat.le_of_ble_eq_true rfl, Nat.le_of_ble_eq_true rfl⟩ rfl rfl (Nat.le_of_ble_eq_true rfl) (Nat.le_of_ble_eq_true rfl) hE_33.1 rfl rfl (Nat.le_of_ble_eq_true rfl) hl.1 dX1_save_18 (hB.of hS hAb) hE_33 hS (fun _ h => h.elim) (fun v H_37 locs hp_34 hz_35 hk_36 hS => ?_)
  obtain ⟨rfl, rfl⟩ := hp_34
  refine r_stk (st2 := [.int (iI (((sN S) : Nat) : Int))]) rfl ?_
  refine r_iret hx hb hr hlk hQ hS (Nat.le_of_ble_eq_true rfl) (Nat.le_of_ble_eq_true rfl) dX1_save_21 ?_
  have hE_39 := fp_SE.mvA hE_20 (fun q9 hq9 hs9 => hq_29 _ (hnT_24.p hxb q9 hs9))
  exact ⟨y_11, l2_12, ed2_13, z2_14, t2_15, mc2_16, cap2_17, rfl, hcf9, hce9, hE_27, hE_39⟩
set_option maxHeartbeats 4000000 in
theorem c_X1_restore_0 (G : fp_G) (x : Nat) (u : Nat) (hi : Nat) (ip : Nat) (ln : Nat) (ex : Bool) (er : Int) (fa : Int) : fp_MX G yX1_restore cX1_restore 1 (some .int) 7 101 1 6 [.ref (x)] (fun H => fp_At G H x (eO 1 [.ref (u), .null, .ref (hi), .ref (ip), .ref (ln), .int (iI (bI (ex))), .int (iI (er)), .int (iI (fa))])) fp_no (fun H v H1 => v = some (.int (iI ((0 : Nat) : Int))) ∧ (False)) (fun H E H1 => (E = "java/lang/IllegalStateException" ∧ fp_X H H1 ∧ True)) := by
  refine fp_MX.intro (by decide) (Nat.le_of_ble_eq_true rfl) ?_
  intro pg en s mi ag bl mt cd rR qQ ls X hx hb hr hlk hnm hR hQ hT hB hM hl
  have hS : va_S (fA fp_no s.heap.size) s.heap s.heap [] := va_S.rf
  generalize ([] : List Loc) = locs at hS ⊢
  have hb0 := hB.1
  have h_pob := hM
  have hsz0 := hS.1
  have lt_1 := h_pob.lt
  refine lv_aload_n hx hb dX1_restore_0 rfl (lv_at hl 0 rfl) ?_
  refine r_get X h_pob rfl in_X1 1 (by decide) q243 (Or.inl rfl) (v := .null) rfl dX1_restore_1 ?_
  refine lv_ifnullN hx hb dX1_restore_4 (tgt := 11) (by decide) ?_
  refine lv_iconst (v := (iI ((0 : Nat) : Int))) hx hb dX1_restore_11 rfl ?_
  refine x_callS (cells1 := 1) (slots1 := 6) X hR (c_X1_checkState G false) q1234 q1235 q88 q1236 pd_X1_checkState ⟨Nat.le_of_ble_eq_true rfl, Nat.le_of_ble_eq_true rfl⟩ rfl rfl (Nat.le_of_ble_eq_true rfl) (Nat.le_of_ble_eq_true rfl) rfl (Nat.le_of_ble_eq_true rfl) hl.1 dX1_restore_12 (hB.of hS fp_no.base) trivial hS (fun _ h => h.elim) (fun v H_5 locs hp_2 hz_3 hk_4 hS => ?_) (fun Ex qx cx H_5 locs hp_2 hz_3 hk_4 hS hcx hvx hlx => ?_)
  · skip
    obtain ⟨rfl, rfl, hbt_6⟩ := hp_2
    refine r_stk (st2 := []) rfl ?_
    cases hbt_6
  · skip
    obtain ⟨rfl, hX9, hb9⟩ := hp_2
    exact x_out hT hlk hQ hS (Nat.le_of_ble_eq_true rfl) (Nat.le_of_ble_eq_true rfl) hcx hvx hlx ⟨rfl, fp_X.ofS hS, trivial⟩
set_option maxHeartbeats 4000000 in
theorem c_X1_restore (G : fp_G) (x : Nat) (u : Nat) (hi : Nat) (ip : Nat) (ln : Nat) (ex : Bool) (er : Int) (fa : Int) (s2 : Nat) (el : Nat) (hd : Nat) (hn : Nat) (q : Nat → Nat) (l2 : Nat) (ed2 : Nat) (z2 : Nat) (t2 : Nat) (mc2 : Int32) (cap2 : Nat) (b2 : Nat → Nat) (T : PS) (hxb : (g_s G).heap.size ≤ x) (hsw : fp_sw T b2) (hde : fp_dif ed2 el) : fp_MX G yX1_restore cX1_restore 1 (some .int) 9 214 10 155 [.ref (x)] (fun H => fp_At G H x (eO 1 [.ref (u), .ref (s2), .ref (hi), .ref (ip), .ref (ln), .int (iI (bI (ex))), .int (iI (er)), .int (iI (fa))]) ∧ fp_DQ G hi el hd hn q H ∧ fp_SE G s2 l2 ed2 z2 t2 mc2 cap2 b2 T H) (fun q => (g_s G).heap.size ≤ q ∧ (q = x ∨ q = hi ∨ q = el)) (fun H v H1 => ∃ (y9 : Nat), ∃ (l9 : Nat), ∃ (e9 : Nat), ∃ (z9 : Nat), ∃ (t9 : Nat), ∃ (m9 : Int32), ∃ (c9 : Nat), v = some (.int (iI ((sN T : Nat) : Int))) ∧ (H.size ≤ y9 ∧ H.size ≤ l9 ∧ H.size ≤ z9 ∧ H.size ≤ t9) ∧ (e9 = fp_de G ∨ H.size ≤ e9) ∧ fp_At G H1 x (eO 1 [.ref (y9), .ref (s2), .ref (hi), .ref (ip), .ref (ln), .int (iI (bI (ex))), .int (iI (er)), .int (iI (fa))]) ∧ fp_DQ G hi el 0 0 q H1 ∧ fp_SE G y9 l9 e9 z9 t9 m9 c9 b2 T H1) (fun H E H1 => (E = "java/lang/IllegalStateException" ∧ ((False)))) := by
  refine fp_MX.intro (by decide) (Nat.le_of_ble_eq_true rfl) ?_
  intro pg en s mi ag bl mt cd rR qQ ls X hx hb hr hlk hnm hR hQ hT hB hM hl
  have hS : va_S (fA (fun q => (g_s G).heap.size ≤ q ∧ (q = x ∨ q = hi ∨ q = el)) s.heap.size) s.heap s.heap [] := va_S.rf
  generalize ([] : List Loc) = locs at hS ⊢
  have hb0 := hB.1
  have hAb : ∀ q, (fun q => (g_s G).heap.size ≤ q ∧ (q = x ∨ q = hi ∨ q = el)) q → (g_s G).heap.size ≤ q := fun q h => h.1
  obtain ⟨h_pob, h_dq, h_st2⟩ := hM
  have hsz0 := hS.1
  have lt_1 := h_pob.lt
  have lt_2 := h_dq.1.lt
  have lt_3 := h_dq.2.2.1.1
  have lt_4 := h_st2.1.lt
  have hed0 := (X.2.2.2.2.2.deT (A := fp_no) hB fp_no.base).2.2
  obtain ⟨hdo, ⟨fdq, hdr, -⟩, hdq9, hdb1, hdb2⟩ := id h_dq
  have hdlt := hdo.lt
  have hnSh := fp_SE.nO X.2.2.2.2.2 hed0 h_st2 (j := 10) rfl ⟨by decide, by decide, by decide, by decide, by decide⟩ hdo hdb1
  have hnSe := fp_SE.nQ X.2.2.2.2.2 h_st2 hdr hde
  have hnSx := fp_SE.nO X.2.2.2.2.2 hed0 h_st2 (j := 1) rfl ⟨by decide, by decide, by decide, by decide, by decide⟩ h_pob hxb
  have hne_5 : fp_dif x hi := fp_neOO X.2.2.2.2.2 (i := 1) (j := 10) rfl rfl (by decide) h_pob hdo
  have hne_6 : fp_dif x el := fp_neOA X.2.2.2.2.2 (i := 1) (t := 4) rfl rfl h_pob hdr
  have hne_7 : fp_dif hi el := fp_neOA X.2.2.2.2.2 (i := 10) (t := 4) rfl rfl hdo hdr
  have hn24 := hsw.1.1
  have hxlt := h_pob.lt
  refine lv_aload_n hx hb dX1_restore_0 rfl (lv_at hl 0 rfl) ?_
  refine r_get X h_pob rfl in_X1 1 (by decide) q243 (Or.inl rfl) (v := .ref (s2)) rfl dX1_restore_1 ?_
  refine lv_ifnull hx hb dX1_restore_4 ?_
  refine lv_iconst (v := (iI ((1 : Nat) : Int))) hx hb dX1_restore_7 rfl ?_
  refine lv_goto (tgt := 12) hx hb dX1_restore_8 (by decide) ?_
  refine x_callS (cells1 := 1) (slots1 := 6) X hR (c_X1_checkState G true) q1234 q1235 q88 q1236 pd_X1_checkState ⟨Nat.le_of_ble_eq_true rfl, Nat.le_of_ble_eq_true rfl⟩ rfl rfl (Nat.le_of_ble_eq_true rfl) (Nat.le_of_ble_eq_true rfl) rfl (Nat.le_of_ble_eq_true rfl) hl.1 dX1_restore_12 (hB.of hS hAb) trivial hS (fun _ h => h.elim) (fun v H_11 locs hp_8 hz_9 hk_10 hS => ?_) (fun Ex qx cx H_11 locs hp_8 hz_9 hk_10 hS hcx hvx hlx => ?_)
  · skip
    obtain ⟨rfl, rfl, hbt_12⟩ := hp_8
    refine r_stk (st2 := []) rfl ?_
    refine lv_aload_n hx hb dX1_restore_15 rfl (lv_at hl 0 rfl) ?_
    refine lv_aload_n hx hb dX1_restore_16 rfl (lv_at hl 0 rfl) ?_
    refine r_get X h_pob rfl in_X1 1 (by decide) q243 (Or.inl rfl) (v := .ref (s2)) rfl dX1_restore_17 ?_
    refine r_callV (cells1 := 10) (slots1 := 155) X hR (c_X2_copy G s2 l2 ed2 z2 t2 mc2 cap2 b2 T hsw) q1095 q1096 q1097 q89 q1098 ⟨rfl, pd_X2_copy⟩ ⟨Nat.le_of_ble_eq_true rfl, Nat.le_of_ble_eq_true rfl⟩ rfl rfl (Nat.le_of_ble_eq_true rfl) (Nat.le_of_ble_eq_true rfl) h_st2.1 rfl rfl (Nat.le_of_ble_eq_true rfl) hl.1 dX1_restore_20 (hB.of hS hAb) h_st2 hS (fun _ h => h.elim) (fun v H_16 locs hp_13 hz_14 hk_15 hS => ?_)
    obtain ⟨y_17, l2_18, ed2_19, z2_20, t2_21, mc2_22, cap2_23, rfl, hy_24, hed2_25, hE_26⟩ := hp_13
    have hz_27 := hS.1
    have lt_29 := hE_26.1.lt
    refine r_stk (st2 := [.ref (y_17), .ref (x)]) rfl ?_
    have hcf9 : s.heap.size ≤ y_17 ∧ s.heap.size ≤ l2_18 ∧ s.heap.size ≤ z2_20 ∧ s.heap.size ≤ t2_21 := by omega
    have hce9 : ed2_19 = fp_de G ∨ s.heap.size ≤ ed2_19 := by omega
    have hnT_30 : fp_nT G y_17 l2_18 ed2_19 z2_20 t2_21 b2 (sN T) x := fp_nT.fresh hcf9 hce9 hed0 (by omega) (fun k hk => hnSx (b2 k) (Or.inr (Or.inr (Or.inr (Or.inr (Or.inr ⟨k, hk, rfl⟩))))))
    have hnT_31 : fp_nT G y_17 l2_18 ed2_19 z2_20 t2_21 b2 (sN T) hi := fp_nT.fresh hcf9 hce9 hed0 (by omega) (fun k hk => hnSh (b2 k) (Or.inr (Or.inr (Or.inr (Or.inr (Or.inr ⟨k, hk, rfl⟩))))))
    have hnT_32 : fp_nT G y_17 l2_18 ed2_19 z2_20 t2_21 b2 (sN T) el := fp_nT.fresh hcf9 hce9 hed0 (by omega) (fun k hk => hnSe (b2 k) (Or.inr (Or.inr (Or.inr (Or.inr (Or.inr ⟨k, hk, rfl⟩))))))
    have hE_34 := fp_At.kept h_pob (hk_15 _ (by omega) (fun z => z))
    refine r_put X hE_34 hS (Or.inl ⟨by omega, Or.inl rfl⟩) rfl in_X1 tyX1_ok nmX1 0 (by decide) q242 (Or.inl rfl) rfl rfl rfl (show 0 < 8 by decide) dX1_restore_23 (fun H_38 locs hE_35 hz_36 hq_37 hS => ?_)
    have hz_39 := hS.1
    refine lv_aload_n hx hb dX1_restore_26 rfl (lv_at hl 0 rfl) ?_
    refine r_get X hE_35 rfl in_X1 2 (by decide) q244 (Or.inl rfl) (v := .ref (hi)) rfl dX1_restore_27 ?_
    have hE_41 := h_dq.ext (fp_X.no hz_14 hk_15)
    have hE_42 := fp_DQ.mv hE_41 (hq_37 _ (Ne.symm (hne_5))) (hq_37 _ (Ne.symm (hne_6)))
    refine r_callV (cells1 := 10) (slots1 := 155) X hR (c_J4_clear G hi el hd hn q) q1996 q1997 q1998 q95 q1999 ⟨rfl, pd_J4_clear⟩ ⟨Nat.le_of_ble_eq_true rfl, Nat.le_of_ble_eq_true rfl⟩ rfl rfl (Nat.le_of_ble_eq_true rfl) (Nat.le_of_ble_eq_true rfl) hE_42.1 rfl rfl (Nat.le_of_ble_eq_true rfl) hl.1 dX1_restore_30 (hB.of hS hAb) hE_42 hS (fun q h => by have h2 : (g_s G).heap.size ≤ q ∧ (q = hi ∨ q = el) := h; show ((g_s G).heap.size ≤ q ∧ (q = x ∨ q = hi ∨ q = el)) ∨ s.heap.size ≤ q; omega) (fun v H_46 locs hp_43 hz_44 hk_45 hS => ?_)
    obtain ⟨rfl, hE_47⟩ := hp_43
    have hz_48 := hS.1
    have lt_49 := hE_47.1.lt
    have lt_50 := hE_47.2.2.1.1
    refine r_stk (st2 := []) rfl ?_
    have hE_52 := fp_SE.mvA hE_26 (fun q9 hq9 hs9 => hq_37 _ (hnT_30.p hxb q9 hs9))
    have hE_53 := fp_SE.mvA hE_52 (fun q9 hq9 hs9 => hk_45 _ hq9 (fun h8 => (fun h9 => h9.elim (hnT_31 q9 hs9 h8.1) (hnT_32 q9 hs9 h8.1)) h8.2))
    have lt_54 := hE_53.1.lt
    have lt_55 := hE_53.2.1.1.lt
    have lt_56 := hE_53.2.1.2.2
    refine lv_aload_n hx hb dX1_restore_33 rfl (lv_at hl 0 rfl) ?_
    have hE_58 := fp_At.kept hE_35 (hk_45 _ (by omega) (fun h => (fun h => h.elim (hne_5) (hne_6)) h.2))
    refine r_get X hE_58 rfl in_X1 0 (by decide) q242 (Or.inl rfl) (v := .ref (y_17)) rfl dX1_restore_34 ?_
    refine r_getN X hE_53.1 rfl in_X2 0 (by decide) q174 (Or.inl rfl) (v := .ref (l2_18)) rfl dX1_restore_37 ?_
    refine r_callV (cells1 := 10) (slots1 := 155) X hR (c_J2_size G l2_18 ed2_19 mc2_22 (sN T) cap2_23 b2) q460 q461 q462 q92 q463 ⟨rfl, pd_J2_size⟩ ⟨Nat.le_of_ble_eq_true rfl, Nat.le_of_ble_eq_true rfl⟩ rfl rfl (Nat.le_of_ble_eq_true rfl) (Nat.le_of_ble_eq_true rfl) hE_53.2.1.1 rfl rfl (Nat.le_of_ble_eq_true rfl) hl.1 dX1_restore_40 (hB.of hS hAb) hE_53.2.1 hS (fun _ h => h.elim) (fun v H_62 locs hp_59 hz_60 hk_61 hS => ?_)
    obtain ⟨rfl, rfl⟩ := hp_59
    refine r_stk (st2 := [.int (iI (((sN T) : Nat) : Int))]) rfl ?_
    refine x_iret hx hb hr hlk hQ hS (Nat.le_of_ble_eq_true rfl) (Nat.le_of_ble_eq_true rfl) dX1_restore_43 ?_
    exact ⟨y_17, l2_18, ed2_19, z2_20, t2_21, mc2_22, cap2_23, rfl, hcf9, hce9, hE_58, hE_47, hE_53⟩
  · skip
    obtain ⟨rfl, hX9, hb9⟩ := hp_8
    cases hb9
