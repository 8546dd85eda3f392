/-! THE STATE: counts and sums over its blocks -/
set_option maxRecDepth 100000
set_option maxHeartbeats 4000000 in
theorem c_X2_count (G : fp_G) (x : Nat) (l : Nat) (ed : Nat) (z : Nat) (t : Nat) (mc : Int32) (cap : Nat) (b : Nat → Nat) (S : PS) (y : Nat) (mcL : Nat) (msL : Nat) (r : Nat → Bool) (PL : Heap → Prop) (hsw : fp_sw S b) (hPX : ∀ H H1, PL H → fp_X H H1 → PL H1) (hC : fp_CL G fp_nM y mcL msL (sN S) b PL (fun k => iI (bI (r k)))) : fp_M G yX2_count cX2_count 5 (some .int) 301 8021 (1 + sN S * mcL) (4 + sN S * msL) [.ref (x), .ref (y)] (fun H => fp_SE G x l ed z t mc cap b S H ∧ PL H) fp_no (fun H v H1 => v = some (.int (iI ((fp_ct r (sN S) : Nat) : Int)))) := by
  refine fp_M.intro (by decide) (Nat.le_of_ble_eq_true rfl) ?_
  intro pg en s mi ag bl mt cd rR qQ ls X hx hb hr hlk hnm hR hQ hB hM hl
  have hS : va_S (fA fp_no s.heap.size) s.heap s.heap [] := va_S.rf
  generalize ([] : List Loc) = locs at hS ⊢
  have hb0 := hB.1
  obtain ⟨h_st, h_pl⟩ := hM
  have hsz0 := hS.1
  have lt_1 := h_st.1.lt
  have hn24 := hsw.1.1
  obtain ⟨h_o, h_l, h_z, h_t, h_bl, h_xb, h_zb, h_tb⟩ := id h_st
  have lt_2 := h_l.1.lt
  have lt_3 := h_l.2.2
  have lt_4 := h_z.lt
  have lt_5 := h_t.lt
  refine lv_iconst (v := (iI ((0 : Nat) : Int))) hx hb dX2_count_0 rfl ?_
  refine lv_istore_n (lv' := [(2, .int (iI ((0 : Nat) : Int))), (0, .ref (x)), (1, .ref (y))]) hx hb dX2_count_1 rfl hl (by decide) rfl (fun ls hl => ?_)
  refine lv_aload_n hx hb dX2_count_2 rfl (lv_at hl 1 rfl) ?_
  refine r_get X h_st.1 rfl in_X2 0 (by decide) q173 (Or.inl rfl) (v := .ref (l)) rfl dX2_count_3 ?_
  refine r_callV (cells1 := 1) (slots1 := 4) X hR (c_J2_iterator G l ed mc (sN S) cap b) q275 q276 q277 q92 q278 ⟨rfl, pd_J2_iterator⟩ ⟨Nat.le_of_ble_eq_true rfl, Nat.le_of_ble_eq_true rfl⟩ rfl rfl (by omega) (by omega) h_l.1 rfl rfl (Nat.le_of_ble_eq_true rfl) hl.1 dX2_count_6 (hB.of hS fp_no.base) h_l hS (fun _ h => h.elim) (fun v H_9 locs hp_6 hz_7 hk_8 hS => ?_)
  obtain ⟨y_10, rfl, hy_11, hE_12⟩ := hp_6
  have hz_13 := hS.1
  have lt_15 := hE_12.lt
  refine r_stk (st2 := [.ref (y_10)]) rfl ?_
  refine lv_astore_n (lv' := [(3, .ref (y_10)), (2, .int (iI ((0 : Nat) : Int))), (0, .ref (x)), (1, .ref (y))]) hx hb dX2_count_9 rfl hl (by decide) rfl (fun ls hl => ?_)
  have L10 : ∀ (k : Nat), k ≤ sN S → ∀ (H_16 : Heap) (locs : List Loc) (ls : Array Slot), lv_has ls 5 [(0, .ref (x)), (1, .ref (y)), (2, .int (iI ((fp_ct r k : Nat) : Int))), (3, .ref (y_10))] → va_S (fA fp_no s.heap.size) s.heap H_16 locs → (H_9.size ≤ H_16.size) → fp_IE G y_10 k l mc (sN S) H_16 → W pg (g_l G) en rR s mi ag bl mt cd H_16 locs (1 + k * mcL) (4 + k * msL) qQ (F0 mi 10 ls []) := by
    refine lp_up (sN S) ?_
    intro k hk10 ih10 H_16 locs ls hl hS hz_17 hE_18
    have hz_19 := hS.1
    have lt_20 := hE_18.lt
    have hmmcL1 : (k + 1) * mcL = k * mcL + mcL := Nat.succ_mul k mcL
    have hmmcL2 : k * mcL ≤ sN S * mcL := Nat.mul_le_mul_right _ (by omega)
    have hmmsL1 : (k + 1) * msL = k * msL + msL := Nat.succ_mul k msL
    have hmmsL2 : k * msL ≤ sN S * msL := Nat.mul_le_mul_right _ (by omega)
    refine lv_aload_n hx hb dX2_count_10 rfl (lv_at hl 3 rfl) ?_
    obtain ⟨⟨lr_21, hE_22⟩, hle_23⟩ := id hE_18
    have hE_24 := h_l.ext (fp_X.ofS hS)
    obtain ⟨⟨lr_25, hE_26⟩, hle_27⟩ := id hE_18
    refine r_callF (cells1 := (1 + k * mcL)) (slots1 := (4 + k * msL)) X hR (c_J13_hasNext G l ed mc (sN S) cap b y_10 k) q299 q303 q305 q105 q307 ⟨q301, q300, q306, q304, q302⟩ ⟨by decide, by decide, rfl⟩ ⟨Nat.le_of_ble_eq_true rfl, Nat.le_of_ble_eq_true rfl⟩ rfl rfl (by omega) (by omega) hE_26 rfl rfl (Nat.le_of_ble_eq_true rfl) hl.1 dX2_count_11 (hB.of hS fp_no.base) ⟨hE_18, hE_24⟩ hS (fun _ h => h.elim) (fun v H_31 locs hp_28 hz_29 hk_30 hS => ?_)
    obtain ⟨rfl, rfl⟩ := hp_28
    refine r_stk (st2 := [.int (iI (bI (decide (k < (sN S)))))]) rfl ?_
    refine r_ifeqB (tgt := 52) hx hb dX2_count_16 (by decide) (fun c16 => ?_) (fun c16 => ?_)
    · skip
      have d16 := of_decide_eq_false c16
      obtain rfl : k = sN S := by omega
      refine lv_iload_n hx hb dX2_count_52 rfl (lv_at hl 2 rfl) ?_
      refine r_iret hx hb hr hlk hQ hS (by omega) (by omega) dX2_count_53 ?_
      exact (congrArg (fun q : Nat => some (Value.int (iI (q : Int)))) (rfl))
    · skip
      have d16 := of_decide_eq_true c16
      refine lv_aload_n hx hb dX2_count_19 rfl (lv_at hl 3 rfl) ?_
      obtain ⟨⟨lr_32, hE_33⟩, hle_34⟩ := id hE_18
      obtain ⟨⟨lr_35, hE_36⟩, hle_37⟩ := id hE_18
      refine r_callF (cells1 := (1 + k * mcL)) (slots1 := (4 + k * msL)) X hR (c_J13_next G l ed mc (sN S) cap b y_10 k (by omega) (by omega)) q309 q312 q314 q105 q316 ⟨q311, q310, q315, q313, q302⟩ ⟨by decide, by decide, rfl⟩ ⟨Nat.le_of_ble_eq_true rfl, Nat.le_of_ble_eq_true rfl⟩ rfl rfl (by omega) (by omega) hE_36 rfl rfl (Nat.le_of_ble_eq_true rfl) hl.1 dX2_count_20 (hB.of hS fp_no.base) ⟨hE_18, hE_24⟩ hS (fun q h => Or.inr (by have h2 : (g_s G).heap.size ≤ q ∧ (q = y_10) := h; omega)) (fun v H_41 locs hp_38 hz_39 hk_40 hS => ?_)
      obtain ⟨rfl, hE_42⟩ := hp_38
      have hz_43 := hS.1
      have lt_44 := hE_42.lt
      refine r_stk (st2 := [.ref (b k)]) rfl ?_
      have hE_45 := h_bl.ext (fp_X.ofS hS)
      refine r_castB X (hE_45 k (by omega)) (hsw.1.2.2.1 k (by omega)).2.1 q388 dX2_count_25 ?_
      refine lv_astore (lv' := [(4, .ref (b k)), (0, .ref (x)), (1, .ref (y)), (2, .int (iI ((fp_ct r k : Nat) : Int))), (3, .ref (y_10))]) hx hb dX2_count_28 hl (by decide) rfl (fun ls hl => ?_)
      have hmmcL3 : (k + 1) * mcL ≤ sN S * mcL := Nat.mul_le_mul_right _ (by omega)
      have hmmsL3 : (k + 1) * msL ≤ sN S * msL := Nat.mul_le_mul_right _ (by omega)
      refine lv_iload_n hx hb dX2_count_30 rfl (lv_at hl 3 rfl) ?_
      refine lv_aload_n hx hb dX2_count_31 rfl (lv_at hl 2 rfl) ?_
      refine lv_aload hx hb dX2_count_32 (lv_at hl 0 rfl) ?_
      have hPL_46 := hPX _ _ h_pl (fp_X.ofS hS)
      refine r_cl (x := fp_nM) (cells1 := 1 + k * mcL + mcL) (slots1 := 4 + k * msL + msL) X hR hC (by omega) q531 q533 q532 ⟨by decide, by decide, rfl⟩ (by decide) (by decide) rfl rfl (by omega) (by omega) hPL_46 (Nat.le_of_ble_eq_true rfl) hl.1 dX2_count_34 (hB.of hS fp_no.base) hS (fun H_47 locs hz_48 hX_49 hS => ?_)
      have hz_50 := hS.1
      refine r_ifeqB (tgt := 46) hx hb dX2_count_39 (by decide) (fun c39 => ?_) (fun c39 => ?_)
      · skip
        refine lv_iconst (v := (iI ((0 : Nat) : Int))) hx hb dX2_count_46 rfl ?_
        refine r_iaddN hx hb dX2_count_47 ?_
        refine lv_istore_n (lv' := [(2, .int (iI (((fp_ct r k) + 0 : Nat) : Int))), (4, .ref (b k)), (0, .ref (x)), (1, .ref (y)), (3, .ref (y_10))]) hx hb dX2_count_48 rfl hl (by decide) rfl (fun ls hl => ?_)
        refine lv_goto (tgt := 10) hx hb dX2_count_49 (by decide) ?_
        have hE_52 := hE_42.ext hX_49
        refine W.widen (k := 1 + (k + 1) * mcL) (n := 4 + (k + 1) * msL) (by omega) (by omega) ?_
        exact ih10 (by omega) H_47 locs ls (by rw [show Value.int (iI ((fp_ct r (k + 1) : Nat) : Int)) = Value.int (iI (((fp_ct r k) + 0 : Nat) : Int)) from congrArg (fun q : Nat => Value.int (iI (q : Int))) (by show fp_ct r k + (if r k then 1 else 0) = _; rw [c39]; rfl)]; exact lv_sub hl [2, 3, 0, 4] rfl) hS (by omega) hE_52
      · skip
        refine lv_iconst (v := (iI ((1 : Nat) : Int))) hx hb dX2_count_42 rfl ?_
        refine lv_goto (tgt := 47) hx hb dX2_count_43 (by decide) ?_
        refine r_iaddN hx hb dX2_count_47 ?_
        refine lv_istore_n (lv' := [(2, .int (iI (((fp_ct r k) + 1 : Nat) : Int))), (4, .ref (b k)), (0, .ref (x)), (1, .ref (y)), (3, .ref (y_10))]) hx hb dX2_count_48 rfl hl (by decide) rfl (fun ls hl => ?_)
        refine lv_goto (tgt := 10) hx hb dX2_count_49 (by decide) ?_
        have hE_54 := hE_42.ext hX_49
        refine W.widen (k := 1 + (k + 1) * mcL) (n := 4 + (k + 1) * msL) (by omega) (by omega) ?_
        exact ih10 (by omega) H_47 locs ls (by rw [show Value.int (iI ((fp_ct r (k + 1) : Nat) : Int)) = Value.int (iI (((fp_ct r k) + 1 : Nat) : Int)) from congrArg (fun q : Nat => Value.int (iI (q : Int))) (by show fp_ct r k + (if r k then 1 else 0) = _; rw [c39]; rfl)]; exact lv_sub hl [2, 3, 0, 4] rfl) hS (by omega) hE_54
  refine W.widen (k := 1 + 0 * mcL) (n := 4 + 0 * msL) (by omega) (by omega) ?_
  exact L10 0 (by omega) H_9 locs ls (by rw [show Value.int (iI ((fp_ct r 0 : Nat) : Int)) = Value.int (iI ((0 : Nat) : Int)) from congrArg (fun q : Nat => Value.int (iI (q : Int))) (rfl)]; exact lv_sub hl [2, 3, 1, 0] rfl) hS (Nat.le_refl _) hE_12
set_option maxHeartbeats 4000000 in
theorem c_X2_sum (G : fp_G) (x : Nat) (l : Nat) (ed : Nat) (z : Nat) (t : Nat) (mc : Int32) (cap : Nat) (b : Nat → Nat) (S : PS) (y : Nat) (mcL : Nat) (msL : Nat) (r : Nat → Bool) (PL : Heap → Prop) (y2 : Nat) (vL : Nat → Nat) (hsw : fp_sw S b) (hPX : ∀ H H1, PL H → fp_X H H1 → PL H1) (hC : fp_CL G fp_nM y 0 0 (sN S) b PL (fun k => iI (bI (r k)))) (hC2 : fp_CL G fp_nV y2 mcL msL (sN S) b PL (fun k => iI ((vL k : Nat) : Int))) : fp_M G yX2_sum cX2_sum 6 (some .int) 301 8021 (1 + sN S * mcL) (4 + sN S * msL) [.ref (x), .ref (y), .ref (y2)] (fun H => fp_SE G x l ed z t mc cap b S H ∧ PL H) fp_no (fun H v H1 => v = some (.int (iI ((fp_sm (fun k => if r k then vL k else 0) (sN S) : Nat) : Int)))) := by
  refine fp_M.intro (by decide) (Nat.le_of_ble_eq_true rfl) ?_
  intro pg en s mi ag bl mt cd rR qQ ls X hx hb hr hlk hnm hR hQ hB hM hl
  have hS : va_S (fA fp_no s.heap.size) s.heap s.heap [] := va_S.rf
  generalize ([] : List Loc) = locs at hS ⊢
  have hb0 := hB.1
  obtain ⟨h_st, h_pl⟩ := hM
  have hsz0 := hS.1
  have lt_1 := h_st.1.lt
  have hn24 := hsw.1.1
  obtain ⟨h_o, h_l, h_z, h_t, h_bl, h_xb, h_zb, h_tb⟩ := id h_st
  have lt_2 := h_l.1.lt
  have lt_3 := h_l.2.2
  have lt_4 := h_z.lt
  have lt_5 := h_t.lt
  refine lv_iconst (v := (iI ((0 : Nat) : Int))) hx hb dX2_sum_0 rfl ?_
  refine lv_istore_n (lv' := [(3, .int (iI ((0 : Nat) : Int))), (0, .ref (x)), (1, .ref (y)), (2, .ref (y2))]) hx hb dX2_sum_1 rfl hl (by decide) rfl (fun ls hl => ?_)
  refine lv_aload_n hx hb dX2_sum_2 rfl (lv_at hl 1 rfl) ?_
  refine r_get X h_st.1 rfl in_X2 0 (by decide) q173 (Or.inl rfl) (v := .ref (l)) rfl dX2_sum_3 ?_
  refine r_callV (cells1 := 1) (slots1 := 4) X hR (c_J2_iterator G l ed mc (sN S) cap b) q275 q276 q277 q92 q278 ⟨rfl, pd_J2_iterator⟩ ⟨Nat.le_of_ble_eq_true rfl, Nat.le_of_ble_eq_true rfl⟩ rfl rfl (by omega) (by omega) h_l.1 rfl rfl (Nat.le_of_ble_eq_true rfl) hl.1 dX2_sum_6 (hB.of hS fp_no.base) h_l hS (fun _ h => h.elim) (fun v H_9 locs hp_6 hz_7 hk_8 hS => ?_)
  obtain ⟨y_10, rfl, hy_11, hE_12⟩ := hp_6
  have hz_13 := hS.1
  have lt_15 := hE_12.lt
  refine r_stk (st2 := [.ref (y_10)]) rfl ?_
  refine lv_astore (lv' := [(4, .ref (y_10)), (3, .int (iI ((0 : Nat) : Int))), (0, .ref (x)), (1, .ref (y)), (2, .ref (y2))]) hx hb dX2_sum_9 hl (by decide) rfl (fun ls hl => ?_)
  have L11 : ∀ (k : Nat), k ≤ sN S → ∀ (H_16 : Heap) (locs : List Loc) (ls : Array Slot), lv_has ls 6 [(0, .ref (x)), (1, .ref (y)), (2, .ref (y2)), (3, .int (iI ((fp_sm (fun k => if r k then vL k else 0) k : Nat) : Int))), (4, .ref (y_10))] → va_S (fA fp_no s.heap.size) s.heap H_16 locs → (H_9.size ≤ H_16.size) → fp_IE G y_10 k l mc (sN S) H_16 → W pg (g_l G) en rR s mi ag bl mt cd H_16 locs (1 + k * mcL) (4 + k * msL) qQ (F0 mi 11 ls []) := by
    refine lp_up (sN S) ?_
    intro k hk11 ih11 H_16 locs ls hl hS hz_17 hE_18
    have hz_19 := hS.1
    have lt_20 := hE_18.lt
    have hmmcL1 : (k + 1) * mcL = k * mcL + mcL := Nat.succ_mul k mcL
    have hmmcL2 : k * mcL ≤ sN S * mcL := Nat.mul_le_mul_right _ (by omega)
    have hmmsL1 : (k + 1) * msL = k * msL + msL := Nat.succ_mul k msL
    have hmmsL2 : k * msL ≤ sN S * msL := Nat.mul_le_mul_right _ (by omega)
    refine lv_aload hx hb dX2_sum_11 (lv_at hl 4 rfl) ?_
    obtain ⟨⟨lr_21, hE_22⟩, hle_23⟩ := id hE_18
    have hE_24 := h_l.ext (fp_X.ofS hS)
    obtain ⟨⟨lr_25, hE_26⟩, hle_27⟩ := id hE_18
    refine r_callF (cells1 := (1 + k * mcL)) (slots1 := (4 + k * msL)) X hR (c_J13_hasNext G l ed mc (sN S) cap b y_10 k) q299 q303 q305 q105 q307 ⟨q301, q300, q306, q304, q302⟩ ⟨by decide, by decide, rfl⟩ ⟨Nat.le_of_ble_eq_true rfl, Nat.le_of_ble_eq_true rfl⟩ rfl rfl (by omega) (by omega) hE_26 rfl rfl (Nat.le_of_ble_eq_true rfl) hl.1 dX2_sum_13 (hB.of hS fp_no.base) ⟨hE_18, hE_24⟩ hS (fun _ h => h.elim) (fun v H_31 locs hp_28 hz_29 hk_30 hS => ?_)
    obtain ⟨rfl, rfl⟩ := hp_28
    refine r_stk (st2 := [.int (iI (bI (decide (k < (sN S)))))]) rfl ?_
    refine r_ifeqB (tgt := 62) hx hb dX2_sum_18 (by decide) (fun c18 => ?_) (fun c18 => ?_)
    · skip
      have d18 := of_decide_eq_false c18
      obtain rfl : k = sN S := by omega
      refine lv_iload_n hx hb dX2_sum_62 rfl (lv_at hl 3 rfl) ?_
      refine r_iret hx hb hr hlk hQ hS (by omega) (by omega) dX2_sum_63 ?_
      exact (congrArg (fun q : Nat => some (Value.int (iI (q : Int)))) (rfl))
    · skip
      have d18 := of_decide_eq_true c18
      refine lv_aload hx hb dX2_sum_21 (lv_at hl 4 rfl) ?_
      obtain ⟨⟨lr_32, hE_33⟩, hle_34⟩ := id hE_18
      obtain ⟨⟨lr_35, hE_36⟩, hle_37⟩ := id hE_18
      refine r_callF (cells1 := (1 + k * mcL)) (slots1 := (4 + k * msL)) X hR (c_J13_next G l ed mc (sN S) cap b y_10 k (by omega) (by omega)) q309 q312 q314 q105 q316 ⟨q311, q310, q315, q313, q302⟩ ⟨by decide, by decide, rfl⟩ ⟨Nat.le_of_ble_eq_true rfl, Nat.le_of_ble_eq_true rfl⟩ rfl rfl (by omega) (by omega) hE_36 rfl rfl (Nat.le_of_ble_eq_true rfl) hl.1 dX2_sum_23 (hB.of hS fp_no.base) ⟨hE_18, hE_24⟩ hS (fun q h => Or.inr (by have h2 : (g_s G).heap.size ≤ q ∧ (q = y_10) := h; omega)) (fun v H_41 locs hp_38 hz_39 hk_40 hS => ?_)
      obtain ⟨rfl, hE_42⟩ := hp_38
      have hz_43 := hS.1
      have lt_44 := hE_42.lt
      refine r_stk (st2 := [.ref (b k)]) rfl ?_
      have hE_45 := h_bl.ext (fp_X.ofS hS)
      refine r_castB X (hE_45 k (by omega)) (hsw.1.2.2.1 k (by omega)).2.1 q388 dX2_sum_28 ?_
      refine lv_astore (lv' := [(5, .ref (b k)), (0, .ref (x)), (1, .ref (y)), (2, .ref (y2)), (3, .int (iI ((fp_sm (fun k => if r k then vL k else 0) k : Nat) : Int))), (4, .ref (y_10))]) hx hb dX2_sum_31 hl (by decide) rfl (fun ls hl => ?_)
      have hmmcL3 : (k + 1) * mcL ≤ sN S * mcL := Nat.mul_le_mul_right _ (by omega)
      have hmmsL3 : (k + 1) * msL ≤ sN S * msL := Nat.mul_le_mul_right _ (by omega)
      refine lv_iload_n hx hb dX2_sum_33 rfl (lv_at hl 4 rfl) ?_
      refine lv_aload_n hx hb dX2_sum_34 rfl (lv_at hl 2 rfl) ?_
      refine lv_aload hx hb dX2_sum_35 (lv_at hl 0 rfl) ?_
      have hPL_46 := hPX _ _ h_pl (fp_X.ofS hS)
      refine r_cl (x := fp_nM) (cells1 := 1 + k * mcL + 0) (slots1 := 4 + k * msL + 0) X hR hC (by omega) q531 q533 q532 ⟨by decide, by decide, rfl⟩ (by decide) (by decide) rfl rfl (by omega) (by omega) hPL_46 (Nat.le_of_ble_eq_true rfl) hl.1 dX2_sum_37 (hB.of hS fp_no.base) hS (fun H_47 locs hz_48 hX_49 hS => ?_)
      have hz_50 := hS.1
      refine r_ifeqB (tgt := 56) hx hb dX2_sum_42 (by decide) (fun c42 => ?_) (fun c42 => ?_)
      · skip
        refine lv_iconst (v := (iI ((0 : Nat) : Int))) hx hb dX2_sum_56 rfl ?_
        refine r_iaddN hx hb dX2_sum_57 ?_
        refine lv_istore_n (lv' := [(3, .int (iI (((fp_sm (fun k => if r k then vL k else 0) k) + 0 : Nat) : Int))), (5, .ref (b k)), (0, .ref (x)), (1, .ref (y)), (2, .ref (y2)), (4, .ref (y_10))]) hx hb dX2_sum_58 rfl hl (by decide) rfl (fun ls hl => ?_)
        refine lv_goto (tgt := 11) hx hb dX2_sum_59 (by decide) ?_
        have hE_52 := hE_42.ext hX_49
        refine W.widen (k := 1 + (k + 1) * mcL) (n := 4 + (k + 1) * msL) (by omega) (by omega) ?_
        exact ih11 (by omega) H_47 locs ls (by rw [show Value.int (iI ((fp_sm (fun k => if r k then vL k else 0) (k + 1) : Nat) : Int)) = Value.int (iI (((fp_sm (fun k => if r k then vL k else 0) k) + 0 : Nat) : Int)) from congrArg (fun q : Nat => Value.int (iI (q : Int))) (by show fp_sm (fun k => if r k then vL k else 0) k + (if r k then vL k else 0) = _; rw [c42]; rfl)]; exact lv_sub hl [2, 3, 4, 0, 5] rfl) hS (by omega) hE_52
      · skip
        refine lv_aload_n hx hb dX2_sum_45 rfl (lv_at hl 3 rfl) ?_
        refine lv_aload hx hb dX2_sum_46 (lv_at hl 0 rfl) ?_
        have hPL_53 := hPX _ _ h_pl (fp_X.ofS hS)
        refine r_cl (x := fp_nV) (cells1 := 1 + k * mcL + 0 + mcL) (slots1 := 4 + k * msL + 0 + msL) X hR hC2 (by omega) q535 q537 q536 ⟨by decide, by decide, rfl⟩ (by decide) (by decide) rfl rfl (by omega) (by omega) hPL_53 (Nat.le_of_ble_eq_true rfl) hl.1 dX2_sum_48 (hB.of hS fp_no.base) hS (fun H_54 locs hz_55 hX_56 hS => ?_)
        have hz_57 := hS.1
        refine lv_goto (tgt := 57) hx hb dX2_sum_53 (by decide) ?_
        refine r_iaddN hx hb dX2_sum_57 ?_
        refine lv_istore_n (lv' := [(3, .int (iI (((fp_sm (fun k => if r k then vL k else 0) k) + (vL k) : Nat) : Int))), (5, .ref (b k)), (0, .ref (x)), (1, .ref (y)), (2, .ref (y2)), (4, .ref (y_10))]) hx hb dX2_sum_58 rfl hl (by decide) rfl (fun ls hl => ?_)
        refine lv_goto (tgt := 11) hx hb dX2_sum_59 (by decide) ?_
        have hE_59 := hE_42.ext hX_49
        have hE_60 := hE_59.ext hX_56
        refine W.widen (k := 1 + (k + 1) * mcL) (n := 4 + (k + 1) * msL) (by omega) (by omega) ?_
        exact ih11 (by omega) H_54 locs ls (by rw [show Value.int (iI ((fp_sm (fun k => if r k then vL k else 0) (k + 1) : Nat) : Int)) = Value.int (iI (((fp_sm (fun k => if r k then vL k else 0) k) + (vL k) : Nat) : Int)) from congrArg (fun q : Nat => Value.int (iI (q : Int))) (by show fp_sm (fun k => if r k then vL k else 0) k + (if r k then vL k else 0) = _; rw [c42]; rfl)]; exact lv_sub hl [2, 3, 4, 0, 5] rfl) hS (by omega) hE_60
  refine W.widen (k := 1 + 0 * mcL) (n := 4 + 0 * msL) (by omega) (by omega) ?_
  exact L11 0 (by omega) H_9 locs ls (by rw [show Value.int (iI ((fp_sm (fun k => if r k then vL k else 0) 0 : Nat) : Int)) = Value.int (iI ((0 : Nat) : Int)) from congrArg (fun q : Nat => Value.int (iI (q : Int))) (rfl)]; exact lv_sub hl [2, 3, 4, 1, 0] rfl) hS (Nat.le_refl _) hE_12
