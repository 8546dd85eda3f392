/-! THE STATE: preparing, placing -/
set_option maxRecDepth 100000
set_option maxHeartbeats 4000000 in
theorem c_X2_isInAllowedZones (G : fp_G) (x : Nat) (l : Nat) (ed : Nat) (z : Nat) (t : Nat) (mc : Int32) (cap : Nat) (b : Nat → Nat) (S : PS) (q : Nat) (B : Nat → Nat) (hsw : fp_sw S b) (hBk : fp_bk B) : fp_M G yX2_isInAllowedZones cX2_isInAllowedZones 3 (some .boolean) 2 60 0 0 [.ref (x), .ref (q)] (fun H => fp_SE G x l ed z t mc cap b S H ∧ fp_At G H q (fp_bE B)) fp_no (fun H v H1 => v = some (.int (iI (bI (fp_zoned S (B 1) (B 2) (B 3))))) ∧ H = H1) := by
  refine fp_M.intro (by decide) (Nat.le_of_ble_eq_true rfl) ?_
  intro pg en s mi ag bl mt cd rR qQ ls X hx hb hr hlk hnm hR hQ hB hM hl
  have hS : va_S (fA fp_no s.heap.size) s.heap s.heap [] := va_S.rf
  generalize ([] : List Loc) = locs at hS ⊢
  have hb0 := hB.1
  obtain ⟨h_st, h_nb⟩ := hM
  have hsz0 := hS.1
  have lt_1 := h_st.1.lt
  have lt_2 := h_nb.lt
  have hn24 := hsw.1.1
  obtain ⟨h_o, h_l, h_z, h_t, h_bl, h_xb, h_zb, h_tb⟩ := id h_st
  have lt_3 := h_l.1.lt
  have lt_4 := h_l.2.2
  have lt_5 := h_z.lt
  have lt_6 := h_t.lt
  have hBk2 := hBk.2
  refine lv_aload_n hx hb dX2_isInAllowedZones_0 rfl (lv_at hl 1 rfl) ?_
  refine r_getBN 1 (by decide) 2 rfl X h_nb hBk.2.1 q1157 dX2_isInAllowedZones_1 ?_
  refine lv_istore_n (lv' := [(2, .int (iI ((B 2 : Nat) : Int))), (0, .ref (x)), (1, .ref (q))]) hx hb dX2_isInAllowedZones_4 rfl hl (by decide) rfl (fun ls hl => ?_)
  have L5 : ∀ (k : Nat), k ≤ B 3 → ∀ (locs : List Loc) (ls : Array Slot),(∀ j, j < k → fp_zbad S (B 1) (B 2 + j) = false) → lv_has ls 3 [(0, .ref (x)), (1, .ref (q)), (2, .int (iI ((B 2 + k : Nat) : Int)))] → va_S (fA fp_no s.heap.size) s.heap s.heap locs → W pg (g_l G) en rR s mi ag bl mt cd s.heap locs 0 0 qQ (F0 mi 5 ls []) := by
    refine lp_up (B 3) ?_
    intro k hk5 ih5 locs ls hno hl hS
    refine lv_iload_n hx hb dX2_isInAllowedZones_5 rfl (lv_at hl 2 rfl) ?_
    refine lv_aload_n hx hb dX2_isInAllowedZones_6 rfl (lv_at hl 1 rfl) ?_
    refine b_right X hR h_nb (hBk.2.1) hBk q1211 (by decide) (by decide) (Nat.le_of_ble_eq_true rfl) (Nat.le_of_ble_eq_true rfl) (Nat.le_of_ble_eq_true rfl) hl.1 dX2_isInAllowedZones_7 (hB.of hS fp_no.base) hS (fun locs hS => ?_)
    refine r_icmp_gt (tgt := 34) hx hb ⟨by omega, by omega⟩ ⟨by omega, by omega⟩ dX2_isInAllowedZones_10 (by decide) (fun c10 => ?_) (fun c10 => ?_)
    · skip
      obtain rfl : k = B 3 := by omega
      refine lv_iconst (v := (iI ((1 : Nat) : Int))) hx hb dX2_isInAllowedZones_34 rfl ?_
      refine r_zret hx hb hr hlk hQ hS (Nat.le_of_ble_eq_true rfl) (Nat.le_of_ble_eq_true rfl) dX2_isInAllowedZones_35 rfl ?_
      exact ⟨(congrArg (fun q : Bool => some (Value.int (iI (bI q)))) (Eq.symm (show (fp_zoned S (B 1) (B 2) (B 3)) = true from fp_zoned_t hno))), rfl⟩
    · skip
      refine lv_aload_n hx hb dX2_isInAllowedZones_13 rfl (lv_at hl 0 rfl) ?_
      refine r_get X h_st.1 rfl in_X2 1 (by decide) q175 (Or.inl rfl) (v := .ref (z)) rfl dX2_isInAllowedZones_14 ?_
      refine lv_iload_n hx hb dX2_isInAllowedZones_17 rfl (lv_at hl 2 rfl) ?_
      refine r_aaldI X rfl h_z (j := B 2 + k) rfl (by omega) (by decide) dX2_isInAllowedZones_18 ?_
      refine r_set (y := .ref (fp_zad G (sZ S (B 2 + k)))) rfl ?_
      refine lv_aload_n hx hb dX2_isInAllowedZones_19 rfl (lv_at hl 1 rfl) ?_
      refine r_callZ X hR fp_no.base (hsw.1.2.2.2.1 _ (by omega)) h_nb hBk.2.1 q1212 ⟨Nat.le_of_ble_eq_true rfl, Nat.le_of_ble_eq_true rfl⟩ (Nat.le_of_ble_eq_true rfl) (Nat.le_of_ble_eq_true rfl) (Nat.le_of_ble_eq_true rfl) hl.1 dX2_isInAllowedZones_20 hB (hB.of hS fp_no.base) hS (fun locs hS => ?_)
      refine r_ifneB (tgt := 28) hx hb dX2_isInAllowedZones_23 (by decide) (fun c23 => ?_) (fun c23 => ?_)
      · skip
        refine lv_iinc (v := (iI (((B 2 + k) + 1 : Nat) : Int))) (lv' := [(2, .int (iI (((B 2 + k) + 1 : Nat) : Int))), (0, .ref (x)), (1, .ref (q))]) hx hb dX2_isInAllowedZones_28 hl (k := 2) rfl (iI_incN _ _) (by decide) rfl (fun ls hl => ?_)
        refine lv_goto (tgt := 5) hx hb dX2_isInAllowedZones_31 (by decide) ?_
        exact ih5 (by omega) locs ls (fp_ltS hno (by have h := c23; simp only [Bool.not_eq_eq_eq_not, Bool.not_true, Bool.not_false] at h; exact h)) (by rw [show Value.int (iI ((B 2 + (k + 1) : Nat) : Int)) = Value.int (iI (((B 2 + k) + 1 : Nat) : Int)) from congrArg (fun q : Nat => Value.int (iI (q : Int))) (by omega)]; exact lv_sub hl [1, 2, 0] rfl) hS
      · skip
        refine lv_iconst (v := (iI ((0 : Nat) : Int))) hx hb dX2_isInAllowedZones_26 rfl ?_
        refine r_zret hx hb hr hlk hQ hS (Nat.le_of_ble_eq_true rfl) (Nat.le_of_ble_eq_true rfl) dX2_isInAllowedZones_27 rfl ?_
        exact ⟨(congrArg (fun q : Bool => some (Value.int (iI (bI q)))) (Eq.symm (show (fp_zoned S (B 1) (B 2) (B 3)) = false from fp_zoned_f (i := k) (by omega) (by have h := c23; simp only [Bool.not_eq_eq_eq_not, Bool.not_true, Bool.not_false] at h; exact h)))), rfl⟩
  exact L5 0 (by omega) locs ls (fun i hi => absurd hi (Nat.not_lt_zero _)) (by rw [show Value.int (iI ((B 2 + 0 : Nat) : Int)) = Value.int (iI ((B 2 : Nat) : Int)) from congrArg (fun q : Nat => Value.int (iI (q : Int))) (by omega)]; exact lv_sub hl [1, 2, 0] rfl) hS
set_option maxHeartbeats 4000000 in
theorem c_X2_prepare (G : fp_G) (x : Nat) (l : Nat) (ed : Nat) (z : Nat) (t : Nat) (mc : Int32) (cap : Nat) (b : Nat → Nat) (S : PS) (kd : Nat) (lc : Nat) (wd : Nat) (wt : Nat) (hsw : fp_sw S b) (hkd : kd < 3) (hlw : lc + wd ≤ 12) (hwt : wt ≤ 9) (hwd : wd ≤ 5) : fp_M G yX2_prepare cX2_prepare 7 (some (.object "FortPlanner$Block")) 6 125 6 26 [.ref (x), .int (iI ((fp_sgn kd : Nat) : Int)), .int (iI ((lc : Nat) : Int)), .int (iI ((wd : Nat) : Int)), .int (iI ((wt : Nat) : Int))] (fun H => fp_SE G x l ed z t mc cap b S H) fp_no (fun H v H1 => ∃ (q : Nat), v = some (.ref (q)) ∧ (H.size ≤ q) ∧ fp_At G H1 q (fp_bE (fp_blk (sP S) kd lc wd wt (fp_base S lc wd)))) := by
  refine fp_M.intro (by decide) (Nat.le_of_ble_eq_true rfl) ?_
  intro pg en s mi ag bl mt cd rR qQ ls X hx hb hr hlk hnm hR hQ hB hM hl
  have hS : va_S (fA fp_no s.heap.size) s.heap s.heap [] := va_S.rf
  generalize ([] : List Loc) = locs at hS ⊢
  have hb0 := hB.1
  have h_st := hM
  have hsz0 := hS.1
  have lt_1 := h_st.1.lt
  have hn24 := hsw.1.1
  rcases (show kd = 0 ∨ kd = 1 ∨ kd = 2 by omega) with rfl | rfl | rfl
  · skip
    refine lv_iconst (v := (iI ((0 : Nat) : Int))) hx hb dX2_prepare_0 rfl ?_
    refine lv_istore (lv' := [(5, .int (iI ((0 : Nat) : Int))), (0, .ref (x)), (1, .int (iI ((fp_sgn 0 : Nat) : Int))), (2, .int (iI ((lc : Nat) : Int))), (3, .int (iI ((wd : Nat) : Int))), (4, .int (iI ((wt : Nat) : Int)))]) hx hb dX2_prepare_1 hl (by decide) rfl (fun ls hl => ?_)
    refine lv_iload_n hx hb dX2_prepare_3 rfl (lv_at hl 3 rfl) ?_
    refine lv_istore (lv' := [(6, .int (iI ((lc : Nat) : Int))), (5, .int (iI ((0 : Nat) : Int))), (0, .ref (x)), (1, .int (iI ((fp_sgn 0 : Nat) : Int))), (2, .int (iI ((lc : Nat) : Int))), (3, .int (iI ((wd : Nat) : Int))), (4, .int (iI ((wt : Nat) : Int)))]) hx hb dX2_prepare_4 hl (by decide) rfl (fun ls hl => ?_)
    have L6 : ∀ (k : Nat), k ≤ wd → ∀ (H_2 : Heap) (locs : List Loc) (ls : Array Slot), lv_has ls 7 [(0, .ref (x)), (1, .int (iI ((fp_sgn 0 : Nat) : Int))), (2, .int (iI ((lc : Nat) : Int))), (3, .int (iI ((wd : Nat) : Int))), (4, .int (iI ((wt : Nat) : Int))), (5, .int (iI ((fp_mx (fun i => fp_hi S (lc + i)) k : Nat) : Int))), (6, .int (iI ((lc + k : Nat) : Int)))] → va_S (fA fp_no s.heap.size) s.heap H_2 locs → (s.heap.size ≤ H_2.size) → W pg (g_l G) en rR s mi ag bl mt cd H_2 locs (1 * k) (4 * k) qQ (F0 mi 6 ls []) := by
      refine lp_up wd ?_
      intro k hk6 ih6 H_2 locs ls hl hS hz_3
      have hz_4 := hS.1
      have hh1 := fp_hi_le hsw.1 (lc + k)
      have hm42 : fp_mx (fun i => fp_hi S (lc + i)) k ≤ 42 := fp_mx_le (fun j hj => fp_hi_le hsw.1 _)
      refine lv_iload hx hb dX2_prepare_6 (lv_at hl 6 rfl) ?_
      refine lv_iload_n hx hb dX2_prepare_8 rfl (lv_at hl 2 rfl) ?_
      refine lv_iload_n hx hb dX2_prepare_9 rfl (lv_at hl 3 rfl) ?_
      refine r_iaddN hx hb dX2_prepare_10 ?_
      refine r_icmp_ge (tgt := 33) hx hb ⟨by omega, by omega⟩ ⟨by omega, by omega⟩ dX2_prepare_11 (by decide) (fun c11 => ?_) (fun c11 => ?_)
      · skip
        obtain rfl : wd = k := by omega
        refine lv_iload_n hx hb dX2_prepare_33 rfl (lv_at hl 1 rfl) ?_
        refine r_set (y := .int (iI ((102 : Nat) : Int))) rfl ?_
        refine lv_aload_n hx hb dX2_prepare_34 rfl (lv_at hl 0 rfl) ?_
        have hE_5 := h_st.ext (fp_X.ofS hS)
        refine r_get X hE_5.1 rfl in_X2 3 (by decide) q179 (Or.inl rfl) (v := .int (iI ((sP S : Nat) : Int))) rfl dX2_prepare_35 ?_
        refine lv_iload_n hx hb dX2_prepare_38 rfl (lv_at hl 2 rfl) ?_
        refine lv_iload_n hx hb dX2_prepare_39 rfl (lv_at hl 3 rfl) ?_
        refine lv_iload hx hb dX2_prepare_40 (lv_at hl 4 rfl) ?_
        refine lv_iload hx hb dX2_prepare_42 (lv_at hl 5 rfl) ?_
        refine r_callSN (cells1 := (1 * wd + 1)) (slots1 := (4 * wd + 5)) X hR (c_X1_create_0 G (sP S) lc wd wt (fp_mx (fun i => fp_hi S (lc + i)) wd)) q1141 q1142 q88 q1143 ⟨by decide, by decide, rfl⟩ ⟨Nat.le_of_ble_eq_true rfl, Nat.le_of_ble_eq_true rfl⟩ rfl rfl (by omega) (by omega) rfl (Nat.le_of_ble_eq_true rfl) hl.1 dX2_prepare_44 (hB.of hS fp_no.base) trivial hS (fun _ h => h.elim) (fun v H_9 locs hp_6 hz_7 hk_8 hS => ?_)
        obtain ⟨rfl, hE_10⟩ := hp_6
        have hz_11 := hS.1
        have lt_13 := hE_10.lt
        refine r_stk (st2 := [.ref (H_2.size)]) rfl ?_
        refine r_aret hx hb hr hlk hQ hS (by omega) (by omega) dX2_prepare_47 (Or.inl ⟨_, rfl⟩) (Or.inr ⟨_, rfl⟩) ?_
        exact ⟨H_2.size, rfl, (by omega), hE_10⟩
      · skip
        refine lv_iload hx hb dX2_prepare_14 (lv_at hl 5 rfl) ?_
        refine lv_aload_n hx hb dX2_prepare_16 rfl (lv_at hl 0 rfl) ?_
        refine lv_iload hx hb dX2_prepare_17 (lv_at hl 6 rfl) ?_
        have hE_14 := h_st.ext (fp_X.ofS hS)
        refine r_callV (cells1 := (1 * k + 1)) (slots1 := (4 * k + 4)) X hR (c_X2_height G x l ed z t mc cap b S (lc + k) hsw (by omega)) q455 q272 q273 q89 q274 ⟨rfl, pd_X2_height⟩ ⟨Nat.le_of_ble_eq_true rfl, Nat.le_of_ble_eq_true rfl⟩ rfl rfl (by omega) (by omega) hE_14.1 rfl rfl (Nat.le_of_ble_eq_true rfl) hl.1 dX2_prepare_19 (hB.of hS fp_no.base) hE_14 hS (fun _ h => h.elim) (fun v H_18 locs hp_15 hz_16 hk_17 hS => ?_)
        obtain rfl := hp_15
        have hz_19 := hS.1
        refine r_stk (st2 := [.int (iI ((fp_hi S (lc + k) : Nat) : Int)), .int (iI ((fp_mx (fun i => fp_hi S (lc + i)) k : Nat) : Int))]) rfl ?_
        refine r_maxN X hR hl.1 q424 q425 q107 q426 (by decide) (Nat.le_of_ble_eq_true rfl) (by omega) (by omega) (by omega) (by omega) dX2_prepare_22 ?_
        refine lv_istore (lv' := [(5, .int (iI ((max (fp_mx (fun i => fp_hi S (lc + i)) k) (fp_hi S (lc + k)) : Nat) : Int))), (0, .ref (x)), (1, .int (iI ((fp_sgn 0 : Nat) : Int))), (2, .int (iI ((lc : Nat) : Int))), (3, .int (iI ((wd : Nat) : Int))), (4, .int (iI ((wt : Nat) : Int))), (6, .int (iI ((lc + k : Nat) : Int)))]) hx hb dX2_prepare_25 hl (by decide) rfl (fun ls hl => ?_)
        refine lv_iinc (v := (iI (((lc + k) + 1 : Nat) : Int))) (lv' := [(6, .int (iI (((lc + k) + 1 : Nat) : Int))), (5, .int (iI ((max (fp_mx (fun i => fp_hi S (lc + i)) k) (fp_hi S (lc + k)) : Nat) : Int))), (0, .ref (x)), (1, .int (iI ((fp_sgn 0 : Nat) : Int))), (2, .int (iI ((lc : Nat) : Int))), (3, .int (iI ((wd : Nat) : Int))), (4, .int (iI ((wt : Nat) : Int)))]) hx hb dX2_prepare_27 hl (k := 6) rfl (iI_incN _ _) (by decide) rfl (fun ls hl => ?_)
        refine lv_goto (tgt := 6) hx hb dX2_prepare_30 (by decide) ?_
        refine W.widen (k := 1 * (k + 1)) (n := 4 * (k + 1)) (by omega) (by omega) ?_
        exact ih6 (by omega) H_18 locs ls (by rw [show Value.int (iI ((fp_mx (fun i => fp_hi S (lc + i)) (k + 1) : Nat) : Int)) = Value.int (iI ((max (fp_mx (fun i => fp_hi S (lc + i)) k) (fp_hi S (lc + k)) : Nat) : Int)) from congrArg (fun q : Nat => Value.int (iI (q : Int))) (rfl), show Value.int (iI ((lc + (k + 1) : Nat) : Int)) = Value.int (iI (((lc + k) + 1 : Nat) : Int)) from congrArg (fun q : Nat => Value.int (iI (q : Int))) (by omega)]; exact lv_sub hl [2, 3, 4, 5, 6, 1, 0] rfl) hS (by omega)
    refine W.widen (k := 1 * 0) (n := 4 * 0) (by omega) (by omega) ?_
    exact L6 0 (by omega) s.heap locs ls (by rw [show Value.int (iI ((lc + 0 : Nat) : Int)) = Value.int (iI ((lc : Nat) : Int)) from congrArg (fun q : Nat => Value.int (iI (q : Int))) (by omega)]; exact lv_sub hl [2, 3, 4, 5, 6, 1, 0] rfl) hS (Nat.le_refl _)
  · skip
    refine lv_iconst (v := (iI ((0 : Nat) : Int))) hx hb dX2_prepare_0 rfl ?_
    refine lv_istore (lv' := [(5, .int (iI ((0 : Nat) : Int))), (0, .ref (x)), (1, .int (iI ((fp_sgn 1 : Nat) : Int))), (2, .int (iI ((lc : Nat) : Int))), (3, .int (iI ((wd : Nat) : Int))), (4, .int (iI ((wt : Nat) : Int)))]) hx hb dX2_prepare_1 hl (by decide) rfl (fun ls hl => ?_)
    refine lv_iload_n hx hb dX2_prepare_3 rfl (lv_at hl 3 rfl) ?_
    refine lv_istore (lv' := [(6, .int (iI ((lc : Nat) : Int))), (5, .int (iI ((0 : Nat) : Int))), (0, .ref (x)), (1, .int (iI ((fp_sgn 1 : Nat) : Int))), (2, .int (iI ((lc : Nat) : Int))), (3, .int (iI ((wd : Nat) : Int))), (4, .int (iI ((wt : Nat) : Int)))]) hx hb dX2_prepare_4 hl (by decide) rfl (fun ls hl => ?_)
    have L6 : ∀ (k : Nat), k ≤ wd → ∀ (H_20 : Heap) (locs : List Loc) (ls : Array Slot), lv_has ls 7 [(0, .ref (x)), (1, .int (iI ((fp_sgn 1 : Nat) : Int))), (2, .int (iI ((lc : Nat) : Int))), (3, .int (iI ((wd : Nat) : Int))), (4, .int (iI ((wt : Nat) : Int))), (5, .int (iI ((fp_mx (fun i => fp_hi S (lc + i)) k : Nat) : Int))), (6, .int (iI ((lc + k : Nat) : Int)))] → va_S (fA fp_no s.heap.size) s.heap H_20 locs → (s.heap.size ≤ H_20.size) → W pg (g_l G) en rR s mi ag bl mt cd H_20 locs (1 * k) (4 * k) qQ (F0 mi 6 ls []) := by
      refine lp_up wd ?_
      intro k hk6 ih6 H_20 locs ls hl hS hz_21
      have hz_22 := hS.1
      have hh1 := fp_hi_le hsw.1 (lc + k)
      have hm42 : fp_mx (fun i => fp_hi S (lc + i)) k ≤ 42 := fp_mx_le (fun j hj => fp_hi_le hsw.1 _)
      refine lv_iload hx hb dX2_prepare_6 (lv_at hl 6 rfl) ?_
      refine lv_iload_n hx hb dX2_prepare_8 rfl (lv_at hl 2 rfl) ?_
      refine lv_iload_n hx hb dX2_prepare_9 rfl (lv_at hl 3 rfl) ?_
      refine r_iaddN hx hb dX2_prepare_10 ?_
      refine r_icmp_ge (tgt := 33) hx hb ⟨by omega, by omega⟩ ⟨by omega, by omega⟩ dX2_prepare_11 (by decide) (fun c11 => ?_) (fun c11 => ?_)
      · skip
        obtain rfl : wd = k := by omega
        refine lv_iload_n hx hb dX2_prepare_33 rfl (lv_at hl 1 rfl) ?_
        refine r_set (y := .int (iI ((98 : Nat) : Int))) rfl ?_
        refine lv_aload_n hx hb dX2_prepare_34 rfl (lv_at hl 0 rfl) ?_
        have hE_23 := h_st.ext (fp_X.ofS hS)
        refine r_get X hE_23.1 rfl in_X2 3 (by decide) q179 (Or.inl rfl) (v := .int (iI ((sP S : Nat) : Int))) rfl dX2_prepare_35 ?_
        refine lv_iload_n hx hb dX2_prepare_38 rfl (lv_at hl 2 rfl) ?_
        refine lv_iload_n hx hb dX2_prepare_39 rfl (lv_at hl 3 rfl) ?_
        refine lv_iload hx hb dX2_prepare_40 (lv_at hl 4 rfl) ?_
        refine lv_iload hx hb dX2_prepare_42 (lv_at hl 5 rfl) ?_
        refine r_callSN (cells1 := (1 * wd + 1)) (slots1 := (4 * wd + 5)) X hR (c_X1_create_1 G (sP S) lc wd wt (fp_mx (fun i => fp_hi S (lc + i)) wd)) q1141 q1142 q88 q1143 ⟨by decide, by decide, rfl⟩ ⟨Nat.le_of_ble_eq_true rfl, Nat.le_of_ble_eq_true rfl⟩ rfl rfl (by omega) (by omega) rfl (Nat.le_of_ble_eq_true rfl) hl.1 dX2_prepare_44 (hB.of hS fp_no.base) trivial hS (fun _ h => h.elim) (fun v H_27 locs hp_24 hz_25 hk_26 hS => ?_)
        obtain ⟨rfl, hE_28⟩ := hp_24
        have hz_29 := hS.1
        have lt_31 := hE_28.lt
        refine r_stk (st2 := [.ref (H_20.size)]) rfl ?_
        refine r_aret hx hb hr hlk hQ hS (by omega) (by omega) dX2_prepare_47 (Or.inl ⟨_, rfl⟩) (Or.inr ⟨_, rfl⟩) ?_
        exact ⟨H_20.size, rfl, (by omega), hE_28⟩
      · skip
        refine lv_iload hx hb dX2_prepare_14 (lv_at hl 5 rfl) ?_
        refine lv_aload_n hx hb dX2_prepare_16 rfl (lv_at hl 0 rfl) ?_
        refine lv_iload hx hb dX2_prepare_17 (lv_at hl 6 rfl) ?_
        have hE_32 := h_st.ext (fp_X.ofS hS)
        refine r_callV (cells1 := (1 * k + 1)) (slots1 := (4 * k + 4)) X hR (c_X2_height G x l ed z t mc cap b S (lc + k) hsw (by omega)) q455 q272 q273 q89 q274 ⟨rfl, pd_X2_height⟩ ⟨Nat.le_of_ble_eq_true rfl, Nat.le_of_ble_eq_true rfl⟩ rfl rfl (by omega) (by omega) hE_32.1 rfl rfl (Nat.le_of_ble_eq_true rfl) hl.1 dX2_prepare_19 (hB.of hS fp_no.base) hE_32 hS (fun _ h => h.elim) (fun v H_36 locs hp_33 hz_34 hk_35 hS => ?_)
        obtain rfl := hp_33
        have hz_37 := hS.1
        refine r_stk (st2 := [.int (iI ((fp_hi S (lc + k) : Nat) : Int)), .int (iI ((fp_mx (fun i => fp_hi S (lc + i)) k : Nat) : Int))]) rfl ?_
        refine r_maxN X hR hl.1 q424 q425 q107 q426 (by decide) (Nat.le_of_ble_eq_true rfl) (by omega) (by omega) (by omega) (by omega) dX2_prepare_22 ?_
        refine lv_istore (lv' := [(5, .int (iI ((max (fp_mx (fun i => fp_hi S (lc + i)) k) (fp_hi S (lc + k)) : Nat) : Int))), (0, .ref (x)), (1, .int (iI ((fp_sgn 1 : Nat) : Int))), (2, .int (iI ((lc : Nat) : Int))), (3, .int (iI ((wd : Nat) : Int))), (4, .int (iI ((wt : Nat) : Int))), (6, .int (iI ((lc + k : Nat) : Int)))]) hx hb dX2_prepare_25 hl (by decide) rfl (fun ls hl => ?_)
        refine lv_iinc (v := (iI (((lc + k) + 1 : Nat) : Int))) (lv' := [(6, .int (iI (((lc + k) + 1 : Nat) : Int))), (5, .int (iI ((max (fp_mx (fun i => fp_hi S (lc + i)) k) (fp_hi S (lc + k)) : Nat) : Int))), (0, .ref (x)), (1, .int (iI ((fp_sgn 1 : Nat) : Int))), (2, .int (iI ((lc : Nat) : Int))), (3, .int (iI ((wd : Nat) : Int))), (4, .int (iI ((wt : Nat) : Int)))]) hx hb dX2_prepare_27 hl (k := 6) rfl (iI_incN _ _) (by decide) rfl (fun ls hl => ?_)
        refine lv_goto (tgt := 6) hx hb dX2_prepare_30 (by decide) ?_
        refine W.widen (k := 1 * (k + 1)) (n := 4 * (k + 1)) (by omega) (by omega) ?_
        exact ih6 (by omega) H_36 locs ls (by rw [show Value.int (iI ((fp_mx (fun i => fp_hi S (lc + i)) (k + 1) : Nat) : Int)) = Value.int (iI ((max (fp_mx (fun i => fp_hi S (lc + i)) k) (fp_hi S (lc + k)) : Nat) : Int)) from congrArg (fun q : Nat => Value.int (iI (q : Int))) (rfl), show Value.int (iI ((lc + (k + 1) : Nat) : Int)) = Value.int (iI (((lc + k) + 1 : Nat) : Int)) from congrArg (fun q : Nat => Value.int (iI (q : Int))) (by omega)]; exact lv_sub hl [2, 3, 4, 5, 6, 1, 0] rfl) hS (by omega)
    refine W.widen (k := 1 * 0) (n := 4 * 0) (by omega) (by omega) ?_
    exact L6 0 (by omega) s.heap locs ls (by rw [show Value.int (iI ((lc + 0 : Nat) : Int)) = Value.int (iI ((lc : Nat) : Int)) from congrArg (fun q : Nat => Value.int (iI (q : Int))) (by omega)]; exact lv_sub hl [2, 3, 4, 5, 6, 1, 0] rfl) hS (Nat.le_refl _)
  · skip
    refine lv_iconst (v := (iI ((0 : Nat) : Int))) hx hb dX2_prepare_0 rfl ?_
    refine lv_istore (lv' := [(5, .int (iI ((0 : Nat) : Int))), (0, .ref (x)), (1, .int (iI ((fp_sgn 2 : Nat) : Int))), (2, .int (iI ((lc : Nat) : Int))), (3, .int (iI ((wd : Nat) : Int))), (4, .int (iI ((wt : Nat) : Int)))]) hx hb dX2_prepare_1 hl (by decide) rfl (fun ls hl => ?_)
    refine lv_iload_n hx hb dX2_prepare_3 rfl (lv_at hl 3 rfl) ?_
    refine lv_istore (lv' := [(6, .int (iI ((lc : Nat) : Int))), (5, .int (iI ((0 : Nat) : Int))), (0, .ref (x)), (1, .int (iI ((fp_sgn 2 : Nat) : Int))), (2, .int (iI ((lc : Nat) : Int))), (3, .int (iI ((wd : Nat) : Int))), (4, .int (iI ((wt : Nat) : Int)))]) hx hb dX2_prepare_4 hl (by decide) rfl (fun ls hl => ?_)
    have L6 : ∀ (k : Nat), k ≤ wd → ∀ (H_38 : Heap) (locs : List Loc) (ls : Array Slot), lv_has ls 7 [(0, .ref (x)), (1, .int (iI ((fp_sgn 2 : Nat) : Int))), (2, .int (iI ((lc : Nat) : Int))), (3, .int (iI ((wd : Nat) : Int))), (4, .int (iI ((wt : Nat) : Int))), (5, .int (iI ((fp_mx (fun i => fp_hi S (lc + i)) k : Nat) : Int))), (6, .int (iI ((lc + k : Nat) : Int)))] → va_S (fA fp_no s.heap.size) s.heap H_38 locs → (s.heap.size ≤ H_38.size) → W pg (g_l G) en rR s mi ag bl mt cd H_38 locs (1 * k) (4 * k) qQ (F0 mi 6 ls []) := by
      refine lp_up wd ?_
      intro k hk6 ih6 H_38 locs ls hl hS hz_39
      have hz_40 := hS.1
      have hh1 := fp_hi_le hsw.1 (lc + k)
      have hm42 : fp_mx (fun i => fp_hi S (lc + i)) k ≤ 42 := fp_mx_le (fun j hj => fp_hi_le hsw.1 _)
      refine lv_iload hx hb dX2_prepare_6 (lv_at hl 6 rfl) ?_
      refine lv_iload_n hx hb dX2_prepare_8 rfl (lv_at hl 2 rfl) ?_
      refine lv_iload_n hx hb dX2_prepare_9 rfl (lv_at hl 3 rfl) ?_
      refine r_iaddN hx hb dX2_prepare_10 ?_
      refine r_icmp_ge (tgt := 33) hx hb ⟨by omega, by omega⟩ ⟨by omega, by omega⟩ dX2_prepare_11 (by decide) (fun c11 => ?_) (fun c11 => ?_)
      · skip
        obtain rfl : wd = k := by omega
        refine lv_iload_n hx hb dX2_prepare_33 rfl (lv_at hl 1 rfl) ?_
        refine r_set (y := .int (iI ((103 : Nat) : Int))) rfl ?_
        refine lv_aload_n hx hb dX2_prepare_34 rfl (lv_at hl 0 rfl) ?_
        have hE_41 := h_st.ext (fp_X.ofS hS)
        refine r_get X hE_41.1 rfl in_X2 3 (by decide) q179 (Or.inl rfl) (v := .int (iI ((sP S : Nat) : Int))) rfl dX2_prepare_35 ?_
        refine lv_iload_n hx hb dX2_prepare_38 rfl (lv_at hl 2 rfl) ?_
        refine lv_iload_n hx hb dX2_prepare_39 rfl (lv_at hl 3 rfl) ?_
        refine lv_iload hx hb dX2_prepare_40 (lv_at hl 4 rfl) ?_
        refine lv_iload hx hb dX2_prepare_42 (lv_at hl 5 rfl) ?_
        refine r_callSN (cells1 := (1 * wd + 1)) (slots1 := (4 * wd + 6)) X hR (c_X1_create_2 G (sP S) lc wd wt (fp_mx (fun i => fp_hi S (lc + i)) wd)) q1141 q1142 q88 q1143 ⟨by decide, by decide, rfl⟩ ⟨Nat.le_of_ble_eq_true rfl, Nat.le_of_ble_eq_true rfl⟩ rfl rfl (by omega) (by omega) rfl (Nat.le_of_ble_eq_true rfl) hl.1 dX2_prepare_44 (hB.of hS fp_no.base) trivial hS (fun _ h => h.elim) (fun v H_45 locs hp_42 hz_43 hk_44 hS => ?_)
        obtain ⟨rfl, hE_46⟩ := hp_42
        have hz_47 := hS.1
        have lt_49 := hE_46.lt
        refine r_stk (st2 := [.ref (H_38.size)]) rfl ?_
        refine r_aret hx hb hr hlk hQ hS (by omega) (by omega) dX2_prepare_47 (Or.inl ⟨_, rfl⟩) (Or.inr ⟨_, rfl⟩) ?_
        exact ⟨H_38.size, rfl, (by omega), hE_46⟩
      · skip
        refine lv_iload hx hb dX2_prepare_14 (lv_at hl 5 rfl) ?_
        refine lv_aload_n hx hb dX2_prepare_16 rfl (lv_at hl 0 rfl) ?_
        refine lv_iload hx hb dX2_prepare_17 (lv_at hl 6 rfl) ?_
        have hE_50 := h_st.ext (fp_X.ofS hS)
        refine r_callV (cells1 := (1 * k + 1)) (slots1 := (4 * k + 4)) X hR (c_X2_height G x l ed z t mc cap b S (lc + k) hsw (by omega)) q455 q272 q273 q89 q274 ⟨rfl, pd_X2_height⟩ ⟨Nat.le_of_ble_eq_true rfl, Nat.le_of_ble_eq_true rfl⟩ rfl rfl (by omega) (by omega) hE_50.1 rfl rfl (Nat.le_of_ble_eq_true rfl) hl.1 dX2_prepare_19 (hB.of hS fp_no.base) hE_50 hS (fun _ h => h.elim) (fun v H_54 locs hp_51 hz_52 hk_53 hS => ?_)
        obtain rfl := hp_51
        have hz_55 := hS.1
        refine r_stk (st2 := [.int (iI ((fp_hi S (lc + k) : Nat) : Int)), .int (iI ((fp_mx (fun i => fp_hi S (lc + i)) k : Nat) : Int))]) rfl ?_
        refine r_maxN X hR hl.1 q424 q425 q107 q426 (by decide) (Nat.le_of_ble_eq_true rfl) (by omega) (by omega) (by omega) (by omega) dX2_prepare_22 ?_
        refine lv_istore (lv' := [(5, .int (iI ((max (fp_mx (fun i => fp_hi S (lc + i)) k) (fp_hi S (lc + k)) : Nat) : Int))), (0, .ref (x)), (1, .int (iI ((fp_sgn 2 : Nat) : Int))), (2, .int (iI ((lc : Nat) : Int))), (3, .int (iI ((wd : Nat) : Int))), (4, .int (iI ((wt : Nat) : Int))), (6, .int (iI ((lc + k : Nat) : Int)))]) hx hb dX2_prepare_25 hl (by decide) rfl (fun ls hl => ?_)
        refine lv_iinc (v := (iI (((lc + k) + 1 : Nat) : Int))) (lv' := [(6, .int (iI (((lc + k) + 1 : Nat) : Int))), (5, .int (iI ((max (fp_mx (fun i => fp_hi S (lc + i)) k) (fp_hi S (lc + k)) : Nat) : Int))), (0, .ref (x)), (1, .int (iI ((fp_sgn 2 : Nat) : Int))), (2, .int (iI ((lc : Nat) : Int))), (3, .int (iI ((wd : Nat) : Int))), (4, .int (iI ((wt : Nat) : Int)))]) hx hb dX2_prepare_27 hl (k := 6) rfl (iI_incN _ _) (by decide) rfl (fun ls hl => ?_)
        refine lv_goto (tgt := 6) hx hb dX2_prepare_30 (by decide) ?_
        refine W.widen (k := 1 * (k + 1)) (n := 4 * (k + 1)) (by omega) (by omega) ?_
        exact ih6 (by omega) H_54 locs ls (by rw [show Value.int (iI ((fp_mx (fun i => fp_hi S (lc + i)) (k + 1) : Nat) : Int)) = Value.int (iI ((max (fp_mx (fun i => fp_hi S (lc + i)) k) (fp_hi S (lc + k)) : Nat) : Int)) from congrArg (fun q : Nat => Value.int (iI (q : Int))) (rfl), show Value.int (iI ((lc + (k + 1) : Nat) : Int)) = Value.int (iI (((lc + k) + 1 : Nat) : Int)) from congrArg (fun q : Nat => Value.int (iI (q : Int))) (by omega)]; exact lv_sub hl [2, 3, 4, 5, 6, 1, 0] rfl) hS (by omega)
    refine W.widen (k := 1 * 0) (n := 4 * 0) (by omega) (by omega) ?_
    exact L6 0 (by omega) s.heap locs ls (by rw [show Value.int (iI ((lc + 0 : Nat) : Int)) = Value.int (iI ((lc : Nat) : Int)) from congrArg (fun q : Nat => Value.int (iI (q : Int))) (by omega)]; exact lv_sub hl [2, 3, 4, 5, 6, 1, 0] rfl) hS (Nat.le_refl _)
set_option maxHeartbeats 4000000 in
theorem c_X2_place (G : fp_G) (x : Nat) (l : Nat) (ed : Nat) (z : Nat) (t : Nat) (mc : Int32) (cap : Nat) (b : Nat → Nat) (S : PS) (q : Nat) (B : Nat → Nat) (hsw : fp_sw S b) (hqB : (g_s G).heap.size ≤ q) : fp_M G yX2_place cX2_place 2 none 8 191 1 47 [.ref (x), .ref (q)] (fun H => fp_SE G x l ed z t mc cap b S H ∧ fp_At G H q (fp_bE B)) (fun q => (g_s G).heap.size ≤ q ∧ (q = x ∨ q = l ∨ q = ed)) (fun H v H1 => ∃ (ed2 : Nat), ∃ (mc2 : Int32), ∃ (cap2 : Nat), v = none ∧ (ed2 = ed ∨ H.size ≤ ed2) ∧ fp_SE G x l ed2 z t mc2 cap2 (va_up b (sN S) q) (sN S + 1, va_up (sB S) (sN S) B, sP S + 1, sZ S, sT S) H1) := by
  refine fp_M.intro (by decide) (Nat.le_of_ble_eq_true rfl) ?_
  intro pg en s mi ag bl mt cd rR qQ ls X hx hb hr hlk hnm hR hQ hB hM hl
  have hS : va_S (fA (fun q => (g_s G).heap.size ≤ q ∧ (q = x ∨ q = l ∨ q = ed)) s.heap.size) s.heap s.heap [] := va_S.rf
  generalize ([] : List Loc) = locs at hS ⊢
  have hb0 := hB.1
  have hAb : ∀ q, (fun q => (g_s G).heap.size ≤ q ∧ (q = x ∨ q = l ∨ q = ed)) q → (g_s G).heap.size ≤ q := fun q h => h.1
  obtain ⟨h_st, h_nb⟩ := hM
  have hsz0 := hS.1
  have lt_1 := h_st.1.lt
  have lt_2 := h_nb.lt
  have hn24 := hsw.1.1
  have hp1000 := hsw.1.2.1
  have hed0 := (X.2.2.2.2.2.deT (A := fp_no) hB fp_no.base).2.2
  obtain ⟨hds, hap0⟩ := fp_SE.dis X.2.2.2.2.2 hed0 h_st
  have hap : True ∧ ∀ k, k < sN S → b k ≠ x ∧ b k ≠ l ∧ b k ≠ ed ∧ b k ≠ z ∧ b k ≠ t := ⟨trivial, hap0⟩
  have hlb := h_st.2.1.2.2.2
  have hqd := fp_SE.disB X.2.2.2.2.2 hed0 h_st h_nb hqB
  obtain ⟨h_o, h_l, h_z, h_t, h_bl, h_xb, h_zb, h_tb⟩ := id h_st
  have lt_3 := h_l.1.lt
  have lt_4 := h_l.2.2
  have lt_5 := h_z.lt
  have lt_6 := h_t.lt
  have lt_7 := h_o.lt
  refine lv_aload_n hx hb dX2_place_0 rfl (lv_at hl 0 rfl) ?_
  refine r_get X h_o rfl in_X2 0 (by decide) q173 (Or.inl rfl) (v := .ref (l)) rfl dX2_place_1 ?_
  have hel_8 : fp_EL G (sN S) b s.heap := h_bl.el
  have heo_9 : fp_EO G q s.heap := fp_el.ofB h_nb
  have lt_10 := fp_el.lt heo_9
  refine lv_aload_n hx hb dX2_place_4 rfl (lv_at hl 1 rfl) ?_
  refine r_callV (cells1 := (0 + (1 - (cap - (sN S))))) (slots1 := (0 + ((sN S) + (sN S) / 2 + 11 - 10000 * (cap - (sN S))))) X hR (c_J2_add_2 G l ed mc (sN S) cap b q (fun k hk => (hap.2 k hk).2.1) (hqd.2.1) (by omega)) q1101 q1102 q1103 q92 q1104 ⟨rfl, pd_J2_add_2⟩ ⟨Nat.le_of_ble_eq_true rfl, Nat.le_of_ble_eq_true rfl⟩ rfl rfl (by omega) (by omega) h_l.1 rfl rfl (Nat.le_of_ble_eq_true rfl) hl.1 dX2_place_5 (hB.of hS hAb) ⟨h_l, hel_8, heo_9⟩ hS (fun q h => by have h2 : (g_s G).heap.size ≤ q ∧ (q = l ∨ q = ed) := h; show ((g_s G).heap.size ≤ q ∧ (q = x ∨ q = l ∨ q = ed)) ∨ s.heap.size ≤ q; omega) (fun v H_14 locs hp_11 hz_12 hk_13 hS => ?_)
  obtain ⟨ed2_15, mc2_16, cap2_17, rfl, hed2_18, hcp_19, hE_20⟩ := hp_11
  have hz_21 := hS.1
  have lt_22 := hE_20.1.lt
  have lt_23 := hE_20.2.2
  refine r_stk (st2 := [.int (iI ((1 : Nat) : Int))]) rfl ?_
  have hne2_24 := fp_ne2 (a := x) hed2_18 ((hds.1.2.1)) (by omega)
  have hne2_24 : fp_dif x ed2_15 := hne2_24
  refine lv_pop hx hb dX2_place_8 rfl ?_
  refine lv_aload_n hx hb dX2_place_9 rfl (lv_at hl 0 rfl) ?_
  refine lv_dup hx hb dX2_place_10 rfl ?_
  have hE_26 := fp_At.kept h_o (hk_13 _ (by omega) (fun h => (fun h => h.elim (hds.1.1) (hds.1.2.1)) h.2))
  refine r_get X hE_26 rfl in_X2 3 (by decide) q179 (Or.inl rfl) (v := .int (iI ((sP S : Nat) : Int))) rfl dX2_place_11 ?_
  refine lv_iconst (v := (iI ((1 : Nat) : Int))) hx hb dX2_place_14 rfl ?_
  refine r_iaddN hx hb dX2_place_15 ?_
  refine r_put X hE_26 hS (Or.inl ⟨by omega, Or.inl rfl⟩) rfl in_X2 tyX2_ok nmX2 3 (by decide) q179 (Or.inl rfl) rfl rfl rfl (show 3 < 4 by decide) dX2_place_16 (fun H_30 locs hE_27 hz_28 hq_29 hS => ?_)
  have hz_31 := hS.1
  refine r_vret hx hb hr hlk hQ hS (by omega) (by omega) dX2_place_19 ?_
  have hE_33 := fp_LE.mv hE_20 (hq_29 _ (Ne.symm (hds.1.1))) (hq_29 _ (Ne.symm (hne2_24)))
  have hE_34 := fp_At.kept h_z (fp_keptS (by omega) hS (fun h => (fun h => h.elim (Ne.symm (hds.1.2.2.1)) (fun h => h.elim (Ne.symm (hds.2.1.2.1)) (hds.2.2.1))) h.2))
  have hE_35 := fp_At.kept h_t (fp_keptS (by omega) hS (fun h => (fun h => h.elim (Ne.symm (hds.1.2.2.2)) (fun h => h.elim (Ne.symm (hds.2.1.2.2)) (hds.2.2.2.1))) h.2))
  have hE_36 := fp_BL.mv h_bl (fun k hk => fp_keptS (h_bl k hk).lt hS (by have := hap.2 k hk; omega))
  have hE_37 := fp_At.kept h_nb (fp_keptS (by omega) hS (fun h => (fun h => h.elim (hqd.1) (fun h => h.elim (hqd.2.1) (hqd.2.2.1))) h.2))
  exact ⟨ed2_15, mc2_16, cap2_17, rfl, (by omega), (⟨hE_27, hE_33, hE_34, hE_35, hE_36.up hE_37, h_xb, h_zb, h_tb⟩)⟩
set_option maxHeartbeats 4000000 in
theorem c_X2_canPlace (G : fp_G) (x : Nat) (l : Nat) (ed : Nat) (z : Nat) (t : Nat) (mc : Int32) (cap : Nat) (b : Nat → Nat) (S : PS) (q : Nat) (B : Nat → Nat) (hsw : fp_sw S b) (hBk : fp_bk B) (hdl : fp_dl (fp_tri S B)) (hqb : ∀ k, k < sN S → b k ≠ q) (hqB : (g_s G).heap.size ≤ q) : fp_M G yX2_canPlace cX2_canPlace 3 (some .boolean) 11 267 146 2975 [.ref (x), .ref (q)] (fun H => fp_SE G x l ed z t mc cap b S H ∧ fp_At G H q (fp_bE B)) (fun q => (g_s G).heap.size ≤ q ∧ (q = l ∨ q = ed)) (fun H v H1 => ∃ (ed2 : Nat), ∃ (mc2 : Int32), ∃ (cap2 : Nat), v = some (.int (iI (bI (fp_can S B)))) ∧ (ed2 = ed ∨ H.size ≤ ed2) ∧ fp_SE G x l ed2 z t mc2 cap2 b S H1) := by
  refine fp_M.intro (by decide) (Nat.le_of_ble_eq_true rfl) ?_
  intro pg en s mi ag bl mt cd rR qQ ls X hx hb hr hlk hnm hR hQ hB hM hl
  have hS : va_S (fA (fun q => (g_s G).heap.size ≤ q ∧ (q = l ∨ q = ed)) s.heap.size) s.heap s.heap [] := va_S.rf
  generalize ([] : List Loc) = locs at hS ⊢
  have hb0 := hB.1
  have hAb : ∀ q, (fun q => (g_s G).heap.size ≤ q ∧ (q = l ∨ q = ed)) q → (g_s G).heap.size ≤ q := fun q h => h.1
  obtain ⟨h_st, h_nb⟩ := hM
  have hsz0 := hS.1
  have lt_1 := h_st.1.lt
  have lt_2 := h_nb.lt
  have hn24 := hsw.1.1
  have hBt := fp_top_b B
  have hBk2 := hBk.2
  have hed0 := (X.2.2.2.2.2.deT (A := fp_no) hB fp_no.base).2.2
  obtain ⟨hds, hap0⟩ := fp_SE.dis X.2.2.2.2.2 hed0 h_st
  have hap : True ∧ ∀ k, k < sN S → b k ≠ x ∧ b k ≠ l ∧ b k ≠ ed ∧ b k ≠ z ∧ b k ≠ t := ⟨trivial, hap0⟩
  have hlb := h_st.2.1.2.2.2
  have hqd := fp_SE.disB X.2.2.2.2.2 hed0 h_st h_nb hqB
  obtain ⟨h_o, h_l, h_z, h_t, h_bl, h_xb, h_zb, h_tb⟩ := id h_st
  have lt_3 := h_l.1.lt
  have lt_4 := h_l.2.2
  have lt_5 := h_z.lt
  have lt_6 := h_t.lt
  refine lv_aload_n hx hb dX2_canPlace_0 rfl (lv_at hl 0 rfl) ?_
  refine r_get X h_st.1 rfl in_X2 0 (by decide) q173 (Or.inl rfl) (v := .ref (l)) rfl dX2_canPlace_1 ?_
  refine r_callV (cells1 := 0) (slots1 := 0) X hR (c_J2_size G l ed mc (sN S) cap b) q484 q461 q462 q92 q463 ⟨rfl, pd_J2_size⟩ ⟨Nat.le_of_ble_eq_true rfl, Nat.le_of_ble_eq_true rfl⟩ rfl rfl (Nat.le_of_ble_eq_true rfl) (Nat.le_of_ble_eq_true rfl) h_l.1 rfl rfl (Nat.le_of_ble_eq_true rfl) hl.1 dX2_canPlace_4 (hB.of hS hAb) h_l hS (fun _ h => h.elim) (fun v H_10 locs hp_7 hz_8 hk_9 hS => ?_)
  obtain ⟨rfl, rfl⟩ := hp_7
  refine r_stk (st2 := [.int (iI (((sN S) : Nat) : Int))]) rfl ?_
  refine lv_bipush (v := (iI ((24 : Nat) : Int))) hx hb dX2_canPlace_7 rfl ?_
  refine r_icmp_eq (tgt := 29) hx hb ⟨by omega, by omega⟩ (by decide) dX2_canPlace_9 (by decide) (fun c9 => ?_) (fun c9 => ?_)
  · skip
    refine lv_iconst (v := (iI ((0 : Nat) : Int))) hx hb dX2_canPlace_29 rfl ?_
    refine r_zret hx hb hr hlk hQ hS (Nat.le_of_ble_eq_true rfl) (Nat.le_of_ble_eq_true rfl) dX2_canPlace_30 rfl ?_
    exact ⟨ed, mc, cap, (congrArg (fun q : Bool => some (Value.int (iI (bI q)))) (Eq.symm (show fp_can S B = false from fp_can_f1 (by omega)))), (Or.inl rfl), h_st⟩
  · skip
    refine lv_aload_n hx hb dX2_canPlace_12 rfl (lv_at hl 1 rfl) ?_
    refine b_top X hR h_nb (hBk.2.1) hBk q406 (by decide) (by decide) (Nat.le_of_ble_eq_true rfl) (Nat.le_of_ble_eq_true rfl) (Nat.le_of_ble_eq_true rfl) hl.1 dX2_canPlace_13 (hB.of hS hAb) hS (fun locs hS => ?_)
    refine lv_bipush (v := (iI ((30 : Nat) : Int))) hx hb dX2_canPlace_16 rfl ?_
    refine r_icmp_gt (tgt := 29) hx hb ⟨by omega, by omega⟩ (by decide) dX2_canPlace_18 (by decide) (fun c18 => ?_) (fun c18 => ?_)
    · skip
      refine lv_iconst (v := (iI ((0 : Nat) : Int))) hx hb dX2_canPlace_29 rfl ?_
      refine r_zret hx hb hr hlk hQ hS (Nat.le_of_ble_eq_true rfl) (Nat.le_of_ble_eq_true rfl) dX2_canPlace_30 rfl ?_
      exact ⟨ed, mc, cap, (congrArg (fun q : Bool => some (Value.int (iI (bI q)))) (Eq.symm (show fp_can S B = false from fp_can_f1 (by omega)))), (Or.inl rfl), h_st⟩
    · skip
      refine lv_aload_n hx hb dX2_canPlace_21 rfl (lv_at hl 0 rfl) ?_
      refine lv_aload_n hx hb dX2_canPlace_22 rfl (lv_at hl 1 rfl) ?_
      refine r_callV (cells1 := 0) (slots1 := 0) X hR (c_X2_isInAllowedZones G x l ed z t mc cap b S q B hsw hBk) q1207 q1209 qs21 q89 q1210 ⟨rfl, pd_X2_isInAllowedZones⟩ ⟨Nat.le_of_ble_eq_true rfl, Nat.le_of_ble_eq_true rfl⟩ rfl rfl (Nat.le_of_ble_eq_true rfl) (Nat.le_of_ble_eq_true rfl) h_st.1 rfl rfl (Nat.le_of_ble_eq_true rfl) hl.1 dX2_canPlace_23 (hB.of hS hAb) ⟨h_st, h_nb⟩ hS (fun _ h => h.elim) (fun v H_14 locs hp_11 hz_12 hk_13 hS => ?_)
      obtain ⟨rfl, rfl⟩ := hp_11
      refine r_stk (st2 := [.int (iI (bI (fp_zoned S (B 1) (B 2) (B 3))))]) rfl ?_
      refine r_ifneB (tgt := 31) hx hb dX2_canPlace_26 (by decide) (fun c26 => ?_) (fun c26 => ?_)
      · skip
        have lt_15 := h_o.lt
        have hswt := fp_sw_tri hsw hBk (by omega) hqb
        refine lv_aload_n hx hb dX2_canPlace_31 rfl (lv_at hl 0 rfl) ?_
        refine r_get X h_o rfl in_X2 0 (by decide) q173 (Or.inl rfl) (v := .ref (l)) rfl dX2_canPlace_32 ?_
        have hel_16 : fp_EL G (sN S) b s.heap := h_bl.el
        have heo_17 : fp_EO G q s.heap := fp_el.ofB h_nb
        have lt_18 := fp_el.lt heo_17
        refine lv_aload_n hx hb dX2_canPlace_35 rfl (lv_at hl 1 rfl) ?_
        refine r_callV (cells1 := (0 + (1 - (cap - (sN S))))) (slots1 := (0 + ((sN S) + (sN S) / 2 + 11 - 10000 * (cap - (sN S))))) X hR (c_J2_add_2 G l ed mc (sN S) cap b q (fun k hk => (hap.2 k hk).2.1) (hqd.2.1) (by omega)) q1101 q1102 q1103 q92 q1104 ⟨rfl, pd_J2_add_2⟩ ⟨Nat.le_of_ble_eq_true rfl, Nat.le_of_ble_eq_true rfl⟩ rfl rfl (by omega) (by omega) h_l.1 rfl rfl (Nat.le_of_ble_eq_true rfl) hl.1 dX2_canPlace_36 (hB.of hS hAb) ⟨h_l, hel_16, heo_17⟩ hS (fun q h => by have h2 : (g_s G).heap.size ≤ q ∧ (q = l ∨ q = ed) := h; show ((g_s G).heap.size ≤ q ∧ (q = l ∨ q = ed)) ∨ s.heap.size ≤ q; omega) (fun v H_22 locs hp_19 hz_20 hk_21 hS => ?_)
        obtain ⟨ed2_23, mc2_24, cap2_25, rfl, hed2_26, hcp_27, hE_28⟩ := hp_19
        have hz_29 := hS.1
        have lt_30 := hE_28.1.lt
        have lt_31 := hE_28.2.2
        refine r_stk (st2 := [.int (iI ((1 : Nat) : Int))]) rfl ?_
        refine lv_pop hx hb dX2_canPlace_39 rfl ?_
        have hE_33 := fp_At.kept h_o (fp_keptS (by omega) hS (fun h => (fun h => h.elim (hds.1.1) (hds.1.2.1)) h.2))
        have hE_34 := fp_At.kept h_z (fp_keptS (by omega) hS (fun h => (fun h => h.elim (Ne.symm (hds.2.1.2.1)) (hds.2.2.1)) h.2))
        have hE_35 := fp_At.kept h_t (fp_keptS (by omega) hS (fun h => (fun h => h.elim (Ne.symm (hds.2.1.2.2)) (hds.2.2.2.1)) h.2))
        have hE_36 := fp_BL.mv h_bl (fun k hk => fp_keptS (h_bl k hk).lt hS (by have := hap.2 k hk; omega))
        have hE_37 := fp_At.kept h_nb (fp_keptS (by omega) hS (fun h => (fun h => h.elim (hqd.2.1) (hqd.2.2.1)) h.2))
        have hst_32 : fp_SE G x l ed2_23 z t mc2_24 cap2_25 (va_up b (sN S) q) (fp_tri S B) H_22 := ⟨hE_33, hE_28, hE_34, hE_35, hE_36.up hE_37, h_xb, h_zb, h_tb⟩
        refine lv_aload_n hx hb dX2_canPlace_40 rfl (lv_at hl 0 rfl) ?_
        refine r_callV (cells1 := (0 + (1 - (cap - (sN S))) + 145)) (slots1 := (0 + ((sN S) + (sN S) / 2 + 11 - 10000 * (cap - (sN S))) + 2928)) X hR (c_X2_isOverloaded G x l ed2_23 z t mc2_24 cap2_25 (va_up b (sN S) q) (fp_tri S B) hswt hdl) q1225 q985 q986 q89 q987 ⟨rfl, pd_X2_isOverloaded⟩ ⟨Nat.le_of_ble_eq_true rfl, Nat.le_of_ble_eq_true rfl⟩ rfl rfl (by omega) (by omega) hE_33 rfl rfl (Nat.le_of_ble_eq_true rfl) hl.1 dX2_canPlace_41 (hB.of hS hAb) hst_32 hS (fun _ h => h.elim) (fun v H_41 locs hp_38 hz_39 hk_40 hS => ?_)
        obtain rfl := hp_38
        have hz_42 := hS.1
        refine r_stk (st2 := [.int (iI (bI (!fp_bears (fp_tri S B))))]) rfl ?_
        refine r_ifneB (tgt := 51) hx hb dX2_canPlace_44 (by decide) (fun c44 => ?_) (fun c44 => ?_)
        · skip
          refine lv_iconst (v := (iI ((0 : Nat) : Int))) hx hb dX2_canPlace_51 rfl ?_
          refine lv_istore_n (lv' := [(2, .int (iI ((0 : Nat) : Int))), (0, .ref (x)), (1, .ref (q))]) hx hb dX2_canPlace_52 rfl hl (by decide) rfl (fun ls hl => ?_)
          refine lv_aload_n hx hb dX2_canPlace_53 rfl (lv_at hl 1 rfl) ?_
          have hE_43 := fp_At.kept h_o (fp_keptS (by omega) hS (fun h => (fun h => h.elim (hds.1.1) (hds.1.2.1)) h.2))
          refine r_get X hE_43 rfl in_X2 0 (by decide) q173 (Or.inl rfl) (v := .ref (l)) rfl dX2_canPlace_54 ?_
          have hE_44 := fp_BL.mv h_bl (fun k hk => fp_keptS (h_bl k hk).lt hS (by have := hap.2 k hk; omega))
          have hE_45 := fp_At.kept h_nb (fp_keptS (by omega) hS (fun h => (fun h => h.elim (hqd.2.1) (hqd.2.2.1)) h.2))
          have hel_46 : fp_EL G (sN S + 1) (va_up b (sN S) q) H_41 := hE_44.el.up (fp_el.ofB hE_45)
          refine lv_aload_n hx hb dX2_canPlace_57 rfl (lv_at hl 2 rfl) ?_
          have hE_48 := hE_28.ext (fp_X.no hz_39 hk_40)
          refine r_callV (cells1 := (0 + (1 - (cap - (sN S))) + 145)) (slots1 := (0 + ((sN S) + (sN S) / 2 + 11 - 10000 * (cap - (sN S))) + 2928)) X hR (c_J2_remove G l ed2_23 mc2_24 ((sN S) + 1) cap2_25 (va_up b (sN S) q) q B (sN S) (hBk.2.1) (by omega) (va_up_self _ _ _) (fun j hj => by rw [va_up_ne _ _ (by omega)]; exact hqb j hj) (fun k hk => by by_cases e : k = sN S; (subst e; rw [va_up_self]; exact hqd.2.1); (rw [va_up_ne _ _ e]; exact (hap.2 k (by omega)).2.1))) q1226 q1227 q1228 q92 q1229 ⟨rfl, pd_J2_remove⟩ ⟨Nat.le_of_ble_eq_true rfl, Nat.le_of_ble_eq_true rfl⟩ rfl rfl (by omega) (by omega) hE_48.1 rfl rfl (Nat.le_of_ble_eq_true rfl) hl.1 dX2_canPlace_58 (hB.of hS hAb) ⟨hE_48, hel_46, hE_45⟩ hS (fun q h => by have h2 : (g_s G).heap.size ≤ q ∧ (q = l ∨ q = ed2_23) := h; show ((g_s G).heap.size ≤ q ∧ (q = l ∨ q = ed)) ∨ s.heap.size ≤ q; omega) (fun v H_52 locs hp_49 hz_50 hk_51 hS => ?_)
          obtain ⟨mc2_53, rfl, hE_54⟩ := hp_49
          have hz_55 := hS.1
          have lt_56 := hE_54.1.lt
          have lt_57 := hE_54.2.2
          refine r_stk (st2 := [.int (iI ((1 : Nat) : Int))]) rfl ?_
          refine lv_pop hx hb dX2_canPlace_61 rfl ?_
          refine lv_iload_n hx hb dX2_canPlace_62 rfl (lv_at hl 0 rfl) ?_
          refine r_zret hx hb hr hlk hQ hS (by omega) (by omega) dX2_canPlace_63 rfl ?_
          have hE_58 := fp_At.kept h_o (fp_keptS (by omega) hS (fun h => (fun h => h.elim (hds.1.1) (hds.1.2.1)) h.2))
          have hE_59 := fp_At.kept h_z (fp_keptS (by omega) hS (fun h => (fun h => h.elim (Ne.symm (hds.2.1.2.1)) (hds.2.2.1)) h.2))
          have hE_60 := fp_At.kept h_t (fp_keptS (by omega) hS (fun h => (fun h => h.elim (Ne.symm (hds.2.1.2.2)) (hds.2.2.2.1)) h.2))
          have hE_61 := fp_BL.mv h_bl (fun k hk => fp_keptS (h_bl k hk).lt hS (by have := hap.2 k hk; omega))
          exact ⟨ed2_23, mc2_53, cap2_25, (congrArg (fun q : Bool => some (Value.int (iI (bI q)))) (Eq.symm (show fp_can S B = false from fp_can_e (by omega) c26 (by simpa using c44)))), (by omega), (⟨hE_58, hE_54.unup, hE_59, hE_60, hE_61, h_xb, h_zb, h_tb⟩)⟩
        · skip
          refine lv_iconst (v := (iI ((1 : Nat) : Int))) hx hb dX2_canPlace_47 rfl ?_
          refine lv_goto (tgt := 52) hx hb dX2_canPlace_48 (by decide) ?_
          refine lv_istore_n (lv' := [(2, .int (iI ((1 : Nat) : Int))), (0, .ref (x)), (1, .ref (q))]) hx hb dX2_canPlace_52 rfl hl (by decide) rfl (fun ls hl => ?_)
          refine lv_aload_n hx hb dX2_canPlace_53 rfl (lv_at hl 1 rfl) ?_
          have hE_62 := fp_At.kept h_o (fp_keptS (by omega) hS (fun h => (fun h => h.elim (hds.1.1) (hds.1.2.1)) h.2))
          refine r_get X hE_62 rfl in_X2 0 (by decide) q173 (Or.inl rfl) (v := .ref (l)) rfl dX2_canPlace_54 ?_
          have hE_63 := fp_BL.mv h_bl (fun k hk => fp_keptS (h_bl k hk).lt hS (by have := hap.2 k hk; omega))
          have hE_64 := fp_At.kept h_nb (fp_keptS (by omega) hS (fun h => (fun h => h.elim (hqd.2.1) (hqd.2.2.1)) h.2))
          have hel_65 : fp_EL G (sN S + 1) (va_up b (sN S) q) H_41 := hE_63.el.up (fp_el.ofB hE_64)
          refine lv_aload_n hx hb dX2_canPlace_57 rfl (lv_at hl 2 rfl) ?_
          have hE_67 := hE_28.ext (fp_X.no hz_39 hk_40)
          refine r_callV (cells1 := (0 + (1 - (cap - (sN S))) + 145)) (slots1 := (0 + ((sN S) + (sN S) / 2 + 11 - 10000 * (cap - (sN S))) + 2928)) X hR (c_J2_remove G l ed2_23 mc2_24 ((sN S) + 1) cap2_25 (va_up b (sN S) q) q B (sN S) (hBk.2.1) (by omega) (va_up_self _ _ _) (fun j hj => by rw [va_up_ne _ _ (by omega)]; exact hqb j hj) (fun k hk => by by_cases e : k = sN S; (subst e; rw [va_up_self]; exact hqd.2.1); (rw [va_up_ne _ _ e]; exact (hap.2 k (by omega)).2.1))) q1226 q1227 q1228 q92 q1229 ⟨rfl, pd_J2_remove⟩ ⟨Nat.le_of_ble_eq_true rfl, Nat.le_of_ble_eq_true rfl⟩ rfl rfl (by omega) (by omega) hE_67.1 rfl rfl (Nat.le_of_ble_eq_true rfl) hl.1 dX2_canPlace_58 (hB.of hS hAb) ⟨hE_67, hel_65, hE_64⟩ hS (fun q h => by have h2 : (g_s G).heap.size ≤ q ∧ (q = l ∨ q = ed2_23) := h; show ((g_s G).heap.size ≤ q ∧ (q = l ∨ q = ed)) ∨ s.heap.size ≤ q; omega) (fun v H_71 locs hp_68 hz_69 hk_70 hS => ?_)
          obtain ⟨mc2_72, rfl, hE_73⟩ := hp_68
          have hz_74 := hS.1
          have lt_75 := hE_73.1.lt
          have lt_76 := hE_73.2.2
          refine r_stk (st2 := [.int (iI ((1 : Nat) : Int))]) rfl ?_
          refine lv_pop hx hb dX2_canPlace_61 rfl ?_
          refine lv_iload_n hx hb dX2_canPlace_62 rfl (lv_at hl 0 rfl) ?_
          refine r_zret hx hb hr hlk hQ hS (by omega) (by omega) dX2_canPlace_63 rfl ?_
          have hE_77 := fp_At.kept h_o (fp_keptS (by omega) hS (fun h => (fun h => h.elim (hds.1.1) (hds.1.2.1)) h.2))
          have hE_78 := fp_At.kept h_z (fp_keptS (by omega) hS (fun h => (fun h => h.elim (Ne.symm (hds.2.1.2.1)) (hds.2.2.1)) h.2))
          have hE_79 := fp_At.kept h_t (fp_keptS (by omega) hS (fun h => (fun h => h.elim (Ne.symm (hds.2.1.2.2)) (hds.2.2.2.1)) h.2))
          have hE_80 := fp_BL.mv h_bl (fun k hk => fp_keptS (h_bl k hk).lt hS (by have := hap.2 k hk; omega))
          exact ⟨ed2_23, mc2_72, cap2_25, (congrArg (fun q : Bool => some (Value.int (iI (bI q)))) (Eq.symm (show fp_can S B = true from fp_can_e (by omega) c26 (by simpa using c44)))), (by omega), (⟨hE_77, hE_73.unup, hE_78, hE_79, hE_80, h_xb, h_zb, h_tb⟩)⟩
      · skip
        refine lv_iconst (v := (iI ((0 : Nat) : Int))) hx hb dX2_canPlace_29 rfl ?_
        refine r_zret hx hb hr hlk hQ hS (Nat.le_of_ble_eq_true rfl) (Nat.le_of_ble_eq_true rfl) dX2_canPlace_30 rfl ?_
        exact ⟨ed, mc, cap, (congrArg (fun q : Bool => some (Value.int (iI (bI q)))) (Eq.symm (show fp_can S B = false from fp_can_f2 c26))), (Or.inl rfl), h_st⟩
set_option maxHeartbeats 4000000 in
theorem c_X2_init (G : fp_G) (x : Nat) (hxb : (g_s G).heap.size ≤ x) : fp_M G yX2_init cX2_init 2 none 5 90 3 27 [.ref (x)] (fun H => fp_At G H x (eO 2 [.null, .null, .null, .int (iI ((0 : Nat) : Int))])) (fun q => (g_s G).heap.size ≤ q ∧ (q = x)) (fun H v H1 => ∃ (l : Nat), ∃ (z : Nat), ∃ (t : Nat), v = none ∧ (H.size ≤ l ∧ H.size ≤ z ∧ H.size ≤ t) ∧ fp_SE G x l (fp_de G) z t (iI ((0 : Nat) : Int)) 0 (fun _ => 0) fp_S0 H1) := by
  refine fp_M.intro (by decide) (Nat.le_of_ble_eq_true rfl) ?_
  intro pg en s mi ag bl mt cd rR qQ ls X hx hb hr hlk hnm hR hQ hB hM hl
  have hS : va_S (fA (fun q => (g_s G).heap.size ≤ q ∧ (q = x)) s.heap.size) s.heap s.heap [] := va_S.rf
  generalize ([] : List Loc) = locs at hS ⊢
  have hb0 := hB.1
  have hAb : ∀ q, (fun q => (g_s G).heap.size ≤ q ∧ (q = x)) q → (g_s G).heap.size ≤ q := fun q h => h.1
  have h_o := hM
  have hsz0 := hS.1
  have lt_1 := h_o.lt
  have hed0 := (X.2.2.2.2.2.deT (A := fp_no) hB fp_no.base).2.2
  refine lv_aload_n hx hb dX2_init_0 rfl (lv_at hl 0 rfl) ?_
  refine r_objInit X hR q139 q132 q133 hl.1 (by decide) (Nat.le_of_ble_eq_true rfl) dX2_init_1 ?_
  refine lv_aload_n hx hb dX2_init_4 rfl (lv_at hl 0 rfl) ?_
  refine r_new (ci := 8) (fs := [.int (iI ((0 : Nat) : Int)), .null, .int (iI ((0 : Nat) : Int))]) X hR hS rfl in_J2 tyJ2_ok q140 q141 q92 (by intro j hj; rcases (show j = 0 ∨ j = 1 ∨ j = 2 by omega) with rfl | rfl | rfl <;> rfl) (Nat.le_of_ble_eq_true rfl) (Nat.le_of_ble_eq_true rfl) dX2_init_5 (fun la H_2 hq_6 hE_3 hX_4 hz_5 hS => ?_)
  have hz_7 := hS.1
  have lt_8 := hE_3.lt
  refine lv_dup hx hb dX2_init_8 rfl ?_
  refine r_callI (cells1 := 1) (slots1 := 3) X hR (c_J2_init G la (by omega)) q142 q143 q92 q144 rfl ⟨by decide, by decide, rfl⟩ ⟨Nat.le_of_ble_eq_true rfl, Nat.le_of_ble_eq_true rfl⟩ rfl rfl (Nat.le_of_ble_eq_true rfl) (Nat.le_of_ble_eq_true rfl) rfl (Nat.le_of_ble_eq_true rfl) hl.1 dX2_init_9 (hB.of hS hAb) hE_3 hS (fun q h => by have h2 : (g_s G).heap.size ≤ q ∧ (q = la) := h; show ((g_s G).heap.size ≤ q ∧ (q = x)) ∨ s.heap.size ≤ q; omega) (fun v H_12 locs hp_9 hz_10 hk_11 hS => ?_)
  obtain ⟨rfl, hE_13⟩ := hp_9
  have hz_14 := hS.1
  have lt_15 := hE_13.1.lt
  have lt_16 := hE_13.2.2
  refine r_stk (st2 := [.ref (la), .ref (x)]) rfl ?_
  have hE_18 := fp_At.kept h_o (hX_4.2 _ (by omega))
  have hE_19 := fp_At.kept hE_18 (hk_11 _ (by omega) (by omega))
  refine r_putF X hE_19 hS (Or.inl ⟨by omega, rfl⟩) rfl in_X2 tyX2_ok nmX2 0 (by decide) q173 (Or.inl rfl) rfl hnm rfl rfl rfl (show 0 < 4 by decide) dX2_init_12 (fun H_23 locs hE_20 hz_21 hq_22 hS => ?_)
  have hz_24 := hS.1
  refine lv_aload_n hx hb dX2_init_15 rfl (lv_at hl 0 rfl) ?_
  refine lv_bipush (v := (iI ((12 : Nat) : Int))) hx hb dX2_init_16 rfl ?_
  refine r_anew (t := 5) (n := 12) X hR hS q169 q170 rfl rfl (by decide) (Nat.le_of_ble_eq_true rfl) (Nat.le_of_ble_eq_true rfl) dX2_init_18 (fun za H_25 hq_29 hE_26 hX_27 hz_28 hS => ?_)
  have hz_30 := hS.1
  have lt_31 := hE_26.lt
  have hE_33 := fp_At.kept hE_20 (hX_27.2 _ (by omega))
  refine r_putF X hE_33 hS (Or.inl ⟨by omega, rfl⟩) rfl in_X2 tyX2_ok nmX2 1 (by decide) q175 (Or.inl rfl) rfl hnm rfl rfl rfl (show 1 < 4 by decide) dX2_init_21 (fun H_37 locs hE_34 hz_35 hq_36 hS => ?_)
  have hz_38 := hS.1
  refine lv_aload_n hx hb dX2_init_24 rfl (lv_at hl 0 rfl) ?_
  refine lv_bipush (v := (iI ((12 : Nat) : Int))) hx hb dX2_init_25 rfl ?_
  refine r_newaZ (n := 12) X hR hS q190 rfl (by decide) (Nat.le_of_ble_eq_true rfl) (Nat.le_of_ble_eq_true rfl) dX2_init_27 (fun ta H_39 hq_43 hE_40 hX_41 hz_42 hS => ?_)
  have hz_44 := hS.1
  have lt_45 := hE_40.lt
  have hE_47 := fp_At.kept hE_34 (hX_41.2 _ (by omega))
  refine r_putF X hE_47 hS (Or.inl ⟨by omega, rfl⟩) rfl in_X2 tyX2_ok nmX2 2 (by decide) q177 (Or.inl rfl) rfl hnm rfl rfl rfl (show 2 < 4 by decide) dX2_init_29 (fun H_51 locs hE_48 hz_49 hq_50 hS => ?_)
  have hz_52 := hS.1
  refine lv_iconst (v := (iI ((0 : Nat) : Int))) hx hb dX2_init_32 rfl ?_
  refine lv_istore_n (lv' := [(1, .int (iI ((0 : Nat) : Int))), (0, .ref (x))]) hx hb dX2_init_33 rfl hl (by decide) rfl (fun ls hl => ?_)
  have hE_54 := fp_LE.mv hE_13 (hq_22 _ (by omega)) (hq_22 _ (by omega))
  have hE_55 := hE_54.ext hX_27
  have hE_56 := fp_LE.mv hE_55 (hq_36 _ (by omega)) (hq_36 _ (by omega))
  have hE_57 := hE_56.ext hX_41
  have hE_58 := fp_LE.mv hE_57 (hq_50 _ (by omega)) (hq_50 _ (by omega))
  have hE_60 := fp_At.kept hE_26 (hq_36 _ (by omega))
  have hE_61 := fp_At.kept hE_60 (hX_41.2 _ (by omega))
  have hE_62 := fp_At.kept hE_61 (hq_50 _ (by omega))
  have hE_64 := fp_At.kept hE_40 (hq_50 _ (by omega))
  have L34 : ∀ (k : Nat), k ≤ 12 → ∀ (H_65 : Heap) (locs : List Loc) (ls : Array Slot), lv_has ls 2 [(0, .ref (x)), (1, .int (iI ((k : Nat) : Int)))] → va_S (fA (fun q => (g_s G).heap.size ≤ q ∧ (q = x)) s.heap.size) s.heap H_65 locs → (H_51.size ≤ H_65.size) → fp_At G H_65 x (eO 2 [.ref (la), .ref (za), .ref (ta), .int (iI ((0 : Nat) : Int))]) → fp_LE G la (fp_de G) (iI ((0 : Nat) : Int)) 0 0 (fun _ => 0) H_65 → fp_At G H_65 za (eQ G 5 12 (fun c => if c < k then some (fp_zad G 0) else none)) → fp_At G H_65 ta (eZ G 12 (fun j => iI (bI ((fun _ => false) j)))) → W pg (g_l G) en rR s mi ag bl mt cd H_65 locs 3 27 qQ (F0 mi 34 ls []) := by
    refine lp_up 12 ?_
    intro k hk34 ih34 H_65 locs ls hl hS hz_66 hE_67 hE_68 hE_69 hE_70
    have hz_71 := hS.1
    have lt_72 := hE_67.lt
    have lt_73 := hE_68.1.lt
    have lt_74 := hE_68.2.2
    have lt_75 := hE_69.lt
    have lt_76 := hE_70.lt
    refine lv_iload_n hx hb dX2_init_34 rfl (lv_at hl 1 rfl) ?_
    refine lv_bipush (v := (iI ((12 : Nat) : Int))) hx hb dX2_init_35 rfl ?_
    refine r_icmp_ge (tgt := 55) hx hb ⟨by omega, by omega⟩ (by decide) dX2_init_37 (by decide) (fun c37 => ?_) (fun c37 => ?_)
    · skip
      obtain rfl : k = 12 := by omega
      refine r_vret hx hb hr hlk hQ hS (Nat.le_of_ble_eq_true rfl) (Nat.le_of_ble_eq_true rfl) dX2_init_55 ?_
      exact ⟨la, za, ta, rfl, (⟨by omega, by omega, by omega⟩), (⟨hE_67, hE_68, fp_At.cQ hE_69 (fun j hj => if_pos hj), hE_70, fun k hk => absurd hk (Nat.not_lt_zero _), by omega, by omega, by omega⟩)⟩
    · skip
      refine lv_aload_n hx hb dX2_init_40 rfl (lv_at hl 0 rfl) ?_
      refine r_get X hE_67 rfl in_X2 1 (by decide) q175 (Or.inl rfl) (v := .ref (za)) rfl dX2_init_41 ?_
      refine lv_iload_n hx hb dX2_init_44 rfl (lv_at hl 1 rfl) ?_
      refine r_gets X hB hAb hS q172 (lw_all_tbl q94) (X.2.2.2.2.2.zev (c := 0) (by decide)) q171 rfl dX2_init_45 ?_
      refine r_aastY X rfl hE_69 hS (Or.inr (by omega)) (X.2.2.2.2.2.zAny (hB.of hS hAb) (z := 0) (by decide)) (i0 := k) rfl (by omega) (by decide) dX2_init_48 (fun H_80 locs hE_77 hz_78 hq_79 hS => ?_)
      have hz_81 := hS.1
      refine lv_iinc (v := (iI ((k + 1 : Nat) : Int))) (lv' := [(1, .int (iI ((k + 1 : Nat) : Int))), (0, .ref (x))]) hx hb dX2_init_49 hl (k := 1) rfl (iI_incN _ _) (by decide) rfl (fun ls hl => ?_)
      refine lv_goto (tgt := 34) hx hb dX2_init_52 (by decide) ?_
      have hE_83 := fp_At.kept hE_67 (hq_79 _ (by omega))
      have hE_85 := fp_LE.mv hE_68 (hq_79 _ (by omega)) (hq_79 _ (by omega))
      have hE_87 := fp_At.kept hE_70 (hq_79 _ (by omega))
      exact ih34 (by omega) H_80 locs ls (lv_sub hl [1, 0] rfl) hS (by omega) hE_83 hE_85 (fp_At.cQ hE_77 (fun j _ => by unfold va_up; by_cases e : j = k <;> simp [e] <;> split <;> split <;> first | rfl | omega)) hE_87
  exact L34 0 (by omega) H_51 locs ls (lv_sub hl [1, 0] rfl) hS (Nat.le_refl _) hE_48 hE_58 (fp_At.cQ hE_62 (fun j _ => rfl)) hE_64
set_option maxHeartbeats 4000000 in
theorem c_X2_copy (G : fp_G) (x : Nat) (l : Nat) (ed : Nat) (z : Nat) (t : Nat) (mc : Int32) (cap : Nat) (b : Nat → Nat) (S : PS) (hsw : fp_sw S b) : fp_M G yX2_copy cX2_copy 4 (some (.object "FortPlanner$State")) 8 191 9 149 [.ref (x)] (fun H => fp_SE G x l ed z t mc cap b S H) fp_no (fun H v H1 => ∃ (y : Nat), ∃ (l2 : Nat), ∃ (ed2 : Nat), ∃ (z2 : Nat), ∃ (t2 : Nat), ∃ (mc2 : Int32), ∃ (cap2 : Nat), v = some (.ref (y)) ∧ (H.size ≤ y ∧ H.size ≤ l2 ∧ H.size ≤ z2 ∧ H.size ≤ t2) ∧ (ed2 = fp_de G ∨ H.size ≤ ed2) ∧ fp_SE G y l2 ed2 z2 t2 mc2 cap2 b S H1) := by
  refine fp_M.intro (by decide) (Nat.le_of_ble_eq_true rfl) ?_
  intro pg en s mi ag bl mt cd rR qQ ls X hx hb hr hlk hnm hR hQ hB hM hl
  have hS : va_S (fA fp_no s.heap.size) s.heap s.heap [] := va_S.rf
  generalize ([] : List Loc) = locs at hS ⊢
  have hb0 := hB.1
  have h_st := hM
  have hsz0 := hS.1
  have lt_1 := h_st.1.lt
  have hn24 := hsw.1.1
  obtain ⟨h_o, h_l, h_z, h_t, h_bl, h_xb, h_zb, h_tb⟩ := id h_st
  have lt_2 := h_l.1.lt
  have lt_3 := h_l.2.2
  have lt_4 := h_z.lt
  have lt_5 := h_t.lt
  have hed0 := (X.2.2.2.2.2.deT (A := fp_no) hB fp_no.base).2.2
  refine r_new (ci := 2) (fs := [.null, .null, .null, .int (iI ((0 : Nat) : Int))]) X hR hS rfl in_X2 tyX2_ok q1099 q135 q89 (by intro j hj; rcases (show j = 0 ∨ j = 1 ∨ j = 2 ∨ j = 3 by omega) with rfl | rfl | rfl | rfl <;> rfl) (Nat.le_of_ble_eq_true rfl) (Nat.le_of_ble_eq_true rfl) dX2_copy_0 (fun y H_6 hq_10 hE_7 hX_8 hz_9 hS => ?_)
  have hz_11 := hS.1
  have lt_12 := hE_7.lt
  refine lv_dup hx hb dX2_copy_3 rfl ?_
  refine r_callI (cells1 := 4) (slots1 := 31) X hR (c_X2_init G y (by omega)) q1100 q137 q89 q138 rfl ⟨by decide, by decide, rfl⟩ ⟨Nat.le_of_ble_eq_true rfl, Nat.le_of_ble_eq_true rfl⟩ rfl rfl (Nat.le_of_ble_eq_true rfl) (Nat.le_of_ble_eq_true rfl) rfl (Nat.le_of_ble_eq_true rfl) hl.1 dX2_copy_4 (hB.of hS fp_no.base) hE_7 hS (fun q h => Or.inr (by have h2 : (g_s G).heap.size ≤ q ∧ (q = y) := h; omega)) (fun v H_16 locs hp_13 hz_14 hk_15 hS => ?_)
  obtain ⟨l9, z9, t9, rfl, hfr_17, hE_18⟩ := hp_13
  have hz_19 := hS.1
  have lt_21 := hE_18.1.lt
  refine r_stk (st2 := [.ref (y)]) rfl ?_
  obtain ⟨h2o, h2l, h2z, h2t, h2bl, h2x, h2zb, h2tb⟩ := id hE_18
  have lt_22 := h2o.lt
  have lt_23 := h2l.1.lt
  have lt_24 := h2l.2.2
  have lt_25 := h2z.lt
  have lt_26 := h2t.lt
  obtain ⟨hfl, hfz, hft⟩ := hfr_17
  obtain ⟨hd2, -⟩ := fp_SE.dis X.2.2.2.2.2 hed0 hE_18
  have hl2b := h2l.2.2.2
  refine lv_astore_n (lv' := [(1, .ref (y)), (0, .ref (x))]) hx hb dX2_copy_7 rfl hl (by decide) rfl (fun ls hl => ?_)
  refine lv_aload_n hx hb dX2_copy_8 rfl (lv_at hl 1 rfl) ?_
  have hE_27 := h_st.ext (fp_X.ofS hS)
  refine r_get X hE_27.1 rfl in_X2 0 (by decide) q173 (Or.inl rfl) (v := .ref (l)) rfl dX2_copy_9 ?_
  have hE_28 := h_l.ext (fp_X.ofS hS)
  refine r_callV (cells1 := 5) (slots1 := 35) X hR (c_J2_iterator G l ed mc (sN S) cap b) q275 q276 q277 q92 q278 ⟨rfl, pd_J2_iterator⟩ ⟨Nat.le_of_ble_eq_true rfl, Nat.le_of_ble_eq_true rfl⟩ rfl rfl (Nat.le_of_ble_eq_true rfl) (Nat.le_of_ble_eq_true rfl) hE_28.1 rfl rfl (Nat.le_of_ble_eq_true rfl) hl.1 dX2_copy_12 (hB.of hS fp_no.base) hE_28 hS (fun _ h => h.elim) (fun v H_32 locs hp_29 hz_30 hk_31 hS => ?_)
  obtain ⟨yi, rfl, hy_33, hE_34⟩ := hp_29
  have hz_35 := hS.1
  have lt_37 := hE_34.lt
  refine r_stk (st2 := [.ref (yi)]) rfl ?_
  refine lv_astore_n (lv' := [(2, .ref (yi)), (1, .ref (y)), (0, .ref (x))]) hx hb dX2_copy_15 rfl hl (by decide) rfl (fun ls hl => ?_)
  have hE_39 := fp_At.kept h2o (hk_31 _ (by omega) (fun z => z))
  have hE_41 := h2l.ext (fp_X.no hz_30 hk_31)
  have hE_43 := fp_At.kept h2z (hk_31 _ (by omega) (fun z => z))
  have hE_45 := fp_At.kept h2t (hk_31 _ (by omega) (fun z => z))
  have L16 : ∀ (k : Nat), k ≤ sN S → ∀ (ed2 : Nat) (mc2 : Int32) (cap2 : Nat) (H_46 : Heap) (locs : List Loc) (ls : Array Slot), lv_has ls 4 [(0, .ref (x)), (1, .ref (y)), (2, .ref (yi))] → va_S (fA fp_no s.heap.size) s.heap H_46 locs → (cap2 = fp_cp k) → (ed2 = fp_de G ∨ s.heap.size ≤ ed2) → (fp_dif yi ed2 ∧ fp_dif y ed2 ∧ fp_dif z9 ed2 ∧ fp_dif t9 ed2) → (H_32.size ≤ H_46.size) → fp_At G H_46 y (eO 2 [.ref (l9), .ref (z9), .ref (t9), .int (iI ((0 : Nat) : Int))]) → fp_LE G l9 ed2 mc2 k cap2 b H_46 → fp_At G H_46 z9 (eQ G 5 12 (fun c => some (fp_zad G (sZ fp_S0 c)))) → fp_At G H_46 t9 (eZ G 12 (fun j => iI (bI ((fun j => decide (sT fp_S0 j = 1)) j)))) → fp_IE G yi k l mc (sN S) H_46 → W pg (g_l G) en rR s mi ag bl mt cd H_46 locs (5 + fp_cn k) (35 + fp_cs k) qQ (F0 mi 16 ls []) := by
    refine lp_up (sN S) ?_
    intro k hk16 ih16 ed2 mc2 cap2 H_46 locs ls hl hS hcap2 hed hedy hz_47 hE_48 hE_49 hE_50 hE_51 hE_52
    have hz_53 := hS.1
    have lt_54 := hE_48.lt
    have lt_55 := hE_49.1.lt
    have lt_56 := hE_49.2.2
    have lt_57 := hE_50.lt
    have lt_58 := hE_51.lt
    have lt_59 := hE_52.lt
    have hcn := fp_cn_b k
    refine lv_aload_n hx hb dX2_copy_16 rfl (lv_at hl 2 rfl) ?_
    obtain ⟨⟨lr_60, hE_61⟩, hle_62⟩ := id hE_52
    have hE_63 := h_l.ext (fp_X.ofS hS)
    obtain ⟨⟨lr_64, hE_65⟩, hle_66⟩ := id hE_52
    refine r_callF (cells1 := (5 + fp_cn k)) (slots1 := (35 + fp_cs k)) X hR (c_J13_hasNext G l ed mc (sN S) cap b yi k) q299 q303 q305 q105 q307 ⟨q301, q300, q306, q304, q302⟩ ⟨by decide, by decide, rfl⟩ ⟨Nat.le_of_ble_eq_true rfl, Nat.le_of_ble_eq_true rfl⟩ rfl rfl (by omega) (by omega) hE_65 rfl rfl (Nat.le_of_ble_eq_true rfl) hl.1 dX2_copy_17 (hB.of hS fp_no.base) ⟨hE_52, hE_63⟩ hS (fun _ h => h.elim) (fun v H_70 locs hp_67 hz_68 hk_69 hS => ?_)
    obtain ⟨rfl, rfl⟩ := hp_67
    refine r_stk (st2 := [.int (iI (bI (decide (k < (sN S)))))]) rfl ?_
    refine r_ifeqB (tgt := 47) hx hb dX2_copy_22 (by decide) (fun c22 => ?_) (fun c22 => ?_)
    · skip
      have d22 := of_decide_eq_false c22
      obtain rfl : k = sN S := by omega
      refine lv_iconst (v := (iI ((0 : Nat) : Int))) hx hb dX2_copy_47 rfl ?_
      refine lv_istore_n (lv' := [(2, .int (iI ((0 : Nat) : Int))), (0, .ref (x)), (1, .ref (y))]) hx hb dX2_copy_48 rfl hl (by decide) rfl (fun ls hl => ?_)
      have L49 : ∀ (k : Nat), k ≤ 12 → ∀ (H_71 : Heap) (locs : List Loc) (ls : Array Slot), lv_has ls 4 [(0, .ref (x)), (1, .ref (y)), (2, .int (iI ((k : Nat) : Int)))] → va_S (fA fp_no s.heap.size) s.heap H_71 locs → (H_46.size ≤ H_71.size) → fp_At G H_71 y (eO 2 [.ref (l9), .ref (z9), .ref (t9), .int (iI ((0 : Nat) : Int))]) → fp_LE G l9 ed2 mc2 (sN S) cap2 b H_71 → fp_At G H_71 z9 (eQ G 5 12 (fun c => some (fp_zad G (if c < k then sZ S c else 0)))) → fp_At G H_71 t9 (eZ G 12 (fun j => iI (bI ((fun j => if j < k then decide (sT S j = 1) else false) j)))) → fp_IE G yi (sN S) l mc (sN S) H_71 → W pg (g_l G) en rR s mi ag bl mt cd H_71 locs (5 + fp_cn (sN S)) (35 + fp_cs (sN S)) qQ (F0 mi 49 ls []) := by
        refine lp_up 12 ?_
        intro k hk49 ih49 H_71 locs ls hl hS hz_72 hE_73 hE_74 hE_75 hE_76 hE_77
        have hz_78 := hS.1
        have lt_79 := hE_73.lt
        have lt_80 := hE_74.1.lt
        have lt_81 := hE_74.2.2
        have lt_82 := hE_75.lt
        have lt_83 := hE_76.lt
        have lt_84 := hE_77.lt
        refine lv_iload_n hx hb dX2_copy_49 rfl (lv_at hl 2 rfl) ?_
        refine lv_bipush (v := (iI ((12 : Nat) : Int))) hx hb dX2_copy_50 rfl ?_
        refine r_icmp_ge (tgt := 85) hx hb ⟨by omega, by omega⟩ (by decide) dX2_copy_52 (by decide) (fun c52 => ?_) (fun c52 => ?_)
        · skip
          obtain rfl : k = 12 := by omega
          refine lv_aload_n hx hb dX2_copy_85 rfl (lv_at hl 1 rfl) ?_
          refine lv_aload_n hx hb dX2_copy_86 rfl (lv_at hl 0 rfl) ?_
          have hE_85 := h_st.ext (fp_X.ofS hS)
          refine r_get X hE_85.1 rfl in_X2 3 (by decide) q179 (Or.inl rfl) (v := .int (iI ((sP S : Nat) : Int))) rfl dX2_copy_87 ?_
          refine r_put X hE_73 hS (Or.inr (by omega)) rfl in_X2 tyX2_ok nmX2 3 (by decide) q179 (Or.inl rfl) rfl rfl rfl (show 3 < 4 by decide) dX2_copy_90 (fun H_89 locs hE_86 hz_87 hq_88 hS => ?_)
          have hz_90 := hS.1
          refine lv_aload_n hx hb dX2_copy_93 rfl (lv_at hl 1 rfl) ?_
          refine r_aret hx hb hr hlk hQ hS (by omega) (by omega) dX2_copy_94 (Or.inl ⟨_, rfl⟩) (Or.inr ⟨_, rfl⟩) ?_
          have hE_92 := fp_LE.mv hE_74 (hq_88 _ (Ne.symm (hd2.1.1))) (hq_88 _ (Ne.symm (hedy.2.1)))
          have hE_94 := fp_At.kept hE_75 (hq_88 _ (Ne.symm (hd2.1.2.2.1)))
          have hE_96 := fp_At.kept hE_76 (hq_88 _ (Ne.symm (hd2.1.2.2.2)))
          have hE_97 := h_bl.ext (fp_X.ofS hS)
          exact ⟨y, l9, ed2, z9, t9, mc2, cap2, rfl, (⟨by omega, by omega, by omega, by omega⟩), hed, (⟨hE_86, hE_92, fp_At.cQ hE_94 (fun j hj => congrArg (fun q => some (fp_zad G q)) (if_pos hj)), fp_At.cZ hE_96 (fun j hj => if_pos hj), hE_97, by omega, by omega, by omega⟩)⟩
        · skip
          refine lv_aload_n hx hb dX2_copy_55 rfl (lv_at hl 1 rfl) ?_
          refine r_get X hE_73 rfl in_X2 1 (by decide) q175 (Or.inl rfl) (v := .ref (z9)) rfl dX2_copy_56 ?_
          refine lv_iload_n hx hb dX2_copy_59 rfl (lv_at hl 2 rfl) ?_
          refine lv_aload_n hx hb dX2_copy_60 rfl (lv_at hl 0 rfl) ?_
          have hE_98 := h_st.ext (fp_X.ofS hS)
          refine r_get X hE_98.1 rfl in_X2 1 (by decide) q175 (Or.inl rfl) (v := .ref (z)) rfl dX2_copy_61 ?_
          refine lv_iload_n hx hb dX2_copy_64 rfl (lv_at hl 2 rfl) ?_
          have hE_99 := fp_At.kept h_z (fp_keptS (by omega) hS (fun z => z))
          refine r_aaldI X rfl hE_99 (j := k) rfl (by omega) (by decide) dX2_copy_65 ?_
          refine r_set (y := .ref (fp_zad G (sZ S k))) rfl ?_
          refine r_aastY X rfl hE_75 hS (Or.inr (by omega)) (X.2.2.2.2.2.zAny (hB.of hS fp_no.base) (z := sZ S k) (hsw.1.2.2.2.1 k (by omega))) (i0 := k) rfl (by omega) (by decide) dX2_copy_66 (fun H_103 locs hE_100 hz_101 hq_102 hS => ?_)
          have hz_104 := hS.1
          refine lv_aload_n hx hb dX2_copy_67 rfl (lv_at hl 1 rfl) ?_
          have hE_106 := fp_At.kept hE_73 (hq_102 _ (hd2.1.2.2.1))
          refine r_get X hE_106 rfl in_X2 2 (by decide) q177 (Or.inl rfl) (v := .ref (t9)) rfl dX2_copy_68 ?_
          refine lv_iload_n hx hb dX2_copy_71 rfl (lv_at hl 2 rfl) ?_
          refine lv_aload_n hx hb dX2_copy_72 rfl (lv_at hl 0 rfl) ?_
          have hE_107 := h_st.ext (fp_X.ofS hS)
          refine r_get X hE_107.1 rfl in_X2 2 (by decide) q177 (Or.inl rfl) (v := .ref (t)) rfl dX2_copy_73 ?_
          refine lv_iload_n hx hb dX2_copy_76 rfl (lv_at hl 2 rfl) ?_
          have hE_108 := fp_At.kept h_t (fp_keptS (by omega) hS (fun z => z))
          refine r_zaldI X hE_108 (j := k) rfl (by omega) (by decide) dX2_copy_77 ?_
          refine r_set (y := .int (iI (bI (decide (sT S k = 1))))) rfl ?_
          have hE_110 := fp_At.kept hE_76 (hq_102 _ (Ne.symm (hd2.2.2.2.2)))
          refine r_zastB (v := decide (sT S k = 1)) X hE_110 hS (Or.inr (by omega)) (j := k) rfl (by omega) (by decide) dX2_copy_78 (fun H_114 locs hE_111 hz_112 hq_113 hS => ?_)
          have hz_115 := hS.1
          have hE_116 : fp_At G H_114 t9 (eZ G 12 (fun j => iI (bI ((va_up (fun j => if j < k then decide (sT S j = 1) else false) k (decide (sT S k = 1))) j)))) := hE_111.updZ
          refine lv_iinc (v := (iI ((k + 1 : Nat) : Int))) (lv' := [(2, .int (iI ((k + 1 : Nat) : Int))), (0, .ref (x)), (1, .ref (y))]) hx hb dX2_copy_79 hl (k := 2) rfl (iI_incN _ _) (by decide) rfl (fun ls hl => ?_)
          refine lv_goto (tgt := 49) hx hb dX2_copy_82 (by decide) ?_
          have hE_118 := fp_At.kept hE_106 (hq_113 _ (hd2.1.2.2.2))
          have hE_120 := fp_LE.mv hE_74 (hq_102 _ (hd2.2.1.2.1)) (hq_102 _ (Ne.symm (hedy.2.2.1)))
          have hE_121 := fp_LE.mv hE_120 (hq_113 _ (hd2.2.1.2.2)) (hq_113 _ (Ne.symm (hedy.2.2.2)))
          have hE_123 := fp_At.kept hE_100 (hq_113 _ (hd2.2.2.2.2))
          have hE_125 := fp_IE.mv hE_77 (hq_102 _ (by omega))
          have hE_126 := fp_IE.mv hE_125 (hq_113 _ (by omega))
          exact ih49 (by omega) H_114 locs ls (lv_sub hl [1, 2, 0] rfl) hS (by omega) hE_118 hE_121 (fp_At.cQ hE_123 (fun j _ => fp_upifz)) (fp_At.cZ hE_116 (fun j _ => fp_upift)) hE_126
      exact L49 0 (by omega) H_46 locs ls (lv_sub hl [1, 2, 0] rfl) hS (Nat.le_refl _) hE_48 hE_49 (fp_At.cQ hE_50 (fun j _ => rfl)) (fp_At.cZ hE_51 (fun j _ => rfl)) hE_52
    · skip
      have d22 := of_decide_eq_true c22
      refine lv_aload_n hx hb dX2_copy_25 rfl (lv_at hl 2 rfl) ?_
      obtain ⟨⟨lr_127, hE_128⟩, hle_129⟩ := id hE_52
      obtain ⟨⟨lr_130, hE_131⟩, hle_132⟩ := id hE_52
      refine r_callF (cells1 := (5 + fp_cn k)) (slots1 := (35 + fp_cs k)) X hR (c_J13_next G l ed mc (sN S) cap b yi k (by omega) (by omega)) q309 q312 q314 q105 q316 ⟨q311, q310, q315, q313, q302⟩ ⟨by decide, by decide, rfl⟩ ⟨Nat.le_of_ble_eq_true rfl, Nat.le_of_ble_eq_true rfl⟩ rfl rfl (by omega) (by omega) hE_131 rfl rfl (Nat.le_of_ble_eq_true rfl) hl.1 dX2_copy_26 (hB.of hS fp_no.base) ⟨hE_52, hE_63⟩ hS (fun q h => Or.inr (by have h2 : (g_s G).heap.size ≤ q ∧ (q = yi) := h; omega)) (fun v H_136 locs hp_133 hz_134 hk_135 hS => ?_)
      obtain ⟨rfl, hE_137⟩ := hp_133
      have hz_138 := hS.1
      have lt_139 := hE_137.lt
      refine r_stk (st2 := [.ref (b k)]) rfl ?_
      have hE_140 := h_bl.ext (fp_X.ofS hS)
      refine r_castB X (hE_140 k (by omega)) (hsw.1.2.2.1 k (by omega)).2.1 q388 dX2_copy_31 ?_
      refine lv_astore_n (lv' := [(3, .ref (b k)), (0, .ref (x)), (1, .ref (y)), (2, .ref (yi))]) hx hb dX2_copy_34 rfl hl (by decide) rfl (fun ls hl => ?_)
      refine lv_aload_n hx hb dX2_copy_35 rfl (lv_at hl 2 rfl) ?_
      have hE_142 := fp_At.kept hE_48 (hk_135 _ (by omega) (by omega))
      refine r_get X hE_142 rfl in_X2 0 (by decide) q173 (Or.inl rfl) (v := .ref (l9)) rfl dX2_copy_36 ?_
      have hel_143 : fp_EL G k b H_136 := fun j hj => fp_el.ofB (hE_140 j (by omega))
      have heo_144 : fp_EO G (b k) H_136 := fp_el.ofB (hE_140 k (by omega))
      have lt_145 := fp_el.lt heo_144
      have hblk := (h_bl k (by omega)).lt
      have hcp1 := fp_cp_n (c := k) (by omega)
      have hcn1 := fp_cn_b (k + 1)
      refine lv_aload_n hx hb dX2_copy_39 rfl (lv_at hl 0 rfl) ?_
      have hE_147 := fp_LE.mv hE_49 (hk_135 _ (by omega) (fun h => (Ne.symm (fun e => by omega)) h.2)) (hk_135 _ (by omega) (fun h => (Ne.symm (hedy.1)) h.2))
      refine r_callV (cells1 := (5 + fp_cn k + (1 - (cap2 - k)))) (slots1 := (35 + fp_cs k + (k + k / 2 + 11 - 10000 * (cap2 - k)))) X hR (c_J2_add_2 G l9 ed2 mc2 k cap2 b (b k) (fun j hj => by have := (h_bl j (by omega)).lt; omega) (by omega) (by omega)) q1101 q1102 q1103 q92 q1104 ⟨rfl, pd_J2_add_2⟩ ⟨Nat.le_of_ble_eq_true rfl, Nat.le_of_ble_eq_true rfl⟩ rfl rfl (by omega) (by omega) hE_147.1 rfl rfl (Nat.le_of_ble_eq_true rfl) hl.1 dX2_copy_40 (hB.of hS fp_no.base) ⟨hE_147, hel_143, heo_144⟩ hS (fun q h => Or.inr (by have h2 : (g_s G).heap.size ≤ q ∧ (q = l9 ∨ q = ed2) := h; omega)) (fun v H_151 locs hp_148 hz_149 hk_150 hS => ?_)
      obtain ⟨ed2_152, mc2_153, cap2_154, rfl, hed2_155, hcp_156, hE_157⟩ := hp_148
      have hz_158 := hS.1
      have lt_159 := hE_157.1.lt
      have lt_160 := hE_157.2.2
      refine r_stk (st2 := [.int (iI ((1 : Nat) : Int))]) rfl ?_
      have hcps := fp_cp_s (c := k) (by omega) (by rw [← hcap2]; exact hcp_156)
      refine lv_pop hx hb dX2_copy_43 rfl ?_
      refine lv_goto (tgt := 16) hx hb dX2_copy_44 (by decide) ?_
      have hE_162 := fp_At.kept hE_142 (hk_150 _ (by omega) (fun h => (fun h => h.elim (hd2.1.1) (hedy.2.1)) h.2))
      have hE_164 := fp_At.kept hE_50 (hk_135 _ (by omega) (by omega))
      have hE_165 := fp_At.kept hE_164 (hk_150 _ (by omega) (fun h => (fun h => h.elim (Ne.symm (hd2.2.1.2.1)) (hedy.2.2.1)) h.2))
      have hE_167 := fp_At.kept hE_51 (hk_135 _ (by omega) (by omega))
      have hE_168 := fp_At.kept hE_167 (hk_150 _ (by omega) (fun h => (fun h => h.elim (Ne.symm (hd2.2.1.2.2)) (hedy.2.2.2)) h.2))
      have hE_170 := fp_IE.mv hE_137 (hk_150 _ (by omega) (fun h => (fun h => h.elim (fun e => by omega) (hedy.1)) h.2))
      refine W.widen (k := 5 + fp_cn (k + 1)) (n := 35 + fp_cs (k + 1)) (by omega) (by omega) ?_
      exact ih16 (by omega) ed2_152 mc2_153 cap2_154 H_151 locs ls (lv_sub hl [1, 2, 3] rfl) hS hcps (by omega) (by have h9 := hed2_155; exact ⟨fp_ne2 h9 hedy.1 (by omega), fp_ne2 h9 hedy.2.1 (by omega), fp_ne2 h9 hedy.2.2.1 (by omega), fp_ne2 h9 hedy.2.2.2 (by omega)⟩) (by omega) hE_162 (fp_LE.congr hE_157 (fun j hj => by unfold va_up; by_cases e : j = k <;> simp [e])) hE_165 hE_168 hE_170
  refine W.widen (k := 5 + fp_cn 0) (n := 35 + fp_cs 0) (by omega) (by omega) ?_
  exact L16 0 (by omega) (fp_de G) (iI ((0 : Nat) : Int)) 0 H_32 locs ls (lv_sub hl [2, 1, 0] rfl) hS rfl (Or.inl rfl) (by unfold fp_dif; omega) (Nat.le_refl _) hE_39 (fp_LE.congr hE_41 (fun k hk => absurd hk (Nat.not_lt_zero _))) hE_43 hE_45 hE_34
