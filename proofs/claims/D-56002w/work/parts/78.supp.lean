/-! THE STATE: is a block under another? -/
set_option maxRecDepth 100000
set_option maxHeartbeats 4000000 in
theorem c_X2_lambda_isSupporting_0 (G : fp_G) (a : Nat) (B : Nat → Nat) (c : Nat) (B2 : Nat → Nat) (hBa : fp_bk B) (hBb : fp_bk B2) : fp_M G yX2_lambda_isSupporting_0 cX2_lambda_isSupporting_0 2 (some .boolean) 6 141 0 0 [.ref (a), .ref (c)] (fun H => fp_At G H a (fp_bE B) ∧ fp_At G H c (fp_bE B2)) fp_no (fun H v H1 => v = some (.int (iI (bI (fp_sup B B2)))) ∧ H = H1) := by
  refine fp_M.intro (by decide) (Nat.le_of_ble_eq_true rfl) ?_
  intro pg en s mi ag bl mt cd rR qQ ls X hx hb hr hlk hnm hR hQ hB hM hl
  have hS : va_S (fA fp_no s.heap.size) s.heap s.heap [] := va_S.rf
  generalize ([] : List Loc) = locs at hS ⊢
  have hb0 := hB.1
  obtain ⟨h_k1, h_k2⟩ := hM
  have hsz0 := hS.1
  have lt_1 := h_k1.lt
  have lt_2 := h_k2.lt
  refine lv_aload_n hx hb dX2_lambda_isSupporting_0_0 rfl (lv_at hl 0 rfl) ?_
  refine lv_aload_n hx hb dX2_lambda_isSupporting_0_1 rfl (lv_at hl 1 rfl) ?_
  refine b_supports X hR h_k1 (hBa.2.1) hBa hBb h_k2 q503 (by decide) (by decide) (Nat.le_of_ble_eq_true rfl) (Nat.le_of_ble_eq_true rfl) (Nat.le_of_ble_eq_true rfl) hl.1 dX2_lambda_isSupporting_0_2 (hB.of hS fp_no.base) hS (fun locs hS => ?_)
  refine r_zret hx hb hr hlk hQ hS (Nat.le_of_ble_eq_true rfl) (Nat.le_of_ble_eq_true rfl) dX2_lambda_isSupporting_0_5 (bI_z _) ?_
  exact ⟨rfl, rfl⟩
set_option maxHeartbeats 4000000 in
theorem c_X2_isSupporting (G : fp_G) (x : Nat) (l : Nat) (ed : Nat) (z : Nat) (t : Nat) (mc : Int32) (cap : Nat) (b : Nat → Nat) (S : PS) (u : Nat) (hsw : fp_sw S b) (hu : u < sN S) : fp_M G yX2_isSupporting cX2_isSupporting 2 (some .boolean) 302 8045 2 5 [.ref (x), .ref (b u)] (fun H => fp_SE G x l ed z t mc cap b S H) fp_no (fun H v H1 => v = some (.int (iI (bI (fp_und S u))))) := by
  refine fp_M.introN (by decide) (Nat.le_of_ble_eq_true rfl) ?_
  intro pg en s mi ag bl mt cd rR qQ ls hn X hx hb hr hlk hnm hR hQ hB hM hl
  have hS : va_S (fA fp_no s.heap.size) s.heap s.heap [] := va_S.rf
  generalize ([] : List Loc) = locs at hS ⊢
  have hb0 := hB.1
  have h_st := hM
  have hsz0 := hS.1
  have lt_1 := h_st.1.lt
  have hn24 := hsw.1.1
  obtain ⟨h_o, h_l, h_z, h_t, h_bl, h_xb, h_zb, h_tb⟩ := id h_st
  have lt_2 := h_l.1.lt
  have lt_3 := h_l.2.2
  have lt_4 := h_z.lt
  have lt_5 := h_t.lt
  have hbu := hsw.1.2.2.1 u hu
  have hctb := fp_ct_le (fun k => fp_sup (sB S u) (sB S k)) (sN S)
  refine lv_aload_n hx hb dX2_isSupporting_0 rfl (lv_at hl 0 rfl) ?_
  refine lv_aload_n hx hb dX2_isSupporting_1 rfl (lv_at hl 1 rfl) ?_
  refine r_indyM (x := fp_x8) (vals := [.ref (b u)]) (rest := [.ref (x)]) X hn hR fp_w8 (by decide) fp_Ls8 hS rfl (by rw [fp_Lt8]; rfl) (by rw [fp_Lt8]; exact fp_fit1 rfl) rfl (Nat.le_of_ble_eq_true rfl) (Nat.le_of_ble_eq_true rfl) (Nat.le_of_ble_eq_true rfl) hl.1 dX2_isSupporting_2 (fun cK_7 H_6 hLm_8 hob_9 hX_10 hz_11 hS => ?_)
  have hz_12 := hS.1
  have hlt_hob_9 := hob_9.lt
  have hCL_13 : fp_CL G fp_nM (s.heap.size) 0 0 (sN S) b (fun H => fp_ob H (s.heap.size) cK_7 [.ref (b u)] ∧ fp_BL G (sN S) b (sB S) H) (fun k => iI (bI (fp_sup (sB S u) (sB S k)))) := ⟨_, fp_s8, cK_7, fp_lD8, fp_lf8, fp_ll8, _, _, hLm_8, fp_Ls8, fp_Lc8.lf, by decide +kernel, ⟨rfl, rfl, rfl⟩, ⟨Nat.le_of_ble_eq_true rfl, Nat.le_of_ble_eq_true rfl⟩, fun k hk => ((fp_MI.c1 (y := yX2_lambda_isSupporting_0) hLm_8 fp_Ls8 fp_Lc8 fp_Lp8 fp_Lg8_0 ⟨⟨rfl, rfl, rfl⟩, rfl⟩ (c_X2_lambda_isSupporting_0 G (b u) (sB S u) (b k) (sB S k) hbu (hsw.1.2.2.1 k hk)) ⟨q1333, q89, q1334, by decide, by decide, rfl⟩ (fun _ _ _ h => fp_zI h.1 (bI_z _))).pre (fun H h => ⟨h.1, h.2 u hu, h.2 k hk⟩)).post (fun _ _ _ h => h.1), fun H h => by obtain ⟨cell, h1, h2, h3, -⟩ := h.1; exact ⟨cell, h1, h2, h3⟩⟩
  have hE_15 := h_bl.ext (fp_X.ofS hS)
  have hPL_14 := And.intro hob_9 hE_15
  have hE_16 := h_st.ext (fp_X.ofS hS)
  refine r_callV (cells1 := (1 + (1 + sN S * 0))) (slots1 := (1 + (4 + sN S * 0))) X hR (c_X2_count G x l ed z t mc cap b S (s.heap.size) 0 0 (fun k => fp_sup (sB S u) (sB S k)) (fun H => fp_ob H (s.heap.size) cK_7 [.ref (b u)] ∧ fp_BL G (sN S) b (sB S) H) hsw (fun H H1 h hx => ⟨h.1.mv (hx.2 _ h.1.lt), h.2.ext hx⟩) hCL_13) q1335 q972 q973 q89 q974 ⟨rfl, pd_X2_count⟩ ⟨Nat.le_of_ble_eq_true rfl, Nat.le_of_ble_eq_true rfl⟩ rfl rfl (by omega) (by omega) hE_16.1 rfl rfl (Nat.le_of_ble_eq_true rfl) hl.1 dX2_isSupporting_7 (hB.of hS fp_no.base) ⟨hE_16, hPL_14⟩ hS (fun _ h => h.elim) (fun v H_20 locs hp_17 hz_18 hk_19 hS => ?_)
  obtain rfl := hp_17
  have hz_21 := hS.1
  refine r_stk (st2 := [.int (iI ((fp_ct (fun k => fp_sup (sB S u) (sB S k)) (sN S) : Nat) : Int))]) rfl ?_
  refine r_if_le (tgt := 17) hx hb ⟨by omega, by omega⟩ dX2_isSupporting_10 (by decide) (fun c10 => ?_) (fun c10 => ?_)
  · skip
    refine lv_iconst (v := (iI ((0 : Nat) : Int))) hx hb dX2_isSupporting_17 rfl ?_
    refine r_zret hx hb hr hlk hQ hS (by omega) (by omega) dX2_isSupporting_18 rfl ?_
    exact (congrArg (fun q : Bool => some (Value.int (iI (bI q)))) (Eq.symm (show fp_und S u = false from (fp_any_ct _ _).trans (decide_eq_false (by omega)))))
  · skip
    refine lv_iconst (v := (iI ((1 : Nat) : Int))) hx hb dX2_isSupporting_13 rfl ?_
    refine lv_goto (tgt := 18) hx hb dX2_isSupporting_14 (by decide) ?_
    refine r_zret hx hb hr hlk hQ hS (by omega) (by omega) dX2_isSupporting_18 rfl ?_
    exact (congrArg (fun q : Bool => some (Value.int (iI (bI q)))) (Eq.symm (show fp_und S u = true from (fp_any_ct _ _).trans (decide_eq_true (by omega)))))
