/-! STRINGBUILDER: append(int) -/
set_option maxRecDepth 100000
theorem fp_dpa {f g : Nat → Int} {n z : Nat} {tx : Nat → Nat} (h : ∀ i, i < n → f i = ((tx i : Nat) : Int) ∧ tx i < 128) (hd : fp_dp z (n + sb_dg z) (sb_dg z) f g) : ∀ i, i < n + sb_dg z → g i = ((sb_cat tx n (sb_dec z) i : Nat) : Int) ∧ sb_cat tx n (sb_dec z) i < 128 := by
  intro i hi
  rcases Nat.lt_or_ge i n with h1 | h1
  · rw [sb_cat_lo h1, hd.2 i (Or.inl (by omega))]
    exact h i h1
  · obtain ⟨j, rfl⟩ := Nat.exists_eq_add_of_le h1
    rw [sb_cat_hi]
    have h2 := hd.1 (sb_dg z - 1 - j) (by omega)
    rw [show n + sb_dg z - 1 - (sb_dg z - 1 - j) = n + j by omega] at h2
    refine ⟨h2, ?_⟩
    show 48 + z / 10 ^ (sb_dg z - 1 - j) % 10 < 128
    omega
theorem fp_dpu {f g : Nat → Int} {z p k cap : Nat} (h : ∀ i, i < cap → -128 ≤ f i ∧ f i < 128) (hd : fp_dp z p k f g) (hk : k ≤ p) : ∀ i, i < cap → -128 ≤ g i ∧ g i < 128 := by
  intro i hi
  rcases Nat.lt_or_ge i (p - k) with h1 | h1
  · rw [hd.2 i (Or.inl h1)]
    exact h i hi
  · rcases Nat.lt_or_ge i p with h2 | h2
    · have h3 := hd.1 (p - 1 - i) (by omega)
      rw [show p - 1 - (p - 1 - i) = i by omega] at h3
      rw [h3]
      omega
    · rw [hd.2 i (Or.inr h2)]
      exact h i hi

set_option maxRecDepth 100000
set_option maxHeartbeats 4000000 in
theorem c_J5_append_2 (G : fp_G) (x : Nat) (vl : Nat) (cap : Nat) (n : Nat) (ml : Nat) (tx : Nat → Nat) (z : Nat) (hz : z < 1000000000) (hn : n + sb_dg z ≤ 99) : fp_M G yJ5_append_2 cJ5_append_2 4 (some (.object "java/lang/AbstractStringBuilder")) 5 110 1 202 [.ref (x), .int (iI ((z : Nat) : Int))] (fun H => fp_SB G x vl cap n ml tx H) (fun q => (g_s G).heap.size ≤ q ∧ (q = x ∨ q = vl)) (fun H v H1 => ∃ (vl2 : Nat), ∃ (cap2 : Nat), v = some (.ref (x)) ∧ (vl2 = vl ∨ H.size ≤ vl2) ∧ fp_SB G x vl2 cap2 (n + sb_dg z) ml (sb_cat tx n (sb_dec z)) H1) := by
  refine fp_M.intro (by decide) (Nat.le_of_ble_eq_true rfl) ?_
  intro pg en s mi ag bl mt cd rR qQ ls X hx hb hr hlk hnm hR hQ hB hM hl
  have hS : va_S (fA (fun q => (g_s G).heap.size ≤ q ∧ (q = x ∨ q = vl)) s.heap.size) s.heap s.heap [] := va_S.rf
  generalize ([] : List Loc) = locs at hS ⊢
  have hb0 := hB.1
  have hAb : ∀ q, (fun q => (g_s G).heap.size ≤ q ∧ (q = x ∨ q = vl)) q → (g_s G).heap.size ≤ q := fun q h => h.1
  have h_sb := hM
  have hsz0 := hS.1
  have lt_1 := h_sb.1.lt
  have lt_2 := h_sb.2.2.1.1
  have hsb0 := h_sb.2.2
  refine lv_aload_n hx hb dJ5_append_2_0 rfl (lv_at hl 0 rfl) ?_
  refine r_get X h_sb.1 rfl in_J6 3 (by decide) q231 (Or.inl rfl) (v := .int (iI ((n : Nat) : Int))) rfl dJ5_append_2_1 ?_
  refine lv_istore_n (lv' := [(2, .int (iI ((n : Nat) : Int))), (0, .ref (x)), (1, .int (iI ((z : Nat) : Int)))]) hx hb dJ5_append_2_4 rfl hl (by decide) rfl (fun ls hl => ?_)
  refine lv_iload_n hx hb dJ5_append_2_5 rfl (lv_at hl 0 rfl) ?_
  refine lv_iload_n hx hb dJ5_append_2_6 rfl (lv_at hl 2 rfl) ?_
  refine r_callS (cells1 := 0) (slots1 := 0) X hR (c_J22_stringSize G z hz) q707 q708 q120 q709 pd_J22_stringSize ⟨Nat.le_of_ble_eq_true rfl, Nat.le_of_ble_eq_true rfl⟩ rfl rfl (Nat.le_of_ble_eq_true rfl) (Nat.le_of_ble_eq_true rfl) rfl (Nat.le_of_ble_eq_true rfl) hl.1 dJ5_append_2_7 (hB.of hS hAb) trivial hS (fun _ h => h.elim) (fun v H_6 locs hp_3 hz_4 hk_5 hS => ?_)
  obtain ⟨rfl, rfl⟩ := hp_3
  refine r_stk (st2 := [.int (iI ((sb_dg z : Nat) : Int)), .int (iI ((n : Nat) : Int))]) rfl ?_
  refine r_iaddN hx hb dJ5_append_2_10 ?_
  refine lv_istore_n (lv' := [(3, .int (iI ((n + (sb_dg z) : Nat) : Int))), (2, .int (iI ((n : Nat) : Int))), (0, .ref (x)), (1, .int (iI ((z : Nat) : Int)))]) hx hb dJ5_append_2_11 rfl hl (by decide) rfl (fun ls hl => ?_)
  refine lv_aload_n hx hb dJ5_append_2_12 rfl (lv_at hl 2 rfl) ?_
  refine lv_iload_n hx hb dJ5_append_2_13 rfl (lv_at hl 0 rfl) ?_
  refine r_callVP (cells1 := 1) (slots1 := 202) X hR (c_J5_ensureCapacityInternal G x vl cap n ml tx (n + (sb_dg z)) (by omega)) q593 q595 q594 q2522 q96 q596 ⟨by decide, by decide, rfl⟩ ⟨Nat.le_of_ble_eq_true rfl, Nat.le_of_ble_eq_true rfl⟩ rfl rfl (Nat.le_of_ble_eq_true rfl) (Nat.le_of_ble_eq_true rfl) h_sb.1 rfl rfl (Nat.le_of_ble_eq_true rfl) hl.1 dJ5_append_2_14 (hB.of hS hAb) h_sb hS (fun q h => by have h2 : (g_s G).heap.size ≤ q ∧ (q = x) := h; show ((g_s G).heap.size ≤ q ∧ (q = x ∨ q = vl)) ∨ s.heap.size ≤ q; omega) (fun v H_10 locs hp_7 hz_8 hk_9 hS => ?_)
  obtain ⟨vl2_11, cap2_12, rfl, hv2_13, hm2_14, hE_15⟩ := hp_7
  have hz_16 := hS.1
  have lt_17 := hE_15.1.lt
  have lt_18 := hE_15.2.2.1.1
  refine r_stk (st2 := []) rfl ?_
  refine lv_aload_n hx hb dJ5_append_2_17 rfl (lv_at hl 2 rfl) ?_
  refine r_callU (x := ⟨"java/lang/AbstractStringBuilder", "isLatin1", "()Z"⟩) (cells1 := 1) (slots1 := 202) X hR (c_J5_isLatin1 G x vl2_11 cap2_12 n ml tx) q626 q628 (Or.inr ⟨q627, _, _, _, q630⟩) q629 q627 q96 q630 ⟨by decide, by decide, rfl⟩ ⟨Nat.le_of_ble_eq_true rfl, Nat.le_of_ble_eq_true rfl⟩ rfl rfl (Nat.le_of_ble_eq_true rfl) (Nat.le_of_ble_eq_true rfl) hE_15.1 rfl rfl (Nat.le_of_ble_eq_true rfl) hl.1 dJ5_append_2_18 (hB.of hS hAb) hE_15 hS (fun _ h => h.elim) (fun v H_22 locs hp_19 hz_20 hk_21 hS => ?_)
  obtain ⟨rfl, rfl⟩ := hp_19
  refine r_stk (st2 := [.int (iI (bI (true)))]) rfl ?_
  refine r_ifeqB (tgt := 37) hx hb dJ5_append_2_21 (by decide) (fun c21 => ?_) (fun c21 => ?_)
  · exact absurd c21 (by decide)
  · skip
    obtain ⟨hso_s_23, ⟨f_s_23, hsr_s_23, hsf_s_23, hsw_s_23⟩, hsb_s_23, hsx_s_23, hsv_s_23⟩ := id hE_15
    have lt_24 := hsr_s_23.lt
    have hxv_s_23 : fp_dif x vl2_11 := fp_SB.ne X.2.2.2.2.2 hE_15
    refine lv_iload_n hx hb dJ5_append_2_24 rfl (lv_at hl 3 rfl) ?_
    refine lv_iload_n hx hb dJ5_append_2_25 rfl (lv_at hl 0 rfl) ?_
    refine lv_aload_n hx hb dJ5_append_2_26 rfl (lv_at hl 2 rfl) ?_
    refine r_get X hso_s_23 rfl in_J6 0 (by decide) q227 (Or.inl rfl) (v := .ref (vl2_11)) rfl dJ5_append_2_27 ?_
    refine r_callS (cells1 := 1) (slots1 := 202) X hR (c_J22_getChars G z (n + (sb_dg z)) vl2_11 cap2_12 f_s_23 hz (by omega) (by omega) (by omega) (by omega)) q710 q711 q120 q712 pd_J22_getChars ⟨Nat.le_of_ble_eq_true rfl, Nat.le_of_ble_eq_true rfl⟩ rfl rfl (Nat.le_of_ble_eq_true rfl) (Nat.le_of_ble_eq_true rfl) rfl (Nat.le_of_ble_eq_true rfl) hl.1 dJ5_append_2_30 (hB.of hS hAb) hsr_s_23 hS (fun q h => by have h2 : (g_s G).heap.size ≤ q ∧ (q = vl2_11) := h; show ((g_s G).heap.size ≤ q ∧ (q = x ∨ q = vl)) ∨ s.heap.size ≤ q; omega) (fun v H_28 locs hp_25 hz_26 hk_27 hS => ?_)
    obtain ⟨g_29, rfl, hdg_30, hE_31⟩ := hp_25
    have hz_32 := hS.1
    have lt_33 := hE_31.lt
    refine r_stk (st2 := [.int (iI (((n + (sb_dg z)) - sb_dg z : Nat) : Int))]) rfl ?_
    refine lv_pop hx hb dJ5_append_2_33 rfl ?_
    refine lv_goto (tgt := 48) hx hb dJ5_append_2_34 (by decide) ?_
    refine lv_aload_n hx hb dJ5_append_2_48 rfl (lv_at hl 2 rfl) ?_
    refine lv_iload_n hx hb dJ5_append_2_49 rfl (lv_at hl 0 rfl) ?_
    have hE_35 := fp_At.kept hso_s_23 (hk_27 _ (by omega) (fun h => (hxv_s_23) h.2))
    refine r_put X hE_35 hS (Or.inl ⟨by omega, Or.inl rfl⟩) rfl in_J6 tyJ6_ok nmJ6 3 (by decide) q231 (Or.inl rfl) rfl rfl rfl (show 3 < 4 by decide) dJ5_append_2_50 (fun H_39 locs hE_36 hz_37 hq_38 hS => ?_)
    have hz_40 := hS.1
    refine lv_aload_n hx hb dJ5_append_2_53 rfl (lv_at hl 2 rfl) ?_
    refine r_aret hx hb hr hlk hQ hS (Nat.le_of_ble_eq_true rfl) (Nat.le_of_ble_eq_true rfl) dJ5_append_2_54 (Or.inl ⟨_, rfl⟩) (Or.inr ⟨_, rfl⟩) ?_
    have hE_42 := fp_At.kept hE_31 (hq_38 _ (Ne.symm (hxv_s_23)))
    exact ⟨vl2_11, cap2_12, rfl, (by omega), (⟨hE_36, ⟨_, hE_42, fp_dpa hsf_s_23 hdg_30, fp_dpu hsw_s_23 hdg_30 (by omega)⟩, ⟨hE_42.lt, by omega, by omega, by omega, by omega⟩, hsx_s_23, hsv_s_23⟩)⟩
set_option maxHeartbeats 4000000 in
theorem c_J6_append_2 (G : fp_G) (x : Nat) (vl : Nat) (cap : Nat) (n : Nat) (ml : Nat) (tx : Nat → Nat) (z : Nat) (hz : z < 1000000000) (hn : n + sb_dg z ≤ 99) : fp_M G yJ6_append_2 cJ6_append_2 2 (some (.object "java/lang/StringBuilder")) 6 133 1 202 [.ref (x), .int (iI ((z : Nat) : Int))] (fun H => fp_SB G x vl cap n ml tx H) (fun q => (g_s G).heap.size ≤ q ∧ (q = x ∨ q = vl)) (fun H v H1 => ∃ (vl2 : Nat), ∃ (cap2 : Nat), v = some (.ref (x)) ∧ (vl2 = vl ∨ H.size ≤ vl2) ∧ fp_SB G x vl2 cap2 (n + sb_dg z) ml (sb_cat tx n (sb_dec z)) H1) := by
  refine fp_M.intro (by decide) (Nat.le_of_ble_eq_true rfl) ?_
  intro pg en s mi ag bl mt cd rR qQ ls X hx hb hr hlk hnm hR hQ hB hM hl
  have hS : va_S (fA (fun q => (g_s G).heap.size ≤ q ∧ (q = x ∨ q = vl)) s.heap.size) s.heap s.heap [] := va_S.rf
  generalize ([] : List Loc) = locs at hS ⊢
  have hb0 := hB.1
  have hAb : ∀ q, (fun q => (g_s G).heap.size ≤ q ∧ (q = x ∨ q = vl)) q → (g_s G).heap.size ≤ q := fun q h => h.1
  have h_sb := hM
  have hsz0 := hS.1
  have lt_1 := h_sb.1.lt
  have lt_2 := h_sb.2.2.1.1
  refine lv_aload_n hx hb dJ6_append_2_0 rfl (lv_at hl 0 rfl) ?_
  refine lv_iload_n hx hb dJ6_append_2_1 rfl (lv_at hl 1 rfl) ?_
  refine r_callP (cells1 := 1) (slots1 := 202) X hR (c_J5_append_2 G x vl cap n ml tx z hz hn) q704 q2527 q240 q705 q96 q706 ⟨by decide, rfl⟩ ⟨Nat.le_of_ble_eq_true rfl, Nat.le_of_ble_eq_true rfl⟩ rfl rfl (Nat.le_of_ble_eq_true rfl) (Nat.le_of_ble_eq_true rfl) h_sb.1 rfl rfl (Nat.le_of_ble_eq_true rfl) hl.1 dJ6_append_2_2 (hB.of hS hAb) h_sb hS (fun q h => by have h2 : (g_s G).heap.size ≤ q ∧ (q = x ∨ q = vl) := h; show ((g_s G).heap.size ≤ q ∧ (q = x ∨ q = vl)) ∨ s.heap.size ≤ q; omega) (fun v H_6 locs hp_3 hz_4 hk_5 hS => ?_)
  obtain ⟨vl2_7, cap2_8, rfl, hv2_9, hE_10⟩ := hp_3
  have hz_11 := hS.1
  have lt_12 := hE_10.1.lt
  have lt_13 := hE_10.2.2.1.1
  refine r_stk (st2 := [.ref (x)]) rfl ?_
  refine lv_pop hx hb dJ6_append_2_5 rfl ?_
  refine lv_aload_n hx hb dJ6_append_2_6 rfl (lv_at hl 0 rfl) ?_
  refine r_aret hx hb hr hlk hQ hS (Nat.le_of_ble_eq_true rfl) (Nat.le_of_ble_eq_true rfl) dJ6_append_2_7 (Or.inl ⟨_, rfl⟩) (Or.inr ⟨_, rfl⟩) ?_
  exact ⟨vl2_7, cap2_8, rfl, (by omega), hE_10⟩
