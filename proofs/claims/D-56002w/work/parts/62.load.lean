/-! THE STATE: loads -/
set_option maxRecDepth 100000
set_option maxHeartbeats 4000000 in
theorem c_X2_passOn (G : fp_G) (x : Nat) (l : Nat) (ed : Nat) (z : Nat) (t : Nat) (mc : Int32) (cap : Nat) (b : Nat → Nat) (S : PS) (u : Nat) (L : Nat → Nat) (a : Nat) (hsw : fp_sw S b) (hdl : fp_dl S) (hu : u < sN S) (hab : (g_s G).heap.size ≤ a) (hap : (a ≠ x ∧ a ≠ l ∧ a ≠ ed ∧ a ≠ z ∧ a ≠ t) ∧ ∀ k, k < sN S → b k ≠ a) (hLb : ∀ j, L j ≤ 167772160) : fp_M G yX2_passOn cX2_passOn 7 none 8 196 6 121 [.ref (x), .ref (b u), .int (iI ((L u : Nat) : Int)), .ref (a)] (fun H => fp_SE G x l ed z t mc cap b S H ∧ fp_At G H a (eI G (sN S) (fun j => iI ((fun j => ((L j : Nat) : Int)) j)))) (fun q => (g_s G).heap.size ≤ q ∧ (q = a)) (fun H v H1 => v = none ∧ fp_At G H1 a (eI G (sN S) (fun j => iI ((fun j => ((fp_pass S u L j : Nat) : Int)) j)))) := by
  refine fp_M.intro (by decide) (Nat.le_of_ble_eq_true rfl) ?_
  intro pg en s mi ag bl mt cd rR qQ ls X hx hb hr hlk hnm hR hQ hB hM hl
  have hS : va_S (fA (fun q => (g_s G).heap.size ≤ q ∧ (q = a)) s.heap.size) s.heap s.heap [] := va_S.rf
  generalize ([] : List Loc) = locs at hS ⊢
  have hb0 := hB.1
  have hAb : ∀ q, (fun q => (g_s G).heap.size ≤ q ∧ (q = a)) q → (g_s G).heap.size ≤ q := fun q h => h.1
  obtain ⟨h_st, h_ar⟩ := hM
  have hsz0 := hS.1
  have lt_1 := h_st.1.lt
  have lt_2 := h_ar.lt
  have hn24 := hsw.1.1
  obtain ⟨h_o, h_l, h_z, h_t, h_bl, h_xb, h_zb, h_tb⟩ := id h_st
  have lt_3 := h_l.1.lt
  have lt_4 := h_l.2.2
  have lt_5 := h_z.lt
  have lt_6 := h_t.lt
  have hed0 := (X.2.2.2.2.2.deT (A := fp_no) hB fp_no.base).2.2
  have hbu := hsw.1.2.2.1 u hu
  have hLu := hLb u
  refine lv_aload_n hx hb dX2_passOn_0 rfl (lv_at hl 0 rfl) ?_
  refine lv_aload_n hx hb dX2_passOn_1 rfl (lv_at hl 1 rfl) ?_
  refine r_callV (cells1 := 6) (slots1 := 121) X hR (c_X2_supporters G x l ed z t mc cap b S u hsw hdl hu) q554 q555 q556 q89 q557 ⟨rfl, pd_X2_supporters⟩ ⟨Nat.le_of_ble_eq_true rfl, Nat.le_of_ble_eq_true rfl⟩ rfl rfl (Nat.le_of_ble_eq_true rfl) (Nat.le_of_ble_eq_true rfl) h_st.1 rfl rfl (Nat.le_of_ble_eq_true rfl) hl.1 dX2_passOn_2 (hB.of hS hAb) h_st hS (fun _ h => h.elim) (fun v H_10 locs hp_7 hz_8 hk_9 hS => ?_)
  obtain ⟨q_11, ed2_12, mc2_13, cap2_14, c, e, rfl, hq_15, hed_16, hSU_17, hE_18⟩ := hp_7
  have hz_19 := hS.1
  have lt_21 := hE_18.1.lt
  have lt_22 := hE_18.2.2
  refine r_stk (st2 := [.ref (q_11)]) rfl ?_
  have hSU := hSU_17
  refine lv_astore (lv' := [(4, .ref (q_11)), (0, .ref (x)), (1, .ref (b u)), (2, .int (iI ((L u : Nat) : Int))), (3, .ref (a))]) hx hb dX2_passOn_5 hl (by decide) rfl (fun ls hl => ?_)
  refine lv_iconst (v := (iI ((0 : Nat) : Int))) hx hb dX2_passOn_7 rfl ?_
  refine lv_istore (lv' := [(5, .int (iI ((0 : Nat) : Int))), (4, .ref (q_11)), (0, .ref (x)), (1, .ref (b u)), (2, .int (iI ((L u : Nat) : Int))), (3, .ref (a))]) hx hb dX2_passOn_8 hl (by decide) rfl (fun ls hl => ?_)
  have hE_24 := fp_At.kept h_ar (hk_9 _ (by omega) (fun z => z))
  have L10 : ∀ (p : Nat), p ≤ c → ∀ (H_25 : Heap) (locs : List Loc) (ls : Array Slot), lv_has ls 7 [(0, .ref (x)), (1, .ref (b u)), (2, .int (iI ((L u : Nat) : Int))), (3, .ref (a)), (4, .ref (q_11)), (5, .int (iI ((p : Nat) : Int)))] → va_S (fA (fun q => (g_s G).heap.size ≤ q ∧ (q = a)) s.heap.size) s.heap H_25 locs → (H_10.size ≤ H_25.size) → fp_At G H_25 a (eI G (sN S) (fun j => iI ((fun j => ((fp_pp S u L p j : Nat) : Int)) j))) → fp_LE G q_11 ed2_12 mc2_13 c cap2_14 (fun p => b (e p)) H_25 → W pg (g_l G) en rR s mi ag bl mt cd H_25 locs 6 121 qQ (F0 mi 10 ls []) := by
    refine lp_up c ?_
    intro p hk10 ih10 H_25 locs ls hl hS hz_26 hE_27 hE_28
    have hz_29 := hS.1
    have lt_30 := hE_27.lt
    have lt_31 := hE_28.1.lt
    have lt_32 := hE_28.2.2
    have hck := hSU.le
    refine lv_iload hx hb dX2_passOn_10 (lv_at hl 5 rfl) ?_
    refine lv_aload hx hb dX2_passOn_12 (lv_at hl 4 rfl) ?_
    refine r_callV (cells1 := 6) (slots1 := 121) X hR (c_J2_size G q_11 ed2_12 mc2_13 c cap2_14 (fun p => b (e p))) q484 q461 q462 q92 q463 ⟨rfl, pd_J2_size⟩ ⟨Nat.le_of_ble_eq_true rfl, Nat.le_of_ble_eq_true rfl⟩ rfl rfl (Nat.le_of_ble_eq_true rfl) (Nat.le_of_ble_eq_true rfl) hE_28.1 rfl rfl (Nat.le_of_ble_eq_true rfl) hl.1 dX2_passOn_14 (hB.of hS hAb) hE_28 hS (fun _ h => h.elim) (fun v H_36 locs hp_33 hz_34 hk_35 hS => ?_)
    obtain ⟨rfl, rfl⟩ := hp_33
    refine r_stk (st2 := [.int (iI ((c : Nat) : Int)), .int (iI ((p : Nat) : Int))]) rfl ?_
    refine r_icmp_ge (tgt := 65) hx hb ⟨by omega, by omega⟩ ⟨by omega, by omega⟩ dX2_passOn_17 (by decide) (fun c17 => ?_) (fun c17 => ?_)
    · skip
      obtain rfl : p = c := by omega
      refine r_vret hx hb hr hlk hQ hS (Nat.le_of_ble_eq_true rfl) (Nat.le_of_ble_eq_true rfl) dX2_passOn_65 ?_
      exact ⟨rfl, (fp_At.cI hE_27 (fun j hj => by rw [fp_pp_n hSU j hj]))⟩
    · skip
      refine lv_aload_n hx hb dX2_passOn_20 rfl (lv_at hl 0 rfl) ?_
      have hE_37 := fp_SE.mv h_st (fp_keptS (by omega) hS (by omega)) (fp_keptS (by omega) hS (by omega)) (fp_keptS (by omega) hS (by omega)) (fp_keptS (by omega) hS (by omega)) (fp_keptS (by omega) hS (by omega)) (fun k hk => fp_keptS (h_st.2.2.2.2.1 k hk).lt hS (by have := hap.2 k hk; omega))
      refine r_get X hE_37.1 rfl in_X2 0 (by decide) q173 (Or.inl rfl) (v := .ref (l)) rfl dX2_passOn_21 ?_
      refine lv_aload hx hb dX2_passOn_24 (lv_at hl 4 rfl) ?_
      refine lv_iload hx hb dX2_passOn_26 (lv_at hl 5 rfl) ?_
      refine r_callV (cells1 := 6) (slots1 := 121) X hR (c_J2_get G q_11 ed2_12 mc2_13 c cap2_14 (fun p => b (e p)) p (by omega)) q489 q490 q491 q92 q492 ⟨rfl, pd_J2_get⟩ ⟨Nat.le_of_ble_eq_true rfl, Nat.le_of_ble_eq_true rfl⟩ rfl rfl (Nat.le_of_ble_eq_true rfl) (Nat.le_of_ble_eq_true rfl) hE_28.1 rfl rfl (Nat.le_of_ble_eq_true rfl) hl.1 dX2_passOn_28 (hB.of hS hAb) hE_28 hS (fun _ h => h.elim) (fun v H_41 locs hp_38 hz_39 hk_40 hS => ?_)
      obtain ⟨rfl, rfl⟩ := hp_38
      refine r_stk (st2 := [.ref (b (e p)), .ref (l)]) rfl ?_
      have hep := hSU.2 p (by omega)
      have hbe := hsw.1.2.2.1 (e p) (by omega)
      have hE_42 := fp_BL.mv h_bl (fun k hk => fp_keptS (h_bl k hk).lt hS (by have := hap.2 k hk; omega))
      have hE_43 := fp_LE.mv h_l (fp_keptS (by omega) hS (by omega)) (fp_keptS (by omega) hS (by omega))
      refine r_callV (cells1 := 6) (slots1 := 121) X hR (c_J2_indexOf G l ed mc (sN S) cap b (b (e p)) (sB S (e p)) (e p) (hbe.2.1) (by omega) rfl (fun j hj h => by have := hsw.2 j (e p) (by omega) (by omega) h; omega)) q870 q871 q872 q92 q873 ⟨rfl, pd_J2_indexOf⟩ ⟨Nat.le_of_ble_eq_true rfl, Nat.le_of_ble_eq_true rfl⟩ rfl rfl (Nat.le_of_ble_eq_true rfl) (Nat.le_of_ble_eq_true rfl) hE_43.1 rfl rfl (Nat.le_of_ble_eq_true rfl) hl.1 dX2_passOn_31 (hB.of hS hAb) ⟨hE_43, (hE_42 (e p) (by omega))⟩ hS (fun _ h => h.elim) (fun v H_47 locs hp_44 hz_45 hk_46 hS => ?_)
      obtain ⟨rfl, rfl⟩ := hp_44
      refine r_stk (st2 := [.int (iI (((e p) : Nat) : Int))]) rfl ?_
      refine lv_istore (lv' := [(6, .int (iI (((e p) : Nat) : Int))), (0, .ref (x)), (1, .ref (b u)), (2, .int (iI ((L u : Nat) : Int))), (3, .ref (a)), (4, .ref (q_11)), (5, .int (iI ((p : Nat) : Int)))]) hx hb dX2_passOn_34 hl (by decide) rfl (fun ls hl => ?_)
      refine lv_aload_n hx hb dX2_passOn_36 rfl (lv_at hl 4 rfl) ?_
      refine lv_iload hx hb dX2_passOn_37 (lv_at hl 0 rfl) ?_
      refine lv_dup2_11 hx hb dX2_passOn_39 rfl rfl ?_
      refine r_ialdI X hE_27 (j := (e p)) rfl (by omega) (by omega) dX2_passOn_40 ?_
      refine r_set (y := .int (iI ((L (e p) : Nat) : Int))) (congrArg (fun q : Nat => Value.int (iI (q : Int))) (fp_pp_e hSU (by omega))) ?_
      have hLe := hLb (e p)
      refine lv_aload_n hx hb dX2_passOn_41 rfl (lv_at hl 2 rfl) ?_
      refine r_getBN 3 (by decide) 4 rfl X (hE_42 u (by omega)) (hsw.1.2.2.1 u (by omega)).2.1 q1162 dX2_passOn_42 ?_
      refine lv_iload_n hx hb dX2_passOn_45 rfl (lv_at hl 3 rfl) ?_
      refine r_iaddN hx hb dX2_passOn_46 ?_
      refine lv_aload hx hb dX2_passOn_47 (lv_at hl 5 rfl) ?_
      refine r_callV (cells1 := 6) (slots1 := 121) X hR (c_J2_size G q_11 ed2_12 mc2_13 c cap2_14 (fun p => b (e p))) q484 q461 q462 q92 q463 ⟨rfl, pd_J2_size⟩ ⟨Nat.le_of_ble_eq_true rfl, Nat.le_of_ble_eq_true rfl⟩ rfl rfl (Nat.le_of_ble_eq_true rfl) (Nat.le_of_ble_eq_true rfl) hE_28.1 rfl rfl (Nat.le_of_ble_eq_true rfl) hl.1 dX2_passOn_49 (hB.of hS hAb) hE_28 hS (fun _ h => h.elim) (fun v H_51 locs hp_48 hz_49 hk_50 hS => ?_)
      obtain ⟨rfl, rfl⟩ := hp_48
      refine r_stk (st2 := [.int (iI ((c : Nat) : Int)), .int (iI (((((sB S) u) 4) + (L u) : Nat) : Int)), .int (iI ((L (e p) : Nat) : Int)), .int (iI (((e p) : Nat) : Int)), .ref (a)]) rfl ?_
      refine lv_iload hx hb dX2_passOn_52 (lv_at hl 6 rfl) ?_
      refine r_callS (cells1 := 6) (slots1 := 121) X hR (c_X2_share G ((((sB S) u) 4) + (L u)) c p (by omega) (by omega) (by omega)) q910 q911 q89 q912 pd_X2_share ⟨Nat.le_of_ble_eq_true rfl, Nat.le_of_ble_eq_true rfl⟩ rfl rfl (Nat.le_of_ble_eq_true rfl) (Nat.le_of_ble_eq_true rfl) rfl (Nat.le_of_ble_eq_true rfl) hl.1 dX2_passOn_54 (hB.of hS hAb) trivial hS (fun _ h => h.elim) (fun v H_55 locs hp_52 hz_53 hk_54 hS => ?_)
      obtain ⟨rfl, rfl⟩ := hp_52
      refine r_stk (st2 := [.int (iI ((fp_shr ((((sB S) u) 4) + (L u)) c p : Nat) : Int)), .int (iI ((L (e p) : Nat) : Int)), .int (iI (((e p) : Nat) : Int)), .ref (a)]) rfl ?_
      have hsh := fp_shr_le (sB S u 4 + L u) c p
      refine r_iaddN hx hb dX2_passOn_57 ?_
      refine r_iastI X hE_27 hS (Or.inl ⟨by omega, rfl⟩) (j := (e p)) rfl (by omega) (by omega) dX2_passOn_58 (fun H_59 locs hE_56 hz_57 hq_58 hS => ?_)
      have hz_60 := hS.1
      have hE_61 : fp_At G H_59 a (eI G (sN S) (fun j => iI ((va_up (fun j => ((fp_pp S u L p j : Nat) : Int)) (e p) (((L (e p)) + (fp_shr ((((sB S) u) 4) + (L u)) c p) : Nat) : Int)) j))) := hE_56.updI
      refine lv_iinc (v := (iI ((p + 1 : Nat) : Int))) (lv' := [(5, .int (iI ((p + 1 : Nat) : Int))), (6, .int (iI (((e p) : Nat) : Int))), (0, .ref (x)), (1, .ref (b u)), (2, .int (iI ((L u : Nat) : Int))), (3, .ref (a)), (4, .ref (q_11))]) hx hb dX2_passOn_59 hl (k := 6) rfl (iI_incN _ _) (by decide) rfl (fun ls hl => ?_)
      refine lv_goto (tgt := 10) hx hb dX2_passOn_62 (by decide) ?_
      have hE_63 := fp_LE.mv hE_28 (hq_58 _ (by omega)) (hq_58 _ (by omega))
      exact ih10 (by omega) H_59 locs ls (lv_sub hl [2, 3, 4, 5, 6, 0] rfl) hS (by omega) (fp_At.cI hE_61 (fun j hj => fp_pp_s hdl hu hSU (by omega) j hj)) hE_63
  exact L10 0 (by omega) H_10 locs ls (lv_sub hl [2, 3, 4, 5, 1, 0] rfl) hS (Nat.le_refl _) (fp_At.cI hE_24 (fun j hj => by rw [fp_pp_0])) hE_18
set_option maxHeartbeats 4000000 in
theorem c_X2_loads (G : fp_G) (x : Nat) (l : Nat) (ed : Nat) (z : Nat) (t : Nat) (mc : Int32) (cap : Nat) (b : Nat → Nat) (S : PS) (hsw : fp_sw S b) (hdl : fp_dl S) : fp_M G yX2_loads cX2_loads 4 (some (.array .int)) 9 222 145 2928 [.ref (x)] (fun H => fp_SE G x l ed z t mc cap b S H) fp_no (fun H v H1 => ∃ (a : Nat), v = some (.ref (a)) ∧ (H.size ≤ a) ∧ fp_At G H1 a (eI G (sN S) (fun j => iI ((fun j => ((fp_ld S j : Nat) : Int)) j)))) := by
  refine fp_M.intro (by decide) (Nat.le_of_ble_eq_true rfl) ?_
  intro pg en s mi ag bl mt cd rR qQ ls X hx hb hr hlk hnm hR hQ hB hM hl
  have hS : va_S (fA fp_no s.heap.size) s.heap s.heap [] := va_S.rf
  generalize ([] : List Loc) = locs at hS ⊢
  have hb0 := hB.1
  have h_st := hM
  have hsz0 := hS.1
  have lt_1 := h_st.1.lt
  have hn24 := hsw.1.1
  obtain ⟨h_o, h_l, h_z, h_t, h_bl, h_xb, h_zb, h_tb⟩ := id h_st
  have lt_2 := h_l.1.lt
  have lt_3 := h_l.2.2
  have lt_4 := h_z.lt
  have lt_5 := h_t.lt
  refine lv_aload_n hx hb dX2_loads_0 rfl (lv_at hl 0 rfl) ?_
  refine r_get X h_st.1 rfl in_X2 0 (by decide) q173 (Or.inl rfl) (v := .ref (l)) rfl dX2_loads_1 ?_
  refine r_callV (cells1 := 0) (slots1 := 0) X hR (c_J2_size G l ed mc (sN S) cap b) q484 q461 q462 q92 q463 ⟨rfl, pd_J2_size⟩ ⟨Nat.le_of_ble_eq_true rfl, Nat.le_of_ble_eq_true rfl⟩ rfl rfl (Nat.le_of_ble_eq_true rfl) (Nat.le_of_ble_eq_true rfl) h_l.1 rfl rfl (Nat.le_of_ble_eq_true rfl) hl.1 dX2_loads_4 (hB.of hS fp_no.base) h_l hS (fun _ h => h.elim) (fun v H_9 locs hp_6 hz_7 hk_8 hS => ?_)
  obtain ⟨rfl, rfl⟩ := hp_6
  refine r_stk (st2 := [.int (iI (((sN S) : Nat) : Int))]) rfl ?_
  refine r_newaI (n := (sN S)) X hR hS q513 rfl (by omega) (Nat.le_of_ble_eq_true rfl) (by omega) dX2_loads_7 (fun aa H_10 hq_14 hE_11 hX_12 hz_13 hS => ?_)
  have hz_15 := hS.1
  have lt_16 := hE_11.lt
  refine lv_astore_n (lv' := [(1, .ref (aa)), (0, .ref (x))]) hx hb dX2_loads_9 rfl hl (by decide) rfl (fun ls hl => ?_)
  refine lv_bipush (v := (iI ((30 : Nat) : Int))) hx hb dX2_loads_10 rfl ?_
  refine lv_istore_n (lv' := [(2, .int (iI ((30 : Nat) : Int))), (1, .ref (aa)), (0, .ref (x))]) hx hb dX2_loads_12 rfl hl (by decide) rfl (fun ls hl => ?_)
  have L13 : ∀ (i : Nat), i ≤ 30 → ∀ (H_17 : Heap) (locs : List Loc) (ls : Array Slot), lv_has ls 4 [(0, .ref (x)), (1, .ref (aa)), (2, .int (iI ((30 - i : Nat) : Int)))] → va_S (fA fp_no s.heap.size) s.heap H_17 locs → (H_10.size ≤ H_17.size) → fp_At G H_17 aa (eI G (sN S) (fun j => iI ((fun j => ((fp_lout S i j : Nat) : Int)) j))) → W pg (g_l G) en rR s mi ag bl mt cd H_17 locs (1 + 6 * fp_npo S i) (24 + 121 * fp_npo S i) qQ (F0 mi 13 ls []) := by
    refine lp_up 30 ?_
    intro i hk13 ih13 H_17 locs ls hl hS hz_18 hE_19
    have hz_20 := hS.1
    have lt_21 := hE_19.lt
    refine lv_iload_n hx hb dX2_loads_13 rfl (lv_at hl 2 rfl) ?_
    refine r_if_le (tgt := 74) hx hb ⟨by omega, by omega⟩ dX2_loads_14 (by decide) (fun c14 => ?_) (fun c14 => ?_)
    · skip
      obtain rfl : i = 30 := by omega
      have hnb30 : fp_npo S 30 ≤ sN S := fp_ct_le _ _
      refine lv_aload_n hx hb dX2_loads_74 rfl (lv_at hl 1 rfl) ?_
      refine r_aret hx hb hr hlk hQ hS (by omega) (by omega) dX2_loads_75 (Or.inr ⟨_, rfl⟩) (Or.inr ⟨_, rfl⟩) ?_
      exact ⟨aa, rfl, (by omega), hE_19⟩
    · skip
      have hi30 : i < 30 := by omega
      refine lv_iconst (v := (iI ((0 : Nat) : Int))) hx hb dX2_loads_17 rfl ?_
      refine lv_istore_n (lv' := [(3, .int (iI ((0 : Nat) : Int))), (0, .ref (x)), (1, .ref (aa)), (2, .int (iI ((30 - i : Nat) : Int)))]) hx hb dX2_loads_18 rfl hl (by decide) rfl (fun ls hl => ?_)
      have L19 : ∀ (k : Nat), k ≤ sN S → ∀ (H_22 : Heap) (locs : List Loc) (ls : Array Slot), lv_has ls 4 [(0, .ref (x)), (1, .ref (aa)), (2, .int (iI ((30 - i : Nat) : Int))), (3, .int (iI ((k : Nat) : Int)))] → va_S (fA fp_no s.heap.size) s.heap H_22 locs → (H_17.size ≤ H_22.size) → fp_At G H_22 aa (eI G (sN S) (fun j => iI ((fun j => ((fp_lin S (30 - i) (fp_lout S i) k j : Nat) : Int)) j))) → W pg (g_l G) en rR s mi ag bl mt cd H_22 locs (1 + 6 * (fp_npo S i + fp_ct (fun k => decide (sB S k 5 = 30 - i)) k)) (24 + 121 * (fp_npo S i + fp_ct (fun k => decide (sB S k 5 = 30 - i)) k)) qQ (F0 mi 19 ls []) := by
        refine lp_up (sN S) ?_
        intro k hk19 ih19 H_22 locs ls hl hS hz_23 hE_24
        have hz_25 := hS.1
        have lt_26 := hE_24.lt
        have hct : fp_ct (fun k => decide (sB S k 5 = 30 - i)) (k + 1) = fp_ct (fun k => decide (sB S k 5 = 30 - i)) k + (if decide (sB S k 5 = 30 - i) = true then 1 else 0) := rfl
        have hnp := fp_npo_s S (i := i) (by omega)
        have hnb : fp_npo S (i + 1) ≤ sN S := fp_ct_le _ _
        have hmo := fp_ct_mono (q := fun k => decide (sB S k 5 = 30 - i)) (k := k) (n := sN S) (by omega)
        have hmo1 : k < sN S → fp_ct (fun k => decide (sB S k 5 = 30 - i)) (k + 1) ≤ fp_ct (fun k => decide (sB S k 5 = 30 - i)) (sN S) := fun h => fp_ct_mono h
        refine lv_iload_n hx hb dX2_loads_19 rfl (lv_at hl 3 rfl) ?_
        refine lv_aload_n hx hb dX2_loads_20 rfl (lv_at hl 1 rfl) ?_
        refine r_alen X (t := 0) rfl hE_24 (v := (iI ((sN S : Nat) : Int))) rfl dX2_loads_21 ?_
        refine r_icmp_ge (tgt := 68) hx hb ⟨by omega, by omega⟩ ⟨by omega, by omega⟩ dX2_loads_22 (by decide) (fun c22 => ?_) (fun c22 => ?_)
        · skip
          obtain rfl : k = sN S := by omega
          refine lv_iinc (v := (iI (((30 - i : Nat) : Int) + (-1)))) (lv' := [(2, .int (iI (((30 - i : Nat) : Int) + (-1)))), (0, .ref (x)), (1, .ref (aa)), (3, .int (iI (((sN S) : Nat) : Int)))]) hx hb dX2_loads_68 hl (k := 2) rfl (iI_add _ _) (by decide) rfl (fun ls hl => ?_)
          refine lv_goto (tgt := 13) hx hb dX2_loads_71 (by decide) ?_
          refine W.widen (k := 1 + 6 * fp_npo S (i + 1)) (n := 24 + 121 * fp_npo S (i + 1)) (by omega) (by omega) ?_
          exact ih13 (by omega) H_22 locs ls (by rw [show Value.int (iI ((30 - (i + 1) : Nat) : Int)) = Value.int (iI (((30 - i : Nat) : Int) + (-1))) from congrArg (fun q : Int => Value.int (iI q)) (by omega)]; exact lv_sub hl [1, 2, 0] rfl) hS (by omega) hE_24
        · skip
          refine lv_aload_n hx hb dX2_loads_25 rfl (lv_at hl 0 rfl) ?_
          have hE_27 := h_st.ext (fp_X.ofS hS)
          refine r_get X hE_27.1 rfl in_X2 0 (by decide) q173 (Or.inl rfl) (v := .ref (l)) rfl dX2_loads_26 ?_
          refine lv_iload_n hx hb dX2_loads_29 rfl (lv_at hl 3 rfl) ?_
          have hE_28 := h_l.ext (fp_X.ofS hS)
          refine r_callV (cells1 := (1 + 6 * (fp_npo S i + fp_ct (fun k => decide (sB S k 5 = 30 - i)) k))) (slots1 := (24 + 121 * (fp_npo S i + fp_ct (fun k => decide (sB S k 5 = 30 - i)) k))) X hR (c_J2_get G l ed mc (sN S) cap b k (by omega)) q489 q490 q491 q92 q492 ⟨rfl, pd_J2_get⟩ ⟨Nat.le_of_ble_eq_true rfl, Nat.le_of_ble_eq_true rfl⟩ rfl rfl (by omega) (by omega) hE_28.1 rfl rfl (Nat.le_of_ble_eq_true rfl) hl.1 dX2_loads_30 (hB.of hS fp_no.base) hE_28 hS (fun _ h => h.elim) (fun v H_32 locs hp_29 hz_30 hk_31 hS => ?_)
          obtain ⟨rfl, rfl⟩ := hp_29
          refine r_stk (st2 := [.ref (b k)]) rfl ?_
          have hbk := hsw.1.2.2.1 k (by omega)
          have hE_33 := h_bl.ext (fp_X.ofS hS)
          refine r_castB X (hE_33 k (by omega)) (hsw.1.2.2.1 k (by omega)).2.1 q388 dX2_loads_33 ?_
          refine r_getBN 4 (by decide) 5 rfl X (hE_33 k (by omega)) (hsw.1.2.2.1 k (by omega)).2.1 q1165 dX2_loads_36 ?_
          refine lv_iload_n hx hb dX2_loads_39 rfl (lv_at hl 2 rfl) ?_
          refine r_icmp_ne (tgt := 62) hx hb ⟨by omega, by omega⟩ ⟨by omega, by omega⟩ dX2_loads_40 (by decide) (fun c40 => ?_) (fun c40 => ?_)
          · skip
            refine lv_iinc (v := (iI ((k + 1 : Nat) : Int))) (lv' := [(3, .int (iI ((k + 1 : Nat) : Int))), (0, .ref (x)), (1, .ref (aa)), (2, .int (iI ((30 - i : Nat) : Int)))]) hx hb dX2_loads_62 hl (k := 3) rfl (iI_incN _ _) (by decide) rfl (fun ls hl => ?_)
            refine lv_goto (tgt := 19) hx hb dX2_loads_65 (by decide) ?_
            refine W.widen (k := 1 + 6 * (fp_npo S i + fp_ct (fun k => decide (sB S k 5 = 30 - i)) (k + 1))) (n := 24 + 121 * (fp_npo S i + fp_ct (fun k => decide (sB S k 5 = 30 - i)) (k + 1))) (by omega) (by omega) ?_
            exact ih19 (by omega) H_22 locs ls (lv_sub hl [1, 2, 3, 0] rfl) hS (by omega) (fp_At.cI hE_24 (fun j hj => by rw [fp_lin_f (by omega)]))
          · skip
            rw [if_pos (decide_eq_true (show sB S k 5 = 30 - i by omega))] at hct
            refine lv_aload_n hx hb dX2_loads_43 rfl (lv_at hl 0 rfl) ?_
            refine lv_aload_n hx hb dX2_loads_44 rfl (lv_at hl 0 rfl) ?_
            refine r_get X hE_27.1 rfl in_X2 0 (by decide) q173 (Or.inl rfl) (v := .ref (l)) rfl dX2_loads_45 ?_
            refine lv_iload_n hx hb dX2_loads_48 rfl (lv_at hl 3 rfl) ?_
            refine r_callV (cells1 := (1 + 6 * (fp_npo S i + fp_ct (fun k => decide (sB S k 5 = 30 - i)) k))) (slots1 := (24 + 121 * (fp_npo S i + fp_ct (fun k => decide (sB S k 5 = 30 - i)) k))) X hR (c_J2_get G l ed mc (sN S) cap b k (by omega)) q489 q490 q491 q92 q492 ⟨rfl, pd_J2_get⟩ ⟨Nat.le_of_ble_eq_true rfl, Nat.le_of_ble_eq_true rfl⟩ rfl rfl (by omega) (by omega) hE_28.1 rfl rfl (Nat.le_of_ble_eq_true rfl) hl.1 dX2_loads_49 (hB.of hS fp_no.base) hE_28 hS (fun _ h => h.elim) (fun v H_37 locs hp_34 hz_35 hk_36 hS => ?_)
            obtain ⟨rfl, rfl⟩ := hp_34
            refine r_stk (st2 := [.ref (b k), .ref (x)]) rfl ?_
            refine r_castB X (hE_33 k (by omega)) (hsw.1.2.2.1 k (by omega)).2.1 q388 dX2_loads_52 ?_
            refine lv_aload_n hx hb dX2_loads_55 rfl (lv_at hl 1 rfl) ?_
            refine lv_iload_n hx hb dX2_loads_56 rfl (lv_at hl 3 rfl) ?_
            refine r_ialdI X hE_24 (j := k) rfl (by omega) (by omega) dX2_loads_57 ?_
            refine r_set (y := .int (iI ((fp_lin S (30 - i) (fp_lout S i) k k : Nat) : Int))) rfl ?_
            refine lv_aload_n hx hb dX2_loads_58 rfl (lv_at hl 1 rfl) ?_
            refine r_callV (cells1 := (1 + 6 * (fp_npo S i + fp_ct (fun k => decide (sB S k 5 = 30 - i)) k) + 6)) (slots1 := (24 + 121 * (fp_npo S i + fp_ct (fun k => decide (sB S k 5 = 30 - i)) k) + 121)) X hR (c_X2_passOn G x l ed z t mc cap b S k (fp_lin S (30 - i) (fp_lout S i) k) aa hsw hdl (by omega) (by omega) (⟨⟨by omega, by omega, by omega, by omega, by omega⟩, fun k hk => by have := (h_bl k hk).lt; omega⟩) (fun j => fp_stage_b hsw.1 (by omega) (by omega) j)) q550 q552 qs6 q89 q553 ⟨rfl, pd_X2_passOn⟩ ⟨Nat.le_of_ble_eq_true rfl, Nat.le_of_ble_eq_true rfl⟩ rfl rfl (by omega) (by omega) hE_27.1 rfl rfl (Nat.le_of_ble_eq_true rfl) hl.1 dX2_loads_59 (hB.of hS fp_no.base) ⟨hE_27, hE_24⟩ hS (fun q h => Or.inr (by have h2 : (g_s G).heap.size ≤ q ∧ (q = aa) := h; omega)) (fun v H_41 locs hp_38 hz_39 hk_40 hS => ?_)
            obtain ⟨rfl, hE_42⟩ := hp_38
            have hz_43 := hS.1
            have lt_44 := hE_42.lt
            refine r_stk (st2 := []) rfl ?_
            refine lv_iinc (v := (iI ((k + 1 : Nat) : Int))) (lv' := [(3, .int (iI ((k + 1 : Nat) : Int))), (0, .ref (x)), (1, .ref (aa)), (2, .int (iI ((30 - i : Nat) : Int)))]) hx hb dX2_loads_62 hl (k := 3) rfl (iI_incN _ _) (by decide) rfl (fun ls hl => ?_)
            refine lv_goto (tgt := 19) hx hb dX2_loads_65 (by decide) ?_
            refine W.widen (k := 1 + 6 * (fp_npo S i + fp_ct (fun k => decide (sB S k 5 = 30 - i)) (k + 1))) (n := 24 + 121 * (fp_npo S i + fp_ct (fun k => decide (sB S k 5 = 30 - i)) (k + 1))) (by omega) (by omega) ?_
            exact ih19 (by omega) H_41 locs ls (lv_sub hl [1, 2, 3, 0] rfl) hS (by omega) (fp_At.cI hE_42 (fun j hj => by rw [fp_lin_t (by omega)]))
      refine W.widen (k := 1 + 6 * (fp_npo S i + fp_ct (fun k => decide (sB S k 5 = 30 - i)) 0)) (n := 24 + 121 * (fp_npo S i + fp_ct (fun k => decide (sB S k 5 = 30 - i)) 0)) (by omega) (by omega) ?_
      exact L19 0 (by omega) H_17 locs ls (lv_sub hl [1, 2, 3, 0] rfl) hS (Nat.le_refl _) hE_19
  refine W.widen (k := 1 + 6 * fp_npo S 0) (n := 24 + 121 * fp_npo S 0) (by omega) (by omega) ?_
  exact L13 0 (by omega) H_10 locs ls (by rw [show Value.int (iI ((30 - 0 : Nat) : Int)) = Value.int (iI ((30 : Nat) : Int)) from congrArg (fun q : Nat => Value.int (iI (q : Int))) (by omega)]; exact lv_sub hl [2, 1, 0] rfl) hS (Nat.le_refl _) (fp_At.cI hE_11 (fun j hj => rfl))
set_option maxHeartbeats 4000000 in
theorem c_X2_load (G : fp_G) (x : Nat) (l : Nat) (ed : Nat) (z : Nat) (t : Nat) (mc : Int32) (cap : Nat) (b : Nat → Nat) (S : PS) (u : Nat) (hsw : fp_sw S b) (hdl : fp_dl S) (hu : u < sN S) : fp_M G yX2_load cX2_load 2 (some .int) 10 245 145 2928 [.ref (x), .ref (b u)] (fun H => fp_SE G x l ed z t mc cap b S H) fp_no (fun H v H1 => v = some (.int (iI ((fp_ld S u : Nat) : Int)))) := by
  refine fp_M.intro (by decide) (Nat.le_of_ble_eq_true rfl) ?_
  intro pg en s mi ag bl mt cd rR qQ ls X hx hb hr hlk hnm hR hQ hB hM hl
  have hS : va_S (fA fp_no s.heap.size) s.heap s.heap [] := va_S.rf
  generalize ([] : List Loc) = locs at hS ⊢
  have hb0 := hB.1
  have h_st := hM
  have hsz0 := hS.1
  have lt_1 := h_st.1.lt
  have hn24 := hsw.1.1
  obtain ⟨h_o, h_l, h_z, h_t, h_bl, h_xb, h_zb, h_tb⟩ := id h_st
  have lt_2 := h_l.1.lt
  have lt_3 := h_l.2.2
  have lt_4 := h_z.lt
  have lt_5 := h_t.lt
  refine lv_aload_n hx hb dX2_load_0 rfl (lv_at hl 0 rfl) ?_
  refine r_callV (cells1 := 145) (slots1 := 2928) X hR (c_X2_loads G x l ed z t mc cap b S hsw hdl) q988 q547 q548 q89 q549 ⟨rfl, pd_X2_loads⟩ ⟨Nat.le_of_ble_eq_true rfl, Nat.le_of_ble_eq_true rfl⟩ rfl rfl (Nat.le_of_ble_eq_true rfl) (Nat.le_of_ble_eq_true rfl) h_st.1 rfl rfl (Nat.le_of_ble_eq_true rfl) hl.1 dX2_load_1 (hB.of hS fp_no.base) h_st hS (fun _ h => h.elim) (fun v H_9 locs hp_6 hz_7 hk_8 hS => ?_)
  obtain ⟨a_10, rfl, ha_11, hE_12⟩ := hp_6
  have hz_13 := hS.1
  have lt_15 := hE_12.lt
  refine r_stk (st2 := [.ref (a_10)]) rfl ?_
  refine lv_aload_n hx hb dX2_load_4 rfl (lv_at hl 0 rfl) ?_
  have hE_16 := h_st.ext (fp_X.ofS hS)
  refine r_get X hE_16.1 rfl in_X2 0 (by decide) q173 (Or.inl rfl) (v := .ref (l)) rfl dX2_load_5 ?_
  refine lv_aload_n hx hb dX2_load_8 rfl (lv_at hl 1 rfl) ?_
  have hE_17 := h_bl.ext (fp_X.ofS hS)
  have hE_18 := h_l.ext (fp_X.ofS hS)
  refine r_callV (cells1 := 145) (slots1 := 2928) X hR (c_J2_indexOf G l ed mc (sN S) cap b (b u) (sB S u) u ((hsw.1.2.2.1 u (by omega)).2.1) (by omega) rfl (fun j hj h => by have := hsw.2 j u (by omega) (by omega) h; omega)) q870 q871 q872 q92 q873 ⟨rfl, pd_J2_indexOf⟩ ⟨Nat.le_of_ble_eq_true rfl, Nat.le_of_ble_eq_true rfl⟩ rfl rfl (Nat.le_of_ble_eq_true rfl) (Nat.le_of_ble_eq_true rfl) hE_18.1 rfl rfl (Nat.le_of_ble_eq_true rfl) hl.1 dX2_load_9 (hB.of hS fp_no.base) ⟨hE_18, (hE_17 u (by omega))⟩ hS (fun _ h => h.elim) (fun v H_22 locs hp_19 hz_20 hk_21 hS => ?_)
  obtain ⟨rfl, rfl⟩ := hp_19
  refine r_stk (st2 := [.int (iI ((u : Nat) : Int)), .ref (a_10)]) rfl ?_
  refine r_ialdI X hE_12 (j := u) rfl (by omega) (by omega) dX2_load_12 ?_
  refine r_set (y := .int (iI ((fp_ld S u : Nat) : Int))) rfl ?_
  refine r_iret hx hb hr hlk hQ hS (Nat.le_of_ble_eq_true rfl) (Nat.le_of_ble_eq_true rfl) dX2_load_13 ?_
  exact rfl
set_option maxHeartbeats 4000000 in
theorem c_X2_isOverloaded (G : fp_G) (x : Nat) (l : Nat) (ed : Nat) (z : Nat) (t : Nat) (mc : Int32) (cap : Nat) (b : Nat → Nat) (S : PS) (hsw : fp_sw S b) (hdl : fp_dl S) : fp_M G yX2_isOverloaded cX2_isOverloaded 3 (some .boolean) 10 245 145 2928 [.ref (x)] (fun H => fp_SE G x l ed z t mc cap b S H) fp_no (fun H v H1 => v = some (.int (iI (bI (!fp_bears S))))) := by
  refine fp_M.intro (by decide) (Nat.le_of_ble_eq_true rfl) ?_
  intro pg en s mi ag bl mt cd rR qQ ls X hx hb hr hlk hnm hR hQ hB hM hl
  have hS : va_S (fA fp_no s.heap.size) s.heap s.heap [] := va_S.rf
  generalize ([] : List Loc) = locs at hS ⊢
  have hb0 := hB.1
  have h_st := hM
  have hsz0 := hS.1
  have lt_1 := h_st.1.lt
  have hn24 := hsw.1.1
  obtain ⟨h_o, h_l, h_z, h_t, h_bl, h_xb, h_zb, h_tb⟩ := id h_st
  have lt_2 := h_l.1.lt
  have lt_3 := h_l.2.2
  have lt_4 := h_z.lt
  have lt_5 := h_t.lt
  refine lv_aload_n hx hb dX2_isOverloaded_0 rfl (lv_at hl 0 rfl) ?_
  refine r_callV (cells1 := 145) (slots1 := 2928) X hR (c_X2_loads G x l ed z t mc cap b S hsw hdl) q988 q547 q548 q89 q549 ⟨rfl, pd_X2_loads⟩ ⟨Nat.le_of_ble_eq_true rfl, Nat.le_of_ble_eq_true rfl⟩ rfl rfl (Nat.le_of_ble_eq_true rfl) (Nat.le_of_ble_eq_true rfl) h_st.1 rfl rfl (Nat.le_of_ble_eq_true rfl) hl.1 dX2_isOverloaded_1 (hB.of hS fp_no.base) h_st hS (fun _ h => h.elim) (fun v H_9 locs hp_6 hz_7 hk_8 hS => ?_)
  obtain ⟨a_10, rfl, ha_11, hE_12⟩ := hp_6
  have hz_13 := hS.1
  have lt_15 := hE_12.lt
  refine r_stk (st2 := [.ref (a_10)]) rfl ?_
  refine lv_astore_n (lv' := [(1, .ref (a_10)), (0, .ref (x))]) hx hb dX2_isOverloaded_4 rfl hl (by decide) rfl (fun ls hl => ?_)
  refine lv_iconst (v := (iI ((0 : Nat) : Int))) hx hb dX2_isOverloaded_5 rfl ?_
  refine lv_istore_n (lv' := [(2, .int (iI ((0 : Nat) : Int))), (1, .ref (a_10)), (0, .ref (x))]) hx hb dX2_isOverloaded_6 rfl hl (by decide) rfl (fun ls hl => ?_)
  have L7 : ∀ (k : Nat), k ≤ sN S → ∀ (H_16 : Heap) (locs : List Loc) (ls : Array Slot), lv_has ls 3 [(0, .ref (x)), (1, .ref (a_10)), (2, .int (iI ((k : Nat) : Int)))] → va_S (fA fp_no s.heap.size) s.heap H_16 locs → (∀ j, j < k → ¬ (fp_str (sB S j) < fp_ld S j)) → (H_9.size ≤ H_16.size) → fp_At G H_16 a_10 (eI G (sN S) (fun j => iI ((fun j => ((fp_ld S j : Nat) : Int)) j))) → W pg (g_l G) en rR s mi ag bl mt cd H_16 locs 145 2928 qQ (F0 mi 7 ls []) := by
    refine lp_up (sN S) ?_
    intro k hk7 ih7 H_16 locs ls hl hS hno hz_17 hE_18
    have hz_19 := hS.1
    have lt_20 := hE_18.lt
    have hlb := fp_ld_b hsw.1 k
    have hbk0 : k < sN S → fp_str (sB S k) ≤ 60 := fun h => fp_str_b (hsw.1.2.2.1 k h)
    refine lv_iload_n hx hb dX2_isOverloaded_7 rfl (lv_at hl 2 rfl) ?_
    refine lv_aload_n hx hb dX2_isOverloaded_8 rfl (lv_at hl 1 rfl) ?_
    refine r_alen X (t := 0) rfl hE_18 (v := (iI ((sN S : Nat) : Int))) rfl dX2_isOverloaded_9 ?_
    refine r_icmp_ge (tgt := 41) hx hb ⟨by omega, by omega⟩ ⟨by omega, by omega⟩ dX2_isOverloaded_10 (by decide) (fun c10 => ?_) (fun c10 => ?_)
    · skip
      obtain rfl : k = sN S := by omega
      refine lv_iconst (v := (iI ((0 : Nat) : Int))) hx hb dX2_isOverloaded_41 rfl ?_
      refine r_zret hx hb hr hlk hQ hS (Nat.le_of_ble_eq_true rfl) (Nat.le_of_ble_eq_true rfl) dX2_isOverloaded_42 rfl ?_
      exact (congrArg (fun q : Bool => some (Value.int (iI (bI q)))) (Eq.symm (show (!fp_bears S) = false from by rw [fp_bears_t hno]; rfl)))
    · skip
      refine lv_aload_n hx hb dX2_isOverloaded_13 rfl (lv_at hl 1 rfl) ?_
      refine lv_iload_n hx hb dX2_isOverloaded_14 rfl (lv_at hl 2 rfl) ?_
      refine r_ialdI X hE_18 (j := k) rfl (by omega) (by omega) dX2_isOverloaded_15 ?_
      refine r_set (y := .int (iI ((fp_ld S k : Nat) : Int))) rfl ?_
      refine lv_aload_n hx hb dX2_isOverloaded_16 rfl (lv_at hl 0 rfl) ?_
      have hE_21 := h_st.ext (fp_X.ofS hS)
      refine r_get X hE_21.1 rfl in_X2 0 (by decide) q173 (Or.inl rfl) (v := .ref (l)) rfl dX2_isOverloaded_17 ?_
      refine lv_iload_n hx hb dX2_isOverloaded_20 rfl (lv_at hl 2 rfl) ?_
      have hE_22 := h_l.ext (fp_X.ofS hS)
      refine r_callV (cells1 := 145) (slots1 := 2928) X hR (c_J2_get G l ed mc (sN S) cap b k (by omega)) q489 q490 q491 q92 q492 ⟨rfl, pd_J2_get⟩ ⟨Nat.le_of_ble_eq_true rfl, Nat.le_of_ble_eq_true rfl⟩ rfl rfl (Nat.le_of_ble_eq_true rfl) (Nat.le_of_ble_eq_true rfl) hE_22.1 rfl rfl (Nat.le_of_ble_eq_true rfl) hl.1 dX2_isOverloaded_21 (hB.of hS fp_no.base) hE_22 hS (fun _ h => h.elim) (fun v H_26 locs hp_23 hz_24 hk_25 hS => ?_)
      obtain ⟨rfl, rfl⟩ := hp_23
      refine r_stk (st2 := [.ref (b k), .int (iI ((fp_ld S k : Nat) : Int))]) rfl ?_
      have hE_27 := h_bl.ext (fp_X.ofS hS)
      refine r_castB X (hE_27 k (by omega)) (hsw.1.2.2.1 k (by omega)).2.1 q388 dX2_isOverloaded_24 ?_
      refine b_strength X hR (hE_27 k (by omega)) ((hsw.1.2.2.1 k (by omega)).2.1) (hsw.1.2.2.1 k (by omega)) q989 (by decide) (by decide) (Nat.le_of_ble_eq_true rfl) (Nat.le_of_ble_eq_true rfl) (Nat.le_of_ble_eq_true rfl) hl.1 dX2_isOverloaded_27 (hB.of hS fp_no.base) hS (fun locs hS => ?_)
      refine r_icmp_le (tgt := 35) hx hb ⟨by omega, by omega⟩ ⟨by omega, by omega⟩ dX2_isOverloaded_30 (by decide) (fun c30 => ?_) (fun c30 => ?_)
      · skip
        refine lv_iinc (v := (iI ((k + 1 : Nat) : Int))) (lv' := [(2, .int (iI ((k + 1 : Nat) : Int))), (0, .ref (x)), (1, .ref (a_10))]) hx hb dX2_isOverloaded_35 hl (k := 2) rfl (iI_incN _ _) (by decide) rfl (fun ls hl => ?_)
        refine lv_goto (tgt := 7) hx hb dX2_isOverloaded_38 (by decide) ?_
        exact ih7 (by omega) H_16 locs ls (lv_sub hl [1, 2, 0] rfl) hS (fp_ltS hno (by omega)) (by omega) hE_18
      · skip
        refine lv_iconst (v := (iI ((1 : Nat) : Int))) hx hb dX2_isOverloaded_33 rfl ?_
        refine r_zret hx hb hr hlk hQ hS (Nat.le_of_ble_eq_true rfl) (Nat.le_of_ble_eq_true rfl) dX2_isOverloaded_34 rfl ?_
        exact (congrArg (fun q : Bool => some (Value.int (iI (bI q)))) (Eq.symm (show (!fp_bears S) = true from by rw [fp_bears_f (k := k) (by omega) (by omega)]; rfl)))
  exact L7 0 (by omega) H_9 locs ls (lv_sub hl [2, 1, 0] rfl) hS (fun i hi => absurd hi (Nat.not_lt_zero _)) (Nat.le_refl _) hE_12
