/-! THE STATE: loads by recursion -/
set_option maxRecDepth 100000
set_option maxHeartbeats 4000000 in
theorem c_X2_recursiveLoad (G : fp_G) (x : Nat) (l : Nat) (ed : Nat) (z : Nat) (t : Nat) (mc : Int32) (cap : Nat) (b : Nat → Nat) (S : PS) (a : Nat) (hsw : fp_sw S b) (hdl : fp_dl S) (hab : (g_s G).heap.size ≤ a) (hap : (a ≠ x ∧ a ≠ l ∧ a ≠ ed ∧ a ≠ z ∧ a ≠ t) ∧ ∀ k, k < sN S → b k ≠ a) (h30 : ∀ k, k < sN S → sB S k 5 ≤ 30) : ∀ d : Nat, ∀ (i : Nat) (f : Nat → Int) (hi : i < sN S) (hkl : fp_kl S f), 40 - sB S i 5 < d → fp_M G yX2_recursiveLoad cX2_recursiveLoad 8 (some .int) (8 * d) (196 * d) (144 * fp_uab S f i) (2904 * fp_uab S f i) [.ref (x), .int (iI ((i : Nat) : Int)), .ref (a)] (fun H => fp_SE G x l ed z t mc cap b S H ∧ fp_At G H a (eI G (sN S) (fun j => iI (f j)))) (fun q => (g_s G).heap.size ≤ q ∧ (q = a)) (fun H v H1 => ∃ (f2 : Nat → Int), v = some (.int (iI ((fp_ld S i : Nat) : Int))) ∧ (fp_kl S f2) ∧ (∀ j, j < sN S → (sB S j 5 < sB S i 5 ∨ sB S j 5 = sB S i 5 ∧ j ≠ i) → f2 j = f j) ∧ (H1.size + 144 * fp_uab S f2 i ≤ H.size + 144 * fp_uab S f i) ∧ (fp_hs H1 + 2904 * fp_uab S f2 i ≤ fp_hs H + 2904 * fp_uab S f i) ∧ fp_At G H1 a (eI G (sN S) (fun j => iI (f2 j)))) := by
  intro d
  induction d with
  | zero => intro i f hi hkl hms; exact absurd hms (Nat.not_lt_zero _)
  | succ d ih =>
  intro i f hi hkl hms
  refine fp_M.intro (by decide) (Nat.le_of_ble_eq_true rfl) ?_
  intro pg en s mi ag bl mt cd rR qQ ls X hx hb hr hlk hnm hR hQ hB hM hl
  have hS : va_S (fA (fun q => (g_s G).heap.size ≤ q ∧ (q = a)) s.heap.size) s.heap s.heap [] := va_S.rf
  generalize ([] : List Loc) = locs at hS ⊢
  have hb0 := hB.1
  have hAb : ∀ q, (fun q => (g_s G).heap.size ≤ q ∧ (q = a)) q → (g_s G).heap.size ≤ q := fun q h => h.1
  obtain ⟨h_st, h_ar⟩ := hM
  have hsz0 := hS.1
  have lt_1 := h_st.1.lt
  have lt_2 := h_ar.lt
  have hn24 := hsw.1.1
  obtain ⟨h_o, h_l, h_z, h_t, h_bl, h_xb, h_zb, h_tb⟩ := id h_st
  have lt_3 := h_l.1.lt
  have lt_4 := h_l.2.2
  have lt_5 := h_z.lt
  have lt_6 := h_t.lt
  have hed0 := (X.2.2.2.2.2.deT (A := fp_no) hB fp_no.base).2.2
  have hldb := fp_ld_b hsw.1 i
  have hbi := hsw.1.2.2.1 i hi
  have hfi := hkl i hi
  refine lv_aload_n hx hb dX2_recursiveLoad_0 rfl (lv_at hl 2 rfl) ?_
  refine lv_iload_n hx hb dX2_recursiveLoad_1 rfl (lv_at hl 1 rfl) ?_
  refine r_ialdI X h_ar (j := i) rfl (by omega) (by omega) dX2_recursiveLoad_2 ?_
  refine lv_bipush (v := (iI (-2))) hx hb dX2_recursiveLoad_3 rfl ?_
  refine r_icmp_ne (tgt := 127) hx hb ⟨by omega, by omega⟩ (by decide) dX2_recursiveLoad_5 (by decide) (fun c5 => ?_) (fun c5 => ?_)
  · skip
    have hld0 : f i = ((fp_ld S i : Nat) : Int) := by omega
    refine lv_aload_n hx hb dX2_recursiveLoad_127 rfl (lv_at hl 2 rfl) ?_
    refine lv_iload_n hx hb dX2_recursiveLoad_128 rfl (lv_at hl 1 rfl) ?_
    refine r_ialdI X h_ar (j := i) rfl (by omega) (by omega) dX2_recursiveLoad_129 ?_
    refine r_set (y := .int (iI ((fp_ld S i : Nat) : Int))) (congrArg (fun q : Int => Value.int (iI q)) (hld0)) ?_
    refine r_meas (fun hm1 hm2 => ?_)
    refine r_iret hx hb hr hlk hQ hS (by omega) (by omega) dX2_recursiveLoad_130 ?_
    exact ⟨f, rfl, hkl, (fun j hj _ => rfl), (Nat.le_refl _), (Nat.le_refl _), h_ar⟩
  · skip
    have fi2 : f i = -2 := by omega
    refine lv_aload_n hx hb dX2_recursiveLoad_8 rfl (lv_at hl 0 rfl) ?_
    refine r_get X h_st.1 rfl in_X2 0 (by decide) q173 (Or.inl rfl) (v := .ref (l)) rfl dX2_recursiveLoad_9 ?_
    refine lv_iload_n hx hb dX2_recursiveLoad_12 rfl (lv_at hl 1 rfl) ?_
    refine r_callV (cells1 := 0) (slots1 := 0) X hR (c_J2_get G l ed mc (sN S) cap b i (by omega)) q489 q490 q491 q92 q492 ⟨rfl, pd_J2_get⟩ ⟨by omega, by omega⟩ rfl rfl (by omega) (by omega) h_l.1 rfl rfl (Nat.le_of_ble_eq_true rfl) hl.1 dX2_recursiveLoad_13 (hB.of hS hAb) h_l hS (fun _ h => h.elim) (fun v H_10 locs hp_7 hz_8 hk_9 hS => ?_)
    obtain ⟨rfl, rfl⟩ := hp_7
    refine r_stk (st2 := [.ref (b i)]) rfl ?_
    refine r_castB X (h_bl i (by omega)) (hsw.1.2.2.1 i (by omega)).2.1 q388 dX2_recursiveLoad_16 ?_
    refine lv_astore_n (lv' := [(3, .ref (b i)), (0, .ref (x)), (1, .int (iI ((i : Nat) : Int))), (2, .ref (a))]) hx hb dX2_recursiveLoad_19 rfl hl (by decide) rfl (fun ls hl => ?_)
    refine lv_iconst (v := (iI ((0 : Nat) : Int))) hx hb dX2_recursiveLoad_20 rfl ?_
    refine lv_istore (lv' := [(4, .int (iI ((0 : Nat) : Int))), (3, .ref (b i)), (0, .ref (x)), (1, .int (iI ((i : Nat) : Int))), (2, .ref (a))]) hx hb dX2_recursiveLoad_21 hl (by decide) rfl (fun ls hl => ?_)
    refine lv_iconst (v := (iI ((0 : Nat) : Int))) hx hb dX2_recursiveLoad_23 rfl ?_
    refine lv_istore (lv' := [(5, .int (iI ((0 : Nat) : Int))), (4, .int (iI ((0 : Nat) : Int))), (3, .ref (b i)), (0, .ref (x)), (1, .int (iI ((i : Nat) : Int))), (2, .ref (a))]) hx hb dX2_recursiveLoad_24 hl (by decide) rfl (fun ls hl => ?_)
    have L26 : ∀ (k : Nat), k ≤ sN S → ∀ (g : Nat → Int) (H_11 : Heap) (locs : List Loc) (ls : Array Slot), lv_has ls 8 [(0, .ref (x)), (1, .int (iI ((i : Nat) : Int))), (2, .ref (a)), (3, .ref (b i)), (4, .int (iI ((fp_rls S i k : Nat) : Int))), (5, .int (iI ((k : Nat) : Int)))] → va_S (fA (fun q => (g_s G).heap.size ≤ q ∧ (q = a)) s.heap.size) s.heap H_11 locs → (fp_kl S g) → (∀ j, j < sN S → sB S j 5 ≤ sB S i 5 → g j = f j) → (fp_uab S g i ≤ fp_uab S f i) → (s.heap.size ≤ H_11.size) → fp_At G H_11 a (eI G (sN S) (fun j => iI (g j))) → W pg (g_l G) en rR s mi ag bl mt cd H_11 locs (6 * k + 144 * (fp_uab S f i - fp_uab S g i)) (121 * k + 2904 * (fp_uab S f i - fp_uab S g i)) qQ (F0 mi 26 ls []) := by
      refine lp_up (sN S) ?_
      intro k hk26 ih26 g H_11 locs ls hl hS hklg hun hle hz_12 hE_13
      have hz_14 := hS.1
      have lt_15 := hE_13.lt
      have hu1 : 1 ≤ fp_uab S g i := fp_uab_pos hi (by rw [hun i hi (Nat.le_refl _)]; exact fi2)
      have hrb := fp_rls_le (i := i) (k := k) h30 (by omega)
      have hldk := fp_ld_b hsw.1 k
      refine lv_iload hx hb dX2_recursiveLoad_26 (lv_at hl 5 rfl) ?_
      refine lv_aload_n hx hb dX2_recursiveLoad_28 rfl (lv_at hl 2 rfl) ?_
      refine r_alen X (t := 0) rfl hE_13 (v := (iI ((sN S : Nat) : Int))) rfl dX2_recursiveLoad_29 ?_
      refine r_icmp_ge (tgt := 122) hx hb ⟨by omega, by omega⟩ ⟨by omega, by omega⟩ dX2_recursiveLoad_30 (by decide) (fun c30 => ?_) (fun c30 => ?_)
      · skip
        obtain rfl : k = sN S := by omega
        have hrl := fp_rls_ld (i := i) h30
        have huu := fp_uab_up (S := S) (f := g) (i := i) (z := ((fp_ld S i : Nat) : Int)) hi (by rw [hun i hi (Nat.le_refl _)]; exact fi2) (by omega)
        refine lv_aload_n hx hb dX2_recursiveLoad_122 rfl (lv_at hl 2 rfl) ?_
        refine lv_iload_n hx hb dX2_recursiveLoad_123 rfl (lv_at hl 1 rfl) ?_
        refine lv_iload hx hb dX2_recursiveLoad_124 (lv_at hl 4 rfl) ?_
        refine r_iastI X hE_13 hS (Or.inl ⟨by omega, rfl⟩) (j := i) rfl (by omega) (by omega) dX2_recursiveLoad_126 (fun H_19 locs hE_16 hz_17 hq_18 hS => ?_)
        have hz_20 := hS.1
        have hE_21 : fp_At G H_19 a (eI G (sN S) (fun j => iI ((va_up g i ((fp_rls S i (sN S) : Nat) : Int)) j))) := hE_16.updI
        refine lv_aload_n hx hb dX2_recursiveLoad_127 rfl (lv_at hl 2 rfl) ?_
        refine lv_iload_n hx hb dX2_recursiveLoad_128 rfl (lv_at hl 1 rfl) ?_
        refine r_ialdI X hE_21 (j := i) rfl (by omega) (by omega) dX2_recursiveLoad_129 ?_
        refine r_set (y := .int (iI ((fp_ld S i : Nat) : Int))) (congrArg (fun q : Int => Value.int (iI q)) ((va_up_self _ _ _).trans (congrArg (fun q : Nat => (q : Int)) hrl))) ?_
        refine r_meas (fun hm1 hm2 => ?_)
        refine r_iret hx hb hr hlk hQ hS (by omega) (by omega) dX2_recursiveLoad_130 ?_
        exact ⟨(va_up g i ((fp_ld S i : Nat) : Int)), rfl, (hklg.up rfl), (fun j hj h => (va_up_ne _ _ (by rintro rfl; omega)).trans (hun j hj (by omega))), (by omega), (by omega), (fp_At.cI hE_21 (fun j _ => by rw [hrl]))⟩
      · skip
        have hbk := hsw.1.2.2.1 k (by omega)
        refine lv_aload_n hx hb dX2_recursiveLoad_33 rfl (lv_at hl 3 rfl) ?_
        refine lv_aload_n hx hb dX2_recursiveLoad_34 rfl (lv_at hl 0 rfl) ?_
        have hE_22 := fp_SE.mv h_st (fp_keptS (by omega) hS (by omega)) (fp_keptS (by omega) hS (by omega)) (fp_keptS (by omega) hS (by omega)) (fp_keptS (by omega) hS (by omega)) (fp_keptS (by omega) hS (by omega)) (fun k hk => fp_keptS (h_st.2.2.2.2.1 k hk).lt hS (by have := hap.2 k hk; omega))
        refine r_get X hE_22.1 rfl in_X2 0 (by decide) q173 (Or.inl rfl) (v := .ref (l)) rfl dX2_recursiveLoad_35 ?_
        refine lv_iload hx hb dX2_recursiveLoad_38 (lv_at hl 5 rfl) ?_
        have hE_23 := fp_LE.mv h_l (fp_keptS (by omega) hS (by omega)) (fp_keptS (by omega) hS (by omega))
        refine r_callV (cells1 := (6 * k + 144 * (fp_uab S f i - fp_uab S g i))) (slots1 := (121 * k + 2904 * (fp_uab S f i - fp_uab S g i))) X hR (c_J2_get G l ed mc (sN S) cap b k (by omega)) q489 q490 q491 q92 q492 ⟨rfl, pd_J2_get⟩ ⟨by omega, by omega⟩ rfl rfl (by omega) (by omega) hE_23.1 rfl rfl (Nat.le_of_ble_eq_true rfl) hl.1 dX2_recursiveLoad_40 (hB.of hS hAb) hE_23 hS (fun _ h => h.elim) (fun v H_27 locs hp_24 hz_25 hk_26 hS => ?_)
        obtain ⟨rfl, rfl⟩ := hp_24
        refine r_stk (st2 := [.ref (b k), .ref (b i)]) rfl ?_
        have hE_28 := fp_BL.mv h_bl (fun k hk => fp_keptS (h_bl k hk).lt hS (by have := hap.2 k hk; omega))
        refine r_castB X (hE_28 k (by omega)) (hsw.1.2.2.1 k (by omega)).2.1 q388 dX2_recursiveLoad_43 ?_
        refine b_supports X hR (hE_28 i (by omega)) ((hsw.1.2.2.1 i (by omega)).2.1) (hsw.1.2.2.1 i (by omega)) (hsw.1.2.2.1 k (by omega)) (hE_28 k (by omega)) q503 (by omega) (by omega) (by omega) (by omega) (Nat.le_of_ble_eq_true rfl) hl.1 dX2_recursiveLoad_46 (hB.of hS hAb) hS (fun locs hS => ?_)
        refine r_ifeqB (tgt := 116) hx hb dX2_recursiveLoad_49 (by decide) (fun c49 => ?_) (fun c49 => ?_)
        · skip
          refine lv_iinc (v := (iI ((k + 1 : Nat) : Int))) (lv' := [(5, .int (iI ((k + 1 : Nat) : Int))), (0, .ref (x)), (1, .int (iI ((i : Nat) : Int))), (2, .ref (a)), (3, .ref (b i)), (4, .int (iI ((fp_rls S i k : Nat) : Int)))]) hx hb dX2_recursiveLoad_116 hl (k := 5) rfl (iI_incN _ _) (by decide) rfl (fun ls hl => ?_)
          refine lv_goto (tgt := 26) hx hb dX2_recursiveLoad_119 (by decide) ?_
          refine W.widen (k := 6 * (k + 1) + 144 * (fp_uab S f i - fp_uab S g i)) (n := 121 * (k + 1) + 2904 * (fp_uab S f i - fp_uab S g i)) (by omega) (by omega) ?_
          exact ih26 (by omega) g H_11 locs ls (by rw [show Value.int (iI ((fp_rls S i (k + 1) : Nat) : Int)) = Value.int (iI ((fp_rls S i k : Nat) : Int)) from congrArg (fun q : Nat => Value.int (iI (q : Int))) (fp_rls_f c49)]; exact lv_sub hl [1, 2, 3, 4, 5, 0] rfl) hS hklg hun hle (by omega) hE_13
        · skip
          have hsb := fp_sup_bot (S := S) (k := k) (o := i) c49
          have hns0 := fp_rk_lt hi c49
          refine lv_aload_n hx hb dX2_recursiveLoad_52 rfl (lv_at hl 0 rfl) ?_
          refine lv_aload_n hx hb dX2_recursiveLoad_53 rfl (lv_at hl 0 rfl) ?_
          refine r_get X hE_22.1 rfl in_X2 0 (by decide) q173 (Or.inl rfl) (v := .ref (l)) rfl dX2_recursiveLoad_54 ?_
          refine lv_iload hx hb dX2_recursiveLoad_57 (lv_at hl 5 rfl) ?_
          refine r_callV (cells1 := (6 * k + 144 * (fp_uab S f i - fp_uab S g i))) (slots1 := (121 * k + 2904 * (fp_uab S f i - fp_uab S g i))) X hR (c_J2_get G l ed mc (sN S) cap b k (by omega)) q489 q490 q491 q92 q492 ⟨rfl, pd_J2_get⟩ ⟨by omega, by omega⟩ rfl rfl (by omega) (by omega) hE_23.1 rfl rfl (Nat.le_of_ble_eq_true rfl) hl.1 dX2_recursiveLoad_59 (hB.of hS hAb) hE_23 hS (fun _ h => h.elim) (fun v H_32 locs hp_29 hz_30 hk_31 hS => ?_)
          obtain ⟨rfl, rfl⟩ := hp_29
          refine r_stk (st2 := [.ref (b k), .ref (x)]) rfl ?_
          refine r_castB X (hE_28 k (by omega)) (hsw.1.2.2.1 k (by omega)).2.1 q388 dX2_recursiveLoad_62 ?_
          refine r_callV (cells1 := (6 * k + 144 * (fp_uab S f i - fp_uab S g i) + 6)) (slots1 := (121 * k + 2904 * (fp_uab S f i - fp_uab S g i) + 121)) X hR (c_X2_supporters G x l ed z t mc cap b S k hsw hdl (by omega)) q554 q555 q556 q89 q557 ⟨rfl, pd_X2_supporters⟩ ⟨by omega, by omega⟩ rfl rfl (by omega) (by omega) hE_22.1 rfl rfl (Nat.le_of_ble_eq_true rfl) hl.1 dX2_recursiveLoad_65 (hB.of hS hAb) hE_22 hS (fun _ h => h.elim) (fun v H_36 locs hp_33 hz_34 hk_35 hS => ?_)
          obtain ⟨q_37, ed2_38, mc2_39, cap2_40, c, e, rfl, hq_41, hed_42, hSU_43, hE_44⟩ := hp_33
          have hz_45 := hS.1
          have lt_47 := hE_44.1.lt
          have lt_48 := hE_44.2.2
          refine r_stk (st2 := [.ref (q_37)]) rfl ?_
          have hSU := hSU_43
          have hat := fp_SU.at hdl hSU (by omega) hi c49
          have hck : fp_nsup S k ≤ sN S := fp_ct_le _ _
          have hcn : c = fp_nsup S k := hSU.1
          refine lv_astore (lv' := [(6, .ref (q_37)), (0, .ref (x)), (1, .int (iI ((i : Nat) : Int))), (2, .ref (a)), (3, .ref (b i)), (4, .int (iI ((fp_rls S i k : Nat) : Int))), (5, .int (iI ((k : Nat) : Int)))]) hx hb dX2_recursiveLoad_68 hl (by decide) rfl (fun ls hl => ?_)
          refine lv_aload_n hx hb dX2_recursiveLoad_70 rfl (lv_at hl 1 rfl) ?_
          have hE_49 := fp_SE.mv h_st (fp_keptS (by omega) hS (by omega)) (fp_keptS (by omega) hS (by omega)) (fp_keptS (by omega) hS (by omega)) (fp_keptS (by omega) hS (by omega)) (fp_keptS (by omega) hS (by omega)) (fun k hk => fp_keptS (h_st.2.2.2.2.1 k hk).lt hS (by have := hap.2 k hk; omega))
          refine r_get X hE_49.1 rfl in_X2 0 (by decide) q173 (Or.inl rfl) (v := .ref (l)) rfl dX2_recursiveLoad_71 ?_
          refine lv_iload hx hb dX2_recursiveLoad_74 (lv_at hl 6 rfl) ?_
          have hE_50 := fp_LE.mv h_l (fp_keptS (by omega) hS (by omega)) (fp_keptS (by omega) hS (by omega))
          refine r_callV (cells1 := (6 * k + 144 * (fp_uab S f i - fp_uab S g i) + 6)) (slots1 := (121 * k + 2904 * (fp_uab S f i - fp_uab S g i) + 121)) X hR (c_J2_get G l ed mc (sN S) cap b k (by omega)) q489 q490 q491 q92 q492 ⟨rfl, pd_J2_get⟩ ⟨by omega, by omega⟩ rfl rfl (by omega) (by omega) hE_50.1 rfl rfl (Nat.le_of_ble_eq_true rfl) hl.1 dX2_recursiveLoad_76 (hB.of hS hAb) hE_50 hS (fun _ h => h.elim) (fun v H_54 locs hp_51 hz_52 hk_53 hS => ?_)
          obtain ⟨rfl, rfl⟩ := hp_51
          refine r_stk (st2 := [.ref (b k)]) rfl ?_
          have hE_55 := fp_BL.mv h_bl (fun k hk => fp_keptS (h_bl k hk).lt hS (by have := hap.2 k hk; omega))
          refine r_castB X (hE_55 k (by omega)) (hsw.1.2.2.1 k (by omega)).2.1 q388 dX2_recursiveLoad_79 ?_
          refine r_getBN 3 (by decide) 4 rfl X (hE_55 k (by omega)) (hsw.1.2.2.1 k (by omega)).2.1 q1162 dX2_recursiveLoad_82 ?_
          refine lv_aload_n hx hb dX2_recursiveLoad_85 rfl (lv_at hl 1 rfl) ?_
          refine lv_iload hx hb dX2_recursiveLoad_86 (lv_at hl 6 rfl) ?_
          have hub := fp_uab_lt (S := S) (f := g) (i := i) (k := k) hi (by rw [hun i hi (Nat.le_refl _)]; exact fi2) (by omega)
          have hls := hsw.1.2.2.1 k (by omega)
          refine r_meas (fun hmb1 hmb2 => ?_)
          refine lv_aload_n hx hb dX2_recursiveLoad_88 rfl (lv_at hl 3 rfl) ?_
          have hE_57 := fp_At.kept hE_13 (hk_35 _ (by omega) (fun z => z))
          refine r_callV (cells1 := (6 * k + 144 * (fp_uab S f i - fp_uab S g i) + 6 + (144 * fp_uab S g k))) (slots1 := (121 * k + 2904 * (fp_uab S f i - fp_uab S g i) + 121 + (2904 * fp_uab S g k))) X hR (ih k g (by omega) hklg (by omega)) q941 q938 q939 q89 q940 ⟨rfl, pd_X2_recursiveLoad⟩ ⟨by omega, by omega⟩ rfl rfl (by omega) (by omega) hE_49.1 rfl rfl (Nat.le_of_ble_eq_true rfl) hl.1 dX2_recursiveLoad_89 (hB.of hS hAb) ⟨hE_49, hE_57⟩ hS (fun q h => by have h2 : (g_s G).heap.size ≤ q ∧ (q = a) := h; show ((g_s G).heap.size ≤ q ∧ (q = a)) ∨ s.heap.size ≤ q; omega) (fun v H_61 locs hp_58 hz_59 hk_60 hS => ?_)
          obtain ⟨f2_62, rfl, hkl2_63, hun_64, hms_65, hmt_66, hE_67⟩ := hp_58
          have hz_68 := hS.1
          have lt_69 := hE_67.lt
          refine r_stk (st2 := [.int (iI ((fp_ld S k : Nat) : Int)), .int (iI ((((sB S) k) 4 : Nat) : Int))]) rfl ?_
          have hsh := fp_uab_sh (S := S) (i := i) (k := k) (by omega) (fun j hj hb => hun_64 j hj (Or.inl hb))
          have hms89 := hms_65
          have hmt89 := hmt_66
          have hu2 : 1 ≤ fp_uab S f2_62 i := fp_uab_pos hi (by rw [hun_64 i hi (Or.inl (by omega)), hun i hi (Nat.le_refl _)]; exact fi2)
          refine r_tight (c' := 6 * (k + 1) + 144 * (fp_uab S f i - fp_uab S f2_62 i)) (n' := 121 * (k + 1) + 2904 * (fp_uab S f i - fp_uab S f2_62 i)) (by omega) (by omega) ?_
          refine r_iaddN hx hb dX2_recursiveLoad_92 ?_
          refine lv_istore (lv' := [(7, .int (iI (((((sB S) k) 4) + (fp_ld S k) : Nat) : Int))), (6, .ref (q_37)), (0, .ref (x)), (1, .int (iI ((i : Nat) : Int))), (2, .ref (a)), (3, .ref (b i)), (4, .int (iI ((fp_rls S i k : Nat) : Int))), (5, .int (iI ((k : Nat) : Int)))]) hx hb dX2_recursiveLoad_93 hl (by decide) rfl (fun ls hl => ?_)
          refine lv_iload hx hb dX2_recursiveLoad_95 (lv_at hl 6 rfl) ?_
          refine lv_iload hx hb dX2_recursiveLoad_97 (lv_at hl 0 rfl) ?_
          refine lv_aload hx hb dX2_recursiveLoad_99 (lv_at hl 1 rfl) ?_
          have hE_71 := fp_LE.mv hE_44 (hk_60 _ (by omega) (by omega)) (hk_60 _ (by omega) (by omega))
          refine r_callV (cells1 := (6 * (k + 1) + 144 * (fp_uab S f i - fp_uab S f2_62 i))) (slots1 := (121 * (k + 1) + 2904 * (fp_uab S f i - fp_uab S f2_62 i))) X hR (c_J2_size G q_37 ed2_38 mc2_39 c cap2_40 (fun p => b (e p))) q484 q461 q462 q92 q463 ⟨rfl, pd_J2_size⟩ ⟨by omega, by omega⟩ rfl rfl (by omega) (by omega) hE_71.1 rfl rfl (Nat.le_of_ble_eq_true rfl) hl.1 dX2_recursiveLoad_101 (hB.of hS hAb) hE_71 hS (fun _ h => h.elim) (fun v H_75 locs hp_72 hz_73 hk_74 hS => ?_)
          obtain ⟨rfl, rfl⟩ := hp_72
          refine r_stk (st2 := [.int (iI ((c : Nat) : Int)), .int (iI (((((sB S) k) 4) + (fp_ld S k) : Nat) : Int)), .int (iI ((fp_rls S i k : Nat) : Int))]) rfl ?_
          refine lv_aload hx hb dX2_recursiveLoad_104 (lv_at hl 1 rfl) ?_
          refine lv_aload_n hx hb dX2_recursiveLoad_106 rfl (lv_at hl 5 rfl) ?_
          have hE_76 := fp_BL.mv h_bl (fun k hk => fp_keptS (h_bl k hk).lt hS (by have := hap.2 k hk; omega))
          refine r_callV (cells1 := (6 * (k + 1) + 144 * (fp_uab S f i - fp_uab S f2_62 i))) (slots1 := (121 * (k + 1) + 2904 * (fp_uab S f i - fp_uab S f2_62 i))) X hR (c_J2_indexOf G q_37 ed2_38 mc2_39 c cap2_40 (fun p => b (e p)) (b i) (sB S i) (fp_rk S i k) (hbi.2.1) (hat.1) (congrArg b hat.2) (fun j hj h => by have h1 := hSU.2 j (by omega); have h2 := hsw.2 _ _ (by omega) hi h; rw [h2] at h1; have h3 : fp_rk S i k = j := h1.2.2; omega)) q870 q871 q872 q92 q873 ⟨rfl, pd_J2_indexOf⟩ ⟨by omega, by omega⟩ rfl rfl (by omega) (by omega) hE_71.1 rfl rfl (Nat.le_of_ble_eq_true rfl) hl.1 dX2_recursiveLoad_107 (hB.of hS hAb) ⟨hE_71, (hE_76 i (by omega))⟩ hS (fun _ h => h.elim) (fun v H_80 locs hp_77 hz_78 hk_79 hS => ?_)
          obtain ⟨rfl, rfl⟩ := hp_77
          refine r_stk (st2 := [.int (iI (((fp_rk S i k) : Nat) : Int)), .int (iI ((c : Nat) : Int)), .int (iI (((((sB S) k) 4) + (fp_ld S k) : Nat) : Int)), .int (iI ((fp_rls S i k : Nat) : Int))]) rfl ?_
          refine r_callS (cells1 := (6 * (k + 1) + 144 * (fp_uab S f i - fp_uab S f2_62 i))) (slots1 := (121 * (k + 1) + 2904 * (fp_uab S f i - fp_uab S f2_62 i))) X hR (c_X2_share G ((((sB S) k) 4) + (fp_ld S k)) c (fp_rk S i k) (by omega) (by omega) (by omega)) q910 q911 q89 q912 pd_X2_share ⟨by omega, by omega⟩ rfl rfl (by omega) (by omega) rfl (Nat.le_of_ble_eq_true rfl) hl.1 dX2_recursiveLoad_110 (hB.of hS hAb) trivial hS (fun _ h => h.elim) (fun v H_84 locs hp_81 hz_82 hk_83 hS => ?_)
          obtain ⟨rfl, rfl⟩ := hp_81
          refine r_stk (st2 := [.int (iI ((fp_shr ((((sB S) k) 4) + (fp_ld S k)) c (fp_rk S i k) : Nat) : Int)), .int (iI ((fp_rls S i k : Nat) : Int))]) rfl ?_
          refine r_set (y := .int (iI ((fp_shr (sB S k 4 + fp_ld S k) (fp_nsup S k) (fp_rk S i k) : Nat) : Int))) (by rw [hcn]) ?_
          refine r_iaddN hx hb dX2_recursiveLoad_113 ?_
          refine lv_istore (lv' := [(4, .int (iI (((fp_rls S i k) + (fp_shr (sB S k 4 + fp_ld S k) (fp_nsup S k) (fp_rk S i k)) : Nat) : Int))), (7, .int (iI (((((sB S) k) 4) + (fp_ld S k) : Nat) : Int))), (6, .ref (q_37)), (0, .ref (x)), (1, .int (iI ((i : Nat) : Int))), (2, .ref (a)), (3, .ref (b i)), (5, .int (iI ((k : Nat) : Int)))]) hx hb dX2_recursiveLoad_114 hl (by decide) rfl (fun ls hl => ?_)
          refine lv_iinc (v := (iI ((k + 1 : Nat) : Int))) (lv' := [(5, .int (iI ((k + 1 : Nat) : Int))), (4, .int (iI (((fp_rls S i k) + (fp_shr (sB S k 4 + fp_ld S k) (fp_nsup S k) (fp_rk S i k)) : Nat) : Int))), (7, .int (iI (((((sB S) k) 4) + (fp_ld S k) : Nat) : Int))), (6, .ref (q_37)), (0, .ref (x)), (1, .int (iI ((i : Nat) : Int))), (2, .ref (a)), (3, .ref (b i))]) hx hb dX2_recursiveLoad_116 hl (k := 7) rfl (iI_incN _ _) (by decide) rfl (fun ls hl => ?_)
          refine lv_goto (tgt := 26) hx hb dX2_recursiveLoad_119 (by decide) ?_
          exact ih26 (by omega) f2_62 H_61 locs ls (by rw [show Value.int (iI ((fp_rls S i (k + 1) : Nat) : Int)) = Value.int (iI (((fp_rls S i k) + (fp_shr (sB S k 4 + fp_ld S k) (fp_nsup S k) (fp_rk S i k)) : Nat) : Int)) from congrArg (fun q : Nat => Value.int (iI (q : Int))) (fp_rls_t c49)]; exact lv_sub hl [4, 5, 6, 7, 1, 0] rfl) hS hkl2_63 (fun j hj hb => (hun_64 j hj (Or.inl (by omega))).trans (hun j hj hb)) (by omega) (by omega) hE_67
    refine W.widen (k := 6 * 0 + 144 * (fp_uab S f i - fp_uab S f i)) (n := 121 * 0 + 2904 * (fp_uab S f i - fp_uab S f i)) (by omega) (by omega) ?_
    exact L26 0 (by omega) f s.heap locs ls (by rw [show Value.int (iI ((fp_rls S i 0 : Nat) : Int)) = Value.int (iI ((0 : Nat) : Int)) from congrArg (fun q : Nat => Value.int (iI (q : Int))) (rfl)]; exact lv_sub hl [3, 4, 5, 2, 1, 0] rfl) hS hkl (fun _ _ _ => rfl) (Nat.le_refl _) (Nat.le_refl _) h_ar
theorem c_X2_recursiveLoad_t (G : fp_G) (x : Nat) (l : Nat) (ed : Nat) (z : Nat) (t : Nat) (mc : Int32) (cap : Nat) (b : Nat → Nat) (S : PS) (a : Nat) (i : Nat) (f : Nat → Int) (hsw : fp_sw S b) (hdl : fp_dl S) (hab : (g_s G).heap.size ≤ a) (hap : (a ≠ x ∧ a ≠ l ∧ a ≠ ed ∧ a ≠ z ∧ a ≠ t) ∧ ∀ k, k < sN S → b k ≠ a) (h30 : ∀ k, k < sN S → sB S k 5 ≤ 30) (hi : i < sN S) (hkl : fp_kl S f) : fp_M G yX2_recursiveLoad cX2_recursiveLoad 8 (some .int) 328 8036 (144 * fp_uab S f i) (2904 * fp_uab S f i) [.ref (x), .int (iI ((i : Nat) : Int)), .ref (a)] (fun H => fp_SE G x l ed z t mc cap b S H ∧ fp_At G H a (eI G (sN S) (fun j => iI (f j)))) (fun q => (g_s G).heap.size ≤ q ∧ (q = a)) (fun H v H1 => ∃ (f2 : Nat → Int), v = some (.int (iI ((fp_ld S i : Nat) : Int))) ∧ (fp_kl S f2) ∧ (∀ j, j < sN S → (sB S j 5 < sB S i 5 ∨ sB S j 5 = sB S i 5 ∧ j ≠ i) → f2 j = f j) ∧ (H1.size + 144 * fp_uab S f2 i ≤ H.size + 144 * fp_uab S f i) ∧ (fp_hs H1 + 2904 * fp_uab S f2 i ≤ fp_hs H + 2904 * fp_uab S f i) ∧ fp_At G H1 a (eI G (sN S) (fun j => iI (f2 j)))) :=
  c_X2_recursiveLoad G x l ed z t mc cap b S a hsw hdl hab hap h30 41 i f hi hkl (by omega)
set_option maxHeartbeats 4000000 in
theorem c_X2_loadByRecursion (G : fp_G) (x : Nat) (l : Nat) (ed : Nat) (z : Nat) (t : Nat) (mc : Int32) (cap : Nat) (b : Nat → Nat) (S : PS) (u : Nat) (hsw : fp_sw S b) (hdl : fp_dl S) (h30 : ∀ k, k < sN S → sB S k 5 ≤ 30) (hu : u < sN S) : fp_M G yX2_loadByRecursion cX2_loadByRecursion 2 (some .int) 329 8063 3457 69720 [.ref (x), .ref (b u)] (fun H => fp_SE G x l ed z t mc cap b S H) fp_no (fun H v H1 => v = some (.int (iI ((fp_ld S u : Nat) : Int)))) := by
  refine fp_M.intro (by decide) (Nat.le_of_ble_eq_true rfl) ?_
  intro pg en s mi ag bl mt cd rR qQ ls X hx hb hr hlk hnm hR hQ hB hM hl
  have hS : va_S (fA fp_no s.heap.size) s.heap s.heap [] := va_S.rf
  generalize ([] : List Loc) = locs at hS ⊢
  have hb0 := hB.1
  have h_st := hM
  have hsz0 := hS.1
  have lt_1 := h_st.1.lt
  have hn24 := hsw.1.1
  obtain ⟨h_o, h_l, h_z, h_t, h_bl, h_xb, h_zb, h_tb⟩ := id h_st
  have lt_2 := h_l.1.lt
  have lt_3 := h_l.2.2
  have lt_4 := h_z.lt
  have lt_5 := h_t.lt
  refine lv_aload_n hx hb dX2_loadByRecursion_0 rfl (lv_at hl 0 rfl) ?_
  refine lv_aload_n hx hb dX2_loadByRecursion_1 rfl (lv_at hl 0 rfl) ?_
  refine r_get X h_st.1 rfl in_X2 0 (by decide) q173 (Or.inl rfl) (v := .ref (l)) rfl dX2_loadByRecursion_2 ?_
  refine lv_aload_n hx hb dX2_loadByRecursion_5 rfl (lv_at hl 1 rfl) ?_
  refine r_callV (cells1 := 0) (slots1 := 0) X hR (c_J2_indexOf G l ed mc (sN S) cap b (b u) (sB S u) u ((hsw.1.2.2.1 u (by omega)).2.1) (by omega) rfl (fun j hj h => by have := hsw.2 j u (by omega) (by omega) h; omega)) q870 q871 q872 q92 q873 ⟨rfl, pd_J2_indexOf⟩ ⟨Nat.le_of_ble_eq_true rfl, Nat.le_of_ble_eq_true rfl⟩ rfl rfl (Nat.le_of_ble_eq_true rfl) (Nat.le_of_ble_eq_true rfl) h_l.1 rfl rfl (Nat.le_of_ble_eq_true rfl) hl.1 dX2_loadByRecursion_6 (hB.of hS fp_no.base) ⟨h_l, (h_bl u (by omega))⟩ hS (fun _ h => h.elim) (fun v H_9 locs hp_6 hz_7 hk_8 hS => ?_)
  obtain ⟨rfl, rfl⟩ := hp_6
  refine r_stk (st2 := [.int (iI ((u : Nat) : Int)), .ref (x)]) rfl ?_
  refine lv_aload_n hx hb dX2_loadByRecursion_9 rfl (lv_at hl 0 rfl) ?_
  refine r_callV (cells1 := 1) (slots1 := 24) X hR (c_X2_unknownNumbers G x l ed z t mc cap b S hsw) q1535 q481 q482 q89 q483 ⟨rfl, pd_X2_unknownNumbers⟩ ⟨Nat.le_of_ble_eq_true rfl, Nat.le_of_ble_eq_true rfl⟩ rfl rfl (Nat.le_of_ble_eq_true rfl) (Nat.le_of_ble_eq_true rfl) h_st.1 rfl rfl (Nat.le_of_ble_eq_true rfl) hl.1 dX2_loadByRecursion_10 (hB.of hS fp_no.base) h_st hS (fun _ h => h.elim) (fun v H_13 locs hp_10 hz_11 hk_12 hS => ?_)
  obtain ⟨q_14, rfl, hq_15, hE_16⟩ := hp_10
  have hz_17 := hS.1
  have lt_19 := hE_16.lt
  refine r_stk (st2 := [.ref (q_14), .int (iI ((u : Nat) : Int)), .ref (x)]) rfl ?_
  have hun := fp_uab_n S (fun _ => (-2 : Int)) u
  have hE_20 := h_st.ext (fp_X.ofS hS)
  refine r_callV (cells1 := (1 + (144 * fp_uab S (fun _ => (-2 : Int)) u))) (slots1 := (24 + (2904 * fp_uab S (fun _ => (-2 : Int)) u))) X hR (c_X2_recursiveLoad_t G x l ed z t mc cap b S q_14 u (fun _ => (-2 : Int)) hsw hdl (by omega) (⟨⟨by omega, by omega, by omega, by omega, by omega⟩, fun k hk => by have := (h_bl k hk).lt; omega⟩) h30 hu (fun j hj => Or.inl rfl)) q941 q938 q939 q89 q940 ⟨rfl, pd_X2_recursiveLoad⟩ ⟨Nat.le_of_ble_eq_true rfl, Nat.le_of_ble_eq_true rfl⟩ rfl rfl (by omega) (by omega) hE_20.1 rfl rfl (Nat.le_of_ble_eq_true rfl) hl.1 dX2_loadByRecursion_13 (hB.of hS fp_no.base) ⟨hE_20, hE_16⟩ hS (fun q h => Or.inr (by have h2 : (g_s G).heap.size ≤ q ∧ (q = q_14) := h; omega)) (fun v H_24 locs hp_21 hz_22 hk_23 hS => ?_)
  obtain ⟨f2_25, rfl, hkl2_26, hun_27, hms_28, hmt_29, hE_30⟩ := hp_21
  have hz_31 := hS.1
  have lt_32 := hE_30.lt
  refine r_stk (st2 := [.int (iI ((fp_ld S u : Nat) : Int))]) rfl ?_
  refine r_iret hx hb hr hlk hQ hS (by omega) (by omega) dX2_loadByRecursion_16 ?_
  exact rfl
