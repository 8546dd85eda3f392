/-! THE PARSER: arguments -/
theorem fp_fitc {c : Nat} (h : c < 65536) : fits .char (.int (iI ((c : Nat) : Int))) = true := by
  have h1 : (iI ((c : Nat) : Int)).toInt = ((c : Nat) : Int) := iI_toInt ⟨by omega, by omega⟩
  simp only [fits, Bool.and_eq_true, decide_eq_true_eq]
  exact ⟨Int32.le_iff_toInt_le.mpr (by rw [h1]; show (0 : Int) ≤ _; omega), Int32.le_iff_toInt_le.mpr (by rw [h1]; show _ ≤ (65535 : Int); omega)⟩
set_option maxRecDepth 100000
set_option maxHeartbeats 4000000 in
theorem c_X10_init (G : fp_G) (c : Nat) (y : Nat) (hcb : (g_s G).heap.size ≤ c) : fp_M G yX10_init cX10_init 2 none 2 30 1 3 [.ref (c), .ref (y)] (fun H => fp_At G H c (eO 7 [.null, .null, .int (iI ((0 : Nat) : Int))])) (fun q => (g_s G).heap.size ≤ q ∧ (q = c)) (fun H v H1 => ∃ (nu : Nat), v = none ∧ (nu = H.size) ∧ fp_At G H1 c (eO 7 [.ref (y), .ref (nu), .int (iI ((0 : Nat) : Int))]) ∧ fp_At G H1 nu (eI G 3 (fun j => iI ((fun _ => 0) j)))) := by
  refine fp_M.intro (by decide) (Nat.le_of_ble_eq_true rfl) ?_
  intro pg en s mi ag bl mt cd rR qQ ls X hx hb hr hlk hnm hR hQ hB hM hl
  have hS : va_S (fA (fun q => (g_s G).heap.size ≤ q ∧ (q = c)) s.heap.size) s.heap s.heap [] := va_S.rf
  generalize ([] : List Loc) = locs at hS ⊢
  have hb0 := hB.1
  have hAb : ∀ q, (fun q => (g_s G).heap.size ≤ q ∧ (q = c)) q → (g_s G).heap.size ≤ q := fun q h => h.1
  have h_cm := hM
  have hsz0 := hS.1
  have lt_1 := h_cm.lt
  refine lv_aload_n hx hb dX10_init_0 rfl (lv_at hl 0 rfl) ?_
  refine r_objInit X hR q1826 q132 q133 hl.1 (by decide) (Nat.le_of_ble_eq_true rfl) dX10_init_1 ?_
  refine lv_aload_n hx hb dX10_init_4 rfl (lv_at hl 0 rfl) ?_
  refine lv_iconst (v := (iI ((3 : Nat) : Int))) hx hb dX10_init_5 rfl ?_
  refine r_newaI (n := 3) X hR hS q513 rfl (by decide) (Nat.le_of_ble_eq_true rfl) (Nat.le_of_ble_eq_true rfl) dX10_init_6 (fun na H_2 hq_6 hE_3 hX_4 hz_5 hS => ?_)
  have hz_7 := hS.1
  have lt_8 := hE_3.lt
  have hE_10 := fp_At.kept h_cm (hX_4.2 _ (by omega))
  refine r_putF X hE_10 hS (Or.inl ⟨by omega, rfl⟩) rfl in_X10 tyX10_ok nmX10 1 (by decide) q1830 (Or.inl rfl) rfl hnm rfl rfl rfl (show 1 < 3 by decide) dX10_init_8 (fun H_14 locs hE_11 hz_12 hq_13 hS => ?_)
  have hz_15 := hS.1
  refine lv_aload_n hx hb dX10_init_11 rfl (lv_at hl 0 rfl) ?_
  refine lv_aload_n hx hb dX10_init_12 rfl (lv_at hl 1 rfl) ?_
  refine r_putF X hE_11 hS (Or.inl ⟨by omega, rfl⟩) rfl in_X10 tyX10_ok nmX10 0 (by decide) q1827 (Or.inl rfl) rfl hnm rfl rfl rfl (show 0 < 3 by decide) dX10_init_13 (fun H_19 locs hE_16 hz_17 hq_18 hS => ?_)
  have hz_20 := hS.1
  refine r_vret hx hb hr hlk hQ hS (Nat.le_of_ble_eq_true rfl) (Nat.le_of_ble_eq_true rfl) dX10_init_16 ?_
  have hE_22 := fp_At.kept hE_3 (hq_13 _ (by omega))
  have hE_23 := fp_At.kept hE_22 (hq_18 _ (by omega))
  exact ⟨na, rfl, (by omega), hE_16, hE_23⟩
set_option maxHeartbeats 4000000 in
theorem c_X9_parseArguments (G : fp_G) (x : Nat) (kw : Nat) (p : Nat) (pv : Nat) (l : Nat) (n : Nat) (tx : Nat → Nat) (pos : Nat) (fl : Bool) (c : Nat) (y : Nat) (qy : Nat) (nu : Nat) (wd : Nat) (hpos : pos ≤ n) (hfl : fl = false) (hwd : wd < 7) (hcb : (g_s G).heap.size ≤ c ∧ (g_s G).heap.size ≤ nu) (hxb : (g_s G).heap.size ≤ x) : fp_M G yX9_parseArguments cX9_parseArguments 4 none 9 183 0 0 [.ref (x), .ref (c)] (fun H => fp_At G H x (eO 6 [.ref (kw), .ref (p), .ref (l), .int (iI ((pos : Nat) : Int)), .int (iI (bI (fl)))]) ∧ fp_HS G p pv n tx H ∧ fp_At G H c (eO 7 [.ref (y), .ref (nu), .int (iI ((0 : Nat) : Int))]) ∧ fp_At G H nu (eI G 3 (fun j => iI ((fun _ => 0) j))) ∧ fp_HS G y qy (fp_wk wd) (fp_ww wd) H) (fun q => (g_s G).heap.size ≤ q ∧ (q = x ∨ q = c ∨ q = nu ∨ q = y)) (fun H v H1 => ∃ (fl2 : Bool), ∃ (pos2 : Nat), ∃ (f2 : Nat → Int), ∃ (lt : Nat), ∃ (r : Bool × Nat × Int × Int × Int), v = none ∧ (fp_xa tx n wd pos = r) ∧ (fl2 = r.1) ∧ (pos2 = r.2.1) ∧ (fp_ca wd r f2 lt) ∧ fp_At G H1 x (eO 6 [.ref (kw), .ref (p), .ref (l), .int (iI ((pos2 : Nat) : Int)), .int (iI (bI (fl2)))]) ∧ fp_At G H1 c (eO 7 [.ref (y), .ref (nu), .int (iI ((lt : Nat) : Int))]) ∧ fp_At G H1 nu (eI G 3 (fun j => iI (f2 j))) ∧ fp_HH G y qy (fp_wk wd) (fp_ww wd) H1 ∧ fp_HS G p pv n tx H1) := by
  refine fp_M.intro (by decide) (Nat.le_of_ble_eq_true rfl) ?_
  intro pg en s mi ag bl mt cd rR qQ ls X hx hb hr hlk hnm hR hQ hB hM hl
  have hS : va_S (fA (fun q => (g_s G).heap.size ≤ q ∧ (q = x ∨ q = c ∨ q = nu ∨ q = y)) s.heap.size) s.heap s.heap [] := va_S.rf
  generalize ([] : List Loc) = locs at hS ⊢
  have hb0 := hB.1
  have hAb : ∀ q, (fun q => (g_s G).heap.size ≤ q ∧ (q = x ∨ q = c ∨ q = nu ∨ q = y)) q → (g_s G).heap.size ≤ q := fun q h => h.1
  obtain ⟨h_o, h_pg, h_cm, h_nums, h_ky⟩ := hM
  have hsz0 := hS.1
  have lt_1 := h_o.lt
  have lt_2 := h_pg.lt
  have lt_3 := h_pg.2.1.lt
  have lt_4 := h_cm.lt
  have lt_5 := h_nums.lt
  have lt_6 := h_ky.lt
  have lt_7 := h_ky.2.1.lt
  have hpg := h_pg.2.2.1
  obtain rfl : fl = false := hfl
  obtain ⟨⟨hk1, hk2, hko, hkp⟩, hkrow, -, hyb, -⟩ := id h_ky
  obtain ⟨⟨hp1, hp2, hpo, hpp⟩, hprow, -⟩ := id h_pg
  have hne_8 : fp_dif x p := fp_neOO X.2.2.2.2.2 (i := 6) (j := 12) rfl rfl (by decide) h_o hpo
  have hne_9 : fp_dif x pv := fp_neOA X.2.2.2.2.2 (i := 6) (t := 2) rfl rfl h_o hprow
  have hne_10 : fp_dif x c := fp_neOO X.2.2.2.2.2 (i := 6) (j := 7) rfl rfl (by decide) h_o h_cm
  have hne_11 : fp_dif x nu := fp_neOA X.2.2.2.2.2 (i := 6) (t := 0) rfl rfl h_o h_nums
  have hne_12 : fp_dif x y := fp_neOO X.2.2.2.2.2 (i := 6) (j := 12) rfl rfl (by decide) h_o hko
  have hne_13 : fp_dif x qy := fp_neOA X.2.2.2.2.2 (i := 6) (t := 2) rfl rfl h_o hkrow
  have hne_14 : fp_dif p pv := fp_neOA X.2.2.2.2.2 (i := 12) (t := 2) rfl rfl hpo hprow
  have hne_15 : fp_dif p c := fp_neOO X.2.2.2.2.2 (i := 12) (j := 7) rfl rfl (by decide) hpo h_cm
  have hne_16 : fp_dif p nu := fp_neOA X.2.2.2.2.2 (i := 12) (t := 0) rfl rfl hpo h_nums
  have hne_17 : fp_dif p qy := fp_neOA X.2.2.2.2.2 (i := 12) (t := 2) rfl rfl hpo hkrow
  have hne_18 : fp_dif pv c := Ne.symm (fp_neOA X.2.2.2.2.2 (i := 7) (t := 2) rfl rfl h_cm hprow)
  have hne_19 : fp_dif pv nu := fp_neAA X.2.2.2.2.2 (t := 2) (t2 := 0) rfl rfl (by decide) hprow h_nums
  have hne_20 : fp_dif pv y := Ne.symm (fp_neOA X.2.2.2.2.2 (i := 12) (t := 2) rfl rfl hko hprow)
  have hne_21 : fp_dif c nu := fp_neOA X.2.2.2.2.2 (i := 7) (t := 0) rfl rfl h_cm h_nums
  have hne_22 : fp_dif c y := fp_neOO X.2.2.2.2.2 (i := 7) (j := 12) rfl rfl (by decide) h_cm hko
  have hne_23 : fp_dif c qy := fp_neOA X.2.2.2.2.2 (i := 7) (t := 2) rfl rfl h_cm hkrow
  have hne_24 : fp_dif nu y := Ne.symm (fp_neOA X.2.2.2.2.2 (i := 12) (t := 0) rfl rfl hko h_nums)
  have hne_25 : fp_dif nu qy := fp_neAA X.2.2.2.2.2 (t := 0) (t2 := 2) rfl rfl (by decide) h_nums hkrow
  have hne_26 : fp_dif y qy := fp_neOA X.2.2.2.2.2 (i := 12) (t := 2) rfl rfl hko hkrow
  rcases (show wd = 0 ∨ wd = 1 ∨ wd = 2 ∨ wd = 3 ∨ wd = 4 ∨ wd = 5 ∨ wd = 6 by omega) with rfl | rfl | rfl | rfl | rfl | rfl | rfl
  · skip
    refine lv_aload_n hx hb dX9_parseArguments_0 rfl (lv_at hl 1 rfl) ?_
    refine r_getN X h_cm rfl in_X10 1 (by decide) q1831 (Or.inl rfl) (v := .ref (nu)) rfl dX9_parseArguments_1 ?_
    refine lv_iconst (v := (iI ((0 : Nat) : Int))) hx hb dX9_parseArguments_4 rfl ?_
    refine lv_aload_n hx hb dX9_parseArguments_5 rfl (lv_at hl 0 rfl) ?_
    refine lv_iconst (v := (iI ((2 : Nat) : Int))) hx hb dX9_parseArguments_6 rfl ?_
    refine r_callV (cells1 := 0) (slots1 := 0) X hR (c_X9_parseNumber G x kw p pv l n tx pos false 2 hpos hxb (by omega)) q1847 q1849 qs38 q124 q1850 ⟨rfl, pd_X9_parseNumber⟩ ⟨Nat.le_of_ble_eq_true rfl, Nat.le_of_ble_eq_true rfl⟩ rfl rfl (Nat.le_of_ble_eq_true rfl) (Nat.le_of_ble_eq_true rfl) h_o rfl rfl (Nat.le_of_ble_eq_true rfl) hl.1 dX9_parseArguments_7 (hB.of hS hAb) ⟨h_o, h_pg⟩ hS (fun q h => by have h2 : (g_s G).heap.size ≤ q ∧ (q = x) := h; show ((g_s G).heap.size ≤ q ∧ (q = x ∨ q = c ∨ q = nu ∨ q = y)) ∨ s.heap.size ≤ q; omega) (fun v H_30 locs hp_27 hz_28 hk_29 hS => ?_)
    obtain ⟨fl2_31, pos2_32, vn_33, rfl, hpn_34, hE_35⟩ := hp_27
    have hz_36 := hS.1
    have lt_37 := hE_35.lt
    refine r_stk (st2 := [.int (iI (vn_33)), .int (iI ((0 : Nat) : Int)), .ref (nu)]) rfl ?_
    have hb1 := fp_xn_bq hpn_34 (by omega) (by omega)
    have hE_39 := fp_At.kept h_nums (hk_29 _ (by omega) (fun h => (Ne.symm (hne_11)) h.2))
    refine r_iastI X hE_39 hS (Or.inl ⟨by omega, Or.inr (Or.inr (Or.inl rfl))⟩) (j := 0) rfl (by decide) (by decide) dX9_parseArguments_10 (fun H_43 locs hE_40 hz_41 hq_42 hS => ?_)
    have hz_44 := hS.1
    have hE_45 : fp_At G H_43 nu (eI G 3 (fun j => iI ((va_up (fun _ => 0) 0 (vn_33)) j))) := hE_40.updI
    refine lv_aload_n hx hb dX9_parseArguments_11 rfl (lv_at hl 1 rfl) ?_
    have hE_47 := fp_At.kept h_cm (hk_29 _ (by omega) (fun h => (Ne.symm (hne_10)) h.2))
    have hE_48 := fp_At.kept hE_47 (hq_42 _ (hne_21))
    refine r_getN X hE_48 rfl in_X10 0 (by decide) q1828 (Or.inl rfl) (v := .ref (y)) rfl dX9_parseArguments_12 ?_
    refine lv_astore_n (lv' := [(2, .ref (y)), (0, .ref (x)), (1, .ref (c))]) hx hb dX9_parseArguments_15 rfl hl (by decide) rfl (fun ls hl => ?_)
    refine lv_iconst (v := (iI (-1))) hx hb dX9_parseArguments_16 rfl ?_
    refine lv_istore_n (lv' := [(3, .int (iI (-1))), (2, .ref (y)), (0, .ref (x)), (1, .ref (c))]) hx hb dX9_parseArguments_17 rfl hl (by decide) rfl (fun ls hl => ?_)
    have hE_50 := fp_HS.mv h_pg (hk_29 _ (by omega) (fun h => (Ne.symm (hne_8)) h.2)) (hk_29 _ (by omega) (fun h => (Ne.symm (hne_9)) h.2))
    have hE_51 := fp_HS.mv hE_50 (hq_42 _ (hne_16)) (hq_42 _ (hne_19))
    refine lv_aload_n hx hb dX9_parseArguments_18 rfl (lv_at hl 1 rfl) ?_
    have hE_53 := fp_HS.mv h_ky (hk_29 _ (by omega) (fun h => (Ne.symm (hne_12)) h.2)) (hk_29 _ (by omega) (fun h => (Ne.symm (hne_13)) h.2))
    have hE_54 := fp_HS.mv hE_53 (hq_42 _ (Ne.symm (hne_24))) (hq_42 _ (Ne.symm (hne_25)))
    refine r_callVR (cells1 := 0) (slots1 := 0) X hR (c_J7_hashCode G y qy (fp_wk 0) (fp_ww 0) (by decide +kernel) (by decide)) q1863 q1864 q1865 q98 q1866 ⟨rfl, pd_J7_hashCode⟩ ⟨Nat.le_of_ble_eq_true rfl, Nat.le_of_ble_eq_true rfl⟩ rfl rfl (Nat.le_of_ble_eq_true rfl) (Nat.le_of_ble_eq_true rfl) (fp_SO.recv X ((fp_HS.st hE_54).1) hB hAb hS) rfl (Nat.le_of_ble_eq_true rfl) hl.1 dX9_parseArguments_19 (hB.of hS hAb) hE_54 hS (fun q h => by have h2 : (g_s G).heap.size ≤ q ∧ (q = y) := h; show ((g_s G).heap.size ≤ q ∧ (q = x ∨ q = c ∨ q = nu ∨ q = y)) ∨ s.heap.size ≤ q; omega) (fun v H_58 locs hp_55 hz_56 hk_57 hS => ?_)
    obtain ⟨rfl, hpr_59, hhd_60⟩ := hp_55
    have hz_61 := hS.1
    refine r_stk (st2 := [.int (fp_hsh (fp_ww 0) (fp_wk 0))]) rfl ?_
    have hpg_62 := hpr_59 _ _ _ _ hE_51
    refine lv_lookup (off := 42) (tgt := 64) hx hb dX9_parseArguments_22 (by decide) (by decide +kernel) (by decide) ?_
    refine lv_aload_n hx hb dX9_parseArguments_64 rfl (lv_at hl 1 rfl) ?_
    refine r_ldcS X q1730 (X.2.2.2.2.2.kst hB fp_kP0).2.1 dX9_parseArguments_65 ?_
    have hk_63 := (X.2.2.2.2.2.kst (hB.of hS hAb) fp_kP0).1
    have lt_64 := hk_63.1.2
    have lt_65 := hk_63.2.2.1
    refine r_callVR (cells1 := 0) (slots1 := 0) X hR (c_J7_equals G y qy (fp_wk 0) (fp_ww 0) (fp_ks G "FortPlanner$Parser" 9) (fp_kv G "FortPlanner$Parser" 9) 4 (fun i => [102, 111, 97, 109].getD i 0)) q1808 q900 q2532 q98 q901 ⟨rfl, pd_J7_equals⟩ ⟨Nat.le_of_ble_eq_true rfl, Nat.le_of_ble_eq_true rfl⟩ rfl rfl (Nat.le_of_ble_eq_true rfl) (Nat.le_of_ble_eq_true rfl) (fp_SO.recv X ((fp_HS.st (hhd_60).1).1) hB hAb hS) rfl (Nat.le_of_ble_eq_true rfl) hl.1 dX9_parseArguments_67 (hB.of hS hAb) ⟨(fp_HS.st (hhd_60).1), hk_63⟩ hS (fun _ h => h.elim) (fun v H_69 locs hp_66 hz_67 hk_68 hS => ?_)
    obtain ⟨rfl, rfl⟩ := hp_66
    refine r_stk (st2 := [.int (iI (bI (fp_teq (fp_wk 0) (fp_ww 0) 4 (fun i => [102, 111, 97, 109].getD i 0))))]) rfl ?_
    refine r_set (y := .int (iI (bI (true)))) (congrArg (fun q : Bool => Value.int (iI (bI q))) (by decide +kernel)) ?_
    refine r_ifeqB (tgt := 117) hx hb dX9_parseArguments_70 (by decide) (fun c70 => ?_) (fun c70 => ?_)
    · exact absurd c70 (by decide)
    · skip
      refine lv_iconst (v := (iI ((0 : Nat) : Int))) hx hb dX9_parseArguments_73 rfl ?_
      refine lv_istore_n (lv' := [(3, .int (iI ((0 : Nat) : Int))), (2, .ref (y)), (0, .ref (x)), (1, .ref (c))]) hx hb dX9_parseArguments_74 rfl hl (by decide) rfl (fun ls hl => ?_)
      refine lv_goto (tgt := 117) hx hb dX9_parseArguments_75 (by decide) ?_
      refine lv_iload_n hx hb dX9_parseArguments_117 rfl (lv_at hl 0 rfl) ?_
      refine lv_tableIn (off := 30) (tgt := 148) hx hb dX9_parseArguments_118 (by decide) (by decide) rfl (by decide) ?_
      refine lv_aload_n hx hb dX9_parseArguments_148 rfl (lv_at hl 3 rfl) ?_
      have hE_71 := fp_At.kept hE_48 (hk_57 _ (by omega) (fun h => (hne_22) h.2))
      refine r_getN X hE_71 rfl in_X10 1 (by decide) q1831 (Or.inl rfl) (v := .ref (nu)) rfl dX9_parseArguments_149 ?_
      refine lv_iconst (v := (iI ((1 : Nat) : Int))) hx hb dX9_parseArguments_152 rfl ?_
      refine lv_aload_n hx hb dX9_parseArguments_153 rfl (lv_at hl 2 rfl) ?_
      refine lv_iconst (v := (iI ((1 : Nat) : Int))) hx hb dX9_parseArguments_154 rfl ?_
      have hE_73 := fp_At.kept hE_35 (hq_42 _ (hne_11))
      have hE_74 := fp_At.kept hE_73 (hk_57 _ (by omega) (fun h => (hne_12) h.2))
      refine r_callV (cells1 := 0) (slots1 := 0) X hR (c_X9_parseNumber G x kw p pv l n tx pos2_32 fl2_31 1 (by omega) hxb (by omega)) q1847 q1849 qs38 q124 q1850 ⟨rfl, pd_X9_parseNumber⟩ ⟨Nat.le_of_ble_eq_true rfl, Nat.le_of_ble_eq_true rfl⟩ rfl rfl (Nat.le_of_ble_eq_true rfl) (Nat.le_of_ble_eq_true rfl) hE_74 rfl rfl (Nat.le_of_ble_eq_true rfl) hl.1 dX9_parseArguments_155 (hB.of hS hAb) ⟨hE_74, hpg_62⟩ hS (fun q h => by have h2 : (g_s G).heap.size ≤ q ∧ (q = x) := h; show ((g_s G).heap.size ≤ q ∧ (q = x ∨ q = c ∨ q = nu ∨ q = y)) ∨ s.heap.size ≤ q; omega) (fun v H_78 locs hp_75 hz_76 hk_77 hS => ?_)
      obtain ⟨fl2_79, pos2_80, vn_81, rfl, hpn_82, hE_83⟩ := hp_75
      have hz_84 := hS.1
      have lt_85 := hE_83.lt
      refine r_stk (st2 := [.int (iI (vn_81)), .int (iI ((1 : Nat) : Int)), .ref (nu)]) rfl ?_
      have hb2 := fp_xn_bq hpn_82 (by omega) (by omega)
      have hE_87 := fp_At.kept hE_45 (hk_57 _ (by omega) (fun h => (hne_24) h.2))
      have hE_88 := fp_At.kept hE_87 (hk_77 _ (by omega) (fun h => (Ne.symm (hne_11)) h.2))
      refine r_iastI X hE_88 hS (Or.inl ⟨by omega, Or.inr (Or.inr (Or.inl rfl))⟩) (j := 1) rfl (by decide) (by decide) dX9_parseArguments_158 (fun H_92 locs hE_89 hz_90 hq_91 hS => ?_)
      have hz_93 := hS.1
      have hE_94 : fp_At G H_92 nu (eI G 3 (fun j => iI ((va_up (va_up (fun _ => 0) 0 (vn_33)) 1 (vn_81)) j))) := hE_89.updI
      refine lv_aload_n hx hb dX9_parseArguments_159 rfl (lv_at hl 3 rfl) ?_
      have hE_96 := fp_At.kept hE_71 (hk_77 _ (by omega) (fun h => (Ne.symm (hne_10)) h.2))
      have hE_97 := fp_At.kept hE_96 (hq_91 _ (hne_21))
      refine r_getN X hE_97 rfl in_X10 1 (by decide) q1831 (Or.inl rfl) (v := .ref (nu)) rfl dX9_parseArguments_160 ?_
      refine lv_iconst (v := (iI ((2 : Nat) : Int))) hx hb dX9_parseArguments_163 rfl ?_
      refine lv_aload_n hx hb dX9_parseArguments_164 rfl (lv_at hl 2 rfl) ?_
      refine lv_iconst (v := (iI ((1 : Nat) : Int))) hx hb dX9_parseArguments_165 rfl ?_
      have hE_99 := fp_At.kept hE_83 (hq_91 _ (hne_11))
      have hE_101 := fp_HS.mv hpg_62 (hk_77 _ (by omega) (fun h => (Ne.symm (hne_8)) h.2)) (hk_77 _ (by omega) (fun h => (Ne.symm (hne_9)) h.2))
      have hE_102 := fp_HS.mv hE_101 (hq_91 _ (hne_16)) (hq_91 _ (hne_19))
      refine r_callV (cells1 := 0) (slots1 := 0) X hR (c_X9_parseNumber G x kw p pv l n tx pos2_80 fl2_79 1 (by omega) hxb (by omega)) q1847 q1849 qs38 q124 q1850 ⟨rfl, pd_X9_parseNumber⟩ ⟨Nat.le_of_ble_eq_true rfl, Nat.le_of_ble_eq_true rfl⟩ rfl rfl (Nat.le_of_ble_eq_true rfl) (Nat.le_of_ble_eq_true rfl) hE_99 rfl rfl (Nat.le_of_ble_eq_true rfl) hl.1 dX9_parseArguments_166 (hB.of hS hAb) ⟨hE_99, hE_102⟩ hS (fun q h => by have h2 : (g_s G).heap.size ≤ q ∧ (q = x) := h; show ((g_s G).heap.size ≤ q ∧ (q = x ∨ q = c ∨ q = nu ∨ q = y)) ∨ s.heap.size ≤ q; omega) (fun v H_106 locs hp_103 hz_104 hk_105 hS => ?_)
      obtain ⟨fl2_107, pos2_108, vn_109, rfl, hpn_110, hE_111⟩ := hp_103
      have hz_112 := hS.1
      have lt_113 := hE_111.lt
      refine r_stk (st2 := [.int (iI (vn_109)), .int (iI ((2 : Nat) : Int)), .ref (nu)]) rfl ?_
      have hb3 := fp_xn_bq hpn_110 (by omega) (by omega)
      have hE_115 := fp_At.kept hE_94 (hk_105 _ (by omega) (fun h => (Ne.symm (hne_11)) h.2))
      refine r_iastI X hE_115 hS (Or.inl ⟨by omega, Or.inr (Or.inr (Or.inl rfl))⟩) (j := 2) rfl (by decide) (by decide) dX9_parseArguments_169 (fun H_119 locs hE_116 hz_117 hq_118 hS => ?_)
      have hz_120 := hS.1
      have hE_121 : fp_At G H_119 nu (eI G 3 (fun j => iI ((va_up (va_up (va_up (fun _ => 0) 0 (vn_33)) 1 (vn_81)) 2 (vn_109)) j))) := hE_116.updI
      refine lv_goto (tgt := 184) hx hb dX9_parseArguments_170 (by decide) ?_
      have hpq := fp_xa_3 (w := 0) (by decide) hpn_34 hpn_82 hpn_110
      refine r_vret hx hb hr hlk hQ hS (Nat.le_of_ble_eq_true rfl) (Nat.le_of_ble_eq_true rfl) dX9_parseArguments_184 ?_
      have hE_123 := fp_At.kept hE_111 (hq_118 _ (hne_11))
      have hE_125 := fp_At.kept hE_97 (hk_105 _ (by omega) (fun h => (Ne.symm (hne_10)) h.2))
      have hE_126 := fp_At.kept hE_125 (hq_118 _ (hne_21))
      have hE_128 := fp_HH.mv hhd_60 (hk_77 _ (by omega) (fun h => (Ne.symm (hne_12)) h.2)) (hk_77 _ (by omega) (fun h => (Ne.symm (hne_13)) h.2))
      have hE_129 := fp_HH.mv hE_128 (hq_91 _ (Ne.symm (hne_24))) (hq_91 _ (Ne.symm (hne_25)))
      have hE_130 := fp_HH.mv hE_129 (hk_105 _ (by omega) (fun h => (Ne.symm (hne_12)) h.2)) (hk_105 _ (by omega) (fun h => (Ne.symm (hne_13)) h.2))
      have hE_131 := fp_HH.mv hE_130 (hq_118 _ (Ne.symm (hne_24))) (hq_118 _ (Ne.symm (hne_25)))
      have hE_133 := fp_HS.mv hE_102 (hk_105 _ (by omega) (fun h => (Ne.symm (hne_8)) h.2)) (hk_105 _ (by omega) (fun h => (Ne.symm (hne_9)) h.2))
      have hE_134 := fp_HS.mv hE_133 (hq_118 _ (hne_16)) (hq_118 _ (hne_19))
      exact ⟨fl2_107, pos2_108, (va_up (va_up (va_up (fun _ => 0) 0 (vn_33)) 1 (vn_81)) 2 (vn_109)), 0, _, rfl, hpq, rfl, rfl, (fp_ca_3 rfl (by decide) hb1 hb2 hb3), hE_123, hE_126, hE_121, hE_131, hE_134⟩
  · skip
    refine lv_aload_n hx hb dX9_parseArguments_0 rfl (lv_at hl 1 rfl) ?_
    refine r_getN X h_cm rfl in_X10 1 (by decide) q1831 (Or.inl rfl) (v := .ref (nu)) rfl dX9_parseArguments_1 ?_
    refine lv_iconst (v := (iI ((0 : Nat) : Int))) hx hb dX9_parseArguments_4 rfl ?_
    refine lv_aload_n hx hb dX9_parseArguments_5 rfl (lv_at hl 0 rfl) ?_
    refine lv_iconst (v := (iI ((2 : Nat) : Int))) hx hb dX9_parseArguments_6 rfl ?_
    refine r_callV (cells1 := 0) (slots1 := 0) X hR (c_X9_parseNumber G x kw p pv l n tx pos false 2 hpos hxb (by omega)) q1847 q1849 qs38 q124 q1850 ⟨rfl, pd_X9_parseNumber⟩ ⟨Nat.le_of_ble_eq_true rfl, Nat.le_of_ble_eq_true rfl⟩ rfl rfl (Nat.le_of_ble_eq_true rfl) (Nat.le_of_ble_eq_true rfl) h_o rfl rfl (Nat.le_of_ble_eq_true rfl) hl.1 dX9_parseArguments_7 (hB.of hS hAb) ⟨h_o, h_pg⟩ hS (fun q h => by have h2 : (g_s G).heap.size ≤ q ∧ (q = x) := h; show ((g_s G).heap.size ≤ q ∧ (q = x ∨ q = c ∨ q = nu ∨ q = y)) ∨ s.heap.size ≤ q; omega) (fun v H_138 locs hp_135 hz_136 hk_137 hS => ?_)
    obtain ⟨fl2_139, pos2_140, vn_141, rfl, hpn_142, hE_143⟩ := hp_135
    have hz_144 := hS.1
    have lt_145 := hE_143.lt
    refine r_stk (st2 := [.int (iI (vn_141)), .int (iI ((0 : Nat) : Int)), .ref (nu)]) rfl ?_
    have hb1 := fp_xn_bq hpn_142 (by omega) (by omega)
    have hE_147 := fp_At.kept h_nums (hk_137 _ (by omega) (fun h => (Ne.symm (hne_11)) h.2))
    refine r_iastI X hE_147 hS (Or.inl ⟨by omega, Or.inr (Or.inr (Or.inl rfl))⟩) (j := 0) rfl (by decide) (by decide) dX9_parseArguments_10 (fun H_151 locs hE_148 hz_149 hq_150 hS => ?_)
    have hz_152 := hS.1
    have hE_153 : fp_At G H_151 nu (eI G 3 (fun j => iI ((va_up (fun _ => 0) 0 (vn_141)) j))) := hE_148.updI
    refine lv_aload_n hx hb dX9_parseArguments_11 rfl (lv_at hl 1 rfl) ?_
    have hE_155 := fp_At.kept h_cm (hk_137 _ (by omega) (fun h => (Ne.symm (hne_10)) h.2))
    have hE_156 := fp_At.kept hE_155 (hq_150 _ (hne_21))
    refine r_getN X hE_156 rfl in_X10 0 (by decide) q1828 (Or.inl rfl) (v := .ref (y)) rfl dX9_parseArguments_12 ?_
    refine lv_astore_n (lv' := [(2, .ref (y)), (0, .ref (x)), (1, .ref (c))]) hx hb dX9_parseArguments_15 rfl hl (by decide) rfl (fun ls hl => ?_)
    refine lv_iconst (v := (iI (-1))) hx hb dX9_parseArguments_16 rfl ?_
    refine lv_istore_n (lv' := [(3, .int (iI (-1))), (2, .ref (y)), (0, .ref (x)), (1, .ref (c))]) hx hb dX9_parseArguments_17 rfl hl (by decide) rfl (fun ls hl => ?_)
    have hE_158 := fp_HS.mv h_pg (hk_137 _ (by omega) (fun h => (Ne.symm (hne_8)) h.2)) (hk_137 _ (by omega) (fun h => (Ne.symm (hne_9)) h.2))
    have hE_159 := fp_HS.mv hE_158 (hq_150 _ (hne_16)) (hq_150 _ (hne_19))
    refine lv_aload_n hx hb dX9_parseArguments_18 rfl (lv_at hl 1 rfl) ?_
    have hE_161 := fp_HS.mv h_ky (hk_137 _ (by omega) (fun h => (Ne.symm (hne_12)) h.2)) (hk_137 _ (by omega) (fun h => (Ne.symm (hne_13)) h.2))
    have hE_162 := fp_HS.mv hE_161 (hq_150 _ (Ne.symm (hne_24))) (hq_150 _ (Ne.symm (hne_25)))
    refine r_callVR (cells1 := 0) (slots1 := 0) X hR (c_J7_hashCode G y qy (fp_wk 1) (fp_ww 1) (by decide +kernel) (by decide)) q1863 q1864 q1865 q98 q1866 ⟨rfl, pd_J7_hashCode⟩ ⟨Nat.le_of_ble_eq_true rfl, Nat.le_of_ble_eq_true rfl⟩ rfl rfl (Nat.le_of_ble_eq_true rfl) (Nat.le_of_ble_eq_true rfl) (fp_SO.recv X ((fp_HS.st hE_162).1) hB hAb hS) rfl (Nat.le_of_ble_eq_true rfl) hl.1 dX9_parseArguments_19 (hB.of hS hAb) hE_162 hS (fun q h => by have h2 : (g_s G).heap.size ≤ q ∧ (q = y) := h; show ((g_s G).heap.size ≤ q ∧ (q = x ∨ q = c ∨ q = nu ∨ q = y)) ∨ s.heap.size ≤ q; omega) (fun v H_166 locs hp_163 hz_164 hk_165 hS => ?_)
    obtain ⟨rfl, hpr_167, hhd_168⟩ := hp_163
    have hz_169 := hS.1
    refine r_stk (st2 := [.int (fp_hsh (fp_ww 1) (fp_wk 1))]) rfl ?_
    have hpg_170 := hpr_167 _ _ _ _ hE_159
    refine lv_lookup (off := 56) (tgt := 78) hx hb dX9_parseArguments_22 (by decide) (by decide +kernel) (by decide) ?_
    refine lv_aload_n hx hb dX9_parseArguments_78 rfl (lv_at hl 1 rfl) ?_
    refine r_ldcS X q1731 (X.2.2.2.2.2.kst hB fp_kP1).2.1 dX9_parseArguments_79 ?_
    have hk_171 := (X.2.2.2.2.2.kst (hB.of hS hAb) fp_kP1).1
    have lt_172 := hk_171.1.2
    have lt_173 := hk_171.2.2.1
    refine r_callVR (cells1 := 0) (slots1 := 0) X hR (c_J7_equals G y qy (fp_wk 1) (fp_ww 1) (fp_ks G "FortPlanner$Parser" 11) (fp_kv G "FortPlanner$Parser" 11) 5 (fun i => [98, 111, 97, 114, 100].getD i 0)) q1808 q900 q2532 q98 q901 ⟨rfl, pd_J7_equals⟩ ⟨Nat.le_of_ble_eq_true rfl, Nat.le_of_ble_eq_true rfl⟩ rfl rfl (Nat.le_of_ble_eq_true rfl) (Nat.le_of_ble_eq_true rfl) (fp_SO.recv X ((fp_HS.st (hhd_168).1).1) hB hAb hS) rfl (Nat.le_of_ble_eq_true rfl) hl.1 dX9_parseArguments_81 (hB.of hS hAb) ⟨(fp_HS.st (hhd_168).1), hk_171⟩ hS (fun _ h => h.elim) (fun v H_177 locs hp_174 hz_175 hk_176 hS => ?_)
    obtain ⟨rfl, rfl⟩ := hp_174
    refine r_stk (st2 := [.int (iI (bI (fp_teq (fp_wk 1) (fp_ww 1) 5 (fun i => [98, 111, 97, 114, 100].getD i 0))))]) rfl ?_
    refine r_set (y := .int (iI (bI (true)))) (congrArg (fun q : Bool => Value.int (iI (bI q))) (by decide +kernel)) ?_
    refine r_ifeqB (tgt := 117) hx hb dX9_parseArguments_84 (by decide) (fun c84 => ?_) (fun c84 => ?_)
    · exact absurd c84 (by decide)
    · skip
      refine lv_iconst (v := (iI ((1 : Nat) : Int))) hx hb dX9_parseArguments_87 rfl ?_
      refine lv_istore_n (lv' := [(3, .int (iI ((1 : Nat) : Int))), (2, .ref (y)), (0, .ref (x)), (1, .ref (c))]) hx hb dX9_parseArguments_88 rfl hl (by decide) rfl (fun ls hl => ?_)
      refine lv_goto (tgt := 117) hx hb dX9_parseArguments_89 (by decide) ?_
      refine lv_iload_n hx hb dX9_parseArguments_117 rfl (lv_at hl 0 rfl) ?_
      refine lv_tableIn (off := 30) (tgt := 148) hx hb dX9_parseArguments_118 (by decide) (by decide) rfl (by decide) ?_
      refine lv_aload_n hx hb dX9_parseArguments_148 rfl (lv_at hl 3 rfl) ?_
      have hE_179 := fp_At.kept hE_156 (hk_165 _ (by omega) (fun h => (hne_22) h.2))
      refine r_getN X hE_179 rfl in_X10 1 (by decide) q1831 (Or.inl rfl) (v := .ref (nu)) rfl dX9_parseArguments_149 ?_
      refine lv_iconst (v := (iI ((1 : Nat) : Int))) hx hb dX9_parseArguments_152 rfl ?_
      refine lv_aload_n hx hb dX9_parseArguments_153 rfl (lv_at hl 2 rfl) ?_
      refine lv_iconst (v := (iI ((1 : Nat) : Int))) hx hb dX9_parseArguments_154 rfl ?_
      have hE_181 := fp_At.kept hE_143 (hq_150 _ (hne_11))
      have hE_182 := fp_At.kept hE_181 (hk_165 _ (by omega) (fun h => (hne_12) h.2))
      refine r_callV (cells1 := 0) (slots1 := 0) X hR (c_X9_parseNumber G x kw p pv l n tx pos2_140 fl2_139 1 (by omega) hxb (by omega)) q1847 q1849 qs38 q124 q1850 ⟨rfl, pd_X9_parseNumber⟩ ⟨Nat.le_of_ble_eq_true rfl, Nat.le_of_ble_eq_true rfl⟩ rfl rfl (Nat.le_of_ble_eq_true rfl) (Nat.le_of_ble_eq_true rfl) hE_182 rfl rfl (Nat.le_of_ble_eq_true rfl) hl.1 dX9_parseArguments_155 (hB.of hS hAb) ⟨hE_182, hpg_170⟩ hS (fun q h => by have h2 : (g_s G).heap.size ≤ q ∧ (q = x) := h; show ((g_s G).heap.size ≤ q ∧ (q = x ∨ q = c ∨ q = nu ∨ q = y)) ∨ s.heap.size ≤ q; omega) (fun v H_186 locs hp_183 hz_184 hk_185 hS => ?_)
      obtain ⟨fl2_187, pos2_188, vn_189, rfl, hpn_190, hE_191⟩ := hp_183
      have hz_192 := hS.1
      have lt_193 := hE_191.lt
      refine r_stk (st2 := [.int (iI (vn_189)), .int (iI ((1 : Nat) : Int)), .ref (nu)]) rfl ?_
      have hb2 := fp_xn_bq hpn_190 (by omega) (by omega)
      have hE_195 := fp_At.kept hE_153 (hk_165 _ (by omega) (fun h => (hne_24) h.2))
      have hE_196 := fp_At.kept hE_195 (hk_185 _ (by omega) (fun h => (Ne.symm (hne_11)) h.2))
      refine r_iastI X hE_196 hS (Or.inl ⟨by omega, Or.inr (Or.inr (Or.inl rfl))⟩) (j := 1) rfl (by decide) (by decide) dX9_parseArguments_158 (fun H_200 locs hE_197 hz_198 hq_199 hS => ?_)
      have hz_201 := hS.1
      have hE_202 : fp_At G H_200 nu (eI G 3 (fun j => iI ((va_up (va_up (fun _ => 0) 0 (vn_141)) 1 (vn_189)) j))) := hE_197.updI
      refine lv_aload_n hx hb dX9_parseArguments_159 rfl (lv_at hl 3 rfl) ?_
      have hE_204 := fp_At.kept hE_179 (hk_185 _ (by omega) (fun h => (Ne.symm (hne_10)) h.2))
      have hE_205 := fp_At.kept hE_204 (hq_199 _ (hne_21))
      refine r_getN X hE_205 rfl in_X10 1 (by decide) q1831 (Or.inl rfl) (v := .ref (nu)) rfl dX9_parseArguments_160 ?_
      refine lv_iconst (v := (iI ((2 : Nat) : Int))) hx hb dX9_parseArguments_163 rfl ?_
      refine lv_aload_n hx hb dX9_parseArguments_164 rfl (lv_at hl 2 rfl) ?_
      refine lv_iconst (v := (iI ((1 : Nat) : Int))) hx hb dX9_parseArguments_165 rfl ?_
      have hE_207 := fp_At.kept hE_191 (hq_199 _ (hne_11))
      have hE_209 := fp_HS.mv hpg_170 (hk_185 _ (by omega) (fun h => (Ne.symm (hne_8)) h.2)) (hk_185 _ (by omega) (fun h => (Ne.symm (hne_9)) h.2))
      have hE_210 := fp_HS.mv hE_209 (hq_199 _ (hne_16)) (hq_199 _ (hne_19))
      refine r_callV (cells1 := 0) (slots1 := 0) X hR (c_X9_parseNumber G x kw p pv l n tx pos2_188 fl2_187 1 (by omega) hxb (by omega)) q1847 q1849 qs38 q124 q1850 ⟨rfl, pd_X9_parseNumber⟩ ⟨Nat.le_of_ble_eq_true rfl, Nat.le_of_ble_eq_true rfl⟩ rfl rfl (Nat.le_of_ble_eq_true rfl) (Nat.le_of_ble_eq_true rfl) hE_207 rfl rfl (Nat.le_of_ble_eq_true rfl) hl.1 dX9_parseArguments_166 (hB.of hS hAb) ⟨hE_207, hE_210⟩ hS (fun q h => by have h2 : (g_s G).heap.size ≤ q ∧ (q = x) := h; show ((g_s G).heap.size ≤ q ∧ (q = x ∨ q = c ∨ q = nu ∨ q = y)) ∨ s.heap.size ≤ q; omega) (fun v H_214 locs hp_211 hz_212 hk_213 hS => ?_)
      obtain ⟨fl2_215, pos2_216, vn_217, rfl, hpn_218, hE_219⟩ := hp_211
      have hz_220 := hS.1
      have lt_221 := hE_219.lt
      refine r_stk (st2 := [.int (iI (vn_217)), .int (iI ((2 : Nat) : Int)), .ref (nu)]) rfl ?_
      have hb3 := fp_xn_bq hpn_218 (by omega) (by omega)
      have hE_223 := fp_At.kept hE_202 (hk_213 _ (by omega) (fun h => (Ne.symm (hne_11)) h.2))
      refine r_iastI X hE_223 hS (Or.inl ⟨by omega, Or.inr (Or.inr (Or.inl rfl))⟩) (j := 2) rfl (by decide) (by decide) dX9_parseArguments_169 (fun H_227 locs hE_224 hz_225 hq_226 hS => ?_)
      have hz_228 := hS.1
      have hE_229 : fp_At G H_227 nu (eI G 3 (fun j => iI ((va_up (va_up (va_up (fun _ => 0) 0 (vn_141)) 1 (vn_189)) 2 (vn_217)) j))) := hE_224.updI
      refine lv_goto (tgt := 184) hx hb dX9_parseArguments_170 (by decide) ?_
      have hpq := fp_xa_3 (w := 1) (by decide) hpn_142 hpn_190 hpn_218
      refine r_vret hx hb hr hlk hQ hS (Nat.le_of_ble_eq_true rfl) (Nat.le_of_ble_eq_true rfl) dX9_parseArguments_184 ?_
      have hE_231 := fp_At.kept hE_219 (hq_226 _ (hne_11))
      have hE_233 := fp_At.kept hE_205 (hk_213 _ (by omega) (fun h => (Ne.symm (hne_10)) h.2))
      have hE_234 := fp_At.kept hE_233 (hq_226 _ (hne_21))
      have hE_236 := fp_HH.mv hhd_168 (hk_185 _ (by omega) (fun h => (Ne.symm (hne_12)) h.2)) (hk_185 _ (by omega) (fun h => (Ne.symm (hne_13)) h.2))
      have hE_237 := fp_HH.mv hE_236 (hq_199 _ (Ne.symm (hne_24))) (hq_199 _ (Ne.symm (hne_25)))
      have hE_238 := fp_HH.mv hE_237 (hk_213 _ (by omega) (fun h => (Ne.symm (hne_12)) h.2)) (hk_213 _ (by omega) (fun h => (Ne.symm (hne_13)) h.2))
      have hE_239 := fp_HH.mv hE_238 (hq_226 _ (Ne.symm (hne_24))) (hq_226 _ (Ne.symm (hne_25)))
      have hE_241 := fp_HS.mv hE_210 (hk_213 _ (by omega) (fun h => (Ne.symm (hne_8)) h.2)) (hk_213 _ (by omega) (fun h => (Ne.symm (hne_9)) h.2))
      have hE_242 := fp_HS.mv hE_241 (hq_226 _ (hne_16)) (hq_226 _ (hne_19))
      exact ⟨fl2_215, pos2_216, (va_up (va_up (va_up (fun _ => 0) 0 (vn_141)) 1 (vn_189)) 2 (vn_217)), 0, _, rfl, hpq, rfl, rfl, (fp_ca_3 rfl (by decide) hb1 hb2 hb3), hE_231, hE_234, hE_229, hE_239, hE_242⟩
  · skip
    refine lv_aload_n hx hb dX9_parseArguments_0 rfl (lv_at hl 1 rfl) ?_
    refine r_getN X h_cm rfl in_X10 1 (by decide) q1831 (Or.inl rfl) (v := .ref (nu)) rfl dX9_parseArguments_1 ?_
    refine lv_iconst (v := (iI ((0 : Nat) : Int))) hx hb dX9_parseArguments_4 rfl ?_
    refine lv_aload_n hx hb dX9_parseArguments_5 rfl (lv_at hl 0 rfl) ?_
    refine lv_iconst (v := (iI ((2 : Nat) : Int))) hx hb dX9_parseArguments_6 rfl ?_
    refine r_callV (cells1 := 0) (slots1 := 0) X hR (c_X9_parseNumber G x kw p pv l n tx pos false 2 hpos hxb (by omega)) q1847 q1849 qs38 q124 q1850 ⟨rfl, pd_X9_parseNumber⟩ ⟨Nat.le_of_ble_eq_true rfl, Nat.le_of_ble_eq_true rfl⟩ rfl rfl (Nat.le_of_ble_eq_true rfl) (Nat.le_of_ble_eq_true rfl) h_o rfl rfl (Nat.le_of_ble_eq_true rfl) hl.1 dX9_parseArguments_7 (hB.of hS hAb) ⟨h_o, h_pg⟩ hS (fun q h => by have h2 : (g_s G).heap.size ≤ q ∧ (q = x) := h; show ((g_s G).heap.size ≤ q ∧ (q = x ∨ q = c ∨ q = nu ∨ q = y)) ∨ s.heap.size ≤ q; omega) (fun v H_246 locs hp_243 hz_244 hk_245 hS => ?_)
    obtain ⟨fl2_247, pos2_248, vn_249, rfl, hpn_250, hE_251⟩ := hp_243
    have hz_252 := hS.1
    have lt_253 := hE_251.lt
    refine r_stk (st2 := [.int (iI (vn_249)), .int (iI ((0 : Nat) : Int)), .ref (nu)]) rfl ?_
    have hb1 := fp_xn_bq hpn_250 (by omega) (by omega)
    have hE_255 := fp_At.kept h_nums (hk_245 _ (by omega) (fun h => (Ne.symm (hne_11)) h.2))
    refine r_iastI X hE_255 hS (Or.inl ⟨by omega, Or.inr (Or.inr (Or.inl rfl))⟩) (j := 0) rfl (by decide) (by decide) dX9_parseArguments_10 (fun H_259 locs hE_256 hz_257 hq_258 hS => ?_)
    have hz_260 := hS.1
    have hE_261 : fp_At G H_259 nu (eI G 3 (fun j => iI ((va_up (fun _ => 0) 0 (vn_249)) j))) := hE_256.updI
    refine lv_aload_n hx hb dX9_parseArguments_11 rfl (lv_at hl 1 rfl) ?_
    have hE_263 := fp_At.kept h_cm (hk_245 _ (by omega) (fun h => (Ne.symm (hne_10)) h.2))
    have hE_264 := fp_At.kept hE_263 (hq_258 _ (hne_21))
    refine r_getN X hE_264 rfl in_X10 0 (by decide) q1828 (Or.inl rfl) (v := .ref (y)) rfl dX9_parseArguments_12 ?_
    refine lv_astore_n (lv' := [(2, .ref (y)), (0, .ref (x)), (1, .ref (c))]) hx hb dX9_parseArguments_15 rfl hl (by decide) rfl (fun ls hl => ?_)
    refine lv_iconst (v := (iI (-1))) hx hb dX9_parseArguments_16 rfl ?_
    refine lv_istore_n (lv' := [(3, .int (iI (-1))), (2, .ref (y)), (0, .ref (x)), (1, .ref (c))]) hx hb dX9_parseArguments_17 rfl hl (by decide) rfl (fun ls hl => ?_)
    have hE_266 := fp_HS.mv h_pg (hk_245 _ (by omega) (fun h => (Ne.symm (hne_8)) h.2)) (hk_245 _ (by omega) (fun h => (Ne.symm (hne_9)) h.2))
    have hE_267 := fp_HS.mv hE_266 (hq_258 _ (hne_16)) (hq_258 _ (hne_19))
    refine lv_aload_n hx hb dX9_parseArguments_18 rfl (lv_at hl 1 rfl) ?_
    have hE_269 := fp_HS.mv h_ky (hk_245 _ (by omega) (fun h => (Ne.symm (hne_12)) h.2)) (hk_245 _ (by omega) (fun h => (Ne.symm (hne_13)) h.2))
    have hE_270 := fp_HS.mv hE_269 (hq_258 _ (Ne.symm (hne_24))) (hq_258 _ (Ne.symm (hne_25)))
    refine r_callVR (cells1 := 0) (slots1 := 0) X hR (c_J7_hashCode G y qy (fp_wk 2) (fp_ww 2) (by decide +kernel) (by decide)) q1863 q1864 q1865 q98 q1866 ⟨rfl, pd_J7_hashCode⟩ ⟨Nat.le_of_ble_eq_true rfl, Nat.le_of_ble_eq_true rfl⟩ rfl rfl (Nat.le_of_ble_eq_true rfl) (Nat.le_of_ble_eq_true rfl) (fp_SO.recv X ((fp_HS.st hE_270).1) hB hAb hS) rfl (Nat.le_of_ble_eq_true rfl) hl.1 dX9_parseArguments_19 (hB.of hS hAb) hE_270 hS (fun q h => by have h2 : (g_s G).heap.size ≤ q ∧ (q = y) := h; show ((g_s G).heap.size ≤ q ∧ (q = x ∨ q = c ∨ q = nu ∨ q = y)) ∨ s.heap.size ≤ q; omega) (fun v H_274 locs hp_271 hz_272 hk_273 hS => ?_)
    obtain ⟨rfl, hpr_275, hhd_276⟩ := hp_271
    have hz_277 := hS.1
    refine r_stk (st2 := [.int (fp_hsh (fp_ww 2) (fp_wk 2))]) rfl ?_
    have hpg_278 := hpr_275 _ _ _ _ hE_267
    refine lv_lookup (off := 70) (tgt := 92) hx hb dX9_parseArguments_22 (by decide) (by decide +kernel) (by decide) ?_
    refine lv_aload_n hx hb dX9_parseArguments_92 rfl (lv_at hl 1 rfl) ?_
    refine r_ldcS X q1732 (X.2.2.2.2.2.kst hB fp_kP2).2.1 dX9_parseArguments_93 ?_
    have hk_279 := (X.2.2.2.2.2.kst (hB.of hS hAb) fp_kP2).1
    have lt_280 := hk_279.1.2
    have lt_281 := hk_279.2.2.1
    refine r_callVR (cells1 := 0) (slots1 := 0) X hR (c_J7_equals G y qy (fp_wk 2) (fp_ww 2) (fp_ks G "FortPlanner$Parser" 13) (fp_kv G "FortPlanner$Parser" 13) 3 (fun i => [98, 97, 103].getD i 0)) q1808 q900 q2532 q98 q901 ⟨rfl, pd_J7_equals⟩ ⟨Nat.le_of_ble_eq_true rfl, Nat.le_of_ble_eq_true rfl⟩ rfl rfl (Nat.le_of_ble_eq_true rfl) (Nat.le_of_ble_eq_true rfl) (fp_SO.recv X ((fp_HS.st (hhd_276).1).1) hB hAb hS) rfl (Nat.le_of_ble_eq_true rfl) hl.1 dX9_parseArguments_95 (hB.of hS hAb) ⟨(fp_HS.st (hhd_276).1), hk_279⟩ hS (fun _ h => h.elim) (fun v H_285 locs hp_282 hz_283 hk_284 hS => ?_)
    obtain ⟨rfl, rfl⟩ := hp_282
    refine r_stk (st2 := [.int (iI (bI (fp_teq (fp_wk 2) (fp_ww 2) 3 (fun i => [98, 97, 103].getD i 0))))]) rfl ?_
    refine r_set (y := .int (iI (bI (true)))) (congrArg (fun q : Bool => Value.int (iI (bI q))) (by decide +kernel)) ?_
    refine r_ifeqB (tgt := 117) hx hb dX9_parseArguments_98 (by decide) (fun c98 => ?_) (fun c98 => ?_)
    · exact absurd c98 (by decide)
    · skip
      refine lv_iconst (v := (iI ((2 : Nat) : Int))) hx hb dX9_parseArguments_101 rfl ?_
      refine lv_istore_n (lv' := [(3, .int (iI ((2 : Nat) : Int))), (2, .ref (y)), (0, .ref (x)), (1, .ref (c))]) hx hb dX9_parseArguments_102 rfl hl (by decide) rfl (fun ls hl => ?_)
      refine lv_goto (tgt := 117) hx hb dX9_parseArguments_103 (by decide) ?_
      refine lv_iload_n hx hb dX9_parseArguments_117 rfl (lv_at hl 0 rfl) ?_
      refine lv_tableIn (off := 30) (tgt := 148) hx hb dX9_parseArguments_118 (by decide) (by decide) rfl (by decide) ?_
      refine lv_aload_n hx hb dX9_parseArguments_148 rfl (lv_at hl 3 rfl) ?_
      have hE_287 := fp_At.kept hE_264 (hk_273 _ (by omega) (fun h => (hne_22) h.2))
      refine r_getN X hE_287 rfl in_X10 1 (by decide) q1831 (Or.inl rfl) (v := .ref (nu)) rfl dX9_parseArguments_149 ?_
      refine lv_iconst (v := (iI ((1 : Nat) : Int))) hx hb dX9_parseArguments_152 rfl ?_
      refine lv_aload_n hx hb dX9_parseArguments_153 rfl (lv_at hl 2 rfl) ?_
      refine lv_iconst (v := (iI ((1 : Nat) : Int))) hx hb dX9_parseArguments_154 rfl ?_
      have hE_289 := fp_At.kept hE_251 (hq_258 _ (hne_11))
      have hE_290 := fp_At.kept hE_289 (hk_273 _ (by omega) (fun h => (hne_12) h.2))
      refine r_callV (cells1 := 0) (slots1 := 0) X hR (c_X9_parseNumber G x kw p pv l n tx pos2_248 fl2_247 1 (by omega) hxb (by omega)) q1847 q1849 qs38 q124 q1850 ⟨rfl, pd_X9_parseNumber⟩ ⟨Nat.le_of_ble_eq_true rfl, Nat.le_of_ble_eq_true rfl⟩ rfl rfl (Nat.le_of_ble_eq_true rfl) (Nat.le_of_ble_eq_true rfl) hE_290 rfl rfl (Nat.le_of_ble_eq_true rfl) hl.1 dX9_parseArguments_155 (hB.of hS hAb) ⟨hE_290, hpg_278⟩ hS (fun q h => by have h2 : (g_s G).heap.size ≤ q ∧ (q = x) := h; show ((g_s G).heap.size ≤ q ∧ (q = x ∨ q = c ∨ q = nu ∨ q = y)) ∨ s.heap.size ≤ q; omega) (fun v H_294 locs hp_291 hz_292 hk_293 hS => ?_)
      obtain ⟨fl2_295, pos2_296, vn_297, rfl, hpn_298, hE_299⟩ := hp_291
      have hz_300 := hS.1
      have lt_301 := hE_299.lt
      refine r_stk (st2 := [.int (iI (vn_297)), .int (iI ((1 : Nat) : Int)), .ref (nu)]) rfl ?_
      have hb2 := fp_xn_bq hpn_298 (by omega) (by omega)
      have hE_303 := fp_At.kept hE_261 (hk_273 _ (by omega) (fun h => (hne_24) h.2))
      have hE_304 := fp_At.kept hE_303 (hk_293 _ (by omega) (fun h => (Ne.symm (hne_11)) h.2))
      refine r_iastI X hE_304 hS (Or.inl ⟨by omega, Or.inr (Or.inr (Or.inl rfl))⟩) (j := 1) rfl (by decide) (by decide) dX9_parseArguments_158 (fun H_308 locs hE_305 hz_306 hq_307 hS => ?_)
      have hz_309 := hS.1
      have hE_310 : fp_At G H_308 nu (eI G 3 (fun j => iI ((va_up (va_up (fun _ => 0) 0 (vn_249)) 1 (vn_297)) j))) := hE_305.updI
      refine lv_aload_n hx hb dX9_parseArguments_159 rfl (lv_at hl 3 rfl) ?_
      have hE_312 := fp_At.kept hE_287 (hk_293 _ (by omega) (fun h => (Ne.symm (hne_10)) h.2))
      have hE_313 := fp_At.kept hE_312 (hq_307 _ (hne_21))
      refine r_getN X hE_313 rfl in_X10 1 (by decide) q1831 (Or.inl rfl) (v := .ref (nu)) rfl dX9_parseArguments_160 ?_
      refine lv_iconst (v := (iI ((2 : Nat) : Int))) hx hb dX9_parseArguments_163 rfl ?_
      refine lv_aload_n hx hb dX9_parseArguments_164 rfl (lv_at hl 2 rfl) ?_
      refine lv_iconst (v := (iI ((1 : Nat) : Int))) hx hb dX9_parseArguments_165 rfl ?_
      have hE_315 := fp_At.kept hE_299 (hq_307 _ (hne_11))
      have hE_317 := fp_HS.mv hpg_278 (hk_293 _ (by omega) (fun h => (Ne.symm (hne_8)) h.2)) (hk_293 _ (by omega) (fun h => (Ne.symm (hne_9)) h.2))
      have hE_318 := fp_HS.mv hE_317 (hq_307 _ (hne_16)) (hq_307 _ (hne_19))
      refine r_callV (cells1 := 0) (slots1 := 0) X hR (c_X9_parseNumber G x kw p pv l n tx pos2_296 fl2_295 1 (by omega) hxb (by omega)) q1847 q1849 qs38 q124 q1850 ⟨rfl, pd_X9_parseNumber⟩ ⟨Nat.le_of_ble_eq_true rfl, Nat.le_of_ble_eq_true rfl⟩ rfl rfl (Nat.le_of_ble_eq_true rfl) (Nat.le_of_ble_eq_true rfl) hE_315 rfl rfl (Nat.le_of_ble_eq_true rfl) hl.1 dX9_parseArguments_166 (hB.of hS hAb) ⟨hE_315, hE_318⟩ hS (fun q h => by have h2 : (g_s G).heap.size ≤ q ∧ (q = x) := h; show ((g_s G).heap.size ≤ q ∧ (q = x ∨ q = c ∨ q = nu ∨ q = y)) ∨ s.heap.size ≤ q; omega) (fun v H_322 locs hp_319 hz_320 hk_321 hS => ?_)
      obtain ⟨fl2_323, pos2_324, vn_325, rfl, hpn_326, hE_327⟩ := hp_319
      have hz_328 := hS.1
      have lt_329 := hE_327.lt
      refine r_stk (st2 := [.int (iI (vn_325)), .int (iI ((2 : Nat) : Int)), .ref (nu)]) rfl ?_
      have hb3 := fp_xn_bq hpn_326 (by omega) (by omega)
      have hE_331 := fp_At.kept hE_310 (hk_321 _ (by omega) (fun h => (Ne.symm (hne_11)) h.2))
      refine r_iastI X hE_331 hS (Or.inl ⟨by omega, Or.inr (Or.inr (Or.inl rfl))⟩) (j := 2) rfl (by decide) (by decide) dX9_parseArguments_169 (fun H_335 locs hE_332 hz_333 hq_334 hS => ?_)
      have hz_336 := hS.1
      have hE_337 : fp_At G H_335 nu (eI G 3 (fun j => iI ((va_up (va_up (va_up (fun _ => 0) 0 (vn_249)) 1 (vn_297)) 2 (vn_325)) j))) := hE_332.updI
      refine lv_goto (tgt := 184) hx hb dX9_parseArguments_170 (by decide) ?_
      have hpq := fp_xa_3 (w := 2) (by decide) hpn_250 hpn_298 hpn_326
      refine r_vret hx hb hr hlk hQ hS (Nat.le_of_ble_eq_true rfl) (Nat.le_of_ble_eq_true rfl) dX9_parseArguments_184 ?_
      have hE_339 := fp_At.kept hE_327 (hq_334 _ (hne_11))
      have hE_341 := fp_At.kept hE_313 (hk_321 _ (by omega) (fun h => (Ne.symm (hne_10)) h.2))
      have hE_342 := fp_At.kept hE_341 (hq_334 _ (hne_21))
      have hE_344 := fp_HH.mv hhd_276 (hk_293 _ (by omega) (fun h => (Ne.symm (hne_12)) h.2)) (hk_293 _ (by omega) (fun h => (Ne.symm (hne_13)) h.2))
      have hE_345 := fp_HH.mv hE_344 (hq_307 _ (Ne.symm (hne_24))) (hq_307 _ (Ne.symm (hne_25)))
      have hE_346 := fp_HH.mv hE_345 (hk_321 _ (by omega) (fun h => (Ne.symm (hne_12)) h.2)) (hk_321 _ (by omega) (fun h => (Ne.symm (hne_13)) h.2))
      have hE_347 := fp_HH.mv hE_346 (hq_334 _ (Ne.symm (hne_24))) (hq_334 _ (Ne.symm (hne_25)))
      have hE_349 := fp_HS.mv hE_318 (hk_321 _ (by omega) (fun h => (Ne.symm (hne_8)) h.2)) (hk_321 _ (by omega) (fun h => (Ne.symm (hne_9)) h.2))
      have hE_350 := fp_HS.mv hE_349 (hq_334 _ (hne_16)) (hq_334 _ (hne_19))
      exact ⟨fl2_323, pos2_324, (va_up (va_up (va_up (fun _ => 0) 0 (vn_249)) 1 (vn_297)) 2 (vn_325)), 0, _, rfl, hpq, rfl, rfl, (fp_ca_3 rfl (by decide) hb1 hb2 hb3), hE_339, hE_342, hE_337, hE_347, hE_350⟩
  · skip
    refine lv_aload_n hx hb dX9_parseArguments_0 rfl (lv_at hl 1 rfl) ?_
    refine r_getN X h_cm rfl in_X10 1 (by decide) q1831 (Or.inl rfl) (v := .ref (nu)) rfl dX9_parseArguments_1 ?_
    refine lv_iconst (v := (iI ((0 : Nat) : Int))) hx hb dX9_parseArguments_4 rfl ?_
    refine lv_aload_n hx hb dX9_parseArguments_5 rfl (lv_at hl 0 rfl) ?_
    refine lv_iconst (v := (iI ((2 : Nat) : Int))) hx hb dX9_parseArguments_6 rfl ?_
    refine r_callV (cells1 := 0) (slots1 := 0) X hR (c_X9_parseNumber G x kw p pv l n tx pos false 2 hpos hxb (by omega)) q1847 q1849 qs38 q124 q1850 ⟨rfl, pd_X9_parseNumber⟩ ⟨Nat.le_of_ble_eq_true rfl, Nat.le_of_ble_eq_true rfl⟩ rfl rfl (Nat.le_of_ble_eq_true rfl) (Nat.le_of_ble_eq_true rfl) h_o rfl rfl (Nat.le_of_ble_eq_true rfl) hl.1 dX9_parseArguments_7 (hB.of hS hAb) ⟨h_o, h_pg⟩ hS (fun q h => by have h2 : (g_s G).heap.size ≤ q ∧ (q = x) := h; show ((g_s G).heap.size ≤ q ∧ (q = x ∨ q = c ∨ q = nu ∨ q = y)) ∨ s.heap.size ≤ q; omega) (fun v H_354 locs hp_351 hz_352 hk_353 hS => ?_)
    obtain ⟨fl2_355, pos2_356, vn_357, rfl, hpn_358, hE_359⟩ := hp_351
    have hz_360 := hS.1
    have lt_361 := hE_359.lt
    refine r_stk (st2 := [.int (iI (vn_357)), .int (iI ((0 : Nat) : Int)), .ref (nu)]) rfl ?_
    have hb1 := fp_xn_bq hpn_358 (by omega) (by omega)
    have hE_363 := fp_At.kept h_nums (hk_353 _ (by omega) (fun h => (Ne.symm (hne_11)) h.2))
    refine r_iastI X hE_363 hS (Or.inl ⟨by omega, Or.inr (Or.inr (Or.inl rfl))⟩) (j := 0) rfl (by decide) (by decide) dX9_parseArguments_10 (fun H_367 locs hE_364 hz_365 hq_366 hS => ?_)
    have hz_368 := hS.1
    have hE_369 : fp_At G H_367 nu (eI G 3 (fun j => iI ((va_up (fun _ => 0) 0 (vn_357)) j))) := hE_364.updI
    refine lv_aload_n hx hb dX9_parseArguments_11 rfl (lv_at hl 1 rfl) ?_
    have hE_371 := fp_At.kept h_cm (hk_353 _ (by omega) (fun h => (Ne.symm (hne_10)) h.2))
    have hE_372 := fp_At.kept hE_371 (hq_366 _ (hne_21))
    refine r_getN X hE_372 rfl in_X10 0 (by decide) q1828 (Or.inl rfl) (v := .ref (y)) rfl dX9_parseArguments_12 ?_
    refine lv_astore_n (lv' := [(2, .ref (y)), (0, .ref (x)), (1, .ref (c))]) hx hb dX9_parseArguments_15 rfl hl (by decide) rfl (fun ls hl => ?_)
    refine lv_iconst (v := (iI (-1))) hx hb dX9_parseArguments_16 rfl ?_
    refine lv_istore_n (lv' := [(3, .int (iI (-1))), (2, .ref (y)), (0, .ref (x)), (1, .ref (c))]) hx hb dX9_parseArguments_17 rfl hl (by decide) rfl (fun ls hl => ?_)
    have hE_374 := fp_HS.mv h_pg (hk_353 _ (by omega) (fun h => (Ne.symm (hne_8)) h.2)) (hk_353 _ (by omega) (fun h => (Ne.symm (hne_9)) h.2))
    have hE_375 := fp_HS.mv hE_374 (hq_366 _ (hne_16)) (hq_366 _ (hne_19))
    refine lv_aload_n hx hb dX9_parseArguments_18 rfl (lv_at hl 1 rfl) ?_
    have hE_377 := fp_HS.mv h_ky (hk_353 _ (by omega) (fun h => (Ne.symm (hne_12)) h.2)) (hk_353 _ (by omega) (fun h => (Ne.symm (hne_13)) h.2))
    have hE_378 := fp_HS.mv hE_377 (hq_366 _ (Ne.symm (hne_24))) (hq_366 _ (Ne.symm (hne_25)))
    refine r_callVR (cells1 := 0) (slots1 := 0) X hR (c_J7_hashCode G y qy (fp_wk 3) (fp_ww 3) (by decide +kernel) (by decide)) q1863 q1864 q1865 q98 q1866 ⟨rfl, pd_J7_hashCode⟩ ⟨Nat.le_of_ble_eq_true rfl, Nat.le_of_ble_eq_true rfl⟩ rfl rfl (Nat.le_of_ble_eq_true rfl) (Nat.le_of_ble_eq_true rfl) (fp_SO.recv X ((fp_HS.st hE_378).1) hB hAb hS) rfl (Nat.le_of_ble_eq_true rfl) hl.1 dX9_parseArguments_19 (hB.of hS hAb) hE_378 hS (fun q h => by have h2 : (g_s G).heap.size ≤ q ∧ (q = y) := h; show ((g_s G).heap.size ≤ q ∧ (q = x ∨ q = c ∨ q = nu ∨ q = y)) ∨ s.heap.size ≤ q; omega) (fun v H_382 locs hp_379 hz_380 hk_381 hS => ?_)
    obtain ⟨rfl, hpr_383, hhd_384⟩ := hp_379
    have hz_385 := hS.1
    refine r_stk (st2 := [.int (fp_hsh (fp_ww 3) (fp_wk 3))]) rfl ?_
    have hpg_386 := hpr_383 _ _ _ _ hE_375
    refine lv_lookup (off := 95) (tgt := 117) hx hb dX9_parseArguments_22 (by decide) (by decide +kernel) (by decide) ?_
    refine lv_iload_n hx hb dX9_parseArguments_117 rfl (lv_at hl 0 rfl) ?_
    refine lv_tableOut (tgt := 184) hx hb dX9_parseArguments_118 (by decide) (by decide) ?_
    have hpq := fp_xa_0 (w := 3) (by decide) (by decide) hpn_358
    refine r_vret hx hb hr hlk hQ hS (Nat.le_of_ble_eq_true rfl) (Nat.le_of_ble_eq_true rfl) dX9_parseArguments_184 ?_
    have hE_388 := fp_At.kept hE_359 (hq_366 _ (hne_11))
    have hE_389 := fp_At.kept hE_388 (hk_381 _ (by omega) (fun h => (hne_12) h.2))
    have hE_391 := fp_At.kept hE_372 (hk_381 _ (by omega) (fun h => (hne_22) h.2))
    have hE_393 := fp_At.kept hE_369 (hk_381 _ (by omega) (fun h => (hne_24) h.2))
    exact ⟨fl2_355, pos2_356, (va_up (fun _ => 0) 0 (vn_357)), 0, _, rfl, hpq, rfl, rfl, (fp_ca_0 rfl (by decide) (by decide) hb1), hE_389, hE_391, hE_393, hhd_384, hpg_386⟩
  · skip
    refine lv_aload_n hx hb dX9_parseArguments_0 rfl (lv_at hl 1 rfl) ?_
    refine r_getN X h_cm rfl in_X10 1 (by decide) q1831 (Or.inl rfl) (v := .ref (nu)) rfl dX9_parseArguments_1 ?_
    refine lv_iconst (v := (iI ((0 : Nat) : Int))) hx hb dX9_parseArguments_4 rfl ?_
    refine lv_aload_n hx hb dX9_parseArguments_5 rfl (lv_at hl 0 rfl) ?_
    refine lv_iconst (v := (iI ((2 : Nat) : Int))) hx hb dX9_parseArguments_6 rfl ?_
    refine r_callV (cells1 := 0) (slots1 := 0) X hR (c_X9_parseNumber G x kw p pv l n tx pos false 2 hpos hxb (by omega)) q1847 q1849 qs38 q124 q1850 ⟨rfl, pd_X9_parseNumber⟩ ⟨Nat.le_of_ble_eq_true rfl, Nat.le_of_ble_eq_true rfl⟩ rfl rfl (Nat.le_of_ble_eq_true rfl) (Nat.le_of_ble_eq_true rfl) h_o rfl rfl (Nat.le_of_ble_eq_true rfl) hl.1 dX9_parseArguments_7 (hB.of hS hAb) ⟨h_o, h_pg⟩ hS (fun q h => by have h2 : (g_s G).heap.size ≤ q ∧ (q = x) := h; show ((g_s G).heap.size ≤ q ∧ (q = x ∨ q = c ∨ q = nu ∨ q = y)) ∨ s.heap.size ≤ q; omega) (fun v H_397 locs hp_394 hz_395 hk_396 hS => ?_)
    obtain ⟨fl2_398, pos2_399, vn_400, rfl, hpn_401, hE_402⟩ := hp_394
    have hz_403 := hS.1
    have lt_404 := hE_402.lt
    refine r_stk (st2 := [.int (iI (vn_400)), .int (iI ((0 : Nat) : Int)), .ref (nu)]) rfl ?_
    have hb1 := fp_xn_bq hpn_401 (by omega) (by omega)
    have hE_406 := fp_At.kept h_nums (hk_396 _ (by omega) (fun h => (Ne.symm (hne_11)) h.2))
    refine r_iastI X hE_406 hS (Or.inl ⟨by omega, Or.inr (Or.inr (Or.inl rfl))⟩) (j := 0) rfl (by decide) (by decide) dX9_parseArguments_10 (fun H_410 locs hE_407 hz_408 hq_409 hS => ?_)
    have hz_411 := hS.1
    have hE_412 : fp_At G H_410 nu (eI G 3 (fun j => iI ((va_up (fun _ => 0) 0 (vn_400)) j))) := hE_407.updI
    refine lv_aload_n hx hb dX9_parseArguments_11 rfl (lv_at hl 1 rfl) ?_
    have hE_414 := fp_At.kept h_cm (hk_396 _ (by omega) (fun h => (Ne.symm (hne_10)) h.2))
    have hE_415 := fp_At.kept hE_414 (hq_409 _ (hne_21))
    refine r_getN X hE_415 rfl in_X10 0 (by decide) q1828 (Or.inl rfl) (v := .ref (y)) rfl dX9_parseArguments_12 ?_
    refine lv_astore_n (lv' := [(2, .ref (y)), (0, .ref (x)), (1, .ref (c))]) hx hb dX9_parseArguments_15 rfl hl (by decide) rfl (fun ls hl => ?_)
    refine lv_iconst (v := (iI (-1))) hx hb dX9_parseArguments_16 rfl ?_
    refine lv_istore_n (lv' := [(3, .int (iI (-1))), (2, .ref (y)), (0, .ref (x)), (1, .ref (c))]) hx hb dX9_parseArguments_17 rfl hl (by decide) rfl (fun ls hl => ?_)
    have hE_417 := fp_HS.mv h_pg (hk_396 _ (by omega) (fun h => (Ne.symm (hne_8)) h.2)) (hk_396 _ (by omega) (fun h => (Ne.symm (hne_9)) h.2))
    have hE_418 := fp_HS.mv hE_417 (hq_409 _ (hne_16)) (hq_409 _ (hne_19))
    refine lv_aload_n hx hb dX9_parseArguments_18 rfl (lv_at hl 1 rfl) ?_
    have hE_420 := fp_HS.mv h_ky (hk_396 _ (by omega) (fun h => (Ne.symm (hne_12)) h.2)) (hk_396 _ (by omega) (fun h => (Ne.symm (hne_13)) h.2))
    have hE_421 := fp_HS.mv hE_420 (hq_409 _ (Ne.symm (hne_24))) (hq_409 _ (Ne.symm (hne_25)))
    refine r_callVR (cells1 := 0) (slots1 := 0) X hR (c_J7_hashCode G y qy (fp_wk 4) (fp_ww 4) (by decide +kernel) (by decide)) q1863 q1864 q1865 q98 q1866 ⟨rfl, pd_J7_hashCode⟩ ⟨Nat.le_of_ble_eq_true rfl, Nat.le_of_ble_eq_true rfl⟩ rfl rfl (Nat.le_of_ble_eq_true rfl) (Nat.le_of_ble_eq_true rfl) (fp_SO.recv X ((fp_HS.st hE_421).1) hB hAb hS) rfl (Nat.le_of_ble_eq_true rfl) hl.1 dX9_parseArguments_19 (hB.of hS hAb) hE_421 hS (fun q h => by have h2 : (g_s G).heap.size ≤ q ∧ (q = y) := h; show ((g_s G).heap.size ≤ q ∧ (q = x ∨ q = c ∨ q = nu ∨ q = y)) ∨ s.heap.size ≤ q; omega) (fun v H_425 locs hp_422 hz_423 hk_424 hS => ?_)
    obtain ⟨rfl, hpr_426, hhd_427⟩ := hp_422
    have hz_428 := hS.1
    refine r_stk (st2 := [.int (fp_hsh (fp_ww 4) (fp_wk 4))]) rfl ?_
    have hpg_429 := hpr_426 _ _ _ _ hE_418
    refine lv_lookup (off := 84) (tgt := 106) hx hb dX9_parseArguments_22 (by decide) (by decide +kernel) (by decide) ?_
    refine lv_aload_n hx hb dX9_parseArguments_106 rfl (lv_at hl 1 rfl) ?_
    refine r_ldcS X q1734 (X.2.2.2.2.2.kst hB fp_kP4).2.1 dX9_parseArguments_107 ?_
    have hk_430 := (X.2.2.2.2.2.kst (hB.of hS hAb) fp_kP4).1
    have lt_431 := hk_430.1.2
    have lt_432 := hk_430.2.2.1
    refine r_callVR (cells1 := 0) (slots1 := 0) X hR (c_J7_equals G y qy (fp_wk 4) (fp_ww 4) (fp_ks G "FortPlanner$Parser" 17) (fp_kv G "FortPlanner$Parser" 17) 4 (fun i => [122, 111, 110, 101].getD i 0)) q1808 q900 q2532 q98 q901 ⟨rfl, pd_J7_equals⟩ ⟨Nat.le_of_ble_eq_true rfl, Nat.le_of_ble_eq_true rfl⟩ rfl rfl (Nat.le_of_ble_eq_true rfl) (Nat.le_of_ble_eq_true rfl) (fp_SO.recv X ((fp_HS.st (hhd_427).1).1) hB hAb hS) rfl (Nat.le_of_ble_eq_true rfl) hl.1 dX9_parseArguments_109 (hB.of hS hAb) ⟨(fp_HS.st (hhd_427).1), hk_430⟩ hS (fun _ h => h.elim) (fun v H_436 locs hp_433 hz_434 hk_435 hS => ?_)
    obtain ⟨rfl, rfl⟩ := hp_433
    refine r_stk (st2 := [.int (iI (bI (fp_teq (fp_wk 4) (fp_ww 4) 4 (fun i => [122, 111, 110, 101].getD i 0))))]) rfl ?_
    refine r_set (y := .int (iI (bI (true)))) (congrArg (fun q : Bool => Value.int (iI (bI q))) (by decide +kernel)) ?_
    refine r_ifeqB (tgt := 117) hx hb dX9_parseArguments_112 (by decide) (fun c112 => ?_) (fun c112 => ?_)
    · exact absurd c112 (by decide)
    · skip
      refine lv_iconst (v := (iI ((3 : Nat) : Int))) hx hb dX9_parseArguments_115 rfl ?_
      refine lv_istore_n (lv' := [(3, .int (iI ((3 : Nat) : Int))), (2, .ref (y)), (0, .ref (x)), (1, .ref (c))]) hx hb dX9_parseArguments_116 rfl hl (by decide) rfl (fun ls hl => ?_)
      refine lv_iload_n hx hb dX9_parseArguments_117 rfl (lv_at hl 0 rfl) ?_
      refine lv_tableIn (off := 55) (tgt := 173) hx hb dX9_parseArguments_118 (by decide) (by decide) rfl (by decide) ?_
      refine lv_aload_n hx hb dX9_parseArguments_173 rfl (lv_at hl 3 rfl) ?_
      refine lv_aload_n hx hb dX9_parseArguments_174 rfl (lv_at hl 2 rfl) ?_
      have hE_438 := fp_At.kept hE_402 (hq_409 _ (hne_11))
      have hE_439 := fp_At.kept hE_438 (hk_424 _ (by omega) (fun h => (hne_12) h.2))
      refine r_callV (cells1 := 0) (slots1 := 0) X hR (c_X9_parseZone G x kw p pv l n tx pos2_399 fl2_398 (by omega) hxb) q1920 q1922 qs42 q124 q1923 ⟨rfl, pd_X9_parseZone⟩ ⟨Nat.le_of_ble_eq_true rfl, Nat.le_of_ble_eq_true rfl⟩ rfl rfl (Nat.le_of_ble_eq_true rfl) (Nat.le_of_ble_eq_true rfl) hE_439 rfl rfl (Nat.le_of_ble_eq_true rfl) hl.1 dX9_parseArguments_175 (hB.of hS hAb) ⟨hE_439, hpg_429⟩ hS (fun q h => by have h2 : (g_s G).heap.size ≤ q ∧ (q = x) := h; show ((g_s G).heap.size ≤ q ∧ (q = x ∨ q = c ∨ q = nu ∨ q = y)) ∨ s.heap.size ≤ q; omega) (fun v H_443 locs hp_440 hz_441 hk_442 hS => ?_)
      obtain ⟨fl2_444, pos2_445, c_446, rfl, hpz_447, hE_448⟩ := hp_440
      have hz_449 := hS.1
      have lt_450 := hE_448.lt
      refine r_stk (st2 := [.int (iI ((c_446 : Nat) : Int)), .ref (c)]) rfl ?_
      have hb2 := fp_xz_bq hpz_447 (by omega) hpg.1
      have hE_452 := fp_At.kept hE_415 (hk_424 _ (by omega) (fun h => (hne_22) h.2))
      have hE_453 := fp_At.kept hE_452 (hk_442 _ (by omega) (fun h => (Ne.symm (hne_10)) h.2))
      refine r_putN X hE_453 hS (Or.inl ⟨by omega, Or.inr (Or.inl rfl)⟩) rfl in_X10 tyX10_ok nmX10 2 (by decide) q1833 (Or.inl rfl) rfl (iI_char ⟨by omega, by omega⟩) (fp_fitc (by omega)) (show 2 < 3 by decide) dX9_parseArguments_178 (fun H_457 locs hE_454 hz_455 hq_456 hS => ?_)
      have hz_458 := hS.1
      refine lv_goto (tgt := 184) hx hb dX9_parseArguments_181 (by decide) ?_
      have hpq := fp_xa_4 (w := 4) rfl hpn_401 hpz_447
      refine r_vret hx hb hr hlk hQ hS (Nat.le_of_ble_eq_true rfl) (Nat.le_of_ble_eq_true rfl) dX9_parseArguments_184 ?_
      have hE_460 := fp_At.kept hE_448 (hq_456 _ (hne_10))
      have hE_462 := fp_At.kept hE_412 (hk_424 _ (by omega) (fun h => (hne_24) h.2))
      have hE_463 := fp_At.kept hE_462 (hk_442 _ (by omega) (fun h => (Ne.symm (hne_11)) h.2))
      have hE_464 := fp_At.kept hE_463 (hq_456 _ (Ne.symm (hne_21)))
      have hE_466 := fp_HH.mv hhd_427 (hk_442 _ (by omega) (fun h => (Ne.symm (hne_12)) h.2)) (hk_442 _ (by omega) (fun h => (Ne.symm (hne_13)) h.2))
      have hE_467 := fp_HH.mv hE_466 (hq_456 _ (Ne.symm (hne_22))) (hq_456 _ (Ne.symm (hne_23)))
      have hE_469 := fp_HS.mv hpg_429 (hk_442 _ (by omega) (fun h => (Ne.symm (hne_8)) h.2)) (hk_442 _ (by omega) (fun h => (Ne.symm (hne_9)) h.2))
      have hE_470 := fp_HS.mv hE_469 (hq_456 _ (hne_15)) (hq_456 _ (hne_18))
      exact ⟨fl2_444, pos2_445, (va_up (fun _ => 0) 0 (vn_400)), c_446, _, rfl, hpq, rfl, rfl, (fp_ca_4 rfl rfl hb1 hb2), hE_460, hE_454, hE_464, hE_467, hE_470⟩
  · skip
    refine lv_aload_n hx hb dX9_parseArguments_0 rfl (lv_at hl 1 rfl) ?_
    refine r_getN X h_cm rfl in_X10 1 (by decide) q1831 (Or.inl rfl) (v := .ref (nu)) rfl dX9_parseArguments_1 ?_
    refine lv_iconst (v := (iI ((0 : Nat) : Int))) hx hb dX9_parseArguments_4 rfl ?_
    refine lv_aload_n hx hb dX9_parseArguments_5 rfl (lv_at hl 0 rfl) ?_
    refine lv_iconst (v := (iI ((2 : Nat) : Int))) hx hb dX9_parseArguments_6 rfl ?_
    refine r_callV (cells1 := 0) (slots1 := 0) X hR (c_X9_parseNumber G x kw p pv l n tx pos false 2 hpos hxb (by omega)) q1847 q1849 qs38 q124 q1850 ⟨rfl, pd_X9_parseNumber⟩ ⟨Nat.le_of_ble_eq_true rfl, Nat.le_of_ble_eq_true rfl⟩ rfl rfl (Nat.le_of_ble_eq_true rfl) (Nat.le_of_ble_eq_true rfl) h_o rfl rfl (Nat.le_of_ble_eq_true rfl) hl.1 dX9_parseArguments_7 (hB.of hS hAb) ⟨h_o, h_pg⟩ hS (fun q h => by have h2 : (g_s G).heap.size ≤ q ∧ (q = x) := h; show ((g_s G).heap.size ≤ q ∧ (q = x ∨ q = c ∨ q = nu ∨ q = y)) ∨ s.heap.size ≤ q; omega) (fun v H_474 locs hp_471 hz_472 hk_473 hS => ?_)
    obtain ⟨fl2_475, pos2_476, vn_477, rfl, hpn_478, hE_479⟩ := hp_471
    have hz_480 := hS.1
    have lt_481 := hE_479.lt
    refine r_stk (st2 := [.int (iI (vn_477)), .int (iI ((0 : Nat) : Int)), .ref (nu)]) rfl ?_
    have hb1 := fp_xn_bq hpn_478 (by omega) (by omega)
    have hE_483 := fp_At.kept h_nums (hk_473 _ (by omega) (fun h => (Ne.symm (hne_11)) h.2))
    refine r_iastI X hE_483 hS (Or.inl ⟨by omega, Or.inr (Or.inr (Or.inl rfl))⟩) (j := 0) rfl (by decide) (by decide) dX9_parseArguments_10 (fun H_487 locs hE_484 hz_485 hq_486 hS => ?_)
    have hz_488 := hS.1
    have hE_489 : fp_At G H_487 nu (eI G 3 (fun j => iI ((va_up (fun _ => 0) 0 (vn_477)) j))) := hE_484.updI
    refine lv_aload_n hx hb dX9_parseArguments_11 rfl (lv_at hl 1 rfl) ?_
    have hE_491 := fp_At.kept h_cm (hk_473 _ (by omega) (fun h => (Ne.symm (hne_10)) h.2))
    have hE_492 := fp_At.kept hE_491 (hq_486 _ (hne_21))
    refine r_getN X hE_492 rfl in_X10 0 (by decide) q1828 (Or.inl rfl) (v := .ref (y)) rfl dX9_parseArguments_12 ?_
    refine lv_astore_n (lv' := [(2, .ref (y)), (0, .ref (x)), (1, .ref (c))]) hx hb dX9_parseArguments_15 rfl hl (by decide) rfl (fun ls hl => ?_)
    refine lv_iconst (v := (iI (-1))) hx hb dX9_parseArguments_16 rfl ?_
    refine lv_istore_n (lv' := [(3, .int (iI (-1))), (2, .ref (y)), (0, .ref (x)), (1, .ref (c))]) hx hb dX9_parseArguments_17 rfl hl (by decide) rfl (fun ls hl => ?_)
    have hE_494 := fp_HS.mv h_pg (hk_473 _ (by omega) (fun h => (Ne.symm (hne_8)) h.2)) (hk_473 _ (by omega) (fun h => (Ne.symm (hne_9)) h.2))
    have hE_495 := fp_HS.mv hE_494 (hq_486 _ (hne_16)) (hq_486 _ (hne_19))
    refine lv_aload_n hx hb dX9_parseArguments_18 rfl (lv_at hl 1 rfl) ?_
    have hE_497 := fp_HS.mv h_ky (hk_473 _ (by omega) (fun h => (Ne.symm (hne_12)) h.2)) (hk_473 _ (by omega) (fun h => (Ne.symm (hne_13)) h.2))
    have hE_498 := fp_HS.mv hE_497 (hq_486 _ (Ne.symm (hne_24))) (hq_486 _ (Ne.symm (hne_25)))
    refine r_callVR (cells1 := 0) (slots1 := 0) X hR (c_J7_hashCode G y qy (fp_wk 5) (fp_ww 5) (by decide +kernel) (by decide)) q1863 q1864 q1865 q98 q1866 ⟨rfl, pd_J7_hashCode⟩ ⟨Nat.le_of_ble_eq_true rfl, Nat.le_of_ble_eq_true rfl⟩ rfl rfl (Nat.le_of_ble_eq_true rfl) (Nat.le_of_ble_eq_true rfl) (fp_SO.recv X ((fp_HS.st hE_498).1) hB hAb hS) rfl (Nat.le_of_ble_eq_true rfl) hl.1 dX9_parseArguments_19 (hB.of hS hAb) hE_498 hS (fun q h => by have h2 : (g_s G).heap.size ≤ q ∧ (q = y) := h; show ((g_s G).heap.size ≤ q ∧ (q = x ∨ q = c ∨ q = nu ∨ q = y)) ∨ s.heap.size ≤ q; omega) (fun v H_502 locs hp_499 hz_500 hk_501 hS => ?_)
    obtain ⟨rfl, hpr_503, hhd_504⟩ := hp_499
    have hz_505 := hS.1
    refine r_stk (st2 := [.int (fp_hsh (fp_ww 5) (fp_wk 5))]) rfl ?_
    have hpg_506 := hpr_503 _ _ _ _ hE_495
    refine lv_lookup (off := 95) (tgt := 117) hx hb dX9_parseArguments_22 (by decide) (by decide +kernel) (by decide) ?_
    refine lv_iload_n hx hb dX9_parseArguments_117 rfl (lv_at hl 0 rfl) ?_
    refine lv_tableOut (tgt := 184) hx hb dX9_parseArguments_118 (by decide) (by decide) ?_
    have hpq := fp_xa_0 (w := 5) (by decide) (by decide) hpn_478
    refine r_vret hx hb hr hlk hQ hS (Nat.le_of_ble_eq_true rfl) (Nat.le_of_ble_eq_true rfl) dX9_parseArguments_184 ?_
    have hE_508 := fp_At.kept hE_479 (hq_486 _ (hne_11))
    have hE_509 := fp_At.kept hE_508 (hk_501 _ (by omega) (fun h => (hne_12) h.2))
    have hE_511 := fp_At.kept hE_492 (hk_501 _ (by omega) (fun h => (hne_22) h.2))
    have hE_513 := fp_At.kept hE_489 (hk_501 _ (by omega) (fun h => (hne_24) h.2))
    exact ⟨fl2_475, pos2_476, (va_up (fun _ => 0) 0 (vn_477)), 0, _, rfl, hpq, rfl, rfl, (fp_ca_0 rfl (by decide) (by decide) hb1), hE_509, hE_511, hE_513, hhd_504, hpg_506⟩
  · skip
    refine lv_aload_n hx hb dX9_parseArguments_0 rfl (lv_at hl 1 rfl) ?_
    refine r_getN X h_cm rfl in_X10 1 (by decide) q1831 (Or.inl rfl) (v := .ref (nu)) rfl dX9_parseArguments_1 ?_
    refine lv_iconst (v := (iI ((0 : Nat) : Int))) hx hb dX9_parseArguments_4 rfl ?_
    refine lv_aload_n hx hb dX9_parseArguments_5 rfl (lv_at hl 0 rfl) ?_
    refine lv_iconst (v := (iI ((2 : Nat) : Int))) hx hb dX9_parseArguments_6 rfl ?_
    refine r_callV (cells1 := 0) (slots1 := 0) X hR (c_X9_parseNumber G x kw p pv l n tx pos false 2 hpos hxb (by omega)) q1847 q1849 qs38 q124 q1850 ⟨rfl, pd_X9_parseNumber⟩ ⟨Nat.le_of_ble_eq_true rfl, Nat.le_of_ble_eq_true rfl⟩ rfl rfl (Nat.le_of_ble_eq_true rfl) (Nat.le_of_ble_eq_true rfl) h_o rfl rfl (Nat.le_of_ble_eq_true rfl) hl.1 dX9_parseArguments_7 (hB.of hS hAb) ⟨h_o, h_pg⟩ hS (fun q h => by have h2 : (g_s G).heap.size ≤ q ∧ (q = x) := h; show ((g_s G).heap.size ≤ q ∧ (q = x ∨ q = c ∨ q = nu ∨ q = y)) ∨ s.heap.size ≤ q; omega) (fun v H_517 locs hp_514 hz_515 hk_516 hS => ?_)
    obtain ⟨fl2_518, pos2_519, vn_520, rfl, hpn_521, hE_522⟩ := hp_514
    have hz_523 := hS.1
    have lt_524 := hE_522.lt
    refine r_stk (st2 := [.int (iI (vn_520)), .int (iI ((0 : Nat) : Int)), .ref (nu)]) rfl ?_
    have hb1 := fp_xn_bq hpn_521 (by omega) (by omega)
    have hE_526 := fp_At.kept h_nums (hk_516 _ (by omega) (fun h => (Ne.symm (hne_11)) h.2))
    refine r_iastI X hE_526 hS (Or.inl ⟨by omega, Or.inr (Or.inr (Or.inl rfl))⟩) (j := 0) rfl (by decide) (by decide) dX9_parseArguments_10 (fun H_530 locs hE_527 hz_528 hq_529 hS => ?_)
    have hz_531 := hS.1
    have hE_532 : fp_At G H_530 nu (eI G 3 (fun j => iI ((va_up (fun _ => 0) 0 (vn_520)) j))) := hE_527.updI
    refine lv_aload_n hx hb dX9_parseArguments_11 rfl (lv_at hl 1 rfl) ?_
    have hE_534 := fp_At.kept h_cm (hk_516 _ (by omega) (fun h => (Ne.symm (hne_10)) h.2))
    have hE_535 := fp_At.kept hE_534 (hq_529 _ (hne_21))
    refine r_getN X hE_535 rfl in_X10 0 (by decide) q1828 (Or.inl rfl) (v := .ref (y)) rfl dX9_parseArguments_12 ?_
    refine lv_astore_n (lv' := [(2, .ref (y)), (0, .ref (x)), (1, .ref (c))]) hx hb dX9_parseArguments_15 rfl hl (by decide) rfl (fun ls hl => ?_)
    refine lv_iconst (v := (iI (-1))) hx hb dX9_parseArguments_16 rfl ?_
    refine lv_istore_n (lv' := [(3, .int (iI (-1))), (2, .ref (y)), (0, .ref (x)), (1, .ref (c))]) hx hb dX9_parseArguments_17 rfl hl (by decide) rfl (fun ls hl => ?_)
    have hE_537 := fp_HS.mv h_pg (hk_516 _ (by omega) (fun h => (Ne.symm (hne_8)) h.2)) (hk_516 _ (by omega) (fun h => (Ne.symm (hne_9)) h.2))
    have hE_538 := fp_HS.mv hE_537 (hq_529 _ (hne_16)) (hq_529 _ (hne_19))
    refine lv_aload_n hx hb dX9_parseArguments_18 rfl (lv_at hl 1 rfl) ?_
    have hE_540 := fp_HS.mv h_ky (hk_516 _ (by omega) (fun h => (Ne.symm (hne_12)) h.2)) (hk_516 _ (by omega) (fun h => (Ne.symm (hne_13)) h.2))
    have hE_541 := fp_HS.mv hE_540 (hq_529 _ (Ne.symm (hne_24))) (hq_529 _ (Ne.symm (hne_25)))
    refine r_callVR (cells1 := 0) (slots1 := 0) X hR (c_J7_hashCode G y qy (fp_wk 6) (fp_ww 6) (by decide +kernel) (by decide)) q1863 q1864 q1865 q98 q1866 ⟨rfl, pd_J7_hashCode⟩ ⟨Nat.le_of_ble_eq_true rfl, Nat.le_of_ble_eq_true rfl⟩ rfl rfl (Nat.le_of_ble_eq_true rfl) (Nat.le_of_ble_eq_true rfl) (fp_SO.recv X ((fp_HS.st hE_541).1) hB hAb hS) rfl (Nat.le_of_ble_eq_true rfl) hl.1 dX9_parseArguments_19 (hB.of hS hAb) hE_541 hS (fun q h => by have h2 : (g_s G).heap.size ≤ q ∧ (q = y) := h; show ((g_s G).heap.size ≤ q ∧ (q = x ∨ q = c ∨ q = nu ∨ q = y)) ∨ s.heap.size ≤ q; omega) (fun v H_545 locs hp_542 hz_543 hk_544 hS => ?_)
    obtain ⟨rfl, hpr_546, hhd_547⟩ := hp_542
    have hz_548 := hS.1
    refine r_stk (st2 := [.int (fp_hsh (fp_ww 6) (fp_wk 6))]) rfl ?_
    have hpg_549 := hpr_546 _ _ _ _ hE_538
    refine lv_lookup (off := 95) (tgt := 117) hx hb dX9_parseArguments_22 (by decide) (by decide +kernel) (by decide) ?_
    refine lv_iload_n hx hb dX9_parseArguments_117 rfl (lv_at hl 0 rfl) ?_
    refine lv_tableOut (tgt := 184) hx hb dX9_parseArguments_118 (by decide) (by decide) ?_
    have hpq := fp_xa_0 (w := 6) (by decide) (by decide) hpn_521
    refine r_vret hx hb hr hlk hQ hS (Nat.le_of_ble_eq_true rfl) (Nat.le_of_ble_eq_true rfl) dX9_parseArguments_184 ?_
    have hE_551 := fp_At.kept hE_522 (hq_529 _ (hne_11))
    have hE_552 := fp_At.kept hE_551 (hk_544 _ (by omega) (fun h => (hne_12) h.2))
    have hE_554 := fp_At.kept hE_535 (hk_544 _ (by omega) (fun h => (hne_22) h.2))
    have hE_556 := fp_At.kept hE_532 (hk_544 _ (by omega) (fun h => (hne_24) h.2))
    exact ⟨fl2_518, pos2_519, (va_up (fun _ => 0) 0 (vn_520)), 0, _, rfl, hpq, rfl, rfl, (fp_ca_0 rfl (by decide) (by decide) hb1), hE_552, hE_554, hE_556, hhd_547, hpg_549⟩
