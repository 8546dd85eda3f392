/-! THE PLANNER: a program is run -/
set_option maxRecDepth 100000
theorem fp_nb {b : Bool} (h : (!b) = true) : b = false := by cases b with | false => rfl | true => cases h
theorem fp_nbf {b : Bool} (h : (!b) = false) : b = true := by cases b with | true => rfl | false => cases h

set_option maxRecDepth 100000
set_option maxHeartbeats 4000000 in
theorem c_X1_run (G : fp_G) (x : Nat) (u : Nat) (sv : Value) (hi : Nat) (ip : Nat) (ln : Nat) (er : Int) (fa : Int) (l : Nat) (ed : Nat) (z : Nat) (t : Nat) (mc : Int32) (cap : Nat) (b : Nat → Nat) (S : PS) (el : Nat) (hd : Nat) (hn : Nat) (q : Nat → Nat) (iv : Nat) (ic : Nat) (n : Nat) (ml : Nat) (tx : Nat → Nat) (P : List (Nat × Int × Int × Int) × Bool × Nat) (R : Nat × Nat × PS) (hsw : fp_sw S b) (hxb : (g_s G).heap.size ≤ x) (hh8 : hn ≤ 8) (hde : fp_dif ed el) (hiv : fp_Iv S) (hp9 : sP S + n + 1 < 999) (hn24 : n ≤ 24) (hP : fp_prg tx n = P) (hR : fp_exe P.1 S = R) : fp_MX G yX1_run cX1_run 2 (some .int) 306 8140 5600 101200 [.ref (x)] (fun H => fp_At G H x (eO 1 [.ref (u), sv, .ref (hi), .ref (ip), .ref (ln), .int (iI (bI (false))), .int (iI (er)), .int (iI (fa))]) ∧ fp_SE G u l ed z t mc cap b S H ∧ fp_DQ G hi el hd hn q H ∧ fp_SB G ip iv ic n ml tx H) (fun q => (g_s G).heap.size ≤ q ∧ (q = x ∨ q = ip ∨ q = hi ∨ q = el)) (fun H v H1 => ∃ (y8 : Nat), ∃ (l8 : Nat), ∃ (e8 : Nat), ∃ (z8 : Nat), ∃ (t8 : Nat), ∃ (m8 : Int32), ∃ (c8 : Nat), ∃ (b8 : Nat → Nat), ∃ (y9 : Nat), ∃ (l9 : Nat), ∃ (e9 : Nat), ∃ (z9 : Nat), ∃ (t9 : Nat), ∃ (m9 : Int32), ∃ (c9 : Nat), ∃ (m7 : Nat), ∃ (iv2 : Nat), ∃ (ic2 : Nat), ∃ (ml2 : Nat), ∃ (hd2 : Nat), v = some (.int (iI ((R.1 : Nat) : Int))) ∧ (R.2.1 = 0) ∧ (fp_xw S P.1 R R.1 R.2.2) ∧ (fp_inj (sN R.2.2) b8) ∧ (H.size ≤ y8 ∧ H.size ≤ l8 ∧ H.size ≤ z8 ∧ H.size ≤ t8) ∧ (e8 = fp_de G ∨ H.size ≤ e8) ∧ ((y8 < m7 ∧ l8 < m7 ∧ e8 < m7 ∧ z8 < m7 ∧ t8 < m7) ∧ (m7 ≤ y9 ∧ m7 ≤ l9 ∧ m7 ≤ z9 ∧ m7 ≤ t9) ∧ (e9 = fp_de G ∨ m7 ≤ e9)) ∧ (H.size ≤ y9 ∧ H.size ≤ l9 ∧ H.size ≤ z9 ∧ H.size ≤ t9) ∧ (e9 = fp_de G ∨ H.size ≤ e9) ∧ (iv2 = iv ∨ H.size ≤ iv2) ∧ (P.2.1 = false) ∧ fp_At G H1 x (eO 1 [.ref (y8), sv, .ref (hi), .ref (ip), .ref (ln), .int (iI (bI (false))), .int (iI (er)), .int (iI (fa))]) ∧ fp_DQ G hi el hd2 (fp_hn hn) (fp_qpush q hn y9) H1 ∧ fp_SE G y8 l8 e8 z8 t8 m8 c8 b8 (R.2.2) H1 ∧ fp_SE G y9 l9 e9 z9 t9 m9 c9 b S H1 ∧ fp_SB G ip iv2 ic2 0 ml2 tx H1) (fun H E H1 => (E = "java/lang/IllegalArgumentException" ∧ (∃ (iv2 : Nat), ∃ (ic2 : Nat), ∃ (ml2 : Nat), (iv2 = iv ∨ H.size ≤ iv2) ∧ (P.2.1 = true) ∧ fp_At G H1 x (eO 1 [.ref (u), sv, .ref (hi), .ref (ip), .ref (ln), .int (iI (bI (false))), .int (iI ((P.2.2 : Nat) : Int)), .int (iI (fa))]) ∧ fp_SB G ip iv2 ic2 0 ml2 tx H1 ∧ fp_DQ G hi el hd hn q H1)) ∨ (E = "java/lang/IllegalStateException" ∧ (∃ (iv2 : Nat), ∃ (ic2 : Nat), ∃ (ml2 : Nat), (iv2 = iv ∨ H.size ≤ iv2) ∧ (P.2.1 = false) ∧ (R.2.1 ≠ 0) ∧ fp_At G H1 x (eO 1 [.ref (u), sv, .ref (hi), .ref (ip), .ref (ln), .int (iI (bI (false))), .int (iI (er)), .int (iI ((R.1 : Nat) : Int))]) ∧ fp_SB G ip iv2 ic2 0 ml2 tx H1 ∧ fp_DQ G hi el hd hn q H1))) := by
  refine fp_MX.intro (by decide) (Nat.le_of_ble_eq_true rfl) ?_
  intro pg en s mi ag bl mt cd rR qQ ls X hx hb hr hlk hnm hR hQ hT hB hM hl
  have hS : va_S (fA (fun q => (g_s G).heap.size ≤ q ∧ (q = x ∨ q = ip ∨ q = hi ∨ q = el)) s.heap.size) s.heap s.heap [] := va_S.rf
  generalize ([] : List Loc) = locs at hS ⊢
  have hb0 := hB.1
  have hAb : ∀ q, (fun q => (g_s G).heap.size ≤ q ∧ (q = x ∨ q = ip ∨ q = hi ∨ q = el)) q → (g_s G).heap.size ≤ q := fun q h => h.1
  obtain ⟨h_pob, h_st, h_dq, h_sb⟩ := hM
  have hsz0 := hS.1
  have lt_1 := h_pob.lt
  have lt_2 := h_st.1.lt
  have lt_3 := h_dq.1.lt
  have lt_4 := h_dq.2.2.1.1
  have lt_5 := h_sb.1.lt
  have lt_6 := h_sb.2.2.1.1
  have hn24 := hsw.1.1
  have hed0 := (X.2.2.2.2.2.deT (A := fp_no) hB fp_no.base).2.2
  obtain ⟨hdo, ⟨fdq, hdr, -⟩, hdq9, hdb1, hdb2⟩ := id h_dq
  have hdlt := hdo.lt
  have hxlt := h_pob.lt
  have hdrl := hdr.lt
  obtain ⟨hso, ⟨fsb, hsr, -⟩, hsw9, hsb1, hsb2⟩ := id h_sb
  have hsol := hso.lt
  have hsrl := hsr.lt
  have hnSh := fp_SE.nO X.2.2.2.2.2 hed0 h_st (j := 10) rfl ⟨by decide, by decide, by decide, by decide, by decide⟩ hdo hdb1
  have hnSx := fp_SE.nO X.2.2.2.2.2 hed0 h_st (j := 1) rfl ⟨by decide, by decide, by decide, by decide, by decide⟩ h_pob hxb
  have hnSi := fp_SE.nO X.2.2.2.2.2 hed0 h_st (j := 11) rfl ⟨by decide, by decide, by decide, by decide, by decide⟩ hso hsb1
  have hnSe := fp_SE.nQ X.2.2.2.2.2 h_st hdr hde
  have hne_7 : fp_dif x hi := fp_neOO X.2.2.2.2.2 (i := 1) (j := 10) rfl rfl (by decide) h_pob hdo
  have hne_8 : fp_dif x ip := fp_neOO X.2.2.2.2.2 (i := 1) (j := 11) rfl rfl (by decide) h_pob hso
  have hne_9 : fp_dif x el := fp_neOA X.2.2.2.2.2 (i := 1) (t := 4) rfl rfl h_pob hdr
  have hne_10 : fp_dif x iv := fp_neOA X.2.2.2.2.2 (i := 1) (t := 2) rfl rfl h_pob hsr
  have hne_11 : fp_dif hi ip := fp_neOO X.2.2.2.2.2 (i := 10) (j := 11) rfl rfl (by decide) hdo hso
  have hne_12 : fp_dif hi el := fp_neOA X.2.2.2.2.2 (i := 10) (t := 4) rfl rfl hdo hdr
  have hne_13 : fp_dif hi iv := fp_neOA X.2.2.2.2.2 (i := 10) (t := 2) rfl rfl hdo hsr
  have hne_14 : fp_dif ip el := fp_neOA X.2.2.2.2.2 (i := 11) (t := 4) rfl rfl hso hdr
  have hne_15 : fp_dif ip iv := fp_neOA X.2.2.2.2.2 (i := 11) (t := 2) rfl rfl hso hsr
  have hne_16 : fp_dif el iv := fp_neAA X.2.2.2.2.2 (t := 4) (t2 := 2) rfl rfl (by decide) hdr hsr
  refine r_new (ci := 6) (fs := [.null, .null, .null, .int (iI ((0 : Nat) : Int)), .int (iI ((0 : Nat) : Int))]) X hR hS rfl in_X9 tyX9_ok q1721 q1722 q124 (by intro j hj; rcases (show j = 0 ∨ j = 1 ∨ j = 2 ∨ j = 3 ∨ j = 4 by omega) with rfl | rfl | rfl | rfl | rfl <;> rfl) (Nat.le_of_ble_eq_true rfl) (Nat.le_of_ble_eq_true rfl) dX1_run_0 (fun xp H_17 hq_21 hE_18 hX_19 hz_20 hS => ?_)
  have hz_22 := hS.1
  have lt_23 := hE_18.lt
  refine lv_dup hx hb dX1_run_3 rfl ?_
  refine lv_aload_n hx hb dX1_run_4 rfl (lv_at hl 0 rfl) ?_
  have hE_25 := fp_At.kept h_pob (hX_19.2 _ (by omega))
  refine r_get X hE_25 rfl in_X1 3 (by decide) q245 (Or.inl rfl) (v := .ref (ip)) rfl dX1_run_5 ?_
  have hE_27 := h_sb.ext hX_19
  refine r_callV (cells1 := 3) (slots1 := (5 + (4 + n))) X hR (c_J6_toString G ip iv ic n ml tx) q1723 q727 q728 q97 q729 ⟨rfl, pd_J6_toString⟩ ⟨Nat.le_of_ble_eq_true rfl, Nat.le_of_ble_eq_true rfl⟩ rfl rfl (Nat.le_of_ble_eq_true rfl) (by omega) hE_27.1 rfl rfl (Nat.le_of_ble_eq_true rfl) hl.1 dX1_run_8 (hB.of hS hAb) hE_27 hS (fun _ h => h.elim) (fun v H_31 locs hp_28 hz_29 hk_30 hS => ?_)
  obtain ⟨yt, qt, rfl, hy_32, hE_33⟩ := hp_28
  have hz_34 := hS.1
  have lt_36 := hE_33.lt
  have lt_37 := hE_33.2.1.lt
  refine r_stk (st2 := [.ref (yt), .ref (xp), .ref (xp)]) rfl ?_
  have hE_39 := fp_At.kept hE_18 (hk_30 _ (by omega) (fun z => z))
  refine r_callI (cells1 := 5) (slots1 := (5 + (4 + n) + 10)) X hR (c_X9_init G xp yt (by omega)) q1724 q1725 q124 q1726 rfl ⟨by decide, by decide, rfl⟩ ⟨Nat.le_of_ble_eq_true rfl, Nat.le_of_ble_eq_true rfl⟩ rfl rfl (Nat.le_of_ble_eq_true rfl) (by omega) rfl (Nat.le_of_ble_eq_true rfl) hl.1 dX1_run_11 (hB.of hS hAb) hE_39 hS (fun q h => by have h2 : (g_s G).heap.size ≤ q ∧ (q = xp) := h; show ((g_s G).heap.size ≤ q ∧ (q = x ∨ q = ip ∨ q = hi ∨ q = el)) ∨ s.heap.size ≤ q; omega) (fun v H_43 locs hp_40 hz_41 hk_42 hS => ?_)
  obtain ⟨kw, la, rfl, hkl_44, hE_45, hE_46, hE_47⟩ := hp_40
  have hz_48 := hS.1
  have lt_49 := hE_45.lt
  have lt_51 := hE_46.lt
  have lt_53 := hE_47.1.lt
  have lt_54 := hE_47.2.2
  refine r_stk (st2 := [.ref (xp)]) rfl ?_
  refine lv_astore_n (lv' := [(1, .ref (xp)), (0, .ref (x))]) hx hb dX1_run_14 rfl hl (by decide) rfl (fun ls hl => ?_)
  refine lv_aload_n hx hb dX1_run_15 rfl (lv_at hl 1 rfl) ?_
  have hE_56 := fp_At.kept hE_25 (hk_30 _ (by omega) (fun z => z))
  have hE_57 := fp_At.kept hE_56 (hk_42 _ (by omega) (by omega))
  refine r_get X hE_57 rfl in_X1 3 (by decide) q245 (Or.inl rfl) (v := .ref (ip)) rfl dX1_run_16 ?_
  refine lv_iconst (v := (iI ((0 : Nat) : Int))) hx hb dX1_run_19 rfl ?_
  have hE_59 := hE_27.ext (fp_X.no hz_29 hk_30)
  have hE_60 := fp_SB.mv hE_59 (hk_42 _ (by omega) (by omega)) (hk_42 _ (by omega) (by omega))
  refine r_callV (cells1 := 6) (slots1 := (5 + (4 + n) + 10 + 202)) X hR (c_J6_setLength G ip iv ic n ml tx) q1009 q1010 q1011 q97 q1012 ⟨rfl, pd_J6_setLength⟩ ⟨Nat.le_of_ble_eq_true rfl, Nat.le_of_ble_eq_true rfl⟩ rfl rfl (Nat.le_of_ble_eq_true rfl) (by omega) hE_60.1 rfl rfl (Nat.le_of_ble_eq_true rfl) hl.1 dX1_run_20 (hB.of hS hAb) hE_60 hS (fun q h => by have h2 : (g_s G).heap.size ≤ q ∧ (q = ip) := h; show ((g_s G).heap.size ≤ q ∧ (q = x ∨ q = ip ∨ q = hi ∨ q = el)) ∨ s.heap.size ≤ q; omega) (fun v H_64 locs hp_61 hz_62 hk_63 hS => ?_)
  obtain ⟨vl2_65, cap2_66, ml2_67, rfl, hv2_68, hE_69⟩ := hp_61
  have hz_70 := hS.1
  have lt_71 := hE_69.1.lt
  have lt_72 := hE_69.2.2.1.1
  refine r_stk (st2 := []) rfl ?_
  obtain ⟨lo, hlo⟩ : ∃ q9 : Nat, q9 = Heap.size H_64 := ⟨_, rfl⟩
  have hE_73 : fp_CMF G lo false (fun _ => 0) [] H_64 := ⟨by omega, fun _ i hi => absurd hi (Nat.not_lt_zero _)⟩
  refine lv_aload_n hx hb dX1_run_23 rfl (lv_at hl 0 rfl) ?_
  have hE_75 := fp_At.kept hE_45 (hk_63 _ (by omega) (by omega))
  have hE_77 := fp_HS.mv hE_33 (hk_42 _ (by omega) (by omega)) (hk_42 _ (by omega) (by omega))
  have hE_78 := fp_HS.mv hE_77 (hk_63 _ (by omega) (by omega)) (hk_63 _ (by omega) (by omega))
  have hE_80 := fp_At.kept hE_46 (hk_63 _ (by omega) (by omega))
  have hE_82 := fp_LE.mv hE_47 (hk_63 _ (by omega) (by omega)) (hk_63 _ (by omega) (by omega))
  refine r_callV (cells1 := 1381) (slots1 := (5 + (4 + n) + 10 + 202 + 20000)) X hR (c_X9_parse G xp kw yt qt la n tx lo P hP hn24 (by omega) (by omega) (by omega)) q1757 q1758 q1759 q124 q1760 ⟨rfl, pd_X9_parse⟩ ⟨Nat.le_of_ble_eq_true rfl, Nat.le_of_ble_eq_true rfl⟩ rfl rfl (Nat.le_of_ble_eq_true rfl) (by omega) hE_75 rfl rfl (Nat.le_of_ble_eq_true rfl) hl.1 dX1_run_24 (hB.of hS hAb) ⟨hE_75, hE_78, hE_80, hE_82, hE_73⟩ hS (fun q h => by have h2 : (g_s G).heap.size ≤ q ∧ (q = xp ∨ q = la ∨ q = yt) := h; show ((g_s G).heap.size ≤ q ∧ (q = x ∨ q = ip ∨ q = hi ∨ q = el)) ∨ s.heap.size ≤ q; omega) (fun v H_86 locs hp_83 hz_84 hk_85 hS => ?_)
  obtain ⟨le, lm, m, lc, lb, rfl, hcm_87, hed_88, hE_89, hE_90⟩ := hp_83
  have hz_91 := hS.1
  have lt_92 := hE_89.lt
  have lt_93 := hE_90.1.lt
  have lt_94 := hE_90.2.2
  refine r_stk (st2 := [.int (iI (bI (!P.2.1)))]) rfl ?_
  have hedp := hed_88
  refine r_ifneB (tgt := 46) hx hb dX1_run_27 (by decide) (fun c27 => ?_) (fun c27 => ?_)
  · skip
    have hPf : P.2.1 = false := fp_nb c27
    obtain ⟨hm, h_cl2⟩ := hcm_87 hPf
    obtain rfl := hm
    have hln := fp_prg_len tx n
    rw [hP] at hln
    have hle9 : fp_dif le el := by unfold fp_dif; omega
    refine lv_aload_n hx hb dX1_run_46 rfl (lv_at hl 1 rfl) ?_
    refine lv_aload_n hx hb dX1_run_47 rfl (lv_at hl 0 rfl) ?_
    refine r_getN X hE_89 rfl in_X9 2 (by decide) q1742 (Or.inl rfl) (v := .ref (la)) rfl dX1_run_48 ?_
    have hE_96 := fp_At.kept hE_57 (hk_63 _ (by omega) (fun h => (hne_8) h.2))
    have hE_97 := fp_At.kept hE_96 (hk_85 _ (by omega) (by omega))
    have hE_98 := fp_SE.mvA h_st (fun q9 hq9 hs9 => fp_keptS hq9 hS (fun h9 => (fun h9 => h9.elim (hnSx q9 hs9) (fun h9 => h9.elim (hnSi q9 hs9) (fun h9 => h9.elim (hnSh q9 hs9) (hnSe q9 hs9)))) h9.2))
    have hE_100 := h_dq.ext hX_19
    have hE_101 := hE_100.ext (fp_X.no hz_29 hk_30)
    have hE_102 := fp_DQ.mv hE_101 (hk_42 _ (by omega) (by omega)) (hk_42 _ (by omega) (by omega))
    have hE_103 := fp_DQ.mv hE_102 (hk_63 _ (by omega) (fun h => (hne_11) h.2)) (hk_63 _ (by omega) (fun h => (Ne.symm (hne_14)) h.2))
    have hE_104 := fp_DQ.mv hE_103 (hk_85 _ (by omega) (by omega)) (hk_85 _ (by omega) (by omega))
    refine x_callVH (cells1 := 5531) (slots1 := (5 + (4 + n) + 10 + 202 + 20000 + 80690)) X hR (c_X1_executeAll G x u sv hi ip ln (er) (fa) l ed z t mc cap b S el hd hn q la le lm lc lb lo (P.1) R hsw hxb hh8 hde hiv (by omega) (by omega) hle9 (by omega) hR) q1924 q1926 qs43 q88 q1927 ⟨rfl, pd_X1_executeAll⟩ ⟨Nat.le_of_ble_eq_true rfl, Nat.le_of_ble_eq_true rfl⟩ rfl rfl (Nat.le_of_ble_eq_true rfl) (by omega) hE_97 rfl rfl (Nat.le_of_ble_eq_true rfl) hl.1 dX1_run_51 (hB.of hS hAb) ⟨hE_97, hE_98, hE_104, hE_90, h_cl2⟩ hS (fun q h => by have h2 : (g_s G).heap.size ≤ q ∧ (q = x ∨ q = hi ∨ q = el) := h; show ((g_s G).heap.size ≤ q ∧ (q = x ∨ q = ip ∨ q = hi ∨ q = el)) ∨ s.heap.size ≤ q; omega) (fun v H_108 locs hp_105 hz_106 hk_107 hS => ?_) (fun Ex qx cx H_108 locs hp_105 hz_106 hk_107 hS hcx hvx hlx => ?_)
    · skip
      obtain ⟨y8, l8, e8, z8, t8, m8, c8, b8, y9, l9, e9, z9, t9, m9, c9, m7, hd2, rfl, hRx_109, hxw8_110, hbj8_111, hcf8_112, hce8_113, hm7_114, hcf_115, hce_116, hE_117, hE_118, hE_119, hE_120⟩ := hp_105
      have hz_121 := hS.1
      have lt_122 := hE_117.lt
      have lt_123 := hE_118.1.lt
      have lt_124 := hE_118.2.2.1.1
      have lt_126 := hE_119.1.lt
      have lt_128 := hE_120.1.lt
      refine r_stk (st2 := []) rfl ?_
      refine lv_aload_n hx hb dX1_run_54 rfl (lv_at hl 0 rfl) ?_
      have hE_130 := fp_At.kept hE_89 (hk_107 _ (by omega) (by omega))
      refine r_getN X hE_130 rfl in_X9 2 (by decide) q1742 (Or.inl rfl) (v := .ref (la)) rfl dX1_run_55 ?_
      have hE_132 := fp_LE.mv hE_90 (hk_107 _ (by omega) (by omega)) (hk_107 _ (by omega) (by omega))
      refine r_callV (cells1 := 5531) (slots1 := (5 + (4 + n) + 10 + 202 + 20000 + 80690)) X hR (c_J2_size G la le lm (P.1.length) lc lb) q460 q461 q462 q92 q463 ⟨rfl, pd_J2_size⟩ ⟨Nat.le_of_ble_eq_true rfl, Nat.le_of_ble_eq_true rfl⟩ rfl rfl (Nat.le_of_ble_eq_true rfl) (by omega) hE_132.1 rfl rfl (Nat.le_of_ble_eq_true rfl) hl.1 dX1_run_58 (hB.of hS hAb) hE_132 hS (fun _ h => h.elim) (fun v H_136 locs hp_133 hz_134 hk_135 hS => ?_)
      obtain ⟨rfl, rfl⟩ := hp_133
      refine r_stk (st2 := [.int (iI (((P.1.length) : Nat) : Int))]) rfl ?_
      refine x_iret hx hb hr hlk hQ hS (Nat.le_of_ble_eq_true rfl) (by omega) dX1_run_61 ?_
      have hE_138 := fp_SB.mv hE_69 (hk_85 _ (by omega) (by omega)) (hk_85 _ (by omega) (by omega))
      have hE_139 := fp_SB.mv hE_138 (hk_107 _ (by omega) (fun h => (fun h => h.elim (Ne.symm (hne_8)) (fun h => h.elim (Ne.symm (hne_11)) (hne_14))) h.2)) (hk_107 _ (by omega) (by omega))
      exact ⟨y8, l8, e8, z8, t8, m8, c8, b8, y9, l9, e9, z9, t9, m9, c9, m7, vl2_65, cap2_66, ml2_67, hd2, (by rw [hRx_109.1]), (hRx_109.2), (by rw [hRx_109.1]; exact hxw8_110), hbj8_111, (by omega), (by omega), hm7_114, (by omega), (by omega), (by omega), hPf, hE_117, hE_118, hE_119, hE_120, hE_139⟩
    · skip
      obtain ⟨rfl, hb9, hE_140, hE_141⟩ := hp_105
      have hz_142 := hS.1
      have lt_143 := hE_140.lt
      have lt_144 := hE_141.1.lt
      have lt_145 := hE_141.2.2.1.1
      have hE_147 := fp_SB.mv hE_69 (hk_85 _ (by omega) (by omega)) (hk_85 _ (by omega) (by omega))
      have hE_148 := fp_SB.mv hE_147 (hk_107 _ (by omega) (fun h => (fun h => h.elim (Ne.symm (hne_8)) (fun h => h.elim (Ne.symm (hne_11)) (hne_14))) h.2)) (hk_107 _ (by omega) (by omega))
      exact x_out hT hlk hQ hS (Nat.le_of_ble_eq_true rfl) (by omega) hcx hvx hlx (Or.inr (⟨rfl, vl2_65, cap2_66, ml2_67, (by omega), hPf, hb9, hE_140, hE_148, hE_141⟩))
  · skip
    have hPt : P.2.1 = true := fp_nbf c27
    refine lv_aload_n hx hb dX1_run_30 rfl (lv_at hl 1 rfl) ?_
    refine lv_aload_n hx hb dX1_run_31 rfl (lv_at hl 0 rfl) ?_
    refine r_getN X hE_89 rfl in_X9 3 (by decide) q1744 (Or.inl rfl) (v := .int (iI ((P.2.2 : Nat) : Int))) rfl dX1_run_32 ?_
    have hE_150 := fp_At.kept hE_57 (hk_63 _ (by omega) (fun h => (hne_8) h.2))
    have hE_151 := fp_At.kept hE_150 (hk_85 _ (by omega) (by omega))
    refine r_put X hE_151 hS (Or.inl ⟨by omega, Or.inl rfl⟩) rfl in_X1 tyX1_ok nmX1 6 (by decide) q248 (Or.inl rfl) rfl rfl rfl (show 6 < 8 by decide) dX1_run_35 (fun H_155 locs hE_152 hz_153 hq_154 hS => ?_)
    have hz_156 := hS.1
    refine x_throwK (E := "java/lang/IllegalArgumentException") (ik := 40) (ic := 42) X hR hB hAb hS tw_IllegalArgumentException (by decide) q1132 q104 (by decide) (by decide) (by decide +kernel) hl.1 dX1_run_38 dX1_run_41 dX1_run_42 dX1_run_45 (by decide) (by decide) (Nat.le_of_ble_eq_true rfl) (by omega) (fun cx H_157 hcx hvx hlx hX_158 hS => ?_)
    have hE_160 := fp_At.kept hE_152 (hX_158.2 _ (by omega))
    have hE_162 := fp_SB.mv hE_69 (hk_85 _ (by omega) (by omega)) (hk_85 _ (by omega) (by omega))
    have hE_163 := fp_SB.mv hE_162 (hq_154 _ (Ne.symm (hne_8))) (hq_154 _ (by omega))
    have hE_164 := hE_163.ext hX_158
    have hE_166 := h_dq.ext hX_19
    have hE_167 := hE_166.ext (fp_X.no hz_29 hk_30)
    have hE_168 := fp_DQ.mv hE_167 (hk_42 _ (by omega) (by omega)) (hk_42 _ (by omega) (by omega))
    have hE_169 := fp_DQ.mv hE_168 (hk_63 _ (by omega) (fun h => (hne_11) h.2)) (hk_63 _ (by omega) (fun h => (Ne.symm (hne_14)) h.2))
    have hE_170 := fp_DQ.mv hE_169 (hk_85 _ (by omega) (by omega)) (hk_85 _ (by omega) (by omega))
    have hE_171 := fp_DQ.mv hE_170 (hq_154 _ (Ne.symm (hne_7))) (hq_154 _ (Ne.symm (hne_9)))
    have hE_172 := hE_171.ext hX_158
    exact x_out hT hlk hQ hS (Nat.le_of_ble_eq_true rfl) (by omega) hcx hvx hlx (Or.inl ⟨rfl, vl2_65, cap2_66, ml2_67, by omega, hPt, hE_160, hE_164, hE_172⟩)
