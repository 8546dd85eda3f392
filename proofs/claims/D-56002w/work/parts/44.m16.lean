/-! THE MODEL: running a program -/
set_option maxHeartbeats 4000000 in
theorem c_X4_run (G : fp_G) (ad : Nat → Nat) (sc : Nat → Int) (ar : Nat → Nat → Int) (S : PS) (hA0 : fp_MA G ad) (hV : fp_VR S (ar 5)) (hs : Nat → PS) (hn : Nat) (hch : sc 1 = ((hn : Nat) : Int)) (h8 : hn ≤ 8) (HR : fp_HR hs hn (ar 9)) (tx : Nat → Nat) (tn : Nat) (ht : sc 17 = ((tn : Nat) : Int)) (h60 : tn ≤ 60) (htx : ∀ i, i < tn → ar 12 i = (tx i : Int)) (htb : ∀ i, i < tn → tx i < 256) (hwd : ∀ i, i < 39 → ar 15 i = (fp_wd i : Int)) (hwa : ∀ i, i < 8 → ar 16 i = (fp_wa i : Int)) (P : List (Nat × Int × Int × Int) × Bool × Nat) (hP : fp_prg tx tn = P) (R : Nat × Nat × PS) (hRR : fp_exe P.1 S = R) (hsp : sP S + tn < 999) (h30 : fp_t30 S) : fp_M G yX4_run cX4_run 2 (some .int) 12 266 0 0 [.ref (ad 0)] (fp_ME G ad sc ar) (fp_ma ad) (fun _ v H => (∃ (e : Nat), ∃ (ar2 : Nat → Nat → Int), v = some (.int (iI ((0 : Nat) : Int))) ∧ fp_ME G ad (va_up (va_up (va_up (va_up (va_up (va_up (va_up sc 17 (((0 : Nat) : Int))) 19 (((tn : Nat) : Int))) 18 (((e : Nat) : Int))) 21 (((1 : Nat) : Int))) 22 (((0 : Nat) : Int))) 0 (((1 : Nat) : Int))) 2 (((e : Nat) : Int))) ar2 H ∧ (fp_VR S (ar2 5)) ∧ (fp_sm0 ar ar2) ∧ (P.2 = (true, e))) ∨ (∃ (e : Nat), ∃ (ar2 : Nat → Nat → Int), v = some (.int (iI ((0 : Nat) : Int))) ∧ fp_ME G ad (va_up (va_up (va_up (va_up (va_up (va_up (va_up sc 17 (((0 : Nat) : Int))) 19 (((tn : Nat) : Int))) 18 (((e : Nat) : Int))) 21 (((0 : Nat) : Int))) 22 (((1 : Nat) : Int))) 0 (((2 : Nat) : Int))) 3 (((R.1 : Nat) : Int))) ar2 H ∧ (fp_VR S (ar2 5)) ∧ (fp_sm0 ar ar2) ∧ (P.2.1 = false) ∧ (R.2.1 ≠ 0)) ∨ (∃ (n : Nat), ∃ (S2 : PS), ∃ (e : Nat), ∃ (ar2 : Nat → Nat → Int), v = some (.int (iI ((n : Nat) : Int))) ∧ fp_ME G ad (va_up (va_up (va_up (va_up (va_up (va_up (va_up sc 17 (((0 : Nat) : Int))) 19 (((tn : Nat) : Int))) 18 (((e : Nat) : Int))) 21 (((0 : Nat) : Int))) 22 (((1 : Nat) : Int))) 0 (((0 : Nat) : Int))) 1 (((fp_hn hn : Nat) : Int))) ar2 H ∧ (fp_VR S2 (ar2 5)) ∧ (fp_HR (fp_hpush hs hn S) (fp_hn hn) (ar2 9)) ∧ (fp_sm1 ar ar2) ∧ (P.2.1 = false) ∧ (R = (n, 0, S2)))) := by
  refine fp_M.intro (by decide) (Nat.le_of_ble_eq_true rfl) ?_
  intro pg en s mi ag bl mt cd rR qQ ls X hx hb hr hlk hnm hR hQ hB hM hl
  have hS : va_S (fA (fp_ma ad) s.heap.size) s.heap s.heap [] := va_S.rf
  generalize ([] : List Loc) = locs at hS ⊢
  have hN24 := hV.1.1
  refine lv_aload_n hx hb dX4_run_0 rfl (lv_at hl 0 rfl) ?_
  refine r_callV (cells1 := 0) (slots1 := 0) X hR (c_X4_begins G ad sc ar hA0  ) q2087 q2089 qs45 q100 q2090 ⟨rfl, pd_X4_begins⟩ (by decide) rfl rfl (by decide) (by decide) hM.1 rfl rfl (Nat.le_of_ble_eq_true rfl) hl.1 dX4_run_1 (hB.of hS (fp_ma.base hA0)) hM hS (fun _ h => Or.inl h) (fun v H locs hp_1 hzC hkC hS => ?_)
  obtain ⟨rfl, hM_2⟩ := hp_1
  have hM_3 := fp_ME.nrm (sc2 := (va_up sc 0 (((0 : Nat) : Int)))) hM_2 rfl
  refine r_stk (st2 := []) rfl ?_
  refine lv_aload_n hx hb dX4_run_4 rfl (lv_at hl 0 rfl) ?_
  refine lv_aload_n hx hb dX4_run_5 rfl (lv_at hl 0 rfl) ?_
  refine r_get X hM_3.1 rfl in_X4 17 (by decide) q2026 (Or.inl rfl) (v := .int (iI (sc 17))) rfl dX4_run_6 ?_
  refine r_set (y := .int (iI ((tn : Nat) : Int))) (congrArg (fun q : Int => Value.int (iI q)) (ht)) ?_
  refine m_put X hM_3 hS hA0 (k := 19) (sc2 := (va_up (va_up sc 0 (((0 : Nat) : Int))) 19 (((tn : Nat) : Int)))) rfl (by decide) q2028 rfl rfl rfl dX4_run_9 rfl (fun H locs hM_4 hS => ?_)
  refine lv_aload_n hx hb dX4_run_12 rfl (lv_at hl 0 rfl) ?_
  refine lv_iconst (v := (iI ((0 : Nat) : Int))) hx hb dX4_run_13 rfl ?_
  refine m_put X hM_4 hS hA0 (k := 17) (sc2 := (va_up (va_up (va_up sc 0 (((0 : Nat) : Int))) 19 (((tn : Nat) : Int))) 17 (((0 : Nat) : Int)))) rfl (by decide) q2026 rfl rfl rfl dX4_run_14 rfl (fun H locs hM_5 hS => ?_)
  refine lv_aload_n hx hb dX4_run_17 rfl (lv_at hl 0 rfl) ?_
  refine lv_iconst (v := (iI ((0 : Nat) : Int))) hx hb dX4_run_18 rfl ?_
  refine m_put X hM_5 hS hA0 (k := 22) (sc2 := (va_up (va_up (va_up (va_up sc 0 (((0 : Nat) : Int))) 19 (((tn : Nat) : Int))) 17 (((0 : Nat) : Int))) 22 (((0 : Nat) : Int)))) rfl (by decide) q2031 rfl rfl rfl dX4_run_19 rfl (fun H locs hM_6 hS => ?_)
  refine lv_aload_n hx hb dX4_run_22 rfl (lv_at hl 0 rfl) ?_
  refine r_callV (cells1 := 0) (slots1 := 0) X hR (c_X4_commandsP G ad (va_up (va_up (va_up (va_up sc 0 (((0 : Nat) : Int))) 19 (((tn : Nat) : Int))) 17 (((0 : Nat) : Int))) 22 (((0 : Nat) : Int))) (va_up ar 6 (ar 5)) hA0 tx tn rfl h60 htx htb hwd hwa S hV rfl P.2 (by rw [hP])  rfl (by omega) h30) q2458 q2460 qs78 q100 q2461 ⟨rfl, pd_X4_commands⟩ (by decide) rfl rfl (by decide) (by decide) hM_6.1 rfl rfl (Nat.le_of_ble_eq_true rfl) hl.1 dX4_run_23 (hB.of hS (fp_ma.base hA0)) hM_6 hS (fun _ h => Or.inl h) (fun v H locs hp_7 hzC hkC hS => ?_)
  rcases hp_7 with ⟨n_8, f_9, e_10, rfl, hM_13, hp1_11, hle2_12⟩ | ⟨n_14, f_15, e_16, rfl, hM_19, hp1_17, hle2_18⟩
  · skip
    have hM_20 := fp_ME.nrm (sc2 := (va_up (va_up (va_up (va_up (va_up (va_up sc 0 (((0 : Nat) : Int))) 19 (((tn : Nat) : Int))) 17 (((0 : Nat) : Int))) 22 (((0 : Nat) : Int))) 18 (((e_10 : Nat) : Int))) 21 (((1 : Nat) : Int)))) hM_13 rfl
    refine r_stk (st2 := [.int (iI ((n_8 : Nat) : Int))]) rfl ?_
    refine lv_istore_n (lv' := [(1, .int (iI ((n_8 : Nat) : Int))), (0, .ref (ad 0))]) hx hb dX4_run_26 rfl hl (by decide) rfl (fun ls hl => ?_)
    refine lv_aload_n hx hb dX4_run_27 rfl (lv_at hl 1 rfl) ?_
    refine r_get X hM_20.1 rfl in_X4 21 (by decide) q2030 (Or.inl rfl) (v := .int (iI ((1 : Nat) : Int))) rfl dX4_run_28 ?_
    refine r_if_eq (tgt := 48) hx hb (by decide) dX4_run_31 (by decide) (fun c31 => ?_) (fun c31 => ?_)
    · exact absurd c31 (by omega)
    · skip
      refine lv_aload_n hx hb dX4_run_34 rfl (lv_at hl 1 rfl) ?_
      refine lv_aload_n hx hb dX4_run_35 rfl (lv_at hl 1 rfl) ?_
      refine r_get X hM_20.1 rfl in_X4 18 (by decide) q2027 (Or.inl rfl) (v := .int (iI ((e_10 : Nat) : Int))) rfl dX4_run_36 ?_
      refine m_put X hM_20 hS hA0 (k := 2) (sc2 := (va_up (va_up (va_up (va_up (va_up (va_up (va_up sc 0 (((0 : Nat) : Int))) 19 (((tn : Nat) : Int))) 17 (((0 : Nat) : Int))) 22 (((0 : Nat) : Int))) 18 (((e_10 : Nat) : Int))) 21 (((1 : Nat) : Int))) 2 (((e_10 : Nat) : Int)))) rfl (by decide) q2011 rfl rfl rfl dX4_run_39 rfl (fun H locs hM_21 hS => ?_)
      refine lv_aload_n hx hb dX4_run_42 rfl (lv_at hl 1 rfl) ?_
      refine lv_iconst (v := (iI ((1 : Nat) : Int))) hx hb dX4_run_43 rfl ?_
      refine r_callV (cells1 := 0) (slots1 := 0) X hR (c_X4_fail G ad (va_up (va_up (va_up (va_up (va_up (va_up (va_up sc 0 (((0 : Nat) : Int))) 19 (((tn : Nat) : Int))) 17 (((0 : Nat) : Int))) 22 (((0 : Nat) : Int))) 18 (((e_10 : Nat) : Int))) 21 (((1 : Nat) : Int))) 2 (((e_10 : Nat) : Int))) (va_up (va_up ar 6 (ar 5)) 14 f_9) hA0 1 ) q2107 q2109 qs47 q100 q2110 ⟨rfl, pd_X4_fail⟩ (by decide) rfl rfl (by decide) (by decide) hM_21.1 rfl rfl (Nat.le_of_ble_eq_true rfl) hl.1 dX4_run_44 (hB.of hS (fp_ma.base hA0)) hM_21 hS (fun _ h => Or.inl h) (fun v H locs hp_22 hzC hkC hS => ?_)
      obtain ⟨rfl, hM_23⟩ := hp_22
      have hM_24 := fp_ME.nrm (sc2 := (va_up (va_up (va_up (va_up (va_up (va_up (va_up sc 19 (((tn : Nat) : Int))) 17 (((0 : Nat) : Int))) 22 (((0 : Nat) : Int))) 18 (((e_10 : Nat) : Int))) 21 (((1 : Nat) : Int))) 2 (((e_10 : Nat) : Int))) 0 ((1)))) hM_23 rfl
      refine r_stk (st2 := [.int (iI ((0 : Nat) : Int))]) rfl ?_
      refine r_iret hx hb hr hlk hQ hS (Nat.le_of_ble_eq_true rfl) (Nat.le_of_ble_eq_true rfl) dX4_run_47 ?_
      exact Or.inl ⟨e_10, (va_up (va_up ar 6 (ar 5)) 14 f_9), rfl, (hM_24.nrm rfl), hV, (fun k hk => by simp [fp_scr] at hk; by_cases e5 : k = 5 <;> simp_all [va_up]), hp1_11⟩
  · skip
    have hM_25 := fp_ME.nrm (sc2 := (va_up (va_up (va_up (va_up (va_up (va_up sc 0 (((0 : Nat) : Int))) 19 (((tn : Nat) : Int))) 17 (((0 : Nat) : Int))) 22 (((0 : Nat) : Int))) 18 (((e_16 : Nat) : Int))) 21 (((0 : Nat) : Int)))) hM_19 rfl
    refine r_stk (st2 := [.int (iI ((n_14 : Nat) : Int))]) rfl ?_
    refine lv_istore_n (lv' := [(1, .int (iI ((n_14 : Nat) : Int))), (0, .ref (ad 0))]) hx hb dX4_run_26 rfl hl (by decide) rfl (fun ls hl => ?_)
    refine lv_aload_n hx hb dX4_run_27 rfl (lv_at hl 1 rfl) ?_
    refine r_get X hM_25.1 rfl in_X4 21 (by decide) q2030 (Or.inl rfl) (v := .int (iI ((0 : Nat) : Int))) rfl dX4_run_28 ?_
    refine r_if_eq (tgt := 48) hx hb (by decide) dX4_run_31 (by decide) (fun c31 => ?_) (fun c31 => ?_)
    · skip
      refine lv_aload_n hx hb dX4_run_48 rfl (lv_at hl 1 rfl) ?_
      refine lv_iconst (v := (iI ((1 : Nat) : Int))) hx hb dX4_run_49 rfl ?_
      refine m_put X hM_25 hS hA0 (k := 22) (sc2 := (va_up (va_up (va_up (va_up (va_up (va_up sc 0 (((0 : Nat) : Int))) 19 (((tn : Nat) : Int))) 17 (((0 : Nat) : Int))) 18 (((e_16 : Nat) : Int))) 21 (((0 : Nat) : Int))) 22 (((1 : Nat) : Int)))) rfl (by decide) q2031 rfl rfl rfl dX4_run_50 rfl (fun H locs hM_26 hS => ?_)
      refine lv_aload_n hx hb dX4_run_53 rfl (lv_at hl 1 rfl) ?_
      refine r_callV (cells1 := 0) (slots1 := 0) X hR (c_X4_commandsD G ad (va_up (va_up (va_up (va_up (va_up (va_up sc 0 (((0 : Nat) : Int))) 19 (((tn : Nat) : Int))) 17 (((0 : Nat) : Int))) 18 (((e_16 : Nat) : Int))) 21 (((0 : Nat) : Int))) 22 (((1 : Nat) : Int))) (va_up (va_up ar 6 (ar 5)) 14 f_15) hA0 tx tn rfl h60 htx htb hwd hwa S hV rfl (by rw [hP, hp1_17]) R (by rw [hP]; exact hRR)  rfl hsp h30) q2458 q2460 qs78 q100 q2461 ⟨rfl, pd_X4_commands⟩ (by decide) rfl rfl (by decide) (by decide) hM_26.1 rfl rfl (Nat.le_of_ble_eq_true rfl) hl.1 dX4_run_54 (hB.of hS (fp_ma.base hA0)) hM_26 hS (fun _ h => Or.inl h) (fun v H locs hp_27 hzC hkC hS => ?_)
      rcases hp_27 with ⟨n_28, f_29, v2_30, f2_31, t_32, e_33, rfl, hM_38, ht0_34, ht2_35, hR1_36, hR2_37⟩ | ⟨n_39, f_40, v2_41, f2_42, e_43, S2_44, rfl, hM_47, hR0_45, hV2_46⟩
      · skip
        have hM_48 := fp_ME.nrm (sc2 := (va_up (va_up (va_up (va_up (va_up (va_up sc 19 (((tn : Nat) : Int))) 17 (((0 : Nat) : Int))) 22 (((1 : Nat) : Int))) 18 (((e_33 : Nat) : Int))) 21 (((0 : Nat) : Int))) 0 (((t_32 : Nat) : Int)))) hM_38 rfl
        refine r_stk (st2 := [.int (iI ((n_28 : Nat) : Int))]) rfl ?_
        refine lv_istore_n (lv' := [(1, .int (iI ((n_28 : Nat) : Int))), (0, .ref (ad 0))]) hx hb dX4_run_57 rfl hl (by decide) rfl (fun ls hl => ?_)
        have ht2 := ht2_35
        refine lv_aload_n hx hb dX4_run_58 rfl (lv_at hl 1 rfl) ?_
        refine r_get X hM_48.1 rfl in_X4 0 (by decide) q2009 (Or.inl rfl) (v := .int (iI ((t_32 : Nat) : Int))) rfl dX4_run_59 ?_
        refine r_if_eq (tgt := 77) hx hb ⟨by omega, by omega⟩ dX4_run_62 (by decide) (fun c62 => ?_) (fun c62 => ?_)
        · skip
          exact absurd (show (_ : Int) = ((0 : Nat) : Int) from c62) (by have := ht0_34; omega)
        · skip
          refine lv_aload_n hx hb dX4_run_65 rfl (lv_at hl 1 rfl) ?_
          refine lv_iload_n hx hb dX4_run_66 rfl (lv_at hl 0 rfl) ?_
          refine lv_iconst (v := (iI ((1 : Nat) : Int))) hx hb dX4_run_67 rfl ?_
          refine r_isub hx hb dX4_run_68 ?_
          refine r_set (y := .int (iI ((R.1 : Nat) : Int))) (congrArg (fun q : Int => Value.int (iI q)) (by have := hR1_36; omega)) ?_
          refine m_put X hM_48 hS hA0 (k := 3) (sc2 := (va_up (va_up (va_up (va_up (va_up (va_up (va_up sc 19 (((tn : Nat) : Int))) 17 (((0 : Nat) : Int))) 22 (((1 : Nat) : Int))) 18 (((e_33 : Nat) : Int))) 21 (((0 : Nat) : Int))) 0 (((t_32 : Nat) : Int))) 3 (((R.1 : Nat) : Int)))) rfl (by decide) q2012 rfl rfl rfl dX4_run_69 rfl (fun H locs hM_49 hS => ?_)
          refine lv_aload_n hx hb dX4_run_72 rfl (lv_at hl 1 rfl) ?_
          refine lv_iconst (v := (iI ((2 : Nat) : Int))) hx hb dX4_run_73 rfl ?_
          refine m_put X hM_49 hS hA0 (k := 0) (sc2 := (va_up (va_up (va_up (va_up (va_up (va_up (va_up sc 19 (((tn : Nat) : Int))) 17 (((0 : Nat) : Int))) 22 (((1 : Nat) : Int))) 18 (((e_33 : Nat) : Int))) 21 (((0 : Nat) : Int))) 3 (((R.1 : Nat) : Int))) 0 (((2 : Nat) : Int)))) rfl (by decide) q2009 rfl rfl rfl dX4_run_74 rfl (fun H locs hM_50 hS => ?_)
          refine lv_aload_n hx hb dX4_run_77 rfl (lv_at hl 1 rfl) ?_
          refine lv_iload_n hx hb dX4_run_78 rfl (lv_at hl 0 rfl) ?_
          refine r_callV (cells1 := 0) (slots1 := 0) X hR (c_X4_ends G ad (va_up (va_up (va_up (va_up (va_up (va_up (va_up sc 19 (((tn : Nat) : Int))) 17 (((0 : Nat) : Int))) 22 (((1 : Nat) : Int))) 18 (((e_33 : Nat) : Int))) 21 (((0 : Nat) : Int))) 3 (((R.1 : Nat) : Int))) 0 (((2 : Nat) : Int))) (va_up (va_up (va_up (va_up (va_up ar 6 (ar 5)) 14 f_15) 14 f_29) 5 v2_30) 10 f2_31) hA0 S hs hn hch h8 HR hV (show rg ((2 : Nat) : Int) by decide) ((n_28 : Nat) : Int) ) q2159 q2161 qs60 q100 q2162 ⟨rfl, pd_X4_ends⟩ (by decide) rfl rfl (by decide) (by decide) hM_50.1 rfl rfl (Nat.le_of_ble_eq_true rfl) hl.1 dX4_run_79 (hB.of hS (fp_ma.base hA0)) hM_50 hS (fun _ h => Or.inl h) (fun v H locs hp_51 hzC hkC hS => ?_)
          rcases hp_51 with ⟨rfl, hM_53, hth_52⟩ | ⟨pa_54, rfl, hM_57, hth_55, HR2_56⟩
          · skip
            refine r_stk (st2 := [.int (iI ((0 : Nat) : Int))]) rfl ?_
            refine r_iret hx hb hr hlk hQ hS (Nat.le_of_ble_eq_true rfl) (Nat.le_of_ble_eq_true rfl) dX4_run_82 ?_
            exact Or.inr (Or.inl ⟨e_33, (va_up (va_up (va_up (va_up (va_up (va_up ar 6 (ar 5)) 14 f_15) 14 f_29) 5 v2_30) 10 f2_31) 5 ((va_up (va_up (va_up (va_up (va_up ar 6 (ar 5)) 14 f_15) 14 f_29) 5 v2_30) 10 f2_31) 6)), rfl, (hM_53.nrm rfl), hV, (fun k hk => by simp [fp_scr] at hk; by_cases e5 : k = 5 <;> simp_all [va_up]), (by rw [hp1_17]), (by rw [hR2_37]; exact ht0_34)⟩)
          · skip
            exact absurd (show ((2 : Nat) : Int) = 0 from hth_55) (by decide)
      · skip
        have hM_58 := fp_ME.nrm (sc2 := (va_up (va_up (va_up (va_up (va_up (va_up sc 19 (((tn : Nat) : Int))) 17 (((0 : Nat) : Int))) 22 (((1 : Nat) : Int))) 18 (((e_43 : Nat) : Int))) 21 (((0 : Nat) : Int))) 0 (((0 : Nat) : Int)))) hM_47 rfl
        refine r_stk (st2 := [.int (iI ((n_39 : Nat) : Int))]) rfl ?_
        refine lv_istore_n (lv' := [(1, .int (iI ((n_39 : Nat) : Int))), (0, .ref (ad 0))]) hx hb dX4_run_57 rfl hl (by decide) rfl (fun ls hl => ?_)
        refine lv_aload_n hx hb dX4_run_58 rfl (lv_at hl 1 rfl) ?_
        refine r_get X hM_58.1 rfl in_X4 0 (by decide) q2009 (Or.inl rfl) (v := .int (iI ((0 : Nat) : Int))) rfl dX4_run_59 ?_
        refine r_if_eq (tgt := 77) hx hb (by decide) dX4_run_62 (by decide) (fun c62 => ?_) (fun c62 => ?_)
        · skip
          refine lv_aload_n hx hb dX4_run_77 rfl (lv_at hl 1 rfl) ?_
          refine lv_iload_n hx hb dX4_run_78 rfl (lv_at hl 0 rfl) ?_
          refine r_callV (cells1 := 0) (slots1 := 0) X hR (c_X4_ends G ad (va_up (va_up (va_up (va_up (va_up (va_up sc 19 (((tn : Nat) : Int))) 17 (((0 : Nat) : Int))) 22 (((1 : Nat) : Int))) 18 (((e_43 : Nat) : Int))) 21 (((0 : Nat) : Int))) 0 (((0 : Nat) : Int))) (va_up (va_up (va_up (va_up (va_up ar 6 (ar 5)) 14 f_15) 14 f_40) 5 v2_41) 10 f2_42) hA0 S hs hn hch h8 HR hV (show rg ((0 : Nat) : Int) by decide) ((n_39 : Nat) : Int) ) q2159 q2161 qs60 q100 q2162 ⟨rfl, pd_X4_ends⟩ (by decide) rfl rfl (by decide) (by decide) hM_58.1 rfl rfl (Nat.le_of_ble_eq_true rfl) hl.1 dX4_run_79 (hB.of hS (fp_ma.base hA0)) hM_58 hS (fun _ h => Or.inl h) (fun v H locs hp_59 hzC hkC hS => ?_)
          rcases hp_59 with ⟨rfl, hM_61, hth_60⟩ | ⟨pa_62, rfl, hM_65, hth_63, HR2_64⟩
          · skip
            exact absurd rfl (show ((0 : Nat) : Int) ≠ 0 from hth_60)
          · skip
            have hM_66 := fp_ME.nrm (sc2 := (va_up (va_up (va_up (va_up (va_up (va_up (va_up sc 19 (((tn : Nat) : Int))) 17 (((0 : Nat) : Int))) 22 (((1 : Nat) : Int))) 18 (((e_43 : Nat) : Int))) 21 (((0 : Nat) : Int))) 0 (((0 : Nat) : Int))) 1 (((fp_hn hn : Nat) : Int)))) hM_65 rfl
            refine r_stk (st2 := [.int (iI (((n_39 : Nat) : Int)))]) rfl ?_
            refine r_iret hx hb hr hlk hQ hS (Nat.le_of_ble_eq_true rfl) (Nat.le_of_ble_eq_true rfl) dX4_run_82 ?_
            exact Or.inr (Or.inr (⟨n_39, S2_44, e_43, (va_up (va_up (va_up (va_up (va_up (va_up ar 6 (ar 5)) 14 f_15) 14 f_40) 5 v2_41) 10 f2_42) 9 pa_62), rfl, (hM_66.nrm rfl), hV2_46, HR2_64, (fun k hk h5 h9 => by simp [fp_scr] at hk; simp_all [va_up]), (by rw [hp1_17]), hR0_45⟩))
        · exact absurd c62 (by omega)
    · exact absurd c31 (by omega)
