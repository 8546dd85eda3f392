/-! THE MODEL: all commands -/
set_option maxHeartbeats 4000000 in
theorem c_X4_commandsP (G : fp_G) (ad : Nat → Nat) (sc : Nat → Int) (ar : Nat → Nat → Int) (hA0 : fp_MA G ad) (tx : Nat → Nat) (tn : Nat) (ht : sc 19 = ((tn : Nat) : Int)) (h60 : tn ≤ 60) (htx : ∀ i, i < tn → ar 12 i = (tx i : Int)) (htb : ∀ i, i < tn → tx i < 256) (hwd : ∀ i, i < 39 → ar 15 i = (fp_wd i : Int)) (hwa : ∀ i, i < 8 → ar 16 i = (fp_wa i : Int)) (S : PS) (hV : fp_VR S (ar 5)) (hth : sc 0 = 0) (p : Bool × Nat) (hp : (fp_prg tx tn).2 = p) (hdg : sc 22 = 0) (hsp : sP S < 999) (h30 : fp_t30 S) : fp_M G yX4_commands cX4_commands 2 (some .int) 11 245 0 0 [.ref (ad 0)] (fp_ME G ad sc ar) (fp_ma ad) (fun _ v H => (∃ (n : Nat), ∃ (f : Nat → Int), ∃ (e : Nat), v = some (.int (iI ((n : Nat) : Int))) ∧ fp_ME G ad (va_up (va_up sc 18 (((e : Nat) : Int))) 21 (((1 : Nat) : Int))) (va_up ar 14 f) H ∧ (p = (true, e)) ∧ (e ≤ tn)) ∨ (∃ (n : Nat), ∃ (f : Nat → Int), ∃ (e : Nat), v = some (.int (iI ((n : Nat) : Int))) ∧ fp_ME G ad (va_up (va_up sc 18 (((e : Nat) : Int))) 21 (((0 : Nat) : Int))) (va_up ar 14 f) H ∧ (p = (false, e)) ∧ (e ≤ tn))) := by
  refine fp_M.intro (by decide) (Nat.le_of_ble_eq_true rfl) ?_
  intro pg en s mi ag bl mt cd rR qQ ls X hx hb hr hlk hnm hR hQ hB hM hl
  have hS : va_S (fA (fp_ma ad) s.heap.size) s.heap s.heap [] := va_S.rf
  generalize ([] : List Loc) = locs at hS ⊢
  have hN24 := hV.1.1
  refine lv_aload_n hx hb dX4_commands_0 rfl (lv_at hl 0 rfl) ?_
  refine lv_iconst (v := (iI ((0 : Nat) : Int))) hx hb dX4_commands_1 rfl ?_
  refine m_put X hM hS hA0 (k := 18) (sc2 := (va_up sc 18 (((0 : Nat) : Int)))) rfl (by decide) q2027 rfl rfl rfl dX4_commands_2 rfl (fun H locs hM_1 hS => ?_)
  refine lv_aload_n hx hb dX4_commands_5 rfl (lv_at hl 0 rfl) ?_
  refine lv_iconst (v := (iI ((0 : Nat) : Int))) hx hb dX4_commands_6 rfl ?_
  refine m_put X hM_1 hS hA0 (k := 21) (sc2 := (va_up (va_up sc 18 (((0 : Nat) : Int))) 21 (((0 : Nat) : Int)))) rfl (by decide) q2030 rfl rfl rfl dX4_commands_7 rfl (fun H locs hM_2 hS => ?_)
  refine lv_iconst (v := (iI ((1 : Nat) : Int))) hx hb dX4_commands_10 rfl ?_
  refine lv_istore_n (lv' := [(1, .int (iI ((1 : Nat) : Int))), (0, .ref (ad 0))]) hx hb dX4_commands_11 rfl hl (by decide) rfl (fun ls hl => ?_)
  refine lv_aload_n hx hb dX4_commands_12 rfl (lv_at hl 1 rfl) ?_
  refine r_callV (cells1 := 0) (slots1 := 0) X hR (c_X4_command G ad (va_up (va_up sc 18 (((0 : Nat) : Int))) 21 (((0 : Nat) : Int))) ar hA0 tx tn 0 rfl ht h60 (Nat.zero_le _) htx htb hwd hwa S hV hth 0 hdg (by decide)  rfl hsp h30) q2462 q2464 qs79 q100 q2465 ⟨rfl, pd_X4_command⟩ (by decide) rfl rfl (by decide) (by decide) hM_2.1 rfl rfl (Nat.le_of_ble_eq_true rfl) hl.1 dX4_commands_13 (hB.of hS (fp_ma.base hA0)) hM_2 hS (fun _ h => Or.inl h) (fun v H locs hp_3 hzC hkC hS => ?_)
  rcases hp_3 with ⟨c_4, f_5, rfl, hM_9, hcm_6, hc_7, hle2_8⟩ | ⟨c_10, f_11, rfl, hM_17, hd0_12, hcm_13, hc_14, hle2_15, hlt_16⟩ | ⟨c_18, f_19, t_20, v2_21, f2_22, rfl, hM_30, hd1_23, hcm_24, hc_25, hle2_26, hlt_27, hd_28, ht0_29⟩ | ⟨c_31, f_32, v2_33, f2_34, rfl, hM_42, hd1_35, hcm_36, hc_37, hle2_38, hlt_39, hd_40, hV2_41⟩
  · skip
    have hM_43 := fp_ME.nrm (sc2 := (va_up (va_up sc 18 (((c_4.2.1 : Nat) : Int))) 21 (((1 : Nat) : Int)))) hM_9 rfl
    refine r_stk (st2 := []) rfl ?_
    have L16 : ∀ (n : Nat), n ≤ (tn + 2) → ∀ (f : Nat → Int) (wz : Nat) (hq : Nat) (H : Heap) (locs : List Loc) (ls : Array Slot),(fp_cws tx tn p n wz hq) → lv_has ls 2 [(0, .ref (ad 0)), (1, .int (iI ((n : Nat) : Int)))] → va_S (fA (fp_ma ad) s.heap.size) s.heap H locs → fp_ME G ad (va_up (va_up sc 18 (((hq : Nat) : Int))) 21 (((wz : Nat) : Int))) (va_up ar 14 f) H → W pg (g_l G) en rR s mi ag bl mt cd H locs 0 0 qQ (F0 mi 16 ls []) := by
      refine lp_up (tn + 2) ?_
      intro n hk16 ih16 f wz hq H locs ls hws hl hS hM
      have hbq := hws.b
      refine lv_aload_n hx hb dX4_commands_16 rfl (lv_at hl 0 rfl) ?_
      refine r_get X hM.1 rfl in_X4 21 (by decide) q2030 (Or.inl rfl) (v := .int (iI ((wz : Nat) : Int))) rfl dX4_commands_17 ?_
      refine r_if_ne (tgt := 64) hx hb ⟨by omega, by omega⟩ dX4_commands_20 (by decide) (fun c20 => ?_) (fun c20 => ?_)
      · skip
        have hz0 : wz = 1 := by omega
        subst hz0
        refine lv_iload_n hx hb dX4_commands_64 rfl (lv_at hl 1 rfl) ?_
        refine r_iret hx hb hr hlk hQ hS (Nat.le_of_ble_eq_true rfl) (Nat.le_of_ble_eq_true rfl) dX4_commands_65 ?_
        exact Or.inl ⟨n, f, hq, rfl, (hM.nrm rfl), (hws.u1 (by decide)), (hbq.1)⟩
      · skip
        have hz0 : wz = 0 := by omega
        subst hz0
        refine lv_aload_n hx hb dX4_commands_23 rfl (lv_at hl 0 rfl) ?_
        refine r_get X hM.1 rfl in_X4 0 (by decide) q2009 (Or.inl rfl) (v := .int (iI (sc 0))) rfl dX4_commands_24 ?_
        refine r_set (y := .int (iI ((0 : Nat) : Int))) (congrArg (fun q : Int => Value.int (iI q)) (hth)) ?_
        refine r_if_ne (tgt := 64) hx hb (by decide) dX4_commands_27 (by decide) (fun c27 => ?_) (fun c27 => ?_)
        · exact absurd c27 (by omega)
        · skip
          refine lv_aload_n hx hb dX4_commands_30 rfl (lv_at hl 0 rfl) ?_
          refine r_get X hM.1 rfl in_X4 18 (by decide) q2027 (Or.inl rfl) (v := .int (iI ((hq : Nat) : Int))) rfl dX4_commands_31 ?_
          refine lv_aload_n hx hb dX4_commands_34 rfl (lv_at hl 0 rfl) ?_
          refine r_get X hM.1 rfl in_X4 19 (by decide) q2028 (Or.inl rfl) (v := .int (iI (sc 19))) rfl dX4_commands_35 ?_
          refine r_set (y := .int (iI ((tn : Nat) : Int))) (congrArg (fun q : Int => Value.int (iI q)) (ht)) ?_
          refine r_icmp_ge (tgt := 64) hx hb ⟨by omega, by omega⟩ ⟨by omega, by omega⟩ dX4_commands_38 (by decide) (fun c38 => ?_) (fun c38 => ?_)
          · skip
            refine lv_iload_n hx hb dX4_commands_64 rfl (lv_at hl 1 rfl) ?_
            refine r_iret hx hb hr hlk hQ hS (Nat.le_of_ble_eq_true rfl) (Nat.le_of_ble_eq_true rfl) dX4_commands_65 ?_
            exact Or.inr (⟨n, f, hq, rfl, (hM.nrm rfl), (hws.u0 (by omega)), (hbq.1)⟩)
          · skip
            refine lv_aload_n hx hb dX4_commands_41 rfl (lv_at hl 0 rfl) ?_
            refine lv_bipush (v := (iI ((59 : Nat) : Int))) hx hb dX4_commands_42 rfl ?_
            refine r_callV (cells1 := 0) (slots1 := 0) X hR (c_X4_mark G ad (va_up (va_up sc 18 (((hq : Nat) : Int))) 21 (((0 : Nat) : Int))) (va_up ar 14 f) hA0 tx tn hq rfl ht h60 hbq.1 htx htb 59 (by decide) (by decide) rfl) q2482 q2484 qs84 q100 q2485 ⟨rfl, pd_X4_mark⟩ (by decide) rfl rfl (by decide) (by decide) hM.1 rfl rfl (Nat.le_of_ble_eq_true rfl) hl.1 dX4_commands_44 (hB.of hS (fp_ma.base hA0)) hM hS (fun _ h => Or.inl h) (fun v H locs hp_44 hzC hkC hS => ?_)
            rcases hp_44 with ⟨rfl, hM_47, hs_45, hle2_46⟩ | ⟨rfl, hM_50, hs_48, hle2_49⟩
            · skip
              have hM_51 := fp_ME.nrm (sc2 := (va_up (va_up sc 18 (((hq + 1 : Nat) : Int))) 21 (((0 : Nat) : Int)))) hM_47 rfl
              refine r_stk (st2 := []) rfl ?_
              refine lv_aload_n hx hb dX4_commands_47 rfl (lv_at hl 0 rfl) ?_
              refine r_get X hM_51.1 rfl in_X4 21 (by decide) q2030 (Or.inl rfl) (v := .int (iI ((0 : Nat) : Int))) rfl dX4_commands_48 ?_
              refine r_if_ne (tgt := 58) hx hb (by decide) dX4_commands_51 (by decide) (fun c51 => ?_) (fun c51 => ?_)
              · exact absurd c51 (by omega)
              · skip
                refine lv_aload_n hx hb dX4_commands_54 rfl (lv_at hl 0 rfl) ?_
                refine r_callV (cells1 := 0) (slots1 := 0) X hR (c_X4_command G ad (va_up (va_up sc 18 (((hq + 1 : Nat) : Int))) 21 (((0 : Nat) : Int))) (va_up ar 14 f) hA0 tx tn (hq + 1) rfl ht h60 hle2_46 htx htb hwd hwa S hV hth 0 hdg (by decide)  rfl hsp h30) q2462 q2464 qs79 q100 q2465 ⟨rfl, pd_X4_command⟩ (by decide) rfl rfl (by decide) (by decide) hM_51.1 rfl rfl (Nat.le_of_ble_eq_true rfl) hl.1 dX4_commands_55 (hB.of hS (fp_ma.base hA0)) hM_51 hS (fun _ h => Or.inl h) (fun v H locs hp_52 hzC hkC hS => ?_)
                rcases hp_52 with ⟨c_53, f_54, rfl, hM_58, hcm_55, hc_56, hle2_57⟩ | ⟨c_59, f_60, rfl, hM_66, hd0_61, hcm_62, hc_63, hle2_64, hlt_65⟩ | ⟨c_67, f_68, t_69, v2_70, f2_71, rfl, hM_79, hd1_72, hcm_73, hc_74, hle2_75, hlt_76, hd_77, ht0_78⟩ | ⟨c_80, f_81, v2_82, f2_83, rfl, hM_91, hd1_84, hcm_85, hc_86, hle2_87, hlt_88, hd_89, hV2_90⟩
                · skip
                  have hM_92 := fp_ME.nrm (sc2 := (va_up (va_up sc 18 (((c_53.2.1 : Nat) : Int))) 21 (((1 : Nat) : Int)))) hM_58 rfl
                  refine r_stk (st2 := []) rfl ?_
                  refine lv_iinc (v := (iI ((n + 1 : Nat) : Int))) (lv' := [(1, .int (iI ((n + 1 : Nat) : Int))), (0, .ref (ad 0))]) hx hb dX4_commands_58 hl (k := 1) rfl (iI_incN _ _) (by decide) rfl (fun ls hl => ?_)
                  refine lv_goto (tgt := 16) hx hb dX4_commands_61 (by decide) ?_
                  exact ih16 (by omega) f_54 1 (c_53.2.1) H locs ls (hws.t1 (by omega) hs_45 hcm_55 hc_56 hle2_57) (lv_sub hl [1, 0] rfl) hS ((fp_ME.uu hM_92).nrm rfl)
                · skip
                  have hM_93 := fp_ME.nrm (sc2 := (va_up (va_up sc 18 (((c_59.2.1 : Nat) : Int))) 21 (((0 : Nat) : Int)))) hM_66 rfl
                  refine r_stk (st2 := []) rfl ?_
                  refine lv_iinc (v := (iI ((n + 1 : Nat) : Int))) (lv' := [(1, .int (iI ((n + 1 : Nat) : Int))), (0, .ref (ad 0))]) hx hb dX4_commands_58 hl (k := 1) rfl (iI_incN _ _) (by decide) rfl (fun ls hl => ?_)
                  refine lv_goto (tgt := 16) hx hb dX4_commands_61 (by decide) ?_
                  exact ih16 (by omega) f_60 0 (c_59.2.1) H locs ls (hws.t2 (by omega) hs_45 hcm_62 hc_63 hle2_64 hlt_65) (lv_sub hl [1, 0] rfl) hS ((fp_ME.uu hM_93).nrm rfl)
                · skip
                  have hM_94 := fp_ME.nrm (sc2 := (va_up (va_up (va_up sc 18 (((c_67.2.1 : Nat) : Int))) 21 (((0 : Nat) : Int))) 0 (((t_69 : Nat) : Int)))) hM_79 rfl
                  refine r_stk (st2 := []) rfl ?_
                  exact absurd hd1_72 (by decide)
                · skip
                  have hM_95 := fp_ME.nrm (sc2 := (va_up (va_up (va_up sc 18 (((c_80.2.1 : Nat) : Int))) 21 (((0 : Nat) : Int))) 0 (((0 : Nat) : Int)))) hM_91 rfl
                  refine r_stk (st2 := []) rfl ?_
                  exact absurd hd1_84 (by decide)
            · skip
              have hM_96 := fp_ME.nrm (sc2 := (va_up (va_up sc 18 (((hq : Nat) : Int))) 21 (((1 : Nat) : Int)))) hM_50 rfl
              refine r_stk (st2 := []) rfl ?_
              refine lv_aload_n hx hb dX4_commands_47 rfl (lv_at hl 0 rfl) ?_
              refine r_get X hM_96.1 rfl in_X4 21 (by decide) q2030 (Or.inl rfl) (v := .int (iI ((1 : Nat) : Int))) rfl dX4_commands_48 ?_
              refine r_if_ne (tgt := 58) hx hb (by decide) dX4_commands_51 (by decide) (fun c51 => ?_) (fun c51 => ?_)
              · skip
                refine lv_iinc (v := (iI ((n + 1 : Nat) : Int))) (lv' := [(1, .int (iI ((n + 1 : Nat) : Int))), (0, .ref (ad 0))]) hx hb dX4_commands_58 hl (k := 1) rfl (iI_incN _ _) (by decide) rfl (fun ls hl => ?_)
                refine lv_goto (tgt := 16) hx hb dX4_commands_61 (by decide) ?_
                exact ih16 (by omega) f 1 hq H locs ls (hws.t0 (by omega) hs_48) (lv_sub hl [1, 0] rfl) hS (hM_96.nrm rfl)
              · exact absurd c51 (by omega)
    exact L16 1 (by omega) f_5 1 (c_4.2.1) H locs ls (fp_cws.s0 hp hcm_6 hc_7 hle2_8) (lv_sub hl [1, 0] rfl) hS (hM_43.nrm rfl)
  · skip
    have hM_97 := fp_ME.nrm (sc2 := (va_up (va_up sc 18 (((c_10.2.1 : Nat) : Int))) 21 (((0 : Nat) : Int)))) hM_17 rfl
    refine r_stk (st2 := []) rfl ?_
    have L16 : ∀ (n : Nat), n ≤ (tn + 2) → ∀ (f : Nat → Int) (wz : Nat) (hq : Nat) (H : Heap) (locs : List Loc) (ls : Array Slot),(fp_cws tx tn p n wz hq) → lv_has ls 2 [(0, .ref (ad 0)), (1, .int (iI ((n : Nat) : Int)))] → va_S (fA (fp_ma ad) s.heap.size) s.heap H locs → fp_ME G ad (va_up (va_up sc 18 (((hq : Nat) : Int))) 21 (((wz : Nat) : Int))) (va_up ar 14 f) H → W pg (g_l G) en rR s mi ag bl mt cd H locs 0 0 qQ (F0 mi 16 ls []) := by
      refine lp_up (tn + 2) ?_
      intro n hk16 ih16 f wz hq H locs ls hws hl hS hM
      have hbq := hws.b
      refine lv_aload_n hx hb dX4_commands_16 rfl (lv_at hl 0 rfl) ?_
      refine r_get X hM.1 rfl in_X4 21 (by decide) q2030 (Or.inl rfl) (v := .int (iI ((wz : Nat) : Int))) rfl dX4_commands_17 ?_
      refine r_if_ne (tgt := 64) hx hb ⟨by omega, by omega⟩ dX4_commands_20 (by decide) (fun c20 => ?_) (fun c20 => ?_)
      · skip
        have hz0 : wz = 1 := by omega
        subst hz0
        refine lv_iload_n hx hb dX4_commands_64 rfl (lv_at hl 1 rfl) ?_
        refine r_iret hx hb hr hlk hQ hS (Nat.le_of_ble_eq_true rfl) (Nat.le_of_ble_eq_true rfl) dX4_commands_65 ?_
        exact Or.inl ⟨n, f, hq, rfl, (hM.nrm rfl), (hws.u1 (by decide)), (hbq.1)⟩
      · skip
        have hz0 : wz = 0 := by omega
        subst hz0
        refine lv_aload_n hx hb dX4_commands_23 rfl (lv_at hl 0 rfl) ?_
        refine r_get X hM.1 rfl in_X4 0 (by decide) q2009 (Or.inl rfl) (v := .int (iI (sc 0))) rfl dX4_commands_24 ?_
        refine r_set (y := .int (iI ((0 : Nat) : Int))) (congrArg (fun q : Int => Value.int (iI q)) (hth)) ?_
        refine r_if_ne (tgt := 64) hx hb (by decide) dX4_commands_27 (by decide) (fun c27 => ?_) (fun c27 => ?_)
        · exact absurd c27 (by omega)
        · skip
          refine lv_aload_n hx hb dX4_commands_30 rfl (lv_at hl 0 rfl) ?_
          refine r_get X hM.1 rfl in_X4 18 (by decide) q2027 (Or.inl rfl) (v := .int (iI ((hq : Nat) : Int))) rfl dX4_commands_31 ?_
          refine lv_aload_n hx hb dX4_commands_34 rfl (lv_at hl 0 rfl) ?_
          refine r_get X hM.1 rfl in_X4 19 (by decide) q2028 (Or.inl rfl) (v := .int (iI (sc 19))) rfl dX4_commands_35 ?_
          refine r_set (y := .int (iI ((tn : Nat) : Int))) (congrArg (fun q : Int => Value.int (iI q)) (ht)) ?_
          refine r_icmp_ge (tgt := 64) hx hb ⟨by omega, by omega⟩ ⟨by omega, by omega⟩ dX4_commands_38 (by decide) (fun c38 => ?_) (fun c38 => ?_)
          · skip
            refine lv_iload_n hx hb dX4_commands_64 rfl (lv_at hl 1 rfl) ?_
            refine r_iret hx hb hr hlk hQ hS (Nat.le_of_ble_eq_true rfl) (Nat.le_of_ble_eq_true rfl) dX4_commands_65 ?_
            exact Or.inr (⟨n, f, hq, rfl, (hM.nrm rfl), (hws.u0 (by omega)), (hbq.1)⟩)
          · skip
            refine lv_aload_n hx hb dX4_commands_41 rfl (lv_at hl 0 rfl) ?_
            refine lv_bipush (v := (iI ((59 : Nat) : Int))) hx hb dX4_commands_42 rfl ?_
            refine r_callV (cells1 := 0) (slots1 := 0) X hR (c_X4_mark G ad (va_up (va_up sc 18 (((hq : Nat) : Int))) 21 (((0 : Nat) : Int))) (va_up ar 14 f) hA0 tx tn hq rfl ht h60 hbq.1 htx htb 59 (by decide) (by decide) rfl) q2482 q2484 qs84 q100 q2485 ⟨rfl, pd_X4_mark⟩ (by decide) rfl rfl (by decide) (by decide) hM.1 rfl rfl (Nat.le_of_ble_eq_true rfl) hl.1 dX4_commands_44 (hB.of hS (fp_ma.base hA0)) hM hS (fun _ h => Or.inl h) (fun v H locs hp_98 hzC hkC hS => ?_)
            rcases hp_98 with ⟨rfl, hM_101, hs_99, hle2_100⟩ | ⟨rfl, hM_104, hs_102, hle2_103⟩
            · skip
              have hM_105 := fp_ME.nrm (sc2 := (va_up (va_up sc 18 (((hq + 1 : Nat) : Int))) 21 (((0 : Nat) : Int)))) hM_101 rfl
              refine r_stk (st2 := []) rfl ?_
              refine lv_aload_n hx hb dX4_commands_47 rfl (lv_at hl 0 rfl) ?_
              refine r_get X hM_105.1 rfl in_X4 21 (by decide) q2030 (Or.inl rfl) (v := .int (iI ((0 : Nat) : Int))) rfl dX4_commands_48 ?_
              refine r_if_ne (tgt := 58) hx hb (by decide) dX4_commands_51 (by decide) (fun c51 => ?_) (fun c51 => ?_)
              · exact absurd c51 (by omega)
              · skip
                refine lv_aload_n hx hb dX4_commands_54 rfl (lv_at hl 0 rfl) ?_
                refine r_callV (cells1 := 0) (slots1 := 0) X hR (c_X4_command G ad (va_up (va_up sc 18 (((hq + 1 : Nat) : Int))) 21 (((0 : Nat) : Int))) (va_up ar 14 f) hA0 tx tn (hq + 1) rfl ht h60 hle2_100 htx htb hwd hwa S hV hth 0 hdg (by decide)  rfl hsp h30) q2462 q2464 qs79 q100 q2465 ⟨rfl, pd_X4_command⟩ (by decide) rfl rfl (by decide) (by decide) hM_105.1 rfl rfl (Nat.le_of_ble_eq_true rfl) hl.1 dX4_commands_55 (hB.of hS (fp_ma.base hA0)) hM_105 hS (fun _ h => Or.inl h) (fun v H locs hp_106 hzC hkC hS => ?_)
                rcases hp_106 with ⟨c_107, f_108, rfl, hM_112, hcm_109, hc_110, hle2_111⟩ | ⟨c_113, f_114, rfl, hM_120, hd0_115, hcm_116, hc_117, hle2_118, hlt_119⟩ | ⟨c_121, f_122, t_123, v2_124, f2_125, rfl, hM_133, hd1_126, hcm_127, hc_128, hle2_129, hlt_130, hd_131, ht0_132⟩ | ⟨c_134, f_135, v2_136, f2_137, rfl, hM_145, hd1_138, hcm_139, hc_140, hle2_141, hlt_142, hd_143, hV2_144⟩
                · skip
                  have hM_146 := fp_ME.nrm (sc2 := (va_up (va_up sc 18 (((c_107.2.1 : Nat) : Int))) 21 (((1 : Nat) : Int)))) hM_112 rfl
                  refine r_stk (st2 := []) rfl ?_
                  refine lv_iinc (v := (iI ((n + 1 : Nat) : Int))) (lv' := [(1, .int (iI ((n + 1 : Nat) : Int))), (0, .ref (ad 0))]) hx hb dX4_commands_58 hl (k := 1) rfl (iI_incN _ _) (by decide) rfl (fun ls hl => ?_)
                  refine lv_goto (tgt := 16) hx hb dX4_commands_61 (by decide) ?_
                  exact ih16 (by omega) f_108 1 (c_107.2.1) H locs ls (hws.t1 (by omega) hs_99 hcm_109 hc_110 hle2_111) (lv_sub hl [1, 0] rfl) hS ((fp_ME.uu hM_146).nrm rfl)
                · skip
                  have hM_147 := fp_ME.nrm (sc2 := (va_up (va_up sc 18 (((c_113.2.1 : Nat) : Int))) 21 (((0 : Nat) : Int)))) hM_120 rfl
                  refine r_stk (st2 := []) rfl ?_
                  refine lv_iinc (v := (iI ((n + 1 : Nat) : Int))) (lv' := [(1, .int (iI ((n + 1 : Nat) : Int))), (0, .ref (ad 0))]) hx hb dX4_commands_58 hl (k := 1) rfl (iI_incN _ _) (by decide) rfl (fun ls hl => ?_)
                  refine lv_goto (tgt := 16) hx hb dX4_commands_61 (by decide) ?_
                  exact ih16 (by omega) f_114 0 (c_113.2.1) H locs ls (hws.t2 (by omega) hs_99 hcm_116 hc_117 hle2_118 hlt_119) (lv_sub hl [1, 0] rfl) hS ((fp_ME.uu hM_147).nrm rfl)
                · skip
                  have hM_148 := fp_ME.nrm (sc2 := (va_up (va_up (va_up sc 18 (((c_121.2.1 : Nat) : Int))) 21 (((0 : Nat) : Int))) 0 (((t_123 : Nat) : Int)))) hM_133 rfl
                  refine r_stk (st2 := []) rfl ?_
                  exact absurd hd1_126 (by decide)
                · skip
                  have hM_149 := fp_ME.nrm (sc2 := (va_up (va_up (va_up sc 18 (((c_134.2.1 : Nat) : Int))) 21 (((0 : Nat) : Int))) 0 (((0 : Nat) : Int)))) hM_145 rfl
                  refine r_stk (st2 := []) rfl ?_
                  exact absurd hd1_138 (by decide)
            · skip
              have hM_150 := fp_ME.nrm (sc2 := (va_up (va_up sc 18 (((hq : Nat) : Int))) 21 (((1 : Nat) : Int)))) hM_104 rfl
              refine r_stk (st2 := []) rfl ?_
              refine lv_aload_n hx hb dX4_commands_47 rfl (lv_at hl 0 rfl) ?_
              refine r_get X hM_150.1 rfl in_X4 21 (by decide) q2030 (Or.inl rfl) (v := .int (iI ((1 : Nat) : Int))) rfl dX4_commands_48 ?_
              refine r_if_ne (tgt := 58) hx hb (by decide) dX4_commands_51 (by decide) (fun c51 => ?_) (fun c51 => ?_)
              · skip
                refine lv_iinc (v := (iI ((n + 1 : Nat) : Int))) (lv' := [(1, .int (iI ((n + 1 : Nat) : Int))), (0, .ref (ad 0))]) hx hb dX4_commands_58 hl (k := 1) rfl (iI_incN _ _) (by decide) rfl (fun ls hl => ?_)
                refine lv_goto (tgt := 16) hx hb dX4_commands_61 (by decide) ?_
                exact ih16 (by omega) f 1 hq H locs ls (hws.t0 (by omega) hs_102) (lv_sub hl [1, 0] rfl) hS (hM_150.nrm rfl)
              · exact absurd c51 (by omega)
    exact L16 1 (by omega) f_11 0 (c_10.2.1) H locs ls (fp_cws.s1 hp hcm_13 hc_14 hle2_15) (lv_sub hl [1, 0] rfl) hS (hM_97.nrm rfl)
  · skip
    have hM_151 := fp_ME.nrm (sc2 := (va_up (va_up (va_up sc 18 (((c_18.2.1 : Nat) : Int))) 21 (((0 : Nat) : Int))) 0 (((t_20 : Nat) : Int)))) hM_30 rfl
    refine r_stk (st2 := []) rfl ?_
    exact absurd hd1_23 (by decide)
  · skip
    have hM_152 := fp_ME.nrm (sc2 := (va_up (va_up (va_up sc 18 (((c_31.2.1 : Nat) : Int))) 21 (((0 : Nat) : Int))) 0 (((0 : Nat) : Int)))) hM_42 rfl
    refine r_stk (st2 := []) rfl ?_
    exact absurd hd1_35 (by decide)
set_option maxHeartbeats 4000000 in
theorem c_X4_commandsD (G : fp_G) (ad : Nat → Nat) (sc : Nat → Int) (ar : Nat → Nat → Int) (hA0 : fp_MA G ad) (tx : Nat → Nat) (tn : Nat) (ht : sc 19 = ((tn : Nat) : Int)) (h60 : tn ≤ 60) (htx : ∀ i, i < tn → ar 12 i = (tx i : Int)) (htb : ∀ i, i < tn → tx i < 256) (hwd : ∀ i, i < 39 → ar 15 i = (fp_wd i : Int)) (hwa : ∀ i, i < 8 → ar 16 i = (fp_wa i : Int)) (S : PS) (hV : fp_VR S (ar 5)) (hth : sc 0 = 0) (hp : (fp_prg tx tn).2.1 = false) (R : Nat × Nat × PS) (hRR : fp_exe (fp_prg tx tn).1 S = R) (hdg : sc 22 = 1) (hsp : sP S + tn < 999) (h30 : fp_t30 S) : fp_M G yX4_commands cX4_commands 2 (some .int) 11 245 0 0 [.ref (ad 0)] (fp_ME G ad sc ar) (fp_ma ad) (fun _ v H => (∃ (n : Nat), ∃ (f : Nat → Int), ∃ (v2 : Nat → Int), ∃ (f2 : Nat → Int), ∃ (t : Nat), ∃ (e : Nat), v = some (.int (iI ((n : Nat) : Int))) ∧ fp_ME G ad (va_up (va_up (va_up sc 18 (((e : Nat) : Int))) 21 (((0 : Nat) : Int))) 0 (((t : Nat) : Int))) (va_up (va_up (va_up ar 14 f) 5 v2) 10 f2) H ∧ (t ≠ 0) ∧ (t ≤ 2) ∧ (R.1 + 1 = n) ∧ (R.2.1 = t)) ∨ (∃ (n : Nat), ∃ (f : Nat → Int), ∃ (v2 : Nat → Int), ∃ (f2 : Nat → Int), ∃ (e : Nat), ∃ (S2 : PS), v = some (.int (iI ((n : Nat) : Int))) ∧ fp_ME G ad (va_up (va_up (va_up sc 18 (((e : Nat) : Int))) 21 (((0 : Nat) : Int))) 0 (((0 : Nat) : Int))) (va_up (va_up (va_up ar 14 f) 5 v2) 10 f2) H ∧ (R = (n, 0, S2)) ∧ (fp_VR S2 v2))) := by
  refine fp_M.intro (by decide) (Nat.le_of_ble_eq_true rfl) ?_
  intro pg en s mi ag bl mt cd rR qQ ls X hx hb hr hlk hnm hR hQ hB hM hl
  have hS : va_S (fA (fp_ma ad) s.heap.size) s.heap s.heap [] := va_S.rf
  generalize ([] : List Loc) = locs at hS ⊢
  have hN24 := hV.1.1
  refine lv_aload_n hx hb dX4_commands_0 rfl (lv_at hl 0 rfl) ?_
  refine lv_iconst (v := (iI ((0 : Nat) : Int))) hx hb dX4_commands_1 rfl ?_
  refine m_put X hM hS hA0 (k := 18) (sc2 := (va_up sc 18 (((0 : Nat) : Int)))) rfl (by decide) q2027 rfl rfl rfl dX4_commands_2 rfl (fun H locs hM_1 hS => ?_)
  refine lv_aload_n hx hb dX4_commands_5 rfl (lv_at hl 0 rfl) ?_
  refine lv_iconst (v := (iI ((0 : Nat) : Int))) hx hb dX4_commands_6 rfl ?_
  refine m_put X hM_1 hS hA0 (k := 21) (sc2 := (va_up (va_up sc 18 (((0 : Nat) : Int))) 21 (((0 : Nat) : Int)))) rfl (by decide) q2030 rfl rfl rfl dX4_commands_7 rfl (fun H locs hM_2 hS => ?_)
  refine lv_iconst (v := (iI ((1 : Nat) : Int))) hx hb dX4_commands_10 rfl ?_
  refine lv_istore_n (lv' := [(1, .int (iI ((1 : Nat) : Int))), (0, .ref (ad 0))]) hx hb dX4_commands_11 rfl hl (by decide) rfl (fun ls hl => ?_)
  refine lv_aload_n hx hb dX4_commands_12 rfl (lv_at hl 1 rfl) ?_
  refine r_callV (cells1 := 0) (slots1 := 0) X hR (c_X4_command G ad (va_up (va_up sc 18 (((0 : Nat) : Int))) 21 (((0 : Nat) : Int))) ar hA0 tx tn 0 rfl ht h60 (Nat.zero_le _) htx htb hwd hwa S hV hth 1 hdg (by decide)  rfl (by omega) h30) q2462 q2464 qs79 q100 q2465 ⟨rfl, pd_X4_command⟩ (by decide) rfl rfl (by decide) (by decide) hM_2.1 rfl rfl (Nat.le_of_ble_eq_true rfl) hl.1 dX4_commands_13 (hB.of hS (fp_ma.base hA0)) hM_2 hS (fun _ h => Or.inl h) (fun v H locs hp_3 hzC hkC hS => ?_)
  rcases hp_3 with ⟨c_4, f_5, rfl, hM_9, hcm_6, hc_7, hle2_8⟩ | ⟨c_10, f_11, rfl, hM_17, hd0_12, hcm_13, hc_14, hle2_15, hlt_16⟩ | ⟨c_18, f_19, t_20, v2_21, f2_22, rfl, hM_30, hd1_23, hcm_24, hc_25, hle2_26, hlt_27, hd_28, ht0_29⟩ | ⟨c_31, f_32, v2_33, f2_34, rfl, hM_42, hd1_35, hcm_36, hc_37, hle2_38, hlt_39, hd_40, hV2_41⟩
  · skip
    have hM_43 := fp_ME.nrm (sc2 := (va_up (va_up sc 18 (((c_4.2.1 : Nat) : Int))) 21 (((1 : Nat) : Int)))) hM_9 rfl
    refine r_stk (st2 := []) rfl ?_
    exact (fp_cwd.w0 hp hcm_6 hc_7).elim
  · skip
    have hM_44 := fp_ME.nrm (sc2 := (va_up (va_up sc 18 (((c_10.2.1 : Nat) : Int))) 21 (((0 : Nat) : Int)))) hM_17 rfl
    refine r_stk (st2 := []) rfl ?_
    exact absurd hd0_12 (by decide)
  · skip
    have hM_45 := fp_ME.nrm (sc2 := (va_up (va_up (va_up sc 18 (((c_18.2.1 : Nat) : Int))) 21 (((0 : Nat) : Int))) 0 (((t_20 : Nat) : Int)))) hM_30 rfl
    refine r_stk (st2 := []) rfl ?_
    have L16 : ∀ (n : Nat), n ≤ (tn + 2) → ∀ (f : Nat → Int) (v2 : Nat → Int) (f2 : Nat → Int) (t : Nat) (hq : Nat) (S2 : PS) (H : Heap) (locs : List Loc) (ls : Array Slot),(fp_cwd tx tn R (sP S) n t hq S2) → (t = 0 → fp_VR S2 v2) → (t ≤ 2) → lv_has ls 2 [(0, .ref (ad 0)), (1, .int (iI ((n : Nat) : Int)))] → va_S (fA (fp_ma ad) s.heap.size) s.heap H locs → fp_ME G ad (va_up (va_up (va_up sc 18 (((hq : Nat) : Int))) 21 (((0 : Nat) : Int))) 0 (((t : Nat) : Int))) (va_up (va_up (va_up ar 14 f) 5 v2) 10 f2) H → W pg (g_l G) en rR s mi ag bl mt cd H locs 0 0 qQ (F0 mi 16 ls []) := by
      refine lp_up (tn + 2) ?_
      intro n hk16 ih16 f v2 f2 t hq S2 H locs ls hcw hV2 ht2 hl hS hM
      have hbq := hcw.b
      refine lv_aload_n hx hb dX4_commands_16 rfl (lv_at hl 0 rfl) ?_
      refine r_get X hM.1 rfl in_X4 21 (by decide) q2030 (Or.inl rfl) (v := .int (iI ((0 : Nat) : Int))) rfl dX4_commands_17 ?_
      refine r_if_ne (tgt := 64) hx hb (by decide) dX4_commands_20 (by decide) (fun c20 => ?_) (fun c20 => ?_)
      · exact absurd c20 (by omega)
      · skip
        refine lv_aload_n hx hb dX4_commands_23 rfl (lv_at hl 0 rfl) ?_
        refine r_get X hM.1 rfl in_X4 0 (by decide) q2009 (Or.inl rfl) (v := .int (iI ((t : Nat) : Int))) rfl dX4_commands_24 ?_
        refine r_if_ne (tgt := 64) hx hb ⟨by omega, by omega⟩ dX4_commands_27 (by decide) (fun c27 => ?_) (fun c27 => ?_)
        · skip
          have ht0 : t ≠ 0 := by omega
          refine lv_iload_n hx hb dX4_commands_64 rfl (lv_at hl 1 rfl) ?_
          refine r_iret hx hb hr hlk hQ hS (Nat.le_of_ble_eq_true rfl) (Nat.le_of_ble_eq_true rfl) dX4_commands_65 ?_
          exact Or.inl ⟨n, f, v2, f2, t, hq, rfl, (hM.nrm rfl), ht0, ht2, ((hcw.u1 ht0).1), ((hcw.u1 ht0).2)⟩
        · skip
          have hz0 : t = 0 := by omega
          subst hz0
          refine lv_aload_n hx hb dX4_commands_30 rfl (lv_at hl 0 rfl) ?_
          refine r_get X hM.1 rfl in_X4 18 (by decide) q2027 (Or.inl rfl) (v := .int (iI ((hq : Nat) : Int))) rfl dX4_commands_31 ?_
          refine lv_aload_n hx hb dX4_commands_34 rfl (lv_at hl 0 rfl) ?_
          refine r_get X hM.1 rfl in_X4 19 (by decide) q2028 (Or.inl rfl) (v := .int (iI (sc 19))) rfl dX4_commands_35 ?_
          refine r_set (y := .int (iI ((tn : Nat) : Int))) (congrArg (fun q : Int => Value.int (iI q)) (ht)) ?_
          refine r_icmp_ge (tgt := 64) hx hb ⟨by omega, by omega⟩ ⟨by omega, by omega⟩ dX4_commands_38 (by decide) (fun c38 => ?_) (fun c38 => ?_)
          · skip
            refine lv_iload_n hx hb dX4_commands_64 rfl (lv_at hl 1 rfl) ?_
            refine r_iret hx hb hr hlk hQ hS (Nat.le_of_ble_eq_true rfl) (Nat.le_of_ble_eq_true rfl) dX4_commands_65 ?_
            exact Or.inr (⟨n, f, v2, f2, hq, S2, rfl, (hM.nrm rfl), (hcw.u0 (by omega)), (hV2 rfl)⟩)
          · skip
            refine lv_aload_n hx hb dX4_commands_41 rfl (lv_at hl 0 rfl) ?_
            refine lv_bipush (v := (iI ((59 : Nat) : Int))) hx hb dX4_commands_42 rfl ?_
            refine r_callV (cells1 := 0) (slots1 := 0) X hR (c_X4_mark G ad (va_up (va_up (va_up sc 18 (((hq : Nat) : Int))) 21 (((0 : Nat) : Int))) 0 (((0 : Nat) : Int))) (va_up (va_up (va_up ar 14 f) 5 v2) 10 f2) hA0 tx tn hq rfl ht h60 hbq.1 htx htb 59 (by decide) (by decide) rfl) q2482 q2484 qs84 q100 q2485 ⟨rfl, pd_X4_mark⟩ (by decide) rfl rfl (by decide) (by decide) hM.1 rfl rfl (Nat.le_of_ble_eq_true rfl) hl.1 dX4_commands_44 (hB.of hS (fp_ma.base hA0)) hM hS (fun _ h => Or.inl h) (fun v H locs hp_46 hzC hkC hS => ?_)
            rcases hp_46 with ⟨rfl, hM_49, hs_47, hle2_48⟩ | ⟨rfl, hM_52, hs_50, hle2_51⟩
            · skip
              have hM_53 := fp_ME.nrm (sc2 := (va_up (va_up (va_up sc 0 (((0 : Nat) : Int))) 18 (((hq + 1 : Nat) : Int))) 21 (((0 : Nat) : Int)))) hM_49 rfl
              refine r_stk (st2 := []) rfl ?_
              refine lv_aload_n hx hb dX4_commands_47 rfl (lv_at hl 0 rfl) ?_
              refine r_get X hM_53.1 rfl in_X4 21 (by decide) q2030 (Or.inl rfl) (v := .int (iI ((0 : Nat) : Int))) rfl dX4_commands_48 ?_
              refine r_if_ne (tgt := 58) hx hb (by decide) dX4_commands_51 (by decide) (fun c51 => ?_) (fun c51 => ?_)
              · exact absurd c51 (by omega)
              · skip
                refine lv_aload_n hx hb dX4_commands_54 rfl (lv_at hl 0 rfl) ?_
                refine r_callV (cells1 := 0) (slots1 := 0) X hR (c_X4_command G ad (va_up (va_up (va_up sc 0 (((0 : Nat) : Int))) 18 (((hq + 1 : Nat) : Int))) 21 (((0 : Nat) : Int))) (va_up (va_up (va_up ar 14 f) 5 v2) 10 f2) hA0 tx tn (hq + 1) rfl ht h60 hle2_48 htx htb hwd hwa S2 (hV2 rfl) rfl 1 hdg (by decide)  rfl (by have := hbq.2 rfl; omega) (hbq.2 rfl).2.1) q2462 q2464 qs79 q100 q2465 ⟨rfl, pd_X4_command⟩ (by decide) rfl rfl (by decide) (by decide) hM_53.1 rfl rfl (Nat.le_of_ble_eq_true rfl) hl.1 dX4_commands_55 (hB.of hS (fp_ma.base hA0)) hM_53 hS (fun _ h => Or.inl h) (fun v H locs hp_54 hzC hkC hS => ?_)
                rcases hp_54 with ⟨c_55, f_56, rfl, hM_60, hcm_57, hc_58, hle2_59⟩ | ⟨c_61, f_62, rfl, hM_68, hd0_63, hcm_64, hc_65, hle2_66, hlt_67⟩ | ⟨c_69, f_70, t_71, v2_72, f2_73, rfl, hM_81, hd1_74, hcm_75, hc_76, hle2_77, hlt_78, hd_79, ht0_80⟩ | ⟨c_82, f_83, v2_84, f2_85, rfl, hM_93, hd1_86, hcm_87, hc_88, hle2_89, hlt_90, hd_91, hV2_92⟩
                · skip
                  have hM_94 := fp_ME.nrm (sc2 := (va_up (va_up (va_up sc 0 (((0 : Nat) : Int))) 18 (((c_55.2.1 : Nat) : Int))) 21 (((1 : Nat) : Int)))) hM_60 rfl
                  refine r_stk (st2 := []) rfl ?_
                  exact (hcw.w1 (by omega) hs_47 hcm_57 hc_58).elim
                · skip
                  have hM_95 := fp_ME.nrm (sc2 := (va_up (va_up (va_up sc 0 (((0 : Nat) : Int))) 18 (((c_61.2.1 : Nat) : Int))) 21 (((0 : Nat) : Int)))) hM_68 rfl
                  refine r_stk (st2 := []) rfl ?_
                  exact absurd hd0_63 (by decide)
                · skip
                  have hM_96 := fp_ME.nrm (sc2 := (va_up (va_up (va_up sc 18 (((c_69.2.1 : Nat) : Int))) 21 (((0 : Nat) : Int))) 0 (((t_71 : Nat) : Int)))) hM_81 rfl
                  refine r_stk (st2 := []) rfl ?_
                  refine lv_iinc (v := (iI ((n + 1 : Nat) : Int))) (lv' := [(1, .int (iI ((n + 1 : Nat) : Int))), (0, .ref (ad 0))]) hx hb dX4_commands_58 hl (k := 1) rfl (iI_incN _ _) (by decide) rfl (fun ls hl => ?_)
                  refine lv_goto (tgt := 16) hx hb dX4_commands_61 (by decide) ?_
                  exact ih16 (by omega) f_70 v2_72 f2_73 t_71 (c_69.2.1) S2 H locs ls (hcw.t1 (by omega) hs_47 hcm_75 hc_76 hle2_77 hd_79 ht0_80 S2) (fun z => absurd z ht0_80) (by rw [← hd_79]; exact fp_dc_2 _ _ _ _ _) (lv_sub hl [1, 0] rfl) hS (hM_96.n3.nrm rfl)
                · skip
                  have hM_97 := fp_ME.nrm (sc2 := (va_up (va_up (va_up sc 18 (((c_82.2.1 : Nat) : Int))) 21 (((0 : Nat) : Int))) 0 (((0 : Nat) : Int)))) hM_93 rfl
                  refine r_stk (st2 := []) rfl ?_
                  refine lv_iinc (v := (iI ((n + 1 : Nat) : Int))) (lv' := [(1, .int (iI ((n + 1 : Nat) : Int))), (0, .ref (ad 0))]) hx hb dX4_commands_58 hl (k := 1) rfl (iI_incN _ _) (by decide) rfl (fun ls hl => ?_)
                  refine lv_goto (tgt := 16) hx hb dX4_commands_61 (by decide) ?_
                  exact ih16 (by omega) f_83 v2_84 f2_85 0 (c_82.2.1) ((fp_dc S2 c_82.2.2).2) H locs ls (hcw.t2 (by omega) hs_47 hcm_87 hc_88 hle2_89 hlt_90 hd_91) (fun _ => hV2_92) (Nat.zero_le _) (lv_sub hl [1, 0] rfl) hS (hM_97.n3.nrm rfl)
            · skip
              have hM_98 := fp_ME.nrm (sc2 := (va_up (va_up (va_up sc 0 (((0 : Nat) : Int))) 18 (((hq : Nat) : Int))) 21 (((1 : Nat) : Int)))) hM_52 rfl
              refine r_stk (st2 := []) rfl ?_
              exact (hcw.t0 (by omega) hs_50).elim
    exact L16 1 (by omega) f_19 v2_21 f2_22 t_20 (c_18.2.1) S H locs ls (fp_cwd.s0 hRR hcm_24 hc_25 hle2_26 hd_28 ht0_29 S) (fun z => absurd z ht0_29) (by rw [← hd_28]; exact fp_dc_2 _ _ _ _ _) (lv_sub hl [1, 0] rfl) hS (hM_45.nrm rfl)
  · skip
    have hM_99 := fp_ME.nrm (sc2 := (va_up (va_up (va_up sc 18 (((c_31.2.1 : Nat) : Int))) 21 (((0 : Nat) : Int))) 0 (((0 : Nat) : Int)))) hM_42 rfl
    refine r_stk (st2 := []) rfl ?_
    have L16 : ∀ (n : Nat), n ≤ (tn + 2) → ∀ (f : Nat → Int) (v2 : Nat → Int) (f2 : Nat → Int) (t : Nat) (hq : Nat) (S2 : PS) (H : Heap) (locs : List Loc) (ls : Array Slot),(fp_cwd tx tn R (sP S) n t hq S2) → (t = 0 → fp_VR S2 v2) → (t ≤ 2) → lv_has ls 2 [(0, .ref (ad 0)), (1, .int (iI ((n : Nat) : Int)))] → va_S (fA (fp_ma ad) s.heap.size) s.heap H locs → fp_ME G ad (va_up (va_up (va_up sc 18 (((hq : Nat) : Int))) 21 (((0 : Nat) : Int))) 0 (((t : Nat) : Int))) (va_up (va_up (va_up ar 14 f) 5 v2) 10 f2) H → W pg (g_l G) en rR s mi ag bl mt cd H locs 0 0 qQ (F0 mi 16 ls []) := by
      refine lp_up (tn + 2) ?_
      intro n hk16 ih16 f v2 f2 t hq S2 H locs ls hcw hV2 ht2 hl hS hM
      have hbq := hcw.b
      refine lv_aload_n hx hb dX4_commands_16 rfl (lv_at hl 0 rfl) ?_
      refine r_get X hM.1 rfl in_X4 21 (by decide) q2030 (Or.inl rfl) (v := .int (iI ((0 : Nat) : Int))) rfl dX4_commands_17 ?_
      refine r_if_ne (tgt := 64) hx hb (by decide) dX4_commands_20 (by decide) (fun c20 => ?_) (fun c20 => ?_)
      · exact absurd c20 (by omega)
      · skip
        refine lv_aload_n hx hb dX4_commands_23 rfl (lv_at hl 0 rfl) ?_
        refine r_get X hM.1 rfl in_X4 0 (by decide) q2009 (Or.inl rfl) (v := .int (iI ((t : Nat) : Int))) rfl dX4_commands_24 ?_
        refine r_if_ne (tgt := 64) hx hb ⟨by omega, by omega⟩ dX4_commands_27 (by decide) (fun c27 => ?_) (fun c27 => ?_)
        · skip
          have ht0 : t ≠ 0 := by omega
          refine lv_iload_n hx hb dX4_commands_64 rfl (lv_at hl 1 rfl) ?_
          refine r_iret hx hb hr hlk hQ hS (Nat.le_of_ble_eq_true rfl) (Nat.le_of_ble_eq_true rfl) dX4_commands_65 ?_
          exact Or.inl ⟨n, f, v2, f2, t, hq, rfl, (hM.nrm rfl), ht0, ht2, ((hcw.u1 ht0).1), ((hcw.u1 ht0).2)⟩
        · skip
          have hz0 : t = 0 := by omega
          subst hz0
          refine lv_aload_n hx hb dX4_commands_30 rfl (lv_at hl 0 rfl) ?_
          refine r_get X hM.1 rfl in_X4 18 (by decide) q2027 (Or.inl rfl) (v := .int (iI ((hq : Nat) : Int))) rfl dX4_commands_31 ?_
          refine lv_aload_n hx hb dX4_commands_34 rfl (lv_at hl 0 rfl) ?_
          refine r_get X hM.1 rfl in_X4 19 (by decide) q2028 (Or.inl rfl) (v := .int (iI (sc 19))) rfl dX4_commands_35 ?_
          refine r_set (y := .int (iI ((tn : Nat) : Int))) (congrArg (fun q : Int => Value.int (iI q)) (ht)) ?_
          refine r_icmp_ge (tgt := 64) hx hb ⟨by omega, by omega⟩ ⟨by omega, by omega⟩ dX4_commands_38 (by decide) (fun c38 => ?_) (fun c38 => ?_)
          · skip
            refine lv_iload_n hx hb dX4_commands_64 rfl (lv_at hl 1 rfl) ?_
            refine r_iret hx hb hr hlk hQ hS (Nat.le_of_ble_eq_true rfl) (Nat.le_of_ble_eq_true rfl) dX4_commands_65 ?_
            exact Or.inr (⟨n, f, v2, f2, hq, S2, rfl, (hM.nrm rfl), (hcw.u0 (by omega)), (hV2 rfl)⟩)
          · skip
            refine lv_aload_n hx hb dX4_commands_41 rfl (lv_at hl 0 rfl) ?_
            refine lv_bipush (v := (iI ((59 : Nat) : Int))) hx hb dX4_commands_42 rfl ?_
            refine r_callV (cells1 := 0) (slots1 := 0) X hR (c_X4_mark G ad (va_up (va_up (va_up sc 18 (((hq : Nat) : Int))) 21 (((0 : Nat) : Int))) 0 (((0 : Nat) : Int))) (va_up (va_up (va_up ar 14 f) 5 v2) 10 f2) hA0 tx tn hq rfl ht h60 hbq.1 htx htb 59 (by decide) (by decide) rfl) q2482 q2484 qs84 q100 q2485 ⟨rfl, pd_X4_mark⟩ (by decide) rfl rfl (by decide) (by decide) hM.1 rfl rfl (Nat.le_of_ble_eq_true rfl) hl.1 dX4_commands_44 (hB.of hS (fp_ma.base hA0)) hM hS (fun _ h => Or.inl h) (fun v H locs hp_100 hzC hkC hS => ?_)
            rcases hp_100 with ⟨rfl, hM_103, hs_101, hle2_102⟩ | ⟨rfl, hM_106, hs_104, hle2_105⟩
            · skip
              have hM_107 := fp_ME.nrm (sc2 := (va_up (va_up (va_up sc 0 (((0 : Nat) : Int))) 18 (((hq + 1 : Nat) : Int))) 21 (((0 : Nat) : Int)))) hM_103 rfl
              refine r_stk (st2 := []) rfl ?_
              refine lv_aload_n hx hb dX4_commands_47 rfl (lv_at hl 0 rfl) ?_
              refine r_get X hM_107.1 rfl in_X4 21 (by decide) q2030 (Or.inl rfl) (v := .int (iI ((0 : Nat) : Int))) rfl dX4_commands_48 ?_
              refine r_if_ne (tgt := 58) hx hb (by decide) dX4_commands_51 (by decide) (fun c51 => ?_) (fun c51 => ?_)
              · exact absurd c51 (by omega)
              · skip
                refine lv_aload_n hx hb dX4_commands_54 rfl (lv_at hl 0 rfl) ?_
                refine r_callV (cells1 := 0) (slots1 := 0) X hR (c_X4_command G ad (va_up (va_up (va_up sc 0 (((0 : Nat) : Int))) 18 (((hq + 1 : Nat) : Int))) 21 (((0 : Nat) : Int))) (va_up (va_up (va_up ar 14 f) 5 v2) 10 f2) hA0 tx tn (hq + 1) rfl ht h60 hle2_102 htx htb hwd hwa S2 (hV2 rfl) rfl 1 hdg (by decide)  rfl (by have := hbq.2 rfl; omega) (hbq.2 rfl).2.1) q2462 q2464 qs79 q100 q2465 ⟨rfl, pd_X4_command⟩ (by decide) rfl rfl (by decide) (by decide) hM_107.1 rfl rfl (Nat.le_of_ble_eq_true rfl) hl.1 dX4_commands_55 (hB.of hS (fp_ma.base hA0)) hM_107 hS (fun _ h => Or.inl h) (fun v H locs hp_108 hzC hkC hS => ?_)
                rcases hp_108 with ⟨c_109, f_110, rfl, hM_114, hcm_111, hc_112, hle2_113⟩ | ⟨c_115, f_116, rfl, hM_122, hd0_117, hcm_118, hc_119, hle2_120, hlt_121⟩ | ⟨c_123, f_124, t_125, v2_126, f2_127, rfl, hM_135, hd1_128, hcm_129, hc_130, hle2_131, hlt_132, hd_133, ht0_134⟩ | ⟨c_136, f_137, v2_138, f2_139, rfl, hM_147, hd1_140, hcm_141, hc_142, hle2_143, hlt_144, hd_145, hV2_146⟩
                · skip
                  have hM_148 := fp_ME.nrm (sc2 := (va_up (va_up (va_up sc 0 (((0 : Nat) : Int))) 18 (((c_109.2.1 : Nat) : Int))) 21 (((1 : Nat) : Int)))) hM_114 rfl
                  refine r_stk (st2 := []) rfl ?_
                  exact (hcw.w1 (by omega) hs_101 hcm_111 hc_112).elim
                · skip
                  have hM_149 := fp_ME.nrm (sc2 := (va_up (va_up (va_up sc 0 (((0 : Nat) : Int))) 18 (((c_115.2.1 : Nat) : Int))) 21 (((0 : Nat) : Int)))) hM_122 rfl
                  refine r_stk (st2 := []) rfl ?_
                  exact absurd hd0_117 (by decide)
                · skip
                  have hM_150 := fp_ME.nrm (sc2 := (va_up (va_up (va_up sc 18 (((c_123.2.1 : Nat) : Int))) 21 (((0 : Nat) : Int))) 0 (((t_125 : Nat) : Int)))) hM_135 rfl
                  refine r_stk (st2 := []) rfl ?_
                  refine lv_iinc (v := (iI ((n + 1 : Nat) : Int))) (lv' := [(1, .int (iI ((n + 1 : Nat) : Int))), (0, .ref (ad 0))]) hx hb dX4_commands_58 hl (k := 1) rfl (iI_incN _ _) (by decide) rfl (fun ls hl => ?_)
                  refine lv_goto (tgt := 16) hx hb dX4_commands_61 (by decide) ?_
                  exact ih16 (by omega) f_124 v2_126 f2_127 t_125 (c_123.2.1) S2 H locs ls (hcw.t1 (by omega) hs_101 hcm_129 hc_130 hle2_131 hd_133 ht0_134 S2) (fun z => absurd z ht0_134) (by rw [← hd_133]; exact fp_dc_2 _ _ _ _ _) (lv_sub hl [1, 0] rfl) hS (hM_150.n3.nrm rfl)
                · skip
                  have hM_151 := fp_ME.nrm (sc2 := (va_up (va_up (va_up sc 18 (((c_136.2.1 : Nat) : Int))) 21 (((0 : Nat) : Int))) 0 (((0 : Nat) : Int)))) hM_147 rfl
                  refine r_stk (st2 := []) rfl ?_
                  refine lv_iinc (v := (iI ((n + 1 : Nat) : Int))) (lv' := [(1, .int (iI ((n + 1 : Nat) : Int))), (0, .ref (ad 0))]) hx hb dX4_commands_58 hl (k := 1) rfl (iI_incN _ _) (by decide) rfl (fun ls hl => ?_)
                  refine lv_goto (tgt := 16) hx hb dX4_commands_61 (by decide) ?_
                  exact ih16 (by omega) f_137 v2_138 f2_139 0 (c_136.2.1) ((fp_dc S2 c_136.2.2).2) H locs ls (hcw.t2 (by omega) hs_101 hcm_141 hc_142 hle2_143 hlt_144 hd_145) (fun _ => hV2_146) (Nat.zero_le _) (lv_sub hl [1, 0] rfl) hS (hM_151.n3.nrm rfl)
            · skip
              have hM_152 := fp_ME.nrm (sc2 := (va_up (va_up (va_up sc 0 (((0 : Nat) : Int))) 18 (((hq : Nat) : Int))) 21 (((1 : Nat) : Int)))) hM_106 rfl
              refine r_stk (st2 := []) rfl ?_
              exact (hcw.t0 (by omega) hs_104).elim
    exact L16 1 (by omega) f_32 v2_33 f2_34 0 (c_31.2.1) ((fp_dc S c_31.2.2).2) H locs ls (fp_cwd.s1 hp hRR h30 hcm_36 hc_37 hle2_38 hd_40) (fun _ => hV2_41) (Nat.zero_le _) (lv_sub hl [1, 0] rfl) hS (hM_99.nrm rfl)
