/-! THE MODEL: the end of a change -/
set_option maxHeartbeats 4000000 in
theorem c_X4_ends (G : fp_G) (ad : Nat → Nat) (sc : Nat → Int) (ar : Nat → Nat → Int) (hA0 : fp_MA G ad) (T : PS) (hs : Nat → PS) (hn : Nat) (hch : sc 1 = ((hn : Nat) : Int)) (h8 : hn ≤ 8) (HR : fp_HR hs hn (ar 9)) (hT : fp_VR T (ar 6)) (hr0 : rg (sc 0)) (is : Int) : fp_M G yX4_ends cX4_ends 3 (some .int) 2 34 0 0 [.ref (ad 0), .int (iI (is))] (fp_ME G ad sc ar) (fp_ma ad) (fun _ v H => (v = some (.int (iI ((0 : Nat) : Int))) ∧ fp_ME G ad sc (va_up ar 5 (ar 6)) H ∧ (sc 0 ≠ 0)) ∨ (∃ (pa : Nat → Int), v = some (.int (iI (is))) ∧ fp_ME G ad (va_up sc 1 (((fp_hn hn : Nat) : Int))) (va_up ar 9 pa) H ∧ (sc 0 = 0) ∧ (fp_HR (fp_hpush hs hn T) (fp_hn hn) pa))) := by
  refine fp_M.intro (by decide) (Nat.le_of_ble_eq_true rfl) ?_
  intro pg en s mi ag bl mt cd rR qQ ls X hx hb hr hlk hnm hR hQ hB hM hl
  have hS : va_S (fA (fp_ma ad) s.heap.size) s.heap s.heap [] := va_S.rf
  generalize ([] : List Loc) = locs at hS ⊢
  have hq := hch
  refine lv_aload_n hx hb dX4_ends_0 rfl (lv_at hl 0 rfl) ?_
  refine r_get X hM.1 rfl in_X4 0 (by decide) q2009 (Or.inl rfl) (v := .int (iI (sc 0))) rfl dX4_ends_1 ?_
  refine r_if_eq (tgt := 20) hx hb ⟨by omega, by omega⟩ dX4_ends_4 (by decide) (fun c4 => ?_) (fun c4 => ?_)
  · skip
    refine lv_aload_n hx hb dX4_ends_20 rfl (lv_at hl 0 rfl) ?_
    refine r_get X hM.1 rfl in_X4 1 (by decide) q2010 (Or.inl rfl) (v := .int (iI (sc 1))) rfl dX4_ends_21 ?_
    refine r_set (y := .int (iI ((hn : Nat) : Int))) (congrArg (fun q : Int => Value.int (iI q)) (hch)) ?_
    refine lv_bipush (v := (iI ((8 : Nat) : Int))) hx hb dX4_ends_24 rfl ?_
    refine r_icmp_ne (tgt := 70) hx hb ⟨by omega, by omega⟩ (by decide) dX4_ends_26 (by decide) (fun c26 => ?_) (fun c26 => ?_)
    · skip
      obtain ⟨g9, hg9⟩ : ∃ g9 : Nat → Int, g9 = ar 9 := ⟨_, rfl⟩
      have hM_1 := fp_ME.st0 hM 9 (g := g9) (fun _ _ => by rw [hg9])
      refine lv_iconst (v := (iI ((0 : Nat) : Int))) hx hb dX4_ends_70 rfl ?_
      refine lv_istore_n (lv' := [(2, .int (iI ((0 : Nat) : Int))), (0, .ref (ad 0)), (1, .int (iI (is)))]) hx hb dX4_ends_71 rfl hl (by decide) rfl (fun ls hl => ?_)
      have L72 : ∀ (q : Nat), q ≤ 170 → ∀ (H : Heap) (locs : List Loc) (ls : Array Slot), lv_has ls 3 [(0, .ref (ad 0)), (1, .int (iI (is))), (2, .int (iI ((q : Nat) : Int)))] → va_S (fA (fp_ma ad) s.heap.size) s.heap H locs → fp_ME G ad sc (va_up ar 9 (fun x => if hn * 170 ≤ x ∧ x < hn * 170 + q then ar 6 (x - hn * 170) else g9 x)) H → W pg (g_l G) en rR s mi ag bl mt cd H locs 0 0 qQ (F0 mi 72 ls []) := by
        refine lp_up 170 ?_
        intro q hk72 ih72 H locs ls hl hS hM
        refine lv_iload_n hx hb dX4_ends_72 rfl (lv_at hl 2 rfl) ?_
        refine lv_sipush (v := (iI ((170 : Nat) : Int))) hx hb dX4_ends_73 rfl ?_
        refine r_icmp_ge (tgt := 106) hx hb ⟨by omega, by omega⟩ (by decide) dX4_ends_76 (by decide) (fun c76 => ?_) (fun c76 => ?_)
        · skip
          obtain rfl : q = 170 := by omega
          refine lv_aload_n hx hb dX4_ends_106 rfl (lv_at hl 0 rfl) ?_
          refine lv_dup hx hb dX4_ends_107 rfl ?_
          refine r_get X hM.1 rfl in_X4 1 (by decide) q2010 (Or.inl rfl) (v := .int (iI (sc 1))) rfl dX4_ends_108 ?_
          refine r_set (y := .int (iI ((hn : Nat) : Int))) (congrArg (fun q : Int => Value.int (iI q)) (hch)) ?_
          refine lv_iconst (v := (iI ((1 : Nat) : Int))) hx hb dX4_ends_111 rfl ?_
          refine r_iaddN hx hb dX4_ends_112 ?_
          refine r_set (y := .int (iI ((fp_hn hn : Nat) : Int))) (congrArg (fun q : Nat => Value.int (iI (q : Int))) (by unfold fp_hn; split <;> omega)) ?_
          refine m_put X hM hS hA0 (k := 1) (sc2 := (va_up sc 1 (((fp_hn hn : Nat) : Int)))) rfl (by decide) q2010 rfl rfl rfl dX4_ends_113 rfl (fun H locs hM_2 hS => ?_)
          refine lv_iload_n hx hb dX4_ends_116 rfl (lv_at hl 1 rfl) ?_
          refine r_iret hx hb hr hlk hQ hS (Nat.le_of_ble_eq_true rfl) (Nat.le_of_ble_eq_true rfl) dX4_ends_117 ?_
          exact Or.inr (⟨_, rfl, hM_2, (by omega), (by rw [hg9]; exact fp_hist_B HR hT (by omega))⟩)
        · skip
          refine lv_aload_n hx hb dX4_ends_79 rfl (lv_at hl 0 rfl) ?_
          refine r_get X hM.1 rfl in_X4 9 (by decide) q2018 (Or.inl rfl) (v := .ref (ad 9)) rfl dX4_ends_80 ?_
          refine lv_aload_n hx hb dX4_ends_83 rfl (lv_at hl 0 rfl) ?_
          refine r_get X hM.1 rfl in_X4 1 (by decide) q2010 (Or.inl rfl) (v := .int (iI (sc 1))) rfl dX4_ends_84 ?_
          refine r_set (y := .int (iI ((hn : Nat) : Int))) (congrArg (fun q : Int => Value.int (iI q)) (hch)) ?_
          refine lv_sipush (v := (iI ((170 : Nat) : Int))) hx hb dX4_ends_87 rfl ?_
          refine r_imulN hx hb dX4_ends_90 ?_
          refine lv_iload_n hx hb dX4_ends_91 rfl (lv_at hl 2 rfl) ?_
          refine r_iaddN hx hb dX4_ends_92 ?_
          refine lv_aload_n hx hb dX4_ends_93 rfl (lv_at hl 0 rfl) ?_
          refine r_get X hM.1 rfl in_X4 6 (by decide) q2015 (Or.inl rfl) (v := .ref (ad 6)) rfl dX4_ends_94 ?_
          refine lv_iload_n hx hb dX4_ends_97 rfl (lv_at hl 2 rfl) ?_
          refine r_ialdI X (hM.2 6 (by decide) (by decide)) (j := q) (n := 170) rfl (by omega) (by decide) dX4_ends_98 ?_
          refine m_ast X hM hS hA0 (k := 9) (j := (hn * 170) + q) (z := ((va_up ar 9 (fun x => if hn * 170 ≤ x ∧ x < hn * 170 + q then ar 6 (x - hn * 170) else g9 x)) 6 q)) (by decide) rfl (n := 1360) rfl (by omega) dX4_ends_99 (fun H locs hM_3 hS => ?_)
          refine lv_iinc (v := (iI ((q + 1 : Nat) : Int))) (lv' := [(2, .int (iI ((q + 1 : Nat) : Int))), (0, .ref (ad 0)), (1, .int (iI (is)))]) hx hb dX4_ends_100 hl (k := 2) rfl (iI_incN _ _) (by decide) rfl (fun ls hl => ?_)
          refine lv_goto (tgt := 72) hx hb dX4_ends_103 (by decide) ?_
          exact ih72 (by omega) H locs ls (lv_sub hl [1, 2, 0] rfl) hS (fp_ME.st1 hM_3 (fun x hx => fp_cp_step (v := ar 6) (g := g9) (b := hn * 170) (i := q) rfl x))
      exact L72 0 (by omega) (s.heap) locs ls (lv_sub hl [1, 2, 0] rfl) hS (fp_ME.congr hM_1 (fun k _ _ x _ => by by_cases e : k = 9; subst e; rw [va_up_self, va_up_self, if_neg (by omega)]; rw [va_up_ne _ _ e, va_up_ne _ _ e]))
    · skip
      refine lv_iconst (v := (iI ((0 : Nat) : Int))) hx hb dX4_ends_29 rfl ?_
      refine lv_istore_n (lv' := [(2, .int (iI ((0 : Nat) : Int))), (0, .ref (ad 0)), (1, .int (iI (is)))]) hx hb dX4_ends_30 rfl hl (by decide) rfl (fun ls hl => ?_)
      have L31 : ∀ (k : Nat), k ≤ 1190 → ∀ (H : Heap) (locs : List Loc) (ls : Array Slot), lv_has ls 3 [(0, .ref (ad 0)), (1, .int (iI (is))), (2, .int (iI ((k : Nat) : Int)))] → va_S (fA (fp_ma ad) s.heap.size) s.heap H locs → fp_ME G ad sc (va_up ar 9 (fun x => if x < k then ar 9 (x + 170) else ar 9 x)) H → W pg (g_l G) en rR s mi ag bl mt cd H locs 0 0 qQ (F0 mi 31 ls []) := by
        refine lp_up 1190 ?_
        intro k hk31 ih31 H locs ls hl hS hM
        refine lv_iload_n hx hb dX4_ends_31 rfl (lv_at hl 2 rfl) ?_
        refine lv_sipush (v := (iI ((1190 : Nat) : Int))) hx hb dX4_ends_32 rfl ?_
        refine r_icmp_ge (tgt := 60) hx hb ⟨by omega, by omega⟩ (by decide) dX4_ends_35 (by decide) (fun c35 => ?_) (fun c35 => ?_)
        · skip
          refine lv_aload_n hx hb dX4_ends_60 rfl (lv_at hl 0 rfl) ?_
          refine lv_dup hx hb dX4_ends_61 rfl ?_
          refine r_get X hM.1 rfl in_X4 1 (by decide) q2010 (Or.inl rfl) (v := .int (iI (sc 1))) rfl dX4_ends_62 ?_
          refine r_set (y := .int (iI ((8 : Nat) : Int))) (congrArg (fun q : Int => Value.int (iI q)) (by rw [hch]; omega)) ?_
          refine lv_iconst (v := (iI ((1 : Nat) : Int))) hx hb dX4_ends_65 rfl ?_
          refine r_isub hx hb dX4_ends_66 ?_
          refine r_set (y := .int (iI ((7 : Nat) : Int))) rfl ?_
          refine m_put X hM hS hA0 (k := 1) (sc2 := (va_up sc 1 (((7 : Nat) : Int)))) rfl (by decide) q2010 rfl rfl rfl dX4_ends_67 rfl (fun H locs hM_4 hS => ?_)
          obtain ⟨g9, hg9⟩ : ∃ g9 : Nat → Int, g9 = (fun x => if x < k then ar 9 (x + 170) else ar 9 x) := ⟨_, rfl⟩
          have hM_5 := hM_4
          rw [← hg9] at hM_5
          refine lv_iconst (v := (iI ((0 : Nat) : Int))) hx hb dX4_ends_70 rfl ?_
          refine lv_istore_n (lv' := [(2, .int (iI ((0 : Nat) : Int))), (0, .ref (ad 0)), (1, .int (iI (is)))]) hx hb dX4_ends_71 rfl hl (by decide) rfl (fun ls hl => ?_)
          have L72 : ∀ (q : Nat), q ≤ 170 → ∀ (H : Heap) (locs : List Loc) (ls : Array Slot), lv_has ls 3 [(0, .ref (ad 0)), (1, .int (iI (is))), (2, .int (iI ((q : Nat) : Int)))] → va_S (fA (fp_ma ad) s.heap.size) s.heap H locs → fp_ME G ad (va_up sc 1 (((7 : Nat) : Int))) (va_up ar 9 (fun x => if 7 * 170 ≤ x ∧ x < 7 * 170 + q then ar 6 (x - 7 * 170) else g9 x)) H → W pg (g_l G) en rR s mi ag bl mt cd H locs 0 0 qQ (F0 mi 72 ls []) := by
            refine lp_up 170 ?_
            intro q hk72 ih72 H locs ls hl hS hM
            refine lv_iload_n hx hb dX4_ends_72 rfl (lv_at hl 2 rfl) ?_
            refine lv_sipush (v := (iI ((170 : Nat) : Int))) hx hb dX4_ends_73 rfl ?_
            refine r_icmp_ge (tgt := 106) hx hb ⟨by omega, by omega⟩ (by decide) dX4_ends_76 (by decide) (fun c76 => ?_) (fun c76 => ?_)
            · skip
              obtain rfl : q = 170 := by omega
              refine lv_aload_n hx hb dX4_ends_106 rfl (lv_at hl 0 rfl) ?_
              refine lv_dup hx hb dX4_ends_107 rfl ?_
              refine r_get X hM.1 rfl in_X4 1 (by decide) q2010 (Or.inl rfl) (v := .int (iI ((7 : Nat) : Int))) rfl dX4_ends_108 ?_
              refine lv_iconst (v := (iI ((1 : Nat) : Int))) hx hb dX4_ends_111 rfl ?_
              refine r_iaddN hx hb dX4_ends_112 ?_
              refine r_set (y := .int (iI ((fp_hn hn : Nat) : Int))) (congrArg (fun q : Nat => Value.int (iI (q : Int))) (by unfold fp_hn; split <;> omega)) ?_
              refine m_put X hM hS hA0 (k := 1) (sc2 := (va_up sc 1 (((fp_hn hn : Nat) : Int)))) rfl (by decide) q2010 rfl rfl rfl dX4_ends_113 rfl (fun H locs hM_6 hS => ?_)
              refine lv_iload_n hx hb dX4_ends_116 rfl (lv_at hl 1 rfl) ?_
              refine r_iret hx hb hr hlk hQ hS (Nat.le_of_ble_eq_true rfl) (Nat.le_of_ble_eq_true rfl) dX4_ends_117 ?_
              exact Or.inr (⟨_, rfl, hM_6, (by omega), (by rw [show hn = 8 by omega] at HR ⊢; exact fp_hist_A (b6 := ar 6) (g := g9) HR (fun x hx => by rw [hg9]; exact if_pos (by omega)) hT)⟩)
            · skip
              refine lv_aload_n hx hb dX4_ends_79 rfl (lv_at hl 0 rfl) ?_
              refine r_get X hM.1 rfl in_X4 9 (by decide) q2018 (Or.inl rfl) (v := .ref (ad 9)) rfl dX4_ends_80 ?_
              refine lv_aload_n hx hb dX4_ends_83 rfl (lv_at hl 0 rfl) ?_
              refine r_get X hM.1 rfl in_X4 1 (by decide) q2010 (Or.inl rfl) (v := .int (iI ((7 : Nat) : Int))) rfl dX4_ends_84 ?_
              refine lv_sipush (v := (iI ((170 : Nat) : Int))) hx hb dX4_ends_87 rfl ?_
              refine r_imulN hx hb dX4_ends_90 ?_
              refine lv_iload_n hx hb dX4_ends_91 rfl (lv_at hl 2 rfl) ?_
              refine r_iaddN hx hb dX4_ends_92 ?_
              refine lv_aload_n hx hb dX4_ends_93 rfl (lv_at hl 0 rfl) ?_
              refine r_get X hM.1 rfl in_X4 6 (by decide) q2015 (Or.inl rfl) (v := .ref (ad 6)) rfl dX4_ends_94 ?_
              refine lv_iload_n hx hb dX4_ends_97 rfl (lv_at hl 2 rfl) ?_
              refine r_ialdI X (hM.2 6 (by decide) (by decide)) (j := q) (n := 170) rfl (by omega) (by decide) dX4_ends_98 ?_
              refine m_ast X hM hS hA0 (k := 9) (j := (7 * 170) + q) (z := ((va_up ar 9 (fun x => if 7 * 170 ≤ x ∧ x < 7 * 170 + q then ar 6 (x - 7 * 170) else g9 x)) 6 q)) (by decide) rfl (n := 1360) rfl (by omega) dX4_ends_99 (fun H locs hM_7 hS => ?_)
              refine lv_iinc (v := (iI ((q + 1 : Nat) : Int))) (lv' := [(2, .int (iI ((q + 1 : Nat) : Int))), (0, .ref (ad 0)), (1, .int (iI (is)))]) hx hb dX4_ends_100 hl (k := 2) rfl (iI_incN _ _) (by decide) rfl (fun ls hl => ?_)
              refine lv_goto (tgt := 72) hx hb dX4_ends_103 (by decide) ?_
              exact ih72 (by omega) H locs ls (lv_sub hl [1, 2, 0] rfl) hS (fp_ME.st1 hM_7 (fun x hx => fp_cp_step (v := ar 6) (g := g9) (b := 7 * 170) (i := q) rfl x))
          exact L72 0 (by omega) H locs ls (lv_sub hl [1, 2, 0] rfl) hS (fp_ME.congr hM_5 (fun k _ _ x _ => by by_cases e : k = 9; subst e; rw [va_up_self, va_up_self, if_neg (by omega)]; rw [va_up_ne _ _ e, va_up_ne _ _ e]))
        · skip
          refine lv_aload_n hx hb dX4_ends_38 rfl (lv_at hl 0 rfl) ?_
          refine r_get X hM.1 rfl in_X4 9 (by decide) q2018 (Or.inl rfl) (v := .ref (ad 9)) rfl dX4_ends_39 ?_
          refine lv_iload_n hx hb dX4_ends_42 rfl (lv_at hl 2 rfl) ?_
          refine lv_aload_n hx hb dX4_ends_43 rfl (lv_at hl 0 rfl) ?_
          refine r_get X hM.1 rfl in_X4 9 (by decide) q2018 (Or.inl rfl) (v := .ref (ad 9)) rfl dX4_ends_44 ?_
          refine lv_iload_n hx hb dX4_ends_47 rfl (lv_at hl 2 rfl) ?_
          refine lv_sipush (v := (iI ((170 : Nat) : Int))) hx hb dX4_ends_48 rfl ?_
          refine r_iaddN hx hb dX4_ends_51 ?_
          refine r_ialdI X (hM.2 9 (by decide) (by decide)) (j := k + 170) (n := 1360) rfl (by omega) (by decide) dX4_ends_52 ?_
          refine m_ast X hM hS hA0 (k := 9) (j := k) (z := ((va_up ar 9 (fun x => if x < k then ar 9 (x + 170) else ar 9 x)) 9 (k + 170))) (by decide) rfl (n := 1360) rfl (by omega) dX4_ends_53 (fun H locs hM_8 hS => ?_)
          refine lv_iinc (v := (iI ((k + 1 : Nat) : Int))) (lv' := [(2, .int (iI ((k + 1 : Nat) : Int))), (0, .ref (ad 0)), (1, .int (iI (is)))]) hx hb dX4_ends_54 hl (k := 2) rfl (iI_incN _ _) (by decide) rfl (fun ls hl => ?_)
          refine lv_goto (tgt := 31) hx hb dX4_ends_57 (by decide) ?_
          exact ih31 (by omega) H locs ls (lv_sub hl [1, 2, 0] rfl) hS (fp_ME.st1 hM_8 (fun x hx => fp_sh_step (v := ar 9) (i := k) (show _ = _ from by rw [va_up_self, if_neg (by omega)]) x))
      exact L31 0 (by omega) (s.heap) locs ls (lv_sub hl [1, 2, 0] rfl) hS (fp_ME.st0 hM 9 (fun x hx => by rw [if_neg (Nat.not_lt_zero _)]))
  · skip
    refine lv_aload_n hx hb dX4_ends_7 rfl (lv_at hl 0 rfl) ?_
    refine r_get X hM.1 rfl in_X4 5 (by decide) q2014 (Or.inl rfl) (v := .ref (ad 5)) rfl dX4_ends_8 ?_
    refine lv_aload_n hx hb dX4_ends_11 rfl (lv_at hl 0 rfl) ?_
    refine r_get X hM.1 rfl in_X4 6 (by decide) q2015 (Or.inl rfl) (v := .ref (ad 6)) rfl dX4_ends_12 ?_
    refine r_callS (cells1 := 0) (slots1 := 0) X hR (c_X4_lays G ad sc ar hA0 5 6 rfl rfl (by decide) (by decide) (by decide)) q2091 q2092 q100 q2093 pd_X4_lays (by decide) rfl rfl (by decide) (by decide) rfl (Nat.le_of_ble_eq_true rfl) hl.1 dX4_ends_15 (hB.of hS (fp_ma.base hA0)) hM hS (fun _ h => Or.inl h) (fun v H locs hp_9 hzC hkC hS => ?_)
    obtain ⟨rfl, hM_10⟩ := hp_9
    refine r_stk (st2 := []) rfl ?_
    refine lv_iconst (v := (iI ((0 : Nat) : Int))) hx hb dX4_ends_18 rfl ?_
    refine r_iret hx hb hr hlk hQ hS (Nat.le_of_ble_eq_true rfl) (Nat.le_of_ble_eq_true rfl) dX4_ends_19 ?_
    exact Or.inl ⟨rfl, hM_10, (by omega)⟩
set_option maxHeartbeats 4000000 in
theorem c_X4_could (G : fp_G) (ad : Nat → Nat) (sc : Nat → Int) (ar : Nat → Nat → Int) (S : PS) (hA0 : fp_MA G ad) (hV : fp_VR S (ar 5)) (kd : Nat) (l : Int) (wd : Int) (wt : Int) (hkd : kd < 3) (hl1 : rg l) (hw1 : rg wd) (ht1 : rg wt) (hsp : sP S < 999) (h30 : ∀ k, k < sN S → fp_top (sB S k) ≤ 30) : fp_M G yX4_could cX4_could 7 (some .boolean) 9 196 0 0 [.ref (ad 0), .int (iI ((kd : Nat) : Int)), .int (iI (l)), .int (iI (wd)), .int (iI (wt))] (fp_ME G ad sc ar) (fp_ma ad) (fun _ v H => (∃ (f : Nat → Int), v = some (.int (iI (bI (true)))) ∧ fp_ME G ad (va_up sc 0 (((0 : Nat) : Int))) (va_up (va_up ar 8 (ar 5)) 10 f) H ∧ (fp_plc S kd l wd wt = 0)) ∨ (∃ (f : Nat → Int), v = some (.int (iI (bI (false)))) ∧ fp_ME G ad (va_up sc 0 (((1 : Nat) : Int))) (va_up (va_up ar 8 (ar 5)) 10 f) H ∧ (fp_plc S kd l wd wt = 1)) ∨ (∃ (f : Nat → Int), v = some (.int (iI (bI (false)))) ∧ fp_ME G ad (va_up sc 0 (((0 : Nat) : Int))) (va_up (va_up ar 8 (ar 5)) 10 f) H ∧ (fp_plc S kd l wd wt = 2))) := by
  refine fp_M.intro (by decide) (Nat.le_of_ble_eq_true rfl) ?_
  intro pg en s mi ag bl mt cd rR qQ ls X hx hb hr hlk hnm hR hQ hB hM hl
  have hS : va_S (fA (fp_ma ad) s.heap.size) s.heap s.heap [] := va_S.rf
  generalize ([] : List Loc) = locs at hS ⊢
  have hN24 := hV.1.1
  refine lv_aload_n hx hb dX4_could_0 rfl (lv_at hl 0 rfl) ?_
  refine lv_iconst (v := (iI ((0 : Nat) : Int))) hx hb dX4_could_1 rfl ?_
  refine m_put X hM hS hA0 (k := 0) (sc2 := (va_up sc 0 (((0 : Nat) : Int)))) rfl (by decide) q2009 rfl rfl rfl dX4_could_2 rfl (fun H locs hM_1 hS => ?_)
  refine lv_aload_n hx hb dX4_could_5 rfl (lv_at hl 0 rfl) ?_
  refine r_get X hM_1.1 rfl in_X4 8 (by decide) q2017 (Or.inl rfl) (v := .ref (ad 8)) rfl dX4_could_6 ?_
  refine lv_aload_n hx hb dX4_could_9 rfl (lv_at hl 0 rfl) ?_
  refine r_get X hM_1.1 rfl in_X4 5 (by decide) q2014 (Or.inl rfl) (v := .ref (ad 5)) rfl dX4_could_10 ?_
  refine r_callS (cells1 := 0) (slots1 := 0) X hR (c_X4_lays G ad (va_up sc 0 (((0 : Nat) : Int))) ar hA0 8 5 rfl rfl (by decide) (by decide) (by decide)) q2091 q2092 q100 q2093 pd_X4_lays (by decide) rfl rfl (by decide) (by decide) rfl (Nat.le_of_ble_eq_true rfl) hl.1 dX4_could_13 (hB.of hS (fp_ma.base hA0)) hM_1 hS (fun _ h => Or.inl h) (fun v H locs hp_2 hzC hkC hS => ?_)
  obtain ⟨rfl, hM_3⟩ := hp_2
  refine r_stk (st2 := []) rfl ?_
  refine lv_aload_n hx hb dX4_could_16 rfl (lv_at hl 0 rfl) ?_
  refine lv_iload_n hx hb dX4_could_17 rfl (lv_at hl 1 rfl) ?_
  refine lv_iload_n hx hb dX4_could_18 rfl (lv_at hl 2 rfl) ?_
  refine lv_iload_n hx hb dX4_could_19 rfl (lv_at hl 3 rfl) ?_
  refine lv_iload hx hb dX4_could_20 (lv_at hl 4 rfl) ?_
  refine r_callV (cells1 := 0) (slots1 := 0) X hR (c_X4_places G ad (va_up sc 0 (((0 : Nat) : Int))) (va_up ar 8 (ar 5)) S hA0 hV kd (l) (wd) (wt) (by omega) (by omega) (by omega) (by omega) (by omega) h30) q2094 q2096 qs46 q100 q2097 ⟨rfl, pd_X4_places⟩ (by decide) rfl rfl (by decide) (by decide) hM_3.1 rfl rfl (Nat.le_of_ble_eq_true rfl) hl.1 dX4_could_22 (hB.of hS (fp_ma.base hA0)) hM_3 hS (fun _ h => Or.inl h) (fun v H locs hp_4 hzC hkC hS => ?_)
  rcases hp_4 with ⟨rfl, hM_6, hpc_5⟩ | ⟨v2_7, f_8, rfl, hM_10, hpc_9⟩ | ⟨v2_11, f_12, rfl, hM_15, hpc_13, hV2_14⟩
  · skip
    have hM_16 := fp_ME.nrm (sc2 := (va_up sc 0 (((1 : Nat) : Int)))) hM_6 rfl
    refine r_stk (st2 := [.int (iI ((0 : Nat) : Int))]) rfl ?_
    refine lv_istore (lv' := [(5, .int (iI ((0 : Nat) : Int))), (0, .ref (ad 0)), (1, .int (iI ((kd : Nat) : Int))), (2, .int (iI (l))), (3, .int (iI (wd))), (4, .int (iI (wt)))]) hx hb dX4_could_25 hl (by decide) rfl (fun ls hl => ?_)
    refine lv_aload_n hx hb dX4_could_27 rfl (lv_at hl 1 rfl) ?_
    refine r_get X hM_16.1 rfl in_X4 5 (by decide) q2014 (Or.inl rfl) (v := .ref (ad 5)) rfl dX4_could_28 ?_
    refine lv_aload_n hx hb dX4_could_31 rfl (lv_at hl 1 rfl) ?_
    refine r_get X hM_16.1 rfl in_X4 8 (by decide) q2017 (Or.inl rfl) (v := .ref (ad 8)) rfl dX4_could_32 ?_
    refine r_callS (cells1 := 0) (slots1 := 0) X hR (c_X4_lays G ad (va_up sc 0 (((1 : Nat) : Int))) (va_up ar 8 (ar 5)) hA0 5 8 rfl rfl (by decide) (by decide) (by decide)) q2091 q2092 q100 q2093 pd_X4_lays (by decide) rfl rfl (by decide) (by decide) rfl (Nat.le_of_ble_eq_true rfl) hl.1 dX4_could_35 (hB.of hS (fp_ma.base hA0)) hM_16 hS (fun _ h => Or.inl h) (fun v H locs hp_17 hzC hkC hS => ?_)
    obtain ⟨rfl, hM_18⟩ := hp_17
    refine r_stk (st2 := []) rfl ?_
    refine lv_aload_n hx hb dX4_could_38 rfl (lv_at hl 1 rfl) ?_
    refine r_get X hM_18.1 rfl in_X4 0 (by decide) q2009 (Or.inl rfl) (v := .int (iI ((1 : Nat) : Int))) rfl dX4_could_39 ?_
    refine r_if_ne (tgt := 49) hx hb (by decide) dX4_could_42 (by decide) (fun c42 => ?_) (fun c42 => ?_)
    · skip
      refine lv_iconst (v := (iI ((0 : Nat) : Int))) hx hb dX4_could_49 rfl ?_
      refine lv_istore (lv' := [(6, .int (iI ((0 : Nat) : Int))), (5, .int (iI ((0 : Nat) : Int))), (0, .ref (ad 0)), (1, .int (iI ((kd : Nat) : Int))), (2, .int (iI (l))), (3, .int (iI (wd))), (4, .int (iI (wt)))]) hx hb dX4_could_50 hl (by decide) rfl (fun ls hl => ?_)
      refine lv_aload_n hx hb dX4_could_52 rfl (lv_at hl 2 rfl) ?_
      refine lv_aload_n hx hb dX4_could_53 rfl (lv_at hl 2 rfl) ?_
      refine r_get X hM_18.1 rfl in_X4 0 (by decide) q2009 (Or.inl rfl) (v := .int (iI ((1 : Nat) : Int))) rfl dX4_could_54 ?_
      refine lv_iconst (v := (iI ((1 : Nat) : Int))) hx hb dX4_could_57 rfl ?_
      refine r_icmp_ne (tgt := 65) hx hb (by decide) (by decide) dX4_could_58 (by decide) (fun c58 => ?_) (fun c58 => ?_)
      · exact absurd c58 (by omega)
      · skip
        refine lv_iconst (v := (iI ((1 : Nat) : Int))) hx hb dX4_could_61 rfl ?_
        refine lv_goto (tgt := 66) hx hb dX4_could_62 (by decide) ?_
        refine m_put X hM_18 hS hA0 (k := 0) (sc2 := (va_up sc 0 (((1 : Nat) : Int)))) rfl (by decide) q2009 rfl rfl rfl dX4_could_66 rfl (fun H locs hM_19 hS => ?_)
        refine lv_iload hx hb dX4_could_69 (lv_at hl 0 rfl) ?_
        refine r_zret hx hb hr hlk hQ hS (Nat.le_of_ble_eq_true rfl) (Nat.le_of_ble_eq_true rfl) dX4_could_71 rfl ?_
        exact Or.inr (Or.inl ⟨ar 10, rfl, (fp_ME.nrm (fp_ME.congr hM_19 (fun k _ _ y _ => by by_cases e5 : k = 5 <;> by_cases e8 : k = 8 <;> by_cases e10 : k = 10 <;> simp_all [va_up])) rfl), hpc_5⟩)
    · exact absurd c42 (by omega)
  · skip
    have hM_20 := fp_ME.nrm (sc2 := (va_up sc 0 (((2 : Nat) : Int)))) hM_10 rfl
    refine r_stk (st2 := [.int (iI ((0 : Nat) : Int))]) rfl ?_
    refine lv_istore (lv' := [(5, .int (iI ((0 : Nat) : Int))), (0, .ref (ad 0)), (1, .int (iI ((kd : Nat) : Int))), (2, .int (iI (l))), (3, .int (iI (wd))), (4, .int (iI (wt)))]) hx hb dX4_could_25 hl (by decide) rfl (fun ls hl => ?_)
    refine lv_aload_n hx hb dX4_could_27 rfl (lv_at hl 1 rfl) ?_
    refine r_get X hM_20.1 rfl in_X4 5 (by decide) q2014 (Or.inl rfl) (v := .ref (ad 5)) rfl dX4_could_28 ?_
    refine lv_aload_n hx hb dX4_could_31 rfl (lv_at hl 1 rfl) ?_
    refine r_get X hM_20.1 rfl in_X4 8 (by decide) q2017 (Or.inl rfl) (v := .ref (ad 8)) rfl dX4_could_32 ?_
    refine r_callS (cells1 := 0) (slots1 := 0) X hR (c_X4_lays G ad (va_up sc 0 (((2 : Nat) : Int))) (va_up (va_up (va_up ar 8 (ar 5)) 5 v2_7) 10 f_8) hA0 5 8 rfl rfl (by decide) (by decide) (by decide)) q2091 q2092 q100 q2093 pd_X4_lays (by decide) rfl rfl (by decide) (by decide) rfl (Nat.le_of_ble_eq_true rfl) hl.1 dX4_could_35 (hB.of hS (fp_ma.base hA0)) hM_20 hS (fun _ h => Or.inl h) (fun v H locs hp_21 hzC hkC hS => ?_)
    obtain ⟨rfl, hM_22⟩ := hp_21
    refine r_stk (st2 := []) rfl ?_
    refine lv_aload_n hx hb dX4_could_38 rfl (lv_at hl 1 rfl) ?_
    refine r_get X hM_22.1 rfl in_X4 0 (by decide) q2009 (Or.inl rfl) (v := .int (iI ((2 : Nat) : Int))) rfl dX4_could_39 ?_
    refine r_if_ne (tgt := 49) hx hb (by decide) dX4_could_42 (by decide) (fun c42 => ?_) (fun c42 => ?_)
    · skip
      refine lv_iconst (v := (iI ((0 : Nat) : Int))) hx hb dX4_could_49 rfl ?_
      refine lv_istore (lv' := [(6, .int (iI ((0 : Nat) : Int))), (5, .int (iI ((0 : Nat) : Int))), (0, .ref (ad 0)), (1, .int (iI ((kd : Nat) : Int))), (2, .int (iI (l))), (3, .int (iI (wd))), (4, .int (iI (wt)))]) hx hb dX4_could_50 hl (by decide) rfl (fun ls hl => ?_)
      refine lv_aload_n hx hb dX4_could_52 rfl (lv_at hl 2 rfl) ?_
      refine lv_aload_n hx hb dX4_could_53 rfl (lv_at hl 2 rfl) ?_
      refine r_get X hM_22.1 rfl in_X4 0 (by decide) q2009 (Or.inl rfl) (v := .int (iI ((2 : Nat) : Int))) rfl dX4_could_54 ?_
      refine lv_iconst (v := (iI ((1 : Nat) : Int))) hx hb dX4_could_57 rfl ?_
      refine r_icmp_ne (tgt := 65) hx hb (by decide) (by decide) dX4_could_58 (by decide) (fun c58 => ?_) (fun c58 => ?_)
      · skip
        refine lv_iconst (v := (iI ((0 : Nat) : Int))) hx hb dX4_could_65 rfl ?_
        refine m_put X hM_22 hS hA0 (k := 0) (sc2 := (va_up sc 0 (((0 : Nat) : Int)))) rfl (by decide) q2009 rfl rfl rfl dX4_could_66 rfl (fun H locs hM_23 hS => ?_)
        refine lv_iload hx hb dX4_could_69 (lv_at hl 0 rfl) ?_
        refine r_zret hx hb hr hlk hQ hS (Nat.le_of_ble_eq_true rfl) (Nat.le_of_ble_eq_true rfl) dX4_could_71 rfl ?_
        exact Or.inr (Or.inr (⟨f_8, rfl, (fp_ME.nrm (fp_ME.congr hM_23 (fun k _ _ y _ => by by_cases e5 : k = 5 <;> by_cases e8 : k = 8 <;> by_cases e10 : k = 10 <;> simp_all [va_up])) rfl), hpc_9⟩))
      · exact absurd c58 (by omega)
    · exact absurd c42 (by omega)
  · skip
    refine r_stk (st2 := [.int (iI ((sP S : Nat) : Int))]) rfl ?_
    refine lv_istore (lv' := [(5, .int (iI ((sP S : Nat) : Int))), (0, .ref (ad 0)), (1, .int (iI ((kd : Nat) : Int))), (2, .int (iI (l))), (3, .int (iI (wd))), (4, .int (iI (wt)))]) hx hb dX4_could_25 hl (by decide) rfl (fun ls hl => ?_)
    refine lv_aload_n hx hb dX4_could_27 rfl (lv_at hl 1 rfl) ?_
    refine r_get X hM_15.1 rfl in_X4 5 (by decide) q2014 (Or.inl rfl) (v := .ref (ad 5)) rfl dX4_could_28 ?_
    refine lv_aload_n hx hb dX4_could_31 rfl (lv_at hl 1 rfl) ?_
    refine r_get X hM_15.1 rfl in_X4 8 (by decide) q2017 (Or.inl rfl) (v := .ref (ad 8)) rfl dX4_could_32 ?_
    refine r_callS (cells1 := 0) (slots1 := 0) X hR (c_X4_lays G ad (va_up sc 0 (((0 : Nat) : Int))) (va_up (va_up (va_up ar 8 (ar 5)) 5 v2_11) 10 f_12) hA0 5 8 rfl rfl (by decide) (by decide) (by decide)) q2091 q2092 q100 q2093 pd_X4_lays (by decide) rfl rfl (by decide) (by decide) rfl (Nat.le_of_ble_eq_true rfl) hl.1 dX4_could_35 (hB.of hS (fp_ma.base hA0)) hM_15 hS (fun _ h => Or.inl h) (fun v H locs hp_24 hzC hkC hS => ?_)
    obtain ⟨rfl, hM_25⟩ := hp_24
    refine r_stk (st2 := []) rfl ?_
    refine lv_aload_n hx hb dX4_could_38 rfl (lv_at hl 1 rfl) ?_
    refine r_get X hM_25.1 rfl in_X4 0 (by decide) q2009 (Or.inl rfl) (v := .int (iI ((0 : Nat) : Int))) rfl dX4_could_39 ?_
    refine r_if_ne (tgt := 49) hx hb (by decide) dX4_could_42 (by decide) (fun c42 => ?_) (fun c42 => ?_)
    · exact absurd c42 (by omega)
    · skip
      refine lv_iconst (v := (iI ((1 : Nat) : Int))) hx hb dX4_could_45 rfl ?_
      refine lv_goto (tgt := 50) hx hb dX4_could_46 (by decide) ?_
      refine lv_istore (lv' := [(6, .int (iI ((1 : Nat) : Int))), (5, .int (iI ((sP S : Nat) : Int))), (0, .ref (ad 0)), (1, .int (iI ((kd : Nat) : Int))), (2, .int (iI (l))), (3, .int (iI (wd))), (4, .int (iI (wt)))]) hx hb dX4_could_50 hl (by decide) rfl (fun ls hl => ?_)
      refine lv_aload_n hx hb dX4_could_52 rfl (lv_at hl 2 rfl) ?_
      refine lv_aload_n hx hb dX4_could_53 rfl (lv_at hl 2 rfl) ?_
      refine r_get X hM_25.1 rfl in_X4 0 (by decide) q2009 (Or.inl rfl) (v := .int (iI ((0 : Nat) : Int))) rfl dX4_could_54 ?_
      refine lv_iconst (v := (iI ((1 : Nat) : Int))) hx hb dX4_could_57 rfl ?_
      refine r_icmp_ne (tgt := 65) hx hb (by decide) (by decide) dX4_could_58 (by decide) (fun c58 => ?_) (fun c58 => ?_)
      · skip
        refine lv_iconst (v := (iI ((0 : Nat) : Int))) hx hb dX4_could_65 rfl ?_
        refine m_put X hM_25 hS hA0 (k := 0) (sc2 := (va_up sc 0 (((0 : Nat) : Int)))) rfl (by decide) q2009 rfl rfl rfl dX4_could_66 rfl (fun H locs hM_26 hS => ?_)
        refine lv_iload hx hb dX4_could_69 (lv_at hl 0 rfl) ?_
        refine r_zret hx hb hr hlk hQ hS (Nat.le_of_ble_eq_true rfl) (Nat.le_of_ble_eq_true rfl) dX4_could_71 rfl ?_
        exact Or.inl ⟨f_12, rfl, (fp_ME.nrm (fp_ME.congr hM_26 (fun k _ _ y _ => by by_cases e5 : k = 5 <;> by_cases e8 : k = 8 <;> by_cases e10 : k = 10 <;> simp_all [va_up])) rfl), hpc_13⟩
      · exact absurd c58 (by omega)
set_option maxHeartbeats 4000000 in
theorem c_X4_canPlaceFoam (G : fp_G) (ad : Nat → Nat) (sc : Nat → Int) (ar : Nat → Nat → Int) (S : PS) (hA0 : fp_MA G ad) (hV : fp_VR S (ar 5)) (l : Int) (wd : Int) (wt : Int) (hl1 : rg l) (hw1 : rg wd) (ht1 : rg wt) (hsp : sP S < 999) (h30 : ∀ k, k < sN S → fp_top (sB S k) ≤ 30) : fp_M G yX4_canPlaceFoam cX4_canPlaceFoam 4 (some .boolean) 10 222 0 0 [.ref (ad 0), .int (iI (l)), .int (iI (wd)), .int (iI (wt))] (fp_ME G ad sc ar) (fp_ma ad) (fun _ v H => (∃ (f : Nat → Int), v = some (.int (iI (bI (true)))) ∧ fp_ME G ad (va_up sc 0 (((0 : Nat) : Int))) (va_up (va_up ar 8 (ar 5)) 10 f) H ∧ (fp_plc S 0 l wd wt = 0)) ∨ (∃ (f : Nat → Int), v = some (.int (iI (bI (false)))) ∧ fp_ME G ad (va_up sc 0 (((1 : Nat) : Int))) (va_up (va_up ar 8 (ar 5)) 10 f) H ∧ (fp_plc S 0 l wd wt = 1)) ∨ (∃ (f : Nat → Int), v = some (.int (iI (bI (false)))) ∧ fp_ME G ad (va_up sc 0 (((0 : Nat) : Int))) (va_up (va_up ar 8 (ar 5)) 10 f) H ∧ (fp_plc S 0 l wd wt = 2))) := by
  refine fp_M.intro (by decide) (Nat.le_of_ble_eq_true rfl) ?_
  intro pg en s mi ag bl mt cd rR qQ ls X hx hb hr hlk hnm hR hQ hB hM hl
  have hS : va_S (fA (fp_ma ad) s.heap.size) s.heap s.heap [] := va_S.rf
  generalize ([] : List Loc) = locs at hS ⊢
  have hN24 := hV.1.1
  refine lv_aload_n hx hb dX4_canPlaceFoam_0 rfl (lv_at hl 0 rfl) ?_
  refine lv_iconst (v := (iI ((0 : Nat) : Int))) hx hb dX4_canPlaceFoam_1 rfl ?_
  refine lv_iload_n hx hb dX4_canPlaceFoam_2 rfl (lv_at hl 1 rfl) ?_
  refine lv_iload_n hx hb dX4_canPlaceFoam_3 rfl (lv_at hl 2 rfl) ?_
  refine lv_iload_n hx hb dX4_canPlaceFoam_4 rfl (lv_at hl 3 rfl) ?_
  refine r_callV (cells1 := 0) (slots1 := 0) X hR (c_X4_could G ad sc ar S hA0 hV 0 (l) (wd) (wt) (by decide) (by omega) (by omega) (by omega) (by omega) h30) q2221 q2223 qs67 q100 q2224 ⟨rfl, pd_X4_could⟩ (by decide) rfl rfl (by decide) (by decide) hM.1 rfl rfl (Nat.le_of_ble_eq_true rfl) hl.1 dX4_canPlaceFoam_5 (hB.of hS (fp_ma.base hA0)) hM hS (fun _ h => Or.inl h) (fun v H locs hp_1 hzC hkC hS => ?_)
  rcases hp_1 with ⟨f_2, rfl, hM_4, hpc_3⟩ | ⟨f_5, rfl, hM_7, hpc_6⟩ | ⟨f_8, rfl, hM_10, hpc_9⟩
  · skip
    have hM_11 := fp_ME.nrm (sc2 := (va_up sc 0 (((0 : Nat) : Int)))) hM_4 rfl
    refine r_stk (st2 := [.int (iI (bI (true)))]) rfl ?_
    refine r_zret hx hb hr hlk hQ hS (Nat.le_of_ble_eq_true rfl) (Nat.le_of_ble_eq_true rfl) dX4_canPlaceFoam_8 (bI_z _) ?_
    exact Or.inl ⟨f_2, rfl, hM_11, hpc_3⟩
  · skip
    have hM_12 := fp_ME.nrm (sc2 := (va_up sc 0 (((1 : Nat) : Int)))) hM_7 rfl
    refine r_stk (st2 := [.int (iI (bI (false)))]) rfl ?_
    refine r_zret hx hb hr hlk hQ hS (Nat.le_of_ble_eq_true rfl) (Nat.le_of_ble_eq_true rfl) dX4_canPlaceFoam_8 (bI_z _) ?_
    exact Or.inr (Or.inl ⟨f_5, rfl, hM_12, hpc_6⟩)
  · skip
    have hM_13 := fp_ME.nrm (sc2 := (va_up sc 0 (((0 : Nat) : Int)))) hM_10 rfl
    refine r_stk (st2 := [.int (iI (bI (false)))]) rfl ?_
    refine r_zret hx hb hr hlk hQ hS (Nat.le_of_ble_eq_true rfl) (Nat.le_of_ble_eq_true rfl) dX4_canPlaceFoam_8 (bI_z _) ?_
    exact Or.inr (Or.inr (⟨f_8, rfl, hM_13, hpc_9⟩))
set_option maxHeartbeats 4000000 in
theorem c_X4_canPlaceBoard (G : fp_G) (ad : Nat → Nat) (sc : Nat → Int) (ar : Nat → Nat → Int) (S : PS) (hA0 : fp_MA G ad) (hV : fp_VR S (ar 5)) (l : Int) (wd : Int) (wt : Int) (hl1 : rg l) (hw1 : rg wd) (ht1 : rg wt) (hsp : sP S < 999) (h30 : ∀ k, k < sN S → fp_top (sB S k) ≤ 30) : fp_M G yX4_canPlaceBoard cX4_canPlaceBoard 4 (some .boolean) 10 222 0 0 [.ref (ad 0), .int (iI (l)), .int (iI (wd)), .int (iI (wt))] (fp_ME G ad sc ar) (fp_ma ad) (fun _ v H => (∃ (f : Nat → Int), v = some (.int (iI (bI (true)))) ∧ fp_ME G ad (va_up sc 0 (((0 : Nat) : Int))) (va_up (va_up ar 8 (ar 5)) 10 f) H ∧ (fp_plc S 1 l wd wt = 0)) ∨ (∃ (f : Nat → Int), v = some (.int (iI (bI (false)))) ∧ fp_ME G ad (va_up sc 0 (((1 : Nat) : Int))) (va_up (va_up ar 8 (ar 5)) 10 f) H ∧ (fp_plc S 1 l wd wt = 1)) ∨ (∃ (f : Nat → Int), v = some (.int (iI (bI (false)))) ∧ fp_ME G ad (va_up sc 0 (((0 : Nat) : Int))) (va_up (va_up ar 8 (ar 5)) 10 f) H ∧ (fp_plc S 1 l wd wt = 2))) := by
  refine fp_M.intro (by decide) (Nat.le_of_ble_eq_true rfl) ?_
  intro pg en s mi ag bl mt cd rR qQ ls X hx hb hr hlk hnm hR hQ hB hM hl
  have hS : va_S (fA (fp_ma ad) s.heap.size) s.heap s.heap [] := va_S.rf
  generalize ([] : List Loc) = locs at hS ⊢
  have hN24 := hV.1.1
  refine lv_aload_n hx hb dX4_canPlaceBoard_0 rfl (lv_at hl 0 rfl) ?_
  refine lv_iconst (v := (iI ((1 : Nat) : Int))) hx hb dX4_canPlaceBoard_1 rfl ?_
  refine lv_iload_n hx hb dX4_canPlaceBoard_2 rfl (lv_at hl 1 rfl) ?_
  refine lv_iload_n hx hb dX4_canPlaceBoard_3 rfl (lv_at hl 2 rfl) ?_
  refine lv_iload_n hx hb dX4_canPlaceBoard_4 rfl (lv_at hl 3 rfl) ?_
  refine r_callV (cells1 := 0) (slots1 := 0) X hR (c_X4_could G ad sc ar S hA0 hV 1 (l) (wd) (wt) (by decide) (by omega) (by omega) (by omega) (by omega) h30) q2221 q2223 qs67 q100 q2224 ⟨rfl, pd_X4_could⟩ (by decide) rfl rfl (by decide) (by decide) hM.1 rfl rfl (Nat.le_of_ble_eq_true rfl) hl.1 dX4_canPlaceBoard_5 (hB.of hS (fp_ma.base hA0)) hM hS (fun _ h => Or.inl h) (fun v H locs hp_1 hzC hkC hS => ?_)
  rcases hp_1 with ⟨f_2, rfl, hM_4, hpc_3⟩ | ⟨f_5, rfl, hM_7, hpc_6⟩ | ⟨f_8, rfl, hM_10, hpc_9⟩
  · skip
    have hM_11 := fp_ME.nrm (sc2 := (va_up sc 0 (((0 : Nat) : Int)))) hM_4 rfl
    refine r_stk (st2 := [.int (iI (bI (true)))]) rfl ?_
    refine r_zret hx hb hr hlk hQ hS (Nat.le_of_ble_eq_true rfl) (Nat.le_of_ble_eq_true rfl) dX4_canPlaceBoard_8 (bI_z _) ?_
    exact Or.inl ⟨f_2, rfl, hM_11, hpc_3⟩
  · skip
    have hM_12 := fp_ME.nrm (sc2 := (va_up sc 0 (((1 : Nat) : Int)))) hM_7 rfl
    refine r_stk (st2 := [.int (iI (bI (false)))]) rfl ?_
    refine r_zret hx hb hr hlk hQ hS (Nat.le_of_ble_eq_true rfl) (Nat.le_of_ble_eq_true rfl) dX4_canPlaceBoard_8 (bI_z _) ?_
    exact Or.inr (Or.inl ⟨f_5, rfl, hM_12, hpc_6⟩)
  · skip
    have hM_13 := fp_ME.nrm (sc2 := (va_up sc 0 (((0 : Nat) : Int)))) hM_10 rfl
    refine r_stk (st2 := [.int (iI (bI (false)))]) rfl ?_
    refine r_zret hx hb hr hlk hQ hS (Nat.le_of_ble_eq_true rfl) (Nat.le_of_ble_eq_true rfl) dX4_canPlaceBoard_8 (bI_z _) ?_
    exact Or.inr (Or.inr (⟨f_8, rfl, hM_13, hpc_9⟩))
set_option maxHeartbeats 4000000 in
theorem c_X4_canPlaceBag (G : fp_G) (ad : Nat → Nat) (sc : Nat → Int) (ar : Nat → Nat → Int) (S : PS) (hA0 : fp_MA G ad) (hV : fp_VR S (ar 5)) (l : Int) (wd : Int) (wt : Int) (hl1 : rg l) (hw1 : rg wd) (ht1 : rg wt) (hsp : sP S < 999) (h30 : ∀ k, k < sN S → fp_top (sB S k) ≤ 30) : fp_M G yX4_canPlaceBag cX4_canPlaceBag 4 (some .boolean) 10 222 0 0 [.ref (ad 0), .int (iI (l)), .int (iI (wd)), .int (iI (wt))] (fp_ME G ad sc ar) (fp_ma ad) (fun _ v H => (∃ (f : Nat → Int), v = some (.int (iI (bI (true)))) ∧ fp_ME G ad (va_up sc 0 (((0 : Nat) : Int))) (va_up (va_up ar 8 (ar 5)) 10 f) H ∧ (fp_plc S 2 l wd wt = 0)) ∨ (∃ (f : Nat → Int), v = some (.int (iI (bI (false)))) ∧ fp_ME G ad (va_up sc 0 (((1 : Nat) : Int))) (va_up (va_up ar 8 (ar 5)) 10 f) H ∧ (fp_plc S 2 l wd wt = 1)) ∨ (∃ (f : Nat → Int), v = some (.int (iI (bI (false)))) ∧ fp_ME G ad (va_up sc 0 (((0 : Nat) : Int))) (va_up (va_up ar 8 (ar 5)) 10 f) H ∧ (fp_plc S 2 l wd wt = 2))) := by
  refine fp_M.intro (by decide) (Nat.le_of_ble_eq_true rfl) ?_
  intro pg en s mi ag bl mt cd rR qQ ls X hx hb hr hlk hnm hR hQ hB hM hl
  have hS : va_S (fA (fp_ma ad) s.heap.size) s.heap s.heap [] := va_S.rf
  generalize ([] : List Loc) = locs at hS ⊢
  have hN24 := hV.1.1
  refine lv_aload_n hx hb dX4_canPlaceBag_0 rfl (lv_at hl 0 rfl) ?_
  refine lv_iconst (v := (iI ((2 : Nat) : Int))) hx hb dX4_canPlaceBag_1 rfl ?_
  refine lv_iload_n hx hb dX4_canPlaceBag_2 rfl (lv_at hl 1 rfl) ?_
  refine lv_iload_n hx hb dX4_canPlaceBag_3 rfl (lv_at hl 2 rfl) ?_
  refine lv_iload_n hx hb dX4_canPlaceBag_4 rfl (lv_at hl 3 rfl) ?_
  refine r_callV (cells1 := 0) (slots1 := 0) X hR (c_X4_could G ad sc ar S hA0 hV 2 (l) (wd) (wt) (by decide) (by omega) (by omega) (by omega) (by omega) h30) q2221 q2223 qs67 q100 q2224 ⟨rfl, pd_X4_could⟩ (by decide) rfl rfl (by decide) (by decide) hM.1 rfl rfl (Nat.le_of_ble_eq_true rfl) hl.1 dX4_canPlaceBag_5 (hB.of hS (fp_ma.base hA0)) hM hS (fun _ h => Or.inl h) (fun v H locs hp_1 hzC hkC hS => ?_)
  rcases hp_1 with ⟨f_2, rfl, hM_4, hpc_3⟩ | ⟨f_5, rfl, hM_7, hpc_6⟩ | ⟨f_8, rfl, hM_10, hpc_9⟩
  · skip
    have hM_11 := fp_ME.nrm (sc2 := (va_up sc 0 (((0 : Nat) : Int)))) hM_4 rfl
    refine r_stk (st2 := [.int (iI (bI (true)))]) rfl ?_
    refine r_zret hx hb hr hlk hQ hS (Nat.le_of_ble_eq_true rfl) (Nat.le_of_ble_eq_true rfl) dX4_canPlaceBag_8 (bI_z _) ?_
    exact Or.inl ⟨f_2, rfl, hM_11, hpc_3⟩
  · skip
    have hM_12 := fp_ME.nrm (sc2 := (va_up sc 0 (((1 : Nat) : Int)))) hM_7 rfl
    refine r_stk (st2 := [.int (iI (bI (false)))]) rfl ?_
    refine r_zret hx hb hr hlk hQ hS (Nat.le_of_ble_eq_true rfl) (Nat.le_of_ble_eq_true rfl) dX4_canPlaceBag_8 (bI_z _) ?_
    exact Or.inr (Or.inl ⟨f_5, rfl, hM_12, hpc_6⟩)
  · skip
    have hM_13 := fp_ME.nrm (sc2 := (va_up sc 0 (((0 : Nat) : Int)))) hM_10 rfl
    refine r_stk (st2 := [.int (iI (bI (false)))]) rfl ?_
    refine r_zret hx hb hr hlk hQ hS (Nat.le_of_ble_eq_true rfl) (Nat.le_of_ble_eq_true rfl) dX4_canPlaceBag_8 (bI_z _) ?_
    exact Or.inr (Or.inr (⟨f_8, rfl, hM_13, hpc_9⟩))
set_option maxHeartbeats 4000000 in
theorem c_X4_heaviestFoam (G : fp_G) (ad : Nat → Nat) (sc : Nat → Int) (ar : Nat → Nat → Int) (S : PS) (hA0 : fp_MA G ad) (hV : fp_VR S (ar 5)) (l : Int) (wd : Int) (hl1 : rg l) (hw1 : rg wd) (hsp : sP S < 999) (h30 : ∀ k, k < sN S → fp_top (sB S k) ≤ 30) : fp_M G yX4_heaviestFoam cX4_heaviestFoam 4 (some .int) 10 222 0 0 [.ref (ad 0), .int (iI (l)), .int (iI (wd))] (fp_ME G ad sc ar) (fp_ma ad) (fun _ v H => ∃ (r : Int), ∃ (ar2 : Nat → Nat → Int), v = some (.int (iI (r))) ∧ fp_ME G ad (va_up sc 0 (((fp_hvc S l wd : Nat) : Int))) ar2 H ∧ (fp_hvc S l wd = 0 → r = fp_hv S l wd) ∧ (∀ k, k ≠ 8 → k ≠ 10 → ar2 k = ar k)) := by
  refine fp_M.intro (by decide) (Nat.le_of_ble_eq_true rfl) ?_
  intro pg en s mi ag bl mt cd rR qQ ls X hx hb hr hlk hnm hR hQ hB hM hl
  have hS : va_S (fA (fp_ma ad) s.heap.size) s.heap s.heap [] := va_S.rf
  generalize ([] : List Loc) = locs at hS ⊢
  have hN24 := hV.1.1
  refine lv_aload_n hx hb dX4_heaviestFoam_0 rfl (lv_at hl 0 rfl) ?_
  refine lv_iconst (v := (iI ((0 : Nat) : Int))) hx hb dX4_heaviestFoam_1 rfl ?_
  refine m_put X hM hS hA0 (k := 0) (sc2 := (va_up sc 0 (((0 : Nat) : Int)))) rfl (by decide) q2009 rfl rfl rfl dX4_heaviestFoam_2 rfl (fun H locs hM_1 hS => ?_)
  refine lv_iload_n hx hb dX4_heaviestFoam_5 rfl (lv_at hl 1 rfl) ?_
  refine lv_iload_n hx hb dX4_heaviestFoam_6 rfl (lv_at hl 2 rfl) ?_
  refine r_callS (cells1 := 0) (slots1 := 0) X hR (c_X4_isPlace G (l) (wd) (by omega) (by omega)) q2098 q2099 q100 q2100 pd_X4_isPlace (by decide) rfl rfl (by decide) (by decide) rfl (Nat.le_of_ble_eq_true rfl) hl.1 dX4_heaviestFoam_7 (hB.of hS (fp_ma.base hA0)) trivial hS (fun _ h => h.elim) (fun v H1 locs hp_2 hzC hkC hS => ?_)
  obtain ⟨rfl, rfl⟩ := hp_2
  refine r_stk (st2 := [.int (iI (bI (fp_place (l) (wd))))]) rfl ?_
  refine r_ifneB (tgt := 19) hx hb dX4_heaviestFoam_10 (by decide) (fun c10 => ?_) (fun c10 => ?_)
  · skip
    have hk0 : ∀ k, k ≠ 8 → k ≠ 10 → ar k = ar k := fun _ _ _ => rfl
    have hV0 := hV
    refine lv_bipush (v := (iI ((9 : Nat) : Int))) hx hb dX4_heaviestFoam_19 rfl ?_
    refine lv_istore_n (lv' := [(3, .int (iI ((9 : Nat) : Int))), (0, .ref (ad 0)), (1, .int (iI (l))), (2, .int (iI (wd)))]) hx hb dX4_heaviestFoam_21 rfl hl (by decide) rfl (fun ls hl => ?_)
    have L22 : ∀ (t : Nat), t ≤ 9 → ∀ (ar2 : Nat → Nat → Int) (th : Int) (H : Heap) (locs : List Loc) (ls : Array Slot),(∀ k, k ≠ 8 → k ≠ 10 → ar2 k = ar k) → (fp_VR S (ar2 5)) → (fp_hv S l wd = fp_hvd S l wd (9 - t)) → lv_has ls 4 [(0, .ref (ad 0)), (1, .int (iI (l))), (2, .int (iI (wd))), (3, .int (iI (9 - ((t : Nat) : Int))))] → va_S (fA (fp_ma ad) s.heap.size) s.heap H locs → fp_ME G ad (va_up sc 0 ((th))) ar2 H → W pg (g_l G) en rR s mi ag bl mt cd H locs 0 0 qQ (F0 mi 22 ls []) := by
      refine lp_up 9 ?_
      intro t hk22 ih22 ar2 th H locs ls hk hV2 hd hl hS hM
      refine lv_iload_n hx hb dX4_heaviestFoam_22 rfl (lv_at hl 3 rfl) ?_
      refine r_if_le (tgt := 45) hx hb ⟨by omega, by omega⟩ dX4_heaviestFoam_23 (by decide) (fun c23 => ?_) (fun c23 => ?_)
      · skip
        refine lv_aload_n hx hb dX4_heaviestFoam_45 rfl (lv_at hl 0 rfl) ?_
        refine lv_iconst (v := (iI ((2 : Nat) : Int))) hx hb dX4_heaviestFoam_46 rfl ?_
        refine r_callV (cells1 := 0) (slots1 := 0) X hR (c_X4_fail G ad (va_up sc 0 ((th))) ar2 hA0 2 ) q2107 q2109 qs47 q100 q2110 ⟨rfl, pd_X4_fail⟩ (by decide) rfl rfl (by decide) (by decide) hM.1 rfl rfl (Nat.le_of_ble_eq_true rfl) hl.1 dX4_heaviestFoam_47 (hB.of hS (fp_ma.base hA0)) hM hS (fun _ h => Or.inl h) (fun v H locs hp_3 hzC hkC hS => ?_)
        obtain ⟨rfl, hM_4⟩ := hp_3
        have hM_5 := fp_ME.nrm (sc2 := (va_up sc 0 ((2)))) hM_4 rfl
        refine r_stk (st2 := [.int (iI ((0 : Nat) : Int))]) rfl ?_
        refine r_iret hx hb hr hlk hQ hS (Nat.le_of_ble_eq_true rfl) (Nat.le_of_ble_eq_true rfl) dX4_heaviestFoam_50 ?_
        exact ⟨0, ar2, rfl, (by rw [show fp_hvc S l wd = 2 from fp_hvc_2 c10 (by rw [hd, show 9 - t = 0 by omega]; rfl)]; exact hM_5.nrm rfl), (fun z => by rw [show fp_hvc S l wd = 2 from fp_hvc_2 c10 (by rw [hd, show 9 - t = 0 by omega]; rfl)] at z; cases z), hk⟩
      · skip
        refine lv_aload_n hx hb dX4_heaviestFoam_26 rfl (lv_at hl 0 rfl) ?_
        refine lv_iconst (v := (iI ((0 : Nat) : Int))) hx hb dX4_heaviestFoam_27 rfl ?_
        refine lv_iload_n hx hb dX4_heaviestFoam_28 rfl (lv_at hl 1 rfl) ?_
        refine lv_iload_n hx hb dX4_heaviestFoam_29 rfl (lv_at hl 2 rfl) ?_
        refine lv_iload_n hx hb dX4_heaviestFoam_30 rfl (lv_at hl 3 rfl) ?_
        refine r_callV (cells1 := 0) (slots1 := 0) X hR (c_X4_could G ad (va_up sc 0 ((th))) ar2 S hA0 hV2 0 (l) (wd) (9 - ((t : Nat) : Int)) (by decide) (by omega) (by omega) ⟨by omega, by omega⟩ (by omega) h30) q2221 q2223 qs67 q100 q2224 ⟨rfl, pd_X4_could⟩ (by decide) rfl rfl (by decide) (by decide) hM.1 rfl rfl (Nat.le_of_ble_eq_true rfl) hl.1 dX4_heaviestFoam_31 (hB.of hS (fp_ma.base hA0)) hM hS (fun _ h => Or.inl h) (fun v H locs hp_6 hzC hkC hS => ?_)
        rcases hp_6 with ⟨f_7, rfl, hM_9, hpc_8⟩ | ⟨f_10, rfl, hM_12, hpc_11⟩ | ⟨f_13, rfl, hM_15, hpc_14⟩
        · skip
          have hM_16 := fp_ME.nrm (sc2 := (va_up sc 0 (((0 : Nat) : Int)))) hM_9 rfl
          refine r_stk (st2 := [.int (iI (bI (true)))]) rfl ?_
          refine r_ifeqB (tgt := 39) hx hb dX4_heaviestFoam_34 (by decide) (fun c34 => ?_) (fun c34 => ?_)
          · exact absurd c34 (by decide)
          · skip
            refine lv_iload_n hx hb dX4_heaviestFoam_37 rfl (lv_at hl 3 rfl) ?_
            refine r_iret hx hb hr hlk hQ hS (Nat.le_of_ble_eq_true rfl) (Nat.le_of_ble_eq_true rfl) dX4_heaviestFoam_38 ?_
            exact ⟨(9 - ((t : Nat) : Int)), (va_up (va_up ar2 8 (ar2 5)) 10 f_7), rfl, (by rw [fp_hvc_0 c10 (by rw [show fp_hv S l wd = 8 - t + 1 from by rw [hd, show 9 - t = 8 - t + 1 by omega]; exact fp_hvd_t (by rw [show ((8 - t + 1 : Nat) : Int) = 9 - (t : Int) by omega]; exact hpc_8)]; omega)]; exact hM_16.nrm rfl), (fun _ => by rw [show fp_hv S l wd = 8 - t + 1 from by rw [hd, show 9 - t = 8 - t + 1 by omega]; exact fp_hvd_t (by rw [show ((8 - t + 1 : Nat) : Int) = 9 - (t : Int) by omega]; exact hpc_8)]; omega), (fun k h8 h10 => by rw [va_up_ne _ _ h10, va_up_ne _ _ h8]; exact hk k h8 h10)⟩
        · skip
          have hM_17 := fp_ME.nrm (sc2 := (va_up sc 0 (((1 : Nat) : Int)))) hM_12 rfl
          refine r_stk (st2 := [.int (iI (bI (false)))]) rfl ?_
          refine r_ifeqB (tgt := 39) hx hb dX4_heaviestFoam_34 (by decide) (fun c34 => ?_) (fun c34 => ?_)
          · skip
            refine lv_iinc (v := (iI ((9 - ((t : Nat) : Int)) + (-1)))) (lv' := [(3, .int (iI ((9 - ((t : Nat) : Int)) + (-1)))), (0, .ref (ad 0)), (1, .int (iI (l))), (2, .int (iI (wd)))]) hx hb dX4_heaviestFoam_39 hl (k := 3) rfl (iI_add _ _) (by decide) rfl (fun ls hl => ?_)
            refine lv_goto (tgt := 22) hx hb dX4_heaviestFoam_42 (by decide) ?_
            exact ih22 (by omega) (va_up (va_up ar2 8 (ar2 5)) 10 f_10) ((1 : Nat) : Int) H locs ls (fun k h8 h10 => by rw [va_up_ne _ _ h10, va_up_ne _ _ h8]; exact hk k h8 h10) hV2 (by rw [hd, show 9 - t = (9 - (t + 1)) + 1 by omega]; exact fp_hvd_f (by rw [show ((9 - (t + 1) + 1 : Nat) : Int) = 9 - (t : Int) by omega, hpc_11]; decide)) (by rw [show Value.int (iI (9 - (((t + 1) : Nat) : Int))) = Value.int (iI ((9 - ((t : Nat) : Int)) + (-1))) from congrArg (fun q : Int => Value.int (iI q)) (by omega)]; exact lv_sub hl [1, 2, 3, 0] rfl) hS hM_17
          · exact absurd c34 (by decide)
        · skip
          have hM_18 := fp_ME.nrm (sc2 := (va_up sc 0 (((0 : Nat) : Int)))) hM_15 rfl
          refine r_stk (st2 := [.int (iI (bI (false)))]) rfl ?_
          refine r_ifeqB (tgt := 39) hx hb dX4_heaviestFoam_34 (by decide) (fun c34 => ?_) (fun c34 => ?_)
          · skip
            refine lv_iinc (v := (iI ((9 - ((t : Nat) : Int)) + (-1)))) (lv' := [(3, .int (iI ((9 - ((t : Nat) : Int)) + (-1)))), (0, .ref (ad 0)), (1, .int (iI (l))), (2, .int (iI (wd)))]) hx hb dX4_heaviestFoam_39 hl (k := 3) rfl (iI_add _ _) (by decide) rfl (fun ls hl => ?_)
            refine lv_goto (tgt := 22) hx hb dX4_heaviestFoam_42 (by decide) ?_
            exact ih22 (by omega) (va_up (va_up ar2 8 (ar2 5)) 10 f_13) ((0 : Nat) : Int) H locs ls (fun k h8 h10 => by rw [va_up_ne _ _ h10, va_up_ne _ _ h8]; exact hk k h8 h10) hV2 (by rw [hd, show 9 - t = (9 - (t + 1)) + 1 by omega]; exact fp_hvd_f (by rw [show ((9 - (t + 1) + 1 : Nat) : Int) = 9 - (t : Int) by omega, hpc_14]; decide)) (by rw [show Value.int (iI (9 - (((t + 1) : Nat) : Int))) = Value.int (iI ((9 - ((t : Nat) : Int)) + (-1))) from congrArg (fun q : Int => Value.int (iI q)) (by omega)]; exact lv_sub hl [1, 2, 3, 0] rfl) hS hM_18
          · exact absurd c34 (by decide)
    exact L22 0 (by omega) ar ((0 : Nat) : Int) H locs ls hk0 hV0 rfl (lv_sub hl [1, 2, 3, 0] rfl) hS hM_1
  · skip
    refine lv_aload_n hx hb dX4_heaviestFoam_13 rfl (lv_at hl 0 rfl) ?_
    refine lv_iconst (v := (iI ((1 : Nat) : Int))) hx hb dX4_heaviestFoam_14 rfl ?_
    refine r_callV (cells1 := 0) (slots1 := 0) X hR (c_X4_fail G ad (va_up sc 0 (((0 : Nat) : Int))) ar hA0 1 ) q2107 q2109 qs47 q100 q2110 ⟨rfl, pd_X4_fail⟩ (by decide) rfl rfl (by decide) (by decide) hM_1.1 rfl rfl (Nat.le_of_ble_eq_true rfl) hl.1 dX4_heaviestFoam_15 (hB.of hS (fp_ma.base hA0)) hM_1 hS (fun _ h => Or.inl h) (fun v H locs hp_19 hzC hkC hS => ?_)
    obtain ⟨rfl, hM_20⟩ := hp_19
    have hM_21 := fp_ME.nrm (sc2 := (va_up sc 0 ((1)))) hM_20 rfl
    refine r_stk (st2 := [.int (iI ((0 : Nat) : Int))]) rfl ?_
    refine r_iret hx hb hr hlk hQ hS (Nat.le_of_ble_eq_true rfl) (Nat.le_of_ble_eq_true rfl) dX4_heaviestFoam_18 ?_
    exact ⟨0, ar, rfl, (by rw [show fp_hvc S l wd = 1 from if_pos c10]; exact hM_21.nrm rfl), (fun z => by rw [show fp_hvc S l wd = 1 from if_pos c10] at z; cases z), (fun _ _ _ => rfl)⟩
