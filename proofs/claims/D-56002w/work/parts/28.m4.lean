/-! THE MODEL: a block is placed -/
set_option maxHeartbeats 4000000 in
theorem c_X4_places (G : fp_G) (ad : Nat → Nat) (sc : Nat → Int) (ar : Nat → Nat → Int) (S : PS) (hA0 : fp_MA G ad) (hV : fp_VR S (ar 5)) (kd : Nat) (l : Int) (wd : Int) (wt : Int) (hkd : kd < 3) (hl1 : rg l) (hw1 : rg wd) (ht1 : rg wt) (hsp : sP S < 999) (h30 : ∀ k, k < sN S → fp_top (sB S k) ≤ 30) : fp_M G yX4_places cX4_places 8 (some .int) 8 169 0 0 [.ref (ad 0), .int (iI ((kd : Nat) : Int)), .int (iI (l)), .int (iI (wd)), .int (iI (wt))] (fp_ME G ad sc ar) (fp_ma ad) (fun _ v H => (v = some (.int (iI ((0 : Nat) : Int))) ∧ fp_ME G ad (va_up sc 0 (((1 : Nat) : Int))) ar H ∧ (fp_plc S kd l wd wt = 1)) ∨ (∃ (v2 : Nat → Int), ∃ (f : Nat → Int), v = some (.int (iI ((0 : Nat) : Int))) ∧ fp_ME G ad (va_up sc 0 (((2 : Nat) : Int))) (va_up (va_up ar 5 v2) 10 f) H ∧ (fp_plc S kd l wd wt = 2)) ∨ (∃ (v2 : Nat → Int), ∃ (f : Nat → Int), v = some (.int (iI ((sP S : Nat) : Int))) ∧ fp_ME G ad sc (va_up (va_up ar 5 v2) 10 f) H ∧ (fp_plc S kd l wd wt = 0) ∧ (fp_VR (fp_add S kd l.toNat wd.toNat wt.toNat) v2))) := by
  refine fp_M.intro (by decide) (Nat.le_of_ble_eq_true rfl) ?_
  intro pg en s mi ag bl mt cd rR qQ ls X hx hb hr hlk hnm hR hQ hB hM hl
  have hS : va_S (fA (fp_ma ad) s.heap.size) s.heap s.heap [] := va_S.rf
  generalize ([] : List Loc) = locs at hS ⊢
  have hN24 := hV.1.1
  refine lv_iload_n hx hb dX4_places_0 rfl (lv_at hl 2 rfl) ?_
  refine lv_iload_n hx hb dX4_places_1 rfl (lv_at hl 3 rfl) ?_
  refine r_callS (cells1 := 0) (slots1 := 0) X hR (c_X4_isPlace G (l) (wd) (by omega) (by omega)) q2098 q2099 q100 q2100 pd_X4_isPlace (by decide) rfl rfl (by decide) (by decide) rfl (Nat.le_of_ble_eq_true rfl) hl.1 dX4_places_2 (hB.of hS (fp_ma.base hA0)) trivial hS (fun _ h => h.elim) (fun v H1 locs hp_1 hzC hkC hS => ?_)
  obtain ⟨rfl, rfl⟩ := hp_1
  refine r_stk (st2 := [.int (iI (bI (fp_place (l) (wd))))]) rfl ?_
  refine r_ifeqB (tgt := 19) hx hb dX4_places_5 (by decide) (fun c5 => ?_) (fun c5 => ?_)
  · skip
    refine lv_aload_n hx hb dX4_places_19 rfl (lv_at hl 0 rfl) ?_
    refine lv_iconst (v := (iI ((1 : Nat) : Int))) hx hb dX4_places_20 rfl ?_
    refine r_callV (cells1 := 0) (slots1 := 0) X hR (c_X4_fail G ad sc ar hA0 1 ) q2107 q2109 qs47 q100 q2110 ⟨rfl, pd_X4_fail⟩ (by decide) rfl rfl (by decide) (by decide) hM.1 rfl rfl (Nat.le_of_ble_eq_true rfl) hl.1 dX4_places_21 (hB.of hS (fp_ma.base hA0)) hM hS (fun _ h => Or.inl h) (fun v H locs hp_2 hzC hkC hS => ?_)
    obtain ⟨rfl, hM_3⟩ := hp_2
    have hM_4 := fp_ME.nrm (sc2 := (va_up sc 0 ((1)))) hM_3 rfl
    refine r_stk (st2 := [.int (iI ((0 : Nat) : Int))]) rfl ?_
    refine r_iret hx hb hr hlk hQ hS (Nat.le_of_ble_eq_true rfl) (Nat.le_of_ble_eq_true rfl) dX4_places_24 ?_
    exact Or.inl ⟨rfl, (hM_4.nrm rfl), (fp_plc_1 (fun z => absurd (c5.symm.trans z.1) (by decide)))⟩
  · skip
    refine lv_iload hx hb dX4_places_8 (lv_at hl 4 rfl) ?_
    refine lv_iconst (v := (iI ((1 : Nat) : Int))) hx hb dX4_places_10 rfl ?_
    refine lv_bipush (v := (iI ((9 : Nat) : Int))) hx hb dX4_places_11 rfl ?_
    refine r_callS (cells1 := 0) (slots1 := 0) X hR (c_X4_isIn G (wt) 1 9 (by omega) (by omega) (by omega)) q2104 q2105 q100 q2106 pd_X4_isIn (by decide) rfl rfl (by decide) (by decide) rfl (Nat.le_of_ble_eq_true rfl) hl.1 dX4_places_13 (hB.of hS (fp_ma.base hA0)) trivial hS (fun _ h => h.elim) (fun v H1 locs hp_5 hzC hkC hS => ?_)
    obtain ⟨rfl, rfl⟩ := hp_5
    refine r_stk (st2 := [.int (iI (bI (decide (1 ≤ (wt) ∧ (wt) ≤ 9))))]) rfl ?_
    refine r_ifneB (tgt := 25) hx hb dX4_places_16 (by decide) (fun c16 => ?_) (fun c16 => ?_)
    · skip
      have c16 := of_decide_eq_true c16
      have c5b := of_decide_eq_true c5
      obtain ⟨ln, rfl⟩ : ∃ ln : Nat, l = ((ln : Nat) : Int) := ⟨l.toNat, by omega⟩
      obtain ⟨wn, rfl⟩ : ∃ wn : Nat, wd = ((wn : Nat) : Int) := ⟨wd.toNat, by omega⟩
      obtain ⟨tn, rfl⟩ : ∃ tn : Nat, wt = ((tn : Nat) : Int) := ⟨wt.toNat, by omega⟩
      have h0 : fp_place (ln : Int) (wn : Int) = true ∧ 1 ≤ (tn : Int) ∧ (tn : Int) ≤ 9 := ⟨c5, c16.1, c16.2⟩
      refine lv_aload_n hx hb dX4_places_25 rfl (lv_at hl 0 rfl) ?_
      refine lv_iload_n hx hb dX4_places_26 rfl (lv_at hl 1 rfl) ?_
      refine lv_iload_n hx hb dX4_places_27 rfl (lv_at hl 2 rfl) ?_
      refine lv_iload_n hx hb dX4_places_28 rfl (lv_at hl 3 rfl) ?_
      refine r_callV (cells1 := 0) (slots1 := 0) X hR (c_X4_isZoned G ad sc ar S hA0 hV kd ln wn (by omega) (by omega)) q2111 q2113 qs48 q100 q2114 ⟨rfl, pd_X4_isZoned⟩ (by decide) rfl rfl (by decide) (by decide) hM.1 rfl rfl (Nat.le_of_ble_eq_true rfl) hl.1 dX4_places_29 (hB.of hS (fp_ma.base hA0)) hM hS (fun _ h => h.elim) (fun v H1 locs hp_6 hzC hkC hS => ?_)
      obtain ⟨rfl, rfl⟩ := hp_6
      refine r_stk (st2 := [.int (iI (bI (fp_zoned S kd ln wn)))]) rfl ?_
      refine r_ifeqB (tgt := 46) hx hb dX4_places_32 (by decide) (fun c32 => ?_) (fun c32 => ?_)
      · skip
        refine lv_aload_n hx hb dX4_places_46 rfl (lv_at hl 0 rfl) ?_
        refine lv_iconst (v := (iI ((2 : Nat) : Int))) hx hb dX4_places_47 rfl ?_
        refine r_callV (cells1 := 0) (slots1 := 0) X hR (c_X4_fail G ad sc ar hA0 2 ) q2107 q2109 qs47 q100 q2110 ⟨rfl, pd_X4_fail⟩ (by decide) rfl rfl (by decide) (by decide) hM.1 rfl rfl (Nat.le_of_ble_eq_true rfl) hl.1 dX4_places_48 (hB.of hS (fp_ma.base hA0)) hM hS (fun _ h => Or.inl h) (fun v H locs hp_7 hzC hkC hS => ?_)
        obtain ⟨rfl, hM_8⟩ := hp_7
        have hM_9 := fp_ME.nrm (sc2 := (va_up sc 0 ((2)))) hM_8 rfl
        refine r_stk (st2 := [.int (iI ((0 : Nat) : Int))]) rfl ?_
        refine r_iret hx hb hr hlk hQ hS (Nat.le_of_ble_eq_true rfl) (Nat.le_of_ble_eq_true rfl) dX4_places_51 ?_
        exact Or.inr (Or.inl ⟨ar 5, ar 10, rfl, (fp_ME.st0 (fp_ME.st0 hM_9 5 (fun _ _ => rfl)) 10 (fun _ _ => rfl)), (fp_plc_2 h0 (by first | exact Or.inl c32 | exact Or.inr (by omega)))⟩)
      · skip
        refine lv_aload_n hx hb dX4_places_35 rfl (lv_at hl 0 rfl) ?_
        refine r_get X hM.1 rfl in_X4 5 (by decide) q2014 (Or.inl rfl) (v := .ref (ad 5)) rfl dX4_places_36 ?_
        refine lv_iconst (v := (iI ((0 : Nat) : Int))) hx hb dX4_places_39 rfl ?_
        refine r_ialdI X (hM.2 5 (by decide) (by decide)) (j := 0) (n := 170) rfl (by decide) (by decide) dX4_places_40 ?_
        refine r_set (y := .int (iI ((sN S : Nat) : Int))) (congrArg (fun q : Int => Value.int (iI q)) (hV.2.1)) ?_
        refine lv_bipush (v := (iI ((24 : Nat) : Int))) hx hb dX4_places_41 rfl ?_
        refine r_icmp_ne (tgt := 52) hx hb ⟨by omega, by omega⟩ (by decide) dX4_places_43 (by decide) (fun c43 => ?_) (fun c43 => ?_)
        · skip
          have h1 : ¬ (fp_zoned S kd ln wn = false ∨ sN S = 24) := fun z => by rcases z with z | z; exact absurd (c32.symm.trans z) (by decide); omega
          refine lv_iconst (v := (iI ((0 : Nat) : Int))) hx hb dX4_places_52 rfl ?_
          refine lv_istore (lv' := [(5, .int (iI ((0 : Nat) : Int))), (0, .ref (ad 0)), (1, .int (iI ((kd : Nat) : Int))), (2, .int (iI ((ln : Nat) : Int))), (3, .int (iI ((wn : Nat) : Int))), (4, .int (iI ((tn : Nat) : Int)))]) hx hb dX4_places_53 hl (by decide) rfl (fun ls hl => ?_)
          refine lv_bipush (v := (iI ((26 : Nat) : Int))) hx hb dX4_places_55 rfl ?_
          refine lv_bipush (v := (iI ((6 : Nat) : Int))) hx hb dX4_places_57 rfl ?_
          refine lv_aload_n hx hb dX4_places_59 rfl (lv_at hl 1 rfl) ?_
          refine r_get X hM.1 rfl in_X4 5 (by decide) q2014 (Or.inl rfl) (v := .ref (ad 5)) rfl dX4_places_60 ?_
          refine lv_iconst (v := (iI ((0 : Nat) : Int))) hx hb dX4_places_63 rfl ?_
          refine r_ialdI X (hM.2 5 (by decide) (by decide)) (j := 0) (n := 170) rfl (by decide) (by decide) dX4_places_64 ?_
          refine r_set (y := .int (iI ((sN S : Nat) : Int))) (congrArg (fun q : Int => Value.int (iI q)) (hV.2.1)) ?_
          refine r_imulN hx hb dX4_places_65 ?_
          refine r_iaddN hx hb dX4_places_66 ?_
          refine lv_istore (lv' := [(6, .int (iI ((26 + (6 * (sN S)) : Nat) : Int))), (5, .int (iI ((0 : Nat) : Int))), (0, .ref (ad 0)), (1, .int (iI ((kd : Nat) : Int))), (2, .int (iI ((ln : Nat) : Int))), (3, .int (iI ((wn : Nat) : Int))), (4, .int (iI ((tn : Nat) : Int)))]) hx hb dX4_places_67 hl (by decide) rfl (fun ls hl => ?_)
          refine lv_iload_n hx hb dX4_places_69 rfl (lv_at hl 4 rfl) ?_
          refine lv_istore (lv' := [(7, .int (iI ((ln : Nat) : Int))), (6, .int (iI ((26 + (6 * (sN S)) : Nat) : Int))), (5, .int (iI ((0 : Nat) : Int))), (0, .ref (ad 0)), (1, .int (iI ((kd : Nat) : Int))), (2, .int (iI ((ln : Nat) : Int))), (3, .int (iI ((wn : Nat) : Int))), (4, .int (iI ((tn : Nat) : Int)))]) hx hb dX4_places_70 hl (by decide) rfl (fun ls hl => ?_)
          have L72 : ∀ (i : Nat), i ≤ wn → ∀ (locs : List Loc) (ls : Array Slot), lv_has ls 8 [(0, .ref (ad 0)), (1, .int (iI ((kd : Nat) : Int))), (2, .int (iI ((ln : Nat) : Int))), (3, .int (iI ((wn : Nat) : Int))), (4, .int (iI ((tn : Nat) : Int))), (5, .int (iI ((fp_mx (fun i => fp_hi S (ln + i)) i : Nat) : Int))), (6, .int (iI ((26 + (6 * (sN S)) : Nat) : Int))), (7, .int (iI ((ln + i : Nat) : Int)))] → va_S (fA (fp_ma ad) s.heap.size) s.heap s.heap locs → W pg (g_l G) en rR s mi ag bl mt cd s.heap locs 0 0 qQ (F0 mi 72 ls []) := by
            refine lp_up wn ?_
            intro i hk72 ih72 locs ls hl hS
            have hmb : fp_mx (fun i => fp_hi S (ln + i)) i ≤ 42 := fp_mx_le (fun j hj => fp_hi_le hV.1 _)
            refine lv_iload hx hb dX4_places_72 (lv_at hl 7 rfl) ?_
            refine lv_iload_n hx hb dX4_places_74 rfl (lv_at hl 2 rfl) ?_
            refine lv_iload_n hx hb dX4_places_75 rfl (lv_at hl 3 rfl) ?_
            refine r_iaddN hx hb dX4_places_76 ?_
            refine r_icmp_ge (tgt := 110) hx hb ⟨by omega, by omega⟩ ⟨by omega, by omega⟩ dX4_places_77 (by decide) (fun c77 => ?_) (fun c77 => ?_)
            · skip
              have hb40 : fp_base S ln wn ≤ 40 := by have := fp_base_30 h30 ln wn; omega
              refine lv_aload_n hx hb dX4_places_110 rfl (lv_at hl 0 rfl) ?_
              refine r_get X hM.1 rfl in_X4 5 (by decide) q2014 (Or.inl rfl) (v := .ref (ad 5)) rfl dX4_places_111 ?_
              refine lv_iload hx hb dX4_places_114 (lv_at hl 6 rfl) ?_
              refine lv_iconst (v := (iI ((0 : Nat) : Int))) hx hb dX4_places_116 rfl ?_
              refine r_iaddN hx hb dX4_places_117 ?_
              refine lv_aload_n hx hb dX4_places_118 rfl (lv_at hl 0 rfl) ?_
              refine r_get X hM.1 rfl in_X4 5 (by decide) q2014 (Or.inl rfl) (v := .ref (ad 5)) rfl dX4_places_119 ?_
              refine lv_iconst (v := (iI ((1 : Nat) : Int))) hx hb dX4_places_122 rfl ?_
              refine r_ialdI X (hM.2 5 (by decide) (by decide)) (j := 1) (n := 170) rfl (by decide) (by decide) dX4_places_123 ?_
              refine r_set (y := .int (iI ((sP S : Nat) : Int))) (congrArg (fun q : Int => Value.int (iI q)) (hV.2.2.1)) ?_
              refine m_ast X hM hS hA0 (k := 5) (j := (26 + (6 * (sN S))) + 0) (z := ((sP S : Nat) : Int)) (by decide) rfl (n := 170) rfl (by omega) dX4_places_124 (fun H locs hM_10 hS => ?_)
              refine lv_aload_n hx hb dX4_places_125 rfl (lv_at hl 0 rfl) ?_
              refine r_get X hM_10.1 rfl in_X4 5 (by decide) q2014 (Or.inl rfl) (v := .ref (ad 5)) rfl dX4_places_126 ?_
              refine lv_iload hx hb dX4_places_129 (lv_at hl 6 rfl) ?_
              refine lv_iconst (v := (iI ((1 : Nat) : Int))) hx hb dX4_places_131 rfl ?_
              refine r_iaddN hx hb dX4_places_132 ?_
              refine lv_iload_n hx hb dX4_places_133 rfl (lv_at hl 1 rfl) ?_
              refine m_ast X hM_10 hS hA0 (k := 5) (j := (26 + (6 * (sN S))) + 1) (z := ((kd : Nat) : Int)) (by decide) rfl (n := 170) rfl (by omega) dX4_places_134 (fun H locs hM_11 hS => ?_)
              refine lv_aload_n hx hb dX4_places_135 rfl (lv_at hl 0 rfl) ?_
              refine r_get X hM_11.1 rfl in_X4 5 (by decide) q2014 (Or.inl rfl) (v := .ref (ad 5)) rfl dX4_places_136 ?_
              refine lv_iload hx hb dX4_places_139 (lv_at hl 6 rfl) ?_
              refine lv_iconst (v := (iI ((2 : Nat) : Int))) hx hb dX4_places_141 rfl ?_
              refine r_iaddN hx hb dX4_places_142 ?_
              refine lv_iload_n hx hb dX4_places_143 rfl (lv_at hl 2 rfl) ?_
              refine m_ast X hM_11 hS hA0 (k := 5) (j := (26 + (6 * (sN S))) + 2) (z := ((ln : Nat) : Int)) (by decide) rfl (n := 170) rfl (by omega) dX4_places_144 (fun H locs hM_12 hS => ?_)
              refine lv_aload_n hx hb dX4_places_145 rfl (lv_at hl 0 rfl) ?_
              refine r_get X hM_12.1 rfl in_X4 5 (by decide) q2014 (Or.inl rfl) (v := .ref (ad 5)) rfl dX4_places_146 ?_
              refine lv_iload hx hb dX4_places_149 (lv_at hl 6 rfl) ?_
              refine lv_iconst (v := (iI ((3 : Nat) : Int))) hx hb dX4_places_151 rfl ?_
              refine r_iaddN hx hb dX4_places_152 ?_
              refine lv_iload_n hx hb dX4_places_153 rfl (lv_at hl 3 rfl) ?_
              refine m_ast X hM_12 hS hA0 (k := 5) (j := (26 + (6 * (sN S))) + 3) (z := ((wn : Nat) : Int)) (by decide) rfl (n := 170) rfl (by omega) dX4_places_154 (fun H locs hM_13 hS => ?_)
              refine lv_aload_n hx hb dX4_places_155 rfl (lv_at hl 0 rfl) ?_
              refine r_get X hM_13.1 rfl in_X4 5 (by decide) q2014 (Or.inl rfl) (v := .ref (ad 5)) rfl dX4_places_156 ?_
              refine lv_iload hx hb dX4_places_159 (lv_at hl 6 rfl) ?_
              refine lv_iconst (v := (iI ((4 : Nat) : Int))) hx hb dX4_places_161 rfl ?_
              refine r_iaddN hx hb dX4_places_162 ?_
              refine lv_iload hx hb dX4_places_163 (lv_at hl 4 rfl) ?_
              refine m_ast X hM_13 hS hA0 (k := 5) (j := (26 + (6 * (sN S))) + 4) (z := ((tn : Nat) : Int)) (by decide) rfl (n := 170) rfl (by omega) dX4_places_165 (fun H locs hM_14 hS => ?_)
              refine lv_aload_n hx hb dX4_places_166 rfl (lv_at hl 0 rfl) ?_
              refine r_get X hM_14.1 rfl in_X4 5 (by decide) q2014 (Or.inl rfl) (v := .ref (ad 5)) rfl dX4_places_167 ?_
              refine lv_iload hx hb dX4_places_170 (lv_at hl 6 rfl) ?_
              refine lv_iconst (v := (iI ((5 : Nat) : Int))) hx hb dX4_places_172 rfl ?_
              refine r_iaddN hx hb dX4_places_173 ?_
              refine lv_iload hx hb dX4_places_174 (lv_at hl 5 rfl) ?_
              refine m_ast X hM_14 hS hA0 (k := 5) (j := (26 + (6 * (sN S))) + 5) (z := ((fp_mx (fun i => fp_hi S (ln + i)) i : Nat) : Int)) (by decide) rfl (n := 170) rfl (by omega) dX4_places_176 (fun H locs hM_15 hS => ?_)
              refine lv_aload_n hx hb dX4_places_177 rfl (lv_at hl 0 rfl) ?_
              refine r_get X hM_15.1 rfl in_X4 5 (by decide) q2014 (Or.inl rfl) (v := .ref (ad 5)) rfl dX4_places_178 ?_
              refine lv_iconst (v := (iI ((0 : Nat) : Int))) hx hb dX4_places_181 rfl ?_
              refine lv_dup2_11 hx hb dX4_places_182 rfl rfl ?_
              refine r_ialdI X (hM_15.2 5 (by decide) (by decide)) (j := 0) (n := 170) rfl (by decide) (by decide) dX4_places_183 ?_
              refine r_set (y := .int (iI ((sN S : Nat) : Int))) (congrArg (fun q : Int => Value.int (iI q)) (by simp (disch := omega) only [fp_ua, va_up_self, va_up_ne]; exact hV.2.1)) ?_
              refine lv_iconst (v := (iI ((1 : Nat) : Int))) hx hb dX4_places_184 rfl ?_
              refine r_iaddN hx hb dX4_places_185 ?_
              refine m_ast X hM_15 hS hA0 (k := 5) (j := 0) (z := (((sN S) + 1 : Nat) : Int)) (by decide) rfl (n := 170) rfl (by decide) dX4_places_186 (fun H locs hM_16 hS => ?_)
              refine lv_aload_n hx hb dX4_places_187 rfl (lv_at hl 0 rfl) ?_
              refine r_get X hM_16.1 rfl in_X4 5 (by decide) q2014 (Or.inl rfl) (v := .ref (ad 5)) rfl dX4_places_188 ?_
              refine lv_iconst (v := (iI ((1 : Nat) : Int))) hx hb dX4_places_191 rfl ?_
              refine lv_dup2_11 hx hb dX4_places_192 rfl rfl ?_
              refine r_ialdI X (hM_16.2 5 (by decide) (by decide)) (j := 1) (n := 170) rfl (by decide) (by decide) dX4_places_193 ?_
              refine r_set (y := .int (iI ((sP S : Nat) : Int))) (congrArg (fun q : Int => Value.int (iI q)) (by simp (disch := omega) only [fp_ua, va_up_self, va_up_ne]; exact hV.2.2.1)) ?_
              refine lv_iconst (v := (iI ((1 : Nat) : Int))) hx hb dX4_places_194 rfl ?_
              refine r_iaddN hx hb dX4_places_195 ?_
              refine m_ast X hM_16 hS hA0 (k := 5) (j := 1) (z := (((sP S) + 1 : Nat) : Int)) (by decide) rfl (n := 170) rfl (by decide) dX4_places_196 (fun H locs hM_17 hS => ?_)
              obtain ⟨v2, hv2⟩ : ∃ v2 : Nat → Int, v2 = (fp_ua (fp_ua (fp_ua (fp_ua (fp_ua (fp_ua (fp_ua (fp_ua ar 5 ((26 + (6 * (sN S))) + 0) (((sP S : Nat) : Int))) 5 ((26 + (6 * (sN S))) + 1) (((kd : Nat) : Int))) 5 ((26 + (6 * (sN S))) + 2) (((ln : Nat) : Int))) 5 ((26 + (6 * (sN S))) + 3) (((wn : Nat) : Int))) 5 ((26 + (6 * (sN S))) + 4) (((tn : Nat) : Int))) 5 ((26 + (6 * (sN S))) + 5) (((fp_mx (fun i => fp_hi S (ln + i)) i : Nat) : Int))) 5 0 ((((sN S) + 1 : Nat) : Int))) 5 1 ((((sP S) + 1 : Nat) : Int))) 5 := ⟨_, rfl⟩
              have hbl := fp_base_le hV.1 ln wn
              have hbt : fp_mx (fun i => fp_hi S (ln + i)) i = fp_base S ln wn := by rw [show i = wn by omega]; rfl
              have hV2 : fp_VR (fp_add S kd ln wn tn) v2 := by
                refine fp_VR.add hV (fp_add_ok hV.1 (by omega) hsp hkd (by omega) ⟨by omega, by omega, by omega⟩ ⟨by omega, by omega⟩ hb40) ?_ ?_ ?_ ?_
                · rw [hv2]; simp (disch := omega) only [fp_ua, va_up_self, va_up_ne]
                · rw [hv2]; simp (disch := omega) only [fp_ua, va_up_self, va_up_ne]
                · intro y hy1 hy2; rw [hv2]; simp (disch := omega) only [fp_ua, va_up_self, va_up_ne]
                · intro x hx; rw [hv2]
                  rcases (show x = 0 ∨ x = 1 ∨ x = 2 ∨ x = 3 ∨ x = 4 ∨ x = 5 by omega) with rfl | rfl | rfl | rfl | rfl | rfl <;> simp (disch := omega) only [fp_ua, va_up_self, va_up_ne, Nat.add_zero] <;> first | rfl | (rw [hV.2.2.1]; rfl) | (rw [hbt]; rfl)
              have hM_18 : fp_ME G ad sc (va_up ar 5 v2) H := fp_ME.congr hM_17 (fun k _ _ y _ => by by_cases e : k = 5; subst e; rw [va_up_self, hv2]; simp (disch := omega) only [fp_ua, va_up_self, va_up_ne])
              refine lv_aload_n hx hb dX4_places_197 rfl (lv_at hl 0 rfl) ?_
              refine lv_aload_n hx hb dX4_places_198 rfl (lv_at hl 0 rfl) ?_
              refine r_get X hM_18.1 rfl in_X4 5 (by decide) q2014 (Or.inl rfl) (v := .ref (ad 5)) rfl dX4_places_199 ?_
              refine lv_iconst (v := (iI ((0 : Nat) : Int))) hx hb dX4_places_202 rfl ?_
              refine r_ialdI X (hM_18.2 5 (by decide) (by decide)) (j := 0) (n := 170) rfl (by decide) (by decide) dX4_places_203 ?_
              refine r_set (y := .int (iI ((sN S + 1 : Nat) : Int))) (congrArg (fun q : Int => Value.int (iI q)) (hV2.2.1)) ?_
              refine lv_iconst (v := (iI ((1 : Nat) : Int))) hx hb dX4_places_204 rfl ?_
              refine r_isub hx hb dX4_places_205 ?_
              refine r_set (y := .int (iI ((sN S : Nat) : Int))) (congrArg (fun q : Int => Value.int (iI q)) (by omega)) ?_
              refine r_callV (cells1 := 0) (slots1 := 0) X hR (c_X4_topOf G ad sc (va_up ar 5 v2) (fp_add S kd ln wn tn) hA0 hV2 (sN S) (by show sN S < sN S + 1; omega)) q2127 q2129 qs52 q100 q2130 ⟨rfl, pd_X4_topOf⟩ (by decide) rfl rfl (by decide) (by decide) hM_18.1 rfl rfl (Nat.le_of_ble_eq_true rfl) hl.1 dX4_places_206 (hB.of hS (fp_ma.base hA0)) hM_18 hS (fun _ h => h.elim) (fun v H1 locs hp_19 hzC hkC hS => ?_)
              obtain ⟨rfl, rfl⟩ := hp_19
              refine r_stk (st2 := [.int (iI ((fp_top (sB (fp_add S kd ln wn tn) (sN S)) : Nat) : Int))]) rfl ?_
              have hbkN := hV2.1.2.2.1 (sN S) (by show sN S < sN S + 1; omega)
              have htpN := fp_top_b (sB (fp_add S kd ln wn tn) (sN S))
              refine lv_bipush (v := (iI ((30 : Nat) : Int))) hx hb dX4_places_209 rfl ?_
              refine r_icmp_gt (tgt := 221) hx hb ⟨by omega, by omega⟩ (by decide) dX4_places_211 (by decide) (fun c211 => ?_) (fun c211 => ?_)
              · skip
                refine lv_aload_n hx hb dX4_places_221 rfl (lv_at hl 0 rfl) ?_
                refine lv_iconst (v := (iI ((2 : Nat) : Int))) hx hb dX4_places_222 rfl ?_
                refine r_callV (cells1 := 0) (slots1 := 0) X hR (c_X4_fail G ad sc (va_up ar 5 v2) hA0 2 ) q2107 q2109 qs47 q100 q2110 ⟨rfl, pd_X4_fail⟩ (by decide) rfl rfl (by decide) (by decide) hM_18.1 rfl rfl (Nat.le_of_ble_eq_true rfl) hl.1 dX4_places_223 (hB.of hS (fp_ma.base hA0)) hM_18 hS (fun _ h => Or.inl h) (fun v H locs hp_20 hzC hkC hS => ?_)
                obtain ⟨rfl, hM_21⟩ := hp_20
                have hM_22 := fp_ME.nrm (sc2 := (va_up sc 0 ((2)))) hM_21 rfl
                refine r_stk (st2 := [.int (iI ((0 : Nat) : Int))]) rfl ?_
                refine r_iret hx hb hr hlk hQ hS (Nat.le_of_ble_eq_true rfl) (Nat.le_of_ble_eq_true rfl) dX4_places_226 ?_
                exact Or.inr (Or.inl ⟨v2, ar 10, rfl, (fp_ME.st0 hM_22 10 (fun _ _ => rfl)), (fp_plc_3 h0 h1 (Or.inl (by omega)))⟩)
              · skip
                refine lv_aload_n hx hb dX4_places_214 rfl (lv_at hl 0 rfl) ?_
                refine r_callV (cells1 := 0) (slots1 := 0) X hR (c_X4_bears G ad sc (va_up ar 5 v2) (fp_add S kd ln wn tn) hA0 hV2  ) q2131 q2133 qs53 q100 q2134 ⟨rfl, pd_X4_bears⟩ (by decide) rfl rfl (by decide) (by decide) hM_18.1 rfl rfl (Nat.le_of_ble_eq_true rfl) hl.1 dX4_places_215 (hB.of hS (fp_ma.base hA0)) hM_18 hS (fun _ h => Or.inl h) (fun v H locs hp_23 hzC hkC hS => ?_)
                obtain ⟨f_24, rfl, hM_26, hf_25⟩ := hp_23
                refine r_stk (st2 := [.int (iI (bI (fp_bears (fp_add S kd ln wn tn))))]) rfl ?_
                refine r_ifneB (tgt := 227) hx hb dX4_places_218 (by decide) (fun c218 => ?_) (fun c218 => ?_)
                · skip
                  refine lv_aload_n hx hb dX4_places_227 rfl (lv_at hl 0 rfl) ?_
                  refine r_get X hM_26.1 rfl in_X4 5 (by decide) q2014 (Or.inl rfl) (v := .ref (ad 5)) rfl dX4_places_228 ?_
                  refine lv_iconst (v := (iI ((1 : Nat) : Int))) hx hb dX4_places_231 rfl ?_
                  refine r_ialdI X (hM_26.2 5 (by decide) (by decide)) (j := 1) (n := 170) rfl (by decide) (by decide) dX4_places_232 ?_
                  refine r_set (y := .int (iI ((sP S + 1 : Nat) : Int))) (congrArg (fun q : Int => Value.int (iI q)) (hV2.2.2.1)) ?_
                  refine lv_iconst (v := (iI ((1 : Nat) : Int))) hx hb dX4_places_233 rfl ?_
                  refine r_isub hx hb dX4_places_234 ?_
                  refine r_iret hx hb hr hlk hQ hS (Nat.le_of_ble_eq_true rfl) (Nat.le_of_ble_eq_true rfl) dX4_places_235 ?_
                  exact Or.inr (Or.inr (⟨v2, f_24, (congrArg (fun q : Int => some (Value.int (iI q))) (by omega)), hM_26, (fp_plc_0 h0 h1 (fun z => by rcases z with z | z; omega; exact absurd (c218.symm.trans z) (by decide))), hV2⟩))
                · skip
                  refine lv_aload_n hx hb dX4_places_221 rfl (lv_at hl 0 rfl) ?_
                  refine lv_iconst (v := (iI ((2 : Nat) : Int))) hx hb dX4_places_222 rfl ?_
                  refine r_callV (cells1 := 0) (slots1 := 0) X hR (c_X4_fail G ad sc (va_up (va_up ar 5 v2) 10 f_24) hA0 2 ) q2107 q2109 qs47 q100 q2110 ⟨rfl, pd_X4_fail⟩ (by decide) rfl rfl (by decide) (by decide) hM_26.1 rfl rfl (Nat.le_of_ble_eq_true rfl) hl.1 dX4_places_223 (hB.of hS (fp_ma.base hA0)) hM_26 hS (fun _ h => Or.inl h) (fun v H locs hp_27 hzC hkC hS => ?_)
                  obtain ⟨rfl, hM_28⟩ := hp_27
                  have hM_29 := fp_ME.nrm (sc2 := (va_up sc 0 ((2)))) hM_28 rfl
                  refine r_stk (st2 := [.int (iI ((0 : Nat) : Int))]) rfl ?_
                  refine r_iret hx hb hr hlk hQ hS (Nat.le_of_ble_eq_true rfl) (Nat.le_of_ble_eq_true rfl) dX4_places_226 ?_
                  exact Or.inr (Or.inl ⟨v2, f_24, rfl, (hM_29.nrm rfl), (fp_plc_3 h0 h1 (Or.inr c218))⟩)
            · skip
              refine lv_aload_n hx hb dX4_places_80 rfl (lv_at hl 0 rfl) ?_
              refine lv_iload hx hb dX4_places_81 (lv_at hl 7 rfl) ?_
              refine r_callV (cells1 := 0) (slots1 := 0) X hR (c_X4_high G ad sc ar S hA0 hV (ln + i) (by omega)) q2115 q2117 qs49 q100 q2118 ⟨rfl, pd_X4_high⟩ (by decide) rfl rfl (by decide) (by decide) hM.1 rfl rfl (Nat.le_of_ble_eq_true rfl) hl.1 dX4_places_83 (hB.of hS (fp_ma.base hA0)) hM hS (fun _ h => h.elim) (fun v H1 locs hp_30 hzC hkC hS => ?_)
              obtain ⟨rfl, rfl⟩ := hp_30
              refine r_stk (st2 := [.int (iI ((fp_hi S (ln + i) : Nat) : Int))]) rfl ?_
              have hh86 := fp_hi_le hV.1 (ln + i)
              refine lv_iload hx hb dX4_places_86 (lv_at hl 5 rfl) ?_
              refine r_icmp_le (tgt := 100) hx hb ⟨by omega, by omega⟩ ⟨by omega, by omega⟩ dX4_places_88 (by decide) (fun c88 => ?_) (fun c88 => ?_)
              · skip
                refine lv_iload hx hb dX4_places_100 (lv_at hl 5 rfl) ?_
                refine lv_istore (lv' := [(5, .int (iI ((fp_mx (fun i => fp_hi S (ln + i)) i : Nat) : Int))), (0, .ref (ad 0)), (1, .int (iI ((kd : Nat) : Int))), (2, .int (iI ((ln : Nat) : Int))), (3, .int (iI ((wn : Nat) : Int))), (4, .int (iI ((tn : Nat) : Int))), (6, .int (iI ((26 + (6 * (sN S)) : Nat) : Int))), (7, .int (iI ((ln + i : Nat) : Int)))]) hx hb dX4_places_102 hl (by decide) rfl (fun ls hl => ?_)
                refine lv_iinc (v := (iI (((ln + i) + 1 : Nat) : Int))) (lv' := [(7, .int (iI (((ln + i) + 1 : Nat) : Int))), (5, .int (iI ((fp_mx (fun i => fp_hi S (ln + i)) i : Nat) : Int))), (0, .ref (ad 0)), (1, .int (iI ((kd : Nat) : Int))), (2, .int (iI ((ln : Nat) : Int))), (3, .int (iI ((wn : Nat) : Int))), (4, .int (iI ((tn : Nat) : Int))), (6, .int (iI ((26 + (6 * (sN S)) : Nat) : Int)))]) hx hb dX4_places_104 hl (k := 7) rfl (iI_incN _ _) (by decide) rfl (fun ls hl => ?_)
                refine lv_goto (tgt := 72) hx hb dX4_places_107 (by decide) ?_
                exact ih72 (by omega) locs ls (by rw [show Value.int (iI ((fp_mx (fun i => fp_hi S (ln + i)) (i + 1) : Nat) : Int)) = Value.int (iI ((fp_mx (fun i => fp_hi S (ln + i)) i : Nat) : Int)) from congrArg (fun q : Nat => Value.int (iI (q : Int))) (by show max _ (fp_hi S (ln + i)) = _; omega)]; exact lv_sub hl [2, 3, 4, 5, 6, 1, 7, 0] rfl) hS
              · skip
                refine lv_aload_n hx hb dX4_places_91 rfl (lv_at hl 0 rfl) ?_
                refine lv_iload hx hb dX4_places_92 (lv_at hl 7 rfl) ?_
                refine r_callV (cells1 := 0) (slots1 := 0) X hR (c_X4_high G ad sc ar S hA0 hV (ln + i) (by omega)) q2115 q2117 qs49 q100 q2118 ⟨rfl, pd_X4_high⟩ (by decide) rfl rfl (by decide) (by decide) hM.1 rfl rfl (Nat.le_of_ble_eq_true rfl) hl.1 dX4_places_94 (hB.of hS (fp_ma.base hA0)) hM hS (fun _ h => h.elim) (fun v H1 locs hp_31 hzC hkC hS => ?_)
                obtain ⟨rfl, rfl⟩ := hp_31
                refine r_stk (st2 := [.int (iI ((fp_hi S (ln + i) : Nat) : Int))]) rfl ?_
                have hh97 := fp_hi_le hV.1 (ln + i)
                refine lv_goto (tgt := 102) hx hb dX4_places_97 (by decide) ?_
                refine lv_istore (lv' := [(5, .int (iI ((fp_hi S (ln + i) : Nat) : Int))), (0, .ref (ad 0)), (1, .int (iI ((kd : Nat) : Int))), (2, .int (iI ((ln : Nat) : Int))), (3, .int (iI ((wn : Nat) : Int))), (4, .int (iI ((tn : Nat) : Int))), (6, .int (iI ((26 + (6 * (sN S)) : Nat) : Int))), (7, .int (iI ((ln + i : Nat) : Int)))]) hx hb dX4_places_102 hl (by decide) rfl (fun ls hl => ?_)
                refine lv_iinc (v := (iI (((ln + i) + 1 : Nat) : Int))) (lv' := [(7, .int (iI (((ln + i) + 1 : Nat) : Int))), (5, .int (iI ((fp_hi S (ln + i) : Nat) : Int))), (0, .ref (ad 0)), (1, .int (iI ((kd : Nat) : Int))), (2, .int (iI ((ln : Nat) : Int))), (3, .int (iI ((wn : Nat) : Int))), (4, .int (iI ((tn : Nat) : Int))), (6, .int (iI ((26 + (6 * (sN S)) : Nat) : Int)))]) hx hb dX4_places_104 hl (k := 7) rfl (iI_incN _ _) (by decide) rfl (fun ls hl => ?_)
                refine lv_goto (tgt := 72) hx hb dX4_places_107 (by decide) ?_
                exact ih72 (by omega) locs ls (by rw [show Value.int (iI ((fp_mx (fun i => fp_hi S (ln + i)) (i + 1) : Nat) : Int)) = Value.int (iI ((fp_hi S (ln + i) : Nat) : Int)) from congrArg (fun q : Nat => Value.int (iI (q : Int))) (by show max _ (fp_hi S (ln + i)) = _; omega)]; exact lv_sub hl [2, 3, 4, 5, 6, 1, 7, 0] rfl) hS
          exact L72 0 (by omega) locs ls (lv_sub hl [3, 4, 5, 6, 7, 2, 1, 0] rfl) hS
        · skip
          refine lv_aload_n hx hb dX4_places_46 rfl (lv_at hl 0 rfl) ?_
          refine lv_iconst (v := (iI ((2 : Nat) : Int))) hx hb dX4_places_47 rfl ?_
          refine r_callV (cells1 := 0) (slots1 := 0) X hR (c_X4_fail G ad sc ar hA0 2 ) q2107 q2109 qs47 q100 q2110 ⟨rfl, pd_X4_fail⟩ (by decide) rfl rfl (by decide) (by decide) hM.1 rfl rfl (Nat.le_of_ble_eq_true rfl) hl.1 dX4_places_48 (hB.of hS (fp_ma.base hA0)) hM hS (fun _ h => Or.inl h) (fun v H locs hp_32 hzC hkC hS => ?_)
          obtain ⟨rfl, hM_33⟩ := hp_32
          have hM_34 := fp_ME.nrm (sc2 := (va_up sc 0 ((2)))) hM_33 rfl
          refine r_stk (st2 := [.int (iI ((0 : Nat) : Int))]) rfl ?_
          refine r_iret hx hb hr hlk hQ hS (Nat.le_of_ble_eq_true rfl) (Nat.le_of_ble_eq_true rfl) dX4_places_51 ?_
          exact Or.inr (Or.inl ⟨ar 5, ar 10, rfl, (fp_ME.st0 (fp_ME.st0 hM_34 5 (fun _ _ => rfl)) 10 (fun _ _ => rfl)), (fp_plc_2 h0 (by first | exact Or.inl c32 | exact Or.inr (by omega)))⟩)
    · skip
      have c16 := of_decide_eq_false c16
      refine lv_aload_n hx hb dX4_places_19 rfl (lv_at hl 0 rfl) ?_
      refine lv_iconst (v := (iI ((1 : Nat) : Int))) hx hb dX4_places_20 rfl ?_
      refine r_callV (cells1 := 0) (slots1 := 0) X hR (c_X4_fail G ad sc ar hA0 1 ) q2107 q2109 qs47 q100 q2110 ⟨rfl, pd_X4_fail⟩ (by decide) rfl rfl (by decide) (by decide) hM.1 rfl rfl (Nat.le_of_ble_eq_true rfl) hl.1 dX4_places_21 (hB.of hS (fp_ma.base hA0)) hM hS (fun _ h => Or.inl h) (fun v H locs hp_35 hzC hkC hS => ?_)
      obtain ⟨rfl, hM_36⟩ := hp_35
      have hM_37 := fp_ME.nrm (sc2 := (va_up sc 0 ((1)))) hM_36 rfl
      refine r_stk (st2 := [.int (iI ((0 : Nat) : Int))]) rfl ?_
      refine r_iret hx hb hr hlk hQ hS (Nat.le_of_ble_eq_true rfl) (Nat.le_of_ble_eq_true rfl) dX4_places_24 ?_
      exact Or.inl ⟨rfl, (hM_37.nrm rfl), (fp_plc_1 (by omega))⟩
