/-! THE STATE: supporters, loads, walked -/
set_option maxRecDepth 100000
set_option maxHeartbeats 4000000 in
theorem c_X2_share (G : fp_G) (p : Nat) (n : Nat) (r : Nat) (hp : p < 2000000000) (hn : 0 < n ∧ n < 1000) (hr2 : r < 1000) : fp_M G yX2_share cX2_share 3 (some .int) 1 12 0 0 [.int (iI ((p : Nat) : Int)), .int (iI ((n : Nat) : Int)), .int (iI ((r : Nat) : Int))] (fun H => True) fp_no (fun H v H1 => v = some (.int (iI ((fp_shr p n r : Nat) : Int))) ∧ H = H1) := by
  refine fp_M.intro (by decide) (Nat.le_of_ble_eq_true rfl) ?_
  intro pg en s mi ag bl mt cd rR qQ ls X hx hb hr hlk hnm hR hQ hB hM hl
  have hS : va_S (fA fp_no s.heap.size) s.heap s.heap [] := va_S.rf
  generalize ([] : List Loc) = locs at hS ⊢
  have hb0 := hB.1
  have hsz0 := hS.1
  have hdv := Nat.div_le_self p n
  have hmd := Nat.mod_lt p hn.1
  refine lv_iload_n hx hb dX2_share_0 rfl (lv_at hl 0 rfl) ?_
  refine lv_iload_n hx hb dX2_share_1 rfl (lv_at hl 1 rfl) ?_
  refine r_idivN hx hb ⟨by omega, by omega, by omega⟩ dX2_share_2 ?_
  refine lv_iload_n hx hb dX2_share_3 rfl (lv_at hl 2 rfl) ?_
  refine lv_iload_n hx hb dX2_share_4 rfl (lv_at hl 0 rfl) ?_
  refine lv_iload_n hx hb dX2_share_5 rfl (lv_at hl 1 rfl) ?_
  refine r_iremN hx hb ⟨by omega, by omega, by omega⟩ dX2_share_6 ?_
  refine r_icmp_ge (tgt := 14) hx hb ⟨by omega, by omega⟩ ⟨by omega, by omega⟩ dX2_share_7 (by decide) (fun c7 => ?_) (fun c7 => ?_)
  · skip
    refine lv_iconst (v := (iI ((0 : Nat) : Int))) hx hb dX2_share_14 rfl ?_
    refine r_iaddN hx hb dX2_share_15 ?_
    refine r_iret hx hb hr hlk hQ hS (Nat.le_of_ble_eq_true rfl) (Nat.le_of_ble_eq_true rfl) dX2_share_16 ?_
    exact ⟨(congrArg (fun q : Nat => some (Value.int (iI (q : Int)))) (Eq.symm (fp_shr_f (by omega)))), rfl⟩
  · skip
    refine lv_iconst (v := (iI ((1 : Nat) : Int))) hx hb dX2_share_10 rfl ?_
    refine lv_goto (tgt := 15) hx hb dX2_share_11 (by decide) ?_
    refine r_iaddN hx hb dX2_share_15 ?_
    refine r_iret hx hb hr hlk hQ hS (Nat.le_of_ble_eq_true rfl) (Nat.le_of_ble_eq_true rfl) dX2_share_16 ?_
    exact ⟨(congrArg (fun q : Nat => some (Value.int (iI (q : Int)))) (Eq.symm (fp_shr_t (by omega)))), rfl⟩
set_option maxHeartbeats 4000000 in
theorem c_X2_supporters (G : fp_G) (x : Nat) (l : Nat) (ed : Nat) (z : Nat) (t : Nat) (mc : Int32) (cap : Nat) (b : Nat → Nat) (S : PS) (u : Nat) (hsw : fp_sw S b) (hdl : fp_dl S) (hu : u < sN S) : fp_M G yX2_supporters cX2_supporters 6 (some (.object "java/util/ArrayList")) 7 171 6 121 [.ref (x), .ref (b u)] (fun H => fp_SE G x l ed z t mc cap b S H) fp_no (fun H v H1 => ∃ (q : Nat), ∃ (ed2 : Nat), ∃ (mc2 : Int32), ∃ (cap2 : Nat), ∃ (c : Nat), ∃ (e : Nat → Nat), v = some (.ref (q)) ∧ (H.size ≤ q) ∧ (ed2 = fp_de G ∨ H.size ≤ ed2) ∧ (fp_SU S u e c) ∧ fp_LE G q ed2 mc2 c cap2 (fun p => b (e p)) H1) := by
  refine fp_M.intro (by decide) (Nat.le_of_ble_eq_true rfl) ?_
  intro pg en s mi ag bl mt cd rR qQ ls X hx hb hr hlk hnm hR hQ hB hM hl
  have hS : va_S (fA fp_no s.heap.size) s.heap s.heap [] := va_S.rf
  generalize ([] : List Loc) = locs at hS ⊢
  have hb0 := hB.1
  have h_st := hM
  have hsz0 := hS.1
  have lt_1 := h_st.1.lt
  have hn24 := hsw.1.1
  obtain ⟨h_o, h_l, h_z, h_t, h_bl, h_xb, h_zb, h_tb⟩ := id h_st
  have lt_2 := h_l.1.lt
  have lt_3 := h_l.2.2
  have lt_4 := h_z.lt
  have lt_5 := h_t.lt
  have hed0 := (X.2.2.2.2.2.deT (A := fp_no) hB fp_no.base).2.2
  refine r_new (ci := 8) (fs := [.int (iI ((0 : Nat) : Int)), .null, .int (iI ((0 : Nat) : Int))]) X hR hS rfl in_J2 tyJ2_ok q140 q141 q92 (by intro j hj; rcases (show j = 0 ∨ j = 1 ∨ j = 2 by omega) with rfl | rfl | rfl <;> rfl) (Nat.le_of_ble_eq_true rfl) (Nat.le_of_ble_eq_true rfl) dX2_supporters_0 (fun qn H_6 hq_10 hE_7 hX_8 hz_9 hS => ?_)
  have hz_11 := hS.1
  have lt_12 := hE_7.lt
  refine lv_dup hx hb dX2_supporters_3 rfl ?_
  refine r_callI (cells1 := 1) (slots1 := 3) X hR (c_J2_init G qn (by omega)) q142 q143 q92 q144 rfl ⟨by decide, by decide, rfl⟩ ⟨Nat.le_of_ble_eq_true rfl, Nat.le_of_ble_eq_true rfl⟩ rfl rfl (Nat.le_of_ble_eq_true rfl) (Nat.le_of_ble_eq_true rfl) rfl (Nat.le_of_ble_eq_true rfl) hl.1 dX2_supporters_4 (hB.of hS fp_no.base) hE_7 hS (fun q h => Or.inr (by have h2 : (g_s G).heap.size ≤ q ∧ (q = qn) := h; omega)) (fun v H_16 locs hp_13 hz_14 hk_15 hS => ?_)
  obtain ⟨rfl, hE_17⟩ := hp_13
  have hz_18 := hS.1
  have lt_19 := hE_17.1.lt
  have lt_20 := hE_17.2.2
  refine r_stk (st2 := [.ref (qn)]) rfl ?_
  refine lv_astore_n (lv' := [(2, .ref (qn)), (0, .ref (x)), (1, .ref (b u))]) hx hb dX2_supporters_7 rfl hl (by decide) rfl (fun ls hl => ?_)
  refine lv_aload_n hx hb dX2_supporters_8 rfl (lv_at hl 1 rfl) ?_
  have hE_21 := h_st.ext (fp_X.ofS hS)
  refine r_get X hE_21.1 rfl in_X2 0 (by decide) q173 (Or.inl rfl) (v := .ref (l)) rfl dX2_supporters_9 ?_
  have hE_22 := h_l.ext (fp_X.ofS hS)
  refine r_callV (cells1 := 2) (slots1 := 7) X hR (c_J2_iterator G l ed mc (sN S) cap b) q275 q276 q277 q92 q278 ⟨rfl, pd_J2_iterator⟩ ⟨Nat.le_of_ble_eq_true rfl, Nat.le_of_ble_eq_true rfl⟩ rfl rfl (Nat.le_of_ble_eq_true rfl) (Nat.le_of_ble_eq_true rfl) hE_22.1 rfl rfl (Nat.le_of_ble_eq_true rfl) hl.1 dX2_supporters_12 (hB.of hS fp_no.base) hE_22 hS (fun _ h => h.elim) (fun v H_26 locs hp_23 hz_24 hk_25 hS => ?_)
  obtain ⟨yi, rfl, hy_27, hE_28⟩ := hp_23
  have hz_29 := hS.1
  have lt_31 := hE_28.lt
  refine r_stk (st2 := [.ref (yi)]) rfl ?_
  refine lv_astore_n (lv' := [(3, .ref (yi)), (2, .ref (qn)), (0, .ref (x)), (1, .ref (b u))]) hx hb dX2_supporters_15 rfl hl (by decide) rfl (fun ls hl => ?_)
  have hE_33 := hE_17.ext (fp_X.no hz_24 hk_25)
  have L16 : ∀ (k : Nat), k ≤ sN S → ∀ (e : Nat → Nat) (c : Nat) (ed2 : Nat) (mc2 : Int32) (cap2 : Nat) (H_34 : Heap) (locs : List Loc) (ls : Array Slot), lv_has ls 6 [(0, .ref (x)), (1, .ref (b u)), (2, .ref (qn)), (3, .ref (yi))] → va_S (fA fp_no s.heap.size) s.heap H_34 locs → (fp_SUs S u k e c) → (cap2 = fp_cp c) → (ed2 = fp_de G ∨ s.heap.size ≤ ed2) → (ed2 ≠ yi ∧ ed2 ≠ qn) → (H_26.size ≤ H_34.size) → fp_LE G qn ed2 mc2 c cap2 (fun p => b (e p)) H_34 → fp_IE G yi k l mc (sN S) H_34 → W pg (g_l G) en rR s mi ag bl mt cd H_34 locs (2 + fp_cn c) (7 + fp_cs c) qQ (F0 mi 16 ls []) := by
    refine lp_up (sN S) ?_
    intro k hk16 ih16 e c ed2 mc2 cap2 H_34 locs ls hl hS hSU hcap2 hed hedy hz_35 hE_36 hE_37
    have hz_38 := hS.1
    have lt_39 := hE_36.1.lt
    have lt_40 := hE_36.2.2
    have lt_41 := hE_37.lt
    have hck := hSU.le
    have hcn := fp_cn_b c
    refine lv_aload_n hx hb dX2_supporters_16 rfl (lv_at hl 3 rfl) ?_
    obtain ⟨⟨lr_42, hE_43⟩, hle_44⟩ := id hE_37
    have hE_45 := h_l.ext (fp_X.ofS hS)
    obtain ⟨⟨lr_46, hE_47⟩, hle_48⟩ := id hE_37
    refine r_callF (cells1 := (2 + fp_cn c)) (slots1 := (7 + fp_cs c)) X hR (c_J13_hasNext G l ed mc (sN S) cap b yi k) q299 q303 q305 q105 q307 ⟨q301, q300, q306, q304, q302⟩ ⟨by decide, by decide, rfl⟩ ⟨Nat.le_of_ble_eq_true rfl, Nat.le_of_ble_eq_true rfl⟩ rfl rfl (by omega) (by omega) hE_47 rfl rfl (Nat.le_of_ble_eq_true rfl) hl.1 dX2_supporters_17 (hB.of hS fp_no.base) ⟨hE_37, hE_45⟩ hS (fun _ h => h.elim) (fun v H_52 locs hp_49 hz_50 hk_51 hS => ?_)
    obtain ⟨rfl, rfl⟩ := hp_49
    refine r_stk (st2 := [.int (iI (bI (decide (k < (sN S)))))]) rfl ?_
    refine r_ifeqB (tgt := 95) hx hb dX2_supporters_22 (by decide) (fun c22 => ?_) (fun c22 => ?_)
    · skip
      have d22 := of_decide_eq_false c22
      obtain rfl : k = sN S := by omega
      refine lv_aload_n hx hb dX2_supporters_95 rfl (lv_at hl 2 rfl) ?_
      refine r_aret hx hb hr hlk hQ hS (by omega) (by omega) dX2_supporters_96 (Or.inl ⟨_, rfl⟩) (Or.inr ⟨_, rfl⟩) ?_
      exact ⟨qn, ed2, mc2, cap2, c, e, rfl, (by omega), hed, hSU, hE_36⟩
    · skip
      have d22 := of_decide_eq_true c22
      refine lv_aload_n hx hb dX2_supporters_25 rfl (lv_at hl 3 rfl) ?_
      obtain ⟨⟨lr_53, hE_54⟩, hle_55⟩ := id hE_37
      obtain ⟨⟨lr_56, hE_57⟩, hle_58⟩ := id hE_37
      refine r_callF (cells1 := (2 + fp_cn c)) (slots1 := (7 + fp_cs c)) X hR (c_J13_next G l ed mc (sN S) cap b yi k (by omega) (by omega)) q309 q312 q314 q105 q316 ⟨q311, q310, q315, q313, q302⟩ ⟨by decide, by decide, rfl⟩ ⟨Nat.le_of_ble_eq_true rfl, Nat.le_of_ble_eq_true rfl⟩ rfl rfl (by omega) (by omega) hE_57 rfl rfl (Nat.le_of_ble_eq_true rfl) hl.1 dX2_supporters_26 (hB.of hS fp_no.base) ⟨hE_37, hE_45⟩ hS (fun q h => Or.inr (by have h2 : (g_s G).heap.size ≤ q ∧ (q = yi) := h; omega)) (fun v H_62 locs hp_59 hz_60 hk_61 hS => ?_)
      obtain ⟨rfl, hE_63⟩ := hp_59
      have hz_64 := hS.1
      have lt_65 := hE_63.lt
      refine r_stk (st2 := [.ref (b k)]) rfl ?_
      have hbk := hsw.1.2.2.1 k (by omega)
      have hE_66 := h_bl.ext (fp_X.ofS hS)
      refine r_castB X (hE_66 k (by omega)) (hsw.1.2.2.1 k (by omega)).2.1 q388 dX2_supporters_31 ?_
      refine lv_astore (lv' := [(4, .ref (b k)), (0, .ref (x)), (1, .ref (b u)), (2, .ref (qn)), (3, .ref (yi))]) hx hb dX2_supporters_34 hl (by decide) rfl (fun ls hl => ?_)
      refine lv_aload hx hb dX2_supporters_36 (lv_at hl 0 rfl) ?_
      refine lv_aload_n hx hb dX2_supporters_38 rfl (lv_at hl 2 rfl) ?_
      refine b_supports X hR (hE_66 k (by omega)) ((hsw.1.2.2.1 k (by omega)).2.1) (hsw.1.2.2.1 k (by omega)) (hsw.1.2.2.1 u (by omega)) (hE_66 u (by omega)) q503 (by decide) (by decide) (by omega) (by omega) (Nat.le_of_ble_eq_true rfl) hl.1 dX2_supporters_39 (hB.of hS fp_no.base) hS (fun locs hS => ?_)
      refine r_ifeqB (tgt := 92) hx hb dX2_supporters_42 (by decide) (fun c42 => ?_) (fun c42 => ?_)
      · skip
        refine lv_goto (tgt := 16) hx hb dX2_supporters_92 (by decide) ?_
        have hE_68 := fp_LE.mv hE_36 (hk_61 _ (by omega) (by omega)) (hk_61 _ (by omega) (by omega))
        exact ih16 (by omega) e c ed2 mc2 cap2 H_62 locs ls (lv_sub hl [1, 2, 3, 4] rfl) hS (hSU.skip c42) hcap2 (by omega) (by omega) (by omega) hE_68 hE_63
      · skip
        refine lv_aload_n hx hb dX2_supporters_45 rfl (lv_at hl 3 rfl) ?_
        have hE_70 := fp_LE.mv hE_36 (hk_61 _ (by omega) (by omega)) (hk_61 _ (by omega) (by omega))
        refine r_callV (cells1 := (2 + fp_cn c)) (slots1 := (7 + fp_cs c)) X hR (c_J2_size G qn ed2 mc2 c cap2 (fun p => b (e p))) q484 q461 q462 q92 q463 ⟨rfl, pd_J2_size⟩ ⟨Nat.le_of_ble_eq_true rfl, Nat.le_of_ble_eq_true rfl⟩ rfl rfl (by omega) (by omega) hE_70.1 rfl rfl (Nat.le_of_ble_eq_true rfl) hl.1 dX2_supporters_46 (hB.of hS fp_no.base) hE_70 hS (fun _ h => h.elim) (fun v H_74 locs hp_71 hz_72 hk_73 hS => ?_)
        obtain ⟨rfl, rfl⟩ := hp_71
        refine r_stk (st2 := [.int (iI ((c : Nat) : Int))]) rfl ?_
        refine lv_istore (lv' := [(5, .int (iI ((c : Nat) : Int))), (4, .ref (b k)), (0, .ref (x)), (1, .ref (b u)), (2, .ref (qn)), (3, .ref (yi))]) hx hb dX2_supporters_49 hl (by decide) rfl (fun ls hl => ?_)
        have L51 : ∀ (d : Nat), d ≤ c → ∀ (H_75 : Heap) (locs : List Loc) (ls : Array Slot), lv_has ls 6 [(0, .ref (x)), (1, .ref (b u)), (2, .ref (qn)), (3, .ref (yi)), (4, .ref (b k)), (5, .int (iI ((c - d : Nat) : Int)))] → va_S (fA fp_no s.heap.size) s.heap H_75 locs → (c - d < c → sB S k 2 < sB S (e (c - d)) 2) → (H_62.size ≤ H_75.size) → fp_LE G qn ed2 mc2 c cap2 (fun p => b (e p)) H_75 → fp_IE G yi (k + 1) l mc (sN S) H_75 → W pg (g_l G) en rR s mi ag bl mt cd H_75 locs (2 + fp_cn c) (7 + fp_cs c) qQ (F0 mi 51 ls []) := by
          refine lp_up c ?_
          intro d hk51 ih51 H_75 locs ls hl hS hgt hz_76 hE_77 hE_78
          have hz_79 := hS.1
          have lt_80 := hE_77.1.lt
          have lt_81 := hE_77.2.2
          have lt_82 := hE_78.lt
          refine lv_iload hx hb dX2_supporters_51 (lv_at hl 5 rfl) ?_
          refine r_if_le (tgt := 84) hx hb ⟨by omega, by omega⟩ dX2_supporters_53 (by decide) (fun c53 => ?_) (fun c53 => ?_)
          · skip
            have hE_83 := h_bl.ext (fp_X.ofS hS)
            have hek : ∀ j, j < c → e j < k := fun j hj => (hSU.2 j hj).1
            have hel_84 : fp_EL G c (fun p => b (e p)) H_75 := fun j hj => fp_el.ofB (hE_83 (e j) (by have := hek j hj; omega))
            have heo_85 : fp_EO G (b k) H_75 := fp_el.ofB (hE_83 k (by omega))
            have lt_86 := fp_el.lt heo_85
            have hblk := (h_bl k (by omega)).lt
            have hcp1 := fp_cp_n (c := c) (by omega)
            have hcn1 := fp_cn_b (c + 1)
            refine lv_aload_n hx hb dX2_supporters_84 rfl (lv_at hl 2 rfl) ?_
            refine lv_iload hx hb dX2_supporters_85 (lv_at hl 5 rfl) ?_
            refine lv_aload hx hb dX2_supporters_87 (lv_at hl 4 rfl) ?_
            refine r_callV (cells1 := (2 + fp_cn c + (1 - (cap2 - c)))) (slots1 := (7 + fp_cs c + (c + c / 2 + 11 - 10000 * (cap2 - c)))) X hR (c_J2_add G qn ed2 mc2 c cap2 (fun p => b (e p)) (b k) (c - d) (fun j hj => by have := (h_bl (e j) (by have := hek j hj; omega)).lt; show b (e j) ≠ qn; omega) (by omega) (by omega) (by omega)) q558 q559 q560 q92 q561 ⟨rfl, pd_J2_add⟩ ⟨Nat.le_of_ble_eq_true rfl, Nat.le_of_ble_eq_true rfl⟩ rfl rfl (by omega) (by omega) hE_77.1 rfl rfl (Nat.le_of_ble_eq_true rfl) hl.1 dX2_supporters_89 (hB.of hS fp_no.base) ⟨hE_77, hel_84, heo_85⟩ hS (fun q h => Or.inr (by have h2 : (g_s G).heap.size ≤ q ∧ (q = qn ∨ q = ed2) := h; omega)) (fun v H_90 locs hp_87 hz_88 hk_89 hS => ?_)
            obtain ⟨ed2_91, mc2_92, cap2_93, rfl, hed2_94, hcp_95, hE_96⟩ := hp_87
            have hz_97 := hS.1
            have lt_98 := hE_96.1.lt
            have lt_99 := hE_96.2.2
            refine r_stk (st2 := []) rfl ?_
            have hcps := fp_cp_s (c := c) (by omega) (by rw [← hcap2]; exact hcp_95)
            refine lv_goto (tgt := 16) hx hb dX2_supporters_92 (by decide) ?_
            have hE_101 := fp_IE.mv hE_78 (hk_89 _ (by omega) (by omega))
            refine W.widen (k := 2 + fp_cn (c + 1)) (n := 7 + fp_cs (c + 1)) (by omega) (by omega) ?_
            exact ih16 (by omega) (fp_ins e (c - d) k) (c + 1) ed2_91 mc2_92 cap2_93 H_90 locs ls (lv_sub hl [0, 1, 2, 3] rfl) hS (hSU.ins c42 (by omega) hu hdl (by omega) (by omega) (fun h => hgt h)) hcps (by omega) (by omega) (by omega) (fp_LE.congr hE_96 (fun p _ => fp_ins_f p)) hE_101
          · skip
            refine lv_aload hx hb dX2_supporters_56 (lv_at hl 4 rfl) ?_
            have hE_102 := h_bl.ext (fp_X.ofS hS)
            refine r_getBN 1 (by decide) 2 rfl X (hE_102 k (by omega)) (hsw.1.2.2.1 k (by omega)).2.1 q1157 dX2_supporters_58 ?_
            refine lv_aload_n hx hb dX2_supporters_61 rfl (lv_at hl 2 rfl) ?_
            refine lv_iload hx hb dX2_supporters_62 (lv_at hl 5 rfl) ?_
            refine lv_iconst (v := (iI ((1 : Nat) : Int))) hx hb dX2_supporters_64 rfl ?_
            refine r_isub hx hb dX2_supporters_65 ?_
            refine r_set (y := .int (iI ((c - d - 1 : Nat) : Int))) (congrArg (fun q : Int => Value.int (iI q)) (by omega)) ?_
            have he66 := hSU.2 (c - d - 1) (by omega)
            have hb66 := hsw.1.2.2.1 (e (c - d - 1)) (by omega)
            refine r_callV (cells1 := (2 + fp_cn c)) (slots1 := (7 + fp_cs c)) X hR (c_J2_get G qn ed2 mc2 c cap2 (fun p => b (e p)) (c - d - 1) (by omega)) q489 q490 q491 q92 q492 ⟨rfl, pd_J2_get⟩ ⟨Nat.le_of_ble_eq_true rfl, Nat.le_of_ble_eq_true rfl⟩ rfl rfl (by omega) (by omega) hE_77.1 rfl rfl (Nat.le_of_ble_eq_true rfl) hl.1 dX2_supporters_66 (hB.of hS fp_no.base) hE_77 hS (fun _ h => h.elim) (fun v H_106 locs hp_103 hz_104 hk_105 hS => ?_)
            obtain ⟨rfl, rfl⟩ := hp_103
            refine r_stk (st2 := [.ref (b (e (c - d - 1))), .int (iI ((((sB S) k) 2 : Nat) : Int))]) rfl ?_
            refine r_castB X (hE_102 (e (c - d - 1)) (by omega)) (hsw.1.2.2.1 (e (c - d - 1)) (by omega)).2.1 q388 dX2_supporters_69 ?_
            refine r_getBN 1 (by decide) 2 rfl X (hE_102 (e (c - d - 1)) (by omega)) (hsw.1.2.2.1 (e (c - d - 1)) (by omega)).2.1 q1157 dX2_supporters_72 ?_
            refine r_icmp_ge (tgt := 84) hx hb ⟨by omega, by omega⟩ ⟨by omega, by omega⟩ dX2_supporters_75 (by decide) (fun c75 => ?_) (fun c75 => ?_)
            · skip
              have hek : ∀ j, j < c → e j < k := fun j hj => (hSU.2 j hj).1
              have hel_107 : fp_EL G c (fun p => b (e p)) H_75 := fun j hj => fp_el.ofB (hE_102 (e j) (by have := hek j hj; omega))
              have heo_108 : fp_EO G (b k) H_75 := fp_el.ofB (hE_102 k (by omega))
              have lt_109 := fp_el.lt heo_108
              have hblk := (h_bl k (by omega)).lt
              have hcp1 := fp_cp_n (c := c) (by omega)
              have hcn1 := fp_cn_b (c + 1)
              refine lv_aload_n hx hb dX2_supporters_84 rfl (lv_at hl 2 rfl) ?_
              refine lv_iload hx hb dX2_supporters_85 (lv_at hl 5 rfl) ?_
              refine lv_aload hx hb dX2_supporters_87 (lv_at hl 4 rfl) ?_
              refine r_callV (cells1 := (2 + fp_cn c + (1 - (cap2 - c)))) (slots1 := (7 + fp_cs c + (c + c / 2 + 11 - 10000 * (cap2 - c)))) X hR (c_J2_add G qn ed2 mc2 c cap2 (fun p => b (e p)) (b k) (c - d) (fun j hj => by have := (h_bl (e j) (by have := hek j hj; omega)).lt; show b (e j) ≠ qn; omega) (by omega) (by omega) (by omega)) q558 q559 q560 q92 q561 ⟨rfl, pd_J2_add⟩ ⟨Nat.le_of_ble_eq_true rfl, Nat.le_of_ble_eq_true rfl⟩ rfl rfl (by omega) (by omega) hE_77.1 rfl rfl (Nat.le_of_ble_eq_true rfl) hl.1 dX2_supporters_89 (hB.of hS fp_no.base) ⟨hE_77, hel_107, heo_108⟩ hS (fun q h => Or.inr (by have h2 : (g_s G).heap.size ≤ q ∧ (q = qn ∨ q = ed2) := h; omega)) (fun v H_113 locs hp_110 hz_111 hk_112 hS => ?_)
              obtain ⟨ed2_114, mc2_115, cap2_116, rfl, hed2_117, hcp_118, hE_119⟩ := hp_110
              have hz_120 := hS.1
              have lt_121 := hE_119.1.lt
              have lt_122 := hE_119.2.2
              refine r_stk (st2 := []) rfl ?_
              have hcps := fp_cp_s (c := c) (by omega) (by rw [← hcap2]; exact hcp_118)
              refine lv_goto (tgt := 16) hx hb dX2_supporters_92 (by decide) ?_
              have hE_124 := fp_IE.mv hE_78 (hk_112 _ (by omega) (by omega))
              refine W.widen (k := 2 + fp_cn (c + 1)) (n := 7 + fp_cs (c + 1)) (by omega) (by omega) ?_
              exact ih16 (by omega) (fp_ins e (c - d) k) (c + 1) ed2_114 mc2_115 cap2_116 H_113 locs ls (lv_sub hl [0, 1, 2, 3] rfl) hS (hSU.ins c42 (by omega) hu hdl (by omega) (by omega) (fun h => hgt h)) hcps (by omega) (by omega) (by omega) (fp_LE.congr hE_119 (fun p _ => fp_ins_f p)) hE_124
            · skip
              refine lv_iinc (v := (iI (((c - d : Nat) : Int) + (-1)))) (lv' := [(5, .int (iI (((c - d : Nat) : Int) + (-1)))), (0, .ref (x)), (1, .ref (b u)), (2, .ref (qn)), (3, .ref (yi)), (4, .ref (b k))]) hx hb dX2_supporters_78 hl (k := 5) rfl (iI_add _ _) (by decide) rfl (fun ls hl => ?_)
              refine lv_goto (tgt := 51) hx hb dX2_supporters_81 (by decide) ?_
              exact ih51 (by omega) H_75 locs ls (by rw [show Value.int (iI ((c - (d + 1) : Nat) : Int)) = Value.int (iI (((c - d : Nat) : Int) + (-1))) from congrArg (fun q : Int => Value.int (iI q)) (by omega)]; exact lv_sub hl [1, 2, 3, 4, 5, 0] rfl) hS (fun _ => by rw [show c - (d + 1) = c - d - 1 by omega]; omega) (by omega) hE_77 hE_78
        exact L51 0 (by omega) H_62 locs ls (by rw [show Value.int (iI ((c - 0 : Nat) : Int)) = Value.int (iI ((c : Nat) : Int)) from congrArg (fun q : Nat => Value.int (iI (q : Int))) (by omega)]; exact lv_sub hl [2, 3, 4, 5, 1, 0] rfl) hS (fun h => absurd h (by omega)) (Nat.le_refl _) hE_70 hE_63
  refine W.widen (k := 2 + fp_cn 0) (n := 7 + fp_cs 0) (by omega) (by omega) ?_
  exact L16 0 (by omega) (fun _ => 0) 0 (fp_de G) (iI ((0 : Nat) : Int)) 0 H_26 locs ls (lv_sub hl [2, 3, 1, 0] rfl) hS (fp_SUs.z) rfl (Or.inl rfl) (⟨by omega, by omega⟩) (Nat.le_refl _) (fp_LE.congr hE_33 (fun k hk => absurd hk (Nat.not_lt_zero _))) hE_28
