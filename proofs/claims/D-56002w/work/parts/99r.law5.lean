/-! THE LAW: its cases, the second half -/
set_option maxRecDepth 100000
set_option maxHeartbeats 1000000 in
theorem lc_30 {G : fp_G} {pg : Program} {en : Env} {rR : Room} {s : State} {mi : MethodId} {ag : Array Value} {bl : List Frame} {mt : Method} {cd : Code} {H : Heap} {locs : List Loc} {cells slots : Nat} {qQ : State → Prop} {ls : Array Slot} {b L x out i k MC MS : Nat} {xs : Nat → Int32} {ad : Nat → Nat} {T : TH} {g : Nat → Int64} (X : fp_C G pg s mi ag cd cL_law "FortPlannerLaw" 9) (hR : fp_R rR 8192 104096 MC MS) (hB0 : fp_B G s.heap) (hX : va_X b L xs s s.heap) (hbl : b < s.heap.size) (hL : L ≤ 96) (hi : 4 * i + 4 ≤ L) (hA0 : fp_MA G ad) (hob : (g_s G).heap.size ≤ out) (hoa : ¬ fp_ma ad out) (hl : lv_has ls 9 [(0, .ref (b)), (1, .ref (x)), (2, .ref (ad 0)), (3, .ref (out)), (4, .int (iI ((4 * i : Nat) : Int)))]) (hS : va_S (fA fp_no s.heap.size) s.heap H locs) (hsb : s.heap.size = (g_s G).heap.size) (hc : cells + 50006 ≤ MC) (hs : slots + 229018 ≤ MS) (hP : fp_PW G x (fp_LM ad out) T H) (hM : fp_MC G ad k T H) (ho : fp_At G H out (eJ G 1 g)) (hI : fp_TI i T) (kk : ∀ (H1 : Heap) (locs1 : List Loc) (ls1 : Array Slot) (T1 : TH) (k1 : Nat) (g1 : Nat → Int64), lv_has ls1 9 [(0, .ref (b)), (1, .ref (x)), (2, .ref (ad 0)), (3, .ref (out)), (4, .int (iI ((4 * i : Nat) : Int)))] → va_S (fA fp_no s.heap.size) s.heap H1 locs1 → fp_PW G x (fp_LM ad out) T1 H1 → fp_MC G ad k1 T1 H1 → fp_At G H1 out (eJ G 1 g1) → fp_TJ (i + 1) T1 → W pg (g_l G) en rR s mi ag bl mt cd H1 locs1 (cells + 50006) (slots + 229018) qQ (F0 mi 3331 ls1 [])) : W pg (g_l G) en rR s mi ag bl mt cd H locs cells slots qQ (F0 mi 2071 ls []) := by
  obtain ⟨hx, hb, -⟩ := id X
  refine lv_aload_n hx hb dL_law_2071 rfl (lv_at hl 1 rfl) ?_
  refine lv_aload_n hx hb dL_law_2072 rfl (lv_at hl 0 rfl) ?_
  refine lv_iload hx hb dL_law_2073 (lv_at hl 4 rfl) ?_
  refine lv_iconst (v := (iI ((1 : Nat) : Int))) hx hb dL_law_2075 rfl ?_
  refine r_iaddN hx hb dL_law_2076 ?_
  refine r_scr (j := 4 * i + 1) X hX hbl hS (by omega) hL dL_law_2077 ?_
  refine lv_aload_n hx hb dL_law_2078 rfl (lv_at hl 3 rfl) ?_
  obtain ⟨kc, hkc⟩ : ∃ kc, fp_bslc (T.1) (fp_xs xs (4 * i + 1)) = kc := ⟨_, rfl⟩
  refine x_callSH (cells1 := cells + 148) (slots1 := slots + 2986) X hR (x0_blockBySlack G x (fp_LM ad out) T i out g (fp_xs xs (4 * i + 1)) hI (fp_xs_rg _ _) (Or.inr rfl) hob) q1558 q1559 q87 q1560 pd_X0_blockBySlack ⟨Nat.le_of_ble_eq_true rfl, Nat.le_of_ble_eq_true rfl⟩ rfl rfl (by omega) (by omega) rfl (Nat.le_of_ble_eq_true rfl) hl.1 dL_law_2079 (hB0.of hS fp_no.base) ⟨hP, ho⟩ hS (fun q h => Or.inr (by have h9 : (g_s G).heap.size ≤ q := h.1; omega)) (fun v H1 locs hp hz hk hS => ?_) (fun Ex qx cx H1 locs hp hz hk hS hcx hvx hlx => hp.elim)
  obtain ⟨g2, rfl, hg2, hP, ho⟩ := hp
  have hM := hM.keep hk (fun q hq h => h.2.elim (fun z => z (Or.inl hq)) (fun z => hoa (z ▸ hq)))
  refine r_stk (st2 := [.int (iI ((fp_bslc (T.1) (fp_xs xs (4 * i + 1)) : Nat) : Int))]) rfl ?_
  have hkb : kc ≤ 2 := by rw [← hkc]; unfold fp_bslc; (repeat' split) <;> omega
  rw [hkc] at hg2 ⊢
  refine lv_istore (lv' := [(5, .int (iI ((kc : Nat) : Int))), (0, .ref (b)), (1, .ref (x)), (2, .ref (ad 0)), (3, .ref (out)), (4, .int (iI ((4 * i : Nat) : Int)))]) hx hb dL_law_2082 hl (by decide) rfl (fun ls hl => ?_)
  refine lv_aload_n hx hb dL_law_2084 rfl (lv_at hl 3 rfl) ?_
  refine lv_aload_n hx hb dL_law_2085 rfl (lv_at hl 1 rfl) ?_
  refine lv_iload hx hb dL_law_2086 (lv_at hl 5 rfl) ?_
  refine lv_iconst (v := (iI ((1 : Nat) : Int))) hx hb dL_law_2088 rfl ?_
  refine r_iaddN hx hb dL_law_2089 ?_
  refine r_scr (j := 4 * i + 1) X hX hbl hS (by omega) hL dL_law_2090 ?_
  obtain ⟨fs3, hob3⟩ := hM.ob
  refine x_callV (cells1 := (cells + 148)) (slots1 := (slots + 2986)) X hR (mm_blockBySlack G ad _ T i (fp_xs xs (4 * i + 1)) hA0 hI (fp_xs_rg _ _)) q2322 q2323 q2324 q100 q2325 ⟨rfl, pd_X4_blockBySlack⟩ ⟨Nat.le_of_ble_eq_true rfl, Nat.le_of_ble_eq_true rfl⟩ rfl rfl (by omega) (by omega) hob3 rfl rfl (Nat.le_of_ble_eq_true rfl) hl.1 dL_law_2091 (hB0.of hS fp_no.base) hM hS (fun q h => Or.inr (by have h9 : (g_s G).heap.size ≤ q := fp_ma.base hA0 q h; omega)) (fun v H1 locs hp hz hk hS => ?_) (fun Ex qx cx H1 locs hp hz hk hS hcx hvx hlx => hp.elim)
  obtain ⟨r, rfl, hr, hM2⟩ := hp
  have hP := hP.mo X.2.2.2.2.2 hM hA0 hz hk
  have ho := ho.kept (hk out ho.lt hoa)
  have hM := hM2
  clear hM2
  rw [hkc] at hr hM
  refine r_stk (st2 := [.int (iI (r))]) rfl ?_
  refine lv_istore (lv' := [(6, .int (iI (r))), (5, .int (iI ((kc : Nat) : Int))), (0, .ref (b)), (1, .ref (x)), (2, .ref (ad 0)), (3, .ref (out)), (4, .int (iI ((4 * i : Nat) : Int)))]) hx hb dL_law_2094 hl (by decide) rfl (fun ls hl => ?_)
  refine lv_aload_n hx hb dL_law_2096 rfl (lv_at hl 4 rfl) ?_
  obtain ⟨fs4, hob4⟩ := hM.ob
  refine x_callV (cells1 := (cells + 148)) (slots1 := (slots + 2986)) X hR (mm_thrown G ad _ _ hA0) q2079 q2080 q2081 q100 q2082 ⟨rfl, pd_X4_thrown⟩ ⟨Nat.le_of_ble_eq_true rfl, Nat.le_of_ble_eq_true rfl⟩ rfl rfl (by omega) (by omega) hob4 rfl rfl (Nat.le_of_ble_eq_true rfl) hl.1 dL_law_2097 (hB0.of hS fp_no.base) hM hS (fun q h => Or.inr (by have h9 : (g_s G).heap.size ≤ q := fp_ma.base hA0 q h; omega)) (fun v H1 locs hp hz hk hS => ?_) (fun Ex qx cx H1 locs hp hz hk hS hcx hvx hlx => hp.elim)
  obtain ⟨rfl, hM2⟩ := hp
  have hP := hP.mo X.2.2.2.2.2 hM hA0 hz hk
  have ho := ho.kept (hk out ho.lt hoa)
  have hM := hM2
  clear hM2
  refine r_stk (st2 := [.int (iI ((kc : Nat) : Int))]) rfl ?_
  refine lv_iload hx hb dL_law_2100 (lv_at hl 1 rfl) ?_
  refine lv_icmp_eq (tgt := 2107) hx hb dL_law_2102 (by decide) (fun _ => ?_) (fun h => absurd rfl h)
  refine lv_iload hx hb dL_law_2107 (lv_at hl 1 rfl) ?_
  refine r_if_ne (tgt := 2124) hx hb ⟨by omega, by omega⟩ dL_law_2109 (by decide) (fun hne => ?_) (fun he => ?_)
  · skip
    refine lv_goto (tgt := 3331) hx hb dL_law_2124 (by decide) ?_
    refine W.widen (k := cells + 50006) (n := slots + 229018) (by omega) (by omega) ?_
    exact kk _ _ _ _ _ _ (lv_sub hl [2, 3, 4, 5, 6] rfl) hS hP hM ho (hI.same)
  · skip
    have he : kc = 0 := by omega
    refine lv_aload_n hx hb dL_law_2112 rfl (lv_at hl 5 rfl) ?_
    refine lv_iconst (v := (iI ((0 : Nat) : Int))) hx hb dL_law_2113 rfl ?_
    refine r_laldI (j := 0) X ho rfl (by decide) (by decide) dL_law_2114 ?_
    refine lv_iload hx hb dL_law_2115 (lv_at hl 0 rfl) ?_
    refine lv_i2l (v := (iI r).toInt64) hx hb dL_law_2117 rfl ?_
    refine r_lcmpE X (by rw [hg2 he, hr he]) dL_law_2118 ?_
    refine lv_if_eq (tgt := 2124) hx hb dL_law_2119 (by decide) (fun _ => ?_) (fun h => absurd rfl h)
    refine lv_goto (tgt := 3331) hx hb dL_law_2124 (by decide) ?_
    refine W.widen (k := cells + 50006) (n := slots + 229018) (by omega) (by omega) ?_
    exact kk _ _ _ _ _ _ (lv_sub hl [2, 3, 4, 5, 6] rfl) hS hP hM ho (hI.same)
set_option maxHeartbeats 1000000 in
theorem lc_31 {G : fp_G} {pg : Program} {en : Env} {rR : Room} {s : State} {mi : MethodId} {ag : Array Value} {bl : List Frame} {mt : Method} {cd : Code} {H : Heap} {locs : List Loc} {cells slots : Nat} {qQ : State → Prop} {ls : Array Slot} {b L x out i k MC MS : Nat} {xs : Nat → Int32} {ad : Nat → Nat} {T : TH} {g : Nat → Int64} (X : fp_C G pg s mi ag cd cL_law "FortPlannerLaw" 9) (hR : fp_R rR 8192 104096 MC MS) (hB0 : fp_B G s.heap) (hX : va_X b L xs s s.heap) (hbl : b < s.heap.size) (hL : L ≤ 96) (hi : 4 * i + 4 ≤ L) (hA0 : fp_MA G ad) (hob : (g_s G).heap.size ≤ out) (hoa : ¬ fp_ma ad out) (hl : lv_has ls 9 [(0, .ref (b)), (1, .ref (x)), (2, .ref (ad 0)), (3, .ref (out)), (4, .int (iI ((4 * i : Nat) : Int)))]) (hS : va_S (fA fp_no s.heap.size) s.heap H locs) (hsb : s.heap.size = (g_s G).heap.size) (hc : cells + 50006 ≤ MC) (hs : slots + 229018 ≤ MS) (hP : fp_PW G x (fp_LM ad out) T H) (hM : fp_MC G ad k T H) (ho : fp_At G H out (eJ G 1 g)) (hI : fp_TI i T) (kk : ∀ (H1 : Heap) (locs1 : List Loc) (ls1 : Array Slot) (T1 : TH) (k1 : Nat) (g1 : Nat → Int64), lv_has ls1 9 [(0, .ref (b)), (1, .ref (x)), (2, .ref (ad 0)), (3, .ref (out)), (4, .int (iI ((4 * i : Nat) : Int)))] → va_S (fA fp_no s.heap.size) s.heap H1 locs1 → fp_PW G x (fp_LM ad out) T1 H1 → fp_MC G ad k1 T1 H1 → fp_At G H1 out (eJ G 1 g1) → fp_TJ (i + 1) T1 → W pg (g_l G) en rR s mi ag bl mt cd H1 locs1 (cells + 50006) (slots + 229018) qQ (F0 mi 3331 ls1 [])) : W pg (g_l G) en rR s mi ag bl mt cd H locs cells slots qQ (F0 mi 2127 ls []) := by
  obtain ⟨hx, hb, -⟩ := id X
  refine lv_aload_n hx hb dL_law_2127 rfl (lv_at hl 1 rfl) ?_
  refine lv_aload_n hx hb dL_law_2128 rfl (lv_at hl 0 rfl) ?_
  refine lv_iload hx hb dL_law_2129 (lv_at hl 4 rfl) ?_
  refine lv_iconst (v := (iI ((1 : Nat) : Int))) hx hb dL_law_2131 rfl ?_
  refine r_iaddN hx hb dL_law_2132 ?_
  refine r_scr (j := 4 * i + 1) X hX hbl hS (by omega) hL dL_law_2133 ?_
  refine lv_aload_n hx hb dL_law_2134 rfl (lv_at hl 3 rfl) ?_
  obtain ⟨kc, hkc⟩ : ∃ kc, fp_fc (T.1) (fp_xs xs (4 * i + 1)) = kc := ⟨_, rfl⟩
  refine x_callSH (cells1 := cells + 3) (slots1 := slots + 34) X hR (x0_level G x (fp_LM ad out) T i out g (fp_xs xs (4 * i + 1)) hI (fp_xs_rg _ _) (Or.inr rfl) hob) q1565 q1566 q87 q1567 pd_X0_level ⟨Nat.le_of_ble_eq_true rfl, Nat.le_of_ble_eq_true rfl⟩ rfl rfl (by omega) (by omega) rfl (Nat.le_of_ble_eq_true rfl) hl.1 dL_law_2135 (hB0.of hS fp_no.base) ⟨hP, ho⟩ hS (fun q h => Or.inr (by have h9 : (g_s G).heap.size ≤ q := h.1; omega)) (fun v H1 locs hp hz hk hS => ?_) (fun Ex qx cx H1 locs hp hz hk hS hcx hvx hlx => hp.elim)
  obtain ⟨g2, rfl, hg2, hP, ho⟩ := hp
  have hM := hM.keep hk (fun q hq h => h.2.elim (fun z => z (Or.inl hq)) (fun z => hoa (z ▸ hq)))
  refine r_stk (st2 := [.int (iI ((fp_fc (T.1) (fp_xs xs (4 * i + 1)) : Nat) : Int))]) rfl ?_
  have hkb : kc ≤ 2 := by rw [← hkc]; unfold fp_fc; (repeat' split) <;> omega
  rw [hkc] at hg2 ⊢
  refine lv_istore (lv' := [(5, .int (iI ((kc : Nat) : Int))), (0, .ref (b)), (1, .ref (x)), (2, .ref (ad 0)), (3, .ref (out)), (4, .int (iI ((4 * i : Nat) : Int)))]) hx hb dL_law_2138 hl (by decide) rfl (fun ls hl => ?_)
  refine lv_aload_n hx hb dL_law_2140 rfl (lv_at hl 3 rfl) ?_
  refine lv_aload_n hx hb dL_law_2141 rfl (lv_at hl 1 rfl) ?_
  refine lv_iload hx hb dL_law_2142 (lv_at hl 5 rfl) ?_
  refine lv_iconst (v := (iI ((1 : Nat) : Int))) hx hb dL_law_2144 rfl ?_
  refine r_iaddN hx hb dL_law_2145 ?_
  refine r_scr (j := 4 * i + 1) X hX hbl hS (by omega) hL dL_law_2146 ?_
  obtain ⟨fs3, hob3⟩ := hM.ob
  refine x_callV (cells1 := (cells + 3)) (slots1 := (slots + 34)) X hR (mm_level G ad _ T i (fp_xs xs (4 * i + 1)) hA0 hI (fp_xs_rg _ _)) q2326 q2327 q2328 q100 q2329 ⟨rfl, pd_X4_level⟩ ⟨Nat.le_of_ble_eq_true rfl, Nat.le_of_ble_eq_true rfl⟩ rfl rfl (by omega) (by omega) hob3 rfl rfl (Nat.le_of_ble_eq_true rfl) hl.1 dL_law_2147 (hB0.of hS fp_no.base) hM hS (fun q h => Or.inr (by have h9 : (g_s G).heap.size ≤ q := fp_ma.base hA0 q h; omega)) (fun v H1 locs hp hz hk hS => ?_) (fun Ex qx cx H1 locs hp hz hk hS hcx hvx hlx => hp.elim)
  obtain ⟨r, rfl, hr, hM2⟩ := hp
  have hP := hP.mo X.2.2.2.2.2 hM hA0 hz hk
  have ho := ho.kept (hk out ho.lt hoa)
  have hM := hM2
  clear hM2
  rw [hkc] at hr hM
  refine r_stk (st2 := [.int (iI (r))]) rfl ?_
  refine lv_istore (lv' := [(6, .int (iI (r))), (5, .int (iI ((kc : Nat) : Int))), (0, .ref (b)), (1, .ref (x)), (2, .ref (ad 0)), (3, .ref (out)), (4, .int (iI ((4 * i : Nat) : Int)))]) hx hb dL_law_2150 hl (by decide) rfl (fun ls hl => ?_)
  refine lv_aload_n hx hb dL_law_2152 rfl (lv_at hl 4 rfl) ?_
  obtain ⟨fs4, hob4⟩ := hM.ob
  refine x_callV (cells1 := (cells + 3)) (slots1 := (slots + 34)) X hR (mm_thrown G ad _ _ hA0) q2079 q2080 q2081 q100 q2082 ⟨rfl, pd_X4_thrown⟩ ⟨Nat.le_of_ble_eq_true rfl, Nat.le_of_ble_eq_true rfl⟩ rfl rfl (by omega) (by omega) hob4 rfl rfl (Nat.le_of_ble_eq_true rfl) hl.1 dL_law_2153 (hB0.of hS fp_no.base) hM hS (fun q h => Or.inr (by have h9 : (g_s G).heap.size ≤ q := fp_ma.base hA0 q h; omega)) (fun v H1 locs hp hz hk hS => ?_) (fun Ex qx cx H1 locs hp hz hk hS hcx hvx hlx => hp.elim)
  obtain ⟨rfl, hM2⟩ := hp
  have hP := hP.mo X.2.2.2.2.2 hM hA0 hz hk
  have ho := ho.kept (hk out ho.lt hoa)
  have hM := hM2
  clear hM2
  refine r_stk (st2 := [.int (iI ((kc : Nat) : Int))]) rfl ?_
  refine lv_iload hx hb dL_law_2156 (lv_at hl 1 rfl) ?_
  refine lv_icmp_eq (tgt := 2163) hx hb dL_law_2158 (by decide) (fun _ => ?_) (fun h => absurd rfl h)
  refine lv_iload hx hb dL_law_2163 (lv_at hl 1 rfl) ?_
  refine r_if_ne (tgt := 2180) hx hb ⟨by omega, by omega⟩ dL_law_2165 (by decide) (fun hne => ?_) (fun he => ?_)
  · skip
    refine lv_goto (tgt := 3331) hx hb dL_law_2180 (by decide) ?_
    refine W.widen (k := cells + 50006) (n := slots + 229018) (by omega) (by omega) ?_
    exact kk _ _ _ _ _ _ (lv_sub hl [2, 3, 4, 5, 6] rfl) hS hP hM ho (hI.same)
  · skip
    have he : kc = 0 := by omega
    refine lv_aload_n hx hb dL_law_2168 rfl (lv_at hl 5 rfl) ?_
    refine lv_iconst (v := (iI ((0 : Nat) : Int))) hx hb dL_law_2169 rfl ?_
    refine r_laldI (j := 0) X ho rfl (by decide) (by decide) dL_law_2170 ?_
    refine lv_iload hx hb dL_law_2171 (lv_at hl 0 rfl) ?_
    refine lv_i2l (v := (iI r).toInt64) hx hb dL_law_2173 rfl ?_
    refine r_lcmpE X (by rw [hg2 he, hr he]) dL_law_2174 ?_
    refine lv_if_eq (tgt := 2180) hx hb dL_law_2175 (by decide) (fun _ => ?_) (fun h => absurd rfl h)
    refine lv_goto (tgt := 3331) hx hb dL_law_2180 (by decide) ?_
    refine W.widen (k := cells + 50006) (n := slots + 229018) (by omega) (by omega) ?_
    exact kk _ _ _ _ _ _ (lv_sub hl [2, 3, 4, 5, 6] rfl) hS hP hM ho (hI.same)
set_option maxHeartbeats 1000000 in
theorem lc_32 {G : fp_G} {pg : Program} {en : Env} {rR : Room} {s : State} {mi : MethodId} {ag : Array Value} {bl : List Frame} {mt : Method} {cd : Code} {H : Heap} {locs : List Loc} {cells slots : Nat} {qQ : State → Prop} {ls : Array Slot} {b L x out i k MC MS : Nat} {xs : Nat → Int32} {ad : Nat → Nat} {T : TH} {g : Nat → Int64} (X : fp_C G pg s mi ag cd cL_law "FortPlannerLaw" 9) (hR : fp_R rR 8192 104096 MC MS) (hB0 : fp_B G s.heap) (hX : va_X b L xs s s.heap) (hbl : b < s.heap.size) (hL : L ≤ 96) (hi : 4 * i + 4 ≤ L) (hA0 : fp_MA G ad) (hob : (g_s G).heap.size ≤ out) (hoa : ¬ fp_ma ad out) (hl : lv_has ls 9 [(0, .ref (b)), (1, .ref (x)), (2, .ref (ad 0)), (3, .ref (out)), (4, .int (iI ((4 * i : Nat) : Int)))]) (hS : va_S (fA fp_no s.heap.size) s.heap H locs) (hsb : s.heap.size = (g_s G).heap.size) (hc : cells + 50006 ≤ MC) (hs : slots + 229018 ≤ MS) (hP : fp_PW G x (fp_LM ad out) T H) (hM : fp_MC G ad k T H) (ho : fp_At G H out (eJ G 1 g)) (hI : fp_TI i T) (kk : ∀ (H1 : Heap) (locs1 : List Loc) (ls1 : Array Slot) (T1 : TH) (k1 : Nat) (g1 : Nat → Int64), lv_has ls1 9 [(0, .ref (b)), (1, .ref (x)), (2, .ref (ad 0)), (3, .ref (out)), (4, .int (iI ((4 * i : Nat) : Int)))] → va_S (fA fp_no s.heap.size) s.heap H1 locs1 → fp_PW G x (fp_LM ad out) T1 H1 → fp_MC G ad k1 T1 H1 → fp_At G H1 out (eJ G 1 g1) → fp_TJ (i + 1) T1 → W pg (g_l G) en rR s mi ag bl mt cd H1 locs1 (cells + 50006) (slots + 229018) qQ (F0 mi 3331 ls1 [])) : W pg (g_l G) en rR s mi ag bl mt cd H locs cells slots qQ (F0 mi 2183 ls []) := by
  obtain ⟨hx, hb, -⟩ := id X
  refine lv_aload_n hx hb dL_law_2183 rfl (lv_at hl 1 rfl) ?_
  obtain ⟨fs2, hob2⟩ := hP.ob
  refine x_callV (cells1 := cells + 1) (slots1 := slots + 24) X hR (w_levelCount G x (fp_LM ad out) T i hI) q476 q477 q478 q88 q479 ⟨rfl, pd_X1_levelCount⟩ ⟨Nat.le_of_ble_eq_true rfl, Nat.le_of_ble_eq_true rfl⟩ rfl rfl (by omega) (by omega) hob2 rfl rfl (Nat.le_of_ble_eq_true rfl) hl.1 dL_law_2184 (hB0.of hS fp_no.base) hP hS (fun q h => Or.inr (by have h9 : (g_s G).heap.size ≤ q := h.1; omega)) (fun v H1 locs hp hz hk hS => ?_) (fun Ex qx cx H1 locs hp hz hk hS hcx hvx hlx => hp.elim)
  obtain ⟨rfl, hP⟩ := hp
  have hM := hM.keep hk (fun q hq h => h.2 (Or.inl hq))
  have ho := ho.kept (hk out ho.lt (fun h => h.2 (Or.inr rfl)))
  refine r_stk (st2 := [.int (iI ((fp_nlv (T.1) : Nat) : Int))]) rfl ?_
  refine lv_aload_n hx hb dL_law_2187 rfl (lv_at hl 2 rfl) ?_
  obtain ⟨fs3, hob3⟩ := hM.ob
  refine x_callV (cells1 := (cells + 1)) (slots1 := (slots + 24)) X hR (mm_levelCount G ad _ T i hA0 hI) q2334 q2335 q2336 q100 q2337 ⟨rfl, pd_X4_levelCount⟩ ⟨Nat.le_of_ble_eq_true rfl, Nat.le_of_ble_eq_true rfl⟩ rfl rfl (by omega) (by omega) hob3 rfl rfl (Nat.le_of_ble_eq_true rfl) hl.1 dL_law_2188 (hB0.of hS fp_no.base) hM hS (fun q h => Or.inr (by have h9 : (g_s G).heap.size ≤ q := fp_ma.base hA0 q h; omega)) (fun v H1 locs hp hz hk hS => ?_) (fun Ex qx cx H1 locs hp hz hk hS hcx hvx hlx => hp.elim)
  obtain ⟨rfl, hM2⟩ := hp
  have hP := hP.mo X.2.2.2.2.2 hM hA0 hz hk
  have ho := ho.kept (hk out ho.lt hoa)
  have hM := hM2
  clear hM2
  refine r_stk (st2 := [.int (iI ((fp_nlv (T.1) : Nat) : Int)), .int (iI ((fp_nlv (T.1) : Nat) : Int))]) rfl ?_
  refine lv_icmp_eq (tgt := 3331) hx hb dL_law_2191 (by decide) (fun _ => ?_) (fun h => absurd rfl h)
  refine W.widen (k := cells + 50006) (n := slots + 229018) (by omega) (by omega) ?_
  exact kk _ _ _ _ _ _ hl hS hP hM ho (hI.same)
set_option maxHeartbeats 1000000 in
theorem lc_33 {G : fp_G} {pg : Program} {en : Env} {rR : Room} {s : State} {mi : MethodId} {ag : Array Value} {bl : List Frame} {mt : Method} {cd : Code} {H : Heap} {locs : List Loc} {cells slots : Nat} {qQ : State → Prop} {ls : Array Slot} {b L x out i k MC MS : Nat} {xs : Nat → Int32} {ad : Nat → Nat} {T : TH} {g : Nat → Int64} (X : fp_C G pg s mi ag cd cL_law "FortPlannerLaw" 9) (hR : fp_R rR 8192 104096 MC MS) (hB0 : fp_B G s.heap) (hX : va_X b L xs s s.heap) (hbl : b < s.heap.size) (hL : L ≤ 96) (hi : 4 * i + 4 ≤ L) (hA0 : fp_MA G ad) (hob : (g_s G).heap.size ≤ out) (hoa : ¬ fp_ma ad out) (hl : lv_has ls 9 [(0, .ref (b)), (1, .ref (x)), (2, .ref (ad 0)), (3, .ref (out)), (4, .int (iI ((4 * i : Nat) : Int)))]) (hS : va_S (fA fp_no s.heap.size) s.heap H locs) (hsb : s.heap.size = (g_s G).heap.size) (hc : cells + 50006 ≤ MC) (hs : slots + 229018 ≤ MS) (hP : fp_PW G x (fp_LM ad out) T H) (hM : fp_MC G ad k T H) (ho : fp_At G H out (eJ G 1 g)) (hI : fp_TI i T) (kk : ∀ (H1 : Heap) (locs1 : List Loc) (ls1 : Array Slot) (T1 : TH) (k1 : Nat) (g1 : Nat → Int64), lv_has ls1 9 [(0, .ref (b)), (1, .ref (x)), (2, .ref (ad 0)), (3, .ref (out)), (4, .int (iI ((4 * i : Nat) : Int)))] → va_S (fA fp_no s.heap.size) s.heap H1 locs1 → fp_PW G x (fp_LM ad out) T1 H1 → fp_MC G ad k1 T1 H1 → fp_At G H1 out (eJ G 1 g1) → fp_TJ (i + 1) T1 → W pg (g_l G) en rR s mi ag bl mt cd H1 locs1 (cells + 50006) (slots + 229018) qQ (F0 mi 3331 ls1 [])) : W pg (g_l G) en rR s mi ag bl mt cd H locs cells slots qQ (F0 mi 2196 ls []) := by
  obtain ⟨hx, hb, -⟩ := id X
  refine lv_aload_n hx hb dL_law_2196 rfl (lv_at hl 1 rfl) ?_
  refine lv_aload_n hx hb dL_law_2197 rfl (lv_at hl 0 rfl) ?_
  refine lv_iload hx hb dL_law_2198 (lv_at hl 4 rfl) ?_
  refine lv_iconst (v := (iI ((1 : Nat) : Int))) hx hb dL_law_2200 rfl ?_
  refine r_iaddN hx hb dL_law_2201 ?_
  refine r_scr (j := 4 * i + 1) X hX hbl hS (by omega) hL dL_law_2202 ?_
  refine lv_aload_n hx hb dL_law_2203 rfl (lv_at hl 0 rfl) ?_
  refine lv_iload hx hb dL_law_2204 (lv_at hl 4 rfl) ?_
  refine lv_iconst (v := (iI ((2 : Nat) : Int))) hx hb dL_law_2206 rfl ?_
  refine r_iaddN hx hb dL_law_2207 ?_
  refine r_scr (j := 4 * i + 2) X hX hbl hS (by omega) hL dL_law_2208 ?_
  refine lv_aload_n hx hb dL_law_2209 rfl (lv_at hl 3 rfl) ?_
  obtain ⟨kc, hkc⟩ : ∃ kc, fp_fc2 (T.1) (fp_xs xs (4 * i + 1)) (fp_xs xs (4 * i + 2)) = kc := ⟨_, rfl⟩
  refine x_callSH (cells1 := cells + 5) (slots1 := slots + 44) X hR (x0_isAbove G x (fp_LM ad out) T i out g (fp_xs xs (4 * i + 1)) (fp_xs xs (4 * i + 2)) hI (fp_xs_rg _ _) (fp_xs_rg _ _) (Or.inr rfl) hob) q1576 q1577 q87 q1578 pd_X0_isAbove ⟨Nat.le_of_ble_eq_true rfl, Nat.le_of_ble_eq_true rfl⟩ rfl rfl (by omega) (by omega) rfl (Nat.le_of_ble_eq_true rfl) hl.1 dL_law_2210 (hB0.of hS fp_no.base) ⟨hP, ho⟩ hS (fun q h => Or.inr (by have h9 : (g_s G).heap.size ≤ q := h.1; omega)) (fun v H1 locs hp hz hk hS => ?_) (fun Ex qx cx H1 locs hp hz hk hS hcx hvx hlx => hp.elim)
  obtain ⟨g2, rfl, hg2, hP, ho⟩ := hp
  have hM := hM.keep hk (fun q hq h => h.2.elim (fun z => z (Or.inl hq)) (fun z => hoa (z ▸ hq)))
  refine r_stk (st2 := [.int (iI ((fp_fc2 (T.1) (fp_xs xs (4 * i + 1)) (fp_xs xs (4 * i + 2)) : Nat) : Int))]) rfl ?_
  have hkb : kc ≤ 2 := by rw [← hkc]; unfold fp_fc2; (repeat' split) <;> omega
  rw [hkc] at hg2 ⊢
  refine lv_istore (lv' := [(5, .int (iI ((kc : Nat) : Int))), (0, .ref (b)), (1, .ref (x)), (2, .ref (ad 0)), (3, .ref (out)), (4, .int (iI ((4 * i : Nat) : Int)))]) hx hb dL_law_2213 hl (by decide) rfl (fun ls hl => ?_)
  refine lv_aload_n hx hb dL_law_2215 rfl (lv_at hl 3 rfl) ?_
  refine lv_aload_n hx hb dL_law_2216 rfl (lv_at hl 1 rfl) ?_
  refine lv_iload hx hb dL_law_2217 (lv_at hl 5 rfl) ?_
  refine lv_iconst (v := (iI ((1 : Nat) : Int))) hx hb dL_law_2219 rfl ?_
  refine r_iaddN hx hb dL_law_2220 ?_
  refine r_scr (j := 4 * i + 1) X hX hbl hS (by omega) hL dL_law_2221 ?_
  refine lv_aload_n hx hb dL_law_2222 rfl (lv_at hl 1 rfl) ?_
  refine lv_iload hx hb dL_law_2223 (lv_at hl 5 rfl) ?_
  refine lv_iconst (v := (iI ((2 : Nat) : Int))) hx hb dL_law_2225 rfl ?_
  refine r_iaddN hx hb dL_law_2226 ?_
  refine r_scr (j := 4 * i + 2) X hX hbl hS (by omega) hL dL_law_2227 ?_
  obtain ⟨fs3, hob3⟩ := hM.ob
  refine x_callV (cells1 := (cells + 5)) (slots1 := (slots + 44)) X hR (mm_isAbove G ad _ T i (fp_xs xs (4 * i + 1)) (fp_xs xs (4 * i + 2)) hA0 hI (fp_xs_rg _ _) (fp_xs_rg _ _)) q2338 q2339 q2340 q100 q2341 ⟨rfl, pd_X4_isAbove⟩ ⟨Nat.le_of_ble_eq_true rfl, Nat.le_of_ble_eq_true rfl⟩ rfl rfl (by omega) (by omega) hob3 rfl rfl (Nat.le_of_ble_eq_true rfl) hl.1 dL_law_2228 (hB0.of hS fp_no.base) hM hS (fun q h => Or.inr (by have h9 : (g_s G).heap.size ≤ q := fp_ma.base hA0 q h; omega)) (fun v H1 locs hp hz hk hS => ?_) (fun Ex qx cx H1 locs hp hz hk hS hcx hvx hlx => hp.elim)
  obtain ⟨r, rfl, hr, hM2⟩ := hp
  have hP := hP.mo X.2.2.2.2.2 hM hA0 hz hk
  have ho := ho.kept (hk out ho.lt hoa)
  have hM := hM2
  clear hM2
  rw [hkc] at hr hM
  refine r_stk (st2 := [.int (iI (bI (r)))]) rfl ?_
  refine lv_istore (lv' := [(6, .int (iI (bI (r)))), (5, .int (iI ((kc : Nat) : Int))), (0, .ref (b)), (1, .ref (x)), (2, .ref (ad 0)), (3, .ref (out)), (4, .int (iI ((4 * i : Nat) : Int)))]) hx hb dL_law_2231 hl (by decide) rfl (fun ls hl => ?_)
  refine lv_aload_n hx hb dL_law_2233 rfl (lv_at hl 4 rfl) ?_
  obtain ⟨fs4, hob4⟩ := hM.ob
  refine x_callV (cells1 := (cells + 5)) (slots1 := (slots + 44)) X hR (mm_thrown G ad _ _ hA0) q2079 q2080 q2081 q100 q2082 ⟨rfl, pd_X4_thrown⟩ ⟨Nat.le_of_ble_eq_true rfl, Nat.le_of_ble_eq_true rfl⟩ rfl rfl (by omega) (by omega) hob4 rfl rfl (Nat.le_of_ble_eq_true rfl) hl.1 dL_law_2234 (hB0.of hS fp_no.base) hM hS (fun q h => Or.inr (by have h9 : (g_s G).heap.size ≤ q := fp_ma.base hA0 q h; omega)) (fun v H1 locs hp hz hk hS => ?_) (fun Ex qx cx H1 locs hp hz hk hS hcx hvx hlx => hp.elim)
  obtain ⟨rfl, hM2⟩ := hp
  have hP := hP.mo X.2.2.2.2.2 hM hA0 hz hk
  have ho := ho.kept (hk out ho.lt hoa)
  have hM := hM2
  clear hM2
  refine r_stk (st2 := [.int (iI ((kc : Nat) : Int))]) rfl ?_
  refine lv_iload hx hb dL_law_2237 (lv_at hl 1 rfl) ?_
  refine lv_icmp_eq (tgt := 2244) hx hb dL_law_2239 (by decide) (fun _ => ?_) (fun h => absurd rfl h)
  refine lv_iload hx hb dL_law_2244 (lv_at hl 1 rfl) ?_
  refine r_if_ne (tgt := 2268) hx hb ⟨by omega, by omega⟩ dL_law_2246 (by decide) (fun hne => ?_) (fun he => ?_)
  · skip
    refine lv_goto (tgt := 3331) hx hb dL_law_2268 (by decide) ?_
    refine W.widen (k := cells + 50006) (n := slots + 229018) (by omega) (by omega) ?_
    exact kk _ _ _ _ _ _ (lv_sub hl [2, 3, 4, 5, 6] rfl) hS hP hM ho (hI.same)
  · skip
    have he : kc = 0 := by omega
    refine lv_aload_n hx hb dL_law_2249 rfl (lv_at hl 5 rfl) ?_
    refine lv_iconst (v := (iI ((0 : Nat) : Int))) hx hb dL_law_2250 rfl ?_
    refine r_laldI (j := 0) X ho rfl (by decide) (by decide) dL_law_2251 ?_
    refine lv_iload hx hb dL_law_2252 (lv_at hl 0 rfl) ?_
    refine r_ifeqB (tgt := 2261) hx hb dL_law_2254 (by decide) (fun cb => ?_) (fun cb => ?_)
    · skip
      refine lv_lconst (v := 0) hx hb dL_law_2261 rfl ?_
      refine r_lcmpE X (by rw [hg2 he, ← hr he, cb]; rfl) dL_law_2262 ?_
      refine lv_if_eq (tgt := 2268) hx hb dL_law_2263 (by decide) (fun _ => ?_) (fun h => absurd rfl h)
      refine lv_goto (tgt := 3331) hx hb dL_law_2268 (by decide) ?_
      refine W.widen (k := cells + 50006) (n := slots + 229018) (by omega) (by omega) ?_
      exact kk _ _ _ _ _ _ (lv_sub hl [2, 3, 4, 5, 6] rfl) hS hP hM ho (hI.same)
    · skip
      refine lv_lconst (v := 1) hx hb dL_law_2257 rfl ?_
      refine lv_goto (tgt := 2262) hx hb dL_law_2258 (by decide) ?_
      refine r_lcmpE X (by rw [hg2 he, ← hr he, cb]; rfl) dL_law_2262 ?_
      refine lv_if_eq (tgt := 2268) hx hb dL_law_2263 (by decide) (fun _ => ?_) (fun h => absurd rfl h)
      refine lv_goto (tgt := 3331) hx hb dL_law_2268 (by decide) ?_
      refine W.widen (k := cells + 50006) (n := slots + 229018) (by omega) (by omega) ?_
      exact kk _ _ _ _ _ _ (lv_sub hl [2, 3, 4, 5, 6] rfl) hS hP hM ho (hI.same)
set_option maxHeartbeats 1000000 in
theorem lc_34 {G : fp_G} {pg : Program} {en : Env} {rR : Room} {s : State} {mi : MethodId} {ag : Array Value} {bl : List Frame} {mt : Method} {cd : Code} {H : Heap} {locs : List Loc} {cells slots : Nat} {qQ : State → Prop} {ls : Array Slot} {b L x out i k MC MS : Nat} {xs : Nat → Int32} {ad : Nat → Nat} {T : TH} {g : Nat → Int64} (X : fp_C G pg s mi ag cd cL_law "FortPlannerLaw" 9) (hR : fp_R rR 8192 104096 MC MS) (hB0 : fp_B G s.heap) (hX : va_X b L xs s s.heap) (hbl : b < s.heap.size) (hL : L ≤ 96) (hi : 4 * i + 4 ≤ L) (hA0 : fp_MA G ad) (hob : (g_s G).heap.size ≤ out) (hoa : ¬ fp_ma ad out) (hl : lv_has ls 9 [(0, .ref (b)), (1, .ref (x)), (2, .ref (ad 0)), (3, .ref (out)), (4, .int (iI ((4 * i : Nat) : Int)))]) (hS : va_S (fA fp_no s.heap.size) s.heap H locs) (hsb : s.heap.size = (g_s G).heap.size) (hc : cells + 50006 ≤ MC) (hs : slots + 229018 ≤ MS) (hP : fp_PW G x (fp_LM ad out) T H) (hM : fp_MC G ad k T H) (ho : fp_At G H out (eJ G 1 g)) (hI : fp_TI i T) (kk : ∀ (H1 : Heap) (locs1 : List Loc) (ls1 : Array Slot) (T1 : TH) (k1 : Nat) (g1 : Nat → Int64), lv_has ls1 9 [(0, .ref (b)), (1, .ref (x)), (2, .ref (ad 0)), (3, .ref (out)), (4, .int (iI ((4 * i : Nat) : Int)))] → va_S (fA fp_no s.heap.size) s.heap H1 locs1 → fp_PW G x (fp_LM ad out) T1 H1 → fp_MC G ad k1 T1 H1 → fp_At G H1 out (eJ G 1 g1) → fp_TJ (i + 1) T1 → W pg (g_l G) en rR s mi ag bl mt cd H1 locs1 (cells + 50006) (slots + 229018) qQ (F0 mi 3331 ls1 [])) : W pg (g_l G) en rR s mi ag bl mt cd H locs cells slots qQ (F0 mi 2271 ls []) := by
  obtain ⟨hx, hb, -⟩ := id X
  refine lv_aload_n hx hb dL_law_2271 rfl (lv_at hl 1 rfl) ?_
  refine lv_aload_n hx hb dL_law_2272 rfl (lv_at hl 0 rfl) ?_
  refine lv_iload hx hb dL_law_2273 (lv_at hl 4 rfl) ?_
  refine lv_iconst (v := (iI ((1 : Nat) : Int))) hx hb dL_law_2275 rfl ?_
  refine r_iaddN hx hb dL_law_2276 ?_
  refine r_scr (j := 4 * i + 1) X hX hbl hS (by omega) hL dL_law_2277 ?_
  refine lv_aload_n hx hb dL_law_2278 rfl (lv_at hl 3 rfl) ?_
  obtain ⟨kc, hkc⟩ : ∃ kc, fp_fc (T.1) (fp_xs xs (4 * i + 1)) = kc := ⟨_, rfl⟩
  refine x_callSH (cells1 := cells + 28) (slots1 := slots + 592) X hR (x0_countAbove G x (fp_LM ad out) T i out g (fp_xs xs (4 * i + 1)) hI (fp_xs_rg _ _) (Or.inr rfl) hob) q1591 q1592 q87 q1593 pd_X0_countAbove ⟨Nat.le_of_ble_eq_true rfl, Nat.le_of_ble_eq_true rfl⟩ rfl rfl (by omega) (by omega) rfl (Nat.le_of_ble_eq_true rfl) hl.1 dL_law_2279 (hB0.of hS fp_no.base) ⟨hP, ho⟩ hS (fun q h => Or.inr (by have h9 : (g_s G).heap.size ≤ q := h.1; omega)) (fun v H1 locs hp hz hk hS => ?_) (fun Ex qx cx H1 locs hp hz hk hS hcx hvx hlx => hp.elim)
  obtain ⟨g2, rfl, hg2, hP, ho⟩ := hp
  have hM := hM.keep hk (fun q hq h => h.2.elim (fun z => z (Or.inl hq)) (fun z => hoa (z ▸ hq)))
  refine r_stk (st2 := [.int (iI ((fp_fc (T.1) (fp_xs xs (4 * i + 1)) : Nat) : Int))]) rfl ?_
  have hkb : kc ≤ 2 := by rw [← hkc]; unfold fp_fc; (repeat' split) <;> omega
  rw [hkc] at hg2 ⊢
  refine lv_istore (lv' := [(5, .int (iI ((kc : Nat) : Int))), (0, .ref (b)), (1, .ref (x)), (2, .ref (ad 0)), (3, .ref (out)), (4, .int (iI ((4 * i : Nat) : Int)))]) hx hb dL_law_2282 hl (by decide) rfl (fun ls hl => ?_)
  refine lv_aload_n hx hb dL_law_2284 rfl (lv_at hl 3 rfl) ?_
  refine lv_aload_n hx hb dL_law_2285 rfl (lv_at hl 1 rfl) ?_
  refine lv_iload hx hb dL_law_2286 (lv_at hl 5 rfl) ?_
  refine lv_iconst (v := (iI ((1 : Nat) : Int))) hx hb dL_law_2288 rfl ?_
  refine r_iaddN hx hb dL_law_2289 ?_
  refine r_scr (j := 4 * i + 1) X hX hbl hS (by omega) hL dL_law_2290 ?_
  obtain ⟨fs3, hob3⟩ := hM.ob
  refine x_callV (cells1 := (cells + 28)) (slots1 := (slots + 592)) X hR (mm_countAbove G ad _ T i (fp_xs xs (4 * i + 1)) hA0 hI (fp_xs_rg _ _)) q2346 q2347 q2348 q100 q2349 ⟨rfl, pd_X4_countAbove⟩ ⟨Nat.le_of_ble_eq_true rfl, Nat.le_of_ble_eq_true rfl⟩ rfl rfl (by omega) (by omega) hob3 rfl rfl (Nat.le_of_ble_eq_true rfl) hl.1 dL_law_2291 (hB0.of hS fp_no.base) hM hS (fun q h => Or.inr (by have h9 : (g_s G).heap.size ≤ q := fp_ma.base hA0 q h; omega)) (fun v H1 locs hp hz hk hS => ?_) (fun Ex qx cx H1 locs hp hz hk hS hcx hvx hlx => hp.elim)
  obtain ⟨r, rfl, hr, hM2⟩ := hp
  have hP := hP.mo X.2.2.2.2.2 hM hA0 hz hk
  have ho := ho.kept (hk out ho.lt hoa)
  have hM := hM2
  clear hM2
  rw [hkc] at hr hM
  refine r_stk (st2 := [.int (iI (r))]) rfl ?_
  refine lv_istore (lv' := [(6, .int (iI (r))), (5, .int (iI ((kc : Nat) : Int))), (0, .ref (b)), (1, .ref (x)), (2, .ref (ad 0)), (3, .ref (out)), (4, .int (iI ((4 * i : Nat) : Int)))]) hx hb dL_law_2294 hl (by decide) rfl (fun ls hl => ?_)
  refine lv_aload_n hx hb dL_law_2296 rfl (lv_at hl 4 rfl) ?_
  obtain ⟨fs4, hob4⟩ := hM.ob
  refine x_callV (cells1 := (cells + 28)) (slots1 := (slots + 592)) X hR (mm_thrown G ad _ _ hA0) q2079 q2080 q2081 q100 q2082 ⟨rfl, pd_X4_thrown⟩ ⟨Nat.le_of_ble_eq_true rfl, Nat.le_of_ble_eq_true rfl⟩ rfl rfl (by omega) (by omega) hob4 rfl rfl (Nat.le_of_ble_eq_true rfl) hl.1 dL_law_2297 (hB0.of hS fp_no.base) hM hS (fun q h => Or.inr (by have h9 : (g_s G).heap.size ≤ q := fp_ma.base hA0 q h; omega)) (fun v H1 locs hp hz hk hS => ?_) (fun Ex qx cx H1 locs hp hz hk hS hcx hvx hlx => hp.elim)
  obtain ⟨rfl, hM2⟩ := hp
  have hP := hP.mo X.2.2.2.2.2 hM hA0 hz hk
  have ho := ho.kept (hk out ho.lt hoa)
  have hM := hM2
  clear hM2
  refine r_stk (st2 := [.int (iI ((kc : Nat) : Int))]) rfl ?_
  refine lv_iload hx hb dL_law_2300 (lv_at hl 1 rfl) ?_
  refine lv_icmp_eq (tgt := 2307) hx hb dL_law_2302 (by decide) (fun _ => ?_) (fun h => absurd rfl h)
  refine lv_iload hx hb dL_law_2307 (lv_at hl 1 rfl) ?_
  refine r_if_ne (tgt := 2324) hx hb ⟨by omega, by omega⟩ dL_law_2309 (by decide) (fun hne => ?_) (fun he => ?_)
  · skip
    refine lv_goto (tgt := 3331) hx hb dL_law_2324 (by decide) ?_
    refine W.widen (k := cells + 50006) (n := slots + 229018) (by omega) (by omega) ?_
    exact kk _ _ _ _ _ _ (lv_sub hl [2, 3, 4, 5, 6] rfl) hS hP hM ho (hI.same)
  · skip
    have he : kc = 0 := by omega
    refine lv_aload_n hx hb dL_law_2312 rfl (lv_at hl 5 rfl) ?_
    refine lv_iconst (v := (iI ((0 : Nat) : Int))) hx hb dL_law_2313 rfl ?_
    refine r_laldI (j := 0) X ho rfl (by decide) (by decide) dL_law_2314 ?_
    refine lv_iload hx hb dL_law_2315 (lv_at hl 0 rfl) ?_
    refine lv_i2l (v := (iI r).toInt64) hx hb dL_law_2317 rfl ?_
    refine r_lcmpE X (by rw [hg2 he, hr he]) dL_law_2318 ?_
    refine lv_if_eq (tgt := 2324) hx hb dL_law_2319 (by decide) (fun _ => ?_) (fun h => absurd rfl h)
    refine lv_goto (tgt := 3331) hx hb dL_law_2324 (by decide) ?_
    refine W.widen (k := cells + 50006) (n := slots + 229018) (by omega) (by omega) ?_
    exact kk _ _ _ _ _ _ (lv_sub hl [2, 3, 4, 5, 6] rfl) hS hP hM ho (hI.same)
set_option maxHeartbeats 1000000 in
theorem lc_35 {G : fp_G} {pg : Program} {en : Env} {rR : Room} {s : State} {mi : MethodId} {ag : Array Value} {bl : List Frame} {mt : Method} {cd : Code} {H : Heap} {locs : List Loc} {cells slots : Nat} {qQ : State → Prop} {ls : Array Slot} {b L x out i k MC MS : Nat} {xs : Nat → Int32} {ad : Nat → Nat} {T : TH} {g : Nat → Int64} (X : fp_C G pg s mi ag cd cL_law "FortPlannerLaw" 9) (hR : fp_R rR 8192 104096 MC MS) (hB0 : fp_B G s.heap) (hX : va_X b L xs s s.heap) (hbl : b < s.heap.size) (hL : L ≤ 96) (hi : 4 * i + 4 ≤ L) (hA0 : fp_MA G ad) (hob : (g_s G).heap.size ≤ out) (hoa : ¬ fp_ma ad out) (hl : lv_has ls 9 [(0, .ref (b)), (1, .ref (x)), (2, .ref (ad 0)), (3, .ref (out)), (4, .int (iI ((4 * i : Nat) : Int)))]) (hS : va_S (fA fp_no s.heap.size) s.heap H locs) (hsb : s.heap.size = (g_s G).heap.size) (hc : cells + 50006 ≤ MC) (hs : slots + 229018 ≤ MS) (hP : fp_PW G x (fp_LM ad out) T H) (hM : fp_MC G ad k T H) (ho : fp_At G H out (eJ G 1 g)) (hI : fp_TI i T) (kk : ∀ (H1 : Heap) (locs1 : List Loc) (ls1 : Array Slot) (T1 : TH) (k1 : Nat) (g1 : Nat → Int64), lv_has ls1 9 [(0, .ref (b)), (1, .ref (x)), (2, .ref (ad 0)), (3, .ref (out)), (4, .int (iI ((4 * i : Nat) : Int)))] → va_S (fA fp_no s.heap.size) s.heap H1 locs1 → fp_PW G x (fp_LM ad out) T1 H1 → fp_MC G ad k1 T1 H1 → fp_At G H1 out (eJ G 1 g1) → fp_TJ (i + 1) T1 → W pg (g_l G) en rR s mi ag bl mt cd H1 locs1 (cells + 50006) (slots + 229018) qQ (F0 mi 3331 ls1 [])) : W pg (g_l G) en rR s mi ag bl mt cd H locs cells slots qQ (F0 mi 2327 ls []) := by
  obtain ⟨hx, hb, -⟩ := id X
  refine lv_aload_n hx hb dL_law_2327 rfl (lv_at hl 1 rfl) ?_
  refine lv_aload_n hx hb dL_law_2328 rfl (lv_at hl 0 rfl) ?_
  refine lv_iload hx hb dL_law_2329 (lv_at hl 4 rfl) ?_
  refine lv_iconst (v := (iI ((1 : Nat) : Int))) hx hb dL_law_2331 rfl ?_
  refine r_iaddN hx hb dL_law_2332 ?_
  refine r_scr (j := 4 * i + 1) X hX hbl hS (by omega) hL dL_law_2333 ?_
  refine lv_aload_n hx hb dL_law_2334 rfl (lv_at hl 3 rfl) ?_
  obtain ⟨kc, hkc⟩ : ∃ kc, fp_cc (fp_xs xs (4 * i + 1)) = kc := ⟨_, rfl⟩
  refine x_callSH (cells1 := cells + 2) (slots1 := slots + 10) X hR (x0_height G x (fp_LM ad out) T i out g (fp_xs xs (4 * i + 1)) hI (fp_xs_rg _ _) (Or.inr rfl) hob) q1601 q1602 q87 q1603 pd_X0_height ⟨Nat.le_of_ble_eq_true rfl, Nat.le_of_ble_eq_true rfl⟩ rfl rfl (by omega) (by omega) rfl (Nat.le_of_ble_eq_true rfl) hl.1 dL_law_2335 (hB0.of hS fp_no.base) ⟨hP, ho⟩ hS (fun q h => Or.inr (by have h9 : (g_s G).heap.size ≤ q := h.1; omega)) (fun v H1 locs hp hz hk hS => ?_) (fun Ex qx cx H1 locs hp hz hk hS hcx hvx hlx => hp.elim)
  obtain ⟨g2, rfl, hg2, hP, ho⟩ := hp
  have hM := hM.keep hk (fun q hq h => h.2.elim (fun z => z (Or.inl hq)) (fun z => hoa (z ▸ hq)))
  refine r_stk (st2 := [.int (iI ((fp_cc (fp_xs xs (4 * i + 1)) : Nat) : Int))]) rfl ?_
  have hkb : kc ≤ 2 := by rw [← hkc]; unfold fp_cc; (repeat' split) <;> omega
  rw [hkc] at hg2 ⊢
  refine lv_istore (lv' := [(5, .int (iI ((kc : Nat) : Int))), (0, .ref (b)), (1, .ref (x)), (2, .ref (ad 0)), (3, .ref (out)), (4, .int (iI ((4 * i : Nat) : Int)))]) hx hb dL_law_2338 hl (by decide) rfl (fun ls hl => ?_)
  refine lv_aload_n hx hb dL_law_2340 rfl (lv_at hl 3 rfl) ?_
  refine lv_aload_n hx hb dL_law_2341 rfl (lv_at hl 1 rfl) ?_
  refine lv_iload hx hb dL_law_2342 (lv_at hl 5 rfl) ?_
  refine lv_iconst (v := (iI ((1 : Nat) : Int))) hx hb dL_law_2344 rfl ?_
  refine r_iaddN hx hb dL_law_2345 ?_
  refine r_scr (j := 4 * i + 1) X hX hbl hS (by omega) hL dL_law_2346 ?_
  obtain ⟨fs3, hob3⟩ := hM.ob
  refine x_callV (cells1 := (cells + 2)) (slots1 := (slots + 10)) X hR (mm_height G ad _ T i (fp_xs xs (4 * i + 1)) hA0 hI (fp_xs_rg _ _)) q2350 q2351 q2352 q100 q2353 ⟨rfl, pd_X4_height⟩ ⟨Nat.le_of_ble_eq_true rfl, Nat.le_of_ble_eq_true rfl⟩ rfl rfl (by omega) (by omega) hob3 rfl rfl (Nat.le_of_ble_eq_true rfl) hl.1 dL_law_2347 (hB0.of hS fp_no.base) hM hS (fun q h => Or.inr (by have h9 : (g_s G).heap.size ≤ q := fp_ma.base hA0 q h; omega)) (fun v H1 locs hp hz hk hS => ?_) (fun Ex qx cx H1 locs hp hz hk hS hcx hvx hlx => hp.elim)
  obtain ⟨r, rfl, hr, hM2⟩ := hp
  have hP := hP.mo X.2.2.2.2.2 hM hA0 hz hk
  have ho := ho.kept (hk out ho.lt hoa)
  have hM := hM2
  clear hM2
  rw [hkc] at hr hM
  refine r_stk (st2 := [.int (iI (r))]) rfl ?_
  refine lv_istore (lv' := [(6, .int (iI (r))), (5, .int (iI ((kc : Nat) : Int))), (0, .ref (b)), (1, .ref (x)), (2, .ref (ad 0)), (3, .ref (out)), (4, .int (iI ((4 * i : Nat) : Int)))]) hx hb dL_law_2350 hl (by decide) rfl (fun ls hl => ?_)
  refine lv_aload_n hx hb dL_law_2352 rfl (lv_at hl 4 rfl) ?_
  obtain ⟨fs4, hob4⟩ := hM.ob
  refine x_callV (cells1 := (cells + 2)) (slots1 := (slots + 10)) X hR (mm_thrown G ad _ _ hA0) q2079 q2080 q2081 q100 q2082 ⟨rfl, pd_X4_thrown⟩ ⟨Nat.le_of_ble_eq_true rfl, Nat.le_of_ble_eq_true rfl⟩ rfl rfl (by omega) (by omega) hob4 rfl rfl (Nat.le_of_ble_eq_true rfl) hl.1 dL_law_2353 (hB0.of hS fp_no.base) hM hS (fun q h => Or.inr (by have h9 : (g_s G).heap.size ≤ q := fp_ma.base hA0 q h; omega)) (fun v H1 locs hp hz hk hS => ?_) (fun Ex qx cx H1 locs hp hz hk hS hcx hvx hlx => hp.elim)
  obtain ⟨rfl, hM2⟩ := hp
  have hP := hP.mo X.2.2.2.2.2 hM hA0 hz hk
  have ho := ho.kept (hk out ho.lt hoa)
  have hM := hM2
  clear hM2
  refine r_stk (st2 := [.int (iI ((kc : Nat) : Int))]) rfl ?_
  refine lv_iload hx hb dL_law_2356 (lv_at hl 1 rfl) ?_
  refine lv_icmp_eq (tgt := 2363) hx hb dL_law_2358 (by decide) (fun _ => ?_) (fun h => absurd rfl h)
  refine lv_iload hx hb dL_law_2363 (lv_at hl 1 rfl) ?_
  refine r_if_ne (tgt := 2380) hx hb ⟨by omega, by omega⟩ dL_law_2365 (by decide) (fun hne => ?_) (fun he => ?_)
  · skip
    refine lv_goto (tgt := 3331) hx hb dL_law_2380 (by decide) ?_
    refine W.widen (k := cells + 50006) (n := slots + 229018) (by omega) (by omega) ?_
    exact kk _ _ _ _ _ _ (lv_sub hl [2, 3, 4, 5, 6] rfl) hS hP hM ho (hI.same)
  · skip
    have he : kc = 0 := by omega
    refine lv_aload_n hx hb dL_law_2368 rfl (lv_at hl 5 rfl) ?_
    refine lv_iconst (v := (iI ((0 : Nat) : Int))) hx hb dL_law_2369 rfl ?_
    refine r_laldI (j := 0) X ho rfl (by decide) (by decide) dL_law_2370 ?_
    refine lv_iload hx hb dL_law_2371 (lv_at hl 0 rfl) ?_
    refine lv_i2l (v := (iI r).toInt64) hx hb dL_law_2373 rfl ?_
    refine r_lcmpE X (by rw [hg2 he, hr he]) dL_law_2374 ?_
    refine lv_if_eq (tgt := 2380) hx hb dL_law_2375 (by decide) (fun _ => ?_) (fun h => absurd rfl h)
    refine lv_goto (tgt := 3331) hx hb dL_law_2380 (by decide) ?_
    refine W.widen (k := cells + 50006) (n := slots + 229018) (by omega) (by omega) ?_
    exact kk _ _ _ _ _ _ (lv_sub hl [2, 3, 4, 5, 6] rfl) hS hP hM ho (hI.same)
set_option maxHeartbeats 1000000 in
theorem lc_36 {G : fp_G} {pg : Program} {en : Env} {rR : Room} {s : State} {mi : MethodId} {ag : Array Value} {bl : List Frame} {mt : Method} {cd : Code} {H : Heap} {locs : List Loc} {cells slots : Nat} {qQ : State → Prop} {ls : Array Slot} {b L x out i k MC MS : Nat} {xs : Nat → Int32} {ad : Nat → Nat} {T : TH} {g : Nat → Int64} (X : fp_C G pg s mi ag cd cL_law "FortPlannerLaw" 9) (hR : fp_R rR 8192 104096 MC MS) (hB0 : fp_B G s.heap) (hX : va_X b L xs s s.heap) (hbl : b < s.heap.size) (hL : L ≤ 96) (hi : 4 * i + 4 ≤ L) (hA0 : fp_MA G ad) (hob : (g_s G).heap.size ≤ out) (hoa : ¬ fp_ma ad out) (hl : lv_has ls 9 [(0, .ref (b)), (1, .ref (x)), (2, .ref (ad 0)), (3, .ref (out)), (4, .int (iI ((4 * i : Nat) : Int)))]) (hS : va_S (fA fp_no s.heap.size) s.heap H locs) (hsb : s.heap.size = (g_s G).heap.size) (hc : cells + 50006 ≤ MC) (hs : slots + 229018 ≤ MS) (hP : fp_PW G x (fp_LM ad out) T H) (hM : fp_MC G ad k T H) (ho : fp_At G H out (eJ G 1 g)) (hI : fp_TI i T) (kk : ∀ (H1 : Heap) (locs1 : List Loc) (ls1 : Array Slot) (T1 : TH) (k1 : Nat) (g1 : Nat → Int64), lv_has ls1 9 [(0, .ref (b)), (1, .ref (x)), (2, .ref (ad 0)), (3, .ref (out)), (4, .int (iI ((4 * i : Nat) : Int)))] → va_S (fA fp_no s.heap.size) s.heap H1 locs1 → fp_PW G x (fp_LM ad out) T1 H1 → fp_MC G ad k1 T1 H1 → fp_At G H1 out (eJ G 1 g1) → fp_TJ (i + 1) T1 → W pg (g_l G) en rR s mi ag bl mt cd H1 locs1 (cells + 50006) (slots + 229018) qQ (F0 mi 3331 ls1 [])) : W pg (g_l G) en rR s mi ag bl mt cd H locs cells slots qQ (F0 mi 2383 ls []) := by
  obtain ⟨hx, hb, -⟩ := id X
  refine lv_aload_n hx hb dL_law_2383 rfl (lv_at hl 1 rfl) ?_
  refine lv_aload_n hx hb dL_law_2384 rfl (lv_at hl 0 rfl) ?_
  refine lv_iload hx hb dL_law_2385 (lv_at hl 4 rfl) ?_
  refine lv_iconst (v := (iI ((1 : Nat) : Int))) hx hb dL_law_2387 rfl ?_
  refine r_iaddN hx hb dL_law_2388 ?_
  refine r_scr (j := 4 * i + 1) X hX hbl hS (by omega) hL dL_law_2389 ?_
  refine lv_aload_n hx hb dL_law_2390 rfl (lv_at hl 3 rfl) ?_
  obtain ⟨kc, hkc⟩ : ∃ kc, fp_cc (fp_xs xs (4 * i + 1)) = kc := ⟨_, rfl⟩
  refine x_callSH (cells1 := cells + 133) (slots1 := slots + 448) X hR (x0_holes G x (fp_LM ad out) T i out g (fp_xs xs (4 * i + 1)) hI (fp_xs_rg _ _) (Or.inr rfl) hob) q1608 q1609 q87 q1610 pd_X0_holes ⟨Nat.le_of_ble_eq_true rfl, Nat.le_of_ble_eq_true rfl⟩ rfl rfl (by omega) (by omega) rfl (Nat.le_of_ble_eq_true rfl) hl.1 dL_law_2391 (hB0.of hS fp_no.base) ⟨hP, ho⟩ hS (fun q h => Or.inr (by have h9 : (g_s G).heap.size ≤ q := h.1; omega)) (fun v H1 locs hp hz hk hS => ?_) (fun Ex qx cx H1 locs hp hz hk hS hcx hvx hlx => hp.elim)
  obtain ⟨g2, rfl, hg2, hP, ho⟩ := hp
  have hM := hM.keep hk (fun q hq h => h.2.elim (fun z => z (Or.inl hq)) (fun z => hoa (z ▸ hq)))
  refine r_stk (st2 := [.int (iI ((fp_cc (fp_xs xs (4 * i + 1)) : Nat) : Int))]) rfl ?_
  have hkb : kc ≤ 2 := by rw [← hkc]; unfold fp_cc; (repeat' split) <;> omega
  rw [hkc] at hg2 ⊢
  refine lv_istore (lv' := [(5, .int (iI ((kc : Nat) : Int))), (0, .ref (b)), (1, .ref (x)), (2, .ref (ad 0)), (3, .ref (out)), (4, .int (iI ((4 * i : Nat) : Int)))]) hx hb dL_law_2394 hl (by decide) rfl (fun ls hl => ?_)
  refine lv_aload_n hx hb dL_law_2396 rfl (lv_at hl 3 rfl) ?_
  refine lv_aload_n hx hb dL_law_2397 rfl (lv_at hl 1 rfl) ?_
  refine lv_iload hx hb dL_law_2398 (lv_at hl 5 rfl) ?_
  refine lv_iconst (v := (iI ((1 : Nat) : Int))) hx hb dL_law_2400 rfl ?_
  refine r_iaddN hx hb dL_law_2401 ?_
  refine r_scr (j := 4 * i + 1) X hX hbl hS (by omega) hL dL_law_2402 ?_
  obtain ⟨fs3, hob3⟩ := hM.ob
  refine x_callV (cells1 := (cells + 133)) (slots1 := (slots + 448)) X hR (mm_holes G ad _ T i (fp_xs xs (4 * i + 1)) hA0 hI (fp_xs_rg _ _)) q2354 q2355 q2356 q100 q2357 ⟨rfl, pd_X4_holes⟩ ⟨Nat.le_of_ble_eq_true rfl, Nat.le_of_ble_eq_true rfl⟩ rfl rfl (by omega) (by omega) hob3 rfl rfl (Nat.le_of_ble_eq_true rfl) hl.1 dL_law_2403 (hB0.of hS fp_no.base) hM hS (fun q h => Or.inr (by have h9 : (g_s G).heap.size ≤ q := fp_ma.base hA0 q h; omega)) (fun v H1 locs hp hz hk hS => ?_) (fun Ex qx cx H1 locs hp hz hk hS hcx hvx hlx => hp.elim)
  obtain ⟨r, rfl, hr, hM2⟩ := hp
  have hP := hP.mo X.2.2.2.2.2 hM hA0 hz hk
  have ho := ho.kept (hk out ho.lt hoa)
  have hM := hM2
  clear hM2
  rw [hkc] at hr hM
  refine r_stk (st2 := [.int (iI (r))]) rfl ?_
  refine lv_istore (lv' := [(6, .int (iI (r))), (5, .int (iI ((kc : Nat) : Int))), (0, .ref (b)), (1, .ref (x)), (2, .ref (ad 0)), (3, .ref (out)), (4, .int (iI ((4 * i : Nat) : Int)))]) hx hb dL_law_2406 hl (by decide) rfl (fun ls hl => ?_)
  refine lv_aload_n hx hb dL_law_2408 rfl (lv_at hl 4 rfl) ?_
  obtain ⟨fs4, hob4⟩ := hM.ob
  refine x_callV (cells1 := (cells + 133)) (slots1 := (slots + 448)) X hR (mm_thrown G ad _ _ hA0) q2079 q2080 q2081 q100 q2082 ⟨rfl, pd_X4_thrown⟩ ⟨Nat.le_of_ble_eq_true rfl, Nat.le_of_ble_eq_true rfl⟩ rfl rfl (by omega) (by omega) hob4 rfl rfl (Nat.le_of_ble_eq_true rfl) hl.1 dL_law_2409 (hB0.of hS fp_no.base) hM hS (fun q h => Or.inr (by have h9 : (g_s G).heap.size ≤ q := fp_ma.base hA0 q h; omega)) (fun v H1 locs hp hz hk hS => ?_) (fun Ex qx cx H1 locs hp hz hk hS hcx hvx hlx => hp.elim)
  obtain ⟨rfl, hM2⟩ := hp
  have hP := hP.mo X.2.2.2.2.2 hM hA0 hz hk
  have ho := ho.kept (hk out ho.lt hoa)
  have hM := hM2
  clear hM2
  refine r_stk (st2 := [.int (iI ((kc : Nat) : Int))]) rfl ?_
  refine lv_iload hx hb dL_law_2412 (lv_at hl 1 rfl) ?_
  refine lv_icmp_eq (tgt := 2419) hx hb dL_law_2414 (by decide) (fun _ => ?_) (fun h => absurd rfl h)
  refine lv_iload hx hb dL_law_2419 (lv_at hl 1 rfl) ?_
  refine r_if_ne (tgt := 2436) hx hb ⟨by omega, by omega⟩ dL_law_2421 (by decide) (fun hne => ?_) (fun he => ?_)
  · skip
    refine lv_goto (tgt := 3331) hx hb dL_law_2436 (by decide) ?_
    refine W.widen (k := cells + 50006) (n := slots + 229018) (by omega) (by omega) ?_
    exact kk _ _ _ _ _ _ (lv_sub hl [2, 3, 4, 5, 6] rfl) hS hP hM ho (hI.same)
  · skip
    have he : kc = 0 := by omega
    refine lv_aload_n hx hb dL_law_2424 rfl (lv_at hl 5 rfl) ?_
    refine lv_iconst (v := (iI ((0 : Nat) : Int))) hx hb dL_law_2425 rfl ?_
    refine r_laldI (j := 0) X ho rfl (by decide) (by decide) dL_law_2426 ?_
    refine lv_iload hx hb dL_law_2427 (lv_at hl 0 rfl) ?_
    refine lv_i2l (v := (iI r).toInt64) hx hb dL_law_2429 rfl ?_
    refine r_lcmpE X (by rw [hg2 he, hr he]) dL_law_2430 ?_
    refine lv_if_eq (tgt := 2436) hx hb dL_law_2431 (by decide) (fun _ => ?_) (fun h => absurd rfl h)
    refine lv_goto (tgt := 3331) hx hb dL_law_2436 (by decide) ?_
    refine W.widen (k := cells + 50006) (n := slots + 229018) (by omega) (by omega) ?_
    exact kk _ _ _ _ _ _ (lv_sub hl [2, 3, 4, 5, 6] rfl) hS hP hM ho (hI.same)
set_option maxHeartbeats 1000000 in
theorem lc_37 {G : fp_G} {pg : Program} {en : Env} {rR : Room} {s : State} {mi : MethodId} {ag : Array Value} {bl : List Frame} {mt : Method} {cd : Code} {H : Heap} {locs : List Loc} {cells slots : Nat} {qQ : State → Prop} {ls : Array Slot} {b L x out i k MC MS : Nat} {xs : Nat → Int32} {ad : Nat → Nat} {T : TH} {g : Nat → Int64} (X : fp_C G pg s mi ag cd cL_law "FortPlannerLaw" 9) (hR : fp_R rR 8192 104096 MC MS) (hB0 : fp_B G s.heap) (hX : va_X b L xs s s.heap) (hbl : b < s.heap.size) (hL : L ≤ 96) (hi : 4 * i + 4 ≤ L) (hA0 : fp_MA G ad) (hob : (g_s G).heap.size ≤ out) (hoa : ¬ fp_ma ad out) (hl : lv_has ls 9 [(0, .ref (b)), (1, .ref (x)), (2, .ref (ad 0)), (3, .ref (out)), (4, .int (iI ((4 * i : Nat) : Int)))]) (hS : va_S (fA fp_no s.heap.size) s.heap H locs) (hsb : s.heap.size = (g_s G).heap.size) (hc : cells + 50006 ≤ MC) (hs : slots + 229018 ≤ MS) (hP : fp_PW G x (fp_LM ad out) T H) (hM : fp_MC G ad k T H) (ho : fp_At G H out (eJ G 1 g)) (hI : fp_TI i T) (kk : ∀ (H1 : Heap) (locs1 : List Loc) (ls1 : Array Slot) (T1 : TH) (k1 : Nat) (g1 : Nat → Int64), lv_has ls1 9 [(0, .ref (b)), (1, .ref (x)), (2, .ref (ad 0)), (3, .ref (out)), (4, .int (iI ((4 * i : Nat) : Int)))] → va_S (fA fp_no s.heap.size) s.heap H1 locs1 → fp_PW G x (fp_LM ad out) T1 H1 → fp_MC G ad k1 T1 H1 → fp_At G H1 out (eJ G 1 g1) → fp_TJ (i + 1) T1 → W pg (g_l G) en rR s mi ag bl mt cd H1 locs1 (cells + 50006) (slots + 229018) qQ (F0 mi 3331 ls1 [])) : W pg (g_l G) en rR s mi ag bl mt cd H locs cells slots qQ (F0 mi 2439 ls []) := by
  obtain ⟨hx, hb, -⟩ := id X
  refine lv_aload_n hx hb dL_law_2439 rfl (lv_at hl 1 rfl) ?_
  refine lv_aload_n hx hb dL_law_2440 rfl (lv_at hl 0 rfl) ?_
  refine lv_iload hx hb dL_law_2441 (lv_at hl 4 rfl) ?_
  refine lv_iconst (v := (iI ((1 : Nat) : Int))) hx hb dL_law_2443 rfl ?_
  refine r_iaddN hx hb dL_law_2444 ?_
  refine r_scr (j := 4 * i + 1) X hX hbl hS (by omega) hL dL_law_2445 ?_
  refine lv_aload_n hx hb dL_law_2446 rfl (lv_at hl 3 rfl) ?_
  obtain ⟨kc, hkc⟩ : ∃ kc, fp_cc (fp_xs xs (4 * i + 1)) = kc := ⟨_, rfl⟩
  refine x_callSH (cells1 := cells + 4) (slots1 := slots + 15) X hR (x0_holesByHeights G x (fp_LM ad out) T i out g (fp_xs xs (4 * i + 1)) hI (fp_xs_rg _ _) (Or.inr rfl) hob) q1615 q1616 q87 q1617 pd_X0_holesByHeights ⟨Nat.le_of_ble_eq_true rfl, Nat.le_of_ble_eq_true rfl⟩ rfl rfl (by omega) (by omega) rfl (Nat.le_of_ble_eq_true rfl) hl.1 dL_law_2447 (hB0.of hS fp_no.base) ⟨hP, ho⟩ hS (fun q h => Or.inr (by have h9 : (g_s G).heap.size ≤ q := h.1; omega)) (fun v H1 locs hp hz hk hS => ?_) (fun Ex qx cx H1 locs hp hz hk hS hcx hvx hlx => hp.elim)
  obtain ⟨g2, rfl, hg2, hP, ho⟩ := hp
  have hM := hM.keep hk (fun q hq h => h.2.elim (fun z => z (Or.inl hq)) (fun z => hoa (z ▸ hq)))
  refine r_stk (st2 := [.int (iI ((fp_cc (fp_xs xs (4 * i + 1)) : Nat) : Int))]) rfl ?_
  have hkb : kc ≤ 2 := by rw [← hkc]; unfold fp_cc; (repeat' split) <;> omega
  rw [hkc] at hg2 ⊢
  refine lv_istore (lv' := [(5, .int (iI ((kc : Nat) : Int))), (0, .ref (b)), (1, .ref (x)), (2, .ref (ad 0)), (3, .ref (out)), (4, .int (iI ((4 * i : Nat) : Int)))]) hx hb dL_law_2450 hl (by decide) rfl (fun ls hl => ?_)
  refine lv_aload_n hx hb dL_law_2452 rfl (lv_at hl 3 rfl) ?_
  refine lv_aload_n hx hb dL_law_2453 rfl (lv_at hl 1 rfl) ?_
  refine lv_iload hx hb dL_law_2454 (lv_at hl 5 rfl) ?_
  refine lv_iconst (v := (iI ((1 : Nat) : Int))) hx hb dL_law_2456 rfl ?_
  refine r_iaddN hx hb dL_law_2457 ?_
  refine r_scr (j := 4 * i + 1) X hX hbl hS (by omega) hL dL_law_2458 ?_
  obtain ⟨fs3, hob3⟩ := hM.ob
  refine x_callV (cells1 := (cells + 4)) (slots1 := (slots + 15)) X hR (mm_holesByHeights G ad _ T i (fp_xs xs (4 * i + 1)) hA0 hI (fp_xs_rg _ _)) q2358 q2359 q2360 q100 q2361 ⟨rfl, pd_X4_holesByHeights⟩ ⟨Nat.le_of_ble_eq_true rfl, Nat.le_of_ble_eq_true rfl⟩ rfl rfl (by omega) (by omega) hob3 rfl rfl (Nat.le_of_ble_eq_true rfl) hl.1 dL_law_2459 (hB0.of hS fp_no.base) hM hS (fun q h => Or.inr (by have h9 : (g_s G).heap.size ≤ q := fp_ma.base hA0 q h; omega)) (fun v H1 locs hp hz hk hS => ?_) (fun Ex qx cx H1 locs hp hz hk hS hcx hvx hlx => hp.elim)
  obtain ⟨r, rfl, hr, hM2⟩ := hp
  have hP := hP.mo X.2.2.2.2.2 hM hA0 hz hk
  have ho := ho.kept (hk out ho.lt hoa)
  have hM := hM2
  clear hM2
  rw [hkc] at hr hM
  refine r_stk (st2 := [.int (iI (r))]) rfl ?_
  refine lv_istore (lv' := [(6, .int (iI (r))), (5, .int (iI ((kc : Nat) : Int))), (0, .ref (b)), (1, .ref (x)), (2, .ref (ad 0)), (3, .ref (out)), (4, .int (iI ((4 * i : Nat) : Int)))]) hx hb dL_law_2462 hl (by decide) rfl (fun ls hl => ?_)
  refine lv_aload_n hx hb dL_law_2464 rfl (lv_at hl 4 rfl) ?_
  obtain ⟨fs4, hob4⟩ := hM.ob
  refine x_callV (cells1 := (cells + 4)) (slots1 := (slots + 15)) X hR (mm_thrown G ad _ _ hA0) q2079 q2080 q2081 q100 q2082 ⟨rfl, pd_X4_thrown⟩ ⟨Nat.le_of_ble_eq_true rfl, Nat.le_of_ble_eq_true rfl⟩ rfl rfl (by omega) (by omega) hob4 rfl rfl (Nat.le_of_ble_eq_true rfl) hl.1 dL_law_2465 (hB0.of hS fp_no.base) hM hS (fun q h => Or.inr (by have h9 : (g_s G).heap.size ≤ q := fp_ma.base hA0 q h; omega)) (fun v H1 locs hp hz hk hS => ?_) (fun Ex qx cx H1 locs hp hz hk hS hcx hvx hlx => hp.elim)
  obtain ⟨rfl, hM2⟩ := hp
  have hP := hP.mo X.2.2.2.2.2 hM hA0 hz hk
  have ho := ho.kept (hk out ho.lt hoa)
  have hM := hM2
  clear hM2
  refine r_stk (st2 := [.int (iI ((kc : Nat) : Int))]) rfl ?_
  refine lv_iload hx hb dL_law_2468 (lv_at hl 1 rfl) ?_
  refine lv_icmp_eq (tgt := 2475) hx hb dL_law_2470 (by decide) (fun _ => ?_) (fun h => absurd rfl h)
  refine lv_iload hx hb dL_law_2475 (lv_at hl 1 rfl) ?_
  refine r_if_ne (tgt := 2492) hx hb ⟨by omega, by omega⟩ dL_law_2477 (by decide) (fun hne => ?_) (fun he => ?_)
  · skip
    refine lv_goto (tgt := 3331) hx hb dL_law_2492 (by decide) ?_
    refine W.widen (k := cells + 50006) (n := slots + 229018) (by omega) (by omega) ?_
    exact kk _ _ _ _ _ _ (lv_sub hl [2, 3, 4, 5, 6] rfl) hS hP hM ho (hI.same)
  · skip
    have he : kc = 0 := by omega
    refine lv_aload_n hx hb dL_law_2480 rfl (lv_at hl 5 rfl) ?_
    refine lv_iconst (v := (iI ((0 : Nat) : Int))) hx hb dL_law_2481 rfl ?_
    refine r_laldI (j := 0) X ho rfl (by decide) (by decide) dL_law_2482 ?_
    refine lv_iload hx hb dL_law_2483 (lv_at hl 0 rfl) ?_
    refine lv_i2l (v := (iI r).toInt64) hx hb dL_law_2485 rfl ?_
    refine r_lcmpE X (by rw [hg2 he, hr he]) dL_law_2486 ?_
    refine lv_if_eq (tgt := 2492) hx hb dL_law_2487 (by decide) (fun _ => ?_) (fun h => absurd rfl h)
    refine lv_goto (tgt := 3331) hx hb dL_law_2492 (by decide) ?_
    refine W.widen (k := cells + 50006) (n := slots + 229018) (by omega) (by omega) ?_
    exact kk _ _ _ _ _ _ (lv_sub hl [2, 3, 4, 5, 6] rfl) hS hP hM ho (hI.same)
set_option maxHeartbeats 1000000 in
theorem lc_38 {G : fp_G} {pg : Program} {en : Env} {rR : Room} {s : State} {mi : MethodId} {ag : Array Value} {bl : List Frame} {mt : Method} {cd : Code} {H : Heap} {locs : List Loc} {cells slots : Nat} {qQ : State → Prop} {ls : Array Slot} {b L x out i k MC MS : Nat} {xs : Nat → Int32} {ad : Nat → Nat} {T : TH} {g : Nat → Int64} (X : fp_C G pg s mi ag cd cL_law "FortPlannerLaw" 9) (hR : fp_R rR 8192 104096 MC MS) (hB0 : fp_B G s.heap) (hX : va_X b L xs s s.heap) (hbl : b < s.heap.size) (hL : L ≤ 96) (hi : 4 * i + 4 ≤ L) (hA0 : fp_MA G ad) (hob : (g_s G).heap.size ≤ out) (hoa : ¬ fp_ma ad out) (hl : lv_has ls 9 [(0, .ref (b)), (1, .ref (x)), (2, .ref (ad 0)), (3, .ref (out)), (4, .int (iI ((4 * i : Nat) : Int)))]) (hS : va_S (fA fp_no s.heap.size) s.heap H locs) (hsb : s.heap.size = (g_s G).heap.size) (hc : cells + 50006 ≤ MC) (hs : slots + 229018 ≤ MS) (hP : fp_PW G x (fp_LM ad out) T H) (hM : fp_MC G ad k T H) (ho : fp_At G H out (eJ G 1 g)) (hI : fp_TI i T) (kk : ∀ (H1 : Heap) (locs1 : List Loc) (ls1 : Array Slot) (T1 : TH) (k1 : Nat) (g1 : Nat → Int64), lv_has ls1 9 [(0, .ref (b)), (1, .ref (x)), (2, .ref (ad 0)), (3, .ref (out)), (4, .int (iI ((4 * i : Nat) : Int)))] → va_S (fA fp_no s.heap.size) s.heap H1 locs1 → fp_PW G x (fp_LM ad out) T1 H1 → fp_MC G ad k1 T1 H1 → fp_At G H1 out (eJ G 1 g1) → fp_TJ (i + 1) T1 → W pg (g_l G) en rR s mi ag bl mt cd H1 locs1 (cells + 50006) (slots + 229018) qQ (F0 mi 3331 ls1 [])) : W pg (g_l G) en rR s mi ag bl mt cd H locs cells slots qQ (F0 mi 2495 ls []) := by
  obtain ⟨hx, hb, -⟩ := id X
  refine lv_aload_n hx hb dL_law_2495 rfl (lv_at hl 1 rfl) ?_
  obtain ⟨fs2, hob2⟩ := hP.ob
  refine x_callV (cells1 := cells + 22) (slots1 := slots + 88) X hR (w_steps G x (fp_LM ad out) T i hI) q267 q268 q269 q88 q270 ⟨rfl, pd_X1_steps⟩ ⟨Nat.le_of_ble_eq_true rfl, Nat.le_of_ble_eq_true rfl⟩ rfl rfl (by omega) (by omega) hob2 rfl rfl (Nat.le_of_ble_eq_true rfl) hl.1 dL_law_2496 (hB0.of hS fp_no.base) hP hS (fun q h => Or.inr (by have h9 : (g_s G).heap.size ≤ q := h.1; omega)) (fun v H1 locs hp hz hk hS => ?_) (fun Ex qx cx H1 locs hp hz hk hS hcx hvx hlx => hp.elim)
  obtain ⟨rfl, hP⟩ := hp
  have hM := hM.keep hk (fun q hq h => h.2 (Or.inl hq))
  have ho := ho.kept (hk out ho.lt (fun h => h.2 (Or.inr rfl)))
  refine r_stk (st2 := [.int (iI ((fp_steps (T.1) : Nat) : Int))]) rfl ?_
  refine lv_aload_n hx hb dL_law_2499 rfl (lv_at hl 2 rfl) ?_
  obtain ⟨fs3, hob3⟩ := hM.ob
  refine x_callV (cells1 := (cells + 22)) (slots1 := (slots + 88)) X hR (mm_steps G ad _ T i hA0 hI) q2363 q2364 q2365 q100 q2366 ⟨rfl, pd_X4_steps⟩ ⟨Nat.le_of_ble_eq_true rfl, Nat.le_of_ble_eq_true rfl⟩ rfl rfl (by omega) (by omega) hob3 rfl rfl (Nat.le_of_ble_eq_true rfl) hl.1 dL_law_2500 (hB0.of hS fp_no.base) hM hS (fun q h => Or.inr (by have h9 : (g_s G).heap.size ≤ q := fp_ma.base hA0 q h; omega)) (fun v H1 locs hp hz hk hS => ?_) (fun Ex qx cx H1 locs hp hz hk hS hcx hvx hlx => hp.elim)
  obtain ⟨rfl, hM2⟩ := hp
  have hP := hP.mo X.2.2.2.2.2 hM hA0 hz hk
  have ho := ho.kept (hk out ho.lt hoa)
  have hM := hM2
  clear hM2
  refine r_stk (st2 := [.int (iI ((fp_steps (T.1) : Nat) : Int)), .int (iI ((fp_steps (T.1) : Nat) : Int))]) rfl ?_
  refine lv_icmp_eq (tgt := 3331) hx hb dL_law_2503 (by decide) (fun _ => ?_) (fun h => absurd rfl h)
  refine W.widen (k := cells + 50006) (n := slots + 229018) (by omega) (by omega) ?_
  exact kk _ _ _ _ _ _ hl hS hP hM ho (hI.same)
set_option maxHeartbeats 1000000 in
theorem lc_39 {G : fp_G} {pg : Program} {en : Env} {rR : Room} {s : State} {mi : MethodId} {ag : Array Value} {bl : List Frame} {mt : Method} {cd : Code} {H : Heap} {locs : List Loc} {cells slots : Nat} {qQ : State → Prop} {ls : Array Slot} {b L x out i k MC MS : Nat} {xs : Nat → Int32} {ad : Nat → Nat} {T : TH} {g : Nat → Int64} (X : fp_C G pg s mi ag cd cL_law "FortPlannerLaw" 9) (hR : fp_R rR 8192 104096 MC MS) (hB0 : fp_B G s.heap) (hX : va_X b L xs s s.heap) (hbl : b < s.heap.size) (hL : L ≤ 96) (hi : 4 * i + 4 ≤ L) (hA0 : fp_MA G ad) (hob : (g_s G).heap.size ≤ out) (hoa : ¬ fp_ma ad out) (hl : lv_has ls 9 [(0, .ref (b)), (1, .ref (x)), (2, .ref (ad 0)), (3, .ref (out)), (4, .int (iI ((4 * i : Nat) : Int)))]) (hS : va_S (fA fp_no s.heap.size) s.heap H locs) (hsb : s.heap.size = (g_s G).heap.size) (hc : cells + 50006 ≤ MC) (hs : slots + 229018 ≤ MS) (hP : fp_PW G x (fp_LM ad out) T H) (hM : fp_MC G ad k T H) (ho : fp_At G H out (eJ G 1 g)) (hI : fp_TI i T) (kk : ∀ (H1 : Heap) (locs1 : List Loc) (ls1 : Array Slot) (T1 : TH) (k1 : Nat) (g1 : Nat → Int64), lv_has ls1 9 [(0, .ref (b)), (1, .ref (x)), (2, .ref (ad 0)), (3, .ref (out)), (4, .int (iI ((4 * i : Nat) : Int)))] → va_S (fA fp_no s.heap.size) s.heap H1 locs1 → fp_PW G x (fp_LM ad out) T1 H1 → fp_MC G ad k1 T1 H1 → fp_At G H1 out (eJ G 1 g1) → fp_TJ (i + 1) T1 → W pg (g_l G) en rR s mi ag bl mt cd H1 locs1 (cells + 50006) (slots + 229018) qQ (F0 mi 3331 ls1 [])) : W pg (g_l G) en rR s mi ag bl mt cd H locs cells slots qQ (F0 mi 2508 ls []) := by
  obtain ⟨hx, hb, -⟩ := id X
  refine lv_aload_n hx hb dL_law_2508 rfl (lv_at hl 1 rfl) ?_
  obtain ⟨fs2, hob2⟩ := hP.ob
  refine x_callV (cells1 := cells + 22) (slots1 := slots + 88) X hR (w_highestColumn G x (fp_LM ad out) T i hI) q427 q428 q429 q88 q430 ⟨rfl, pd_X1_highestColumn⟩ ⟨Nat.le_of_ble_eq_true rfl, Nat.le_of_ble_eq_true rfl⟩ rfl rfl (by omega) (by omega) hob2 rfl rfl (Nat.le_of_ble_eq_true rfl) hl.1 dL_law_2509 (hB0.of hS fp_no.base) hP hS (fun q h => Or.inr (by have h9 : (g_s G).heap.size ≤ q := h.1; omega)) (fun v H1 locs hp hz hk hS => ?_) (fun Ex qx cx H1 locs hp hz hk hS hcx hvx hlx => hp.elim)
  obtain ⟨rfl, hP⟩ := hp
  have hM := hM.keep hk (fun q hq h => h.2 (Or.inl hq))
  have ho := ho.kept (hk out ho.lt (fun h => h.2 (Or.inr rfl)))
  refine r_stk (st2 := [.int (iI ((fp_hic (T.1) : Nat) : Int))]) rfl ?_
  refine lv_aload_n hx hb dL_law_2512 rfl (lv_at hl 2 rfl) ?_
  obtain ⟨fs3, hob3⟩ := hM.ob
  refine x_callV (cells1 := (cells + 22)) (slots1 := (slots + 88)) X hR (mm_highestColumn G ad _ T i hA0 hI) q2367 q2368 q2369 q100 q2370 ⟨rfl, pd_X4_highestColumn⟩ ⟨Nat.le_of_ble_eq_true rfl, Nat.le_of_ble_eq_true rfl⟩ rfl rfl (by omega) (by omega) hob3 rfl rfl (Nat.le_of_ble_eq_true rfl) hl.1 dL_law_2513 (hB0.of hS fp_no.base) hM hS (fun q h => Or.inr (by have h9 : (g_s G).heap.size ≤ q := fp_ma.base hA0 q h; omega)) (fun v H1 locs hp hz hk hS => ?_) (fun Ex qx cx H1 locs hp hz hk hS hcx hvx hlx => hp.elim)
  obtain ⟨rfl, hM2⟩ := hp
  have hP := hP.mo X.2.2.2.2.2 hM hA0 hz hk
  have ho := ho.kept (hk out ho.lt hoa)
  have hM := hM2
  clear hM2
  refine r_stk (st2 := [.int (iI ((fp_hic (T.1) : Nat) : Int)), .int (iI ((fp_hic (T.1) : Nat) : Int))]) rfl ?_
  refine lv_icmp_eq (tgt := 3331) hx hb dL_law_2516 (by decide) (fun _ => ?_) (fun h => absurd rfl h)
  refine W.widen (k := cells + 50006) (n := slots + 229018) (by omega) (by omega) ?_
  exact kk _ _ _ _ _ _ hl hS hP hM ho (hI.same)
set_option maxHeartbeats 1000000 in
theorem lc_40 {G : fp_G} {pg : Program} {en : Env} {rR : Room} {s : State} {mi : MethodId} {ag : Array Value} {bl : List Frame} {mt : Method} {cd : Code} {H : Heap} {locs : List Loc} {cells slots : Nat} {qQ : State → Prop} {ls : Array Slot} {b L x out i k MC MS : Nat} {xs : Nat → Int32} {ad : Nat → Nat} {T : TH} {g : Nat → Int64} (X : fp_C G pg s mi ag cd cL_law "FortPlannerLaw" 9) (hR : fp_R rR 8192 104096 MC MS) (hB0 : fp_B G s.heap) (hX : va_X b L xs s s.heap) (hbl : b < s.heap.size) (hL : L ≤ 96) (hi : 4 * i + 4 ≤ L) (hA0 : fp_MA G ad) (hob : (g_s G).heap.size ≤ out) (hoa : ¬ fp_ma ad out) (hl : lv_has ls 9 [(0, .ref (b)), (1, .ref (x)), (2, .ref (ad 0)), (3, .ref (out)), (4, .int (iI ((4 * i : Nat) : Int)))]) (hS : va_S (fA fp_no s.heap.size) s.heap H locs) (hsb : s.heap.size = (g_s G).heap.size) (hc : cells + 50006 ≤ MC) (hs : slots + 229018 ≤ MS) (hP : fp_PW G x (fp_LM ad out) T H) (hM : fp_MC G ad k T H) (ho : fp_At G H out (eJ G 1 g)) (hI : fp_TI i T) (kk : ∀ (H1 : Heap) (locs1 : List Loc) (ls1 : Array Slot) (T1 : TH) (k1 : Nat) (g1 : Nat → Int64), lv_has ls1 9 [(0, .ref (b)), (1, .ref (x)), (2, .ref (ad 0)), (3, .ref (out)), (4, .int (iI ((4 * i : Nat) : Int)))] → va_S (fA fp_no s.heap.size) s.heap H1 locs1 → fp_PW G x (fp_LM ad out) T1 H1 → fp_MC G ad k1 T1 H1 → fp_At G H1 out (eJ G 1 g1) → fp_TJ (i + 1) T1 → W pg (g_l G) en rR s mi ag bl mt cd H1 locs1 (cells + 50006) (slots + 229018) qQ (F0 mi 3331 ls1 [])) : W pg (g_l G) en rR s mi ag bl mt cd H locs cells slots qQ (F0 mi 2521 ls []) := by
  obtain ⟨hx, hb, -⟩ := id X
  refine lv_aload_n hx hb dL_law_2521 rfl (lv_at hl 1 rfl) ?_
  refine lv_aload_n hx hb dL_law_2522 rfl (lv_at hl 0 rfl) ?_
  refine lv_iload hx hb dL_law_2523 (lv_at hl 4 rfl) ?_
  refine lv_iconst (v := (iI ((1 : Nat) : Int))) hx hb dL_law_2525 rfl ?_
  refine r_iaddN hx hb dL_law_2526 ?_
  refine r_scr (j := 4 * i + 1) X hX hbl hS (by omega) hL dL_law_2527 ?_
  refine lv_aload_n hx hb dL_law_2528 rfl (lv_at hl 3 rfl) ?_
  obtain ⟨kc, hkc⟩ : ∃ kc, fp_cc (fp_xs xs (4 * i + 1)) = kc := ⟨_, rfl⟩
  refine x_callSH (cells1 := cells + 1) (slots1 := slots + 6) X hR (x0_zone G x (fp_LM ad out) T i out g (fp_xs xs (4 * i + 1)) hI (fp_xs_rg _ _) (Or.inr rfl) hob) q1622 q1623 q87 q1624 pd_X0_zone ⟨Nat.le_of_ble_eq_true rfl, Nat.le_of_ble_eq_true rfl⟩ rfl rfl (by omega) (by omega) rfl (Nat.le_of_ble_eq_true rfl) hl.1 dL_law_2529 (hB0.of hS fp_no.base) ⟨hP, ho⟩ hS (fun q h => Or.inr (by have h9 : (g_s G).heap.size ≤ q := h.1; omega)) (fun v H1 locs hp hz hk hS => ?_) (fun Ex qx cx H1 locs hp hz hk hS hcx hvx hlx => hp.elim)
  obtain ⟨g2, rfl, hg2, hP, ho⟩ := hp
  have hM := hM.keep hk (fun q hq h => h.2.elim (fun z => z (Or.inl hq)) (fun z => hoa (z ▸ hq)))
  refine r_stk (st2 := [.int (iI ((fp_cc (fp_xs xs (4 * i + 1)) : Nat) : Int))]) rfl ?_
  have hkb : kc ≤ 2 := by rw [← hkc]; unfold fp_cc; (repeat' split) <;> omega
  rw [hkc] at hg2 ⊢
  refine lv_istore (lv' := [(5, .int (iI ((kc : Nat) : Int))), (0, .ref (b)), (1, .ref (x)), (2, .ref (ad 0)), (3, .ref (out)), (4, .int (iI ((4 * i : Nat) : Int)))]) hx hb dL_law_2532 hl (by decide) rfl (fun ls hl => ?_)
  refine lv_aload_n hx hb dL_law_2534 rfl (lv_at hl 3 rfl) ?_
  refine lv_aload_n hx hb dL_law_2535 rfl (lv_at hl 1 rfl) ?_
  refine lv_iload hx hb dL_law_2536 (lv_at hl 5 rfl) ?_
  refine lv_iconst (v := (iI ((1 : Nat) : Int))) hx hb dL_law_2538 rfl ?_
  refine r_iaddN hx hb dL_law_2539 ?_
  refine r_scr (j := 4 * i + 1) X hX hbl hS (by omega) hL dL_law_2540 ?_
  obtain ⟨fs3, hob3⟩ := hM.ob
  refine x_callV (cells1 := (cells + 1)) (slots1 := (slots + 6)) X hR (mm_zone G ad _ T i (fp_xs xs (4 * i + 1)) hA0 hI (fp_xs_rg _ _)) q2371 q2372 q2373 q100 q2374 ⟨rfl, pd_X4_zone⟩ ⟨Nat.le_of_ble_eq_true rfl, Nat.le_of_ble_eq_true rfl⟩ rfl rfl (by omega) (by omega) hob3 rfl rfl (Nat.le_of_ble_eq_true rfl) hl.1 dL_law_2541 (hB0.of hS fp_no.base) hM hS (fun q h => Or.inr (by have h9 : (g_s G).heap.size ≤ q := fp_ma.base hA0 q h; omega)) (fun v H1 locs hp hz hk hS => ?_) (fun Ex qx cx H1 locs hp hz hk hS hcx hvx hlx => hp.elim)
  obtain ⟨r, rfl, hr, hM2⟩ := hp
  have hP := hP.mo X.2.2.2.2.2 hM hA0 hz hk
  have ho := ho.kept (hk out ho.lt hoa)
  have hM := hM2
  clear hM2
  rw [hkc] at hr hM
  refine r_stk (st2 := [.int (iI (r))]) rfl ?_
  refine lv_istore (lv' := [(6, .int (iI (r))), (5, .int (iI ((kc : Nat) : Int))), (0, .ref (b)), (1, .ref (x)), (2, .ref (ad 0)), (3, .ref (out)), (4, .int (iI ((4 * i : Nat) : Int)))]) hx hb dL_law_2544 hl (by decide) rfl (fun ls hl => ?_)
  refine lv_aload_n hx hb dL_law_2546 rfl (lv_at hl 4 rfl) ?_
  obtain ⟨fs4, hob4⟩ := hM.ob
  refine x_callV (cells1 := (cells + 1)) (slots1 := (slots + 6)) X hR (mm_thrown G ad _ _ hA0) q2079 q2080 q2081 q100 q2082 ⟨rfl, pd_X4_thrown⟩ ⟨Nat.le_of_ble_eq_true rfl, Nat.le_of_ble_eq_true rfl⟩ rfl rfl (by omega) (by omega) hob4 rfl rfl (Nat.le_of_ble_eq_true rfl) hl.1 dL_law_2547 (hB0.of hS fp_no.base) hM hS (fun q h => Or.inr (by have h9 : (g_s G).heap.size ≤ q := fp_ma.base hA0 q h; omega)) (fun v H1 locs hp hz hk hS => ?_) (fun Ex qx cx H1 locs hp hz hk hS hcx hvx hlx => hp.elim)
  obtain ⟨rfl, hM2⟩ := hp
  have hP := hP.mo X.2.2.2.2.2 hM hA0 hz hk
  have ho := ho.kept (hk out ho.lt hoa)
  have hM := hM2
  clear hM2
  refine r_stk (st2 := [.int (iI ((kc : Nat) : Int))]) rfl ?_
  refine lv_iload hx hb dL_law_2550 (lv_at hl 1 rfl) ?_
  refine lv_icmp_eq (tgt := 2557) hx hb dL_law_2552 (by decide) (fun _ => ?_) (fun h => absurd rfl h)
  refine lv_iload hx hb dL_law_2557 (lv_at hl 1 rfl) ?_
  refine r_if_ne (tgt := 2574) hx hb ⟨by omega, by omega⟩ dL_law_2559 (by decide) (fun hne => ?_) (fun he => ?_)
  · skip
    refine lv_goto (tgt := 3331) hx hb dL_law_2574 (by decide) ?_
    refine W.widen (k := cells + 50006) (n := slots + 229018) (by omega) (by omega) ?_
    exact kk _ _ _ _ _ _ (lv_sub hl [2, 3, 4, 5, 6] rfl) hS hP hM ho (hI.same)
  · skip
    have he : kc = 0 := by omega
    refine lv_aload_n hx hb dL_law_2562 rfl (lv_at hl 5 rfl) ?_
    refine lv_iconst (v := (iI ((0 : Nat) : Int))) hx hb dL_law_2563 rfl ?_
    refine r_laldI (j := 0) X ho rfl (by decide) (by decide) dL_law_2564 ?_
    refine lv_iload hx hb dL_law_2565 (lv_at hl 0 rfl) ?_
    refine lv_i2l (v := (iI r).toInt64) hx hb dL_law_2567 rfl ?_
    refine r_lcmpE X (by rw [hg2 he, hr he]) dL_law_2568 ?_
    refine lv_if_eq (tgt := 2574) hx hb dL_law_2569 (by decide) (fun _ => ?_) (fun h => absurd rfl h)
    refine lv_goto (tgt := 3331) hx hb dL_law_2574 (by decide) ?_
    refine W.widen (k := cells + 50006) (n := slots + 229018) (by omega) (by omega) ?_
    exact kk _ _ _ _ _ _ (lv_sub hl [2, 3, 4, 5, 6] rfl) hS hP hM ho (hI.same)
set_option maxHeartbeats 1000000 in
theorem lc_41 {G : fp_G} {pg : Program} {en : Env} {rR : Room} {s : State} {mi : MethodId} {ag : Array Value} {bl : List Frame} {mt : Method} {cd : Code} {H : Heap} {locs : List Loc} {cells slots : Nat} {qQ : State → Prop} {ls : Array Slot} {b L x out i k MC MS : Nat} {xs : Nat → Int32} {ad : Nat → Nat} {T : TH} {g : Nat → Int64} (X : fp_C G pg s mi ag cd cL_law "FortPlannerLaw" 9) (hR : fp_R rR 8192 104096 MC MS) (hB0 : fp_B G s.heap) (hX : va_X b L xs s s.heap) (hbl : b < s.heap.size) (hL : L ≤ 96) (hi : 4 * i + 4 ≤ L) (hA0 : fp_MA G ad) (hob : (g_s G).heap.size ≤ out) (hoa : ¬ fp_ma ad out) (hl : lv_has ls 9 [(0, .ref (b)), (1, .ref (x)), (2, .ref (ad 0)), (3, .ref (out)), (4, .int (iI ((4 * i : Nat) : Int)))]) (hS : va_S (fA fp_no s.heap.size) s.heap H locs) (hsb : s.heap.size = (g_s G).heap.size) (hc : cells + 50006 ≤ MC) (hs : slots + 229018 ≤ MS) (hP : fp_PW G x (fp_LM ad out) T H) (hM : fp_MC G ad k T H) (ho : fp_At G H out (eJ G 1 g)) (hI : fp_TI i T) (kk : ∀ (H1 : Heap) (locs1 : List Loc) (ls1 : Array Slot) (T1 : TH) (k1 : Nat) (g1 : Nat → Int64), lv_has ls1 9 [(0, .ref (b)), (1, .ref (x)), (2, .ref (ad 0)), (3, .ref (out)), (4, .int (iI ((4 * i : Nat) : Int)))] → va_S (fA fp_no s.heap.size) s.heap H1 locs1 → fp_PW G x (fp_LM ad out) T1 H1 → fp_MC G ad k1 T1 H1 → fp_At G H1 out (eJ G 1 g1) → fp_TJ (i + 1) T1 → W pg (g_l G) en rR s mi ag bl mt cd H1 locs1 (cells + 50006) (slots + 229018) qQ (F0 mi 3331 ls1 [])) : W pg (g_l G) en rR s mi ag bl mt cd H locs cells slots qQ (F0 mi 2577 ls []) := by
  obtain ⟨hx, hb, -⟩ := id X
  refine lv_aload_n hx hb dL_law_2577 rfl (lv_at hl 1 rfl) ?_
  refine lv_aload_n hx hb dL_law_2578 rfl (lv_at hl 0 rfl) ?_
  refine lv_iload hx hb dL_law_2579 (lv_at hl 4 rfl) ?_
  refine lv_iconst (v := (iI ((1 : Nat) : Int))) hx hb dL_law_2581 rfl ?_
  refine r_iaddN hx hb dL_law_2582 ?_
  refine r_scr (j := 4 * i + 1) X hX hbl hS (by omega) hL dL_law_2583 ?_
  refine lv_aload_n hx hb dL_law_2584 rfl (lv_at hl 3 rfl) ?_
  obtain ⟨kc, hkc⟩ : ∃ kc, fp_cc (fp_xs xs (4 * i + 1)) = kc := ⟨_, rfl⟩
  refine x_callSH (cells1 := cells + 1) (slots1 := slots + 6) X hR (x0_hasTorch G x (fp_LM ad out) T i out g (fp_xs xs (4 * i + 1)) hI (fp_xs_rg _ _) (Or.inr rfl) hob) q1629 q1630 q87 q1631 pd_X0_hasTorch ⟨Nat.le_of_ble_eq_true rfl, Nat.le_of_ble_eq_true rfl⟩ rfl rfl (by omega) (by omega) rfl (Nat.le_of_ble_eq_true rfl) hl.1 dL_law_2585 (hB0.of hS fp_no.base) ⟨hP, ho⟩ hS (fun q h => Or.inr (by have h9 : (g_s G).heap.size ≤ q := h.1; omega)) (fun v H1 locs hp hz hk hS => ?_) (fun Ex qx cx H1 locs hp hz hk hS hcx hvx hlx => hp.elim)
  obtain ⟨g2, rfl, hg2, hP, ho⟩ := hp
  have hM := hM.keep hk (fun q hq h => h.2.elim (fun z => z (Or.inl hq)) (fun z => hoa (z ▸ hq)))
  refine r_stk (st2 := [.int (iI ((fp_cc (fp_xs xs (4 * i + 1)) : Nat) : Int))]) rfl ?_
  have hkb : kc ≤ 2 := by rw [← hkc]; unfold fp_cc; (repeat' split) <;> omega
  rw [hkc] at hg2 ⊢
  refine lv_istore (lv' := [(5, .int (iI ((kc : Nat) : Int))), (0, .ref (b)), (1, .ref (x)), (2, .ref (ad 0)), (3, .ref (out)), (4, .int (iI ((4 * i : Nat) : Int)))]) hx hb dL_law_2588 hl (by decide) rfl (fun ls hl => ?_)
  refine lv_aload_n hx hb dL_law_2590 rfl (lv_at hl 3 rfl) ?_
  refine lv_aload_n hx hb dL_law_2591 rfl (lv_at hl 1 rfl) ?_
  refine lv_iload hx hb dL_law_2592 (lv_at hl 5 rfl) ?_
  refine lv_iconst (v := (iI ((1 : Nat) : Int))) hx hb dL_law_2594 rfl ?_
  refine r_iaddN hx hb dL_law_2595 ?_
  refine r_scr (j := 4 * i + 1) X hX hbl hS (by omega) hL dL_law_2596 ?_
  obtain ⟨fs3, hob3⟩ := hM.ob
  refine x_callV (cells1 := (cells + 1)) (slots1 := (slots + 6)) X hR (mm_hasTorch G ad _ T i (fp_xs xs (4 * i + 1)) hA0 hI (fp_xs_rg _ _)) q2375 q2376 q2377 q100 q2378 ⟨rfl, pd_X4_hasTorch⟩ ⟨Nat.le_of_ble_eq_true rfl, Nat.le_of_ble_eq_true rfl⟩ rfl rfl (by omega) (by omega) hob3 rfl rfl (Nat.le_of_ble_eq_true rfl) hl.1 dL_law_2597 (hB0.of hS fp_no.base) hM hS (fun q h => Or.inr (by have h9 : (g_s G).heap.size ≤ q := fp_ma.base hA0 q h; omega)) (fun v H1 locs hp hz hk hS => ?_) (fun Ex qx cx H1 locs hp hz hk hS hcx hvx hlx => hp.elim)
  obtain ⟨r, rfl, hr, hM2⟩ := hp
  have hP := hP.mo X.2.2.2.2.2 hM hA0 hz hk
  have ho := ho.kept (hk out ho.lt hoa)
  have hM := hM2
  clear hM2
  rw [hkc] at hr hM
  refine r_stk (st2 := [.int (iI (bI (r)))]) rfl ?_
  refine lv_istore (lv' := [(6, .int (iI (bI (r)))), (5, .int (iI ((kc : Nat) : Int))), (0, .ref (b)), (1, .ref (x)), (2, .ref (ad 0)), (3, .ref (out)), (4, .int (iI ((4 * i : Nat) : Int)))]) hx hb dL_law_2600 hl (by decide) rfl (fun ls hl => ?_)
  refine lv_aload_n hx hb dL_law_2602 rfl (lv_at hl 4 rfl) ?_
  obtain ⟨fs4, hob4⟩ := hM.ob
  refine x_callV (cells1 := (cells + 1)) (slots1 := (slots + 6)) X hR (mm_thrown G ad _ _ hA0) q2079 q2080 q2081 q100 q2082 ⟨rfl, pd_X4_thrown⟩ ⟨Nat.le_of_ble_eq_true rfl, Nat.le_of_ble_eq_true rfl⟩ rfl rfl (by omega) (by omega) hob4 rfl rfl (Nat.le_of_ble_eq_true rfl) hl.1 dL_law_2603 (hB0.of hS fp_no.base) hM hS (fun q h => Or.inr (by have h9 : (g_s G).heap.size ≤ q := fp_ma.base hA0 q h; omega)) (fun v H1 locs hp hz hk hS => ?_) (fun Ex qx cx H1 locs hp hz hk hS hcx hvx hlx => hp.elim)
  obtain ⟨rfl, hM2⟩ := hp
  have hP := hP.mo X.2.2.2.2.2 hM hA0 hz hk
  have ho := ho.kept (hk out ho.lt hoa)
  have hM := hM2
  clear hM2
  refine r_stk (st2 := [.int (iI ((kc : Nat) : Int))]) rfl ?_
  refine lv_iload hx hb dL_law_2606 (lv_at hl 1 rfl) ?_
  refine lv_icmp_eq (tgt := 2613) hx hb dL_law_2608 (by decide) (fun _ => ?_) (fun h => absurd rfl h)
  refine lv_iload hx hb dL_law_2613 (lv_at hl 1 rfl) ?_
  refine r_if_ne (tgt := 2637) hx hb ⟨by omega, by omega⟩ dL_law_2615 (by decide) (fun hne => ?_) (fun he => ?_)
  · skip
    refine lv_goto (tgt := 3331) hx hb dL_law_2637 (by decide) ?_
    refine W.widen (k := cells + 50006) (n := slots + 229018) (by omega) (by omega) ?_
    exact kk _ _ _ _ _ _ (lv_sub hl [2, 3, 4, 5, 6] rfl) hS hP hM ho (hI.same)
  · skip
    have he : kc = 0 := by omega
    refine lv_aload_n hx hb dL_law_2618 rfl (lv_at hl 5 rfl) ?_
    refine lv_iconst (v := (iI ((0 : Nat) : Int))) hx hb dL_law_2619 rfl ?_
    refine r_laldI (j := 0) X ho rfl (by decide) (by decide) dL_law_2620 ?_
    refine lv_iload hx hb dL_law_2621 (lv_at hl 0 rfl) ?_
    refine r_ifeqB (tgt := 2630) hx hb dL_law_2623 (by decide) (fun cb => ?_) (fun cb => ?_)
    · skip
      refine lv_lconst (v := 0) hx hb dL_law_2630 rfl ?_
      refine r_lcmpE X (by rw [hg2 he, ← hr he, cb]; rfl) dL_law_2631 ?_
      refine lv_if_eq (tgt := 2637) hx hb dL_law_2632 (by decide) (fun _ => ?_) (fun h => absurd rfl h)
      refine lv_goto (tgt := 3331) hx hb dL_law_2637 (by decide) ?_
      refine W.widen (k := cells + 50006) (n := slots + 229018) (by omega) (by omega) ?_
      exact kk _ _ _ _ _ _ (lv_sub hl [2, 3, 4, 5, 6] rfl) hS hP hM ho (hI.same)
    · skip
      refine lv_lconst (v := 1) hx hb dL_law_2626 rfl ?_
      refine lv_goto (tgt := 2631) hx hb dL_law_2627 (by decide) ?_
      refine r_lcmpE X (by rw [hg2 he, ← hr he, cb]; rfl) dL_law_2631 ?_
      refine lv_if_eq (tgt := 2637) hx hb dL_law_2632 (by decide) (fun _ => ?_) (fun h => absurd rfl h)
      refine lv_goto (tgt := 3331) hx hb dL_law_2637 (by decide) ?_
      refine W.widen (k := cells + 50006) (n := slots + 229018) (by omega) (by omega) ?_
      exact kk _ _ _ _ _ _ (lv_sub hl [2, 3, 4, 5, 6] rfl) hS hP hM ho (hI.same)
set_option maxHeartbeats 1000000 in
theorem lc_42 {G : fp_G} {pg : Program} {en : Env} {rR : Room} {s : State} {mi : MethodId} {ag : Array Value} {bl : List Frame} {mt : Method} {cd : Code} {H : Heap} {locs : List Loc} {cells slots : Nat} {qQ : State → Prop} {ls : Array Slot} {b L x out i k MC MS : Nat} {xs : Nat → Int32} {ad : Nat → Nat} {T : TH} {g : Nat → Int64} (X : fp_C G pg s mi ag cd cL_law "FortPlannerLaw" 9) (hR : fp_R rR 8192 104096 MC MS) (hB0 : fp_B G s.heap) (hX : va_X b L xs s s.heap) (hbl : b < s.heap.size) (hL : L ≤ 96) (hi : 4 * i + 4 ≤ L) (hA0 : fp_MA G ad) (hob : (g_s G).heap.size ≤ out) (hoa : ¬ fp_ma ad out) (hl : lv_has ls 9 [(0, .ref (b)), (1, .ref (x)), (2, .ref (ad 0)), (3, .ref (out)), (4, .int (iI ((4 * i : Nat) : Int)))]) (hS : va_S (fA fp_no s.heap.size) s.heap H locs) (hsb : s.heap.size = (g_s G).heap.size) (hc : cells + 50006 ≤ MC) (hs : slots + 229018 ≤ MS) (hP : fp_PW G x (fp_LM ad out) T H) (hM : fp_MC G ad k T H) (ho : fp_At G H out (eJ G 1 g)) (hI : fp_TI i T) (kk : ∀ (H1 : Heap) (locs1 : List Loc) (ls1 : Array Slot) (T1 : TH) (k1 : Nat) (g1 : Nat → Int64), lv_has ls1 9 [(0, .ref (b)), (1, .ref (x)), (2, .ref (ad 0)), (3, .ref (out)), (4, .int (iI ((4 * i : Nat) : Int)))] → va_S (fA fp_no s.heap.size) s.heap H1 locs1 → fp_PW G x (fp_LM ad out) T1 H1 → fp_MC G ad k1 T1 H1 → fp_At G H1 out (eJ G 1 g1) → fp_TJ (i + 1) T1 → W pg (g_l G) en rR s mi ag bl mt cd H1 locs1 (cells + 50006) (slots + 229018) qQ (F0 mi 3331 ls1 [])) : W pg (g_l G) en rR s mi ag bl mt cd H locs cells slots qQ (F0 mi 2640 ls []) := by
  obtain ⟨hx, hb, -⟩ := id X
  refine lv_aload_n hx hb dL_law_2640 rfl (lv_at hl 1 rfl) ?_
  refine lv_aload_n hx hb dL_law_2641 rfl (lv_at hl 0 rfl) ?_
  refine lv_iload hx hb dL_law_2642 (lv_at hl 4 rfl) ?_
  refine lv_iconst (v := (iI ((1 : Nat) : Int))) hx hb dL_law_2644 rfl ?_
  refine r_iaddN hx hb dL_law_2645 ?_
  refine r_scr (j := 4 * i + 1) X hX hbl hS (by omega) hL dL_law_2646 ?_
  refine lv_aload_n hx hb dL_law_2647 rfl (lv_at hl 3 rfl) ?_
  obtain ⟨kc, hkc⟩ : ∃ kc, fp_cc (fp_xs xs (4 * i + 1)) = kc := ⟨_, rfl⟩
  refine x_callSH (cells1 := cells + 401) (slots1 := slots + 1606) X hR (x0_isLit G x (fp_LM ad out) T i out g (fp_xs xs (4 * i + 1)) hI (fp_xs_rg _ _) (Or.inr rfl) hob) q1636 q1637 q87 q1638 pd_X0_isLit ⟨Nat.le_of_ble_eq_true rfl, Nat.le_of_ble_eq_true rfl⟩ rfl rfl (by omega) (by omega) rfl (Nat.le_of_ble_eq_true rfl) hl.1 dL_law_2648 (hB0.of hS fp_no.base) ⟨hP, ho⟩ hS (fun q h => Or.inr (by have h9 : (g_s G).heap.size ≤ q := h.1; omega)) (fun v H1 locs hp hz hk hS => ?_) (fun Ex qx cx H1 locs hp hz hk hS hcx hvx hlx => hp.elim)
  obtain ⟨g2, rfl, hg2, hP, ho⟩ := hp
  have hM := hM.keep hk (fun q hq h => h.2.elim (fun z => z (Or.inl hq)) (fun z => hoa (z ▸ hq)))
  refine r_stk (st2 := [.int (iI ((fp_cc (fp_xs xs (4 * i + 1)) : Nat) : Int))]) rfl ?_
  have hkb : kc ≤ 2 := by rw [← hkc]; unfold fp_cc; (repeat' split) <;> omega
  rw [hkc] at hg2 ⊢
  refine lv_istore (lv' := [(5, .int (iI ((kc : Nat) : Int))), (0, .ref (b)), (1, .ref (x)), (2, .ref (ad 0)), (3, .ref (out)), (4, .int (iI ((4 * i : Nat) : Int)))]) hx hb dL_law_2651 hl (by decide) rfl (fun ls hl => ?_)
  refine lv_aload_n hx hb dL_law_2653 rfl (lv_at hl 3 rfl) ?_
  refine lv_aload_n hx hb dL_law_2654 rfl (lv_at hl 1 rfl) ?_
  refine lv_iload hx hb dL_law_2655 (lv_at hl 5 rfl) ?_
  refine lv_iconst (v := (iI ((1 : Nat) : Int))) hx hb dL_law_2657 rfl ?_
  refine r_iaddN hx hb dL_law_2658 ?_
  refine r_scr (j := 4 * i + 1) X hX hbl hS (by omega) hL dL_law_2659 ?_
  obtain ⟨fs3, hob3⟩ := hM.ob
  refine x_callV (cells1 := (cells + 401)) (slots1 := (slots + 1606)) X hR (mm_isLit G ad _ T i (fp_xs xs (4 * i + 1)) hA0 hI (fp_xs_rg _ _)) q2379 q2380 q2381 q100 q2382 ⟨rfl, pd_X4_isLit⟩ ⟨Nat.le_of_ble_eq_true rfl, Nat.le_of_ble_eq_true rfl⟩ rfl rfl (by omega) (by omega) hob3 rfl rfl (Nat.le_of_ble_eq_true rfl) hl.1 dL_law_2660 (hB0.of hS fp_no.base) hM hS (fun q h => Or.inr (by have h9 : (g_s G).heap.size ≤ q := fp_ma.base hA0 q h; omega)) (fun v H1 locs hp hz hk hS => ?_) (fun Ex qx cx H1 locs hp hz hk hS hcx hvx hlx => hp.elim)
  obtain ⟨r, rfl, hr, hM2⟩ := hp
  have hP := hP.mo X.2.2.2.2.2 hM hA0 hz hk
  have ho := ho.kept (hk out ho.lt hoa)
  have hM := hM2
  clear hM2
  rw [hkc] at hr hM
  refine r_stk (st2 := [.int (iI (bI (r)))]) rfl ?_
  refine lv_istore (lv' := [(6, .int (iI (bI (r)))), (5, .int (iI ((kc : Nat) : Int))), (0, .ref (b)), (1, .ref (x)), (2, .ref (ad 0)), (3, .ref (out)), (4, .int (iI ((4 * i : Nat) : Int)))]) hx hb dL_law_2663 hl (by decide) rfl (fun ls hl => ?_)
  refine lv_aload_n hx hb dL_law_2665 rfl (lv_at hl 4 rfl) ?_
  obtain ⟨fs4, hob4⟩ := hM.ob
  refine x_callV (cells1 := (cells + 401)) (slots1 := (slots + 1606)) X hR (mm_thrown G ad _ _ hA0) q2079 q2080 q2081 q100 q2082 ⟨rfl, pd_X4_thrown⟩ ⟨Nat.le_of_ble_eq_true rfl, Nat.le_of_ble_eq_true rfl⟩ rfl rfl (by omega) (by omega) hob4 rfl rfl (Nat.le_of_ble_eq_true rfl) hl.1 dL_law_2666 (hB0.of hS fp_no.base) hM hS (fun q h => Or.inr (by have h9 : (g_s G).heap.size ≤ q := fp_ma.base hA0 q h; omega)) (fun v H1 locs hp hz hk hS => ?_) (fun Ex qx cx H1 locs hp hz hk hS hcx hvx hlx => hp.elim)
  obtain ⟨rfl, hM2⟩ := hp
  have hP := hP.mo X.2.2.2.2.2 hM hA0 hz hk
  have ho := ho.kept (hk out ho.lt hoa)
  have hM := hM2
  clear hM2
  refine r_stk (st2 := [.int (iI ((kc : Nat) : Int))]) rfl ?_
  refine lv_iload hx hb dL_law_2669 (lv_at hl 1 rfl) ?_
  refine lv_icmp_eq (tgt := 2676) hx hb dL_law_2671 (by decide) (fun _ => ?_) (fun h => absurd rfl h)
  refine lv_iload hx hb dL_law_2676 (lv_at hl 1 rfl) ?_
  refine r_if_ne (tgt := 2700) hx hb ⟨by omega, by omega⟩ dL_law_2678 (by decide) (fun hne => ?_) (fun he => ?_)
  · skip
    refine lv_goto (tgt := 3331) hx hb dL_law_2700 (by decide) ?_
    refine W.widen (k := cells + 50006) (n := slots + 229018) (by omega) (by omega) ?_
    exact kk _ _ _ _ _ _ (lv_sub hl [2, 3, 4, 5, 6] rfl) hS hP hM ho (hI.same)
  · skip
    have he : kc = 0 := by omega
    refine lv_aload_n hx hb dL_law_2681 rfl (lv_at hl 5 rfl) ?_
    refine lv_iconst (v := (iI ((0 : Nat) : Int))) hx hb dL_law_2682 rfl ?_
    refine r_laldI (j := 0) X ho rfl (by decide) (by decide) dL_law_2683 ?_
    refine lv_iload hx hb dL_law_2684 (lv_at hl 0 rfl) ?_
    refine r_ifeqB (tgt := 2693) hx hb dL_law_2686 (by decide) (fun cb => ?_) (fun cb => ?_)
    · skip
      refine lv_lconst (v := 0) hx hb dL_law_2693 rfl ?_
      refine r_lcmpE X (by rw [hg2 he, ← hr he, cb]; rfl) dL_law_2694 ?_
      refine lv_if_eq (tgt := 2700) hx hb dL_law_2695 (by decide) (fun _ => ?_) (fun h => absurd rfl h)
      refine lv_goto (tgt := 3331) hx hb dL_law_2700 (by decide) ?_
      refine W.widen (k := cells + 50006) (n := slots + 229018) (by omega) (by omega) ?_
      exact kk _ _ _ _ _ _ (lv_sub hl [2, 3, 4, 5, 6] rfl) hS hP hM ho (hI.same)
    · skip
      refine lv_lconst (v := 1) hx hb dL_law_2689 rfl ?_
      refine lv_goto (tgt := 2694) hx hb dL_law_2690 (by decide) ?_
      refine r_lcmpE X (by rw [hg2 he, ← hr he, cb]; rfl) dL_law_2694 ?_
      refine lv_if_eq (tgt := 2700) hx hb dL_law_2695 (by decide) (fun _ => ?_) (fun h => absurd rfl h)
      refine lv_goto (tgt := 3331) hx hb dL_law_2700 (by decide) ?_
      refine W.widen (k := cells + 50006) (n := slots + 229018) (by omega) (by omega) ?_
      exact kk _ _ _ _ _ _ (lv_sub hl [2, 3, 4, 5, 6] rfl) hS hP hM ho (hI.same)
set_option maxHeartbeats 1000000 in
theorem lc_43 {G : fp_G} {pg : Program} {en : Env} {rR : Room} {s : State} {mi : MethodId} {ag : Array Value} {bl : List Frame} {mt : Method} {cd : Code} {H : Heap} {locs : List Loc} {cells slots : Nat} {qQ : State → Prop} {ls : Array Slot} {b L x out i k MC MS : Nat} {xs : Nat → Int32} {ad : Nat → Nat} {T : TH} {g : Nat → Int64} (X : fp_C G pg s mi ag cd cL_law "FortPlannerLaw" 9) (hR : fp_R rR 8192 104096 MC MS) (hB0 : fp_B G s.heap) (hX : va_X b L xs s s.heap) (hbl : b < s.heap.size) (hL : L ≤ 96) (hi : 4 * i + 4 ≤ L) (hA0 : fp_MA G ad) (hob : (g_s G).heap.size ≤ out) (hoa : ¬ fp_ma ad out) (hl : lv_has ls 9 [(0, .ref (b)), (1, .ref (x)), (2, .ref (ad 0)), (3, .ref (out)), (4, .int (iI ((4 * i : Nat) : Int)))]) (hS : va_S (fA fp_no s.heap.size) s.heap H locs) (hsb : s.heap.size = (g_s G).heap.size) (hc : cells + 50006 ≤ MC) (hs : slots + 229018 ≤ MS) (hP : fp_PW G x (fp_LM ad out) T H) (hM : fp_MC G ad k T H) (ho : fp_At G H out (eJ G 1 g)) (hI : fp_TI i T) (kk : ∀ (H1 : Heap) (locs1 : List Loc) (ls1 : Array Slot) (T1 : TH) (k1 : Nat) (g1 : Nat → Int64), lv_has ls1 9 [(0, .ref (b)), (1, .ref (x)), (2, .ref (ad 0)), (3, .ref (out)), (4, .int (iI ((4 * i : Nat) : Int)))] → va_S (fA fp_no s.heap.size) s.heap H1 locs1 → fp_PW G x (fp_LM ad out) T1 H1 → fp_MC G ad k1 T1 H1 → fp_At G H1 out (eJ G 1 g1) → fp_TJ (i + 1) T1 → W pg (g_l G) en rR s mi ag bl mt cd H1 locs1 (cells + 50006) (slots + 229018) qQ (F0 mi 3331 ls1 [])) : W pg (g_l G) en rR s mi ag bl mt cd H locs cells slots qQ (F0 mi 2703 ls []) := by
  obtain ⟨hx, hb, -⟩ := id X
  refine lv_aload_n hx hb dL_law_2703 rfl (lv_at hl 1 rfl) ?_
  refine lv_aload_n hx hb dL_law_2704 rfl (lv_at hl 0 rfl) ?_
  refine lv_iload hx hb dL_law_2705 (lv_at hl 4 rfl) ?_
  refine lv_iconst (v := (iI ((1 : Nat) : Int))) hx hb dL_law_2707 rfl ?_
  refine r_iaddN hx hb dL_law_2708 ?_
  refine r_scr (j := 4 * i + 1) X hX hbl hS (by omega) hL dL_law_2709 ?_
  refine lv_aload_n hx hb dL_law_2710 rfl (lv_at hl 3 rfl) ?_
  obtain ⟨kc, hkc⟩ : ∃ kc, fp_cc (fp_xs xs (4 * i + 1)) = kc := ⟨_, rfl⟩
  refine x_callSH (cells1 := cells + 194) (slots1 := slots + 786) X hR (x0_isLitByMaxima G x (fp_LM ad out) T i out g (fp_xs xs (4 * i + 1)) hI (fp_xs_rg _ _) (Or.inr rfl) hob) q1643 q1644 q87 q1645 pd_X0_isLitByMaxima ⟨Nat.le_of_ble_eq_true rfl, Nat.le_of_ble_eq_true rfl⟩ rfl rfl (by omega) (by omega) rfl (Nat.le_of_ble_eq_true rfl) hl.1 dL_law_2711 (hB0.of hS fp_no.base) ⟨hP, ho⟩ hS (fun q h => Or.inr (by have h9 : (g_s G).heap.size ≤ q := h.1; omega)) (fun v H1 locs hp hz hk hS => ?_) (fun Ex qx cx H1 locs hp hz hk hS hcx hvx hlx => hp.elim)
  obtain ⟨g2, rfl, hg2, hP, ho⟩ := hp
  have hM := hM.keep hk (fun q hq h => h.2.elim (fun z => z (Or.inl hq)) (fun z => hoa (z ▸ hq)))
  refine r_stk (st2 := [.int (iI ((fp_cc (fp_xs xs (4 * i + 1)) : Nat) : Int))]) rfl ?_
  have hkb : kc ≤ 2 := by rw [← hkc]; unfold fp_cc; (repeat' split) <;> omega
  rw [hkc] at hg2 ⊢
  refine lv_istore (lv' := [(5, .int (iI ((kc : Nat) : Int))), (0, .ref (b)), (1, .ref (x)), (2, .ref (ad 0)), (3, .ref (out)), (4, .int (iI ((4 * i : Nat) : Int)))]) hx hb dL_law_2714 hl (by decide) rfl (fun ls hl => ?_)
  refine lv_aload_n hx hb dL_law_2716 rfl (lv_at hl 3 rfl) ?_
  refine lv_aload_n hx hb dL_law_2717 rfl (lv_at hl 1 rfl) ?_
  refine lv_iload hx hb dL_law_2718 (lv_at hl 5 rfl) ?_
  refine lv_iconst (v := (iI ((1 : Nat) : Int))) hx hb dL_law_2720 rfl ?_
  refine r_iaddN hx hb dL_law_2721 ?_
  refine r_scr (j := 4 * i + 1) X hX hbl hS (by omega) hL dL_law_2722 ?_
  obtain ⟨fs3, hob3⟩ := hM.ob
  refine x_callV (cells1 := (cells + 194)) (slots1 := (slots + 786)) X hR (mm_isLitByMaxima G ad _ T i (fp_xs xs (4 * i + 1)) hA0 hI (fp_xs_rg _ _)) q2391 q2392 q2393 q100 q2394 ⟨rfl, pd_X4_isLitByMaxima⟩ ⟨Nat.le_of_ble_eq_true rfl, Nat.le_of_ble_eq_true rfl⟩ rfl rfl (by omega) (by omega) hob3 rfl rfl (Nat.le_of_ble_eq_true rfl) hl.1 dL_law_2723 (hB0.of hS fp_no.base) hM hS (fun q h => Or.inr (by have h9 : (g_s G).heap.size ≤ q := fp_ma.base hA0 q h; omega)) (fun v H1 locs hp hz hk hS => ?_) (fun Ex qx cx H1 locs hp hz hk hS hcx hvx hlx => hp.elim)
  obtain ⟨r, rfl, hr, hM2⟩ := hp
  have hP := hP.mo X.2.2.2.2.2 hM hA0 hz hk
  have ho := ho.kept (hk out ho.lt hoa)
  have hM := hM2
  clear hM2
  rw [hkc] at hr hM
  refine r_stk (st2 := [.int (iI (bI (r)))]) rfl ?_
  refine lv_istore (lv' := [(6, .int (iI (bI (r)))), (5, .int (iI ((kc : Nat) : Int))), (0, .ref (b)), (1, .ref (x)), (2, .ref (ad 0)), (3, .ref (out)), (4, .int (iI ((4 * i : Nat) : Int)))]) hx hb dL_law_2726 hl (by decide) rfl (fun ls hl => ?_)
  refine lv_aload_n hx hb dL_law_2728 rfl (lv_at hl 4 rfl) ?_
  obtain ⟨fs4, hob4⟩ := hM.ob
  refine x_callV (cells1 := (cells + 194)) (slots1 := (slots + 786)) X hR (mm_thrown G ad _ _ hA0) q2079 q2080 q2081 q100 q2082 ⟨rfl, pd_X4_thrown⟩ ⟨Nat.le_of_ble_eq_true rfl, Nat.le_of_ble_eq_true rfl⟩ rfl rfl (by omega) (by omega) hob4 rfl rfl (Nat.le_of_ble_eq_true rfl) hl.1 dL_law_2729 (hB0.of hS fp_no.base) hM hS (fun q h => Or.inr (by have h9 : (g_s G).heap.size ≤ q := fp_ma.base hA0 q h; omega)) (fun v H1 locs hp hz hk hS => ?_) (fun Ex qx cx H1 locs hp hz hk hS hcx hvx hlx => hp.elim)
  obtain ⟨rfl, hM2⟩ := hp
  have hP := hP.mo X.2.2.2.2.2 hM hA0 hz hk
  have ho := ho.kept (hk out ho.lt hoa)
  have hM := hM2
  clear hM2
  refine r_stk (st2 := [.int (iI ((kc : Nat) : Int))]) rfl ?_
  refine lv_iload hx hb dL_law_2732 (lv_at hl 1 rfl) ?_
  refine lv_icmp_eq (tgt := 2739) hx hb dL_law_2734 (by decide) (fun _ => ?_) (fun h => absurd rfl h)
  refine lv_iload hx hb dL_law_2739 (lv_at hl 1 rfl) ?_
  refine r_if_ne (tgt := 2763) hx hb ⟨by omega, by omega⟩ dL_law_2741 (by decide) (fun hne => ?_) (fun he => ?_)
  · skip
    refine lv_goto (tgt := 3331) hx hb dL_law_2763 (by decide) ?_
    refine W.widen (k := cells + 50006) (n := slots + 229018) (by omega) (by omega) ?_
    exact kk _ _ _ _ _ _ (lv_sub hl [2, 3, 4, 5, 6] rfl) hS hP hM ho (hI.same)
  · skip
    have he : kc = 0 := by omega
    refine lv_aload_n hx hb dL_law_2744 rfl (lv_at hl 5 rfl) ?_
    refine lv_iconst (v := (iI ((0 : Nat) : Int))) hx hb dL_law_2745 rfl ?_
    refine r_laldI (j := 0) X ho rfl (by decide) (by decide) dL_law_2746 ?_
    refine lv_iload hx hb dL_law_2747 (lv_at hl 0 rfl) ?_
    refine r_ifeqB (tgt := 2756) hx hb dL_law_2749 (by decide) (fun cb => ?_) (fun cb => ?_)
    · skip
      refine lv_lconst (v := 0) hx hb dL_law_2756 rfl ?_
      refine r_lcmpE X (by rw [hg2 he, ← hr he, cb]; rfl) dL_law_2757 ?_
      refine lv_if_eq (tgt := 2763) hx hb dL_law_2758 (by decide) (fun _ => ?_) (fun h => absurd rfl h)
      refine lv_goto (tgt := 3331) hx hb dL_law_2763 (by decide) ?_
      refine W.widen (k := cells + 50006) (n := slots + 229018) (by omega) (by omega) ?_
      exact kk _ _ _ _ _ _ (lv_sub hl [2, 3, 4, 5, 6] rfl) hS hP hM ho (hI.same)
    · skip
      refine lv_lconst (v := 1) hx hb dL_law_2752 rfl ?_
      refine lv_goto (tgt := 2757) hx hb dL_law_2753 (by decide) ?_
      refine r_lcmpE X (by rw [hg2 he, ← hr he, cb]; rfl) dL_law_2757 ?_
      refine lv_if_eq (tgt := 2763) hx hb dL_law_2758 (by decide) (fun _ => ?_) (fun h => absurd rfl h)
      refine lv_goto (tgt := 3331) hx hb dL_law_2763 (by decide) ?_
      refine W.widen (k := cells + 50006) (n := slots + 229018) (by omega) (by omega) ?_
      exact kk _ _ _ _ _ _ (lv_sub hl [2, 3, 4, 5, 6] rfl) hS hP hM ho (hI.same)
set_option maxHeartbeats 1000000 in
theorem lc_44 {G : fp_G} {pg : Program} {en : Env} {rR : Room} {s : State} {mi : MethodId} {ag : Array Value} {bl : List Frame} {mt : Method} {cd : Code} {H : Heap} {locs : List Loc} {cells slots : Nat} {qQ : State → Prop} {ls : Array Slot} {b L x out i k MC MS : Nat} {xs : Nat → Int32} {ad : Nat → Nat} {T : TH} {g : Nat → Int64} (X : fp_C G pg s mi ag cd cL_law "FortPlannerLaw" 9) (hR : fp_R rR 8192 104096 MC MS) (hB0 : fp_B G s.heap) (hX : va_X b L xs s s.heap) (hbl : b < s.heap.size) (hL : L ≤ 96) (hi : 4 * i + 4 ≤ L) (hA0 : fp_MA G ad) (hob : (g_s G).heap.size ≤ out) (hoa : ¬ fp_ma ad out) (hl : lv_has ls 9 [(0, .ref (b)), (1, .ref (x)), (2, .ref (ad 0)), (3, .ref (out)), (4, .int (iI ((4 * i : Nat) : Int)))]) (hS : va_S (fA fp_no s.heap.size) s.heap H locs) (hsb : s.heap.size = (g_s G).heap.size) (hc : cells + 50006 ≤ MC) (hs : slots + 229018 ≤ MS) (hP : fp_PW G x (fp_LM ad out) T H) (hM : fp_MC G ad k T H) (ho : fp_At G H out (eJ G 1 g)) (hI : fp_TI i T) (kk : ∀ (H1 : Heap) (locs1 : List Loc) (ls1 : Array Slot) (T1 : TH) (k1 : Nat) (g1 : Nat → Int64), lv_has ls1 9 [(0, .ref (b)), (1, .ref (x)), (2, .ref (ad 0)), (3, .ref (out)), (4, .int (iI ((4 * i : Nat) : Int)))] → va_S (fA fp_no s.heap.size) s.heap H1 locs1 → fp_PW G x (fp_LM ad out) T1 H1 → fp_MC G ad k1 T1 H1 → fp_At G H1 out (eJ G 1 g1) → fp_TJ (i + 1) T1 → W pg (g_l G) en rR s mi ag bl mt cd H1 locs1 (cells + 50006) (slots + 229018) qQ (F0 mi 3331 ls1 [])) : W pg (g_l G) en rR s mi ag bl mt cd H locs cells slots qQ (F0 mi 2766 ls []) := by
  obtain ⟨hx, hb, -⟩ := id X
  refine lv_aload_n hx hb dL_law_2766 rfl (lv_at hl 1 rfl) ?_
  obtain ⟨fs2, hob2⟩ := hP.ob
  refine x_callV (cells1 := cells + 193) (slots1 := slots + 780) X hR (w_litCount G x (fp_LM ad out) T i hI) q431 q432 q433 q88 q434 ⟨rfl, pd_X1_litCount⟩ ⟨Nat.le_of_ble_eq_true rfl, Nat.le_of_ble_eq_true rfl⟩ rfl rfl (by omega) (by omega) hob2 rfl rfl (Nat.le_of_ble_eq_true rfl) hl.1 dL_law_2767 (hB0.of hS fp_no.base) hP hS (fun q h => Or.inr (by have h9 : (g_s G).heap.size ≤ q := h.1; omega)) (fun v H1 locs hp hz hk hS => ?_) (fun Ex qx cx H1 locs hp hz hk hS hcx hvx hlx => hp.elim)
  obtain ⟨rfl, hP⟩ := hp
  have hM := hM.keep hk (fun q hq h => h.2 (Or.inl hq))
  have ho := ho.kept (hk out ho.lt (fun h => h.2 (Or.inr rfl)))
  refine r_stk (st2 := [.int (iI ((fp_nlit (T.1) : Nat) : Int))]) rfl ?_
  refine lv_aload_n hx hb dL_law_2770 rfl (lv_at hl 2 rfl) ?_
  obtain ⟨fs3, hob3⟩ := hM.ob
  refine x_callV (cells1 := (cells + 193)) (slots1 := (slots + 780)) X hR (mm_litCount G ad _ T i hA0 hI) q2396 q2397 q2398 q100 q2399 ⟨rfl, pd_X4_litCount⟩ ⟨Nat.le_of_ble_eq_true rfl, Nat.le_of_ble_eq_true rfl⟩ rfl rfl (by omega) (by omega) hob3 rfl rfl (Nat.le_of_ble_eq_true rfl) hl.1 dL_law_2771 (hB0.of hS fp_no.base) hM hS (fun q h => Or.inr (by have h9 : (g_s G).heap.size ≤ q := fp_ma.base hA0 q h; omega)) (fun v H1 locs hp hz hk hS => ?_) (fun Ex qx cx H1 locs hp hz hk hS hcx hvx hlx => hp.elim)
  obtain ⟨rfl, hM2⟩ := hp
  have hP := hP.mo X.2.2.2.2.2 hM hA0 hz hk
  have ho := ho.kept (hk out ho.lt hoa)
  have hM := hM2
  clear hM2
  refine r_stk (st2 := [.int (iI ((fp_nlit (T.1) : Nat) : Int)), .int (iI ((fp_nlit (T.1) : Nat) : Int))]) rfl ?_
  refine lv_icmp_eq (tgt := 3331) hx hb dL_law_2774 (by decide) (fun _ => ?_) (fun h => absurd rfl h)
  refine W.widen (k := cells + 50006) (n := slots + 229018) (by omega) (by omega) ?_
  exact kk _ _ _ _ _ _ hl hS hP hM ho (hI.same)
set_option maxHeartbeats 1000000 in
theorem lc_45 {G : fp_G} {pg : Program} {en : Env} {rR : Room} {s : State} {mi : MethodId} {ag : Array Value} {bl : List Frame} {mt : Method} {cd : Code} {H : Heap} {locs : List Loc} {cells slots : Nat} {qQ : State → Prop} {ls : Array Slot} {b L x out i k MC MS : Nat} {xs : Nat → Int32} {ad : Nat → Nat} {T : TH} {g : Nat → Int64} (X : fp_C G pg s mi ag cd cL_law "FortPlannerLaw" 9) (hR : fp_R rR 8192 104096 MC MS) (hB0 : fp_B G s.heap) (hX : va_X b L xs s s.heap) (hbl : b < s.heap.size) (hL : L ≤ 96) (hi : 4 * i + 4 ≤ L) (hA0 : fp_MA G ad) (hob : (g_s G).heap.size ≤ out) (hoa : ¬ fp_ma ad out) (hl : lv_has ls 9 [(0, .ref (b)), (1, .ref (x)), (2, .ref (ad 0)), (3, .ref (out)), (4, .int (iI ((4 * i : Nat) : Int)))]) (hS : va_S (fA fp_no s.heap.size) s.heap H locs) (hsb : s.heap.size = (g_s G).heap.size) (hc : cells + 50006 ≤ MC) (hs : slots + 229018 ≤ MS) (hP : fp_PW G x (fp_LM ad out) T H) (hM : fp_MC G ad k T H) (ho : fp_At G H out (eJ G 1 g)) (hI : fp_TI i T) (kk : ∀ (H1 : Heap) (locs1 : List Loc) (ls1 : Array Slot) (T1 : TH) (k1 : Nat) (g1 : Nat → Int64), lv_has ls1 9 [(0, .ref (b)), (1, .ref (x)), (2, .ref (ad 0)), (3, .ref (out)), (4, .int (iI ((4 * i : Nat) : Int)))] → va_S (fA fp_no s.heap.size) s.heap H1 locs1 → fp_PW G x (fp_LM ad out) T1 H1 → fp_MC G ad k1 T1 H1 → fp_At G H1 out (eJ G 1 g1) → fp_TJ (i + 1) T1 → W pg (g_l G) en rR s mi ag bl mt cd H1 locs1 (cells + 50006) (slots + 229018) qQ (F0 mi 3331 ls1 [])) : W pg (g_l G) en rR s mi ag bl mt cd H locs cells slots qQ (F0 mi 2779 ls []) := by
  obtain ⟨hx, hb, -⟩ := id X
  refine lv_aload_n hx hb dL_law_2779 rfl (lv_at hl 1 rfl) ?_
  obtain ⟨fs2, hob2⟩ := hP.ob
  refine x_callV (cells1 := cells + 1) (slots1 := slots + 4) X hR (w_totalWeight G x (fp_LM ad out) T i hI) q514 q515 q516 q88 q517 ⟨rfl, pd_X1_totalWeight⟩ ⟨Nat.le_of_ble_eq_true rfl, Nat.le_of_ble_eq_true rfl⟩ rfl rfl (by omega) (by omega) hob2 rfl rfl (Nat.le_of_ble_eq_true rfl) hl.1 dL_law_2780 (hB0.of hS fp_no.base) hP hS (fun q h => Or.inr (by have h9 : (g_s G).heap.size ≤ q := h.1; omega)) (fun v H1 locs hp hz hk hS => ?_) (fun Ex qx cx H1 locs hp hz hk hS hcx hvx hlx => hp.elim)
  obtain ⟨rfl, hP⟩ := hp
  have hM := hM.keep hk (fun q hq h => h.2 (Or.inl hq))
  have ho := ho.kept (hk out ho.lt (fun h => h.2 (Or.inr rfl)))
  refine r_stk (st2 := [.int (iI ((fp_tw (T.1) : Nat) : Int))]) rfl ?_
  refine lv_aload_n hx hb dL_law_2783 rfl (lv_at hl 2 rfl) ?_
  obtain ⟨fs3, hob3⟩ := hM.ob
  refine x_callV (cells1 := (cells + 1)) (slots1 := (slots + 4)) X hR (mm_totalWeight G ad _ T i hA0 hI) q2404 q2405 q2406 q100 q2407 ⟨rfl, pd_X4_totalWeight⟩ ⟨Nat.le_of_ble_eq_true rfl, Nat.le_of_ble_eq_true rfl⟩ rfl rfl (by omega) (by omega) hob3 rfl rfl (Nat.le_of_ble_eq_true rfl) hl.1 dL_law_2784 (hB0.of hS fp_no.base) hM hS (fun q h => Or.inr (by have h9 : (g_s G).heap.size ≤ q := fp_ma.base hA0 q h; omega)) (fun v H1 locs hp hz hk hS => ?_) (fun Ex qx cx H1 locs hp hz hk hS hcx hvx hlx => hp.elim)
  obtain ⟨rfl, hM2⟩ := hp
  have hP := hP.mo X.2.2.2.2.2 hM hA0 hz hk
  have ho := ho.kept (hk out ho.lt hoa)
  have hM := hM2
  clear hM2
  refine r_stk (st2 := [.int (iI ((fp_tw (T.1) : Nat) : Int)), .int (iI ((fp_tw (T.1) : Nat) : Int))]) rfl ?_
  refine lv_icmp_eq (tgt := 3331) hx hb dL_law_2787 (by decide) (fun _ => ?_) (fun h => absurd rfl h)
  refine W.widen (k := cells + 50006) (n := slots + 229018) (by omega) (by omega) ?_
  exact kk _ _ _ _ _ _ hl hS hP hM ho (hI.same)
set_option maxHeartbeats 1000000 in
theorem lc_46 {G : fp_G} {pg : Program} {en : Env} {rR : Room} {s : State} {mi : MethodId} {ag : Array Value} {bl : List Frame} {mt : Method} {cd : Code} {H : Heap} {locs : List Loc} {cells slots : Nat} {qQ : State → Prop} {ls : Array Slot} {b L x out i k MC MS : Nat} {xs : Nat → Int32} {ad : Nat → Nat} {T : TH} {g : Nat → Int64} (X : fp_C G pg s mi ag cd cL_law "FortPlannerLaw" 9) (hR : fp_R rR 8192 104096 MC MS) (hB0 : fp_B G s.heap) (hX : va_X b L xs s s.heap) (hbl : b < s.heap.size) (hL : L ≤ 96) (hi : 4 * i + 4 ≤ L) (hA0 : fp_MA G ad) (hob : (g_s G).heap.size ≤ out) (hoa : ¬ fp_ma ad out) (hl : lv_has ls 9 [(0, .ref (b)), (1, .ref (x)), (2, .ref (ad 0)), (3, .ref (out)), (4, .int (iI ((4 * i : Nat) : Int)))]) (hS : va_S (fA fp_no s.heap.size) s.heap H locs) (hsb : s.heap.size = (g_s G).heap.size) (hc : cells + 50006 ≤ MC) (hs : slots + 229018 ≤ MS) (hP : fp_PW G x (fp_LM ad out) T H) (hM : fp_MC G ad k T H) (ho : fp_At G H out (eJ G 1 g)) (hI : fp_TI i T) (kk : ∀ (H1 : Heap) (locs1 : List Loc) (ls1 : Array Slot) (T1 : TH) (k1 : Nat) (g1 : Nat → Int64), lv_has ls1 9 [(0, .ref (b)), (1, .ref (x)), (2, .ref (ad 0)), (3, .ref (out)), (4, .int (iI ((4 * i : Nat) : Int)))] → va_S (fA fp_no s.heap.size) s.heap H1 locs1 → fp_PW G x (fp_LM ad out) T1 H1 → fp_MC G ad k1 T1 H1 → fp_At G H1 out (eJ G 1 g1) → fp_TJ (i + 1) T1 → W pg (g_l G) en rR s mi ag bl mt cd H1 locs1 (cells + 50006) (slots + 229018) qQ (F0 mi 3331 ls1 [])) : W pg (g_l G) en rR s mi ag bl mt cd H locs cells slots qQ (F0 mi 2792 ls []) := by
  obtain ⟨hx, hb, -⟩ := id X
  refine lv_aload_n hx hb dL_law_2792 rfl (lv_at hl 1 rfl) ?_
  obtain ⟨fs2, hob2⟩ := hP.ob
  refine x_callV (cells1 := cells + 147) (slots1 := slots + 2934) X hR (w_floorPressure G x (fp_LM ad out) T i hI) q538 q539 q540 q88 q541 ⟨rfl, pd_X1_floorPressure⟩ ⟨Nat.le_of_ble_eq_true rfl, Nat.le_of_ble_eq_true rfl⟩ rfl rfl (by omega) (by omega) hob2 rfl rfl (Nat.le_of_ble_eq_true rfl) hl.1 dL_law_2793 (hB0.of hS fp_no.base) hP hS (fun q h => Or.inr (by have h9 : (g_s G).heap.size ≤ q := h.1; omega)) (fun v H1 locs hp hz hk hS => ?_) (fun Ex qx cx H1 locs hp hz hk hS hcx hvx hlx => hp.elim)
  obtain ⟨rfl, hP⟩ := hp
  have hM := hM.keep hk (fun q hq h => h.2 (Or.inl hq))
  have ho := ho.kept (hk out ho.lt (fun h => h.2 (Or.inr rfl)))
  refine r_stk (st2 := [.int (iI ((fp_fp (T.1) : Nat) : Int))]) rfl ?_
  refine lv_aload_n hx hb dL_law_2796 rfl (lv_at hl 2 rfl) ?_
  obtain ⟨fs3, hob3⟩ := hM.ob
  refine x_callV (cells1 := (cells + 147)) (slots1 := (slots + 2934)) X hR (mm_floorPressure G ad _ T i hA0 hI) q2408 q2409 q2410 q100 q2411 ⟨rfl, pd_X4_floorPressure⟩ ⟨Nat.le_of_ble_eq_true rfl, Nat.le_of_ble_eq_true rfl⟩ rfl rfl (by omega) (by omega) hob3 rfl rfl (Nat.le_of_ble_eq_true rfl) hl.1 dL_law_2797 (hB0.of hS fp_no.base) hM hS (fun q h => Or.inr (by have h9 : (g_s G).heap.size ≤ q := fp_ma.base hA0 q h; omega)) (fun v H1 locs hp hz hk hS => ?_) (fun Ex qx cx H1 locs hp hz hk hS hcx hvx hlx => hp.elim)
  obtain ⟨rfl, hM2⟩ := hp
  have hP := hP.mo X.2.2.2.2.2 hM hA0 hz hk
  have ho := ho.kept (hk out ho.lt hoa)
  have hM := hM2
  clear hM2
  refine r_stk (st2 := [.int (iI ((fp_fp (T.1) : Nat) : Int)), .int (iI ((fp_fp (T.1) : Nat) : Int))]) rfl ?_
  refine lv_icmp_eq (tgt := 3331) hx hb dL_law_2800 (by decide) (fun _ => ?_) (fun h => absurd rfl h)
  refine W.widen (k := cells + 50006) (n := slots + 229018) (by omega) (by omega) ?_
  exact kk _ _ _ _ _ _ hl hS hP hM ho (hI.same)
set_option maxHeartbeats 1000000 in
theorem lc_47 {G : fp_G} {pg : Program} {en : Env} {rR : Room} {s : State} {mi : MethodId} {ag : Array Value} {bl : List Frame} {mt : Method} {cd : Code} {H : Heap} {locs : List Loc} {cells slots : Nat} {qQ : State → Prop} {ls : Array Slot} {b L x out i k MC MS : Nat} {xs : Nat → Int32} {ad : Nat → Nat} {T : TH} {g : Nat → Int64} (X : fp_C G pg s mi ag cd cL_law "FortPlannerLaw" 9) (hR : fp_R rR 8192 104096 MC MS) (hB0 : fp_B G s.heap) (hX : va_X b L xs s s.heap) (hbl : b < s.heap.size) (hL : L ≤ 96) (hi : 4 * i + 4 ≤ L) (hA0 : fp_MA G ad) (hob : (g_s G).heap.size ≤ out) (hoa : ¬ fp_ma ad out) (hl : lv_has ls 9 [(0, .ref (b)), (1, .ref (x)), (2, .ref (ad 0)), (3, .ref (out)), (4, .int (iI ((4 * i : Nat) : Int)))]) (hS : va_S (fA fp_no s.heap.size) s.heap H locs) (hsb : s.heap.size = (g_s G).heap.size) (hc : cells + 50006 ≤ MC) (hs : slots + 229018 ≤ MS) (hP : fp_PW G x (fp_LM ad out) T H) (hM : fp_MC G ad k T H) (ho : fp_At G H out (eJ G 1 g)) (hI : fp_TI i T) (kk : ∀ (H1 : Heap) (locs1 : List Loc) (ls1 : Array Slot) (T1 : TH) (k1 : Nat) (g1 : Nat → Int64), lv_has ls1 9 [(0, .ref (b)), (1, .ref (x)), (2, .ref (ad 0)), (3, .ref (out)), (4, .int (iI ((4 * i : Nat) : Int)))] → va_S (fA fp_no s.heap.size) s.heap H1 locs1 → fp_PW G x (fp_LM ad out) T1 H1 → fp_MC G ad k1 T1 H1 → fp_At G H1 out (eJ G 1 g1) → fp_TJ (i + 1) T1 → W pg (g_l G) en rR s mi ag bl mt cd H1 locs1 (cells + 50006) (slots + 229018) qQ (F0 mi 3331 ls1 [])) : W pg (g_l G) en rR s mi ag bl mt cd H locs cells slots qQ (F0 mi 2805 ls []) := by
  obtain ⟨hx, hb, -⟩ := id X
  refine lv_aload_n hx hb dL_law_2805 rfl (lv_at hl 1 rfl) ?_
  obtain ⟨fs2, hob2⟩ := hP.ob
  refine x_callV (cells1 := cells + 12) (slots1 := slots + 48) X hR (w_meanHeight G x (fp_LM ad out) T i hI) q919 q920 q921 q88 q922 ⟨rfl, pd_X1_meanHeight⟩ ⟨Nat.le_of_ble_eq_true rfl, Nat.le_of_ble_eq_true rfl⟩ rfl rfl (by omega) (by omega) hob2 rfl rfl (Nat.le_of_ble_eq_true rfl) hl.1 dL_law_2806 (hB0.of hS fp_no.base) hP hS (fun q h => Or.inr (by have h9 : (g_s G).heap.size ≤ q := h.1; omega)) (fun v H1 locs hp hz hk hS => ?_) (fun Ex qx cx H1 locs hp hz hk hS hcx hvx hlx => hp.elim)
  obtain ⟨rfl, hP⟩ := hp
  have hM := hM.keep hk (fun q hq h => h.2 (Or.inl hq))
  have ho := ho.kept (hk out ho.lt (fun h => h.2 (Or.inr rfl)))
  refine r_stk (st2 := [.double (fp_div12d (fp_sumh (T.1)))]) rfl ?_
  refine lv_dstore (lv' := [(5, .double (fp_div12d (fp_sumh (T.1)))), (0, .ref (b)), (1, .ref (x)), (2, .ref (ad 0)), (3, .ref (out)), (4, .int (iI ((4 * i : Nat) : Int)))]) hx hb dL_law_2809 hl (by decide) rfl (fun ls hl => ?_)
  refine lv_aload_n hx hb dL_law_2811 rfl (lv_at hl 3 rfl) ?_
  obtain ⟨fs3, hob3⟩ := hM.ob
  refine x_callV (cells1 := (cells + 12)) (slots1 := (slots + 48)) X hR (mm_meanHeight G ad _ T i hA0 hI) q2412 q2413 q2414 q100 q2415 ⟨rfl, pd_X4_meanHeight⟩ ⟨Nat.le_of_ble_eq_true rfl, Nat.le_of_ble_eq_true rfl⟩ rfl rfl (by omega) (by omega) hob3 rfl rfl (Nat.le_of_ble_eq_true rfl) hl.1 dL_law_2812 (hB0.of hS fp_no.base) hM hS (fun q h => Or.inr (by have h9 : (g_s G).heap.size ≤ q := fp_ma.base hA0 q h; omega)) (fun v H1 locs hp hz hk hS => ?_) (fun Ex qx cx H1 locs hp hz hk hS hcx hvx hlx => hp.elim)
  obtain ⟨rfl, hM2⟩ := hp
  have hP := hP.mo X.2.2.2.2.2 hM hA0 hz hk
  have ho := ho.kept (hk out ho.lt hoa)
  have hM := hM2
  clear hM2
  refine r_stk (st2 := [.double (fp_div12d (fp_sumh (T.1)))]) rfl ?_
  refine lv_dstore (lv' := [(7, .double (fp_div12d (fp_sumh (T.1)))), (5, .double (fp_div12d (fp_sumh (T.1)))), (0, .ref (b)), (1, .ref (x)), (2, .ref (ad 0)), (3, .ref (out)), (4, .int (iI ((4 * i : Nat) : Int)))]) hx hb dL_law_2815 hl (by decide) rfl (fun ls hl => ?_)
  refine lv_dload hx hb dL_law_2817 (lv_at hl 1 rfl) ?_
  refine lv_dload hx hb dL_law_2819 (lv_at hl 0 rfl) ?_
  refine lv_dcmp hx hb dL_law_2821 ?_
  refine lv_if_eq (tgt := 2843) hx hb dL_law_2822 (by decide) (fun h0 => ?_) (fun h0 => ?_)
  · skip
    refine lv_goto (tgt := 3331) hx hb dL_law_2843 (by decide) ?_
    refine W.widen (k := cells + 50006) (n := slots + 229018) (by omega) (by omega) ?_
    exact kk _ _ _ _ _ _ (lv_sub hl [2, 3, 4, 5, 6] rfl) hS hP hM ho (hI.same)
  · skip
    refine lv_dload hx hb dL_law_2825 (lv_at hl 1 rfl) ?_
    refine lv_dload hx hb dL_law_2827 (lv_at hl 1 rfl) ?_
    refine lv_dcmp hx hb dL_law_2829 ?_
    refine lv_if_eq (tgt := 2841) hx hb dL_law_2830 (by decide) (fun h => absurd h h0) (fun _ => ?_)
    refine lv_dload hx hb dL_law_2833 (lv_at hl 0 rfl) ?_
    refine lv_dload hx hb dL_law_2835 (lv_at hl 0 rfl) ?_
    refine lv_dcmp hx hb dL_law_2837 ?_
    refine lv_if_ne (tgt := 2843) hx hb dL_law_2838 (by decide) (fun _ => ?_) (fun h => absurd h h0)
    refine lv_goto (tgt := 3331) hx hb dL_law_2843 (by decide) ?_
    refine W.widen (k := cells + 50006) (n := slots + 229018) (by omega) (by omega) ?_
    exact kk _ _ _ _ _ _ (lv_sub hl [2, 3, 4, 5, 6] rfl) hS hP hM ho (hI.same)
set_option maxHeartbeats 1000000 in
theorem lc_48 {G : fp_G} {pg : Program} {en : Env} {rR : Room} {s : State} {mi : MethodId} {ag : Array Value} {bl : List Frame} {mt : Method} {cd : Code} {H : Heap} {locs : List Loc} {cells slots : Nat} {qQ : State → Prop} {ls : Array Slot} {b L x out i k MC MS : Nat} {xs : Nat → Int32} {ad : Nat → Nat} {T : TH} {g : Nat → Int64} (X : fp_C G pg s mi ag cd cL_law "FortPlannerLaw" 9) (hR : fp_R rR 8192 104096 MC MS) (hB0 : fp_B G s.heap) (hX : va_X b L xs s s.heap) (hbl : b < s.heap.size) (hL : L ≤ 96) (hi : 4 * i + 4 ≤ L) (hA0 : fp_MA G ad) (hob : (g_s G).heap.size ≤ out) (hoa : ¬ fp_ma ad out) (hl : lv_has ls 9 [(0, .ref (b)), (1, .ref (x)), (2, .ref (ad 0)), (3, .ref (out)), (4, .int (iI ((4 * i : Nat) : Int)))]) (hS : va_S (fA fp_no s.heap.size) s.heap H locs) (hsb : s.heap.size = (g_s G).heap.size) (hc : cells + 50006 ≤ MC) (hs : slots + 229018 ≤ MS) (hP : fp_PW G x (fp_LM ad out) T H) (hM : fp_MC G ad k T H) (ho : fp_At G H out (eJ G 1 g)) (hI : fp_TI i T) (kk : ∀ (H1 : Heap) (locs1 : List Loc) (ls1 : Array Slot) (T1 : TH) (k1 : Nat) (g1 : Nat → Int64), lv_has ls1 9 [(0, .ref (b)), (1, .ref (x)), (2, .ref (ad 0)), (3, .ref (out)), (4, .int (iI ((4 * i : Nat) : Int)))] → va_S (fA fp_no s.heap.size) s.heap H1 locs1 → fp_PW G x (fp_LM ad out) T1 H1 → fp_MC G ad k1 T1 H1 → fp_At G H1 out (eJ G 1 g1) → fp_TJ (i + 1) T1 → W pg (g_l G) en rR s mi ag bl mt cd H1 locs1 (cells + 50006) (slots + 229018) qQ (F0 mi 3331 ls1 [])) : W pg (g_l G) en rR s mi ag bl mt cd H locs cells slots qQ (F0 mi 2846 ls []) := by
  obtain ⟨hx, hb, -⟩ := id X
  refine lv_aload_n hx hb dL_law_2846 rfl (lv_at hl 1 rfl) ?_
  obtain ⟨fs2, hob2⟩ := hP.ob
  refine x_callV (cells1 := cells + 193) (slots1 := slots + 780) X hR (w_litShare G x (fp_LM ad out) T i hI) q924 q925 q926 q88 q927 ⟨rfl, pd_X1_litShare⟩ ⟨Nat.le_of_ble_eq_true rfl, Nat.le_of_ble_eq_true rfl⟩ rfl rfl (by omega) (by omega) hob2 rfl rfl (Nat.le_of_ble_eq_true rfl) hl.1 dL_law_2847 (hB0.of hS fp_no.base) hP hS (fun q h => Or.inr (by have h9 : (g_s G).heap.size ≤ q := h.1; omega)) (fun v H1 locs hp hz hk hS => ?_) (fun Ex qx cx H1 locs hp hz hk hS hcx hvx hlx => hp.elim)
  obtain ⟨rfl, hP⟩ := hp
  have hM := hM.keep hk (fun q hq h => h.2 (Or.inl hq))
  have ho := ho.kept (hk out ho.lt (fun h => h.2 (Or.inr rfl)))
  refine r_stk (st2 := [.float (fp_div12f (fp_nlit (T.1)))]) rfl ?_
  refine lv_f2d hx hb dL_law_2850 (fp_ls_n (fp_ct_le _ 12)) ?_
  refine lv_dstore (lv' := [(5, .double (FP.f2d (fp_div12f (fp_nlit (T.1))))), (0, .ref (b)), (1, .ref (x)), (2, .ref (ad 0)), (3, .ref (out)), (4, .int (iI ((4 * i : Nat) : Int)))]) hx hb dL_law_2851 hl (by decide) rfl (fun ls hl => ?_)
  refine lv_aload_n hx hb dL_law_2853 rfl (lv_at hl 3 rfl) ?_
  obtain ⟨fs3, hob3⟩ := hM.ob
  refine x_callV (cells1 := (cells + 193)) (slots1 := (slots + 780)) X hR (mm_litShare G ad _ T i hA0 hI) q2417 q2418 q2419 q100 q2420 ⟨rfl, pd_X4_litShare⟩ ⟨Nat.le_of_ble_eq_true rfl, Nat.le_of_ble_eq_true rfl⟩ rfl rfl (by omega) (by omega) hob3 rfl rfl (Nat.le_of_ble_eq_true rfl) hl.1 dL_law_2854 (hB0.of hS fp_no.base) hM hS (fun q h => Or.inr (by have h9 : (g_s G).heap.size ≤ q := fp_ma.base hA0 q h; omega)) (fun v H1 locs hp hz hk hS => ?_) (fun Ex qx cx H1 locs hp hz hk hS hcx hvx hlx => hp.elim)
  obtain ⟨rfl, hM2⟩ := hp
  have hP := hP.mo X.2.2.2.2.2 hM hA0 hz hk
  have ho := ho.kept (hk out ho.lt hoa)
  have hM := hM2
  clear hM2
  refine r_stk (st2 := [.float (fp_div12f (fp_nlit (T.1)))]) rfl ?_
  refine lv_f2d hx hb dL_law_2857 (fp_ls_n (fp_ct_le _ 12)) ?_
  refine lv_dstore (lv' := [(7, .double (FP.f2d (fp_div12f (fp_nlit (T.1))))), (5, .double (FP.f2d (fp_div12f (fp_nlit (T.1))))), (0, .ref (b)), (1, .ref (x)), (2, .ref (ad 0)), (3, .ref (out)), (4, .int (iI ((4 * i : Nat) : Int)))]) hx hb dL_law_2858 hl (by decide) rfl (fun ls hl => ?_)
  refine lv_dload hx hb dL_law_2860 (lv_at hl 1 rfl) ?_
  refine lv_dload hx hb dL_law_2862 (lv_at hl 0 rfl) ?_
  refine lv_dcmp hx hb dL_law_2864 ?_
  refine lv_if_eq (tgt := 2886) hx hb dL_law_2865 (by decide) (fun h0 => ?_) (fun h0 => ?_)
  · skip
    refine lv_goto (tgt := 3331) hx hb dL_law_2886 (by decide) ?_
    refine W.widen (k := cells + 50006) (n := slots + 229018) (by omega) (by omega) ?_
    exact kk _ _ _ _ _ _ (lv_sub hl [2, 3, 4, 5, 6] rfl) hS hP hM ho (hI.same)
  · skip
    refine lv_dload hx hb dL_law_2868 (lv_at hl 1 rfl) ?_
    refine lv_dload hx hb dL_law_2870 (lv_at hl 1 rfl) ?_
    refine lv_dcmp hx hb dL_law_2872 ?_
    refine lv_if_eq (tgt := 2884) hx hb dL_law_2873 (by decide) (fun h => absurd h h0) (fun _ => ?_)
    refine lv_dload hx hb dL_law_2876 (lv_at hl 0 rfl) ?_
    refine lv_dload hx hb dL_law_2878 (lv_at hl 0 rfl) ?_
    refine lv_dcmp hx hb dL_law_2880 ?_
    refine lv_if_ne (tgt := 2886) hx hb dL_law_2881 (by decide) (fun _ => ?_) (fun h => absurd h h0)
    refine lv_goto (tgt := 3331) hx hb dL_law_2886 (by decide) ?_
    refine W.widen (k := cells + 50006) (n := slots + 229018) (by omega) (by omega) ?_
    exact kk _ _ _ _ _ _ (lv_sub hl [2, 3, 4, 5, 6] rfl) hS hP hM ho (hI.same)
set_option maxHeartbeats 1000000 in
theorem lc_49 {G : fp_G} {pg : Program} {en : Env} {rR : Room} {s : State} {mi : MethodId} {ag : Array Value} {bl : List Frame} {mt : Method} {cd : Code} {H : Heap} {locs : List Loc} {cells slots : Nat} {qQ : State → Prop} {ls : Array Slot} {b L x out i k MC MS : Nat} {xs : Nat → Int32} {ad : Nat → Nat} {T : TH} {g : Nat → Int64} (X : fp_C G pg s mi ag cd cL_law "FortPlannerLaw" 9) (hR : fp_R rR 8192 104096 MC MS) (hB0 : fp_B G s.heap) (hX : va_X b L xs s s.heap) (hbl : b < s.heap.size) (hL : L ≤ 96) (hi : 4 * i + 4 ≤ L) (hA0 : fp_MA G ad) (hob : (g_s G).heap.size ≤ out) (hoa : ¬ fp_ma ad out) (hl : lv_has ls 9 [(0, .ref (b)), (1, .ref (x)), (2, .ref (ad 0)), (3, .ref (out)), (4, .int (iI ((4 * i : Nat) : Int)))]) (hS : va_S (fA fp_no s.heap.size) s.heap H locs) (hsb : s.heap.size = (g_s G).heap.size) (hc : cells + 50006 ≤ MC) (hs : slots + 229018 ≤ MS) (hP : fp_PW G x (fp_LM ad out) T H) (hM : fp_MC G ad k T H) (ho : fp_At G H out (eJ G 1 g)) (hI : fp_TI i T) (kk : ∀ (H1 : Heap) (locs1 : List Loc) (ls1 : Array Slot) (T1 : TH) (k1 : Nat) (g1 : Nat → Int64), lv_has ls1 9 [(0, .ref (b)), (1, .ref (x)), (2, .ref (ad 0)), (3, .ref (out)), (4, .int (iI ((4 * i : Nat) : Int)))] → va_S (fA fp_no s.heap.size) s.heap H1 locs1 → fp_PW G x (fp_LM ad out) T1 H1 → fp_MC G ad k1 T1 H1 → fp_At G H1 out (eJ G 1 g1) → fp_TJ (i + 1) T1 → W pg (g_l G) en rR s mi ag bl mt cd H1 locs1 (cells + 50006) (slots + 229018) qQ (F0 mi 3331 ls1 [])) : W pg (g_l G) en rR s mi ag bl mt cd H locs cells slots qQ (F0 mi 2889 ls []) := by
  obtain ⟨hx, hb, -⟩ := id X
  refine lv_aload_n hx hb dL_law_2889 rfl (lv_at hl 1 rfl) ?_
  obtain ⟨fs2, hob2⟩ := hP.ob
  refine x_callV (cells1 := cells + 10484) (slots1 := slots + 103910) X hR (w_isConsistent G x (fp_LM ad out) T i hI) q929 q930 q931 q88 q932 ⟨rfl, pd_X1_isConsistent⟩ ⟨Nat.le_of_ble_eq_true rfl, Nat.le_of_ble_eq_true rfl⟩ rfl rfl (by omega) (by omega) hob2 rfl rfl (Nat.le_of_ble_eq_true rfl) hl.1 dL_law_2890 (hB0.of hS fp_no.base) hP hS (fun q h => Or.inr (by have h9 : (g_s G).heap.size ≤ q := h.1; omega)) (fun v H1 locs hp hz hk hS => ?_) (fun Ex qx cx H1 locs hp hz hk hS hcx hvx hlx => hp.elim)
  obtain ⟨rfl, hP⟩ := hp
  have hM := hM.keep hk (fun q hq h => h.2 (Or.inl hq))
  have ho := ho.kept (hk out ho.lt (fun h => h.2 (Or.inr rfl)))
  refine r_stk (st2 := [.int (iI (bI (fp_bears (T.1))))]) rfl ?_
  refine lv_aload_n hx hb dL_law_2893 rfl (lv_at hl 2 rfl) ?_
  obtain ⟨fs3, hob3⟩ := hM.ob
  refine x_callV (cells1 := (cells + 10484)) (slots1 := (slots + 103910)) X hR (mm_isConsistent G ad _ T i hA0 hI) q2422 q2423 q2424 q100 q2425 ⟨rfl, pd_X4_isConsistent⟩ ⟨Nat.le_of_ble_eq_true rfl, Nat.le_of_ble_eq_true rfl⟩ rfl rfl (by omega) (by omega) hob3 rfl rfl (Nat.le_of_ble_eq_true rfl) hl.1 dL_law_2894 (hB0.of hS fp_no.base) hM hS (fun q h => Or.inr (by have h9 : (g_s G).heap.size ≤ q := fp_ma.base hA0 q h; omega)) (fun v H1 locs hp hz hk hS => ?_) (fun Ex qx cx H1 locs hp hz hk hS hcx hvx hlx => hp.elim)
  obtain ⟨rfl, hM2⟩ := hp
  have hP := hP.mo X.2.2.2.2.2 hM hA0 hz hk
  have ho := ho.kept (hk out ho.lt hoa)
  have hM := hM2
  clear hM2
  refine r_stk (st2 := [.int (iI (bI (fp_bears (T.1)))), .int (iI (bI (fp_bears (T.1))))]) rfl ?_
  refine lv_icmp_eq (tgt := 3331) hx hb dL_law_2897 (by decide) (fun _ => ?_) (fun h => absurd rfl h)
  refine W.widen (k := cells + 50006) (n := slots + 229018) (by omega) (by omega) ?_
  exact kk _ _ _ _ _ _ hl hS hP hM ho (hI.same)
set_option maxHeartbeats 1000000 in
theorem lc_50 {G : fp_G} {pg : Program} {en : Env} {rR : Room} {s : State} {mi : MethodId} {ag : Array Value} {bl : List Frame} {mt : Method} {cd : Code} {H : Heap} {locs : List Loc} {cells slots : Nat} {qQ : State → Prop} {ls : Array Slot} {b L x out i k MC MS : Nat} {xs : Nat → Int32} {ad : Nat → Nat} {T : TH} {g : Nat → Int64} (X : fp_C G pg s mi ag cd cL_law "FortPlannerLaw" 9) (hR : fp_R rR 8192 104096 MC MS) (hB0 : fp_B G s.heap) (hX : va_X b L xs s s.heap) (hbl : b < s.heap.size) (hL : L ≤ 96) (hi : 4 * i + 4 ≤ L) (hA0 : fp_MA G ad) (hob : (g_s G).heap.size ≤ out) (hoa : ¬ fp_ma ad out) (hl : lv_has ls 9 [(0, .ref (b)), (1, .ref (x)), (2, .ref (ad 0)), (3, .ref (out)), (4, .int (iI ((4 * i : Nat) : Int)))]) (hS : va_S (fA fp_no s.heap.size) s.heap H locs) (hsb : s.heap.size = (g_s G).heap.size) (hc : cells + 50006 ≤ MC) (hs : slots + 229018 ≤ MS) (hP : fp_PW G x (fp_LM ad out) T H) (hM : fp_MC G ad k T H) (ho : fp_At G H out (eJ G 1 g)) (hI : fp_TI i T) (kk : ∀ (H1 : Heap) (locs1 : List Loc) (ls1 : Array Slot) (T1 : TH) (k1 : Nat) (g1 : Nat → Int64), lv_has ls1 9 [(0, .ref (b)), (1, .ref (x)), (2, .ref (ad 0)), (3, .ref (out)), (4, .int (iI ((4 * i : Nat) : Int)))] → va_S (fA fp_no s.heap.size) s.heap H1 locs1 → fp_PW G x (fp_LM ad out) T1 H1 → fp_MC G ad k1 T1 H1 → fp_At G H1 out (eJ G 1 g1) → fp_TJ (i + 1) T1 → W pg (g_l G) en rR s mi ag bl mt cd H1 locs1 (cells + 50006) (slots + 229018) qQ (F0 mi 3331 ls1 [])) : W pg (g_l G) en rR s mi ag bl mt cd H locs cells slots qQ (F0 mi 2902 ls []) := by
  obtain ⟨hx, hb, -⟩ := id X
  refine lv_aload_n hx hb dL_law_2902 rfl (lv_at hl 1 rfl) ?_
  refine lv_aload_n hx hb dL_law_2903 rfl (lv_at hl 0 rfl) ?_
  refine lv_iload hx hb dL_law_2904 (lv_at hl 4 rfl) ?_
  refine lv_iconst (v := (iI ((1 : Nat) : Int))) hx hb dL_law_2906 rfl ?_
  refine r_iaddN hx hb dL_law_2907 ?_
  refine r_scr (j := 4 * i + 1) X hX hbl hS (by omega) hL dL_law_2908 ?_
  refine lv_aload_n hx hb dL_law_2909 rfl (lv_at hl 3 rfl) ?_
  obtain ⟨kc, hkc⟩ : ∃ kc, fp_fc T.1 (fp_xs xs (4 * i + 1)) = kc := ⟨_, rfl⟩
  refine x_callSH (cells1 := cells + 162) (slots1 := slots + 5968) X hR (x0_formatBlock G x (fp_LM ad out) T i out g (fp_xs xs (4 * i + 1)) hI (fp_xs_rg _ _) (Or.inr rfl) hob) q1650 q1651 q87 q1652 pd_X0_formatBlock ⟨Nat.le_of_ble_eq_true rfl, Nat.le_of_ble_eq_true rfl⟩ rfl rfl (by omega) (by omega) rfl (Nat.le_of_ble_eq_true rfl) hl.1 dL_law_2910 (hB0.of hS fp_no.base) ⟨hP, ho⟩ hS (fun q h => Or.inr (by have h9 : (g_s G).heap.size ≤ q := h.1; omega)) (fun v H1 locs hp hz hk hS => ?_) (fun Ex qx cx H1 locs hp hz hk hS hcx hvx hlx => hp.elim)
  obtain ⟨g2, rfl, hg2, hP, ho⟩ := hp
  have hM := hM.keep hk (fun q hq h => h.2.elim (fun z => z (Or.inl hq)) (fun z => hoa (z ▸ hq)))
  refine r_stk (st2 := [.int (iI ((fp_fc T.1 (fp_xs xs (4 * i + 1)) : Nat) : Int))]) rfl ?_
  have hkb : kc ≤ 2 := by rw [← hkc]; unfold fp_fc; (repeat' split) <;> omega
  rw [hkc] at hg2 hP ⊢
  refine lv_istore (lv' := [(5, .int (iI ((kc : Nat) : Int))), (0, .ref (b)), (1, .ref (x)), (2, .ref (ad 0)), (3, .ref (out)), (4, .int (iI ((4 * i : Nat) : Int)))]) hx hb dL_law_2913 hl (by decide) rfl (fun ls hl => ?_)
  refine lv_aload_n hx hb dL_law_2915 rfl (lv_at hl 3 rfl) ?_
  refine lv_aload_n hx hb dL_law_2916 rfl (lv_at hl 1 rfl) ?_
  refine lv_iload hx hb dL_law_2917 (lv_at hl 5 rfl) ?_
  refine lv_iconst (v := (iI ((1 : Nat) : Int))) hx hb dL_law_2919 rfl ?_
  refine r_iaddN hx hb dL_law_2920 ?_
  refine r_scr (j := 4 * i + 1) X hX hbl hS (by omega) hL dL_law_2921 ?_
  obtain ⟨fs3, hob3⟩ := hM.ob
  refine x_callV (cells1 := (cells + 162)) (slots1 := (slots + 5968)) X hR (mm_formatBlock G ad _ T i (fp_xs xs (4 * i + 1)) hA0 hI (fp_xs_rg _ _)) q2426 q2427 q2428 q100 q2429 ⟨rfl, pd_X4_formatBlock⟩ ⟨Nat.le_of_ble_eq_true rfl, Nat.le_of_ble_eq_true rfl⟩ rfl rfl (by omega) (by omega) hob3 rfl rfl (Nat.le_of_ble_eq_true rfl) hl.1 dL_law_2922 (hB0.of hS fp_no.base) hM hS (fun q h => Or.inr (by have h9 : (g_s G).heap.size ≤ q := fp_ma.base hA0 q h; omega)) (fun v H1 locs hp hz hk hS => ?_) (fun Ex qx cx H1 locs hp hz hk hS hcx hvx hlx => hp.elim)
  obtain ⟨r, rfl, hr, hM2⟩ := hp
  have hP := hP.mo X.2.2.2.2.2 hM hA0 hz hk
  have ho := ho.kept (hk out ho.lt hoa)
  have hM := hM2
  clear hM2
  rw [hkc] at hr hM
  refine r_stk (st2 := [.int (iI (r))]) rfl ?_
  refine lv_istore (lv' := [(6, .int (iI (r))), (5, .int (iI ((kc : Nat) : Int))), (0, .ref (b)), (1, .ref (x)), (2, .ref (ad 0)), (3, .ref (out)), (4, .int (iI ((4 * i : Nat) : Int)))]) hx hb dL_law_2925 hl (by decide) rfl (fun ls hl => ?_)
  refine lv_aload_n hx hb dL_law_2927 rfl (lv_at hl 4 rfl) ?_
  obtain ⟨fs4, hob4⟩ := hM.ob
  refine x_callV (cells1 := (cells + 162)) (slots1 := (slots + 5968)) X hR (mm_thrown G ad _ _ hA0) q2079 q2080 q2081 q100 q2082 ⟨rfl, pd_X4_thrown⟩ ⟨Nat.le_of_ble_eq_true rfl, Nat.le_of_ble_eq_true rfl⟩ rfl rfl (by omega) (by omega) hob4 rfl rfl (Nat.le_of_ble_eq_true rfl) hl.1 dL_law_2928 (hB0.of hS fp_no.base) hM hS (fun q h => Or.inr (by have h9 : (g_s G).heap.size ≤ q := fp_ma.base hA0 q h; omega)) (fun v H1 locs hp hz hk hS => ?_) (fun Ex qx cx H1 locs hp hz hk hS hcx hvx hlx => hp.elim)
  obtain ⟨rfl, hM2⟩ := hp
  have hP := hP.mo X.2.2.2.2.2 hM hA0 hz hk
  have ho := ho.kept (hk out ho.lt hoa)
  have hM := hM2
  clear hM2
  refine r_stk (st2 := [.int (iI ((kc : Nat) : Int))]) rfl ?_
  refine lv_iload hx hb dL_law_2931 (lv_at hl 1 rfl) ?_
  refine lv_icmp_eq (tgt := 2938) hx hb dL_law_2933 (by decide) (fun _ => ?_) (fun h => absurd rfl h)
  refine lv_iload hx hb dL_law_2938 (lv_at hl 1 rfl) ?_
  refine r_if_ne (tgt := 2955) hx hb ⟨by omega, by omega⟩ dL_law_2940 (by decide) (fun hne => ?_) (fun he => ?_)
  · skip
    refine lv_goto (tgt := 3331) hx hb dL_law_2955 (by decide) ?_
    refine W.widen (k := cells + 50006) (n := slots + 229018) (by omega) (by omega) ?_
    exact kk _ _ _ _ _ _ (lv_sub hl [2, 3, 4, 5, 6] rfl) hS hP hM ho (hI.ifc (fun e => hI.ln (fp_fbl_le hI.1.1 (fp_fc_z (hkc.trans e)))))
  · skip
    have he : kc = 0 := by omega
    refine lv_aload_n hx hb dL_law_2943 rfl (lv_at hl 5 rfl) ?_
    refine lv_iconst (v := (iI ((0 : Nat) : Int))) hx hb dL_law_2944 rfl ?_
    refine r_laldI (j := 0) X ho rfl (by decide) (by decide) dL_law_2945 ?_
    refine lv_iload hx hb dL_law_2946 (lv_at hl 0 rfl) ?_
    refine lv_i2l (v := (iI r).toInt64) hx hb dL_law_2948 rfl ?_
    refine r_lcmpE X (by rw [hg2 he, hr he]) dL_law_2949 ?_
    refine lv_if_eq (tgt := 2955) hx hb dL_law_2950 (by decide) (fun _ => ?_) (fun h => absurd rfl h)
    refine lv_goto (tgt := 3331) hx hb dL_law_2955 (by decide) ?_
    refine W.widen (k := cells + 50006) (n := slots + 229018) (by omega) (by omega) ?_
    exact kk _ _ _ _ _ _ (lv_sub hl [2, 3, 4, 5, 6] rfl) hS hP hM ho (hI.ifc (fun e => hI.ln (fp_fbl_le hI.1.1 (fp_fc_z (hkc.trans e)))))
set_option maxHeartbeats 1000000 in
theorem lc_51 {G : fp_G} {pg : Program} {en : Env} {rR : Room} {s : State} {mi : MethodId} {ag : Array Value} {bl : List Frame} {mt : Method} {cd : Code} {H : Heap} {locs : List Loc} {cells slots : Nat} {qQ : State → Prop} {ls : Array Slot} {b L x out i k MC MS : Nat} {xs : Nat → Int32} {ad : Nat → Nat} {T : TH} {g : Nat → Int64} (X : fp_C G pg s mi ag cd cL_law "FortPlannerLaw" 9) (hR : fp_R rR 8192 104096 MC MS) (hB0 : fp_B G s.heap) (hX : va_X b L xs s s.heap) (hbl : b < s.heap.size) (hL : L ≤ 96) (hi : 4 * i + 4 ≤ L) (hA0 : fp_MA G ad) (hob : (g_s G).heap.size ≤ out) (hoa : ¬ fp_ma ad out) (hl : lv_has ls 9 [(0, .ref (b)), (1, .ref (x)), (2, .ref (ad 0)), (3, .ref (out)), (4, .int (iI ((4 * i : Nat) : Int)))]) (hS : va_S (fA fp_no s.heap.size) s.heap H locs) (hsb : s.heap.size = (g_s G).heap.size) (hc : cells + 50006 ≤ MC) (hs : slots + 229018 ≤ MS) (hP : fp_PW G x (fp_LM ad out) T H) (hM : fp_MC G ad k T H) (ho : fp_At G H out (eJ G 1 g)) (hI : fp_TI i T) (kk : ∀ (H1 : Heap) (locs1 : List Loc) (ls1 : Array Slot) (T1 : TH) (k1 : Nat) (g1 : Nat → Int64), lv_has ls1 9 [(0, .ref (b)), (1, .ref (x)), (2, .ref (ad 0)), (3, .ref (out)), (4, .int (iI ((4 * i : Nat) : Int)))] → va_S (fA fp_no s.heap.size) s.heap H1 locs1 → fp_PW G x (fp_LM ad out) T1 H1 → fp_MC G ad k1 T1 H1 → fp_At G H1 out (eJ G 1 g1) → fp_TJ (i + 1) T1 → W pg (g_l G) en rR s mi ag bl mt cd H1 locs1 (cells + 50006) (slots + 229018) qQ (F0 mi 3331 ls1 [])) : W pg (g_l G) en rR s mi ag bl mt cd H locs cells slots qQ (F0 mi 2958 ls []) := by
  obtain ⟨hx, hb, -⟩ := id X
  refine lv_aload_n hx hb dL_law_2958 rfl (lv_at hl 1 rfl) ?_
  obtain ⟨fs2, hob2⟩ := hP.ob
  refine x_callV (cells1 := cells + 49) (slots1 := slots + 7522) X hR (w_formatHeights G x (fp_LM ad out) T i hI) q1005 q1006 q1007 q88 q1008 ⟨rfl, pd_X1_formatHeights⟩ ⟨Nat.le_of_ble_eq_true rfl, Nat.le_of_ble_eq_true rfl⟩ rfl rfl (by omega) (by omega) hob2 rfl rfl (Nat.le_of_ble_eq_true rfl) hl.1 dL_law_2959 (hB0.of hS fp_no.base) hP hS (fun q h => Or.inr (by have h9 : (g_s G).heap.size ≤ q := h.1; omega)) (fun v H1 locs hp hz hk hS => ?_) (fun Ex qx cx H1 locs hp hz hk hS hcx hvx hlx => hp.elim)
  obtain ⟨rfl, hP⟩ := hp
  have hM := hM.keep hk (fun q hq h => h.2 (Or.inl hq))
  have ho := ho.kept (hk out ho.lt (fun h => h.2 (Or.inr rfl)))
  refine r_stk (st2 := [.int (iI (((fp_fhl (T.1) 12).2 : Nat) : Int))]) rfl ?_
  refine lv_aload_n hx hb dL_law_2962 rfl (lv_at hl 2 rfl) ?_
  obtain ⟨fs3, hob3⟩ := hM.ob
  refine x_callV (cells1 := (cells + 49)) (slots1 := (slots + 7522)) X hR (mm_formatHeights G ad _ T i hA0 hI) q2442 q2443 q2444 q100 q2445 ⟨rfl, pd_X4_formatHeights⟩ ⟨Nat.le_of_ble_eq_true rfl, Nat.le_of_ble_eq_true rfl⟩ rfl rfl (by omega) (by omega) hob3 rfl rfl (Nat.le_of_ble_eq_true rfl) hl.1 dL_law_2963 (hB0.of hS fp_no.base) hM hS (fun q h => Or.inr (by have h9 : (g_s G).heap.size ≤ q := fp_ma.base hA0 q h; omega)) (fun v H1 locs hp hz hk hS => ?_) (fun Ex qx cx H1 locs hp hz hk hS hcx hvx hlx => hp.elim)
  obtain ⟨rfl, hM2⟩ := hp
  have hP := hP.mo X.2.2.2.2.2 hM hA0 hz hk
  have ho := ho.kept (hk out ho.lt hoa)
  have hM := hM2
  clear hM2
  refine r_stk (st2 := [.int (iI (((fp_fhl (T.1) 12).2 : Nat) : Int)), .int (iI (((fp_fhl (T.1) 12).2 : Nat) : Int))]) rfl ?_
  refine lv_icmp_eq (tgt := 3331) hx hb dL_law_2966 (by decide) (fun _ => ?_) (fun h => absurd rfl h)
  refine W.widen (k := cells + 50006) (n := slots + 229018) (by omega) (by omega) ?_
  exact kk _ _ _ _ _ _ hl hS hP hM ho (hI.ln (by have h9 := fp_fhl_le hI.1.1 12; omega))
set_option maxHeartbeats 1000000 in
theorem lc_52 {G : fp_G} {pg : Program} {en : Env} {rR : Room} {s : State} {mi : MethodId} {ag : Array Value} {bl : List Frame} {mt : Method} {cd : Code} {H : Heap} {locs : List Loc} {cells slots : Nat} {qQ : State → Prop} {ls : Array Slot} {b L x out i k MC MS : Nat} {xs : Nat → Int32} {ad : Nat → Nat} {T : TH} {g : Nat → Int64} (X : fp_C G pg s mi ag cd cL_law "FortPlannerLaw" 9) (hR : fp_R rR 8192 104096 MC MS) (hB0 : fp_B G s.heap) (hX : va_X b L xs s s.heap) (hbl : b < s.heap.size) (hL : L ≤ 96) (hi : 4 * i + 4 ≤ L) (hA0 : fp_MA G ad) (hob : (g_s G).heap.size ≤ out) (hoa : ¬ fp_ma ad out) (hl : lv_has ls 9 [(0, .ref (b)), (1, .ref (x)), (2, .ref (ad 0)), (3, .ref (out)), (4, .int (iI ((4 * i : Nat) : Int)))]) (hS : va_S (fA fp_no s.heap.size) s.heap H locs) (hsb : s.heap.size = (g_s G).heap.size) (hc : cells + 50006 ≤ MC) (hs : slots + 229018 ≤ MS) (hP : fp_PW G x (fp_LM ad out) T H) (hM : fp_MC G ad k T H) (ho : fp_At G H out (eJ G 1 g)) (hI : fp_TI i T) (kk : ∀ (H1 : Heap) (locs1 : List Loc) (ls1 : Array Slot) (T1 : TH) (k1 : Nat) (g1 : Nat → Int64), lv_has ls1 9 [(0, .ref (b)), (1, .ref (x)), (2, .ref (ad 0)), (3, .ref (out)), (4, .int (iI ((4 * i : Nat) : Int)))] → va_S (fA fp_no s.heap.size) s.heap H1 locs1 → fp_PW G x (fp_LM ad out) T1 H1 → fp_MC G ad k1 T1 H1 → fp_At G H1 out (eJ G 1 g1) → fp_TJ (i + 1) T1 → W pg (g_l G) en rR s mi ag bl mt cd H1 locs1 (cells + 50006) (slots + 229018) qQ (F0 mi 3331 ls1 [])) : W pg (g_l G) en rR s mi ag bl mt cd H locs cells slots qQ (F0 mi 2971 ls []) := by
  obtain ⟨hx, hb, -⟩ := id X
  refine lv_aload_n hx hb dL_law_2971 rfl (lv_at hl 1 rfl) ?_
  refine lv_aload_n hx hb dL_law_2972 rfl (lv_at hl 0 rfl) ?_
  refine lv_iload hx hb dL_law_2973 (lv_at hl 4 rfl) ?_
  refine lv_iconst (v := (iI ((1 : Nat) : Int))) hx hb dL_law_2975 rfl ?_
  refine r_iaddN hx hb dL_law_2976 ?_
  refine r_scr (j := 4 * i + 1) X hX hbl hS (by omega) hL dL_law_2977 ?_
  refine lv_aload_n hx hb dL_law_2978 rfl (lv_at hl 3 rfl) ?_
  obtain ⟨kc, hkc⟩ : ∃ kc, fp_ln_c T.2.2.2.2.1.1 (fp_xs xs (4 * i + 1)) = kc := ⟨_, rfl⟩
  refine x_callSH (cells1 := cells + 1) (slots1 := slots + 6) X hR (x0_lineChar G x (fp_LM ad out) T i out g (fp_xs xs (4 * i + 1)) hI (fp_xs_rg _ _) (Or.inr rfl) hob) q1690 q1691 q87 q1692 pd_X0_lineChar ⟨Nat.le_of_ble_eq_true rfl, Nat.le_of_ble_eq_true rfl⟩ rfl rfl (by omega) (by omega) rfl (Nat.le_of_ble_eq_true rfl) hl.1 dL_law_2979 (hB0.of hS fp_no.base) ⟨hP, ho⟩ hS (fun q h => Or.inr (by have h9 : (g_s G).heap.size ≤ q := h.1; omega)) (fun v H1 locs hp hz hk hS => ?_) (fun Ex qx cx H1 locs hp hz hk hS hcx hvx hlx => hp.elim)
  obtain ⟨g2, rfl, hg2, hP, ho⟩ := hp
  have hM := hM.keep hk (fun q hq h => h.2.elim (fun z => z (Or.inl hq)) (fun z => hoa (z ▸ hq)))
  refine r_stk (st2 := [.int (iI ((fp_ln_c T.2.2.2.2.1.1 (fp_xs xs (4 * i + 1)) : Nat) : Int))]) rfl ?_
  have hkb : kc ≤ 2 := by rw [← hkc]; unfold fp_ln_c; (repeat' split) <;> omega
  rw [hkc] at hg2 ⊢
  refine lv_istore (lv' := [(5, .int (iI ((kc : Nat) : Int))), (0, .ref (b)), (1, .ref (x)), (2, .ref (ad 0)), (3, .ref (out)), (4, .int (iI ((4 * i : Nat) : Int)))]) hx hb dL_law_2982 hl (by decide) rfl (fun ls hl => ?_)
  refine lv_aload_n hx hb dL_law_2984 rfl (lv_at hl 3 rfl) ?_
  refine lv_aload_n hx hb dL_law_2985 rfl (lv_at hl 1 rfl) ?_
  refine lv_iload hx hb dL_law_2986 (lv_at hl 5 rfl) ?_
  refine lv_iconst (v := (iI ((1 : Nat) : Int))) hx hb dL_law_2988 rfl ?_
  refine r_iaddN hx hb dL_law_2989 ?_
  refine r_scr (j := 4 * i + 1) X hX hbl hS (by omega) hL dL_law_2990 ?_
  obtain ⟨fs3, hob3⟩ := hM.ob
  refine x_callV (cells1 := (cells + 1)) (slots1 := (slots + 6)) X hR (mm_lineChar G ad _ T i (fp_xs xs (4 * i + 1)) hA0 hI (fp_xs_rg _ _)) q2446 q2447 q2448 q100 q2449 ⟨rfl, pd_X4_lineChar⟩ ⟨Nat.le_of_ble_eq_true rfl, Nat.le_of_ble_eq_true rfl⟩ rfl rfl (by omega) (by omega) hob3 rfl rfl (Nat.le_of_ble_eq_true rfl) hl.1 dL_law_2991 (hB0.of hS fp_no.base) hM hS (fun q h => Or.inr (by have h9 : (g_s G).heap.size ≤ q := fp_ma.base hA0 q h; omega)) (fun v H1 locs hp hz hk hS => ?_) (fun Ex qx cx H1 locs hp hz hk hS hcx hvx hlx => hp.elim)
  obtain ⟨r, rfl, hr, hM2⟩ := hp
  have hP := hP.mo X.2.2.2.2.2 hM hA0 hz hk
  have ho := ho.kept (hk out ho.lt hoa)
  have hM := hM2
  clear hM2
  rw [hkc] at hr hM
  refine r_stk (st2 := [.int (iI (r))]) rfl ?_
  refine lv_istore (lv' := [(6, .int (iI (r))), (5, .int (iI ((kc : Nat) : Int))), (0, .ref (b)), (1, .ref (x)), (2, .ref (ad 0)), (3, .ref (out)), (4, .int (iI ((4 * i : Nat) : Int)))]) hx hb dL_law_2994 hl (by decide) rfl (fun ls hl => ?_)
  refine lv_aload_n hx hb dL_law_2996 rfl (lv_at hl 4 rfl) ?_
  obtain ⟨fs4, hob4⟩ := hM.ob
  refine x_callV (cells1 := (cells + 1)) (slots1 := (slots + 6)) X hR (mm_thrown G ad _ _ hA0) q2079 q2080 q2081 q100 q2082 ⟨rfl, pd_X4_thrown⟩ ⟨Nat.le_of_ble_eq_true rfl, Nat.le_of_ble_eq_true rfl⟩ rfl rfl (by omega) (by omega) hob4 rfl rfl (Nat.le_of_ble_eq_true rfl) hl.1 dL_law_2997 (hB0.of hS fp_no.base) hM hS (fun q h => Or.inr (by have h9 : (g_s G).heap.size ≤ q := fp_ma.base hA0 q h; omega)) (fun v H1 locs hp hz hk hS => ?_) (fun Ex qx cx H1 locs hp hz hk hS hcx hvx hlx => hp.elim)
  obtain ⟨rfl, hM2⟩ := hp
  have hP := hP.mo X.2.2.2.2.2 hM hA0 hz hk
  have ho := ho.kept (hk out ho.lt hoa)
  have hM := hM2
  clear hM2
  refine r_stk (st2 := [.int (iI ((kc : Nat) : Int))]) rfl ?_
  refine lv_iload hx hb dL_law_3000 (lv_at hl 1 rfl) ?_
  refine lv_icmp_eq (tgt := 3007) hx hb dL_law_3002 (by decide) (fun _ => ?_) (fun h => absurd rfl h)
  refine lv_iload hx hb dL_law_3007 (lv_at hl 1 rfl) ?_
  refine r_if_ne (tgt := 3024) hx hb ⟨by omega, by omega⟩ dL_law_3009 (by decide) (fun hne => ?_) (fun he => ?_)
  · skip
    refine lv_goto (tgt := 3331) hx hb dL_law_3024 (by decide) ?_
    refine W.widen (k := cells + 50006) (n := slots + 229018) (by omega) (by omega) ?_
    exact kk _ _ _ _ _ _ (lv_sub hl [2, 3, 4, 5, 6] rfl) hS hP hM ho (hI.same)
  · skip
    have he : kc = 0 := by omega
    refine lv_aload_n hx hb dL_law_3012 rfl (lv_at hl 5 rfl) ?_
    refine lv_iconst (v := (iI ((0 : Nat) : Int))) hx hb dL_law_3013 rfl ?_
    refine r_laldI (j := 0) X ho rfl (by decide) (by decide) dL_law_3014 ?_
    refine lv_iload hx hb dL_law_3015 (lv_at hl 0 rfl) ?_
    refine lv_i2l (v := (iI r).toInt64) hx hb dL_law_3017 rfl ?_
    refine r_lcmpE X (by rw [hg2 he, hr he]) dL_law_3018 ?_
    refine lv_if_eq (tgt := 3024) hx hb dL_law_3019 (by decide) (fun _ => ?_) (fun h => absurd rfl h)
    refine lv_goto (tgt := 3331) hx hb dL_law_3024 (by decide) ?_
    refine W.widen (k := cells + 50006) (n := slots + 229018) (by omega) (by omega) ?_
    exact kk _ _ _ _ _ _ (lv_sub hl [2, 3, 4, 5, 6] rfl) hS hP hM ho (hI.same)
set_option maxHeartbeats 1000000 in
theorem lc_53 {G : fp_G} {pg : Program} {en : Env} {rR : Room} {s : State} {mi : MethodId} {ag : Array Value} {bl : List Frame} {mt : Method} {cd : Code} {H : Heap} {locs : List Loc} {cells slots : Nat} {qQ : State → Prop} {ls : Array Slot} {b L x out i k MC MS : Nat} {xs : Nat → Int32} {ad : Nat → Nat} {T : TH} {g : Nat → Int64} (X : fp_C G pg s mi ag cd cL_law "FortPlannerLaw" 9) (hR : fp_R rR 8192 104096 MC MS) (hB0 : fp_B G s.heap) (hX : va_X b L xs s s.heap) (hbl : b < s.heap.size) (hL : L ≤ 96) (hi : 4 * i + 4 ≤ L) (hA0 : fp_MA G ad) (hob : (g_s G).heap.size ≤ out) (hoa : ¬ fp_ma ad out) (hl : lv_has ls 9 [(0, .ref (b)), (1, .ref (x)), (2, .ref (ad 0)), (3, .ref (out)), (4, .int (iI ((4 * i : Nat) : Int)))]) (hS : va_S (fA fp_no s.heap.size) s.heap H locs) (hsb : s.heap.size = (g_s G).heap.size) (hc : cells + 50006 ≤ MC) (hs : slots + 229018 ≤ MS) (hP : fp_PW G x (fp_LM ad out) T H) (hM : fp_MC G ad k T H) (ho : fp_At G H out (eJ G 1 g)) (hI : fp_TI i T) (kk : ∀ (H1 : Heap) (locs1 : List Loc) (ls1 : Array Slot) (T1 : TH) (k1 : Nat) (g1 : Nat → Int64), lv_has ls1 9 [(0, .ref (b)), (1, .ref (x)), (2, .ref (ad 0)), (3, .ref (out)), (4, .int (iI ((4 * i : Nat) : Int)))] → va_S (fA fp_no s.heap.size) s.heap H1 locs1 → fp_PW G x (fp_LM ad out) T1 H1 → fp_MC G ad k1 T1 H1 → fp_At G H1 out (eJ G 1 g1) → fp_TJ (i + 1) T1 → W pg (g_l G) en rR s mi ag bl mt cd H1 locs1 (cells + 50006) (slots + 229018) qQ (F0 mi 3331 ls1 [])) : W pg (g_l G) en rR s mi ag bl mt cd H locs cells slots qQ (F0 mi 3027 ls []) := by
  obtain ⟨hx, hb, -⟩ := id X
  refine lv_aload_n hx hb dL_law_3027 rfl (lv_at hl 1 rfl) ?_
  refine lv_aload_n hx hb dL_law_3028 rfl (lv_at hl 0 rfl) ?_
  refine lv_iload hx hb dL_law_3029 (lv_at hl 4 rfl) ?_
  refine lv_iconst (v := (iI ((1 : Nat) : Int))) hx hb dL_law_3031 rfl ?_
  refine r_iaddN hx hb dL_law_3032 ?_
  refine r_scr (j := 4 * i + 1) X hX hbl hS (by omega) hL dL_law_3033 ?_
  refine r_i2c X dL_law_3034 ?_
  refine lv_aload_n hx hb dL_law_3035 rfl (lv_at hl 3 rfl) ?_
  obtain ⟨kc, hkc⟩ : ∃ kc, fp_ap_c T.2.2.2.1.1 (fp_ch (fp_xs xs (4 * i + 1))) = kc := ⟨_, rfl⟩
  refine x_callSH (cells1 := cells + 3) (slots1 := slots + 214) X hR (x0_append G x (fp_LM ad out) T i out g (fp_ch (fp_xs xs (4 * i + 1))) hI (fp_ch_b _) (Or.inr rfl) hob) q1707 q1708 q87 q1709 pd_X0_append ⟨Nat.le_of_ble_eq_true rfl, Nat.le_of_ble_eq_true rfl⟩ rfl rfl (by omega) (by omega) rfl (Nat.le_of_ble_eq_true rfl) hl.1 dL_law_3036 (hB0.of hS fp_no.base) ⟨hP, ho⟩ hS (fun q h => Or.inr (by have h9 : (g_s G).heap.size ≤ q := h.1; omega)) (fun v H1 locs hp hz hk hS => ?_) (fun Ex qx cx H1 locs hp hz hk hS hcx hvx hlx => hp.elim)
  obtain ⟨g2, rfl, hg2, hP, ho⟩ := hp
  have hM := hM.keep hk (fun q hq h => h.2.elim (fun z => z (Or.inl hq)) (fun z => hoa (z ▸ hq)))
  refine r_stk (st2 := [.int (iI ((fp_ap_c T.2.2.2.1.1 (fp_ch (fp_xs xs (4 * i + 1))) : Nat) : Int))]) rfl ?_
  have hkb : kc ≤ 2 := by rw [← hkc]; unfold fp_ap_c; (repeat' split) <;> omega
  rw [hkc] at hg2 hP ⊢
  refine lv_istore (lv' := [(5, .int (iI ((kc : Nat) : Int))), (0, .ref (b)), (1, .ref (x)), (2, .ref (ad 0)), (3, .ref (out)), (4, .int (iI ((4 * i : Nat) : Int)))]) hx hb dL_law_3039 hl (by decide) rfl (fun ls hl => ?_)
  refine lv_aload_n hx hb dL_law_3041 rfl (lv_at hl 3 rfl) ?_
  refine lv_aload_n hx hb dL_law_3042 rfl (lv_at hl 1 rfl) ?_
  refine lv_iload hx hb dL_law_3043 (lv_at hl 5 rfl) ?_
  refine lv_iconst (v := (iI ((1 : Nat) : Int))) hx hb dL_law_3045 rfl ?_
  refine r_iaddN hx hb dL_law_3046 ?_
  refine r_scr (j := 4 * i + 1) X hX hbl hS (by omega) hL dL_law_3047 ?_
  refine r_i2c X dL_law_3048 ?_
  obtain ⟨fs3, hob3⟩ := hM.ob
  refine x_callV (cells1 := (cells + 3)) (slots1 := (slots + 214)) X hR (mm_append G ad _ T i (fp_ch (fp_xs xs (4 * i + 1))) hA0 hI (fp_ch_b _)) q2450 q2451 q2452 q100 q2453 ⟨rfl, pd_X4_append⟩ ⟨Nat.le_of_ble_eq_true rfl, Nat.le_of_ble_eq_true rfl⟩ rfl rfl (by omega) (by omega) hob3 rfl rfl (Nat.le_of_ble_eq_true rfl) hl.1 dL_law_3049 (hB0.of hS fp_no.base) hM hS (fun q h => Or.inr (by have h9 : (g_s G).heap.size ≤ q := fp_ma.base hA0 q h; omega)) (fun v H1 locs hp hz hk hS => ?_) (fun Ex qx cx H1 locs hp hz hk hS hcx hvx hlx => hp.elim)
  obtain ⟨r, rfl, hr, hM2⟩ := hp
  have hP := hP.mo X.2.2.2.2.2 hM hA0 hz hk
  have ho := ho.kept (hk out ho.lt hoa)
  have hM := hM2
  clear hM2
  rw [hkc] at hr hM
  refine r_stk (st2 := [.int (iI (r))]) rfl ?_
  refine lv_istore (lv' := [(6, .int (iI (r))), (5, .int (iI ((kc : Nat) : Int))), (0, .ref (b)), (1, .ref (x)), (2, .ref (ad 0)), (3, .ref (out)), (4, .int (iI ((4 * i : Nat) : Int)))]) hx hb dL_law_3052 hl (by decide) rfl (fun ls hl => ?_)
  refine lv_aload_n hx hb dL_law_3054 rfl (lv_at hl 4 rfl) ?_
  obtain ⟨fs4, hob4⟩ := hM.ob
  refine x_callV (cells1 := (cells + 3)) (slots1 := (slots + 214)) X hR (mm_thrown G ad _ _ hA0) q2079 q2080 q2081 q100 q2082 ⟨rfl, pd_X4_thrown⟩ ⟨Nat.le_of_ble_eq_true rfl, Nat.le_of_ble_eq_true rfl⟩ rfl rfl (by omega) (by omega) hob4 rfl rfl (Nat.le_of_ble_eq_true rfl) hl.1 dL_law_3055 (hB0.of hS fp_no.base) hM hS (fun q h => Or.inr (by have h9 : (g_s G).heap.size ≤ q := fp_ma.base hA0 q h; omega)) (fun v H1 locs hp hz hk hS => ?_) (fun Ex qx cx H1 locs hp hz hk hS hcx hvx hlx => hp.elim)
  obtain ⟨rfl, hM2⟩ := hp
  have hP := hP.mo X.2.2.2.2.2 hM hA0 hz hk
  have ho := ho.kept (hk out ho.lt hoa)
  have hM := hM2
  clear hM2
  refine r_stk (st2 := [.int (iI ((kc : Nat) : Int))]) rfl ?_
  refine lv_iload hx hb dL_law_3058 (lv_at hl 1 rfl) ?_
  refine lv_icmp_eq (tgt := 3065) hx hb dL_law_3060 (by decide) (fun _ => ?_) (fun h => absurd rfl h)
  refine lv_iload hx hb dL_law_3065 (lv_at hl 1 rfl) ?_
  refine r_if_ne (tgt := 3082) hx hb ⟨by omega, by omega⟩ dL_law_3067 (by decide) (fun hne => ?_) (fun he => ?_)
  · skip
    refine lv_goto (tgt := 3331) hx hb dL_law_3082 (by decide) ?_
    refine W.widen (k := cells + 50006) (n := slots + 229018) (by omega) (by omega) ?_
    exact kk _ _ _ _ _ _ (lv_sub hl [2, 3, 4, 5, 6] rfl) hS hP hM ho (hI.ifc (fun e => hI.ap (fp_ap_k (hkc.trans e))))
  · skip
    have he : kc = 0 := by omega
    refine lv_aload_n hx hb dL_law_3070 rfl (lv_at hl 5 rfl) ?_
    refine lv_iconst (v := (iI ((0 : Nat) : Int))) hx hb dL_law_3071 rfl ?_
    refine r_laldI (j := 0) X ho rfl (by decide) (by decide) dL_law_3072 ?_
    refine lv_iload hx hb dL_law_3073 (lv_at hl 0 rfl) ?_
    refine lv_i2l (v := (iI r).toInt64) hx hb dL_law_3075 rfl ?_
    refine r_lcmpE X (by rw [hg2 he, hr he]) dL_law_3076 ?_
    refine lv_if_eq (tgt := 3082) hx hb dL_law_3077 (by decide) (fun _ => ?_) (fun h => absurd rfl h)
    refine lv_goto (tgt := 3331) hx hb dL_law_3082 (by decide) ?_
    refine W.widen (k := cells + 50006) (n := slots + 229018) (by omega) (by omega) ?_
    exact kk _ _ _ _ _ _ (lv_sub hl [2, 3, 4, 5, 6] rfl) hS hP hM ho (hI.ifc (fun e => hI.ap (fp_ap_k (hkc.trans e))))
set_option maxHeartbeats 1000000 in
theorem lc_54 {G : fp_G} {pg : Program} {en : Env} {rR : Room} {s : State} {mi : MethodId} {ag : Array Value} {bl : List Frame} {mt : Method} {cd : Code} {H : Heap} {locs : List Loc} {cells slots : Nat} {qQ : State → Prop} {ls : Array Slot} {b L x out i k MC MS : Nat} {xs : Nat → Int32} {ad : Nat → Nat} {T : TH} {g : Nat → Int64} (X : fp_C G pg s mi ag cd cL_law "FortPlannerLaw" 9) (hR : fp_R rR 8192 104096 MC MS) (hB0 : fp_B G s.heap) (hX : va_X b L xs s s.heap) (hbl : b < s.heap.size) (hL : L ≤ 96) (hi : 4 * i + 4 ≤ L) (hA0 : fp_MA G ad) (hob : (g_s G).heap.size ≤ out) (hoa : ¬ fp_ma ad out) (hl : lv_has ls 9 [(0, .ref (b)), (1, .ref (x)), (2, .ref (ad 0)), (3, .ref (out)), (4, .int (iI ((4 * i : Nat) : Int)))]) (hS : va_S (fA fp_no s.heap.size) s.heap H locs) (hsb : s.heap.size = (g_s G).heap.size) (hc : cells + 50006 ≤ MC) (hs : slots + 229018 ≤ MS) (hP : fp_PW G x (fp_LM ad out) T H) (hM : fp_MC G ad k T H) (ho : fp_At G H out (eJ G 1 g)) (hI : fp_TI i T) (kk : ∀ (H1 : Heap) (locs1 : List Loc) (ls1 : Array Slot) (T1 : TH) (k1 : Nat) (g1 : Nat → Int64), lv_has ls1 9 [(0, .ref (b)), (1, .ref (x)), (2, .ref (ad 0)), (3, .ref (out)), (4, .int (iI ((4 * i : Nat) : Int)))] → va_S (fA fp_no s.heap.size) s.heap H1 locs1 → fp_PW G x (fp_LM ad out) T1 H1 → fp_MC G ad k1 T1 H1 → fp_At G H1 out (eJ G 1 g1) → fp_TJ (i + 1) T1 → W pg (g_l G) en rR s mi ag bl mt cd H1 locs1 (cells + 50006) (slots + 229018) qQ (F0 mi 3331 ls1 [])) : W pg (g_l G) en rR s mi ag bl mt cd H locs cells slots qQ (F0 mi 3085 ls []) := by
  obtain ⟨hx, hb, -⟩ := id X
  refine lv_aload_n hx hb dL_law_3085 rfl (lv_at hl 1 rfl) ?_
  refine lv_aload_n hx hb dL_law_3086 rfl (lv_at hl 3 rfl) ?_
  obtain ⟨P, hPp⟩ : ∃ P, fp_prg T.2.2.2.1.2 T.2.2.2.1.1 = P := ⟨_, rfl⟩
  obtain ⟨R, hRr⟩ : ∃ R, fp_exe P.1 T.1 = R := ⟨_, rfl⟩
  obtain ⟨kc, hkc⟩ : ∃ kc, fp_rn_c P R = kc := ⟨_, rfl⟩
  refine x_callSH (cells1 := cells + 5600) (slots1 := slots + 101200) X hR (x0_run G x (fp_LM ad out) T i out g P R hI hPp hRr (Or.inr rfl) hob) q1714 q1715 q87 q1716 pd_X0_run ⟨Nat.le_of_ble_eq_true rfl, Nat.le_of_ble_eq_true rfl⟩ rfl rfl (by omega) (by omega) rfl (Nat.le_of_ble_eq_true rfl) hl.1 dL_law_3087 (hB0.of hS fp_no.base) ⟨hP, ho⟩ hS (fun q h => Or.inr (by have h9 : (g_s G).heap.size ≤ q := h.1; omega)) (fun v H1 locs hp hz hk hS => ?_) (fun Ex qx cx H1 locs hp hz hk hS hcx hvx hlx => hp.elim)
  obtain ⟨g2, rfl, hg2, hP, ho⟩ := hp
  have hM := hM.keep hk (fun q hq h => h.2.elim (fun z => z (Or.inl hq)) (fun z => hoa (z ▸ hq)))
  refine r_stk (st2 := [.int (iI ((fp_rn_c P R : Nat) : Int))]) rfl ?_
  have hkb : kc ≤ 2 := by rw [← hkc]; unfold fp_rn_c; (repeat' split) <;> omega
  rw [hkc] at hg2 ⊢
  refine lv_istore (lv' := [(5, .int (iI ((kc : Nat) : Int))), (0, .ref (b)), (1, .ref (x)), (2, .ref (ad 0)), (3, .ref (out)), (4, .int (iI ((4 * i : Nat) : Int)))]) hx hb dL_law_3090 hl (by decide) rfl (fun ls hl => ?_)
  refine lv_aload_n hx hb dL_law_3092 rfl (lv_at hl 3 rfl) ?_
  obtain ⟨fs3, hob3⟩ := hM.ob
  refine x_callV (cells1 := (cells + 5600)) (slots1 := (slots + 101200)) X hR (mm_run G ad _ T i P R hA0 hI hPp hRr) q2454 q2455 q2456 q100 q2457 ⟨rfl, pd_X4_run⟩ ⟨Nat.le_of_ble_eq_true rfl, Nat.le_of_ble_eq_true rfl⟩ rfl rfl (by omega) (by omega) hob3 rfl rfl (Nat.le_of_ble_eq_true rfl) hl.1 dL_law_3093 (hB0.of hS fp_no.base) hM hS (fun q h => Or.inr (by have h9 : (g_s G).heap.size ≤ q := fp_ma.base hA0 q h; omega)) (fun v H1 locs hp hz hk hS => ?_) (fun Ex qx cx H1 locs hp hz hk hS hcx hvx hlx => hp.elim)
  obtain ⟨r, rfl, hr, hM2⟩ := hp
  have hP := hP.mo X.2.2.2.2.2 hM hA0 hz hk
  have ho := ho.kept (hk out ho.lt hoa)
  have hM := hM2
  clear hM2
  rw [hkc] at hr hM
  refine r_stk (st2 := [.int (iI (r))]) rfl ?_
  refine lv_istore (lv' := [(6, .int (iI (r))), (5, .int (iI ((kc : Nat) : Int))), (0, .ref (b)), (1, .ref (x)), (2, .ref (ad 0)), (3, .ref (out)), (4, .int (iI ((4 * i : Nat) : Int)))]) hx hb dL_law_3096 hl (by decide) rfl (fun ls hl => ?_)
  refine lv_aload_n hx hb dL_law_3098 rfl (lv_at hl 4 rfl) ?_
  obtain ⟨fs4, hob4⟩ := hM.ob
  refine x_callV (cells1 := (cells + 5600)) (slots1 := (slots + 101200)) X hR (mm_thrown G ad _ _ hA0) q2079 q2080 q2081 q100 q2082 ⟨rfl, pd_X4_thrown⟩ ⟨Nat.le_of_ble_eq_true rfl, Nat.le_of_ble_eq_true rfl⟩ rfl rfl (by omega) (by omega) hob4 rfl rfl (Nat.le_of_ble_eq_true rfl) hl.1 dL_law_3099 (hB0.of hS fp_no.base) hM hS (fun q h => Or.inr (by have h9 : (g_s G).heap.size ≤ q := fp_ma.base hA0 q h; omega)) (fun v H1 locs hp hz hk hS => ?_) (fun Ex qx cx H1 locs hp hz hk hS hcx hvx hlx => hp.elim)
  obtain ⟨rfl, hM2⟩ := hp
  have hP := hP.mo X.2.2.2.2.2 hM hA0 hz hk
  have ho := ho.kept (hk out ho.lt hoa)
  have hM := hM2
  clear hM2
  refine r_stk (st2 := [.int (iI ((kc : Nat) : Int))]) rfl ?_
  refine lv_iload hx hb dL_law_3102 (lv_at hl 1 rfl) ?_
  refine lv_icmp_eq (tgt := 3109) hx hb dL_law_3104 (by decide) (fun _ => ?_) (fun h => absurd rfl h)
  refine lv_iload hx hb dL_law_3109 (lv_at hl 1 rfl) ?_
  refine r_if_ne (tgt := 3126) hx hb ⟨by omega, by omega⟩ dL_law_3111 (by decide) (fun hne => ?_) (fun he => ?_)
  · skip
    refine lv_goto (tgt := 3331) hx hb dL_law_3126 (by decide) ?_
    refine W.widen (k := cells + 50006) (n := slots + 229018) (by omega) (by omega) ?_
    exact kk _ _ _ _ _ _ (lv_sub hl [2, 3, 4, 5, 6] rfl) hS hP hM ho (hI.rn hPp hRr)
  · skip
    have he : kc = 0 := by omega
    refine lv_aload_n hx hb dL_law_3114 rfl (lv_at hl 5 rfl) ?_
    refine lv_iconst (v := (iI ((0 : Nat) : Int))) hx hb dL_law_3115 rfl ?_
    refine r_laldI (j := 0) X ho rfl (by decide) (by decide) dL_law_3116 ?_
    refine lv_iload hx hb dL_law_3117 (lv_at hl 0 rfl) ?_
    refine lv_i2l (v := (iI r).toInt64) hx hb dL_law_3119 rfl ?_
    refine r_lcmpE X (by rw [hg2 he, hr he]) dL_law_3120 ?_
    refine lv_if_eq (tgt := 3126) hx hb dL_law_3121 (by decide) (fun _ => ?_) (fun h => absurd rfl h)
    refine lv_goto (tgt := 3331) hx hb dL_law_3126 (by decide) ?_
    refine W.widen (k := cells + 50006) (n := slots + 229018) (by omega) (by omega) ?_
    exact kk _ _ _ _ _ _ (lv_sub hl [2, 3, 4, 5, 6] rfl) hS hP hM ho (hI.rn hPp hRr)
set_option maxHeartbeats 1000000 in
theorem lc_55 {G : fp_G} {pg : Program} {en : Env} {rR : Room} {s : State} {mi : MethodId} {ag : Array Value} {bl : List Frame} {mt : Method} {cd : Code} {H : Heap} {locs : List Loc} {cells slots : Nat} {qQ : State → Prop} {ls : Array Slot} {b L x out i k MC MS : Nat} {xs : Nat → Int32} {ad : Nat → Nat} {T : TH} {g : Nat → Int64} (X : fp_C G pg s mi ag cd cL_law "FortPlannerLaw" 9) (hR : fp_R rR 8192 104096 MC MS) (hB0 : fp_B G s.heap) (hX : va_X b L xs s s.heap) (hbl : b < s.heap.size) (hL : L ≤ 96) (hi : 4 * i + 4 ≤ L) (hA0 : fp_MA G ad) (hob : (g_s G).heap.size ≤ out) (hoa : ¬ fp_ma ad out) (hl : lv_has ls 9 [(0, .ref (b)), (1, .ref (x)), (2, .ref (ad 0)), (3, .ref (out)), (4, .int (iI ((4 * i : Nat) : Int)))]) (hS : va_S (fA fp_no s.heap.size) s.heap H locs) (hsb : s.heap.size = (g_s G).heap.size) (hc : cells + 50006 ≤ MC) (hs : slots + 229018 ≤ MS) (hP : fp_PW G x (fp_LM ad out) T H) (hM : fp_MC G ad k T H) (ho : fp_At G H out (eJ G 1 g)) (hI : fp_TI i T) (kk : ∀ (H1 : Heap) (locs1 : List Loc) (ls1 : Array Slot) (T1 : TH) (k1 : Nat) (g1 : Nat → Int64), lv_has ls1 9 [(0, .ref (b)), (1, .ref (x)), (2, .ref (ad 0)), (3, .ref (out)), (4, .int (iI ((4 * i : Nat) : Int)))] → va_S (fA fp_no s.heap.size) s.heap H1 locs1 → fp_PW G x (fp_LM ad out) T1 H1 → fp_MC G ad k1 T1 H1 → fp_At G H1 out (eJ G 1 g1) → fp_TJ (i + 1) T1 → W pg (g_l G) en rR s mi ag bl mt cd H1 locs1 (cells + 50006) (slots + 229018) qQ (F0 mi 3331 ls1 [])) : W pg (g_l G) en rR s mi ag bl mt cd H locs cells slots qQ (F0 mi 3129 ls []) := by
  obtain ⟨hx, hb, -⟩ := id X
  refine lv_aload_n hx hb dL_law_3129 rfl (lv_at hl 1 rfl) ?_
  refine lv_aload_n hx hb dL_law_3130 rfl (lv_at hl 3 rfl) ?_
  obtain ⟨kc, hkc⟩ : ∃ kc, fp_er_c T.2.2.2.2.2.1 = kc := ⟨_, rfl⟩
  refine x_callSH (cells1 := cells + 1) (slots1 := slots + 6) X hR (x0_errorPosition G x (fp_LM ad out) T i out g hI (Or.inr rfl) hob) q1953 q1954 q87 q1955 pd_X0_errorPosition ⟨Nat.le_of_ble_eq_true rfl, Nat.le_of_ble_eq_true rfl⟩ rfl rfl (by omega) (by omega) rfl (Nat.le_of_ble_eq_true rfl) hl.1 dL_law_3131 (hB0.of hS fp_no.base) ⟨hP, ho⟩ hS (fun q h => Or.inr (by have h9 : (g_s G).heap.size ≤ q := h.1; omega)) (fun v H1 locs hp hz hk hS => ?_) (fun Ex qx cx H1 locs hp hz hk hS hcx hvx hlx => hp.elim)
  obtain ⟨g2, rfl, hg2, hP, ho⟩ := hp
  have hM := hM.keep hk (fun q hq h => h.2.elim (fun z => z (Or.inl hq)) (fun z => hoa (z ▸ hq)))
  refine r_stk (st2 := [.int (iI ((fp_er_c T.2.2.2.2.2.1 : Nat) : Int))]) rfl ?_
  have hkb : kc ≤ 2 := by rw [← hkc]; unfold fp_er_c; (repeat' split) <;> omega
  rw [hkc] at hg2 ⊢
  refine lv_istore (lv' := [(5, .int (iI ((kc : Nat) : Int))), (0, .ref (b)), (1, .ref (x)), (2, .ref (ad 0)), (3, .ref (out)), (4, .int (iI ((4 * i : Nat) : Int)))]) hx hb dL_law_3134 hl (by decide) rfl (fun ls hl => ?_)
  refine lv_aload_n hx hb dL_law_3136 rfl (lv_at hl 3 rfl) ?_
  obtain ⟨fs3, hob3⟩ := hM.ob
  refine x_callV (cells1 := (cells + 1)) (slots1 := (slots + 6)) X hR (mm_errorPosition G ad _ T i hA0 hI) q2494 q2495 q2496 q100 q2497 ⟨rfl, pd_X4_errorPosition⟩ ⟨Nat.le_of_ble_eq_true rfl, Nat.le_of_ble_eq_true rfl⟩ rfl rfl (by omega) (by omega) hob3 rfl rfl (Nat.le_of_ble_eq_true rfl) hl.1 dL_law_3137 (hB0.of hS fp_no.base) hM hS (fun q h => Or.inr (by have h9 : (g_s G).heap.size ≤ q := fp_ma.base hA0 q h; omega)) (fun v H1 locs hp hz hk hS => ?_) (fun Ex qx cx H1 locs hp hz hk hS hcx hvx hlx => hp.elim)
  obtain ⟨r, rfl, hr, hM2⟩ := hp
  have hP := hP.mo X.2.2.2.2.2 hM hA0 hz hk
  have ho := ho.kept (hk out ho.lt hoa)
  have hM := hM2
  clear hM2
  rw [hkc] at hr hM
  refine r_stk (st2 := [.int (iI (r))]) rfl ?_
  refine lv_istore (lv' := [(6, .int (iI (r))), (5, .int (iI ((kc : Nat) : Int))), (0, .ref (b)), (1, .ref (x)), (2, .ref (ad 0)), (3, .ref (out)), (4, .int (iI ((4 * i : Nat) : Int)))]) hx hb dL_law_3140 hl (by decide) rfl (fun ls hl => ?_)
  refine lv_aload_n hx hb dL_law_3142 rfl (lv_at hl 4 rfl) ?_
  obtain ⟨fs4, hob4⟩ := hM.ob
  refine x_callV (cells1 := (cells + 1)) (slots1 := (slots + 6)) X hR (mm_thrown G ad _ _ hA0) q2079 q2080 q2081 q100 q2082 ⟨rfl, pd_X4_thrown⟩ ⟨Nat.le_of_ble_eq_true rfl, Nat.le_of_ble_eq_true rfl⟩ rfl rfl (by omega) (by omega) hob4 rfl rfl (Nat.le_of_ble_eq_true rfl) hl.1 dL_law_3143 (hB0.of hS fp_no.base) hM hS (fun q h => Or.inr (by have h9 : (g_s G).heap.size ≤ q := fp_ma.base hA0 q h; omega)) (fun v H1 locs hp hz hk hS => ?_) (fun Ex qx cx H1 locs hp hz hk hS hcx hvx hlx => hp.elim)
  obtain ⟨rfl, hM2⟩ := hp
  have hP := hP.mo X.2.2.2.2.2 hM hA0 hz hk
  have ho := ho.kept (hk out ho.lt hoa)
  have hM := hM2
  clear hM2
  refine r_stk (st2 := [.int (iI ((kc : Nat) : Int))]) rfl ?_
  refine lv_iload hx hb dL_law_3146 (lv_at hl 1 rfl) ?_
  refine lv_icmp_eq (tgt := 3153) hx hb dL_law_3148 (by decide) (fun _ => ?_) (fun h => absurd rfl h)
  refine lv_iload hx hb dL_law_3153 (lv_at hl 1 rfl) ?_
  refine r_if_ne (tgt := 3170) hx hb ⟨by omega, by omega⟩ dL_law_3155 (by decide) (fun hne => ?_) (fun he => ?_)
  · skip
    refine lv_goto (tgt := 3331) hx hb dL_law_3170 (by decide) ?_
    refine W.widen (k := cells + 50006) (n := slots + 229018) (by omega) (by omega) ?_
    exact kk _ _ _ _ _ _ (lv_sub hl [2, 3, 4, 5, 6] rfl) hS hP hM ho (hI.same)
  · skip
    have he : kc = 0 := by omega
    refine lv_aload_n hx hb dL_law_3158 rfl (lv_at hl 5 rfl) ?_
    refine lv_iconst (v := (iI ((0 : Nat) : Int))) hx hb dL_law_3159 rfl ?_
    refine r_laldI (j := 0) X ho rfl (by decide) (by decide) dL_law_3160 ?_
    refine lv_iload hx hb dL_law_3161 (lv_at hl 0 rfl) ?_
    refine lv_i2l (v := (iI r).toInt64) hx hb dL_law_3163 rfl ?_
    refine r_lcmpE X (by rw [hg2 he, hr he]) dL_law_3164 ?_
    refine lv_if_eq (tgt := 3170) hx hb dL_law_3165 (by decide) (fun _ => ?_) (fun h => absurd rfl h)
    refine lv_goto (tgt := 3331) hx hb dL_law_3170 (by decide) ?_
    refine W.widen (k := cells + 50006) (n := slots + 229018) (by omega) (by omega) ?_
    exact kk _ _ _ _ _ _ (lv_sub hl [2, 3, 4, 5, 6] rfl) hS hP hM ho (hI.same)
set_option maxHeartbeats 1000000 in
theorem lc_56 {G : fp_G} {pg : Program} {en : Env} {rR : Room} {s : State} {mi : MethodId} {ag : Array Value} {bl : List Frame} {mt : Method} {cd : Code} {H : Heap} {locs : List Loc} {cells slots : Nat} {qQ : State → Prop} {ls : Array Slot} {b L x out i k MC MS : Nat} {xs : Nat → Int32} {ad : Nat → Nat} {T : TH} {g : Nat → Int64} (X : fp_C G pg s mi ag cd cL_law "FortPlannerLaw" 9) (hR : fp_R rR 8192 104096 MC MS) (hB0 : fp_B G s.heap) (hX : va_X b L xs s s.heap) (hbl : b < s.heap.size) (hL : L ≤ 96) (hi : 4 * i + 4 ≤ L) (hA0 : fp_MA G ad) (hob : (g_s G).heap.size ≤ out) (hoa : ¬ fp_ma ad out) (hl : lv_has ls 9 [(0, .ref (b)), (1, .ref (x)), (2, .ref (ad 0)), (3, .ref (out)), (4, .int (iI ((4 * i : Nat) : Int)))]) (hS : va_S (fA fp_no s.heap.size) s.heap H locs) (hsb : s.heap.size = (g_s G).heap.size) (hc : cells + 50006 ≤ MC) (hs : slots + 229018 ≤ MS) (hP : fp_PW G x (fp_LM ad out) T H) (hM : fp_MC G ad k T H) (ho : fp_At G H out (eJ G 1 g)) (hI : fp_TI i T) (kk : ∀ (H1 : Heap) (locs1 : List Loc) (ls1 : Array Slot) (T1 : TH) (k1 : Nat) (g1 : Nat → Int64), lv_has ls1 9 [(0, .ref (b)), (1, .ref (x)), (2, .ref (ad 0)), (3, .ref (out)), (4, .int (iI ((4 * i : Nat) : Int)))] → va_S (fA fp_no s.heap.size) s.heap H1 locs1 → fp_PW G x (fp_LM ad out) T1 H1 → fp_MC G ad k1 T1 H1 → fp_At G H1 out (eJ G 1 g1) → fp_TJ (i + 1) T1 → W pg (g_l G) en rR s mi ag bl mt cd H1 locs1 (cells + 50006) (slots + 229018) qQ (F0 mi 3331 ls1 [])) : W pg (g_l G) en rR s mi ag bl mt cd H locs cells slots qQ (F0 mi 3173 ls []) := by
  obtain ⟨hx, hb, -⟩ := id X
  refine lv_aload_n hx hb dL_law_3173 rfl (lv_at hl 1 rfl) ?_
  refine lv_aload_n hx hb dL_law_3174 rfl (lv_at hl 3 rfl) ?_
  obtain ⟨kc, hkc⟩ : ∃ kc, fp_er_c T.2.2.2.2.2.2 = kc := ⟨_, rfl⟩
  refine x_callSH (cells1 := cells + 1) (slots1 := slots + 6) X hR (x0_failedCommand G x (fp_LM ad out) T i out g hI (Or.inr rfl) hob) q1960 q1961 q87 q1962 pd_X0_failedCommand ⟨Nat.le_of_ble_eq_true rfl, Nat.le_of_ble_eq_true rfl⟩ rfl rfl (by omega) (by omega) rfl (Nat.le_of_ble_eq_true rfl) hl.1 dL_law_3175 (hB0.of hS fp_no.base) ⟨hP, ho⟩ hS (fun q h => Or.inr (by have h9 : (g_s G).heap.size ≤ q := h.1; omega)) (fun v H1 locs hp hz hk hS => ?_) (fun Ex qx cx H1 locs hp hz hk hS hcx hvx hlx => hp.elim)
  obtain ⟨g2, rfl, hg2, hP, ho⟩ := hp
  have hM := hM.keep hk (fun q hq h => h.2.elim (fun z => z (Or.inl hq)) (fun z => hoa (z ▸ hq)))
  refine r_stk (st2 := [.int (iI ((fp_er_c T.2.2.2.2.2.2 : Nat) : Int))]) rfl ?_
  have hkb : kc ≤ 2 := by rw [← hkc]; unfold fp_er_c; (repeat' split) <;> omega
  rw [hkc] at hg2 ⊢
  refine lv_istore (lv' := [(5, .int (iI ((kc : Nat) : Int))), (0, .ref (b)), (1, .ref (x)), (2, .ref (ad 0)), (3, .ref (out)), (4, .int (iI ((4 * i : Nat) : Int)))]) hx hb dL_law_3178 hl (by decide) rfl (fun ls hl => ?_)
  refine lv_aload_n hx hb dL_law_3180 rfl (lv_at hl 3 rfl) ?_
  obtain ⟨fs3, hob3⟩ := hM.ob
  refine x_callV (cells1 := (cells + 1)) (slots1 := (slots + 6)) X hR (mm_failedCommand G ad _ T i hA0 hI) q2498 q2499 q2500 q100 q2501 ⟨rfl, pd_X4_failedCommand⟩ ⟨Nat.le_of_ble_eq_true rfl, Nat.le_of_ble_eq_true rfl⟩ rfl rfl (by omega) (by omega) hob3 rfl rfl (Nat.le_of_ble_eq_true rfl) hl.1 dL_law_3181 (hB0.of hS fp_no.base) hM hS (fun q h => Or.inr (by have h9 : (g_s G).heap.size ≤ q := fp_ma.base hA0 q h; omega)) (fun v H1 locs hp hz hk hS => ?_) (fun Ex qx cx H1 locs hp hz hk hS hcx hvx hlx => hp.elim)
  obtain ⟨r, rfl, hr, hM2⟩ := hp
  have hP := hP.mo X.2.2.2.2.2 hM hA0 hz hk
  have ho := ho.kept (hk out ho.lt hoa)
  have hM := hM2
  clear hM2
  rw [hkc] at hr hM
  refine r_stk (st2 := [.int (iI (r))]) rfl ?_
  refine lv_istore (lv' := [(6, .int (iI (r))), (5, .int (iI ((kc : Nat) : Int))), (0, .ref (b)), (1, .ref (x)), (2, .ref (ad 0)), (3, .ref (out)), (4, .int (iI ((4 * i : Nat) : Int)))]) hx hb dL_law_3184 hl (by decide) rfl (fun ls hl => ?_)
  refine lv_aload_n hx hb dL_law_3186 rfl (lv_at hl 4 rfl) ?_
  obtain ⟨fs4, hob4⟩ := hM.ob
  refine x_callV (cells1 := (cells + 1)) (slots1 := (slots + 6)) X hR (mm_thrown G ad _ _ hA0) q2079 q2080 q2081 q100 q2082 ⟨rfl, pd_X4_thrown⟩ ⟨Nat.le_of_ble_eq_true rfl, Nat.le_of_ble_eq_true rfl⟩ rfl rfl (by omega) (by omega) hob4 rfl rfl (Nat.le_of_ble_eq_true rfl) hl.1 dL_law_3187 (hB0.of hS fp_no.base) hM hS (fun q h => Or.inr (by have h9 : (g_s G).heap.size ≤ q := fp_ma.base hA0 q h; omega)) (fun v H1 locs hp hz hk hS => ?_) (fun Ex qx cx H1 locs hp hz hk hS hcx hvx hlx => hp.elim)
  obtain ⟨rfl, hM2⟩ := hp
  have hP := hP.mo X.2.2.2.2.2 hM hA0 hz hk
  have ho := ho.kept (hk out ho.lt hoa)
  have hM := hM2
  clear hM2
  refine r_stk (st2 := [.int (iI ((kc : Nat) : Int))]) rfl ?_
  refine lv_iload hx hb dL_law_3190 (lv_at hl 1 rfl) ?_
  refine lv_icmp_eq (tgt := 3197) hx hb dL_law_3192 (by decide) (fun _ => ?_) (fun h => absurd rfl h)
  refine lv_iload hx hb dL_law_3197 (lv_at hl 1 rfl) ?_
  refine r_if_ne (tgt := 3214) hx hb ⟨by omega, by omega⟩ dL_law_3199 (by decide) (fun hne => ?_) (fun he => ?_)
  · skip
    refine lv_goto (tgt := 3331) hx hb dL_law_3214 (by decide) ?_
    refine W.widen (k := cells + 50006) (n := slots + 229018) (by omega) (by omega) ?_
    exact kk _ _ _ _ _ _ (lv_sub hl [2, 3, 4, 5, 6] rfl) hS hP hM ho (hI.same)
  · skip
    have he : kc = 0 := by omega
    refine lv_aload_n hx hb dL_law_3202 rfl (lv_at hl 5 rfl) ?_
    refine lv_iconst (v := (iI ((0 : Nat) : Int))) hx hb dL_law_3203 rfl ?_
    refine r_laldI (j := 0) X ho rfl (by decide) (by decide) dL_law_3204 ?_
    refine lv_iload hx hb dL_law_3205 (lv_at hl 0 rfl) ?_
    refine lv_i2l (v := (iI r).toInt64) hx hb dL_law_3207 rfl ?_
    refine r_lcmpE X (by rw [hg2 he, hr he]) dL_law_3208 ?_
    refine lv_if_eq (tgt := 3214) hx hb dL_law_3209 (by decide) (fun _ => ?_) (fun h => absurd rfl h)
    refine lv_goto (tgt := 3331) hx hb dL_law_3214 (by decide) ?_
    refine W.widen (k := cells + 50006) (n := slots + 229018) (by omega) (by omega) ?_
    exact kk _ _ _ _ _ _ (lv_sub hl [2, 3, 4, 5, 6] rfl) hS hP hM ho (hI.same)
set_option maxHeartbeats 1000000 in
theorem lc_57 {G : fp_G} {pg : Program} {en : Env} {rR : Room} {s : State} {mi : MethodId} {ag : Array Value} {bl : List Frame} {mt : Method} {cd : Code} {H : Heap} {locs : List Loc} {cells slots : Nat} {qQ : State → Prop} {ls : Array Slot} {b L x out i k MC MS : Nat} {xs : Nat → Int32} {ad : Nat → Nat} {T : TH} {g : Nat → Int64} (X : fp_C G pg s mi ag cd cL_law "FortPlannerLaw" 9) (hR : fp_R rR 8192 104096 MC MS) (hB0 : fp_B G s.heap) (hX : va_X b L xs s s.heap) (hbl : b < s.heap.size) (hL : L ≤ 96) (hi : 4 * i + 4 ≤ L) (hA0 : fp_MA G ad) (hob : (g_s G).heap.size ≤ out) (hoa : ¬ fp_ma ad out) (hl : lv_has ls 9 [(0, .ref (b)), (1, .ref (x)), (2, .ref (ad 0)), (3, .ref (out)), (4, .int (iI ((4 * i : Nat) : Int)))]) (hS : va_S (fA fp_no s.heap.size) s.heap H locs) (hsb : s.heap.size = (g_s G).heap.size) (hc : cells + 50006 ≤ MC) (hs : slots + 229018 ≤ MS) (hP : fp_PW G x (fp_LM ad out) T H) (hM : fp_MC G ad k T H) (ho : fp_At G H out (eJ G 1 g)) (hI : fp_TI i T) (kk : ∀ (H1 : Heap) (locs1 : List Loc) (ls1 : Array Slot) (T1 : TH) (k1 : Nat) (g1 : Nat → Int64), lv_has ls1 9 [(0, .ref (b)), (1, .ref (x)), (2, .ref (ad 0)), (3, .ref (out)), (4, .int (iI ((4 * i : Nat) : Int)))] → va_S (fA fp_no s.heap.size) s.heap H1 locs1 → fp_PW G x (fp_LM ad out) T1 H1 → fp_MC G ad k1 T1 H1 → fp_At G H1 out (eJ G 1 g1) → fp_TJ (i + 1) T1 → W pg (g_l G) en rR s mi ag bl mt cd H1 locs1 (cells + 50006) (slots + 229018) qQ (F0 mi 3331 ls1 [])) : W pg (g_l G) en rR s mi ag bl mt cd H locs cells slots qQ (F0 mi 3217 ls []) := by
  obtain ⟨hx, hb, -⟩ := id X
  refine lv_aload_n hx hb dL_law_3217 rfl (lv_at hl 1 rfl) ?_
  obtain ⟨fs2, hob2⟩ := hP.ob
  refine x_callV (cells1 := cells + 0) (slots1 := slots + 0) X hR (w_undoableCount G x (fp_LM ad out) T i hI) q1080 q1081 q1082 q88 q1083 ⟨rfl, pd_X1_undoableCount⟩ ⟨Nat.le_of_ble_eq_true rfl, Nat.le_of_ble_eq_true rfl⟩ rfl rfl (by omega) (by omega) hob2 rfl rfl (Nat.le_of_ble_eq_true rfl) hl.1 dL_law_3218 (hB0.of hS fp_no.base) hP hS (fun q h => Or.inr (by have h9 : (g_s G).heap.size ≤ q := h.1; omega)) (fun v H1 locs hp hz hk hS => ?_) (fun Ex qx cx H1 locs hp hz hk hS hcx hvx hlx => hp.elim)
  obtain ⟨rfl, hP⟩ := hp
  have hM := hM.keep hk (fun q hq h => h.2 (Or.inl hq))
  have ho := ho.kept (hk out ho.lt (fun h => h.2 (Or.inr rfl)))
  refine r_stk (st2 := [.int (iI (((T.2.2.1.1) : Nat) : Int))]) rfl ?_
  refine lv_aload_n hx hb dL_law_3221 rfl (lv_at hl 2 rfl) ?_
  obtain ⟨fs3, hob3⟩ := hM.ob
  refine x_callV (cells1 := (cells + 0)) (slots1 := (slots + 0)) X hR (mm_undoableCount G ad _ T i hA0 hI) q2502 q2503 q2504 q100 q2505 ⟨rfl, pd_X4_undoableCount⟩ ⟨Nat.le_of_ble_eq_true rfl, Nat.le_of_ble_eq_true rfl⟩ rfl rfl (by omega) (by omega) hob3 rfl rfl (Nat.le_of_ble_eq_true rfl) hl.1 dL_law_3222 (hB0.of hS fp_no.base) hM hS (fun q h => Or.inr (by have h9 : (g_s G).heap.size ≤ q := fp_ma.base hA0 q h; omega)) (fun v H1 locs hp hz hk hS => ?_) (fun Ex qx cx H1 locs hp hz hk hS hcx hvx hlx => hp.elim)
  obtain ⟨rfl, hM2⟩ := hp
  have hP := hP.mo X.2.2.2.2.2 hM hA0 hz hk
  have ho := ho.kept (hk out ho.lt hoa)
  have hM := hM2
  clear hM2
  refine r_stk (st2 := [.int (iI (((T.2.2.1.1) : Nat) : Int)), .int (iI (((T.2.2.1.1) : Nat) : Int))]) rfl ?_
  refine lv_icmp_eq (tgt := 3331) hx hb dL_law_3225 (by decide) (fun _ => ?_) (fun h => absurd rfl h)
  refine W.widen (k := cells + 50006) (n := slots + 229018) (by omega) (by omega) ?_
  exact kk _ _ _ _ _ _ hl hS hP hM ho (hI.same)
set_option maxHeartbeats 1000000 in
theorem lc_58 {G : fp_G} {pg : Program} {en : Env} {rR : Room} {s : State} {mi : MethodId} {ag : Array Value} {bl : List Frame} {mt : Method} {cd : Code} {H : Heap} {locs : List Loc} {cells slots : Nat} {qQ : State → Prop} {ls : Array Slot} {b L x out i k MC MS : Nat} {xs : Nat → Int32} {ad : Nat → Nat} {T : TH} {g : Nat → Int64} (X : fp_C G pg s mi ag cd cL_law "FortPlannerLaw" 9) (hR : fp_R rR 8192 104096 MC MS) (hB0 : fp_B G s.heap) (hX : va_X b L xs s s.heap) (hbl : b < s.heap.size) (hL : L ≤ 96) (hi : 4 * i + 4 ≤ L) (hA0 : fp_MA G ad) (hob : (g_s G).heap.size ≤ out) (hoa : ¬ fp_ma ad out) (hl : lv_has ls 9 [(0, .ref (b)), (1, .ref (x)), (2, .ref (ad 0)), (3, .ref (out)), (4, .int (iI ((4 * i : Nat) : Int)))]) (hS : va_S (fA fp_no s.heap.size) s.heap H locs) (hsb : s.heap.size = (g_s G).heap.size) (hc : cells + 50006 ≤ MC) (hs : slots + 229018 ≤ MS) (hP : fp_PW G x (fp_LM ad out) T H) (hM : fp_MC G ad k T H) (ho : fp_At G H out (eJ G 1 g)) (hI : fp_TI i T) (kk : ∀ (H1 : Heap) (locs1 : List Loc) (ls1 : Array Slot) (T1 : TH) (k1 : Nat) (g1 : Nat → Int64), lv_has ls1 9 [(0, .ref (b)), (1, .ref (x)), (2, .ref (ad 0)), (3, .ref (out)), (4, .int (iI ((4 * i : Nat) : Int)))] → va_S (fA fp_no s.heap.size) s.heap H1 locs1 → fp_PW G x (fp_LM ad out) T1 H1 → fp_MC G ad k1 T1 H1 → fp_At G H1 out (eJ G 1 g1) → fp_TJ (i + 1) T1 → W pg (g_l G) en rR s mi ag bl mt cd H1 locs1 (cells + 50006) (slots + 229018) qQ (F0 mi 3331 ls1 [])) : W pg (g_l G) en rR s mi ag bl mt cd H locs cells slots qQ (F0 mi 3230 ls []) := by
  obtain ⟨hx, hb, -⟩ := id X
  refine lv_aload_n hx hb dL_law_3230 rfl (lv_at hl 1 rfl) ?_
  refine lv_aload_n hx hb dL_law_3231 rfl (lv_at hl 3 rfl) ?_
  obtain ⟨kc, hkc⟩ : ∃ kc, fp_un_c T.2.2.1.1 = kc := ⟨_, rfl⟩
  refine x_callSH (cells1 := cells + 1) (slots1 := slots + 6) X hR (x0_undo G x (fp_LM ad out) T i out g hI (Or.inr rfl) hob) q1967 q1968 q87 q1969 pd_X0_undo ⟨Nat.le_of_ble_eq_true rfl, Nat.le_of_ble_eq_true rfl⟩ rfl rfl (by omega) (by omega) rfl (Nat.le_of_ble_eq_true rfl) hl.1 dL_law_3232 (hB0.of hS fp_no.base) ⟨hP, ho⟩ hS (fun q h => Or.inr (by have h9 : (g_s G).heap.size ≤ q := h.1; omega)) (fun v H1 locs hp hz hk hS => ?_) (fun Ex qx cx H1 locs hp hz hk hS hcx hvx hlx => hp.elim)
  obtain ⟨g2, rfl, hg2, hP, ho⟩ := hp
  have hM := hM.keep hk (fun q hq h => h.2.elim (fun z => z (Or.inl hq)) (fun z => hoa (z ▸ hq)))
  refine r_stk (st2 := [.int (iI ((fp_un_c T.2.2.1.1 : Nat) : Int))]) rfl ?_
  have hkb : kc ≤ 2 := by rw [← hkc]; unfold fp_un_c; (repeat' split) <;> omega
  rw [hkc] at hg2 hP ⊢
  refine lv_istore (lv' := [(5, .int (iI ((kc : Nat) : Int))), (0, .ref (b)), (1, .ref (x)), (2, .ref (ad 0)), (3, .ref (out)), (4, .int (iI ((4 * i : Nat) : Int)))]) hx hb dL_law_3235 hl (by decide) rfl (fun ls hl => ?_)
  refine lv_aload_n hx hb dL_law_3237 rfl (lv_at hl 3 rfl) ?_
  obtain ⟨fs3, hob3⟩ := hM.ob
  refine x_callV (cells1 := (cells + 1)) (slots1 := (slots + 6)) X hR (mm_undo G ad _ T i hA0 hI) q2506 q2507 q2508 q100 q2509 ⟨rfl, pd_X4_undo⟩ ⟨Nat.le_of_ble_eq_true rfl, Nat.le_of_ble_eq_true rfl⟩ rfl rfl (by omega) (by omega) hob3 rfl rfl (Nat.le_of_ble_eq_true rfl) hl.1 dL_law_3238 (hB0.of hS fp_no.base) hM hS (fun q h => Or.inr (by have h9 : (g_s G).heap.size ≤ q := fp_ma.base hA0 q h; omega)) (fun v H1 locs hp hz hk hS => ?_) (fun Ex qx cx H1 locs hp hz hk hS hcx hvx hlx => hp.elim)
  obtain ⟨r, rfl, hr, hM2⟩ := hp
  have hP := hP.mo X.2.2.2.2.2 hM hA0 hz hk
  have ho := ho.kept (hk out ho.lt hoa)
  have hM := hM2
  clear hM2
  rw [hkc] at hr hM
  refine r_stk (st2 := [.int (iI (r))]) rfl ?_
  refine lv_istore (lv' := [(6, .int (iI (r))), (5, .int (iI ((kc : Nat) : Int))), (0, .ref (b)), (1, .ref (x)), (2, .ref (ad 0)), (3, .ref (out)), (4, .int (iI ((4 * i : Nat) : Int)))]) hx hb dL_law_3241 hl (by decide) rfl (fun ls hl => ?_)
  refine lv_aload_n hx hb dL_law_3243 rfl (lv_at hl 4 rfl) ?_
  obtain ⟨fs4, hob4⟩ := hM.ob
  refine x_callV (cells1 := (cells + 1)) (slots1 := (slots + 6)) X hR (mm_thrown G ad _ _ hA0) q2079 q2080 q2081 q100 q2082 ⟨rfl, pd_X4_thrown⟩ ⟨Nat.le_of_ble_eq_true rfl, Nat.le_of_ble_eq_true rfl⟩ rfl rfl (by omega) (by omega) hob4 rfl rfl (Nat.le_of_ble_eq_true rfl) hl.1 dL_law_3244 (hB0.of hS fp_no.base) hM hS (fun q h => Or.inr (by have h9 : (g_s G).heap.size ≤ q := fp_ma.base hA0 q h; omega)) (fun v H1 locs hp hz hk hS => ?_) (fun Ex qx cx H1 locs hp hz hk hS hcx hvx hlx => hp.elim)
  obtain ⟨rfl, hM2⟩ := hp
  have hP := hP.mo X.2.2.2.2.2 hM hA0 hz hk
  have ho := ho.kept (hk out ho.lt hoa)
  have hM := hM2
  clear hM2
  refine r_stk (st2 := [.int (iI ((kc : Nat) : Int))]) rfl ?_
  refine lv_iload hx hb dL_law_3247 (lv_at hl 1 rfl) ?_
  refine lv_icmp_eq (tgt := 3254) hx hb dL_law_3249 (by decide) (fun _ => ?_) (fun h => absurd rfl h)
  refine lv_iload hx hb dL_law_3254 (lv_at hl 1 rfl) ?_
  refine r_if_ne (tgt := 3271) hx hb ⟨by omega, by omega⟩ dL_law_3256 (by decide) (fun hne => ?_) (fun he => ?_)
  · skip
    refine lv_goto (tgt := 3331) hx hb dL_law_3271 (by decide) ?_
    refine W.widen (k := cells + 50006) (n := slots + 229018) (by omega) (by omega) ?_
    exact kk _ _ _ _ _ _ (lv_sub hl [2, 3, 4, 5, 6] rfl) hS hP hM ho (hI.ifc (fun e => hI.un (fp_un_k (hkc.trans e))))
  · skip
    have he : kc = 0 := by omega
    refine lv_aload_n hx hb dL_law_3259 rfl (lv_at hl 5 rfl) ?_
    refine lv_iconst (v := (iI ((0 : Nat) : Int))) hx hb dL_law_3260 rfl ?_
    refine r_laldI (j := 0) X ho rfl (by decide) (by decide) dL_law_3261 ?_
    refine lv_iload hx hb dL_law_3262 (lv_at hl 0 rfl) ?_
    refine lv_i2l (v := (iI r).toInt64) hx hb dL_law_3264 rfl ?_
    refine r_lcmpE X (by rw [hg2 he, hr he]) dL_law_3265 ?_
    refine lv_if_eq (tgt := 3271) hx hb dL_law_3266 (by decide) (fun _ => ?_) (fun h => absurd rfl h)
    refine lv_goto (tgt := 3331) hx hb dL_law_3271 (by decide) ?_
    refine W.widen (k := cells + 50006) (n := slots + 229018) (by omega) (by omega) ?_
    exact kk _ _ _ _ _ _ (lv_sub hl [2, 3, 4, 5, 6] rfl) hS hP hM ho (hI.ifc (fun e => hI.un (fp_un_k (hkc.trans e))))
set_option maxHeartbeats 1000000 in
theorem lc_59 {G : fp_G} {pg : Program} {en : Env} {rR : Room} {s : State} {mi : MethodId} {ag : Array Value} {bl : List Frame} {mt : Method} {cd : Code} {H : Heap} {locs : List Loc} {cells slots : Nat} {qQ : State → Prop} {ls : Array Slot} {b L x out i k MC MS : Nat} {xs : Nat → Int32} {ad : Nat → Nat} {T : TH} {g : Nat → Int64} (X : fp_C G pg s mi ag cd cL_law "FortPlannerLaw" 9) (hR : fp_R rR 8192 104096 MC MS) (hB0 : fp_B G s.heap) (hX : va_X b L xs s s.heap) (hbl : b < s.heap.size) (hL : L ≤ 96) (hi : 4 * i + 4 ≤ L) (hA0 : fp_MA G ad) (hob : (g_s G).heap.size ≤ out) (hoa : ¬ fp_ma ad out) (hl : lv_has ls 9 [(0, .ref (b)), (1, .ref (x)), (2, .ref (ad 0)), (3, .ref (out)), (4, .int (iI ((4 * i : Nat) : Int)))]) (hS : va_S (fA fp_no s.heap.size) s.heap H locs) (hsb : s.heap.size = (g_s G).heap.size) (hc : cells + 50006 ≤ MC) (hs : slots + 229018 ≤ MS) (hP : fp_PW G x (fp_LM ad out) T H) (hM : fp_MC G ad k T H) (ho : fp_At G H out (eJ G 1 g)) (hI : fp_TI i T) (kk : ∀ (H1 : Heap) (locs1 : List Loc) (ls1 : Array Slot) (T1 : TH) (k1 : Nat) (g1 : Nat → Int64), lv_has ls1 9 [(0, .ref (b)), (1, .ref (x)), (2, .ref (ad 0)), (3, .ref (out)), (4, .int (iI ((4 * i : Nat) : Int)))] → va_S (fA fp_no s.heap.size) s.heap H1 locs1 → fp_PW G x (fp_LM ad out) T1 H1 → fp_MC G ad k1 T1 H1 → fp_At G H1 out (eJ G 1 g1) → fp_TJ (i + 1) T1 → W pg (g_l G) en rR s mi ag bl mt cd H1 locs1 (cells + 50006) (slots + 229018) qQ (F0 mi 3331 ls1 [])) : W pg (g_l G) en rR s mi ag bl mt cd H locs cells slots qQ (F0 mi 3274 ls []) := by
  obtain ⟨hx, hb, -⟩ := id X
  refine lv_aload_n hx hb dL_law_3274 rfl (lv_at hl 1 rfl) ?_
  obtain ⟨fs2, hob2⟩ := hP.ob
  refine x_callV (cells1 := cells + 9) (slots1 := slots + 149) X hR (w_save G x (fp_LM ad out) T i hI) q1091 q1092 q1093 q88 q1094 ⟨rfl, pd_X1_save⟩ ⟨Nat.le_of_ble_eq_true rfl, Nat.le_of_ble_eq_true rfl⟩ rfl rfl (by omega) (by omega) hob2 rfl rfl (Nat.le_of_ble_eq_true rfl) hl.1 dL_law_3275 (hB0.of hS fp_no.base) hP hS (fun q h => Or.inr (by have h9 : (g_s G).heap.size ≤ q := h.1; omega)) (fun v H1 locs hp hz hk hS => ?_) (fun Ex qx cx H1 locs hp hz hk hS hcx hvx hlx => hp.elim)
  obtain ⟨rfl, hP⟩ := hp
  have hM := hM.keep hk (fun q hq h => h.2 (Or.inl hq))
  have ho := ho.kept (hk out ho.lt (fun h => h.2 (Or.inr rfl)))
  refine r_stk (st2 := [.int (iI ((sN (T.1) : Nat) : Int))]) rfl ?_
  refine lv_aload_n hx hb dL_law_3278 rfl (lv_at hl 2 rfl) ?_
  obtain ⟨fs3, hob3⟩ := hM.ob
  refine x_callV (cells1 := (cells + 9)) (slots1 := (slots + 149)) X hR (mm_save G ad _ T i hA0 hI) q2510 q2511 q2512 q100 q2513 ⟨rfl, pd_X4_save⟩ ⟨Nat.le_of_ble_eq_true rfl, Nat.le_of_ble_eq_true rfl⟩ rfl rfl (by omega) (by omega) hob3 rfl rfl (Nat.le_of_ble_eq_true rfl) hl.1 dL_law_3279 (hB0.of hS fp_no.base) hM hS (fun q h => Or.inr (by have h9 : (g_s G).heap.size ≤ q := fp_ma.base hA0 q h; omega)) (fun v H1 locs hp hz hk hS => ?_) (fun Ex qx cx H1 locs hp hz hk hS hcx hvx hlx => hp.elim)
  obtain ⟨rfl, hM2⟩ := hp
  have hP := hP.mo X.2.2.2.2.2 hM hA0 hz hk
  have ho := ho.kept (hk out ho.lt hoa)
  have hM := hM2
  clear hM2
  refine r_stk (st2 := [.int (iI ((sN (T.1) : Nat) : Int)), .int (iI ((sN (T.1) : Nat) : Int))]) rfl ?_
  refine lv_icmp_eq (tgt := 3331) hx hb dL_law_3282 (by decide) (fun _ => ?_) (fun h => absurd rfl h)
  refine W.widen (k := cells + 50006) (n := slots + 229018) (by omega) (by omega) ?_
  exact kk _ _ _ _ _ _ hl hS hP hM ho (hI.sv)
set_option maxHeartbeats 1000000 in
theorem lc_60 {G : fp_G} {pg : Program} {en : Env} {rR : Room} {s : State} {mi : MethodId} {ag : Array Value} {bl : List Frame} {mt : Method} {cd : Code} {H : Heap} {locs : List Loc} {cells slots : Nat} {qQ : State → Prop} {ls : Array Slot} {b L x out i k MC MS : Nat} {xs : Nat → Int32} {ad : Nat → Nat} {T : TH} {g : Nat → Int64} (X : fp_C G pg s mi ag cd cL_law "FortPlannerLaw" 9) (hR : fp_R rR 8192 104096 MC MS) (hB0 : fp_B G s.heap) (hX : va_X b L xs s s.heap) (hbl : b < s.heap.size) (hL : L ≤ 96) (hi : 4 * i + 4 ≤ L) (hA0 : fp_MA G ad) (hob : (g_s G).heap.size ≤ out) (hoa : ¬ fp_ma ad out) (hl : lv_has ls 9 [(0, .ref (b)), (1, .ref (x)), (2, .ref (ad 0)), (3, .ref (out)), (4, .int (iI ((4 * i : Nat) : Int)))]) (hS : va_S (fA fp_no s.heap.size) s.heap H locs) (hsb : s.heap.size = (g_s G).heap.size) (hc : cells + 50006 ≤ MC) (hs : slots + 229018 ≤ MS) (hP : fp_PW G x (fp_LM ad out) T H) (hM : fp_MC G ad k T H) (ho : fp_At G H out (eJ G 1 g)) (hI : fp_TI i T) (kk : ∀ (H1 : Heap) (locs1 : List Loc) (ls1 : Array Slot) (T1 : TH) (k1 : Nat) (g1 : Nat → Int64), lv_has ls1 9 [(0, .ref (b)), (1, .ref (x)), (2, .ref (ad 0)), (3, .ref (out)), (4, .int (iI ((4 * i : Nat) : Int)))] → va_S (fA fp_no s.heap.size) s.heap H1 locs1 → fp_PW G x (fp_LM ad out) T1 H1 → fp_MC G ad k1 T1 H1 → fp_At G H1 out (eJ G 1 g1) → fp_TJ (i + 1) T1 → W pg (g_l G) en rR s mi ag bl mt cd H1 locs1 (cells + 50006) (slots + 229018) qQ (F0 mi 3331 ls1 [])) : W pg (g_l G) en rR s mi ag bl mt cd H locs cells slots qQ (F0 mi 3287 ls []) := by
  obtain ⟨hx, hb, -⟩ := id X
  refine lv_aload_n hx hb dL_law_3287 rfl (lv_at hl 1 rfl) ?_
  refine lv_aload_n hx hb dL_law_3288 rfl (lv_at hl 3 rfl) ?_
  obtain ⟨kc, hkc⟩ : ∃ kc, fp_re_c T.2.1 = kc := ⟨_, rfl⟩
  refine x_callSH (cells1 := cells + 10) (slots1 := slots + 155) X hR (x0_restore G x (fp_LM ad out) T i out g hI (Or.inr rfl) hob) q1989 q1990 q87 q1991 pd_X0_restore ⟨Nat.le_of_ble_eq_true rfl, Nat.le_of_ble_eq_true rfl⟩ rfl rfl (by omega) (by omega) rfl (Nat.le_of_ble_eq_true rfl) hl.1 dL_law_3289 (hB0.of hS fp_no.base) ⟨hP, ho⟩ hS (fun q h => Or.inr (by have h9 : (g_s G).heap.size ≤ q := h.1; omega)) (fun v H1 locs hp hz hk hS => ?_) (fun Ex qx cx H1 locs hp hz hk hS hcx hvx hlx => hp.elim)
  obtain ⟨g2, rfl, hg2, hP, ho⟩ := hp
  have hM := hM.keep hk (fun q hq h => h.2.elim (fun z => z (Or.inl hq)) (fun z => hoa (z ▸ hq)))
  refine r_stk (st2 := [.int (iI ((fp_re_c T.2.1 : Nat) : Int))]) rfl ?_
  have hkb : kc ≤ 2 := by rw [← hkc]; unfold fp_re_c; (repeat' split) <;> omega
  rw [hkc] at hg2 hP ⊢
  refine lv_istore (lv' := [(5, .int (iI ((kc : Nat) : Int))), (0, .ref (b)), (1, .ref (x)), (2, .ref (ad 0)), (3, .ref (out)), (4, .int (iI ((4 * i : Nat) : Int)))]) hx hb dL_law_3292 hl (by decide) rfl (fun ls hl => ?_)
  refine lv_aload_n hx hb dL_law_3294 rfl (lv_at hl 3 rfl) ?_
  obtain ⟨fs3, hob3⟩ := hM.ob
  refine x_callV (cells1 := (cells + 10)) (slots1 := (slots + 155)) X hR (mm_restore G ad _ T i hA0 hI) q2514 q2515 q2516 q100 q2517 ⟨rfl, pd_X4_restore⟩ ⟨Nat.le_of_ble_eq_true rfl, Nat.le_of_ble_eq_true rfl⟩ rfl rfl (by omega) (by omega) hob3 rfl rfl (Nat.le_of_ble_eq_true rfl) hl.1 dL_law_3295 (hB0.of hS fp_no.base) hM hS (fun q h => Or.inr (by have h9 : (g_s G).heap.size ≤ q := fp_ma.base hA0 q h; omega)) (fun v H1 locs hp hz hk hS => ?_) (fun Ex qx cx H1 locs hp hz hk hS hcx hvx hlx => hp.elim)
  obtain ⟨r, rfl, hr, hM2⟩ := hp
  have hP := hP.mo X.2.2.2.2.2 hM hA0 hz hk
  have ho := ho.kept (hk out ho.lt hoa)
  have hM := hM2
  clear hM2
  rw [hkc] at hr hM
  refine r_stk (st2 := [.int (iI (r))]) rfl ?_
  refine lv_istore (lv' := [(6, .int (iI (r))), (5, .int (iI ((kc : Nat) : Int))), (0, .ref (b)), (1, .ref (x)), (2, .ref (ad 0)), (3, .ref (out)), (4, .int (iI ((4 * i : Nat) : Int)))]) hx hb dL_law_3298 hl (by decide) rfl (fun ls hl => ?_)
  refine lv_aload_n hx hb dL_law_3300 rfl (lv_at hl 4 rfl) ?_
  obtain ⟨fs4, hob4⟩ := hM.ob
  refine x_callV (cells1 := (cells + 10)) (slots1 := (slots + 155)) X hR (mm_thrown G ad _ _ hA0) q2079 q2080 q2081 q100 q2082 ⟨rfl, pd_X4_thrown⟩ ⟨Nat.le_of_ble_eq_true rfl, Nat.le_of_ble_eq_true rfl⟩ rfl rfl (by omega) (by omega) hob4 rfl rfl (Nat.le_of_ble_eq_true rfl) hl.1 dL_law_3301 (hB0.of hS fp_no.base) hM hS (fun q h => Or.inr (by have h9 : (g_s G).heap.size ≤ q := fp_ma.base hA0 q h; omega)) (fun v H1 locs hp hz hk hS => ?_) (fun Ex qx cx H1 locs hp hz hk hS hcx hvx hlx => hp.elim)
  obtain ⟨rfl, hM2⟩ := hp
  have hP := hP.mo X.2.2.2.2.2 hM hA0 hz hk
  have ho := ho.kept (hk out ho.lt hoa)
  have hM := hM2
  clear hM2
  refine r_stk (st2 := [.int (iI ((kc : Nat) : Int))]) rfl ?_
  refine lv_iload hx hb dL_law_3304 (lv_at hl 1 rfl) ?_
  refine lv_icmp_eq (tgt := 3311) hx hb dL_law_3306 (by decide) (fun _ => ?_) (fun h => absurd rfl h)
  refine lv_iload hx hb dL_law_3311 (lv_at hl 1 rfl) ?_
  refine r_if_ne (tgt := 3328) hx hb ⟨by omega, by omega⟩ dL_law_3313 (by decide) (fun hne => ?_) (fun he => ?_)
  · skip
    refine lv_goto (tgt := 3331) hx hb dL_law_3328 (by decide) ?_
    refine W.widen (k := cells + 50006) (n := slots + 229018) (by omega) (by omega) ?_
    exact kk _ _ _ _ _ _ (lv_sub hl [2, 3, 4, 5, 6] rfl) hS hP hM ho (hI.ifc (fun e => hI.re (fp_re_k (hkc.trans e))))
  · skip
    have he : kc = 0 := by omega
    refine lv_aload_n hx hb dL_law_3316 rfl (lv_at hl 5 rfl) ?_
    refine lv_iconst (v := (iI ((0 : Nat) : Int))) hx hb dL_law_3317 rfl ?_
    refine r_laldI (j := 0) X ho rfl (by decide) (by decide) dL_law_3318 ?_
    refine lv_iload hx hb dL_law_3319 (lv_at hl 0 rfl) ?_
    refine lv_i2l (v := (iI r).toInt64) hx hb dL_law_3321 rfl ?_
    refine r_lcmpE X (by rw [hg2 he, hr he]) dL_law_3322 ?_
    refine lv_if_eq (tgt := 3328) hx hb dL_law_3323 (by decide) (fun _ => ?_) (fun h => absurd rfl h)
    refine lv_goto (tgt := 3331) hx hb dL_law_3328 (by decide) ?_
    refine W.widen (k := cells + 50006) (n := slots + 229018) (by omega) (by omega) ?_
    exact kk _ _ _ _ _ _ (lv_sub hl [2, 3, 4, 5, 6] rfl) hS hP hM ho (hI.ifc (fun e => hI.re (fp_re_k (hkc.trans e))))
