/-! THE PLANNER: a command is executed -/
set_option maxRecDepth 100000
def fp_inj (n : Nat) (b : Nat → Nat) : Prop := ∀ i j, i < n → j < n → b i = b j → i = j
theorem fp_inj.up {n a : Nat} {b : Nat → Nat} (h : fp_inj n b) (ha : ∀ k, k < n → b k ≠ a) : fp_inj (n + 1) (va_up b n a) := fun i j hi hj e => by
  by_cases e1 : i = n
  · by_cases e2 : j = n
    · omega
    · rw [e1, va_up_self, va_up_ne _ _ e2] at e
      exact absurd e.symm (ha j (by omega))
  · by_cases e2 : j = n
    · rw [e2, va_up_self, va_up_ne _ _ e1] at e
      exact absurd e (ha i (by omega))
    · rw [va_up_ne _ _ e1, va_up_ne _ _ e2] at e
      exact h i j (by omega) (by omega) e
theorem fp_inj.rem {n k : Nat} {b : Nat → Nat} (h : fp_inj n b) : fp_inj (n - 1) (fp_rem b k) := fun i j hi hj e => by
  unfold fp_rem at e
  by_cases c1 : i < k
  · rw [if_pos c1] at e
    by_cases c2 : j < k
    · rw [if_pos c2] at e
      exact h i j (by omega) (by omega) e
    · rw [if_neg c2] at e
      have := h i (j + 1) (by omega) (by omega) e
      omega
  · rw [if_neg c1] at e
    by_cases c2 : j < k
    · rw [if_pos c2] at e
      have := h (i + 1) j (by omega) (by omega) e
      omega
    · rw [if_neg c2] at e
      have := h (i + 1) (j + 1) (by omega) (by omega) e
      omega
/-- what a command of word w does, its numbers and its letter as they lie in its cells -/
def fp_dof (S : PS) (w : Nat) (f : Nat → Int) (lt : Nat) : Nat × PS := fp_do S w (f 0) (if w = 4 then (lt : Int) else f 1) (f 2)
theorem fp_dof_p {S : PS} {w : Nat} {f : Nat → Int} {lt : Nat} (h : w < 3) : fp_dof S w f lt = (fp_plc S w (f 0) (f 1) (f 2), fp_add S w (f 0).toNat (f 1).toNat (f 2).toNat) := by
  unfold fp_dof
  rw [if_neg (show ¬ w = 4 by omega)]
  exact if_pos h
theorem fp_dof_3 {S : PS} {f : Nat → Int} {lt : Nat} : fp_dof S 3 f lt = (if fp_fnd S (f 0) = sN S then 1 else if fp_und S (fp_fnd S (f 0)) = true then 2 else 0, fp_del S (fp_fnd S (f 0))) := rfl
theorem fp_dof_4 {S : PS} {f : Nat → Int} {lt : Nat} : fp_dof S 4 f lt = (if ¬ (0 ≤ f 0 ∧ f 0 ≤ 11) then 1 else if fp_zby lt < 0 then 2 else 0, fp_setz S (f 0).toNat (fp_zby lt).toNat) := rfl
theorem fp_dof_5 {S : PS} {f : Nat → Int} {lt : Nat} : fp_dof S 5 f lt = (if ¬ (0 ≤ f 0 ∧ f 0 ≤ 11) then 1 else if sT S (f 0).toNat = 1 then 2 else 0, fp_sett S (f 0).toNat 1) := rfl
theorem fp_dof_6 {S : PS} {f : Nat → Int} {lt : Nat} : fp_dof S 6 f lt = (if ¬ (0 ≤ f 0 ∧ f 0 ≤ 11) then 1 else if sT S (f 0).toNat = 0 then 2 else 0, fp_sett S (f 0).toNat 0) := rfl
theorem fp_cc_i {c : Int} (h : fp_cc c = 0) : 0 ≤ c ∧ c ≤ 11 := by
  unfold fp_cc at h
  split at h
  · assumption
  · cases h
theorem fp_cc_o {c : Int} (h : fp_cc c = 1) : ¬ (0 ≤ c ∧ c ≤ 11) := by
  unfold fp_cc at h
  split at h
  · cases h
  · assumption
theorem fp_fc_i {S : PS} {z : Int} (h : fp_fc S z = 0) : fp_fnd S z < sN S := by
  unfold fp_fc at h
  split at h
  · assumption
  · cases h
theorem fp_fc_o {S : PS} {z : Int} (h : fp_fc S z = 1) : ¬ fp_fnd S z < sN S := by
  unfold fp_fc at h
  split at h
  · cases h
  · assumption
theorem fp_d3_0 {S : PS} {f : Nat → Int} {lt : Nat} (h : fp_fc S (f 0) = 0) (h2 : fp_und S (fp_fnd S (f 0)) = false) : (fp_dof S 3 f lt).1 = 0 := by
  have h3 := fp_fc_i h
  rw [fp_dof_3]
  show (if fp_fnd S (f 0) = sN S then 1 else if fp_und S (fp_fnd S (f 0)) = true then 2 else 0) = 0
  rw [if_neg (by omega), if_neg (by rw [h2]; decide)]
theorem fp_d3_1 {S : PS} {f : Nat → Int} {lt : Nat} (h : fp_fc S (f 0) = 1 ∨ fp_und S (fp_fnd S (f 0)) = true) : (fp_dof S 3 f lt).1 ≠ 0 := by
  rw [fp_dof_3]
  show (if fp_fnd S (f 0) = sN S then 1 else if fp_und S (fp_fnd S (f 0)) = true then 2 else 0) ≠ 0
  by_cases c : fp_fnd S (f 0) = sN S
  · rw [if_pos c]; decide
  · rw [if_neg c]
    rcases h with h | h
    · have h3 := fp_fc_o h
      rcases fp_fq_s (S := S) (fun _ => 0) (f 0) with ⟨-, h5⟩ | ⟨-, h5⟩ <;> omega
    · rw [if_pos h]; decide
theorem fp_d4_0 {S : PS} {f : Nat → Int} {lt : Nat} (h : fp_cc (f 0) = 0) (h2 : 0 ≤ fp_zby lt) : (fp_dof S 4 f lt).1 = 0 := by
  have h3 := fp_cc_i h
  rw [fp_dof_4]
  exact (if_neg (fun z => z h3)).trans (if_neg (by omega))
theorem fp_d4_1 {S : PS} {f : Nat → Int} {lt : Nat} (h : fp_cc (f 0) = 1 ∨ fp_zby lt < 0) : (fp_dof S 4 f lt).1 ≠ 0 := by
  rw [fp_dof_4]
  show (if ¬ (0 ≤ f 0 ∧ f 0 ≤ 11) then 1 else if fp_zby lt < 0 then 2 else 0) ≠ 0
  by_cases c : 0 ≤ f 0 ∧ f 0 ≤ 11
  · rw [if_neg (fun z => z c)]
    rcases h with h | h
    · exact absurd c (fp_cc_o h)
    · rw [if_pos h]; decide
  · rw [if_pos c]; decide
theorem fp_d5_0 {S : PS} {f : Nat → Int} {lt : Nat} (h : fp_cc (f 0) = 0) (h2 : sT S (f 0).toNat ≠ 1) : (fp_dof S 5 f lt).1 = 0 := by
  have h3 := fp_cc_i h
  rw [fp_dof_5]
  exact (if_neg (fun z => z h3)).trans (if_neg h2)
theorem fp_d5_1 {S : PS} {f : Nat → Int} {lt : Nat} (h : fp_cc (f 0) = 1 ∨ sT S (f 0).toNat = 1) : (fp_dof S 5 f lt).1 ≠ 0 := by
  rw [fp_dof_5]
  show (if ¬ (0 ≤ f 0 ∧ f 0 ≤ 11) then 1 else if sT S (f 0).toNat = 1 then 2 else 0) ≠ 0
  by_cases c : 0 ≤ f 0 ∧ f 0 ≤ 11
  · rw [if_neg (fun z => z c)]
    rcases h with h | h
    · exact absurd c (fp_cc_o h)
    · rw [if_pos h]; decide
  · rw [if_pos c]; decide
theorem fp_d6_0 {S : PS} {f : Nat → Int} {lt : Nat} (hok : fp_ok S) (h : fp_cc (f 0) = 0) (h2 : sT S (f 0).toNat = 1) : (fp_dof S 6 f lt).1 = 0 := by
  have h3 := fp_cc_i h
  rw [fp_dof_6]
  exact (if_neg (fun z => z h3)).trans (if_neg (by omega))
theorem fp_d6_1 {S : PS} {f : Nat → Int} {lt : Nat} (hok : fp_ok S) (h : fp_cc (f 0) = 1 ∨ fp_cc (f 0) = 0 ∧ sT S (f 0).toNat ≠ 1) : (fp_dof S 6 f lt).1 ≠ 0 := by
  rw [fp_dof_6]
  show (if ¬ (0 ≤ f 0 ∧ f 0 ≤ 11) then 1 else if sT S (f 0).toNat = 0 then 2 else 0) ≠ 0
  by_cases c : 0 ≤ f 0 ∧ f 0 ≤ 11
  · rw [if_neg (fun z => z c)]
    rcases h with h | ⟨h, h2⟩
    · exact absurd c (fp_cc_o h)
    · have := hok.2.2.2.2 (f 0).toNat (by omega)
      rw [if_pos (by omega)]; decide
  · rw [if_pos c]; decide

set_option maxRecDepth 100000
set_option maxHeartbeats 4000000 in
theorem c_X1_execute (G : fp_G) (x : Nat) (u : Nat) (sv : Value) (hi : Nat) (ip : Nat) (ln : Nat) (er : Int) (fa : Int) (l : Nat) (ed : Nat) (z : Nat) (t : Nat) (mc : Int32) (cap : Nat) (b : Nat → Nat) (S : PS) (c : Nat) (y : Nat) (qy : Nat) (nu : Nat) (lt : Nat) (wd : Nat) (f : Nat → Int) (hsw : fp_sw S b) (hxb : (g_s G).heap.size ≤ x) (hiv : fp_Iv S) (hp9 : sP S < 999) (hwd : wd < 7) (hfr : ∀ j, j < 3 → 0 ≤ f j ∧ f j < 1000) (hlt : lt < 65536) : fp_MX G yX1_execute cX1_execute 7 none 304 8088 165 3215 [.ref (x), .ref (c)] (fun H => fp_At G H x (eO 1 [.ref (u), sv, .ref (hi), .ref (ip), .ref (ln), .int (iI (bI (true))), .int (iI (er)), .int (iI (fa))]) ∧ fp_SE G u l ed z t mc cap b S H ∧ fp_At G H c (eO 7 [.ref (y), .ref (nu), .int (iI ((lt : Nat) : Int))]) ∧ fp_At G H nu (eI G 3 (fun j => iI (f j))) ∧ fp_HH G y qy (fp_wk wd) (fp_ww wd) H) (fun q => (g_s G).heap.size ≤ q ∧ (q = u ∨ q = l ∨ q = ed ∨ q = z ∨ q = t)) (fun H v H1 => ∃ (ed2 : Nat), ∃ (mc2 : Int32), ∃ (cap2 : Nat), ∃ (b2 : Nat → Nat), ∃ (S2 : PS), v = none ∧ ((fp_dof S wd f lt).1 = 0) ∧ (S2 = (fp_dof S wd f lt).2) ∧ (ed2 = ed ∨ H.size ≤ ed2) ∧ (fp_inj (sN S2) b2) ∧ fp_SE G u l ed2 z t mc2 cap2 b2 S2 H1) (fun H E H1 => (E = "java/lang/IllegalArgumentException" ∧ (((fp_dof S wd f lt).1 ≠ 0))) ∨ (E = "java/lang/IllegalStateException" ∧ (((fp_dof S wd f lt).1 ≠ 0))) ∨ (E = "java/lang/IndexOutOfBoundsException" ∧ (((fp_dof S wd f lt).1 ≠ 0))) ∨ (E = "java/util/NoSuchElementException" ∧ (((fp_dof S wd f lt).1 ≠ 0)))) := by
  refine fp_MX.intro (by decide) (Nat.le_of_ble_eq_true rfl) ?_
  intro pg en s mi ag bl mt cd rR qQ ls X hx hb hr hlk hnm hR hQ hT hB hM hl
  have hS : va_S (fA (fun q => (g_s G).heap.size ≤ q ∧ (q = u ∨ q = l ∨ q = ed ∨ q = z ∨ q = t)) s.heap.size) s.heap s.heap [] := va_S.rf
  generalize ([] : List Loc) = locs at hS ⊢
  have hb0 := hB.1
  have hAb : ∀ q, (fun q => (g_s G).heap.size ≤ q ∧ (q = u ∨ q = l ∨ q = ed ∨ q = z ∨ q = t)) q → (g_s G).heap.size ≤ q := fun q h => h.1
  obtain ⟨h_pob, h_st, h_cm, h_nums, h_ky⟩ := hM
  have hsz0 := hS.1
  have lt_1 := h_pob.lt
  have lt_2 := h_st.1.lt
  have lt_3 := h_cm.lt
  have lt_4 := h_nums.lt
  have lt_5 := h_ky.1.lt
  have lt_6 := h_ky.1.2.1.lt
  have hn24 := hsw.1.1
  have hed0 := (X.2.2.2.2.2.deT (A := fp_no) hB fp_no.base).2.2
  obtain ⟨hku, hkl, hkz, hkt, hkb, hxb9, hzb9, htb9⟩ := id h_st
  have hlb9 := hkl.2.2.2
  have hne_7 : fp_dif x u := fp_neOO X.2.2.2.2.2 (i := 1) (j := 2) rfl rfl (by decide) h_pob hku
  have hne_8 : fp_dif x l := fp_neOO X.2.2.2.2.2 (i := 1) (j := 8) rfl rfl (by decide) h_pob hkl.1
  have hne_9 : fp_dif x z := fp_neOA X.2.2.2.2.2 (i := 1) (t := 5) rfl rfl h_pob hkz
  have hne_10 : fp_dif x t := fp_neOA X.2.2.2.2.2 (i := 1) (t := 1) rfl rfl h_pob hkt
  have hne_11 : fp_dif x ed := fp_LE.neE hkl hed0 (by omega) (fun f9 h9 => fp_neOA X.2.2.2.2.2 (i := 1) (t := 4) rfl rfl h_pob h9)
  have hne_12 : fp_dif u l := fp_neOO X.2.2.2.2.2 (i := 2) (j := 8) rfl rfl (by decide) hku hkl.1
  have hne_13 : fp_dif u z := fp_neOA X.2.2.2.2.2 (i := 2) (t := 5) rfl rfl hku hkz
  have hne_14 : fp_dif u t := fp_neOA X.2.2.2.2.2 (i := 2) (t := 1) rfl rfl hku hkt
  have hne_15 : fp_dif u ed := fp_LE.neE hkl hed0 (by omega) (fun f9 h9 => fp_neOA X.2.2.2.2.2 (i := 2) (t := 4) rfl rfl hku h9)
  have hne_16 : fp_dif l z := fp_neOA X.2.2.2.2.2 (i := 8) (t := 5) rfl rfl hkl.1 hkz
  have hne_17 : fp_dif l t := fp_neOA X.2.2.2.2.2 (i := 8) (t := 1) rfl rfl hkl.1 hkt
  have hne_18 : fp_dif l ed := fp_LE.neE hkl hed0 (by omega) (fun f9 h9 => fp_neOA X.2.2.2.2.2 (i := 8) (t := 4) rfl rfl hkl.1 h9)
  have hne_19 : fp_dif z t := fp_neAA X.2.2.2.2.2 (t := 5) (t2 := 1) rfl rfl (by decide) hkz hkt
  have hne_20 : fp_dif z ed := fp_LE.neE hkl hed0 (by omega) (fun f9 h9 => fp_neAA X.2.2.2.2.2 (t := 5) (t2 := 4) rfl rfl (by decide) hkz h9)
  have hne_21 : fp_dif t ed := fp_LE.neE hkl hed0 (by omega) (fun f9 h9 => fp_neAA X.2.2.2.2.2 (t := 1) (t2 := 4) rfl rfl (by decide) hkt h9)
  have hap0 := (fp_SE.dis X.2.2.2.2.2 hed0 h_st).2
  have hf0 := hfr 0 (by decide)
  have hf1 := hfr 1 (by decide)
  have hf2 := hfr 2 (by decide)
  rcases (show wd = 0 ∨ wd = 1 ∨ wd = 2 ∨ wd = 3 ∨ wd = 4 ∨ wd = 5 ∨ wd = 6 by omega) with rfl | rfl | rfl | rfl | rfl | rfl | rfl
  · skip
    refine lv_aload_n hx hb dX1_execute_0 rfl (lv_at hl 1 rfl) ?_
    refine r_getN X h_cm rfl in_X10 1 (by decide) q1832 (Or.inl rfl) (v := .ref (nu)) rfl dX1_execute_1 ?_
    refine lv_iconst (v := (iI ((0 : Nat) : Int))) hx hb dX1_execute_4 rfl ?_
    refine r_ialdI X h_nums (j := 0) rfl (by decide) (by decide) dX1_execute_5 ?_
    refine lv_istore_n (lv' := [(2, .int (iI (f 0))), (0, .ref (x)), (1, .ref (c))]) hx hb dX1_execute_6 rfl hl (by decide) rfl (fun ls hl => ?_)
    refine lv_aload_n hx hb dX1_execute_7 rfl (lv_at hl 2 rfl) ?_
    refine r_getN X h_cm rfl in_X10 1 (by decide) q1832 (Or.inl rfl) (v := .ref (nu)) rfl dX1_execute_8 ?_
    refine lv_iconst (v := (iI ((1 : Nat) : Int))) hx hb dX1_execute_11 rfl ?_
    refine r_ialdI X h_nums (j := 1) rfl (by decide) (by decide) dX1_execute_12 ?_
    refine lv_istore_n (lv' := [(3, .int (iI (f 1))), (2, .int (iI (f 0))), (0, .ref (x)), (1, .ref (c))]) hx hb dX1_execute_13 rfl hl (by decide) rfl (fun ls hl => ?_)
    refine lv_aload_n hx hb dX1_execute_14 rfl (lv_at hl 3 rfl) ?_
    refine r_getN X h_cm rfl in_X10 1 (by decide) q1832 (Or.inl rfl) (v := .ref (nu)) rfl dX1_execute_15 ?_
    refine lv_iconst (v := (iI ((2 : Nat) : Int))) hx hb dX1_execute_18 rfl ?_
    refine r_ialdI X h_nums (j := 2) rfl (by decide) (by decide) dX1_execute_19 ?_
    refine lv_istore (lv' := [(4, .int (iI (f 2))), (3, .int (iI (f 1))), (2, .int (iI (f 0))), (0, .ref (x)), (1, .ref (c))]) hx hb dX1_execute_20 hl (by decide) rfl (fun ls hl => ?_)
    refine lv_aload_n hx hb dX1_execute_22 rfl (lv_at hl 4 rfl) ?_
    refine r_getN X h_cm rfl in_X10 0 (by decide) q1829 (Or.inl rfl) (v := .ref (y)) rfl dX1_execute_23 ?_
    refine lv_astore (lv' := [(5, .ref (y)), (4, .int (iI (f 2))), (3, .int (iI (f 1))), (2, .int (iI (f 0))), (0, .ref (x)), (1, .ref (c))]) hx hb dX1_execute_26 hl (by decide) rfl (fun ls hl => ?_)
    refine lv_iconst (v := (iI (-1))) hx hb dX1_execute_28 rfl ?_
    refine lv_istore (lv' := [(6, .int (iI (-1))), (5, .ref (y)), (4, .int (iI (f 2))), (3, .int (iI (f 1))), (2, .int (iI (f 0))), (0, .ref (x)), (1, .ref (c))]) hx hb dX1_execute_29 hl (by decide) rfl (fun ls hl => ?_)
    refine lv_aload hx hb dX1_execute_31 (lv_at hl 1 rfl) ?_
    refine r_callVR (cells1 := 0) (slots1 := 0) X hR (c_J7_hashCode_r G y qy (fp_wk 0) (fp_ww 0) (by decide +kernel)) q1938 q1864 q1865 q98 q1866 ⟨rfl, pd_J7_hashCode⟩ ⟨Nat.le_of_ble_eq_true rfl, Nat.le_of_ble_eq_true rfl⟩ rfl rfl (Nat.le_of_ble_eq_true rfl) (Nat.le_of_ble_eq_true rfl) (fp_SO.recv X ((fp_HS.st (h_ky).1).1) hB hAb hS) rfl (Nat.le_of_ble_eq_true rfl) hl.1 dX1_execute_33 (hB.of hS hAb) h_ky hS (fun _ h => h.elim) (fun v H_25 locs hp_22 hz_23 hk_24 hS => ?_)
    obtain ⟨rfl, rfl⟩ := hp_22
    refine r_stk (st2 := [.int (fp_hsh (fp_ww 0) (fp_wk 0))]) rfl ?_
    refine lv_lookup (off := 60) (tgt := 96) hx hb dX1_execute_36 (by decide) (by decide +kernel) (by decide) ?_
    refine lv_aload hx hb dX1_execute_96 (lv_at hl 1 rfl) ?_
    refine r_ldcSw X q1939 (X.2.2.2.2.2.kst hB fp_kX0).2.1 dX1_execute_98 ?_
    have hk_26 := (X.2.2.2.2.2.kst (hB.of hS hAb) fp_kX0).1
    have lt_27 := hk_26.1.2
    have lt_28 := hk_26.2.2.1
    refine r_callVR (cells1 := 0) (slots1 := 0) X hR (c_J7_equals G y qy (fp_wk 0) (fp_ww 0) (fp_ks G "FortPlanner" 378) (fp_kv G "FortPlanner" 378) 4 (fun i => [102, 111, 97, 109].getD i 0)) q1940 q900 q2532 q98 q901 ⟨rfl, pd_J7_equals⟩ ⟨Nat.le_of_ble_eq_true rfl, Nat.le_of_ble_eq_true rfl⟩ rfl rfl (Nat.le_of_ble_eq_true rfl) (Nat.le_of_ble_eq_true rfl) (fp_SO.recv X ((fp_HS.st (h_ky).1).1) hB hAb hS) rfl (Nat.le_of_ble_eq_true rfl) hl.1 dX1_execute_101 (hB.of hS hAb) ⟨(fp_HS.st (h_ky).1), hk_26⟩ hS (fun _ h => h.elim) (fun v H_32 locs hp_29 hz_30 hk_31 hS => ?_)
    obtain ⟨rfl, rfl⟩ := hp_29
    refine r_stk (st2 := [.int (iI (bI (fp_teq (fp_wk 0) (fp_ww 0) 4 (fun i => [102, 111, 97, 109].getD i 0))))]) rfl ?_
    refine r_set (y := .int (iI (bI (true)))) (congrArg (fun q : Bool => Value.int (iI (bI q))) (by decide +kernel)) ?_
    refine r_ifeqB (tgt := 195) hx hb dX1_execute_104 (by decide) (fun c104 => ?_) (fun c104 => ?_)
    · exact absurd c104 (by decide)
    · skip
      refine lv_iconst (v := (iI ((0 : Nat) : Int))) hx hb dX1_execute_107 rfl ?_
      refine lv_istore (lv' := [(6, .int (iI ((0 : Nat) : Int))), (5, .ref (y)), (4, .int (iI (f 2))), (3, .int (iI (f 1))), (2, .int (iI (f 0))), (0, .ref (x)), (1, .ref (c))]) hx hb dX1_execute_108 hl (by decide) rfl (fun ls hl => ?_)
      refine lv_goto (tgt := 195) hx hb dX1_execute_110 (by decide) ?_
      refine lv_iload hx hb dX1_execute_195 (lv_at hl 0 rfl) ?_
      refine lv_tableIn (off := 39) (tgt := 236) hx hb dX1_execute_197 (by decide) (by decide) rfl (by decide) ?_
      refine lv_aload_n hx hb dX1_execute_236 rfl (lv_at hl 5 rfl) ?_
      refine lv_iload_n hx hb dX1_execute_237 rfl (lv_at hl 4 rfl) ?_
      refine lv_iload_n hx hb dX1_execute_238 rfl (lv_at hl 3 rfl) ?_
      refine lv_iload hx hb dX1_execute_239 (lv_at hl 2 rfl) ?_
      refine x_callV (cells1 := 165) (slots1 := 3215) X hR (c_X1_placeFoam_x G x u sv hi ip ln (er) (fa) l ed z t mc cap b S (f 0) (f 1) (f 2) hsw hxb (⟨by omega, by omega⟩) (⟨by omega, by omega⟩) (⟨by omega, by omega⟩) hiv hp9) q1946 q1115 q1116 q88 q1117 ⟨rfl, pd_X1_placeFoam⟩ ⟨Nat.le_of_ble_eq_true rfl, Nat.le_of_ble_eq_true rfl⟩ rfl rfl (Nat.le_of_ble_eq_true rfl) (Nat.le_of_ble_eq_true rfl) h_pob rfl rfl (Nat.le_of_ble_eq_true rfl) hl.1 dX1_execute_241 (hB.of hS hAb) ⟨h_pob, h_st⟩ hS (fun q h => by have h2 : (g_s G).heap.size ≤ q ∧ (q = u ∨ q = l ∨ q = ed) := h; show ((g_s G).heap.size ≤ q ∧ (q = u ∨ q = l ∨ q = ed ∨ q = z ∨ q = t)) ∨ s.heap.size ≤ q; omega) (fun v H_36 locs hp_33 hz_34 hk_35 hS => ?_) (fun Ex qx cx H_36 locs hp_33 hz_34 hk_35 hS hcx hvx hlx => ?_)
      · skip
        obtain ⟨ed2_37, mc2_38, cap2_39, nb_40, rfl, hpc_41, hed2_42, hnb_43, hE_44⟩ := hp_33
        have hz_45 := hS.1
        have lt_46 := hE_44.1.lt
        refine r_stk (st2 := [.int (iI ((sP S : Nat) : Int))]) rfl ?_
        refine lv_pop hx hb dX1_execute_244 rfl ?_
        refine lv_goto (tgt := 309) hx hb dX1_execute_245 (by decide) ?_
        refine x_vret hx hb hr hlk hQ hS (Nat.le_of_ble_eq_true rfl) (Nat.le_of_ble_eq_true rfl) dX1_execute_309 ?_
        exact ⟨ed2_37, mc2_38, cap2_39, (va_up b (sN S) nb_40), (fp_dof S 0 f lt).2, rfl, (by rw [fp_dof_p (by decide)]; exact hpc_41), rfl, (by omega), (fp_inj.up hsw.2 (fun k hk => by have := (hkb k hk).lt; omega)), hE_44⟩
      · skip
        rcases hp_33 with ⟨rfl, hb9, hE_47⟩ | ⟨rfl, ed2_48, mc2_49, cap2_50, hb9, hb8, hE_51⟩
        · skip
          have hz_52 := hS.1
          have lt_53 := hE_47.1.lt
          exact x_out hT hlk hQ hS (Nat.le_of_ble_eq_true rfl) (Nat.le_of_ble_eq_true rfl) hcx hvx hlx (Or.inl ⟨rfl, (by rw [fp_dof_p (by decide)]; show fp_plc _ _ _ _ _ ≠ 0; rw [hb9]; decide)⟩)
        · skip
          have hz_54 := hS.1
          have lt_55 := hE_51.1.lt
          exact x_out hT hlk hQ hS (Nat.le_of_ble_eq_true rfl) (Nat.le_of_ble_eq_true rfl) hcx hvx hlx (Or.inr (Or.inl ⟨rfl, (by rw [fp_dof_p (by decide)]; show fp_plc _ _ _ _ _ ≠ 0; rw [hb8]; decide)⟩))
  · skip
    refine lv_aload_n hx hb dX1_execute_0 rfl (lv_at hl 1 rfl) ?_
    refine r_getN X h_cm rfl in_X10 1 (by decide) q1832 (Or.inl rfl) (v := .ref (nu)) rfl dX1_execute_1 ?_
    refine lv_iconst (v := (iI ((0 : Nat) : Int))) hx hb dX1_execute_4 rfl ?_
    refine r_ialdI X h_nums (j := 0) rfl (by decide) (by decide) dX1_execute_5 ?_
    refine lv_istore_n (lv' := [(2, .int (iI (f 0))), (0, .ref (x)), (1, .ref (c))]) hx hb dX1_execute_6 rfl hl (by decide) rfl (fun ls hl => ?_)
    refine lv_aload_n hx hb dX1_execute_7 rfl (lv_at hl 2 rfl) ?_
    refine r_getN X h_cm rfl in_X10 1 (by decide) q1832 (Or.inl rfl) (v := .ref (nu)) rfl dX1_execute_8 ?_
    refine lv_iconst (v := (iI ((1 : Nat) : Int))) hx hb dX1_execute_11 rfl ?_
    refine r_ialdI X h_nums (j := 1) rfl (by decide) (by decide) dX1_execute_12 ?_
    refine lv_istore_n (lv' := [(3, .int (iI (f 1))), (2, .int (iI (f 0))), (0, .ref (x)), (1, .ref (c))]) hx hb dX1_execute_13 rfl hl (by decide) rfl (fun ls hl => ?_)
    refine lv_aload_n hx hb dX1_execute_14 rfl (lv_at hl 3 rfl) ?_
    refine r_getN X h_cm rfl in_X10 1 (by decide) q1832 (Or.inl rfl) (v := .ref (nu)) rfl dX1_execute_15 ?_
    refine lv_iconst (v := (iI ((2 : Nat) : Int))) hx hb dX1_execute_18 rfl ?_
    refine r_ialdI X h_nums (j := 2) rfl (by decide) (by decide) dX1_execute_19 ?_
    refine lv_istore (lv' := [(4, .int (iI (f 2))), (3, .int (iI (f 1))), (2, .int (iI (f 0))), (0, .ref (x)), (1, .ref (c))]) hx hb dX1_execute_20 hl (by decide) rfl (fun ls hl => ?_)
    refine lv_aload_n hx hb dX1_execute_22 rfl (lv_at hl 4 rfl) ?_
    refine r_getN X h_cm rfl in_X10 0 (by decide) q1829 (Or.inl rfl) (v := .ref (y)) rfl dX1_execute_23 ?_
    refine lv_astore (lv' := [(5, .ref (y)), (4, .int (iI (f 2))), (3, .int (iI (f 1))), (2, .int (iI (f 0))), (0, .ref (x)), (1, .ref (c))]) hx hb dX1_execute_26 hl (by decide) rfl (fun ls hl => ?_)
    refine lv_iconst (v := (iI (-1))) hx hb dX1_execute_28 rfl ?_
    refine lv_istore (lv' := [(6, .int (iI (-1))), (5, .ref (y)), (4, .int (iI (f 2))), (3, .int (iI (f 1))), (2, .int (iI (f 0))), (0, .ref (x)), (1, .ref (c))]) hx hb dX1_execute_29 hl (by decide) rfl (fun ls hl => ?_)
    refine lv_aload hx hb dX1_execute_31 (lv_at hl 1 rfl) ?_
    refine r_callVR (cells1 := 0) (slots1 := 0) X hR (c_J7_hashCode_r G y qy (fp_wk 1) (fp_ww 1) (by decide +kernel)) q1938 q1864 q1865 q98 q1866 ⟨rfl, pd_J7_hashCode⟩ ⟨Nat.le_of_ble_eq_true rfl, Nat.le_of_ble_eq_true rfl⟩ rfl rfl (Nat.le_of_ble_eq_true rfl) (Nat.le_of_ble_eq_true rfl) (fp_SO.recv X ((fp_HS.st (h_ky).1).1) hB hAb hS) rfl (Nat.le_of_ble_eq_true rfl) hl.1 dX1_execute_33 (hB.of hS hAb) h_ky hS (fun _ h => h.elim) (fun v H_59 locs hp_56 hz_57 hk_58 hS => ?_)
    obtain ⟨rfl, rfl⟩ := hp_56
    refine r_stk (st2 := [.int (fp_hsh (fp_ww 1) (fp_wk 1))]) rfl ?_
    refine lv_lookup (off := 77) (tgt := 113) hx hb dX1_execute_36 (by decide) (by decide +kernel) (by decide) ?_
    refine lv_aload hx hb dX1_execute_113 (lv_at hl 1 rfl) ?_
    refine r_ldcSw X q1941 (X.2.2.2.2.2.kst hB fp_kX1).2.1 dX1_execute_115 ?_
    have hk_60 := (X.2.2.2.2.2.kst (hB.of hS hAb) fp_kX1).1
    have lt_61 := hk_60.1.2
    have lt_62 := hk_60.2.2.1
    refine r_callVR (cells1 := 0) (slots1 := 0) X hR (c_J7_equals G y qy (fp_wk 1) (fp_ww 1) (fp_ks G "FortPlanner" 383) (fp_kv G "FortPlanner" 383) 5 (fun i => [98, 111, 97, 114, 100].getD i 0)) q1940 q900 q2532 q98 q901 ⟨rfl, pd_J7_equals⟩ ⟨Nat.le_of_ble_eq_true rfl, Nat.le_of_ble_eq_true rfl⟩ rfl rfl (Nat.le_of_ble_eq_true rfl) (Nat.le_of_ble_eq_true rfl) (fp_SO.recv X ((fp_HS.st (h_ky).1).1) hB hAb hS) rfl (Nat.le_of_ble_eq_true rfl) hl.1 dX1_execute_118 (hB.of hS hAb) ⟨(fp_HS.st (h_ky).1), hk_60⟩ hS (fun _ h => h.elim) (fun v H_66 locs hp_63 hz_64 hk_65 hS => ?_)
    obtain ⟨rfl, rfl⟩ := hp_63
    refine r_stk (st2 := [.int (iI (bI (fp_teq (fp_wk 1) (fp_ww 1) 5 (fun i => [98, 111, 97, 114, 100].getD i 0))))]) rfl ?_
    refine r_set (y := .int (iI (bI (true)))) (congrArg (fun q : Bool => Value.int (iI (bI q))) (by decide +kernel)) ?_
    refine r_ifeqB (tgt := 195) hx hb dX1_execute_121 (by decide) (fun c121 => ?_) (fun c121 => ?_)
    · exact absurd c121 (by decide)
    · skip
      refine lv_iconst (v := (iI ((1 : Nat) : Int))) hx hb dX1_execute_124 rfl ?_
      refine lv_istore (lv' := [(6, .int (iI ((1 : Nat) : Int))), (5, .ref (y)), (4, .int (iI (f 2))), (3, .int (iI (f 1))), (2, .int (iI (f 0))), (0, .ref (x)), (1, .ref (c))]) hx hb dX1_execute_125 hl (by decide) rfl (fun ls hl => ?_)
      refine lv_goto (tgt := 195) hx hb dX1_execute_127 (by decide) ?_
      refine lv_iload hx hb dX1_execute_195 (lv_at hl 0 rfl) ?_
      refine lv_tableIn (off := 51) (tgt := 248) hx hb dX1_execute_197 (by decide) (by decide) rfl (by decide) ?_
      refine lv_aload_n hx hb dX1_execute_248 rfl (lv_at hl 5 rfl) ?_
      refine lv_iload_n hx hb dX1_execute_249 rfl (lv_at hl 4 rfl) ?_
      refine lv_iload_n hx hb dX1_execute_250 rfl (lv_at hl 3 rfl) ?_
      refine lv_iload hx hb dX1_execute_251 (lv_at hl 2 rfl) ?_
      refine x_callV (cells1 := 165) (slots1 := 3215) X hR (c_X1_placeBoard_x G x u sv hi ip ln (er) (fa) l ed z t mc cap b S (f 0) (f 1) (f 2) hsw hxb (⟨by omega, by omega⟩) (⟨by omega, by omega⟩) (⟨by omega, by omega⟩) hiv hp9) q1947 q1302 q1303 q88 q1304 ⟨rfl, pd_X1_placeBoard⟩ ⟨Nat.le_of_ble_eq_true rfl, Nat.le_of_ble_eq_true rfl⟩ rfl rfl (Nat.le_of_ble_eq_true rfl) (Nat.le_of_ble_eq_true rfl) h_pob rfl rfl (Nat.le_of_ble_eq_true rfl) hl.1 dX1_execute_253 (hB.of hS hAb) ⟨h_pob, h_st⟩ hS (fun q h => by have h2 : (g_s G).heap.size ≤ q ∧ (q = u ∨ q = l ∨ q = ed) := h; show ((g_s G).heap.size ≤ q ∧ (q = u ∨ q = l ∨ q = ed ∨ q = z ∨ q = t)) ∨ s.heap.size ≤ q; omega) (fun v H_70 locs hp_67 hz_68 hk_69 hS => ?_) (fun Ex qx cx H_70 locs hp_67 hz_68 hk_69 hS hcx hvx hlx => ?_)
      · skip
        obtain ⟨ed2_71, mc2_72, cap2_73, nb_74, rfl, hpc_75, hed2_76, hnb_77, hE_78⟩ := hp_67
        have hz_79 := hS.1
        have lt_80 := hE_78.1.lt
        refine r_stk (st2 := [.int (iI ((sP S : Nat) : Int))]) rfl ?_
        refine lv_pop hx hb dX1_execute_256 rfl ?_
        refine lv_goto (tgt := 309) hx hb dX1_execute_257 (by decide) ?_
        refine x_vret hx hb hr hlk hQ hS (Nat.le_of_ble_eq_true rfl) (Nat.le_of_ble_eq_true rfl) dX1_execute_309 ?_
        exact ⟨ed2_71, mc2_72, cap2_73, (va_up b (sN S) nb_74), (fp_dof S 1 f lt).2, rfl, (by rw [fp_dof_p (by decide)]; exact hpc_75), rfl, (by omega), (fp_inj.up hsw.2 (fun k hk => by have := (hkb k hk).lt; omega)), hE_78⟩
      · skip
        rcases hp_67 with ⟨rfl, hb9, hE_81⟩ | ⟨rfl, ed2_82, mc2_83, cap2_84, hb9, hb8, hE_85⟩
        · skip
          have hz_86 := hS.1
          have lt_87 := hE_81.1.lt
          exact x_out hT hlk hQ hS (Nat.le_of_ble_eq_true rfl) (Nat.le_of_ble_eq_true rfl) hcx hvx hlx (Or.inl ⟨rfl, (by rw [fp_dof_p (by decide)]; show fp_plc _ _ _ _ _ ≠ 0; rw [hb9]; decide)⟩)
        · skip
          have hz_88 := hS.1
          have lt_89 := hE_85.1.lt
          exact x_out hT hlk hQ hS (Nat.le_of_ble_eq_true rfl) (Nat.le_of_ble_eq_true rfl) hcx hvx hlx (Or.inr (Or.inl ⟨rfl, (by rw [fp_dof_p (by decide)]; show fp_plc _ _ _ _ _ ≠ 0; rw [hb8]; decide)⟩))
  · skip
    refine lv_aload_n hx hb dX1_execute_0 rfl (lv_at hl 1 rfl) ?_
    refine r_getN X h_cm rfl in_X10 1 (by decide) q1832 (Or.inl rfl) (v := .ref (nu)) rfl dX1_execute_1 ?_
    refine lv_iconst (v := (iI ((0 : Nat) : Int))) hx hb dX1_execute_4 rfl ?_
    refine r_ialdI X h_nums (j := 0) rfl (by decide) (by decide) dX1_execute_5 ?_
    refine lv_istore_n (lv' := [(2, .int (iI (f 0))), (0, .ref (x)), (1, .ref (c))]) hx hb dX1_execute_6 rfl hl (by decide) rfl (fun ls hl => ?_)
    refine lv_aload_n hx hb dX1_execute_7 rfl (lv_at hl 2 rfl) ?_
    refine r_getN X h_cm rfl in_X10 1 (by decide) q1832 (Or.inl rfl) (v := .ref (nu)) rfl dX1_execute_8 ?_
    refine lv_iconst (v := (iI ((1 : Nat) : Int))) hx hb dX1_execute_11 rfl ?_
    refine r_ialdI X h_nums (j := 1) rfl (by decide) (by decide) dX1_execute_12 ?_
    refine lv_istore_n (lv' := [(3, .int (iI (f 1))), (2, .int (iI (f 0))), (0, .ref (x)), (1, .ref (c))]) hx hb dX1_execute_13 rfl hl (by decide) rfl (fun ls hl => ?_)
    refine lv_aload_n hx hb dX1_execute_14 rfl (lv_at hl 3 rfl) ?_
    refine r_getN X h_cm rfl in_X10 1 (by decide) q1832 (Or.inl rfl) (v := .ref (nu)) rfl dX1_execute_15 ?_
    refine lv_iconst (v := (iI ((2 : Nat) : Int))) hx hb dX1_execute_18 rfl ?_
    refine r_ialdI X h_nums (j := 2) rfl (by decide) (by decide) dX1_execute_19 ?_
    refine lv_istore (lv' := [(4, .int (iI (f 2))), (3, .int (iI (f 1))), (2, .int (iI (f 0))), (0, .ref (x)), (1, .ref (c))]) hx hb dX1_execute_20 hl (by decide) rfl (fun ls hl => ?_)
    refine lv_aload_n hx hb dX1_execute_22 rfl (lv_at hl 4 rfl) ?_
    refine r_getN X h_cm rfl in_X10 0 (by decide) q1829 (Or.inl rfl) (v := .ref (y)) rfl dX1_execute_23 ?_
    refine lv_astore (lv' := [(5, .ref (y)), (4, .int (iI (f 2))), (3, .int (iI (f 1))), (2, .int (iI (f 0))), (0, .ref (x)), (1, .ref (c))]) hx hb dX1_execute_26 hl (by decide) rfl (fun ls hl => ?_)
    refine lv_iconst (v := (iI (-1))) hx hb dX1_execute_28 rfl ?_
    refine lv_istore (lv' := [(6, .int (iI (-1))), (5, .ref (y)), (4, .int (iI (f 2))), (3, .int (iI (f 1))), (2, .int (iI (f 0))), (0, .ref (x)), (1, .ref (c))]) hx hb dX1_execute_29 hl (by decide) rfl (fun ls hl => ?_)
    refine lv_aload hx hb dX1_execute_31 (lv_at hl 1 rfl) ?_
    refine r_callVR (cells1 := 0) (slots1 := 0) X hR (c_J7_hashCode_r G y qy (fp_wk 2) (fp_ww 2) (by decide +kernel)) q1938 q1864 q1865 q98 q1866 ⟨rfl, pd_J7_hashCode⟩ ⟨Nat.le_of_ble_eq_true rfl, Nat.le_of_ble_eq_true rfl⟩ rfl rfl (Nat.le_of_ble_eq_true rfl) (Nat.le_of_ble_eq_true rfl) (fp_SO.recv X ((fp_HS.st (h_ky).1).1) hB hAb hS) rfl (Nat.le_of_ble_eq_true rfl) hl.1 dX1_execute_33 (hB.of hS hAb) h_ky hS (fun _ h => h.elim) (fun v H_93 locs hp_90 hz_91 hk_92 hS => ?_)
    obtain ⟨rfl, rfl⟩ := hp_90
    refine r_stk (st2 := [.int (fp_hsh (fp_ww 2) (fp_wk 2))]) rfl ?_
    refine lv_lookup (off := 94) (tgt := 130) hx hb dX1_execute_36 (by decide) (by decide +kernel) (by decide) ?_
    refine lv_aload hx hb dX1_execute_130 (lv_at hl 1 rfl) ?_
    refine r_ldcSw X q1942 (X.2.2.2.2.2.kst hB fp_kX2).2.1 dX1_execute_132 ?_
    have hk_94 := (X.2.2.2.2.2.kst (hB.of hS hAb) fp_kX2).1
    have lt_95 := hk_94.1.2
    have lt_96 := hk_94.2.2.1
    refine r_callVR (cells1 := 0) (slots1 := 0) X hR (c_J7_equals G y qy (fp_wk 2) (fp_ww 2) (fp_ks G "FortPlanner" 385) (fp_kv G "FortPlanner" 385) 3 (fun i => [98, 97, 103].getD i 0)) q1940 q900 q2532 q98 q901 ⟨rfl, pd_J7_equals⟩ ⟨Nat.le_of_ble_eq_true rfl, Nat.le_of_ble_eq_true rfl⟩ rfl rfl (Nat.le_of_ble_eq_true rfl) (Nat.le_of_ble_eq_true rfl) (fp_SO.recv X ((fp_HS.st (h_ky).1).1) hB hAb hS) rfl (Nat.le_of_ble_eq_true rfl) hl.1 dX1_execute_135 (hB.of hS hAb) ⟨(fp_HS.st (h_ky).1), hk_94⟩ hS (fun _ h => h.elim) (fun v H_100 locs hp_97 hz_98 hk_99 hS => ?_)
    obtain ⟨rfl, rfl⟩ := hp_97
    refine r_stk (st2 := [.int (iI (bI (fp_teq (fp_wk 2) (fp_ww 2) 3 (fun i => [98, 97, 103].getD i 0))))]) rfl ?_
    refine r_set (y := .int (iI (bI (true)))) (congrArg (fun q : Bool => Value.int (iI (bI q))) (by decide +kernel)) ?_
    refine r_ifeqB (tgt := 195) hx hb dX1_execute_138 (by decide) (fun c138 => ?_) (fun c138 => ?_)
    · exact absurd c138 (by decide)
    · skip
      refine lv_iconst (v := (iI ((2 : Nat) : Int))) hx hb dX1_execute_141 rfl ?_
      refine lv_istore (lv' := [(6, .int (iI ((2 : Nat) : Int))), (5, .ref (y)), (4, .int (iI (f 2))), (3, .int (iI (f 1))), (2, .int (iI (f 0))), (0, .ref (x)), (1, .ref (c))]) hx hb dX1_execute_142 hl (by decide) rfl (fun ls hl => ?_)
      refine lv_goto (tgt := 195) hx hb dX1_execute_144 (by decide) ?_
      refine lv_iload hx hb dX1_execute_195 (lv_at hl 0 rfl) ?_
      refine lv_tableIn (off := 63) (tgt := 260) hx hb dX1_execute_197 (by decide) (by decide) rfl (by decide) ?_
      refine lv_aload_n hx hb dX1_execute_260 rfl (lv_at hl 5 rfl) ?_
      refine lv_iload_n hx hb dX1_execute_261 rfl (lv_at hl 4 rfl) ?_
      refine lv_iload_n hx hb dX1_execute_262 rfl (lv_at hl 3 rfl) ?_
      refine lv_iload hx hb dX1_execute_263 (lv_at hl 2 rfl) ?_
      refine x_callV (cells1 := 165) (slots1 := 3215) X hR (c_X1_placeBag_x G x u sv hi ip ln (er) (fa) l ed z t mc cap b S (f 0) (f 1) (f 2) hsw hxb (⟨by omega, by omega⟩) (⟨by omega, by omega⟩) (⟨by omega, by omega⟩) hiv hp9) q1948 q1309 q1310 q88 q1311 ⟨rfl, pd_X1_placeBag⟩ ⟨Nat.le_of_ble_eq_true rfl, Nat.le_of_ble_eq_true rfl⟩ rfl rfl (Nat.le_of_ble_eq_true rfl) (Nat.le_of_ble_eq_true rfl) h_pob rfl rfl (Nat.le_of_ble_eq_true rfl) hl.1 dX1_execute_265 (hB.of hS hAb) ⟨h_pob, h_st⟩ hS (fun q h => by have h2 : (g_s G).heap.size ≤ q ∧ (q = u ∨ q = l ∨ q = ed) := h; show ((g_s G).heap.size ≤ q ∧ (q = u ∨ q = l ∨ q = ed ∨ q = z ∨ q = t)) ∨ s.heap.size ≤ q; omega) (fun v H_104 locs hp_101 hz_102 hk_103 hS => ?_) (fun Ex qx cx H_104 locs hp_101 hz_102 hk_103 hS hcx hvx hlx => ?_)
      · skip
        obtain ⟨ed2_105, mc2_106, cap2_107, nb_108, rfl, hpc_109, hed2_110, hnb_111, hE_112⟩ := hp_101
        have hz_113 := hS.1
        have lt_114 := hE_112.1.lt
        refine r_stk (st2 := [.int (iI ((sP S : Nat) : Int))]) rfl ?_
        refine lv_pop hx hb dX1_execute_268 rfl ?_
        refine lv_goto (tgt := 309) hx hb dX1_execute_269 (by decide) ?_
        refine x_vret hx hb hr hlk hQ hS (Nat.le_of_ble_eq_true rfl) (Nat.le_of_ble_eq_true rfl) dX1_execute_309 ?_
        exact ⟨ed2_105, mc2_106, cap2_107, (va_up b (sN S) nb_108), (fp_dof S 2 f lt).2, rfl, (by rw [fp_dof_p (by decide)]; exact hpc_109), rfl, (by omega), (fp_inj.up hsw.2 (fun k hk => by have := (hkb k hk).lt; omega)), hE_112⟩
      · skip
        rcases hp_101 with ⟨rfl, hb9, hE_115⟩ | ⟨rfl, ed2_116, mc2_117, cap2_118, hb9, hb8, hE_119⟩
        · skip
          have hz_120 := hS.1
          have lt_121 := hE_115.1.lt
          exact x_out hT hlk hQ hS (Nat.le_of_ble_eq_true rfl) (Nat.le_of_ble_eq_true rfl) hcx hvx hlx (Or.inl ⟨rfl, (by rw [fp_dof_p (by decide)]; show fp_plc _ _ _ _ _ ≠ 0; rw [hb9]; decide)⟩)
        · skip
          have hz_122 := hS.1
          have lt_123 := hE_119.1.lt
          exact x_out hT hlk hQ hS (Nat.le_of_ble_eq_true rfl) (Nat.le_of_ble_eq_true rfl) hcx hvx hlx (Or.inr (Or.inl ⟨rfl, (by rw [fp_dof_p (by decide)]; show fp_plc _ _ _ _ _ ≠ 0; rw [hb8]; decide)⟩))
  · skip
    refine lv_aload_n hx hb dX1_execute_0 rfl (lv_at hl 1 rfl) ?_
    refine r_getN X h_cm rfl in_X10 1 (by decide) q1832 (Or.inl rfl) (v := .ref (nu)) rfl dX1_execute_1 ?_
    refine lv_iconst (v := (iI ((0 : Nat) : Int))) hx hb dX1_execute_4 rfl ?_
    refine r_ialdI X h_nums (j := 0) rfl (by decide) (by decide) dX1_execute_5 ?_
    refine lv_istore_n (lv' := [(2, .int (iI (f 0))), (0, .ref (x)), (1, .ref (c))]) hx hb dX1_execute_6 rfl hl (by decide) rfl (fun ls hl => ?_)
    refine lv_aload_n hx hb dX1_execute_7 rfl (lv_at hl 2 rfl) ?_
    refine r_getN X h_cm rfl in_X10 1 (by decide) q1832 (Or.inl rfl) (v := .ref (nu)) rfl dX1_execute_8 ?_
    refine lv_iconst (v := (iI ((1 : Nat) : Int))) hx hb dX1_execute_11 rfl ?_
    refine r_ialdI X h_nums (j := 1) rfl (by decide) (by decide) dX1_execute_12 ?_
    refine lv_istore_n (lv' := [(3, .int (iI (f 1))), (2, .int (iI (f 0))), (0, .ref (x)), (1, .ref (c))]) hx hb dX1_execute_13 rfl hl (by decide) rfl (fun ls hl => ?_)
    refine lv_aload_n hx hb dX1_execute_14 rfl (lv_at hl 3 rfl) ?_
    refine r_getN X h_cm rfl in_X10 1 (by decide) q1832 (Or.inl rfl) (v := .ref (nu)) rfl dX1_execute_15 ?_
    refine lv_iconst (v := (iI ((2 : Nat) : Int))) hx hb dX1_execute_18 rfl ?_
    refine r_ialdI X h_nums (j := 2) rfl (by decide) (by decide) dX1_execute_19 ?_
    refine lv_istore (lv' := [(4, .int (iI (f 2))), (3, .int (iI (f 1))), (2, .int (iI (f 0))), (0, .ref (x)), (1, .ref (c))]) hx hb dX1_execute_20 hl (by decide) rfl (fun ls hl => ?_)
    refine lv_aload_n hx hb dX1_execute_22 rfl (lv_at hl 4 rfl) ?_
    refine r_getN X h_cm rfl in_X10 0 (by decide) q1829 (Or.inl rfl) (v := .ref (y)) rfl dX1_execute_23 ?_
    refine lv_astore (lv' := [(5, .ref (y)), (4, .int (iI (f 2))), (3, .int (iI (f 1))), (2, .int (iI (f 0))), (0, .ref (x)), (1, .ref (c))]) hx hb dX1_execute_26 hl (by decide) rfl (fun ls hl => ?_)
    refine lv_iconst (v := (iI (-1))) hx hb dX1_execute_28 rfl ?_
    refine lv_istore (lv' := [(6, .int (iI (-1))), (5, .ref (y)), (4, .int (iI (f 2))), (3, .int (iI (f 1))), (2, .int (iI (f 0))), (0, .ref (x)), (1, .ref (c))]) hx hb dX1_execute_29 hl (by decide) rfl (fun ls hl => ?_)
    refine lv_aload hx hb dX1_execute_31 (lv_at hl 1 rfl) ?_
    refine r_callVR (cells1 := 0) (slots1 := 0) X hR (c_J7_hashCode_r G y qy (fp_wk 3) (fp_ww 3) (by decide +kernel)) q1938 q1864 q1865 q98 q1866 ⟨rfl, pd_J7_hashCode⟩ ⟨Nat.le_of_ble_eq_true rfl, Nat.le_of_ble_eq_true rfl⟩ rfl rfl (Nat.le_of_ble_eq_true rfl) (Nat.le_of_ble_eq_true rfl) (fp_SO.recv X ((fp_HS.st (h_ky).1).1) hB hAb hS) rfl (Nat.le_of_ble_eq_true rfl) hl.1 dX1_execute_33 (hB.of hS hAb) h_ky hS (fun _ h => h.elim) (fun v H_127 locs hp_124 hz_125 hk_126 hS => ?_)
    obtain ⟨rfl, rfl⟩ := hp_124
    refine r_stk (st2 := [.int (fp_hsh (fp_ww 3) (fp_wk 3))]) rfl ?_
    refine lv_lookup (off := 111) (tgt := 147) hx hb dX1_execute_36 (by decide) (by decide +kernel) (by decide) ?_
    refine lv_aload hx hb dX1_execute_147 (lv_at hl 1 rfl) ?_
    refine r_ldcSw X q1943 (X.2.2.2.2.2.kst hB fp_kX3).2.1 dX1_execute_149 ?_
    have hk_128 := (X.2.2.2.2.2.kst (hB.of hS hAb) fp_kX3).1
    have lt_129 := hk_128.1.2
    have lt_130 := hk_128.2.2.1
    refine r_callVR (cells1 := 0) (slots1 := 0) X hR (c_J7_equals G y qy (fp_wk 3) (fp_ww 3) (fp_ks G "FortPlanner" 387) (fp_kv G "FortPlanner" 387) 6 (fun i => [114, 101, 109, 111, 118, 101].getD i 0)) q1940 q900 q2532 q98 q901 ⟨rfl, pd_J7_equals⟩ ⟨Nat.le_of_ble_eq_true rfl, Nat.le_of_ble_eq_true rfl⟩ rfl rfl (Nat.le_of_ble_eq_true rfl) (Nat.le_of_ble_eq_true rfl) (fp_SO.recv X ((fp_HS.st (h_ky).1).1) hB hAb hS) rfl (Nat.le_of_ble_eq_true rfl) hl.1 dX1_execute_152 (hB.of hS hAb) ⟨(fp_HS.st (h_ky).1), hk_128⟩ hS (fun _ h => h.elim) (fun v H_134 locs hp_131 hz_132 hk_133 hS => ?_)
    obtain ⟨rfl, rfl⟩ := hp_131
    refine r_stk (st2 := [.int (iI (bI (fp_teq (fp_wk 3) (fp_ww 3) 6 (fun i => [114, 101, 109, 111, 118, 101].getD i 0))))]) rfl ?_
    refine r_set (y := .int (iI (bI (true)))) (congrArg (fun q : Bool => Value.int (iI (bI q))) (by decide +kernel)) ?_
    refine r_ifeqB (tgt := 195) hx hb dX1_execute_155 (by decide) (fun c155 => ?_) (fun c155 => ?_)
    · exact absurd c155 (by decide)
    · skip
      refine lv_iconst (v := (iI ((3 : Nat) : Int))) hx hb dX1_execute_158 rfl ?_
      refine lv_istore (lv' := [(6, .int (iI ((3 : Nat) : Int))), (5, .ref (y)), (4, .int (iI (f 2))), (3, .int (iI (f 1))), (2, .int (iI (f 0))), (0, .ref (x)), (1, .ref (c))]) hx hb dX1_execute_159 hl (by decide) rfl (fun ls hl => ?_)
      refine lv_goto (tgt := 195) hx hb dX1_execute_161 (by decide) ?_
      refine lv_iload hx hb dX1_execute_195 (lv_at hl 0 rfl) ?_
      refine lv_tableIn (off := 75) (tgt := 272) hx hb dX1_execute_197 (by decide) (by decide) rfl (by decide) ?_
      refine lv_aload_n hx hb dX1_execute_272 rfl (lv_at hl 5 rfl) ?_
      refine lv_iload_n hx hb dX1_execute_273 rfl (lv_at hl 4 rfl) ?_
      refine x_callV (cells1 := 14) (slots1 := 170) X hR (c_X1_remove_x G x u sv hi ip ln (er) (fa) l ed z t mc cap b S (f 0) hsw hxb (⟨by omega, by omega⟩)) q1949 q1317 q1318 q88 q1319 ⟨rfl, pd_X1_remove⟩ ⟨Nat.le_of_ble_eq_true rfl, Nat.le_of_ble_eq_true rfl⟩ rfl rfl (Nat.le_of_ble_eq_true rfl) (Nat.le_of_ble_eq_true rfl) h_pob rfl rfl (Nat.le_of_ble_eq_true rfl) hl.1 dX1_execute_274 (hB.of hS hAb) ⟨h_pob, h_st⟩ hS (fun q h => by have h2 : (g_s G).heap.size ≤ q ∧ (q = l ∨ q = ed) := h; show ((g_s G).heap.size ≤ q ∧ (q = u ∨ q = l ∨ q = ed ∨ q = z ∨ q = t)) ∨ s.heap.size ≤ q; omega) (fun v H_138 locs hp_135 hz_136 hk_137 hS => ?_) (fun Ex qx cx H_138 locs hp_135 hz_136 hk_137 hS hcx hvx hlx => ?_)
      · skip
        obtain ⟨mc2_139, rfl, hk_140, hu_141, hE_142⟩ := hp_135
        have hz_143 := hS.1
        have lt_144 := hE_142.1.lt
        refine r_stk (st2 := [.int (iI ((sN S - 1 : Nat) : Int))]) rfl ?_
        refine lv_pop hx hb dX1_execute_277 rfl ?_
        refine lv_goto (tgt := 309) hx hb dX1_execute_278 (by decide) ?_
        refine x_vret hx hb hr hlk hQ hS (Nat.le_of_ble_eq_true rfl) (Nat.le_of_ble_eq_true rfl) dX1_execute_309 ?_
        exact ⟨ed, mc2_139, cap, (fp_rem b (fp_fnd S (f 0))), (fp_dof S 3 f lt).2, rfl, (fp_d3_0 hk_140 hu_141), rfl, (by omega), (fp_inj.rem hsw.2), hE_142⟩
      · skip
        rcases hp_135 with ⟨rfl, hb9, hE_145⟩ | ⟨rfl, hb9, hb8, hE_146⟩
        · skip
          have hz_147 := hS.1
          have lt_148 := hE_145.1.lt
          exact x_out hT hlk hQ hS (Nat.le_of_ble_eq_true rfl) (Nat.le_of_ble_eq_true rfl) hcx hvx hlx (Or.inr (Or.inr (Or.inr (⟨rfl, (fp_d3_1 (Or.inl hb9))⟩))))
        · skip
          have hz_149 := hS.1
          have lt_150 := hE_146.1.lt
          exact x_out hT hlk hQ hS (Nat.le_of_ble_eq_true rfl) (Nat.le_of_ble_eq_true rfl) hcx hvx hlx (Or.inr (Or.inl ⟨rfl, (fp_d3_1 (Or.inr hb8))⟩))
  · skip
    refine lv_aload_n hx hb dX1_execute_0 rfl (lv_at hl 1 rfl) ?_
    refine r_getN X h_cm rfl in_X10 1 (by decide) q1832 (Or.inl rfl) (v := .ref (nu)) rfl dX1_execute_1 ?_
    refine lv_iconst (v := (iI ((0 : Nat) : Int))) hx hb dX1_execute_4 rfl ?_
    refine r_ialdI X h_nums (j := 0) rfl (by decide) (by decide) dX1_execute_5 ?_
    refine lv_istore_n (lv' := [(2, .int (iI (f 0))), (0, .ref (x)), (1, .ref (c))]) hx hb dX1_execute_6 rfl hl (by decide) rfl (fun ls hl => ?_)
    refine lv_aload_n hx hb dX1_execute_7 rfl (lv_at hl 2 rfl) ?_
    refine r_getN X h_cm rfl in_X10 1 (by decide) q1832 (Or.inl rfl) (v := .ref (nu)) rfl dX1_execute_8 ?_
    refine lv_iconst (v := (iI ((1 : Nat) : Int))) hx hb dX1_execute_11 rfl ?_
    refine r_ialdI X h_nums (j := 1) rfl (by decide) (by decide) dX1_execute_12 ?_
    refine lv_istore_n (lv' := [(3, .int (iI (f 1))), (2, .int (iI (f 0))), (0, .ref (x)), (1, .ref (c))]) hx hb dX1_execute_13 rfl hl (by decide) rfl (fun ls hl => ?_)
    refine lv_aload_n hx hb dX1_execute_14 rfl (lv_at hl 3 rfl) ?_
    refine r_getN X h_cm rfl in_X10 1 (by decide) q1832 (Or.inl rfl) (v := .ref (nu)) rfl dX1_execute_15 ?_
    refine lv_iconst (v := (iI ((2 : Nat) : Int))) hx hb dX1_execute_18 rfl ?_
    refine r_ialdI X h_nums (j := 2) rfl (by decide) (by decide) dX1_execute_19 ?_
    refine lv_istore (lv' := [(4, .int (iI (f 2))), (3, .int (iI (f 1))), (2, .int (iI (f 0))), (0, .ref (x)), (1, .ref (c))]) hx hb dX1_execute_20 hl (by decide) rfl (fun ls hl => ?_)
    refine lv_aload_n hx hb dX1_execute_22 rfl (lv_at hl 4 rfl) ?_
    refine r_getN X h_cm rfl in_X10 0 (by decide) q1829 (Or.inl rfl) (v := .ref (y)) rfl dX1_execute_23 ?_
    refine lv_astore (lv' := [(5, .ref (y)), (4, .int (iI (f 2))), (3, .int (iI (f 1))), (2, .int (iI (f 0))), (0, .ref (x)), (1, .ref (c))]) hx hb dX1_execute_26 hl (by decide) rfl (fun ls hl => ?_)
    refine lv_iconst (v := (iI (-1))) hx hb dX1_execute_28 rfl ?_
    refine lv_istore (lv' := [(6, .int (iI (-1))), (5, .ref (y)), (4, .int (iI (f 2))), (3, .int (iI (f 1))), (2, .int (iI (f 0))), (0, .ref (x)), (1, .ref (c))]) hx hb dX1_execute_29 hl (by decide) rfl (fun ls hl => ?_)
    refine lv_aload hx hb dX1_execute_31 (lv_at hl 1 rfl) ?_
    refine r_callVR (cells1 := 0) (slots1 := 0) X hR (c_J7_hashCode_r G y qy (fp_wk 4) (fp_ww 4) (by decide +kernel)) q1938 q1864 q1865 q98 q1866 ⟨rfl, pd_J7_hashCode⟩ ⟨Nat.le_of_ble_eq_true rfl, Nat.le_of_ble_eq_true rfl⟩ rfl rfl (Nat.le_of_ble_eq_true rfl) (Nat.le_of_ble_eq_true rfl) (fp_SO.recv X ((fp_HS.st (h_ky).1).1) hB hAb hS) rfl (Nat.le_of_ble_eq_true rfl) hl.1 dX1_execute_33 (hB.of hS hAb) h_ky hS (fun _ h => h.elim) (fun v H_154 locs hp_151 hz_152 hk_153 hS => ?_)
    obtain ⟨rfl, rfl⟩ := hp_151
    refine r_stk (st2 := [.int (fp_hsh (fp_ww 4) (fp_wk 4))]) rfl ?_
    refine lv_lookup (off := 128) (tgt := 164) hx hb dX1_execute_36 (by decide) (by decide +kernel) (by decide) ?_
    refine lv_aload hx hb dX1_execute_164 (lv_at hl 1 rfl) ?_
    refine r_ldcSw X q1944 (X.2.2.2.2.2.kst hB fp_kX4).2.1 dX1_execute_166 ?_
    have hk_155 := (X.2.2.2.2.2.kst (hB.of hS hAb) fp_kX4).1
    have lt_156 := hk_155.1.2
    have lt_157 := hk_155.2.2.1
    refine r_callVR (cells1 := 0) (slots1 := 0) X hR (c_J7_equals G y qy (fp_wk 4) (fp_ww 4) (fp_ks G "FortPlanner" 388) (fp_kv G "FortPlanner" 388) 4 (fun i => [122, 111, 110, 101].getD i 0)) q1940 q900 q2532 q98 q901 ⟨rfl, pd_J7_equals⟩ ⟨Nat.le_of_ble_eq_true rfl, Nat.le_of_ble_eq_true rfl⟩ rfl rfl (Nat.le_of_ble_eq_true rfl) (Nat.le_of_ble_eq_true rfl) (fp_SO.recv X ((fp_HS.st (h_ky).1).1) hB hAb hS) rfl (Nat.le_of_ble_eq_true rfl) hl.1 dX1_execute_169 (hB.of hS hAb) ⟨(fp_HS.st (h_ky).1), hk_155⟩ hS (fun _ h => h.elim) (fun v H_161 locs hp_158 hz_159 hk_160 hS => ?_)
    obtain ⟨rfl, rfl⟩ := hp_158
    refine r_stk (st2 := [.int (iI (bI (fp_teq (fp_wk 4) (fp_ww 4) 4 (fun i => [122, 111, 110, 101].getD i 0))))]) rfl ?_
    refine r_set (y := .int (iI (bI (true)))) (congrArg (fun q : Bool => Value.int (iI (bI q))) (by decide +kernel)) ?_
    refine r_ifeqB (tgt := 195) hx hb dX1_execute_172 (by decide) (fun c172 => ?_) (fun c172 => ?_)
    · exact absurd c172 (by decide)
    · skip
      refine lv_iconst (v := (iI ((4 : Nat) : Int))) hx hb dX1_execute_175 rfl ?_
      refine lv_istore (lv' := [(6, .int (iI ((4 : Nat) : Int))), (5, .ref (y)), (4, .int (iI (f 2))), (3, .int (iI (f 1))), (2, .int (iI (f 0))), (0, .ref (x)), (1, .ref (c))]) hx hb dX1_execute_176 hl (by decide) rfl (fun ls hl => ?_)
      refine lv_goto (tgt := 195) hx hb dX1_execute_178 (by decide) ?_
      refine lv_iload hx hb dX1_execute_195 (lv_at hl 0 rfl) ?_
      refine lv_tableIn (off := 84) (tgt := 281) hx hb dX1_execute_197 (by decide) (by decide) rfl (by decide) ?_
      refine lv_aload_n hx hb dX1_execute_281 rfl (lv_at hl 5 rfl) ?_
      refine lv_iload_n hx hb dX1_execute_282 rfl (lv_at hl 4 rfl) ?_
      refine lv_aload_n hx hb dX1_execute_283 rfl (lv_at hl 6 rfl) ?_
      refine r_getN X h_cm rfl in_X10 2 (by decide) q1834 (Or.inl rfl) (v := .int (iI ((lt : Nat) : Int))) rfl dX1_execute_284 ?_
      refine x_callV (cells1 := 12) (slots1 := 164) X hR (c_X1_setZone_x G x u sv hi ip ln (er) (fa) l ed z t mc cap b S (f 0) ((lt : Nat) : Int) hsw hxb (⟨by omega, by omega⟩) (⟨by omega, by omega⟩)) q1950 q1344 q1345 q88 q1346 ⟨rfl, pd_X1_setZone⟩ ⟨Nat.le_of_ble_eq_true rfl, Nat.le_of_ble_eq_true rfl⟩ rfl rfl (Nat.le_of_ble_eq_true rfl) (Nat.le_of_ble_eq_true rfl) h_pob rfl rfl (Nat.le_of_ble_eq_true rfl) hl.1 dX1_execute_287 (hB.of hS hAb) ⟨h_pob, h_st⟩ hS (fun q h => by have h2 : (g_s G).heap.size ≤ q ∧ (q = z) := h; show ((g_s G).heap.size ≤ q ∧ (q = u ∨ q = l ∨ q = ed ∨ q = z ∨ q = t)) ∨ s.heap.size ≤ q; omega) (fun v H_165 locs hp_162 hz_163 hk_164 hS => ?_) (fun Ex qx cx H_165 locs hp_162 hz_163 hk_164 hS hcx hvx hlx => ?_)
      · skip
        obtain ⟨rfl, hk_166, hg_167, hE_168⟩ := hp_162
        have hz_169 := hS.1
        have lt_170 := hE_168.1.lt
        refine r_stk (st2 := [.int (iI ((fp_zlet (sZ S (f 0).toNat) : Nat) : Int))]) rfl ?_
        refine lv_pop hx hb dX1_execute_290 rfl ?_
        refine lv_goto (tgt := 309) hx hb dX1_execute_291 (by decide) ?_
        refine x_vret hx hb hr hlk hQ hS (Nat.le_of_ble_eq_true rfl) (Nat.le_of_ble_eq_true rfl) dX1_execute_309 ?_
        exact ⟨ed, mc, cap, b, (fp_dof S 4 f lt).2, rfl, (fp_d4_0 hk_166 hg_167), rfl, (by omega), (hsw.2), hE_168⟩
      · skip
        rcases hp_162 with ⟨rfl, hb9, hE_171⟩ | ⟨rfl, hb9, hb8, hE_172⟩
        · skip
          have hz_173 := hS.1
          have lt_174 := hE_171.1.lt
          exact x_out hT hlk hQ hS (Nat.le_of_ble_eq_true rfl) (Nat.le_of_ble_eq_true rfl) hcx hvx hlx (Or.inr (Or.inr (Or.inl ⟨rfl, (fp_d4_1 (Or.inl hb9))⟩)))
        · skip
          have hz_175 := hS.1
          have lt_176 := hE_172.1.lt
          exact x_out hT hlk hQ hS (Nat.le_of_ble_eq_true rfl) (Nat.le_of_ble_eq_true rfl) hcx hvx hlx (Or.inl ⟨rfl, (fp_d4_1 (Or.inr hb8))⟩)
  · skip
    refine lv_aload_n hx hb dX1_execute_0 rfl (lv_at hl 1 rfl) ?_
    refine r_getN X h_cm rfl in_X10 1 (by decide) q1832 (Or.inl rfl) (v := .ref (nu)) rfl dX1_execute_1 ?_
    refine lv_iconst (v := (iI ((0 : Nat) : Int))) hx hb dX1_execute_4 rfl ?_
    refine r_ialdI X h_nums (j := 0) rfl (by decide) (by decide) dX1_execute_5 ?_
    refine lv_istore_n (lv' := [(2, .int (iI (f 0))), (0, .ref (x)), (1, .ref (c))]) hx hb dX1_execute_6 rfl hl (by decide) rfl (fun ls hl => ?_)
    refine lv_aload_n hx hb dX1_execute_7 rfl (lv_at hl 2 rfl) ?_
    refine r_getN X h_cm rfl in_X10 1 (by decide) q1832 (Or.inl rfl) (v := .ref (nu)) rfl dX1_execute_8 ?_
    refine lv_iconst (v := (iI ((1 : Nat) : Int))) hx hb dX1_execute_11 rfl ?_
    refine r_ialdI X h_nums (j := 1) rfl (by decide) (by decide) dX1_execute_12 ?_
    refine lv_istore_n (lv' := [(3, .int (iI (f 1))), (2, .int (iI (f 0))), (0, .ref (x)), (1, .ref (c))]) hx hb dX1_execute_13 rfl hl (by decide) rfl (fun ls hl => ?_)
    refine lv_aload_n hx hb dX1_execute_14 rfl (lv_at hl 3 rfl) ?_
    refine r_getN X h_cm rfl in_X10 1 (by decide) q1832 (Or.inl rfl) (v := .ref (nu)) rfl dX1_execute_15 ?_
    refine lv_iconst (v := (iI ((2 : Nat) : Int))) hx hb dX1_execute_18 rfl ?_
    refine r_ialdI X h_nums (j := 2) rfl (by decide) (by decide) dX1_execute_19 ?_
    refine lv_istore (lv' := [(4, .int (iI (f 2))), (3, .int (iI (f 1))), (2, .int (iI (f 0))), (0, .ref (x)), (1, .ref (c))]) hx hb dX1_execute_20 hl (by decide) rfl (fun ls hl => ?_)
    refine lv_aload_n hx hb dX1_execute_22 rfl (lv_at hl 4 rfl) ?_
    refine r_getN X h_cm rfl in_X10 0 (by decide) q1829 (Or.inl rfl) (v := .ref (y)) rfl dX1_execute_23 ?_
    refine lv_astore (lv' := [(5, .ref (y)), (4, .int (iI (f 2))), (3, .int (iI (f 1))), (2, .int (iI (f 0))), (0, .ref (x)), (1, .ref (c))]) hx hb dX1_execute_26 hl (by decide) rfl (fun ls hl => ?_)
    refine lv_iconst (v := (iI (-1))) hx hb dX1_execute_28 rfl ?_
    refine lv_istore (lv' := [(6, .int (iI (-1))), (5, .ref (y)), (4, .int (iI (f 2))), (3, .int (iI (f 1))), (2, .int (iI (f 0))), (0, .ref (x)), (1, .ref (c))]) hx hb dX1_execute_29 hl (by decide) rfl (fun ls hl => ?_)
    refine lv_aload hx hb dX1_execute_31 (lv_at hl 1 rfl) ?_
    refine r_callVR (cells1 := 0) (slots1 := 0) X hR (c_J7_hashCode_r G y qy (fp_wk 5) (fp_ww 5) (by decide +kernel)) q1938 q1864 q1865 q98 q1866 ⟨rfl, pd_J7_hashCode⟩ ⟨Nat.le_of_ble_eq_true rfl, Nat.le_of_ble_eq_true rfl⟩ rfl rfl (Nat.le_of_ble_eq_true rfl) (Nat.le_of_ble_eq_true rfl) (fp_SO.recv X ((fp_HS.st (h_ky).1).1) hB hAb hS) rfl (Nat.le_of_ble_eq_true rfl) hl.1 dX1_execute_33 (hB.of hS hAb) h_ky hS (fun _ h => h.elim) (fun v H_180 locs hp_177 hz_178 hk_179 hS => ?_)
    obtain ⟨rfl, rfl⟩ := hp_177
    refine r_stk (st2 := [.int (fp_hsh (fp_ww 5) (fp_wk 5))]) rfl ?_
    refine lv_lookup (off := 145) (tgt := 181) hx hb dX1_execute_36 (by decide) (by decide +kernel) (by decide) ?_
    refine lv_aload hx hb dX1_execute_181 (lv_at hl 1 rfl) ?_
    refine r_ldcSw X q1945 (X.2.2.2.2.2.kst hB fp_kX5).2.1 dX1_execute_183 ?_
    have hk_181 := (X.2.2.2.2.2.kst (hB.of hS hAb) fp_kX5).1
    have lt_182 := hk_181.1.2
    have lt_183 := hk_181.2.2.1
    refine r_callVR (cells1 := 0) (slots1 := 0) X hR (c_J7_equals G y qy (fp_wk 5) (fp_ww 5) (fp_ks G "FortPlanner" 390) (fp_kv G "FortPlanner" 390) 5 (fun i => [116, 111, 114, 99, 104].getD i 0)) q1940 q900 q2532 q98 q901 ⟨rfl, pd_J7_equals⟩ ⟨Nat.le_of_ble_eq_true rfl, Nat.le_of_ble_eq_true rfl⟩ rfl rfl (Nat.le_of_ble_eq_true rfl) (Nat.le_of_ble_eq_true rfl) (fp_SO.recv X ((fp_HS.st (h_ky).1).1) hB hAb hS) rfl (Nat.le_of_ble_eq_true rfl) hl.1 dX1_execute_186 (hB.of hS hAb) ⟨(fp_HS.st (h_ky).1), hk_181⟩ hS (fun _ h => h.elim) (fun v H_187 locs hp_184 hz_185 hk_186 hS => ?_)
    obtain ⟨rfl, rfl⟩ := hp_184
    refine r_stk (st2 := [.int (iI (bI (fp_teq (fp_wk 5) (fp_ww 5) 5 (fun i => [116, 111, 114, 99, 104].getD i 0))))]) rfl ?_
    refine r_set (y := .int (iI (bI (true)))) (congrArg (fun q : Bool => Value.int (iI (bI q))) (by decide +kernel)) ?_
    refine r_ifeqB (tgt := 195) hx hb dX1_execute_189 (by decide) (fun c189 => ?_) (fun c189 => ?_)
    · exact absurd c189 (by decide)
    · skip
      refine lv_iconst (v := (iI ((5 : Nat) : Int))) hx hb dX1_execute_192 rfl ?_
      refine lv_istore (lv' := [(6, .int (iI ((5 : Nat) : Int))), (5, .ref (y)), (4, .int (iI (f 2))), (3, .int (iI (f 1))), (2, .int (iI (f 0))), (0, .ref (x)), (1, .ref (c))]) hx hb dX1_execute_193 hl (by decide) rfl (fun ls hl => ?_)
      refine lv_iload hx hb dX1_execute_195 (lv_at hl 0 rfl) ?_
      refine lv_tableIn (off := 97) (tgt := 294) hx hb dX1_execute_197 (by decide) (by decide) rfl (by decide) ?_
      refine lv_aload_n hx hb dX1_execute_294 rfl (lv_at hl 5 rfl) ?_
      refine lv_iload_n hx hb dX1_execute_295 rfl (lv_at hl 4 rfl) ?_
      refine x_callV (cells1 := 12) (slots1 := 161) X hR (c_X1_addTorch_x G x u sv hi ip ln (er) (fa) l ed z t mc cap b S (f 0) hsw hxb (⟨by omega, by omega⟩)) q1951 q1375 q1376 q88 q1377 ⟨rfl, pd_X1_addTorch⟩ ⟨Nat.le_of_ble_eq_true rfl, Nat.le_of_ble_eq_true rfl⟩ rfl rfl (Nat.le_of_ble_eq_true rfl) (Nat.le_of_ble_eq_true rfl) h_pob rfl rfl (Nat.le_of_ble_eq_true rfl) hl.1 dX1_execute_296 (hB.of hS hAb) ⟨h_pob, h_st⟩ hS (fun q h => by have h2 : (g_s G).heap.size ≤ q ∧ (q = t) := h; show ((g_s G).heap.size ≤ q ∧ (q = u ∨ q = l ∨ q = ed ∨ q = z ∨ q = t)) ∨ s.heap.size ≤ q; omega) (fun v H_191 locs hp_188 hz_189 hk_190 hS => ?_) (fun Ex qx cx H_191 locs hp_188 hz_189 hk_190 hS hcx hvx hlx => ?_)
      · skip
        obtain ⟨rfl, hk_192, hg_193, hE_194⟩ := hp_188
        have hz_195 := hS.1
        have lt_196 := hE_194.1.lt
        refine r_stk (st2 := [.int (iI ((fp_tor (fp_sett S (f 0).toNat 1) : Nat) : Int))]) rfl ?_
        refine lv_pop hx hb dX1_execute_299 rfl ?_
        refine lv_goto (tgt := 309) hx hb dX1_execute_300 (by decide) ?_
        refine x_vret hx hb hr hlk hQ hS (Nat.le_of_ble_eq_true rfl) (Nat.le_of_ble_eq_true rfl) dX1_execute_309 ?_
        exact ⟨ed, mc, cap, b, (fp_dof S 5 f lt).2, rfl, (fp_d5_0 hk_192 hg_193), rfl, (by omega), (hsw.2), hE_194⟩
      · skip
        rcases hp_188 with ⟨rfl, hb9, hE_197⟩ | ⟨rfl, hb9, hb8, hE_198⟩
        · skip
          have hz_199 := hS.1
          have lt_200 := hE_197.1.lt
          exact x_out hT hlk hQ hS (Nat.le_of_ble_eq_true rfl) (Nat.le_of_ble_eq_true rfl) hcx hvx hlx (Or.inr (Or.inr (Or.inl ⟨rfl, (fp_d5_1 (Or.inl hb9))⟩)))
        · skip
          have hz_201 := hS.1
          have lt_202 := hE_198.1.lt
          exact x_out hT hlk hQ hS (Nat.le_of_ble_eq_true rfl) (Nat.le_of_ble_eq_true rfl) hcx hvx hlx (Or.inr (Or.inl ⟨rfl, (fp_d5_1 (Or.inr hb8))⟩))
  · skip
    refine lv_aload_n hx hb dX1_execute_0 rfl (lv_at hl 1 rfl) ?_
    refine r_getN X h_cm rfl in_X10 1 (by decide) q1832 (Or.inl rfl) (v := .ref (nu)) rfl dX1_execute_1 ?_
    refine lv_iconst (v := (iI ((0 : Nat) : Int))) hx hb dX1_execute_4 rfl ?_
    refine r_ialdI X h_nums (j := 0) rfl (by decide) (by decide) dX1_execute_5 ?_
    refine lv_istore_n (lv' := [(2, .int (iI (f 0))), (0, .ref (x)), (1, .ref (c))]) hx hb dX1_execute_6 rfl hl (by decide) rfl (fun ls hl => ?_)
    refine lv_aload_n hx hb dX1_execute_7 rfl (lv_at hl 2 rfl) ?_
    refine r_getN X h_cm rfl in_X10 1 (by decide) q1832 (Or.inl rfl) (v := .ref (nu)) rfl dX1_execute_8 ?_
    refine lv_iconst (v := (iI ((1 : Nat) : Int))) hx hb dX1_execute_11 rfl ?_
    refine r_ialdI X h_nums (j := 1) rfl (by decide) (by decide) dX1_execute_12 ?_
    refine lv_istore_n (lv' := [(3, .int (iI (f 1))), (2, .int (iI (f 0))), (0, .ref (x)), (1, .ref (c))]) hx hb dX1_execute_13 rfl hl (by decide) rfl (fun ls hl => ?_)
    refine lv_aload_n hx hb dX1_execute_14 rfl (lv_at hl 3 rfl) ?_
    refine r_getN X h_cm rfl in_X10 1 (by decide) q1832 (Or.inl rfl) (v := .ref (nu)) rfl dX1_execute_15 ?_
    refine lv_iconst (v := (iI ((2 : Nat) : Int))) hx hb dX1_execute_18 rfl ?_
    refine r_ialdI X h_nums (j := 2) rfl (by decide) (by decide) dX1_execute_19 ?_
    refine lv_istore (lv' := [(4, .int (iI (f 2))), (3, .int (iI (f 1))), (2, .int (iI (f 0))), (0, .ref (x)), (1, .ref (c))]) hx hb dX1_execute_20 hl (by decide) rfl (fun ls hl => ?_)
    refine lv_aload_n hx hb dX1_execute_22 rfl (lv_at hl 4 rfl) ?_
    refine r_getN X h_cm rfl in_X10 0 (by decide) q1829 (Or.inl rfl) (v := .ref (y)) rfl dX1_execute_23 ?_
    refine lv_astore (lv' := [(5, .ref (y)), (4, .int (iI (f 2))), (3, .int (iI (f 1))), (2, .int (iI (f 0))), (0, .ref (x)), (1, .ref (c))]) hx hb dX1_execute_26 hl (by decide) rfl (fun ls hl => ?_)
    refine lv_iconst (v := (iI (-1))) hx hb dX1_execute_28 rfl ?_
    refine lv_istore (lv' := [(6, .int (iI (-1))), (5, .ref (y)), (4, .int (iI (f 2))), (3, .int (iI (f 1))), (2, .int (iI (f 0))), (0, .ref (x)), (1, .ref (c))]) hx hb dX1_execute_29 hl (by decide) rfl (fun ls hl => ?_)
    refine lv_aload hx hb dX1_execute_31 (lv_at hl 1 rfl) ?_
    refine r_callVR (cells1 := 0) (slots1 := 0) X hR (c_J7_hashCode_r G y qy (fp_wk 6) (fp_ww 6) (by decide +kernel)) q1938 q1864 q1865 q98 q1866 ⟨rfl, pd_J7_hashCode⟩ ⟨Nat.le_of_ble_eq_true rfl, Nat.le_of_ble_eq_true rfl⟩ rfl rfl (Nat.le_of_ble_eq_true rfl) (Nat.le_of_ble_eq_true rfl) (fp_SO.recv X ((fp_HS.st (h_ky).1).1) hB hAb hS) rfl (Nat.le_of_ble_eq_true rfl) hl.1 dX1_execute_33 (hB.of hS hAb) h_ky hS (fun _ h => h.elim) (fun v H_206 locs hp_203 hz_204 hk_205 hS => ?_)
    obtain ⟨rfl, rfl⟩ := hp_203
    refine r_stk (st2 := [.int (fp_hsh (fp_ww 6) (fp_wk 6))]) rfl ?_
    refine lv_lookup (off := 159) (tgt := 195) hx hb dX1_execute_36 (by decide) (by decide +kernel) (by decide) ?_
    refine lv_iload hx hb dX1_execute_195 (lv_at hl 0 rfl) ?_
    refine lv_tableOut (tgt := 303) hx hb dX1_execute_197 (by decide) (by decide) ?_
    refine lv_aload_n hx hb dX1_execute_303 rfl (lv_at hl 5 rfl) ?_
    refine lv_iload_n hx hb dX1_execute_304 rfl (lv_at hl 4 rfl) ?_
    refine x_callV (cells1 := 12) (slots1 := 161) X hR (c_X1_removeTorch_x G x u sv hi ip ln (er) (fa) l ed z t mc cap b S (f 0) hsw hxb (⟨by omega, by omega⟩)) q1952 q1390 q1391 q88 q1392 ⟨rfl, pd_X1_removeTorch⟩ ⟨Nat.le_of_ble_eq_true rfl, Nat.le_of_ble_eq_true rfl⟩ rfl rfl (Nat.le_of_ble_eq_true rfl) (Nat.le_of_ble_eq_true rfl) h_pob rfl rfl (Nat.le_of_ble_eq_true rfl) hl.1 dX1_execute_305 (hB.of hS hAb) ⟨h_pob, h_st⟩ hS (fun q h => by have h2 : (g_s G).heap.size ≤ q ∧ (q = t) := h; show ((g_s G).heap.size ≤ q ∧ (q = u ∨ q = l ∨ q = ed ∨ q = z ∨ q = t)) ∨ s.heap.size ≤ q; omega) (fun v H_210 locs hp_207 hz_208 hk_209 hS => ?_) (fun Ex qx cx H_210 locs hp_207 hz_208 hk_209 hS hcx hvx hlx => ?_)
    · skip
      obtain ⟨rfl, hk_211, hg_212, hE_213⟩ := hp_207
      have hz_214 := hS.1
      have lt_215 := hE_213.1.lt
      refine r_stk (st2 := [.int (iI ((fp_tor (fp_sett S (f 0).toNat 0) : Nat) : Int))]) rfl ?_
      refine lv_pop hx hb dX1_execute_308 rfl ?_
      refine x_vret hx hb hr hlk hQ hS (Nat.le_of_ble_eq_true rfl) (Nat.le_of_ble_eq_true rfl) dX1_execute_309 ?_
      exact ⟨ed, mc, cap, b, (fp_dof S 6 f lt).2, rfl, (fp_d6_0 hsw.1 hk_211 hg_212), rfl, (by omega), (hsw.2), hE_213⟩
    · skip
      rcases hp_207 with ⟨rfl, hb9, hE_216⟩ | ⟨rfl, hb9, hb8, hE_217⟩
      · skip
        have hz_218 := hS.1
        have lt_219 := hE_216.1.lt
        exact x_out hT hlk hQ hS (Nat.le_of_ble_eq_true rfl) (Nat.le_of_ble_eq_true rfl) hcx hvx hlx (Or.inr (Or.inr (Or.inl ⟨rfl, (fp_d6_1 hsw.1 (Or.inl hb9))⟩)))
      · skip
        have hz_220 := hS.1
        have lt_221 := hE_217.1.lt
        exact x_out hT hlk hQ hS (Nat.le_of_ble_eq_true rfl) (Nat.le_of_ble_eq_true rfl) hcx hvx hlx (Or.inr (Or.inl ⟨rfl, (fp_d6_1 hsw.1 (Or.inr ⟨hb9, hb8⟩))⟩))
