/-! ZONES: the zone of a letter; a zone is set -/
set_option maxRecDepth 100000
def fp_zq (G : fp_G) (zl : Int) : Option Nat := if fp_zby zl < 0 then none else some (fp_zad G (fp_zby zl).toNat)
theorem fp_zby_k {k : Nat} (hk : k < 3) : fp_zby ((fp_zlet k : Nat) : Int) = (k : Int) := by
  rcases (show k = 0 ∨ k = 1 ∨ k = 2 by omega) with rfl | rfl | rfl <;> rfl
theorem fp_zq_k {G : fp_G} {zl : Int} {k : Nat} (hk : k < 3) (h : ((fp_zlet k : Nat) : Int) = zl) : fp_zq G zl = some (fp_zad G k) := by
  unfold fp_zq
  rw [← h, fp_zby_k hk, if_neg (by omega), Int.toNat_natCast]
theorem fp_zby_nn {zl : Int} (h : ∀ j, j < 3 → ((fp_zlet j : Nat) : Int) ≠ zl) : fp_zby zl = -1 := by
  have h0 : (111 : Int) ≠ zl := h 0 (by decide)
  have h1 : (113 : Int) ≠ zl := h 1 (by decide)
  have h2 : (99 : Int) ≠ zl := h 2 (by decide)
  unfold fp_zby
  rw [if_neg (fun z => h0 z.symm), if_neg (fun z => h1 z.symm), if_neg (fun z => h2 z.symm)]
theorem fp_zq_n {G : fp_G} {zl : Int} (h : ∀ j, j < 3 → ((fp_zlet j : Nat) : Int) ≠ zl) : fp_zq G zl = none := if_pos (by rw [fp_zby_nn h]; decide)
theorem fp_zq_s (G : fp_G) (zl : Int) : (fp_zq G zl = none ∧ fp_zby zl < 0) ∨ ∃ zz : Nat, zz < 3 ∧ fp_zby zl = (zz : Int) ∧ fp_zq G zl = some (fp_zad G zz) := by
  by_cases h : fp_zby zl < 0
  · exact Or.inl ⟨if_pos h, h⟩
  · refine Or.inr ⟨(fp_zby zl).toNat, ?_, ?_, if_neg h⟩
    · have : fp_zby zl ≤ 2 := by
        unfold fp_zby
        repeat' split
        all_goals omega
      omega
    · omega
theorem fp_setz_f {G : fp_G} {S : PS} {c z : Nat} (j : Nat) : va_up (fun c => some (fp_zad G (sZ S c))) c (some (fp_zad G z)) j = some (fp_zad G (sZ (fp_setz S c z) j)) := by
  show _ = some (fp_zad G (va_up (sZ S) c z j))
  by_cases e : j = c
  · rw [e, va_up_self, va_up_self]
  · rw [va_up_ne _ _ e, va_up_ne _ _ e]

set_option maxRecDepth 100000
set_option maxHeartbeats 4000000 in
theorem c_X3_values (G : fp_G) : fp_M G yX3_values cX3_values 0 (some (.array (.object "FortPlanner$Zone"))) 2 40 1 3 [] (fun H => True) fp_no (fun H v H1 => ∃ (q : Nat), v = some (.ref (q)) ∧ (H.size ≤ q) ∧ fp_At G H1 q (eQ G 5 3 (fun j => some (fp_zad G j)))) := by
  refine fp_M.intro (by decide) (Nat.le_of_ble_eq_true rfl) ?_
  intro pg en s mi ag bl mt cd rR qQ ls X hx hb hr hlk hnm hR hQ hB hM hl
  have hS : va_S (fA fp_no s.heap.size) s.heap s.heap [] := va_S.rf
  generalize ([] : List Loc) = locs at hS ⊢
  have hb0 := hB.1
  have hsz0 := hS.1
  obtain ⟨-, hzve, -⟩ := X.2.2.2.2.2.zvs
  refine r_gets X hB fp_no.base hS q1365 (lw_all_tbl q94) hzve q1364 rfl dX3_values_0 ?_
  refine r_cloneV X hR hl.1 (hB.of hS fp_no.base) hS q1366 q1367 q615 q616 q1368 q1369 (by decide) (Nat.le_of_ble_eq_true rfl) (Nat.le_of_ble_eq_true rfl) (Nat.le_of_ble_eq_true rfl) dX3_values_3 (fun qc H_1 hq_5 hE_2 hX_3 hz_4 hS => ?_)
  have hz_6 := hS.1
  have lt_7 := hE_2.lt
  refine r_castAV X hE_2 q1370 dX3_values_6 ?_
  refine r_aret hx hb hr hlk hQ hS (Nat.le_of_ble_eq_true rfl) (Nat.le_of_ble_eq_true rfl) dX3_values_9 (Or.inr ⟨_, rfl⟩) (Or.inr ⟨_, rfl⟩) ?_
  exact ⟨qc, rfl, (by omega), hE_2⟩
set_option maxHeartbeats 4000000 in
theorem c_X3_of (G : fp_G) (zl : Int) (hzl : rg zl) : fp_M G yX3_of cX3_of 5 (some (.object "FortPlanner$Zone")) 3 59 1 3 [.int (iI (zl))] (fun H => True) fp_no (fun H v H1 => v = some (va_rf (fp_zq G zl))) := by
  refine fp_M.intro (by decide) (Nat.le_of_ble_eq_true rfl) ?_
  intro pg en s mi ag bl mt cd rR qQ ls X hx hb hr hlk hnm hR hQ hB hM hl
  have hS : va_S (fA fp_no s.heap.size) s.heap s.heap [] := va_S.rf
  generalize ([] : List Loc) = locs at hS ⊢
  have hb0 := hB.1
  have hsz0 := hS.1
  refine r_callS (cells1 := 1) (slots1 := 3) X hR (c_X3_values G) q1361 q1362 q94 q1363 pd_X3_values ⟨Nat.le_of_ble_eq_true rfl, Nat.le_of_ble_eq_true rfl⟩ rfl rfl (Nat.le_of_ble_eq_true rfl) (Nat.le_of_ble_eq_true rfl) rfl (Nat.le_of_ble_eq_true rfl) hl.1 dX3_of_0 (hB.of hS fp_no.base) trivial hS (fun _ h => h.elim) (fun v H_4 locs hp_1 hz_2 hk_3 hS => ?_)
  obtain ⟨q_5, rfl, hq_6, hE_7⟩ := hp_1
  have hz_8 := hS.1
  have lt_10 := hE_7.lt
  refine r_stk (st2 := [.ref (q_5)]) rfl ?_
  refine lv_astore_n (lv' := [(1, .ref (q_5)), (0, .int (iI (zl)))]) hx hb dX3_of_3 rfl hl (by decide) rfl (fun ls hl => ?_)
  refine lv_aload_n hx hb dX3_of_4 rfl (lv_at hl 0 rfl) ?_
  refine r_alen X (t := 5) rfl hE_7 (v := (iI ((3 : Nat) : Int))) rfl dX3_of_5 ?_
  refine lv_istore_n (lv' := [(2, .int (iI ((3 : Nat) : Int))), (1, .ref (q_5)), (0, .int (iI (zl)))]) hx hb dX3_of_6 rfl hl (by decide) rfl (fun ls hl => ?_)
  refine lv_iconst (v := (iI ((0 : Nat) : Int))) hx hb dX3_of_7 rfl ?_
  refine lv_istore_n (lv' := [(3, .int (iI ((0 : Nat) : Int))), (2, .int (iI ((3 : Nat) : Int))), (1, .ref (q_5)), (0, .int (iI (zl)))]) hx hb dX3_of_8 rfl hl (by decide) rfl (fun ls hl => ?_)
  have L9 : ∀ (k : Nat), k ≤ 3 → ∀ (H_11 : Heap) (locs : List Loc) (ls : Array Slot), lv_has ls 5 [(0, .int (iI (zl))), (1, .ref (q_5)), (2, .int (iI ((3 : Nat) : Int))), (3, .int (iI ((k : Nat) : Int)))] → va_S (fA fp_no s.heap.size) s.heap H_11 locs → (∀ j, j < k → ((fp_zlet j : Nat) : Int) ≠ zl) → (H_4.size ≤ H_11.size) → fp_At G H_11 q_5 (eQ G 5 3 (fun j => some (fp_zad G j))) → W pg (g_l G) en rR s mi ag bl mt cd H_11 locs 1 3 qQ (F0 mi 9 ls []) := by
    refine lp_up 3 ?_
    intro k hk9 ih9 H_11 locs ls hl hS hno hz_12 hE_13
    have hz_14 := hS.1
    have lt_15 := hE_13.lt
    have hzb := fp_zlet_b k
    refine lv_iload_n hx hb dX3_of_9 rfl (lv_at hl 3 rfl) ?_
    refine lv_iload_n hx hb dX3_of_10 rfl (lv_at hl 2 rfl) ?_
    refine r_icmp_ge (tgt := 37) hx hb ⟨by omega, by omega⟩ (by decide) dX3_of_11 (by decide) (fun c11 => ?_) (fun c11 => ?_)
    · skip
      obtain rfl : k = 3 := by omega
      refine lv_null hx hb dX3_of_37 ?_
      refine r_aret hx hb hr hlk hQ hS (Nat.le_of_ble_eq_true rfl) (Nat.le_of_ble_eq_true rfl) dX3_of_38 (Or.inl ⟨_, rfl⟩) (Or.inl rfl) ?_
      exact (congrArg (fun q : Option Nat => some (va_rf q)) (Eq.symm (fp_zq_n hno)))
    · skip
      refine lv_aload_n hx hb dX3_of_14 rfl (lv_at hl 1 rfl) ?_
      refine lv_iload_n hx hb dX3_of_15 rfl (lv_at hl 3 rfl) ?_
      refine r_aaldI X rfl hE_13 (j := k) rfl (by omega) (by decide) dX3_of_16 ?_
      refine r_set (y := .ref (fp_zad G k)) rfl ?_
      refine lv_astore (lv' := [(4, .ref (fp_zad G k)), (0, .int (iI (zl))), (1, .ref (q_5)), (2, .int (iI ((3 : Nat) : Int))), (3, .int (iI ((k : Nat) : Int)))]) hx hb dX3_of_17 hl (by decide) rfl (fun ls hl => ?_)
      refine lv_aload hx hb dX3_of_19 (lv_at hl 0 rfl) ?_
      refine r_zlet X hB fp_no.base hS (by omega) q2579 dX3_of_21 ?_
      refine lv_iload_n hx hb dX3_of_24 rfl (lv_at hl 1 rfl) ?_
      refine r_icmp_ne (tgt := 31) hx hb ⟨by omega, by omega⟩ ⟨by omega, by omega⟩ dX3_of_25 (by decide) (fun c25 => ?_) (fun c25 => ?_)
      · skip
        refine lv_iinc (v := (iI ((k + 1 : Nat) : Int))) (lv' := [(3, .int (iI ((k + 1 : Nat) : Int))), (4, .ref (fp_zad G k)), (0, .int (iI (zl))), (1, .ref (q_5)), (2, .int (iI ((3 : Nat) : Int)))]) hx hb dX3_of_31 hl (k := 4) rfl (iI_incN _ _) (by decide) rfl (fun ls hl => ?_)
        refine lv_goto (tgt := 9) hx hb dX3_of_34 (by decide) ?_
        exact ih9 (by omega) H_11 locs ls (lv_sub hl [2, 3, 4, 0] rfl) hS (fp_ltS hno (by omega)) (by omega) hE_13
      · skip
        refine lv_aload hx hb dX3_of_28 (lv_at hl 0 rfl) ?_
        refine r_aret hx hb hr hlk hQ hS (Nat.le_of_ble_eq_true rfl) (Nat.le_of_ble_eq_true rfl) dX3_of_30 (Or.inl ⟨_, rfl⟩) (Or.inr ⟨_, rfl⟩) ?_
        exact (congrArg (fun q : Option Nat => some (va_rf q)) (Eq.symm (fp_zq_k (k := k) (by omega) (by omega))))
  exact L9 0 (by omega) H_4 locs ls (lv_sub hl [3, 2, 1, 0] rfl) hS (fun j hj => absurd hj (Nat.not_lt_zero _)) (Nat.le_refl _) hE_7
set_option maxHeartbeats 4000000 in
theorem c_X1_setZone (G : fp_G) (x : Nat) (u : Nat) (sv : Value) (hi : Nat) (ip : Nat) (ln : Nat) (er : Int) (fa : Int) (l : Nat) (ed : Nat) (z : Nat) (t : Nat) (mc : Int32) (cap : Nat) (b : Nat → Nat) (S : PS) (el : Nat) (hd : Nat) (hn : Nat) (q : Nat → Nat) (c : Int) (zl : Int) (hsw : fp_sw S b) (hxb : (g_s G).heap.size ≤ x) (hc : rg c) (hzl : rg zl) (hh8 : hn ≤ 8) (hde : fp_dif ed el) : fp_MX G yX1_setZone cX1_setZone 5 (some .char) 10 234 12 164 [.ref (x), .int (iI (c)), .int (iI (zl))] (fun H => fp_At G H x (eO 1 [.ref (u), sv, .ref (hi), .ref (ip), .ref (ln), .int (iI (bI (false))), .int (iI (er)), .int (iI (fa))]) ∧ fp_SE G u l ed z t mc cap b S H ∧ fp_DQ G hi el hd hn q H) (fun q => (g_s G).heap.size ≤ q ∧ (q = z ∨ q = hi ∨ q = el)) (fun H v H1 => ∃ (hd2 : Nat), ∃ (y9 : Nat), ∃ (l9 : Nat), ∃ (e9 : Nat), ∃ (z9 : Nat), ∃ (t9 : Nat), ∃ (m9 : Int32), ∃ (c9 : Nat), v = some (.int (iI ((fp_zlet (sZ S c.toNat) : Nat) : Int))) ∧ (fp_cc c = 0) ∧ (0 ≤ fp_zby zl) ∧ (H.size ≤ y9 ∧ H.size ≤ l9 ∧ H.size ≤ z9 ∧ H.size ≤ t9) ∧ (e9 = fp_de G ∨ H.size ≤ e9) ∧ fp_SE G u l ed z t mc cap b (fp_setz S c.toNat (fp_zby zl).toNat) H1 ∧ fp_DQ G hi el hd2 (fp_hn hn) (fp_qpush q hn y9) H1 ∧ fp_SE G y9 l9 e9 z9 t9 m9 c9 b S H1) (fun H E H1 => (E = "java/lang/IndexOutOfBoundsException" ∧ ((fp_cc c = 1) ∧ fp_SE G u l ed z t mc cap b S H1 ∧ fp_DQ G hi el hd hn q H1)) ∨ (E = "java/lang/IllegalArgumentException" ∧ ((fp_cc c = 0) ∧ (fp_zby zl < 0) ∧ fp_SE G u l ed z t mc cap b S H1 ∧ fp_DQ G hi el hd hn q H1))) := by
  refine fp_MX.intro (by decide) (Nat.le_of_ble_eq_true rfl) ?_
  intro pg en s mi ag bl mt cd rR qQ ls X hx hb hr hlk hnm hR hQ hT hB hM hl
  have hS : va_S (fA (fun q => (g_s G).heap.size ≤ q ∧ (q = z ∨ q = hi ∨ q = el)) s.heap.size) s.heap s.heap [] := va_S.rf
  generalize ([] : List Loc) = locs at hS ⊢
  have hb0 := hB.1
  have hAb : ∀ q, (fun q => (g_s G).heap.size ≤ q ∧ (q = z ∨ q = hi ∨ q = el)) q → (g_s G).heap.size ≤ q := fun q h => h.1
  obtain ⟨h_pob, h_st, h_dq⟩ := hM
  have hsz0 := hS.1
  have lt_1 := h_pob.lt
  have lt_2 := h_st.1.lt
  have lt_3 := h_dq.1.lt
  have lt_4 := h_dq.2.2.1.1
  have hn24 := hsw.1.1
  have hed0 := (X.2.2.2.2.2.deT (A := fp_no) hB fp_no.base).2.2
  obtain ⟨hku, hkl, hkz, hkt, hkb, hxb9, hzb9, htb9⟩ := id h_st
  have hlb9 := hkl.2.2.2
  obtain ⟨hdo, ⟨fdq, hdr, -⟩, hdq9, hdb1, hdb2⟩ := id h_dq
  have hdlt := hdo.lt
  have hnSh := fp_SE.nO X.2.2.2.2.2 hed0 h_st (j := 10) rfl ⟨by decide, by decide, by decide, by decide, by decide⟩ hdo hdb1
  have hnSe := fp_SE.nQ X.2.2.2.2.2 h_st hdr hde
  have hnel : fp_dif el ed := Ne.symm hde
  have hne_5 : fp_dif x u := fp_neOO X.2.2.2.2.2 (i := 1) (j := 2) rfl rfl (by decide) h_pob hku
  have hne_6 : fp_dif x l := fp_neOO X.2.2.2.2.2 (i := 1) (j := 8) rfl rfl (by decide) h_pob hkl.1
  have hne_7 : fp_dif x z := fp_neOA X.2.2.2.2.2 (i := 1) (t := 5) rfl rfl h_pob hkz
  have hne_8 : fp_dif x t := fp_neOA X.2.2.2.2.2 (i := 1) (t := 1) rfl rfl h_pob hkt
  have hne_9 : fp_dif x hi := fp_neOO X.2.2.2.2.2 (i := 1) (j := 10) rfl rfl (by decide) h_pob hdo
  have hne_10 : fp_dif x el := fp_neOA X.2.2.2.2.2 (i := 1) (t := 4) rfl rfl h_pob hdr
  have hne_11 : fp_dif x ed := fp_LE.neE hkl hed0 (by omega) (fun f9 h9 => fp_neOA X.2.2.2.2.2 (i := 1) (t := 4) rfl rfl h_pob h9)
  have hne_12 : fp_dif u l := fp_neOO X.2.2.2.2.2 (i := 2) (j := 8) rfl rfl (by decide) hku hkl.1
  have hne_13 : fp_dif u z := fp_neOA X.2.2.2.2.2 (i := 2) (t := 5) rfl rfl hku hkz
  have hne_14 : fp_dif u t := fp_neOA X.2.2.2.2.2 (i := 2) (t := 1) rfl rfl hku hkt
  have hne_15 : fp_dif u hi := fp_neOO X.2.2.2.2.2 (i := 2) (j := 10) rfl rfl (by decide) hku hdo
  have hne_16 : fp_dif u el := fp_neOA X.2.2.2.2.2 (i := 2) (t := 4) rfl rfl hku hdr
  have hne_17 : fp_dif u ed := fp_LE.neE hkl hed0 (by omega) (fun f9 h9 => fp_neOA X.2.2.2.2.2 (i := 2) (t := 4) rfl rfl hku h9)
  have hne_18 : fp_dif l z := fp_neOA X.2.2.2.2.2 (i := 8) (t := 5) rfl rfl hkl.1 hkz
  have hne_19 : fp_dif l t := fp_neOA X.2.2.2.2.2 (i := 8) (t := 1) rfl rfl hkl.1 hkt
  have hne_20 : fp_dif l hi := fp_neOO X.2.2.2.2.2 (i := 8) (j := 10) rfl rfl (by decide) hkl.1 hdo
  have hne_21 : fp_dif l el := fp_neOA X.2.2.2.2.2 (i := 8) (t := 4) rfl rfl hkl.1 hdr
  have hne_22 : fp_dif l ed := fp_LE.neE hkl hed0 (by omega) (fun f9 h9 => fp_neOA X.2.2.2.2.2 (i := 8) (t := 4) rfl rfl hkl.1 h9)
  have hne_23 : fp_dif z t := fp_neAA X.2.2.2.2.2 (t := 5) (t2 := 1) rfl rfl (by decide) hkz hkt
  have hne_24 : fp_dif z hi := Ne.symm (fp_neOA X.2.2.2.2.2 (i := 10) (t := 5) rfl rfl hdo hkz)
  have hne_25 : fp_dif z el := fp_neAA X.2.2.2.2.2 (t := 5) (t2 := 4) rfl rfl (by decide) hkz hdr
  have hne_26 : fp_dif z ed := fp_LE.neE hkl hed0 (by omega) (fun f9 h9 => fp_neAA X.2.2.2.2.2 (t := 5) (t2 := 4) rfl rfl (by decide) hkz h9)
  have hne_27 : fp_dif t hi := Ne.symm (fp_neOA X.2.2.2.2.2 (i := 10) (t := 1) rfl rfl hdo hkt)
  have hne_28 : fp_dif t el := fp_neAA X.2.2.2.2.2 (t := 1) (t2 := 4) rfl rfl (by decide) hkt hdr
  have hne_29 : fp_dif t ed := fp_LE.neE hkl hed0 (by omega) (fun f9 h9 => fp_neAA X.2.2.2.2.2 (t := 1) (t2 := 4) rfl rfl (by decide) hkt h9)
  have hne_30 : fp_dif hi el := fp_neOA X.2.2.2.2.2 (i := 10) (t := 4) rfl rfl hdo hdr
  have hne_31 : fp_dif hi ed := fp_LE.neE hkl hed0 (by omega) (fun f9 h9 => fp_neOA X.2.2.2.2.2 (i := 10) (t := 4) rfl rfl hdo h9)
  have hap0 := (fp_SE.dis X.2.2.2.2.2 hed0 h_st).2
  have hblne : ∀ k, k < sN S → b k ≠ l ∧ b k ≠ ed ∧ b k ≠ z ∧ b k ≠ t := fun k hk => ⟨(hap0 k hk).2.1, (hap0 k hk).2.2.1, (hap0 k hk).2.2.2.1, (hap0 k hk).2.2.2.2⟩
  have hbllt : ∀ k, k < sN S → b k < s.heap.size := fun k hk => (hkb k hk).lt
  refine lv_iload_n hx hb dX1_setZone_0 rfl (lv_at hl 1 rfl) ?_
  refine x_callS (cells1 := 1) (slots1 := 6) X hR (c_X1_checkColumn G (c) (⟨by omega, by omega⟩)) q1347 q1348 q88 q1349 pd_X1_checkColumn ⟨Nat.le_of_ble_eq_true rfl, Nat.le_of_ble_eq_true rfl⟩ rfl rfl (Nat.le_of_ble_eq_true rfl) (Nat.le_of_ble_eq_true rfl) rfl (Nat.le_of_ble_eq_true rfl) hl.1 dX1_setZone_1 (hB.of hS hAb) trivial hS (fun _ h => h.elim) (fun v H_35 locs hp_32 hz_33 hk_34 hS => ?_) (fun Ex qx cx H_35 locs hp_32 hz_33 hk_34 hS hcx hvx hlx => ?_)
  · skip
    obtain ⟨rfl, hcc_36, rfl⟩ := hp_32
    refine r_stk (st2 := []) rfl ?_
    obtain ⟨cn, rfl⟩ : ∃ cn : Nat, c = ((cn : Nat) : Int) := ⟨c.toNat, by omega⟩
    have hcn : cn < 12 := by omega
    refine lv_iload_n hx hb dX1_setZone_4 rfl (lv_at hl 2 rfl) ?_
    refine r_callS (cells1 := 2) (slots1 := 9) X hR (c_X3_of G (zl) (⟨by omega, by omega⟩)) q1358 q1359 q94 q1360 pd_X3_of ⟨Nat.le_of_ble_eq_true rfl, Nat.le_of_ble_eq_true rfl⟩ rfl rfl (Nat.le_of_ble_eq_true rfl) (Nat.le_of_ble_eq_true rfl) rfl (Nat.le_of_ble_eq_true rfl) hl.1 dX1_setZone_5 (hB.of hS hAb) trivial hS (fun _ h => h.elim) (fun v H_40 locs hp_37 hz_38 hk_39 hS => ?_)
    obtain rfl := hp_37
    have hz_41 := hS.1
    refine r_stk (st2 := [va_rf (fp_zq G (zl))]) rfl ?_
    rcases fp_zq_s G zl with ⟨hzq, hzn⟩ | ⟨zz, hzz, hze, hzq⟩
    · skip
      refine r_set (y := .null) (by rw [hzq]; rfl) ?_
      refine lv_astore_nN (lv' := [(3, .null), (0, .ref (x)), (1, .int (iI ((cn : Nat) : Int))), (2, .int (iI (zl)))]) hx hb dX1_setZone_8 rfl hl (by decide) rfl (fun ls hl => ?_)
      refine lv_aload_nN hx hb dX1_setZone_9 rfl (lv_at hl 0 rfl) ?_
      refine lv_ifnullN hx hb dX1_setZone_10 (tgt := 17) (by decide) ?_
      refine lv_iconst (v := (iI ((0 : Nat) : Int))) hx hb dX1_setZone_17 rfl ?_
      refine x_callS (cells1 := 3) (slots1 := 15) X hR (c_X1_checkArgument G false) q1129 q1130 q88 q1131 pd_X1_checkArgument ⟨Nat.le_of_ble_eq_true rfl, Nat.le_of_ble_eq_true rfl⟩ rfl rfl (Nat.le_of_ble_eq_true rfl) (Nat.le_of_ble_eq_true rfl) rfl (Nat.le_of_ble_eq_true rfl) hl.1 dX1_setZone_18 (hB.of hS hAb) trivial hS (fun _ h => h.elim) (fun v H_45 locs hp_42 hz_43 hk_44 hS => ?_) (fun Ex qx cx H_45 locs hp_42 hz_43 hk_44 hS hcx hvx hlx => ?_)
      · skip
        obtain ⟨rfl, rfl, hbt_46⟩ := hp_42
        refine r_stk (st2 := []) rfl ?_
        cases hbt_46
      · skip
        obtain ⟨rfl, hX9, hb9⟩ := hp_42
        have hE_48 := h_st.ext (fp_X.no hz_38 hk_39)
        have hE_49 := hE_48.ext hX9
        have hE_51 := h_dq.ext (fp_X.no hz_38 hk_39)
        have hE_52 := hE_51.ext hX9
        exact x_out hT hlk hQ hS (Nat.le_of_ble_eq_true rfl) (Nat.le_of_ble_eq_true rfl) hcx hvx hlx (Or.inr ⟨rfl, fp_cc_0 (by omega), hzn, hE_49, hE_52⟩)
    · skip
      refine r_set (y := .ref (fp_zad G zz)) (by rw [hzq]; rfl) ?_
      refine lv_astore_n (lv' := [(3, .ref (fp_zad G zz)), (0, .ref (x)), (1, .int (iI ((cn : Nat) : Int))), (2, .int (iI (zl)))]) hx hb dX1_setZone_8 rfl hl (by decide) rfl (fun ls hl => ?_)
      refine lv_aload_n hx hb dX1_setZone_9 rfl (lv_at hl 0 rfl) ?_
      refine lv_ifnull hx hb dX1_setZone_10 ?_
      refine lv_iconst (v := (iI ((1 : Nat) : Int))) hx hb dX1_setZone_13 rfl ?_
      refine lv_goto (tgt := 18) hx hb dX1_setZone_14 (by decide) ?_
      refine x_callS (cells1 := 3) (slots1 := 15) X hR (c_X1_checkArgument G true) q1129 q1130 q88 q1131 pd_X1_checkArgument ⟨Nat.le_of_ble_eq_true rfl, Nat.le_of_ble_eq_true rfl⟩ rfl rfl (Nat.le_of_ble_eq_true rfl) (Nat.le_of_ble_eq_true rfl) rfl (Nat.le_of_ble_eq_true rfl) hl.1 dX1_setZone_18 (hB.of hS hAb) trivial hS (fun _ h => h.elim) (fun v H_56 locs hp_53 hz_54 hk_55 hS => ?_) (fun Ex qx cx H_56 locs hp_53 hz_54 hk_55 hS hcx hvx hlx => ?_)
      · skip
        obtain ⟨rfl, rfl, hbt_57⟩ := hp_53
        refine r_stk (st2 := []) rfl ?_
        have hE_59 := h_st.ext (fp_X.no hz_38 hk_39)
        have hedl := hE_59.2.1.2.2.1
        have hlll := hkl.1.lt
        have hzll := hkz.lt
        have htll := hkt.lt
        refine lv_aload_n hx hb dX1_setZone_21 rfl (lv_at hl 1 rfl) ?_
        have hE_60 := fp_At.kept h_pob (fp_keptS (by omega) hS (fun h => (fun h => h.elim (hne_7) (fun h => h.elim (hne_9) (hne_10))) h.2))
        have hE_62 := h_dq.ext (fp_X.no hz_38 hk_39)
        refine r_callV (cells1 := 12) (slots1 := 164) X hR (c_X1_beginChange G x u sv hi ip ln (er) (fa) l ed z t mc cap b S el hd hn q hsw hxb hh8 hde) q1252 q1254 qs23 q88 q1255 ⟨rfl, pd_X1_beginChange⟩ ⟨Nat.le_of_ble_eq_true rfl, Nat.le_of_ble_eq_true rfl⟩ rfl rfl (Nat.le_of_ble_eq_true rfl) (Nat.le_of_ble_eq_true rfl) hE_60 rfl rfl (Nat.le_of_ble_eq_true rfl) hl.1 dX1_setZone_22 (hB.of hS hAb) ⟨hE_60, hE_59, hE_62⟩ hS (fun q h => by have h2 : (g_s G).heap.size ≤ q ∧ (q = hi ∨ q = el) := h; show ((g_s G).heap.size ≤ q ∧ (q = z ∨ q = hi ∨ q = el)) ∨ s.heap.size ≤ q; omega) (fun v H_66 locs hp_63 hz_64 hk_65 hS => ?_)
        obtain ⟨hd2_67, y9_68, l9_69, e9_70, z9_71, t9_72, m9_73, c9_74, rfl, hcf_75, hce_76, hE_77, hE_78⟩ := hp_63
        have hz_79 := hS.1
        have lt_80 := hE_77.1.lt
        have lt_81 := hE_77.2.2.1.1
        have lt_83 := hE_78.1.lt
        refine r_stk (st2 := []) rfl ?_
        have hcf9 := hcf_75
        have hce9 := hce_76
        have hnT_84 : fp_nT G y9_68 l9_69 e9_70 z9_71 t9_72 b (sN S) z := fp_nT.fresh hcf9 hce9 hed0 (by omega) (fun k hk => (hap0 k hk).2.2.2.1)
        have hE_86 := fp_SE.mvA hE_59 (fun q9 hq9 hs9 => hk_65 _ hq9 (fun h8 => (fun h9 => h9.elim (hnSh.t q9 hs9 h8.1) (hnSe.t q9 hs9 h8.1)) h8.2))
        obtain ⟨h_no, h_nl, h_nz, h_nt, h_nbl, h_nxb, h_nzb, h_ntb⟩ := id hE_86
        have lt_87 := h_nl.1.lt
        have lt_88 := h_nl.2.2
        have lt_89 := h_nz.lt
        have lt_90 := h_nt.lt
        have lt_91 := h_no.lt
        refine lv_aload_n hx hb dX1_setZone_25 rfl (lv_at hl 1 rfl) ?_
        have hE_92 := fp_At.kept h_pob (fp_keptS (by omega) hS (fun h => (fun h => h.elim (hne_7) (fun h => h.elim (hne_9) (hne_10))) h.2))
        refine r_get X hE_92 rfl in_X1 0 (by decide) q242 (Or.inl rfl) (v := .ref (u)) rfl dX1_setZone_26 ?_
        refine r_getN X h_no rfl in_X2 1 (by decide) q176 (Or.inl rfl) (v := .ref (z)) rfl dX1_setZone_29 ?_
        refine lv_iload_n hx hb dX1_setZone_32 rfl (lv_at hl 2 rfl) ?_
        refine r_aaldI X rfl h_nz (j := cn) rfl (by omega) (by decide) dX1_setZone_33 ?_
        refine r_set (y := .ref (fp_zad G (sZ S cn))) rfl ?_
        refine r_zletN X hB hAb hS (hsw.1.2.2.2.1 cn hcn) q2580 dX1_setZone_34 ?_
        have hzlb := fp_zlet_b (sZ S cn)
        refine lv_istore (lv' := [(4, .int (iI ((fp_zlet (sZ S cn) : Nat) : Int))), (3, .ref (fp_zad G zz)), (0, .ref (x)), (1, .int (iI ((cn : Nat) : Int))), (2, .int (iI (zl)))]) hx hb dX1_setZone_37 hl (by decide) rfl (fun ls hl => ?_)
        refine lv_aload_n hx hb dX1_setZone_39 rfl (lv_at hl 2 rfl) ?_
        refine r_get X hE_92 rfl in_X1 0 (by decide) q242 (Or.inl rfl) (v := .ref (u)) rfl dX1_setZone_40 ?_
        refine r_getN X h_no rfl in_X2 1 (by decide) q176 (Or.inl rfl) (v := .ref (z)) rfl dX1_setZone_43 ?_
        refine lv_iload_n hx hb dX1_setZone_46 rfl (lv_at hl 3 rfl) ?_
        refine lv_aload_n hx hb dX1_setZone_47 rfl (lv_at hl 1 rfl) ?_
        refine r_aastY X rfl h_nz hS (Or.inl ⟨by omega, Or.inl rfl⟩) (X.2.2.2.2.2.zAny (hB.of hS hAb) (z := zz) (hzz)) (i0 := cn) rfl (by omega) (by decide) dX1_setZone_48 (fun H_96 locs hE_93 hz_94 hq_95 hS => ?_)
        have hz_97 := hS.1
        have hE_100 := fp_At.kept h_no (hq_95 _ (hne_13))
        have hE_102 := fp_LE.mv h_nl (hq_95 _ (hne_18)) (hq_95 _ (Ne.symm (hne_26)))
        have hE_104 := fp_At.kept h_nt (hq_95 _ (Ne.symm (hne_23)))
        have hE_106 := fp_BL.mv h_nbl (fun k hk => hq_95 _ (by have := hblne k hk; omega))
        have hst_98 : fp_SE G u l ed z t mc cap b (fp_setz S cn zz) H_96 := ⟨hE_100, hE_102, fp_At.cQ hE_93 (fun j _ => fp_setz_f (S := S) (c := cn) (z := zz) j), hE_104, hE_106, h_nxb, h_nzb, h_ntb⟩
        have lt_107 := hst_98.1.lt
        have hzt : (fp_zby zl).toNat = zz := by omega
        refine lv_iload hx hb dX1_setZone_49 (lv_at hl 0 rfl) ?_
        refine x_zret hx hb hr hlk hQ hS (Nat.le_of_ble_eq_true rfl) (Nat.le_of_ble_eq_true rfl) dX1_setZone_51 (iI_char ⟨by omega, by omega⟩) ?_
        have hE_109 := fp_DQ.mv hE_77 (hq_95 _ (Ne.symm (hne_24))) (hq_95 _ (Ne.symm (hne_25)))
        have hE_111 := fp_SE.mvA hE_78 (fun q9 hq9 hs9 => hq_95 _ (hnT_84.p hzb9 q9 hs9))
        exact ⟨hd2_67, y9_68, l9_69, e9_70, z9_71, t9_72, m9_73, c9_74, rfl, (fp_cc_0 (by omega)), (by omega), (by omega), (by omega), (by rw [hzt]; exact hst_98), hE_109, hE_111⟩
      · skip
        obtain ⟨rfl, hX9, hb9⟩ := hp_53
        cases hb9
  · skip
    obtain ⟨rfl, hX9, hb9⟩ := hp_32
    have hE_113 := h_st.ext hX9
    have hE_115 := h_dq.ext hX9
    exact x_out hT hlk hQ hS (Nat.le_of_ble_eq_true rfl) (Nat.le_of_ble_eq_true rfl) hcx hvx hlx (Or.inl ⟨rfl, (fp_cc_1 hb9), hE_113, hE_115⟩)
set_option maxHeartbeats 4000000 in
theorem c_X1_setZone_x (G : fp_G) (x : Nat) (u : Nat) (sv : Value) (hi : Nat) (ip : Nat) (ln : Nat) (er : Int) (fa : Int) (l : Nat) (ed : Nat) (z : Nat) (t : Nat) (mc : Int32) (cap : Nat) (b : Nat → Nat) (S : PS) (c : Int) (zl : Int) (hsw : fp_sw S b) (hxb : (g_s G).heap.size ≤ x) (hc : rg c) (hzl : rg zl) : fp_MX G yX1_setZone cX1_setZone 5 (some .char) 8 121 12 164 [.ref (x), .int (iI (c)), .int (iI (zl))] (fun H => fp_At G H x (eO 1 [.ref (u), sv, .ref (hi), .ref (ip), .ref (ln), .int (iI (bI (true))), .int (iI (er)), .int (iI (fa))]) ∧ fp_SE G u l ed z t mc cap b S H) (fun q => (g_s G).heap.size ≤ q ∧ (q = z)) (fun H v H1 => v = some (.int (iI ((fp_zlet (sZ S c.toNat) : Nat) : Int))) ∧ (fp_cc c = 0) ∧ (0 ≤ fp_zby zl) ∧ fp_SE G u l ed z t mc cap b (fp_setz S c.toNat (fp_zby zl).toNat) H1) (fun H E H1 => (E = "java/lang/IndexOutOfBoundsException" ∧ ((fp_cc c = 1) ∧ fp_SE G u l ed z t mc cap b S H1)) ∨ (E = "java/lang/IllegalArgumentException" ∧ ((fp_cc c = 0) ∧ (fp_zby zl < 0) ∧ fp_SE G u l ed z t mc cap b S H1))) := by
  refine fp_MX.intro (by decide) (Nat.le_of_ble_eq_true rfl) ?_
  intro pg en s mi ag bl mt cd rR qQ ls X hx hb hr hlk hnm hR hQ hT hB hM hl
  have hS : va_S (fA (fun q => (g_s G).heap.size ≤ q ∧ (q = z)) s.heap.size) s.heap s.heap [] := va_S.rf
  generalize ([] : List Loc) = locs at hS ⊢
  have hb0 := hB.1
  have hAb : ∀ q, (fun q => (g_s G).heap.size ≤ q ∧ (q = z)) q → (g_s G).heap.size ≤ q := fun q h => h.1
  obtain ⟨h_pob, h_st⟩ := hM
  have hsz0 := hS.1
  have lt_1 := h_pob.lt
  have lt_2 := h_st.1.lt
  have hn24 := hsw.1.1
  have hed0 := (X.2.2.2.2.2.deT (A := fp_no) hB fp_no.base).2.2
  obtain ⟨hku, hkl, hkz, hkt, hkb, hxb9, hzb9, htb9⟩ := id h_st
  have hlb9 := hkl.2.2.2
  have hne_3 : fp_dif x u := fp_neOO X.2.2.2.2.2 (i := 1) (j := 2) rfl rfl (by decide) h_pob hku
  have hne_4 : fp_dif x l := fp_neOO X.2.2.2.2.2 (i := 1) (j := 8) rfl rfl (by decide) h_pob hkl.1
  have hne_5 : fp_dif x z := fp_neOA X.2.2.2.2.2 (i := 1) (t := 5) rfl rfl h_pob hkz
  have hne_6 : fp_dif x t := fp_neOA X.2.2.2.2.2 (i := 1) (t := 1) rfl rfl h_pob hkt
  have hne_7 : fp_dif x ed := fp_LE.neE hkl hed0 (by omega) (fun f9 h9 => fp_neOA X.2.2.2.2.2 (i := 1) (t := 4) rfl rfl h_pob h9)
  have hne_8 : fp_dif u l := fp_neOO X.2.2.2.2.2 (i := 2) (j := 8) rfl rfl (by decide) hku hkl.1
  have hne_9 : fp_dif u z := fp_neOA X.2.2.2.2.2 (i := 2) (t := 5) rfl rfl hku hkz
  have hne_10 : fp_dif u t := fp_neOA X.2.2.2.2.2 (i := 2) (t := 1) rfl rfl hku hkt
  have hne_11 : fp_dif u ed := fp_LE.neE hkl hed0 (by omega) (fun f9 h9 => fp_neOA X.2.2.2.2.2 (i := 2) (t := 4) rfl rfl hku h9)
  have hne_12 : fp_dif l z := fp_neOA X.2.2.2.2.2 (i := 8) (t := 5) rfl rfl hkl.1 hkz
  have hne_13 : fp_dif l t := fp_neOA X.2.2.2.2.2 (i := 8) (t := 1) rfl rfl hkl.1 hkt
  have hne_14 : fp_dif l ed := fp_LE.neE hkl hed0 (by omega) (fun f9 h9 => fp_neOA X.2.2.2.2.2 (i := 8) (t := 4) rfl rfl hkl.1 h9)
  have hne_15 : fp_dif z t := fp_neAA X.2.2.2.2.2 (t := 5) (t2 := 1) rfl rfl (by decide) hkz hkt
  have hne_16 : fp_dif z ed := fp_LE.neE hkl hed0 (by omega) (fun f9 h9 => fp_neAA X.2.2.2.2.2 (t := 5) (t2 := 4) rfl rfl (by decide) hkz h9)
  have hne_17 : fp_dif t ed := fp_LE.neE hkl hed0 (by omega) (fun f9 h9 => fp_neAA X.2.2.2.2.2 (t := 1) (t2 := 4) rfl rfl (by decide) hkt h9)
  have hap0 := (fp_SE.dis X.2.2.2.2.2 hed0 h_st).2
  have hblne : ∀ k, k < sN S → b k ≠ l ∧ b k ≠ ed ∧ b k ≠ z ∧ b k ≠ t := fun k hk => ⟨(hap0 k hk).2.1, (hap0 k hk).2.2.1, (hap0 k hk).2.2.2.1, (hap0 k hk).2.2.2.2⟩
  have hbllt : ∀ k, k < sN S → b k < s.heap.size := fun k hk => (hkb k hk).lt
  refine lv_iload_n hx hb dX1_setZone_0 rfl (lv_at hl 1 rfl) ?_
  refine x_callS (cells1 := 1) (slots1 := 6) X hR (c_X1_checkColumn G (c) (⟨by omega, by omega⟩)) q1347 q1348 q88 q1349 pd_X1_checkColumn ⟨Nat.le_of_ble_eq_true rfl, Nat.le_of_ble_eq_true rfl⟩ rfl rfl (Nat.le_of_ble_eq_true rfl) (Nat.le_of_ble_eq_true rfl) rfl (Nat.le_of_ble_eq_true rfl) hl.1 dX1_setZone_1 (hB.of hS hAb) trivial hS (fun _ h => h.elim) (fun v H_21 locs hp_18 hz_19 hk_20 hS => ?_) (fun Ex qx cx H_21 locs hp_18 hz_19 hk_20 hS hcx hvx hlx => ?_)
  · skip
    obtain ⟨rfl, hcc_22, rfl⟩ := hp_18
    refine r_stk (st2 := []) rfl ?_
    obtain ⟨cn, rfl⟩ : ∃ cn : Nat, c = ((cn : Nat) : Int) := ⟨c.toNat, by omega⟩
    have hcn : cn < 12 := by omega
    refine lv_iload_n hx hb dX1_setZone_4 rfl (lv_at hl 2 rfl) ?_
    refine r_callS (cells1 := 2) (slots1 := 9) X hR (c_X3_of G (zl) (⟨by omega, by omega⟩)) q1358 q1359 q94 q1360 pd_X3_of ⟨Nat.le_of_ble_eq_true rfl, Nat.le_of_ble_eq_true rfl⟩ rfl rfl (Nat.le_of_ble_eq_true rfl) (Nat.le_of_ble_eq_true rfl) rfl (Nat.le_of_ble_eq_true rfl) hl.1 dX1_setZone_5 (hB.of hS hAb) trivial hS (fun _ h => h.elim) (fun v H_26 locs hp_23 hz_24 hk_25 hS => ?_)
    obtain rfl := hp_23
    have hz_27 := hS.1
    refine r_stk (st2 := [va_rf (fp_zq G (zl))]) rfl ?_
    rcases fp_zq_s G zl with ⟨hzq, hzn⟩ | ⟨zz, hzz, hze, hzq⟩
    · skip
      refine r_set (y := .null) (by rw [hzq]; rfl) ?_
      refine lv_astore_nN (lv' := [(3, .null), (0, .ref (x)), (1, .int (iI ((cn : Nat) : Int))), (2, .int (iI (zl)))]) hx hb dX1_setZone_8 rfl hl (by decide) rfl (fun ls hl => ?_)
      refine lv_aload_nN hx hb dX1_setZone_9 rfl (lv_at hl 0 rfl) ?_
      refine lv_ifnullN hx hb dX1_setZone_10 (tgt := 17) (by decide) ?_
      refine lv_iconst (v := (iI ((0 : Nat) : Int))) hx hb dX1_setZone_17 rfl ?_
      refine x_callS (cells1 := 3) (slots1 := 15) X hR (c_X1_checkArgument G false) q1129 q1130 q88 q1131 pd_X1_checkArgument ⟨Nat.le_of_ble_eq_true rfl, Nat.le_of_ble_eq_true rfl⟩ rfl rfl (Nat.le_of_ble_eq_true rfl) (Nat.le_of_ble_eq_true rfl) rfl (Nat.le_of_ble_eq_true rfl) hl.1 dX1_setZone_18 (hB.of hS hAb) trivial hS (fun _ h => h.elim) (fun v H_31 locs hp_28 hz_29 hk_30 hS => ?_) (fun Ex qx cx H_31 locs hp_28 hz_29 hk_30 hS hcx hvx hlx => ?_)
      · skip
        obtain ⟨rfl, rfl, hbt_32⟩ := hp_28
        refine r_stk (st2 := []) rfl ?_
        cases hbt_32
      · skip
        obtain ⟨rfl, hX9, hb9⟩ := hp_28
        have hE_34 := h_st.ext (fp_X.no hz_24 hk_25)
        have hE_35 := hE_34.ext hX9
        exact x_out hT hlk hQ hS (Nat.le_of_ble_eq_true rfl) (Nat.le_of_ble_eq_true rfl) hcx hvx hlx (Or.inr ⟨rfl, fp_cc_0 (by omega), hzn, hE_35⟩)
    · skip
      refine r_set (y := .ref (fp_zad G zz)) (by rw [hzq]; rfl) ?_
      refine lv_astore_n (lv' := [(3, .ref (fp_zad G zz)), (0, .ref (x)), (1, .int (iI ((cn : Nat) : Int))), (2, .int (iI (zl)))]) hx hb dX1_setZone_8 rfl hl (by decide) rfl (fun ls hl => ?_)
      refine lv_aload_n hx hb dX1_setZone_9 rfl (lv_at hl 0 rfl) ?_
      refine lv_ifnull hx hb dX1_setZone_10 ?_
      refine lv_iconst (v := (iI ((1 : Nat) : Int))) hx hb dX1_setZone_13 rfl ?_
      refine lv_goto (tgt := 18) hx hb dX1_setZone_14 (by decide) ?_
      refine x_callS (cells1 := 3) (slots1 := 15) X hR (c_X1_checkArgument G true) q1129 q1130 q88 q1131 pd_X1_checkArgument ⟨Nat.le_of_ble_eq_true rfl, Nat.le_of_ble_eq_true rfl⟩ rfl rfl (Nat.le_of_ble_eq_true rfl) (Nat.le_of_ble_eq_true rfl) rfl (Nat.le_of_ble_eq_true rfl) hl.1 dX1_setZone_18 (hB.of hS hAb) trivial hS (fun _ h => h.elim) (fun v H_39 locs hp_36 hz_37 hk_38 hS => ?_) (fun Ex qx cx H_39 locs hp_36 hz_37 hk_38 hS hcx hvx hlx => ?_)
      · skip
        obtain ⟨rfl, rfl, hbt_40⟩ := hp_36
        refine r_stk (st2 := []) rfl ?_
        have hE_42 := h_st.ext (fp_X.no hz_24 hk_25)
        have hedl := hE_42.2.1.2.2.1
        have hlll := hkl.1.lt
        have hzll := hkz.lt
        have htll := hkt.lt
        refine lv_aload_n hx hb dX1_setZone_21 rfl (lv_at hl 1 rfl) ?_
        have hE_43 := fp_At.kept h_pob (fp_keptS (by omega) hS (fun h => (hne_5) h.2))
        refine r_callV (cells1 := 3) (slots1 := 15) X hR (c_X1_beginChange_x G x u sv hi ip ln (er) (fa) l ed z t mc cap b S) q1252 q1254 qs23 q88 q1255 ⟨rfl, pd_X1_beginChange⟩ ⟨Nat.le_of_ble_eq_true rfl, Nat.le_of_ble_eq_true rfl⟩ rfl rfl (Nat.le_of_ble_eq_true rfl) (Nat.le_of_ble_eq_true rfl) hE_43 rfl rfl (Nat.le_of_ble_eq_true rfl) hl.1 dX1_setZone_22 (hB.of hS hAb) hE_43 hS (fun _ h => h.elim) (fun v H_47 locs hp_44 hz_45 hk_46 hS => ?_)
        obtain ⟨rfl, rfl⟩ := hp_44
        refine r_stk (st2 := []) rfl ?_
        obtain ⟨h_no, h_nl, h_nz, h_nt, h_nbl, h_nxb, h_nzb, h_ntb⟩ := id hE_42
        have lt_48 := h_nl.1.lt
        have lt_49 := h_nl.2.2
        have lt_50 := h_nz.lt
        have lt_51 := h_nt.lt
        have lt_52 := h_no.lt
        refine lv_aload_n hx hb dX1_setZone_25 rfl (lv_at hl 1 rfl) ?_
        refine r_get X hE_43 rfl in_X1 0 (by decide) q242 (Or.inl rfl) (v := .ref (u)) rfl dX1_setZone_26 ?_
        refine r_getN X h_no rfl in_X2 1 (by decide) q176 (Or.inl rfl) (v := .ref (z)) rfl dX1_setZone_29 ?_
        refine lv_iload_n hx hb dX1_setZone_32 rfl (lv_at hl 2 rfl) ?_
        refine r_aaldI X rfl h_nz (j := cn) rfl (by omega) (by decide) dX1_setZone_33 ?_
        refine r_set (y := .ref (fp_zad G (sZ S cn))) rfl ?_
        refine r_zletN X hB hAb hS (hsw.1.2.2.2.1 cn hcn) q2580 dX1_setZone_34 ?_
        have hzlb := fp_zlet_b (sZ S cn)
        refine lv_istore (lv' := [(4, .int (iI ((fp_zlet (sZ S cn) : Nat) : Int))), (3, .ref (fp_zad G zz)), (0, .ref (x)), (1, .int (iI ((cn : Nat) : Int))), (2, .int (iI (zl)))]) hx hb dX1_setZone_37 hl (by decide) rfl (fun ls hl => ?_)
        refine lv_aload_n hx hb dX1_setZone_39 rfl (lv_at hl 2 rfl) ?_
        refine r_get X hE_43 rfl in_X1 0 (by decide) q242 (Or.inl rfl) (v := .ref (u)) rfl dX1_setZone_40 ?_
        refine r_getN X h_no rfl in_X2 1 (by decide) q176 (Or.inl rfl) (v := .ref (z)) rfl dX1_setZone_43 ?_
        refine lv_iload_n hx hb dX1_setZone_46 rfl (lv_at hl 3 rfl) ?_
        refine lv_aload_n hx hb dX1_setZone_47 rfl (lv_at hl 1 rfl) ?_
        refine r_aastY X rfl h_nz hS (Or.inl ⟨by omega, rfl⟩) (X.2.2.2.2.2.zAny (hB.of hS hAb) (z := zz) (hzz)) (i0 := cn) rfl (by omega) (by decide) dX1_setZone_48 (fun H_56 locs hE_53 hz_54 hq_55 hS => ?_)
        have hz_57 := hS.1
        have hE_60 := fp_At.kept h_no (hq_55 _ (hne_9))
        have hE_62 := fp_LE.mv h_nl (hq_55 _ (hne_12)) (hq_55 _ (Ne.symm (hne_16)))
        have hE_64 := fp_At.kept h_nt (hq_55 _ (Ne.symm (hne_15)))
        have hE_66 := fp_BL.mv h_nbl (fun k hk => hq_55 _ (by have := hblne k hk; omega))
        have hst_58 : fp_SE G u l ed z t mc cap b (fp_setz S cn zz) H_56 := ⟨hE_60, hE_62, fp_At.cQ hE_53 (fun j _ => fp_setz_f (S := S) (c := cn) (z := zz) j), hE_64, hE_66, h_nxb, h_nzb, h_ntb⟩
        have lt_67 := hst_58.1.lt
        have hzt : (fp_zby zl).toNat = zz := by omega
        refine lv_iload hx hb dX1_setZone_49 (lv_at hl 0 rfl) ?_
        refine x_zret hx hb hr hlk hQ hS (Nat.le_of_ble_eq_true rfl) (Nat.le_of_ble_eq_true rfl) dX1_setZone_51 (iI_char ⟨by omega, by omega⟩) ?_
        exact ⟨rfl, (fp_cc_0 (by omega)), (by omega), (by rw [hzt]; exact hst_58)⟩
      · skip
        obtain ⟨rfl, hX9, hb9⟩ := hp_36
        cases hb9
  · skip
    obtain ⟨rfl, hX9, hb9⟩ := hp_18
    have hE_69 := h_st.ext hX9
    exact x_out hT hlk hQ hS (Nat.le_of_ble_eq_true rfl) (Nat.le_of_ble_eq_true rfl) hcx hvx hlx (Or.inl ⟨rfl, (fp_cc_1 hb9), hE_69⟩)
