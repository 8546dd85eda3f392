/-! THE PLANNER: changes -/
set_option maxRecDepth 100000
theorem fp_SE.nQ {G : fp_G} {U : State} (hK : fp_K G U) {x l ed z t : Nat} {mc : Int32} {cap : Nat} {b : Nat → Nat} {S : PS} {H : Heap} (h : fp_SE G x l ed z t mc cap b S H) {a n : Nat} {f : Nat → Option Nat} (ha : fp_At G H a (eQ G 4 n f)) (he : ed ≠ a) : fp_nS x l ed z t b (sN S) a := by
  obtain ⟨h1, h2, h3, h4, h5, -⟩ := h
  exact fp_nS.mk ⟨⟨fp_neOA hK (i := 2) (t := 4) rfl rfl h1 ha, fp_neOA hK (i := 8) (t := 4) rfl rfl h2.1 ha, he, fp_neAA hK (t := 5) (t2 := 4) rfl rfl (by decide) h3 ha, fp_neAA hK (t := 1) (t2 := 4) rfl rfl (by decide) h4 ha⟩, fun k hk => fp_neBA hK (t := 4) rfl (h5 k hk) ha⟩
/-- a is no cell of a copy, as far as it lies above the base -/
def fp_nT (G : fp_G) (x l ed z t : Nat) (b : Nat → Nat) (n a : Nat) : Prop := ∀ q, fp_isS x l ed z t b n q → (g_s G).heap.size ≤ q → q ≠ a
theorem fp_nS.t {G : fp_G} {x l ed z t n a : Nat} {b : Nat → Nat} (h : fp_nS x l ed z t b n a) : fp_nT G x l ed z t b n a := fun q hq _ => h q hq
theorem fp_nT.fresh {G : fp_G} {y l ed z t n a m : Nat} {b : Nat → Nat} (hf : m ≤ y ∧ m ≤ l ∧ m ≤ z ∧ m ≤ t) (he : ed = fp_de G ∨ m ≤ ed) (hd : fp_de G < (g_s G).heap.size) (ha : a < m) (hb : ∀ k, k < n → b k ≠ a) : fp_nT G y l ed z t b n a := by
  rintro q (rfl | rfl | rfl | rfl | rfl | ⟨k, hk, rfl⟩) hq
  · omega
  · omega
  · omega
  · omega
  · omega
  · exact hb k hk
def fp_qpush (q : Nat → Nat) (hn y : Nat) : Nat → Nat := if hn = 8 then (fun i => va_up q hn y (i + 1)) else va_up q hn y
theorem fp_qp_l {q : Nat → Nat} {hn y : Nat} (h : hn < 8) : fp_qpush q hn y = va_up q hn y ∧ fp_hn hn = hn + 1 := ⟨if_neg (by omega), if_neg (by omega)⟩
theorem fp_DQ.pl {G : fp_G} {x el hd hn y : Nat} {q : Nat → Nat} {H : Heap} (h : fp_DQ G x el hd (hn + 1) (va_up q hn y) H) (c : hn < 8) : fp_DQ G x el hd (fp_hn hn) (fp_qpush q hn y) H := by
  rw [(fp_qp_l (q := q) (y := y) c).1, (fp_qp_l (q := q) (y := y) c).2]
  exact h
theorem fp_DQ.p8 {G : fp_G} {x el hd hn y : Nat} {q : Nat → Nat} {H : Heap} (h : fp_DQ G x el hd (hn + 1 - 1) (fun i => va_up q hn y (i + 1)) H) (c : hn = 8) : fp_DQ G x el hd (fp_hn hn) (fp_qpush q hn y) H := by
  rw [show fp_hn hn = hn + 1 - 1 by rw [c]; rfl, show fp_qpush q hn y = fun i => va_up q hn y (i + 1) from if_pos c]
  exact h
theorem fp_SE.eo {G : fp_G} {x l ed z t : Nat} {mc : Int32} {cap : Nat} {b : Nat → Nat} {S : PS} {H : Heap} (h : fp_SE G x l ed z t mc cap b S H) : fp_EO G x H := ⟨2, _, by decide, h.1⟩
theorem fp_nS.ed2 {x l ed ed2 z t n a m : Nat} {b : Nat → Nat} (h : fp_nS x l ed z t b n a) (he : ed2 = ed ∨ m ≤ ed2) (ha : a < m) : fp_nS x l ed2 z t b n a := by
  rintro q (rfl | rfl | rfl | rfl | rfl | ⟨k, hk, rfl⟩)
  · exact h _ (Or.inl rfl)
  · exact h _ (Or.inr (Or.inl rfl))
  · rcases he with rfl | he
    · exact h _ (Or.inr (Or.inr (Or.inl rfl)))
    · omega
  · exact h _ (Or.inr (Or.inr (Or.inr (Or.inl rfl))))
  · exact h _ (Or.inr (Or.inr (Or.inr (Or.inr (Or.inl rfl)))))
  · exact h _ (Or.inr (Or.inr (Or.inr (Or.inr (Or.inr ⟨k, hk, rfl⟩)))))
theorem fp_plc_22 {S : PS} {kd : Nat} {l w wt : Int} (h0 : fp_plc S kd l w wt ≠ 0) (h1 : fp_plc S kd l w wt ≠ 1) : fp_plc S kd l w wt = 2 := by
  unfold fp_plc at h0 h1 ⊢
  split at h0
  · rename_i c
    rw [if_pos c] at h1
    exact absurd rfl h1
  · rename_i c
    rw [if_neg c]
    split at h0
    · rename_i c2
      rw [if_pos c2]
    · rename_i c2
      rw [if_neg c2]
      split at h0
      · rename_i c3
        rw [if_pos c3]
      · exact absurd rfl h0
theorem fp_neBe {G : fp_G} {U : State} (hK : fp_K G U) {H : Heap} {a c : Nat} {n : Nat} {B : Nat → Nat} {f : Nat → Option Nat} (h : fp_At G H a (fp_bE B)) (h2 : fp_At G H c (eQ G 4 n f)) : a ≠ c := fp_neBA hK (t := 4) rfl h h2
theorem fp_BL.del {G : fp_G} {S : PS} {b : Nat → Nat} {i : Nat} {H : Heap} (h : fp_BL G (sN S) b (sB S) H) : fp_BL G (sN (fp_del S i)) (fp_rem b i) (sB (fp_del S i)) H := fun k hk => by
  have hk' : k < sN S - 1 := hk
  show fp_At G H (if k < i then b k else b (k + 1)) (fp_bE (if k < i then sB S k else sB S (k + 1)))
  split
  · exact h k (by omega)
  · exact h (k + 1) (by omega)
theorem fp_nT.p {G : fp_G} {x l ed z t n a : Nat} {b : Nat → Nat} (h : fp_nT G x l ed z t b n a) (hb : (g_s G).heap.size ≤ a) : ∀ q, fp_isS x l ed z t b n q → q ≠ a := fun q hq => by
  by_cases c : (g_s G).heap.size ≤ q
  · exact h q hq c
  · omega
theorem fp_bIt {n : Nat} (h : n < 2) : bI (decide (n = 1)) = ((n : Nat) : Int) := by
  rcases (show n = 0 ∨ n = 1 by omega) with rfl | rfl <;> rfl
theorem fp_sw.t {S : PS} {b : Nat → Nat} {c v : Nat} (h : fp_sw S b) (hv : v < 2) : fp_sw (fp_sett S c v) b := ⟨⟨h.1.1, h.1.2.1, h.1.2.2.1, h.1.2.2.2.1, fun j hj => by
  show va_up (sT S) c v j < 2
  by_cases e : j = c
  · rw [e, va_up_self]; exact hv
  · rw [va_up_ne _ _ e]; exact h.1.2.2.2.2 j hj⟩, h.2⟩
theorem fp_sett_f {S : PS} {c v : Nat} {w : Bool} (hw : w = decide (v = 1)) (j : Nat) : va_up (fun j => decide (sT S j = 1)) c w j = decide (sT (fp_sett S c v) j = 1) := by
  show _ = decide (va_up (sT S) c v j = 1)
  by_cases e : j = c
  · rw [e, va_up_self, va_up_self, hw]
  · rw [va_up_ne _ _ e, va_up_ne _ _ e]

set_option maxRecDepth 100000
set_option maxHeartbeats 4000000 in
theorem c_X1_beginChange (G : fp_G) (x : Nat) (u : Nat) (sv : Value) (hi : Nat) (ip : Nat) (ln : Nat) (er : Int) (fa : Int) (l : Nat) (ed : Nat) (z : Nat) (t : Nat) (mc : Int32) (cap : Nat) (b : Nat → Nat) (S : PS) (el : Nat) (hd : Nat) (hn : Nat) (q : Nat → Nat) (hsw : fp_sw S b) (hxb : (g_s G).heap.size ≤ x) (hh8 : hn ≤ 8) (hde : fp_dif ed el) : fp_M G yX1_beginChange cX1_beginChange 1 none 9 214 9 149 [.ref (x)] (fun H => fp_At G H x (eO 1 [.ref (u), sv, .ref (hi), .ref (ip), .ref (ln), .int (iI (bI (false))), .int (iI (er)), .int (iI (fa))]) ∧ fp_SE G u l ed z t mc cap b S H ∧ fp_DQ G hi el hd hn q H) (fun q => (g_s G).heap.size ≤ q ∧ (q = hi ∨ q = el)) (fun H v H1 => ∃ (hd2 : Nat), ∃ (y9 : Nat), ∃ (l9 : Nat), ∃ (e9 : Nat), ∃ (z9 : Nat), ∃ (t9 : Nat), ∃ (m9 : Int32), ∃ (c9 : Nat), v = none ∧ (H.size ≤ y9 ∧ H.size ≤ l9 ∧ H.size ≤ z9 ∧ H.size ≤ t9) ∧ (e9 = fp_de G ∨ H.size ≤ e9) ∧ fp_DQ G hi el hd2 (fp_hn hn) (fp_qpush q hn y9) H1 ∧ fp_SE G y9 l9 e9 z9 t9 m9 c9 b S H1) := by
  refine fp_M.intro (by decide) (Nat.le_of_ble_eq_true rfl) ?_
  intro pg en s mi ag bl mt cd rR qQ ls X hx hb hr hlk hnm hR hQ hB hM hl
  have hS : va_S (fA (fun q => (g_s G).heap.size ≤ q ∧ (q = hi ∨ q = el)) s.heap.size) s.heap s.heap [] := va_S.rf
  generalize ([] : List Loc) = locs at hS ⊢
  have hb0 := hB.1
  have hAb : ∀ q, (fun q => (g_s G).heap.size ≤ q ∧ (q = hi ∨ q = el)) q → (g_s G).heap.size ≤ q := fun q h => h.1
  obtain ⟨h_pob, h_st, h_dq⟩ := hM
  have hsz0 := hS.1
  have lt_1 := h_pob.lt
  have lt_2 := h_st.1.lt
  have lt_3 := h_dq.1.lt
  have lt_4 := h_dq.2.2.1.1
  have hn24 := hsw.1.1
  have hed0 := (X.2.2.2.2.2.deT (A := fp_no) hB fp_no.base).2.2
  obtain ⟨hku, hkl, hkz, hkt, hkb, hxb9, hzb9, htb9⟩ := id h_st
  have hlb9 := hkl.2.2.2
  obtain ⟨hdo, ⟨fdq, hdr, -⟩, hdq9, hdb1, hdb2⟩ := id h_dq
  have hdlt := hdo.lt
  have hnSh := fp_SE.nO X.2.2.2.2.2 hed0 h_st (j := 10) rfl ⟨by decide, by decide, by decide, by decide, by decide⟩ hdo hdb1
  have hnSe := fp_SE.nQ X.2.2.2.2.2 h_st hdr hde
  have hne_5 : fp_dif x hi := fp_neOO X.2.2.2.2.2 (i := 1) (j := 10) rfl rfl (by decide) h_pob hdo
  have hne_6 : fp_dif x el := fp_neOA X.2.2.2.2.2 (i := 1) (t := 4) rfl rfl h_pob hdr
  have hne_7 : fp_dif x u := fp_neOO X.2.2.2.2.2 (i := 1) (j := 2) rfl rfl (by decide) h_pob hku
  have hne_8 : fp_dif x l := fp_neOO X.2.2.2.2.2 (i := 1) (j := 8) rfl rfl (by decide) h_pob hkl.1
  have hne_9 : fp_dif x z := fp_neOA X.2.2.2.2.2 (i := 1) (t := 5) rfl rfl h_pob hkz
  have hne_10 : fp_dif x t := fp_neOA X.2.2.2.2.2 (i := 1) (t := 1) rfl rfl h_pob hkt
  have hne_11 : fp_dif hi el := fp_neOA X.2.2.2.2.2 (i := 10) (t := 4) rfl rfl hdo hdr
  have hne_12 : fp_dif hi u := fp_neOO X.2.2.2.2.2 (i := 10) (j := 2) rfl rfl (by decide) hdo hku
  have hne_13 : fp_dif hi l := fp_neOO X.2.2.2.2.2 (i := 10) (j := 8) rfl rfl (by decide) hdo hkl.1
  have hne_14 : fp_dif hi z := fp_neOA X.2.2.2.2.2 (i := 10) (t := 5) rfl rfl hdo hkz
  have hne_15 : fp_dif hi t := fp_neOA X.2.2.2.2.2 (i := 10) (t := 1) rfl rfl hdo hkt
  have hne_16 : fp_dif el u := Ne.symm (fp_neOA X.2.2.2.2.2 (i := 2) (t := 4) rfl rfl hku hdr)
  have hne_17 : fp_dif el l := Ne.symm (fp_neOA X.2.2.2.2.2 (i := 8) (t := 4) rfl rfl hkl.1 hdr)
  have hne_18 : fp_dif el z := fp_neAA X.2.2.2.2.2 (t := 4) (t2 := 5) rfl rfl (by decide) hdr hkz
  have hne_19 : fp_dif el t := fp_neAA X.2.2.2.2.2 (t := 4) (t2 := 1) rfl rfl (by decide) hdr hkt
  have hne_20 : fp_dif u l := fp_neOO X.2.2.2.2.2 (i := 2) (j := 8) rfl rfl (by decide) hku hkl.1
  have hne_21 : fp_dif u z := fp_neOA X.2.2.2.2.2 (i := 2) (t := 5) rfl rfl hku hkz
  have hne_22 : fp_dif u t := fp_neOA X.2.2.2.2.2 (i := 2) (t := 1) rfl rfl hku hkt
  have hne_23 : fp_dif l z := fp_neOA X.2.2.2.2.2 (i := 8) (t := 5) rfl rfl hkl.1 hkz
  have hne_24 : fp_dif l t := fp_neOA X.2.2.2.2.2 (i := 8) (t := 1) rfl rfl hkl.1 hkt
  have hne_25 : fp_dif z t := fp_neAA X.2.2.2.2.2 (t := 5) (t2 := 1) rfl rfl (by decide) hkz hkt
  have hneh : fp_dif hi ed := Ne.symm (hnSh ed (Or.inr (Or.inr (Or.inl rfl))))
  refine lv_aload_n hx hb dX1_beginChange_0 rfl (lv_at hl 0 rfl) ?_
  refine r_get X h_pob rfl in_X1 5 (by decide) q247 (Or.inl rfl) (v := .int (iI (bI (false)))) rfl dX1_beginChange_1 ?_
  refine r_ifeqB (tgt := 8) hx hb dX1_beginChange_4 (by decide) (fun c4 => ?_) (fun c4 => ?_)
  · skip
    refine lv_aload_n hx hb dX1_beginChange_8 rfl (lv_at hl 0 rfl) ?_
    refine r_get X h_pob rfl in_X1 2 (by decide) q244 (Or.inl rfl) (v := .ref (hi)) rfl dX1_beginChange_9 ?_
    refine lv_aload_n hx hb dX1_beginChange_12 rfl (lv_at hl 0 rfl) ?_
    refine r_get X h_pob rfl in_X1 0 (by decide) q242 (Or.inl rfl) (v := .ref (u)) rfl dX1_beginChange_13 ?_
    refine r_callV (cells1 := 9) (slots1 := 149) X hR (c_X2_copy G u l ed z t mc cap b S hsw) q1095 q1096 q1097 q89 q1098 ⟨rfl, pd_X2_copy⟩ ⟨Nat.le_of_ble_eq_true rfl, Nat.le_of_ble_eq_true rfl⟩ rfl rfl (Nat.le_of_ble_eq_true rfl) (Nat.le_of_ble_eq_true rfl) h_st.1 rfl rfl (Nat.le_of_ble_eq_true rfl) hl.1 dX1_beginChange_16 (hB.of hS hAb) h_st hS (fun _ h => h.elim) (fun v H_29 locs hp_26 hz_27 hk_28 hS => ?_)
    obtain ⟨y9, l9, e9, z9, t9, m9, c9, rfl, hy_30, hed2_31, hE_32⟩ := hp_26
    have hz_33 := hS.1
    have lt_35 := hE_32.1.lt
    refine r_stk (st2 := [.ref (y9), .ref (hi)]) rfl ?_
    have hcf9 : s.heap.size ≤ y9 ∧ s.heap.size ≤ l9 ∧ s.heap.size ≤ z9 ∧ s.heap.size ≤ t9 := by omega
    have hce9 : e9 = fp_de G ∨ s.heap.size ≤ e9 := by omega
    have hnTh : fp_nT G y9 l9 e9 z9 t9 b (sN S) hi := fp_nT.fresh hcf9 hce9 hed0 (by omega) (fun k hk => hnSh (b k) (Or.inr (Or.inr (Or.inr (Or.inr (Or.inr ⟨k, hk, rfl⟩))))))
    have hnTe : fp_nT G y9 l9 e9 z9 t9 b (sN S) el := fp_nT.fresh hcf9 hce9 hed0 (by omega) (fun k hk => hnSe (b k) (Or.inr (Or.inr (Or.inr (Or.inr (Or.inr ⟨k, hk, rfl⟩))))))
    have heo_36 := fp_SE.eo hE_32
    have lt_37 := fp_el.lt heo_36
    have hE_39 := h_dq.ext (fp_X.no hz_27 hk_28)
    refine r_callV (cells1 := 9) (slots1 := 149) X hR (c_J4_addLast G hi el hd hn q y9 (by omega)) q1256 q1257 q1258 q95 q1259 ⟨rfl, pd_J4_addLast⟩ ⟨Nat.le_of_ble_eq_true rfl, Nat.le_of_ble_eq_true rfl⟩ rfl rfl (Nat.le_of_ble_eq_true rfl) (Nat.le_of_ble_eq_true rfl) hE_39.1 rfl rfl (Nat.le_of_ble_eq_true rfl) hl.1 dX1_beginChange_19 (hB.of hS hAb) ⟨hE_39, heo_36⟩ hS (fun q h => by have h2 : (g_s G).heap.size ≤ q ∧ (q = hi ∨ q = el) := h; show ((g_s G).heap.size ≤ q ∧ (q = hi ∨ q = el)) ∨ s.heap.size ≤ q; omega) (fun v H_43 locs hp_40 hz_41 hk_42 hS => ?_)
    obtain ⟨rfl, hE_44⟩ := hp_40
    have hz_45 := hS.1
    have lt_46 := hE_44.1.lt
    have lt_47 := hE_44.2.2.1.1
    refine r_stk (st2 := []) rfl ?_
    refine lv_aload_n hx hb dX1_beginChange_22 rfl (lv_at hl 0 rfl) ?_
    have hE_48 := fp_At.kept h_pob (fp_keptS (by omega) hS (fun h => (fun h => h.elim (hne_5) (hne_6)) h.2))
    refine r_get X hE_48 rfl in_X1 2 (by decide) q244 (Or.inl rfl) (v := .ref (hi)) rfl dX1_beginChange_23 ?_
    refine r_callV (cells1 := 9) (slots1 := 149) X hR (c_J4_size G hi el hd (hn + 1) (va_up q hn y9)) q1084 q1085 q1086 q95 q1087 ⟨rfl, pd_J4_size⟩ ⟨Nat.le_of_ble_eq_true rfl, Nat.le_of_ble_eq_true rfl⟩ rfl rfl (Nat.le_of_ble_eq_true rfl) (Nat.le_of_ble_eq_true rfl) hE_44.1 rfl rfl (Nat.le_of_ble_eq_true rfl) hl.1 dX1_beginChange_26 (hB.of hS hAb) hE_44 hS (fun _ h => h.elim) (fun v H_52 locs hp_49 hz_50 hk_51 hS => ?_)
    obtain ⟨rfl, rfl⟩ := hp_49
    refine r_stk (st2 := [.int (iI (((hn + 1) : Nat) : Int))]) rfl ?_
    refine lv_bipush (v := (iI ((8 : Nat) : Int))) hx hb dX1_beginChange_29 rfl ?_
    refine r_icmp_le (tgt := 42) hx hb ⟨by omega, by omega⟩ (by decide) dX1_beginChange_31 (by decide) (fun c31 => ?_) (fun c31 => ?_)
    · skip
      refine r_vret hx hb hr hlk hQ hS (Nat.le_of_ble_eq_true rfl) (Nat.le_of_ble_eq_true rfl) dX1_beginChange_42 ?_
      have hE_54 := fp_SE.mvA hE_32 (fun q9 hq9 hs9 => hk_42 _ hq9 (fun h8 => (fun h9 => h9.elim (hnTh q9 hs9 h8.1) (hnTe q9 hs9 h8.1)) h8.2))
      exact ⟨hd, y9, l9, e9, z9, t9, m9, c9, rfl, hcf9, hce9, (fp_DQ.pl hE_44 (by omega)), hE_54⟩
    · skip
      refine lv_aload_n hx hb dX1_beginChange_34 rfl (lv_at hl 0 rfl) ?_
      refine r_get X hE_48 rfl in_X1 2 (by decide) q244 (Or.inl rfl) (v := .ref (hi)) rfl dX1_beginChange_35 ?_
      refine r_callV (cells1 := 9) (slots1 := 149) X hR (c_J4_removeFirst G hi el hd (hn + 1) (va_up q hn y9) (by omega)) q1281 q1282 q1283 q95 q1284 ⟨rfl, pd_J4_removeFirst⟩ ⟨Nat.le_of_ble_eq_true rfl, Nat.le_of_ble_eq_true rfl⟩ rfl rfl (Nat.le_of_ble_eq_true rfl) (Nat.le_of_ble_eq_true rfl) hE_44.1 rfl rfl (Nat.le_of_ble_eq_true rfl) hl.1 dX1_beginChange_38 (hB.of hS hAb) hE_44 hS (fun q h => by have h2 : (g_s G).heap.size ≤ q ∧ (q = hi ∨ q = el) := h; show ((g_s G).heap.size ≤ q ∧ (q = hi ∨ q = el)) ∨ s.heap.size ≤ q; omega) (fun v H_58 locs hp_55 hz_56 hk_57 hS => ?_)
      obtain ⟨rfl, hE_59⟩ := hp_55
      have hz_60 := hS.1
      have lt_61 := hE_59.1.lt
      have lt_62 := hE_59.2.2.1.1
      refine r_stk (st2 := [.ref ((va_up q hn y9) 0)]) rfl ?_
      refine lv_pop hx hb dX1_beginChange_41 rfl ?_
      refine r_vret hx hb hr hlk hQ hS (Nat.le_of_ble_eq_true rfl) (Nat.le_of_ble_eq_true rfl) dX1_beginChange_42 ?_
      have hE_64 := fp_SE.mvA hE_32 (fun q9 hq9 hs9 => hk_42 _ hq9 (fun h8 => (fun h9 => h9.elim (hnTh q9 hs9 h8.1) (hnTe q9 hs9 h8.1)) h8.2))
      have hE_65 := fp_SE.mvA hE_64 (fun q9 hq9 hs9 => hk_57 _ hq9 (fun h8 => (fun h9 => h9.elim (hnTh q9 hs9 h8.1) (hnTe q9 hs9 h8.1)) h8.2))
      exact ⟨((hd + 1) % 17), y9, l9, e9, z9, t9, m9, c9, rfl, hcf9, hce9, (fp_DQ.p8 hE_59 (by omega)), hE_65⟩
  · exact absurd c4 (by decide)
set_option maxHeartbeats 4000000 in
theorem c_X1_beginChange_x (G : fp_G) (x : Nat) (u : Nat) (sv : Value) (hi : Nat) (ip : Nat) (ln : Nat) (er : Int) (fa : Int) (l : Nat) (ed : Nat) (z : Nat) (t : Nat) (mc : Int32) (cap : Nat) (b : Nat → Nat) (S : PS) : fp_M G yX1_beginChange cX1_beginChange 1 none 1 12 0 0 [.ref (x)] (fun H => fp_At G H x (eO 1 [.ref (u), sv, .ref (hi), .ref (ip), .ref (ln), .int (iI (bI (true))), .int (iI (er)), .int (iI (fa))])) fp_no (fun H v H1 => v = none ∧ H = H1) := by
  refine fp_M.intro (by decide) (Nat.le_of_ble_eq_true rfl) ?_
  intro pg en s mi ag bl mt cd rR qQ ls X hx hb hr hlk hnm hR hQ hB hM hl
  have hS : va_S (fA fp_no s.heap.size) s.heap s.heap [] := va_S.rf
  generalize ([] : List Loc) = locs at hS ⊢
  have hb0 := hB.1
  have h_pob := hM
  have hsz0 := hS.1
  have lt_1 := h_pob.lt
  refine lv_aload_n hx hb dX1_beginChange_0 rfl (lv_at hl 0 rfl) ?_
  refine r_get X h_pob rfl in_X1 5 (by decide) q247 (Or.inl rfl) (v := .int (iI (bI (true)))) rfl dX1_beginChange_1 ?_
  refine r_ifeqB (tgt := 8) hx hb dX1_beginChange_4 (by decide) (fun c4 => ?_) (fun c4 => ?_)
  · exact absurd c4 (by decide)
  · skip
    refine r_vret hx hb hr hlk hQ hS (Nat.le_of_ble_eq_true rfl) (Nat.le_of_ble_eq_true rfl) dX1_beginChange_7 ?_
    exact ⟨rfl, rfl⟩
set_option maxHeartbeats 4000000 in
theorem c_X1_place (G : fp_G) (x : Nat) (u : Nat) (sv : Value) (hi : Nat) (ip : Nat) (ln : Nat) (er : Int) (fa : Int) (l : Nat) (ed : Nat) (z : Nat) (t : Nat) (mc : Int32) (cap : Nat) (b : Nat → Nat) (S : PS) (el : Nat) (hd : Nat) (hn : Nat) (q : Nat → Nat) (kd : Nat) (lc : Int) (wd : Int) (wt : Int) (hsw : fp_sw S b) (hxb : (g_s G).heap.size ≤ x) (hkd : kd < 3) (hlc : rg lc) (hwd : rg wd) (hwt : rg wt) (hiv : fp_Iv S) (hp9 : sP S < 999) (hh8 : hn ≤ 8) (hde : fp_dif ed el) : fp_MX G yX1_place cX1_place 6 (some .int) 12 289 165 3215 [.ref (x), .int (iI ((fp_sgn kd : Nat) : Int)), .int (iI (lc)), .int (iI (wd)), .int (iI (wt))] (fun H => fp_At G H x (eO 1 [.ref (u), sv, .ref (hi), .ref (ip), .ref (ln), .int (iI (bI (false))), .int (iI (er)), .int (iI (fa))]) ∧ fp_SE G u l ed z t mc cap b S H ∧ fp_DQ G hi el hd hn q H) (fun q => (g_s G).heap.size ≤ q ∧ (q = u ∨ q = l ∨ q = ed ∨ q = hi ∨ q = el)) (fun H v H1 => ∃ (ed2 : Nat), ∃ (mc2 : Int32), ∃ (cap2 : Nat), ∃ (nb : Nat), ∃ (hd2 : Nat), ∃ (y9 : Nat), ∃ (l9 : Nat), ∃ (e9 : Nat), ∃ (z9 : Nat), ∃ (t9 : Nat), ∃ (m9 : Int32), ∃ (c9 : Nat), v = some (.int (iI ((sP S : Nat) : Int))) ∧ (fp_plc S kd lc wd wt = 0) ∧ (ed2 = ed ∨ H.size ≤ ed2) ∧ (H.size ≤ nb) ∧ (H.size ≤ y9 ∧ H.size ≤ l9 ∧ H.size ≤ z9 ∧ H.size ≤ t9) ∧ (e9 = fp_de G ∨ H.size ≤ e9) ∧ (e9 = fp_de G ∨ fp_dif e9 ed2) ∧ fp_SE G u l ed2 z t mc2 cap2 (va_up b (sN S) nb) (fp_add S kd lc.toNat wd.toNat wt.toNat) H1 ∧ fp_DQ G hi el hd2 (fp_hn hn) (fp_qpush q hn y9) H1 ∧ fp_SE G y9 l9 e9 z9 t9 m9 c9 b S H1) (fun H E H1 => (E = "java/lang/IllegalArgumentException" ∧ ((fp_plc S kd lc wd wt = 1) ∧ fp_SE G u l ed z t mc cap b S H1 ∧ fp_DQ G hi el hd hn q H1)) ∨ (E = "java/lang/IllegalStateException" ∧ (∃ (ed2 : Nat), ∃ (mc2 : Int32), ∃ (cap2 : Nat), (ed2 = ed ∨ H.size ≤ ed2) ∧ (fp_plc S kd lc wd wt = 2) ∧ fp_SE G u l ed2 z t mc2 cap2 b S H1 ∧ fp_DQ G hi el hd hn q H1))) := by
  refine fp_MX.intro (by decide) (Nat.le_of_ble_eq_true rfl) ?_
  intro pg en s mi ag bl mt cd rR qQ ls X hx hb hr hlk hnm hR hQ hT hB hM hl
  have hS : va_S (fA (fun q => (g_s G).heap.size ≤ q ∧ (q = u ∨ q = l ∨ q = ed ∨ q = hi ∨ q = el)) s.heap.size) s.heap s.heap [] := va_S.rf
  generalize ([] : List Loc) = locs at hS ⊢
  have hb0 := hB.1
  have hAb : ∀ q, (fun q => (g_s G).heap.size ≤ q ∧ (q = u ∨ q = l ∨ q = ed ∨ q = hi ∨ q = el)) q → (g_s G).heap.size ≤ q := fun q h => h.1
  obtain ⟨h_pob, h_st, h_dq⟩ := hM
  have hsz0 := hS.1
  have lt_1 := h_pob.lt
  have lt_2 := h_st.1.lt
  have lt_3 := h_dq.1.lt
  have lt_4 := h_dq.2.2.1.1
  have hn24 := hsw.1.1
  have hed0 := (X.2.2.2.2.2.deT (A := fp_no) hB fp_no.base).2.2
  obtain ⟨hku, hkl, hkz, hkt, hkb, hxb9, hzb9, htb9⟩ := id h_st
  have hlb9 := hkl.2.2.2
  obtain ⟨hdo, ⟨fdq, hdr, -⟩, hdq9, hdb1, hdb2⟩ := id h_dq
  have hdlt := hdo.lt
  have hnSh := fp_SE.nO X.2.2.2.2.2 hed0 h_st (j := 10) rfl ⟨by decide, by decide, by decide, by decide, by decide⟩ hdo hdb1
  have hnSe := fp_SE.nQ X.2.2.2.2.2 h_st hdr hde
  have hnel : fp_dif el ed := Ne.symm hde
  have hne_5 : fp_dif x u := fp_neOO X.2.2.2.2.2 (i := 1) (j := 2) rfl rfl (by decide) h_pob hku
  have hne_6 : fp_dif x l := fp_neOO X.2.2.2.2.2 (i := 1) (j := 8) rfl rfl (by decide) h_pob hkl.1
  have hne_7 : fp_dif x z := fp_neOA X.2.2.2.2.2 (i := 1) (t := 5) rfl rfl h_pob hkz
  have hne_8 : fp_dif x t := fp_neOA X.2.2.2.2.2 (i := 1) (t := 1) rfl rfl h_pob hkt
  have hne_9 : fp_dif x hi := fp_neOO X.2.2.2.2.2 (i := 1) (j := 10) rfl rfl (by decide) h_pob hdo
  have hne_10 : fp_dif x el := fp_neOA X.2.2.2.2.2 (i := 1) (t := 4) rfl rfl h_pob hdr
  have hne_11 : fp_dif x ed := fp_LE.neE hkl hed0 (by omega) (fun f9 h9 => fp_neOA X.2.2.2.2.2 (i := 1) (t := 4) rfl rfl h_pob h9)
  have hne_12 : fp_dif u l := fp_neOO X.2.2.2.2.2 (i := 2) (j := 8) rfl rfl (by decide) hku hkl.1
  have hne_13 : fp_dif u z := fp_neOA X.2.2.2.2.2 (i := 2) (t := 5) rfl rfl hku hkz
  have hne_14 : fp_dif u t := fp_neOA X.2.2.2.2.2 (i := 2) (t := 1) rfl rfl hku hkt
  have hne_15 : fp_dif u hi := fp_neOO X.2.2.2.2.2 (i := 2) (j := 10) rfl rfl (by decide) hku hdo
  have hne_16 : fp_dif u el := fp_neOA X.2.2.2.2.2 (i := 2) (t := 4) rfl rfl hku hdr
  have hne_17 : fp_dif u ed := fp_LE.neE hkl hed0 (by omega) (fun f9 h9 => fp_neOA X.2.2.2.2.2 (i := 2) (t := 4) rfl rfl hku h9)
  have hne_18 : fp_dif l z := fp_neOA X.2.2.2.2.2 (i := 8) (t := 5) rfl rfl hkl.1 hkz
  have hne_19 : fp_dif l t := fp_neOA X.2.2.2.2.2 (i := 8) (t := 1) rfl rfl hkl.1 hkt
  have hne_20 : fp_dif l hi := fp_neOO X.2.2.2.2.2 (i := 8) (j := 10) rfl rfl (by decide) hkl.1 hdo
  have hne_21 : fp_dif l el := fp_neOA X.2.2.2.2.2 (i := 8) (t := 4) rfl rfl hkl.1 hdr
  have hne_22 : fp_dif l ed := fp_LE.neE hkl hed0 (by omega) (fun f9 h9 => fp_neOA X.2.2.2.2.2 (i := 8) (t := 4) rfl rfl hkl.1 h9)
  have hne_23 : fp_dif z t := fp_neAA X.2.2.2.2.2 (t := 5) (t2 := 1) rfl rfl (by decide) hkz hkt
  have hne_24 : fp_dif z hi := Ne.symm (fp_neOA X.2.2.2.2.2 (i := 10) (t := 5) rfl rfl hdo hkz)
  have hne_25 : fp_dif z el := fp_neAA X.2.2.2.2.2 (t := 5) (t2 := 4) rfl rfl (by decide) hkz hdr
  have hne_26 : fp_dif z ed := fp_LE.neE hkl hed0 (by omega) (fun f9 h9 => fp_neAA X.2.2.2.2.2 (t := 5) (t2 := 4) rfl rfl (by decide) hkz h9)
  have hne_27 : fp_dif t hi := Ne.symm (fp_neOA X.2.2.2.2.2 (i := 10) (t := 1) rfl rfl hdo hkt)
  have hne_28 : fp_dif t el := fp_neAA X.2.2.2.2.2 (t := 1) (t2 := 4) rfl rfl (by decide) hkt hdr
  have hne_29 : fp_dif t ed := fp_LE.neE hkl hed0 (by omega) (fun f9 h9 => fp_neAA X.2.2.2.2.2 (t := 1) (t2 := 4) rfl rfl (by decide) hkt h9)
  have hne_30 : fp_dif hi el := fp_neOA X.2.2.2.2.2 (i := 10) (t := 4) rfl rfl hdo hdr
  have hne_31 : fp_dif hi ed := fp_LE.neE hkl hed0 (by omega) (fun f9 h9 => fp_neOA X.2.2.2.2.2 (i := 10) (t := 4) rfl rfl hdo h9)
  have hap0 := (fp_SE.dis X.2.2.2.2.2 hed0 h_st).2
  refine lv_iload_n hx hb dX1_place_0 rfl (lv_at hl 2 rfl) ?_
  refine lv_iload_n hx hb dX1_place_1 rfl (lv_at hl 3 rfl) ?_
  refine lv_iload hx hb dX1_place_2 (lv_at hl 4 rfl) ?_
  refine x_callS (cells1 := 2) (slots1 := 12) X hR (c_X1_checkBlock G (lc) (wd) (wt) (⟨by omega, by omega⟩) (⟨by omega, by omega⟩) (⟨by omega, by omega⟩)) q1122 q1123 q88 q1124 pd_X1_checkBlock ⟨Nat.le_of_ble_eq_true rfl, Nat.le_of_ble_eq_true rfl⟩ rfl rfl (Nat.le_of_ble_eq_true rfl) (Nat.le_of_ble_eq_true rfl) rfl (Nat.le_of_ble_eq_true rfl) hl.1 dX1_place_4 (hB.of hS hAb) trivial hS (fun _ h => h.elim) (fun v H_35 locs hp_32 hz_33 hk_34 hS => ?_) (fun Ex qx cx H_35 locs hp_32 hz_33 hk_34 hS hcx hvx hlx => ?_)
  · skip
    obtain ⟨rfl, hpl_36, hw9_37, rfl⟩ := hp_32
    refine r_stk (st2 := []) rfl ?_
    obtain ⟨lcn, wdn, rfl, rfl, hlw1, hlw2⟩ := fp_place_n hpl_36
    obtain ⟨wtn, rfl⟩ : ∃ wtn : Nat, wt = ((wtn : Nat) : Int) := ⟨wt.toNat, by have := hw9_37; omega⟩
    have hw91 := hw9_37
    have hpl9 := hpl_36
    have hpl0 := hlw2
    refine lv_aload_n hx hb dX1_place_7 rfl (lv_at hl 0 rfl) ?_
    refine r_get X h_pob rfl in_X1 0 (by decide) q242 (Or.inl rfl) (v := .ref (u)) rfl dX1_place_8 ?_
    refine lv_iload_n hx hb dX1_place_11 rfl (lv_at hl 1 rfl) ?_
    refine lv_iload_n hx hb dX1_place_12 rfl (lv_at hl 2 rfl) ?_
    refine lv_iload_n hx hb dX1_place_13 rfl (lv_at hl 3 rfl) ?_
    refine lv_iload hx hb dX1_place_14 (lv_at hl 4 rfl) ?_
    have hbkn := fp_blk_k (kd := kd) (l := lcn) (w := wdn) (wt := wtn) hiv.1 (by omega) hkd ⟨hlw1, hlw2⟩ ⟨by omega, by omega⟩
    have hbk := hbkn
    refine r_callV (cells1 := 8) (slots1 := 38) X hR (c_X2_prepare G u l ed z t mc cap b S kd lcn wdn wtn hsw hkd (by omega) (by omega) (by omega)) q1137 q1138 q1139 q89 q1140 ⟨rfl, pd_X2_prepare⟩ ⟨Nat.le_of_ble_eq_true rfl, Nat.le_of_ble_eq_true rfl⟩ rfl rfl (Nat.le_of_ble_eq_true rfl) (Nat.le_of_ble_eq_true rfl) h_st.1 rfl rfl (Nat.le_of_ble_eq_true rfl) hl.1 dX1_place_16 (hB.of hS hAb) h_st hS (fun _ h => h.elim) (fun v H_41 locs hp_38 hz_39 hk_40 hS => ?_)
    obtain ⟨nb, rfl, hq_42, hE_43⟩ := hp_38
    have hz_44 := hS.1
    have lt_46 := hE_43.lt
    refine r_stk (st2 := [.ref (nb)]) rfl ?_
    have hE_48 := h_st.ext (fp_X.no hz_39 hk_40)
    have hqd := fp_SE.disB X.2.2.2.2.2 hed0 hE_48 hE_43 (by omega)
    have hneb_49 : fp_dif nb u := hqd.1
    have hneb_50 : fp_dif nb l := hqd.2.1
    have hneb_51 : fp_dif nb ed := hqd.2.2.1
    have hneb_52 : fp_dif nb z := hqd.2.2.2.1
    have hneb_53 : fp_dif nb t := hqd.2.2.2.2
    have hE_55 := h_dq.ext (fp_X.no hz_39 hk_40)
    have hneb_56 : fp_dif nb hi := fp_neBO X.2.2.2.2.2 (j := 10) rfl (by decide) (by decide) (by decide) hE_43 hE_55.1
    have hneb_57 : fp_dif nb el := by obtain ⟨-, ⟨f9, h9, -⟩, -⟩ := hE_55; exact fp_neBe X.2.2.2.2.2 hE_43 h9
    refine lv_astore (lv' := [(5, .ref (nb)), (0, .ref (x)), (1, .int (iI ((fp_sgn kd : Nat) : Int))), (2, .int (iI ((lcn : Nat) : Int))), (3, .int (iI ((wdn : Nat) : Int))), (4, .int (iI ((wtn : Nat) : Int)))]) hx hb dX1_place_19 hl (by decide) rfl (fun ls hl => ?_)
    refine lv_aload_n hx hb dX1_place_21 rfl (lv_at hl 1 rfl) ?_
    have hE_58 := fp_At.kept h_pob (fp_keptS (by omega) hS (fun h => (fun h => h.elim (hne_5) (fun h => h.elim (hne_6) (fun h => h.elim (hne_11) (fun h => h.elim (hne_9) (hne_10))))) h.2))
    refine r_get X hE_58 rfl in_X1 0 (by decide) q242 (Or.inl rfl) (v := .ref (u)) rfl dX1_place_22 ?_
    refine lv_aload hx hb dX1_place_25 (lv_at hl 0 rfl) ?_
    refine r_callV (cells1 := 154) (slots1 := 3013) X hR (c_X2_canPlace G u l ed z t mc cap b S nb (fp_blk (sP S) kd lcn wdn wtn (fp_base S lcn wdn)) hsw hbkn (fp_tri_dl hsw.1 hiv hbkn) (fun k hk => by have := (h_st.2.2.2.2.1 k hk).lt; show b k ≠ nb; omega) (by omega)) q1203 q1204 q1205 q89 q1206 ⟨rfl, pd_X2_canPlace⟩ ⟨Nat.le_of_ble_eq_true rfl, Nat.le_of_ble_eq_true rfl⟩ rfl rfl (Nat.le_of_ble_eq_true rfl) (Nat.le_of_ble_eq_true rfl) hE_48.1 rfl rfl (Nat.le_of_ble_eq_true rfl) hl.1 dX1_place_27 (hB.of hS hAb) ⟨hE_48, hE_43⟩ hS (fun q h => by have h2 : (g_s G).heap.size ≤ q ∧ (q = l ∨ q = ed) := h; show ((g_s G).heap.size ≤ q ∧ (q = u ∨ q = l ∨ q = ed ∨ q = hi ∨ q = el)) ∨ s.heap.size ≤ q; omega) (fun v H_62 locs hp_59 hz_60 hk_61 hS => ?_)
    obtain ⟨ed2_63, mc2_64, cap2_65, rfl, hed2_66, hE_67⟩ := hp_59
    have hz_68 := hS.1
    have lt_69 := hE_67.1.lt
    refine r_stk (st2 := [.int (iI (bI (fp_can S (fp_blk (sP S) kd lcn wdn wtn (fp_base S lcn wdn)))))]) rfl ?_
    have hne2_70 : fp_dif nb ed2_63 := fp_ne2 (a := nb) hed2_66 (hneb_51) (by omega)
    have hne2_71 : fp_dif u ed2_63 := fp_ne2 (a := u) hed2_66 (hne_17) (by omega)
    have hne2_72 : fp_dif hi ed2_63 := fp_ne2 (a := hi) hed2_66 (hne_31) (by omega)
    have hne2_73 : fp_dif el ed2_63 := fp_ne2 (a := el) hed2_66 (hnel) (by omega)
    have hnSh2 := hnSh.ed2 hed2_66 (by omega)
    have hnSe2 := hnSe.ed2 hed2_66 (by omega)
    refine r_set (y := .int (iI (bI (decide (fp_plc S kd lcn wdn wtn = 0))))) (congrArg (fun q : Bool => Value.int (iI (bI q))) (fp_can_plc ⟨hpl9, hw91⟩)) ?_
    refine x_callS (cells1 := 155) (slots1 := 3019) X hR (c_X1_checkState G (decide (fp_plc S kd lcn wdn wtn = 0))) q1234 q1235 q88 q1236 pd_X1_checkState ⟨Nat.le_of_ble_eq_true rfl, Nat.le_of_ble_eq_true rfl⟩ rfl rfl (Nat.le_of_ble_eq_true rfl) (Nat.le_of_ble_eq_true rfl) rfl (Nat.le_of_ble_eq_true rfl) hl.1 dX1_place_30 (hB.of hS hAb) trivial hS (fun _ h => h.elim) (fun v H_77 locs hp_74 hz_75 hk_76 hS => ?_) (fun Ex qx cx H_77 locs hp_74 hz_75 hk_76 hS hcx hvx hlx => ?_)
    · skip
      obtain ⟨rfl, rfl, hbt_78⟩ := hp_74
      refine r_stk (st2 := []) rfl ?_
      have hpz := of_decide_eq_true hbt_78
      have hedl := hE_67.2.1.2.2.1
      have hlll := hkl.1.lt
      have hzll := hkz.lt
      have htll := hkt.lt
      refine lv_aload_n hx hb dX1_place_33 rfl (lv_at hl 1 rfl) ?_
      have hE_79 := fp_At.kept h_pob (fp_keptS (by omega) hS (fun h => (fun h => h.elim (hne_5) (fun h => h.elim (hne_6) (fun h => h.elim (hne_11) (fun h => h.elim (hne_9) (hne_10))))) h.2))
      have hE_81 := fp_DQ.mv hE_55 (hk_61 _ (by omega) (fun h => (fun h => h.elim (Ne.symm (hne_20)) (hne_31)) h.2)) (hk_61 _ (by omega) (fun h => (fun h => h.elim (Ne.symm (hne_21)) (hnel)) h.2))
      refine r_callV (cells1 := 164) (slots1 := 3168) X hR (c_X1_beginChange G x u sv hi ip ln (er) (fa) l ed2_63 z t mc2_64 cap2_65 b S el hd hn q hsw hxb hh8 (Ne.symm (hne2_73))) q1252 q1254 qs23 q88 q1255 ⟨rfl, pd_X1_beginChange⟩ ⟨Nat.le_of_ble_eq_true rfl, Nat.le_of_ble_eq_true rfl⟩ rfl rfl (Nat.le_of_ble_eq_true rfl) (Nat.le_of_ble_eq_true rfl) hE_79 rfl rfl (Nat.le_of_ble_eq_true rfl) hl.1 dX1_place_34 (hB.of hS hAb) ⟨hE_79, hE_67, hE_81⟩ hS (fun q h => by have h2 : (g_s G).heap.size ≤ q ∧ (q = hi ∨ q = el) := h; show ((g_s G).heap.size ≤ q ∧ (q = u ∨ q = l ∨ q = ed ∨ q = hi ∨ q = el)) ∨ s.heap.size ≤ q; omega) (fun v H_85 locs hp_82 hz_83 hk_84 hS => ?_)
      obtain ⟨hd2_86, y9_87, l9_88, e9_89, z9_90, t9_91, m9_92, c9_93, rfl, hcf_94, hce_95, hE_96, hE_97⟩ := hp_82
      have hz_98 := hS.1
      have lt_99 := hE_96.1.lt
      have lt_100 := hE_96.2.2.1.1
      have lt_102 := hE_97.1.lt
      refine r_stk (st2 := []) rfl ?_
      have hcf9 := hcf_94
      have hce9 := hce_95
      have hnT_103 : fp_nT G y9_87 l9_88 e9_89 z9_90 t9_91 b (sN S) u := fp_nT.fresh hcf9 hce9 hed0 (by omega) (fun k hk => (hap0 k hk).1)
      have hnT_104 : fp_nT G y9_87 l9_88 e9_89 z9_90 t9_91 b (sN S) l := fp_nT.fresh hcf9 hce9 hed0 (by omega) (fun k hk => (hap0 k hk).2.1)
      have hnT_105 : fp_nT G y9_87 l9_88 e9_89 z9_90 t9_91 b (sN S) ed2_63 := fp_nT.fresh hcf9 hce9 hed0 (by omega) (fun k hk => by have := (hkb k hk).lt; have := (hap0 k hk).2.2.1; omega)
      refine lv_aload_n hx hb dX1_place_37 rfl (lv_at hl 1 rfl) ?_
      have hE_106 := fp_At.kept h_pob (fp_keptS (by omega) hS (fun h => (fun h => h.elim (hne_5) (fun h => h.elim (hne_6) (fun h => h.elim (hne_11) (fun h => h.elim (hne_9) (hne_10))))) h.2))
      refine r_get X hE_106 rfl in_X1 0 (by decide) q242 (Or.inl rfl) (v := .ref (u)) rfl dX1_place_38 ?_
      refine lv_aload hx hb dX1_place_41 (lv_at hl 0 rfl) ?_
      have he9l := hE_97.2.1.2.2.1
      have hE_108 := fp_SE.mvA hE_67 (fun q9 hq9 hs9 => hk_84 _ hq9 (fun h8 => (fun h9 => h9.elim (hnSh2.t q9 hs9 h8.1) (hnSe2.t q9 hs9 h8.1)) h8.2))
      have hE_110 := fp_At.kept hE_43 (hk_61 _ (by omega) (fun h => (fun h => h.elim (hneb_50) (hneb_51)) h.2))
      have hE_111 := fp_At.kept hE_110 (hk_84 _ (by omega) (fun h => (fun h => h.elim (hneb_56) (hneb_57)) h.2))
      refine r_callV (cells1 := 165) (slots1 := 3215) X hR (c_X2_place G u l ed2_63 z t mc2_64 cap2_65 b S nb (fp_blk (sP S) kd lcn wdn wtn (fp_base S lcn wdn)) hsw (by omega)) q1294 q1295 q1296 q89 q1297 ⟨rfl, pd_X2_place⟩ ⟨Nat.le_of_ble_eq_true rfl, Nat.le_of_ble_eq_true rfl⟩ rfl rfl (Nat.le_of_ble_eq_true rfl) (Nat.le_of_ble_eq_true rfl) hE_108.1 rfl rfl (Nat.le_of_ble_eq_true rfl) hl.1 dX1_place_43 (hB.of hS hAb) ⟨hE_108, hE_111⟩ hS (fun q h => by have h2 : (g_s G).heap.size ≤ q ∧ (q = u ∨ q = l ∨ q = ed2_63) := h; show ((g_s G).heap.size ≤ q ∧ (q = u ∨ q = l ∨ q = ed ∨ q = hi ∨ q = el)) ∨ s.heap.size ≤ q; omega) (fun v H_115 locs hp_112 hz_113 hk_114 hS => ?_)
      obtain ⟨ed2_116, mc2_117, cap2_118, rfl, hed2_119, hE_120⟩ := hp_112
      have hz_121 := hS.1
      have lt_122 := hE_120.1.lt
      refine r_stk (st2 := []) rfl ?_
      refine lv_aload hx hb dX1_place_46 (lv_at hl 0 rfl) ?_
      have hE_124 := fp_At.kept hE_111 (hk_114 _ (by omega) (fun h => (fun h => h.elim (hneb_49) (fun h => h.elim (hneb_50) (hne2_70))) h.2))
      refine r_getBN 0 (by decide) 0 rfl X hE_124 hbk.2.1 q1155 dX1_place_48 ?_
      refine x_iret hx hb hr hlk hQ hS (Nat.le_of_ble_eq_true rfl) (Nat.le_of_ble_eq_true rfl) dX1_place_51 ?_
      have hE_126 := fp_DQ.mv hE_96 (hk_114 _ (by omega) (fun h => (fun h => h.elim (Ne.symm (hne_15)) (fun h => h.elim (Ne.symm (hne_20)) (hne2_72))) h.2)) (hk_114 _ (by omega) (fun h => (fun h => h.elim (Ne.symm (hne_16)) (fun h => h.elim (Ne.symm (hne_21)) (hne2_73))) h.2))
      have hE_128 := fp_SE.mvA hE_97 (fun q9 hq9 hs9 => hk_114 _ hq9 (fun h8 => (fun h9 => h9.elim (hnT_103 q9 hs9 h8.1) (fun h9 => h9.elim (hnT_104 q9 hs9 h8.1) (hnT_105 q9 hs9 h8.1))) h8.2))
      exact ⟨ed2_116, mc2_117, cap2_118, nb, hd2_86, y9_87, l9_88, e9_89, z9_90, t9_91, m9_92, c9_93, rfl, hpz, (by omega), (by omega), (by omega), (by omega), (by unfold fp_dif; omega), hE_120, hE_126, hE_128⟩
    · skip
      obtain ⟨rfl, hX9, hb9⟩ := hp_74
      have hE_130 := hE_67.ext hX9
      have hE_132 := fp_DQ.mv hE_55 (hk_61 _ (by omega) (fun h => (fun h => h.elim (Ne.symm (hne_20)) (hne_31)) h.2)) (hk_61 _ (by omega) (fun h => (fun h => h.elim (Ne.symm (hne_21)) (hnel)) h.2))
      have hE_133 := hE_132.ext hX9
      exact x_out hT hlk hQ hS (Nat.le_of_ble_eq_true rfl) (Nat.le_of_ble_eq_true rfl) hcx hvx hlx (Or.inr (⟨rfl, ed2_63, mc2_64, cap2_65, (by omega), (fp_plc_22 (of_decide_eq_false hb9) (fp_plc_n1 ⟨hpl9, hw91⟩)), hE_130, hE_133⟩))
  · skip
    obtain ⟨rfl, hX9, hb9⟩ := hp_32
    have hE_135 := h_st.ext hX9
    have hE_137 := h_dq.ext hX9
    exact x_out hT hlk hQ hS (Nat.le_of_ble_eq_true rfl) (Nat.le_of_ble_eq_true rfl) hcx hvx hlx (Or.inl ⟨rfl, (fp_plc_1 hb9), hE_135, hE_137⟩)
set_option maxHeartbeats 4000000 in
theorem c_X1_place_x (G : fp_G) (x : Nat) (u : Nat) (sv : Value) (hi : Nat) (ip : Nat) (ln : Nat) (er : Int) (fa : Int) (l : Nat) (ed : Nat) (z : Nat) (t : Nat) (mc : Int32) (cap : Nat) (b : Nat → Nat) (S : PS) (kd : Nat) (lc : Int) (wd : Int) (wt : Int) (hsw : fp_sw S b) (hxb : (g_s G).heap.size ≤ x) (hkd : kd < 3) (hlc : rg lc) (hwd : rg wd) (hwt : rg wt) (hiv : fp_Iv S) (hp9 : sP S < 999) : fp_MX G yX1_place cX1_place 6 (some .int) 12 289 165 3215 [.ref (x), .int (iI ((fp_sgn kd : Nat) : Int)), .int (iI (lc)), .int (iI (wd)), .int (iI (wt))] (fun H => fp_At G H x (eO 1 [.ref (u), sv, .ref (hi), .ref (ip), .ref (ln), .int (iI (bI (true))), .int (iI (er)), .int (iI (fa))]) ∧ fp_SE G u l ed z t mc cap b S H) (fun q => (g_s G).heap.size ≤ q ∧ (q = u ∨ q = l ∨ q = ed)) (fun H v H1 => ∃ (ed2 : Nat), ∃ (mc2 : Int32), ∃ (cap2 : Nat), ∃ (nb : Nat), v = some (.int (iI ((sP S : Nat) : Int))) ∧ (fp_plc S kd lc wd wt = 0) ∧ (ed2 = ed ∨ H.size ≤ ed2) ∧ (H.size ≤ nb) ∧ fp_SE G u l ed2 z t mc2 cap2 (va_up b (sN S) nb) (fp_add S kd lc.toNat wd.toNat wt.toNat) H1) (fun H E H1 => (E = "java/lang/IllegalArgumentException" ∧ ((fp_plc S kd lc wd wt = 1) ∧ fp_SE G u l ed z t mc cap b S H1)) ∨ (E = "java/lang/IllegalStateException" ∧ (∃ (ed2 : Nat), ∃ (mc2 : Int32), ∃ (cap2 : Nat), (ed2 = ed ∨ H.size ≤ ed2) ∧ (fp_plc S kd lc wd wt = 2) ∧ fp_SE G u l ed2 z t mc2 cap2 b S H1))) := by
  refine fp_MX.intro (by decide) (Nat.le_of_ble_eq_true rfl) ?_
  intro pg en s mi ag bl mt cd rR qQ ls X hx hb hr hlk hnm hR hQ hT hB hM hl
  have hS : va_S (fA (fun q => (g_s G).heap.size ≤ q ∧ (q = u ∨ q = l ∨ q = ed)) s.heap.size) s.heap s.heap [] := va_S.rf
  generalize ([] : List Loc) = locs at hS ⊢
  have hb0 := hB.1
  have hAb : ∀ q, (fun q => (g_s G).heap.size ≤ q ∧ (q = u ∨ q = l ∨ q = ed)) q → (g_s G).heap.size ≤ q := fun q h => h.1
  obtain ⟨h_pob, h_st⟩ := hM
  have hsz0 := hS.1
  have lt_1 := h_pob.lt
  have lt_2 := h_st.1.lt
  have hn24 := hsw.1.1
  have hed0 := (X.2.2.2.2.2.deT (A := fp_no) hB fp_no.base).2.2
  obtain ⟨hku, hkl, hkz, hkt, hkb, hxb9, hzb9, htb9⟩ := id h_st
  have hlb9 := hkl.2.2.2
  have hne_3 : fp_dif x u := fp_neOO X.2.2.2.2.2 (i := 1) (j := 2) rfl rfl (by decide) h_pob hku
  have hne_4 : fp_dif x l := fp_neOO X.2.2.2.2.2 (i := 1) (j := 8) rfl rfl (by decide) h_pob hkl.1
  have hne_5 : fp_dif x z := fp_neOA X.2.2.2.2.2 (i := 1) (t := 5) rfl rfl h_pob hkz
  have hne_6 : fp_dif x t := fp_neOA X.2.2.2.2.2 (i := 1) (t := 1) rfl rfl h_pob hkt
  have hne_7 : fp_dif x ed := fp_LE.neE hkl hed0 (by omega) (fun f9 h9 => fp_neOA X.2.2.2.2.2 (i := 1) (t := 4) rfl rfl h_pob h9)
  have hne_8 : fp_dif u l := fp_neOO X.2.2.2.2.2 (i := 2) (j := 8) rfl rfl (by decide) hku hkl.1
  have hne_9 : fp_dif u z := fp_neOA X.2.2.2.2.2 (i := 2) (t := 5) rfl rfl hku hkz
  have hne_10 : fp_dif u t := fp_neOA X.2.2.2.2.2 (i := 2) (t := 1) rfl rfl hku hkt
  have hne_11 : fp_dif u ed := fp_LE.neE hkl hed0 (by omega) (fun f9 h9 => fp_neOA X.2.2.2.2.2 (i := 2) (t := 4) rfl rfl hku h9)
  have hne_12 : fp_dif l z := fp_neOA X.2.2.2.2.2 (i := 8) (t := 5) rfl rfl hkl.1 hkz
  have hne_13 : fp_dif l t := fp_neOA X.2.2.2.2.2 (i := 8) (t := 1) rfl rfl hkl.1 hkt
  have hne_14 : fp_dif l ed := fp_LE.neE hkl hed0 (by omega) (fun f9 h9 => fp_neOA X.2.2.2.2.2 (i := 8) (t := 4) rfl rfl hkl.1 h9)
  have hne_15 : fp_dif z t := fp_neAA X.2.2.2.2.2 (t := 5) (t2 := 1) rfl rfl (by decide) hkz hkt
  have hne_16 : fp_dif z ed := fp_LE.neE hkl hed0 (by omega) (fun f9 h9 => fp_neAA X.2.2.2.2.2 (t := 5) (t2 := 4) rfl rfl (by decide) hkz h9)
  have hne_17 : fp_dif t ed := fp_LE.neE hkl hed0 (by omega) (fun f9 h9 => fp_neAA X.2.2.2.2.2 (t := 1) (t2 := 4) rfl rfl (by decide) hkt h9)
  have hap0 := (fp_SE.dis X.2.2.2.2.2 hed0 h_st).2
  refine lv_iload_n hx hb dX1_place_0 rfl (lv_at hl 2 rfl) ?_
  refine lv_iload_n hx hb dX1_place_1 rfl (lv_at hl 3 rfl) ?_
  refine lv_iload hx hb dX1_place_2 (lv_at hl 4 rfl) ?_
  refine x_callS (cells1 := 2) (slots1 := 12) X hR (c_X1_checkBlock G (lc) (wd) (wt) (⟨by omega, by omega⟩) (⟨by omega, by omega⟩) (⟨by omega, by omega⟩)) q1122 q1123 q88 q1124 pd_X1_checkBlock ⟨Nat.le_of_ble_eq_true rfl, Nat.le_of_ble_eq_true rfl⟩ rfl rfl (Nat.le_of_ble_eq_true rfl) (Nat.le_of_ble_eq_true rfl) rfl (Nat.le_of_ble_eq_true rfl) hl.1 dX1_place_4 (hB.of hS hAb) trivial hS (fun _ h => h.elim) (fun v H_21 locs hp_18 hz_19 hk_20 hS => ?_) (fun Ex qx cx H_21 locs hp_18 hz_19 hk_20 hS hcx hvx hlx => ?_)
  · skip
    obtain ⟨rfl, hpl_22, hw9_23, rfl⟩ := hp_18
    refine r_stk (st2 := []) rfl ?_
    obtain ⟨lcn, wdn, rfl, rfl, hlw1, hlw2⟩ := fp_place_n hpl_22
    obtain ⟨wtn, rfl⟩ : ∃ wtn : Nat, wt = ((wtn : Nat) : Int) := ⟨wt.toNat, by have := hw9_23; omega⟩
    have hw91 := hw9_23
    have hpl9 := hpl_22
    have hpl0 := hlw2
    refine lv_aload_n hx hb dX1_place_7 rfl (lv_at hl 0 rfl) ?_
    refine r_get X h_pob rfl in_X1 0 (by decide) q242 (Or.inl rfl) (v := .ref (u)) rfl dX1_place_8 ?_
    refine lv_iload_n hx hb dX1_place_11 rfl (lv_at hl 1 rfl) ?_
    refine lv_iload_n hx hb dX1_place_12 rfl (lv_at hl 2 rfl) ?_
    refine lv_iload_n hx hb dX1_place_13 rfl (lv_at hl 3 rfl) ?_
    refine lv_iload hx hb dX1_place_14 (lv_at hl 4 rfl) ?_
    have hbkn := fp_blk_k (kd := kd) (l := lcn) (w := wdn) (wt := wtn) hiv.1 (by omega) hkd ⟨hlw1, hlw2⟩ ⟨by omega, by omega⟩
    have hbk := hbkn
    refine r_callV (cells1 := 8) (slots1 := 38) X hR (c_X2_prepare G u l ed z t mc cap b S kd lcn wdn wtn hsw hkd (by omega) (by omega) (by omega)) q1137 q1138 q1139 q89 q1140 ⟨rfl, pd_X2_prepare⟩ ⟨Nat.le_of_ble_eq_true rfl, Nat.le_of_ble_eq_true rfl⟩ rfl rfl (Nat.le_of_ble_eq_true rfl) (Nat.le_of_ble_eq_true rfl) h_st.1 rfl rfl (Nat.le_of_ble_eq_true rfl) hl.1 dX1_place_16 (hB.of hS hAb) h_st hS (fun _ h => h.elim) (fun v H_27 locs hp_24 hz_25 hk_26 hS => ?_)
    obtain ⟨nb, rfl, hq_28, hE_29⟩ := hp_24
    have hz_30 := hS.1
    have lt_32 := hE_29.lt
    refine r_stk (st2 := [.ref (nb)]) rfl ?_
    have hE_34 := h_st.ext (fp_X.no hz_25 hk_26)
    have hqd := fp_SE.disB X.2.2.2.2.2 hed0 hE_34 hE_29 (by omega)
    have hneb_35 : fp_dif nb u := hqd.1
    have hneb_36 : fp_dif nb l := hqd.2.1
    have hneb_37 : fp_dif nb ed := hqd.2.2.1
    have hneb_38 : fp_dif nb z := hqd.2.2.2.1
    have hneb_39 : fp_dif nb t := hqd.2.2.2.2
    refine lv_astore (lv' := [(5, .ref (nb)), (0, .ref (x)), (1, .int (iI ((fp_sgn kd : Nat) : Int))), (2, .int (iI ((lcn : Nat) : Int))), (3, .int (iI ((wdn : Nat) : Int))), (4, .int (iI ((wtn : Nat) : Int)))]) hx hb dX1_place_19 hl (by decide) rfl (fun ls hl => ?_)
    refine lv_aload_n hx hb dX1_place_21 rfl (lv_at hl 1 rfl) ?_
    have hE_40 := fp_At.kept h_pob (fp_keptS (by omega) hS (fun h => (fun h => h.elim (hne_3) (fun h => h.elim (hne_4) (hne_7))) h.2))
    refine r_get X hE_40 rfl in_X1 0 (by decide) q242 (Or.inl rfl) (v := .ref (u)) rfl dX1_place_22 ?_
    refine lv_aload hx hb dX1_place_25 (lv_at hl 0 rfl) ?_
    refine r_callV (cells1 := 154) (slots1 := 3013) X hR (c_X2_canPlace G u l ed z t mc cap b S nb (fp_blk (sP S) kd lcn wdn wtn (fp_base S lcn wdn)) hsw hbkn (fp_tri_dl hsw.1 hiv hbkn) (fun k hk => by have := (h_st.2.2.2.2.1 k hk).lt; show b k ≠ nb; omega) (by omega)) q1203 q1204 q1205 q89 q1206 ⟨rfl, pd_X2_canPlace⟩ ⟨Nat.le_of_ble_eq_true rfl, Nat.le_of_ble_eq_true rfl⟩ rfl rfl (Nat.le_of_ble_eq_true rfl) (Nat.le_of_ble_eq_true rfl) hE_34.1 rfl rfl (Nat.le_of_ble_eq_true rfl) hl.1 dX1_place_27 (hB.of hS hAb) ⟨hE_34, hE_29⟩ hS (fun q h => by have h2 : (g_s G).heap.size ≤ q ∧ (q = l ∨ q = ed) := h; show ((g_s G).heap.size ≤ q ∧ (q = u ∨ q = l ∨ q = ed)) ∨ s.heap.size ≤ q; omega) (fun v H_44 locs hp_41 hz_42 hk_43 hS => ?_)
    obtain ⟨ed2_45, mc2_46, cap2_47, rfl, hed2_48, hE_49⟩ := hp_41
    have hz_50 := hS.1
    have lt_51 := hE_49.1.lt
    refine r_stk (st2 := [.int (iI (bI (fp_can S (fp_blk (sP S) kd lcn wdn wtn (fp_base S lcn wdn)))))]) rfl ?_
    have hne2_52 : fp_dif nb ed2_45 := fp_ne2 (a := nb) hed2_48 (hneb_37) (by omega)
    have hne2_53 : fp_dif u ed2_45 := fp_ne2 (a := u) hed2_48 (hne_11) (by omega)
    refine r_set (y := .int (iI (bI (decide (fp_plc S kd lcn wdn wtn = 0))))) (congrArg (fun q : Bool => Value.int (iI (bI q))) (fp_can_plc ⟨hpl9, hw91⟩)) ?_
    refine x_callS (cells1 := 155) (slots1 := 3019) X hR (c_X1_checkState G (decide (fp_plc S kd lcn wdn wtn = 0))) q1234 q1235 q88 q1236 pd_X1_checkState ⟨Nat.le_of_ble_eq_true rfl, Nat.le_of_ble_eq_true rfl⟩ rfl rfl (Nat.le_of_ble_eq_true rfl) (Nat.le_of_ble_eq_true rfl) rfl (Nat.le_of_ble_eq_true rfl) hl.1 dX1_place_30 (hB.of hS hAb) trivial hS (fun _ h => h.elim) (fun v H_57 locs hp_54 hz_55 hk_56 hS => ?_) (fun Ex qx cx H_57 locs hp_54 hz_55 hk_56 hS hcx hvx hlx => ?_)
    · skip
      obtain ⟨rfl, rfl, hbt_58⟩ := hp_54
      refine r_stk (st2 := []) rfl ?_
      have hpz := of_decide_eq_true hbt_58
      have hedl := hE_49.2.1.2.2.1
      have hlll := hkl.1.lt
      have hzll := hkz.lt
      have htll := hkt.lt
      refine lv_aload_n hx hb dX1_place_33 rfl (lv_at hl 1 rfl) ?_
      have hE_59 := fp_At.kept h_pob (fp_keptS (by omega) hS (fun h => (fun h => h.elim (hne_3) (fun h => h.elim (hne_4) (hne_7))) h.2))
      refine r_callV (cells1 := 155) (slots1 := 3019) X hR (c_X1_beginChange_x G x u sv hi ip ln (er) (fa) l ed z t mc cap b S) q1252 q1254 qs23 q88 q1255 ⟨rfl, pd_X1_beginChange⟩ ⟨Nat.le_of_ble_eq_true rfl, Nat.le_of_ble_eq_true rfl⟩ rfl rfl (Nat.le_of_ble_eq_true rfl) (Nat.le_of_ble_eq_true rfl) hE_59 rfl rfl (Nat.le_of_ble_eq_true rfl) hl.1 dX1_place_34 (hB.of hS hAb) hE_59 hS (fun _ h => h.elim) (fun v H_63 locs hp_60 hz_61 hk_62 hS => ?_)
      obtain ⟨rfl, rfl⟩ := hp_60
      refine r_stk (st2 := []) rfl ?_
      refine lv_aload_n hx hb dX1_place_37 rfl (lv_at hl 1 rfl) ?_
      refine r_get X hE_59 rfl in_X1 0 (by decide) q242 (Or.inl rfl) (v := .ref (u)) rfl dX1_place_38 ?_
      refine lv_aload hx hb dX1_place_41 (lv_at hl 0 rfl) ?_
      have hE_65 := fp_At.kept hE_29 (hk_43 _ (by omega) (fun h => (fun h => h.elim (hneb_36) (hneb_37)) h.2))
      refine r_callV (cells1 := 156) (slots1 := 3066) X hR (c_X2_place G u l ed2_45 z t mc2_46 cap2_47 b S nb (fp_blk (sP S) kd lcn wdn wtn (fp_base S lcn wdn)) hsw (by omega)) q1294 q1295 q1296 q89 q1297 ⟨rfl, pd_X2_place⟩ ⟨Nat.le_of_ble_eq_true rfl, Nat.le_of_ble_eq_true rfl⟩ rfl rfl (Nat.le_of_ble_eq_true rfl) (Nat.le_of_ble_eq_true rfl) hE_49.1 rfl rfl (Nat.le_of_ble_eq_true rfl) hl.1 dX1_place_43 (hB.of hS hAb) ⟨hE_49, hE_65⟩ hS (fun q h => by have h2 : (g_s G).heap.size ≤ q ∧ (q = u ∨ q = l ∨ q = ed2_45) := h; show ((g_s G).heap.size ≤ q ∧ (q = u ∨ q = l ∨ q = ed)) ∨ s.heap.size ≤ q; omega) (fun v H_69 locs hp_66 hz_67 hk_68 hS => ?_)
      obtain ⟨ed2_70, mc2_71, cap2_72, rfl, hed2_73, hE_74⟩ := hp_66
      have hz_75 := hS.1
      have lt_76 := hE_74.1.lt
      refine r_stk (st2 := []) rfl ?_
      refine lv_aload hx hb dX1_place_46 (lv_at hl 0 rfl) ?_
      have hE_78 := fp_At.kept hE_65 (hk_68 _ (by omega) (fun h => (fun h => h.elim (hneb_35) (fun h => h.elim (hneb_36) (hne2_52))) h.2))
      refine r_getBN 0 (by decide) 0 rfl X hE_78 hbk.2.1 q1155 dX1_place_48 ?_
      refine x_iret hx hb hr hlk hQ hS (Nat.le_of_ble_eq_true rfl) (Nat.le_of_ble_eq_true rfl) dX1_place_51 ?_
      exact ⟨ed2_70, mc2_71, cap2_72, nb, rfl, hpz, (by omega), (by omega), hE_74⟩
    · skip
      obtain ⟨rfl, hX9, hb9⟩ := hp_54
      have hE_80 := hE_49.ext hX9
      exact x_out hT hlk hQ hS (Nat.le_of_ble_eq_true rfl) (Nat.le_of_ble_eq_true rfl) hcx hvx hlx (Or.inr (⟨rfl, ed2_45, mc2_46, cap2_47, (by omega), (fp_plc_22 (of_decide_eq_false hb9) (fp_plc_n1 ⟨hpl9, hw91⟩)), hE_80⟩))
  · skip
    obtain ⟨rfl, hX9, hb9⟩ := hp_18
    have hE_82 := h_st.ext hX9
    exact x_out hT hlk hQ hS (Nat.le_of_ble_eq_true rfl) (Nat.le_of_ble_eq_true rfl) hcx hvx hlx (Or.inl ⟨rfl, (fp_plc_1 hb9), hE_82⟩)
set_option maxHeartbeats 4000000 in
theorem c_X1_placeFoam (G : fp_G) (x : Nat) (u : Nat) (sv : Value) (hi : Nat) (ip : Nat) (ln : Nat) (er : Int) (fa : Int) (l : Nat) (ed : Nat) (z : Nat) (t : Nat) (mc : Int32) (cap : Nat) (b : Nat → Nat) (S : PS) (el : Nat) (hd : Nat) (hn : Nat) (q : Nat → Nat) (lc : Int) (wd : Int) (wt : Int) (hsw : fp_sw S b) (hxb : (g_s G).heap.size ≤ x) (hlc : rg lc) (hwd : rg wd) (hwt : rg wt) (hiv : fp_Iv S) (hp9 : sP S < 999) (hh8 : hn ≤ 8) (hde : fp_dif ed el) : fp_MX G yX1_placeFoam cX1_placeFoam 4 (some .int) 13 314 165 3215 [.ref (x), .int (iI (lc)), .int (iI (wd)), .int (iI (wt))] (fun H => fp_At G H x (eO 1 [.ref (u), sv, .ref (hi), .ref (ip), .ref (ln), .int (iI (bI (false))), .int (iI (er)), .int (iI (fa))]) ∧ fp_SE G u l ed z t mc cap b S H ∧ fp_DQ G hi el hd hn q H) (fun q => (g_s G).heap.size ≤ q ∧ (q = u ∨ q = l ∨ q = ed ∨ q = hi ∨ q = el)) (fun H v H1 => ∃ (ed2 : Nat), ∃ (mc2 : Int32), ∃ (cap2 : Nat), ∃ (nb : Nat), ∃ (hd2 : Nat), ∃ (y9 : Nat), ∃ (l9 : Nat), ∃ (e9 : Nat), ∃ (z9 : Nat), ∃ (t9 : Nat), ∃ (m9 : Int32), ∃ (c9 : Nat), v = some (.int (iI ((sP S : Nat) : Int))) ∧ (fp_plc S 0 lc wd wt = 0) ∧ (ed2 = ed ∨ H.size ≤ ed2) ∧ (H.size ≤ nb) ∧ (H.size ≤ y9 ∧ H.size ≤ l9 ∧ H.size ≤ z9 ∧ H.size ≤ t9) ∧ (e9 = fp_de G ∨ H.size ≤ e9) ∧ (e9 = fp_de G ∨ fp_dif e9 ed2) ∧ fp_SE G u l ed2 z t mc2 cap2 (va_up b (sN S) nb) (fp_add S 0 lc.toNat wd.toNat wt.toNat) H1 ∧ fp_DQ G hi el hd2 (fp_hn hn) (fp_qpush q hn y9) H1 ∧ fp_SE G y9 l9 e9 z9 t9 m9 c9 b S H1) (fun H E H1 => (E = "java/lang/IllegalArgumentException" ∧ ((fp_plc S 0 lc wd wt = 1) ∧ fp_SE G u l ed z t mc cap b S H1 ∧ fp_DQ G hi el hd hn q H1)) ∨ (E = "java/lang/IllegalStateException" ∧ (∃ (ed2 : Nat), ∃ (mc2 : Int32), ∃ (cap2 : Nat), (ed2 = ed ∨ H.size ≤ ed2) ∧ (fp_plc S 0 lc wd wt = 2) ∧ fp_SE G u l ed2 z t mc2 cap2 b S H1 ∧ fp_DQ G hi el hd hn q H1))) := by
  refine fp_MX.intro (by decide) (Nat.le_of_ble_eq_true rfl) ?_
  intro pg en s mi ag bl mt cd rR qQ ls X hx hb hr hlk hnm hR hQ hT hB hM hl
  have hS : va_S (fA (fun q => (g_s G).heap.size ≤ q ∧ (q = u ∨ q = l ∨ q = ed ∨ q = hi ∨ q = el)) s.heap.size) s.heap s.heap [] := va_S.rf
  generalize ([] : List Loc) = locs at hS ⊢
  have hb0 := hB.1
  have hAb : ∀ q, (fun q => (g_s G).heap.size ≤ q ∧ (q = u ∨ q = l ∨ q = ed ∨ q = hi ∨ q = el)) q → (g_s G).heap.size ≤ q := fun q h => h.1
  obtain ⟨h_pob, h_st, h_dq⟩ := hM
  have hsz0 := hS.1
  have lt_1 := h_pob.lt
  have lt_2 := h_st.1.lt
  have lt_3 := h_dq.1.lt
  have lt_4 := h_dq.2.2.1.1
  have hn24 := hsw.1.1
  have hed0 := (X.2.2.2.2.2.deT (A := fp_no) hB fp_no.base).2.2
  obtain ⟨hku, hkl, hkz, hkt, hkb, hxb9, hzb9, htb9⟩ := id h_st
  have hlb9 := hkl.2.2.2
  obtain ⟨hdo, ⟨fdq, hdr, -⟩, hdq9, hdb1, hdb2⟩ := id h_dq
  have hdlt := hdo.lt
  have hnSh := fp_SE.nO X.2.2.2.2.2 hed0 h_st (j := 10) rfl ⟨by decide, by decide, by decide, by decide, by decide⟩ hdo hdb1
  have hnSe := fp_SE.nQ X.2.2.2.2.2 h_st hdr hde
  have hnel : fp_dif el ed := Ne.symm hde
  have hne_5 : fp_dif x u := fp_neOO X.2.2.2.2.2 (i := 1) (j := 2) rfl rfl (by decide) h_pob hku
  have hne_6 : fp_dif x l := fp_neOO X.2.2.2.2.2 (i := 1) (j := 8) rfl rfl (by decide) h_pob hkl.1
  have hne_7 : fp_dif x z := fp_neOA X.2.2.2.2.2 (i := 1) (t := 5) rfl rfl h_pob hkz
  have hne_8 : fp_dif x t := fp_neOA X.2.2.2.2.2 (i := 1) (t := 1) rfl rfl h_pob hkt
  have hne_9 : fp_dif x hi := fp_neOO X.2.2.2.2.2 (i := 1) (j := 10) rfl rfl (by decide) h_pob hdo
  have hne_10 : fp_dif x el := fp_neOA X.2.2.2.2.2 (i := 1) (t := 4) rfl rfl h_pob hdr
  have hne_11 : fp_dif x ed := fp_LE.neE hkl hed0 (by omega) (fun f9 h9 => fp_neOA X.2.2.2.2.2 (i := 1) (t := 4) rfl rfl h_pob h9)
  have hne_12 : fp_dif u l := fp_neOO X.2.2.2.2.2 (i := 2) (j := 8) rfl rfl (by decide) hku hkl.1
  have hne_13 : fp_dif u z := fp_neOA X.2.2.2.2.2 (i := 2) (t := 5) rfl rfl hku hkz
  have hne_14 : fp_dif u t := fp_neOA X.2.2.2.2.2 (i := 2) (t := 1) rfl rfl hku hkt
  have hne_15 : fp_dif u hi := fp_neOO X.2.2.2.2.2 (i := 2) (j := 10) rfl rfl (by decide) hku hdo
  have hne_16 : fp_dif u el := fp_neOA X.2.2.2.2.2 (i := 2) (t := 4) rfl rfl hku hdr
  have hne_17 : fp_dif u ed := fp_LE.neE hkl hed0 (by omega) (fun f9 h9 => fp_neOA X.2.2.2.2.2 (i := 2) (t := 4) rfl rfl hku h9)
  have hne_18 : fp_dif l z := fp_neOA X.2.2.2.2.2 (i := 8) (t := 5) rfl rfl hkl.1 hkz
  have hne_19 : fp_dif l t := fp_neOA X.2.2.2.2.2 (i := 8) (t := 1) rfl rfl hkl.1 hkt
  have hne_20 : fp_dif l hi := fp_neOO X.2.2.2.2.2 (i := 8) (j := 10) rfl rfl (by decide) hkl.1 hdo
  have hne_21 : fp_dif l el := fp_neOA X.2.2.2.2.2 (i := 8) (t := 4) rfl rfl hkl.1 hdr
  have hne_22 : fp_dif l ed := fp_LE.neE hkl hed0 (by omega) (fun f9 h9 => fp_neOA X.2.2.2.2.2 (i := 8) (t := 4) rfl rfl hkl.1 h9)
  have hne_23 : fp_dif z t := fp_neAA X.2.2.2.2.2 (t := 5) (t2 := 1) rfl rfl (by decide) hkz hkt
  have hne_24 : fp_dif z hi := Ne.symm (fp_neOA X.2.2.2.2.2 (i := 10) (t := 5) rfl rfl hdo hkz)
  have hne_25 : fp_dif z el := fp_neAA X.2.2.2.2.2 (t := 5) (t2 := 4) rfl rfl (by decide) hkz hdr
  have hne_26 : fp_dif z ed := fp_LE.neE hkl hed0 (by omega) (fun f9 h9 => fp_neAA X.2.2.2.2.2 (t := 5) (t2 := 4) rfl rfl (by decide) hkz h9)
  have hne_27 : fp_dif t hi := Ne.symm (fp_neOA X.2.2.2.2.2 (i := 10) (t := 1) rfl rfl hdo hkt)
  have hne_28 : fp_dif t el := fp_neAA X.2.2.2.2.2 (t := 1) (t2 := 4) rfl rfl (by decide) hkt hdr
  have hne_29 : fp_dif t ed := fp_LE.neE hkl hed0 (by omega) (fun f9 h9 => fp_neAA X.2.2.2.2.2 (t := 1) (t2 := 4) rfl rfl (by decide) hkt h9)
  have hne_30 : fp_dif hi el := fp_neOA X.2.2.2.2.2 (i := 10) (t := 4) rfl rfl hdo hdr
  have hne_31 : fp_dif hi ed := fp_LE.neE hkl hed0 (by omega) (fun f9 h9 => fp_neOA X.2.2.2.2.2 (i := 10) (t := 4) rfl rfl hdo h9)
  have hap0 := (fp_SE.dis X.2.2.2.2.2 hed0 h_st).2
  refine lv_aload_n hx hb dX1_placeFoam_0 rfl (lv_at hl 0 rfl) ?_
  refine lv_bipush (v := (iI ((102 : Nat) : Int))) hx hb dX1_placeFoam_1 rfl ?_
  refine lv_iload_n hx hb dX1_placeFoam_3 rfl (lv_at hl 1 rfl) ?_
  refine lv_iload_n hx hb dX1_placeFoam_4 rfl (lv_at hl 2 rfl) ?_
  refine lv_iload_n hx hb dX1_placeFoam_5 rfl (lv_at hl 3 rfl) ?_
  refine x_callV (cells1 := 165) (slots1 := 3215) X hR (c_X1_place G x u sv hi ip ln (er) (fa) l ed z t mc cap b S el hd hn q 0 (lc) (wd) (wt) hsw hxb (by omega) (⟨by omega, by omega⟩) (⟨by omega, by omega⟩) (⟨by omega, by omega⟩) hiv hp9 hh8 hde) q1118 q1120 qs20 q88 q1121 ⟨rfl, pd_X1_place⟩ ⟨Nat.le_of_ble_eq_true rfl, Nat.le_of_ble_eq_true rfl⟩ rfl rfl (Nat.le_of_ble_eq_true rfl) (Nat.le_of_ble_eq_true rfl) h_pob rfl rfl (Nat.le_of_ble_eq_true rfl) hl.1 dX1_placeFoam_6 (hB.of hS hAb) ⟨h_pob, h_st, h_dq⟩ hS (fun q h => by have h2 : (g_s G).heap.size ≤ q ∧ (q = u ∨ q = l ∨ q = ed ∨ q = hi ∨ q = el) := h; show ((g_s G).heap.size ≤ q ∧ (q = u ∨ q = l ∨ q = ed ∨ q = hi ∨ q = el)) ∨ s.heap.size ≤ q; omega) (fun v H_35 locs hp_32 hz_33 hk_34 hS => ?_) (fun Ex qx cx H_35 locs hp_32 hz_33 hk_34 hS hcx hvx hlx => ?_)
  · skip
    obtain ⟨ed2_36, mc2_37, cap2_38, nb_39, hd2_40, y9_41, l9_42, e9_43, z9_44, t9_45, m9_46, c9_47, rfl, hpc_48, hed2_49, hnb_50, hcf_51, hce_52, hee_53, hE_54, hE_55, hE_56⟩ := hp_32
    have hz_57 := hS.1
    have lt_58 := hE_54.1.lt
    have lt_59 := hE_55.1.lt
    have lt_60 := hE_55.2.2.1.1
    have lt_62 := hE_56.1.lt
    refine r_stk (st2 := [.int (iI ((sP S : Nat) : Int))]) rfl ?_
    refine x_iret hx hb hr hlk hQ hS (Nat.le_of_ble_eq_true rfl) (Nat.le_of_ble_eq_true rfl) dX1_placeFoam_9 ?_
    exact ⟨ed2_36, mc2_37, cap2_38, nb_39, hd2_40, y9_41, l9_42, e9_43, z9_44, t9_45, m9_46, c9_47, rfl, hpc_48, (by omega), (by omega), (by omega), (by omega), hee_53, hE_54, hE_55, hE_56⟩
  · skip
    rcases hp_32 with ⟨rfl, hb9, hE_63, hE_64⟩ | ⟨rfl, ed2_65, mc2_66, cap2_67, hb9, hb8, hE_68, hE_69⟩
    · skip
      have hz_70 := hS.1
      have lt_71 := hE_63.1.lt
      have lt_72 := hE_64.1.lt
      have lt_73 := hE_64.2.2.1.1
      exact x_out hT hlk hQ hS (Nat.le_of_ble_eq_true rfl) (Nat.le_of_ble_eq_true rfl) hcx hvx hlx (Or.inl ⟨rfl, hb9, hE_63, hE_64⟩)
    · skip
      have hz_74 := hS.1
      have lt_75 := hE_68.1.lt
      have lt_76 := hE_69.1.lt
      have lt_77 := hE_69.2.2.1.1
      exact x_out hT hlk hQ hS (Nat.le_of_ble_eq_true rfl) (Nat.le_of_ble_eq_true rfl) hcx hvx hlx (Or.inr (⟨rfl, ed2_65, mc2_66, cap2_67, (by omega), hb8, hE_68, hE_69⟩))
set_option maxHeartbeats 4000000 in
theorem c_X1_placeFoam_x (G : fp_G) (x : Nat) (u : Nat) (sv : Value) (hi : Nat) (ip : Nat) (ln : Nat) (er : Int) (fa : Int) (l : Nat) (ed : Nat) (z : Nat) (t : Nat) (mc : Int32) (cap : Nat) (b : Nat → Nat) (S : PS) (lc : Int) (wd : Int) (wt : Int) (hsw : fp_sw S b) (hxb : (g_s G).heap.size ≤ x) (hlc : rg lc) (hwd : rg wd) (hwt : rg wt) (hiv : fp_Iv S) (hp9 : sP S < 999) : fp_MX G yX1_placeFoam cX1_placeFoam 4 (some .int) 13 314 165 3215 [.ref (x), .int (iI (lc)), .int (iI (wd)), .int (iI (wt))] (fun H => fp_At G H x (eO 1 [.ref (u), sv, .ref (hi), .ref (ip), .ref (ln), .int (iI (bI (true))), .int (iI (er)), .int (iI (fa))]) ∧ fp_SE G u l ed z t mc cap b S H) (fun q => (g_s G).heap.size ≤ q ∧ (q = u ∨ q = l ∨ q = ed)) (fun H v H1 => ∃ (ed2 : Nat), ∃ (mc2 : Int32), ∃ (cap2 : Nat), ∃ (nb : Nat), v = some (.int (iI ((sP S : Nat) : Int))) ∧ (fp_plc S 0 lc wd wt = 0) ∧ (ed2 = ed ∨ H.size ≤ ed2) ∧ (H.size ≤ nb) ∧ fp_SE G u l ed2 z t mc2 cap2 (va_up b (sN S) nb) (fp_add S 0 lc.toNat wd.toNat wt.toNat) H1) (fun H E H1 => (E = "java/lang/IllegalArgumentException" ∧ ((fp_plc S 0 lc wd wt = 1) ∧ fp_SE G u l ed z t mc cap b S H1)) ∨ (E = "java/lang/IllegalStateException" ∧ (∃ (ed2 : Nat), ∃ (mc2 : Int32), ∃ (cap2 : Nat), (ed2 = ed ∨ H.size ≤ ed2) ∧ (fp_plc S 0 lc wd wt = 2) ∧ fp_SE G u l ed2 z t mc2 cap2 b S H1))) := by
  refine fp_MX.intro (by decide) (Nat.le_of_ble_eq_true rfl) ?_
  intro pg en s mi ag bl mt cd rR qQ ls X hx hb hr hlk hnm hR hQ hT hB hM hl
  have hS : va_S (fA (fun q => (g_s G).heap.size ≤ q ∧ (q = u ∨ q = l ∨ q = ed)) s.heap.size) s.heap s.heap [] := va_S.rf
  generalize ([] : List Loc) = locs at hS ⊢
  have hb0 := hB.1
  have hAb : ∀ q, (fun q => (g_s G).heap.size ≤ q ∧ (q = u ∨ q = l ∨ q = ed)) q → (g_s G).heap.size ≤ q := fun q h => h.1
  obtain ⟨h_pob, h_st⟩ := hM
  have hsz0 := hS.1
  have lt_1 := h_pob.lt
  have lt_2 := h_st.1.lt
  have hn24 := hsw.1.1
  have hed0 := (X.2.2.2.2.2.deT (A := fp_no) hB fp_no.base).2.2
  obtain ⟨hku, hkl, hkz, hkt, hkb, hxb9, hzb9, htb9⟩ := id h_st
  have hlb9 := hkl.2.2.2
  have hne_3 : fp_dif x u := fp_neOO X.2.2.2.2.2 (i := 1) (j := 2) rfl rfl (by decide) h_pob hku
  have hne_4 : fp_dif x l := fp_neOO X.2.2.2.2.2 (i := 1) (j := 8) rfl rfl (by decide) h_pob hkl.1
  have hne_5 : fp_dif x z := fp_neOA X.2.2.2.2.2 (i := 1) (t := 5) rfl rfl h_pob hkz
  have hne_6 : fp_dif x t := fp_neOA X.2.2.2.2.2 (i := 1) (t := 1) rfl rfl h_pob hkt
  have hne_7 : fp_dif x ed := fp_LE.neE hkl hed0 (by omega) (fun f9 h9 => fp_neOA X.2.2.2.2.2 (i := 1) (t := 4) rfl rfl h_pob h9)
  have hne_8 : fp_dif u l := fp_neOO X.2.2.2.2.2 (i := 2) (j := 8) rfl rfl (by decide) hku hkl.1
  have hne_9 : fp_dif u z := fp_neOA X.2.2.2.2.2 (i := 2) (t := 5) rfl rfl hku hkz
  have hne_10 : fp_dif u t := fp_neOA X.2.2.2.2.2 (i := 2) (t := 1) rfl rfl hku hkt
  have hne_11 : fp_dif u ed := fp_LE.neE hkl hed0 (by omega) (fun f9 h9 => fp_neOA X.2.2.2.2.2 (i := 2) (t := 4) rfl rfl hku h9)
  have hne_12 : fp_dif l z := fp_neOA X.2.2.2.2.2 (i := 8) (t := 5) rfl rfl hkl.1 hkz
  have hne_13 : fp_dif l t := fp_neOA X.2.2.2.2.2 (i := 8) (t := 1) rfl rfl hkl.1 hkt
  have hne_14 : fp_dif l ed := fp_LE.neE hkl hed0 (by omega) (fun f9 h9 => fp_neOA X.2.2.2.2.2 (i := 8) (t := 4) rfl rfl hkl.1 h9)
  have hne_15 : fp_dif z t := fp_neAA X.2.2.2.2.2 (t := 5) (t2 := 1) rfl rfl (by decide) hkz hkt
  have hne_16 : fp_dif z ed := fp_LE.neE hkl hed0 (by omega) (fun f9 h9 => fp_neAA X.2.2.2.2.2 (t := 5) (t2 := 4) rfl rfl (by decide) hkz h9)
  have hne_17 : fp_dif t ed := fp_LE.neE hkl hed0 (by omega) (fun f9 h9 => fp_neAA X.2.2.2.2.2 (t := 1) (t2 := 4) rfl rfl (by decide) hkt h9)
  have hap0 := (fp_SE.dis X.2.2.2.2.2 hed0 h_st).2
  refine lv_aload_n hx hb dX1_placeFoam_0 rfl (lv_at hl 0 rfl) ?_
  refine lv_bipush (v := (iI ((102 : Nat) : Int))) hx hb dX1_placeFoam_1 rfl ?_
  refine lv_iload_n hx hb dX1_placeFoam_3 rfl (lv_at hl 1 rfl) ?_
  refine lv_iload_n hx hb dX1_placeFoam_4 rfl (lv_at hl 2 rfl) ?_
  refine lv_iload_n hx hb dX1_placeFoam_5 rfl (lv_at hl 3 rfl) ?_
  refine x_callV (cells1 := 165) (slots1 := 3215) X hR (c_X1_place_x G x u sv hi ip ln (er) (fa) l ed z t mc cap b S 0 (lc) (wd) (wt) hsw hxb (by omega) (⟨by omega, by omega⟩) (⟨by omega, by omega⟩) (⟨by omega, by omega⟩) hiv hp9) q1118 q1120 qs20 q88 q1121 ⟨rfl, pd_X1_place⟩ ⟨Nat.le_of_ble_eq_true rfl, Nat.le_of_ble_eq_true rfl⟩ rfl rfl (Nat.le_of_ble_eq_true rfl) (Nat.le_of_ble_eq_true rfl) h_pob rfl rfl (Nat.le_of_ble_eq_true rfl) hl.1 dX1_placeFoam_6 (hB.of hS hAb) ⟨h_pob, h_st⟩ hS (fun q h => by have h2 : (g_s G).heap.size ≤ q ∧ (q = u ∨ q = l ∨ q = ed) := h; show ((g_s G).heap.size ≤ q ∧ (q = u ∨ q = l ∨ q = ed)) ∨ s.heap.size ≤ q; omega) (fun v H_21 locs hp_18 hz_19 hk_20 hS => ?_) (fun Ex qx cx H_21 locs hp_18 hz_19 hk_20 hS hcx hvx hlx => ?_)
  · skip
    obtain ⟨ed2_22, mc2_23, cap2_24, nb_25, rfl, hpc_26, hed2_27, hnb_28, hE_29⟩ := hp_18
    have hz_30 := hS.1
    have lt_31 := hE_29.1.lt
    refine r_stk (st2 := [.int (iI ((sP S : Nat) : Int))]) rfl ?_
    refine x_iret hx hb hr hlk hQ hS (Nat.le_of_ble_eq_true rfl) (Nat.le_of_ble_eq_true rfl) dX1_placeFoam_9 ?_
    exact ⟨ed2_22, mc2_23, cap2_24, nb_25, rfl, hpc_26, (by omega), (by omega), hE_29⟩
  · skip
    rcases hp_18 with ⟨rfl, hb9, hE_32⟩ | ⟨rfl, ed2_33, mc2_34, cap2_35, hb9, hb8, hE_36⟩
    · skip
      have hz_37 := hS.1
      have lt_38 := hE_32.1.lt
      exact x_out hT hlk hQ hS (Nat.le_of_ble_eq_true rfl) (Nat.le_of_ble_eq_true rfl) hcx hvx hlx (Or.inl ⟨rfl, hb9, hE_32⟩)
    · skip
      have hz_39 := hS.1
      have lt_40 := hE_36.1.lt
      exact x_out hT hlk hQ hS (Nat.le_of_ble_eq_true rfl) (Nat.le_of_ble_eq_true rfl) hcx hvx hlx (Or.inr (⟨rfl, ed2_33, mc2_34, cap2_35, (by omega), hb8, hE_36⟩))
set_option maxHeartbeats 4000000 in
theorem c_X1_placeBoard (G : fp_G) (x : Nat) (u : Nat) (sv : Value) (hi : Nat) (ip : Nat) (ln : Nat) (er : Int) (fa : Int) (l : Nat) (ed : Nat) (z : Nat) (t : Nat) (mc : Int32) (cap : Nat) (b : Nat → Nat) (S : PS) (el : Nat) (hd : Nat) (hn : Nat) (q : Nat → Nat) (lc : Int) (wd : Int) (wt : Int) (hsw : fp_sw S b) (hxb : (g_s G).heap.size ≤ x) (hlc : rg lc) (hwd : rg wd) (hwt : rg wt) (hiv : fp_Iv S) (hp9 : sP S < 999) (hh8 : hn ≤ 8) (hde : fp_dif ed el) : fp_MX G yX1_placeBoard cX1_placeBoard 4 (some .int) 13 314 165 3215 [.ref (x), .int (iI (lc)), .int (iI (wd)), .int (iI (wt))] (fun H => fp_At G H x (eO 1 [.ref (u), sv, .ref (hi), .ref (ip), .ref (ln), .int (iI (bI (false))), .int (iI (er)), .int (iI (fa))]) ∧ fp_SE G u l ed z t mc cap b S H ∧ fp_DQ G hi el hd hn q H) (fun q => (g_s G).heap.size ≤ q ∧ (q = u ∨ q = l ∨ q = ed ∨ q = hi ∨ q = el)) (fun H v H1 => ∃ (ed2 : Nat), ∃ (mc2 : Int32), ∃ (cap2 : Nat), ∃ (nb : Nat), ∃ (hd2 : Nat), ∃ (y9 : Nat), ∃ (l9 : Nat), ∃ (e9 : Nat), ∃ (z9 : Nat), ∃ (t9 : Nat), ∃ (m9 : Int32), ∃ (c9 : Nat), v = some (.int (iI ((sP S : Nat) : Int))) ∧ (fp_plc S 1 lc wd wt = 0) ∧ (ed2 = ed ∨ H.size ≤ ed2) ∧ (H.size ≤ nb) ∧ (H.size ≤ y9 ∧ H.size ≤ l9 ∧ H.size ≤ z9 ∧ H.size ≤ t9) ∧ (e9 = fp_de G ∨ H.size ≤ e9) ∧ (e9 = fp_de G ∨ fp_dif e9 ed2) ∧ fp_SE G u l ed2 z t mc2 cap2 (va_up b (sN S) nb) (fp_add S 1 lc.toNat wd.toNat wt.toNat) H1 ∧ fp_DQ G hi el hd2 (fp_hn hn) (fp_qpush q hn y9) H1 ∧ fp_SE G y9 l9 e9 z9 t9 m9 c9 b S H1) (fun H E H1 => (E = "java/lang/IllegalArgumentException" ∧ ((fp_plc S 1 lc wd wt = 1) ∧ fp_SE G u l ed z t mc cap b S H1 ∧ fp_DQ G hi el hd hn q H1)) ∨ (E = "java/lang/IllegalStateException" ∧ (∃ (ed2 : Nat), ∃ (mc2 : Int32), ∃ (cap2 : Nat), (ed2 = ed ∨ H.size ≤ ed2) ∧ (fp_plc S 1 lc wd wt = 2) ∧ fp_SE G u l ed2 z t mc2 cap2 b S H1 ∧ fp_DQ G hi el hd hn q H1))) := by
  refine fp_MX.intro (by decide) (Nat.le_of_ble_eq_true rfl) ?_
  intro pg en s mi ag bl mt cd rR qQ ls X hx hb hr hlk hnm hR hQ hT hB hM hl
  have hS : va_S (fA (fun q => (g_s G).heap.size ≤ q ∧ (q = u ∨ q = l ∨ q = ed ∨ q = hi ∨ q = el)) s.heap.size) s.heap s.heap [] := va_S.rf
  generalize ([] : List Loc) = locs at hS ⊢
  have hb0 := hB.1
  have hAb : ∀ q, (fun q => (g_s G).heap.size ≤ q ∧ (q = u ∨ q = l ∨ q = ed ∨ q = hi ∨ q = el)) q → (g_s G).heap.size ≤ q := fun q h => h.1
  obtain ⟨h_pob, h_st, h_dq⟩ := hM
  have hsz0 := hS.1
  have lt_1 := h_pob.lt
  have lt_2 := h_st.1.lt
  have lt_3 := h_dq.1.lt
  have lt_4 := h_dq.2.2.1.1
  have hn24 := hsw.1.1
  have hed0 := (X.2.2.2.2.2.deT (A := fp_no) hB fp_no.base).2.2
  obtain ⟨hku, hkl, hkz, hkt, hkb, hxb9, hzb9, htb9⟩ := id h_st
  have hlb9 := hkl.2.2.2
  obtain ⟨hdo, ⟨fdq, hdr, -⟩, hdq9, hdb1, hdb2⟩ := id h_dq
  have hdlt := hdo.lt
  have hnSh := fp_SE.nO X.2.2.2.2.2 hed0 h_st (j := 10) rfl ⟨by decide, by decide, by decide, by decide, by decide⟩ hdo hdb1
  have hnSe := fp_SE.nQ X.2.2.2.2.2 h_st hdr hde
  have hnel : fp_dif el ed := Ne.symm hde
  have hne_5 : fp_dif x u := fp_neOO X.2.2.2.2.2 (i := 1) (j := 2) rfl rfl (by decide) h_pob hku
  have hne_6 : fp_dif x l := fp_neOO X.2.2.2.2.2 (i := 1) (j := 8) rfl rfl (by decide) h_pob hkl.1
  have hne_7 : fp_dif x z := fp_neOA X.2.2.2.2.2 (i := 1) (t := 5) rfl rfl h_pob hkz
  have hne_8 : fp_dif x t := fp_neOA X.2.2.2.2.2 (i := 1) (t := 1) rfl rfl h_pob hkt
  have hne_9 : fp_dif x hi := fp_neOO X.2.2.2.2.2 (i := 1) (j := 10) rfl rfl (by decide) h_pob hdo
  have hne_10 : fp_dif x el := fp_neOA X.2.2.2.2.2 (i := 1) (t := 4) rfl rfl h_pob hdr
  have hne_11 : fp_dif x ed := fp_LE.neE hkl hed0 (by omega) (fun f9 h9 => fp_neOA X.2.2.2.2.2 (i := 1) (t := 4) rfl rfl h_pob h9)
  have hne_12 : fp_dif u l := fp_neOO X.2.2.2.2.2 (i := 2) (j := 8) rfl rfl (by decide) hku hkl.1
  have hne_13 : fp_dif u z := fp_neOA X.2.2.2.2.2 (i := 2) (t := 5) rfl rfl hku hkz
  have hne_14 : fp_dif u t := fp_neOA X.2.2.2.2.2 (i := 2) (t := 1) rfl rfl hku hkt
  have hne_15 : fp_dif u hi := fp_neOO X.2.2.2.2.2 (i := 2) (j := 10) rfl rfl (by decide) hku hdo
  have hne_16 : fp_dif u el := fp_neOA X.2.2.2.2.2 (i := 2) (t := 4) rfl rfl hku hdr
  have hne_17 : fp_dif u ed := fp_LE.neE hkl hed0 (by omega) (fun f9 h9 => fp_neOA X.2.2.2.2.2 (i := 2) (t := 4) rfl rfl hku h9)
  have hne_18 : fp_dif l z := fp_neOA X.2.2.2.2.2 (i := 8) (t := 5) rfl rfl hkl.1 hkz
  have hne_19 : fp_dif l t := fp_neOA X.2.2.2.2.2 (i := 8) (t := 1) rfl rfl hkl.1 hkt
  have hne_20 : fp_dif l hi := fp_neOO X.2.2.2.2.2 (i := 8) (j := 10) rfl rfl (by decide) hkl.1 hdo
  have hne_21 : fp_dif l el := fp_neOA X.2.2.2.2.2 (i := 8) (t := 4) rfl rfl hkl.1 hdr
  have hne_22 : fp_dif l ed := fp_LE.neE hkl hed0 (by omega) (fun f9 h9 => fp_neOA X.2.2.2.2.2 (i := 8) (t := 4) rfl rfl hkl.1 h9)
  have hne_23 : fp_dif z t := fp_neAA X.2.2.2.2.2 (t := 5) (t2 := 1) rfl rfl (by decide) hkz hkt
  have hne_24 : fp_dif z hi := Ne.symm (fp_neOA X.2.2.2.2.2 (i := 10) (t := 5) rfl rfl hdo hkz)
  have hne_25 : fp_dif z el := fp_neAA X.2.2.2.2.2 (t := 5) (t2 := 4) rfl rfl (by decide) hkz hdr
  have hne_26 : fp_dif z ed := fp_LE.neE hkl hed0 (by omega) (fun f9 h9 => fp_neAA X.2.2.2.2.2 (t := 5) (t2 := 4) rfl rfl (by decide) hkz h9)
  have hne_27 : fp_dif t hi := Ne.symm (fp_neOA X.2.2.2.2.2 (i := 10) (t := 1) rfl rfl hdo hkt)
  have hne_28 : fp_dif t el := fp_neAA X.2.2.2.2.2 (t := 1) (t2 := 4) rfl rfl (by decide) hkt hdr
  have hne_29 : fp_dif t ed := fp_LE.neE hkl hed0 (by omega) (fun f9 h9 => fp_neAA X.2.2.2.2.2 (t := 1) (t2 := 4) rfl rfl (by decide) hkt h9)
  have hne_30 : fp_dif hi el := fp_neOA X.2.2.2.2.2 (i := 10) (t := 4) rfl rfl hdo hdr
  have hne_31 : fp_dif hi ed := fp_LE.neE hkl hed0 (by omega) (fun f9 h9 => fp_neOA X.2.2.2.2.2 (i := 10) (t := 4) rfl rfl hdo h9)
  have hap0 := (fp_SE.dis X.2.2.2.2.2 hed0 h_st).2
  refine lv_aload_n hx hb dX1_placeBoard_0 rfl (lv_at hl 0 rfl) ?_
  refine lv_bipush (v := (iI ((98 : Nat) : Int))) hx hb dX1_placeBoard_1 rfl ?_
  refine lv_iload_n hx hb dX1_placeBoard_3 rfl (lv_at hl 1 rfl) ?_
  refine lv_iload_n hx hb dX1_placeBoard_4 rfl (lv_at hl 2 rfl) ?_
  refine lv_iload_n hx hb dX1_placeBoard_5 rfl (lv_at hl 3 rfl) ?_
  refine x_callV (cells1 := 165) (slots1 := 3215) X hR (c_X1_place G x u sv hi ip ln (er) (fa) l ed z t mc cap b S el hd hn q 1 (lc) (wd) (wt) hsw hxb (by omega) (⟨by omega, by omega⟩) (⟨by omega, by omega⟩) (⟨by omega, by omega⟩) hiv hp9 hh8 hde) q1118 q1120 qs20 q88 q1121 ⟨rfl, pd_X1_place⟩ ⟨Nat.le_of_ble_eq_true rfl, Nat.le_of_ble_eq_true rfl⟩ rfl rfl (Nat.le_of_ble_eq_true rfl) (Nat.le_of_ble_eq_true rfl) h_pob rfl rfl (Nat.le_of_ble_eq_true rfl) hl.1 dX1_placeBoard_6 (hB.of hS hAb) ⟨h_pob, h_st, h_dq⟩ hS (fun q h => by have h2 : (g_s G).heap.size ≤ q ∧ (q = u ∨ q = l ∨ q = ed ∨ q = hi ∨ q = el) := h; show ((g_s G).heap.size ≤ q ∧ (q = u ∨ q = l ∨ q = ed ∨ q = hi ∨ q = el)) ∨ s.heap.size ≤ q; omega) (fun v H_35 locs hp_32 hz_33 hk_34 hS => ?_) (fun Ex qx cx H_35 locs hp_32 hz_33 hk_34 hS hcx hvx hlx => ?_)
  · skip
    obtain ⟨ed2_36, mc2_37, cap2_38, nb_39, hd2_40, y9_41, l9_42, e9_43, z9_44, t9_45, m9_46, c9_47, rfl, hpc_48, hed2_49, hnb_50, hcf_51, hce_52, hee_53, hE_54, hE_55, hE_56⟩ := hp_32
    have hz_57 := hS.1
    have lt_58 := hE_54.1.lt
    have lt_59 := hE_55.1.lt
    have lt_60 := hE_55.2.2.1.1
    have lt_62 := hE_56.1.lt
    refine r_stk (st2 := [.int (iI ((sP S : Nat) : Int))]) rfl ?_
    refine x_iret hx hb hr hlk hQ hS (Nat.le_of_ble_eq_true rfl) (Nat.le_of_ble_eq_true rfl) dX1_placeBoard_9 ?_
    exact ⟨ed2_36, mc2_37, cap2_38, nb_39, hd2_40, y9_41, l9_42, e9_43, z9_44, t9_45, m9_46, c9_47, rfl, hpc_48, (by omega), (by omega), (by omega), (by omega), hee_53, hE_54, hE_55, hE_56⟩
  · skip
    rcases hp_32 with ⟨rfl, hb9, hE_63, hE_64⟩ | ⟨rfl, ed2_65, mc2_66, cap2_67, hb9, hb8, hE_68, hE_69⟩
    · skip
      have hz_70 := hS.1
      have lt_71 := hE_63.1.lt
      have lt_72 := hE_64.1.lt
      have lt_73 := hE_64.2.2.1.1
      exact x_out hT hlk hQ hS (Nat.le_of_ble_eq_true rfl) (Nat.le_of_ble_eq_true rfl) hcx hvx hlx (Or.inl ⟨rfl, hb9, hE_63, hE_64⟩)
    · skip
      have hz_74 := hS.1
      have lt_75 := hE_68.1.lt
      have lt_76 := hE_69.1.lt
      have lt_77 := hE_69.2.2.1.1
      exact x_out hT hlk hQ hS (Nat.le_of_ble_eq_true rfl) (Nat.le_of_ble_eq_true rfl) hcx hvx hlx (Or.inr (⟨rfl, ed2_65, mc2_66, cap2_67, (by omega), hb8, hE_68, hE_69⟩))
set_option maxHeartbeats 4000000 in
theorem c_X1_placeBoard_x (G : fp_G) (x : Nat) (u : Nat) (sv : Value) (hi : Nat) (ip : Nat) (ln : Nat) (er : Int) (fa : Int) (l : Nat) (ed : Nat) (z : Nat) (t : Nat) (mc : Int32) (cap : Nat) (b : Nat → Nat) (S : PS) (lc : Int) (wd : Int) (wt : Int) (hsw : fp_sw S b) (hxb : (g_s G).heap.size ≤ x) (hlc : rg lc) (hwd : rg wd) (hwt : rg wt) (hiv : fp_Iv S) (hp9 : sP S < 999) : fp_MX G yX1_placeBoard cX1_placeBoard 4 (some .int) 13 314 165 3215 [.ref (x), .int (iI (lc)), .int (iI (wd)), .int (iI (wt))] (fun H => fp_At G H x (eO 1 [.ref (u), sv, .ref (hi), .ref (ip), .ref (ln), .int (iI (bI (true))), .int (iI (er)), .int (iI (fa))]) ∧ fp_SE G u l ed z t mc cap b S H) (fun q => (g_s G).heap.size ≤ q ∧ (q = u ∨ q = l ∨ q = ed)) (fun H v H1 => ∃ (ed2 : Nat), ∃ (mc2 : Int32), ∃ (cap2 : Nat), ∃ (nb : Nat), v = some (.int (iI ((sP S : Nat) : Int))) ∧ (fp_plc S 1 lc wd wt = 0) ∧ (ed2 = ed ∨ H.size ≤ ed2) ∧ (H.size ≤ nb) ∧ fp_SE G u l ed2 z t mc2 cap2 (va_up b (sN S) nb) (fp_add S 1 lc.toNat wd.toNat wt.toNat) H1) (fun H E H1 => (E = "java/lang/IllegalArgumentException" ∧ ((fp_plc S 1 lc wd wt = 1) ∧ fp_SE G u l ed z t mc cap b S H1)) ∨ (E = "java/lang/IllegalStateException" ∧ (∃ (ed2 : Nat), ∃ (mc2 : Int32), ∃ (cap2 : Nat), (ed2 = ed ∨ H.size ≤ ed2) ∧ (fp_plc S 1 lc wd wt = 2) ∧ fp_SE G u l ed2 z t mc2 cap2 b S H1))) := by
  refine fp_MX.intro (by decide) (Nat.le_of_ble_eq_true rfl) ?_
  intro pg en s mi ag bl mt cd rR qQ ls X hx hb hr hlk hnm hR hQ hT hB hM hl
  have hS : va_S (fA (fun q => (g_s G).heap.size ≤ q ∧ (q = u ∨ q = l ∨ q = ed)) s.heap.size) s.heap s.heap [] := va_S.rf
  generalize ([] : List Loc) = locs at hS ⊢
  have hb0 := hB.1
  have hAb : ∀ q, (fun q => (g_s G).heap.size ≤ q ∧ (q = u ∨ q = l ∨ q = ed)) q → (g_s G).heap.size ≤ q := fun q h => h.1
  obtain ⟨h_pob, h_st⟩ := hM
  have hsz0 := hS.1
  have lt_1 := h_pob.lt
  have lt_2 := h_st.1.lt
  have hn24 := hsw.1.1
  have hed0 := (X.2.2.2.2.2.deT (A := fp_no) hB fp_no.base).2.2
  obtain ⟨hku, hkl, hkz, hkt, hkb, hxb9, hzb9, htb9⟩ := id h_st
  have hlb9 := hkl.2.2.2
  have hne_3 : fp_dif x u := fp_neOO X.2.2.2.2.2 (i := 1) (j := 2) rfl rfl (by decide) h_pob hku
  have hne_4 : fp_dif x l := fp_neOO X.2.2.2.2.2 (i := 1) (j := 8) rfl rfl (by decide) h_pob hkl.1
  have hne_5 : fp_dif x z := fp_neOA X.2.2.2.2.2 (i := 1) (t := 5) rfl rfl h_pob hkz
  have hne_6 : fp_dif x t := fp_neOA X.2.2.2.2.2 (i := 1) (t := 1) rfl rfl h_pob hkt
  have hne_7 : fp_dif x ed := fp_LE.neE hkl hed0 (by omega) (fun f9 h9 => fp_neOA X.2.2.2.2.2 (i := 1) (t := 4) rfl rfl h_pob h9)
  have hne_8 : fp_dif u l := fp_neOO X.2.2.2.2.2 (i := 2) (j := 8) rfl rfl (by decide) hku hkl.1
  have hne_9 : fp_dif u z := fp_neOA X.2.2.2.2.2 (i := 2) (t := 5) rfl rfl hku hkz
  have hne_10 : fp_dif u t := fp_neOA X.2.2.2.2.2 (i := 2) (t := 1) rfl rfl hku hkt
  have hne_11 : fp_dif u ed := fp_LE.neE hkl hed0 (by omega) (fun f9 h9 => fp_neOA X.2.2.2.2.2 (i := 2) (t := 4) rfl rfl hku h9)
  have hne_12 : fp_dif l z := fp_neOA X.2.2.2.2.2 (i := 8) (t := 5) rfl rfl hkl.1 hkz
  have hne_13 : fp_dif l t := fp_neOA X.2.2.2.2.2 (i := 8) (t := 1) rfl rfl hkl.1 hkt
  have hne_14 : fp_dif l ed := fp_LE.neE hkl hed0 (by omega) (fun f9 h9 => fp_neOA X.2.2.2.2.2 (i := 8) (t := 4) rfl rfl hkl.1 h9)
  have hne_15 : fp_dif z t := fp_neAA X.2.2.2.2.2 (t := 5) (t2 := 1) rfl rfl (by decide) hkz hkt
  have hne_16 : fp_dif z ed := fp_LE.neE hkl hed0 (by omega) (fun f9 h9 => fp_neAA X.2.2.2.2.2 (t := 5) (t2 := 4) rfl rfl (by decide) hkz h9)
  have hne_17 : fp_dif t ed := fp_LE.neE hkl hed0 (by omega) (fun f9 h9 => fp_neAA X.2.2.2.2.2 (t := 1) (t2 := 4) rfl rfl (by decide) hkt h9)
  have hap0 := (fp_SE.dis X.2.2.2.2.2 hed0 h_st).2
  refine lv_aload_n hx hb dX1_placeBoard_0 rfl (lv_at hl 0 rfl) ?_
  refine lv_bipush (v := (iI ((98 : Nat) : Int))) hx hb dX1_placeBoard_1 rfl ?_
  refine lv_iload_n hx hb dX1_placeBoard_3 rfl (lv_at hl 1 rfl) ?_
  refine lv_iload_n hx hb dX1_placeBoard_4 rfl (lv_at hl 2 rfl) ?_
  refine lv_iload_n hx hb dX1_placeBoard_5 rfl (lv_at hl 3 rfl) ?_
  refine x_callV (cells1 := 165) (slots1 := 3215) X hR (c_X1_place_x G x u sv hi ip ln (er) (fa) l ed z t mc cap b S 1 (lc) (wd) (wt) hsw hxb (by omega) (⟨by omega, by omega⟩) (⟨by omega, by omega⟩) (⟨by omega, by omega⟩) hiv hp9) q1118 q1120 qs20 q88 q1121 ⟨rfl, pd_X1_place⟩ ⟨Nat.le_of_ble_eq_true rfl, Nat.le_of_ble_eq_true rfl⟩ rfl rfl (Nat.le_of_ble_eq_true rfl) (Nat.le_of_ble_eq_true rfl) h_pob rfl rfl (Nat.le_of_ble_eq_true rfl) hl.1 dX1_placeBoard_6 (hB.of hS hAb) ⟨h_pob, h_st⟩ hS (fun q h => by have h2 : (g_s G).heap.size ≤ q ∧ (q = u ∨ q = l ∨ q = ed) := h; show ((g_s G).heap.size ≤ q ∧ (q = u ∨ q = l ∨ q = ed)) ∨ s.heap.size ≤ q; omega) (fun v H_21 locs hp_18 hz_19 hk_20 hS => ?_) (fun Ex qx cx H_21 locs hp_18 hz_19 hk_20 hS hcx hvx hlx => ?_)
  · skip
    obtain ⟨ed2_22, mc2_23, cap2_24, nb_25, rfl, hpc_26, hed2_27, hnb_28, hE_29⟩ := hp_18
    have hz_30 := hS.1
    have lt_31 := hE_29.1.lt
    refine r_stk (st2 := [.int (iI ((sP S : Nat) : Int))]) rfl ?_
    refine x_iret hx hb hr hlk hQ hS (Nat.le_of_ble_eq_true rfl) (Nat.le_of_ble_eq_true rfl) dX1_placeBoard_9 ?_
    exact ⟨ed2_22, mc2_23, cap2_24, nb_25, rfl, hpc_26, (by omega), (by omega), hE_29⟩
  · skip
    rcases hp_18 with ⟨rfl, hb9, hE_32⟩ | ⟨rfl, ed2_33, mc2_34, cap2_35, hb9, hb8, hE_36⟩
    · skip
      have hz_37 := hS.1
      have lt_38 := hE_32.1.lt
      exact x_out hT hlk hQ hS (Nat.le_of_ble_eq_true rfl) (Nat.le_of_ble_eq_true rfl) hcx hvx hlx (Or.inl ⟨rfl, hb9, hE_32⟩)
    · skip
      have hz_39 := hS.1
      have lt_40 := hE_36.1.lt
      exact x_out hT hlk hQ hS (Nat.le_of_ble_eq_true rfl) (Nat.le_of_ble_eq_true rfl) hcx hvx hlx (Or.inr (⟨rfl, ed2_33, mc2_34, cap2_35, (by omega), hb8, hE_36⟩))
set_option maxHeartbeats 4000000 in
theorem c_X1_placeBag (G : fp_G) (x : Nat) (u : Nat) (sv : Value) (hi : Nat) (ip : Nat) (ln : Nat) (er : Int) (fa : Int) (l : Nat) (ed : Nat) (z : Nat) (t : Nat) (mc : Int32) (cap : Nat) (b : Nat → Nat) (S : PS) (el : Nat) (hd : Nat) (hn : Nat) (q : Nat → Nat) (lc : Int) (wd : Int) (wt : Int) (hsw : fp_sw S b) (hxb : (g_s G).heap.size ≤ x) (hlc : rg lc) (hwd : rg wd) (hwt : rg wt) (hiv : fp_Iv S) (hp9 : sP S < 999) (hh8 : hn ≤ 8) (hde : fp_dif ed el) : fp_MX G yX1_placeBag cX1_placeBag 4 (some .int) 13 314 165 3215 [.ref (x), .int (iI (lc)), .int (iI (wd)), .int (iI (wt))] (fun H => fp_At G H x (eO 1 [.ref (u), sv, .ref (hi), .ref (ip), .ref (ln), .int (iI (bI (false))), .int (iI (er)), .int (iI (fa))]) ∧ fp_SE G u l ed z t mc cap b S H ∧ fp_DQ G hi el hd hn q H) (fun q => (g_s G).heap.size ≤ q ∧ (q = u ∨ q = l ∨ q = ed ∨ q = hi ∨ q = el)) (fun H v H1 => ∃ (ed2 : Nat), ∃ (mc2 : Int32), ∃ (cap2 : Nat), ∃ (nb : Nat), ∃ (hd2 : Nat), ∃ (y9 : Nat), ∃ (l9 : Nat), ∃ (e9 : Nat), ∃ (z9 : Nat), ∃ (t9 : Nat), ∃ (m9 : Int32), ∃ (c9 : Nat), v = some (.int (iI ((sP S : Nat) : Int))) ∧ (fp_plc S 2 lc wd wt = 0) ∧ (ed2 = ed ∨ H.size ≤ ed2) ∧ (H.size ≤ nb) ∧ (H.size ≤ y9 ∧ H.size ≤ l9 ∧ H.size ≤ z9 ∧ H.size ≤ t9) ∧ (e9 = fp_de G ∨ H.size ≤ e9) ∧ (e9 = fp_de G ∨ fp_dif e9 ed2) ∧ fp_SE G u l ed2 z t mc2 cap2 (va_up b (sN S) nb) (fp_add S 2 lc.toNat wd.toNat wt.toNat) H1 ∧ fp_DQ G hi el hd2 (fp_hn hn) (fp_qpush q hn y9) H1 ∧ fp_SE G y9 l9 e9 z9 t9 m9 c9 b S H1) (fun H E H1 => (E = "java/lang/IllegalArgumentException" ∧ ((fp_plc S 2 lc wd wt = 1) ∧ fp_SE G u l ed z t mc cap b S H1 ∧ fp_DQ G hi el hd hn q H1)) ∨ (E = "java/lang/IllegalStateException" ∧ (∃ (ed2 : Nat), ∃ (mc2 : Int32), ∃ (cap2 : Nat), (ed2 = ed ∨ H.size ≤ ed2) ∧ (fp_plc S 2 lc wd wt = 2) ∧ fp_SE G u l ed2 z t mc2 cap2 b S H1 ∧ fp_DQ G hi el hd hn q H1))) := by
  refine fp_MX.intro (by decide) (Nat.le_of_ble_eq_true rfl) ?_
  intro pg en s mi ag bl mt cd rR qQ ls X hx hb hr hlk hnm hR hQ hT hB hM hl
  have hS : va_S (fA (fun q => (g_s G).heap.size ≤ q ∧ (q = u ∨ q = l ∨ q = ed ∨ q = hi ∨ q = el)) s.heap.size) s.heap s.heap [] := va_S.rf
  generalize ([] : List Loc) = locs at hS ⊢
  have hb0 := hB.1
  have hAb : ∀ q, (fun q => (g_s G).heap.size ≤ q ∧ (q = u ∨ q = l ∨ q = ed ∨ q = hi ∨ q = el)) q → (g_s G).heap.size ≤ q := fun q h => h.1
  obtain ⟨h_pob, h_st, h_dq⟩ := hM
  have hsz0 := hS.1
  have lt_1 := h_pob.lt
  have lt_2 := h_st.1.lt
  have lt_3 := h_dq.1.lt
  have lt_4 := h_dq.2.2.1.1
  have hn24 := hsw.1.1
  have hed0 := (X.2.2.2.2.2.deT (A := fp_no) hB fp_no.base).2.2
  obtain ⟨hku, hkl, hkz, hkt, hkb, hxb9, hzb9, htb9⟩ := id h_st
  have hlb9 := hkl.2.2.2
  obtain ⟨hdo, ⟨fdq, hdr, -⟩, hdq9, hdb1, hdb2⟩ := id h_dq
  have hdlt := hdo.lt
  have hnSh := fp_SE.nO X.2.2.2.2.2 hed0 h_st (j := 10) rfl ⟨by decide, by decide, by decide, by decide, by decide⟩ hdo hdb1
  have hnSe := fp_SE.nQ X.2.2.2.2.2 h_st hdr hde
  have hnel : fp_dif el ed := Ne.symm hde
  have hne_5 : fp_dif x u := fp_neOO X.2.2.2.2.2 (i := 1) (j := 2) rfl rfl (by decide) h_pob hku
  have hne_6 : fp_dif x l := fp_neOO X.2.2.2.2.2 (i := 1) (j := 8) rfl rfl (by decide) h_pob hkl.1
  have hne_7 : fp_dif x z := fp_neOA X.2.2.2.2.2 (i := 1) (t := 5) rfl rfl h_pob hkz
  have hne_8 : fp_dif x t := fp_neOA X.2.2.2.2.2 (i := 1) (t := 1) rfl rfl h_pob hkt
  have hne_9 : fp_dif x hi := fp_neOO X.2.2.2.2.2 (i := 1) (j := 10) rfl rfl (by decide) h_pob hdo
  have hne_10 : fp_dif x el := fp_neOA X.2.2.2.2.2 (i := 1) (t := 4) rfl rfl h_pob hdr
  have hne_11 : fp_dif x ed := fp_LE.neE hkl hed0 (by omega) (fun f9 h9 => fp_neOA X.2.2.2.2.2 (i := 1) (t := 4) rfl rfl h_pob h9)
  have hne_12 : fp_dif u l := fp_neOO X.2.2.2.2.2 (i := 2) (j := 8) rfl rfl (by decide) hku hkl.1
  have hne_13 : fp_dif u z := fp_neOA X.2.2.2.2.2 (i := 2) (t := 5) rfl rfl hku hkz
  have hne_14 : fp_dif u t := fp_neOA X.2.2.2.2.2 (i := 2) (t := 1) rfl rfl hku hkt
  have hne_15 : fp_dif u hi := fp_neOO X.2.2.2.2.2 (i := 2) (j := 10) rfl rfl (by decide) hku hdo
  have hne_16 : fp_dif u el := fp_neOA X.2.2.2.2.2 (i := 2) (t := 4) rfl rfl hku hdr
  have hne_17 : fp_dif u ed := fp_LE.neE hkl hed0 (by omega) (fun f9 h9 => fp_neOA X.2.2.2.2.2 (i := 2) (t := 4) rfl rfl hku h9)
  have hne_18 : fp_dif l z := fp_neOA X.2.2.2.2.2 (i := 8) (t := 5) rfl rfl hkl.1 hkz
  have hne_19 : fp_dif l t := fp_neOA X.2.2.2.2.2 (i := 8) (t := 1) rfl rfl hkl.1 hkt
  have hne_20 : fp_dif l hi := fp_neOO X.2.2.2.2.2 (i := 8) (j := 10) rfl rfl (by decide) hkl.1 hdo
  have hne_21 : fp_dif l el := fp_neOA X.2.2.2.2.2 (i := 8) (t := 4) rfl rfl hkl.1 hdr
  have hne_22 : fp_dif l ed := fp_LE.neE hkl hed0 (by omega) (fun f9 h9 => fp_neOA X.2.2.2.2.2 (i := 8) (t := 4) rfl rfl hkl.1 h9)
  have hne_23 : fp_dif z t := fp_neAA X.2.2.2.2.2 (t := 5) (t2 := 1) rfl rfl (by decide) hkz hkt
  have hne_24 : fp_dif z hi := Ne.symm (fp_neOA X.2.2.2.2.2 (i := 10) (t := 5) rfl rfl hdo hkz)
  have hne_25 : fp_dif z el := fp_neAA X.2.2.2.2.2 (t := 5) (t2 := 4) rfl rfl (by decide) hkz hdr
  have hne_26 : fp_dif z ed := fp_LE.neE hkl hed0 (by omega) (fun f9 h9 => fp_neAA X.2.2.2.2.2 (t := 5) (t2 := 4) rfl rfl (by decide) hkz h9)
  have hne_27 : fp_dif t hi := Ne.symm (fp_neOA X.2.2.2.2.2 (i := 10) (t := 1) rfl rfl hdo hkt)
  have hne_28 : fp_dif t el := fp_neAA X.2.2.2.2.2 (t := 1) (t2 := 4) rfl rfl (by decide) hkt hdr
  have hne_29 : fp_dif t ed := fp_LE.neE hkl hed0 (by omega) (fun f9 h9 => fp_neAA X.2.2.2.2.2 (t := 1) (t2 := 4) rfl rfl (by decide) hkt h9)
  have hne_30 : fp_dif hi el := fp_neOA X.2.2.2.2.2 (i := 10) (t := 4) rfl rfl hdo hdr
  have hne_31 : fp_dif hi ed := fp_LE.neE hkl hed0 (by omega) (fun f9 h9 => fp_neOA X.2.2.2.2.2 (i := 10) (t := 4) rfl rfl hdo h9)
  have hap0 := (fp_SE.dis X.2.2.2.2.2 hed0 h_st).2
  refine lv_aload_n hx hb dX1_placeBag_0 rfl (lv_at hl 0 rfl) ?_
  refine lv_bipush (v := (iI ((103 : Nat) : Int))) hx hb dX1_placeBag_1 rfl ?_
  refine lv_iload_n hx hb dX1_placeBag_3 rfl (lv_at hl 1 rfl) ?_
  refine lv_iload_n hx hb dX1_placeBag_4 rfl (lv_at hl 2 rfl) ?_
  refine lv_iload_n hx hb dX1_placeBag_5 rfl (lv_at hl 3 rfl) ?_
  refine x_callV (cells1 := 165) (slots1 := 3215) X hR (c_X1_place G x u sv hi ip ln (er) (fa) l ed z t mc cap b S el hd hn q 2 (lc) (wd) (wt) hsw hxb (by omega) (⟨by omega, by omega⟩) (⟨by omega, by omega⟩) (⟨by omega, by omega⟩) hiv hp9 hh8 hde) q1118 q1120 qs20 q88 q1121 ⟨rfl, pd_X1_place⟩ ⟨Nat.le_of_ble_eq_true rfl, Nat.le_of_ble_eq_true rfl⟩ rfl rfl (Nat.le_of_ble_eq_true rfl) (Nat.le_of_ble_eq_true rfl) h_pob rfl rfl (Nat.le_of_ble_eq_true rfl) hl.1 dX1_placeBag_6 (hB.of hS hAb) ⟨h_pob, h_st, h_dq⟩ hS (fun q h => by have h2 : (g_s G).heap.size ≤ q ∧ (q = u ∨ q = l ∨ q = ed ∨ q = hi ∨ q = el) := h; show ((g_s G).heap.size ≤ q ∧ (q = u ∨ q = l ∨ q = ed ∨ q = hi ∨ q = el)) ∨ s.heap.size ≤ q; omega) (fun v H_35 locs hp_32 hz_33 hk_34 hS => ?_) (fun Ex qx cx H_35 locs hp_32 hz_33 hk_34 hS hcx hvx hlx => ?_)
  · skip
    obtain ⟨ed2_36, mc2_37, cap2_38, nb_39, hd2_40, y9_41, l9_42, e9_43, z9_44, t9_45, m9_46, c9_47, rfl, hpc_48, hed2_49, hnb_50, hcf_51, hce_52, hee_53, hE_54, hE_55, hE_56⟩ := hp_32
    have hz_57 := hS.1
    have lt_58 := hE_54.1.lt
    have lt_59 := hE_55.1.lt
    have lt_60 := hE_55.2.2.1.1
    have lt_62 := hE_56.1.lt
    refine r_stk (st2 := [.int (iI ((sP S : Nat) : Int))]) rfl ?_
    refine x_iret hx hb hr hlk hQ hS (Nat.le_of_ble_eq_true rfl) (Nat.le_of_ble_eq_true rfl) dX1_placeBag_9 ?_
    exact ⟨ed2_36, mc2_37, cap2_38, nb_39, hd2_40, y9_41, l9_42, e9_43, z9_44, t9_45, m9_46, c9_47, rfl, hpc_48, (by omega), (by omega), (by omega), (by omega), hee_53, hE_54, hE_55, hE_56⟩
  · skip
    rcases hp_32 with ⟨rfl, hb9, hE_63, hE_64⟩ | ⟨rfl, ed2_65, mc2_66, cap2_67, hb9, hb8, hE_68, hE_69⟩
    · skip
      have hz_70 := hS.1
      have lt_71 := hE_63.1.lt
      have lt_72 := hE_64.1.lt
      have lt_73 := hE_64.2.2.1.1
      exact x_out hT hlk hQ hS (Nat.le_of_ble_eq_true rfl) (Nat.le_of_ble_eq_true rfl) hcx hvx hlx (Or.inl ⟨rfl, hb9, hE_63, hE_64⟩)
    · skip
      have hz_74 := hS.1
      have lt_75 := hE_68.1.lt
      have lt_76 := hE_69.1.lt
      have lt_77 := hE_69.2.2.1.1
      exact x_out hT hlk hQ hS (Nat.le_of_ble_eq_true rfl) (Nat.le_of_ble_eq_true rfl) hcx hvx hlx (Or.inr (⟨rfl, ed2_65, mc2_66, cap2_67, (by omega), hb8, hE_68, hE_69⟩))
set_option maxHeartbeats 4000000 in
theorem c_X1_placeBag_x (G : fp_G) (x : Nat) (u : Nat) (sv : Value) (hi : Nat) (ip : Nat) (ln : Nat) (er : Int) (fa : Int) (l : Nat) (ed : Nat) (z : Nat) (t : Nat) (mc : Int32) (cap : Nat) (b : Nat → Nat) (S : PS) (lc : Int) (wd : Int) (wt : Int) (hsw : fp_sw S b) (hxb : (g_s G).heap.size ≤ x) (hlc : rg lc) (hwd : rg wd) (hwt : rg wt) (hiv : fp_Iv S) (hp9 : sP S < 999) : fp_MX G yX1_placeBag cX1_placeBag 4 (some .int) 13 314 165 3215 [.ref (x), .int (iI (lc)), .int (iI (wd)), .int (iI (wt))] (fun H => fp_At G H x (eO 1 [.ref (u), sv, .ref (hi), .ref (ip), .ref (ln), .int (iI (bI (true))), .int (iI (er)), .int (iI (fa))]) ∧ fp_SE G u l ed z t mc cap b S H) (fun q => (g_s G).heap.size ≤ q ∧ (q = u ∨ q = l ∨ q = ed)) (fun H v H1 => ∃ (ed2 : Nat), ∃ (mc2 : Int32), ∃ (cap2 : Nat), ∃ (nb : Nat), v = some (.int (iI ((sP S : Nat) : Int))) ∧ (fp_plc S 2 lc wd wt = 0) ∧ (ed2 = ed ∨ H.size ≤ ed2) ∧ (H.size ≤ nb) ∧ fp_SE G u l ed2 z t mc2 cap2 (va_up b (sN S) nb) (fp_add S 2 lc.toNat wd.toNat wt.toNat) H1) (fun H E H1 => (E = "java/lang/IllegalArgumentException" ∧ ((fp_plc S 2 lc wd wt = 1) ∧ fp_SE G u l ed z t mc cap b S H1)) ∨ (E = "java/lang/IllegalStateException" ∧ (∃ (ed2 : Nat), ∃ (mc2 : Int32), ∃ (cap2 : Nat), (ed2 = ed ∨ H.size ≤ ed2) ∧ (fp_plc S 2 lc wd wt = 2) ∧ fp_SE G u l ed2 z t mc2 cap2 b S H1))) := by
  refine fp_MX.intro (by decide) (Nat.le_of_ble_eq_true rfl) ?_
  intro pg en s mi ag bl mt cd rR qQ ls X hx hb hr hlk hnm hR hQ hT hB hM hl
  have hS : va_S (fA (fun q => (g_s G).heap.size ≤ q ∧ (q = u ∨ q = l ∨ q = ed)) s.heap.size) s.heap s.heap [] := va_S.rf
  generalize ([] : List Loc) = locs at hS ⊢
  have hb0 := hB.1
  have hAb : ∀ q, (fun q => (g_s G).heap.size ≤ q ∧ (q = u ∨ q = l ∨ q = ed)) q → (g_s G).heap.size ≤ q := fun q h => h.1
  obtain ⟨h_pob, h_st⟩ := hM
  have hsz0 := hS.1
  have lt_1 := h_pob.lt
  have lt_2 := h_st.1.lt
  have hn24 := hsw.1.1
  have hed0 := (X.2.2.2.2.2.deT (A := fp_no) hB fp_no.base).2.2
  obtain ⟨hku, hkl, hkz, hkt, hkb, hxb9, hzb9, htb9⟩ := id h_st
  have hlb9 := hkl.2.2.2
  have hne_3 : fp_dif x u := fp_neOO X.2.2.2.2.2 (i := 1) (j := 2) rfl rfl (by decide) h_pob hku
  have hne_4 : fp_dif x l := fp_neOO X.2.2.2.2.2 (i := 1) (j := 8) rfl rfl (by decide) h_pob hkl.1
  have hne_5 : fp_dif x z := fp_neOA X.2.2.2.2.2 (i := 1) (t := 5) rfl rfl h_pob hkz
  have hne_6 : fp_dif x t := fp_neOA X.2.2.2.2.2 (i := 1) (t := 1) rfl rfl h_pob hkt
  have hne_7 : fp_dif x ed := fp_LE.neE hkl hed0 (by omega) (fun f9 h9 => fp_neOA X.2.2.2.2.2 (i := 1) (t := 4) rfl rfl h_pob h9)
  have hne_8 : fp_dif u l := fp_neOO X.2.2.2.2.2 (i := 2) (j := 8) rfl rfl (by decide) hku hkl.1
  have hne_9 : fp_dif u z := fp_neOA X.2.2.2.2.2 (i := 2) (t := 5) rfl rfl hku hkz
  have hne_10 : fp_dif u t := fp_neOA X.2.2.2.2.2 (i := 2) (t := 1) rfl rfl hku hkt
  have hne_11 : fp_dif u ed := fp_LE.neE hkl hed0 (by omega) (fun f9 h9 => fp_neOA X.2.2.2.2.2 (i := 2) (t := 4) rfl rfl hku h9)
  have hne_12 : fp_dif l z := fp_neOA X.2.2.2.2.2 (i := 8) (t := 5) rfl rfl hkl.1 hkz
  have hne_13 : fp_dif l t := fp_neOA X.2.2.2.2.2 (i := 8) (t := 1) rfl rfl hkl.1 hkt
  have hne_14 : fp_dif l ed := fp_LE.neE hkl hed0 (by omega) (fun f9 h9 => fp_neOA X.2.2.2.2.2 (i := 8) (t := 4) rfl rfl hkl.1 h9)
  have hne_15 : fp_dif z t := fp_neAA X.2.2.2.2.2 (t := 5) (t2 := 1) rfl rfl (by decide) hkz hkt
  have hne_16 : fp_dif z ed := fp_LE.neE hkl hed0 (by omega) (fun f9 h9 => fp_neAA X.2.2.2.2.2 (t := 5) (t2 := 4) rfl rfl (by decide) hkz h9)
  have hne_17 : fp_dif t ed := fp_LE.neE hkl hed0 (by omega) (fun f9 h9 => fp_neAA X.2.2.2.2.2 (t := 1) (t2 := 4) rfl rfl (by decide) hkt h9)
  have hap0 := (fp_SE.dis X.2.2.2.2.2 hed0 h_st).2
  refine lv_aload_n hx hb dX1_placeBag_0 rfl (lv_at hl 0 rfl) ?_
  refine lv_bipush (v := (iI ((103 : Nat) : Int))) hx hb dX1_placeBag_1 rfl ?_
  refine lv_iload_n hx hb dX1_placeBag_3 rfl (lv_at hl 1 rfl) ?_
  refine lv_iload_n hx hb dX1_placeBag_4 rfl (lv_at hl 2 rfl) ?_
  refine lv_iload_n hx hb dX1_placeBag_5 rfl (lv_at hl 3 rfl) ?_
  refine x_callV (cells1 := 165) (slots1 := 3215) X hR (c_X1_place_x G x u sv hi ip ln (er) (fa) l ed z t mc cap b S 2 (lc) (wd) (wt) hsw hxb (by omega) (⟨by omega, by omega⟩) (⟨by omega, by omega⟩) (⟨by omega, by omega⟩) hiv hp9) q1118 q1120 qs20 q88 q1121 ⟨rfl, pd_X1_place⟩ ⟨Nat.le_of_ble_eq_true rfl, Nat.le_of_ble_eq_true rfl⟩ rfl rfl (Nat.le_of_ble_eq_true rfl) (Nat.le_of_ble_eq_true rfl) h_pob rfl rfl (Nat.le_of_ble_eq_true rfl) hl.1 dX1_placeBag_6 (hB.of hS hAb) ⟨h_pob, h_st⟩ hS (fun q h => by have h2 : (g_s G).heap.size ≤ q ∧ (q = u ∨ q = l ∨ q = ed) := h; show ((g_s G).heap.size ≤ q ∧ (q = u ∨ q = l ∨ q = ed)) ∨ s.heap.size ≤ q; omega) (fun v H_21 locs hp_18 hz_19 hk_20 hS => ?_) (fun Ex qx cx H_21 locs hp_18 hz_19 hk_20 hS hcx hvx hlx => ?_)
  · skip
    obtain ⟨ed2_22, mc2_23, cap2_24, nb_25, rfl, hpc_26, hed2_27, hnb_28, hE_29⟩ := hp_18
    have hz_30 := hS.1
    have lt_31 := hE_29.1.lt
    refine r_stk (st2 := [.int (iI ((sP S : Nat) : Int))]) rfl ?_
    refine x_iret hx hb hr hlk hQ hS (Nat.le_of_ble_eq_true rfl) (Nat.le_of_ble_eq_true rfl) dX1_placeBag_9 ?_
    exact ⟨ed2_22, mc2_23, cap2_24, nb_25, rfl, hpc_26, (by omega), (by omega), hE_29⟩
  · skip
    rcases hp_18 with ⟨rfl, hb9, hE_32⟩ | ⟨rfl, ed2_33, mc2_34, cap2_35, hb9, hb8, hE_36⟩
    · skip
      have hz_37 := hS.1
      have lt_38 := hE_32.1.lt
      exact x_out hT hlk hQ hS (Nat.le_of_ble_eq_true rfl) (Nat.le_of_ble_eq_true rfl) hcx hvx hlx (Or.inl ⟨rfl, hb9, hE_32⟩)
    · skip
      have hz_39 := hS.1
      have lt_40 := hE_36.1.lt
      exact x_out hT hlk hQ hS (Nat.le_of_ble_eq_true rfl) (Nat.le_of_ble_eq_true rfl) hcx hvx hlx (Or.inr (⟨rfl, ed2_33, mc2_34, cap2_35, (by omega), hb8, hE_36⟩))
set_option maxHeartbeats 4000000 in
theorem c_X1_remove (G : fp_G) (x : Nat) (u : Nat) (sv : Value) (hi : Nat) (ip : Nat) (ln : Nat) (er : Int) (fa : Int) (l : Nat) (ed : Nat) (z : Nat) (t : Nat) (mc : Int32) (cap : Nat) (b : Nat → Nat) (S : PS) (el : Nat) (hd : Nat) (hn : Nat) (q : Nat → Nat) (zn : Int) (hsw : fp_sw S b) (hxb : (g_s G).heap.size ≤ x) (hz : rg zn) (hh8 : hn ≤ 8) (hde : fp_dif ed el) : fp_MX G yX1_remove cX1_remove 3 (some .int) 303 8066 14 170 [.ref (x), .int (iI (zn))] (fun H => fp_At G H x (eO 1 [.ref (u), sv, .ref (hi), .ref (ip), .ref (ln), .int (iI (bI (false))), .int (iI (er)), .int (iI (fa))]) ∧ fp_SE G u l ed z t mc cap b S H ∧ fp_DQ G hi el hd hn q H) (fun q => (g_s G).heap.size ≤ q ∧ (q = l ∨ q = ed ∨ q = hi ∨ q = el)) (fun H v H1 => ∃ (mc2 : Int32), ∃ (hd2 : Nat), ∃ (y9 : Nat), ∃ (l9 : Nat), ∃ (e9 : Nat), ∃ (z9 : Nat), ∃ (t9 : Nat), ∃ (m9 : Int32), ∃ (c9 : Nat), v = some (.int (iI ((sN S - 1 : Nat) : Int))) ∧ (fp_fc S zn = 0) ∧ (fp_und S (fp_fnd S zn) = false) ∧ (H.size ≤ y9 ∧ H.size ≤ l9 ∧ H.size ≤ z9 ∧ H.size ≤ t9) ∧ (e9 = fp_de G ∨ H.size ≤ e9) ∧ fp_SE G u l ed z t mc2 cap (fp_rem b (fp_fnd S zn)) (fp_del S (fp_fnd S zn)) H1 ∧ fp_DQ G hi el hd2 (fp_hn hn) (fp_qpush q hn y9) H1 ∧ fp_SE G y9 l9 e9 z9 t9 m9 c9 b S H1) (fun H E H1 => (E = "java/util/NoSuchElementException" ∧ ((fp_fc S zn = 1) ∧ fp_SE G u l ed z t mc cap b S H1 ∧ fp_DQ G hi el hd hn q H1)) ∨ (E = "java/lang/IllegalStateException" ∧ ((fp_fc S zn = 0) ∧ (fp_und S (fp_fnd S zn) = true) ∧ fp_SE G u l ed z t mc cap b S H1 ∧ fp_DQ G hi el hd hn q H1))) := by
  refine fp_MX.intro (by decide) (Nat.le_of_ble_eq_true rfl) ?_
  intro pg en s mi ag bl mt cd rR qQ ls X hx hb hr hlk hnm hR hQ hT hB hM hl
  have hS : va_S (fA (fun q => (g_s G).heap.size ≤ q ∧ (q = l ∨ q = ed ∨ q = hi ∨ q = el)) s.heap.size) s.heap s.heap [] := va_S.rf
  generalize ([] : List Loc) = locs at hS ⊢
  have hb0 := hB.1
  have hAb : ∀ q, (fun q => (g_s G).heap.size ≤ q ∧ (q = l ∨ q = ed ∨ q = hi ∨ q = el)) q → (g_s G).heap.size ≤ q := fun q h => h.1
  obtain ⟨h_pob, h_st, h_dq⟩ := hM
  have hsz0 := hS.1
  have lt_1 := h_pob.lt
  have lt_2 := h_st.1.lt
  have lt_3 := h_dq.1.lt
  have lt_4 := h_dq.2.2.1.1
  have hn24 := hsw.1.1
  have hed0 := (X.2.2.2.2.2.deT (A := fp_no) hB fp_no.base).2.2
  obtain ⟨hku, hkl, hkz, hkt, hkb, hxb9, hzb9, htb9⟩ := id h_st
  have hlb9 := hkl.2.2.2
  obtain ⟨hdo, ⟨fdq, hdr, -⟩, hdq9, hdb1, hdb2⟩ := id h_dq
  have hdlt := hdo.lt
  have hnSh := fp_SE.nO X.2.2.2.2.2 hed0 h_st (j := 10) rfl ⟨by decide, by decide, by decide, by decide, by decide⟩ hdo hdb1
  have hnSe := fp_SE.nQ X.2.2.2.2.2 h_st hdr hde
  have hnel : fp_dif el ed := Ne.symm hde
  have hne_5 : fp_dif x u := fp_neOO X.2.2.2.2.2 (i := 1) (j := 2) rfl rfl (by decide) h_pob hku
  have hne_6 : fp_dif x l := fp_neOO X.2.2.2.2.2 (i := 1) (j := 8) rfl rfl (by decide) h_pob hkl.1
  have hne_7 : fp_dif x z := fp_neOA X.2.2.2.2.2 (i := 1) (t := 5) rfl rfl h_pob hkz
  have hne_8 : fp_dif x t := fp_neOA X.2.2.2.2.2 (i := 1) (t := 1) rfl rfl h_pob hkt
  have hne_9 : fp_dif x hi := fp_neOO X.2.2.2.2.2 (i := 1) (j := 10) rfl rfl (by decide) h_pob hdo
  have hne_10 : fp_dif x el := fp_neOA X.2.2.2.2.2 (i := 1) (t := 4) rfl rfl h_pob hdr
  have hne_11 : fp_dif x ed := fp_LE.neE hkl hed0 (by omega) (fun f9 h9 => fp_neOA X.2.2.2.2.2 (i := 1) (t := 4) rfl rfl h_pob h9)
  have hne_12 : fp_dif u l := fp_neOO X.2.2.2.2.2 (i := 2) (j := 8) rfl rfl (by decide) hku hkl.1
  have hne_13 : fp_dif u z := fp_neOA X.2.2.2.2.2 (i := 2) (t := 5) rfl rfl hku hkz
  have hne_14 : fp_dif u t := fp_neOA X.2.2.2.2.2 (i := 2) (t := 1) rfl rfl hku hkt
  have hne_15 : fp_dif u hi := fp_neOO X.2.2.2.2.2 (i := 2) (j := 10) rfl rfl (by decide) hku hdo
  have hne_16 : fp_dif u el := fp_neOA X.2.2.2.2.2 (i := 2) (t := 4) rfl rfl hku hdr
  have hne_17 : fp_dif u ed := fp_LE.neE hkl hed0 (by omega) (fun f9 h9 => fp_neOA X.2.2.2.2.2 (i := 2) (t := 4) rfl rfl hku h9)
  have hne_18 : fp_dif l z := fp_neOA X.2.2.2.2.2 (i := 8) (t := 5) rfl rfl hkl.1 hkz
  have hne_19 : fp_dif l t := fp_neOA X.2.2.2.2.2 (i := 8) (t := 1) rfl rfl hkl.1 hkt
  have hne_20 : fp_dif l hi := fp_neOO X.2.2.2.2.2 (i := 8) (j := 10) rfl rfl (by decide) hkl.1 hdo
  have hne_21 : fp_dif l el := fp_neOA X.2.2.2.2.2 (i := 8) (t := 4) rfl rfl hkl.1 hdr
  have hne_22 : fp_dif l ed := fp_LE.neE hkl hed0 (by omega) (fun f9 h9 => fp_neOA X.2.2.2.2.2 (i := 8) (t := 4) rfl rfl hkl.1 h9)
  have hne_23 : fp_dif z t := fp_neAA X.2.2.2.2.2 (t := 5) (t2 := 1) rfl rfl (by decide) hkz hkt
  have hne_24 : fp_dif z hi := Ne.symm (fp_neOA X.2.2.2.2.2 (i := 10) (t := 5) rfl rfl hdo hkz)
  have hne_25 : fp_dif z el := fp_neAA X.2.2.2.2.2 (t := 5) (t2 := 4) rfl rfl (by decide) hkz hdr
  have hne_26 : fp_dif z ed := fp_LE.neE hkl hed0 (by omega) (fun f9 h9 => fp_neAA X.2.2.2.2.2 (t := 5) (t2 := 4) rfl rfl (by decide) hkz h9)
  have hne_27 : fp_dif t hi := Ne.symm (fp_neOA X.2.2.2.2.2 (i := 10) (t := 1) rfl rfl hdo hkt)
  have hne_28 : fp_dif t el := fp_neAA X.2.2.2.2.2 (t := 1) (t2 := 4) rfl rfl (by decide) hkt hdr
  have hne_29 : fp_dif t ed := fp_LE.neE hkl hed0 (by omega) (fun f9 h9 => fp_neAA X.2.2.2.2.2 (t := 1) (t2 := 4) rfl rfl (by decide) hkt h9)
  have hne_30 : fp_dif hi el := fp_neOA X.2.2.2.2.2 (i := 10) (t := 4) rfl rfl hdo hdr
  have hne_31 : fp_dif hi ed := fp_LE.neE hkl hed0 (by omega) (fun f9 h9 => fp_neOA X.2.2.2.2.2 (i := 10) (t := 4) rfl rfl hdo h9)
  have hap0 := (fp_SE.dis X.2.2.2.2.2 hed0 h_st).2
  have hblne : ∀ k, k < sN S → b k ≠ l ∧ b k ≠ ed ∧ b k ≠ z ∧ b k ≠ t := fun k hk => ⟨(hap0 k hk).2.1, (hap0 k hk).2.2.1, (hap0 k hk).2.2.2.1, (hap0 k hk).2.2.2.2⟩
  have hbllt : ∀ k, k < sN S → b k < s.heap.size := fun k hk => (hkb k hk).lt
  refine lv_aload_n hx hb dX1_remove_0 rfl (lv_at hl 0 rfl) ?_
  refine lv_iload_n hx hb dX1_remove_1 rfl (lv_at hl 1 rfl) ?_
  refine x_callV (cells1 := 2) (slots1 := 10) X hR (c_X1_block G x u sv hi ip ln false (er) (fa) l ed z t mc cap b S (zn) hsw (⟨by omega, by omega⟩)) q1320 q1322 qs26 q88 q1323 ⟨rfl, pd_X1_block⟩ ⟨Nat.le_of_ble_eq_true rfl, Nat.le_of_ble_eq_true rfl⟩ rfl rfl (Nat.le_of_ble_eq_true rfl) (Nat.le_of_ble_eq_true rfl) h_pob rfl rfl (Nat.le_of_ble_eq_true rfl) hl.1 dX1_remove_2 (hB.of hS hAb) ⟨h_pob, h_st⟩ hS (fun _ h => h.elim) (fun v H_35 locs hp_32 hz_33 hk_34 hS => ?_) (fun Ex qx cx H_35 locs hp_32 hz_33 hk_34 hS hcx hvx hlx => ?_)
  · skip
    obtain ⟨rfl, hfn_36⟩ := hp_32
    have hz_37 := hS.1
    refine r_stk (st2 := [.ref (b (fp_fnd S (zn)))]) rfl ?_
    have hfn := hfn_36
    have hbk0 := hsw.1.2.2.1 (fp_fnd S zn) hfn
    have hFC : fp_fc S zn = 0 := fp_fc_0 rfl hfn
    refine lv_astore_n (lv' := [(2, .ref (b (fp_fnd S (zn)))), (0, .ref (x)), (1, .int (iI (zn)))]) hx hb dX1_remove_5 rfl hl (by decide) rfl (fun ls hl => ?_)
    refine lv_aload_n hx hb dX1_remove_6 rfl (lv_at hl 1 rfl) ?_
    have hE_38 := fp_At.kept h_pob (fp_keptS (by omega) hS (fun h => (fun h => h.elim (hne_6) (fun h => h.elim (hne_11) (fun h => h.elim (hne_9) (hne_10)))) h.2))
    refine r_get X hE_38 rfl in_X1 0 (by decide) q242 (Or.inl rfl) (v := .ref (u)) rfl dX1_remove_7 ?_
    refine lv_aload_n hx hb dX1_remove_10 rfl (lv_at hl 0 rfl) ?_
    have hE_40 := h_st.ext (fp_X.no hz_33 hk_34)
    refine r_callV (cells1 := 4) (slots1 := 15) X hR (c_X2_isSupporting G u l ed z t mc cap b S (fp_fnd S zn) hsw hfn) q1329 q1330 q1331 q89 q1332 ⟨rfl, pd_X2_isSupporting⟩ ⟨Nat.le_of_ble_eq_true rfl, Nat.le_of_ble_eq_true rfl⟩ rfl rfl (Nat.le_of_ble_eq_true rfl) (Nat.le_of_ble_eq_true rfl) hE_40.1 rfl rfl (Nat.le_of_ble_eq_true rfl) hl.1 dX1_remove_11 (hB.of hS hAb) hE_40 hS (fun _ h => h.elim) (fun v H_44 locs hp_41 hz_42 hk_43 hS => ?_)
    obtain rfl := hp_41
    have hz_45 := hS.1
    refine r_stk (st2 := [.int (iI (bI (fp_und S (fp_fnd S zn))))]) rfl ?_
    refine r_ifneB (tgt := 21) hx hb dX1_remove_14 (by decide) (fun c14 => ?_) (fun c14 => ?_)
    · skip
      refine lv_iconst (v := (iI ((0 : Nat) : Int))) hx hb dX1_remove_21 rfl ?_
      refine x_callS (cells1 := 5) (slots1 := 21) X hR (c_X1_checkState G false) q1234 q1235 q88 q1236 pd_X1_checkState ⟨Nat.le_of_ble_eq_true rfl, Nat.le_of_ble_eq_true rfl⟩ rfl rfl (Nat.le_of_ble_eq_true rfl) (Nat.le_of_ble_eq_true rfl) rfl (Nat.le_of_ble_eq_true rfl) hl.1 dX1_remove_22 (hB.of hS hAb) trivial hS (fun _ h => h.elim) (fun v H_49 locs hp_46 hz_47 hk_48 hS => ?_) (fun Ex qx cx H_49 locs hp_46 hz_47 hk_48 hS hcx hvx hlx => ?_)
      · skip
        obtain ⟨rfl, rfl, hbt_50⟩ := hp_46
        refine r_stk (st2 := []) rfl ?_
        cases hbt_50
      · skip
        obtain ⟨rfl, hX9, hb9⟩ := hp_46
        have hE_52 := hE_40.ext (fp_X.no hz_42 hk_43)
        have hE_53 := hE_52.ext hX9
        have hE_55 := h_dq.ext (fp_X.no hz_33 hk_34)
        have hE_56 := hE_55.ext (fp_X.no hz_42 hk_43)
        have hE_57 := hE_56.ext hX9
        exact x_out hT hlk hQ hS (Nat.le_of_ble_eq_true rfl) (Nat.le_of_ble_eq_true rfl) hcx hvx hlx (Or.inr ⟨rfl, hFC, c14, hE_53, hE_57⟩)
    · skip
      refine lv_iconst (v := (iI ((1 : Nat) : Int))) hx hb dX1_remove_17 rfl ?_
      refine lv_goto (tgt := 22) hx hb dX1_remove_18 (by decide) ?_
      refine x_callS (cells1 := 5) (slots1 := 21) X hR (c_X1_checkState G true) q1234 q1235 q88 q1236 pd_X1_checkState ⟨Nat.le_of_ble_eq_true rfl, Nat.le_of_ble_eq_true rfl⟩ rfl rfl (Nat.le_of_ble_eq_true rfl) (Nat.le_of_ble_eq_true rfl) rfl (Nat.le_of_ble_eq_true rfl) hl.1 dX1_remove_22 (hB.of hS hAb) trivial hS (fun _ h => h.elim) (fun v H_61 locs hp_58 hz_59 hk_60 hS => ?_) (fun Ex qx cx H_61 locs hp_58 hz_59 hk_60 hS hcx hvx hlx => ?_)
      · skip
        obtain ⟨rfl, rfl, hbt_62⟩ := hp_58
        refine r_stk (st2 := []) rfl ?_
        have hE_64 := hE_40.ext (fp_X.no hz_42 hk_43)
        have hedl := hE_64.2.1.2.2.1
        have hlll := hkl.1.lt
        have hzll := hkz.lt
        have htll := hkt.lt
        refine lv_aload_n hx hb dX1_remove_25 rfl (lv_at hl 1 rfl) ?_
        have hE_65 := fp_At.kept h_pob (fp_keptS (by omega) hS (fun h => (fun h => h.elim (hne_6) (fun h => h.elim (hne_11) (fun h => h.elim (hne_9) (hne_10)))) h.2))
        have hE_67 := h_dq.ext (fp_X.no hz_33 hk_34)
        have hE_68 := hE_67.ext (fp_X.no hz_42 hk_43)
        refine r_callV (cells1 := 14) (slots1 := 170) X hR (c_X1_beginChange G x u sv hi ip ln (er) (fa) l ed z t mc cap b S el hd hn q hsw hxb hh8 hde) q1252 q1254 qs23 q88 q1255 ⟨rfl, pd_X1_beginChange⟩ ⟨Nat.le_of_ble_eq_true rfl, Nat.le_of_ble_eq_true rfl⟩ rfl rfl (Nat.le_of_ble_eq_true rfl) (Nat.le_of_ble_eq_true rfl) hE_65 rfl rfl (Nat.le_of_ble_eq_true rfl) hl.1 dX1_remove_26 (hB.of hS hAb) ⟨hE_65, hE_64, hE_68⟩ hS (fun q h => by have h2 : (g_s G).heap.size ≤ q ∧ (q = hi ∨ q = el) := h; show ((g_s G).heap.size ≤ q ∧ (q = l ∨ q = ed ∨ q = hi ∨ q = el)) ∨ s.heap.size ≤ q; omega) (fun v H_72 locs hp_69 hz_70 hk_71 hS => ?_)
        obtain ⟨hd2_73, y9_74, l9_75, e9_76, z9_77, t9_78, m9_79, c9_80, rfl, hcf_81, hce_82, hE_83, hE_84⟩ := hp_69
        have hz_85 := hS.1
        have lt_86 := hE_83.1.lt
        have lt_87 := hE_83.2.2.1.1
        have lt_89 := hE_84.1.lt
        refine r_stk (st2 := []) rfl ?_
        have hcf9 := hcf_81
        have hce9 := hce_82
        have hnT_90 : fp_nT G y9_74 l9_75 e9_76 z9_77 t9_78 b (sN S) l := fp_nT.fresh hcf9 hce9 hed0 (by omega) (fun k hk => (hap0 k hk).2.1)
        have hnT_91 : fp_nT G y9_74 l9_75 e9_76 z9_77 t9_78 b (sN S) ed := fp_nT.fresh hcf9 hce9 hed0 (by omega) (fun k hk => by have := (hkb k hk).lt; have := (hap0 k hk).2.2.1; omega)
        have hE_93 := fp_SE.mvA hE_64 (fun q9 hq9 hs9 => hk_71 _ hq9 (fun h8 => (fun h9 => h9.elim (hnSh.t q9 hs9 h8.1) (hnSe.t q9 hs9 h8.1)) h8.2))
        obtain ⟨h_no, h_nl, h_nz, h_nt, h_nbl, h_nxb, h_nzb, h_ntb⟩ := id hE_93
        have lt_94 := h_nl.1.lt
        have lt_95 := h_nl.2.2
        have lt_96 := h_nz.lt
        have lt_97 := h_nt.lt
        have lt_98 := h_no.lt
        have hel_99 : fp_EL G (sN S) b H_72 := h_nbl.el
        refine lv_aload_n hx hb dX1_remove_29 rfl (lv_at hl 1 rfl) ?_
        have hE_100 := fp_At.kept h_pob (fp_keptS (by omega) hS (fun h => (fun h => h.elim (hne_6) (fun h => h.elim (hne_11) (fun h => h.elim (hne_9) (hne_10)))) h.2))
        refine r_get X hE_100 rfl in_X1 0 (by decide) q242 (Or.inl rfl) (v := .ref (u)) rfl dX1_remove_30 ?_
        refine r_getN X h_no rfl in_X2 0 (by decide) q174 (Or.inl rfl) (v := .ref (l)) rfl dX1_remove_33 ?_
        refine lv_aload_n hx hb dX1_remove_36 rfl (lv_at hl 0 rfl) ?_
        refine r_callV (cells1 := 14) (slots1 := 170) X hR (c_J2_remove G l ed mc (sN S) cap b (b (fp_fnd S (zn))) (sB S (fp_fnd S zn)) (fp_fnd S zn) (hbk0.2.1) hfn rfl (fun j hj h9 => by have := hsw.2 j (fp_fnd S zn) (by omega) hfn h9; omega) (fun k hk => (hap0 k hk).2.1)) q1336 q1227 q1228 q92 q1229 ⟨rfl, pd_J2_remove⟩ ⟨Nat.le_of_ble_eq_true rfl, Nat.le_of_ble_eq_true rfl⟩ rfl rfl (Nat.le_of_ble_eq_true rfl) (Nat.le_of_ble_eq_true rfl) h_nl.1 rfl rfl (Nat.le_of_ble_eq_true rfl) hl.1 dX1_remove_37 (hB.of hS hAb) ⟨h_nl, hel_99, (h_nbl (fp_fnd S (zn)) (by omega))⟩ hS (fun q h => by have h2 : (g_s G).heap.size ≤ q ∧ (q = l ∨ q = ed) := h; show ((g_s G).heap.size ≤ q ∧ (q = l ∨ q = ed ∨ q = hi ∨ q = el)) ∨ s.heap.size ≤ q; omega) (fun v H_104 locs hp_101 hz_102 hk_103 hS => ?_)
        obtain ⟨mc2_105, rfl, hE_106⟩ := hp_101
        have hz_107 := hS.1
        have lt_108 := hE_106.1.lt
        have lt_109 := hE_106.2.2
        refine r_stk (st2 := [.int (iI ((1 : Nat) : Int))]) rfl ?_
        refine lv_pop hx hb dX1_remove_40 rfl ?_
        refine lv_aload_n hx hb dX1_remove_41 rfl (lv_at hl 1 rfl) ?_
        have hE_110 := fp_At.kept h_pob (fp_keptS (by omega) hS (fun h => (fun h => h.elim (hne_6) (fun h => h.elim (hne_11) (fun h => h.elim (hne_9) (hne_10)))) h.2))
        refine r_get X hE_110 rfl in_X1 0 (by decide) q242 (Or.inl rfl) (v := .ref (u)) rfl dX1_remove_42 ?_
        have hE_112 := fp_At.kept h_no (hk_103 _ (by omega) (fun h => (fun h => h.elim (hne_12) (hne_17)) h.2))
        refine r_getN X hE_112 rfl in_X2 0 (by decide) q174 (Or.inl rfl) (v := .ref (l)) rfl dX1_remove_45 ?_
        refine r_callV (cells1 := 14) (slots1 := 170) X hR (c_J2_size G l ed mc2_105 ((sN S) - 1) cap (fp_rem b (fp_fnd S zn))) q460 q461 q462 q92 q463 ⟨rfl, pd_J2_size⟩ ⟨Nat.le_of_ble_eq_true rfl, Nat.le_of_ble_eq_true rfl⟩ rfl rfl (Nat.le_of_ble_eq_true rfl) (Nat.le_of_ble_eq_true rfl) hE_106.1 rfl rfl (Nat.le_of_ble_eq_true rfl) hl.1 dX1_remove_48 (hB.of hS hAb) hE_106 hS (fun _ h => h.elim) (fun v H_116 locs hp_113 hz_114 hk_115 hS => ?_)
        obtain ⟨rfl, rfl⟩ := hp_113
        refine r_stk (st2 := [.int (iI ((((sN S) - 1) : Nat) : Int))]) rfl ?_
        refine x_iret hx hb hr hlk hQ hS (Nat.le_of_ble_eq_true rfl) (Nat.le_of_ble_eq_true rfl) dX1_remove_51 ?_
        have hE_118 := fp_At.kept h_nz (hk_103 _ (by omega) (fun h => (fun h => h.elim (Ne.symm (hne_18)) (hne_26)) h.2))
        have hE_120 := fp_At.kept h_nt (hk_103 _ (by omega) (fun h => (fun h => h.elim (Ne.symm (hne_19)) (hne_29)) h.2))
        have hE_122 := fp_BL.mv h_nbl (fun k hk => hk_103 _ (Nat.lt_of_lt_of_le (hbllt k hk) (by omega)) (by have := hblne k hk; have := hbllt k hk; omega))
        have hE_124 := fp_DQ.mv hE_83 (hk_103 _ (by omega) (fun h => (fun h => h.elim (Ne.symm (hne_20)) (hne_31)) h.2)) (hk_103 _ (by omega) (fun h => (fun h => h.elim (Ne.symm (hne_21)) (hnel)) h.2))
        have hE_126 := fp_SE.mvA hE_84 (fun q9 hq9 hs9 => hk_103 _ hq9 (fun h8 => (fun h9 => h9.elim (hnT_90 q9 hs9 h8.1) (hnT_91 q9 hs9 h8.1)) h8.2))
        exact ⟨mc2_105, hd2_73, y9_74, l9_75, e9_76, z9_77, t9_78, m9_79, c9_80, rfl, hFC, c14, (by omega), (by omega), (⟨hE_112, hE_106, hE_118, hE_120, fp_BL.del hE_122, h_nxb, h_nzb, h_ntb⟩), hE_124, hE_126⟩
      · skip
        obtain ⟨rfl, hX9, hb9⟩ := hp_58
        cases hb9
  · skip
    obtain ⟨rfl, hX9, hb9⟩ := hp_32
    have hE_128 := h_st.ext hX9
    have hE_130 := h_dq.ext hX9
    exact x_out hT hlk hQ hS (Nat.le_of_ble_eq_true rfl) (Nat.le_of_ble_eq_true rfl) hcx hvx hlx (Or.inl ⟨rfl, hb9, hE_128, hE_130⟩)
set_option maxHeartbeats 4000000 in
theorem c_X1_remove_x (G : fp_G) (x : Nat) (u : Nat) (sv : Value) (hi : Nat) (ip : Nat) (ln : Nat) (er : Int) (fa : Int) (l : Nat) (ed : Nat) (z : Nat) (t : Nat) (mc : Int32) (cap : Nat) (b : Nat → Nat) (S : PS) (zn : Int) (hsw : fp_sw S b) (hxb : (g_s G).heap.size ≤ x) (hz : rg zn) : fp_MX G yX1_remove cX1_remove 3 (some .int) 303 8066 14 170 [.ref (x), .int (iI (zn))] (fun H => fp_At G H x (eO 1 [.ref (u), sv, .ref (hi), .ref (ip), .ref (ln), .int (iI (bI (true))), .int (iI (er)), .int (iI (fa))]) ∧ fp_SE G u l ed z t mc cap b S H) (fun q => (g_s G).heap.size ≤ q ∧ (q = l ∨ q = ed)) (fun H v H1 => ∃ (mc2 : Int32), v = some (.int (iI ((sN S - 1 : Nat) : Int))) ∧ (fp_fc S zn = 0) ∧ (fp_und S (fp_fnd S zn) = false) ∧ fp_SE G u l ed z t mc2 cap (fp_rem b (fp_fnd S zn)) (fp_del S (fp_fnd S zn)) H1) (fun H E H1 => (E = "java/util/NoSuchElementException" ∧ ((fp_fc S zn = 1) ∧ fp_SE G u l ed z t mc cap b S H1)) ∨ (E = "java/lang/IllegalStateException" ∧ ((fp_fc S zn = 0) ∧ (fp_und S (fp_fnd S zn) = true) ∧ fp_SE G u l ed z t mc cap b S H1))) := by
  refine fp_MX.intro (by decide) (Nat.le_of_ble_eq_true rfl) ?_
  intro pg en s mi ag bl mt cd rR qQ ls X hx hb hr hlk hnm hR hQ hT hB hM hl
  have hS : va_S (fA (fun q => (g_s G).heap.size ≤ q ∧ (q = l ∨ q = ed)) s.heap.size) s.heap s.heap [] := va_S.rf
  generalize ([] : List Loc) = locs at hS ⊢
  have hb0 := hB.1
  have hAb : ∀ q, (fun q => (g_s G).heap.size ≤ q ∧ (q = l ∨ q = ed)) q → (g_s G).heap.size ≤ q := fun q h => h.1
  obtain ⟨h_pob, h_st⟩ := hM
  have hsz0 := hS.1
  have lt_1 := h_pob.lt
  have lt_2 := h_st.1.lt
  have hn24 := hsw.1.1
  have hed0 := (X.2.2.2.2.2.deT (A := fp_no) hB fp_no.base).2.2
  obtain ⟨hku, hkl, hkz, hkt, hkb, hxb9, hzb9, htb9⟩ := id h_st
  have hlb9 := hkl.2.2.2
  have hne_3 : fp_dif x u := fp_neOO X.2.2.2.2.2 (i := 1) (j := 2) rfl rfl (by decide) h_pob hku
  have hne_4 : fp_dif x l := fp_neOO X.2.2.2.2.2 (i := 1) (j := 8) rfl rfl (by decide) h_pob hkl.1
  have hne_5 : fp_dif x z := fp_neOA X.2.2.2.2.2 (i := 1) (t := 5) rfl rfl h_pob hkz
  have hne_6 : fp_dif x t := fp_neOA X.2.2.2.2.2 (i := 1) (t := 1) rfl rfl h_pob hkt
  have hne_7 : fp_dif x ed := fp_LE.neE hkl hed0 (by omega) (fun f9 h9 => fp_neOA X.2.2.2.2.2 (i := 1) (t := 4) rfl rfl h_pob h9)
  have hne_8 : fp_dif u l := fp_neOO X.2.2.2.2.2 (i := 2) (j := 8) rfl rfl (by decide) hku hkl.1
  have hne_9 : fp_dif u z := fp_neOA X.2.2.2.2.2 (i := 2) (t := 5) rfl rfl hku hkz
  have hne_10 : fp_dif u t := fp_neOA X.2.2.2.2.2 (i := 2) (t := 1) rfl rfl hku hkt
  have hne_11 : fp_dif u ed := fp_LE.neE hkl hed0 (by omega) (fun f9 h9 => fp_neOA X.2.2.2.2.2 (i := 2) (t := 4) rfl rfl hku h9)
  have hne_12 : fp_dif l z := fp_neOA X.2.2.2.2.2 (i := 8) (t := 5) rfl rfl hkl.1 hkz
  have hne_13 : fp_dif l t := fp_neOA X.2.2.2.2.2 (i := 8) (t := 1) rfl rfl hkl.1 hkt
  have hne_14 : fp_dif l ed := fp_LE.neE hkl hed0 (by omega) (fun f9 h9 => fp_neOA X.2.2.2.2.2 (i := 8) (t := 4) rfl rfl hkl.1 h9)
  have hne_15 : fp_dif z t := fp_neAA X.2.2.2.2.2 (t := 5) (t2 := 1) rfl rfl (by decide) hkz hkt
  have hne_16 : fp_dif z ed := fp_LE.neE hkl hed0 (by omega) (fun f9 h9 => fp_neAA X.2.2.2.2.2 (t := 5) (t2 := 4) rfl rfl (by decide) hkz h9)
  have hne_17 : fp_dif t ed := fp_LE.neE hkl hed0 (by omega) (fun f9 h9 => fp_neAA X.2.2.2.2.2 (t := 1) (t2 := 4) rfl rfl (by decide) hkt h9)
  have hap0 := (fp_SE.dis X.2.2.2.2.2 hed0 h_st).2
  have hblne : ∀ k, k < sN S → b k ≠ l ∧ b k ≠ ed ∧ b k ≠ z ∧ b k ≠ t := fun k hk => ⟨(hap0 k hk).2.1, (hap0 k hk).2.2.1, (hap0 k hk).2.2.2.1, (hap0 k hk).2.2.2.2⟩
  have hbllt : ∀ k, k < sN S → b k < s.heap.size := fun k hk => (hkb k hk).lt
  refine lv_aload_n hx hb dX1_remove_0 rfl (lv_at hl 0 rfl) ?_
  refine lv_iload_n hx hb dX1_remove_1 rfl (lv_at hl 1 rfl) ?_
  refine x_callV (cells1 := 2) (slots1 := 10) X hR (c_X1_block G x u sv hi ip ln true (er) (fa) l ed z t mc cap b S (zn) hsw (⟨by omega, by omega⟩)) q1320 q1322 qs26 q88 q1323 ⟨rfl, pd_X1_block⟩ ⟨Nat.le_of_ble_eq_true rfl, Nat.le_of_ble_eq_true rfl⟩ rfl rfl (Nat.le_of_ble_eq_true rfl) (Nat.le_of_ble_eq_true rfl) h_pob rfl rfl (Nat.le_of_ble_eq_true rfl) hl.1 dX1_remove_2 (hB.of hS hAb) ⟨h_pob, h_st⟩ hS (fun _ h => h.elim) (fun v H_21 locs hp_18 hz_19 hk_20 hS => ?_) (fun Ex qx cx H_21 locs hp_18 hz_19 hk_20 hS hcx hvx hlx => ?_)
  · skip
    obtain ⟨rfl, hfn_22⟩ := hp_18
    have hz_23 := hS.1
    refine r_stk (st2 := [.ref (b (fp_fnd S (zn)))]) rfl ?_
    have hfn := hfn_22
    have hbk0 := hsw.1.2.2.1 (fp_fnd S zn) hfn
    have hFC : fp_fc S zn = 0 := fp_fc_0 rfl hfn
    refine lv_astore_n (lv' := [(2, .ref (b (fp_fnd S (zn)))), (0, .ref (x)), (1, .int (iI (zn)))]) hx hb dX1_remove_5 rfl hl (by decide) rfl (fun ls hl => ?_)
    refine lv_aload_n hx hb dX1_remove_6 rfl (lv_at hl 1 rfl) ?_
    have hE_24 := fp_At.kept h_pob (fp_keptS (by omega) hS (fun h => (fun h => h.elim (hne_4) (hne_7)) h.2))
    refine r_get X hE_24 rfl in_X1 0 (by decide) q242 (Or.inl rfl) (v := .ref (u)) rfl dX1_remove_7 ?_
    refine lv_aload_n hx hb dX1_remove_10 rfl (lv_at hl 0 rfl) ?_
    have hE_26 := h_st.ext (fp_X.no hz_19 hk_20)
    refine r_callV (cells1 := 4) (slots1 := 15) X hR (c_X2_isSupporting G u l ed z t mc cap b S (fp_fnd S zn) hsw hfn) q1329 q1330 q1331 q89 q1332 ⟨rfl, pd_X2_isSupporting⟩ ⟨Nat.le_of_ble_eq_true rfl, Nat.le_of_ble_eq_true rfl⟩ rfl rfl (Nat.le_of_ble_eq_true rfl) (Nat.le_of_ble_eq_true rfl) hE_26.1 rfl rfl (Nat.le_of_ble_eq_true rfl) hl.1 dX1_remove_11 (hB.of hS hAb) hE_26 hS (fun _ h => h.elim) (fun v H_30 locs hp_27 hz_28 hk_29 hS => ?_)
    obtain rfl := hp_27
    have hz_31 := hS.1
    refine r_stk (st2 := [.int (iI (bI (fp_und S (fp_fnd S zn))))]) rfl ?_
    refine r_ifneB (tgt := 21) hx hb dX1_remove_14 (by decide) (fun c14 => ?_) (fun c14 => ?_)
    · skip
      refine lv_iconst (v := (iI ((0 : Nat) : Int))) hx hb dX1_remove_21 rfl ?_
      refine x_callS (cells1 := 5) (slots1 := 21) X hR (c_X1_checkState G false) q1234 q1235 q88 q1236 pd_X1_checkState ⟨Nat.le_of_ble_eq_true rfl, Nat.le_of_ble_eq_true rfl⟩ rfl rfl (Nat.le_of_ble_eq_true rfl) (Nat.le_of_ble_eq_true rfl) rfl (Nat.le_of_ble_eq_true rfl) hl.1 dX1_remove_22 (hB.of hS hAb) trivial hS (fun _ h => h.elim) (fun v H_35 locs hp_32 hz_33 hk_34 hS => ?_) (fun Ex qx cx H_35 locs hp_32 hz_33 hk_34 hS hcx hvx hlx => ?_)
      · skip
        obtain ⟨rfl, rfl, hbt_36⟩ := hp_32
        refine r_stk (st2 := []) rfl ?_
        cases hbt_36
      · skip
        obtain ⟨rfl, hX9, hb9⟩ := hp_32
        have hE_38 := hE_26.ext (fp_X.no hz_28 hk_29)
        have hE_39 := hE_38.ext hX9
        exact x_out hT hlk hQ hS (Nat.le_of_ble_eq_true rfl) (Nat.le_of_ble_eq_true rfl) hcx hvx hlx (Or.inr ⟨rfl, hFC, c14, hE_39⟩)
    · skip
      refine lv_iconst (v := (iI ((1 : Nat) : Int))) hx hb dX1_remove_17 rfl ?_
      refine lv_goto (tgt := 22) hx hb dX1_remove_18 (by decide) ?_
      refine x_callS (cells1 := 5) (slots1 := 21) X hR (c_X1_checkState G true) q1234 q1235 q88 q1236 pd_X1_checkState ⟨Nat.le_of_ble_eq_true rfl, Nat.le_of_ble_eq_true rfl⟩ rfl rfl (Nat.le_of_ble_eq_true rfl) (Nat.le_of_ble_eq_true rfl) rfl (Nat.le_of_ble_eq_true rfl) hl.1 dX1_remove_22 (hB.of hS hAb) trivial hS (fun _ h => h.elim) (fun v H_43 locs hp_40 hz_41 hk_42 hS => ?_) (fun Ex qx cx H_43 locs hp_40 hz_41 hk_42 hS hcx hvx hlx => ?_)
      · skip
        obtain ⟨rfl, rfl, hbt_44⟩ := hp_40
        refine r_stk (st2 := []) rfl ?_
        have hE_46 := hE_26.ext (fp_X.no hz_28 hk_29)
        have hedl := hE_46.2.1.2.2.1
        have hlll := hkl.1.lt
        have hzll := hkz.lt
        have htll := hkt.lt
        refine lv_aload_n hx hb dX1_remove_25 rfl (lv_at hl 1 rfl) ?_
        have hE_47 := fp_At.kept h_pob (fp_keptS (by omega) hS (fun h => (fun h => h.elim (hne_4) (hne_7)) h.2))
        refine r_callV (cells1 := 5) (slots1 := 21) X hR (c_X1_beginChange_x G x u sv hi ip ln (er) (fa) l ed z t mc cap b S) q1252 q1254 qs23 q88 q1255 ⟨rfl, pd_X1_beginChange⟩ ⟨Nat.le_of_ble_eq_true rfl, Nat.le_of_ble_eq_true rfl⟩ rfl rfl (Nat.le_of_ble_eq_true rfl) (Nat.le_of_ble_eq_true rfl) hE_47 rfl rfl (Nat.le_of_ble_eq_true rfl) hl.1 dX1_remove_26 (hB.of hS hAb) hE_47 hS (fun _ h => h.elim) (fun v H_51 locs hp_48 hz_49 hk_50 hS => ?_)
        obtain ⟨rfl, rfl⟩ := hp_48
        refine r_stk (st2 := []) rfl ?_
        obtain ⟨h_no, h_nl, h_nz, h_nt, h_nbl, h_nxb, h_nzb, h_ntb⟩ := id hE_46
        have lt_52 := h_nl.1.lt
        have lt_53 := h_nl.2.2
        have lt_54 := h_nz.lt
        have lt_55 := h_nt.lt
        have lt_56 := h_no.lt
        have hel_57 : fp_EL G (sN S) b H_30 := h_nbl.el
        refine lv_aload_n hx hb dX1_remove_29 rfl (lv_at hl 1 rfl) ?_
        refine r_get X hE_47 rfl in_X1 0 (by decide) q242 (Or.inl rfl) (v := .ref (u)) rfl dX1_remove_30 ?_
        refine r_getN X h_no rfl in_X2 0 (by decide) q174 (Or.inl rfl) (v := .ref (l)) rfl dX1_remove_33 ?_
        refine lv_aload_n hx hb dX1_remove_36 rfl (lv_at hl 0 rfl) ?_
        refine r_callV (cells1 := 5) (slots1 := 21) X hR (c_J2_remove G l ed mc (sN S) cap b (b (fp_fnd S (zn))) (sB S (fp_fnd S zn)) (fp_fnd S zn) (hbk0.2.1) hfn rfl (fun j hj h9 => by have := hsw.2 j (fp_fnd S zn) (by omega) hfn h9; omega) (fun k hk => (hap0 k hk).2.1)) q1336 q1227 q1228 q92 q1229 ⟨rfl, pd_J2_remove⟩ ⟨Nat.le_of_ble_eq_true rfl, Nat.le_of_ble_eq_true rfl⟩ rfl rfl (Nat.le_of_ble_eq_true rfl) (Nat.le_of_ble_eq_true rfl) h_nl.1 rfl rfl (Nat.le_of_ble_eq_true rfl) hl.1 dX1_remove_37 (hB.of hS hAb) ⟨h_nl, hel_57, (h_nbl (fp_fnd S (zn)) (by omega))⟩ hS (fun q h => by have h2 : (g_s G).heap.size ≤ q ∧ (q = l ∨ q = ed) := h; show ((g_s G).heap.size ≤ q ∧ (q = l ∨ q = ed)) ∨ s.heap.size ≤ q; omega) (fun v H_61 locs hp_58 hz_59 hk_60 hS => ?_)
        obtain ⟨mc2_62, rfl, hE_63⟩ := hp_58
        have hz_64 := hS.1
        have lt_65 := hE_63.1.lt
        have lt_66 := hE_63.2.2
        refine r_stk (st2 := [.int (iI ((1 : Nat) : Int))]) rfl ?_
        refine lv_pop hx hb dX1_remove_40 rfl ?_
        refine lv_aload_n hx hb dX1_remove_41 rfl (lv_at hl 1 rfl) ?_
        have hE_67 := fp_At.kept h_pob (fp_keptS (by omega) hS (fun h => (fun h => h.elim (hne_4) (hne_7)) h.2))
        refine r_get X hE_67 rfl in_X1 0 (by decide) q242 (Or.inl rfl) (v := .ref (u)) rfl dX1_remove_42 ?_
        have hE_69 := fp_At.kept h_no (hk_60 _ (by omega) (fun h => (fun h => h.elim (hne_8) (hne_11)) h.2))
        refine r_getN X hE_69 rfl in_X2 0 (by decide) q174 (Or.inl rfl) (v := .ref (l)) rfl dX1_remove_45 ?_
        refine r_callV (cells1 := 5) (slots1 := 21) X hR (c_J2_size G l ed mc2_62 ((sN S) - 1) cap (fp_rem b (fp_fnd S zn))) q460 q461 q462 q92 q463 ⟨rfl, pd_J2_size⟩ ⟨Nat.le_of_ble_eq_true rfl, Nat.le_of_ble_eq_true rfl⟩ rfl rfl (Nat.le_of_ble_eq_true rfl) (Nat.le_of_ble_eq_true rfl) hE_63.1 rfl rfl (Nat.le_of_ble_eq_true rfl) hl.1 dX1_remove_48 (hB.of hS hAb) hE_63 hS (fun _ h => h.elim) (fun v H_73 locs hp_70 hz_71 hk_72 hS => ?_)
        obtain ⟨rfl, rfl⟩ := hp_70
        refine r_stk (st2 := [.int (iI ((((sN S) - 1) : Nat) : Int))]) rfl ?_
        refine x_iret hx hb hr hlk hQ hS (Nat.le_of_ble_eq_true rfl) (Nat.le_of_ble_eq_true rfl) dX1_remove_51 ?_
        have hE_75 := fp_At.kept h_nz (hk_60 _ (by omega) (fun h => (fun h => h.elim (Ne.symm (hne_12)) (hne_16)) h.2))
        have hE_77 := fp_At.kept h_nt (hk_60 _ (by omega) (fun h => (fun h => h.elim (Ne.symm (hne_13)) (hne_17)) h.2))
        have hE_79 := fp_BL.mv h_nbl (fun k hk => hk_60 _ (Nat.lt_of_lt_of_le (hbllt k hk) (by omega)) (by have := hblne k hk; have := hbllt k hk; omega))
        exact ⟨mc2_62, rfl, hFC, c14, (⟨hE_69, hE_63, hE_75, hE_77, fp_BL.del hE_79, h_nxb, h_nzb, h_ntb⟩)⟩
      · skip
        obtain ⟨rfl, hX9, hb9⟩ := hp_40
        cases hb9
  · skip
    obtain ⟨rfl, hX9, hb9⟩ := hp_18
    have hE_81 := h_st.ext hX9
    exact x_out hT hlk hQ hS (Nat.le_of_ble_eq_true rfl) (Nat.le_of_ble_eq_true rfl) hcx hvx hlx (Or.inl ⟨rfl, hb9, hE_81⟩)
set_option maxHeartbeats 4000000 in
theorem c_X1_setTorch_1 (G : fp_G) (x : Nat) (u : Nat) (sv : Value) (hi : Nat) (ip : Nat) (ln : Nat) (er : Int) (fa : Int) (l : Nat) (ed : Nat) (z : Nat) (t : Nat) (mc : Int32) (cap : Nat) (b : Nat → Nat) (S : PS) (el : Nat) (hd : Nat) (hn : Nat) (q : Nat → Nat) (c : Int) (hsw : fp_sw S b) (hxb : (g_s G).heap.size ≤ x) (hc : rg c) (hh8 : hn ≤ 8) (hde : fp_dif ed el) : fp_MX G yX1_setTorch cX1_setTorch 3 (some .int) 10 234 12 161 [.ref (x), .int (iI (c)), .int (iI ((1 : Nat) : Int))] (fun H => fp_At G H x (eO 1 [.ref (u), sv, .ref (hi), .ref (ip), .ref (ln), .int (iI (bI (false))), .int (iI (er)), .int (iI (fa))]) ∧ fp_SE G u l ed z t mc cap b S H ∧ fp_DQ G hi el hd hn q H) (fun q => (g_s G).heap.size ≤ q ∧ (q = t ∨ q = hi ∨ q = el)) (fun H v H1 => ∃ (hd2 : Nat), ∃ (y9 : Nat), ∃ (l9 : Nat), ∃ (e9 : Nat), ∃ (z9 : Nat), ∃ (t9 : Nat), ∃ (m9 : Int32), ∃ (c9 : Nat), v = some (.int (iI ((fp_tor (fp_sett S c.toNat 1) : Nat) : Int))) ∧ (fp_cc c = 0) ∧ (sT S c.toNat ≠ 1) ∧ (H.size ≤ y9 ∧ H.size ≤ l9 ∧ H.size ≤ z9 ∧ H.size ≤ t9) ∧ (e9 = fp_de G ∨ H.size ≤ e9) ∧ fp_SE G u l ed z t mc cap b (fp_sett S c.toNat 1) H1 ∧ fp_DQ G hi el hd2 (fp_hn hn) (fp_qpush q hn y9) H1 ∧ fp_SE G y9 l9 e9 z9 t9 m9 c9 b S H1) (fun H E H1 => (E = "java/lang/IndexOutOfBoundsException" ∧ ((fp_cc c = 1) ∧ fp_SE G u l ed z t mc cap b S H1 ∧ fp_DQ G hi el hd hn q H1)) ∨ (E = "java/lang/IllegalStateException" ∧ ((fp_cc c = 0) ∧ (sT S c.toNat = 1) ∧ fp_SE G u l ed z t mc cap b S H1 ∧ fp_DQ G hi el hd hn q H1))) := by
  refine fp_MX.intro (by decide) (Nat.le_of_ble_eq_true rfl) ?_
  intro pg en s mi ag bl mt cd rR qQ ls X hx hb hr hlk hnm hR hQ hT hB hM hl
  have hS : va_S (fA (fun q => (g_s G).heap.size ≤ q ∧ (q = t ∨ q = hi ∨ q = el)) s.heap.size) s.heap s.heap [] := va_S.rf
  generalize ([] : List Loc) = locs at hS ⊢
  have hb0 := hB.1
  have hAb : ∀ q, (fun q => (g_s G).heap.size ≤ q ∧ (q = t ∨ q = hi ∨ q = el)) q → (g_s G).heap.size ≤ q := fun q h => h.1
  obtain ⟨h_pob, h_st, h_dq⟩ := hM
  have hsz0 := hS.1
  have lt_1 := h_pob.lt
  have lt_2 := h_st.1.lt
  have lt_3 := h_dq.1.lt
  have lt_4 := h_dq.2.2.1.1
  have hn24 := hsw.1.1
  have hed0 := (X.2.2.2.2.2.deT (A := fp_no) hB fp_no.base).2.2
  obtain ⟨hku, hkl, hkz, hkt, hkb, hxb9, hzb9, htb9⟩ := id h_st
  have hlb9 := hkl.2.2.2
  obtain ⟨hdo, ⟨fdq, hdr, -⟩, hdq9, hdb1, hdb2⟩ := id h_dq
  have hdlt := hdo.lt
  have hnSh := fp_SE.nO X.2.2.2.2.2 hed0 h_st (j := 10) rfl ⟨by decide, by decide, by decide, by decide, by decide⟩ hdo hdb1
  have hnSe := fp_SE.nQ X.2.2.2.2.2 h_st hdr hde
  have hnel : fp_dif el ed := Ne.symm hde
  have hne_5 : fp_dif x u := fp_neOO X.2.2.2.2.2 (i := 1) (j := 2) rfl rfl (by decide) h_pob hku
  have hne_6 : fp_dif x l := fp_neOO X.2.2.2.2.2 (i := 1) (j := 8) rfl rfl (by decide) h_pob hkl.1
  have hne_7 : fp_dif x z := fp_neOA X.2.2.2.2.2 (i := 1) (t := 5) rfl rfl h_pob hkz
  have hne_8 : fp_dif x t := fp_neOA X.2.2.2.2.2 (i := 1) (t := 1) rfl rfl h_pob hkt
  have hne_9 : fp_dif x hi := fp_neOO X.2.2.2.2.2 (i := 1) (j := 10) rfl rfl (by decide) h_pob hdo
  have hne_10 : fp_dif x el := fp_neOA X.2.2.2.2.2 (i := 1) (t := 4) rfl rfl h_pob hdr
  have hne_11 : fp_dif x ed := fp_LE.neE hkl hed0 (by omega) (fun f9 h9 => fp_neOA X.2.2.2.2.2 (i := 1) (t := 4) rfl rfl h_pob h9)
  have hne_12 : fp_dif u l := fp_neOO X.2.2.2.2.2 (i := 2) (j := 8) rfl rfl (by decide) hku hkl.1
  have hne_13 : fp_dif u z := fp_neOA X.2.2.2.2.2 (i := 2) (t := 5) rfl rfl hku hkz
  have hne_14 : fp_dif u t := fp_neOA X.2.2.2.2.2 (i := 2) (t := 1) rfl rfl hku hkt
  have hne_15 : fp_dif u hi := fp_neOO X.2.2.2.2.2 (i := 2) (j := 10) rfl rfl (by decide) hku hdo
  have hne_16 : fp_dif u el := fp_neOA X.2.2.2.2.2 (i := 2) (t := 4) rfl rfl hku hdr
  have hne_17 : fp_dif u ed := fp_LE.neE hkl hed0 (by omega) (fun f9 h9 => fp_neOA X.2.2.2.2.2 (i := 2) (t := 4) rfl rfl hku h9)
  have hne_18 : fp_dif l z := fp_neOA X.2.2.2.2.2 (i := 8) (t := 5) rfl rfl hkl.1 hkz
  have hne_19 : fp_dif l t := fp_neOA X.2.2.2.2.2 (i := 8) (t := 1) rfl rfl hkl.1 hkt
  have hne_20 : fp_dif l hi := fp_neOO X.2.2.2.2.2 (i := 8) (j := 10) rfl rfl (by decide) hkl.1 hdo
  have hne_21 : fp_dif l el := fp_neOA X.2.2.2.2.2 (i := 8) (t := 4) rfl rfl hkl.1 hdr
  have hne_22 : fp_dif l ed := fp_LE.neE hkl hed0 (by omega) (fun f9 h9 => fp_neOA X.2.2.2.2.2 (i := 8) (t := 4) rfl rfl hkl.1 h9)
  have hne_23 : fp_dif z t := fp_neAA X.2.2.2.2.2 (t := 5) (t2 := 1) rfl rfl (by decide) hkz hkt
  have hne_24 : fp_dif z hi := Ne.symm (fp_neOA X.2.2.2.2.2 (i := 10) (t := 5) rfl rfl hdo hkz)
  have hne_25 : fp_dif z el := fp_neAA X.2.2.2.2.2 (t := 5) (t2 := 4) rfl rfl (by decide) hkz hdr
  have hne_26 : fp_dif z ed := fp_LE.neE hkl hed0 (by omega) (fun f9 h9 => fp_neAA X.2.2.2.2.2 (t := 5) (t2 := 4) rfl rfl (by decide) hkz h9)
  have hne_27 : fp_dif t hi := Ne.symm (fp_neOA X.2.2.2.2.2 (i := 10) (t := 1) rfl rfl hdo hkt)
  have hne_28 : fp_dif t el := fp_neAA X.2.2.2.2.2 (t := 1) (t2 := 4) rfl rfl (by decide) hkt hdr
  have hne_29 : fp_dif t ed := fp_LE.neE hkl hed0 (by omega) (fun f9 h9 => fp_neAA X.2.2.2.2.2 (t := 1) (t2 := 4) rfl rfl (by decide) hkt h9)
  have hne_30 : fp_dif hi el := fp_neOA X.2.2.2.2.2 (i := 10) (t := 4) rfl rfl hdo hdr
  have hne_31 : fp_dif hi ed := fp_LE.neE hkl hed0 (by omega) (fun f9 h9 => fp_neOA X.2.2.2.2.2 (i := 10) (t := 4) rfl rfl hdo h9)
  have hap0 := (fp_SE.dis X.2.2.2.2.2 hed0 h_st).2
  have hblne : ∀ k, k < sN S → b k ≠ l ∧ b k ≠ ed ∧ b k ≠ z ∧ b k ≠ t := fun k hk => ⟨(hap0 k hk).2.1, (hap0 k hk).2.2.1, (hap0 k hk).2.2.2.1, (hap0 k hk).2.2.2.2⟩
  have hbllt : ∀ k, k < sN S → b k < s.heap.size := fun k hk => (hkb k hk).lt
  refine lv_iload_n hx hb dX1_setTorch_0 rfl (lv_at hl 1 rfl) ?_
  refine x_callS (cells1 := 1) (slots1 := 6) X hR (c_X1_checkColumn G (c) (⟨by omega, by omega⟩)) q1347 q1348 q88 q1349 pd_X1_checkColumn ⟨Nat.le_of_ble_eq_true rfl, Nat.le_of_ble_eq_true rfl⟩ rfl rfl (Nat.le_of_ble_eq_true rfl) (Nat.le_of_ble_eq_true rfl) rfl (Nat.le_of_ble_eq_true rfl) hl.1 dX1_setTorch_1 (hB.of hS hAb) trivial hS (fun _ h => h.elim) (fun v H_35 locs hp_32 hz_33 hk_34 hS => ?_) (fun Ex qx cx H_35 locs hp_32 hz_33 hk_34 hS hcx hvx hlx => ?_)
  · skip
    obtain ⟨rfl, hcc_36, rfl⟩ := hp_32
    refine r_stk (st2 := []) rfl ?_
    obtain ⟨cn, rfl⟩ : ∃ cn : Nat, c = ((cn : Nat) : Int) := ⟨c.toNat, by omega⟩
    have hcn : cn < 12 := by omega
    refine lv_aload_n hx hb dX1_setTorch_4 rfl (lv_at hl 0 rfl) ?_
    refine r_get X h_pob rfl in_X1 0 (by decide) q242 (Or.inl rfl) (v := .ref (u)) rfl dX1_setTorch_5 ?_
    refine r_getN X h_st.1 rfl in_X2 2 (by decide) q178 (Or.inl rfl) (v := .ref (t)) rfl dX1_setTorch_8 ?_
    have lt_37 := h_st.2.2.2.1.lt
    refine lv_iload_n hx hb dX1_setTorch_11 rfl (lv_at hl 1 rfl) ?_
    refine r_zaldI X h_st.2.2.2.1 (j := cn) rfl (by omega) (by decide) dX1_setTorch_12 ?_
    refine r_set (y := .int (iI (bI (decide (sT S cn = 1))))) rfl ?_
    have ht2 := hsw.1.2.2.2.2 cn hcn
    refine r_set (y := .int (iI ((sT S cn : Nat) : Int))) (congrArg (fun q : Int => Value.int (iI q)) (fp_bIt ht2)) ?_
    refine lv_iload_n hx hb dX1_setTorch_13 rfl (lv_at hl 2 rfl) ?_
    refine r_icmp_eq (tgt := 21) hx hb ⟨by omega, by omega⟩ (by decide) dX1_setTorch_14 (by decide) (fun c14 => ?_) (fun c14 => ?_)
    · skip
      have hbad : sT S ((cn : Nat) : Int).toNat = 1 := by rw [Int.toNat_natCast]; omega
      refine lv_iconst (v := (iI ((0 : Nat) : Int))) hx hb dX1_setTorch_21 rfl ?_
      refine x_callS (cells1 := 2) (slots1 := 12) X hR (c_X1_checkState G false) q1234 q1235 q88 q1236 pd_X1_checkState ⟨Nat.le_of_ble_eq_true rfl, Nat.le_of_ble_eq_true rfl⟩ rfl rfl (Nat.le_of_ble_eq_true rfl) (Nat.le_of_ble_eq_true rfl) rfl (Nat.le_of_ble_eq_true rfl) hl.1 dX1_setTorch_22 (hB.of hS hAb) trivial hS (fun _ h => h.elim) (fun v H_41 locs hp_38 hz_39 hk_40 hS => ?_) (fun Ex qx cx H_41 locs hp_38 hz_39 hk_40 hS hcx hvx hlx => ?_)
      · skip
        obtain ⟨rfl, rfl, hbt_42⟩ := hp_38
        refine r_stk (st2 := []) rfl ?_
        cases hbt_42
      · skip
        obtain ⟨rfl, hX9, hb9⟩ := hp_38
        have hE_44 := h_st.ext hX9
        have hE_46 := h_dq.ext hX9
        exact x_out hT hlk hQ hS (Nat.le_of_ble_eq_true rfl) (Nat.le_of_ble_eq_true rfl) hcx hvx hlx (Or.inr ⟨rfl, fp_cc_0 (by omega), hbad, hE_44, hE_46⟩)
    · skip
      have hgood : sT S ((cn : Nat) : Int).toNat ≠ 1 := by rw [Int.toNat_natCast]; omega
      refine lv_iconst (v := (iI ((1 : Nat) : Int))) hx hb dX1_setTorch_17 rfl ?_
      refine lv_goto (tgt := 22) hx hb dX1_setTorch_18 (by decide) ?_
      refine x_callS (cells1 := 2) (slots1 := 12) X hR (c_X1_checkState G true) q1234 q1235 q88 q1236 pd_X1_checkState ⟨Nat.le_of_ble_eq_true rfl, Nat.le_of_ble_eq_true rfl⟩ rfl rfl (Nat.le_of_ble_eq_true rfl) (Nat.le_of_ble_eq_true rfl) rfl (Nat.le_of_ble_eq_true rfl) hl.1 dX1_setTorch_22 (hB.of hS hAb) trivial hS (fun _ h => h.elim) (fun v H_50 locs hp_47 hz_48 hk_49 hS => ?_) (fun Ex qx cx H_50 locs hp_47 hz_48 hk_49 hS hcx hvx hlx => ?_)
      · skip
        obtain ⟨rfl, rfl, hbt_51⟩ := hp_47
        refine r_stk (st2 := []) rfl ?_
        have hedl := h_st.2.1.2.2.1
        have hlll := hkl.1.lt
        have hzll := hkz.lt
        have htll := hkt.lt
        refine lv_aload_n hx hb dX1_setTorch_25 rfl (lv_at hl 0 rfl) ?_
        refine r_callV (cells1 := 11) (slots1 := 161) X hR (c_X1_beginChange G x u sv hi ip ln (er) (fa) l ed z t mc cap b S el hd hn q hsw hxb hh8 hde) q1252 q1254 qs23 q88 q1255 ⟨rfl, pd_X1_beginChange⟩ ⟨Nat.le_of_ble_eq_true rfl, Nat.le_of_ble_eq_true rfl⟩ rfl rfl (Nat.le_of_ble_eq_true rfl) (Nat.le_of_ble_eq_true rfl) h_pob rfl rfl (Nat.le_of_ble_eq_true rfl) hl.1 dX1_setTorch_26 (hB.of hS hAb) ⟨h_pob, h_st, h_dq⟩ hS (fun q h => by have h2 : (g_s G).heap.size ≤ q ∧ (q = hi ∨ q = el) := h; show ((g_s G).heap.size ≤ q ∧ (q = t ∨ q = hi ∨ q = el)) ∨ s.heap.size ≤ q; omega) (fun v H_55 locs hp_52 hz_53 hk_54 hS => ?_)
        obtain ⟨hd2_56, y9_57, l9_58, e9_59, z9_60, t9_61, m9_62, c9_63, rfl, hcf_64, hce_65, hE_66, hE_67⟩ := hp_52
        have hz_68 := hS.1
        have lt_69 := hE_66.1.lt
        have lt_70 := hE_66.2.2.1.1
        have lt_72 := hE_67.1.lt
        refine r_stk (st2 := []) rfl ?_
        have hcf9 := hcf_64
        have hce9 := hce_65
        have hnT_73 : fp_nT G y9_57 l9_58 e9_59 z9_60 t9_61 b (sN S) t := fp_nT.fresh hcf9 hce9 hed0 (by omega) (fun k hk => (hap0 k hk).2.2.2.2)
        have hE_75 := fp_SE.mvA h_st (fun q9 hq9 hs9 => hk_54 _ hq9 (fun h8 => (fun h9 => h9.elim (hnSh.t q9 hs9 h8.1) (hnSe.t q9 hs9 h8.1)) h8.2))
        obtain ⟨h_no, h_nl, h_nz, h_nt, h_nbl, h_nxb, h_nzb, h_ntb⟩ := id hE_75
        have lt_76 := h_nl.1.lt
        have lt_77 := h_nl.2.2
        have lt_78 := h_nz.lt
        have lt_79 := h_nt.lt
        have lt_80 := h_no.lt
        refine lv_aload_n hx hb dX1_setTorch_29 rfl (lv_at hl 0 rfl) ?_
        have hE_81 := fp_At.kept h_pob (fp_keptS (by omega) hS (fun h => (fun h => h.elim (hne_8) (fun h => h.elim (hne_9) (hne_10))) h.2))
        refine r_get X hE_81 rfl in_X1 0 (by decide) q242 (Or.inl rfl) (v := .ref (u)) rfl dX1_setTorch_30 ?_
        refine r_getN X h_no rfl in_X2 2 (by decide) q178 (Or.inl rfl) (v := .ref (t)) rfl dX1_setTorch_33 ?_
        refine lv_iload_n hx hb dX1_setTorch_36 rfl (lv_at hl 1 rfl) ?_
        refine lv_iload_n hx hb dX1_setTorch_37 rfl (lv_at hl 2 rfl) ?_
        refine r_set (y := .int (iI (bI (true)))) rfl ?_
        refine r_zastB (v := true) X h_nt hS (Or.inl ⟨by omega, Or.inl rfl⟩) (j := cn) rfl (by omega) (by decide) dX1_setTorch_38 (fun H_85 locs hE_82 hz_83 hq_84 hS => ?_)
        have hz_86 := hS.1
        have hE_87 : fp_At G H_85 t (eZ G 12 (fun j => iI (bI ((va_up (fun j => decide (sT S j = 1)) cn true) j)))) := hE_82.updZ
        have hE_90 := fp_At.kept h_no (hq_84 _ (hne_14))
        have hE_92 := fp_LE.mv h_nl (hq_84 _ (hne_19)) (hq_84 _ (Ne.symm (hne_29)))
        have hE_94 := fp_At.kept h_nz (hq_84 _ (hne_23))
        have hE_96 := fp_BL.mv h_nbl (fun k hk => hq_84 _ (by have := hblne k hk; omega))
        have hst_88 : fp_SE G u l ed z t mc cap b (fp_sett S cn 1) H_85 := ⟨hE_90, hE_92, hE_94, fp_At.cZ hE_87 (fun j _ => fp_sett_f (S := S) (c := cn) (v := 1) (w := true) rfl j), hE_96, h_nxb, h_nzb, h_ntb⟩
        have lt_97 := hst_88.1.lt
        refine lv_aload_n hx hb dX1_setTorch_39 rfl (lv_at hl 0 rfl) ?_
        have hE_98 := fp_At.kept h_pob (fp_keptS (by omega) hS (fun h => (fun h => h.elim (hne_8) (fun h => h.elim (hne_9) (hne_10))) h.2))
        refine r_get X hE_98 rfl in_X1 0 (by decide) q242 (Or.inl rfl) (v := .ref (u)) rfl dX1_setTorch_40 ?_
        refine r_callV (cells1 := 11) (slots1 := 161) X hR (c_X2_torches G u l ed z t mc cap b (fp_sett S cn 1) (hsw.t (by decide))) q1382 q1383 q1384 q89 q1385 ⟨rfl, pd_X2_torches⟩ ⟨Nat.le_of_ble_eq_true rfl, Nat.le_of_ble_eq_true rfl⟩ rfl rfl (Nat.le_of_ble_eq_true rfl) (Nat.le_of_ble_eq_true rfl) hst_88.1 rfl rfl (Nat.le_of_ble_eq_true rfl) hl.1 dX1_setTorch_43 (hB.of hS hAb) hst_88 hS (fun _ h => h.elim) (fun v H_102 locs hp_99 hz_100 hk_101 hS => ?_)
        obtain ⟨rfl, rfl⟩ := hp_99
        refine r_stk (st2 := [.int (iI ((fp_tor (fp_sett S cn 1) : Nat) : Int))]) rfl ?_
        refine x_iret hx hb hr hlk hQ hS (Nat.le_of_ble_eq_true rfl) (Nat.le_of_ble_eq_true rfl) dX1_setTorch_46 ?_
        have hE_104 := fp_DQ.mv hE_66 (hq_84 _ (Ne.symm (hne_27))) (hq_84 _ (Ne.symm (hne_28)))
        have hE_106 := fp_SE.mvA hE_67 (fun q9 hq9 hs9 => hq_84 _ (hnT_73.p htb9 q9 hs9))
        exact ⟨hd2_56, y9_57, l9_58, e9_59, z9_60, t9_61, m9_62, c9_63, rfl, (fp_cc_0 (by omega)), hgood, (by omega), (by omega), hst_88, hE_104, hE_106⟩
      · skip
        obtain ⟨rfl, hX9, hb9⟩ := hp_47
        cases hb9
  · skip
    obtain ⟨rfl, hX9, hb9⟩ := hp_32
    have hE_108 := h_st.ext hX9
    have hE_110 := h_dq.ext hX9
    exact x_out hT hlk hQ hS (Nat.le_of_ble_eq_true rfl) (Nat.le_of_ble_eq_true rfl) hcx hvx hlx (Or.inl ⟨rfl, (fp_cc_1 hb9), hE_108, hE_110⟩)
set_option maxHeartbeats 4000000 in
theorem c_X1_addTorch (G : fp_G) (x : Nat) (u : Nat) (sv : Value) (hi : Nat) (ip : Nat) (ln : Nat) (er : Int) (fa : Int) (l : Nat) (ed : Nat) (z : Nat) (t : Nat) (mc : Int32) (cap : Nat) (b : Nat → Nat) (S : PS) (el : Nat) (hd : Nat) (hn : Nat) (q : Nat → Nat) (c : Int) (hsw : fp_sw S b) (hxb : (g_s G).heap.size ≤ x) (hc : rg c) (hh8 : hn ≤ 8) (hde : fp_dif ed el) : fp_MX G yX1_addTorch cX1_addTorch 2 (some .int) 11 256 12 161 [.ref (x), .int (iI (c))] (fun H => fp_At G H x (eO 1 [.ref (u), sv, .ref (hi), .ref (ip), .ref (ln), .int (iI (bI (false))), .int (iI (er)), .int (iI (fa))]) ∧ fp_SE G u l ed z t mc cap b S H ∧ fp_DQ G hi el hd hn q H) (fun q => (g_s G).heap.size ≤ q ∧ (q = t ∨ q = hi ∨ q = el)) (fun H v H1 => ∃ (hd2 : Nat), ∃ (y9 : Nat), ∃ (l9 : Nat), ∃ (e9 : Nat), ∃ (z9 : Nat), ∃ (t9 : Nat), ∃ (m9 : Int32), ∃ (c9 : Nat), v = some (.int (iI ((fp_tor (fp_sett S c.toNat 1) : Nat) : Int))) ∧ (fp_cc c = 0) ∧ (sT S c.toNat ≠ 1) ∧ (H.size ≤ y9 ∧ H.size ≤ l9 ∧ H.size ≤ z9 ∧ H.size ≤ t9) ∧ (e9 = fp_de G ∨ H.size ≤ e9) ∧ fp_SE G u l ed z t mc cap b (fp_sett S c.toNat 1) H1 ∧ fp_DQ G hi el hd2 (fp_hn hn) (fp_qpush q hn y9) H1 ∧ fp_SE G y9 l9 e9 z9 t9 m9 c9 b S H1) (fun H E H1 => (E = "java/lang/IndexOutOfBoundsException" ∧ ((fp_cc c = 1) ∧ fp_SE G u l ed z t mc cap b S H1 ∧ fp_DQ G hi el hd hn q H1)) ∨ (E = "java/lang/IllegalStateException" ∧ ((fp_cc c = 0) ∧ (sT S c.toNat = 1) ∧ fp_SE G u l ed z t mc cap b S H1 ∧ fp_DQ G hi el hd hn q H1))) := by
  refine fp_MX.intro (by decide) (Nat.le_of_ble_eq_true rfl) ?_
  intro pg en s mi ag bl mt cd rR qQ ls X hx hb hr hlk hnm hR hQ hT hB hM hl
  have hS : va_S (fA (fun q => (g_s G).heap.size ≤ q ∧ (q = t ∨ q = hi ∨ q = el)) s.heap.size) s.heap s.heap [] := va_S.rf
  generalize ([] : List Loc) = locs at hS ⊢
  have hb0 := hB.1
  have hAb : ∀ q, (fun q => (g_s G).heap.size ≤ q ∧ (q = t ∨ q = hi ∨ q = el)) q → (g_s G).heap.size ≤ q := fun q h => h.1
  obtain ⟨h_pob, h_st, h_dq⟩ := hM
  have hsz0 := hS.1
  have lt_1 := h_pob.lt
  have lt_2 := h_st.1.lt
  have lt_3 := h_dq.1.lt
  have lt_4 := h_dq.2.2.1.1
  have hn24 := hsw.1.1
  have hed0 := (X.2.2.2.2.2.deT (A := fp_no) hB fp_no.base).2.2
  obtain ⟨hku, hkl, hkz, hkt, hkb, hxb9, hzb9, htb9⟩ := id h_st
  have hlb9 := hkl.2.2.2
  obtain ⟨hdo, ⟨fdq, hdr, -⟩, hdq9, hdb1, hdb2⟩ := id h_dq
  have hdlt := hdo.lt
  have hnSh := fp_SE.nO X.2.2.2.2.2 hed0 h_st (j := 10) rfl ⟨by decide, by decide, by decide, by decide, by decide⟩ hdo hdb1
  have hnSe := fp_SE.nQ X.2.2.2.2.2 h_st hdr hde
  have hnel : fp_dif el ed := Ne.symm hde
  have hne_5 : fp_dif x u := fp_neOO X.2.2.2.2.2 (i := 1) (j := 2) rfl rfl (by decide) h_pob hku
  have hne_6 : fp_dif x l := fp_neOO X.2.2.2.2.2 (i := 1) (j := 8) rfl rfl (by decide) h_pob hkl.1
  have hne_7 : fp_dif x z := fp_neOA X.2.2.2.2.2 (i := 1) (t := 5) rfl rfl h_pob hkz
  have hne_8 : fp_dif x t := fp_neOA X.2.2.2.2.2 (i := 1) (t := 1) rfl rfl h_pob hkt
  have hne_9 : fp_dif x hi := fp_neOO X.2.2.2.2.2 (i := 1) (j := 10) rfl rfl (by decide) h_pob hdo
  have hne_10 : fp_dif x el := fp_neOA X.2.2.2.2.2 (i := 1) (t := 4) rfl rfl h_pob hdr
  have hne_11 : fp_dif x ed := fp_LE.neE hkl hed0 (by omega) (fun f9 h9 => fp_neOA X.2.2.2.2.2 (i := 1) (t := 4) rfl rfl h_pob h9)
  have hne_12 : fp_dif u l := fp_neOO X.2.2.2.2.2 (i := 2) (j := 8) rfl rfl (by decide) hku hkl.1
  have hne_13 : fp_dif u z := fp_neOA X.2.2.2.2.2 (i := 2) (t := 5) rfl rfl hku hkz
  have hne_14 : fp_dif u t := fp_neOA X.2.2.2.2.2 (i := 2) (t := 1) rfl rfl hku hkt
  have hne_15 : fp_dif u hi := fp_neOO X.2.2.2.2.2 (i := 2) (j := 10) rfl rfl (by decide) hku hdo
  have hne_16 : fp_dif u el := fp_neOA X.2.2.2.2.2 (i := 2) (t := 4) rfl rfl hku hdr
  have hne_17 : fp_dif u ed := fp_LE.neE hkl hed0 (by omega) (fun f9 h9 => fp_neOA X.2.2.2.2.2 (i := 2) (t := 4) rfl rfl hku h9)
  have hne_18 : fp_dif l z := fp_neOA X.2.2.2.2.2 (i := 8) (t := 5) rfl rfl hkl.1 hkz
  have hne_19 : fp_dif l t := fp_neOA X.2.2.2.2.2 (i := 8) (t := 1) rfl rfl hkl.1 hkt
  have hne_20 : fp_dif l hi := fp_neOO X.2.2.2.2.2 (i := 8) (j := 10) rfl rfl (by decide) hkl.1 hdo
  have hne_21 : fp_dif l el := fp_neOA X.2.2.2.2.2 (i := 8) (t := 4) rfl rfl hkl.1 hdr
  have hne_22 : fp_dif l ed := fp_LE.neE hkl hed0 (by omega) (fun f9 h9 => fp_neOA X.2.2.2.2.2 (i := 8) (t := 4) rfl rfl hkl.1 h9)
  have hne_23 : fp_dif z t := fp_neAA X.2.2.2.2.2 (t := 5) (t2 := 1) rfl rfl (by decide) hkz hkt
  have hne_24 : fp_dif z hi := Ne.symm (fp_neOA X.2.2.2.2.2 (i := 10) (t := 5) rfl rfl hdo hkz)
  have hne_25 : fp_dif z el := fp_neAA X.2.2.2.2.2 (t := 5) (t2 := 4) rfl rfl (by decide) hkz hdr
  have hne_26 : fp_dif z ed := fp_LE.neE hkl hed0 (by omega) (fun f9 h9 => fp_neAA X.2.2.2.2.2 (t := 5) (t2 := 4) rfl rfl (by decide) hkz h9)
  have hne_27 : fp_dif t hi := Ne.symm (fp_neOA X.2.2.2.2.2 (i := 10) (t := 1) rfl rfl hdo hkt)
  have hne_28 : fp_dif t el := fp_neAA X.2.2.2.2.2 (t := 1) (t2 := 4) rfl rfl (by decide) hkt hdr
  have hne_29 : fp_dif t ed := fp_LE.neE hkl hed0 (by omega) (fun f9 h9 => fp_neAA X.2.2.2.2.2 (t := 1) (t2 := 4) rfl rfl (by decide) hkt h9)
  have hne_30 : fp_dif hi el := fp_neOA X.2.2.2.2.2 (i := 10) (t := 4) rfl rfl hdo hdr
  have hne_31 : fp_dif hi ed := fp_LE.neE hkl hed0 (by omega) (fun f9 h9 => fp_neOA X.2.2.2.2.2 (i := 10) (t := 4) rfl rfl hdo h9)
  have hap0 := (fp_SE.dis X.2.2.2.2.2 hed0 h_st).2
  refine lv_aload_n hx hb dX1_addTorch_0 rfl (lv_at hl 0 rfl) ?_
  refine lv_iload_n hx hb dX1_addTorch_1 rfl (lv_at hl 1 rfl) ?_
  refine lv_iconst (v := (iI ((1 : Nat) : Int))) hx hb dX1_addTorch_2 rfl ?_
  refine x_callV (cells1 := 12) (slots1 := 161) X hR (c_X1_setTorch_1 G x u sv hi ip ln (er) (fa) l ed z t mc cap b S el hd hn q (c) hsw hxb (⟨by omega, by omega⟩) hh8 hde) q1378 q1380 qs27 q88 q1381 ⟨rfl, pd_X1_setTorch⟩ ⟨Nat.le_of_ble_eq_true rfl, Nat.le_of_ble_eq_true rfl⟩ rfl rfl (Nat.le_of_ble_eq_true rfl) (Nat.le_of_ble_eq_true rfl) h_pob rfl rfl (Nat.le_of_ble_eq_true rfl) hl.1 dX1_addTorch_3 (hB.of hS hAb) ⟨h_pob, h_st, h_dq⟩ hS (fun q h => by have h2 : (g_s G).heap.size ≤ q ∧ (q = t ∨ q = hi ∨ q = el) := h; show ((g_s G).heap.size ≤ q ∧ (q = t ∨ q = hi ∨ q = el)) ∨ s.heap.size ≤ q; omega) (fun v H_35 locs hp_32 hz_33 hk_34 hS => ?_) (fun Ex qx cx H_35 locs hp_32 hz_33 hk_34 hS hcx hvx hlx => ?_)
  · skip
    obtain ⟨hd2_36, y9_37, l9_38, e9_39, z9_40, t9_41, m9_42, c9_43, rfl, hk_44, hg_45, hcf_46, hce_47, hE_48, hE_49, hE_50⟩ := hp_32
    have hz_51 := hS.1
    have lt_52 := hE_48.1.lt
    have lt_53 := hE_49.1.lt
    have lt_54 := hE_49.2.2.1.1
    have lt_56 := hE_50.1.lt
    refine r_stk (st2 := [.int (iI ((fp_tor (fp_sett S (c).toNat 1) : Nat) : Int))]) rfl ?_
    refine x_iret hx hb hr hlk hQ hS (Nat.le_of_ble_eq_true rfl) (Nat.le_of_ble_eq_true rfl) dX1_addTorch_6 ?_
    exact ⟨hd2_36, y9_37, l9_38, e9_39, z9_40, t9_41, m9_42, c9_43, rfl, hk_44, hg_45, (by omega), (by omega), hE_48, hE_49, hE_50⟩
  · skip
    rcases hp_32 with ⟨rfl, hb9, hE_57, hE_58⟩ | ⟨rfl, hb9, hb8, hE_59, hE_60⟩
    · skip
      have hz_61 := hS.1
      have lt_62 := hE_57.1.lt
      have lt_63 := hE_58.1.lt
      have lt_64 := hE_58.2.2.1.1
      exact x_out hT hlk hQ hS (Nat.le_of_ble_eq_true rfl) (Nat.le_of_ble_eq_true rfl) hcx hvx hlx (Or.inl ⟨rfl, hb9, hE_57, hE_58⟩)
    · skip
      have hz_65 := hS.1
      have lt_66 := hE_59.1.lt
      have lt_67 := hE_60.1.lt
      have lt_68 := hE_60.2.2.1.1
      exact x_out hT hlk hQ hS (Nat.le_of_ble_eq_true rfl) (Nat.le_of_ble_eq_true rfl) hcx hvx hlx (Or.inr (⟨rfl, hb9, hb8, hE_59, hE_60⟩))
set_option maxHeartbeats 4000000 in
theorem c_X1_setTorch_1x (G : fp_G) (x : Nat) (u : Nat) (sv : Value) (hi : Nat) (ip : Nat) (ln : Nat) (er : Int) (fa : Int) (l : Nat) (ed : Nat) (z : Nat) (t : Nat) (mc : Int32) (cap : Nat) (b : Nat → Nat) (S : PS) (c : Int) (hsw : fp_sw S b) (hxb : (g_s G).heap.size ≤ x) (hc : rg c) : fp_MX G yX1_setTorch cX1_setTorch 3 (some .int) 8 121 12 161 [.ref (x), .int (iI (c)), .int (iI ((1 : Nat) : Int))] (fun H => fp_At G H x (eO 1 [.ref (u), sv, .ref (hi), .ref (ip), .ref (ln), .int (iI (bI (true))), .int (iI (er)), .int (iI (fa))]) ∧ fp_SE G u l ed z t mc cap b S H) (fun q => (g_s G).heap.size ≤ q ∧ (q = t)) (fun H v H1 => v = some (.int (iI ((fp_tor (fp_sett S c.toNat 1) : Nat) : Int))) ∧ (fp_cc c = 0) ∧ (sT S c.toNat ≠ 1) ∧ fp_SE G u l ed z t mc cap b (fp_sett S c.toNat 1) H1) (fun H E H1 => (E = "java/lang/IndexOutOfBoundsException" ∧ ((fp_cc c = 1) ∧ fp_SE G u l ed z t mc cap b S H1)) ∨ (E = "java/lang/IllegalStateException" ∧ ((fp_cc c = 0) ∧ (sT S c.toNat = 1) ∧ fp_SE G u l ed z t mc cap b S H1))) := by
  refine fp_MX.intro (by decide) (Nat.le_of_ble_eq_true rfl) ?_
  intro pg en s mi ag bl mt cd rR qQ ls X hx hb hr hlk hnm hR hQ hT hB hM hl
  have hS : va_S (fA (fun q => (g_s G).heap.size ≤ q ∧ (q = t)) s.heap.size) s.heap s.heap [] := va_S.rf
  generalize ([] : List Loc) = locs at hS ⊢
  have hb0 := hB.1
  have hAb : ∀ q, (fun q => (g_s G).heap.size ≤ q ∧ (q = t)) q → (g_s G).heap.size ≤ q := fun q h => h.1
  obtain ⟨h_pob, h_st⟩ := hM
  have hsz0 := hS.1
  have lt_1 := h_pob.lt
  have lt_2 := h_st.1.lt
  have hn24 := hsw.1.1
  have hed0 := (X.2.2.2.2.2.deT (A := fp_no) hB fp_no.base).2.2
  obtain ⟨hku, hkl, hkz, hkt, hkb, hxb9, hzb9, htb9⟩ := id h_st
  have hlb9 := hkl.2.2.2
  have hne_3 : fp_dif x u := fp_neOO X.2.2.2.2.2 (i := 1) (j := 2) rfl rfl (by decide) h_pob hku
  have hne_4 : fp_dif x l := fp_neOO X.2.2.2.2.2 (i := 1) (j := 8) rfl rfl (by decide) h_pob hkl.1
  have hne_5 : fp_dif x z := fp_neOA X.2.2.2.2.2 (i := 1) (t := 5) rfl rfl h_pob hkz
  have hne_6 : fp_dif x t := fp_neOA X.2.2.2.2.2 (i := 1) (t := 1) rfl rfl h_pob hkt
  have hne_7 : fp_dif x ed := fp_LE.neE hkl hed0 (by omega) (fun f9 h9 => fp_neOA X.2.2.2.2.2 (i := 1) (t := 4) rfl rfl h_pob h9)
  have hne_8 : fp_dif u l := fp_neOO X.2.2.2.2.2 (i := 2) (j := 8) rfl rfl (by decide) hku hkl.1
  have hne_9 : fp_dif u z := fp_neOA X.2.2.2.2.2 (i := 2) (t := 5) rfl rfl hku hkz
  have hne_10 : fp_dif u t := fp_neOA X.2.2.2.2.2 (i := 2) (t := 1) rfl rfl hku hkt
  have hne_11 : fp_dif u ed := fp_LE.neE hkl hed0 (by omega) (fun f9 h9 => fp_neOA X.2.2.2.2.2 (i := 2) (t := 4) rfl rfl hku h9)
  have hne_12 : fp_dif l z := fp_neOA X.2.2.2.2.2 (i := 8) (t := 5) rfl rfl hkl.1 hkz
  have hne_13 : fp_dif l t := fp_neOA X.2.2.2.2.2 (i := 8) (t := 1) rfl rfl hkl.1 hkt
  have hne_14 : fp_dif l ed := fp_LE.neE hkl hed0 (by omega) (fun f9 h9 => fp_neOA X.2.2.2.2.2 (i := 8) (t := 4) rfl rfl hkl.1 h9)
  have hne_15 : fp_dif z t := fp_neAA X.2.2.2.2.2 (t := 5) (t2 := 1) rfl rfl (by decide) hkz hkt
  have hne_16 : fp_dif z ed := fp_LE.neE hkl hed0 (by omega) (fun f9 h9 => fp_neAA X.2.2.2.2.2 (t := 5) (t2 := 4) rfl rfl (by decide) hkz h9)
  have hne_17 : fp_dif t ed := fp_LE.neE hkl hed0 (by omega) (fun f9 h9 => fp_neAA X.2.2.2.2.2 (t := 1) (t2 := 4) rfl rfl (by decide) hkt h9)
  have hap0 := (fp_SE.dis X.2.2.2.2.2 hed0 h_st).2
  have hblne : ∀ k, k < sN S → b k ≠ l ∧ b k ≠ ed ∧ b k ≠ z ∧ b k ≠ t := fun k hk => ⟨(hap0 k hk).2.1, (hap0 k hk).2.2.1, (hap0 k hk).2.2.2.1, (hap0 k hk).2.2.2.2⟩
  have hbllt : ∀ k, k < sN S → b k < s.heap.size := fun k hk => (hkb k hk).lt
  refine lv_iload_n hx hb dX1_setTorch_0 rfl (lv_at hl 1 rfl) ?_
  refine x_callS (cells1 := 1) (slots1 := 6) X hR (c_X1_checkColumn G (c) (⟨by omega, by omega⟩)) q1347 q1348 q88 q1349 pd_X1_checkColumn ⟨Nat.le_of_ble_eq_true rfl, Nat.le_of_ble_eq_true rfl⟩ rfl rfl (Nat.le_of_ble_eq_true rfl) (Nat.le_of_ble_eq_true rfl) rfl (Nat.le_of_ble_eq_true rfl) hl.1 dX1_setTorch_1 (hB.of hS hAb) trivial hS (fun _ h => h.elim) (fun v H_21 locs hp_18 hz_19 hk_20 hS => ?_) (fun Ex qx cx H_21 locs hp_18 hz_19 hk_20 hS hcx hvx hlx => ?_)
  · skip
    obtain ⟨rfl, hcc_22, rfl⟩ := hp_18
    refine r_stk (st2 := []) rfl ?_
    obtain ⟨cn, rfl⟩ : ∃ cn : Nat, c = ((cn : Nat) : Int) := ⟨c.toNat, by omega⟩
    have hcn : cn < 12 := by omega
    refine lv_aload_n hx hb dX1_setTorch_4 rfl (lv_at hl 0 rfl) ?_
    refine r_get X h_pob rfl in_X1 0 (by decide) q242 (Or.inl rfl) (v := .ref (u)) rfl dX1_setTorch_5 ?_
    refine r_getN X h_st.1 rfl in_X2 2 (by decide) q178 (Or.inl rfl) (v := .ref (t)) rfl dX1_setTorch_8 ?_
    have lt_23 := h_st.2.2.2.1.lt
    refine lv_iload_n hx hb dX1_setTorch_11 rfl (lv_at hl 1 rfl) ?_
    refine r_zaldI X h_st.2.2.2.1 (j := cn) rfl (by omega) (by decide) dX1_setTorch_12 ?_
    refine r_set (y := .int (iI (bI (decide (sT S cn = 1))))) rfl ?_
    have ht2 := hsw.1.2.2.2.2 cn hcn
    refine r_set (y := .int (iI ((sT S cn : Nat) : Int))) (congrArg (fun q : Int => Value.int (iI q)) (fp_bIt ht2)) ?_
    refine lv_iload_n hx hb dX1_setTorch_13 rfl (lv_at hl 2 rfl) ?_
    refine r_icmp_eq (tgt := 21) hx hb ⟨by omega, by omega⟩ (by decide) dX1_setTorch_14 (by decide) (fun c14 => ?_) (fun c14 => ?_)
    · skip
      have hbad : sT S ((cn : Nat) : Int).toNat = 1 := by rw [Int.toNat_natCast]; omega
      refine lv_iconst (v := (iI ((0 : Nat) : Int))) hx hb dX1_setTorch_21 rfl ?_
      refine x_callS (cells1 := 2) (slots1 := 12) X hR (c_X1_checkState G false) q1234 q1235 q88 q1236 pd_X1_checkState ⟨Nat.le_of_ble_eq_true rfl, Nat.le_of_ble_eq_true rfl⟩ rfl rfl (Nat.le_of_ble_eq_true rfl) (Nat.le_of_ble_eq_true rfl) rfl (Nat.le_of_ble_eq_true rfl) hl.1 dX1_setTorch_22 (hB.of hS hAb) trivial hS (fun _ h => h.elim) (fun v H_27 locs hp_24 hz_25 hk_26 hS => ?_) (fun Ex qx cx H_27 locs hp_24 hz_25 hk_26 hS hcx hvx hlx => ?_)
      · skip
        obtain ⟨rfl, rfl, hbt_28⟩ := hp_24
        refine r_stk (st2 := []) rfl ?_
        cases hbt_28
      · skip
        obtain ⟨rfl, hX9, hb9⟩ := hp_24
        have hE_30 := h_st.ext hX9
        exact x_out hT hlk hQ hS (Nat.le_of_ble_eq_true rfl) (Nat.le_of_ble_eq_true rfl) hcx hvx hlx (Or.inr ⟨rfl, fp_cc_0 (by omega), hbad, hE_30⟩)
    · skip
      have hgood : sT S ((cn : Nat) : Int).toNat ≠ 1 := by rw [Int.toNat_natCast]; omega
      refine lv_iconst (v := (iI ((1 : Nat) : Int))) hx hb dX1_setTorch_17 rfl ?_
      refine lv_goto (tgt := 22) hx hb dX1_setTorch_18 (by decide) ?_
      refine x_callS (cells1 := 2) (slots1 := 12) X hR (c_X1_checkState G true) q1234 q1235 q88 q1236 pd_X1_checkState ⟨Nat.le_of_ble_eq_true rfl, Nat.le_of_ble_eq_true rfl⟩ rfl rfl (Nat.le_of_ble_eq_true rfl) (Nat.le_of_ble_eq_true rfl) rfl (Nat.le_of_ble_eq_true rfl) hl.1 dX1_setTorch_22 (hB.of hS hAb) trivial hS (fun _ h => h.elim) (fun v H_34 locs hp_31 hz_32 hk_33 hS => ?_) (fun Ex qx cx H_34 locs hp_31 hz_32 hk_33 hS hcx hvx hlx => ?_)
      · skip
        obtain ⟨rfl, rfl, hbt_35⟩ := hp_31
        refine r_stk (st2 := []) rfl ?_
        have hedl := h_st.2.1.2.2.1
        have hlll := hkl.1.lt
        have hzll := hkz.lt
        have htll := hkt.lt
        refine lv_aload_n hx hb dX1_setTorch_25 rfl (lv_at hl 0 rfl) ?_
        refine r_callV (cells1 := 2) (slots1 := 12) X hR (c_X1_beginChange_x G x u sv hi ip ln (er) (fa) l ed z t mc cap b S) q1252 q1254 qs23 q88 q1255 ⟨rfl, pd_X1_beginChange⟩ ⟨Nat.le_of_ble_eq_true rfl, Nat.le_of_ble_eq_true rfl⟩ rfl rfl (Nat.le_of_ble_eq_true rfl) (Nat.le_of_ble_eq_true rfl) h_pob rfl rfl (Nat.le_of_ble_eq_true rfl) hl.1 dX1_setTorch_26 (hB.of hS hAb) h_pob hS (fun _ h => h.elim) (fun v H_39 locs hp_36 hz_37 hk_38 hS => ?_)
        obtain ⟨rfl, rfl⟩ := hp_36
        refine r_stk (st2 := []) rfl ?_
        obtain ⟨h_no, h_nl, h_nz, h_nt, h_nbl, h_nxb, h_nzb, h_ntb⟩ := id h_st
        have lt_40 := h_nl.1.lt
        have lt_41 := h_nl.2.2
        have lt_42 := h_nz.lt
        have lt_43 := h_nt.lt
        have lt_44 := h_no.lt
        refine lv_aload_n hx hb dX1_setTorch_29 rfl (lv_at hl 0 rfl) ?_
        refine r_get X h_pob rfl in_X1 0 (by decide) q242 (Or.inl rfl) (v := .ref (u)) rfl dX1_setTorch_30 ?_
        refine r_getN X h_no rfl in_X2 2 (by decide) q178 (Or.inl rfl) (v := .ref (t)) rfl dX1_setTorch_33 ?_
        refine lv_iload_n hx hb dX1_setTorch_36 rfl (lv_at hl 1 rfl) ?_
        refine lv_iload_n hx hb dX1_setTorch_37 rfl (lv_at hl 2 rfl) ?_
        refine r_set (y := .int (iI (bI (true)))) rfl ?_
        refine r_zastB (v := true) X h_nt hS (Or.inl ⟨by omega, rfl⟩) (j := cn) rfl (by omega) (by decide) dX1_setTorch_38 (fun H_48 locs hE_45 hz_46 hq_47 hS => ?_)
        have hz_49 := hS.1
        have hE_50 : fp_At G H_48 t (eZ G 12 (fun j => iI (bI ((va_up (fun j => decide (sT S j = 1)) cn true) j)))) := hE_45.updZ
        have hE_53 := fp_At.kept h_no (hq_47 _ (hne_10))
        have hE_55 := fp_LE.mv h_nl (hq_47 _ (hne_13)) (hq_47 _ (Ne.symm (hne_17)))
        have hE_57 := fp_At.kept h_nz (hq_47 _ (hne_15))
        have hE_59 := fp_BL.mv h_nbl (fun k hk => hq_47 _ (by have := hblne k hk; omega))
        have hst_51 : fp_SE G u l ed z t mc cap b (fp_sett S cn 1) H_48 := ⟨hE_53, hE_55, hE_57, fp_At.cZ hE_50 (fun j _ => fp_sett_f (S := S) (c := cn) (v := 1) (w := true) rfl j), hE_59, h_nxb, h_nzb, h_ntb⟩
        have lt_60 := hst_51.1.lt
        refine lv_aload_n hx hb dX1_setTorch_39 rfl (lv_at hl 0 rfl) ?_
        have hE_61 := fp_At.kept h_pob (fp_keptS (by omega) hS (fun h => (hne_6) h.2))
        refine r_get X hE_61 rfl in_X1 0 (by decide) q242 (Or.inl rfl) (v := .ref (u)) rfl dX1_setTorch_40 ?_
        refine r_callV (cells1 := 2) (slots1 := 12) X hR (c_X2_torches G u l ed z t mc cap b (fp_sett S cn 1) (hsw.t (by decide))) q1382 q1383 q1384 q89 q1385 ⟨rfl, pd_X2_torches⟩ ⟨Nat.le_of_ble_eq_true rfl, Nat.le_of_ble_eq_true rfl⟩ rfl rfl (Nat.le_of_ble_eq_true rfl) (Nat.le_of_ble_eq_true rfl) hst_51.1 rfl rfl (Nat.le_of_ble_eq_true rfl) hl.1 dX1_setTorch_43 (hB.of hS hAb) hst_51 hS (fun _ h => h.elim) (fun v H_65 locs hp_62 hz_63 hk_64 hS => ?_)
        obtain ⟨rfl, rfl⟩ := hp_62
        refine r_stk (st2 := [.int (iI ((fp_tor (fp_sett S cn 1) : Nat) : Int))]) rfl ?_
        refine x_iret hx hb hr hlk hQ hS (Nat.le_of_ble_eq_true rfl) (Nat.le_of_ble_eq_true rfl) dX1_setTorch_46 ?_
        exact ⟨rfl, (fp_cc_0 (by omega)), hgood, hst_51⟩
      · skip
        obtain ⟨rfl, hX9, hb9⟩ := hp_31
        cases hb9
  · skip
    obtain ⟨rfl, hX9, hb9⟩ := hp_18
    have hE_67 := h_st.ext hX9
    exact x_out hT hlk hQ hS (Nat.le_of_ble_eq_true rfl) (Nat.le_of_ble_eq_true rfl) hcx hvx hlx (Or.inl ⟨rfl, (fp_cc_1 hb9), hE_67⟩)
set_option maxHeartbeats 4000000 in
theorem c_X1_addTorch_x (G : fp_G) (x : Nat) (u : Nat) (sv : Value) (hi : Nat) (ip : Nat) (ln : Nat) (er : Int) (fa : Int) (l : Nat) (ed : Nat) (z : Nat) (t : Nat) (mc : Int32) (cap : Nat) (b : Nat → Nat) (S : PS) (c : Int) (hsw : fp_sw S b) (hxb : (g_s G).heap.size ≤ x) (hc : rg c) : fp_MX G yX1_addTorch cX1_addTorch 2 (some .int) 9 143 12 161 [.ref (x), .int (iI (c))] (fun H => fp_At G H x (eO 1 [.ref (u), sv, .ref (hi), .ref (ip), .ref (ln), .int (iI (bI (true))), .int (iI (er)), .int (iI (fa))]) ∧ fp_SE G u l ed z t mc cap b S H) (fun q => (g_s G).heap.size ≤ q ∧ (q = t)) (fun H v H1 => v = some (.int (iI ((fp_tor (fp_sett S c.toNat 1) : Nat) : Int))) ∧ (fp_cc c = 0) ∧ (sT S c.toNat ≠ 1) ∧ fp_SE G u l ed z t mc cap b (fp_sett S c.toNat 1) H1) (fun H E H1 => (E = "java/lang/IndexOutOfBoundsException" ∧ ((fp_cc c = 1) ∧ fp_SE G u l ed z t mc cap b S H1)) ∨ (E = "java/lang/IllegalStateException" ∧ ((fp_cc c = 0) ∧ (sT S c.toNat = 1) ∧ fp_SE G u l ed z t mc cap b S H1))) := by
  refine fp_MX.intro (by decide) (Nat.le_of_ble_eq_true rfl) ?_
  intro pg en s mi ag bl mt cd rR qQ ls X hx hb hr hlk hnm hR hQ hT hB hM hl
  have hS : va_S (fA (fun q => (g_s G).heap.size ≤ q ∧ (q = t)) s.heap.size) s.heap s.heap [] := va_S.rf
  generalize ([] : List Loc) = locs at hS ⊢
  have hb0 := hB.1
  have hAb : ∀ q, (fun q => (g_s G).heap.size ≤ q ∧ (q = t)) q → (g_s G).heap.size ≤ q := fun q h => h.1
  obtain ⟨h_pob, h_st⟩ := hM
  have hsz0 := hS.1
  have lt_1 := h_pob.lt
  have lt_2 := h_st.1.lt
  have hn24 := hsw.1.1
  have hed0 := (X.2.2.2.2.2.deT (A := fp_no) hB fp_no.base).2.2
  obtain ⟨hku, hkl, hkz, hkt, hkb, hxb9, hzb9, htb9⟩ := id h_st
  have hlb9 := hkl.2.2.2
  have hne_3 : fp_dif x u := fp_neOO X.2.2.2.2.2 (i := 1) (j := 2) rfl rfl (by decide) h_pob hku
  have hne_4 : fp_dif x l := fp_neOO X.2.2.2.2.2 (i := 1) (j := 8) rfl rfl (by decide) h_pob hkl.1
  have hne_5 : fp_dif x z := fp_neOA X.2.2.2.2.2 (i := 1) (t := 5) rfl rfl h_pob hkz
  have hne_6 : fp_dif x t := fp_neOA X.2.2.2.2.2 (i := 1) (t := 1) rfl rfl h_pob hkt
  have hne_7 : fp_dif x ed := fp_LE.neE hkl hed0 (by omega) (fun f9 h9 => fp_neOA X.2.2.2.2.2 (i := 1) (t := 4) rfl rfl h_pob h9)
  have hne_8 : fp_dif u l := fp_neOO X.2.2.2.2.2 (i := 2) (j := 8) rfl rfl (by decide) hku hkl.1
  have hne_9 : fp_dif u z := fp_neOA X.2.2.2.2.2 (i := 2) (t := 5) rfl rfl hku hkz
  have hne_10 : fp_dif u t := fp_neOA X.2.2.2.2.2 (i := 2) (t := 1) rfl rfl hku hkt
  have hne_11 : fp_dif u ed := fp_LE.neE hkl hed0 (by omega) (fun f9 h9 => fp_neOA X.2.2.2.2.2 (i := 2) (t := 4) rfl rfl hku h9)
  have hne_12 : fp_dif l z := fp_neOA X.2.2.2.2.2 (i := 8) (t := 5) rfl rfl hkl.1 hkz
  have hne_13 : fp_dif l t := fp_neOA X.2.2.2.2.2 (i := 8) (t := 1) rfl rfl hkl.1 hkt
  have hne_14 : fp_dif l ed := fp_LE.neE hkl hed0 (by omega) (fun f9 h9 => fp_neOA X.2.2.2.2.2 (i := 8) (t := 4) rfl rfl hkl.1 h9)
  have hne_15 : fp_dif z t := fp_neAA X.2.2.2.2.2 (t := 5) (t2 := 1) rfl rfl (by decide) hkz hkt
  have hne_16 : fp_dif z ed := fp_LE.neE hkl hed0 (by omega) (fun f9 h9 => fp_neAA X.2.2.2.2.2 (t := 5) (t2 := 4) rfl rfl (by decide) hkz h9)
  have hne_17 : fp_dif t ed := fp_LE.neE hkl hed0 (by omega) (fun f9 h9 => fp_neAA X.2.2.2.2.2 (t := 1) (t2 := 4) rfl rfl (by decide) hkt h9)
  have hap0 := (fp_SE.dis X.2.2.2.2.2 hed0 h_st).2
  refine lv_aload_n hx hb dX1_addTorch_0 rfl (lv_at hl 0 rfl) ?_
  refine lv_iload_n hx hb dX1_addTorch_1 rfl (lv_at hl 1 rfl) ?_
  refine lv_iconst (v := (iI ((1 : Nat) : Int))) hx hb dX1_addTorch_2 rfl ?_
  refine x_callV (cells1 := 12) (slots1 := 161) X hR (c_X1_setTorch_1x G x u sv hi ip ln (er) (fa) l ed z t mc cap b S (c) hsw hxb (⟨by omega, by omega⟩)) q1378 q1380 qs27 q88 q1381 ⟨rfl, pd_X1_setTorch⟩ ⟨Nat.le_of_ble_eq_true rfl, Nat.le_of_ble_eq_true rfl⟩ rfl rfl (Nat.le_of_ble_eq_true rfl) (Nat.le_of_ble_eq_true rfl) h_pob rfl rfl (Nat.le_of_ble_eq_true rfl) hl.1 dX1_addTorch_3 (hB.of hS hAb) ⟨h_pob, h_st⟩ hS (fun q h => by have h2 : (g_s G).heap.size ≤ q ∧ (q = t) := h; show ((g_s G).heap.size ≤ q ∧ (q = t)) ∨ s.heap.size ≤ q; omega) (fun v H_21 locs hp_18 hz_19 hk_20 hS => ?_) (fun Ex qx cx H_21 locs hp_18 hz_19 hk_20 hS hcx hvx hlx => ?_)
  · skip
    obtain ⟨rfl, hk_22, hg_23, hE_24⟩ := hp_18
    have hz_25 := hS.1
    have lt_26 := hE_24.1.lt
    refine r_stk (st2 := [.int (iI ((fp_tor (fp_sett S (c).toNat 1) : Nat) : Int))]) rfl ?_
    refine x_iret hx hb hr hlk hQ hS (Nat.le_of_ble_eq_true rfl) (Nat.le_of_ble_eq_true rfl) dX1_addTorch_6 ?_
    exact ⟨rfl, hk_22, hg_23, hE_24⟩
  · skip
    rcases hp_18 with ⟨rfl, hb9, hE_27⟩ | ⟨rfl, hb9, hb8, hE_28⟩
    · skip
      have hz_29 := hS.1
      have lt_30 := hE_27.1.lt
      exact x_out hT hlk hQ hS (Nat.le_of_ble_eq_true rfl) (Nat.le_of_ble_eq_true rfl) hcx hvx hlx (Or.inl ⟨rfl, hb9, hE_27⟩)
    · skip
      have hz_31 := hS.1
      have lt_32 := hE_28.1.lt
      exact x_out hT hlk hQ hS (Nat.le_of_ble_eq_true rfl) (Nat.le_of_ble_eq_true rfl) hcx hvx hlx (Or.inr (⟨rfl, hb9, hb8, hE_28⟩))
set_option maxHeartbeats 4000000 in
theorem c_X1_setTorch_0 (G : fp_G) (x : Nat) (u : Nat) (sv : Value) (hi : Nat) (ip : Nat) (ln : Nat) (er : Int) (fa : Int) (l : Nat) (ed : Nat) (z : Nat) (t : Nat) (mc : Int32) (cap : Nat) (b : Nat → Nat) (S : PS) (el : Nat) (hd : Nat) (hn : Nat) (q : Nat → Nat) (c : Int) (hsw : fp_sw S b) (hxb : (g_s G).heap.size ≤ x) (hc : rg c) (hh8 : hn ≤ 8) (hde : fp_dif ed el) : fp_MX G yX1_setTorch cX1_setTorch 3 (some .int) 10 234 12 161 [.ref (x), .int (iI (c)), .int (iI ((0 : Nat) : Int))] (fun H => fp_At G H x (eO 1 [.ref (u), sv, .ref (hi), .ref (ip), .ref (ln), .int (iI (bI (false))), .int (iI (er)), .int (iI (fa))]) ∧ fp_SE G u l ed z t mc cap b S H ∧ fp_DQ G hi el hd hn q H) (fun q => (g_s G).heap.size ≤ q ∧ (q = t ∨ q = hi ∨ q = el)) (fun H v H1 => ∃ (hd2 : Nat), ∃ (y9 : Nat), ∃ (l9 : Nat), ∃ (e9 : Nat), ∃ (z9 : Nat), ∃ (t9 : Nat), ∃ (m9 : Int32), ∃ (c9 : Nat), v = some (.int (iI ((fp_tor (fp_sett S c.toNat 0) : Nat) : Int))) ∧ (fp_cc c = 0) ∧ (sT S c.toNat = 1) ∧ (H.size ≤ y9 ∧ H.size ≤ l9 ∧ H.size ≤ z9 ∧ H.size ≤ t9) ∧ (e9 = fp_de G ∨ H.size ≤ e9) ∧ fp_SE G u l ed z t mc cap b (fp_sett S c.toNat 0) H1 ∧ fp_DQ G hi el hd2 (fp_hn hn) (fp_qpush q hn y9) H1 ∧ fp_SE G y9 l9 e9 z9 t9 m9 c9 b S H1) (fun H E H1 => (E = "java/lang/IndexOutOfBoundsException" ∧ ((fp_cc c = 1) ∧ fp_SE G u l ed z t mc cap b S H1 ∧ fp_DQ G hi el hd hn q H1)) ∨ (E = "java/lang/IllegalStateException" ∧ ((fp_cc c = 0) ∧ (sT S c.toNat ≠ 1) ∧ fp_SE G u l ed z t mc cap b S H1 ∧ fp_DQ G hi el hd hn q H1))) := by
  refine fp_MX.intro (by decide) (Nat.le_of_ble_eq_true rfl) ?_
  intro pg en s mi ag bl mt cd rR qQ ls X hx hb hr hlk hnm hR hQ hT hB hM hl
  have hS : va_S (fA (fun q => (g_s G).heap.size ≤ q ∧ (q = t ∨ q = hi ∨ q = el)) s.heap.size) s.heap s.heap [] := va_S.rf
  generalize ([] : List Loc) = locs at hS ⊢
  have hb0 := hB.1
  have hAb : ∀ q, (fun q => (g_s G).heap.size ≤ q ∧ (q = t ∨ q = hi ∨ q = el)) q → (g_s G).heap.size ≤ q := fun q h => h.1
  obtain ⟨h_pob, h_st, h_dq⟩ := hM
  have hsz0 := hS.1
  have lt_1 := h_pob.lt
  have lt_2 := h_st.1.lt
  have lt_3 := h_dq.1.lt
  have lt_4 := h_dq.2.2.1.1
  have hn24 := hsw.1.1
  have hed0 := (X.2.2.2.2.2.deT (A := fp_no) hB fp_no.base).2.2
  obtain ⟨hku, hkl, hkz, hkt, hkb, hxb9, hzb9, htb9⟩ := id h_st
  have hlb9 := hkl.2.2.2
  obtain ⟨hdo, ⟨fdq, hdr, -⟩, hdq9, hdb1, hdb2⟩ := id h_dq
  have hdlt := hdo.lt
  have hnSh := fp_SE.nO X.2.2.2.2.2 hed0 h_st (j := 10) rfl ⟨by decide, by decide, by decide, by decide, by decide⟩ hdo hdb1
  have hnSe := fp_SE.nQ X.2.2.2.2.2 h_st hdr hde
  have hnel : fp_dif el ed := Ne.symm hde
  have hne_5 : fp_dif x u := fp_neOO X.2.2.2.2.2 (i := 1) (j := 2) rfl rfl (by decide) h_pob hku
  have hne_6 : fp_dif x l := fp_neOO X.2.2.2.2.2 (i := 1) (j := 8) rfl rfl (by decide) h_pob hkl.1
  have hne_7 : fp_dif x z := fp_neOA X.2.2.2.2.2 (i := 1) (t := 5) rfl rfl h_pob hkz
  have hne_8 : fp_dif x t := fp_neOA X.2.2.2.2.2 (i := 1) (t := 1) rfl rfl h_pob hkt
  have hne_9 : fp_dif x hi := fp_neOO X.2.2.2.2.2 (i := 1) (j := 10) rfl rfl (by decide) h_pob hdo
  have hne_10 : fp_dif x el := fp_neOA X.2.2.2.2.2 (i := 1) (t := 4) rfl rfl h_pob hdr
  have hne_11 : fp_dif x ed := fp_LE.neE hkl hed0 (by omega) (fun f9 h9 => fp_neOA X.2.2.2.2.2 (i := 1) (t := 4) rfl rfl h_pob h9)
  have hne_12 : fp_dif u l := fp_neOO X.2.2.2.2.2 (i := 2) (j := 8) rfl rfl (by decide) hku hkl.1
  have hne_13 : fp_dif u z := fp_neOA X.2.2.2.2.2 (i := 2) (t := 5) rfl rfl hku hkz
  have hne_14 : fp_dif u t := fp_neOA X.2.2.2.2.2 (i := 2) (t := 1) rfl rfl hku hkt
  have hne_15 : fp_dif u hi := fp_neOO X.2.2.2.2.2 (i := 2) (j := 10) rfl rfl (by decide) hku hdo
  have hne_16 : fp_dif u el := fp_neOA X.2.2.2.2.2 (i := 2) (t := 4) rfl rfl hku hdr
  have hne_17 : fp_dif u ed := fp_LE.neE hkl hed0 (by omega) (fun f9 h9 => fp_neOA X.2.2.2.2.2 (i := 2) (t := 4) rfl rfl hku h9)
  have hne_18 : fp_dif l z := fp_neOA X.2.2.2.2.2 (i := 8) (t := 5) rfl rfl hkl.1 hkz
  have hne_19 : fp_dif l t := fp_neOA X.2.2.2.2.2 (i := 8) (t := 1) rfl rfl hkl.1 hkt
  have hne_20 : fp_dif l hi := fp_neOO X.2.2.2.2.2 (i := 8) (j := 10) rfl rfl (by decide) hkl.1 hdo
  have hne_21 : fp_dif l el := fp_neOA X.2.2.2.2.2 (i := 8) (t := 4) rfl rfl hkl.1 hdr
  have hne_22 : fp_dif l ed := fp_LE.neE hkl hed0 (by omega) (fun f9 h9 => fp_neOA X.2.2.2.2.2 (i := 8) (t := 4) rfl rfl hkl.1 h9)
  have hne_23 : fp_dif z t := fp_neAA X.2.2.2.2.2 (t := 5) (t2 := 1) rfl rfl (by decide) hkz hkt
  have hne_24 : fp_dif z hi := Ne.symm (fp_neOA X.2.2.2.2.2 (i := 10) (t := 5) rfl rfl hdo hkz)
  have hne_25 : fp_dif z el := fp_neAA X.2.2.2.2.2 (t := 5) (t2 := 4) rfl rfl (by decide) hkz hdr
  have hne_26 : fp_dif z ed := fp_LE.neE hkl hed0 (by omega) (fun f9 h9 => fp_neAA X.2.2.2.2.2 (t := 5) (t2 := 4) rfl rfl (by decide) hkz h9)
  have hne_27 : fp_dif t hi := Ne.symm (fp_neOA X.2.2.2.2.2 (i := 10) (t := 1) rfl rfl hdo hkt)
  have hne_28 : fp_dif t el := fp_neAA X.2.2.2.2.2 (t := 1) (t2 := 4) rfl rfl (by decide) hkt hdr
  have hne_29 : fp_dif t ed := fp_LE.neE hkl hed0 (by omega) (fun f9 h9 => fp_neAA X.2.2.2.2.2 (t := 1) (t2 := 4) rfl rfl (by decide) hkt h9)
  have hne_30 : fp_dif hi el := fp_neOA X.2.2.2.2.2 (i := 10) (t := 4) rfl rfl hdo hdr
  have hne_31 : fp_dif hi ed := fp_LE.neE hkl hed0 (by omega) (fun f9 h9 => fp_neOA X.2.2.2.2.2 (i := 10) (t := 4) rfl rfl hdo h9)
  have hap0 := (fp_SE.dis X.2.2.2.2.2 hed0 h_st).2
  have hblne : ∀ k, k < sN S → b k ≠ l ∧ b k ≠ ed ∧ b k ≠ z ∧ b k ≠ t := fun k hk => ⟨(hap0 k hk).2.1, (hap0 k hk).2.2.1, (hap0 k hk).2.2.2.1, (hap0 k hk).2.2.2.2⟩
  have hbllt : ∀ k, k < sN S → b k < s.heap.size := fun k hk => (hkb k hk).lt
  refine lv_iload_n hx hb dX1_setTorch_0 rfl (lv_at hl 1 rfl) ?_
  refine x_callS (cells1 := 1) (slots1 := 6) X hR (c_X1_checkColumn G (c) (⟨by omega, by omega⟩)) q1347 q1348 q88 q1349 pd_X1_checkColumn ⟨Nat.le_of_ble_eq_true rfl, Nat.le_of_ble_eq_true rfl⟩ rfl rfl (Nat.le_of_ble_eq_true rfl) (Nat.le_of_ble_eq_true rfl) rfl (Nat.le_of_ble_eq_true rfl) hl.1 dX1_setTorch_1 (hB.of hS hAb) trivial hS (fun _ h => h.elim) (fun v H_35 locs hp_32 hz_33 hk_34 hS => ?_) (fun Ex qx cx H_35 locs hp_32 hz_33 hk_34 hS hcx hvx hlx => ?_)
  · skip
    obtain ⟨rfl, hcc_36, rfl⟩ := hp_32
    refine r_stk (st2 := []) rfl ?_
    obtain ⟨cn, rfl⟩ : ∃ cn : Nat, c = ((cn : Nat) : Int) := ⟨c.toNat, by omega⟩
    have hcn : cn < 12 := by omega
    refine lv_aload_n hx hb dX1_setTorch_4 rfl (lv_at hl 0 rfl) ?_
    refine r_get X h_pob rfl in_X1 0 (by decide) q242 (Or.inl rfl) (v := .ref (u)) rfl dX1_setTorch_5 ?_
    refine r_getN X h_st.1 rfl in_X2 2 (by decide) q178 (Or.inl rfl) (v := .ref (t)) rfl dX1_setTorch_8 ?_
    have lt_37 := h_st.2.2.2.1.lt
    refine lv_iload_n hx hb dX1_setTorch_11 rfl (lv_at hl 1 rfl) ?_
    refine r_zaldI X h_st.2.2.2.1 (j := cn) rfl (by omega) (by decide) dX1_setTorch_12 ?_
    refine r_set (y := .int (iI (bI (decide (sT S cn = 1))))) rfl ?_
    have ht2 := hsw.1.2.2.2.2 cn hcn
    refine r_set (y := .int (iI ((sT S cn : Nat) : Int))) (congrArg (fun q : Int => Value.int (iI q)) (fp_bIt ht2)) ?_
    refine lv_iload_n hx hb dX1_setTorch_13 rfl (lv_at hl 2 rfl) ?_
    refine r_icmp_eq (tgt := 21) hx hb ⟨by omega, by omega⟩ (by decide) dX1_setTorch_14 (by decide) (fun c14 => ?_) (fun c14 => ?_)
    · skip
      have hbad : sT S ((cn : Nat) : Int).toNat ≠ 1 := by rw [Int.toNat_natCast]; omega
      refine lv_iconst (v := (iI ((0 : Nat) : Int))) hx hb dX1_setTorch_21 rfl ?_
      refine x_callS (cells1 := 2) (slots1 := 12) X hR (c_X1_checkState G false) q1234 q1235 q88 q1236 pd_X1_checkState ⟨Nat.le_of_ble_eq_true rfl, Nat.le_of_ble_eq_true rfl⟩ rfl rfl (Nat.le_of_ble_eq_true rfl) (Nat.le_of_ble_eq_true rfl) rfl (Nat.le_of_ble_eq_true rfl) hl.1 dX1_setTorch_22 (hB.of hS hAb) trivial hS (fun _ h => h.elim) (fun v H_41 locs hp_38 hz_39 hk_40 hS => ?_) (fun Ex qx cx H_41 locs hp_38 hz_39 hk_40 hS hcx hvx hlx => ?_)
      · skip
        obtain ⟨rfl, rfl, hbt_42⟩ := hp_38
        refine r_stk (st2 := []) rfl ?_
        cases hbt_42
      · skip
        obtain ⟨rfl, hX9, hb9⟩ := hp_38
        have hE_44 := h_st.ext hX9
        have hE_46 := h_dq.ext hX9
        exact x_out hT hlk hQ hS (Nat.le_of_ble_eq_true rfl) (Nat.le_of_ble_eq_true rfl) hcx hvx hlx (Or.inr ⟨rfl, fp_cc_0 (by omega), hbad, hE_44, hE_46⟩)
    · skip
      have hgood : sT S ((cn : Nat) : Int).toNat = 1 := by rw [Int.toNat_natCast]; omega
      refine lv_iconst (v := (iI ((1 : Nat) : Int))) hx hb dX1_setTorch_17 rfl ?_
      refine lv_goto (tgt := 22) hx hb dX1_setTorch_18 (by decide) ?_
      refine x_callS (cells1 := 2) (slots1 := 12) X hR (c_X1_checkState G true) q1234 q1235 q88 q1236 pd_X1_checkState ⟨Nat.le_of_ble_eq_true rfl, Nat.le_of_ble_eq_true rfl⟩ rfl rfl (Nat.le_of_ble_eq_true rfl) (Nat.le_of_ble_eq_true rfl) rfl (Nat.le_of_ble_eq_true rfl) hl.1 dX1_setTorch_22 (hB.of hS hAb) trivial hS (fun _ h => h.elim) (fun v H_50 locs hp_47 hz_48 hk_49 hS => ?_) (fun Ex qx cx H_50 locs hp_47 hz_48 hk_49 hS hcx hvx hlx => ?_)
      · skip
        obtain ⟨rfl, rfl, hbt_51⟩ := hp_47
        refine r_stk (st2 := []) rfl ?_
        have hedl := h_st.2.1.2.2.1
        have hlll := hkl.1.lt
        have hzll := hkz.lt
        have htll := hkt.lt
        refine lv_aload_n hx hb dX1_setTorch_25 rfl (lv_at hl 0 rfl) ?_
        refine r_callV (cells1 := 11) (slots1 := 161) X hR (c_X1_beginChange G x u sv hi ip ln (er) (fa) l ed z t mc cap b S el hd hn q hsw hxb hh8 hde) q1252 q1254 qs23 q88 q1255 ⟨rfl, pd_X1_beginChange⟩ ⟨Nat.le_of_ble_eq_true rfl, Nat.le_of_ble_eq_true rfl⟩ rfl rfl (Nat.le_of_ble_eq_true rfl) (Nat.le_of_ble_eq_true rfl) h_pob rfl rfl (Nat.le_of_ble_eq_true rfl) hl.1 dX1_setTorch_26 (hB.of hS hAb) ⟨h_pob, h_st, h_dq⟩ hS (fun q h => by have h2 : (g_s G).heap.size ≤ q ∧ (q = hi ∨ q = el) := h; show ((g_s G).heap.size ≤ q ∧ (q = t ∨ q = hi ∨ q = el)) ∨ s.heap.size ≤ q; omega) (fun v H_55 locs hp_52 hz_53 hk_54 hS => ?_)
        obtain ⟨hd2_56, y9_57, l9_58, e9_59, z9_60, t9_61, m9_62, c9_63, rfl, hcf_64, hce_65, hE_66, hE_67⟩ := hp_52
        have hz_68 := hS.1
        have lt_69 := hE_66.1.lt
        have lt_70 := hE_66.2.2.1.1
        have lt_72 := hE_67.1.lt
        refine r_stk (st2 := []) rfl ?_
        have hcf9 := hcf_64
        have hce9 := hce_65
        have hnT_73 : fp_nT G y9_57 l9_58 e9_59 z9_60 t9_61 b (sN S) t := fp_nT.fresh hcf9 hce9 hed0 (by omega) (fun k hk => (hap0 k hk).2.2.2.2)
        have hE_75 := fp_SE.mvA h_st (fun q9 hq9 hs9 => hk_54 _ hq9 (fun h8 => (fun h9 => h9.elim (hnSh.t q9 hs9 h8.1) (hnSe.t q9 hs9 h8.1)) h8.2))
        obtain ⟨h_no, h_nl, h_nz, h_nt, h_nbl, h_nxb, h_nzb, h_ntb⟩ := id hE_75
        have lt_76 := h_nl.1.lt
        have lt_77 := h_nl.2.2
        have lt_78 := h_nz.lt
        have lt_79 := h_nt.lt
        have lt_80 := h_no.lt
        refine lv_aload_n hx hb dX1_setTorch_29 rfl (lv_at hl 0 rfl) ?_
        have hE_81 := fp_At.kept h_pob (fp_keptS (by omega) hS (fun h => (fun h => h.elim (hne_8) (fun h => h.elim (hne_9) (hne_10))) h.2))
        refine r_get X hE_81 rfl in_X1 0 (by decide) q242 (Or.inl rfl) (v := .ref (u)) rfl dX1_setTorch_30 ?_
        refine r_getN X h_no rfl in_X2 2 (by decide) q178 (Or.inl rfl) (v := .ref (t)) rfl dX1_setTorch_33 ?_
        refine lv_iload_n hx hb dX1_setTorch_36 rfl (lv_at hl 1 rfl) ?_
        refine lv_iload_n hx hb dX1_setTorch_37 rfl (lv_at hl 2 rfl) ?_
        refine r_set (y := .int (iI (bI (false)))) rfl ?_
        refine r_zastB (v := false) X h_nt hS (Or.inl ⟨by omega, Or.inl rfl⟩) (j := cn) rfl (by omega) (by decide) dX1_setTorch_38 (fun H_85 locs hE_82 hz_83 hq_84 hS => ?_)
        have hz_86 := hS.1
        have hE_87 : fp_At G H_85 t (eZ G 12 (fun j => iI (bI ((va_up (fun j => decide (sT S j = 1)) cn false) j)))) := hE_82.updZ
        have hE_90 := fp_At.kept h_no (hq_84 _ (hne_14))
        have hE_92 := fp_LE.mv h_nl (hq_84 _ (hne_19)) (hq_84 _ (Ne.symm (hne_29)))
        have hE_94 := fp_At.kept h_nz (hq_84 _ (hne_23))
        have hE_96 := fp_BL.mv h_nbl (fun k hk => hq_84 _ (by have := hblne k hk; omega))
        have hst_88 : fp_SE G u l ed z t mc cap b (fp_sett S cn 0) H_85 := ⟨hE_90, hE_92, hE_94, fp_At.cZ hE_87 (fun j _ => fp_sett_f (S := S) (c := cn) (v := 0) (w := false) rfl j), hE_96, h_nxb, h_nzb, h_ntb⟩
        have lt_97 := hst_88.1.lt
        refine lv_aload_n hx hb dX1_setTorch_39 rfl (lv_at hl 0 rfl) ?_
        have hE_98 := fp_At.kept h_pob (fp_keptS (by omega) hS (fun h => (fun h => h.elim (hne_8) (fun h => h.elim (hne_9) (hne_10))) h.2))
        refine r_get X hE_98 rfl in_X1 0 (by decide) q242 (Or.inl rfl) (v := .ref (u)) rfl dX1_setTorch_40 ?_
        refine r_callV (cells1 := 11) (slots1 := 161) X hR (c_X2_torches G u l ed z t mc cap b (fp_sett S cn 0) (hsw.t (by decide))) q1382 q1383 q1384 q89 q1385 ⟨rfl, pd_X2_torches⟩ ⟨Nat.le_of_ble_eq_true rfl, Nat.le_of_ble_eq_true rfl⟩ rfl rfl (Nat.le_of_ble_eq_true rfl) (Nat.le_of_ble_eq_true rfl) hst_88.1 rfl rfl (Nat.le_of_ble_eq_true rfl) hl.1 dX1_setTorch_43 (hB.of hS hAb) hst_88 hS (fun _ h => h.elim) (fun v H_102 locs hp_99 hz_100 hk_101 hS => ?_)
        obtain ⟨rfl, rfl⟩ := hp_99
        refine r_stk (st2 := [.int (iI ((fp_tor (fp_sett S cn 0) : Nat) : Int))]) rfl ?_
        refine x_iret hx hb hr hlk hQ hS (Nat.le_of_ble_eq_true rfl) (Nat.le_of_ble_eq_true rfl) dX1_setTorch_46 ?_
        have hE_104 := fp_DQ.mv hE_66 (hq_84 _ (Ne.symm (hne_27))) (hq_84 _ (Ne.symm (hne_28)))
        have hE_106 := fp_SE.mvA hE_67 (fun q9 hq9 hs9 => hq_84 _ (hnT_73.p htb9 q9 hs9))
        exact ⟨hd2_56, y9_57, l9_58, e9_59, z9_60, t9_61, m9_62, c9_63, rfl, (fp_cc_0 (by omega)), hgood, (by omega), (by omega), hst_88, hE_104, hE_106⟩
      · skip
        obtain ⟨rfl, hX9, hb9⟩ := hp_47
        cases hb9
  · skip
    obtain ⟨rfl, hX9, hb9⟩ := hp_32
    have hE_108 := h_st.ext hX9
    have hE_110 := h_dq.ext hX9
    exact x_out hT hlk hQ hS (Nat.le_of_ble_eq_true rfl) (Nat.le_of_ble_eq_true rfl) hcx hvx hlx (Or.inl ⟨rfl, (fp_cc_1 hb9), hE_108, hE_110⟩)
set_option maxHeartbeats 4000000 in
theorem c_X1_removeTorch (G : fp_G) (x : Nat) (u : Nat) (sv : Value) (hi : Nat) (ip : Nat) (ln : Nat) (er : Int) (fa : Int) (l : Nat) (ed : Nat) (z : Nat) (t : Nat) (mc : Int32) (cap : Nat) (b : Nat → Nat) (S : PS) (el : Nat) (hd : Nat) (hn : Nat) (q : Nat → Nat) (c : Int) (hsw : fp_sw S b) (hxb : (g_s G).heap.size ≤ x) (hc : rg c) (hh8 : hn ≤ 8) (hde : fp_dif ed el) : fp_MX G yX1_removeTorch cX1_removeTorch 2 (some .int) 11 256 12 161 [.ref (x), .int (iI (c))] (fun H => fp_At G H x (eO 1 [.ref (u), sv, .ref (hi), .ref (ip), .ref (ln), .int (iI (bI (false))), .int (iI (er)), .int (iI (fa))]) ∧ fp_SE G u l ed z t mc cap b S H ∧ fp_DQ G hi el hd hn q H) (fun q => (g_s G).heap.size ≤ q ∧ (q = t ∨ q = hi ∨ q = el)) (fun H v H1 => ∃ (hd2 : Nat), ∃ (y9 : Nat), ∃ (l9 : Nat), ∃ (e9 : Nat), ∃ (z9 : Nat), ∃ (t9 : Nat), ∃ (m9 : Int32), ∃ (c9 : Nat), v = some (.int (iI ((fp_tor (fp_sett S c.toNat 0) : Nat) : Int))) ∧ (fp_cc c = 0) ∧ (sT S c.toNat = 1) ∧ (H.size ≤ y9 ∧ H.size ≤ l9 ∧ H.size ≤ z9 ∧ H.size ≤ t9) ∧ (e9 = fp_de G ∨ H.size ≤ e9) ∧ fp_SE G u l ed z t mc cap b (fp_sett S c.toNat 0) H1 ∧ fp_DQ G hi el hd2 (fp_hn hn) (fp_qpush q hn y9) H1 ∧ fp_SE G y9 l9 e9 z9 t9 m9 c9 b S H1) (fun H E H1 => (E = "java/lang/IndexOutOfBoundsException" ∧ ((fp_cc c = 1) ∧ fp_SE G u l ed z t mc cap b S H1 ∧ fp_DQ G hi el hd hn q H1)) ∨ (E = "java/lang/IllegalStateException" ∧ ((fp_cc c = 0) ∧ (sT S c.toNat ≠ 1) ∧ fp_SE G u l ed z t mc cap b S H1 ∧ fp_DQ G hi el hd hn q H1))) := by
  refine fp_MX.intro (by decide) (Nat.le_of_ble_eq_true rfl) ?_
  intro pg en s mi ag bl mt cd rR qQ ls X hx hb hr hlk hnm hR hQ hT hB hM hl
  have hS : va_S (fA (fun q => (g_s G).heap.size ≤ q ∧ (q = t ∨ q = hi ∨ q = el)) s.heap.size) s.heap s.heap [] := va_S.rf
  generalize ([] : List Loc) = locs at hS ⊢
  have hb0 := hB.1
  have hAb : ∀ q, (fun q => (g_s G).heap.size ≤ q ∧ (q = t ∨ q = hi ∨ q = el)) q → (g_s G).heap.size ≤ q := fun q h => h.1
  obtain ⟨h_pob, h_st, h_dq⟩ := hM
  have hsz0 := hS.1
  have lt_1 := h_pob.lt
  have lt_2 := h_st.1.lt
  have lt_3 := h_dq.1.lt
  have lt_4 := h_dq.2.2.1.1
  have hn24 := hsw.1.1
  have hed0 := (X.2.2.2.2.2.deT (A := fp_no) hB fp_no.base).2.2
  obtain ⟨hku, hkl, hkz, hkt, hkb, hxb9, hzb9, htb9⟩ := id h_st
  have hlb9 := hkl.2.2.2
  obtain ⟨hdo, ⟨fdq, hdr, -⟩, hdq9, hdb1, hdb2⟩ := id h_dq
  have hdlt := hdo.lt
  have hnSh := fp_SE.nO X.2.2.2.2.2 hed0 h_st (j := 10) rfl ⟨by decide, by decide, by decide, by decide, by decide⟩ hdo hdb1
  have hnSe := fp_SE.nQ X.2.2.2.2.2 h_st hdr hde
  have hnel : fp_dif el ed := Ne.symm hde
  have hne_5 : fp_dif x u := fp_neOO X.2.2.2.2.2 (i := 1) (j := 2) rfl rfl (by decide) h_pob hku
  have hne_6 : fp_dif x l := fp_neOO X.2.2.2.2.2 (i := 1) (j := 8) rfl rfl (by decide) h_pob hkl.1
  have hne_7 : fp_dif x z := fp_neOA X.2.2.2.2.2 (i := 1) (t := 5) rfl rfl h_pob hkz
  have hne_8 : fp_dif x t := fp_neOA X.2.2.2.2.2 (i := 1) (t := 1) rfl rfl h_pob hkt
  have hne_9 : fp_dif x hi := fp_neOO X.2.2.2.2.2 (i := 1) (j := 10) rfl rfl (by decide) h_pob hdo
  have hne_10 : fp_dif x el := fp_neOA X.2.2.2.2.2 (i := 1) (t := 4) rfl rfl h_pob hdr
  have hne_11 : fp_dif x ed := fp_LE.neE hkl hed0 (by omega) (fun f9 h9 => fp_neOA X.2.2.2.2.2 (i := 1) (t := 4) rfl rfl h_pob h9)
  have hne_12 : fp_dif u l := fp_neOO X.2.2.2.2.2 (i := 2) (j := 8) rfl rfl (by decide) hku hkl.1
  have hne_13 : fp_dif u z := fp_neOA X.2.2.2.2.2 (i := 2) (t := 5) rfl rfl hku hkz
  have hne_14 : fp_dif u t := fp_neOA X.2.2.2.2.2 (i := 2) (t := 1) rfl rfl hku hkt
  have hne_15 : fp_dif u hi := fp_neOO X.2.2.2.2.2 (i := 2) (j := 10) rfl rfl (by decide) hku hdo
  have hne_16 : fp_dif u el := fp_neOA X.2.2.2.2.2 (i := 2) (t := 4) rfl rfl hku hdr
  have hne_17 : fp_dif u ed := fp_LE.neE hkl hed0 (by omega) (fun f9 h9 => fp_neOA X.2.2.2.2.2 (i := 2) (t := 4) rfl rfl hku h9)
  have hne_18 : fp_dif l z := fp_neOA X.2.2.2.2.2 (i := 8) (t := 5) rfl rfl hkl.1 hkz
  have hne_19 : fp_dif l t := fp_neOA X.2.2.2.2.2 (i := 8) (t := 1) rfl rfl hkl.1 hkt
  have hne_20 : fp_dif l hi := fp_neOO X.2.2.2.2.2 (i := 8) (j := 10) rfl rfl (by decide) hkl.1 hdo
  have hne_21 : fp_dif l el := fp_neOA X.2.2.2.2.2 (i := 8) (t := 4) rfl rfl hkl.1 hdr
  have hne_22 : fp_dif l ed := fp_LE.neE hkl hed0 (by omega) (fun f9 h9 => fp_neOA X.2.2.2.2.2 (i := 8) (t := 4) rfl rfl hkl.1 h9)
  have hne_23 : fp_dif z t := fp_neAA X.2.2.2.2.2 (t := 5) (t2 := 1) rfl rfl (by decide) hkz hkt
  have hne_24 : fp_dif z hi := Ne.symm (fp_neOA X.2.2.2.2.2 (i := 10) (t := 5) rfl rfl hdo hkz)
  have hne_25 : fp_dif z el := fp_neAA X.2.2.2.2.2 (t := 5) (t2 := 4) rfl rfl (by decide) hkz hdr
  have hne_26 : fp_dif z ed := fp_LE.neE hkl hed0 (by omega) (fun f9 h9 => fp_neAA X.2.2.2.2.2 (t := 5) (t2 := 4) rfl rfl (by decide) hkz h9)
  have hne_27 : fp_dif t hi := Ne.symm (fp_neOA X.2.2.2.2.2 (i := 10) (t := 1) rfl rfl hdo hkt)
  have hne_28 : fp_dif t el := fp_neAA X.2.2.2.2.2 (t := 1) (t2 := 4) rfl rfl (by decide) hkt hdr
  have hne_29 : fp_dif t ed := fp_LE.neE hkl hed0 (by omega) (fun f9 h9 => fp_neAA X.2.2.2.2.2 (t := 1) (t2 := 4) rfl rfl (by decide) hkt h9)
  have hne_30 : fp_dif hi el := fp_neOA X.2.2.2.2.2 (i := 10) (t := 4) rfl rfl hdo hdr
  have hne_31 : fp_dif hi ed := fp_LE.neE hkl hed0 (by omega) (fun f9 h9 => fp_neOA X.2.2.2.2.2 (i := 10) (t := 4) rfl rfl hdo h9)
  have hap0 := (fp_SE.dis X.2.2.2.2.2 hed0 h_st).2
  refine lv_aload_n hx hb dX1_removeTorch_0 rfl (lv_at hl 0 rfl) ?_
  refine lv_iload_n hx hb dX1_removeTorch_1 rfl (lv_at hl 1 rfl) ?_
  refine lv_iconst (v := (iI ((0 : Nat) : Int))) hx hb dX1_removeTorch_2 rfl ?_
  refine x_callV (cells1 := 12) (slots1 := 161) X hR (c_X1_setTorch_0 G x u sv hi ip ln (er) (fa) l ed z t mc cap b S el hd hn q (c) hsw hxb (⟨by omega, by omega⟩) hh8 hde) q1378 q1380 qs27 q88 q1381 ⟨rfl, pd_X1_setTorch⟩ ⟨Nat.le_of_ble_eq_true rfl, Nat.le_of_ble_eq_true rfl⟩ rfl rfl (Nat.le_of_ble_eq_true rfl) (Nat.le_of_ble_eq_true rfl) h_pob rfl rfl (Nat.le_of_ble_eq_true rfl) hl.1 dX1_removeTorch_3 (hB.of hS hAb) ⟨h_pob, h_st, h_dq⟩ hS (fun q h => by have h2 : (g_s G).heap.size ≤ q ∧ (q = t ∨ q = hi ∨ q = el) := h; show ((g_s G).heap.size ≤ q ∧ (q = t ∨ q = hi ∨ q = el)) ∨ s.heap.size ≤ q; omega) (fun v H_35 locs hp_32 hz_33 hk_34 hS => ?_) (fun Ex qx cx H_35 locs hp_32 hz_33 hk_34 hS hcx hvx hlx => ?_)
  · skip
    obtain ⟨hd2_36, y9_37, l9_38, e9_39, z9_40, t9_41, m9_42, c9_43, rfl, hk_44, hg_45, hcf_46, hce_47, hE_48, hE_49, hE_50⟩ := hp_32
    have hz_51 := hS.1
    have lt_52 := hE_48.1.lt
    have lt_53 := hE_49.1.lt
    have lt_54 := hE_49.2.2.1.1
    have lt_56 := hE_50.1.lt
    refine r_stk (st2 := [.int (iI ((fp_tor (fp_sett S (c).toNat 0) : Nat) : Int))]) rfl ?_
    refine x_iret hx hb hr hlk hQ hS (Nat.le_of_ble_eq_true rfl) (Nat.le_of_ble_eq_true rfl) dX1_removeTorch_6 ?_
    exact ⟨hd2_36, y9_37, l9_38, e9_39, z9_40, t9_41, m9_42, c9_43, rfl, hk_44, hg_45, (by omega), (by omega), hE_48, hE_49, hE_50⟩
  · skip
    rcases hp_32 with ⟨rfl, hb9, hE_57, hE_58⟩ | ⟨rfl, hb9, hb8, hE_59, hE_60⟩
    · skip
      have hz_61 := hS.1
      have lt_62 := hE_57.1.lt
      have lt_63 := hE_58.1.lt
      have lt_64 := hE_58.2.2.1.1
      exact x_out hT hlk hQ hS (Nat.le_of_ble_eq_true rfl) (Nat.le_of_ble_eq_true rfl) hcx hvx hlx (Or.inl ⟨rfl, hb9, hE_57, hE_58⟩)
    · skip
      have hz_65 := hS.1
      have lt_66 := hE_59.1.lt
      have lt_67 := hE_60.1.lt
      have lt_68 := hE_60.2.2.1.1
      exact x_out hT hlk hQ hS (Nat.le_of_ble_eq_true rfl) (Nat.le_of_ble_eq_true rfl) hcx hvx hlx (Or.inr (⟨rfl, hb9, hb8, hE_59, hE_60⟩))
set_option maxHeartbeats 4000000 in
theorem c_X1_setTorch_0x (G : fp_G) (x : Nat) (u : Nat) (sv : Value) (hi : Nat) (ip : Nat) (ln : Nat) (er : Int) (fa : Int) (l : Nat) (ed : Nat) (z : Nat) (t : Nat) (mc : Int32) (cap : Nat) (b : Nat → Nat) (S : PS) (c : Int) (hsw : fp_sw S b) (hxb : (g_s G).heap.size ≤ x) (hc : rg c) : fp_MX G yX1_setTorch cX1_setTorch 3 (some .int) 8 121 12 161 [.ref (x), .int (iI (c)), .int (iI ((0 : Nat) : Int))] (fun H => fp_At G H x (eO 1 [.ref (u), sv, .ref (hi), .ref (ip), .ref (ln), .int (iI (bI (true))), .int (iI (er)), .int (iI (fa))]) ∧ fp_SE G u l ed z t mc cap b S H) (fun q => (g_s G).heap.size ≤ q ∧ (q = t)) (fun H v H1 => v = some (.int (iI ((fp_tor (fp_sett S c.toNat 0) : Nat) : Int))) ∧ (fp_cc c = 0) ∧ (sT S c.toNat = 1) ∧ fp_SE G u l ed z t mc cap b (fp_sett S c.toNat 0) H1) (fun H E H1 => (E = "java/lang/IndexOutOfBoundsException" ∧ ((fp_cc c = 1) ∧ fp_SE G u l ed z t mc cap b S H1)) ∨ (E = "java/lang/IllegalStateException" ∧ ((fp_cc c = 0) ∧ (sT S c.toNat ≠ 1) ∧ fp_SE G u l ed z t mc cap b S H1))) := by
  refine fp_MX.intro (by decide) (Nat.le_of_ble_eq_true rfl) ?_
  intro pg en s mi ag bl mt cd rR qQ ls X hx hb hr hlk hnm hR hQ hT hB hM hl
  have hS : va_S (fA (fun q => (g_s G).heap.size ≤ q ∧ (q = t)) s.heap.size) s.heap s.heap [] := va_S.rf
  generalize ([] : List Loc) = locs at hS ⊢
  have hb0 := hB.1
  have hAb : ∀ q, (fun q => (g_s G).heap.size ≤ q ∧ (q = t)) q → (g_s G).heap.size ≤ q := fun q h => h.1
  obtain ⟨h_pob, h_st⟩ := hM
  have hsz0 := hS.1
  have lt_1 := h_pob.lt
  have lt_2 := h_st.1.lt
  have hn24 := hsw.1.1
  have hed0 := (X.2.2.2.2.2.deT (A := fp_no) hB fp_no.base).2.2
  obtain ⟨hku, hkl, hkz, hkt, hkb, hxb9, hzb9, htb9⟩ := id h_st
  have hlb9 := hkl.2.2.2
  have hne_3 : fp_dif x u := fp_neOO X.2.2.2.2.2 (i := 1) (j := 2) rfl rfl (by decide) h_pob hku
  have hne_4 : fp_dif x l := fp_neOO X.2.2.2.2.2 (i := 1) (j := 8) rfl rfl (by decide) h_pob hkl.1
  have hne_5 : fp_dif x z := fp_neOA X.2.2.2.2.2 (i := 1) (t := 5) rfl rfl h_pob hkz
  have hne_6 : fp_dif x t := fp_neOA X.2.2.2.2.2 (i := 1) (t := 1) rfl rfl h_pob hkt
  have hne_7 : fp_dif x ed := fp_LE.neE hkl hed0 (by omega) (fun f9 h9 => fp_neOA X.2.2.2.2.2 (i := 1) (t := 4) rfl rfl h_pob h9)
  have hne_8 : fp_dif u l := fp_neOO X.2.2.2.2.2 (i := 2) (j := 8) rfl rfl (by decide) hku hkl.1
  have hne_9 : fp_dif u z := fp_neOA X.2.2.2.2.2 (i := 2) (t := 5) rfl rfl hku hkz
  have hne_10 : fp_dif u t := fp_neOA X.2.2.2.2.2 (i := 2) (t := 1) rfl rfl hku hkt
  have hne_11 : fp_dif u ed := fp_LE.neE hkl hed0 (by omega) (fun f9 h9 => fp_neOA X.2.2.2.2.2 (i := 2) (t := 4) rfl rfl hku h9)
  have hne_12 : fp_dif l z := fp_neOA X.2.2.2.2.2 (i := 8) (t := 5) rfl rfl hkl.1 hkz
  have hne_13 : fp_dif l t := fp_neOA X.2.2.2.2.2 (i := 8) (t := 1) rfl rfl hkl.1 hkt
  have hne_14 : fp_dif l ed := fp_LE.neE hkl hed0 (by omega) (fun f9 h9 => fp_neOA X.2.2.2.2.2 (i := 8) (t := 4) rfl rfl hkl.1 h9)
  have hne_15 : fp_dif z t := fp_neAA X.2.2.2.2.2 (t := 5) (t2 := 1) rfl rfl (by decide) hkz hkt
  have hne_16 : fp_dif z ed := fp_LE.neE hkl hed0 (by omega) (fun f9 h9 => fp_neAA X.2.2.2.2.2 (t := 5) (t2 := 4) rfl rfl (by decide) hkz h9)
  have hne_17 : fp_dif t ed := fp_LE.neE hkl hed0 (by omega) (fun f9 h9 => fp_neAA X.2.2.2.2.2 (t := 1) (t2 := 4) rfl rfl (by decide) hkt h9)
  have hap0 := (fp_SE.dis X.2.2.2.2.2 hed0 h_st).2
  have hblne : ∀ k, k < sN S → b k ≠ l ∧ b k ≠ ed ∧ b k ≠ z ∧ b k ≠ t := fun k hk => ⟨(hap0 k hk).2.1, (hap0 k hk).2.2.1, (hap0 k hk).2.2.2.1, (hap0 k hk).2.2.2.2⟩
  have hbllt : ∀ k, k < sN S → b k < s.heap.size := fun k hk => (hkb k hk).lt
  refine lv_iload_n hx hb dX1_setTorch_0 rfl (lv_at hl 1 rfl) ?_
  refine x_callS (cells1 := 1) (slots1 := 6) X hR (c_X1_checkColumn G (c) (⟨by omega, by omega⟩)) q1347 q1348 q88 q1349 pd_X1_checkColumn ⟨Nat.le_of_ble_eq_true rfl, Nat.le_of_ble_eq_true rfl⟩ rfl rfl (Nat.le_of_ble_eq_true rfl) (Nat.le_of_ble_eq_true rfl) rfl (Nat.le_of_ble_eq_true rfl) hl.1 dX1_setTorch_1 (hB.of hS hAb) trivial hS (fun _ h => h.elim) (fun v H_21 locs hp_18 hz_19 hk_20 hS => ?_) (fun Ex qx cx H_21 locs hp_18 hz_19 hk_20 hS hcx hvx hlx => ?_)
  · skip
    obtain ⟨rfl, hcc_22, rfl⟩ := hp_18
    refine r_stk (st2 := []) rfl ?_
    obtain ⟨cn, rfl⟩ : ∃ cn : Nat, c = ((cn : Nat) : Int) := ⟨c.toNat, by omega⟩
    have hcn : cn < 12 := by omega
    refine lv_aload_n hx hb dX1_setTorch_4 rfl (lv_at hl 0 rfl) ?_
    refine r_get X h_pob rfl in_X1 0 (by decide) q242 (Or.inl rfl) (v := .ref (u)) rfl dX1_setTorch_5 ?_
    refine r_getN X h_st.1 rfl in_X2 2 (by decide) q178 (Or.inl rfl) (v := .ref (t)) rfl dX1_setTorch_8 ?_
    have lt_23 := h_st.2.2.2.1.lt
    refine lv_iload_n hx hb dX1_setTorch_11 rfl (lv_at hl 1 rfl) ?_
    refine r_zaldI X h_st.2.2.2.1 (j := cn) rfl (by omega) (by decide) dX1_setTorch_12 ?_
    refine r_set (y := .int (iI (bI (decide (sT S cn = 1))))) rfl ?_
    have ht2 := hsw.1.2.2.2.2 cn hcn
    refine r_set (y := .int (iI ((sT S cn : Nat) : Int))) (congrArg (fun q : Int => Value.int (iI q)) (fp_bIt ht2)) ?_
    refine lv_iload_n hx hb dX1_setTorch_13 rfl (lv_at hl 2 rfl) ?_
    refine r_icmp_eq (tgt := 21) hx hb ⟨by omega, by omega⟩ (by decide) dX1_setTorch_14 (by decide) (fun c14 => ?_) (fun c14 => ?_)
    · skip
      have hbad : sT S ((cn : Nat) : Int).toNat ≠ 1 := by rw [Int.toNat_natCast]; omega
      refine lv_iconst (v := (iI ((0 : Nat) : Int))) hx hb dX1_setTorch_21 rfl ?_
      refine x_callS (cells1 := 2) (slots1 := 12) X hR (c_X1_checkState G false) q1234 q1235 q88 q1236 pd_X1_checkState ⟨Nat.le_of_ble_eq_true rfl, Nat.le_of_ble_eq_true rfl⟩ rfl rfl (Nat.le_of_ble_eq_true rfl) (Nat.le_of_ble_eq_true rfl) rfl (Nat.le_of_ble_eq_true rfl) hl.1 dX1_setTorch_22 (hB.of hS hAb) trivial hS (fun _ h => h.elim) (fun v H_27 locs hp_24 hz_25 hk_26 hS => ?_) (fun Ex qx cx H_27 locs hp_24 hz_25 hk_26 hS hcx hvx hlx => ?_)
      · skip
        obtain ⟨rfl, rfl, hbt_28⟩ := hp_24
        refine r_stk (st2 := []) rfl ?_
        cases hbt_28
      · skip
        obtain ⟨rfl, hX9, hb9⟩ := hp_24
        have hE_30 := h_st.ext hX9
        exact x_out hT hlk hQ hS (Nat.le_of_ble_eq_true rfl) (Nat.le_of_ble_eq_true rfl) hcx hvx hlx (Or.inr ⟨rfl, fp_cc_0 (by omega), hbad, hE_30⟩)
    · skip
      have hgood : sT S ((cn : Nat) : Int).toNat = 1 := by rw [Int.toNat_natCast]; omega
      refine lv_iconst (v := (iI ((1 : Nat) : Int))) hx hb dX1_setTorch_17 rfl ?_
      refine lv_goto (tgt := 22) hx hb dX1_setTorch_18 (by decide) ?_
      refine x_callS (cells1 := 2) (slots1 := 12) X hR (c_X1_checkState G true) q1234 q1235 q88 q1236 pd_X1_checkState ⟨Nat.le_of_ble_eq_true rfl, Nat.le_of_ble_eq_true rfl⟩ rfl rfl (Nat.le_of_ble_eq_true rfl) (Nat.le_of_ble_eq_true rfl) rfl (Nat.le_of_ble_eq_true rfl) hl.1 dX1_setTorch_22 (hB.of hS hAb) trivial hS (fun _ h => h.elim) (fun v H_34 locs hp_31 hz_32 hk_33 hS => ?_) (fun Ex qx cx H_34 locs hp_31 hz_32 hk_33 hS hcx hvx hlx => ?_)
      · skip
        obtain ⟨rfl, rfl, hbt_35⟩ := hp_31
        refine r_stk (st2 := []) rfl ?_
        have hedl := h_st.2.1.2.2.1
        have hlll := hkl.1.lt
        have hzll := hkz.lt
        have htll := hkt.lt
        refine lv_aload_n hx hb dX1_setTorch_25 rfl (lv_at hl 0 rfl) ?_
        refine r_callV (cells1 := 2) (slots1 := 12) X hR (c_X1_beginChange_x G x u sv hi ip ln (er) (fa) l ed z t mc cap b S) q1252 q1254 qs23 q88 q1255 ⟨rfl, pd_X1_beginChange⟩ ⟨Nat.le_of_ble_eq_true rfl, Nat.le_of_ble_eq_true rfl⟩ rfl rfl (Nat.le_of_ble_eq_true rfl) (Nat.le_of_ble_eq_true rfl) h_pob rfl rfl (Nat.le_of_ble_eq_true rfl) hl.1 dX1_setTorch_26 (hB.of hS hAb) h_pob hS (fun _ h => h.elim) (fun v H_39 locs hp_36 hz_37 hk_38 hS => ?_)
        obtain ⟨rfl, rfl⟩ := hp_36
        refine r_stk (st2 := []) rfl ?_
        obtain ⟨h_no, h_nl, h_nz, h_nt, h_nbl, h_nxb, h_nzb, h_ntb⟩ := id h_st
        have lt_40 := h_nl.1.lt
        have lt_41 := h_nl.2.2
        have lt_42 := h_nz.lt
        have lt_43 := h_nt.lt
        have lt_44 := h_no.lt
        refine lv_aload_n hx hb dX1_setTorch_29 rfl (lv_at hl 0 rfl) ?_
        refine r_get X h_pob rfl in_X1 0 (by decide) q242 (Or.inl rfl) (v := .ref (u)) rfl dX1_setTorch_30 ?_
        refine r_getN X h_no rfl in_X2 2 (by decide) q178 (Or.inl rfl) (v := .ref (t)) rfl dX1_setTorch_33 ?_
        refine lv_iload_n hx hb dX1_setTorch_36 rfl (lv_at hl 1 rfl) ?_
        refine lv_iload_n hx hb dX1_setTorch_37 rfl (lv_at hl 2 rfl) ?_
        refine r_set (y := .int (iI (bI (false)))) rfl ?_
        refine r_zastB (v := false) X h_nt hS (Or.inl ⟨by omega, rfl⟩) (j := cn) rfl (by omega) (by decide) dX1_setTorch_38 (fun H_48 locs hE_45 hz_46 hq_47 hS => ?_)
        have hz_49 := hS.1
        have hE_50 : fp_At G H_48 t (eZ G 12 (fun j => iI (bI ((va_up (fun j => decide (sT S j = 1)) cn false) j)))) := hE_45.updZ
        have hE_53 := fp_At.kept h_no (hq_47 _ (hne_10))
        have hE_55 := fp_LE.mv h_nl (hq_47 _ (hne_13)) (hq_47 _ (Ne.symm (hne_17)))
        have hE_57 := fp_At.kept h_nz (hq_47 _ (hne_15))
        have hE_59 := fp_BL.mv h_nbl (fun k hk => hq_47 _ (by have := hblne k hk; omega))
        have hst_51 : fp_SE G u l ed z t mc cap b (fp_sett S cn 0) H_48 := ⟨hE_53, hE_55, hE_57, fp_At.cZ hE_50 (fun j _ => fp_sett_f (S := S) (c := cn) (v := 0) (w := false) rfl j), hE_59, h_nxb, h_nzb, h_ntb⟩
        have lt_60 := hst_51.1.lt
        refine lv_aload_n hx hb dX1_setTorch_39 rfl (lv_at hl 0 rfl) ?_
        have hE_61 := fp_At.kept h_pob (fp_keptS (by omega) hS (fun h => (hne_6) h.2))
        refine r_get X hE_61 rfl in_X1 0 (by decide) q242 (Or.inl rfl) (v := .ref (u)) rfl dX1_setTorch_40 ?_
        refine r_callV (cells1 := 2) (slots1 := 12) X hR (c_X2_torches G u l ed z t mc cap b (fp_sett S cn 0) (hsw.t (by decide))) q1382 q1383 q1384 q89 q1385 ⟨rfl, pd_X2_torches⟩ ⟨Nat.le_of_ble_eq_true rfl, Nat.le_of_ble_eq_true rfl⟩ rfl rfl (Nat.le_of_ble_eq_true rfl) (Nat.le_of_ble_eq_true rfl) hst_51.1 rfl rfl (Nat.le_of_ble_eq_true rfl) hl.1 dX1_setTorch_43 (hB.of hS hAb) hst_51 hS (fun _ h => h.elim) (fun v H_65 locs hp_62 hz_63 hk_64 hS => ?_)
        obtain ⟨rfl, rfl⟩ := hp_62
        refine r_stk (st2 := [.int (iI ((fp_tor (fp_sett S cn 0) : Nat) : Int))]) rfl ?_
        refine x_iret hx hb hr hlk hQ hS (Nat.le_of_ble_eq_true rfl) (Nat.le_of_ble_eq_true rfl) dX1_setTorch_46 ?_
        exact ⟨rfl, (fp_cc_0 (by omega)), hgood, hst_51⟩
      · skip
        obtain ⟨rfl, hX9, hb9⟩ := hp_31
        cases hb9
  · skip
    obtain ⟨rfl, hX9, hb9⟩ := hp_18
    have hE_67 := h_st.ext hX9
    exact x_out hT hlk hQ hS (Nat.le_of_ble_eq_true rfl) (Nat.le_of_ble_eq_true rfl) hcx hvx hlx (Or.inl ⟨rfl, (fp_cc_1 hb9), hE_67⟩)
set_option maxHeartbeats 4000000 in
theorem c_X1_removeTorch_x (G : fp_G) (x : Nat) (u : Nat) (sv : Value) (hi : Nat) (ip : Nat) (ln : Nat) (er : Int) (fa : Int) (l : Nat) (ed : Nat) (z : Nat) (t : Nat) (mc : Int32) (cap : Nat) (b : Nat → Nat) (S : PS) (c : Int) (hsw : fp_sw S b) (hxb : (g_s G).heap.size ≤ x) (hc : rg c) : fp_MX G yX1_removeTorch cX1_removeTorch 2 (some .int) 9 143 12 161 [.ref (x), .int (iI (c))] (fun H => fp_At G H x (eO 1 [.ref (u), sv, .ref (hi), .ref (ip), .ref (ln), .int (iI (bI (true))), .int (iI (er)), .int (iI (fa))]) ∧ fp_SE G u l ed z t mc cap b S H) (fun q => (g_s G).heap.size ≤ q ∧ (q = t)) (fun H v H1 => v = some (.int (iI ((fp_tor (fp_sett S c.toNat 0) : Nat) : Int))) ∧ (fp_cc c = 0) ∧ (sT S c.toNat = 1) ∧ fp_SE G u l ed z t mc cap b (fp_sett S c.toNat 0) H1) (fun H E H1 => (E = "java/lang/IndexOutOfBoundsException" ∧ ((fp_cc c = 1) ∧ fp_SE G u l ed z t mc cap b S H1)) ∨ (E = "java/lang/IllegalStateException" ∧ ((fp_cc c = 0) ∧ (sT S c.toNat ≠ 1) ∧ fp_SE G u l ed z t mc cap b S H1))) := by
  refine fp_MX.intro (by decide) (Nat.le_of_ble_eq_true rfl) ?_
  intro pg en s mi ag bl mt cd rR qQ ls X hx hb hr hlk hnm hR hQ hT hB hM hl
  have hS : va_S (fA (fun q => (g_s G).heap.size ≤ q ∧ (q = t)) s.heap.size) s.heap s.heap [] := va_S.rf
  generalize ([] : List Loc) = locs at hS ⊢
  have hb0 := hB.1
  have hAb : ∀ q, (fun q => (g_s G).heap.size ≤ q ∧ (q = t)) q → (g_s G).heap.size ≤ q := fun q h => h.1
  obtain ⟨h_pob, h_st⟩ := hM
  have hsz0 := hS.1
  have lt_1 := h_pob.lt
  have lt_2 := h_st.1.lt
  have hn24 := hsw.1.1
  have hed0 := (X.2.2.2.2.2.deT (A := fp_no) hB fp_no.base).2.2
  obtain ⟨hku, hkl, hkz, hkt, hkb, hxb9, hzb9, htb9⟩ := id h_st
  have hlb9 := hkl.2.2.2
  have hne_3 : fp_dif x u := fp_neOO X.2.2.2.2.2 (i := 1) (j := 2) rfl rfl (by decide) h_pob hku
  have hne_4 : fp_dif x l := fp_neOO X.2.2.2.2.2 (i := 1) (j := 8) rfl rfl (by decide) h_pob hkl.1
  have hne_5 : fp_dif x z := fp_neOA X.2.2.2.2.2 (i := 1) (t := 5) rfl rfl h_pob hkz
  have hne_6 : fp_dif x t := fp_neOA X.2.2.2.2.2 (i := 1) (t := 1) rfl rfl h_pob hkt
  have hne_7 : fp_dif x ed := fp_LE.neE hkl hed0 (by omega) (fun f9 h9 => fp_neOA X.2.2.2.2.2 (i := 1) (t := 4) rfl rfl h_pob h9)
  have hne_8 : fp_dif u l := fp_neOO X.2.2.2.2.2 (i := 2) (j := 8) rfl rfl (by decide) hku hkl.1
  have hne_9 : fp_dif u z := fp_neOA X.2.2.2.2.2 (i := 2) (t := 5) rfl rfl hku hkz
  have hne_10 : fp_dif u t := fp_neOA X.2.2.2.2.2 (i := 2) (t := 1) rfl rfl hku hkt
  have hne_11 : fp_dif u ed := fp_LE.neE hkl hed0 (by omega) (fun f9 h9 => fp_neOA X.2.2.2.2.2 (i := 2) (t := 4) rfl rfl hku h9)
  have hne_12 : fp_dif l z := fp_neOA X.2.2.2.2.2 (i := 8) (t := 5) rfl rfl hkl.1 hkz
  have hne_13 : fp_dif l t := fp_neOA X.2.2.2.2.2 (i := 8) (t := 1) rfl rfl hkl.1 hkt
  have hne_14 : fp_dif l ed := fp_LE.neE hkl hed0 (by omega) (fun f9 h9 => fp_neOA X.2.2.2.2.2 (i := 8) (t := 4) rfl rfl hkl.1 h9)
  have hne_15 : fp_dif z t := fp_neAA X.2.2.2.2.2 (t := 5) (t2 := 1) rfl rfl (by decide) hkz hkt
  have hne_16 : fp_dif z ed := fp_LE.neE hkl hed0 (by omega) (fun f9 h9 => fp_neAA X.2.2.2.2.2 (t := 5) (t2 := 4) rfl rfl (by decide) hkz h9)
  have hne_17 : fp_dif t ed := fp_LE.neE hkl hed0 (by omega) (fun f9 h9 => fp_neAA X.2.2.2.2.2 (t := 1) (t2 := 4) rfl rfl (by decide) hkt h9)
  have hap0 := (fp_SE.dis X.2.2.2.2.2 hed0 h_st).2
  refine lv_aload_n hx hb dX1_removeTorch_0 rfl (lv_at hl 0 rfl) ?_
  refine lv_iload_n hx hb dX1_removeTorch_1 rfl (lv_at hl 1 rfl) ?_
  refine lv_iconst (v := (iI ((0 : Nat) : Int))) hx hb dX1_removeTorch_2 rfl ?_
  refine x_callV (cells1 := 12) (slots1 := 161) X hR (c_X1_setTorch_0x G x u sv hi ip ln (er) (fa) l ed z t mc cap b S (c) hsw hxb (⟨by omega, by omega⟩)) q1378 q1380 qs27 q88 q1381 ⟨rfl, pd_X1_setTorch⟩ ⟨Nat.le_of_ble_eq_true rfl, Nat.le_of_ble_eq_true rfl⟩ rfl rfl (Nat.le_of_ble_eq_true rfl) (Nat.le_of_ble_eq_true rfl) h_pob rfl rfl (Nat.le_of_ble_eq_true rfl) hl.1 dX1_removeTorch_3 (hB.of hS hAb) ⟨h_pob, h_st⟩ hS (fun q h => by have h2 : (g_s G).heap.size ≤ q ∧ (q = t) := h; show ((g_s G).heap.size ≤ q ∧ (q = t)) ∨ s.heap.size ≤ q; omega) (fun v H_21 locs hp_18 hz_19 hk_20 hS => ?_) (fun Ex qx cx H_21 locs hp_18 hz_19 hk_20 hS hcx hvx hlx => ?_)
  · skip
    obtain ⟨rfl, hk_22, hg_23, hE_24⟩ := hp_18
    have hz_25 := hS.1
    have lt_26 := hE_24.1.lt
    refine r_stk (st2 := [.int (iI ((fp_tor (fp_sett S (c).toNat 0) : Nat) : Int))]) rfl ?_
    refine x_iret hx hb hr hlk hQ hS (Nat.le_of_ble_eq_true rfl) (Nat.le_of_ble_eq_true rfl) dX1_removeTorch_6 ?_
    exact ⟨rfl, hk_22, hg_23, hE_24⟩
  · skip
    rcases hp_18 with ⟨rfl, hb9, hE_27⟩ | ⟨rfl, hb9, hb8, hE_28⟩
    · skip
      have hz_29 := hS.1
      have lt_30 := hE_27.1.lt
      exact x_out hT hlk hQ hS (Nat.le_of_ble_eq_true rfl) (Nat.le_of_ble_eq_true rfl) hcx hvx hlx (Or.inl ⟨rfl, hb9, hE_27⟩)
    · skip
      have hz_31 := hS.1
      have lt_32 := hE_28.1.lt
      exact x_out hT hlk hQ hS (Nat.le_of_ble_eq_true rfl) (Nat.le_of_ble_eq_true rfl) hcx hvx hlx (Or.inr (⟨rfl, hb9, hb8, hE_28⟩))
