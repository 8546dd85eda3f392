/-! THE PLANNER: all commands are executed -/
set_option maxRecDepth 100000
theorem fp_ncov {l : List ExceptionTableEntry} {pc : Nat} {c : Code} (hT : c.exceptionTable.toList = l) (h : (l.all fun x => !covers x pc) = true) : ∀ x ∈ c.exceptionTable.toList, covers x pc = false := fun x hx => by
  rw [hT] at hx
  have h2 := List.all_eq_true.mp h x hx
  cases h3 : covers x pc with
  | false => rfl
  | true => rw [h3] at h2; cases h2
theorem fp_setz_ok {S : PS} {c z : Nat} (h : fp_ok S) (hz : z < 3) : fp_ok (fp_setz S c z) := ⟨h.1, h.2.1, h.2.2.1, fun d hd => by
  show va_up (sZ S) c z d < 3
  by_cases e : d = c
  · rw [e, va_up_self]; exact hz
  · rw [va_up_ne _ _ e]; exact h.2.2.2.1 d hd, h.2.2.2.2⟩
theorem fp_sett_ok {S : PS} {c t : Nat} (h : fp_ok S) (ht : t < 2) : fp_ok (fp_sett S c t) := ⟨h.1, h.2.1, h.2.2.1, h.2.2.2.1, fun d hd => by
  show va_up (sT S) c t d < 2
  by_cases e : d = c
  · rw [e, va_up_self]; exact ht
  · rw [va_up_ne _ _ e]; exact h.2.2.2.2 d hd⟩
theorem fp_fnd_lt {S : PS} {a : Int} (h : fp_fnd S a ≠ sN S) : fp_fnd S a < sN S := by
  rcases fp_fq_s (S := S) (fun _ => 0) a with ⟨-, h5⟩ | ⟨-, h5⟩ <;> omega
/-- a block that is set keeps the invariants -/
theorem fp_plc_k {S : PS} {w : Nat} {a b c : Int} (hw : w < 3) (h : fp_ok S) (hv : fp_Iv S) (hp : sP S < 999) (e : fp_plc S w a b c = 0) : fp_ok (fp_add S w a.toNat b.toNat c.toNat) ∧ fp_Iv (fp_add S w a.toNat b.toNat c.toNat) := by
  obtain ⟨⟨h0, h1⟩, -, h3, h4, -⟩ := fp_plc_ok e
  obtain ⟨ln, wn, rfl, rfl, hb, hw1, hw5⟩ := fp_place_n h0
  rw [Int.toNat_natCast, Int.toNat_natCast] at h4 ⊢
  have e5 : sB (fp_add S w ln wn c.toNat) (sN S) = fp_blk (sP S) w ln wn c.toNat (fp_base S ln wn) := va_up_self _ _ _
  have h6 : fp_base S ln wn ≤ fp_top (fp_blk (sP S) w ln wn c.toNat (fp_base S ln wn)) := Nat.le_add_right _ _
  have h7 := h4
  rw [e5] at h7
  have h8 := h.1
  exact ⟨fp_add_ok h (by omega) hp hw (by omega) ⟨hw1, hw5, hb⟩ ⟨by omega, by omega⟩ (by omega), hv.add (by omega)⟩
/-- a command that is done keeps the invariants -/
theorem fp_do_ok {S : PS} {w : Nat} {a b c : Int} (h : fp_ok S) (hv : fp_Iv S) (hp : sP S < 999) (e : (fp_do S w a b c).1 = 0) : fp_ok (fp_do S w a b c).2 ∧ fp_Iv (fp_do S w a b c).2 := by
  unfold fp_do at e ⊢
  by_cases c1 : w < 3
  · rw [if_pos c1] at e ⊢
    exact fp_plc_k c1 h hv hp e
  · rw [if_neg c1] at e ⊢
    by_cases c2 : w = 3
    · rw [if_pos c2] at e ⊢
      by_cases h1 : fp_fnd S a = sN S
      · dsimp only at e; rw [if_pos h1] at e; cases e
      · by_cases h2 : fp_und S (fp_fnd S a) = true
        · dsimp only at e; rw [if_neg h1, if_pos h2] at e; cases e
        · exact ⟨fp_del_ok h, hv.del (fp_fnd_lt h1) (by cases h3 : fp_und S (fp_fnd S a) with | false => rfl | true => exact absurd h3 h2)⟩
    · rw [if_neg c2] at e ⊢
      by_cases c4 : w = 4
      · rw [if_pos c4] at e ⊢
        have hb := fp_zby_b b
        by_cases h1 : 0 ≤ a ∧ a ≤ 11
        · by_cases h2 : fp_zby b < 0
          · dsimp only at e; rw [if_neg (fun z => z h1), if_pos h2] at e; cases e
          · exact ⟨fp_setz_ok h (by omega), hv.z⟩
        · dsimp only at e; rw [if_pos h1] at e; cases e
      · rw [if_neg c4] at e ⊢
        refine ⟨fp_sett_ok h ?_, hv.t⟩
        split <;> omega
theorem fp_dof_dc {S : PS} {C : Nat × Int × Int × Int} {f : Nat → Int} {lt : Nat} (h0 : f 0 = C.2.1) (h1 : C.1 < 3 → f 1 = C.2.2.1 ∧ f 2 = C.2.2.2) (h4 : C.1 = 4 → (lt : Int) = C.2.2.1) : fp_dof S C.1 f lt = fp_dc S C := by
  show fp_do S C.1 (f 0) (if C.1 = 4 then (lt : Int) else f 1) (f 2) = fp_do S C.1 C.2.1 C.2.2.1 C.2.2.2
  rw [h0]
  by_cases c1 : C.1 < 3
  · rw [if_neg (show ¬ C.1 = 4 by omega), (h1 c1).1, (h1 c1).2]
  · by_cases c4 : C.1 = 4
    · rw [if_pos c4, h4 c4]
      unfold fp_do
      rw [if_neg c1, if_neg c1, if_neg (show ¬ C.1 = 3 by omega), if_neg (show ¬ C.1 = 3 by omega), if_pos c4, if_pos c4]
    · unfold fp_do
      rw [if_neg c1, if_neg c1]
      by_cases c3 : C.1 = 3
      · rw [if_pos c3, if_pos c3]
      · rw [if_neg c3, if_neg c3, if_neg c4, if_neg c4]
/-- a command as 'execute' wants it -/
theorem fp_CM.un {G : fp_G} {lo c : Nat} {C : Nat × Int × Int × Int} {H : Heap} (h : fp_CM G lo c C H) : ∃ (y qy nu lt w : Nat) (f : Nat → Int), fp_At G H c (eO 7 [.ref y, .ref nu, .int (iI ((lt : Nat) : Int))]) ∧ fp_At G H nu (eI G 3 (fun j => iI (f j))) ∧ fp_HH G y qy (fp_wk w) (fp_ww w) H ∧ w < 7 ∧ w = C.1 ∧ (∀ S : PS, fp_dof S w f lt = fp_dc S C) ∧ lt < 128 ∧ ∀ i, i < 3 → 0 ≤ f i ∧ f i < 1000 := by
  obtain ⟨y, qy, nu, lt, f, h1, h2, h3, -, h5, h6, h7, h8, h9, h10⟩ := h
  exact ⟨y, qy, nu, lt, C.1, f, h1, h2, h3, h5, rfl, fun S => fp_dof_dc h6 h7 h8, h9, fun i hi => ⟨(h10 i hi).1, by have := (h10 i hi).2; omega⟩⟩
/-- behind k commands; R is what all of them do -/
def fp_xw (S0 : PS) (L : List (Nat × Int × Int × Int)) (R : Nat × Nat × PS) (k : Nat) (S : PS) : Prop := R = (k + (fp_exe (L.drop k) S).1, (fp_exe (L.drop k) S).2) ∧ fp_ok S ∧ fp_Iv S ∧ sP S ≤ sP S0 + k
theorem fp_xw.z {S : PS} {L : List (Nat × Int × Int × Int)} {R : Nat × Nat × PS} (hR : fp_exe L S = R) (h1 : fp_ok S) (h2 : fp_Iv S) : fp_xw S L R 0 S := ⟨by rw [List.drop_zero, ← hR, Nat.zero_add], h1, h2, Nat.le_refl _⟩
theorem fp_drop_c {L : List (Nat × Int × Int × Int)} {C : Nat × Int × Int × Int} {k : Nat} (hk : k < L.length) (hC : L.getD k (0, 0, 0, 0) = C) : L.drop k = C :: L.drop (k + 1) := by
  rw [List.drop_eq_getElem_cons hk, ← hC, List.getD_eq_getElem?_getD, List.getElem?_eq_getElem hk]
  rfl
theorem fp_xw.s {S0 S S2 : PS} {L : List (Nat × Int × Int × Int)} {R : Nat × Nat × PS} {C : Nat × Int × Int × Int} {k w lt : Nat} {f : Nat → Int} (h : fp_xw S0 L R k S) (hk : k < L.length) (hC : L.getD k (0, 0, 0, 0) = C) (hD : ∀ S : PS, fp_dof S w f lt = fp_dc S C) (hw : w < 7) (hwC : w = C.1) (hp : sP S < 999) (e : (fp_dof S w f lt).1 = 0) (h2 : S2 = (fp_dof S w f lt).2) : fp_xw S0 L R (k + 1) S2 := by
  rw [hD] at e h2
  obtain ⟨h3, h4, h5, h6⟩ := h
  rw [fp_drop_c hk hC, fp_exe_0 e] at h3
  subst h2
  have h7 := fp_do_ok h4 h5 hp e
  have h8 := (fp_dc_30 h5.1 e).2
  exact ⟨h3.trans (Prod.ext (by show k + (_ + 1) = k + 1 + _; omega) rfl), h7.1, h7.2, by omega⟩
theorem fp_xw.f {S0 S : PS} {L : List (Nat × Int × Int × Int)} {R : Nat × Nat × PS} {C : Nat × Int × Int × Int} {k w lt : Nat} {f : Nat → Int} (h : fp_xw S0 L R k S) (hk : k < L.length) (hC : L.getD k (0, 0, 0, 0) = C) (hD : ∀ S : PS, fp_dof S w f lt = fp_dc S C) (e : (fp_dof S w f lt).1 ≠ 0) : k = R.1 ∧ R.2.1 ≠ 0 := by
  rw [hD] at e
  have h3 := h.1
  rw [fp_drop_c hk hC, fp_exe_1 e] at h3
  subst h3
  exact ⟨rfl, e⟩
theorem fp_xw.e {S0 S : PS} {L : List (Nat × Int × Int × Int)} {R : Nat × Nat × PS} (h : fp_xw S0 L R L.length S) : R = (L.length, 0, S) := by
  have h3 := h.1
  rw [List.drop_length] at h3
  exact h3
theorem fp_prt_len (tx : Nat → Nat) (n : Nat) : ∀ f h, (fp_prt tx n f h).1.length ≤ f
  | 0, _ => Nat.le_refl _
  | f + 1, h => by
    unfold fp_prt
    split
    · split
      · split
        · show 1 ≤ f + 1; omega
        · show (fp_prt tx n f (fp_cmd tx n (h + 1)).2.1).1.length + 1 ≤ f + 1
          have := fp_prt_len tx n f (fp_cmd tx n (h + 1)).2.1
          omega
      · exact Nat.zero_le _
    · exact Nat.zero_le _
theorem fp_prg_len (tx : Nat → Nat) (n : Nat) : (fp_prg tx n).1.length ≤ n + 1 := by
  unfold fp_prg
  split
  · show 1 ≤ n + 1; omega
  · show (fp_prt tx n n (fp_cmd tx n 0).2.1).1.length + 1 ≤ n + 1
    have := fp_prt_len tx n n (fp_cmd tx n 0).2.1
    omega

set_option maxRecDepth 100000
set_option maxHeartbeats 4000000 in
theorem c_X1_executeAll (G : fp_G) (x : Nat) (u : Nat) (sv : Value) (hi : Nat) (ip : Nat) (ln : Nat) (er : Int) (fa : Int) (l : Nat) (ed : Nat) (z : Nat) (t : Nat) (mc : Int32) (cap : Nat) (b : Nat → Nat) (S : PS) (el : Nat) (hd : Nat) (hn : Nat) (q : Nat → Nat) (la : Nat) (le : Nat) (lm : Int32) (lc : Nat) (lb : Nat → Nat) (lo : Nat) (L : List (Nat × Int × Int × Int)) (R : Nat × Nat × PS) (hsw : fp_sw S b) (hxb : (g_s G).heap.size ≤ x) (hh8 : hn ≤ 8) (hde : fp_dif ed el) (hiv : fp_Iv S) (hp9 : sP S + L.length < 999) (hL24 : L.length ≤ 25) (hle : fp_dif le el) (hlo : x < lo ∧ hi < lo ∧ el < lo) (hR : fp_exe L S = R) : fp_MH G yX1_executeAll cX1_executeAll 7 none [(20, 60, 68, 40), (20, 60, 68, 43), (20, 60, 68, 49), (20, 60, 68, 46), (20, 60, 88, 0), (68, 90, 88, 0)] 305 8114 4150 80690 [.ref (x), .ref (la)] (fun H => fp_At G H x (eO 1 [.ref (u), sv, .ref (hi), .ref (ip), .ref (ln), .int (iI (bI (false))), .int (iI (er)), .int (iI (fa))]) ∧ fp_SE G u l ed z t mc cap b S H ∧ fp_DQ G hi el hd hn q H ∧ fp_LE G la le lm (L.length) lc lb H ∧ fp_CMF G lo false lb L H) (fun q => (g_s G).heap.size ≤ q ∧ (q = x ∨ q = hi ∨ q = el)) (fun H v H1 => ∃ (y8 : Nat), ∃ (l8 : Nat), ∃ (e8 : Nat), ∃ (z8 : Nat), ∃ (t8 : Nat), ∃ (m8 : Int32), ∃ (c8 : Nat), ∃ (b8 : Nat → Nat), ∃ (y9 : Nat), ∃ (l9 : Nat), ∃ (e9 : Nat), ∃ (z9 : Nat), ∃ (t9 : Nat), ∃ (m9 : Int32), ∃ (c9 : Nat), ∃ (m7 : Nat), ∃ (hd2 : Nat), v = none ∧ (R.1 = L.length ∧ R.2.1 = 0) ∧ (fp_xw S L R L.length R.2.2) ∧ (fp_inj (sN R.2.2) b8) ∧ (H.size ≤ y8 ∧ H.size ≤ l8 ∧ H.size ≤ z8 ∧ H.size ≤ t8) ∧ (e8 = fp_de G ∨ H.size ≤ e8) ∧ ((y8 < m7 ∧ l8 < m7 ∧ e8 < m7 ∧ z8 < m7 ∧ t8 < m7) ∧ (m7 ≤ y9 ∧ m7 ≤ l9 ∧ m7 ≤ z9 ∧ m7 ≤ t9) ∧ (e9 = fp_de G ∨ m7 ≤ e9)) ∧ (H.size ≤ y9 ∧ H.size ≤ l9 ∧ H.size ≤ z9 ∧ H.size ≤ t9) ∧ (e9 = fp_de G ∨ H.size ≤ e9) ∧ fp_At G H1 x (eO 1 [.ref (y8), sv, .ref (hi), .ref (ip), .ref (ln), .int (iI (bI (false))), .int (iI (er)), .int (iI (fa))]) ∧ fp_DQ G hi el hd2 (fp_hn hn) (fp_qpush q hn y9) H1 ∧ fp_SE G y8 l8 e8 z8 t8 m8 c8 b8 (R.2.2) H1 ∧ fp_SE G y9 l9 e9 z9 t9 m9 c9 b S H1) (fun H E H1 => (E = "java/lang/IllegalStateException" ∧ ((R.2.1 ≠ 0) ∧ fp_At G H1 x (eO 1 [.ref (u), sv, .ref (hi), .ref (ip), .ref (ln), .int (iI (bI (false))), .int (iI (er)), .int (iI ((R.1 : Nat) : Int))]) ∧ fp_DQ G hi el hd hn q H1))) := by
  refine fp_MH.intro (by decide) (Nat.le_of_ble_eq_true rfl) ?_
  intro pg en s mi ag bl mt cd rR qQ ls X hx hb hr hlk hnm hR hQ hT hB hM hl
  have hS : va_S (fA (fun q => (g_s G).heap.size ≤ q ∧ (q = x ∨ q = hi ∨ q = el)) s.heap.size) s.heap s.heap [] := va_S.rf
  generalize ([] : List Loc) = locs at hS ⊢
  have hb0 := hB.1
  have hAb : ∀ q, (fun q => (g_s G).heap.size ≤ q ∧ (q = x ∨ q = hi ∨ q = el)) q → (g_s G).heap.size ≤ q := fun q h => h.1
  obtain ⟨h_pob, h_st, h_dq, h_ls, h_cl⟩ := hM
  have hsz0 := hS.1
  have lt_1 := h_pob.lt
  have lt_2 := h_st.1.lt
  have lt_3 := h_dq.1.lt
  have lt_4 := h_dq.2.2.1.1
  have lt_5 := h_ls.1.lt
  have lt_6 := h_ls.2.2
  have hn24 := hsw.1.1
  have hed0 := (X.2.2.2.2.2.deT (A := fp_no) hB fp_no.base).2.2
  obtain ⟨hdo, ⟨fdq, hdr, -⟩, hdq9, hdb1, hdb2⟩ := id h_dq
  have hdlt := hdo.lt
  have hxlt := h_pob.lt
  have hlb8 := h_ls.2.2
  have hnSh := fp_SE.nO X.2.2.2.2.2 hed0 h_st (j := 10) rfl ⟨by decide, by decide, by decide, by decide, by decide⟩ hdo hdb1
  have hnSe := fp_SE.nQ X.2.2.2.2.2 h_st hdr hde
  have hnSx := fp_SE.nO X.2.2.2.2.2 hed0 h_st (j := 1) rfl ⟨by decide, by decide, by decide, by decide, by decide⟩ h_pob hxb
  have hnc : ∀ q, ((g_s G).heap.size ≤ q ∧ (q = x ∨ q = hi ∨ q = el)) → fp_nc G lo s.heap q := fun q h9 => Or.inl (by omega)
  have hne_7 : fp_dif x hi := fp_neOO X.2.2.2.2.2 (i := 1) (j := 10) rfl rfl (by decide) h_pob hdo
  have hne_8 : fp_dif x el := fp_neOA X.2.2.2.2.2 (i := 1) (t := 4) rfl rfl h_pob hdr
  have hne_9 : fp_dif x la := fp_neOO X.2.2.2.2.2 (i := 1) (j := 8) rfl rfl (by decide) h_pob h_ls.1
  have hne_10 : fp_dif x le := fp_LE.neE h_ls hed0 (by omega) (fun f9 h9 => fp_neOA X.2.2.2.2.2 (i := 1) (t := 4) rfl rfl h_pob h9)
  have hne_11 : fp_dif hi el := fp_neOA X.2.2.2.2.2 (i := 10) (t := 4) rfl rfl hdo hdr
  have hne_12 : fp_dif hi la := fp_neOO X.2.2.2.2.2 (i := 10) (j := 8) rfl rfl (by decide) hdo h_ls.1
  have hne_13 : fp_dif hi le := fp_LE.neE h_ls hed0 (by omega) (fun f9 h9 => fp_neOA X.2.2.2.2.2 (i := 10) (t := 4) rfl rfl hdo h9)
  have hne_14 : fp_dif el la := Ne.symm (fp_neOA X.2.2.2.2.2 (i := 8) (t := 4) rfl rfl h_ls.1 hdr)
  have hne_15 : fp_dif la le := fp_LE.neE h_ls hed0 (by omega) (fun f9 h9 => fp_neOA X.2.2.2.2.2 (i := 8) (t := 4) rfl rfl h_ls.1 h9)
  refine lv_aload_n hx hb dX1_executeAll_0 rfl (lv_at hl 0 rfl) ?_
  refine r_get X h_pob rfl in_X1 0 (by decide) q242 (Or.inl rfl) (v := .ref (u)) rfl dX1_executeAll_1 ?_
  refine lv_astore_n (lv' := [(2, .ref (u)), (0, .ref (x)), (1, .ref (la))]) hx hb dX1_executeAll_4 rfl hl (by decide) rfl (fun ls hl => ?_)
  refine lv_iconst (v := (iI ((0 : Nat) : Int))) hx hb dX1_executeAll_5 rfl ?_
  refine lv_istore_n (lv' := [(3, .int (iI ((0 : Nat) : Int))), (2, .ref (u)), (0, .ref (x)), (1, .ref (la))]) hx hb dX1_executeAll_6 rfl hl (by decide) rfl (fun ls hl => ?_)
  refine lv_aload_n hx hb dX1_executeAll_7 rfl (lv_at hl 2 rfl) ?_
  refine lv_aload_n hx hb dX1_executeAll_8 rfl (lv_at hl 1 rfl) ?_
  refine r_callV (cells1 := 9) (slots1 := 149) X hR (c_X2_copy G u l ed z t mc cap b S hsw) q1095 q1096 q1097 q89 q1098 ⟨rfl, pd_X2_copy⟩ ⟨Nat.le_of_ble_eq_true rfl, Nat.le_of_ble_eq_true rfl⟩ rfl rfl (Nat.le_of_ble_eq_true rfl) (Nat.le_of_ble_eq_true rfl) h_st.1 rfl rfl (Nat.le_of_ble_eq_true rfl) hl.1 dX1_executeAll_9 (hB.of hS hAb) h_st hS (fun _ h => h.elim) (fun v H_19 locs hp_16 hz_17 hk_18 hS => ?_)
  obtain ⟨y1, l1, e1, z1, t1, m1, c1, rfl, hy_20, hed2_21, hE_22⟩ := hp_16
  have hz_23 := hS.1
  have lt_25 := hE_22.1.lt
  refine r_stk (st2 := [.ref (y1), .ref (x)]) rfl ?_
  have hcf1 : s.heap.size ≤ y1 ∧ s.heap.size ≤ l1 ∧ s.heap.size ≤ z1 ∧ s.heap.size ≤ t1 := by omega
  have heg1 : e1 = fp_de G ∨ s.heap.size ≤ e1 := by omega
  have hE_27 := fp_At.kept h_pob (hk_18 _ (by omega) (fun z => z))
  have hE_29 := h_dq.ext (fp_X.no hz_17 hk_18)
  obtain ⟨hdd_33, ⟨hdd_34, hdd_35, -⟩, -⟩ := id hE_29
  have hnn_30 := fp_SE.nO X.2.2.2.2.2 hed0 hE_22 (j := 1) rfl ⟨by decide, by decide, by decide, by decide, by decide⟩ hE_27 hxb
  have hnn_31 := fp_SE.nO X.2.2.2.2.2 hed0 hE_22 (j := 10) rfl ⟨by decide, by decide, by decide, by decide, by decide⟩ hdd_33 hdb1
  have hnn_32 := fp_SE.nQ X.2.2.2.2.2 hE_22 hdd_35 (show e1 ≠ el by omega)
  refine r_put X hE_27 hS (Or.inl ⟨by omega, Or.inl rfl⟩) rfl in_X1 tyX1_ok nmX1 0 (by decide) q242 (Or.inl rfl) rfl rfl rfl (show 0 < 8 by decide) dX1_executeAll_12 (fun H_39 locs hE_36 hz_37 hq_38 hS => ?_)
  have hz_40 := hS.1
  refine lv_aload_n hx hb dX1_executeAll_15 rfl (lv_at hl 2 rfl) ?_
  refine lv_iconst (v := (iI ((1 : Nat) : Int))) hx hb dX1_executeAll_16 rfl ?_
  refine r_put X hE_36 hS (Or.inl ⟨by omega, Or.inl rfl⟩) rfl in_X1 tyX1_ok nmX1 5 (by decide) q247 (Or.inl rfl) rfl rfl rfl (show 5 < 8 by decide) dX1_executeAll_17 (fun H_44 locs hE_41 hz_42 hq_43 hS => ?_)
  have hz_45 := hS.1
  refine lv_aload_n hx hb dX1_executeAll_20 rfl (lv_at hl 3 rfl) ?_
  have hE_46 := fp_LE.mv h_ls (fp_keptS (by omega) hS (fun h => (fun h => h.elim (Ne.symm (hne_9)) (fun h => h.elim (Ne.symm (hne_12)) (Ne.symm (hne_14)))) h.2)) (fp_keptS (by omega) hS (fun h => (fun h => h.elim (Ne.symm (hne_10)) (fun h => h.elim (Ne.symm (hne_13)) (Ne.symm (Ne.symm hle)))) h.2))
  refine r_callV (cells1 := 10) (slots1 := 153) X hR (c_J2_iterator G la le lm (L.length) lc lb) q1928 q276 q277 q92 q278 ⟨rfl, pd_J2_iterator⟩ ⟨Nat.le_of_ble_eq_true rfl, Nat.le_of_ble_eq_true rfl⟩ rfl rfl (Nat.le_of_ble_eq_true rfl) (Nat.le_of_ble_eq_true rfl) hE_46.1 rfl rfl (Nat.le_of_ble_eq_true rfl) hl.1 dX1_executeAll_21 (hB.of hS hAb) hE_46 hS (fun _ h => h.elim) (fun v H_50 locs hp_47 hz_48 hk_49 hS => ?_)
  obtain ⟨yi, rfl, hy_51, hE_52⟩ := hp_47
  have hz_53 := hS.1
  have lt_55 := hE_52.lt
  refine r_stk (st2 := [.ref (yi)]) rfl ?_
  have hE_57 := fp_SE.mvA hE_22 (fun q9 hq9 hs9 => hq_38 _ (hnn_30 q9 hs9))
  have hE_58 := fp_SE.mvA hE_57 (fun q9 hq9 hs9 => hq_43 _ (hnn_30 q9 hs9))
  have hE_59 := hE_58.ext (fp_X.no hz_48 hk_49)
  obtain ⟨hk1, hk2, hk3, hk4, -⟩ := id hE_59
  obtain ⟨⟨lr9, hit9⟩, -⟩ := id hE_52
  have hne_60 : fp_dif yi y1 := fp_neOO X.2.2.2.2.2 (i := 9) (j := 2) rfl rfl (by decide) hit9 hk1
  have hne_61 : fp_dif yi l1 := fp_neOO X.2.2.2.2.2 (i := 9) (j := 8) rfl rfl (by decide) hit9 hk2.1
  have hne_62 : fp_dif yi z1 := fp_neOA X.2.2.2.2.2 (i := 9) (t := 5) rfl rfl hit9 hk3
  have hne_63 : fp_dif yi t1 := fp_neOA X.2.2.2.2.2 (i := 9) (t := 1) rfl rfl hit9 hk4
  have hne_64 : fp_dif yi e1 := fp_LE.neE hk2 hed0 (by omega) (fun f9 h9 => fp_neOA X.2.2.2.2.2 (i := 9) (t := 4) rfl rfl hit9 h9)
  have hne_65 : fp_dif y1 l1 := fp_neOO X.2.2.2.2.2 (i := 2) (j := 8) rfl rfl (by decide) hk1 hk2.1
  have hne_66 : fp_dif y1 z1 := fp_neOA X.2.2.2.2.2 (i := 2) (t := 5) rfl rfl hk1 hk3
  have hne_67 : fp_dif y1 t1 := fp_neOA X.2.2.2.2.2 (i := 2) (t := 1) rfl rfl hk1 hk4
  have hne_68 : fp_dif y1 e1 := fp_LE.neE hk2 hed0 (by omega) (fun f9 h9 => fp_neOA X.2.2.2.2.2 (i := 2) (t := 4) rfl rfl hk1 h9)
  have hne_69 : fp_dif l1 z1 := fp_neOA X.2.2.2.2.2 (i := 8) (t := 5) rfl rfl hk2.1 hk3
  have hne_70 : fp_dif l1 t1 := fp_neOA X.2.2.2.2.2 (i := 8) (t := 1) rfl rfl hk2.1 hk4
  have hne_71 : fp_dif l1 e1 := fp_LE.neE hk2 hed0 (by omega) (fun f9 h9 => fp_neOA X.2.2.2.2.2 (i := 8) (t := 4) rfl rfl hk2.1 h9)
  have hne_72 : fp_dif z1 t1 := fp_neAA X.2.2.2.2.2 (t := 5) (t2 := 1) rfl rfl (by decide) hk3 hk4
  have hne_73 : fp_dif z1 e1 := fp_LE.neE hk2 hed0 (by omega) (fun f9 h9 => fp_neAA X.2.2.2.2.2 (t := 5) (t2 := 4) rfl rfl (by decide) hk3 h9)
  have hne_74 : fp_dif t1 e1 := fp_LE.neE hk2 hed0 (by omega) (fun f9 h9 => fp_neAA X.2.2.2.2.2 (t := 1) (t2 := 4) rfl rfl (by decide) hk4 h9)
  have hye1 : fp_dif yi e1 := (hne_64)
  refine lv_astore (lv' := [(4, .ref (yi)), (3, .int (iI ((0 : Nat) : Int))), (2, .ref (u)), (0, .ref (x)), (1, .ref (la))]) hx hb dX1_executeAll_24 hl (by decide) rfl (fun ls hl => ?_)
  have hE_76 := fp_At.kept hE_41 (hk_49 _ (by omega) (fun z => z))
  have hE_78 := fp_DQ.mv hE_29 (hq_38 _ (Ne.symm (hne_7))) (hq_38 _ (Ne.symm (hne_8)))
  have hE_79 := fp_DQ.mv hE_78 (hq_43 _ (Ne.symm (hne_7))) (hq_43 _ (Ne.symm (hne_8)))
  have hE_80 := hE_79.ext (fp_X.no hz_48 hk_49)
  have L26 : ∀ (k : Nat), k ≤ L.length → ∀ (eg : Nat) (mg : Int32) (cg : Nat) (bg : Nat → Nat) (Sg : PS) (H_81 : Heap) (locs : List Loc) (ls : Array Slot), lv_has ls 7 [(0, .ref (x)), (1, .ref (la)), (2, .ref (u)), (3, .int (iI ((k : Nat) : Int))), (4, .ref (yi))] → va_S (fA (fun q => (g_s G).heap.size ≤ q ∧ (q = x ∨ q = hi ∨ q = el)) s.heap.size) s.heap H_81 locs → (fp_xw S L R k Sg) → (fp_inj (sN Sg) bg) → (eg = fp_de G ∨ s.heap.size ≤ eg) → (fp_dif yi eg) → (H_50.size ≤ H_81.size) → fp_At G H_81 x (eO 1 [.ref (y1), sv, .ref (hi), .ref (ip), .ref (ln), .int (iI ((1 : Nat) : Int)), .int (iI (er)), .int (iI (fa))]) → fp_DQ G hi el hd hn q H_81 → fp_SE G y1 l1 eg z1 t1 mg cg bg Sg H_81 → fp_IE G yi k la lm (L.length) H_81 → W pg (g_l G) en rR s mi ag bl mt cd H_81 locs (10 + 165 * k) (153 + 3215 * k) qQ (F0 mi 26 ls []) := by
    refine lp_up (L.length) ?_
    intro k hk26 ih26 eg mg cg bg Sg H_81 locs ls hl hS hxw hbj heg hye hz_82 hE_83 hE_84 hE_85 hE_86
    have hz_87 := hS.1
    have lt_88 := hE_83.lt
    have lt_89 := hE_84.1.lt
    have lt_90 := hE_84.2.2.1.1
    have lt_91 := hE_85.1.lt
    have lt_92 := hE_86.lt
    obtain ⟨⟨lr8, hit8⟩, -⟩ := id hE_86
    have hnI := fp_SE.nO X.2.2.2.2.2 hed0 hE_85 (j := 9) rfl ⟨by decide, by decide, by decide, by decide, by decide⟩ hit8 (by omega)
    refine lv_aload hx hb dX1_executeAll_26 (lv_at hl 4 rfl) ?_
    obtain ⟨⟨lr_93, hE_94⟩, hle_95⟩ := id hE_86
    have hE_96 := fp_LE.mv h_ls (fp_keptS (by omega) hS (fun h => (fun h => h.elim (Ne.symm (hne_9)) (fun h => h.elim (Ne.symm (hne_12)) (Ne.symm (hne_14)))) h.2)) (fp_keptS (by omega) hS (fun h => (fun h => h.elim (Ne.symm (hne_10)) (fun h => h.elim (Ne.symm (hne_13)) (Ne.symm (Ne.symm hle)))) h.2))
    obtain ⟨⟨lr_97, hE_98⟩, hle_99⟩ := id hE_86
    refine r_callF (cells1 := (10 + 165 * k)) (slots1 := (153 + 3215 * k)) X hR (c_J13_hasNext G la le lm (L.length) lc lb yi k) q1930 q303 q305 q105 q307 ⟨q301, q300, q306, q304, q302⟩ ⟨by decide, by decide, rfl⟩ ⟨Nat.le_of_ble_eq_true rfl, Nat.le_of_ble_eq_true rfl⟩ rfl rfl (by omega) (by omega) hE_98 rfl rfl (Nat.le_of_ble_eq_true rfl) hl.1 dX1_executeAll_28 (hB.of hS hAb) ⟨hE_86, hE_96⟩ hS (fun _ h => h.elim) (fun v H_103 locs hp_100 hz_101 hk_102 hS => ?_)
    obtain ⟨rfl, rfl⟩ := hp_100
    refine r_stk (st2 := [.int (iI (bI (decide (k < (L.length)))))]) rfl ?_
    refine r_ifeqB (tgt := 60) hx hb dX1_executeAll_33 (by decide) (fun c33 => ?_) (fun c33 => ?_)
    · skip
      have d33 := of_decide_eq_false c33
      obtain rfl : k = L.length := by omega
      have hRe := hxw.e
      obtain ⟨hdd_107, ⟨hdd_108, hdd_109, -⟩, -⟩ := id hE_84
      have hnn_104 := fp_SE.nO X.2.2.2.2.2 hed0 hE_85 (j := 1) rfl ⟨by decide, by decide, by decide, by decide, by decide⟩ hE_83 hxb
      have hnn_105 := fp_SE.nO X.2.2.2.2.2 hed0 hE_85 (j := 10) rfl ⟨by decide, by decide, by decide, by decide, by decide⟩ hdd_107 hdb1
      have hnn_106 := fp_SE.nQ X.2.2.2.2.2 hE_85 hdd_109 (show eg ≠ el by omega)
      refine lv_aload_n hx hb dX1_executeAll_60 rfl (lv_at hl 0 rfl) ?_
      refine lv_iconst (v := (iI ((0 : Nat) : Int))) hx hb dX1_executeAll_61 rfl ?_
      refine r_put X hE_83 hS (Or.inl ⟨by omega, Or.inl rfl⟩) rfl in_X1 tyX1_ok nmX1 5 (by decide) q247 (Or.inl rfl) rfl rfl rfl (show 5 < 8 by decide) dX1_executeAll_62 (fun H_113 locs hE_110 hz_111 hq_112 hS => ?_)
      have hz_114 := hS.1
      refine lv_goto (tgt := 98) hx hb dX1_executeAll_65 (by decide) ?_
      refine lv_aload_n hx hb dX1_executeAll_98 rfl (lv_at hl 0 rfl) ?_
      refine r_get X hE_110 rfl in_X1 0 (by decide) q242 (Or.inl rfl) (v := .ref (y1)) rfl dX1_executeAll_99 ?_
      refine lv_astore (lv' := [(4, .ref (y1)), (0, .ref (x)), (1, .ref (la)), (2, .ref (u)), (3, .int (iI (((L.length) : Nat) : Int)))]) hx hb dX1_executeAll_102 hl (by decide) rfl (fun ls hl => ?_)
      refine lv_aload_n hx hb dX1_executeAll_104 rfl (lv_at hl 1 rfl) ?_
      refine lv_aload_n hx hb dX1_executeAll_105 rfl (lv_at hl 3 rfl) ?_
      refine r_put X hE_110 hS (Or.inl ⟨by omega, Or.inl rfl⟩) rfl in_X1 tyX1_ok nmX1 0 (by decide) q242 (Or.inl rfl) rfl rfl rfl (show 0 < 8 by decide) dX1_executeAll_106 (fun H_118 locs hE_115 hz_116 hq_117 hS => ?_)
      have hz_119 := hS.1
      have hE_121 := fp_SE.mvA hE_85 (fun q9 hq9 hs9 => hq_112 _ (hnn_104 q9 hs9))
      have hE_122 := fp_SE.mvA hE_121 (fun q9 hq9 hs9 => hq_117 _ (hnn_104 q9 hs9))
      obtain ⟨hj1, hj2, hj3, hj4, -⟩ := id hE_122
      have hm7 : y1 < Heap.size H_118 ∧ l1 < Heap.size H_118 ∧ eg < Heap.size H_118 ∧ z1 < Heap.size H_118 ∧ t1 < Heap.size H_118 := ⟨hj1.lt, hj2.1.lt, hj2.2.2.1, hj3.lt, hj4.lt⟩
      refine lv_aload_n hx hb dX1_executeAll_109 rfl (lv_at hl 1 rfl) ?_
      have hE_123 := fp_SE.mvA h_st (fun q9 hq9 hs9 => fp_keptS hq9 hS (fun h9 => (fun h9 => h9.elim (hnSx q9 hs9) (fun h9 => h9.elim (hnSh q9 hs9) (hnSe q9 hs9))) h9.2))
      have hE_125 := fp_DQ.mv hE_84 (hq_112 _ (Ne.symm (hne_7))) (hq_112 _ (Ne.symm (hne_8)))
      have hE_126 := fp_DQ.mv hE_125 (hq_117 _ (Ne.symm (hne_7))) (hq_117 _ (Ne.symm (hne_8)))
      refine r_callV (cells1 := (10 + 165 * (L.length) + 9)) (slots1 := (153 + 3215 * (L.length) + 149)) X hR (c_X1_beginChange G x u sv hi ip ln (er) (fa) l ed z t mc cap b S el hd hn q hsw hxb hh8 hde) q1252 q1254 qs23 q88 q1255 ⟨rfl, pd_X1_beginChange⟩ ⟨Nat.le_of_ble_eq_true rfl, Nat.le_of_ble_eq_true rfl⟩ rfl rfl (by omega) (by omega) hE_115 rfl rfl (Nat.le_of_ble_eq_true rfl) hl.1 dX1_executeAll_110 (hB.of hS hAb) ⟨hE_115, hE_123, hE_126⟩ hS (fun q h => by have h2 : (g_s G).heap.size ≤ q ∧ (q = hi ∨ q = el) := h; show ((g_s G).heap.size ≤ q ∧ (q = x ∨ q = hi ∨ q = el)) ∨ s.heap.size ≤ q; omega) (fun v H_130 locs hp_127 hz_128 hk_129 hS => ?_)
      obtain ⟨hd2, y9, l9, e9, z9, t9, m9, c9, rfl, hcf_131, hce_132, hE_133, hE_134⟩ := hp_127
      have hz_135 := hS.1
      have lt_136 := hE_133.1.lt
      have lt_137 := hE_133.2.2.1.1
      have lt_139 := hE_134.1.lt
      refine r_stk (st2 := []) rfl ?_
      have hE_141 := fp_At.kept hE_115 (hk_129 _ (by omega) (fun h => (fun h => h.elim (hne_7) (hne_8)) h.2))
      obtain ⟨hdd_145, ⟨hdd_146, hdd_147, -⟩, -⟩ := id hE_133
      have hnn_142 := fp_SE.nO X.2.2.2.2.2 hed0 hE_134 (j := 1) rfl ⟨by decide, by decide, by decide, by decide, by decide⟩ hE_141 hxb
      have hnn_143 := fp_SE.nO X.2.2.2.2.2 hed0 hE_134 (j := 10) rfl ⟨by decide, by decide, by decide, by decide, by decide⟩ hdd_145 hdb1
      have hnn_144 := fp_SE.nQ X.2.2.2.2.2 hE_134 hdd_147 (show e9 ≠ el by omega)
      refine lv_aload_n hx hb dX1_executeAll_113 rfl (lv_at hl 1 rfl) ?_
      refine lv_aload hx hb dX1_executeAll_114 (lv_at hl 0 rfl) ?_
      refine r_put X hE_141 hS (Or.inl ⟨by omega, Or.inl rfl⟩) rfl in_X1 tyX1_ok nmX1 0 (by decide) q242 (Or.inl rfl) rfl rfl rfl (show 0 < 8 by decide) dX1_executeAll_116 (fun H_151 locs hE_148 hz_149 hq_150 hS => ?_)
      have hz_152 := hS.1
      refine x_vret hx hb hr hlk hQ hS (by omega) (by omega) dX1_executeAll_119 ?_
      have hE_154 := fp_DQ.mv hE_133 (hq_150 _ (Ne.symm (hne_7))) (hq_150 _ (Ne.symm (hne_8)))
      have hE_156 := fp_SE.mvA hE_122 (fun q9 hq9 hs9 => hk_129 _ hq9 (fun h8 => (fun h9 => h9.elim (hnn_105.t q9 hs9 h8.1) (hnn_106.t q9 hs9 h8.1)) h8.2))
      have hE_157 := fp_SE.mvA hE_156 (fun q9 hq9 hs9 => hq_150 _ (hnn_104 q9 hs9))
      have hE_159 := fp_SE.mvA hE_134 (fun q9 hq9 hs9 => hq_150 _ (hnn_142 q9 hs9))
      exact ⟨y1, l1, eg, z1, t1, mg, cg, bg, y9, l9, e9, z9, t9, m9, c9, Heap.size H_118, hd2, rfl, (by rw [hRe]; exact ⟨rfl, rfl⟩), (hRe ▸ hxw), (hRe ▸ hbj), hcf1, heg, (⟨hm7, by omega, by omega⟩), (by omega), (by omega), hE_148, hE_154, (show _ by rw [hRe]; exact hE_157), hE_159⟩
    · skip
      have d33 := of_decide_eq_true c33
      refine lv_aload hx hb dX1_executeAll_36 (lv_at hl 4 rfl) ?_
      obtain ⟨⟨lr_160, hE_161⟩, hle_162⟩ := id hE_86
      obtain ⟨⟨lr_163, hE_164⟩, hle_165⟩ := id hE_86
      refine r_callF (cells1 := (10 + 165 * k)) (slots1 := (153 + 3215 * k)) X hR (c_J13_next G la le lm (L.length) lc lb yi k (by omega) (by omega)) q1932 q312 q314 q105 q316 ⟨q311, q310, q315, q313, q302⟩ ⟨by decide, by decide, rfl⟩ ⟨Nat.le_of_ble_eq_true rfl, Nat.le_of_ble_eq_true rfl⟩ rfl rfl (by omega) (by omega) hE_164 rfl rfl (Nat.le_of_ble_eq_true rfl) hl.1 dX1_executeAll_38 (hB.of hS hAb) ⟨hE_86, hE_96⟩ hS (fun q h => by have h2 : (g_s G).heap.size ≤ q ∧ (q = yi) := h; show ((g_s G).heap.size ≤ q ∧ (q = x ∨ q = hi ∨ q = el)) ∨ s.heap.size ≤ q; omega) (fun v H_169 locs hp_166 hz_167 hk_168 hS => ?_)
      obtain ⟨rfl, hE_170⟩ := hp_166
      have hz_171 := hS.1
      have lt_172 := hE_170.lt
      refine r_stk (st2 := [.ref (lb k)]) rfl ?_
      have hE_173 := fp_CMF.keep X.2.2.2.2.2 h_cl hS.1 (fun q hq hn => fp_keptS hq hS hn) hnc
      obtain ⟨C, hC⟩ : ∃ C, L.getD k (0, 0, 0, 0) = C := ⟨_, rfl⟩
      have hCM := hE_173.2 rfl k (by omega)
      rw [hC] at hCM
      obtain ⟨yc, qy, nu, lt, wd, f, hcm1, hcm2, hcm3, hwd, hwC, hD, hlt, hfb⟩ := hCM.un
      have lt_174 := hcm1.lt
      have lt_175 := hcm2.lt
      have lt_176 := hcm3.1.lt
      have lt_177 := hcm3.1.2.1.lt
      have hp9g : sP Sg < 999 := by have := hxw.2.2.2; omega
      refine r_castS X hcm1 rfl q1933 dX1_executeAll_43 ?_
      refine lv_astore (lv' := [(5, .ref (lb k)), (0, .ref (x)), (1, .ref (la)), (2, .ref (u)), (3, .int (iI ((k : Nat) : Int))), (4, .ref (yi))]) hx hb dX1_executeAll_46 hl (by decide) rfl (fun ls hl => ?_)
      refine lv_aload_n hx hb dX1_executeAll_48 rfl (lv_at hl 1 rfl) ?_
      refine lv_aload hx hb dX1_executeAll_49 (lv_at hl 0 rfl) ?_
      have hE_179 := fp_At.kept hE_83 (hk_168 _ (by omega) (by omega))
      have hE_181 := fp_SE.mvA hE_85 (fun q9 hq9 hs9 => hk_168 _ hq9 (fun h8 => (hnI.t q9 hs9 h8.1) h8.2))
      refine x_callV (cells1 := (10 + 165 * k + 165)) (slots1 := (153 + 3215 * k + 3215)) X hR (c_X1_execute G x y1 sv hi ip ln (er) (fa) l1 eg z1 t1 mg cg bg Sg (lb k) yc qy nu lt wd f (⟨hxw.2.1, hbj⟩) hxb (hxw.2.2.1) hp9g (by omega) hfb (by omega)) q1934 q1936 qs44 q88 q1937 ⟨rfl, pd_X1_execute⟩ ⟨Nat.le_of_ble_eq_true rfl, Nat.le_of_ble_eq_true rfl⟩ rfl rfl (by omega) (by omega) hE_179 rfl rfl (Nat.le_of_ble_eq_true rfl) hl.1 dX1_executeAll_51 (hB.of hS hAb) ⟨hE_179, hE_181, hcm1, hcm2, hcm3⟩ hS (fun q h => by have h2 : (g_s G).heap.size ≤ q ∧ (q = y1 ∨ q = l1 ∨ q = eg ∨ q = z1 ∨ q = t1) := h; show ((g_s G).heap.size ≤ q ∧ (q = x ∨ q = hi ∨ q = el)) ∨ s.heap.size ≤ q; omega) (fun v H_185 locs hp_182 hz_183 hk_184 hS => ?_) (fun Ex qx cx H_185 locs hp_182 hz_183 hk_184 hS hcx hvx hlx => ?_)
      · skip
        obtain ⟨ed2_186, mc2_187, cap2_188, b2_189, S2_190, rfl, hd0_191, hS2_192, hed2_193, hinj_194, hE_195⟩ := hp_182
        have hz_196 := hS.1
        have lt_197 := hE_195.1.lt
        refine r_stk (st2 := []) rfl ?_
        refine lv_iinc (v := (iI ((k + 1 : Nat) : Int))) (lv' := [(3, .int (iI ((k + 1 : Nat) : Int))), (5, .ref (lb k)), (0, .ref (x)), (1, .ref (la)), (2, .ref (u)), (4, .ref (yi))]) hx hb dX1_executeAll_54 hl (k := 4) rfl (iI_incN _ _) (by decide) rfl (fun ls hl => ?_)
        refine lv_goto (tgt := 26) hx hb dX1_executeAll_57 (by decide) ?_
        have hE_199 := fp_At.kept hE_179 (hk_184 _ (by omega) (by omega))
        have hE_201 := fp_DQ.mv hE_84 (hk_168 _ (by omega) (by omega)) (hk_168 _ (by omega) (by omega))
        have hE_202 := fp_DQ.mv hE_201 (hk_184 _ (by omega) (by omega)) (hk_184 _ (by omega) (by omega))
        have hE_204 := fp_IE.mv hE_170 (hk_184 _ (by omega) (fun h => (fun h => h.elim (hne_60) (fun h => h.elim (hne_61) (fun h => h.elim (hye) (fun h => h.elim (hne_62) (hne_63))))) h.2))
        refine W.widen (k := 10 + 165 * (k + 1)) (n := 153 + 3215 * (k + 1)) (by omega) (by omega) ?_
        exact ih26 (by omega) ed2_186 mc2_187 cap2_188 b2_189 S2_190 H_185 locs ls (by rw [show Value.int (iI (((k + 1) : Nat) : Int)) = Value.int (iI ((k + 1 : Nat) : Int)) from rfl]; exact lv_sub hl [2, 3, 4, 0, 5] rfl) hS (fp_xw.s hxw (by omega) hC hD hwd hwC hp9g hd0_191 hS2_192) hinj_194 (by omega) (by unfold fp_dif; unfold fp_dif at hye; omega) (by omega) hE_199 hE_202 hE_195 hE_204
      · skip
        rcases hp_182 with ⟨rfl, hb9⟩ | ⟨rfl, hb9⟩ | ⟨rfl, hb9⟩ | ⟨rfl, hb9⟩
        · skip
          have hz_205 := hS.1
          obtain ⟨hR1, hR2⟩ := fp_xw.f hxw (by omega) hC hD hb9
          refine r_catch (E := "java/lang/IllegalArgumentException") (name := "java/lang/IllegalArgumentException") X hT ([] : List ExceptionTableEntry) ⟨20, 60, 68, 40⟩ ([⟨20, 60, 68, 43⟩, ⟨20, 60, 68, 49⟩, ⟨20, 60, 68, 46⟩, ⟨20, 60, 88, 0⟩, ⟨68, 90, 88, 0⟩] : List ExceptionTableEntry) rfl fp_ps_nil rfl (by decide) q1132 q764 hcx hvx hlx ?_
          refine lv_astore (lv' := [(4, .ref (qx)), (5, .ref (lb k)), (0, .ref (x)), (1, .ref (la)), (2, .ref (u)), (3, .int (iI ((k : Nat) : Int)))]) hx hb dX1_executeAll_68 hl (by decide) rfl (fun ls hl => ?_)
          refine lv_aload_n hx hb dX1_executeAll_70 rfl (lv_at hl 2 rfl) ?_
          refine lv_aload_n hx hb dX1_executeAll_71 rfl (lv_at hl 4 rfl) ?_
          have hE_207 := fp_At.kept hE_179 (hk_184 _ (by omega) (by omega))
          refine r_put X hE_207 hS (Or.inl ⟨by omega, Or.inl rfl⟩) rfl in_X1 tyX1_ok nmX1 0 (by decide) q242 (Or.inl rfl) rfl rfl rfl (show 0 < 8 by decide) dX1_executeAll_72 (fun H_211 locs hE_208 hz_209 hq_210 hS => ?_)
          have hz_212 := hS.1
          refine lv_aload_n hx hb dX1_executeAll_75 rfl (lv_at hl 2 rfl) ?_
          refine lv_iload_n hx hb dX1_executeAll_76 rfl (lv_at hl 5 rfl) ?_
          refine r_put X hE_208 hS (Or.inl ⟨by omega, Or.inl rfl⟩) rfl in_X1 tyX1_ok nmX1 7 (by decide) q249 (Or.inl rfl) rfl rfl rfl (show 7 < 8 by decide) dX1_executeAll_77 (fun H_216 locs hE_213 hz_214 hq_215 hS => ?_)
          have hz_217 := hS.1
          refine x_throwK (E := "java/lang/IllegalStateException") (ik := 43) (ic := 45) X hR hB hAb hS tw_IllegalStateException (by decide) q1237 q121 (by decide) (by decide) (by decide +kernel) hl.1 dX1_executeAll_80 dX1_executeAll_83 dX1_executeAll_84 dX1_executeAll_87 (by decide) (by decide) (by omega) (by omega) (fun cxqx_224 H_218 hcx_220 hvx_221 hlx_222 hX_223 hS => ?_)
          have hz_225 := hS.1
          obtain ⟨qx_224, hqx_224⟩ : ∃ q9 : Nat, q9 = Heap.size H_216 := ⟨_, rfl⟩
          rw [← hqx_224] at hcx_220
          rw [← hqx_224]
          refine r_catch0 (E := "java/lang/IllegalStateException") X hT ([⟨20, 60, 68, 40⟩, ⟨20, 60, 68, 43⟩, ⟨20, 60, 68, 49⟩, ⟨20, 60, 68, 46⟩, ⟨20, 60, 88, 0⟩] : List ExceptionTableEntry) ⟨68, 90, 88, 0⟩ ([] : List ExceptionTableEntry) rfl (fp_ps_cons (Or.inl rfl) (fp_ps_cons (Or.inl rfl) (fp_ps_cons (Or.inl rfl) (fp_ps_cons (Or.inl rfl) (fp_ps_cons (Or.inl rfl) fp_ps_nil))))) rfl rfl hcx_220 hvx_221 hlx_222 ?_
          refine lv_astore (lv' := [(6, .ref (qx_224)), (4, .ref (qx)), (5, .ref (lb k)), (0, .ref (x)), (1, .ref (la)), (2, .ref (u)), (3, .int (iI ((k : Nat) : Int)))]) hx hb dX1_executeAll_88 hl (by decide) rfl (fun ls hl => ?_)
          refine lv_aload_n hx hb dX1_executeAll_90 rfl (lv_at hl 3 rfl) ?_
          refine lv_iconst (v := (iI ((0 : Nat) : Int))) hx hb dX1_executeAll_91 rfl ?_
          have hE_227 := fp_At.kept hE_213 (hX_223.2 _ (by omega))
          refine r_put X hE_227 hS (Or.inl ⟨by omega, Or.inl rfl⟩) rfl in_X1 tyX1_ok nmX1 5 (by decide) q247 (Or.inl rfl) rfl rfl rfl (show 5 < 8 by decide) dX1_executeAll_92 (fun H_231 locs hE_228 hz_229 hq_230 hS => ?_)
          have hz_232 := hS.1
          refine lv_aload hx hb dX1_executeAll_95 (lv_at hl 0 rfl) ?_
          rw [hR1] at hE_228
          have lt_234 := hE_228.lt
          refine vx_athrow hx hb dX1_executeAll_97 ?_
          have hE_236 := fp_DQ.mv hE_84 (hk_168 _ (by omega) (by omega)) (hk_168 _ (by omega) (by omega))
          have hE_237 := fp_DQ.mv hE_236 (hk_184 _ (by omega) (by omega)) (hk_184 _ (by omega) (by omega))
          have hE_238 := fp_DQ.mv hE_237 (hq_210 _ (Ne.symm (hne_7))) (hq_210 _ (Ne.symm (hne_8)))
          have hE_239 := fp_DQ.mv hE_238 (hq_215 _ (Ne.symm (hne_7))) (hq_215 _ (Ne.symm (hne_8)))
          have hE_240 := hE_239.ext hX_223
          have hE_241 := fp_DQ.mv hE_240 (hq_230 _ (Ne.symm (hne_7))) (hq_230 _ (Ne.symm (hne_8)))
          exact x_outH (E := "java/lang/IllegalStateException") (fp_ncov hT (by decide)) hlk hQ hS (by omega) (by omega) ((hq_230 _ (by omega)).trans hcx_220) hvx_221 hlx_222 ⟨rfl, hR2, hE_228, hE_241⟩
        · skip
          have hz_242 := hS.1
          obtain ⟨hR1, hR2⟩ := fp_xw.f hxw (by omega) hC hD hb9
          refine r_catch (E := "java/lang/IllegalStateException") (name := "java/lang/IllegalStateException") X hT ([⟨20, 60, 68, 40⟩] : List ExceptionTableEntry) ⟨20, 60, 68, 43⟩ ([⟨20, 60, 68, 49⟩, ⟨20, 60, 68, 46⟩, ⟨20, 60, 88, 0⟩, ⟨68, 90, 88, 0⟩] : List ExceptionTableEntry) rfl (fp_ps_cons (Or.inr ⟨by decide, "java/lang/IllegalArgumentException", q1132, X.2.2.2.2.2.nc fp_nc10⟩) fp_ps_nil) rfl (by decide) q1237 q1239 hcx hvx hlx ?_
          refine lv_astore (lv' := [(4, .ref (qx)), (5, .ref (lb k)), (0, .ref (x)), (1, .ref (la)), (2, .ref (u)), (3, .int (iI ((k : Nat) : Int)))]) hx hb dX1_executeAll_68 hl (by decide) rfl (fun ls hl => ?_)
          refine lv_aload_n hx hb dX1_executeAll_70 rfl (lv_at hl 2 rfl) ?_
          refine lv_aload_n hx hb dX1_executeAll_71 rfl (lv_at hl 4 rfl) ?_
          have hE_244 := fp_At.kept hE_179 (hk_184 _ (by omega) (by omega))
          refine r_put X hE_244 hS (Or.inl ⟨by omega, Or.inl rfl⟩) rfl in_X1 tyX1_ok nmX1 0 (by decide) q242 (Or.inl rfl) rfl rfl rfl (show 0 < 8 by decide) dX1_executeAll_72 (fun H_248 locs hE_245 hz_246 hq_247 hS => ?_)
          have hz_249 := hS.1
          refine lv_aload_n hx hb dX1_executeAll_75 rfl (lv_at hl 2 rfl) ?_
          refine lv_iload_n hx hb dX1_executeAll_76 rfl (lv_at hl 5 rfl) ?_
          refine r_put X hE_245 hS (Or.inl ⟨by omega, Or.inl rfl⟩) rfl in_X1 tyX1_ok nmX1 7 (by decide) q249 (Or.inl rfl) rfl rfl rfl (show 7 < 8 by decide) dX1_executeAll_77 (fun H_253 locs hE_250 hz_251 hq_252 hS => ?_)
          have hz_254 := hS.1
          refine x_throwK (E := "java/lang/IllegalStateException") (ik := 43) (ic := 45) X hR hB hAb hS tw_IllegalStateException (by decide) q1237 q121 (by decide) (by decide) (by decide +kernel) hl.1 dX1_executeAll_80 dX1_executeAll_83 dX1_executeAll_84 dX1_executeAll_87 (by decide) (by decide) (by omega) (by omega) (fun cxqx_261 H_255 hcx_257 hvx_258 hlx_259 hX_260 hS => ?_)
          have hz_262 := hS.1
          obtain ⟨qx_261, hqx_261⟩ : ∃ q9 : Nat, q9 = Heap.size H_253 := ⟨_, rfl⟩
          rw [← hqx_261] at hcx_257
          rw [← hqx_261]
          refine r_catch0 (E := "java/lang/IllegalStateException") X hT ([⟨20, 60, 68, 40⟩, ⟨20, 60, 68, 43⟩, ⟨20, 60, 68, 49⟩, ⟨20, 60, 68, 46⟩, ⟨20, 60, 88, 0⟩] : List ExceptionTableEntry) ⟨68, 90, 88, 0⟩ ([] : List ExceptionTableEntry) rfl (fp_ps_cons (Or.inl rfl) (fp_ps_cons (Or.inl rfl) (fp_ps_cons (Or.inl rfl) (fp_ps_cons (Or.inl rfl) (fp_ps_cons (Or.inl rfl) fp_ps_nil))))) rfl rfl hcx_257 hvx_258 hlx_259 ?_
          refine lv_astore (lv' := [(6, .ref (qx_261)), (4, .ref (qx)), (5, .ref (lb k)), (0, .ref (x)), (1, .ref (la)), (2, .ref (u)), (3, .int (iI ((k : Nat) : Int)))]) hx hb dX1_executeAll_88 hl (by decide) rfl (fun ls hl => ?_)
          refine lv_aload_n hx hb dX1_executeAll_90 rfl (lv_at hl 3 rfl) ?_
          refine lv_iconst (v := (iI ((0 : Nat) : Int))) hx hb dX1_executeAll_91 rfl ?_
          have hE_264 := fp_At.kept hE_250 (hX_260.2 _ (by omega))
          refine r_put X hE_264 hS (Or.inl ⟨by omega, Or.inl rfl⟩) rfl in_X1 tyX1_ok nmX1 5 (by decide) q247 (Or.inl rfl) rfl rfl rfl (show 5 < 8 by decide) dX1_executeAll_92 (fun H_268 locs hE_265 hz_266 hq_267 hS => ?_)
          have hz_269 := hS.1
          refine lv_aload hx hb dX1_executeAll_95 (lv_at hl 0 rfl) ?_
          rw [hR1] at hE_265
          have lt_271 := hE_265.lt
          refine vx_athrow hx hb dX1_executeAll_97 ?_
          have hE_273 := fp_DQ.mv hE_84 (hk_168 _ (by omega) (by omega)) (hk_168 _ (by omega) (by omega))
          have hE_274 := fp_DQ.mv hE_273 (hk_184 _ (by omega) (by omega)) (hk_184 _ (by omega) (by omega))
          have hE_275 := fp_DQ.mv hE_274 (hq_247 _ (Ne.symm (hne_7))) (hq_247 _ (Ne.symm (hne_8)))
          have hE_276 := fp_DQ.mv hE_275 (hq_252 _ (Ne.symm (hne_7))) (hq_252 _ (Ne.symm (hne_8)))
          have hE_277 := hE_276.ext hX_260
          have hE_278 := fp_DQ.mv hE_277 (hq_267 _ (Ne.symm (hne_7))) (hq_267 _ (Ne.symm (hne_8)))
          exact x_outH (E := "java/lang/IllegalStateException") (fp_ncov hT (by decide)) hlk hQ hS (by omega) (by omega) ((hq_267 _ (by omega)).trans hcx_257) hvx_258 hlx_259 ⟨rfl, hR2, hE_265, hE_278⟩
        · skip
          have hz_279 := hS.1
          obtain ⟨hR1, hR2⟩ := fp_xw.f hxw (by omega) hC hD hb9
          refine r_catch (E := "java/lang/IndexOutOfBoundsException") (name := "java/lang/IndexOutOfBoundsException") X hT ([⟨20, 60, 68, 40⟩, ⟨20, 60, 68, 43⟩] : List ExceptionTableEntry) ⟨20, 60, 68, 49⟩ ([⟨20, 60, 68, 46⟩, ⟨20, 60, 88, 0⟩, ⟨68, 90, 88, 0⟩] : List ExceptionTableEntry) rfl (fp_ps_cons (Or.inr ⟨by decide, "java/lang/IllegalArgumentException", q1132, X.2.2.2.2.2.nc fp_nc20⟩) (fp_ps_cons (Or.inr ⟨by decide, "java/lang/IllegalStateException", q1237, X.2.2.2.2.2.nc fp_nc21⟩) fp_ps_nil)) rfl (by decide) q1353 q568 hcx hvx hlx ?_
          refine lv_astore (lv' := [(4, .ref (qx)), (5, .ref (lb k)), (0, .ref (x)), (1, .ref (la)), (2, .ref (u)), (3, .int (iI ((k : Nat) : Int)))]) hx hb dX1_executeAll_68 hl (by decide) rfl (fun ls hl => ?_)
          refine lv_aload_n hx hb dX1_executeAll_70 rfl (lv_at hl 2 rfl) ?_
          refine lv_aload_n hx hb dX1_executeAll_71 rfl (lv_at hl 4 rfl) ?_
          have hE_281 := fp_At.kept hE_179 (hk_184 _ (by omega) (by omega))
          refine r_put X hE_281 hS (Or.inl ⟨by omega, Or.inl rfl⟩) rfl in_X1 tyX1_ok nmX1 0 (by decide) q242 (Or.inl rfl) rfl rfl rfl (show 0 < 8 by decide) dX1_executeAll_72 (fun H_285 locs hE_282 hz_283 hq_284 hS => ?_)
          have hz_286 := hS.1
          refine lv_aload_n hx hb dX1_executeAll_75 rfl (lv_at hl 2 rfl) ?_
          refine lv_iload_n hx hb dX1_executeAll_76 rfl (lv_at hl 5 rfl) ?_
          refine r_put X hE_282 hS (Or.inl ⟨by omega, Or.inl rfl⟩) rfl in_X1 tyX1_ok nmX1 7 (by decide) q249 (Or.inl rfl) rfl rfl rfl (show 7 < 8 by decide) dX1_executeAll_77 (fun H_290 locs hE_287 hz_288 hq_289 hS => ?_)
          have hz_291 := hS.1
          refine x_throwK (E := "java/lang/IllegalStateException") (ik := 43) (ic := 45) X hR hB hAb hS tw_IllegalStateException (by decide) q1237 q121 (by decide) (by decide) (by decide +kernel) hl.1 dX1_executeAll_80 dX1_executeAll_83 dX1_executeAll_84 dX1_executeAll_87 (by decide) (by decide) (by omega) (by omega) (fun cxqx_298 H_292 hcx_294 hvx_295 hlx_296 hX_297 hS => ?_)
          have hz_299 := hS.1
          obtain ⟨qx_298, hqx_298⟩ : ∃ q9 : Nat, q9 = Heap.size H_290 := ⟨_, rfl⟩
          rw [← hqx_298] at hcx_294
          rw [← hqx_298]
          refine r_catch0 (E := "java/lang/IllegalStateException") X hT ([⟨20, 60, 68, 40⟩, ⟨20, 60, 68, 43⟩, ⟨20, 60, 68, 49⟩, ⟨20, 60, 68, 46⟩, ⟨20, 60, 88, 0⟩] : List ExceptionTableEntry) ⟨68, 90, 88, 0⟩ ([] : List ExceptionTableEntry) rfl (fp_ps_cons (Or.inl rfl) (fp_ps_cons (Or.inl rfl) (fp_ps_cons (Or.inl rfl) (fp_ps_cons (Or.inl rfl) (fp_ps_cons (Or.inl rfl) fp_ps_nil))))) rfl rfl hcx_294 hvx_295 hlx_296 ?_
          refine lv_astore (lv' := [(6, .ref (qx_298)), (4, .ref (qx)), (5, .ref (lb k)), (0, .ref (x)), (1, .ref (la)), (2, .ref (u)), (3, .int (iI ((k : Nat) : Int)))]) hx hb dX1_executeAll_88 hl (by decide) rfl (fun ls hl => ?_)
          refine lv_aload_n hx hb dX1_executeAll_90 rfl (lv_at hl 3 rfl) ?_
          refine lv_iconst (v := (iI ((0 : Nat) : Int))) hx hb dX1_executeAll_91 rfl ?_
          have hE_301 := fp_At.kept hE_287 (hX_297.2 _ (by omega))
          refine r_put X hE_301 hS (Or.inl ⟨by omega, Or.inl rfl⟩) rfl in_X1 tyX1_ok nmX1 5 (by decide) q247 (Or.inl rfl) rfl rfl rfl (show 5 < 8 by decide) dX1_executeAll_92 (fun H_305 locs hE_302 hz_303 hq_304 hS => ?_)
          have hz_306 := hS.1
          refine lv_aload hx hb dX1_executeAll_95 (lv_at hl 0 rfl) ?_
          rw [hR1] at hE_302
          have lt_308 := hE_302.lt
          refine vx_athrow hx hb dX1_executeAll_97 ?_
          have hE_310 := fp_DQ.mv hE_84 (hk_168 _ (by omega) (by omega)) (hk_168 _ (by omega) (by omega))
          have hE_311 := fp_DQ.mv hE_310 (hk_184 _ (by omega) (by omega)) (hk_184 _ (by omega) (by omega))
          have hE_312 := fp_DQ.mv hE_311 (hq_284 _ (Ne.symm (hne_7))) (hq_284 _ (Ne.symm (hne_8)))
          have hE_313 := fp_DQ.mv hE_312 (hq_289 _ (Ne.symm (hne_7))) (hq_289 _ (Ne.symm (hne_8)))
          have hE_314 := hE_313.ext hX_297
          have hE_315 := fp_DQ.mv hE_314 (hq_304 _ (Ne.symm (hne_7))) (hq_304 _ (Ne.symm (hne_8)))
          exact x_outH (E := "java/lang/IllegalStateException") (fp_ncov hT (by decide)) hlk hQ hS (by omega) (by omega) ((hq_304 _ (by omega)).trans hcx_294) hvx_295 hlx_296 ⟨rfl, hR2, hE_302, hE_315⟩
        · skip
          have hz_316 := hS.1
          obtain ⟨hR1, hR2⟩ := fp_xw.f hxw (by omega) hC hD hb9
          refine r_catch (E := "java/util/NoSuchElementException") (name := "java/util/NoSuchElementException") X hT ([⟨20, 60, 68, 40⟩, ⟨20, 60, 68, 43⟩, ⟨20, 60, 68, 49⟩] : List ExceptionTableEntry) ⟨20, 60, 68, 46⟩ ([⟨20, 60, 88, 0⟩, ⟨68, 90, 88, 0⟩] : List ExceptionTableEntry) rfl (fp_ps_cons (Or.inr ⟨by decide, "java/lang/IllegalArgumentException", q1132, X.2.2.2.2.2.nc fp_nc30⟩) (fp_ps_cons (Or.inr ⟨by decide, "java/lang/IllegalStateException", q1237, X.2.2.2.2.2.nc fp_nc31⟩) (fp_ps_cons (Or.inr ⟨by decide, "java/lang/IndexOutOfBoundsException", q1353, X.2.2.2.2.2.nc fp_nc32⟩) fp_ps_nil))) rfl (by decide) q1327 q323 hcx hvx hlx ?_
          refine lv_astore (lv' := [(4, .ref (qx)), (5, .ref (lb k)), (0, .ref (x)), (1, .ref (la)), (2, .ref (u)), (3, .int (iI ((k : Nat) : Int)))]) hx hb dX1_executeAll_68 hl (by decide) rfl (fun ls hl => ?_)
          refine lv_aload_n hx hb dX1_executeAll_70 rfl (lv_at hl 2 rfl) ?_
          refine lv_aload_n hx hb dX1_executeAll_71 rfl (lv_at hl 4 rfl) ?_
          have hE_318 := fp_At.kept hE_179 (hk_184 _ (by omega) (by omega))
          refine r_put X hE_318 hS (Or.inl ⟨by omega, Or.inl rfl⟩) rfl in_X1 tyX1_ok nmX1 0 (by decide) q242 (Or.inl rfl) rfl rfl rfl (show 0 < 8 by decide) dX1_executeAll_72 (fun H_322 locs hE_319 hz_320 hq_321 hS => ?_)
          have hz_323 := hS.1
          refine lv_aload_n hx hb dX1_executeAll_75 rfl (lv_at hl 2 rfl) ?_
          refine lv_iload_n hx hb dX1_executeAll_76 rfl (lv_at hl 5 rfl) ?_
          refine r_put X hE_319 hS (Or.inl ⟨by omega, Or.inl rfl⟩) rfl in_X1 tyX1_ok nmX1 7 (by decide) q249 (Or.inl rfl) rfl rfl rfl (show 7 < 8 by decide) dX1_executeAll_77 (fun H_327 locs hE_324 hz_325 hq_326 hS => ?_)
          have hz_328 := hS.1
          refine x_throwK (E := "java/lang/IllegalStateException") (ik := 43) (ic := 45) X hR hB hAb hS tw_IllegalStateException (by decide) q1237 q121 (by decide) (by decide) (by decide +kernel) hl.1 dX1_executeAll_80 dX1_executeAll_83 dX1_executeAll_84 dX1_executeAll_87 (by decide) (by decide) (by omega) (by omega) (fun cxqx_335 H_329 hcx_331 hvx_332 hlx_333 hX_334 hS => ?_)
          have hz_336 := hS.1
          obtain ⟨qx_335, hqx_335⟩ : ∃ q9 : Nat, q9 = Heap.size H_327 := ⟨_, rfl⟩
          rw [← hqx_335] at hcx_331
          rw [← hqx_335]
          refine r_catch0 (E := "java/lang/IllegalStateException") X hT ([⟨20, 60, 68, 40⟩, ⟨20, 60, 68, 43⟩, ⟨20, 60, 68, 49⟩, ⟨20, 60, 68, 46⟩, ⟨20, 60, 88, 0⟩] : List ExceptionTableEntry) ⟨68, 90, 88, 0⟩ ([] : List ExceptionTableEntry) rfl (fp_ps_cons (Or.inl rfl) (fp_ps_cons (Or.inl rfl) (fp_ps_cons (Or.inl rfl) (fp_ps_cons (Or.inl rfl) (fp_ps_cons (Or.inl rfl) fp_ps_nil))))) rfl rfl hcx_331 hvx_332 hlx_333 ?_
          refine lv_astore (lv' := [(6, .ref (qx_335)), (4, .ref (qx)), (5, .ref (lb k)), (0, .ref (x)), (1, .ref (la)), (2, .ref (u)), (3, .int (iI ((k : Nat) : Int)))]) hx hb dX1_executeAll_88 hl (by decide) rfl (fun ls hl => ?_)
          refine lv_aload_n hx hb dX1_executeAll_90 rfl (lv_at hl 3 rfl) ?_
          refine lv_iconst (v := (iI ((0 : Nat) : Int))) hx hb dX1_executeAll_91 rfl ?_
          have hE_338 := fp_At.kept hE_324 (hX_334.2 _ (by omega))
          refine r_put X hE_338 hS (Or.inl ⟨by omega, Or.inl rfl⟩) rfl in_X1 tyX1_ok nmX1 5 (by decide) q247 (Or.inl rfl) rfl rfl rfl (show 5 < 8 by decide) dX1_executeAll_92 (fun H_342 locs hE_339 hz_340 hq_341 hS => ?_)
          have hz_343 := hS.1
          refine lv_aload hx hb dX1_executeAll_95 (lv_at hl 0 rfl) ?_
          rw [hR1] at hE_339
          have lt_345 := hE_339.lt
          refine vx_athrow hx hb dX1_executeAll_97 ?_
          have hE_347 := fp_DQ.mv hE_84 (hk_168 _ (by omega) (by omega)) (hk_168 _ (by omega) (by omega))
          have hE_348 := fp_DQ.mv hE_347 (hk_184 _ (by omega) (by omega)) (hk_184 _ (by omega) (by omega))
          have hE_349 := fp_DQ.mv hE_348 (hq_321 _ (Ne.symm (hne_7))) (hq_321 _ (Ne.symm (hne_8)))
          have hE_350 := fp_DQ.mv hE_349 (hq_326 _ (Ne.symm (hne_7))) (hq_326 _ (Ne.symm (hne_8)))
          have hE_351 := hE_350.ext hX_334
          have hE_352 := fp_DQ.mv hE_351 (hq_341 _ (Ne.symm (hne_7))) (hq_341 _ (Ne.symm (hne_8)))
          exact x_outH (E := "java/lang/IllegalStateException") (fp_ncov hT (by decide)) hlk hQ hS (by omega) (by omega) ((hq_341 _ (by omega)).trans hcx_331) hvx_332 hlx_333 ⟨rfl, hR2, hE_339, hE_352⟩
  refine W.widen (k := 10 + 165 * 0) (n := 153 + 3215 * 0) (by omega) (by omega) ?_
  exact L26 0 (by omega) e1 m1 c1 b S H_50 locs ls (lv_sub hl [3, 4, 2, 1, 0] rfl) hS (fp_xw.z hR hsw.1 hiv) (hsw.2) heg1 hye1 (Nat.le_refl _) hE_76 hE_80 hE_59 hE_52
