/-! THE PLANNER: reading methods -/
set_option maxRecDepth 100000
section FPXR
variable {G : fp_G} {p : Program} {e : Env} {R : Room} {s : State} {m : MethodId} {args : Array Value} {below : List Frame} {meth : Method} {c : Code} {H : Heap} {locs : List Loc} {cells slots : Nat} {Q : State → Prop}
variable {cc : ByteArray} {pc nL : Nat} {ls : Array Slot} {rest : List Value} {own : String} {A0 : Nat → Prop}
theorem r_zlet {z index : Nat} (X : fp_C G p s m args c cc own nL) (hB : fp_B G s.heap) (hA : ∀ q, A0 q → (g_s G).heap.size ≤ q) (hS : va_S (fA A0 s.heap.size) s.heap H locs) (hz : z < 3) (hlink : Cond.fieldLink own index "FortPlanner$Zone" "letter" "C" ∈ lw_all) (hd : decode cc pc = .ok (.getfield index, 3))
    (kk : W p (g_l G) e R s m args below meth c H locs cells slots Q (F0 m (pc + 3) ls (.int (iI ((fp_zlet z : Nat) : Int)) :: rest))) : W p (g_l G) e R s m args below meth c H locs cells slots Q (F0 m pc ls (.ref (fp_zad G z) :: rest)) :=
  vk_getf X.1 X.2.1 (X.2.2.2.2.2.zF hB (fA.base hA hB.1) hz) hS X.2.2.2.1 (X.2.2.2.2.1 _ hlink) (fun x h => h) hd kk
theorem r_zletN {z index : Nat} {host : String} (X : fp_C G p s m args c cc own nL) (hB : fp_B G s.heap) (hA : ∀ q, A0 q → (g_s G).heap.size ≤ q) (hS : va_S (fA A0 s.heap.size) s.heap H locs) (hz : z < 3) (hlink : Cond.fieldLinkNest own index "FortPlanner$Zone" "letter" "C" host ∈ lw_tbl) (hd : decode cc pc = .ok (.getfield index, 3))
    (kk : W p (g_l G) e R s m args below meth c H locs cells slots Q (F0 m (pc + 3) ls (.int (iI ((fp_zlet z : Nat) : Int)) :: rest))) : W p (g_l G) e R s m args below meth c H locs cells slots Q (F0 m pc ls (.ref (fp_zad G z) :: rest)) := by
  obtain ⟨cf, k, fi, f, cell, h1, h2, h3, h4, h5, h6⟩ := (X.2.2.2.2.2.zF hB (fA.base hA hB.1) hz).kept hS.2.1
  exact va_Wgetf X.1 X.2.1 X.2.2.2.1 (X.2.2.2.2.2.linkF hlink) h1 h2 h3 h4 h5 rfl rfl hd kk
end FPXR
section FPLDF
variable {p : Program} {l : Launch} {e : Env} {R : Room} {s : State} {m : MethodId} {args : Array Value} {below : List Frame} {meth : Method} {c : Code} {H : Heap} {locs : List Loc} {cells slots : Nat} {Q : State → Prop}
variable {cc : ByteArray} {pc : Nat} {ls : Array Slot} {rest : List Value}
/-- a float out of the pool, by the wide instruction -/
theorem lv_ldcwf (hexec : p.tables.exec = Jvm.exec) (hb : c.code = cc) {own : String} {index : Nat} {v : UInt32} (hown : s.vm.findClass own = some m.cls) (hconst : (Jvm.Cond.constantFloat own index v).before args s = true) (hdg : decode cc pc = .ok (.ldc_w index, 3)) (k : W p l e R s m args below meth c H locs cells slots Q (F0 m (pc + 3) ls (.float v :: rest))) : W p l e R s m args below meth c H locs cells slots Q (F0 m pc ls rest) := by
  intro T hT X
  obtain ⟨t, a, b⟩ := k T hT X
  refine ⟨t, ?_, b⟩
  obtain ⟨k0, cf, hk, hcf, hcp⟩ := Cond.constantFloat_spec hown hconst
  obtain ⟨k', hk', he⟩ := X.warmed.alike.2.2 _ _ hk
  jvm_step X.here [hexec, hb, hdg, ldc_w.wp_float (e := e) (s := T) (f := F0 m pc ls rest) X.here.top hk' (by rw [he]; exact hcf) hcp]
  exact a
end FPLDF
theorem fp_fq_s {S : PS} (b : Nat → Nat) (z : Int) : (fp_fq S b z = some (b (fp_fnd S z)) ∧ fp_fnd S z < sN S) ∨ (fp_fq S b z = none ∧ fp_fnd S z = sN S) := by
  unfold fp_fq
  rcases fp_fi_s (q := fun k => decide ((sB S k 0 : Int) = z)) (n := sN S) with h | h
  · have h1 : fp_fnd S z < sN S := h.1
    exact Or.inl ⟨if_pos h1, h1⟩
  · have h1 : fp_fnd S z = sN S := h.1
    exact Or.inr ⟨if_neg (by omega), h1⟩
theorem fp_fnd_n {S : PS} {z : Int} (h : fp_fnd S z < sN S) : ((sB S (fp_fnd S z) 0 : Nat) : Int) = z := by
  rcases fp_fi_s (q := fun k => decide ((sB S k 0 : Int) = z)) (n := sN S) with h2 | h2
  · exact of_decide_eq_true h2.2.1
  · have h3 : fp_fnd S z = sN S := h2.1
    omega

set_option maxRecDepth 100000
set_option maxHeartbeats 4000000 in
theorem c_X1_checkColumn (G : fp_G) (c : Int) (hc : rg c) : fp_MX G yX1_checkColumn cX1_checkColumn 1 none 7 101 1 6 [.int (iI (c))] (fun H => True) fp_no (fun H v H1 => v = none ∧ (0 ≤ c ∧ c ≤ 11) ∧ H = H1) (fun H E H1 => (E = "java/lang/IndexOutOfBoundsException" ∧ fp_X H H1 ∧ ¬ (0 ≤ c ∧ c ≤ 11))) := by
  refine fp_MX.intro (by decide) (Nat.le_of_ble_eq_true rfl) ?_
  intro pg en s mi ag bl mt cd rR qQ ls X hx hb hr hlk hnm hR hQ hT hB hM hl
  have hS : va_S (fA fp_no s.heap.size) s.heap s.heap [] := va_S.rf
  generalize ([] : List Loc) = locs at hS ⊢
  have hb0 := hB.1
  have hsz0 := hS.1
  refine lv_iload_n hx hb dX1_checkColumn_0 rfl (lv_at hl 0 rfl) ?_
  refine r_callS (cells1 := 0) (slots1 := 0) X hR (c_X1_isColumn G (c) (⟨by omega, by omega⟩)) q1128 q448 q88 q449 pd_X1_isColumn ⟨Nat.le_of_ble_eq_true rfl, Nat.le_of_ble_eq_true rfl⟩ rfl rfl (Nat.le_of_ble_eq_true rfl) (Nat.le_of_ble_eq_true rfl) rfl (Nat.le_of_ble_eq_true rfl) hl.1 dX1_checkColumn_1 (hB.of hS fp_no.base) trivial hS (fun _ h => h.elim) (fun v H_4 locs hp_1 hz_2 hk_3 hS => ?_)
  obtain ⟨rfl, rfl⟩ := hp_1
  refine r_stk (st2 := [.int (iI (bI (decide (0 ≤ (c) ∧ (c) ≤ 11))))]) rfl ?_
  refine x_callS (cells1 := 1) (slots1 := 6) X hR (c_X1_checkIndex G (decide (0 ≤ (c) ∧ (c) ≤ 11))) q1350 q1351 q88 q1352 pd_X1_checkIndex ⟨Nat.le_of_ble_eq_true rfl, Nat.le_of_ble_eq_true rfl⟩ rfl rfl (Nat.le_of_ble_eq_true rfl) (Nat.le_of_ble_eq_true rfl) rfl (Nat.le_of_ble_eq_true rfl) hl.1 dX1_checkColumn_4 (hB.of hS fp_no.base) trivial hS (fun _ h => h.elim) (fun v H_8 locs hp_5 hz_6 hk_7 hS => ?_) (fun Ex qx cx H_8 locs hp_5 hz_6 hk_7 hS hcx hvx hlx => ?_)
  · skip
    obtain ⟨rfl, rfl, hbt_9⟩ := hp_5
    refine r_stk (st2 := []) rfl ?_
    have hcc := of_decide_eq_true hbt_9
    refine x_vret hx hb hr hlk hQ hS (Nat.le_of_ble_eq_true rfl) (Nat.le_of_ble_eq_true rfl) dX1_checkColumn_7 ?_
    exact ⟨rfl, hcc, rfl⟩
  · skip
    rcases hp_5 with ⟨rfl, hX9, hb9⟩
    exact x_out hT hlk hQ hS (Nat.le_of_ble_eq_true rfl) (Nat.le_of_ble_eq_true rfl) hcx hvx hlx (⟨rfl, fp_X.ofS hS, of_decide_eq_false hb9⟩)
set_option maxHeartbeats 4000000 in
theorem c_X1_height (G : fp_G) (x : Nat) (u : Nat) (sv : Value) (hi : Nat) (ip : Nat) (ln : Nat) (ex : Bool) (er : Int) (fa : Int) (l : Nat) (ed : Nat) (z : Nat) (t : Nat) (mc : Int32) (cap : Nat) (b : Nat → Nat) (S : PS) (c : Int) (hsw : fp_sw S b) (hc : rg c) : fp_MX G yX1_height cX1_height 2 (some .int) 8 125 2 10 [.ref (x), .int (iI (c))] (fun H => fp_At G H x (eO 1 [.ref (u), sv, .ref (hi), .ref (ip), .ref (ln), .int (iI (bI (ex))), .int (iI (er)), .int (iI (fa))]) ∧ fp_SE G u l ed z t mc cap b S H) fp_no (fun H v H1 => v = some (.int (iI ((fp_hi S c.toNat : Nat) : Int))) ∧ (fp_cc c = 0)) (fun H E H1 => (E = "java/lang/IndexOutOfBoundsException" ∧ fp_X H H1 ∧ fp_cc c = 1)) := by
  refine fp_MX.intro (by decide) (Nat.le_of_ble_eq_true rfl) ?_
  intro pg en s mi ag bl mt cd rR qQ ls X hx hb hr hlk hnm hR hQ hT hB hM hl
  have hS : va_S (fA fp_no s.heap.size) s.heap s.heap [] := va_S.rf
  generalize ([] : List Loc) = locs at hS ⊢
  have hb0 := hB.1
  obtain ⟨h_pob, h_st⟩ := hM
  have hsz0 := hS.1
  have lt_1 := h_pob.lt
  have lt_2 := h_st.1.lt
  refine lv_iload_n hx hb dX1_height_0 rfl (lv_at hl 1 rfl) ?_
  refine x_callS (cells1 := 1) (slots1 := 6) X hR (c_X1_checkColumn G (c) (⟨by omega, by omega⟩)) q1347 q1348 q88 q1349 pd_X1_checkColumn ⟨Nat.le_of_ble_eq_true rfl, Nat.le_of_ble_eq_true rfl⟩ rfl rfl (Nat.le_of_ble_eq_true rfl) (Nat.le_of_ble_eq_true rfl) rfl (Nat.le_of_ble_eq_true rfl) hl.1 dX1_height_1 (hB.of hS fp_no.base) trivial hS (fun _ h => h.elim) (fun v H_6 locs hp_3 hz_4 hk_5 hS => ?_) (fun Ex qx cx H_6 locs hp_3 hz_4 hk_5 hS hcx hvx hlx => ?_)
  · skip
    obtain ⟨rfl, hcc_7, rfl⟩ := hp_3
    refine r_stk (st2 := []) rfl ?_
    obtain ⟨cn, rfl⟩ : ∃ cn : Nat, c = ((cn : Nat) : Int) := ⟨c.toNat, by omega⟩
    have hcn : cn < 12 := by omega
    refine lv_aload_n hx hb dX1_height_4 rfl (lv_at hl 0 rfl) ?_
    refine r_get X h_pob rfl in_X1 0 (by decide) q242 (Or.inl rfl) (v := .ref (u)) rfl dX1_height_5 ?_
    refine lv_iload_n hx hb dX1_height_8 rfl (lv_at hl 1 rfl) ?_
    refine r_callV (cells1 := 2) (slots1 := 10) X hR (c_X2_height G u l ed z t mc cap b S cn hsw (by omega)) q271 q272 q273 q89 q274 ⟨rfl, pd_X2_height⟩ ⟨Nat.le_of_ble_eq_true rfl, Nat.le_of_ble_eq_true rfl⟩ rfl rfl (Nat.le_of_ble_eq_true rfl) (Nat.le_of_ble_eq_true rfl) h_st.1 rfl rfl (Nat.le_of_ble_eq_true rfl) hl.1 dX1_height_9 (hB.of hS fp_no.base) h_st hS (fun _ h => h.elim) (fun v H_11 locs hp_8 hz_9 hk_10 hS => ?_)
    obtain rfl := hp_8
    have hz_12 := hS.1
    refine r_stk (st2 := [.int (iI ((fp_hi S cn : Nat) : Int))]) rfl ?_
    refine x_iret hx hb hr hlk hQ hS (Nat.le_of_ble_eq_true rfl) (Nat.le_of_ble_eq_true rfl) dX1_height_12 ?_
    exact ⟨(congrArg (fun q : Nat => some (Value.int (iI (q : Int)))) (by rw [Int.toNat_natCast])), (fp_cc_0 (by omega))⟩
  · skip
    rcases hp_3 with ⟨rfl, hX9, hb9⟩
    exact x_out hT hlk hQ hS (Nat.le_of_ble_eq_true rfl) (Nat.le_of_ble_eq_true rfl) hcx hvx hlx (⟨rfl, fp_X.ofS hS, fp_cc_1 hb9⟩)
set_option maxHeartbeats 4000000 in
theorem c_X1_isLit (G : fp_G) (x : Nat) (u : Nat) (sv : Value) (hi : Nat) (ip : Nat) (ln : Nat) (ex : Bool) (er : Int) (fa : Int) (l : Nat) (ed : Nat) (z : Nat) (t : Nat) (mc : Int32) (cap : Nat) (b : Nat → Nat) (S : PS) (c : Int) (hsw : fp_sw S b) (hc : rg c) : fp_MX G yX1_isLit cX1_isLit 2 (some .boolean) 9 191 401 1606 [.ref (x), .int (iI (c))] (fun H => fp_At G H x (eO 1 [.ref (u), sv, .ref (hi), .ref (ip), .ref (ln), .int (iI (bI (ex))), .int (iI (er)), .int (iI (fa))]) ∧ fp_SE G u l ed z t mc cap b S H) fp_no (fun H v H1 => v = some (.int (iI (bI (fp_lit S c.toNat)))) ∧ (fp_cc c = 0)) (fun H E H1 => (E = "java/lang/IndexOutOfBoundsException" ∧ fp_X H H1 ∧ fp_cc c = 1)) := by
  refine fp_MX.intro (by decide) (Nat.le_of_ble_eq_true rfl) ?_
  intro pg en s mi ag bl mt cd rR qQ ls X hx hb hr hlk hnm hR hQ hT hB hM hl
  have hS : va_S (fA fp_no s.heap.size) s.heap s.heap [] := va_S.rf
  generalize ([] : List Loc) = locs at hS ⊢
  have hb0 := hB.1
  obtain ⟨h_pob, h_st⟩ := hM
  have hsz0 := hS.1
  have lt_1 := h_pob.lt
  have lt_2 := h_st.1.lt
  refine lv_iload_n hx hb dX1_isLit_0 rfl (lv_at hl 1 rfl) ?_
  refine x_callS (cells1 := 1) (slots1 := 6) X hR (c_X1_checkColumn G (c) (⟨by omega, by omega⟩)) q1347 q1348 q88 q1349 pd_X1_checkColumn ⟨Nat.le_of_ble_eq_true rfl, Nat.le_of_ble_eq_true rfl⟩ rfl rfl (Nat.le_of_ble_eq_true rfl) (Nat.le_of_ble_eq_true rfl) rfl (Nat.le_of_ble_eq_true rfl) hl.1 dX1_isLit_1 (hB.of hS fp_no.base) trivial hS (fun _ h => h.elim) (fun v H_6 locs hp_3 hz_4 hk_5 hS => ?_) (fun Ex qx cx H_6 locs hp_3 hz_4 hk_5 hS hcx hvx hlx => ?_)
  · skip
    obtain ⟨rfl, hcc_7, rfl⟩ := hp_3
    refine r_stk (st2 := []) rfl ?_
    obtain ⟨cn, rfl⟩ : ∃ cn : Nat, c = ((cn : Nat) : Int) := ⟨c.toNat, by omega⟩
    have hcn : cn < 12 := by omega
    refine lv_aload_n hx hb dX1_isLit_4 rfl (lv_at hl 0 rfl) ?_
    refine r_get X h_pob rfl in_X1 0 (by decide) q242 (Or.inl rfl) (v := .ref (u)) rfl dX1_isLit_5 ?_
    refine lv_iload_n hx hb dX1_isLit_8 rfl (lv_at hl 1 rfl) ?_
    refine r_callV (cells1 := 401) (slots1 := 1606) X hR (c_X2_isLit G u l ed z t mc cap b S cn hsw (by omega)) q946 q947 q948 q89 q949 ⟨rfl, pd_X2_isLit⟩ ⟨Nat.le_of_ble_eq_true rfl, Nat.le_of_ble_eq_true rfl⟩ rfl rfl (Nat.le_of_ble_eq_true rfl) (Nat.le_of_ble_eq_true rfl) h_st.1 rfl rfl (Nat.le_of_ble_eq_true rfl) hl.1 dX1_isLit_9 (hB.of hS fp_no.base) h_st hS (fun _ h => h.elim) (fun v H_11 locs hp_8 hz_9 hk_10 hS => ?_)
    obtain rfl := hp_8
    have hz_12 := hS.1
    refine r_stk (st2 := [.int (iI (bI (fp_lit S cn)))]) rfl ?_
    refine x_zret hx hb hr hlk hQ hS (Nat.le_of_ble_eq_true rfl) (Nat.le_of_ble_eq_true rfl) dX1_isLit_12 (bI_z _) ?_
    exact ⟨(congrArg (fun q : Bool => some (Value.int (iI (bI q)))) (by rw [Int.toNat_natCast])), (fp_cc_0 (by omega))⟩
  · skip
    rcases hp_3 with ⟨rfl, hX9, hb9⟩
    exact x_out hT hlk hQ hS (Nat.le_of_ble_eq_true rfl) (Nat.le_of_ble_eq_true rfl) hcx hvx hlx (⟨rfl, fp_X.ofS hS, fp_cc_1 hb9⟩)
set_option maxHeartbeats 4000000 in
theorem c_X1_isLitByMaxima (G : fp_G) (x : Nat) (u : Nat) (sv : Value) (hi : Nat) (ip : Nat) (ln : Nat) (ex : Bool) (er : Int) (fa : Int) (l : Nat) (ed : Nat) (z : Nat) (t : Nat) (mc : Int32) (cap : Nat) (b : Nat → Nat) (S : PS) (c : Int) (hsw : fp_sw S b) (hc : rg c) : fp_MX G yX1_isLitByMaxima cX1_isLitByMaxima 2 (some .boolean) 9 194 194 786 [.ref (x), .int (iI (c))] (fun H => fp_At G H x (eO 1 [.ref (u), sv, .ref (hi), .ref (ip), .ref (ln), .int (iI (bI (ex))), .int (iI (er)), .int (iI (fa))]) ∧ fp_SE G u l ed z t mc cap b S H) fp_no (fun H v H1 => v = some (.int (iI (bI (fp_lit S c.toNat)))) ∧ (fp_cc c = 0)) (fun H E H1 => (E = "java/lang/IndexOutOfBoundsException" ∧ fp_X H H1 ∧ fp_cc c = 1)) := by
  refine fp_MX.intro (by decide) (Nat.le_of_ble_eq_true rfl) ?_
  intro pg en s mi ag bl mt cd rR qQ ls X hx hb hr hlk hnm hR hQ hT hB hM hl
  have hS : va_S (fA fp_no s.heap.size) s.heap s.heap [] := va_S.rf
  generalize ([] : List Loc) = locs at hS ⊢
  have hb0 := hB.1
  obtain ⟨h_pob, h_st⟩ := hM
  have hsz0 := hS.1
  have lt_1 := h_pob.lt
  have lt_2 := h_st.1.lt
  refine lv_iload_n hx hb dX1_isLitByMaxima_0 rfl (lv_at hl 1 rfl) ?_
  refine x_callS (cells1 := 1) (slots1 := 6) X hR (c_X1_checkColumn G (c) (⟨by omega, by omega⟩)) q1347 q1348 q88 q1349 pd_X1_checkColumn ⟨Nat.le_of_ble_eq_true rfl, Nat.le_of_ble_eq_true rfl⟩ rfl rfl (Nat.le_of_ble_eq_true rfl) (Nat.le_of_ble_eq_true rfl) rfl (Nat.le_of_ble_eq_true rfl) hl.1 dX1_isLitByMaxima_1 (hB.of hS fp_no.base) trivial hS (fun _ h => h.elim) (fun v H_6 locs hp_3 hz_4 hk_5 hS => ?_) (fun Ex qx cx H_6 locs hp_3 hz_4 hk_5 hS hcx hvx hlx => ?_)
  · skip
    obtain ⟨rfl, hcc_7, rfl⟩ := hp_3
    refine r_stk (st2 := []) rfl ?_
    obtain ⟨cn, rfl⟩ : ∃ cn : Nat, c = ((cn : Nat) : Int) := ⟨c.toNat, by omega⟩
    have hcn : cn < 12 := by omega
    refine lv_aload_n hx hb dX1_isLitByMaxima_4 rfl (lv_at hl 0 rfl) ?_
    refine r_get X h_pob rfl in_X1 0 (by decide) q242 (Or.inl rfl) (v := .ref (u)) rfl dX1_isLitByMaxima_5 ?_
    refine r_callV (cells1 := 194) (slots1 := 786) X hR (c_X2_light G u l ed z t mc cap b S hsw) q439 q440 q441 q89 q442 ⟨rfl, pd_X2_light⟩ ⟨Nat.le_of_ble_eq_true rfl, Nat.le_of_ble_eq_true rfl⟩ rfl rfl (Nat.le_of_ble_eq_true rfl) (Nat.le_of_ble_eq_true rfl) h_st.1 rfl rfl (Nat.le_of_ble_eq_true rfl) hl.1 dX1_isLitByMaxima_8 (hB.of hS fp_no.base) h_st hS (fun _ h => h.elim) (fun v H_11 locs hp_8 hz_9 hk_10 hS => ?_)
    obtain ⟨a_12, rfl, ha_13, hE_14⟩ := hp_8
    have hz_15 := hS.1
    have lt_17 := hE_14.lt
    refine r_stk (st2 := [.ref (a_12)]) rfl ?_
    refine lv_iload_n hx hb dX1_isLitByMaxima_11 rfl (lv_at hl 1 rfl) ?_
    refine r_zaldI X hE_14 (j := cn) rfl (by omega) (by decide) dX1_isLitByMaxima_12 ?_
    refine x_zret hx hb hr hlk hQ hS (Nat.le_of_ble_eq_true rfl) (Nat.le_of_ble_eq_true rfl) dX1_isLitByMaxima_13 (bI_z _) ?_
    exact ⟨(congrArg (fun q : Bool => some (Value.int (iI (bI q)))) (by rw [Int.toNat_natCast])), (fp_cc_0 (by omega))⟩
  · skip
    rcases hp_3 with ⟨rfl, hX9, hb9⟩
    exact x_out hT hlk hQ hS (Nat.le_of_ble_eq_true rfl) (Nat.le_of_ble_eq_true rfl) hcx hvx hlx (⟨rfl, fp_X.ofS hS, fp_cc_1 hb9⟩)
set_option maxHeartbeats 4000000 in
theorem c_X1_hasTorch (G : fp_G) (x : Nat) (u : Nat) (sv : Value) (hi : Nat) (ip : Nat) (ln : Nat) (ex : Bool) (er : Int) (fa : Int) (l : Nat) (ed : Nat) (z : Nat) (t : Nat) (mc : Int32) (cap : Nat) (b : Nat → Nat) (S : PS) (c : Int) (hsw : fp_sw S b) (hc : rg c) : fp_MX G yX1_hasTorch cX1_hasTorch 2 (some .boolean) 8 121 1 6 [.ref (x), .int (iI (c))] (fun H => fp_At G H x (eO 1 [.ref (u), sv, .ref (hi), .ref (ip), .ref (ln), .int (iI (bI (ex))), .int (iI (er)), .int (iI (fa))]) ∧ fp_SE G u l ed z t mc cap b S H) fp_no (fun H v H1 => v = some (.int (iI (bI (decide (sT S c.toNat = 1))))) ∧ (fp_cc c = 0)) (fun H E H1 => (E = "java/lang/IndexOutOfBoundsException" ∧ fp_X H H1 ∧ fp_cc c = 1)) := by
  refine fp_MX.intro (by decide) (Nat.le_of_ble_eq_true rfl) ?_
  intro pg en s mi ag bl mt cd rR qQ ls X hx hb hr hlk hnm hR hQ hT hB hM hl
  have hS : va_S (fA fp_no s.heap.size) s.heap s.heap [] := va_S.rf
  generalize ([] : List Loc) = locs at hS ⊢
  have hb0 := hB.1
  obtain ⟨h_pob, h_st⟩ := hM
  have hsz0 := hS.1
  have lt_1 := h_pob.lt
  have lt_2 := h_st.1.lt
  have hn24 := hsw.1.1
  obtain ⟨h_o, h_l, h_z, h_t, h_bl, h_xb, h_zb, h_tb⟩ := id h_st
  have lt_3 := h_l.1.lt
  have lt_4 := h_l.2.2
  have lt_5 := h_z.lt
  have lt_6 := h_t.lt
  refine lv_iload_n hx hb dX1_hasTorch_0 rfl (lv_at hl 1 rfl) ?_
  refine x_callS (cells1 := 1) (slots1 := 6) X hR (c_X1_checkColumn G (c) (⟨by omega, by omega⟩)) q1347 q1348 q88 q1349 pd_X1_checkColumn ⟨Nat.le_of_ble_eq_true rfl, Nat.le_of_ble_eq_true rfl⟩ rfl rfl (Nat.le_of_ble_eq_true rfl) (Nat.le_of_ble_eq_true rfl) rfl (Nat.le_of_ble_eq_true rfl) hl.1 dX1_hasTorch_1 (hB.of hS fp_no.base) trivial hS (fun _ h => h.elim) (fun v H_10 locs hp_7 hz_8 hk_9 hS => ?_) (fun Ex qx cx H_10 locs hp_7 hz_8 hk_9 hS hcx hvx hlx => ?_)
  · skip
    obtain ⟨rfl, hcc_11, rfl⟩ := hp_7
    refine r_stk (st2 := []) rfl ?_
    obtain ⟨cn, rfl⟩ : ∃ cn : Nat, c = ((cn : Nat) : Int) := ⟨c.toNat, by omega⟩
    have hcn : cn < 12 := by omega
    refine lv_aload_n hx hb dX1_hasTorch_4 rfl (lv_at hl 0 rfl) ?_
    refine r_get X h_pob rfl in_X1 0 (by decide) q242 (Or.inl rfl) (v := .ref (u)) rfl dX1_hasTorch_5 ?_
    refine r_getN X h_st.1 rfl in_X2 2 (by decide) q178 (Or.inl rfl) (v := .ref (t)) rfl dX1_hasTorch_8 ?_
    refine lv_iload_n hx hb dX1_hasTorch_11 rfl (lv_at hl 1 rfl) ?_
    refine r_zaldI X h_t (j := cn) rfl (by omega) (by decide) dX1_hasTorch_12 ?_
    refine r_set (y := .int (iI (bI (decide (sT S cn = 1))))) rfl ?_
    refine x_zret hx hb hr hlk hQ hS (Nat.le_of_ble_eq_true rfl) (Nat.le_of_ble_eq_true rfl) dX1_hasTorch_13 (bI_z _) ?_
    exact ⟨(congrArg (fun q : Bool => some (Value.int (iI (bI q)))) (by rw [Int.toNat_natCast])), (fp_cc_0 (by omega))⟩
  · skip
    rcases hp_7 with ⟨rfl, hX9, hb9⟩
    exact x_out hT hlk hQ hS (Nat.le_of_ble_eq_true rfl) (Nat.le_of_ble_eq_true rfl) hcx hvx hlx (⟨rfl, fp_X.ofS hS, fp_cc_1 hb9⟩)
set_option maxHeartbeats 4000000 in
theorem c_X1_zone (G : fp_G) (x : Nat) (u : Nat) (sv : Value) (hi : Nat) (ip : Nat) (ln : Nat) (ex : Bool) (er : Int) (fa : Int) (l : Nat) (ed : Nat) (z : Nat) (t : Nat) (mc : Int32) (cap : Nat) (b : Nat → Nat) (S : PS) (c : Int) (hsw : fp_sw S b) (hc : rg c) : fp_MX G yX1_zone cX1_zone 2 (some .char) 8 121 1 6 [.ref (x), .int (iI (c))] (fun H => fp_At G H x (eO 1 [.ref (u), sv, .ref (hi), .ref (ip), .ref (ln), .int (iI (bI (ex))), .int (iI (er)), .int (iI (fa))]) ∧ fp_SE G u l ed z t mc cap b S H) fp_no (fun H v H1 => v = some (.int (iI ((fp_zlet (sZ S c.toNat) : Nat) : Int))) ∧ (fp_cc c = 0)) (fun H E H1 => (E = "java/lang/IndexOutOfBoundsException" ∧ fp_X H H1 ∧ fp_cc c = 1)) := by
  refine fp_MX.intro (by decide) (Nat.le_of_ble_eq_true rfl) ?_
  intro pg en s mi ag bl mt cd rR qQ ls X hx hb hr hlk hnm hR hQ hT hB hM hl
  have hS : va_S (fA fp_no s.heap.size) s.heap s.heap [] := va_S.rf
  generalize ([] : List Loc) = locs at hS ⊢
  have hb0 := hB.1
  obtain ⟨h_pob, h_st⟩ := hM
  have hsz0 := hS.1
  have lt_1 := h_pob.lt
  have lt_2 := h_st.1.lt
  have hn24 := hsw.1.1
  obtain ⟨h_o, h_l, h_z, h_t, h_bl, h_xb, h_zb, h_tb⟩ := id h_st
  have lt_3 := h_l.1.lt
  have lt_4 := h_l.2.2
  have lt_5 := h_z.lt
  have lt_6 := h_t.lt
  refine lv_iload_n hx hb dX1_zone_0 rfl (lv_at hl 1 rfl) ?_
  refine x_callS (cells1 := 1) (slots1 := 6) X hR (c_X1_checkColumn G (c) (⟨by omega, by omega⟩)) q1347 q1348 q88 q1349 pd_X1_checkColumn ⟨Nat.le_of_ble_eq_true rfl, Nat.le_of_ble_eq_true rfl⟩ rfl rfl (Nat.le_of_ble_eq_true rfl) (Nat.le_of_ble_eq_true rfl) rfl (Nat.le_of_ble_eq_true rfl) hl.1 dX1_zone_1 (hB.of hS fp_no.base) trivial hS (fun _ h => h.elim) (fun v H_10 locs hp_7 hz_8 hk_9 hS => ?_) (fun Ex qx cx H_10 locs hp_7 hz_8 hk_9 hS hcx hvx hlx => ?_)
  · skip
    obtain ⟨rfl, hcc_11, rfl⟩ := hp_7
    refine r_stk (st2 := []) rfl ?_
    obtain ⟨cn, rfl⟩ : ∃ cn : Nat, c = ((cn : Nat) : Int) := ⟨c.toNat, by omega⟩
    have hcn : cn < 12 := by omega
    refine lv_aload_n hx hb dX1_zone_4 rfl (lv_at hl 0 rfl) ?_
    refine r_get X h_pob rfl in_X1 0 (by decide) q242 (Or.inl rfl) (v := .ref (u)) rfl dX1_zone_5 ?_
    refine r_getN X h_st.1 rfl in_X2 1 (by decide) q176 (Or.inl rfl) (v := .ref (z)) rfl dX1_zone_8 ?_
    refine lv_iload_n hx hb dX1_zone_11 rfl (lv_at hl 1 rfl) ?_
    refine r_aaldI X rfl h_z (j := cn) rfl (by omega) (by decide) dX1_zone_12 ?_
    refine r_set (y := .ref (fp_zad G (sZ S cn))) rfl ?_
    refine r_zletN X hB fp_no.base hS (hsw.1.2.2.2.1 cn hcn) q2580 dX1_zone_13 ?_
    have hzl := fp_zlet_b (sZ S cn)
    refine x_zret hx hb hr hlk hQ hS (Nat.le_of_ble_eq_true rfl) (Nat.le_of_ble_eq_true rfl) dX1_zone_16 (iI_char ⟨by omega, by omega⟩) ?_
    exact ⟨(congrArg (fun q : Nat => some (Value.int (iI (q : Int)))) (by rw [Int.toNat_natCast])), (fp_cc_0 (by omega))⟩
  · skip
    rcases hp_7 with ⟨rfl, hX9, hb9⟩
    exact x_out hT hlk hQ hS (Nat.le_of_ble_eq_true rfl) (Nat.le_of_ble_eq_true rfl) hcx hvx hlx (⟨rfl, fp_X.ofS hS, fp_cc_1 hb9⟩)
set_option maxHeartbeats 4000000 in
theorem c_X1_steps (G : fp_G) (x : Nat) (u : Nat) (sv : Value) (hi : Nat) (ip : Nat) (ln : Nat) (ex : Bool) (er : Int) (fa : Int) (l : Nat) (ed : Nat) (z : Nat) (t : Nat) (mc : Int32) (cap : Nat) (b : Nat → Nat) (S : PS) (hsw : fp_sw S b) : fp_M G yX1_steps cX1_steps 4 (some .int) 6 125 22 88 [.ref (x)] (fun H => fp_At G H x (eO 1 [.ref (u), sv, .ref (hi), .ref (ip), .ref (ln), .int (iI (bI (ex))), .int (iI (er)), .int (iI (fa))]) ∧ fp_SE G u l ed z t mc cap b S H) fp_no (fun H v H1 => v = some (.int (iI ((fp_steps S : Nat) : Int)))) := by
  refine fp_M.intro (by decide) (Nat.le_of_ble_eq_true rfl) ?_
  intro pg en s mi ag bl mt cd rR qQ ls X hx hb hr hlk hnm hR hQ hB hM hl
  have hS : va_S (fA fp_no s.heap.size) s.heap s.heap [] := va_S.rf
  generalize ([] : List Loc) = locs at hS ⊢
  have hb0 := hB.1
  obtain ⟨h_pob, h_st⟩ := hM
  have hsz0 := hS.1
  have lt_1 := h_pob.lt
  have lt_2 := h_st.1.lt
  have hn24 := hsw.1.1
  refine lv_iconst (v := (iI ((0 : Nat) : Int))) hx hb dX1_steps_0 rfl ?_
  refine lv_istore_n (lv' := [(1, .int (iI ((0 : Nat) : Int))), (0, .ref (x))]) hx hb dX1_steps_1 rfl hl (by decide) rfl (fun ls hl => ?_)
  refine lv_iconst (v := (iI ((1 : Nat) : Int))) hx hb dX1_steps_2 rfl ?_
  refine lv_istore_n (lv' := [(2, .int (iI ((1 : Nat) : Int))), (1, .int (iI ((0 : Nat) : Int))), (0, .ref (x))]) hx hb dX1_steps_3 rfl hl (by decide) rfl (fun ls hl => ?_)
  have L4 : ∀ (k : Nat), k ≤ 11 → ∀ (H_3 : Heap) (locs : List Loc) (ls : Array Slot), lv_has ls 4 [(0, .ref (x)), (1, .int (iI ((fp_sm (fp_stp S) k : Nat) : Int))), (2, .int (iI ((k + 1 : Nat) : Int)))] → va_S (fA fp_no s.heap.size) s.heap H_3 locs → (s.heap.size ≤ H_3.size) → W pg (g_l G) en rR s mi ag bl mt cd H_3 locs (2 * k) (8 * k) qQ (F0 mi 4 ls []) := by
    refine lp_up 11 ?_
    intro k hk4 ih4 H_3 locs ls hl hS hz_4
    have hz_5 := hS.1
    have hh1 := fp_hi_le hsw.1 k
    have hh2 := fp_hi_le hsw.1 (k + 1)
    have hst : fp_stp S k = (fp_hi S (k + 1) - fp_hi S k) + (fp_hi S k - fp_hi S (k + 1)) := rfl
    have hsm : fp_sm (fp_stp S) (k + 1) = fp_sm (fp_stp S) k + fp_stp S k := rfl
    have hsl : fp_sm (fp_stp S) k ≤ k * 42 := fp_sm_le (fun j hj => by have a := fp_hi_le hsw.1 j; have b := fp_hi_le hsw.1 (j + 1); show (fp_hi S (j + 1) - fp_hi S j) + (fp_hi S j - fp_hi S (j + 1)) ≤ 42; omega)
    refine lv_iload_n hx hb dX1_steps_4 rfl (lv_at hl 2 rfl) ?_
    refine lv_bipush (v := (iI ((12 : Nat) : Int))) hx hb dX1_steps_5 rfl ?_
    refine r_icmp_ge (tgt := 49) hx hb ⟨by omega, by omega⟩ (by decide) dX1_steps_7 (by decide) (fun c7 => ?_) (fun c7 => ?_)
    · skip
      obtain rfl : k = 11 := by omega
      refine lv_iload_n hx hb dX1_steps_49 rfl (lv_at hl 1 rfl) ?_
      refine r_iret hx hb hr hlk hQ hS (by omega) (by omega) dX1_steps_50 ?_
      exact (congrArg (fun q : Nat => some (Value.int (iI (q : Int)))) (rfl))
    · skip
      refine lv_aload_n hx hb dX1_steps_10 rfl (lv_at hl 0 rfl) ?_
      have hE_6 := fp_At.kept h_pob (fp_keptS (by omega) hS (fun z => z))
      refine r_get X hE_6 rfl in_X1 0 (by decide) q242 (Or.inl rfl) (v := .ref (u)) rfl dX1_steps_11 ?_
      refine lv_iload_n hx hb dX1_steps_14 rfl (lv_at hl 2 rfl) ?_
      have hE_7 := h_st.ext (fp_X.ofS hS)
      refine r_callV (cells1 := (2 * k + 1)) (slots1 := (8 * k + 4)) X hR (c_X2_height G u l ed z t mc cap b S (k + 1) hsw (by omega)) q271 q272 q273 q89 q274 ⟨rfl, pd_X2_height⟩ ⟨Nat.le_of_ble_eq_true rfl, Nat.le_of_ble_eq_true rfl⟩ rfl rfl (by omega) (by omega) hE_7.1 rfl rfl (Nat.le_of_ble_eq_true rfl) hl.1 dX1_steps_15 (hB.of hS fp_no.base) hE_7 hS (fun _ h => h.elim) (fun v H_11 locs hp_8 hz_9 hk_10 hS => ?_)
      obtain rfl := hp_8
      have hz_12 := hS.1
      refine r_stk (st2 := [.int (iI ((fp_hi S (k + 1) : Nat) : Int))]) rfl ?_
      refine lv_aload_n hx hb dX1_steps_18 rfl (lv_at hl 0 rfl) ?_
      have hE_13 := fp_At.kept h_pob (fp_keptS (by omega) hS (fun z => z))
      refine r_get X hE_13 rfl in_X1 0 (by decide) q242 (Or.inl rfl) (v := .ref (u)) rfl dX1_steps_19 ?_
      refine lv_iload_n hx hb dX1_steps_22 rfl (lv_at hl 2 rfl) ?_
      refine lv_iconst (v := (iI ((1 : Nat) : Int))) hx hb dX1_steps_23 rfl ?_
      refine r_isub hx hb dX1_steps_24 ?_
      refine r_set (y := .int (iI ((k : Nat) : Int))) (congrArg (fun q : Int => Value.int (iI q)) (by omega)) ?_
      have hE_14 := h_st.ext (fp_X.ofS hS)
      refine r_callV (cells1 := (2 * k + 1 + 1)) (slots1 := (8 * k + 4 + 4)) X hR (c_X2_height G u l ed z t mc cap b S k hsw (by omega)) q271 q272 q273 q89 q274 ⟨rfl, pd_X2_height⟩ ⟨Nat.le_of_ble_eq_true rfl, Nat.le_of_ble_eq_true rfl⟩ rfl rfl (by omega) (by omega) hE_14.1 rfl rfl (Nat.le_of_ble_eq_true rfl) hl.1 dX1_steps_25 (hB.of hS fp_no.base) hE_14 hS (fun _ h => h.elim) (fun v H_18 locs hp_15 hz_16 hk_17 hS => ?_)
      obtain rfl := hp_15
      have hz_19 := hS.1
      refine r_stk (st2 := [.int (iI ((fp_hi S k : Nat) : Int)), .int (iI ((fp_hi S (k + 1) : Nat) : Int))]) rfl ?_
      refine r_isub hx hb dX1_steps_28 ?_
      refine lv_istore_n (lv' := [(3, .int (iI (((fp_hi S (k + 1) : Nat) : Int) - ((fp_hi S k : Nat) : Int)))), (0, .ref (x)), (1, .int (iI ((fp_sm (fp_stp S) k : Nat) : Int))), (2, .int (iI ((k + 1 : Nat) : Int)))]) hx hb dX1_steps_29 rfl hl (by decide) rfl (fun ls hl => ?_)
      refine lv_iload_n hx hb dX1_steps_30 rfl (lv_at hl 2 rfl) ?_
      refine lv_iload_n hx hb dX1_steps_31 rfl (lv_at hl 0 rfl) ?_
      refine r_if_ge (tgt := 40) hx hb ⟨by omega, by omega⟩ dX1_steps_32 (by decide) (fun c32 => ?_) (fun c32 => ?_)
      · skip
        refine lv_iload_n hx hb dX1_steps_40 rfl (lv_at hl 0 rfl) ?_
        refine r_iadd hx hb dX1_steps_41 ?_
        refine lv_istore_n (lv' := [(1, .int (iI (((fp_sm (fp_stp S) k : Nat) : Int) + (((fp_hi S (k + 1) : Nat) : Int) - ((fp_hi S k : Nat) : Int))))), (3, .int (iI (((fp_hi S (k + 1) : Nat) : Int) - ((fp_hi S k : Nat) : Int)))), (0, .ref (x)), (2, .int (iI ((k + 1 : Nat) : Int)))]) hx hb dX1_steps_42 rfl hl (by decide) rfl (fun ls hl => ?_)
        refine lv_iinc (v := (iI (((k + 1) + 1 : Nat) : Int))) (lv' := [(2, .int (iI (((k + 1) + 1 : Nat) : Int))), (1, .int (iI (((fp_sm (fp_stp S) k : Nat) : Int) + (((fp_hi S (k + 1) : Nat) : Int) - ((fp_hi S k : Nat) : Int))))), (3, .int (iI (((fp_hi S (k + 1) : Nat) : Int) - ((fp_hi S k : Nat) : Int)))), (0, .ref (x))]) hx hb dX1_steps_43 hl (k := 3) rfl (iI_incN _ _) (by decide) rfl (fun ls hl => ?_)
        refine lv_goto (tgt := 4) hx hb dX1_steps_46 (by decide) ?_
        refine W.widen (k := 2 * (k + 1)) (n := 8 * (k + 1)) (by omega) (by omega) ?_
        exact ih4 (by omega) H_18 locs ls (by rw [show Value.int (iI ((fp_sm (fp_stp S) (k + 1) : Nat) : Int)) = Value.int (iI (((fp_sm (fp_stp S) k : Nat) : Int) + (((fp_hi S (k + 1) : Nat) : Int) - ((fp_hi S k : Nat) : Int)))) from congrArg (fun q : Int => Value.int (iI q)) (by omega)]; exact lv_sub hl [3, 1, 0] rfl) hS (by omega)
      · skip
        refine lv_iload_n hx hb dX1_steps_35 rfl (lv_at hl 0 rfl) ?_
        refine r_ineg hx hb dX1_steps_36 ?_
        refine lv_goto (tgt := 41) hx hb dX1_steps_37 (by decide) ?_
        refine r_iadd hx hb dX1_steps_41 ?_
        refine lv_istore_n (lv' := [(1, .int (iI (((fp_sm (fp_stp S) k : Nat) : Int) + (-(((fp_hi S (k + 1) : Nat) : Int) - ((fp_hi S k : Nat) : Int)))))), (3, .int (iI (((fp_hi S (k + 1) : Nat) : Int) - ((fp_hi S k : Nat) : Int)))), (0, .ref (x)), (2, .int (iI ((k + 1 : Nat) : Int)))]) hx hb dX1_steps_42 rfl hl (by decide) rfl (fun ls hl => ?_)
        refine lv_iinc (v := (iI (((k + 1) + 1 : Nat) : Int))) (lv' := [(2, .int (iI (((k + 1) + 1 : Nat) : Int))), (1, .int (iI (((fp_sm (fp_stp S) k : Nat) : Int) + (-(((fp_hi S (k + 1) : Nat) : Int) - ((fp_hi S k : Nat) : Int)))))), (3, .int (iI (((fp_hi S (k + 1) : Nat) : Int) - ((fp_hi S k : Nat) : Int)))), (0, .ref (x))]) hx hb dX1_steps_43 hl (k := 3) rfl (iI_incN _ _) (by decide) rfl (fun ls hl => ?_)
        refine lv_goto (tgt := 4) hx hb dX1_steps_46 (by decide) ?_
        refine W.widen (k := 2 * (k + 1)) (n := 8 * (k + 1)) (by omega) (by omega) ?_
        exact ih4 (by omega) H_18 locs ls (by rw [show Value.int (iI ((fp_sm (fp_stp S) (k + 1) : Nat) : Int)) = Value.int (iI (((fp_sm (fp_stp S) k : Nat) : Int) + (-(((fp_hi S (k + 1) : Nat) : Int) - ((fp_hi S k : Nat) : Int))))) from congrArg (fun q : Int => Value.int (iI q)) (by omega)]; exact lv_sub hl [3, 1, 0] rfl) hS (by omega)
  refine W.widen (k := 2 * 0) (n := 8 * 0) (by omega) (by omega) ?_
  exact L4 0 (by omega) s.heap locs ls (by rw [show Value.int (iI ((fp_sm (fp_stp S) 0 : Nat) : Int)) = Value.int (iI ((0 : Nat) : Int)) from rfl, show Value.int (iI ((0 + 1 : Nat) : Int)) = Value.int (iI ((1 : Nat) : Int)) from rfl]; exact lv_sub hl [2, 1, 0] rfl) hS (Nat.le_refl _)
set_option maxHeartbeats 4000000 in
theorem c_X1_highestColumn (G : fp_G) (x : Nat) (u : Nat) (sv : Value) (hi : Nat) (ip : Nat) (ln : Nat) (ex : Bool) (er : Int) (fa : Int) (l : Nat) (ed : Nat) (z : Nat) (t : Nat) (mc : Int32) (cap : Nat) (b : Nat → Nat) (S : PS) (hsw : fp_sw S b) : fp_M G yX1_highestColumn cX1_highestColumn 3 (some .int) 6 125 22 88 [.ref (x)] (fun H => fp_At G H x (eO 1 [.ref (u), sv, .ref (hi), .ref (ip), .ref (ln), .int (iI (bI (ex))), .int (iI (er)), .int (iI (fa))]) ∧ fp_SE G u l ed z t mc cap b S H) fp_no (fun H v H1 => v = some (.int (iI ((fp_hic S : Nat) : Int)))) := by
  refine fp_M.intro (by decide) (Nat.le_of_ble_eq_true rfl) ?_
  intro pg en s mi ag bl mt cd rR qQ ls X hx hb hr hlk hnm hR hQ hB hM hl
  have hS : va_S (fA fp_no s.heap.size) s.heap s.heap [] := va_S.rf
  generalize ([] : List Loc) = locs at hS ⊢
  have hb0 := hB.1
  obtain ⟨h_pob, h_st⟩ := hM
  have hsz0 := hS.1
  have lt_1 := h_pob.lt
  have lt_2 := h_st.1.lt
  have hn24 := hsw.1.1
  refine lv_iconst (v := (iI ((0 : Nat) : Int))) hx hb dX1_highestColumn_0 rfl ?_
  refine lv_istore_n (lv' := [(1, .int (iI ((0 : Nat) : Int))), (0, .ref (x))]) hx hb dX1_highestColumn_1 rfl hl (by decide) rfl (fun ls hl => ?_)
  refine lv_iconst (v := (iI ((1 : Nat) : Int))) hx hb dX1_highestColumn_2 rfl ?_
  refine lv_istore_n (lv' := [(2, .int (iI ((1 : Nat) : Int))), (1, .int (iI ((0 : Nat) : Int))), (0, .ref (x))]) hx hb dX1_highestColumn_3 rfl hl (by decide) rfl (fun ls hl => ?_)
  have L4 : ∀ (k : Nat), k ≤ 11 → ∀ (H_3 : Heap) (locs : List Loc) (ls : Array Slot), lv_has ls 3 [(0, .ref (x)), (1, .int (iI ((fp_best2 (fp_hi S) (k + 1) : Nat) : Int))), (2, .int (iI ((k + 1 : Nat) : Int)))] → va_S (fA fp_no s.heap.size) s.heap H_3 locs → (s.heap.size ≤ H_3.size) → W pg (g_l G) en rR s mi ag bl mt cd H_3 locs (2 * k) (8 * k) qQ (F0 mi 4 ls []) := by
    refine lp_up 11 ?_
    intro k hk4 ih4 H_3 locs ls hl hS hz_4
    have hz_5 := hS.1
    have hh1 := fp_hi_le hsw.1 (k + 1)
    have hbb := fp_best2_lt (f := fp_hi S) (n := k)
    have hh2 := fp_hi_le hsw.1 (fp_best2 (fp_hi S) (k + 1))
    refine lv_iload_n hx hb dX1_highestColumn_4 rfl (lv_at hl 2 rfl) ?_
    refine lv_bipush (v := (iI ((12 : Nat) : Int))) hx hb dX1_highestColumn_5 rfl ?_
    refine r_icmp_ge (tgt := 37) hx hb ⟨by omega, by omega⟩ (by decide) dX1_highestColumn_7 (by decide) (fun c7 => ?_) (fun c7 => ?_)
    · skip
      obtain rfl : k = 11 := by omega
      refine lv_iload_n hx hb dX1_highestColumn_37 rfl (lv_at hl 1 rfl) ?_
      refine r_iret hx hb hr hlk hQ hS (by omega) (by omega) dX1_highestColumn_38 ?_
      exact (congrArg (fun q : Nat => some (Value.int (iI (q : Int)))) (rfl))
    · skip
      refine lv_aload_n hx hb dX1_highestColumn_10 rfl (lv_at hl 0 rfl) ?_
      have hE_6 := fp_At.kept h_pob (fp_keptS (by omega) hS (fun z => z))
      refine r_get X hE_6 rfl in_X1 0 (by decide) q242 (Or.inl rfl) (v := .ref (u)) rfl dX1_highestColumn_11 ?_
      refine lv_iload_n hx hb dX1_highestColumn_14 rfl (lv_at hl 2 rfl) ?_
      have hE_7 := h_st.ext (fp_X.ofS hS)
      refine r_callV (cells1 := (2 * k + 1)) (slots1 := (8 * k + 4)) X hR (c_X2_height G u l ed z t mc cap b S (k + 1) hsw (by omega)) q271 q272 q273 q89 q274 ⟨rfl, pd_X2_height⟩ ⟨Nat.le_of_ble_eq_true rfl, Nat.le_of_ble_eq_true rfl⟩ rfl rfl (by omega) (by omega) hE_7.1 rfl rfl (Nat.le_of_ble_eq_true rfl) hl.1 dX1_highestColumn_15 (hB.of hS fp_no.base) hE_7 hS (fun _ h => h.elim) (fun v H_11 locs hp_8 hz_9 hk_10 hS => ?_)
      obtain rfl := hp_8
      have hz_12 := hS.1
      refine r_stk (st2 := [.int (iI ((fp_hi S (k + 1) : Nat) : Int))]) rfl ?_
      refine lv_aload_n hx hb dX1_highestColumn_18 rfl (lv_at hl 0 rfl) ?_
      have hE_13 := fp_At.kept h_pob (fp_keptS (by omega) hS (fun z => z))
      refine r_get X hE_13 rfl in_X1 0 (by decide) q242 (Or.inl rfl) (v := .ref (u)) rfl dX1_highestColumn_19 ?_
      refine lv_iload_n hx hb dX1_highestColumn_22 rfl (lv_at hl 1 rfl) ?_
      have hE_14 := h_st.ext (fp_X.ofS hS)
      refine r_callV (cells1 := (2 * k + 1 + 1)) (slots1 := (8 * k + 4 + 4)) X hR (c_X2_height G u l ed z t mc cap b S (fp_best2 (fp_hi S) (k + 1)) hsw (by omega)) q271 q272 q273 q89 q274 ⟨rfl, pd_X2_height⟩ ⟨Nat.le_of_ble_eq_true rfl, Nat.le_of_ble_eq_true rfl⟩ rfl rfl (by omega) (by omega) hE_14.1 rfl rfl (Nat.le_of_ble_eq_true rfl) hl.1 dX1_highestColumn_23 (hB.of hS fp_no.base) hE_14 hS (fun _ h => h.elim) (fun v H_18 locs hp_15 hz_16 hk_17 hS => ?_)
      obtain rfl := hp_15
      have hz_19 := hS.1
      refine r_stk (st2 := [.int (iI ((fp_hi S (fp_best2 (fp_hi S) (k + 1)) : Nat) : Int)), .int (iI ((fp_hi S (k + 1) : Nat) : Int))]) rfl ?_
      refine r_icmp_le (tgt := 31) hx hb ⟨by omega, by omega⟩ ⟨by omega, by omega⟩ dX1_highestColumn_26 (by decide) (fun c26 => ?_) (fun c26 => ?_)
      · skip
        refine lv_iinc (v := (iI (((k + 1) + 1 : Nat) : Int))) (lv' := [(2, .int (iI (((k + 1) + 1 : Nat) : Int))), (0, .ref (x)), (1, .int (iI ((fp_best2 (fp_hi S) (k + 1) : Nat) : Int)))]) hx hb dX1_highestColumn_31 hl (k := 2) rfl (iI_incN _ _) (by decide) rfl (fun ls hl => ?_)
        refine lv_goto (tgt := 4) hx hb dX1_highestColumn_34 (by decide) ?_
        refine W.widen (k := 2 * (k + 1)) (n := 8 * (k + 1)) (by omega) (by omega) ?_
        exact ih4 (by omega) H_18 locs ls (by rw [show Value.int (iI ((fp_best2 (fp_hi S) ((k + 1) + 1) : Nat) : Int)) = Value.int (iI ((fp_best2 (fp_hi S) (k + 1) : Nat) : Int)) from congrArg (fun q : Nat => Value.int (iI (q : Int))) (fp_best2_f (by omega))]; exact lv_sub hl [1, 2, 0] rfl) hS (by omega)
      · skip
        refine lv_iload_n hx hb dX1_highestColumn_29 rfl (lv_at hl 2 rfl) ?_
        refine lv_istore_n (lv' := [(1, .int (iI ((k + 1 : Nat) : Int))), (0, .ref (x)), (2, .int (iI ((k + 1 : Nat) : Int)))]) hx hb dX1_highestColumn_30 rfl hl (by decide) rfl (fun ls hl => ?_)
        refine lv_iinc (v := (iI (((k + 1) + 1 : Nat) : Int))) (lv' := [(2, .int (iI (((k + 1) + 1 : Nat) : Int))), (1, .int (iI ((k + 1 : Nat) : Int))), (0, .ref (x))]) hx hb dX1_highestColumn_31 hl (k := 2) rfl (iI_incN _ _) (by decide) rfl (fun ls hl => ?_)
        refine lv_goto (tgt := 4) hx hb dX1_highestColumn_34 (by decide) ?_
        refine W.widen (k := 2 * (k + 1)) (n := 8 * (k + 1)) (by omega) (by omega) ?_
        exact ih4 (by omega) H_18 locs ls (by rw [show Value.int (iI ((fp_best2 (fp_hi S) ((k + 1) + 1) : Nat) : Int)) = Value.int (iI ((k + 1 : Nat) : Int)) from congrArg (fun q : Nat => Value.int (iI (q : Int))) (fp_best2_t (by omega))]; exact lv_sub hl [2, 1, 0] rfl) hS (by omega)
  refine W.widen (k := 2 * 0) (n := 8 * 0) (by omega) (by omega) ?_
  exact L4 0 (by omega) s.heap locs ls (by rw [show Value.int (iI ((fp_best2 (fp_hi S) (0 + 1) : Nat) : Int)) = Value.int (iI ((0 : Nat) : Int)) from congrArg (fun q : Nat => Value.int (iI (q : Int))) (fp_best2_1), show Value.int (iI ((0 + 1 : Nat) : Int)) = Value.int (iI ((1 : Nat) : Int)) from rfl]; exact lv_sub hl [2, 1, 0] rfl) hS (Nat.le_refl _)
set_option maxHeartbeats 4000000 in
theorem c_X1_countLit (G : fp_G) (x : Nat) (u : Nat) (sv : Value) (hi : Nat) (ip : Nat) (ln : Nat) (ex : Bool) (er : Int) (fa : Int) (l : Nat) (ed : Nat) (z : Nat) (t : Nat) (mc : Int32) (cap : Nat) (b : Nat → Nat) (S : PS) (hsw : fp_sw S b) : fp_M G yX1_countLit cX1_countLit 6 (some .int) 9 194 193 780 [.ref (x)] (fun H => fp_At G H x (eO 1 [.ref (u), sv, .ref (hi), .ref (ip), .ref (ln), .int (iI (bI (ex))), .int (iI (er)), .int (iI (fa))]) ∧ fp_SE G u l ed z t mc cap b S H) fp_no (fun H v H1 => v = some (.int (iI ((fp_nlit S : Nat) : Int)))) := by
  refine fp_M.intro (by decide) (Nat.le_of_ble_eq_true rfl) ?_
  intro pg en s mi ag bl mt cd rR qQ ls X hx hb hr hlk hnm hR hQ hB hM hl
  have hS : va_S (fA fp_no s.heap.size) s.heap s.heap [] := va_S.rf
  generalize ([] : List Loc) = locs at hS ⊢
  have hb0 := hB.1
  obtain ⟨h_pob, h_st⟩ := hM
  have hsz0 := hS.1
  have lt_1 := h_pob.lt
  have lt_2 := h_st.1.lt
  have hn24 := hsw.1.1
  refine lv_iconst (v := (iI ((0 : Nat) : Int))) hx hb dX1_countLit_0 rfl ?_
  refine lv_istore_n (lv' := [(1, .int (iI ((0 : Nat) : Int))), (0, .ref (x))]) hx hb dX1_countLit_1 rfl hl (by decide) rfl (fun ls hl => ?_)
  refine lv_aload_n hx hb dX1_countLit_2 rfl (lv_at hl 1 rfl) ?_
  refine r_get X h_pob rfl in_X1 0 (by decide) q242 (Or.inl rfl) (v := .ref (u)) rfl dX1_countLit_3 ?_
  refine r_callV (cells1 := 193) (slots1 := 780) X hR (c_X2_light G u l ed z t mc cap b S hsw) q439 q440 q441 q89 q442 ⟨rfl, pd_X2_light⟩ ⟨Nat.le_of_ble_eq_true rfl, Nat.le_of_ble_eq_true rfl⟩ rfl rfl (Nat.le_of_ble_eq_true rfl) (Nat.le_of_ble_eq_true rfl) h_st.1 rfl rfl (Nat.le_of_ble_eq_true rfl) hl.1 dX1_countLit_6 (hB.of hS fp_no.base) h_st hS (fun _ h => h.elim) (fun v H_6 locs hp_3 hz_4 hk_5 hS => ?_)
  obtain ⟨a_7, rfl, ha_8, hE_9⟩ := hp_3
  have hz_10 := hS.1
  have lt_12 := hE_9.lt
  refine r_stk (st2 := [.ref (a_7)]) rfl ?_
  refine lv_astore_n (lv' := [(2, .ref (a_7)), (1, .int (iI ((0 : Nat) : Int))), (0, .ref (x))]) hx hb dX1_countLit_9 rfl hl (by decide) rfl (fun ls hl => ?_)
  refine lv_aload_n hx hb dX1_countLit_10 rfl (lv_at hl 0 rfl) ?_
  refine r_alen X (t := 1) rfl hE_9 (v := (iI ((12 : Nat) : Int))) rfl dX1_countLit_11 ?_
  refine lv_istore_n (lv' := [(3, .int (iI ((12 : Nat) : Int))), (2, .ref (a_7)), (1, .int (iI ((0 : Nat) : Int))), (0, .ref (x))]) hx hb dX1_countLit_12 rfl hl (by decide) rfl (fun ls hl => ?_)
  refine lv_iconst (v := (iI ((0 : Nat) : Int))) hx hb dX1_countLit_13 rfl ?_
  refine lv_istore (lv' := [(4, .int (iI ((0 : Nat) : Int))), (3, .int (iI ((12 : Nat) : Int))), (2, .ref (a_7)), (1, .int (iI ((0 : Nat) : Int))), (0, .ref (x))]) hx hb dX1_countLit_14 hl (by decide) rfl (fun ls hl => ?_)
  have L16 : ∀ (k : Nat), k ≤ 12 → ∀ (locs : List Loc) (ls : Array Slot), lv_has ls 6 [(0, .ref (x)), (1, .int (iI ((fp_ct (fp_lit S) k : Nat) : Int))), (2, .ref (a_7)), (3, .int (iI ((12 : Nat) : Int))), (4, .int (iI ((k : Nat) : Int)))] → va_S (fA fp_no s.heap.size) s.heap H_6 locs → W pg (g_l G) en rR s mi ag bl mt cd H_6 locs 193 780 qQ (F0 mi 16 ls []) := by
    refine lp_up 12 ?_
    intro k hk16 ih16 locs ls hl hS
    have hcl := fp_ct_le (fp_lit S) k
    refine lv_iload hx hb dX1_countLit_16 (lv_at hl 4 rfl) ?_
    refine lv_iload_n hx hb dX1_countLit_18 rfl (lv_at hl 3 rfl) ?_
    refine r_icmp_ge (tgt := 47) hx hb ⟨by omega, by omega⟩ (by decide) dX1_countLit_19 (by decide) (fun c19 => ?_) (fun c19 => ?_)
    · skip
      obtain rfl : k = 12 := by omega
      refine lv_iload_n hx hb dX1_countLit_47 rfl (lv_at hl 1 rfl) ?_
      refine r_iret hx hb hr hlk hQ hS (Nat.le_of_ble_eq_true rfl) (Nat.le_of_ble_eq_true rfl) dX1_countLit_48 ?_
      exact (congrArg (fun q : Nat => some (Value.int (iI (q : Int)))) (rfl))
    · skip
      refine lv_aload_n hx hb dX1_countLit_22 rfl (lv_at hl 2 rfl) ?_
      refine lv_iload hx hb dX1_countLit_23 (lv_at hl 4 rfl) ?_
      refine r_zaldI X hE_9 (j := k) rfl (by omega) (by decide) dX1_countLit_25 ?_
      refine lv_istore (lv' := [(5, .int (iI (bI ((fp_lit S) k)))), (0, .ref (x)), (1, .int (iI ((fp_ct (fp_lit S) k : Nat) : Int))), (2, .ref (a_7)), (3, .int (iI ((12 : Nat) : Int))), (4, .int (iI ((k : Nat) : Int)))]) hx hb dX1_countLit_26 hl (by decide) rfl (fun ls hl => ?_)
      refine lv_iload_n hx hb dX1_countLit_28 rfl (lv_at hl 2 rfl) ?_
      refine lv_iload hx hb dX1_countLit_29 (lv_at hl 0 rfl) ?_
      refine r_ifeqB (tgt := 38) hx hb dX1_countLit_31 (by decide) (fun c31 => ?_) (fun c31 => ?_)
      · skip
        refine lv_iconst (v := (iI ((0 : Nat) : Int))) hx hb dX1_countLit_38 rfl ?_
        refine r_iaddN hx hb dX1_countLit_39 ?_
        refine lv_istore_n (lv' := [(1, .int (iI (((fp_ct (fp_lit S) k) + 0 : Nat) : Int))), (5, .int (iI (bI ((fp_lit S) k)))), (0, .ref (x)), (2, .ref (a_7)), (3, .int (iI ((12 : Nat) : Int))), (4, .int (iI ((k : Nat) : Int)))]) hx hb dX1_countLit_40 rfl hl (by decide) rfl (fun ls hl => ?_)
        refine lv_iinc (v := (iI ((k + 1 : Nat) : Int))) (lv' := [(4, .int (iI ((k + 1 : Nat) : Int))), (1, .int (iI (((fp_ct (fp_lit S) k) + 0 : Nat) : Int))), (5, .int (iI (bI ((fp_lit S) k)))), (0, .ref (x)), (2, .ref (a_7)), (3, .int (iI ((12 : Nat) : Int)))]) hx hb dX1_countLit_41 hl (k := 5) rfl (iI_incN _ _) (by decide) rfl (fun ls hl => ?_)
        refine lv_goto (tgt := 16) hx hb dX1_countLit_44 (by decide) ?_
        exact ih16 (by omega) locs ls (by rw [show Value.int (iI ((fp_ct (fp_lit S) (k + 1) : Nat) : Int)) = Value.int (iI (((fp_ct (fp_lit S) k) + 0 : Nat) : Int)) from congrArg (fun q : Nat => Value.int (iI (q : Int))) (by show fp_ct (fp_lit S) k + (if fp_lit S k then 1 else 0) = _; rw [c31]; rfl)]; exact lv_sub hl [3, 1, 4, 5, 0] rfl) hS
      · skip
        refine lv_iconst (v := (iI ((1 : Nat) : Int))) hx hb dX1_countLit_34 rfl ?_
        refine lv_goto (tgt := 39) hx hb dX1_countLit_35 (by decide) ?_
        refine r_iaddN hx hb dX1_countLit_39 ?_
        refine lv_istore_n (lv' := [(1, .int (iI (((fp_ct (fp_lit S) k) + 1 : Nat) : Int))), (5, .int (iI (bI ((fp_lit S) k)))), (0, .ref (x)), (2, .ref (a_7)), (3, .int (iI ((12 : Nat) : Int))), (4, .int (iI ((k : Nat) : Int)))]) hx hb dX1_countLit_40 rfl hl (by decide) rfl (fun ls hl => ?_)
        refine lv_iinc (v := (iI ((k + 1 : Nat) : Int))) (lv' := [(4, .int (iI ((k + 1 : Nat) : Int))), (1, .int (iI (((fp_ct (fp_lit S) k) + 1 : Nat) : Int))), (5, .int (iI (bI ((fp_lit S) k)))), (0, .ref (x)), (2, .ref (a_7)), (3, .int (iI ((12 : Nat) : Int)))]) hx hb dX1_countLit_41 hl (k := 5) rfl (iI_incN _ _) (by decide) rfl (fun ls hl => ?_)
        refine lv_goto (tgt := 16) hx hb dX1_countLit_44 (by decide) ?_
        exact ih16 (by omega) locs ls (by rw [show Value.int (iI ((fp_ct (fp_lit S) (k + 1) : Nat) : Int)) = Value.int (iI (((fp_ct (fp_lit S) k) + 1 : Nat) : Int)) from congrArg (fun q : Nat => Value.int (iI (q : Int))) (by show fp_ct (fp_lit S) k + (if fp_lit S k then 1 else 0) = _; rw [c31]; rfl)]; exact lv_sub hl [3, 1, 4, 5, 0] rfl) hS
  exact L16 0 (by omega) locs ls (by rw [show Value.int (iI ((fp_ct (fp_lit S) 0 : Nat) : Int)) = Value.int (iI ((0 : Nat) : Int)) from rfl]; exact lv_sub hl [4, 3, 2, 1, 0] rfl) hS
set_option maxHeartbeats 4000000 in
theorem c_X1_litCount (G : fp_G) (x : Nat) (u : Nat) (sv : Value) (hi : Nat) (ip : Nat) (ln : Nat) (ex : Bool) (er : Int) (fa : Int) (l : Nat) (ed : Nat) (z : Nat) (t : Nat) (mc : Int32) (cap : Nat) (b : Nat → Nat) (S : PS) (hsw : fp_sw S b) : fp_M G yX1_litCount cX1_litCount 1 (some .int) 10 219 193 780 [.ref (x)] (fun H => fp_At G H x (eO 1 [.ref (u), sv, .ref (hi), .ref (ip), .ref (ln), .int (iI (bI (ex))), .int (iI (er)), .int (iI (fa))]) ∧ fp_SE G u l ed z t mc cap b S H) fp_no (fun H v H1 => v = some (.int (iI ((fp_nlit S : Nat) : Int)))) := by
  refine fp_M.intro (by decide) (Nat.le_of_ble_eq_true rfl) ?_
  intro pg en s mi ag bl mt cd rR qQ ls X hx hb hr hlk hnm hR hQ hB hM hl
  have hS : va_S (fA fp_no s.heap.size) s.heap s.heap [] := va_S.rf
  generalize ([] : List Loc) = locs at hS ⊢
  have hb0 := hB.1
  obtain ⟨h_pob, h_st⟩ := hM
  have hsz0 := hS.1
  have lt_1 := h_pob.lt
  have lt_2 := h_st.1.lt
  refine lv_aload_n hx hb dX1_litCount_0 rfl (lv_at hl 0 rfl) ?_
  refine r_callV (cells1 := 193) (slots1 := 780) X hR (c_X1_countLit G x u sv hi ip ln ex (er) (fa) l ed z t mc cap b S hsw) q435 q437 qs1 q88 q438 ⟨rfl, pd_X1_countLit⟩ ⟨Nat.le_of_ble_eq_true rfl, Nat.le_of_ble_eq_true rfl⟩ rfl rfl (Nat.le_of_ble_eq_true rfl) (Nat.le_of_ble_eq_true rfl) h_pob rfl rfl (Nat.le_of_ble_eq_true rfl) hl.1 dX1_litCount_1 (hB.of hS fp_no.base) ⟨h_pob, h_st⟩ hS (fun _ h => h.elim) (fun v H_6 locs hp_3 hz_4 hk_5 hS => ?_)
  obtain rfl := hp_3
  have hz_7 := hS.1
  refine r_stk (st2 := [.int (iI ((fp_nlit S : Nat) : Int))]) rfl ?_
  refine r_iret hx hb hr hlk hQ hS (Nat.le_of_ble_eq_true rfl) (Nat.le_of_ble_eq_true rfl) dX1_litCount_4 ?_
  exact rfl
set_option maxHeartbeats 4000000 in
theorem c_X1_meanHeight (G : fp_G) (x : Nat) (u : Nat) (sv : Value) (hi : Nat) (ip : Nat) (ln : Nat) (ex : Bool) (er : Int) (fa : Int) (l : Nat) (ed : Nat) (z : Nat) (t : Nat) (mc : Int32) (cap : Nat) (b : Nat → Nat) (S : PS) (hsw : fp_sw S b) : fp_M G yX1_meanHeight cX1_meanHeight 3 (some .double) 6 125 12 48 [.ref (x)] (fun H => fp_At G H x (eO 1 [.ref (u), sv, .ref (hi), .ref (ip), .ref (ln), .int (iI (bI (ex))), .int (iI (er)), .int (iI (fa))]) ∧ fp_SE G u l ed z t mc cap b S H) fp_no (fun H v H1 => v = some (.double (fp_div12d (fp_sumh S)))) := by
  refine fp_M.intro (by decide) (Nat.le_of_ble_eq_true rfl) ?_
  intro pg en s mi ag bl mt cd rR qQ ls X hx hb hr hlk hnm hR hQ hB hM hl
  have hS : va_S (fA fp_no s.heap.size) s.heap s.heap [] := va_S.rf
  generalize ([] : List Loc) = locs at hS ⊢
  have hb0 := hB.1
  obtain ⟨h_pob, h_st⟩ := hM
  have hsz0 := hS.1
  have lt_1 := h_pob.lt
  have lt_2 := h_st.1.lt
  have hn24 := hsw.1.1
  refine lv_iconst (v := (iI ((0 : Nat) : Int))) hx hb dX1_meanHeight_0 rfl ?_
  refine lv_istore_n (lv' := [(1, .int (iI ((0 : Nat) : Int))), (0, .ref (x))]) hx hb dX1_meanHeight_1 rfl hl (by decide) rfl (fun ls hl => ?_)
  refine lv_iconst (v := (iI ((0 : Nat) : Int))) hx hb dX1_meanHeight_2 rfl ?_
  refine lv_istore_n (lv' := [(2, .int (iI ((0 : Nat) : Int))), (1, .int (iI ((0 : Nat) : Int))), (0, .ref (x))]) hx hb dX1_meanHeight_3 rfl hl (by decide) rfl (fun ls hl => ?_)
  have L4 : ∀ (k : Nat), k ≤ 12 → ∀ (H_3 : Heap) (locs : List Loc) (ls : Array Slot), lv_has ls 3 [(0, .ref (x)), (1, .int (iI ((fp_sm (fp_hi S) k : Nat) : Int))), (2, .int (iI ((k : Nat) : Int)))] → va_S (fA fp_no s.heap.size) s.heap H_3 locs → (s.heap.size ≤ H_3.size) → W pg (g_l G) en rR s mi ag bl mt cd H_3 locs (1 * k) (4 * k) qQ (F0 mi 4 ls []) := by
    refine lp_up 12 ?_
    intro k hk4 ih4 H_3 locs ls hl hS hz_4
    have hz_5 := hS.1
    have hh1 := fp_hi_le hsw.1 k
    have hsl : fp_sm (fp_hi S) k ≤ k * 42 := fp_sm_le (fun j hj => fp_hi_le hsw.1 j)
    refine lv_iload_n hx hb dX1_meanHeight_4 rfl (lv_at hl 2 rfl) ?_
    refine lv_bipush (v := (iI ((12 : Nat) : Int))) hx hb dX1_meanHeight_5 rfl ?_
    refine r_icmp_ge (tgt := 27) hx hb ⟨by omega, by omega⟩ (by decide) dX1_meanHeight_7 (by decide) (fun c7 => ?_) (fun c7 => ?_)
    · skip
      obtain rfl : k = 12 := by omega
      refine lv_iload_n hx hb dX1_meanHeight_27 rfl (lv_at hl 1 rfl) ?_
      refine lv_i2d hx hb dX1_meanHeight_28 ?_
      refine lv_ldc2d hx hb X.2.2.2.1 (X.2.2.2.2.1 _ q923) dX1_meanHeight_29 ?_
      refine lv_ddiv hx hb dX1_meanHeight_32 (fp_div12d_n (n := fp_sm (fp_hi S) 12) (by omega)) ?_
      refine r_dret hx hb hr hlk hQ hS (by omega) (by omega) dX1_meanHeight_33 ?_
      exact rfl
    · skip
      refine lv_iload_n hx hb dX1_meanHeight_10 rfl (lv_at hl 1 rfl) ?_
      refine lv_aload_n hx hb dX1_meanHeight_11 rfl (lv_at hl 0 rfl) ?_
      have hE_6 := fp_At.kept h_pob (fp_keptS (by omega) hS (fun z => z))
      refine r_get X hE_6 rfl in_X1 0 (by decide) q242 (Or.inl rfl) (v := .ref (u)) rfl dX1_meanHeight_12 ?_
      refine lv_iload_n hx hb dX1_meanHeight_15 rfl (lv_at hl 2 rfl) ?_
      have hE_7 := h_st.ext (fp_X.ofS hS)
      refine r_callV (cells1 := (1 * k + 1)) (slots1 := (4 * k + 4)) X hR (c_X2_height G u l ed z t mc cap b S k hsw (by omega)) q271 q272 q273 q89 q274 ⟨rfl, pd_X2_height⟩ ⟨Nat.le_of_ble_eq_true rfl, Nat.le_of_ble_eq_true rfl⟩ rfl rfl (by omega) (by omega) hE_7.1 rfl rfl (Nat.le_of_ble_eq_true rfl) hl.1 dX1_meanHeight_16 (hB.of hS fp_no.base) hE_7 hS (fun _ h => h.elim) (fun v H_11 locs hp_8 hz_9 hk_10 hS => ?_)
      obtain rfl := hp_8
      have hz_12 := hS.1
      refine r_stk (st2 := [.int (iI ((fp_hi S k : Nat) : Int)), .int (iI ((fp_sm (fp_hi S) k : Nat) : Int))]) rfl ?_
      refine r_iaddN hx hb dX1_meanHeight_19 ?_
      refine lv_istore_n (lv' := [(1, .int (iI (((fp_sm (fp_hi S) k) + (fp_hi S k) : Nat) : Int))), (0, .ref (x)), (2, .int (iI ((k : Nat) : Int)))]) hx hb dX1_meanHeight_20 rfl hl (by decide) rfl (fun ls hl => ?_)
      refine lv_iinc (v := (iI ((k + 1 : Nat) : Int))) (lv' := [(2, .int (iI ((k + 1 : Nat) : Int))), (1, .int (iI (((fp_sm (fp_hi S) k) + (fp_hi S k) : Nat) : Int))), (0, .ref (x))]) hx hb dX1_meanHeight_21 hl (k := 2) rfl (iI_incN _ _) (by decide) rfl (fun ls hl => ?_)
      refine lv_goto (tgt := 4) hx hb dX1_meanHeight_24 (by decide) ?_
      refine W.widen (k := 1 * (k + 1)) (n := 4 * (k + 1)) (by omega) (by omega) ?_
      exact ih4 (by omega) H_11 locs ls (by rw [show Value.int (iI ((fp_sm (fp_hi S) (k + 1) : Nat) : Int)) = Value.int (iI (((fp_sm (fp_hi S) k) + (fp_hi S k) : Nat) : Int)) from rfl]; exact lv_sub hl [2, 1, 0] rfl) hS (by omega)
  refine W.widen (k := 1 * 0) (n := 4 * 0) (by omega) (by omega) ?_
  exact L4 0 (by omega) s.heap locs ls (by rw [show Value.int (iI ((fp_sm (fp_hi S) 0 : Nat) : Int)) = Value.int (iI ((0 : Nat) : Int)) from rfl]; exact lv_sub hl [2, 1, 0] rfl) hS (Nat.le_refl _)
set_option maxHeartbeats 4000000 in
theorem c_X1_litShare (G : fp_G) (x : Nat) (u : Nat) (sv : Value) (hi : Nat) (ip : Nat) (ln : Nat) (ex : Bool) (er : Int) (fa : Int) (l : Nat) (ed : Nat) (z : Nat) (t : Nat) (mc : Int32) (cap : Nat) (b : Nat → Nat) (S : PS) (hsw : fp_sw S b) : fp_M G yX1_litShare cX1_litShare 1 (some .float) 10 219 193 780 [.ref (x)] (fun H => fp_At G H x (eO 1 [.ref (u), sv, .ref (hi), .ref (ip), .ref (ln), .int (iI (bI (ex))), .int (iI (er)), .int (iI (fa))]) ∧ fp_SE G u l ed z t mc cap b S H) fp_no (fun H v H1 => v = some (.float (fp_div12f (fp_nlit S)))) := by
  refine fp_M.intro (by decide) (Nat.le_of_ble_eq_true rfl) ?_
  intro pg en s mi ag bl mt cd rR qQ ls X hx hb hr hlk hnm hR hQ hB hM hl
  have hS : va_S (fA fp_no s.heap.size) s.heap s.heap [] := va_S.rf
  generalize ([] : List Loc) = locs at hS ⊢
  have hb0 := hB.1
  obtain ⟨h_pob, h_st⟩ := hM
  have hsz0 := hS.1
  have lt_1 := h_pob.lt
  have lt_2 := h_st.1.lt
  refine lv_aload_n hx hb dX1_litShare_0 rfl (lv_at hl 0 rfl) ?_
  refine r_callV (cells1 := 193) (slots1 := 780) X hR (c_X1_countLit G x u sv hi ip ln ex (er) (fa) l ed z t mc cap b S hsw) q435 q437 qs1 q88 q438 ⟨rfl, pd_X1_countLit⟩ ⟨Nat.le_of_ble_eq_true rfl, Nat.le_of_ble_eq_true rfl⟩ rfl rfl (Nat.le_of_ble_eq_true rfl) (Nat.le_of_ble_eq_true rfl) h_pob rfl rfl (Nat.le_of_ble_eq_true rfl) hl.1 dX1_litShare_1 (hB.of hS fp_no.base) ⟨h_pob, h_st⟩ hS (fun _ h => h.elim) (fun v H_6 locs hp_3 hz_4 hk_5 hS => ?_)
  obtain rfl := hp_3
  have hz_7 := hS.1
  refine r_stk (st2 := [.int (iI ((fp_nlit S : Nat) : Int))]) rfl ?_
  refine lv_i2f hx hb dX1_litShare_4 ?_
  have hcl : fp_nlit S ≤ 12 := fp_ct_le (fp_lit S) 12
  refine lv_ldcwf hx hb X.2.2.2.1 (X.2.2.2.2.1 _ q928) dX1_litShare_5 ?_
  refine lv_fdiv hx hb dX1_litShare_8 (fp_div12f_n (n := fp_nlit S) (by omega)) ?_
  refine r_fret hx hb hr hlk hQ hS (Nat.le_of_ble_eq_true rfl) (Nat.le_of_ble_eq_true rfl) dX1_litShare_9 ?_
  exact rfl
set_option maxHeartbeats 4000000 in
theorem c_X1_block (G : fp_G) (x : Nat) (u : Nat) (sv : Value) (hi : Nat) (ip : Nat) (ln : Nat) (ex : Bool) (er : Int) (fa : Int) (l : Nat) (ed : Nat) (z : Nat) (t : Nat) (mc : Int32) (cap : Nat) (b : Nat → Nat) (S : PS) (zn : Int) (hsw : fp_sw S b) (hz : rg zn) : fp_MX G yX1_block cX1_block 3 (some (.object "FortPlanner$Block")) 7 101 2 10 [.ref (x), .int (iI (zn))] (fun H => fp_At G H x (eO 1 [.ref (u), sv, .ref (hi), .ref (ip), .ref (ln), .int (iI (bI (ex))), .int (iI (er)), .int (iI (fa))]) ∧ fp_SE G u l ed z t mc cap b S H) fp_no (fun H v H1 => v = some (.ref (b (fp_fnd S zn))) ∧ (fp_fnd S zn < sN S)) (fun H E H1 => (E = "java/util/NoSuchElementException" ∧ fp_X H H1 ∧ fp_fc S zn = 1)) := by
  refine fp_MX.intro (by decide) (Nat.le_of_ble_eq_true rfl) ?_
  intro pg en s mi ag bl mt cd rR qQ ls X hx hb hr hlk hnm hR hQ hT hB hM hl
  have hS : va_S (fA fp_no s.heap.size) s.heap s.heap [] := va_S.rf
  generalize ([] : List Loc) = locs at hS ⊢
  have hb0 := hB.1
  obtain ⟨h_pob, h_st⟩ := hM
  have hsz0 := hS.1
  have lt_1 := h_pob.lt
  have lt_2 := h_st.1.lt
  refine lv_aload_n hx hb dX1_block_0 rfl (lv_at hl 0 rfl) ?_
  refine r_get X h_pob rfl in_X1 0 (by decide) q242 (Or.inl rfl) (v := .ref (u)) rfl dX1_block_1 ?_
  refine lv_iload_n hx hb dX1_block_4 rfl (lv_at hl 1 rfl) ?_
  refine r_callV (cells1 := 1) (slots1 := 4) X hR (c_X2_find G u l ed z t mc cap b S (zn) hsw (⟨by omega, by omega⟩)) q472 q473 q474 q89 q475 ⟨rfl, pd_X2_find⟩ ⟨Nat.le_of_ble_eq_true rfl, Nat.le_of_ble_eq_true rfl⟩ rfl rfl (Nat.le_of_ble_eq_true rfl) (Nat.le_of_ble_eq_true rfl) h_st.1 rfl rfl (Nat.le_of_ble_eq_true rfl) hl.1 dX1_block_5 (hB.of hS fp_no.base) h_st hS (fun _ h => h.elim) (fun v H_6 locs hp_3 hz_4 hk_5 hS => ?_)
  obtain rfl := hp_3
  have hz_7 := hS.1
  refine r_stk (st2 := [va_rf (fp_fq S b (zn))]) rfl ?_
  rcases fp_fq_s (S := S) b zn with ⟨hfq, hfn⟩ | ⟨hfq, hfn⟩
  · skip
    refine r_set (y := .ref (b (fp_fnd S zn))) (by rw [hfq]; rfl) ?_
    refine lv_astore_n (lv' := [(2, .ref (b (fp_fnd S zn))), (0, .ref (x)), (1, .int (iI (zn)))]) hx hb dX1_block_8 rfl hl (by decide) rfl (fun ls hl => ?_)
    refine lv_aload_n hx hb dX1_block_9 rfl (lv_at hl 0 rfl) ?_
    refine lv_ifnull hx hb dX1_block_10 ?_
    refine lv_iconst (v := (iI ((1 : Nat) : Int))) hx hb dX1_block_13 rfl ?_
    refine lv_goto (tgt := 18) hx hb dX1_block_14 (by decide) ?_
    refine x_callS (cells1 := 2) (slots1 := 10) X hR (c_X1_checkElement G true) q1324 q1325 q88 q1326 pd_X1_checkElement ⟨Nat.le_of_ble_eq_true rfl, Nat.le_of_ble_eq_true rfl⟩ rfl rfl (Nat.le_of_ble_eq_true rfl) (Nat.le_of_ble_eq_true rfl) rfl (Nat.le_of_ble_eq_true rfl) hl.1 dX1_block_18 (hB.of hS fp_no.base) trivial hS (fun _ h => h.elim) (fun v H_11 locs hp_8 hz_9 hk_10 hS => ?_) (fun Ex qx cx H_11 locs hp_8 hz_9 hk_10 hS hcx hvx hlx => ?_)
    · skip
      obtain ⟨rfl, rfl, hbt_12⟩ := hp_8
      refine r_stk (st2 := []) rfl ?_
      refine lv_aload_n hx hb dX1_block_21 rfl (lv_at hl 0 rfl) ?_
      refine x_aret hx hb hr hlk hQ hS (Nat.le_of_ble_eq_true rfl) (Nat.le_of_ble_eq_true rfl) dX1_block_22 (Or.inl ⟨_, rfl⟩) (Or.inr ⟨_, rfl⟩) ?_
      exact ⟨rfl, hfn⟩
    · skip
      obtain ⟨rfl, hX9, hb9⟩ := hp_8
      cases hb9
  · skip
    refine r_set (y := .null) (by rw [hfq]; rfl) ?_
    refine lv_astore_nN (lv' := [(2, .null), (0, .ref (x)), (1, .int (iI (zn)))]) hx hb dX1_block_8 rfl hl (by decide) rfl (fun ls hl => ?_)
    refine lv_aload_nN hx hb dX1_block_9 rfl (lv_at hl 0 rfl) ?_
    refine lv_ifnullN hx hb dX1_block_10 (tgt := 17) (by decide) ?_
    refine lv_iconst (v := (iI ((0 : Nat) : Int))) hx hb dX1_block_17 rfl ?_
    refine x_callS (cells1 := 2) (slots1 := 10) X hR (c_X1_checkElement G false) q1324 q1325 q88 q1326 pd_X1_checkElement ⟨Nat.le_of_ble_eq_true rfl, Nat.le_of_ble_eq_true rfl⟩ rfl rfl (Nat.le_of_ble_eq_true rfl) (Nat.le_of_ble_eq_true rfl) rfl (Nat.le_of_ble_eq_true rfl) hl.1 dX1_block_18 (hB.of hS fp_no.base) trivial hS (fun _ h => h.elim) (fun v H_16 locs hp_13 hz_14 hk_15 hS => ?_) (fun Ex qx cx H_16 locs hp_13 hz_14 hk_15 hS hcx hvx hlx => ?_)
    · skip
      obtain ⟨rfl, rfl, hbt_17⟩ := hp_13
      refine r_stk (st2 := []) rfl ?_
      cases hbt_17
    · skip
      obtain ⟨rfl, hX9, hb9⟩ := hp_13
      exact x_out hT hlk hQ hS (Nat.le_of_ble_eq_true rfl) (Nat.le_of_ble_eq_true rfl) hcx hvx hlx ⟨rfl, fp_X.ofS hS, fp_fc_1 hfn⟩
set_option maxHeartbeats 4000000 in
theorem c_X1_isPresent (G : fp_G) (x : Nat) (u : Nat) (sv : Value) (hi : Nat) (ip : Nat) (ln : Nat) (ex : Bool) (er : Int) (fa : Int) (l : Nat) (ed : Nat) (z : Nat) (t : Nat) (mc : Int32) (cap : Nat) (b : Nat → Nat) (S : PS) (zn : Int) (hsw : fp_sw S b) (hz : rg zn) : fp_M G yX1_isPresent cX1_isPresent 2 (some .boolean) 5 94 1 4 [.ref (x), .int (iI (zn))] (fun H => fp_At G H x (eO 1 [.ref (u), sv, .ref (hi), .ref (ip), .ref (ln), .int (iI (bI (ex))), .int (iI (er)), .int (iI (fa))]) ∧ fp_SE G u l ed z t mc cap b S H) fp_no (fun H v H1 => v = some (.int (iI (bI (decide (fp_fnd S zn < sN S)))))) := by
  refine fp_M.intro (by decide) (Nat.le_of_ble_eq_true rfl) ?_
  intro pg en s mi ag bl mt cd rR qQ ls X hx hb hr hlk hnm hR hQ hB hM hl
  have hS : va_S (fA fp_no s.heap.size) s.heap s.heap [] := va_S.rf
  generalize ([] : List Loc) = locs at hS ⊢
  have hb0 := hB.1
  obtain ⟨h_pob, h_st⟩ := hM
  have hsz0 := hS.1
  have lt_1 := h_pob.lt
  have lt_2 := h_st.1.lt
  refine lv_aload_n hx hb dX1_isPresent_0 rfl (lv_at hl 0 rfl) ?_
  refine r_get X h_pob rfl in_X1 0 (by decide) q242 (Or.inl rfl) (v := .ref (u)) rfl dX1_isPresent_1 ?_
  refine lv_iload_n hx hb dX1_isPresent_4 rfl (lv_at hl 1 rfl) ?_
  refine r_callV (cells1 := 1) (slots1 := 4) X hR (c_X2_find G u l ed z t mc cap b S (zn) hsw (⟨by omega, by omega⟩)) q472 q473 q474 q89 q475 ⟨rfl, pd_X2_find⟩ ⟨Nat.le_of_ble_eq_true rfl, Nat.le_of_ble_eq_true rfl⟩ rfl rfl (Nat.le_of_ble_eq_true rfl) (Nat.le_of_ble_eq_true rfl) h_st.1 rfl rfl (Nat.le_of_ble_eq_true rfl) hl.1 dX1_isPresent_5 (hB.of hS fp_no.base) h_st hS (fun _ h => h.elim) (fun v H_6 locs hp_3 hz_4 hk_5 hS => ?_)
  obtain rfl := hp_3
  have hz_7 := hS.1
  refine r_stk (st2 := [va_rf (fp_fq S b (zn))]) rfl ?_
  rcases fp_fq_s (S := S) b zn with ⟨hfq, hfn⟩ | ⟨hfq, hfn⟩
  · skip
    refine r_set (y := .ref (b (fp_fnd S zn))) (by rw [hfq]; rfl) ?_
    refine lv_ifnull hx hb dX1_isPresent_8 ?_
    refine lv_iconst (v := (iI ((1 : Nat) : Int))) hx hb dX1_isPresent_11 rfl ?_
    refine lv_goto (tgt := 16) hx hb dX1_isPresent_12 (by decide) ?_
    refine r_zret hx hb hr hlk hQ hS (Nat.le_of_ble_eq_true rfl) (Nat.le_of_ble_eq_true rfl) dX1_isPresent_16 rfl ?_
    exact (congrArg (fun q : Bool => some (Value.int (iI (bI q)))) (Eq.symm (show decide (fp_fnd S zn < sN S) = true from decide_eq_true (by omega))))
  · skip
    refine r_set (y := .null) (by rw [hfq]; rfl) ?_
    refine lv_ifnullN hx hb dX1_isPresent_8 (tgt := 15) (by decide) ?_
    refine lv_iconst (v := (iI ((0 : Nat) : Int))) hx hb dX1_isPresent_15 rfl ?_
    refine r_zret hx hb hr hlk hQ hS (Nat.le_of_ble_eq_true rfl) (Nat.le_of_ble_eq_true rfl) dX1_isPresent_16 rfl ?_
    exact (congrArg (fun q : Bool => some (Value.int (iI (bI q)))) (Eq.symm (show decide (fp_fnd S zn < sN S) = false from decide_eq_false (by omega))))
set_option maxHeartbeats 4000000 in
theorem c_X1_blockCount (G : fp_G) (x : Nat) (u : Nat) (sv : Value) (hi : Nat) (ip : Nat) (ln : Nat) (ex : Bool) (er : Int) (fa : Int) (l : Nat) (ed : Nat) (z : Nat) (t : Nat) (mc : Int32) (cap : Nat) (b : Nat → Nat) (S : PS) (hsw : fp_sw S b) : fp_M G yX1_blockCount cX1_blockCount 1 (some .int) 2 32 0 0 [.ref (x)] (fun H => fp_At G H x (eO 1 [.ref (u), sv, .ref (hi), .ref (ip), .ref (ln), .int (iI (bI (ex))), .int (iI (er)), .int (iI (fa))]) ∧ fp_SE G u l ed z t mc cap b S H) fp_no (fun H v H1 => v = some (.int (iI ((sN S : Nat) : Int))) ∧ H = H1) := by
  refine fp_M.intro (by decide) (Nat.le_of_ble_eq_true rfl) ?_
  intro pg en s mi ag bl mt cd rR qQ ls X hx hb hr hlk hnm hR hQ hB hM hl
  have hS : va_S (fA fp_no s.heap.size) s.heap s.heap [] := va_S.rf
  generalize ([] : List Loc) = locs at hS ⊢
  have hb0 := hB.1
  obtain ⟨h_pob, h_st⟩ := hM
  have hsz0 := hS.1
  have lt_1 := h_pob.lt
  have lt_2 := h_st.1.lt
  have hn24 := hsw.1.1
  obtain ⟨h_o, h_l, h_z, h_t, h_bl, h_xb, h_zb, h_tb⟩ := id h_st
  have lt_3 := h_l.1.lt
  have lt_4 := h_l.2.2
  have lt_5 := h_z.lt
  have lt_6 := h_t.lt
  refine lv_aload_n hx hb dX1_blockCount_0 rfl (lv_at hl 0 rfl) ?_
  refine r_get X h_pob rfl in_X1 0 (by decide) q242 (Or.inl rfl) (v := .ref (u)) rfl dX1_blockCount_1 ?_
  refine r_getN X h_st.1 rfl in_X2 0 (by decide) q174 (Or.inl rfl) (v := .ref (l)) rfl dX1_blockCount_4 ?_
  refine r_callV (cells1 := 0) (slots1 := 0) X hR (c_J2_size G l ed mc (sN S) cap b) q460 q461 q462 q92 q463 ⟨rfl, pd_J2_size⟩ ⟨Nat.le_of_ble_eq_true rfl, Nat.le_of_ble_eq_true rfl⟩ rfl rfl (Nat.le_of_ble_eq_true rfl) (Nat.le_of_ble_eq_true rfl) h_l.1 rfl rfl (Nat.le_of_ble_eq_true rfl) hl.1 dX1_blockCount_7 (hB.of hS fp_no.base) h_l hS (fun _ h => h.elim) (fun v H_10 locs hp_7 hz_8 hk_9 hS => ?_)
  obtain ⟨rfl, rfl⟩ := hp_7
  refine r_stk (st2 := [.int (iI (((sN S) : Nat) : Int))]) rfl ?_
  refine r_iret hx hb hr hlk hQ hS (Nat.le_of_ble_eq_true rfl) (Nat.le_of_ble_eq_true rfl) dX1_blockCount_10 ?_
  exact ⟨rfl, rfl⟩
set_option maxHeartbeats 4000000 in
theorem c_X1_placedCount (G : fp_G) (x : Nat) (u : Nat) (sv : Value) (hi : Nat) (ip : Nat) (ln : Nat) (ex : Bool) (er : Int) (fa : Int) (l : Nat) (ed : Nat) (z : Nat) (t : Nat) (mc : Int32) (cap : Nat) (b : Nat → Nat) (S : PS) (hsw : fp_sw S b) : fp_M G yX1_placedCount cX1_placedCount 1 (some .int) 1 12 0 0 [.ref (x)] (fun H => fp_At G H x (eO 1 [.ref (u), sv, .ref (hi), .ref (ip), .ref (ln), .int (iI (bI (ex))), .int (iI (er)), .int (iI (fa))]) ∧ fp_SE G u l ed z t mc cap b S H) fp_no (fun H v H1 => v = some (.int (iI ((sP S : Nat) : Int))) ∧ H = H1) := by
  refine fp_M.intro (by decide) (Nat.le_of_ble_eq_true rfl) ?_
  intro pg en s mi ag bl mt cd rR qQ ls X hx hb hr hlk hnm hR hQ hB hM hl
  have hS : va_S (fA fp_no s.heap.size) s.heap s.heap [] := va_S.rf
  generalize ([] : List Loc) = locs at hS ⊢
  have hb0 := hB.1
  obtain ⟨h_pob, h_st⟩ := hM
  have hsz0 := hS.1
  have lt_1 := h_pob.lt
  have lt_2 := h_st.1.lt
  have hn24 := hsw.1.1
  obtain ⟨h_o, h_l, h_z, h_t, h_bl, h_xb, h_zb, h_tb⟩ := id h_st
  have lt_3 := h_l.1.lt
  have lt_4 := h_l.2.2
  have lt_5 := h_z.lt
  have lt_6 := h_t.lt
  refine lv_aload_n hx hb dX1_placedCount_0 rfl (lv_at hl 0 rfl) ?_
  refine r_get X h_pob rfl in_X1 0 (by decide) q242 (Or.inl rfl) (v := .ref (u)) rfl dX1_placedCount_1 ?_
  refine r_getN X h_st.1 rfl in_X2 3 (by decide) q180 (Or.inl rfl) (v := .int (iI ((sP S : Nat) : Int))) rfl dX1_placedCount_4 ?_
  refine r_iret hx hb hr hlk hQ hS (Nat.le_of_ble_eq_true rfl) (Nat.le_of_ble_eq_true rfl) dX1_placedCount_7 ?_
  exact ⟨rfl, rfl⟩
set_option maxHeartbeats 4000000 in
theorem c_X1_left (G : fp_G) (x : Nat) (u : Nat) (sv : Value) (hi : Nat) (ip : Nat) (ln : Nat) (ex : Bool) (er : Int) (fa : Int) (l : Nat) (ed : Nat) (z : Nat) (t : Nat) (mc : Int32) (cap : Nat) (b : Nat → Nat) (S : PS) (zn : Int) (hsw : fp_sw S b) (hz : rg zn) : fp_MX G yX1_left cX1_left 2 (some .int) 8 123 2 10 [.ref (x), .int (iI (zn))] (fun H => fp_At G H x (eO 1 [.ref (u), sv, .ref (hi), .ref (ip), .ref (ln), .int (iI (bI (ex))), .int (iI (er)), .int (iI (fa))]) ∧ fp_SE G u l ed z t mc cap b S H) fp_no (fun H v H1 => v = some (.int (iI ((sB S (fp_fnd S zn) 2 : Nat) : Int))) ∧ (fp_fc S zn = 0)) (fun H E H1 => (E = "java/util/NoSuchElementException" ∧ fp_X H H1 ∧ fp_fc S zn = 1)) := by
  refine fp_MX.intro (by decide) (Nat.le_of_ble_eq_true rfl) ?_
  intro pg en s mi ag bl mt cd rR qQ ls X hx hb hr hlk hnm hR hQ hT hB hM hl
  have hS : va_S (fA fp_no s.heap.size) s.heap s.heap [] := va_S.rf
  generalize ([] : List Loc) = locs at hS ⊢
  have hb0 := hB.1
  obtain ⟨h_pob, h_st⟩ := hM
  have hsz0 := hS.1
  have lt_1 := h_pob.lt
  have lt_2 := h_st.1.lt
  have hn24 := hsw.1.1
  obtain ⟨h_o, h_l, h_z, h_t, h_bl, h_xb, h_zb, h_tb⟩ := id h_st
  have lt_3 := h_l.1.lt
  have lt_4 := h_l.2.2
  have lt_5 := h_z.lt
  have lt_6 := h_t.lt
  refine lv_aload_n hx hb dX1_left_0 rfl (lv_at hl 0 rfl) ?_
  refine lv_iload_n hx hb dX1_left_1 rfl (lv_at hl 1 rfl) ?_
  refine x_callV (cells1 := 2) (slots1 := 10) X hR (c_X1_block G x u sv hi ip ln ex (er) (fa) l ed z t mc cap b S (zn) hsw (⟨by omega, by omega⟩)) q1320 q1322 qs26 q88 q1323 ⟨rfl, pd_X1_block⟩ ⟨Nat.le_of_ble_eq_true rfl, Nat.le_of_ble_eq_true rfl⟩ rfl rfl (Nat.le_of_ble_eq_true rfl) (Nat.le_of_ble_eq_true rfl) h_pob rfl rfl (Nat.le_of_ble_eq_true rfl) hl.1 dX1_left_2 (hB.of hS fp_no.base) ⟨h_pob, h_st⟩ hS (fun _ h => h.elim) (fun v H_10 locs hp_7 hz_8 hk_9 hS => ?_) (fun Ex qx cx H_10 locs hp_7 hz_8 hk_9 hS hcx hvx hlx => ?_)
  · skip
    obtain ⟨rfl, hfn_11⟩ := hp_7
    have hz_12 := hS.1
    refine r_stk (st2 := [.ref (b (fp_fnd S (zn)))]) rfl ?_
    have hfn := hfn_11
    have hbk0 := hsw.1.2.2.1 (fp_fnd S zn) hfn
    have hFC : fp_fc S zn = 0 := fp_fc_0 rfl hfn
    have hE_13 := h_bl.ext (fp_X.ofS hS)
    refine r_getBN 1 (by decide) 2 rfl X (hE_13 (fp_fnd S (zn)) (by omega)) (hsw.1.2.2.1 (fp_fnd S (zn)) (by omega)).2.1 q1158 dX1_left_5 ?_
    refine x_iret hx hb hr hlk hQ hS (Nat.le_of_ble_eq_true rfl) (Nat.le_of_ble_eq_true rfl) dX1_left_8 ?_
    exact ⟨rfl, hFC⟩
  · skip
    rcases hp_7 with ⟨rfl, hX9, hb9⟩
    exact x_out hT hlk hQ hS (Nat.le_of_ble_eq_true rfl) (Nat.le_of_ble_eq_true rfl) hcx hvx hlx (⟨rfl, fp_X.ofS hS, hb9⟩)
set_option maxHeartbeats 4000000 in
theorem c_X1_width (G : fp_G) (x : Nat) (u : Nat) (sv : Value) (hi : Nat) (ip : Nat) (ln : Nat) (ex : Bool) (er : Int) (fa : Int) (l : Nat) (ed : Nat) (z : Nat) (t : Nat) (mc : Int32) (cap : Nat) (b : Nat → Nat) (S : PS) (zn : Int) (hsw : fp_sw S b) (hz : rg zn) : fp_MX G yX1_width cX1_width 2 (some .int) 8 123 2 10 [.ref (x), .int (iI (zn))] (fun H => fp_At G H x (eO 1 [.ref (u), sv, .ref (hi), .ref (ip), .ref (ln), .int (iI (bI (ex))), .int (iI (er)), .int (iI (fa))]) ∧ fp_SE G u l ed z t mc cap b S H) fp_no (fun H v H1 => v = some (.int (iI ((sB S (fp_fnd S zn) 3 : Nat) : Int))) ∧ (fp_fc S zn = 0)) (fun H E H1 => (E = "java/util/NoSuchElementException" ∧ fp_X H H1 ∧ fp_fc S zn = 1)) := by
  refine fp_MX.intro (by decide) (Nat.le_of_ble_eq_true rfl) ?_
  intro pg en s mi ag bl mt cd rR qQ ls X hx hb hr hlk hnm hR hQ hT hB hM hl
  have hS : va_S (fA fp_no s.heap.size) s.heap s.heap [] := va_S.rf
  generalize ([] : List Loc) = locs at hS ⊢
  have hb0 := hB.1
  obtain ⟨h_pob, h_st⟩ := hM
  have hsz0 := hS.1
  have lt_1 := h_pob.lt
  have lt_2 := h_st.1.lt
  have hn24 := hsw.1.1
  obtain ⟨h_o, h_l, h_z, h_t, h_bl, h_xb, h_zb, h_tb⟩ := id h_st
  have lt_3 := h_l.1.lt
  have lt_4 := h_l.2.2
  have lt_5 := h_z.lt
  have lt_6 := h_t.lt
  refine lv_aload_n hx hb dX1_width_0 rfl (lv_at hl 0 rfl) ?_
  refine lv_iload_n hx hb dX1_width_1 rfl (lv_at hl 1 rfl) ?_
  refine x_callV (cells1 := 2) (slots1 := 10) X hR (c_X1_block G x u sv hi ip ln ex (er) (fa) l ed z t mc cap b S (zn) hsw (⟨by omega, by omega⟩)) q1320 q1322 qs26 q88 q1323 ⟨rfl, pd_X1_block⟩ ⟨Nat.le_of_ble_eq_true rfl, Nat.le_of_ble_eq_true rfl⟩ rfl rfl (Nat.le_of_ble_eq_true rfl) (Nat.le_of_ble_eq_true rfl) h_pob rfl rfl (Nat.le_of_ble_eq_true rfl) hl.1 dX1_width_2 (hB.of hS fp_no.base) ⟨h_pob, h_st⟩ hS (fun _ h => h.elim) (fun v H_10 locs hp_7 hz_8 hk_9 hS => ?_) (fun Ex qx cx H_10 locs hp_7 hz_8 hk_9 hS hcx hvx hlx => ?_)
  · skip
    obtain ⟨rfl, hfn_11⟩ := hp_7
    have hz_12 := hS.1
    refine r_stk (st2 := [.ref (b (fp_fnd S (zn)))]) rfl ?_
    have hfn := hfn_11
    have hbk0 := hsw.1.2.2.1 (fp_fnd S zn) hfn
    have hFC : fp_fc S zn = 0 := fp_fc_0 rfl hfn
    have hE_13 := h_bl.ext (fp_X.ofS hS)
    refine r_getBN 2 (by decide) 3 rfl X (hE_13 (fp_fnd S (zn)) (by omega)) (hsw.1.2.2.1 (fp_fnd S (zn)) (by omega)).2.1 q1160 dX1_width_5 ?_
    refine x_iret hx hb hr hlk hQ hS (Nat.le_of_ble_eq_true rfl) (Nat.le_of_ble_eq_true rfl) dX1_width_8 ?_
    exact ⟨rfl, hFC⟩
  · skip
    rcases hp_7 with ⟨rfl, hX9, hb9⟩
    exact x_out hT hlk hQ hS (Nat.le_of_ble_eq_true rfl) (Nat.le_of_ble_eq_true rfl) hcx hvx hlx (⟨rfl, fp_X.ofS hS, hb9⟩)
set_option maxHeartbeats 4000000 in
theorem c_X1_weight (G : fp_G) (x : Nat) (u : Nat) (sv : Value) (hi : Nat) (ip : Nat) (ln : Nat) (ex : Bool) (er : Int) (fa : Int) (l : Nat) (ed : Nat) (z : Nat) (t : Nat) (mc : Int32) (cap : Nat) (b : Nat → Nat) (S : PS) (zn : Int) (hsw : fp_sw S b) (hz : rg zn) : fp_MX G yX1_weight cX1_weight 2 (some .int) 8 123 2 10 [.ref (x), .int (iI (zn))] (fun H => fp_At G H x (eO 1 [.ref (u), sv, .ref (hi), .ref (ip), .ref (ln), .int (iI (bI (ex))), .int (iI (er)), .int (iI (fa))]) ∧ fp_SE G u l ed z t mc cap b S H) fp_no (fun H v H1 => v = some (.int (iI ((sB S (fp_fnd S zn) 4 : Nat) : Int))) ∧ (fp_fc S zn = 0)) (fun H E H1 => (E = "java/util/NoSuchElementException" ∧ fp_X H H1 ∧ fp_fc S zn = 1)) := by
  refine fp_MX.intro (by decide) (Nat.le_of_ble_eq_true rfl) ?_
  intro pg en s mi ag bl mt cd rR qQ ls X hx hb hr hlk hnm hR hQ hT hB hM hl
  have hS : va_S (fA fp_no s.heap.size) s.heap s.heap [] := va_S.rf
  generalize ([] : List Loc) = locs at hS ⊢
  have hb0 := hB.1
  obtain ⟨h_pob, h_st⟩ := hM
  have hsz0 := hS.1
  have lt_1 := h_pob.lt
  have lt_2 := h_st.1.lt
  have hn24 := hsw.1.1
  obtain ⟨h_o, h_l, h_z, h_t, h_bl, h_xb, h_zb, h_tb⟩ := id h_st
  have lt_3 := h_l.1.lt
  have lt_4 := h_l.2.2
  have lt_5 := h_z.lt
  have lt_6 := h_t.lt
  refine lv_aload_n hx hb dX1_weight_0 rfl (lv_at hl 0 rfl) ?_
  refine lv_iload_n hx hb dX1_weight_1 rfl (lv_at hl 1 rfl) ?_
  refine x_callV (cells1 := 2) (slots1 := 10) X hR (c_X1_block G x u sv hi ip ln ex (er) (fa) l ed z t mc cap b S (zn) hsw (⟨by omega, by omega⟩)) q1320 q1322 qs26 q88 q1323 ⟨rfl, pd_X1_block⟩ ⟨Nat.le_of_ble_eq_true rfl, Nat.le_of_ble_eq_true rfl⟩ rfl rfl (Nat.le_of_ble_eq_true rfl) (Nat.le_of_ble_eq_true rfl) h_pob rfl rfl (Nat.le_of_ble_eq_true rfl) hl.1 dX1_weight_2 (hB.of hS fp_no.base) ⟨h_pob, h_st⟩ hS (fun _ h => h.elim) (fun v H_10 locs hp_7 hz_8 hk_9 hS => ?_) (fun Ex qx cx H_10 locs hp_7 hz_8 hk_9 hS hcx hvx hlx => ?_)
  · skip
    obtain ⟨rfl, hfn_11⟩ := hp_7
    have hz_12 := hS.1
    refine r_stk (st2 := [.ref (b (fp_fnd S (zn)))]) rfl ?_
    have hfn := hfn_11
    have hbk0 := hsw.1.2.2.1 (fp_fnd S zn) hfn
    have hFC : fp_fc S zn = 0 := fp_fc_0 rfl hfn
    have hE_13 := h_bl.ext (fp_X.ofS hS)
    refine r_getBN 3 (by decide) 4 rfl X (hE_13 (fp_fnd S (zn)) (by omega)) (hsw.1.2.2.1 (fp_fnd S (zn)) (by omega)).2.1 q1163 dX1_weight_5 ?_
    refine x_iret hx hb hr hlk hQ hS (Nat.le_of_ble_eq_true rfl) (Nat.le_of_ble_eq_true rfl) dX1_weight_8 ?_
    exact ⟨rfl, hFC⟩
  · skip
    rcases hp_7 with ⟨rfl, hX9, hb9⟩
    exact x_out hT hlk hQ hS (Nat.le_of_ble_eq_true rfl) (Nat.le_of_ble_eq_true rfl) hcx hvx hlx (⟨rfl, fp_X.ofS hS, hb9⟩)
set_option maxHeartbeats 4000000 in
theorem c_X1_bottom (G : fp_G) (x : Nat) (u : Nat) (sv : Value) (hi : Nat) (ip : Nat) (ln : Nat) (ex : Bool) (er : Int) (fa : Int) (l : Nat) (ed : Nat) (z : Nat) (t : Nat) (mc : Int32) (cap : Nat) (b : Nat → Nat) (S : PS) (zn : Int) (hsw : fp_sw S b) (hz : rg zn) : fp_MX G yX1_bottom cX1_bottom 2 (some .int) 8 123 2 10 [.ref (x), .int (iI (zn))] (fun H => fp_At G H x (eO 1 [.ref (u), sv, .ref (hi), .ref (ip), .ref (ln), .int (iI (bI (ex))), .int (iI (er)), .int (iI (fa))]) ∧ fp_SE G u l ed z t mc cap b S H) fp_no (fun H v H1 => v = some (.int (iI ((sB S (fp_fnd S zn) 5 : Nat) : Int))) ∧ (fp_fc S zn = 0)) (fun H E H1 => (E = "java/util/NoSuchElementException" ∧ fp_X H H1 ∧ fp_fc S zn = 1)) := by
  refine fp_MX.intro (by decide) (Nat.le_of_ble_eq_true rfl) ?_
  intro pg en s mi ag bl mt cd rR qQ ls X hx hb hr hlk hnm hR hQ hT hB hM hl
  have hS : va_S (fA fp_no s.heap.size) s.heap s.heap [] := va_S.rf
  generalize ([] : List Loc) = locs at hS ⊢
  have hb0 := hB.1
  obtain ⟨h_pob, h_st⟩ := hM
  have hsz0 := hS.1
  have lt_1 := h_pob.lt
  have lt_2 := h_st.1.lt
  have hn24 := hsw.1.1
  obtain ⟨h_o, h_l, h_z, h_t, h_bl, h_xb, h_zb, h_tb⟩ := id h_st
  have lt_3 := h_l.1.lt
  have lt_4 := h_l.2.2
  have lt_5 := h_z.lt
  have lt_6 := h_t.lt
  refine lv_aload_n hx hb dX1_bottom_0 rfl (lv_at hl 0 rfl) ?_
  refine lv_iload_n hx hb dX1_bottom_1 rfl (lv_at hl 1 rfl) ?_
  refine x_callV (cells1 := 2) (slots1 := 10) X hR (c_X1_block G x u sv hi ip ln ex (er) (fa) l ed z t mc cap b S (zn) hsw (⟨by omega, by omega⟩)) q1320 q1322 qs26 q88 q1323 ⟨rfl, pd_X1_block⟩ ⟨Nat.le_of_ble_eq_true rfl, Nat.le_of_ble_eq_true rfl⟩ rfl rfl (Nat.le_of_ble_eq_true rfl) (Nat.le_of_ble_eq_true rfl) h_pob rfl rfl (Nat.le_of_ble_eq_true rfl) hl.1 dX1_bottom_2 (hB.of hS fp_no.base) ⟨h_pob, h_st⟩ hS (fun _ h => h.elim) (fun v H_10 locs hp_7 hz_8 hk_9 hS => ?_) (fun Ex qx cx H_10 locs hp_7 hz_8 hk_9 hS hcx hvx hlx => ?_)
  · skip
    obtain ⟨rfl, hfn_11⟩ := hp_7
    have hz_12 := hS.1
    refine r_stk (st2 := [.ref (b (fp_fnd S (zn)))]) rfl ?_
    have hfn := hfn_11
    have hbk0 := hsw.1.2.2.1 (fp_fnd S zn) hfn
    have hFC : fp_fc S zn = 0 := fp_fc_0 rfl hfn
    have hE_13 := h_bl.ext (fp_X.ofS hS)
    refine r_getBN 4 (by decide) 5 rfl X (hE_13 (fp_fnd S (zn)) (by omega)) (hsw.1.2.2.1 (fp_fnd S (zn)) (by omega)).2.1 q1166 dX1_bottom_5 ?_
    refine x_iret hx hb hr hlk hQ hS (Nat.le_of_ble_eq_true rfl) (Nat.le_of_ble_eq_true rfl) dX1_bottom_8 ?_
    exact ⟨rfl, hFC⟩
  · skip
    rcases hp_7 with ⟨rfl, hX9, hb9⟩
    exact x_out hT hlk hQ hS (Nat.le_of_ble_eq_true rfl) (Nat.le_of_ble_eq_true rfl) hcx hvx hlx (⟨rfl, fp_X.ofS hS, hb9⟩)
set_option maxHeartbeats 4000000 in
theorem c_X1_isFoam (G : fp_G) (x : Nat) (u : Nat) (sv : Value) (hi : Nat) (ip : Nat) (ln : Nat) (ex : Bool) (er : Int) (fa : Int) (l : Nat) (ed : Nat) (z : Nat) (t : Nat) (mc : Int32) (cap : Nat) (b : Nat → Nat) (S : PS) (zn : Int) (hsw : fp_sw S b) (hz : rg zn) : fp_MX G yX1_isFoam cX1_isFoam 2 (some .boolean) 8 123 2 10 [.ref (x), .int (iI (zn))] (fun H => fp_At G H x (eO 1 [.ref (u), sv, .ref (hi), .ref (ip), .ref (ln), .int (iI (bI (ex))), .int (iI (er)), .int (iI (fa))]) ∧ fp_SE G u l ed z t mc cap b S H) fp_no (fun H v H1 => v = some (.int (iI (bI (decide (sB S (fp_fnd S zn) 1 = 0))))) ∧ (fp_fc S zn = 0)) (fun H E H1 => (E = "java/util/NoSuchElementException" ∧ fp_X H H1 ∧ fp_fc S zn = 1)) := by
  refine fp_MX.intro (by decide) (Nat.le_of_ble_eq_true rfl) ?_
  intro pg en s mi ag bl mt cd rR qQ ls X hx hb hr hlk hnm hR hQ hT hB hM hl
  have hS : va_S (fA fp_no s.heap.size) s.heap s.heap [] := va_S.rf
  generalize ([] : List Loc) = locs at hS ⊢
  have hb0 := hB.1
  obtain ⟨h_pob, h_st⟩ := hM
  have hsz0 := hS.1
  have lt_1 := h_pob.lt
  have lt_2 := h_st.1.lt
  have hn24 := hsw.1.1
  obtain ⟨h_o, h_l, h_z, h_t, h_bl, h_xb, h_zb, h_tb⟩ := id h_st
  have lt_3 := h_l.1.lt
  have lt_4 := h_l.2.2
  have lt_5 := h_z.lt
  have lt_6 := h_t.lt
  refine lv_aload_n hx hb dX1_isFoam_0 rfl (lv_at hl 0 rfl) ?_
  refine lv_iload_n hx hb dX1_isFoam_1 rfl (lv_at hl 1 rfl) ?_
  refine x_callV (cells1 := 2) (slots1 := 10) X hR (c_X1_block G x u sv hi ip ln ex (er) (fa) l ed z t mc cap b S (zn) hsw (⟨by omega, by omega⟩)) q1320 q1322 qs26 q88 q1323 ⟨rfl, pd_X1_block⟩ ⟨Nat.le_of_ble_eq_true rfl, Nat.le_of_ble_eq_true rfl⟩ rfl rfl (Nat.le_of_ble_eq_true rfl) (Nat.le_of_ble_eq_true rfl) h_pob rfl rfl (Nat.le_of_ble_eq_true rfl) hl.1 dX1_isFoam_2 (hB.of hS fp_no.base) ⟨h_pob, h_st⟩ hS (fun _ h => h.elim) (fun v H_10 locs hp_7 hz_8 hk_9 hS => ?_) (fun Ex qx cx H_10 locs hp_7 hz_8 hk_9 hS hcx hvx hlx => ?_)
  · skip
    obtain ⟨rfl, hfn_11⟩ := hp_7
    have hz_12 := hS.1
    refine r_stk (st2 := [.ref (b (fp_fnd S (zn)))]) rfl ?_
    have hfn := hfn_11
    have hbk0 := hsw.1.2.2.1 (fp_fnd S zn) hfn
    have hFC : fp_fc S zn = 0 := fp_fc_0 rfl hfn
    have hE_13 := h_bl.ext (fp_X.ofS hS)
    refine r_instB (kd := 0) X (hE_13 (fp_fnd S (zn)) (by omega)) (hsw.1.2.2.1 (fp_fnd S (zn)) (by omega)).2.1 (Or.inl ⟨rfl, rfl⟩) q1144 dX1_isFoam_5 (by decide +kernel) ?_
    refine x_zret hx hb hr hlk hQ hS (Nat.le_of_ble_eq_true rfl) (Nat.le_of_ble_eq_true rfl) dX1_isFoam_8 (bI_z _) ?_
    exact ⟨rfl, hFC⟩
  · skip
    rcases hp_7 with ⟨rfl, hX9, hb9⟩
    exact x_out hT hlk hQ hS (Nat.le_of_ble_eq_true rfl) (Nat.le_of_ble_eq_true rfl) hcx hvx hlx (⟨rfl, fp_X.ofS hS, hb9⟩)
set_option maxHeartbeats 4000000 in
theorem c_X1_isBoard (G : fp_G) (x : Nat) (u : Nat) (sv : Value) (hi : Nat) (ip : Nat) (ln : Nat) (ex : Bool) (er : Int) (fa : Int) (l : Nat) (ed : Nat) (z : Nat) (t : Nat) (mc : Int32) (cap : Nat) (b : Nat → Nat) (S : PS) (zn : Int) (hsw : fp_sw S b) (hz : rg zn) : fp_MX G yX1_isBoard cX1_isBoard 2 (some .boolean) 8 123 2 10 [.ref (x), .int (iI (zn))] (fun H => fp_At G H x (eO 1 [.ref (u), sv, .ref (hi), .ref (ip), .ref (ln), .int (iI (bI (ex))), .int (iI (er)), .int (iI (fa))]) ∧ fp_SE G u l ed z t mc cap b S H) fp_no (fun H v H1 => v = some (.int (iI (bI (decide (sB S (fp_fnd S zn) 1 = 1))))) ∧ (fp_fc S zn = 0)) (fun H E H1 => (E = "java/util/NoSuchElementException" ∧ fp_X H H1 ∧ fp_fc S zn = 1)) := by
  refine fp_MX.intro (by decide) (Nat.le_of_ble_eq_true rfl) ?_
  intro pg en s mi ag bl mt cd rR qQ ls X hx hb hr hlk hnm hR hQ hT hB hM hl
  have hS : va_S (fA fp_no s.heap.size) s.heap s.heap [] := va_S.rf
  generalize ([] : List Loc) = locs at hS ⊢
  have hb0 := hB.1
  obtain ⟨h_pob, h_st⟩ := hM
  have hsz0 := hS.1
  have lt_1 := h_pob.lt
  have lt_2 := h_st.1.lt
  have hn24 := hsw.1.1
  obtain ⟨h_o, h_l, h_z, h_t, h_bl, h_xb, h_zb, h_tb⟩ := id h_st
  have lt_3 := h_l.1.lt
  have lt_4 := h_l.2.2
  have lt_5 := h_z.lt
  have lt_6 := h_t.lt
  refine lv_aload_n hx hb dX1_isBoard_0 rfl (lv_at hl 0 rfl) ?_
  refine lv_iload_n hx hb dX1_isBoard_1 rfl (lv_at hl 1 rfl) ?_
  refine x_callV (cells1 := 2) (slots1 := 10) X hR (c_X1_block G x u sv hi ip ln ex (er) (fa) l ed z t mc cap b S (zn) hsw (⟨by omega, by omega⟩)) q1320 q1322 qs26 q88 q1323 ⟨rfl, pd_X1_block⟩ ⟨Nat.le_of_ble_eq_true rfl, Nat.le_of_ble_eq_true rfl⟩ rfl rfl (Nat.le_of_ble_eq_true rfl) (Nat.le_of_ble_eq_true rfl) h_pob rfl rfl (Nat.le_of_ble_eq_true rfl) hl.1 dX1_isBoard_2 (hB.of hS fp_no.base) ⟨h_pob, h_st⟩ hS (fun _ h => h.elim) (fun v H_10 locs hp_7 hz_8 hk_9 hS => ?_) (fun Ex qx cx H_10 locs hp_7 hz_8 hk_9 hS hcx hvx hlx => ?_)
  · skip
    obtain ⟨rfl, hfn_11⟩ := hp_7
    have hz_12 := hS.1
    refine r_stk (st2 := [.ref (b (fp_fnd S (zn)))]) rfl ?_
    have hfn := hfn_11
    have hbk0 := hsw.1.2.2.1 (fp_fnd S zn) hfn
    have hFC : fp_fc S zn = 0 := fp_fc_0 rfl hfn
    have hE_13 := h_bl.ext (fp_X.ofS hS)
    refine r_instB (kd := 1) X (hE_13 (fp_fnd S (zn)) (by omega)) (hsw.1.2.2.1 (fp_fnd S (zn)) (by omega)).2.1 (Or.inr ⟨rfl, rfl⟩) q1177 dX1_isBoard_5 (by decide +kernel) ?_
    refine x_zret hx hb hr hlk hQ hS (Nat.le_of_ble_eq_true rfl) (Nat.le_of_ble_eq_true rfl) dX1_isBoard_8 (bI_z _) ?_
    exact ⟨rfl, hFC⟩
  · skip
    rcases hp_7 with ⟨rfl, hX9, hb9⟩
    exact x_out hT hlk hQ hS (Nat.le_of_ble_eq_true rfl) (Nat.le_of_ble_eq_true rfl) hcx hvx hlx (⟨rfl, fp_X.ofS hS, hb9⟩)
set_option maxHeartbeats 4000000 in
theorem c_X1_strength (G : fp_G) (x : Nat) (u : Nat) (sv : Value) (hi : Nat) (ip : Nat) (ln : Nat) (ex : Bool) (er : Int) (fa : Int) (l : Nat) (ed : Nat) (z : Nat) (t : Nat) (mc : Int32) (cap : Nat) (b : Nat → Nat) (S : PS) (zn : Int) (hsw : fp_sw S b) (hz : rg zn) : fp_MX G yX1_strength cX1_strength 2 (some .int) 8 123 2 10 [.ref (x), .int (iI (zn))] (fun H => fp_At G H x (eO 1 [.ref (u), sv, .ref (hi), .ref (ip), .ref (ln), .int (iI (bI (ex))), .int (iI (er)), .int (iI (fa))]) ∧ fp_SE G u l ed z t mc cap b S H) fp_no (fun H v H1 => v = some (.int (iI ((fp_str (sB S (fp_fnd S zn)) : Nat) : Int))) ∧ (fp_fc S zn = 0)) (fun H E H1 => (E = "java/util/NoSuchElementException" ∧ fp_X H H1 ∧ fp_fc S zn = 1)) := by
  refine fp_MX.intro (by decide) (Nat.le_of_ble_eq_true rfl) ?_
  intro pg en s mi ag bl mt cd rR qQ ls X hx hb hr hlk hnm hR hQ hT hB hM hl
  have hS : va_S (fA fp_no s.heap.size) s.heap s.heap [] := va_S.rf
  generalize ([] : List Loc) = locs at hS ⊢
  have hb0 := hB.1
  obtain ⟨h_pob, h_st⟩ := hM
  have hsz0 := hS.1
  have lt_1 := h_pob.lt
  have lt_2 := h_st.1.lt
  have hn24 := hsw.1.1
  obtain ⟨h_o, h_l, h_z, h_t, h_bl, h_xb, h_zb, h_tb⟩ := id h_st
  have lt_3 := h_l.1.lt
  have lt_4 := h_l.2.2
  have lt_5 := h_z.lt
  have lt_6 := h_t.lt
  refine lv_aload_n hx hb dX1_strength_0 rfl (lv_at hl 0 rfl) ?_
  refine lv_iload_n hx hb dX1_strength_1 rfl (lv_at hl 1 rfl) ?_
  refine x_callV (cells1 := 2) (slots1 := 10) X hR (c_X1_block G x u sv hi ip ln ex (er) (fa) l ed z t mc cap b S (zn) hsw (⟨by omega, by omega⟩)) q1320 q1322 qs26 q88 q1323 ⟨rfl, pd_X1_block⟩ ⟨Nat.le_of_ble_eq_true rfl, Nat.le_of_ble_eq_true rfl⟩ rfl rfl (Nat.le_of_ble_eq_true rfl) (Nat.le_of_ble_eq_true rfl) h_pob rfl rfl (Nat.le_of_ble_eq_true rfl) hl.1 dX1_strength_2 (hB.of hS fp_no.base) ⟨h_pob, h_st⟩ hS (fun _ h => h.elim) (fun v H_10 locs hp_7 hz_8 hk_9 hS => ?_) (fun Ex qx cx H_10 locs hp_7 hz_8 hk_9 hS hcx hvx hlx => ?_)
  · skip
    obtain ⟨rfl, hfn_11⟩ := hp_7
    have hz_12 := hS.1
    refine r_stk (st2 := [.ref (b (fp_fnd S (zn)))]) rfl ?_
    have hfn := hfn_11
    have hbk0 := hsw.1.2.2.1 (fp_fnd S zn) hfn
    have hFC : fp_fc S zn = 0 := fp_fc_0 rfl hfn
    have hE_13 := h_bl.ext (fp_X.ofS hS)
    refine b_strength X hR (hE_13 (fp_fnd S (zn)) (by omega)) ((hsw.1.2.2.1 (fp_fnd S (zn)) (by omega)).2.1) (hsw.1.2.2.1 (fp_fnd S (zn)) (by omega)) q1476 (by decide) (by decide) (Nat.le_of_ble_eq_true rfl) (Nat.le_of_ble_eq_true rfl) (Nat.le_of_ble_eq_true rfl) hl.1 dX1_strength_5 (hB.of hS fp_no.base) hS (fun locs hS => ?_)
    refine x_iret hx hb hr hlk hQ hS (Nat.le_of_ble_eq_true rfl) (Nat.le_of_ble_eq_true rfl) dX1_strength_8 ?_
    exact ⟨rfl, hFC⟩
  · skip
    rcases hp_7 with ⟨rfl, hX9, hb9⟩
    exact x_out hT hlk hQ hS (Nat.le_of_ble_eq_true rfl) (Nat.le_of_ble_eq_true rfl) hcx hvx hlx (⟨rfl, fp_X.ofS hS, hb9⟩)
set_option maxHeartbeats 4000000 in
theorem c_X1_top (G : fp_G) (x : Nat) (u : Nat) (sv : Value) (hi : Nat) (ip : Nat) (ln : Nat) (ex : Bool) (er : Int) (fa : Int) (l : Nat) (ed : Nat) (z : Nat) (t : Nat) (mc : Int32) (cap : Nat) (b : Nat → Nat) (S : PS) (zn : Int) (hsw : fp_sw S b) (hz : rg zn) : fp_MX G yX1_top cX1_top 2 (some .int) 8 123 2 10 [.ref (x), .int (iI (zn))] (fun H => fp_At G H x (eO 1 [.ref (u), sv, .ref (hi), .ref (ip), .ref (ln), .int (iI (bI (ex))), .int (iI (er)), .int (iI (fa))]) ∧ fp_SE G u l ed z t mc cap b S H) fp_no (fun H v H1 => v = some (.int (iI ((fp_top (sB S (fp_fnd S zn)) : Nat) : Int))) ∧ (fp_fc S zn = 0)) (fun H E H1 => (E = "java/util/NoSuchElementException" ∧ fp_X H H1 ∧ fp_fc S zn = 1)) := by
  refine fp_MX.intro (by decide) (Nat.le_of_ble_eq_true rfl) ?_
  intro pg en s mi ag bl mt cd rR qQ ls X hx hb hr hlk hnm hR hQ hT hB hM hl
  have hS : va_S (fA fp_no s.heap.size) s.heap s.heap [] := va_S.rf
  generalize ([] : List Loc) = locs at hS ⊢
  have hb0 := hB.1
  obtain ⟨h_pob, h_st⟩ := hM
  have hsz0 := hS.1
  have lt_1 := h_pob.lt
  have lt_2 := h_st.1.lt
  have hn24 := hsw.1.1
  obtain ⟨h_o, h_l, h_z, h_t, h_bl, h_xb, h_zb, h_tb⟩ := id h_st
  have lt_3 := h_l.1.lt
  have lt_4 := h_l.2.2
  have lt_5 := h_z.lt
  have lt_6 := h_t.lt
  refine lv_aload_n hx hb dX1_top_0 rfl (lv_at hl 0 rfl) ?_
  refine lv_iload_n hx hb dX1_top_1 rfl (lv_at hl 1 rfl) ?_
  refine x_callV (cells1 := 2) (slots1 := 10) X hR (c_X1_block G x u sv hi ip ln ex (er) (fa) l ed z t mc cap b S (zn) hsw (⟨by omega, by omega⟩)) q1320 q1322 qs26 q88 q1323 ⟨rfl, pd_X1_block⟩ ⟨Nat.le_of_ble_eq_true rfl, Nat.le_of_ble_eq_true rfl⟩ rfl rfl (Nat.le_of_ble_eq_true rfl) (Nat.le_of_ble_eq_true rfl) h_pob rfl rfl (Nat.le_of_ble_eq_true rfl) hl.1 dX1_top_2 (hB.of hS fp_no.base) ⟨h_pob, h_st⟩ hS (fun _ h => h.elim) (fun v H_10 locs hp_7 hz_8 hk_9 hS => ?_) (fun Ex qx cx H_10 locs hp_7 hz_8 hk_9 hS hcx hvx hlx => ?_)
  · skip
    obtain ⟨rfl, hfn_11⟩ := hp_7
    have hz_12 := hS.1
    refine r_stk (st2 := [.ref (b (fp_fnd S (zn)))]) rfl ?_
    have hfn := hfn_11
    have hbk0 := hsw.1.2.2.1 (fp_fnd S zn) hfn
    have hFC : fp_fc S zn = 0 := fp_fc_0 rfl hfn
    have hE_13 := h_bl.ext (fp_X.ofS hS)
    refine b_top X hR (hE_13 (fp_fnd S (zn)) (by omega)) ((hsw.1.2.2.1 (fp_fnd S (zn)) (by omega)).2.1) (hsw.1.2.2.1 (fp_fnd S (zn)) (by omega)) q970 (by decide) (by decide) (Nat.le_of_ble_eq_true rfl) (Nat.le_of_ble_eq_true rfl) (Nat.le_of_ble_eq_true rfl) hl.1 dX1_top_5 (hB.of hS fp_no.base) hS (fun locs hS => ?_)
    refine x_iret hx hb hr hlk hQ hS (Nat.le_of_ble_eq_true rfl) (Nat.le_of_ble_eq_true rfl) dX1_top_8 ?_
    exact ⟨rfl, hFC⟩
  · skip
    rcases hp_7 with ⟨rfl, hX9, hb9⟩
    exact x_out hT hlk hQ hS (Nat.le_of_ble_eq_true rfl) (Nat.le_of_ble_eq_true rfl) hcx hvx hlx (⟨rfl, fp_X.ofS hS, hb9⟩)
set_option maxHeartbeats 4000000 in
theorem c_X1_isSupporting (G : fp_G) (x : Nat) (u : Nat) (sv : Value) (hi : Nat) (ip : Nat) (ln : Nat) (ex : Bool) (er : Int) (fa : Int) (l : Nat) (ed : Nat) (z : Nat) (t : Nat) (mc : Int32) (cap : Nat) (b : Nat → Nat) (S : PS) (zn : Int) (hsw : fp_sw S b) (hz : rg zn) : fp_MX G yX1_isSupporting cX1_isSupporting 2 (some .boolean) 303 8066 4 15 [.ref (x), .int (iI (zn))] (fun H => fp_At G H x (eO 1 [.ref (u), sv, .ref (hi), .ref (ip), .ref (ln), .int (iI (bI (ex))), .int (iI (er)), .int (iI (fa))]) ∧ fp_SE G u l ed z t mc cap b S H) fp_no (fun H v H1 => v = some (.int (iI (bI (fp_und S (fp_fnd S zn))))) ∧ (fp_fc S zn = 0)) (fun H E H1 => (E = "java/util/NoSuchElementException" ∧ fp_X H H1 ∧ fp_fc S zn = 1)) := by
  refine fp_MX.intro (by decide) (Nat.le_of_ble_eq_true rfl) ?_
  intro pg en s mi ag bl mt cd rR qQ ls X hx hb hr hlk hnm hR hQ hT hB hM hl
  have hS : va_S (fA fp_no s.heap.size) s.heap s.heap [] := va_S.rf
  generalize ([] : List Loc) = locs at hS ⊢
  have hb0 := hB.1
  obtain ⟨h_pob, h_st⟩ := hM
  have hsz0 := hS.1
  have lt_1 := h_pob.lt
  have lt_2 := h_st.1.lt
  have hn24 := hsw.1.1
  obtain ⟨h_o, h_l, h_z, h_t, h_bl, h_xb, h_zb, h_tb⟩ := id h_st
  have lt_3 := h_l.1.lt
  have lt_4 := h_l.2.2
  have lt_5 := h_z.lt
  have lt_6 := h_t.lt
  refine lv_aload_n hx hb dX1_isSupporting_0 rfl (lv_at hl 0 rfl) ?_
  refine r_get X h_pob rfl in_X1 0 (by decide) q242 (Or.inl rfl) (v := .ref (u)) rfl dX1_isSupporting_1 ?_
  refine lv_aload_n hx hb dX1_isSupporting_4 rfl (lv_at hl 0 rfl) ?_
  refine lv_iload_n hx hb dX1_isSupporting_5 rfl (lv_at hl 1 rfl) ?_
  refine x_callV (cells1 := 2) (slots1 := 10) X hR (c_X1_block G x u sv hi ip ln ex (er) (fa) l ed z t mc cap b S (zn) hsw (⟨by omega, by omega⟩)) q1320 q1322 qs26 q88 q1323 ⟨rfl, pd_X1_block⟩ ⟨Nat.le_of_ble_eq_true rfl, Nat.le_of_ble_eq_true rfl⟩ rfl rfl (Nat.le_of_ble_eq_true rfl) (Nat.le_of_ble_eq_true rfl) h_pob rfl rfl (Nat.le_of_ble_eq_true rfl) hl.1 dX1_isSupporting_6 (hB.of hS fp_no.base) ⟨h_pob, h_st⟩ hS (fun _ h => h.elim) (fun v H_10 locs hp_7 hz_8 hk_9 hS => ?_) (fun Ex qx cx H_10 locs hp_7 hz_8 hk_9 hS hcx hvx hlx => ?_)
  · skip
    obtain ⟨rfl, hfn_11⟩ := hp_7
    have hz_12 := hS.1
    refine r_stk (st2 := [.ref (b (fp_fnd S (zn))), .ref (u)]) rfl ?_
    have hfn := hfn_11
    have hbk0 := hsw.1.2.2.1 (fp_fnd S zn) hfn
    have hFC : fp_fc S zn = 0 := fp_fc_0 rfl hfn
    have hE_13 := h_st.ext (fp_X.ofS hS)
    refine r_callV (cells1 := 4) (slots1 := 15) X hR (c_X2_isSupporting G u l ed z t mc cap b S (fp_fnd S zn) hsw hfn) q1329 q1330 q1331 q89 q1332 ⟨rfl, pd_X2_isSupporting⟩ ⟨Nat.le_of_ble_eq_true rfl, Nat.le_of_ble_eq_true rfl⟩ rfl rfl (Nat.le_of_ble_eq_true rfl) (Nat.le_of_ble_eq_true rfl) hE_13.1 rfl rfl (Nat.le_of_ble_eq_true rfl) hl.1 dX1_isSupporting_9 (hB.of hS fp_no.base) hE_13 hS (fun _ h => h.elim) (fun v H_17 locs hp_14 hz_15 hk_16 hS => ?_)
    obtain rfl := hp_14
    have hz_18 := hS.1
    refine r_stk (st2 := [.int (iI (bI (fp_und S (fp_fnd S zn))))]) rfl ?_
    refine x_zret hx hb hr hlk hQ hS (Nat.le_of_ble_eq_true rfl) (Nat.le_of_ble_eq_true rfl) dX1_isSupporting_12 (bI_z _) ?_
    exact ⟨rfl, hFC⟩
  · skip
    rcases hp_7 with ⟨rfl, hX9, hb9⟩
    exact x_out hT hlk hQ hS (Nat.le_of_ble_eq_true rfl) (Nat.le_of_ble_eq_true rfl) hcx hvx hlx (⟨rfl, fp_X.ofS hS, hb9⟩)
set_option maxHeartbeats 4000000 in
theorem c_X1_load (G : fp_G) (x : Nat) (u : Nat) (sv : Value) (hi : Nat) (ip : Nat) (ln : Nat) (ex : Bool) (er : Int) (fa : Int) (l : Nat) (ed : Nat) (z : Nat) (t : Nat) (mc : Int32) (cap : Nat) (b : Nat → Nat) (S : PS) (zn : Int) (hsw : fp_sw S b) (hz : rg zn) (hdl : fp_dl S) : fp_MX G yX1_load cX1_load 2 (some .int) 11 266 147 2938 [.ref (x), .int (iI (zn))] (fun H => fp_At G H x (eO 1 [.ref (u), sv, .ref (hi), .ref (ip), .ref (ln), .int (iI (bI (ex))), .int (iI (er)), .int (iI (fa))]) ∧ fp_SE G u l ed z t mc cap b S H) fp_no (fun H v H1 => v = some (.int (iI ((fp_ld S (fp_fnd S zn) : Nat) : Int))) ∧ (fp_fc S zn = 0)) (fun H E H1 => (E = "java/util/NoSuchElementException" ∧ fp_X H H1 ∧ fp_fc S zn = 1)) := by
  refine fp_MX.intro (by decide) (Nat.le_of_ble_eq_true rfl) ?_
  intro pg en s mi ag bl mt cd rR qQ ls X hx hb hr hlk hnm hR hQ hT hB hM hl
  have hS : va_S (fA fp_no s.heap.size) s.heap s.heap [] := va_S.rf
  generalize ([] : List Loc) = locs at hS ⊢
  have hb0 := hB.1
  obtain ⟨h_pob, h_st⟩ := hM
  have hsz0 := hS.1
  have lt_1 := h_pob.lt
  have lt_2 := h_st.1.lt
  have hn24 := hsw.1.1
  obtain ⟨h_o, h_l, h_z, h_t, h_bl, h_xb, h_zb, h_tb⟩ := id h_st
  have lt_3 := h_l.1.lt
  have lt_4 := h_l.2.2
  have lt_5 := h_z.lt
  have lt_6 := h_t.lt
  refine lv_aload_n hx hb dX1_load_0 rfl (lv_at hl 0 rfl) ?_
  refine r_get X h_pob rfl in_X1 0 (by decide) q242 (Or.inl rfl) (v := .ref (u)) rfl dX1_load_1 ?_
  refine lv_aload_n hx hb dX1_load_4 rfl (lv_at hl 0 rfl) ?_
  refine lv_iload_n hx hb dX1_load_5 rfl (lv_at hl 1 rfl) ?_
  refine x_callV (cells1 := 2) (slots1 := 10) X hR (c_X1_block G x u sv hi ip ln ex (er) (fa) l ed z t mc cap b S (zn) hsw (⟨by omega, by omega⟩)) q1320 q1322 qs26 q88 q1323 ⟨rfl, pd_X1_block⟩ ⟨Nat.le_of_ble_eq_true rfl, Nat.le_of_ble_eq_true rfl⟩ rfl rfl (Nat.le_of_ble_eq_true rfl) (Nat.le_of_ble_eq_true rfl) h_pob rfl rfl (Nat.le_of_ble_eq_true rfl) hl.1 dX1_load_6 (hB.of hS fp_no.base) ⟨h_pob, h_st⟩ hS (fun _ h => h.elim) (fun v H_10 locs hp_7 hz_8 hk_9 hS => ?_) (fun Ex qx cx H_10 locs hp_7 hz_8 hk_9 hS hcx hvx hlx => ?_)
  · skip
    obtain ⟨rfl, hfn_11⟩ := hp_7
    have hz_12 := hS.1
    refine r_stk (st2 := [.ref (b (fp_fnd S (zn))), .ref (u)]) rfl ?_
    have hfn := hfn_11
    have hbk0 := hsw.1.2.2.1 (fp_fnd S zn) hfn
    have hFC : fp_fc S zn = 0 := fp_fc_0 rfl hfn
    have hE_13 := h_st.ext (fp_X.ofS hS)
    refine r_callV (cells1 := 147) (slots1 := 2938) X hR (c_X2_load G u l ed z t mc cap b S (fp_fnd S zn) hsw hdl hfn) q1520 q1521 q1522 q89 q1523 ⟨rfl, pd_X2_load⟩ ⟨Nat.le_of_ble_eq_true rfl, Nat.le_of_ble_eq_true rfl⟩ rfl rfl (Nat.le_of_ble_eq_true rfl) (Nat.le_of_ble_eq_true rfl) hE_13.1 rfl rfl (Nat.le_of_ble_eq_true rfl) hl.1 dX1_load_9 (hB.of hS fp_no.base) hE_13 hS (fun _ h => h.elim) (fun v H_17 locs hp_14 hz_15 hk_16 hS => ?_)
    obtain rfl := hp_14
    have hz_18 := hS.1
    refine r_stk (st2 := [.int (iI ((fp_ld S (fp_fnd S zn) : Nat) : Int))]) rfl ?_
    refine x_iret hx hb hr hlk hQ hS (Nat.le_of_ble_eq_true rfl) (Nat.le_of_ble_eq_true rfl) dX1_load_12 ?_
    exact ⟨rfl, hFC⟩
  · skip
    rcases hp_7 with ⟨rfl, hX9, hb9⟩
    exact x_out hT hlk hQ hS (Nat.le_of_ble_eq_true rfl) (Nat.le_of_ble_eq_true rfl) hcx hvx hlx (⟨rfl, fp_X.ofS hS, hb9⟩)
set_option maxHeartbeats 4000000 in
theorem c_X1_loadByRecursion (G : fp_G) (x : Nat) (u : Nat) (sv : Value) (hi : Nat) (ip : Nat) (ln : Nat) (ex : Bool) (er : Int) (fa : Int) (l : Nat) (ed : Nat) (z : Nat) (t : Nat) (mc : Int32) (cap : Nat) (b : Nat → Nat) (S : PS) (zn : Int) (hsw : fp_sw S b) (hz : rg zn) (hdl : fp_dl S) (h30 : ∀ k, k < sN S → sB S k 5 ≤ 30) : fp_MX G yX1_loadByRecursion cX1_loadByRecursion 2 (some .int) 330 8084 3459 69730 [.ref (x), .int (iI (zn))] (fun H => fp_At G H x (eO 1 [.ref (u), sv, .ref (hi), .ref (ip), .ref (ln), .int (iI (bI (ex))), .int (iI (er)), .int (iI (fa))]) ∧ fp_SE G u l ed z t mc cap b S H) fp_no (fun H v H1 => v = some (.int (iI ((fp_ld S (fp_fnd S zn) : Nat) : Int))) ∧ (fp_fc S zn = 0)) (fun H E H1 => (E = "java/util/NoSuchElementException" ∧ fp_X H H1 ∧ fp_fc S zn = 1)) := by
  refine fp_MX.intro (by decide) (Nat.le_of_ble_eq_true rfl) ?_
  intro pg en s mi ag bl mt cd rR qQ ls X hx hb hr hlk hnm hR hQ hT hB hM hl
  have hS : va_S (fA fp_no s.heap.size) s.heap s.heap [] := va_S.rf
  generalize ([] : List Loc) = locs at hS ⊢
  have hb0 := hB.1
  obtain ⟨h_pob, h_st⟩ := hM
  have hsz0 := hS.1
  have lt_1 := h_pob.lt
  have lt_2 := h_st.1.lt
  have hn24 := hsw.1.1
  obtain ⟨h_o, h_l, h_z, h_t, h_bl, h_xb, h_zb, h_tb⟩ := id h_st
  have lt_3 := h_l.1.lt
  have lt_4 := h_l.2.2
  have lt_5 := h_z.lt
  have lt_6 := h_t.lt
  refine lv_aload_n hx hb dX1_loadByRecursion_0 rfl (lv_at hl 0 rfl) ?_
  refine r_get X h_pob rfl in_X1 0 (by decide) q242 (Or.inl rfl) (v := .ref (u)) rfl dX1_loadByRecursion_1 ?_
  refine lv_aload_n hx hb dX1_loadByRecursion_4 rfl (lv_at hl 0 rfl) ?_
  refine lv_iload_n hx hb dX1_loadByRecursion_5 rfl (lv_at hl 1 rfl) ?_
  refine x_callV (cells1 := 2) (slots1 := 10) X hR (c_X1_block G x u sv hi ip ln ex (er) (fa) l ed z t mc cap b S (zn) hsw (⟨by omega, by omega⟩)) q1320 q1322 qs26 q88 q1323 ⟨rfl, pd_X1_block⟩ ⟨Nat.le_of_ble_eq_true rfl, Nat.le_of_ble_eq_true rfl⟩ rfl rfl (Nat.le_of_ble_eq_true rfl) (Nat.le_of_ble_eq_true rfl) h_pob rfl rfl (Nat.le_of_ble_eq_true rfl) hl.1 dX1_loadByRecursion_6 (hB.of hS fp_no.base) ⟨h_pob, h_st⟩ hS (fun _ h => h.elim) (fun v H_10 locs hp_7 hz_8 hk_9 hS => ?_) (fun Ex qx cx H_10 locs hp_7 hz_8 hk_9 hS hcx hvx hlx => ?_)
  · skip
    obtain ⟨rfl, hfn_11⟩ := hp_7
    have hz_12 := hS.1
    refine r_stk (st2 := [.ref (b (fp_fnd S (zn))), .ref (u)]) rfl ?_
    have hfn := hfn_11
    have hbk0 := hsw.1.2.2.1 (fp_fnd S zn) hfn
    have hFC : fp_fc S zn = 0 := fp_fc_0 rfl hfn
    have hE_13 := h_st.ext (fp_X.ofS hS)
    refine r_callV (cells1 := 3459) (slots1 := 69730) X hR (c_X2_loadByRecursion G u l ed z t mc cap b S (fp_fnd S zn) hsw hdl h30 hfn) q1531 q1532 q1533 q89 q1534 ⟨rfl, pd_X2_loadByRecursion⟩ ⟨Nat.le_of_ble_eq_true rfl, Nat.le_of_ble_eq_true rfl⟩ rfl rfl (Nat.le_of_ble_eq_true rfl) (Nat.le_of_ble_eq_true rfl) hE_13.1 rfl rfl (Nat.le_of_ble_eq_true rfl) hl.1 dX1_loadByRecursion_9 (hB.of hS fp_no.base) hE_13 hS (fun _ h => h.elim) (fun v H_17 locs hp_14 hz_15 hk_16 hS => ?_)
    obtain rfl := hp_14
    have hz_18 := hS.1
    refine r_stk (st2 := [.int (iI ((fp_ld S (fp_fnd S zn) : Nat) : Int))]) rfl ?_
    refine x_iret hx hb hr hlk hQ hS (Nat.le_of_ble_eq_true rfl) (Nat.le_of_ble_eq_true rfl) dX1_loadByRecursion_12 ?_
    exact ⟨rfl, hFC⟩
  · skip
    rcases hp_7 with ⟨rfl, hX9, hb9⟩
    exact x_out hT hlk hQ hS (Nat.le_of_ble_eq_true rfl) (Nat.le_of_ble_eq_true rfl) hcx hvx hlx (⟨rfl, fp_X.ofS hS, hb9⟩)
set_option maxHeartbeats 4000000 in
theorem c_X1_slack (G : fp_G) (x : Nat) (u : Nat) (sv : Value) (hi : Nat) (ip : Nat) (ln : Nat) (ex : Bool) (er : Int) (fa : Int) (l : Nat) (ed : Nat) (z : Nat) (t : Nat) (mc : Int32) (cap : Nat) (b : Nat → Nat) (S : PS) (zn : Int) (hsw : fp_sw S b) (hz : rg zn) (hdl : fp_dl S) : fp_MX G yX1_slack cX1_slack 3 (some .int) 11 266 147 2938 [.ref (x), .int (iI (zn))] (fun H => fp_At G H x (eO 1 [.ref (u), sv, .ref (hi), .ref (ip), .ref (ln), .int (iI (bI (ex))), .int (iI (er)), .int (iI (fa))]) ∧ fp_SE G u l ed z t mc cap b S H) fp_no (fun H v H1 => v = some (.int (iI (fp_slk S (fp_fnd S zn)))) ∧ (fp_fc S zn = 0)) (fun H E H1 => (E = "java/util/NoSuchElementException" ∧ fp_X H H1 ∧ fp_fc S zn = 1)) := by
  refine fp_MX.intro (by decide) (Nat.le_of_ble_eq_true rfl) ?_
  intro pg en s mi ag bl mt cd rR qQ ls X hx hb hr hlk hnm hR hQ hT hB hM hl
  have hS : va_S (fA fp_no s.heap.size) s.heap s.heap [] := va_S.rf
  generalize ([] : List Loc) = locs at hS ⊢
  have hb0 := hB.1
  obtain ⟨h_pob, h_st⟩ := hM
  have hsz0 := hS.1
  have lt_1 := h_pob.lt
  have lt_2 := h_st.1.lt
  have hn24 := hsw.1.1
  obtain ⟨h_o, h_l, h_z, h_t, h_bl, h_xb, h_zb, h_tb⟩ := id h_st
  have lt_3 := h_l.1.lt
  have lt_4 := h_l.2.2
  have lt_5 := h_z.lt
  have lt_6 := h_t.lt
  refine lv_aload_n hx hb dX1_slack_0 rfl (lv_at hl 0 rfl) ?_
  refine lv_iload_n hx hb dX1_slack_1 rfl (lv_at hl 1 rfl) ?_
  refine x_callV (cells1 := 2) (slots1 := 10) X hR (c_X1_block G x u sv hi ip ln ex (er) (fa) l ed z t mc cap b S (zn) hsw (⟨by omega, by omega⟩)) q1320 q1322 qs26 q88 q1323 ⟨rfl, pd_X1_block⟩ ⟨Nat.le_of_ble_eq_true rfl, Nat.le_of_ble_eq_true rfl⟩ rfl rfl (Nat.le_of_ble_eq_true rfl) (Nat.le_of_ble_eq_true rfl) h_pob rfl rfl (Nat.le_of_ble_eq_true rfl) hl.1 dX1_slack_2 (hB.of hS fp_no.base) ⟨h_pob, h_st⟩ hS (fun _ h => h.elim) (fun v H_10 locs hp_7 hz_8 hk_9 hS => ?_) (fun Ex qx cx H_10 locs hp_7 hz_8 hk_9 hS hcx hvx hlx => ?_)
  · skip
    obtain ⟨rfl, hfn_11⟩ := hp_7
    have hz_12 := hS.1
    refine r_stk (st2 := [.ref (b (fp_fnd S (zn)))]) rfl ?_
    have hfn := hfn_11
    have hbk0 := hsw.1.2.2.1 (fp_fnd S zn) hfn
    have hFC : fp_fc S zn = 0 := fp_fc_0 rfl hfn
    refine lv_astore_n (lv' := [(2, .ref (b (fp_fnd S (zn)))), (0, .ref (x)), (1, .int (iI (zn)))]) hx hb dX1_slack_5 rfl hl (by decide) rfl (fun ls hl => ?_)
    refine lv_aload_n hx hb dX1_slack_6 rfl (lv_at hl 0 rfl) ?_
    have hE_13 := h_bl.ext (fp_X.ofS hS)
    refine b_strength X hR (hE_13 (fp_fnd S (zn)) (by omega)) ((hsw.1.2.2.1 (fp_fnd S (zn)) (by omega)).2.1) (hsw.1.2.2.1 (fp_fnd S (zn)) (by omega)) q1476 (by decide) (by decide) (Nat.le_of_ble_eq_true rfl) (Nat.le_of_ble_eq_true rfl) (Nat.le_of_ble_eq_true rfl) hl.1 dX1_slack_7 (hB.of hS fp_no.base) hS (fun locs hS => ?_)
    refine lv_aload_n hx hb dX1_slack_10 rfl (lv_at hl 1 rfl) ?_
    have hE_14 := fp_At.kept h_pob (fp_keptS (by omega) hS (fun z => z))
    refine r_get X hE_14 rfl in_X1 0 (by decide) q242 (Or.inl rfl) (v := .ref (u)) rfl dX1_slack_11 ?_
    refine lv_aload_n hx hb dX1_slack_14 rfl (lv_at hl 0 rfl) ?_
    have hE_15 := h_st.ext (fp_X.ofS hS)
    refine r_callV (cells1 := 147) (slots1 := 2938) X hR (c_X2_load G u l ed z t mc cap b S (fp_fnd S zn) hsw hdl hfn) q1520 q1521 q1522 q89 q1523 ⟨rfl, pd_X2_load⟩ ⟨Nat.le_of_ble_eq_true rfl, Nat.le_of_ble_eq_true rfl⟩ rfl rfl (Nat.le_of_ble_eq_true rfl) (Nat.le_of_ble_eq_true rfl) hE_15.1 rfl rfl (Nat.le_of_ble_eq_true rfl) hl.1 dX1_slack_15 (hB.of hS fp_no.base) hE_15 hS (fun _ h => h.elim) (fun v H_19 locs hp_16 hz_17 hk_18 hS => ?_)
    obtain rfl := hp_16
    have hz_20 := hS.1
    refine r_stk (st2 := [.int (iI ((fp_ld S (fp_fnd S zn) : Nat) : Int)), .int (iI ((fp_str ((sB S) (fp_fnd S (zn))) : Nat) : Int))]) rfl ?_
    refine r_isub hx hb dX1_slack_18 ?_
    refine x_iret hx hb hr hlk hQ hS (Nat.le_of_ble_eq_true rfl) (Nat.le_of_ble_eq_true rfl) dX1_slack_19 ?_
    exact ⟨rfl, hFC⟩
  · skip
    rcases hp_7 with ⟨rfl, hX9, hb9⟩
    exact x_out hT hlk hQ hS (Nat.le_of_ble_eq_true rfl) (Nat.le_of_ble_eq_true rfl) hcx hvx hlx (⟨rfl, fp_X.ofS hS, hb9⟩)
set_option maxHeartbeats 4000000 in
theorem c_X1_level (G : fp_G) (x : Nat) (u : Nat) (sv : Value) (hi : Nat) (ip : Nat) (ln : Nat) (ex : Bool) (er : Int) (fa : Int) (l : Nat) (ed : Nat) (z : Nat) (t : Nat) (mc : Int32) (cap : Nat) (b : Nat → Nat) (S : PS) (zn : Int) (hsw : fp_sw S b) (hz : rg zn) : fp_MX G yX1_level cX1_level 2 (some .int) 248 5826 3 34 [.ref (x), .int (iI (zn))] (fun H => fp_At G H x (eO 1 [.ref (u), sv, .ref (hi), .ref (ip), .ref (ln), .int (iI (bI (ex))), .int (iI (er)), .int (iI (fa))]) ∧ fp_SE G u l ed z t mc cap b S H) fp_no (fun H v H1 => v = some (.int (iI ((fp_lv S (fp_fnd S zn) : Nat) : Int))) ∧ (fp_fc S zn = 0)) (fun H E H1 => (E = "java/util/NoSuchElementException" ∧ fp_X H H1 ∧ fp_fc S zn = 1)) := by
  refine fp_MX.intro (by decide) (Nat.le_of_ble_eq_true rfl) ?_
  intro pg en s mi ag bl mt cd rR qQ ls X hx hb hr hlk hnm hR hQ hT hB hM hl
  have hS : va_S (fA fp_no s.heap.size) s.heap s.heap [] := va_S.rf
  generalize ([] : List Loc) = locs at hS ⊢
  have hb0 := hB.1
  obtain ⟨h_pob, h_st⟩ := hM
  have hsz0 := hS.1
  have lt_1 := h_pob.lt
  have lt_2 := h_st.1.lt
  have hn24 := hsw.1.1
  obtain ⟨h_o, h_l, h_z, h_t, h_bl, h_xb, h_zb, h_tb⟩ := id h_st
  have lt_3 := h_l.1.lt
  have lt_4 := h_l.2.2
  have lt_5 := h_z.lt
  have lt_6 := h_t.lt
  refine lv_aload_n hx hb dX1_level_0 rfl (lv_at hl 0 rfl) ?_
  refine r_get X h_pob rfl in_X1 0 (by decide) q242 (Or.inl rfl) (v := .ref (u)) rfl dX1_level_1 ?_
  refine lv_aload_n hx hb dX1_level_4 rfl (lv_at hl 0 rfl) ?_
  refine lv_iload_n hx hb dX1_level_5 rfl (lv_at hl 1 rfl) ?_
  refine x_callV (cells1 := 2) (slots1 := 10) X hR (c_X1_block G x u sv hi ip ln ex (er) (fa) l ed z t mc cap b S (zn) hsw (⟨by omega, by omega⟩)) q1320 q1322 qs26 q88 q1323 ⟨rfl, pd_X1_block⟩ ⟨Nat.le_of_ble_eq_true rfl, Nat.le_of_ble_eq_true rfl⟩ rfl rfl (Nat.le_of_ble_eq_true rfl) (Nat.le_of_ble_eq_true rfl) h_pob rfl rfl (Nat.le_of_ble_eq_true rfl) hl.1 dX1_level_6 (hB.of hS fp_no.base) ⟨h_pob, h_st⟩ hS (fun _ h => h.elim) (fun v H_10 locs hp_7 hz_8 hk_9 hS => ?_) (fun Ex qx cx H_10 locs hp_7 hz_8 hk_9 hS hcx hvx hlx => ?_)
  · skip
    obtain ⟨rfl, hfn_11⟩ := hp_7
    have hz_12 := hS.1
    refine r_stk (st2 := [.ref (b (fp_fnd S (zn))), .ref (u)]) rfl ?_
    have hfn := hfn_11
    have hbk0 := hsw.1.2.2.1 (fp_fnd S zn) hfn
    have hFC : fp_fc S zn = 0 := fp_fc_0 rfl hfn
    have hE_13 := h_st.ext (fp_X.ofS hS)
    refine r_callV (cells1 := 3) (slots1 := 34) X hR (c_X2_level G u l ed z t mc cap b S (fp_fnd S zn) hsw hfn) q1572 q1573 q1574 q89 q1575 ⟨rfl, pd_X2_level⟩ ⟨Nat.le_of_ble_eq_true rfl, Nat.le_of_ble_eq_true rfl⟩ rfl rfl (Nat.le_of_ble_eq_true rfl) (Nat.le_of_ble_eq_true rfl) hE_13.1 rfl rfl (Nat.le_of_ble_eq_true rfl) hl.1 dX1_level_9 (hB.of hS fp_no.base) hE_13 hS (fun _ h => h.elim) (fun v H_17 locs hp_14 hz_15 hk_16 hS => ?_)
    obtain rfl := hp_14
    have hz_18 := hS.1
    refine r_stk (st2 := [.int (iI ((fp_lv S (fp_fnd S zn) : Nat) : Int))]) rfl ?_
    refine x_iret hx hb hr hlk hQ hS (Nat.le_of_ble_eq_true rfl) (Nat.le_of_ble_eq_true rfl) dX1_level_12 ?_
    exact ⟨rfl, hFC⟩
  · skip
    rcases hp_7 with ⟨rfl, hX9, hb9⟩
    exact x_out hT hlk hQ hS (Nat.le_of_ble_eq_true rfl) (Nat.le_of_ble_eq_true rfl) hcx hvx hlx (⟨rfl, fp_X.ofS hS, hb9⟩)
set_option maxHeartbeats 4000000 in
theorem c_X1_supporterCount (G : fp_G) (x : Nat) (u : Nat) (sv : Value) (hi : Nat) (ip : Nat) (ln : Nat) (ex : Bool) (er : Int) (fa : Int) (l : Nat) (ed : Nat) (z : Nat) (t : Nat) (mc : Int32) (cap : Nat) (b : Nat → Nat) (S : PS) (zn : Int) (hsw : fp_sw S b) (hz : rg zn) (hdl : fp_dl S) : fp_MX G yX1_supporterCount cX1_supporterCount 2 (some .int) 8 196 8 131 [.ref (x), .int (iI (zn))] (fun H => fp_At G H x (eO 1 [.ref (u), sv, .ref (hi), .ref (ip), .ref (ln), .int (iI (bI (ex))), .int (iI (er)), .int (iI (fa))]) ∧ fp_SE G u l ed z t mc cap b S H) fp_no (fun H v H1 => v = some (.int (iI ((fp_nsup S (fp_fnd S zn) : Nat) : Int))) ∧ (fp_fc S zn = 0)) (fun H E H1 => (E = "java/util/NoSuchElementException" ∧ fp_X H H1 ∧ fp_fc S zn = 1)) := by
  refine fp_MX.intro (by decide) (Nat.le_of_ble_eq_true rfl) ?_
  intro pg en s mi ag bl mt cd rR qQ ls X hx hb hr hlk hnm hR hQ hT hB hM hl
  have hS : va_S (fA fp_no s.heap.size) s.heap s.heap [] := va_S.rf
  generalize ([] : List Loc) = locs at hS ⊢
  have hb0 := hB.1
  obtain ⟨h_pob, h_st⟩ := hM
  have hsz0 := hS.1
  have lt_1 := h_pob.lt
  have lt_2 := h_st.1.lt
  have hn24 := hsw.1.1
  obtain ⟨h_o, h_l, h_z, h_t, h_bl, h_xb, h_zb, h_tb⟩ := id h_st
  have lt_3 := h_l.1.lt
  have lt_4 := h_l.2.2
  have lt_5 := h_z.lt
  have lt_6 := h_t.lt
  refine lv_aload_n hx hb dX1_supporterCount_0 rfl (lv_at hl 0 rfl) ?_
  refine r_get X h_pob rfl in_X1 0 (by decide) q242 (Or.inl rfl) (v := .ref (u)) rfl dX1_supporterCount_1 ?_
  refine lv_aload_n hx hb dX1_supporterCount_4 rfl (lv_at hl 0 rfl) ?_
  refine lv_iload_n hx hb dX1_supporterCount_5 rfl (lv_at hl 1 rfl) ?_
  refine x_callV (cells1 := 2) (slots1 := 10) X hR (c_X1_block G x u sv hi ip ln ex (er) (fa) l ed z t mc cap b S (zn) hsw (⟨by omega, by omega⟩)) q1320 q1322 qs26 q88 q1323 ⟨rfl, pd_X1_block⟩ ⟨Nat.le_of_ble_eq_true rfl, Nat.le_of_ble_eq_true rfl⟩ rfl rfl (Nat.le_of_ble_eq_true rfl) (Nat.le_of_ble_eq_true rfl) h_pob rfl rfl (Nat.le_of_ble_eq_true rfl) hl.1 dX1_supporterCount_6 (hB.of hS fp_no.base) ⟨h_pob, h_st⟩ hS (fun _ h => h.elim) (fun v H_10 locs hp_7 hz_8 hk_9 hS => ?_) (fun Ex qx cx H_10 locs hp_7 hz_8 hk_9 hS hcx hvx hlx => ?_)
  · skip
    obtain ⟨rfl, hfn_11⟩ := hp_7
    have hz_12 := hS.1
    refine r_stk (st2 := [.ref (b (fp_fnd S (zn))), .ref (u)]) rfl ?_
    have hfn := hfn_11
    have hbk0 := hsw.1.2.2.1 (fp_fnd S zn) hfn
    have hFC : fp_fc S zn = 0 := fp_fc_0 rfl hfn
    have hE_13 := h_st.ext (fp_X.ofS hS)
    refine r_callV (cells1 := 8) (slots1 := 131) X hR (c_X2_supporters G u l ed z t mc cap b S (fp_fnd S zn) hsw hdl hfn) q1498 q555 q556 q89 q557 ⟨rfl, pd_X2_supporters⟩ ⟨Nat.le_of_ble_eq_true rfl, Nat.le_of_ble_eq_true rfl⟩ rfl rfl (Nat.le_of_ble_eq_true rfl) (Nat.le_of_ble_eq_true rfl) hE_13.1 rfl rfl (Nat.le_of_ble_eq_true rfl) hl.1 dX1_supporterCount_9 (hB.of hS fp_no.base) hE_13 hS (fun _ h => h.elim) (fun v H_17 locs hp_14 hz_15 hk_16 hS => ?_)
    obtain ⟨q_18, ed2_19, mc2_20, cap2_21, c_22, e_23, rfl, hq_24, hed_25, hSU_26, hE_27⟩ := hp_14
    have hz_28 := hS.1
    have lt_30 := hE_27.1.lt
    have lt_31 := hE_27.2.2
    refine r_stk (st2 := [.ref (q_18)]) rfl ?_
    refine r_callV (cells1 := 8) (slots1 := 131) X hR (c_J2_size G q_18 ed2_19 mc2_20 c_22 cap2_21 (fun p => b (e_23 p))) q460 q461 q462 q92 q463 ⟨rfl, pd_J2_size⟩ ⟨Nat.le_of_ble_eq_true rfl, Nat.le_of_ble_eq_true rfl⟩ rfl rfl (Nat.le_of_ble_eq_true rfl) (Nat.le_of_ble_eq_true rfl) hE_27.1 rfl rfl (Nat.le_of_ble_eq_true rfl) hl.1 dX1_supporterCount_12 (hB.of hS fp_no.base) hE_27 hS (fun _ h => h.elim) (fun v H_35 locs hp_32 hz_33 hk_34 hS => ?_)
    obtain ⟨rfl, rfl⟩ := hp_32
    refine r_stk (st2 := [.int (iI ((c_22 : Nat) : Int))]) rfl ?_
    refine x_iret hx hb hr hlk hQ hS (Nat.le_of_ble_eq_true rfl) (Nat.le_of_ble_eq_true rfl) dX1_supporterCount_15 ?_
    exact ⟨(congrArg (fun q : Nat => some (Value.int (iI (q : Int)))) hSU_26.1), hFC⟩
  · skip
    rcases hp_7 with ⟨rfl, hX9, hb9⟩
    exact x_out hT hlk hQ hS (Nat.le_of_ble_eq_true rfl) (Nat.le_of_ble_eq_true rfl) hcx hvx hlx (⟨rfl, fp_X.ofS hS, hb9⟩)
