/-! THE PLANNER: methods with lambdas -/
set_option maxRecDepth 100000
theorem fp_MX.introN {G : fp_G} {y : MethodName} {cc : ByteArray} {maxL : Nat} {ret : Option FieldType} {fr lo mc ms : Nat} {av : List Value} {Pre : Heap → Prop} {A : Nat → Prop} {Post : Heap → Option Value → Heap → Prop} {XPost : Heap → String → Heap → Prop}
    (hy : plainName y.cls = true) (hlen : (lg_sl av).length ≤ maxL)
    (body : ∀ (p : Program) (e : Env) (s : State) (m : MethodId) (args : Array Value) (below : List Frame) (meth : Method) (c : Code) (R : Room) (Q : State → Prop) (ls : Array Slot), s.methodNamed? y = some m →
      fp_C G p s m args c cc y.cls maxL → p.tables.exec = Jvm.exec → c.code = cc → meth.sig.returnType = ret → meth.locks = false → meth.name = y.name → fp_R R fr lo mc ms → Q = fp_QX below A Post XPost args s mc ms → (∀ x ∈ c.exceptionTable.toList, False) →
      fp_B G s.heap → Pre s.heap → lv_has ls maxL (lv_args 0 av) →
      W p (g_l G) e R s m args below meth c s.heap [] 0 0 Q (F0 m 0 ls [])) : fp_MX G y cc maxL ret fr lo mc ms av Pre A Post XPost := by
  intro sz
  refine vx_ofW (cc := cc) (maxL := maxL) (ret := ret) hy rfl ?_
  intro p e s m args below meth c s₁ B hml hT hv
  obtain ⟨rfl, hsz, hK, hB, hP⟩ := hv
  subst hsz
  have hts := atoms_spec (ws := ws_ y cc maxL ret) B.pre
  rw [lg_entry_eq]
  exact body p e s m av.toArray below meth c _ _ _ B.named ⟨B.exec, B.bytes, hml, findClass_of_methodNamed B.named, fun w h => hts w (List.mem_cons_of_mem _ h), hK⟩ B.exec B.bytes B.returns B.notSynchronized (name_of_methodNamed B.named B.method).1 ⟨rfl, rfl, rfl, rfl⟩ rfl hT hB hP (lv_entry av hlen)
/-- does a block cover a column at the unit above a height? -/
def fp_fill (B : Nat → Nat) (c h : Nat) : Bool := fp_cov B c && decide (B 5 ≤ h ∧ h < fp_top B)
theorem fp_fill_t {B : Nat → Nat} {c h : Nat} (h1 : fp_cov B c = true) (h2 : B 5 ≤ h) (h3 : h < fp_top B) : fp_fill B c h = true := by
  unfold fp_fill
  rw [h1, decide_eq_true ⟨h2, h3⟩]
  rfl
theorem fp_fill_f {B : Nat → Nat} {c h : Nat} (h1 : fp_cov B c = false ∨ ¬ (B 5 ≤ h ∧ h < fp_top B)) : fp_fill B c h = false := by
  unfold fp_fill
  rcases h1 with h1 | h1
  · rw [h1]
    rfl
  · rw [decide_eq_false h1, Bool.and_false]
theorem fp_thf_thk {S : PS} {c : Nat} : fp_sm (fp_thf S c) (sN S) = fp_sm (fun k => if fp_cov (sB S k) c then fp_thk (sB S k) else 0) (sN S) := fp_sm_congr (fun k _ => by
  unfold fp_thf fp_top fp_thk
  split
  · omega
  · rfl)
theorem fp_hol_b {S : PS} (h : fp_ok S) (c : Nat) : rg (fp_hol S c) := by
  have a := fp_hi_le h c
  have b : fp_sm (fp_thf S c) (sN S) ≤ sN S * 2 := by
    rw [fp_thf_thk]
    refine fp_sm_le (fun k hk => ?_)
    unfold fp_thk
    (repeat' split) <;> omega
  have d := h.1
  unfold fp_hol
  exact ⟨by omega, by omega⟩

set_option maxRecDepth 100000
set_option maxHeartbeats 4000000 in
theorem c_X1_lambda_weightOfAll_4 (G : fp_G) (a : Nat) : fp_M G yX1_lambda_weightOfAll_4 cX1_lambda_weightOfAll_4 1 (some .boolean) 1 12 0 0 [.ref (a)] (fun H => True) fp_no (fun H v H1 => v = some (.int (iI (bI (true)))) ∧ H = H1) := by
  refine fp_M.intro (by decide) (Nat.le_of_ble_eq_true rfl) ?_
  intro pg en s mi ag bl mt cd rR qQ ls X hx hb hr hlk hnm hR hQ hB hM hl
  have hS : va_S (fA fp_no s.heap.size) s.heap s.heap [] := va_S.rf
  generalize ([] : List Loc) = locs at hS ⊢
  have hb0 := hB.1
  have hsz0 := hS.1
  refine lv_iconst (v := (iI ((1 : Nat) : Int))) hx hb dX1_lambda_weightOfAll_4_0 rfl ?_
  refine r_zret hx hb hr hlk hQ hS (Nat.le_of_ble_eq_true rfl) (Nat.le_of_ble_eq_true rfl) dX1_lambda_weightOfAll_4_1 rfl ?_
  exact ⟨rfl, rfl⟩
set_option maxHeartbeats 4000000 in
theorem c_X1_lambda_weightOfAll_5 (G : fp_G) (a : Nat) (B : Nat → Nat) (hBa : fp_bk B) : fp_M G yX1_lambda_weightOfAll_5 cX1_lambda_weightOfAll_5 1 (some .int) 1 12 0 0 [.ref (a)] (fun H => fp_At G H a (fp_bE B)) fp_no (fun H v H1 => v = some (.int (iI ((B 4 : Nat) : Int))) ∧ H = H1) := by
  refine fp_M.intro (by decide) (Nat.le_of_ble_eq_true rfl) ?_
  intro pg en s mi ag bl mt cd rR qQ ls X hx hb hr hlk hnm hR hQ hB hM hl
  have hS : va_S (fA fp_no s.heap.size) s.heap s.heap [] := va_S.rf
  generalize ([] : List Loc) = locs at hS ⊢
  have hb0 := hB.1
  have h_k1 := hM
  have hsz0 := hS.1
  have lt_1 := h_k1.lt
  refine lv_aload_n hx hb dX1_lambda_weightOfAll_5_0 rfl (lv_at hl 0 rfl) ?_
  refine r_getBN 3 (by decide) 4 rfl X h_k1 hBa.2.1 q1163 dX1_lambda_weightOfAll_5_1 ?_
  refine r_iret hx hb hr hlk hQ hS (Nat.le_of_ble_eq_true rfl) (Nat.le_of_ble_eq_true rfl) dX1_lambda_weightOfAll_5_4 ?_
  exact ⟨rfl, rfl⟩
set_option maxHeartbeats 4000000 in
theorem c_X1_lambda_pressureOnFloor_6 (G : fp_G) (a : Nat) (B : Nat → Nat) (hBa : fp_bk B) : fp_M G yX1_lambda_pressureOnFloor_6 cX1_lambda_pressureOnFloor_6 1 (some .boolean) 1 12 0 0 [.ref (a)] (fun H => fp_At G H a (fp_bE B)) fp_no (fun H v H1 => v = some (.int (iI (bI (decide (B 5 = 0))))) ∧ H = H1) := by
  refine fp_M.intro (by decide) (Nat.le_of_ble_eq_true rfl) ?_
  intro pg en s mi ag bl mt cd rR qQ ls X hx hb hr hlk hnm hR hQ hB hM hl
  have hS : va_S (fA fp_no s.heap.size) s.heap s.heap [] := va_S.rf
  generalize ([] : List Loc) = locs at hS ⊢
  have hb0 := hB.1
  have h_k1 := hM
  have hsz0 := hS.1
  have lt_1 := h_k1.lt
  have hBa5 := hBa
  refine lv_aload_n hx hb dX1_lambda_pressureOnFloor_6_0 rfl (lv_at hl 0 rfl) ?_
  refine r_getBN 4 (by decide) 5 rfl X h_k1 hBa.2.1 q1166 dX1_lambda_pressureOnFloor_6_1 ?_
  refine r_if_ne (tgt := 11) hx hb ⟨by omega, by omega⟩ dX1_lambda_pressureOnFloor_6_4 (by decide) (fun c4 => ?_) (fun c4 => ?_)
  · skip
    refine lv_iconst (v := (iI ((0 : Nat) : Int))) hx hb dX1_lambda_pressureOnFloor_6_11 rfl ?_
    refine r_zret hx hb hr hlk hQ hS (Nat.le_of_ble_eq_true rfl) (Nat.le_of_ble_eq_true rfl) dX1_lambda_pressureOnFloor_6_12 rfl ?_
    exact ⟨(congrArg (fun q : Bool => some (Value.int (iI (bI q)))) (Eq.symm (show decide (B 5 = 0) = false from decide_eq_false (by omega)))), rfl⟩
  · skip
    refine lv_iconst (v := (iI ((1 : Nat) : Int))) hx hb dX1_lambda_pressureOnFloor_6_7 rfl ?_
    refine lv_goto (tgt := 12) hx hb dX1_lambda_pressureOnFloor_6_8 (by decide) ?_
    refine r_zret hx hb hr hlk hQ hS (Nat.le_of_ble_eq_true rfl) (Nat.le_of_ble_eq_true rfl) dX1_lambda_pressureOnFloor_6_12 rfl ?_
    exact ⟨(congrArg (fun q : Bool => some (Value.int (iI (bI q)))) (Eq.symm (show decide (B 5 = 0) = true from decide_eq_true (by omega)))), rfl⟩
set_option maxHeartbeats 4000000 in
theorem c_X1_lambda_computeHoles_2 (G : fp_G) (a : Nat) (B : Nat → Nat) (hBa : fp_bk B) : fp_M G yX1_lambda_computeHoles_2 cX1_lambda_computeHoles_2 1 (some .int) 3 61 0 0 [.ref (a)] (fun H => fp_At G H a (fp_bE B)) fp_no (fun H v H1 => v = some (.int (iI ((fp_thk B : Nat) : Int))) ∧ H = H1) := by
  refine fp_M.intro (by decide) (Nat.le_of_ble_eq_true rfl) ?_
  intro pg en s mi ag bl mt cd rR qQ ls X hx hb hr hlk hnm hR hQ hB hM hl
  have hS : va_S (fA fp_no s.heap.size) s.heap s.heap [] := va_S.rf
  generalize ([] : List Loc) = locs at hS ⊢
  have hb0 := hB.1
  have h_k1 := hM
  have hsz0 := hS.1
  have lt_1 := h_k1.lt
  refine lv_aload_n hx hb dX1_lambda_computeHoles_2_0 rfl (lv_at hl 0 rfl) ?_
  refine b_thickness X hR h_k1 (hBa.2.1) q983 (by decide) (by decide) (Nat.le_of_ble_eq_true rfl) (Nat.le_of_ble_eq_true rfl) (Nat.le_of_ble_eq_true rfl) hl.1 dX1_lambda_computeHoles_2_1 (hB.of hS fp_no.base) hS (fun locs hS => ?_)
  refine r_iret hx hb hr hlk hQ hS (Nat.le_of_ble_eq_true rfl) (Nat.le_of_ble_eq_true rfl) dX1_lambda_computeHoles_2_4 ?_
  exact ⟨rfl, rfl⟩
set_option maxHeartbeats 4000000 in
theorem c_X1_lambda_computeHoles_1 (G : fp_G) (c : Nat) (a : Nat) (B : Nat → Nat) (hc : c < 12) (hBa : fp_bk B) : fp_M G yX1_lambda_computeHoles_1 cX1_lambda_computeHoles_1 2 (some .boolean) 4 101 0 0 [.int (iI ((c : Nat) : Int)), .ref (a)] (fun H => fp_At G H a (fp_bE B)) fp_no (fun H v H1 => v = some (.int (iI (bI (fp_cov B c)))) ∧ H = H1) := by
  refine fp_M.intro (by decide) (Nat.le_of_ble_eq_true rfl) ?_
  intro pg en s mi ag bl mt cd rR qQ ls X hx hb hr hlk hnm hR hQ hB hM hl
  have hS : va_S (fA fp_no s.heap.size) s.heap s.heap [] := va_S.rf
  generalize ([] : List Loc) = locs at hS ⊢
  have hb0 := hB.1
  have h_k1 := hM
  have hsz0 := hS.1
  have lt_1 := h_k1.lt
  refine lv_aload_n hx hb dX1_lambda_computeHoles_1_0 rfl (lv_at hl 1 rfl) ?_
  refine lv_iload_n hx hb dX1_lambda_computeHoles_1_1 rfl (lv_at hl 0 rfl) ?_
  refine b_covers X hR h_k1 (hBa.2.1) hBa (by omega) q969 (by decide) (by decide) (Nat.le_of_ble_eq_true rfl) (Nat.le_of_ble_eq_true rfl) (Nat.le_of_ble_eq_true rfl) hl.1 dX1_lambda_computeHoles_1_2 (hB.of hS fp_no.base) hS (fun locs hS => ?_)
  refine r_zret hx hb hr hlk hQ hS (Nat.le_of_ble_eq_true rfl) (Nat.le_of_ble_eq_true rfl) dX1_lambda_computeHoles_1_5 (bI_z _) ?_
  exact ⟨rfl, rfl⟩
set_option maxHeartbeats 4000000 in
theorem c_X1_lambda_isFilled_0 (G : fp_G) (c : Nat) (h : Nat) (a : Nat) (B : Nat → Nat) (hc : c < 12 ∧ h < 100) (hBa : fp_bk B) : fp_M G yX1_lambda_isFilled_0 cX1_lambda_isFilled_0 3 (some .boolean) 5 101 0 0 [.int (iI ((c : Nat) : Int)), .int (iI ((h : Nat) : Int)), .ref (a)] (fun H => fp_At G H a (fp_bE B)) fp_no (fun H v H1 => v = some (.int (iI (bI (fp_fill B c h)))) ∧ H = H1) := by
  refine fp_M.intro (by decide) (Nat.le_of_ble_eq_true rfl) ?_
  intro pg en s mi ag bl mt cd rR qQ ls X hx hb hr hlk hnm hR hQ hB hM hl
  have hS : va_S (fA fp_no s.heap.size) s.heap s.heap [] := va_S.rf
  generalize ([] : List Loc) = locs at hS ⊢
  have hb0 := hB.1
  have h_k1 := hM
  have hsz0 := hS.1
  have lt_1 := h_k1.lt
  have hBt := fp_top_b B
  have hBa2 := hBa
  refine lv_aload_n hx hb dX1_lambda_isFilled_0_0 rfl (lv_at hl 2 rfl) ?_
  refine lv_iload_n hx hb dX1_lambda_isFilled_0_1 rfl (lv_at hl 0 rfl) ?_
  refine b_covers X hR h_k1 (hBa.2.1) hBa (by omega) q969 (by decide) (by decide) (Nat.le_of_ble_eq_true rfl) (Nat.le_of_ble_eq_true rfl) (Nat.le_of_ble_eq_true rfl) hl.1 dX1_lambda_isFilled_0_2 (hB.of hS fp_no.base) hS (fun locs hS => ?_)
  refine r_ifeqB (tgt := 28) hx hb dX1_lambda_isFilled_0_5 (by decide) (fun c5 => ?_) (fun c5 => ?_)
  · skip
    refine lv_iconst (v := (iI ((0 : Nat) : Int))) hx hb dX1_lambda_isFilled_0_28 rfl ?_
    refine r_zret hx hb hr hlk hQ hS (Nat.le_of_ble_eq_true rfl) (Nat.le_of_ble_eq_true rfl) dX1_lambda_isFilled_0_29 rfl ?_
    exact ⟨(congrArg (fun q : Bool => some (Value.int (iI (bI q)))) (Eq.symm (show fp_fill B c h = false from fp_fill_f (Or.inl c5)))), rfl⟩
  · skip
    refine lv_aload_n hx hb dX1_lambda_isFilled_0_8 rfl (lv_at hl 2 rfl) ?_
    refine r_getBN 4 (by decide) 5 rfl X h_k1 hBa.2.1 q1166 dX1_lambda_isFilled_0_9 ?_
    refine lv_iload_n hx hb dX1_lambda_isFilled_0_12 rfl (lv_at hl 1 rfl) ?_
    refine r_icmp_gt (tgt := 28) hx hb ⟨by omega, by omega⟩ ⟨by omega, by omega⟩ dX1_lambda_isFilled_0_13 (by decide) (fun c13 => ?_) (fun c13 => ?_)
    · skip
      refine lv_iconst (v := (iI ((0 : Nat) : Int))) hx hb dX1_lambda_isFilled_0_28 rfl ?_
      refine r_zret hx hb hr hlk hQ hS (Nat.le_of_ble_eq_true rfl) (Nat.le_of_ble_eq_true rfl) dX1_lambda_isFilled_0_29 rfl ?_
      exact ⟨(congrArg (fun q : Bool => some (Value.int (iI (bI q)))) (Eq.symm (show fp_fill B c h = false from fp_fill_f (Or.inr (by omega))))), rfl⟩
    · skip
      refine lv_iload_n hx hb dX1_lambda_isFilled_0_16 rfl (lv_at hl 1 rfl) ?_
      refine lv_aload_n hx hb dX1_lambda_isFilled_0_17 rfl (lv_at hl 2 rfl) ?_
      refine b_top X hR h_k1 (hBa.2.1) hBa q970 (by decide) (by decide) (Nat.le_of_ble_eq_true rfl) (Nat.le_of_ble_eq_true rfl) (Nat.le_of_ble_eq_true rfl) hl.1 dX1_lambda_isFilled_0_18 (hB.of hS fp_no.base) hS (fun locs hS => ?_)
      refine r_icmp_ge (tgt := 28) hx hb ⟨by omega, by omega⟩ ⟨by omega, by omega⟩ dX1_lambda_isFilled_0_21 (by decide) (fun c21 => ?_) (fun c21 => ?_)
      · skip
        refine lv_iconst (v := (iI ((0 : Nat) : Int))) hx hb dX1_lambda_isFilled_0_28 rfl ?_
        refine r_zret hx hb hr hlk hQ hS (Nat.le_of_ble_eq_true rfl) (Nat.le_of_ble_eq_true rfl) dX1_lambda_isFilled_0_29 rfl ?_
        exact ⟨(congrArg (fun q : Bool => some (Value.int (iI (bI q)))) (Eq.symm (show fp_fill B c h = false from fp_fill_f (Or.inr (by omega))))), rfl⟩
      · skip
        refine lv_iconst (v := (iI ((1 : Nat) : Int))) hx hb dX1_lambda_isFilled_0_24 rfl ?_
        refine lv_goto (tgt := 29) hx hb dX1_lambda_isFilled_0_25 (by decide) ?_
        refine r_zret hx hb hr hlk hQ hS (Nat.le_of_ble_eq_true rfl) (Nat.le_of_ble_eq_true rfl) dX1_lambda_isFilled_0_29 rfl ?_
        exact ⟨(congrArg (fun q : Bool => some (Value.int (iI (bI q)))) (Eq.symm (show fp_fill B c h = true from fp_fill_t c5 (by omega) (by omega)))), rfl⟩
set_option maxHeartbeats 4000000 in
theorem c_X1_lambda_pressureOnFloor_7 (G : fp_G) (x : Nat) (u : Nat) (sv : Value) (hi : Nat) (ip : Nat) (ln : Nat) (ex : Bool) (er : Int) (fa : Int) (l : Nat) (ed : Nat) (z : Nat) (t : Nat) (mc : Int32) (cap : Nat) (b : Nat → Nat) (S : PS) (a : Nat) (k : Nat) (hsw : fp_sw S b) (hk : k < sN S) : fp_M G yX1_lambda_pressureOnFloor_7 cX1_lambda_pressureOnFloor_7 3 (some .int) 5 106 0 0 [.ref (x), .ref (a), .ref (b k)] (fun H => fp_At G H x (eO 1 [.ref (u), sv, .ref (hi), .ref (ip), .ref (ln), .int (iI (bI (ex))), .int (iI (er)), .int (iI (fa))]) ∧ fp_SE G u l ed z t mc cap b S H ∧ fp_At G H a (eI G (sN S) (fun j => iI ((fun j => ((fp_ld S j : Nat) : Int)) j)))) fp_no (fun H v H1 => v = some (.int (iI ((sB S k 4 + fp_ld S k : Nat) : Int))) ∧ H = H1) := by
  refine fp_M.intro (by decide) (Nat.le_of_ble_eq_true rfl) ?_
  intro pg en s mi ag bl mt cd rR qQ ls X hx hb hr hlk hnm hR hQ hB hM hl
  have hS : va_S (fA fp_no s.heap.size) s.heap s.heap [] := va_S.rf
  generalize ([] : List Loc) = locs at hS ⊢
  have hb0 := hB.1
  obtain ⟨h_pob, h_st, h_ar⟩ := hM
  have hsz0 := hS.1
  have lt_1 := h_pob.lt
  have lt_2 := h_st.1.lt
  have lt_3 := h_ar.lt
  have hn24 := hsw.1.1
  obtain ⟨h_o, h_l, h_z, h_t, h_bl, h_xb, h_zb, h_tb⟩ := id h_st
  have lt_4 := h_l.1.lt
  have lt_5 := h_l.2.2
  have lt_6 := h_z.lt
  have lt_7 := h_t.lt
  have hbk := hsw.1.2.2.1 k hk
  have hldk := fp_ld_b hsw.1 k
  refine lv_aload_n hx hb dX1_lambda_pressureOnFloor_7_0 rfl (lv_at hl 2 rfl) ?_
  refine r_getBN 3 (by decide) 4 rfl X (h_bl k (by omega)) (hsw.1.2.2.1 k (by omega)).2.1 q1163 dX1_lambda_pressureOnFloor_7_1 ?_
  refine lv_aload_n hx hb dX1_lambda_pressureOnFloor_7_4 rfl (lv_at hl 1 rfl) ?_
  refine lv_aload_n hx hb dX1_lambda_pressureOnFloor_7_5 rfl (lv_at hl 0 rfl) ?_
  refine r_get X h_pob rfl in_X1 0 (by decide) q242 (Or.inl rfl) (v := .ref (u)) rfl dX1_lambda_pressureOnFloor_7_6 ?_
  refine r_getN X h_st.1 rfl in_X2 0 (by decide) q174 (Or.inl rfl) (v := .ref (l)) rfl dX1_lambda_pressureOnFloor_7_9 ?_
  refine lv_aload_n hx hb dX1_lambda_pressureOnFloor_7_12 rfl (lv_at hl 2 rfl) ?_
  refine r_callV (cells1 := 0) (slots1 := 0) X hR (c_J2_indexOf G l ed mc (sN S) cap b (b k) (sB S k) k ((hsw.1.2.2.1 k (by omega)).2.1) (by omega) rfl (fun j hj h => by have := hsw.2 j k (by omega) (by omega) h; omega)) q918 q871 q872 q92 q873 ⟨rfl, pd_J2_indexOf⟩ ⟨Nat.le_of_ble_eq_true rfl, Nat.le_of_ble_eq_true rfl⟩ rfl rfl (Nat.le_of_ble_eq_true rfl) (Nat.le_of_ble_eq_true rfl) h_l.1 rfl rfl (Nat.le_of_ble_eq_true rfl) hl.1 dX1_lambda_pressureOnFloor_7_13 (hB.of hS fp_no.base) ⟨h_l, (h_bl k (by omega))⟩ hS (fun _ h => h.elim) (fun v H_11 locs hp_8 hz_9 hk_10 hS => ?_)
  obtain ⟨rfl, rfl⟩ := hp_8
  refine r_stk (st2 := [.int (iI ((k : Nat) : Int)), .ref (a), .int (iI ((((sB S) k) 4 : Nat) : Int))]) rfl ?_
  refine r_ialdI X h_ar (j := k) rfl (by omega) (by omega) dX1_lambda_pressureOnFloor_7_16 ?_
  refine r_set (y := .int (iI ((fp_ld S k : Nat) : Int))) rfl ?_
  refine r_iaddN hx hb dX1_lambda_pressureOnFloor_7_17 ?_
  refine r_iret hx hb hr hlk hQ hS (Nat.le_of_ble_eq_true rfl) (Nat.le_of_ble_eq_true rfl) dX1_lambda_pressureOnFloor_7_18 ?_
  exact ⟨rfl, rfl⟩
set_option maxHeartbeats 4000000 in
theorem c_X1_lambda_countAbove_3 (G : fp_G) (x : Nat) (u : Nat) (sv : Value) (hi : Nat) (ip : Nat) (ln : Nat) (ex : Bool) (er : Int) (fa : Int) (l : Nat) (ed : Nat) (z : Nat) (t : Nat) (mc : Int32) (cap : Nat) (b : Nat → Nat) (S : PS) (o : Nat) (k : Nat) (hsw : fp_sw S b) (hk : k < sN S) (ho : o < sN S) : fp_M G yX1_lambda_countAbove_3 cX1_lambda_countAbove_3 3 (some .boolean) 248 5827 1 24 [.ref (x), .ref (b o), .ref (b k)] (fun H => fp_At G H x (eO 1 [.ref (u), sv, .ref (hi), .ref (ip), .ref (ln), .int (iI (bI (ex))), .int (iI (er)), .int (iI (fa))]) ∧ fp_SE G u l ed z t mc cap b S H) fp_no (fun H v H1 => v = some (.int (iI (bI (fp_ab S o k))))) := by
  refine fp_M.intro (by decide) (Nat.le_of_ble_eq_true rfl) ?_
  intro pg en s mi ag bl mt cd rR qQ ls X hx hb hr hlk hnm hR hQ hB hM hl
  have hS : va_S (fA fp_no s.heap.size) s.heap s.heap [] := va_S.rf
  generalize ([] : List Loc) = locs at hS ⊢
  have hb0 := hB.1
  obtain ⟨h_pob, h_st⟩ := hM
  have hsz0 := hS.1
  have lt_1 := h_pob.lt
  have lt_2 := h_st.1.lt
  refine lv_aload_n hx hb dX1_lambda_countAbove_3_0 rfl (lv_at hl 0 rfl) ?_
  refine r_get X h_pob rfl in_X1 0 (by decide) q242 (Or.inl rfl) (v := .ref (u)) rfl dX1_lambda_countAbove_3_1 ?_
  refine lv_aload_n hx hb dX1_lambda_countAbove_3_4 rfl (lv_at hl 2 rfl) ?_
  refine lv_aload_n hx hb dX1_lambda_countAbove_3_5 rfl (lv_at hl 1 rfl) ?_
  refine r_callV (cells1 := 1) (slots1 := 24) X hR (c_X2_isAbove G u l ed z t mc cap b S k o hsw hk ho) q1583 q1584 q1585 q89 q1586 ⟨rfl, pd_X2_isAbove⟩ ⟨Nat.le_of_ble_eq_true rfl, Nat.le_of_ble_eq_true rfl⟩ rfl rfl (Nat.le_of_ble_eq_true rfl) (Nat.le_of_ble_eq_true rfl) h_st.1 rfl rfl (Nat.le_of_ble_eq_true rfl) hl.1 dX1_lambda_countAbove_3_6 (hB.of hS fp_no.base) h_st hS (fun _ h => h.elim) (fun v H_6 locs hp_3 hz_4 hk_5 hS => ?_)
  obtain rfl := hp_3
  have hz_7 := hS.1
  refine r_stk (st2 := [.int (iI (bI (fp_ab S o k)))]) rfl ?_
  refine r_zret hx hb hr hlk hQ hS (Nat.le_of_ble_eq_true rfl) (Nat.le_of_ble_eq_true rfl) dX1_lambda_countAbove_3_9 (bI_z _) ?_
  exact rfl
set_option maxHeartbeats 4000000 in
theorem c_X1_weightOfAll (G : fp_G) (x : Nat) (u : Nat) (sv : Value) (hi : Nat) (ip : Nat) (ln : Nat) (ex : Bool) (er : Int) (fa : Int) (l : Nat) (ed : Nat) (z : Nat) (t : Nat) (mc : Int32) (cap : Nat) (b : Nat → Nat) (S : PS) (hsw : fp_sw S b) : fp_M G yX1_weightOfAll cX1_weightOfAll 1 (some .int) 302 8046 1 4 [.ref (x)] (fun H => fp_At G H x (eO 1 [.ref (u), sv, .ref (hi), .ref (ip), .ref (ln), .int (iI (bI (ex))), .int (iI (er)), .int (iI (fa))]) ∧ fp_SE G u l ed z t mc cap b S H) fp_no (fun H v H1 => v = some (.int (iI ((fp_tw S : Nat) : Int)))) := by
  refine fp_M.introN (by decide) (Nat.le_of_ble_eq_true rfl) ?_
  intro pg en s mi ag bl mt cd rR qQ ls hn X hx hb hr hlk hnm hR hQ hB hM hl
  have hS : va_S (fA fp_no s.heap.size) s.heap s.heap [] := va_S.rf
  generalize ([] : List Loc) = locs at hS ⊢
  have hb0 := hB.1
  obtain ⟨h_pob, h_st⟩ := hM
  have hsz0 := hS.1
  have lt_1 := h_pob.lt
  have lt_2 := h_st.1.lt
  have hn24 := hsw.1.1
  obtain ⟨h_o, h_l, h_z, h_t, h_bl, h_xb, h_zb, h_tb⟩ := id h_st
  have lt_3 := h_l.1.lt
  have lt_4 := h_l.2.2
  have lt_5 := h_z.lt
  have lt_6 := h_t.lt
  refine lv_aload_n hx hb dX1_weightOfAll_0 rfl (lv_at hl 0 rfl) ?_
  refine r_get X h_pob rfl in_X1 0 (by decide) q242 (Or.inl rfl) (v := .ref (u)) rfl dX1_weightOfAll_1 ?_
  refine r_indyC (x := fp_x1) X hn hR fp_w1 rfl (hB.of hS fp_no.base) (Nat.le_of_ble_eq_true rfl) hl.1 dX1_weightOfAll_4 (fun cK_7 la_10 hLm_8 hob_9 hlt_11 => ?_)
  have lt_12 := hob_9.lt
  refine r_indyC (x := fp_x2) X hn hR fp_w2 rfl (hB.of hS fp_no.base) (Nat.le_of_ble_eq_true rfl) hl.1 dX1_weightOfAll_9 (fun cK_13 la_16 hLm_14 hob_15 hlt_17 => ?_)
  have lt_18 := hob_15.lt
  have hCL_19 : fp_CL G fp_nM (la_10) 0 0 (sN S) b (fun H => fp_BL G (sN S) b (sB S) H ∧ fp_ob H (la_10) cK_7 [] ∧ fp_ob H (la_16) cK_13 []) (fun k => iI (bI ((fun _ => true) k))) := ⟨_, fp_s1, cK_7, fp_lD1, fp_lf1, fp_ll1, _, _, hLm_8, fp_Ls1, fp_Lc1.lf, by decide +kernel, ⟨rfl, rfl, rfl⟩, ⟨Nat.le_of_ble_eq_true rfl, Nat.le_of_ble_eq_true rfl⟩, fun k hk => ((fp_MI.c0 (y := yX1_lambda_weightOfAll_4) (a := la_10) hLm_8 fp_Ls1 fp_Lc1 fp_Lp1 ⟨⟨rfl, rfl, rfl⟩, rfl⟩ (c_X1_lambda_weightOfAll_4 G (b k)) ⟨q522, q88, q523, by decide, by decide, rfl⟩ (fun _ _ _ h => fp_zI h.1 (bI_z _))).pre (fun H h => trivial)).post (fun _ _ _ h => h.1), fun H h => by obtain ⟨cell, h1, h2, h3, -⟩ := h.2.1; exact ⟨cell, h1, h2, h3⟩⟩
  have hCL_20 : fp_CL G fp_nV (la_16) 0 0 (sN S) b (fun H => fp_BL G (sN S) b (sB S) H ∧ fp_ob H (la_10) cK_7 [] ∧ fp_ob H (la_16) cK_13 []) (fun k => iI ((((fun k => sB S k 4) k : Nat)) : Int)) := ⟨_, fp_s2, cK_13, fp_lD2, fp_lf2, fp_ll2, _, _, hLm_14, fp_Ls2, fp_Lc2.lf, by decide +kernel, ⟨rfl, rfl, rfl⟩, ⟨Nat.le_of_ble_eq_true rfl, Nat.le_of_ble_eq_true rfl⟩, fun k hk => ((fp_MI.c0 (y := yX1_lambda_weightOfAll_5) (a := la_16) hLm_14 fp_Ls2 fp_Lc2 fp_Lp2 ⟨⟨rfl, rfl, rfl⟩, rfl⟩ (c_X1_lambda_weightOfAll_5 G (b k) (sB S k) (hsw.1.2.2.1 k hk)) ⟨q524, q88, q525, by decide, by decide, rfl⟩ (fun _ _ _ h => fp_zI h.1 rfl)).pre (fun H h => h.1 k hk)).post (fun _ _ _ h => h.1), fun H h => by obtain ⟨cell, h1, h2, h3, -⟩ := h.2.2; exact ⟨cell, h1, h2, h3⟩⟩
  have hPL_21 : (fun H => fp_BL G (sN S) b (sB S) H ∧ fp_ob H (la_10) cK_7 [] ∧ fp_ob H (la_16) cK_13 []) s.heap := ⟨h_bl, hob_9, hob_15⟩
  refine r_callV (cells1 := (0 + (1 + sN S * 0))) (slots1 := (0 + (4 + sN S * 0))) X hR (c_X2_sum G u l ed z t mc cap b S la_10 0 0 (fun _ => true) (fun H => fp_BL G (sN S) b (sB S) H ∧ fp_ob H (la_10) cK_7 [] ∧ fp_ob H (la_16) cK_13 []) la_16 (fun k => sB S k 4) hsw (fun H H1 h hx => ⟨h.1.ext hx, h.2.1.mv (hx.2 _ h.2.1.lt), h.2.2.mv (hx.2 _ h.2.2.lt)⟩) hCL_19 hCL_20) q526 q527 q528 q89 q529 ⟨rfl, pd_X2_sum⟩ ⟨Nat.le_of_ble_eq_true rfl, Nat.le_of_ble_eq_true rfl⟩ rfl rfl (by omega) (by omega) h_st.1 rfl rfl (Nat.le_of_ble_eq_true rfl) hl.1 dX1_weightOfAll_14 (hB.of hS fp_no.base) ⟨h_st, hPL_21⟩ hS (fun _ h => h.elim) (fun v H_25 locs hp_22 hz_23 hk_24 hS => ?_)
  obtain rfl := hp_22
  have hz_26 := hS.1
  refine r_stk (st2 := [.int (iI ((fp_sm (fun k => if (fun _ => true) k then (fun k => sB S k 4) k else 0) (sN S) : Nat) : Int))]) rfl ?_
  refine r_iret hx hb hr hlk hQ hS (by omega) (by omega) dX1_weightOfAll_17 ?_
  exact (congrArg (fun q : Nat => some (Value.int (iI (q : Int)))) (fp_sm_congr (fun k hk => if_pos rfl)))
set_option maxHeartbeats 4000000 in
theorem c_X1_totalWeight (G : fp_G) (x : Nat) (u : Nat) (sv : Value) (hi : Nat) (ip : Nat) (ln : Nat) (ex : Bool) (er : Int) (fa : Int) (l : Nat) (ed : Nat) (z : Nat) (t : Nat) (mc : Int32) (cap : Nat) (b : Nat → Nat) (S : PS) (hsw : fp_sw S b) : fp_M G yX1_totalWeight cX1_totalWeight 1 (some .int) 303 8066 1 4 [.ref (x)] (fun H => fp_At G H x (eO 1 [.ref (u), sv, .ref (hi), .ref (ip), .ref (ln), .int (iI (bI (ex))), .int (iI (er)), .int (iI (fa))]) ∧ fp_SE G u l ed z t mc cap b S H) fp_no (fun H v H1 => v = some (.int (iI ((fp_tw S : Nat) : Int)))) := by
  refine fp_M.intro (by decide) (Nat.le_of_ble_eq_true rfl) ?_
  intro pg en s mi ag bl mt cd rR qQ ls X hx hb hr hlk hnm hR hQ hB hM hl
  have hS : va_S (fA fp_no s.heap.size) s.heap s.heap [] := va_S.rf
  generalize ([] : List Loc) = locs at hS ⊢
  have hb0 := hB.1
  obtain ⟨h_pob, h_st⟩ := hM
  have hsz0 := hS.1
  have lt_1 := h_pob.lt
  have lt_2 := h_st.1.lt
  refine lv_aload_n hx hb dX1_totalWeight_0 rfl (lv_at hl 0 rfl) ?_
  refine r_callV (cells1 := 1) (slots1 := 4) X hR (c_X1_weightOfAll G x u sv hi ip ln ex (er) (fa) l ed z t mc cap b S hsw) q518 q520 qs4 q88 q521 ⟨rfl, pd_X1_weightOfAll⟩ ⟨Nat.le_of_ble_eq_true rfl, Nat.le_of_ble_eq_true rfl⟩ rfl rfl (Nat.le_of_ble_eq_true rfl) (Nat.le_of_ble_eq_true rfl) h_pob rfl rfl (Nat.le_of_ble_eq_true rfl) hl.1 dX1_totalWeight_1 (hB.of hS fp_no.base) ⟨h_pob, h_st⟩ hS (fun _ h => h.elim) (fun v H_6 locs hp_3 hz_4 hk_5 hS => ?_)
  obtain rfl := hp_3
  have hz_7 := hS.1
  refine r_stk (st2 := [.int (iI ((fp_tw S : Nat) : Int))]) rfl ?_
  refine r_iret hx hb hr hlk hQ hS (Nat.le_of_ble_eq_true rfl) (Nat.le_of_ble_eq_true rfl) dX1_totalWeight_4 ?_
  exact rfl
set_option maxHeartbeats 4000000 in
theorem c_X1_pressureOnFloor (G : fp_G) (x : Nat) (u : Nat) (sv : Value) (hi : Nat) (ip : Nat) (ln : Nat) (ex : Bool) (er : Int) (fa : Int) (l : Nat) (ed : Nat) (z : Nat) (t : Nat) (mc : Int32) (cap : Nat) (b : Nat → Nat) (S : PS) (hsw : fp_sw S b) (hdl : fp_dl S) : fp_M G yX1_pressureOnFloor cX1_pressureOnFloor 2 (some .int) 302 8046 147 2934 [.ref (x)] (fun H => fp_At G H x (eO 1 [.ref (u), sv, .ref (hi), .ref (ip), .ref (ln), .int (iI (bI (ex))), .int (iI (er)), .int (iI (fa))]) ∧ fp_SE G u l ed z t mc cap b S H) fp_no (fun H v H1 => v = some (.int (iI ((fp_fp S : Nat) : Int)))) := by
  refine fp_M.introN (by decide) (Nat.le_of_ble_eq_true rfl) ?_
  intro pg en s mi ag bl mt cd rR qQ ls hn X hx hb hr hlk hnm hR hQ hB hM hl
  have hS : va_S (fA fp_no s.heap.size) s.heap s.heap [] := va_S.rf
  generalize ([] : List Loc) = locs at hS ⊢
  have hb0 := hB.1
  obtain ⟨h_pob, h_st⟩ := hM
  have hsz0 := hS.1
  have lt_1 := h_pob.lt
  have lt_2 := h_st.1.lt
  have hn24 := hsw.1.1
  obtain ⟨h_o, h_l, h_z, h_t, h_bl, h_xb, h_zb, h_tb⟩ := id h_st
  have lt_3 := h_l.1.lt
  have lt_4 := h_l.2.2
  have lt_5 := h_z.lt
  have lt_6 := h_t.lt
  refine lv_aload_n hx hb dX1_pressureOnFloor_0 rfl (lv_at hl 0 rfl) ?_
  refine r_get X h_pob rfl in_X1 0 (by decide) q242 (Or.inl rfl) (v := .ref (u)) rfl dX1_pressureOnFloor_1 ?_
  refine r_callV (cells1 := 145) (slots1 := 2928) X hR (c_X2_loads G u l ed z t mc cap b S hsw hdl) q546 q547 q548 q89 q549 ⟨rfl, pd_X2_loads⟩ ⟨Nat.le_of_ble_eq_true rfl, Nat.le_of_ble_eq_true rfl⟩ rfl rfl (Nat.le_of_ble_eq_true rfl) (Nat.le_of_ble_eq_true rfl) h_st.1 rfl rfl (Nat.le_of_ble_eq_true rfl) hl.1 dX1_pressureOnFloor_4 (hB.of hS fp_no.base) h_st hS (fun _ h => h.elim) (fun v H_10 locs hp_7 hz_8 hk_9 hS => ?_)
  obtain ⟨a_11, rfl, ha_12, hE_13⟩ := hp_7
  have hz_14 := hS.1
  have lt_16 := hE_13.lt
  refine r_stk (st2 := [.ref (a_11)]) rfl ?_
  refine lv_astore_n (lv' := [(1, .ref (a_11)), (0, .ref (x))]) hx hb dX1_pressureOnFloor_7 rfl hl (by decide) rfl (fun ls hl => ?_)
  refine lv_aload_n hx hb dX1_pressureOnFloor_8 rfl (lv_at hl 1 rfl) ?_
  have hE_17 := fp_At.kept h_pob (fp_keptS (by omega) hS (fun z => z))
  refine r_get X hE_17 rfl in_X1 0 (by decide) q242 (Or.inl rfl) (v := .ref (u)) rfl dX1_pressureOnFloor_9 ?_
  refine r_indyC (x := fp_x3) X hn hR fp_w3 rfl (hB.of hS fp_no.base) (Nat.le_of_ble_eq_true rfl) hl.1 dX1_pressureOnFloor_12 (fun cK_18 la_21 hLm_19 hob_20 hlt_22 => ?_)
  have lt_23 := hob_20.lt
  refine lv_aload_n hx hb dX1_pressureOnFloor_17 rfl (lv_at hl 1 rfl) ?_
  refine lv_aload_n hx hb dX1_pressureOnFloor_18 rfl (lv_at hl 0 rfl) ?_
  refine r_indyM (x := fp_x4) (vals := [.ref (x), .ref (a_11)]) (rest := [.ref (la_21), .ref (u)]) X hn hR fp_w4 (by decide) fp_Ls4 hS rfl (by rw [fp_Lt4]; rfl) (by rw [fp_Lt4]; exact fp_fit2 rfl rfl) rfl (Nat.le_of_ble_eq_true rfl) (Nat.le_of_ble_eq_true rfl) (Nat.le_of_ble_eq_true rfl) hl.1 dX1_pressureOnFloor_19 (fun cK_24 H_27 hLm_25 hob_26 hX_28 hz_29 hS => ?_)
  have hz_30 := hS.1
  have lt_31 := hob_26.lt
  have hCL_32 : fp_CL G fp_nM (la_21) 0 0 (sN S) b (fun H => fp_BL G (sN S) b (sB S) H ∧ fp_ob H (la_21) cK_18 [] ∧ fp_ob H (H_10.size) cK_24 [.ref (x), .ref (a_11)] ∧ fp_At G H x (eO 1 [.ref (u), sv, .ref (hi), .ref (ip), .ref (ln), .int (iI (bI (ex))), .int (iI (er)), .int (iI (fa))]) ∧ fp_SE G u l ed z t mc cap b S H ∧ fp_At G H a_11 (eI G (sN S) (fun j => iI ((fun j => ((fp_ld S j : Nat) : Int)) j)))) (fun k => iI (bI ((fun k => decide (sB S k 5 = 0)) k))) := ⟨_, fp_s3, cK_18, fp_lD3, fp_lf3, fp_ll3, _, _, hLm_19, fp_Ls3, fp_Lc3.lf, by decide +kernel, ⟨rfl, rfl, rfl⟩, ⟨Nat.le_of_ble_eq_true rfl, Nat.le_of_ble_eq_true rfl⟩, fun k hk => ((fp_MI.c0 (y := yX1_lambda_pressureOnFloor_6) (a := la_21) hLm_19 fp_Ls3 fp_Lc3 fp_Lp3 ⟨⟨rfl, rfl, rfl⟩, rfl⟩ (c_X1_lambda_pressureOnFloor_6 G (b k) (sB S k) (hsw.1.2.2.1 k hk)) ⟨q913, q88, q914, by decide, by decide, rfl⟩ (fun _ _ _ h => fp_zI h.1 (bI_z _))).pre (fun H h => h.1 k hk)).post (fun _ _ _ h => h.1), fun H h => by obtain ⟨cell, h1, h2, h3, -⟩ := h.2.1; exact ⟨cell, h1, h2, h3⟩⟩
  have hCL_33 : fp_CL G fp_nV (H_10.size) 0 0 (sN S) b (fun H => fp_BL G (sN S) b (sB S) H ∧ fp_ob H (la_21) cK_18 [] ∧ fp_ob H (H_10.size) cK_24 [.ref (x), .ref (a_11)] ∧ fp_At G H x (eO 1 [.ref (u), sv, .ref (hi), .ref (ip), .ref (ln), .int (iI (bI (ex))), .int (iI (er)), .int (iI (fa))]) ∧ fp_SE G u l ed z t mc cap b S H ∧ fp_At G H a_11 (eI G (sN S) (fun j => iI ((fun j => ((fp_ld S j : Nat) : Int)) j)))) (fun k => iI ((((fun k => sB S k 4 + fp_ld S k) k : Nat)) : Int)) := ⟨_, fp_s4, cK_24, fp_lD4, fp_lf4, fp_ll4, _, _, hLm_25, fp_Ls4, fp_Lc4.lf, by decide +kernel, ⟨rfl, rfl, rfl⟩, ⟨Nat.le_of_ble_eq_true rfl, Nat.le_of_ble_eq_true rfl⟩, fun k hk => ((fp_MI.c3 (y := yX1_lambda_pressureOnFloor_7) hLm_25 fp_Ls4 fp_Lc4 fp_Lp4 fp_Lg4_0 fp_Lg4_1 ⟨⟨rfl, rfl, rfl⟩, rfl⟩ (c_X1_lambda_pressureOnFloor_7 G x u sv hi ip ln ex er fa l ed z t mc cap b S a_11 k hsw hk) ⟨q916, qs11, q88, q917, by decide, by decide, rfl⟩ rfl (fun _ _ _ h => fp_zI h.1 rfl)).pre (fun H h => ⟨h.2.2.1, h.2.2.2.1, h.2.2.2.1, h.2.2.2.2.1, h.2.2.2.2.2⟩)).post (fun _ _ _ h => h.1), fun H h => by obtain ⟨cell, h1, h2, h3, -⟩ := h.2.2.1; exact ⟨cell, h1, h2, h3⟩⟩
  have hE_35 := h_bl.ext (fp_X.ofS hS)
  have hE_37 := fp_ob.mv hob_20 (hX_28.2 _ (by omega))
  have hE_38 := fp_At.kept h_pob (fp_keptS (by omega) hS (fun z => z))
  have hE_39 := h_st.ext (fp_X.ofS hS)
  have hE_41 := fp_At.kept hE_13 (hX_28.2 _ (by omega))
  have hPL_34 : (fun H => fp_BL G (sN S) b (sB S) H ∧ fp_ob H (la_21) cK_18 [] ∧ fp_ob H (H_10.size) cK_24 [.ref (x), .ref (a_11)] ∧ fp_At G H x (eO 1 [.ref (u), sv, .ref (hi), .ref (ip), .ref (ln), .int (iI (bI (ex))), .int (iI (er)), .int (iI (fa))]) ∧ fp_SE G u l ed z t mc cap b S H ∧ fp_At G H a_11 (eI G (sN S) (fun j => iI ((fun j => ((fp_ld S j : Nat) : Int)) j)))) H_27 := ⟨hE_35, hE_37, hob_26, hE_38, hE_39, hE_41⟩
  refine r_callV (cells1 := (146 + (1 + sN S * 0))) (slots1 := (2930 + (4 + sN S * 0))) X hR (c_X2_sum G u l ed z t mc cap b S la_21 0 0 (fun k => decide (sB S k 5 = 0)) (fun H => fp_BL G (sN S) b (sB S) H ∧ fp_ob H (la_21) cK_18 [] ∧ fp_ob H (H_10.size) cK_24 [.ref (x), .ref (a_11)] ∧ fp_At G H x (eO 1 [.ref (u), sv, .ref (hi), .ref (ip), .ref (ln), .int (iI (bI (ex))), .int (iI (er)), .int (iI (fa))]) ∧ fp_SE G u l ed z t mc cap b S H ∧ fp_At G H a_11 (eI G (sN S) (fun j => iI ((fun j => ((fp_ld S j : Nat) : Int)) j)))) (H_10.size) (fun k => sB S k 4 + fp_ld S k) hsw (fun H H1 h hx => ⟨h.1.ext hx, h.2.1.mv (hx.2 _ h.2.1.lt), h.2.2.1.mv (hx.2 _ h.2.2.1.lt), h.2.2.2.1.ext hx, h.2.2.2.2.1.ext hx, h.2.2.2.2.2.ext hx⟩) hCL_32 hCL_33) q526 q527 q528 q89 q529 ⟨rfl, pd_X2_sum⟩ ⟨Nat.le_of_ble_eq_true rfl, Nat.le_of_ble_eq_true rfl⟩ rfl rfl (by omega) (by omega) hE_39.1 rfl rfl (Nat.le_of_ble_eq_true rfl) hl.1 dX1_pressureOnFloor_24 (hB.of hS fp_no.base) ⟨hE_39, hPL_34⟩ hS (fun _ h => h.elim) (fun v H_45 locs hp_42 hz_43 hk_44 hS => ?_)
  obtain rfl := hp_42
  have hz_46 := hS.1
  refine r_stk (st2 := [.int (iI ((fp_sm (fun k => if (fun k => decide (sB S k 5 = 0)) k then (fun k => sB S k 4 + fp_ld S k) k else 0) (sN S) : Nat) : Int))]) rfl ?_
  refine r_iret hx hb hr hlk hQ hS (by omega) (by omega) dX1_pressureOnFloor_27 ?_
  exact (congrArg (fun q : Nat => some (Value.int (iI (q : Int)))) (fp_sm_congr (fun k hk => by show (if decide (sB S k 5 = 0) = true then _ else 0) = fp_fpf S k; unfold fp_fpf; simp)))
set_option maxHeartbeats 4000000 in
theorem c_X1_floorPressure (G : fp_G) (x : Nat) (u : Nat) (sv : Value) (hi : Nat) (ip : Nat) (ln : Nat) (ex : Bool) (er : Int) (fa : Int) (l : Nat) (ed : Nat) (z : Nat) (t : Nat) (mc : Int32) (cap : Nat) (b : Nat → Nat) (S : PS) (hsw : fp_sw S b) (hdl : fp_dl S) : fp_M G yX1_floorPressure cX1_floorPressure 1 (some .int) 303 8067 147 2934 [.ref (x)] (fun H => fp_At G H x (eO 1 [.ref (u), sv, .ref (hi), .ref (ip), .ref (ln), .int (iI (bI (ex))), .int (iI (er)), .int (iI (fa))]) ∧ fp_SE G u l ed z t mc cap b S H) fp_no (fun H v H1 => v = some (.int (iI ((fp_fp S : Nat) : Int)))) := by
  refine fp_M.intro (by decide) (Nat.le_of_ble_eq_true rfl) ?_
  intro pg en s mi ag bl mt cd rR qQ ls X hx hb hr hlk hnm hR hQ hB hM hl
  have hS : va_S (fA fp_no s.heap.size) s.heap s.heap [] := va_S.rf
  generalize ([] : List Loc) = locs at hS ⊢
  have hb0 := hB.1
  obtain ⟨h_pob, h_st⟩ := hM
  have hsz0 := hS.1
  have lt_1 := h_pob.lt
  have lt_2 := h_st.1.lt
  refine lv_aload_n hx hb dX1_floorPressure_0 rfl (lv_at hl 0 rfl) ?_
  refine r_callV (cells1 := 147) (slots1 := 2934) X hR (c_X1_pressureOnFloor G x u sv hi ip ln ex (er) (fa) l ed z t mc cap b S hsw hdl) q542 q544 qs5 q88 q545 ⟨rfl, pd_X1_pressureOnFloor⟩ ⟨Nat.le_of_ble_eq_true rfl, Nat.le_of_ble_eq_true rfl⟩ rfl rfl (Nat.le_of_ble_eq_true rfl) (Nat.le_of_ble_eq_true rfl) h_pob rfl rfl (Nat.le_of_ble_eq_true rfl) hl.1 dX1_floorPressure_1 (hB.of hS fp_no.base) ⟨h_pob, h_st⟩ hS (fun _ h => h.elim) (fun v H_6 locs hp_3 hz_4 hk_5 hS => ?_)
  obtain rfl := hp_3
  have hz_7 := hS.1
  refine r_stk (st2 := [.int (iI ((fp_fp S : Nat) : Int))]) rfl ?_
  refine r_iret hx hb hr hlk hQ hS (Nat.le_of_ble_eq_true rfl) (Nat.le_of_ble_eq_true rfl) dX1_floorPressure_4 ?_
  exact rfl
set_option maxHeartbeats 4000000 in
theorem c_X1_computeHoles (G : fp_G) (x : Nat) (u : Nat) (sv : Value) (hi : Nat) (ip : Nat) (ln : Nat) (ex : Bool) (er : Int) (fa : Int) (l : Nat) (ed : Nat) (z : Nat) (t : Nat) (mc : Int32) (cap : Nat) (b : Nat → Nat) (S : PS) (c : Nat) (hsw : fp_sw S b) (hc : c < 12) : fp_M G yX1_computeHoles cX1_computeHoles 2 (some .int) 302 8046 3 9 [.ref (x), .int (iI ((c : Nat) : Int))] (fun H => fp_At G H x (eO 1 [.ref (u), sv, .ref (hi), .ref (ip), .ref (ln), .int (iI (bI (ex))), .int (iI (er)), .int (iI (fa))]) ∧ fp_SE G u l ed z t mc cap b S H) fp_no (fun H v H1 => v = some (.int (iI (fp_hol S c)))) := by
  refine fp_M.introN (by decide) (Nat.le_of_ble_eq_true rfl) ?_
  intro pg en s mi ag bl mt cd rR qQ ls hn X hx hb hr hlk hnm hR hQ hB hM hl
  have hS : va_S (fA fp_no s.heap.size) s.heap s.heap [] := va_S.rf
  generalize ([] : List Loc) = locs at hS ⊢
  have hb0 := hB.1
  obtain ⟨h_pob, h_st⟩ := hM
  have hsz0 := hS.1
  have lt_1 := h_pob.lt
  have lt_2 := h_st.1.lt
  have hn24 := hsw.1.1
  obtain ⟨h_o, h_l, h_z, h_t, h_bl, h_xb, h_zb, h_tb⟩ := id h_st
  have lt_3 := h_l.1.lt
  have lt_4 := h_l.2.2
  have lt_5 := h_z.lt
  have lt_6 := h_t.lt
  have hhc := fp_hi_le hsw.1 c
  refine lv_aload_n hx hb dX1_computeHoles_0 rfl (lv_at hl 0 rfl) ?_
  refine r_get X h_pob rfl in_X1 0 (by decide) q242 (Or.inl rfl) (v := .ref (u)) rfl dX1_computeHoles_1 ?_
  refine lv_iload_n hx hb dX1_computeHoles_4 rfl (lv_at hl 1 rfl) ?_
  refine r_callV (cells1 := 1) (slots1 := 4) X hR (c_X2_height G u l ed z t mc cap b S c hsw hc) q271 q272 q273 q89 q274 ⟨rfl, pd_X2_height⟩ ⟨Nat.le_of_ble_eq_true rfl, Nat.le_of_ble_eq_true rfl⟩ rfl rfl (Nat.le_of_ble_eq_true rfl) (Nat.le_of_ble_eq_true rfl) h_st.1 rfl rfl (Nat.le_of_ble_eq_true rfl) hl.1 dX1_computeHoles_5 (hB.of hS fp_no.base) h_st hS (fun _ h => h.elim) (fun v H_10 locs hp_7 hz_8 hk_9 hS => ?_)
  obtain rfl := hp_7
  have hz_11 := hS.1
  refine r_stk (st2 := [.int (iI ((fp_hi S c : Nat) : Int))]) rfl ?_
  refine lv_aload_n hx hb dX1_computeHoles_8 rfl (lv_at hl 0 rfl) ?_
  have hE_12 := fp_At.kept h_pob (fp_keptS (by omega) hS (fun z => z))
  refine r_get X hE_12 rfl in_X1 0 (by decide) q242 (Or.inl rfl) (v := .ref (u)) rfl dX1_computeHoles_9 ?_
  refine lv_iload_n hx hb dX1_computeHoles_12 rfl (lv_at hl 1 rfl) ?_
  refine r_indyM (x := fp_x6) (vals := [.int (iI ((c : Nat) : Int))]) (rest := [.ref (u), .int (iI ((fp_hi S c : Nat) : Int))]) X hn hR fp_w6 (by decide) fp_Ls6 hS rfl (by rw [fp_Lt6]; rfl) (by rw [fp_Lt6]; exact fp_fit1 rfl) rfl (Nat.le_of_ble_eq_true rfl) (Nat.le_of_ble_eq_true rfl) (Nat.le_of_ble_eq_true rfl) hl.1 dX1_computeHoles_13 (fun cK_13 H_16 hLm_14 hob_15 hX_17 hz_18 hS => ?_)
  have hz_19 := hS.1
  have lt_20 := hob_15.lt
  refine r_indyC (x := fp_x7) X hn hR fp_w7 rfl (hB.of hS fp_no.base) (Nat.le_of_ble_eq_true rfl) hl.1 dX1_computeHoles_18 (fun cK_21 la_24 hLm_22 hob_23 hlt_25 => ?_)
  have lt_26 := hob_23.lt
  have hCL_27 : fp_CL G fp_nM (H_10.size) 0 0 (sN S) b (fun H => fp_BL G (sN S) b (sB S) H ∧ fp_ob H (H_10.size) cK_13 [.int (iI ((c : Nat) : Int))] ∧ fp_ob H (la_24) cK_21 []) (fun k => iI (bI ((fun k => fp_cov (sB S k) c) k))) := ⟨_, fp_s6, cK_13, fp_lD6, fp_lf6, fp_ll6, _, _, hLm_14, fp_Ls6, fp_Lc6.lf, by decide +kernel, ⟨rfl, rfl, rfl⟩, ⟨Nat.le_of_ble_eq_true rfl, Nat.le_of_ble_eq_true rfl⟩, fun k hk => ((fp_MI.c1 (y := yX1_lambda_computeHoles_1) hLm_14 fp_Ls6 fp_Lc6 fp_Lp6 fp_Lg6_0 ⟨⟨rfl, rfl, rfl⟩, rfl⟩ (c_X1_lambda_computeHoles_1 G c (b k) (sB S k) (by omega) (hsw.1.2.2.1 k hk)) ⟨q979, q88, q980, by decide, by decide, rfl⟩ (fun _ _ _ h => fp_zI h.1 (bI_z _))).pre (fun H h => ⟨h.2.1, h.1 k hk⟩)).post (fun _ _ _ h => h.1), fun H h => by obtain ⟨cell, h1, h2, h3, -⟩ := h.2.1; exact ⟨cell, h1, h2, h3⟩⟩
  have hCL_28 : fp_CL G fp_nV (la_24) 0 0 (sN S) b (fun H => fp_BL G (sN S) b (sB S) H ∧ fp_ob H (H_10.size) cK_13 [.int (iI ((c : Nat) : Int))] ∧ fp_ob H (la_24) cK_21 []) (fun k => iI ((((fun k => fp_thk (sB S k)) k : Nat)) : Int)) := ⟨_, fp_s7, cK_21, fp_lD7, fp_lf7, fp_ll7, _, _, hLm_22, fp_Ls7, fp_Lc7.lf, by decide +kernel, ⟨rfl, rfl, rfl⟩, ⟨Nat.le_of_ble_eq_true rfl, Nat.le_of_ble_eq_true rfl⟩, fun k hk => ((fp_MI.c0 (y := yX1_lambda_computeHoles_2) (a := la_24) hLm_22 fp_Ls7 fp_Lc7 fp_Lp7 ⟨⟨rfl, rfl, rfl⟩, rfl⟩ (c_X1_lambda_computeHoles_2 G (b k) (sB S k) (hsw.1.2.2.1 k hk)) ⟨q981, q88, q982, by decide, by decide, rfl⟩ (fun _ _ _ h => fp_zI h.1 rfl)).pre (fun H h => h.1 k hk)).post (fun _ _ _ h => h.1), fun H h => by obtain ⟨cell, h1, h2, h3, -⟩ := h.2.2; exact ⟨cell, h1, h2, h3⟩⟩
  have hE_30 := h_bl.ext (fp_X.ofS hS)
  have hPL_29 : (fun H => fp_BL G (sN S) b (sB S) H ∧ fp_ob H (H_10.size) cK_13 [.int (iI ((c : Nat) : Int))] ∧ fp_ob H (la_24) cK_21 []) H_16 := ⟨hE_30, hob_15, hob_23⟩
  have hE_31 := h_st.ext (fp_X.ofS hS)
  refine r_callV (cells1 := (2 + (1 + sN S * 0))) (slots1 := (5 + (4 + sN S * 0))) X hR (c_X2_sum G u l ed z t mc cap b S (H_10.size) 0 0 (fun k => fp_cov (sB S k) c) (fun H => fp_BL G (sN S) b (sB S) H ∧ fp_ob H (H_10.size) cK_13 [.int (iI ((c : Nat) : Int))] ∧ fp_ob H (la_24) cK_21 []) la_24 (fun k => fp_thk (sB S k)) hsw (fun H H1 h hx => ⟨h.1.ext hx, h.2.1.mv (hx.2 _ h.2.1.lt), h.2.2.mv (hx.2 _ h.2.2.lt)⟩) hCL_27 hCL_28) q526 q527 q528 q89 q529 ⟨rfl, pd_X2_sum⟩ ⟨Nat.le_of_ble_eq_true rfl, Nat.le_of_ble_eq_true rfl⟩ rfl rfl (by omega) (by omega) hE_31.1 rfl rfl (Nat.le_of_ble_eq_true rfl) hl.1 dX1_computeHoles_23 (hB.of hS fp_no.base) ⟨hE_31, hPL_29⟩ hS (fun _ h => h.elim) (fun v H_35 locs hp_32 hz_33 hk_34 hS => ?_)
  obtain rfl := hp_32
  have hz_36 := hS.1
  refine r_stk (st2 := [.int (iI ((fp_sm (fun k => if (fun k => fp_cov (sB S k) c) k then (fun k => fp_thk (sB S k)) k else 0) (sN S) : Nat) : Int)), .int (iI ((fp_hi S c : Nat) : Int))]) rfl ?_
  have hsl : fp_sm (fun k => if fp_cov (sB S k) c then fp_thk (sB S k) else 0) (sN S) ≤ sN S * 2 := fp_sm_le (fun k hk => by unfold fp_thk; (repeat' split) <;> omega)
  refine r_isub hx hb dX1_computeHoles_26 ?_
  refine r_iret hx hb hr hlk hQ hS (by omega) (by omega) dX1_computeHoles_27 ?_
  exact (congrArg (fun q : Int => some (Value.int (iI q))) (by unfold fp_hol; rw [fp_thf_thk]))
set_option maxHeartbeats 4000000 in
theorem c_X1_isFilled (G : fp_G) (x : Nat) (u : Nat) (sv : Value) (hi : Nat) (ip : Nat) (ln : Nat) (ex : Bool) (er : Int) (fa : Int) (l : Nat) (ed : Nat) (z : Nat) (t : Nat) (mc : Int32) (cap : Nat) (b : Nat → Nat) (S : PS) (c : Nat) (hh : Nat) (hsw : fp_sw S b) (hc : c < 12 ∧ hh < 100) : fp_M G yX1_isFilled cX1_isFilled 3 (some .boolean) 302 8045 2 6 [.ref (x), .int (iI ((c : Nat) : Int)), .int (iI ((hh : Nat) : Int))] (fun H => fp_At G H x (eO 1 [.ref (u), sv, .ref (hi), .ref (ip), .ref (ln), .int (iI (bI (ex))), .int (iI (er)), .int (iI (fa))]) ∧ fp_SE G u l ed z t mc cap b S H) fp_no (fun H v H1 => v = some (.int (iI (bI (fp_any (fun i9 => fp_fill (sB S i9) c hh) (sN S)))))) := by
  refine fp_M.introN (by decide) (Nat.le_of_ble_eq_true rfl) ?_
  intro pg en s mi ag bl mt cd rR qQ ls hn X hx hb hr hlk hnm hR hQ hB hM hl
  have hS : va_S (fA fp_no s.heap.size) s.heap s.heap [] := va_S.rf
  generalize ([] : List Loc) = locs at hS ⊢
  have hb0 := hB.1
  obtain ⟨h_pob, h_st⟩ := hM
  have hsz0 := hS.1
  have lt_1 := h_pob.lt
  have lt_2 := h_st.1.lt
  have hn24 := hsw.1.1
  obtain ⟨h_o, h_l, h_z, h_t, h_bl, h_xb, h_zb, h_tb⟩ := id h_st
  have lt_3 := h_l.1.lt
  have lt_4 := h_l.2.2
  have lt_5 := h_z.lt
  have lt_6 := h_t.lt
  have hctb := fp_ct_le (fun i9 => fp_fill (sB S i9) c hh) (sN S)
  refine lv_aload_n hx hb dX1_isFilled_0 rfl (lv_at hl 0 rfl) ?_
  refine r_get X h_pob rfl in_X1 0 (by decide) q242 (Or.inl rfl) (v := .ref (u)) rfl dX1_isFilled_1 ?_
  refine lv_iload_n hx hb dX1_isFilled_4 rfl (lv_at hl 1 rfl) ?_
  refine lv_iload_n hx hb dX1_isFilled_5 rfl (lv_at hl 2 rfl) ?_
  refine r_indyM (x := fp_x5) (vals := [.int (iI ((c : Nat) : Int)), .int (iI ((hh : Nat) : Int))]) (rest := [.ref (u)]) X hn hR fp_w5 (by decide) fp_Ls5 hS rfl (by rw [fp_Lt5]; rfl) (by rw [fp_Lt5]; exact fp_fit2 rfl rfl) rfl (Nat.le_of_ble_eq_true rfl) (Nat.le_of_ble_eq_true rfl) (Nat.le_of_ble_eq_true rfl) hl.1 dX1_isFilled_6 (fun cK_7 H_10 hLm_8 hob_9 hX_11 hz_12 hS => ?_)
  have hz_13 := hS.1
  have lt_14 := hob_9.lt
  have hCL_15 : fp_CL G fp_nM (s.heap.size) 0 0 (sN S) b (fun H => fp_BL G (sN S) b (sB S) H ∧ fp_ob H (s.heap.size) cK_7 [.int (iI ((c : Nat) : Int)), .int (iI ((hh : Nat) : Int))]) (fun k => iI (bI ((fun k => fp_fill (sB S k) c hh) k))) := ⟨_, fp_s5, cK_7, fp_lD5, fp_lf5, fp_ll5, _, _, hLm_8, fp_Ls5, fp_Lc5.lf, by decide +kernel, ⟨rfl, rfl, rfl⟩, ⟨Nat.le_of_ble_eq_true rfl, Nat.le_of_ble_eq_true rfl⟩, fun k hk => ((fp_MI.c2 (y := yX1_lambda_isFilled_0) hLm_8 fp_Ls5 fp_Lc5 fp_Lp5 fp_Lg5_0 fp_Lg5_1 ⟨⟨rfl, rfl, rfl⟩, rfl⟩ (c_X1_lambda_isFilled_0 G c hh (b k) (sB S k) hc (hsw.1.2.2.1 k hk)) ⟨q967, q88, q968, by decide, by decide, rfl⟩ (fun _ _ _ h => fp_zI h.1 (bI_z _))).pre (fun H h => ⟨h.2, h.1 k hk⟩)).post (fun _ _ _ h => h.1), fun H h => by obtain ⟨cell, h1, h2, h3, -⟩ := h.2; exact ⟨cell, h1, h2, h3⟩⟩
  have hE_17 := h_bl.ext (fp_X.ofS hS)
  have hPL_16 : (fun H => fp_BL G (sN S) b (sB S) H ∧ fp_ob H (s.heap.size) cK_7 [.int (iI ((c : Nat) : Int)), .int (iI ((hh : Nat) : Int))]) H_10 := ⟨hE_17, hob_9⟩
  have hE_18 := h_st.ext (fp_X.ofS hS)
  refine r_callV (cells1 := (1 + (1 + sN S * 0))) (slots1 := (2 + (4 + sN S * 0))) X hR (c_X2_count G u l ed z t mc cap b S (s.heap.size) 0 0 (fun i9 => fp_fill (sB S i9) c hh) (fun H => fp_BL G (sN S) b (sB S) H ∧ fp_ob H (s.heap.size) cK_7 [.int (iI ((c : Nat) : Int)), .int (iI ((hh : Nat) : Int))]) hsw (fun H H1 h hx => ⟨h.1.ext hx, h.2.mv (hx.2 _ h.2.lt)⟩) hCL_15) q971 q972 q973 q89 q974 ⟨rfl, pd_X2_count⟩ ⟨Nat.le_of_ble_eq_true rfl, Nat.le_of_ble_eq_true rfl⟩ rfl rfl (by omega) (by omega) hE_18.1 rfl rfl (Nat.le_of_ble_eq_true rfl) hl.1 dX1_isFilled_11 (hB.of hS fp_no.base) ⟨hE_18, hPL_16⟩ hS (fun _ h => h.elim) (fun v H_22 locs hp_19 hz_20 hk_21 hS => ?_)
  obtain rfl := hp_19
  have hz_23 := hS.1
  refine r_stk (st2 := [.int (iI ((fp_ct (fun i9 => fp_fill (sB S i9) c hh) (sN S) : Nat) : Int))]) rfl ?_
  refine r_if_le (tgt := 21) hx hb ⟨by omega, by omega⟩ dX1_isFilled_14 (by decide) (fun c14 => ?_) (fun c14 => ?_)
  · skip
    refine lv_iconst (v := (iI ((0 : Nat) : Int))) hx hb dX1_isFilled_21 rfl ?_
    refine r_zret hx hb hr hlk hQ hS (by omega) (by omega) dX1_isFilled_22 rfl ?_
    exact (congrArg (fun q : Bool => some (Value.int (iI (bI q)))) (Eq.symm (show fp_any (fun i9 => fp_fill (sB S i9) c hh) (sN S) = false from (fp_any_ct _ _).trans (decide_eq_false (by omega)))))
  · skip
    refine lv_iconst (v := (iI ((1 : Nat) : Int))) hx hb dX1_isFilled_17 rfl ?_
    refine lv_goto (tgt := 22) hx hb dX1_isFilled_18 (by decide) ?_
    refine r_zret hx hb hr hlk hQ hS (by omega) (by omega) dX1_isFilled_22 rfl ?_
    exact (congrArg (fun q : Bool => some (Value.int (iI (bI q)))) (Eq.symm (show fp_any (fun i9 => fp_fill (sB S i9) c hh) (sN S) = true from (fp_any_ct _ _).trans (decide_eq_true (by omega)))))
set_option maxHeartbeats 4000000 in
theorem c_X1_countHoles (G : fp_G) (x : Nat) (u : Nat) (sv : Value) (hi : Nat) (ip : Nat) (ln : Nat) (ex : Bool) (er : Int) (fa : Int) (l : Nat) (ed : Nat) (z : Nat) (t : Nat) (mc : Int32) (cap : Nat) (b : Nat → Nat) (S : PS) (c : Nat) (hsw : fp_sw S b) (hc : c < 12) : fp_M G yX1_countHoles cX1_countHoles 4 (some .int) 303 8067 130 440 [.ref (x), .int (iI ((c : Nat) : Int))] (fun H => fp_At G H x (eO 1 [.ref (u), sv, .ref (hi), .ref (ip), .ref (ln), .int (iI (bI (ex))), .int (iI (er)), .int (iI (fa))]) ∧ fp_SE G u l ed z t mc cap b S H) fp_no (fun H v H1 => v = some (.int (iI ((fp_ct (fun h9 => !fp_any (fun i9 => fp_fill (sB S i9) c h9) (sN S)) (fp_hi S c) : Nat) : Int)))) := by
  refine fp_M.intro (by decide) (Nat.le_of_ble_eq_true rfl) ?_
  intro pg en s mi ag bl mt cd rR qQ ls X hx hb hr hlk hnm hR hQ hB hM hl
  have hS : va_S (fA fp_no s.heap.size) s.heap s.heap [] := va_S.rf
  generalize ([] : List Loc) = locs at hS ⊢
  have hb0 := hB.1
  obtain ⟨h_pob, h_st⟩ := hM
  have hsz0 := hS.1
  have lt_1 := h_pob.lt
  have lt_2 := h_st.1.lt
  have hn24 := hsw.1.1
  have hhc := fp_hi_le hsw.1 c
  refine lv_iconst (v := (iI ((0 : Nat) : Int))) hx hb dX1_countHoles_0 rfl ?_
  refine lv_istore_n (lv' := [(2, .int (iI ((0 : Nat) : Int))), (0, .ref (x)), (1, .int (iI ((c : Nat) : Int)))]) hx hb dX1_countHoles_1 rfl hl (by decide) rfl (fun ls hl => ?_)
  refine lv_iconst (v := (iI ((0 : Nat) : Int))) hx hb dX1_countHoles_2 rfl ?_
  refine lv_istore_n (lv' := [(3, .int (iI ((0 : Nat) : Int))), (2, .int (iI ((0 : Nat) : Int))), (0, .ref (x)), (1, .int (iI ((c : Nat) : Int)))]) hx hb dX1_countHoles_3 rfl hl (by decide) rfl (fun ls hl => ?_)
  have L4 : ∀ (k : Nat), k ≤ fp_hi S c → ∀ (H_3 : Heap) (locs : List Loc) (ls : Array Slot), lv_has ls 4 [(0, .ref (x)), (1, .int (iI ((c : Nat) : Int))), (2, .int (iI ((fp_ct (fun h9 => !fp_any (fun i9 => fp_fill (sB S i9) c h9) (sN S)) k : Nat) : Int))), (3, .int (iI ((k : Nat) : Int)))] → va_S (fA fp_no s.heap.size) s.heap H_3 locs → (s.heap.size ≤ H_3.size) → W pg (g_l G) en rR s mi ag bl mt cd H_3 locs (3 * k) (10 * k) qQ (F0 mi 4 ls []) := by
    refine lp_up (fp_hi S c) ?_
    intro k hk4 ih4 H_3 locs ls hl hS hz_4
    have hz_5 := hS.1
    have hcl := fp_ct_le (fun h9 => !fp_any (fun i9 => fp_fill (sB S i9) c h9) (sN S)) k
    refine lv_iload_n hx hb dX1_countHoles_4 rfl (lv_at hl 3 rfl) ?_
    refine lv_aload_n hx hb dX1_countHoles_5 rfl (lv_at hl 0 rfl) ?_
    have hE_6 := fp_At.kept h_pob (fp_keptS (by omega) hS (fun z => z))
    refine r_get X hE_6 rfl in_X1 0 (by decide) q242 (Or.inl rfl) (v := .ref (u)) rfl dX1_countHoles_6 ?_
    refine lv_iload_n hx hb dX1_countHoles_9 rfl (lv_at hl 1 rfl) ?_
    have hE_7 := h_st.ext (fp_X.ofS hS)
    refine r_callV (cells1 := (3 * k + 1)) (slots1 := (10 * k + 4)) X hR (c_X2_height G u l ed z t mc cap b S c hsw hc) q271 q272 q273 q89 q274 ⟨rfl, pd_X2_height⟩ ⟨Nat.le_of_ble_eq_true rfl, Nat.le_of_ble_eq_true rfl⟩ rfl rfl (by omega) (by omega) hE_7.1 rfl rfl (Nat.le_of_ble_eq_true rfl) hl.1 dX1_countHoles_10 (hB.of hS fp_no.base) hE_7 hS (fun _ h => h.elim) (fun v H_11 locs hp_8 hz_9 hk_10 hS => ?_)
    obtain rfl := hp_8
    have hz_12 := hS.1
    refine r_stk (st2 := [.int (iI ((fp_hi S c : Nat) : Int)), .int (iI ((k : Nat) : Int))]) rfl ?_
    refine r_icmp_ge (tgt := 39) hx hb ⟨by omega, by omega⟩ ⟨by omega, by omega⟩ dX1_countHoles_13 (by decide) (fun c13 => ?_) (fun c13 => ?_)
    · skip
      obtain rfl : k = fp_hi S c := by omega
      refine lv_iload_n hx hb dX1_countHoles_39 rfl (lv_at hl 2 rfl) ?_
      refine r_iret hx hb hr hlk hQ hS (by omega) (by omega) dX1_countHoles_40 ?_
      exact (congrArg (fun q : Nat => some (Value.int (iI (q : Int)))) (rfl))
    · skip
      refine lv_iload_n hx hb dX1_countHoles_16 rfl (lv_at hl 2 rfl) ?_
      refine lv_aload_n hx hb dX1_countHoles_17 rfl (lv_at hl 0 rfl) ?_
      refine lv_iload_n hx hb dX1_countHoles_18 rfl (lv_at hl 1 rfl) ?_
      refine lv_iload_n hx hb dX1_countHoles_19 rfl (lv_at hl 3 rfl) ?_
      have hE_13 := fp_At.kept h_pob (fp_keptS (by omega) hS (fun z => z))
      have hE_14 := h_st.ext (fp_X.ofS hS)
      refine r_callV (cells1 := (3 * k + 1 + 2)) (slots1 := (10 * k + 4 + 6)) X hR (c_X1_isFilled G x u sv hi ip ln ex (er) (fa) l ed z t mc cap b S c k hsw (by omega)) q963 q965 qs17 q88 q966 ⟨rfl, pd_X1_isFilled⟩ ⟨Nat.le_of_ble_eq_true rfl, Nat.le_of_ble_eq_true rfl⟩ rfl rfl (by omega) (by omega) hE_13 rfl rfl (Nat.le_of_ble_eq_true rfl) hl.1 dX1_countHoles_20 (hB.of hS fp_no.base) ⟨hE_13, hE_14⟩ hS (fun _ h => h.elim) (fun v H_18 locs hp_15 hz_16 hk_17 hS => ?_)
      obtain rfl := hp_15
      have hz_19 := hS.1
      refine r_stk (st2 := [.int (iI (bI (fp_any (fun i9 => fp_fill (sB S i9) c k) (sN S)))), .int (iI ((fp_ct (fun h9 => !fp_any (fun i9 => fp_fill (sB S i9) c h9) (sN S)) k : Nat) : Int))]) rfl ?_
      refine r_ifeqB (tgt := 30) hx hb dX1_countHoles_23 (by decide) (fun c23 => ?_) (fun c23 => ?_)
      · skip
        refine lv_iconst (v := (iI ((1 : Nat) : Int))) hx hb dX1_countHoles_30 rfl ?_
        refine r_iaddN hx hb dX1_countHoles_31 ?_
        refine lv_istore_n (lv' := [(2, .int (iI (((fp_ct (fun h9 => !fp_any (fun i9 => fp_fill (sB S i9) c h9) (sN S)) k) + 1 : Nat) : Int))), (0, .ref (x)), (1, .int (iI ((c : Nat) : Int))), (3, .int (iI ((k : Nat) : Int)))]) hx hb dX1_countHoles_32 rfl hl (by decide) rfl (fun ls hl => ?_)
        refine lv_iinc (v := (iI ((k + 1 : Nat) : Int))) (lv' := [(3, .int (iI ((k + 1 : Nat) : Int))), (2, .int (iI (((fp_ct (fun h9 => !fp_any (fun i9 => fp_fill (sB S i9) c h9) (sN S)) k) + 1 : Nat) : Int))), (0, .ref (x)), (1, .int (iI ((c : Nat) : Int)))]) hx hb dX1_countHoles_33 hl (k := 3) rfl (iI_incN _ _) (by decide) rfl (fun ls hl => ?_)
        refine lv_goto (tgt := 4) hx hb dX1_countHoles_36 (by decide) ?_
        refine W.widen (k := 3 * (k + 1)) (n := 10 * (k + 1)) (by omega) (by omega) ?_
        exact ih4 (by omega) H_18 locs ls (by rw [show Value.int (iI ((fp_ct (fun h9 => !fp_any (fun i9 => fp_fill (sB S i9) c h9) (sN S)) (k + 1) : Nat) : Int)) = Value.int (iI (((fp_ct (fun h9 => !fp_any (fun i9 => fp_fill (sB S i9) c h9) (sN S)) k) + 1 : Nat) : Int)) from congrArg (fun q : Nat => Value.int (iI (q : Int))) (by show fp_ct (fun h9 => !fp_any (fun i9 => fp_fill (sB S i9) c h9) (sN S)) k + (if (!fp_any (fun i => fp_fill (sB S i) c k) (sN S)) = true then 1 else 0) = _; rw [c23]; rfl)]; exact lv_sub hl [2, 3, 1, 0] rfl) hS (by omega)
      · skip
        refine lv_iconst (v := (iI ((0 : Nat) : Int))) hx hb dX1_countHoles_26 rfl ?_
        refine lv_goto (tgt := 31) hx hb dX1_countHoles_27 (by decide) ?_
        refine r_iaddN hx hb dX1_countHoles_31 ?_
        refine lv_istore_n (lv' := [(2, .int (iI (((fp_ct (fun h9 => !fp_any (fun i9 => fp_fill (sB S i9) c h9) (sN S)) k) + 0 : Nat) : Int))), (0, .ref (x)), (1, .int (iI ((c : Nat) : Int))), (3, .int (iI ((k : Nat) : Int)))]) hx hb dX1_countHoles_32 rfl hl (by decide) rfl (fun ls hl => ?_)
        refine lv_iinc (v := (iI ((k + 1 : Nat) : Int))) (lv' := [(3, .int (iI ((k + 1 : Nat) : Int))), (2, .int (iI (((fp_ct (fun h9 => !fp_any (fun i9 => fp_fill (sB S i9) c h9) (sN S)) k) + 0 : Nat) : Int))), (0, .ref (x)), (1, .int (iI ((c : Nat) : Int)))]) hx hb dX1_countHoles_33 hl (k := 3) rfl (iI_incN _ _) (by decide) rfl (fun ls hl => ?_)
        refine lv_goto (tgt := 4) hx hb dX1_countHoles_36 (by decide) ?_
        refine W.widen (k := 3 * (k + 1)) (n := 10 * (k + 1)) (by omega) (by omega) ?_
        exact ih4 (by omega) H_18 locs ls (by rw [show Value.int (iI ((fp_ct (fun h9 => !fp_any (fun i9 => fp_fill (sB S i9) c h9) (sN S)) (k + 1) : Nat) : Int)) = Value.int (iI (((fp_ct (fun h9 => !fp_any (fun i9 => fp_fill (sB S i9) c h9) (sN S)) k) + 0 : Nat) : Int)) from congrArg (fun q : Nat => Value.int (iI (q : Int))) (by show fp_ct (fun h9 => !fp_any (fun i9 => fp_fill (sB S i9) c h9) (sN S)) k + (if (!fp_any (fun i => fp_fill (sB S i) c k) (sN S)) = true then 1 else 0) = _; rw [c23]; rfl)]; exact lv_sub hl [2, 3, 1, 0] rfl) hS (by omega)
  refine W.widen (k := 3 * 0) (n := 10 * 0) (by omega) (by omega) ?_
  exact L4 0 (by omega) s.heap locs ls (by rw [show Value.int (iI ((fp_ct (fun h9 => !fp_any (fun i9 => fp_fill (sB S i9) c h9) (sN S)) 0 : Nat) : Int)) = Value.int (iI ((0 : Nat) : Int)) from rfl]; exact lv_sub hl [2, 3, 1, 0] rfl) hS (Nat.le_refl _)
set_option maxHeartbeats 4000000 in
theorem c_X1_areHolesEqual (G : fp_G) (x : Nat) (u : Nat) (sv : Value) (hi : Nat) (ip : Nat) (ln : Nat) (ex : Bool) (er : Int) (fa : Int) (l : Nat) (ed : Nat) (z : Nat) (t : Nat) (mc : Int32) (cap : Nat) (b : Nat → Nat) (S : PS) (hsw : fp_sw S b) (hho : ∀ c, c < 12 → ((fp_ct (fun h9 => !fp_any (fun i9 => fp_fill (sB S i9) c h9) (sN S)) (fp_hi S c) : Nat) : Int) = fp_hol S c) : fp_M G yX1_areHolesEqual cX1_areHolesEqual 2 (some .boolean) 304 8090 1596 5388 [.ref (x)] (fun H => fp_At G H x (eO 1 [.ref (u), sv, .ref (hi), .ref (ip), .ref (ln), .int (iI (bI (ex))), .int (iI (er)), .int (iI (fa))]) ∧ fp_SE G u l ed z t mc cap b S H) fp_no (fun H v H1 => v = some (.int (iI (bI (true))))) := by
  refine fp_M.intro (by decide) (Nat.le_of_ble_eq_true rfl) ?_
  intro pg en s mi ag bl mt cd rR qQ ls X hx hb hr hlk hnm hR hQ hB hM hl
  have hS : va_S (fA fp_no s.heap.size) s.heap s.heap [] := va_S.rf
  generalize ([] : List Loc) = locs at hS ⊢
  have hb0 := hB.1
  obtain ⟨h_pob, h_st⟩ := hM
  have hsz0 := hS.1
  have lt_1 := h_pob.lt
  have lt_2 := h_st.1.lt
  have hn24 := hsw.1.1
  refine lv_iconst (v := (iI ((0 : Nat) : Int))) hx hb dX1_areHolesEqual_0 rfl ?_
  refine lv_istore_n (lv' := [(1, .int (iI ((0 : Nat) : Int))), (0, .ref (x))]) hx hb dX1_areHolesEqual_1 rfl hl (by decide) rfl (fun ls hl => ?_)
  have L2 : ∀ (k : Nat), k ≤ 12 → ∀ (H_3 : Heap) (locs : List Loc) (ls : Array Slot), lv_has ls 2 [(0, .ref (x)), (1, .int (iI ((k : Nat) : Int)))] → va_S (fA fp_no s.heap.size) s.heap H_3 locs → (s.heap.size ≤ H_3.size) → W pg (g_l G) en rR s mi ag bl mt cd H_3 locs (133 * k) (449 * k) qQ (F0 mi 2 ls []) := by
    refine lp_up 12 ?_
    intro k hk2 ih2 H_3 locs ls hl hS hz_4
    have hz_5 := hS.1
    have hhok : k < 12 → _ := hho k
    have hhb := fp_hol_b hsw.1 k
    refine lv_iload_n hx hb dX1_areHolesEqual_2 rfl (lv_at hl 1 rfl) ?_
    refine lv_bipush (v := (iI ((12 : Nat) : Int))) hx hb dX1_areHolesEqual_3 rfl ?_
    refine r_icmp_ge (tgt := 29) hx hb ⟨by omega, by omega⟩ (by decide) dX1_areHolesEqual_5 (by decide) (fun c5 => ?_) (fun c5 => ?_)
    · skip
      obtain rfl : k = 12 := by omega
      refine lv_iconst (v := (iI ((1 : Nat) : Int))) hx hb dX1_areHolesEqual_29 rfl ?_
      refine r_zret hx hb hr hlk hQ hS (by omega) (by omega) dX1_areHolesEqual_30 rfl ?_
      exact rfl
    · skip
      refine lv_aload_n hx hb dX1_areHolesEqual_8 rfl (lv_at hl 0 rfl) ?_
      refine lv_iload_n hx hb dX1_areHolesEqual_9 rfl (lv_at hl 1 rfl) ?_
      have hE_6 := fp_At.kept h_pob (fp_keptS (by omega) hS (fun z => z))
      have hE_7 := h_st.ext (fp_X.ofS hS)
      refine r_callV (cells1 := (133 * k + 130)) (slots1 := (449 * k + 440)) X hR (c_X1_countHoles G x u sv hi ip ln ex (er) (fa) l ed z t mc cap b S k hsw (by omega)) q959 q961 qs16 q88 q962 ⟨rfl, pd_X1_countHoles⟩ ⟨Nat.le_of_ble_eq_true rfl, Nat.le_of_ble_eq_true rfl⟩ rfl rfl (by omega) (by omega) hE_6 rfl rfl (Nat.le_of_ble_eq_true rfl) hl.1 dX1_areHolesEqual_10 (hB.of hS fp_no.base) ⟨hE_6, hE_7⟩ hS (fun _ h => h.elim) (fun v H_11 locs hp_8 hz_9 hk_10 hS => ?_)
      obtain rfl := hp_8
      have hz_12 := hS.1
      refine r_stk (st2 := [.int (iI ((fp_ct (fun h9 => !fp_any (fun i9 => fp_fill (sB S i9) k h9) (sN S)) (fp_hi S k) : Nat) : Int))]) rfl ?_
      have hhk := fp_hi_le hsw.1 k
      refine lv_aload_n hx hb dX1_areHolesEqual_13 rfl (lv_at hl 0 rfl) ?_
      refine lv_iload_n hx hb dX1_areHolesEqual_14 rfl (lv_at hl 1 rfl) ?_
      have hE_13 := fp_At.kept h_pob (fp_keptS (by omega) hS (fun z => z))
      have hE_14 := h_st.ext (fp_X.ofS hS)
      refine r_callV (cells1 := (133 * k + 130 + 3)) (slots1 := (449 * k + 440 + 9)) X hR (c_X1_computeHoles G x u sv hi ip ln ex (er) (fa) l ed z t mc cap b S k hsw (by omega)) q975 q977 qs18 q88 q978 ⟨rfl, pd_X1_computeHoles⟩ ⟨Nat.le_of_ble_eq_true rfl, Nat.le_of_ble_eq_true rfl⟩ rfl rfl (by omega) (by omega) hE_13 rfl rfl (Nat.le_of_ble_eq_true rfl) hl.1 dX1_areHolesEqual_15 (hB.of hS fp_no.base) ⟨hE_13, hE_14⟩ hS (fun _ h => h.elim) (fun v H_18 locs hp_15 hz_16 hk_17 hS => ?_)
      obtain rfl := hp_15
      have hz_19 := hS.1
      refine r_stk (st2 := [.int (iI (fp_hol S k)), .int (iI ((fp_ct (fun h9 => !fp_any (fun i9 => fp_fill (sB S i9) k h9) (sN S)) (fp_hi S k) : Nat) : Int))]) rfl ?_
      have hctl := fp_ct_le (fun h => !fp_any (fun i => fp_fill (sB S i) k h) (sN S)) (fp_hi S k)
      refine r_icmp_eq (tgt := 23) hx hb ⟨by omega, by omega⟩ ⟨by omega, by omega⟩ dX1_areHolesEqual_18 (by decide) (fun c18 => ?_) (fun c18 => ?_)
      · skip
        refine lv_iinc (v := (iI ((k + 1 : Nat) : Int))) (lv' := [(1, .int (iI ((k + 1 : Nat) : Int))), (0, .ref (x))]) hx hb dX1_areHolesEqual_23 hl (k := 1) rfl (iI_incN _ _) (by decide) rfl (fun ls hl => ?_)
        refine lv_goto (tgt := 2) hx hb dX1_areHolesEqual_26 (by decide) ?_
        refine W.widen (k := 133 * (k + 1)) (n := 449 * (k + 1)) (by omega) (by omega) ?_
        exact ih2 (by omega) H_18 locs ls (lv_sub hl [1, 0] rfl) hS (by omega)
      · skip
        exact absurd (hhok (by omega)) c18
  refine W.widen (k := 133 * 0) (n := 449 * 0) (by omega) (by omega) ?_
  exact L2 0 (by omega) s.heap locs ls (lv_sub hl [1, 0] rfl) hS (Nat.le_refl _)
set_option maxHeartbeats 4000000 in
theorem c_X1_isLightEqual (G : fp_G) (x : Nat) (u : Nat) (sv : Value) (hi : Nat) (ip : Nat) (ln : Nat) (ex : Bool) (er : Int) (fa : Int) (l : Nat) (ed : Nat) (z : Nat) (t : Nat) (mc : Int32) (cap : Nat) (b : Nat → Nat) (S : PS) (hsw : fp_sw S b) : fp_M G yX1_isLightEqual cX1_isLightEqual 3 (some .boolean) 9 194 4993 19980 [.ref (x)] (fun H => fp_At G H x (eO 1 [.ref (u), sv, .ref (hi), .ref (ip), .ref (ln), .int (iI (bI (ex))), .int (iI (er)), .int (iI (fa))]) ∧ fp_SE G u l ed z t mc cap b S H) fp_no (fun H v H1 => v = some (.int (iI (bI (true))))) := by
  refine fp_M.intro (by decide) (Nat.le_of_ble_eq_true rfl) ?_
  intro pg en s mi ag bl mt cd rR qQ ls X hx hb hr hlk hnm hR hQ hB hM hl
  have hS : va_S (fA fp_no s.heap.size) s.heap s.heap [] := va_S.rf
  generalize ([] : List Loc) = locs at hS ⊢
  have hb0 := hB.1
  obtain ⟨h_pob, h_st⟩ := hM
  have hsz0 := hS.1
  have lt_1 := h_pob.lt
  have lt_2 := h_st.1.lt
  have hn24 := hsw.1.1
  refine lv_aload_n hx hb dX1_isLightEqual_0 rfl (lv_at hl 0 rfl) ?_
  refine r_get X h_pob rfl in_X1 0 (by decide) q242 (Or.inl rfl) (v := .ref (u)) rfl dX1_isLightEqual_1 ?_
  refine r_callV (cells1 := 193) (slots1 := 780) X hR (c_X2_light G u l ed z t mc cap b S hsw) q439 q440 q441 q89 q442 ⟨rfl, pd_X2_light⟩ ⟨Nat.le_of_ble_eq_true rfl, Nat.le_of_ble_eq_true rfl⟩ rfl rfl (Nat.le_of_ble_eq_true rfl) (Nat.le_of_ble_eq_true rfl) h_st.1 rfl rfl (Nat.le_of_ble_eq_true rfl) hl.1 dX1_isLightEqual_4 (hB.of hS fp_no.base) h_st hS (fun _ h => h.elim) (fun v H_6 locs hp_3 hz_4 hk_5 hS => ?_)
  obtain ⟨a_7, rfl, ha_8, hE_9⟩ := hp_3
  have hz_10 := hS.1
  have lt_12 := hE_9.lt
  refine r_stk (st2 := [.ref (a_7)]) rfl ?_
  refine lv_astore_n (lv' := [(1, .ref (a_7)), (0, .ref (x))]) hx hb dX1_isLightEqual_7 rfl hl (by decide) rfl (fun ls hl => ?_)
  refine lv_iconst (v := (iI ((0 : Nat) : Int))) hx hb dX1_isLightEqual_8 rfl ?_
  refine lv_istore_n (lv' := [(2, .int (iI ((0 : Nat) : Int))), (1, .ref (a_7)), (0, .ref (x))]) hx hb dX1_isLightEqual_9 rfl hl (by decide) rfl (fun ls hl => ?_)
  have L10 : ∀ (k : Nat), k ≤ 12 → ∀ (H_13 : Heap) (locs : List Loc) (ls : Array Slot), lv_has ls 3 [(0, .ref (x)), (1, .ref (a_7)), (2, .int (iI ((k : Nat) : Int)))] → va_S (fA fp_no s.heap.size) s.heap H_13 locs → (H_6.size ≤ H_13.size) → fp_At G H_13 a_7 (eZ G 12 (fun j => iI (bI ((fp_lit S) j)))) → W pg (g_l G) en rR s mi ag bl mt cd H_13 locs (193 + 400 * k) (780 + 1600 * k) qQ (F0 mi 10 ls []) := by
    refine lp_up 12 ?_
    intro k hk10 ih10 H_13 locs ls hl hS hz_14 hE_15
    have hz_16 := hS.1
    have lt_17 := hE_15.lt
    refine lv_iload_n hx hb dX1_isLightEqual_10 rfl (lv_at hl 2 rfl) ?_
    refine lv_bipush (v := (iI ((12 : Nat) : Int))) hx hb dX1_isLightEqual_11 rfl ?_
    refine r_icmp_ge (tgt := 38) hx hb ⟨by omega, by omega⟩ (by decide) dX1_isLightEqual_13 (by decide) (fun c13 => ?_) (fun c13 => ?_)
    · skip
      obtain rfl : k = 12 := by omega
      refine lv_iconst (v := (iI ((1 : Nat) : Int))) hx hb dX1_isLightEqual_38 rfl ?_
      refine r_zret hx hb hr hlk hQ hS (by omega) (by omega) dX1_isLightEqual_39 rfl ?_
      exact rfl
    · skip
      refine lv_aload_n hx hb dX1_isLightEqual_16 rfl (lv_at hl 1 rfl) ?_
      refine lv_iload_n hx hb dX1_isLightEqual_17 rfl (lv_at hl 2 rfl) ?_
      refine r_zaldI X hE_15 (j := k) rfl (by omega) (by decide) dX1_isLightEqual_18 ?_
      refine lv_aload_n hx hb dX1_isLightEqual_19 rfl (lv_at hl 0 rfl) ?_
      have hE_18 := fp_At.kept h_pob (fp_keptS (by omega) hS (fun z => z))
      refine r_get X hE_18 rfl in_X1 0 (by decide) q242 (Or.inl rfl) (v := .ref (u)) rfl dX1_isLightEqual_20 ?_
      refine lv_iload_n hx hb dX1_isLightEqual_23 rfl (lv_at hl 2 rfl) ?_
      have hE_19 := h_st.ext (fp_X.ofS hS)
      refine r_callV (cells1 := (193 + 400 * k + 400)) (slots1 := (780 + 1600 * k + 1600)) X hR (c_X2_isLit G u l ed z t mc cap b S k hsw (by omega)) q946 q947 q948 q89 q949 ⟨rfl, pd_X2_isLit⟩ ⟨Nat.le_of_ble_eq_true rfl, Nat.le_of_ble_eq_true rfl⟩ rfl rfl (by omega) (by omega) hE_19.1 rfl rfl (Nat.le_of_ble_eq_true rfl) hl.1 dX1_isLightEqual_24 (hB.of hS fp_no.base) hE_19 hS (fun _ h => h.elim) (fun v H_23 locs hp_20 hz_21 hk_22 hS => ?_)
      obtain rfl := hp_20
      have hz_24 := hS.1
      refine r_stk (st2 := [.int (iI (bI (fp_lit S k))), .int (iI (bI ((fp_lit S) k)))]) rfl ?_
      refine r_icmp_eq (tgt := 32) hx hb (bI_rg _) (bI_rg _) dX1_isLightEqual_27 (by decide) (fun c27 => ?_) (fun c27 => ?_)
      · skip
        refine lv_iinc (v := (iI ((k + 1 : Nat) : Int))) (lv' := [(2, .int (iI ((k + 1 : Nat) : Int))), (0, .ref (x)), (1, .ref (a_7))]) hx hb dX1_isLightEqual_32 hl (k := 2) rfl (iI_incN _ _) (by decide) rfl (fun ls hl => ?_)
        refine lv_goto (tgt := 10) hx hb dX1_isLightEqual_35 (by decide) ?_
        have hE_26 := fp_At.kept hE_15 (hk_22 _ (by omega) (fun z => z))
        refine W.widen (k := 193 + 400 * (k + 1)) (n := 780 + 1600 * (k + 1)) (by omega) (by omega) ?_
        exact ih10 (by omega) H_23 locs ls (lv_sub hl [1, 2, 0] rfl) hS (by omega) hE_26
      · skip
        exact absurd rfl c27
  refine W.widen (k := 193 + 400 * 0) (n := 780 + 1600 * 0) (by omega) (by omega) ?_
  exact L10 0 (by omega) H_6 locs ls (lv_sub hl [2, 1, 0] rfl) hS (Nat.le_refl _) hE_9
set_option maxHeartbeats 4000000 in
theorem c_X1_countAbove (G : fp_G) (x : Nat) (u : Nat) (sv : Value) (hi : Nat) (ip : Nat) (ln : Nat) (ex : Bool) (er : Int) (fa : Int) (l : Nat) (ed : Nat) (z : Nat) (t : Nat) (mc : Int32) (cap : Nat) (b : Nat → Nat) (S : PS) (zn : Int) (hsw : fp_sw S b) (hz : rg zn) : fp_MX G yX1_countAbove cX1_countAbove 3 (some .int) 302 8045 28 592 [.ref (x), .int (iI (zn))] (fun H => fp_At G H x (eO 1 [.ref (u), sv, .ref (hi), .ref (ip), .ref (ln), .int (iI (bI (ex))), .int (iI (er)), .int (iI (fa))]) ∧ fp_SE G u l ed z t mc cap b S H) fp_no (fun H v H1 => v = some (.int (iI ((fp_ct (fp_ab S (fp_fnd S zn)) (sN S) : Nat) : Int))) ∧ (fp_fc S zn = 0)) (fun H E H1 => (E = "java/util/NoSuchElementException" ∧ fp_X H H1 ∧ fp_fc S zn = 1)) := by
  refine fp_MX.introN (by decide) (Nat.le_of_ble_eq_true rfl) ?_
  intro pg en s mi ag bl mt cd rR qQ ls hn X hx hb hr hlk hnm hR hQ hT hB hM hl
  have hS : va_S (fA fp_no s.heap.size) s.heap s.heap [] := va_S.rf
  generalize ([] : List Loc) = locs at hS ⊢
  have hb0 := hB.1
  obtain ⟨h_pob, h_st⟩ := hM
  have hsz0 := hS.1
  have lt_1 := h_pob.lt
  have lt_2 := h_st.1.lt
  have hn24 := hsw.1.1
  obtain ⟨h_o, h_l, h_z, h_t, h_bl, h_xb, h_zb, h_tb⟩ := id h_st
  have lt_3 := h_l.1.lt
  have lt_4 := h_l.2.2
  have lt_5 := h_z.lt
  have lt_6 := h_t.lt
  refine lv_aload_n hx hb dX1_countAbove_0 rfl (lv_at hl 0 rfl) ?_
  refine lv_iload_n hx hb dX1_countAbove_1 rfl (lv_at hl 1 rfl) ?_
  refine x_callV (cells1 := 2) (slots1 := 10) X hR (c_X1_block G x u sv hi ip ln ex (er) (fa) l ed z t mc cap b S (zn) hsw (⟨by omega, by omega⟩)) q1320 q1322 qs26 q88 q1323 ⟨rfl, pd_X1_block⟩ ⟨Nat.le_of_ble_eq_true rfl, Nat.le_of_ble_eq_true rfl⟩ rfl rfl (Nat.le_of_ble_eq_true rfl) (Nat.le_of_ble_eq_true rfl) h_pob rfl rfl (Nat.le_of_ble_eq_true rfl) hl.1 dX1_countAbove_2 (hB.of hS fp_no.base) ⟨h_pob, h_st⟩ hS (fun _ h => h.elim) (fun v H_10 locs hp_7 hz_8 hk_9 hS => ?_) (fun Ex qx cx H_10 locs hp_7 hz_8 hk_9 hS hcx hvx hlx => ?_)
  · skip
    obtain ⟨rfl, hfn_11⟩ := hp_7
    have hz_12 := hS.1
    refine r_stk (st2 := [.ref (b (fp_fnd S (zn)))]) rfl ?_
    have hfn := hfn_11
    have hbk0 := hsw.1.2.2.1 (fp_fnd S zn) hfn
    have hFC : fp_fc S zn = 0 := fp_fc_0 rfl hfn
    refine lv_astore_n (lv' := [(2, .ref (b (fp_fnd S (zn)))), (0, .ref (x)), (1, .int (iI (zn)))]) hx hb dX1_countAbove_5 rfl hl (by decide) rfl (fun ls hl => ?_)
    refine lv_aload_n hx hb dX1_countAbove_6 rfl (lv_at hl 1 rfl) ?_
    have hE_13 := fp_At.kept h_pob (fp_keptS (by omega) hS (fun z => z))
    refine r_get X hE_13 rfl in_X1 0 (by decide) q242 (Or.inl rfl) (v := .ref (u)) rfl dX1_countAbove_7 ?_
    refine lv_aload_n hx hb dX1_countAbove_10 rfl (lv_at hl 1 rfl) ?_
    refine lv_aload_n hx hb dX1_countAbove_11 rfl (lv_at hl 0 rfl) ?_
    refine r_indyM (x := fp_x9) (vals := [.ref (x), .ref (b (fp_fnd S (zn)))]) (rest := [.ref (u)]) X hn hR fp_w9 (by decide) fp_Ls9 hS rfl (by rw [fp_Lt9]; rfl) (by rw [fp_Lt9]; exact fp_fit2 rfl rfl) rfl (Nat.le_of_ble_eq_true rfl) (Nat.le_of_ble_eq_true rfl) (Nat.le_of_ble_eq_true rfl) hl.1 dX1_countAbove_12 (fun cK_14 H_17 hLm_15 hob_16 hX_18 hz_19 hS => ?_)
    have hz_20 := hS.1
    have lt_21 := hob_16.lt
    have hCL_22 : fp_CL G fp_nM (H_10.size) 1 24 (sN S) b (fun H => fp_ob H (H_10.size) cK_14 [.ref (x), .ref (b (fp_fnd S (zn)))] ∧ fp_At G H x (eO 1 [.ref (u), sv, .ref (hi), .ref (ip), .ref (ln), .int (iI (bI (ex))), .int (iI (er)), .int (iI (fa))]) ∧ fp_SE G u l ed z t mc cap b S H) (fun k => iI (bI ((fun k => fp_ab S (fp_fnd S zn) k) k))) := ⟨_, fp_s9, cK_14, fp_lD9, fp_lf9, fp_ll9, _, _, hLm_15, fp_Ls9, fp_Lc9.lf, by decide +kernel, ⟨rfl, rfl, rfl⟩, ⟨Nat.le_of_ble_eq_true rfl, Nat.le_of_ble_eq_true rfl⟩, fun k hk => ((fp_MI.c3 (y := yX1_lambda_countAbove_3) hLm_15 fp_Ls9 fp_Lc9 fp_Lp9 fp_Lg9_0 fp_Lg9_1 ⟨⟨rfl, rfl, rfl⟩, rfl⟩ (c_X1_lambda_countAbove_3 G x u sv hi ip ln ex er fa l ed z t mc cap b S (fp_fnd S zn) k hsw hk hfn) ⟨q1599, qs32, q88, q1600, by decide, by decide, rfl⟩ rfl (fun _ _ _ h => fp_zI h (bI_z _))).pre (fun H h => ⟨h.1, h.2.1, h.2.1, h.2.2⟩)).post (fun _ _ _ h => h), fun H h => by obtain ⟨cell, h1, h2, h3, -⟩ := h.1; exact ⟨cell, h1, h2, h3⟩⟩
    have hE_24 := fp_At.kept h_pob (fp_keptS (by omega) hS (fun z => z))
    have hE_25 := h_st.ext (fp_X.ofS hS)
    have hPL_23 : (fun H => fp_ob H (H_10.size) cK_14 [.ref (x), .ref (b (fp_fnd S (zn)))] ∧ fp_At G H x (eO 1 [.ref (u), sv, .ref (hi), .ref (ip), .ref (ln), .int (iI (bI (ex))), .int (iI (er)), .int (iI (fa))]) ∧ fp_SE G u l ed z t mc cap b S H) H_17 := ⟨hob_16, hE_24, hE_25⟩
    refine r_callV (cells1 := (3 + (1 + sN S * 1))) (slots1 := (12 + (4 + sN S * 24))) X hR (c_X2_count G u l ed z t mc cap b S (H_10.size) 1 24 (fun k => fp_ab S (fp_fnd S zn) k) (fun H => fp_ob H (H_10.size) cK_14 [.ref (x), .ref (b (fp_fnd S (zn)))] ∧ fp_At G H x (eO 1 [.ref (u), sv, .ref (hi), .ref (ip), .ref (ln), .int (iI (bI (ex))), .int (iI (er)), .int (iI (fa))]) ∧ fp_SE G u l ed z t mc cap b S H) hsw (fun H H1 h hx => ⟨h.1.mv (hx.2 _ h.1.lt), h.2.1.ext hx, h.2.2.ext hx⟩) hCL_22) q971 q972 q973 q89 q974 ⟨rfl, pd_X2_count⟩ ⟨Nat.le_of_ble_eq_true rfl, Nat.le_of_ble_eq_true rfl⟩ rfl rfl (by omega) (by omega) hE_25.1 rfl rfl (Nat.le_of_ble_eq_true rfl) hl.1 dX1_countAbove_17 (hB.of hS fp_no.base) ⟨hE_25, hPL_23⟩ hS (fun _ h => h.elim) (fun v H_29 locs hp_26 hz_27 hk_28 hS => ?_)
    obtain rfl := hp_26
    have hz_30 := hS.1
    refine r_stk (st2 := [.int (iI ((fp_ct (fun k => fp_ab S (fp_fnd S zn) k) (sN S) : Nat) : Int))]) rfl ?_
    refine x_iret hx hb hr hlk hQ hS (by omega) (by omega) dX1_countAbove_20 ?_
    exact ⟨rfl, hFC⟩
  · skip
    rcases hp_7 with ⟨rfl, hX9, hb9⟩
    exact x_out hT hlk hQ hS (Nat.le_of_ble_eq_true rfl) (Nat.le_of_ble_eq_true rfl) hcx hvx hlx (⟨rfl, fp_X.ofS hS, hb9⟩)
