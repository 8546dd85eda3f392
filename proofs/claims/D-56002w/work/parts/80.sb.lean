/-! STRINGBUILDER: one byte a sign -/
set_option maxRecDepth 100000
def fp_SB (G : fp_G) (x vl cap n ml : Nat) (tx : Nat → Nat) (H : Heap) : Prop := fp_At G H x (eO 11 [.ref vl, .int (iI ((0 : Nat) : Int)), .int (iI ((ml : Nat) : Int)), .int (iI ((n : Nat) : Int))]) ∧ (∃ f : Nat → Int, fp_At G H vl (eB G cap (fun j => iI (f j))) ∧ (∀ i, i < n → f i = ((tx i : Nat) : Int) ∧ tx i < 128) ∧ ∀ i, i < cap → -128 ≤ f i ∧ f i < 128) ∧ (vl < H.size ∧ n ≤ cap ∧ 16 ≤ cap ∧ cap ≤ 202 ∧ ml ≤ 1) ∧ (g_s G).heap.size ≤ x ∧ (g_s G).heap.size ≤ vl
theorem fp_SB.mv {G : fp_G} {x vl cap n ml : Nat} {tx : Nat → Nat} {H H1 : Heap} (h : fp_SB G x vl cap n ml tx H) (hx : H1[x]? = H[x]?) (he : H1[vl]? = H[vl]?) : fp_SB G x vl cap n ml tx H1 := by
  obtain ⟨h1, ⟨f, h2, h3⟩, h4, h5⟩ := h
  exact ⟨h1.kept hx, ⟨f, h2.kept he, h3⟩, ⟨fp_ltk h4.1 he, h4.2⟩, h5⟩
theorem fp_SB.ext {G : fp_G} {x vl cap n ml : Nat} {tx : Nat → Nat} {H H1 : Heap} (h : fp_SB G x vl cap n ml tx H) (hx : fp_X H H1) : fp_SB G x vl cap n ml tx H1 := h.mv (hx.2 _ h.1.lt) (hx.2 _ h.2.2.1.1)
theorem fp_SB.ne {G : fp_G} {U : State} (hK : fp_K G U) {x vl cap n ml : Nat} {tx : Nat → Nat} {H : Heap} (h : fp_SB G x vl cap n ml tx H) : x ≠ vl := by
  obtain ⟨h1, ⟨f, h2, -⟩, -⟩ := h
  exact fp_neOA hK (i := 11) (t := 2) rfl rfl h1 h2
theorem fp_K.cs {G : fp_G} {U : State} (hK : fp_K G U) : (Term.static "java/lang/String" "COMPACT_STRINGS" "Z").eval #[Value.ref G.1.2.2] (g_s G) none [] (g_s G) = some (.int 1) := va_eqt (hK.flat (Cond.eq (.static "java/lang/String" "COMPACT_STRINGS" "Z") (.int 1)) (by decide +kernel))
theorem fp_and255 {z : Nat} (h : z < 256) : iI ((z : Nat) : Int) &&& iI ((255 : Nat) : Int) = iI ((z : Nat) : Int) := by
  have h1 : ∀ k : Fin 256, iI ((k.1 : Nat) : Int) &&& iI ((255 : Nat) : Int) = iI ((k.1 : Nat) : Int) := by decide +kernel
  exact h1 ⟨z, h⟩
theorem fp_shr0 (z : Int32) : z >>> (iI ((0 : Nat) : Int) &&& 31) = z := by
  have h : (iI ((0 : Nat) : Int) &&& 31) = (0 : Int32) := by decide
  rw [h]
  exact Int32.shiftRight_zero
theorem fp_shl0 (z : Int32) : z <<< (iI ((0 : Nat) : Int) &&& 31) = z := by
  have h : (iI ((0 : Nat) : Int) &&& 31) = (0 : Int32) := by decide
  rw [h]
  exact Int32.shiftLeft_zero
theorem fp_stR {G : fp_G} {t : Term} (h : (Cond.isRef t).before #[Value.ref G.1.2.2] (g_s G) = true) : (∃ a, t.eval #[Value.ref G.1.2.2] (g_s G) none [] (g_s G) = some (.ref a)) ∨ t.eval #[Value.ref G.1.2.2] (g_s G) none [] (g_s G) = some .null := by
  obtain ⟨v, hv, h2⟩ := Cond.isRef_spec h
  cases v with
  | ref a => exact Or.inl ⟨a, hv⟩
  | null => exact Or.inr hv
  | _ => simp [Value.isRef] at h2
theorem fp_K.sio {G : fp_G} {U : State} (hK : fp_K G U) : (∃ a, (Term.static "jdk/internal/util/Preconditions" "SIOOBE_FORMATTER" "Ljava/util/function/BiFunction;").eval #[Value.ref G.1.2.2] (g_s G) none [] (g_s G) = some (.ref a)) ∨ (Term.static "jdk/internal/util/Preconditions" "SIOOBE_FORMATTER" "Ljava/util/function/BiFunction;").eval #[Value.ref G.1.2.2] (g_s G) none [] (g_s G) = some .null := fp_stR (hK.flat _ (by decide +kernel))
theorem fp_sbg {f : Nat → Int} {n cap : Nat} {tx : Nat → Nat} (h : ∀ i, i < n → f i = ((tx i : Nat) : Int) ∧ tx i < 128) (hn : n ≤ cap) : ∀ i, i < n → va_cpy f (fun _ => (0 : Int)) 0 0 cap i = ((tx i : Nat) : Int) ∧ tx i < 128 := fun i hi => by
  have h1 : va_cpy f (fun _ => (0 : Int)) 0 0 cap i = f i := by
    unfold va_cpy
    rw [if_pos (by omega)]
    congr 1
    omega
  rw [h1]
  exact h i hi
theorem fp_sbw {f : Nat → Int} {cap : Nat} (h : ∀ i, i < cap → -128 ≤ f i ∧ f i < 128) : ∀ i, -128 ≤ va_cpy f (fun _ => (0 : Int)) 0 0 cap i ∧ va_cpy f (fun _ => (0 : Int)) 0 0 cap i < 128 := fun i => by
  unfold va_cpy
  by_cases hi : 0 ≤ i ∧ i < 0 + cap
  · rw [if_pos hi]
    exact h _ (by omega)
  · rw [if_neg hi]
    show -128 ≤ (0 : Int) ∧ (0 : Int) < 128
    omega
theorem fp_fitb {z : Int} (h : -128 ≤ z ∧ z < 128) : fits .byte (.int (iI z)) = true := by
  have h1 : (iI z).toInt = z := iI_toInt ⟨by omega, by omega⟩
  simp only [fits, Bool.and_eq_true, decide_eq_true_eq]
  exact ⟨Int32.le_iff_toInt_le.mpr (by rw [h1]; exact h.1), Int32.le_iff_toInt_le.mpr (by rw [h1]; show z ≤ 127; omega)⟩
theorem fp_sba {f : Nat → Int} {n c : Nat} {tx : Nat → Nat} (h : ∀ i, i < n → f i = ((tx i : Nat) : Int) ∧ tx i < 128) (hc : c < 128) : ∀ i, i < n + 1 → va_up f n ((c : Nat) : Int) i = ((va_up tx n c i : Nat) : Int) ∧ va_up tx n c i < 128 := fun i hi => by
  by_cases e : i = n
  · subst e
    rw [va_up_self, va_up_self]
    exact ⟨rfl, hc⟩
  · rw [va_up_ne _ _ e, va_up_ne _ _ e]
    exact h i (by omega)
theorem fp_sbu {f : Nat → Int} {n c cap : Nat} (h : ∀ i, i < cap → -128 ≤ f i ∧ f i < 128) (hc : c < 128) : ∀ i, i < cap → -128 ≤ va_up f n ((c : Nat) : Int) i ∧ va_up f n ((c : Nat) : Int) i < 128 := fun i hi => by
  by_cases e : i = n
  · subst e
    rw [va_up_self]
    omega
  · rw [va_up_ne _ _ e]
    exact h i hi
theorem fp_i2b {c : Nat} (hc : c < 128) : (iI ((c : Nat) : Int)).toInt8.toInt32 = iI ((c : Nat) : Int) := by
  have h1 : ∀ k : Fin 128, (iI ((k.1 : Nat) : Int)).toInt8.toInt32 = iI ((k.1 : Nat) : Int) := by decide +kernel
  exact h1 ⟨c, hc⟩

set_option maxRecDepth 100000
set_option maxHeartbeats 4000000 in
theorem c_J5_length (G : fp_G) (x : Nat) (vl : Nat) (cap : Nat) (n : Nat) (ml : Nat) (tx : Nat → Nat) : fp_M G yJ5_length cJ5_length 1 (some .int) 1 12 0 0 [.ref (x)] (fun H => fp_SB G x vl cap n ml tx H) fp_no (fun H v H1 => v = some (.int (iI ((n : Nat) : Int))) ∧ H = H1) := by
  refine fp_M.intro (by decide) (Nat.le_of_ble_eq_true rfl) ?_
  intro pg en s mi ag bl mt cd rR qQ ls X hx hb hr hlk hnm hR hQ hB hM hl
  have hS : va_S (fA fp_no s.heap.size) s.heap s.heap [] := va_S.rf
  generalize ([] : List Loc) = locs at hS ⊢
  have hb0 := hB.1
  have h_sb := hM
  have hsz0 := hS.1
  have lt_1 := h_sb.1.lt
  have lt_2 := h_sb.2.2.1.1
  refine lv_aload_n hx hb dJ5_length_0 rfl (lv_at hl 0 rfl) ?_
  refine r_get X h_sb.1 rfl in_J6 3 (by decide) q231 (Or.inl rfl) (v := .int (iI ((n : Nat) : Int))) rfl dJ5_length_1 ?_
  refine r_iret hx hb hr hlk hQ hS (Nat.le_of_ble_eq_true rfl) (Nat.le_of_ble_eq_true rfl) dJ5_length_4 ?_
  exact ⟨rfl, rfl⟩
set_option maxHeartbeats 4000000 in
theorem c_J6_length (G : fp_G) (x : Nat) (vl : Nat) (cap : Nat) (n : Nat) (ml : Nat) (tx : Nat → Nat) : fp_M G yJ6_length cJ6_length 1 (some .int) 2 32 0 0 [.ref (x)] (fun H => fp_SB G x vl cap n ml tx H) fp_no (fun H v H1 => v = some (.int (iI ((n : Nat) : Int))) ∧ H = H1) := by
  refine fp_M.intro (by decide) (Nat.le_of_ble_eq_true rfl) ?_
  intro pg en s mi ag bl mt cd rR qQ ls X hx hb hr hlk hnm hR hQ hB hM hl
  have hS : va_S (fA fp_no s.heap.size) s.heap s.heap [] := va_S.rf
  generalize ([] : List Loc) = locs at hS ⊢
  have hb0 := hB.1
  have h_sb := hM
  have hsz0 := hS.1
  have lt_1 := h_sb.1.lt
  have lt_2 := h_sb.2.2.1.1
  refine lv_aload_n hx hb dJ6_length_0 rfl (lv_at hl 0 rfl) ?_
  refine r_callP (cells1 := 0) (slots1 := 0) X hR (c_J5_length G x vl cap n ml tx) q750 q746 q240 q745 q96 q751 ⟨by decide, rfl⟩ ⟨Nat.le_of_ble_eq_true rfl, Nat.le_of_ble_eq_true rfl⟩ rfl rfl (Nat.le_of_ble_eq_true rfl) (Nat.le_of_ble_eq_true rfl) h_sb.1 rfl rfl (Nat.le_of_ble_eq_true rfl) hl.1 dJ6_length_1 (hB.of hS fp_no.base) h_sb hS (fun _ h => h.elim) (fun v H_6 locs hp_3 hz_4 hk_5 hS => ?_)
  obtain ⟨rfl, rfl⟩ := hp_3
  refine r_stk (st2 := [.int (iI ((n : Nat) : Int))]) rfl ?_
  refine r_iret hx hb hr hlk hQ hS (Nat.le_of_ble_eq_true rfl) (Nat.le_of_ble_eq_true rfl) dJ6_length_4 ?_
  exact ⟨rfl, rfl⟩
set_option maxHeartbeats 4000000 in
theorem c_J5_isLatin1 (G : fp_G) (x : Nat) (vl : Nat) (cap : Nat) (n : Nat) (ml : Nat) (tx : Nat → Nat) : fp_M G yJ5_isLatin1 cJ5_isLatin1 1 (some .boolean) 1 12 0 0 [.ref (x)] (fun H => fp_SB G x vl cap n ml tx H) fp_no (fun H v H1 => v = some (.int (iI (bI (true)))) ∧ H = H1) := by
  refine fp_M.intro (by decide) (Nat.le_of_ble_eq_true rfl) ?_
  intro pg en s mi ag bl mt cd rR qQ ls X hx hb hr hlk hnm hR hQ hB hM hl
  have hS : va_S (fA fp_no s.heap.size) s.heap s.heap [] := va_S.rf
  generalize ([] : List Loc) = locs at hS ⊢
  have hb0 := hB.1
  have h_sb := hM
  have hsz0 := hS.1
  have lt_1 := h_sb.1.lt
  have lt_2 := h_sb.2.2.1.1
  refine r_gets X hB fp_no.base hS q219 (lw_all_tbl q98) (X.2.2.2.2.2.cs) q218 rfl dJ5_isLatin1_0 ?_
  refine r_set (y := .int (iI ((1 : Nat) : Int))) rfl ?_
  refine r_if_eq (tgt := 17) hx hb (by decide) dJ5_isLatin1_3 (by decide) (fun c3 => ?_) (fun c3 => ?_)
  · exact absurd c3 (by omega)
  · skip
    refine lv_aload_n hx hb dJ5_isLatin1_6 rfl (lv_at hl 0 rfl) ?_
    refine r_get X h_sb.1 rfl in_J6 1 (by decide) q228 (Or.inl rfl) (v := .int (iI ((0 : Nat) : Int))) rfl dJ5_isLatin1_7 ?_
    refine r_if_ne (tgt := 17) hx hb (by decide) dJ5_isLatin1_10 (by decide) (fun c10 => ?_) (fun c10 => ?_)
    · exact absurd c10 (by omega)
    · skip
      refine lv_iconst (v := (iI ((1 : Nat) : Int))) hx hb dJ5_isLatin1_13 rfl ?_
      refine lv_goto (tgt := 18) hx hb dJ5_isLatin1_14 (by decide) ?_
      refine r_zret hx hb hr hlk hQ hS (Nat.le_of_ble_eq_true rfl) (Nat.le_of_ble_eq_true rfl) dJ5_isLatin1_18 rfl ?_
      exact ⟨rfl, rfl⟩
set_option maxHeartbeats 4000000 in
theorem c_J21_canEncode (G : fp_G) (c : Nat) (hc : c < 128) : fp_M G yJ21_canEncode cJ21_canEncode 1 (some .boolean) 1 12 0 0 [.int (iI ((c : Nat) : Int))] (fun H => True) fp_no (fun H v H1 => v = some (.int (iI (bI (true)))) ∧ H = H1) := by
  refine fp_M.intro (by decide) (Nat.le_of_ble_eq_true rfl) ?_
  intro pg en s mi ag bl mt cd rR qQ ls X hx hb hr hlk hnm hR hQ hB hM hl
  have hS : va_S (fA fp_no s.heap.size) s.heap s.heap [] := va_S.rf
  generalize ([] : List Loc) = locs at hS ⊢
  have hb0 := hB.1
  have hsz0 := hS.1
  refine lv_iload_n hx hb dJ21_canEncode_0 rfl (lv_at hl 0 rfl) ?_
  refine lv_sipush (v := (iI ((255 : Nat) : Int))) hx hb dJ21_canEncode_1 rfl ?_
  refine r_icmp_gt (tgt := 11) hx hb ⟨by omega, by omega⟩ (by decide) dJ21_canEncode_4 (by decide) (fun c4 => ?_) (fun c4 => ?_)
  · skip
    exact absurd c4 (by omega)
  · skip
    refine lv_iconst (v := (iI ((1 : Nat) : Int))) hx hb dJ21_canEncode_7 rfl ?_
    refine lv_goto (tgt := 12) hx hb dJ21_canEncode_8 (by decide) ?_
    refine r_zret hx hb hr hlk hQ hS (Nat.le_of_ble_eq_true rfl) (Nat.le_of_ble_eq_true rfl) dJ21_canEncode_12 rfl ?_
    exact ⟨rfl, rfl⟩
set_option maxHeartbeats 4000000 in
theorem c_J19_checkIndex_r (G : fp_G) (i : Nat) (n : Nat) (bf : Nat) (hi : i < n) (hn : n ≤ 1000000) : fp_M G yJ19_checkIndex cJ19_checkIndex 3 (some .int) 1 12 0 0 [.int (iI ((i : Nat) : Int)), .int (iI ((n : Nat) : Int)), .ref (bf)] (fun H => True) fp_no (fun H v H1 => v = some (.int (iI ((i : Nat) : Int))) ∧ H = H1) := by
  refine fp_M.intro (by decide) (Nat.le_of_ble_eq_true rfl) ?_
  intro pg en s mi ag bl mt cd rR qQ ls X hx hb hr hlk hnm hR hQ hB hM hl
  have hS : va_S (fA fp_no s.heap.size) s.heap s.heap [] := va_S.rf
  generalize ([] : List Loc) = locs at hS ⊢
  have hb0 := hB.1
  have hsz0 := hS.1
  refine lv_iload_n hx hb dJ19_checkIndex_0 rfl (lv_at hl 0 rfl) ?_
  refine r_if_lt (tgt := 9) hx hb ⟨by omega, by omega⟩ dJ19_checkIndex_1 (by decide) (fun c1 => ?_) (fun c1 => ?_)
  · exact absurd c1 (by omega)
  · skip
    refine lv_iload_n hx hb dJ19_checkIndex_4 rfl (lv_at hl 0 rfl) ?_
    refine lv_iload_n hx hb dJ19_checkIndex_5 rfl (lv_at hl 1 rfl) ?_
    refine r_icmp_lt (tgt := 16) hx hb ⟨by omega, by omega⟩ ⟨by omega, by omega⟩ dJ19_checkIndex_6 (by decide) (fun c6 => ?_) (fun c6 => ?_)
    · skip
      refine lv_iload_n hx hb dJ19_checkIndex_16 rfl (lv_at hl 0 rfl) ?_
      refine r_iret hx hb hr hlk hQ hS (Nat.le_of_ble_eq_true rfl) (Nat.le_of_ble_eq_true rfl) dJ19_checkIndex_17 ?_
      exact ⟨rfl, rfl⟩
    · skip
      exact absurd c6 (by omega)
set_option maxHeartbeats 4000000 in
theorem c_J7_checkIndex (G : fp_G) (i : Nat) (n : Nat) (hi : i < n) (hn : n ≤ 1000000) : fp_M G yJ7_checkIndex cJ7_checkIndex 2 none 2 34 0 0 [.int (iI ((i : Nat) : Int)), .int (iI ((n : Nat) : Int))] (fun H => True) fp_no (fun H v H1 => v = none ∧ H = H1) := by
  refine fp_M.intro (by decide) (Nat.le_of_ble_eq_true rfl) ?_
  intro pg en s mi ag bl mt cd rR qQ ls X hx hb hr hlk hnm hR hQ hB hM hl
  have hS : va_S (fA fp_no s.heap.size) s.heap s.heap [] := va_S.rf
  generalize ([] : List Loc) = locs at hS ⊢
  have hb0 := hB.1
  have hsz0 := hS.1
  rcases X.2.2.2.2.2.sio with ⟨bf, hbf⟩ | hbf
  · skip
    refine lv_iload_n hx hb dJ7_checkIndex_0 rfl (lv_at hl 0 rfl) ?_
    refine lv_iload_n hx hb dJ7_checkIndex_1 rfl (lv_at hl 1 rfl) ?_
    refine r_gets X hB fp_no.base hS q644 (lw_all_tbl q116) hbf q643 rfl dJ7_checkIndex_2 ?_
    refine r_callS (cells1 := 0) (slots1 := 0) X hR (c_J19_checkIndex_r G i n bf hi hn) q1688 q497 q116 q498 pd_J19_checkIndex ⟨Nat.le_of_ble_eq_true rfl, Nat.le_of_ble_eq_true rfl⟩ rfl rfl (Nat.le_of_ble_eq_true rfl) (Nat.le_of_ble_eq_true rfl) rfl (Nat.le_of_ble_eq_true rfl) hl.1 dJ7_checkIndex_5 (hB.of hS fp_no.base) trivial hS (fun _ h => h.elim) (fun v H_4 locs hp_1 hz_2 hk_3 hS => ?_)
    obtain ⟨rfl, rfl⟩ := hp_1
    refine r_stk (st2 := [.int (iI ((i : Nat) : Int))]) rfl ?_
    refine lv_pop hx hb dJ7_checkIndex_8 rfl ?_
    refine r_vret hx hb hr hlk hQ hS (Nat.le_of_ble_eq_true rfl) (Nat.le_of_ble_eq_true rfl) dJ7_checkIndex_9 ?_
    exact ⟨rfl, rfl⟩
  · skip
    refine lv_iload_n hx hb dJ7_checkIndex_0 rfl (lv_at hl 0 rfl) ?_
    refine lv_iload_n hx hb dJ7_checkIndex_1 rfl (lv_at hl 1 rfl) ?_
    refine r_gets X hB fp_no.base hS q644 (lw_all_tbl q116) hbf q643 rfl dJ7_checkIndex_2 ?_
    refine r_callS (cells1 := 0) (slots1 := 0) X hR (c_J19_checkIndex G i n hi hn) q1688 q497 q116 q498 pd_J19_checkIndex ⟨Nat.le_of_ble_eq_true rfl, Nat.le_of_ble_eq_true rfl⟩ rfl rfl (Nat.le_of_ble_eq_true rfl) (Nat.le_of_ble_eq_true rfl) rfl (Nat.le_of_ble_eq_true rfl) hl.1 dJ7_checkIndex_5 (hB.of hS fp_no.base) trivial hS (fun _ h => h.elim) (fun v H_8 locs hp_5 hz_6 hk_7 hS => ?_)
    obtain ⟨rfl, rfl⟩ := hp_5
    refine r_stk (st2 := [.int (iI ((i : Nat) : Int))]) rfl ?_
    refine lv_pop hx hb dJ7_checkIndex_8 rfl ?_
    refine r_vret hx hb hr hlk hQ hS (Nat.le_of_ble_eq_true rfl) (Nat.le_of_ble_eq_true rfl) dJ7_checkIndex_9 ?_
    exact ⟨rfl, rfl⟩
set_option maxHeartbeats 4000000 in
theorem c_J5_charAt (G : fp_G) (x : Nat) (vl : Nat) (cap : Nat) (n : Nat) (ml : Nat) (tx : Nat → Nat) (i : Nat) (hi : i < n) : fp_M G yJ5_charAt cJ5_charAt 5 (some .char) 3 55 0 0 [.ref (x), .int (iI ((i : Nat) : Int))] (fun H => fp_SB G x vl cap n ml tx H) fp_no (fun H v H1 => v = some (.int (iI ((tx i : Nat) : Int))) ∧ H = H1) := by
  refine fp_M.intro (by decide) (Nat.le_of_ble_eq_true rfl) ?_
  intro pg en s mi ag bl mt cd rR qQ ls X hx hb hr hlk hnm hR hQ hB hM hl
  have hS : va_S (fA fp_no s.heap.size) s.heap s.heap [] := va_S.rf
  generalize ([] : List Loc) = locs at hS ⊢
  have hb0 := hB.1
  have h_sb := hM
  have hsz0 := hS.1
  have lt_1 := h_sb.1.lt
  have lt_2 := h_sb.2.2.1.1
  have hxv := h_sb.ne X.2.2.2.2.2
  obtain ⟨hso, ⟨f, hsr, hsf, hsw⟩, hsb, hsx, hsv⟩ := id h_sb
  have lt_3 := hsr.lt
  have hfi := hsf i hi
  refine lv_aload_n hx hb dJ5_charAt_0 rfl (lv_at hl 0 rfl) ?_
  refine r_get X hso rfl in_J6 1 (by decide) q228 (Or.inl rfl) (v := .int (iI ((0 : Nat) : Int))) rfl dJ5_charAt_1 ?_
  refine lv_istore_n (lv' := [(2, .int (iI ((0 : Nat) : Int))), (0, .ref (x)), (1, .int (iI ((i : Nat) : Int)))]) hx hb dJ5_charAt_4 rfl hl (by decide) rfl (fun ls hl => ?_)
  refine lv_aload_n hx hb dJ5_charAt_5 rfl (lv_at hl 1 rfl) ?_
  refine r_get X hso rfl in_J6 0 (by decide) q227 (Or.inl rfl) (v := .ref (vl)) rfl dJ5_charAt_6 ?_
  refine lv_astore_n (lv' := [(3, .ref (vl)), (2, .int (iI ((0 : Nat) : Int))), (0, .ref (x)), (1, .int (iI ((i : Nat) : Int)))]) hx hb dJ5_charAt_9 rfl hl (by decide) rfl (fun ls hl => ?_)
  refine lv_aload_n hx hb dJ5_charAt_10 rfl (lv_at hl 2 rfl) ?_
  refine r_get X hso rfl in_J6 3 (by decide) q231 (Or.inl rfl) (v := .int (iI ((n : Nat) : Int))) rfl dJ5_charAt_11 ?_
  refine lv_aload_n hx hb dJ5_charAt_14 rfl (lv_at hl 0 rfl) ?_
  refine r_alen X (t := 2) rfl hsr (v := (iI ((cap : Nat) : Int))) rfl dJ5_charAt_15 ?_
  refine lv_iload_n hx hb dJ5_charAt_16 rfl (lv_at hl 1 rfl) ?_
  refine lv_ishr hx hb dJ5_charAt_17 ?_
  refine r_set (y := .int (iI ((cap : Nat) : Int))) (congrArg Value.int (fp_shr0 _)) ?_
  refine r_minN X hR hl.1 q1704 q621 q107 q622 (by decide) (Nat.le_of_ble_eq_true rfl) (Nat.le_of_ble_eq_true rfl) (Nat.le_of_ble_eq_true rfl) ⟨by omega, by omega⟩ ⟨by omega, by omega⟩ dJ5_charAt_18 ?_
  refine r_set (y := .int (iI ((min n cap : Nat) : Int))) (congrArg (fun q : Int => Value.int (iI q)) (by omega)) ?_
  refine lv_istore (lv' := [(4, .int (iI ((min n cap : Nat) : Int))), (3, .ref (vl)), (2, .int (iI ((0 : Nat) : Int))), (0, .ref (x)), (1, .int (iI ((i : Nat) : Int)))]) hx hb dJ5_charAt_21 hl (by decide) rfl (fun ls hl => ?_)
  refine lv_iload_n hx hb dJ5_charAt_23 rfl (lv_at hl 4 rfl) ?_
  refine lv_iload hx hb dJ5_charAt_24 (lv_at hl 0 rfl) ?_
  refine r_set (y := .int (iI ((n : Nat) : Int))) (congrArg (fun q : Nat => Value.int (iI (q : Int))) (by omega)) ?_
  refine r_callS (cells1 := 0) (slots1 := 0) X hR (c_J7_checkIndex G i n hi (by omega)) q1705 q1686 q98 q1687 pd_J7_checkIndex ⟨Nat.le_of_ble_eq_true rfl, Nat.le_of_ble_eq_true rfl⟩ rfl rfl (Nat.le_of_ble_eq_true rfl) (Nat.le_of_ble_eq_true rfl) rfl (Nat.le_of_ble_eq_true rfl) hl.1 dJ5_charAt_26 (hB.of hS fp_no.base) trivial hS (fun _ h => h.elim) (fun v H_7 locs hp_4 hz_5 hk_6 hS => ?_)
  obtain ⟨rfl, rfl⟩ := hp_4
  refine r_stk (st2 := []) rfl ?_
  refine lv_iload_n hx hb dJ5_charAt_29 rfl (lv_at hl 2 rfl) ?_
  refine r_if_ne (tgt := 42) hx hb (by decide) dJ5_charAt_30 (by decide) (fun c30 => ?_) (fun c30 => ?_)
  · exact absurd c30 (by omega)
  · skip
    refine lv_aload_n hx hb dJ5_charAt_33 rfl (lv_at hl 1 rfl) ?_
    refine lv_iload_n hx hb dJ5_charAt_34 rfl (lv_at hl 4 rfl) ?_
    refine r_baldI X hsr (j := i) rfl (by omega) (by omega) dJ5_charAt_35 ?_
    refine lv_sipush (v := (iI ((255 : Nat) : Int))) hx hb dJ5_charAt_36 rfl ?_
    refine lv_iand hx hb dJ5_charAt_39 ?_
    refine r_set (y := .int (iI ((tx i : Nat) : Int))) (congrArg Value.int (by rw [hfi.1]; exact fp_and255 (by omega))) ?_
    refine lv_i2c (v := (iI ((tx i : Nat) : Int))) hx hb dJ5_charAt_40 (iI_i2c ⟨by omega, by omega⟩) ?_
    refine r_zret hx hb hr hlk hQ hS (Nat.le_of_ble_eq_true rfl) (Nat.le_of_ble_eq_true rfl) dJ5_charAt_41 (iI_char ⟨by omega, by omega⟩) ?_
    exact ⟨rfl, rfl⟩
set_option maxHeartbeats 4000000 in
theorem c_J6_charAt (G : fp_G) (x : Nat) (vl : Nat) (cap : Nat) (n : Nat) (ml : Nat) (tx : Nat → Nat) (i : Nat) (hi : i < n) : fp_M G yJ6_charAt cJ6_charAt 2 (some .char) 4 79 0 0 [.ref (x), .int (iI ((i : Nat) : Int))] (fun H => fp_SB G x vl cap n ml tx H) fp_no (fun H v H1 => v = some (.int (iI ((tx i : Nat) : Int))) ∧ H = H1) := by
  refine fp_M.intro (by decide) (Nat.le_of_ble_eq_true rfl) ?_
  intro pg en s mi ag bl mt cd rR qQ ls X hx hb hr hlk hnm hR hQ hB hM hl
  have hS : va_S (fA fp_no s.heap.size) s.heap s.heap [] := va_S.rf
  generalize ([] : List Loc) = locs at hS ⊢
  have hb0 := hB.1
  have h_sb := hM
  have hsz0 := hS.1
  have lt_1 := h_sb.1.lt
  have lt_2 := h_sb.2.2.1.1
  obtain ⟨f0, -, hf0, -⟩ := h_sb.2.1
  have hfi := (hf0 i hi).2
  refine lv_aload_n hx hb dJ6_charAt_0 rfl (lv_at hl 0 rfl) ?_
  refine lv_iload_n hx hb dJ6_charAt_1 rfl (lv_at hl 1 rfl) ?_
  refine r_callP (cells1 := 0) (slots1 := 0) X hR (c_J5_charAt G x vl cap n ml tx i hi) q1701 q2531 q240 q1702 q96 q1703 ⟨by decide, rfl⟩ ⟨Nat.le_of_ble_eq_true rfl, Nat.le_of_ble_eq_true rfl⟩ rfl rfl (Nat.le_of_ble_eq_true rfl) (Nat.le_of_ble_eq_true rfl) h_sb.1 rfl rfl (Nat.le_of_ble_eq_true rfl) hl.1 dJ6_charAt_2 (hB.of hS fp_no.base) h_sb hS (fun _ h => h.elim) (fun v H_6 locs hp_3 hz_4 hk_5 hS => ?_)
  obtain ⟨rfl, rfl⟩ := hp_3
  refine r_stk (st2 := [.int (iI ((tx i : Nat) : Int))]) rfl ?_
  refine r_zret hx hb hr hlk hQ hS (Nat.le_of_ble_eq_true rfl) (Nat.le_of_ble_eq_true rfl) dJ6_charAt_5 (iI_char ⟨by omega, by omega⟩) ?_
  exact ⟨rfl, rfl⟩
set_option maxHeartbeats 4000000 in
theorem c_J5_newCapacity (G : fp_G) (x : Nat) (vl : Nat) (cap : Nat) (n : Nat) (ml : Nat) (tx : Nat → Nat) (mn : Nat) (hmn : cap < mn) (hmb : mn ≤ 100) : fp_M G yJ5_newCapacity cJ5_newCapacity 6 (some .int) 3 63 0 0 [.ref (x), .int (iI ((mn : Nat) : Int))] (fun H => fp_SB G x vl cap n ml tx H) fp_no (fun H v H1 => v = some (.int (iI ((cap + max (mn - cap) (cap + 2) : Nat) : Int))) ∧ H = H1) := by
  refine fp_M.intro (by decide) (Nat.le_of_ble_eq_true rfl) ?_
  intro pg en s mi ag bl mt cd rR qQ ls X hx hb hr hlk hnm hR hQ hB hM hl
  have hS : va_S (fA fp_no s.heap.size) s.heap s.heap [] := va_S.rf
  generalize ([] : List Loc) = locs at hS ⊢
  have hb0 := hB.1
  have h_sb := hM
  have hsz0 := hS.1
  have lt_1 := h_sb.1.lt
  have lt_2 := h_sb.2.2.1.1
  have hxv := h_sb.ne X.2.2.2.2.2
  obtain ⟨hso, ⟨f, hsr, hsf, hsw⟩, hsb, hsx, hsv⟩ := id h_sb
  have lt_3 := hsr.lt
  refine lv_aload_n hx hb dJ5_newCapacity_0 rfl (lv_at hl 0 rfl) ?_
  refine r_get X hso rfl in_J6 0 (by decide) q227 (Or.inl rfl) (v := .ref (vl)) rfl dJ5_newCapacity_1 ?_
  refine r_alen X (t := 2) rfl hsr (v := (iI ((cap : Nat) : Int))) rfl dJ5_newCapacity_4 ?_
  refine lv_istore_n (lv' := [(2, .int (iI ((cap : Nat) : Int))), (0, .ref (x)), (1, .int (iI ((mn : Nat) : Int)))]) hx hb dJ5_newCapacity_5 rfl hl (by decide) rfl (fun ls hl => ?_)
  refine lv_iload_n hx hb dJ5_newCapacity_6 rfl (lv_at hl 2 rfl) ?_
  refine lv_aload_n hx hb dJ5_newCapacity_7 rfl (lv_at hl 1 rfl) ?_
  refine r_get X hso rfl in_J6 1 (by decide) q228 (Or.inl rfl) (v := .int (iI ((0 : Nat) : Int))) rfl dJ5_newCapacity_8 ?_
  refine lv_ishl hx hb dJ5_newCapacity_11 ?_
  refine r_set (y := .int (iI ((mn : Nat) : Int))) (congrArg Value.int (fp_shl0 _)) ?_
  refine lv_istore_n (lv' := [(3, .int (iI ((mn : Nat) : Int))), (2, .int (iI ((cap : Nat) : Int))), (0, .ref (x)), (1, .int (iI ((mn : Nat) : Int)))]) hx hb dJ5_newCapacity_12 rfl hl (by decide) rfl (fun ls hl => ?_)
  refine lv_iload_n hx hb dJ5_newCapacity_13 rfl (lv_at hl 0 rfl) ?_
  refine lv_iload_n hx hb dJ5_newCapacity_14 rfl (lv_at hl 1 rfl) ?_
  refine r_isub hx hb dJ5_newCapacity_15 ?_
  refine r_set (y := .int (iI ((mn - cap : Nat) : Int))) (congrArg (fun q : Int => Value.int (iI q)) (by omega)) ?_
  refine lv_istore (lv' := [(4, .int (iI ((mn - cap : Nat) : Int))), (3, .int (iI ((mn : Nat) : Int))), (2, .int (iI ((cap : Nat) : Int))), (0, .ref (x)), (1, .int (iI ((mn : Nat) : Int)))]) hx hb dJ5_newCapacity_16 hl (by decide) rfl (fun ls hl => ?_)
  refine lv_iload_n hx hb dJ5_newCapacity_18 rfl (lv_at hl 2 rfl) ?_
  refine lv_iload hx hb dJ5_newCapacity_19 (lv_at hl 0 rfl) ?_
  refine lv_iload_n hx hb dJ5_newCapacity_21 rfl (lv_at hl 2 rfl) ?_
  refine lv_iconst (v := (iI ((2 : Nat) : Int))) hx hb dJ5_newCapacity_22 rfl ?_
  refine lv_aload_n hx hb dJ5_newCapacity_23 rfl (lv_at hl 3 rfl) ?_
  refine r_get X hso rfl in_J6 1 (by decide) q228 (Or.inl rfl) (v := .int (iI ((0 : Nat) : Int))) rfl dJ5_newCapacity_24 ?_
  refine lv_ishl hx hb dJ5_newCapacity_27 ?_
  refine r_set (y := .int (iI ((2 : Nat) : Int))) (congrArg Value.int (fp_shl0 _)) ?_
  refine r_iaddN hx hb dJ5_newCapacity_28 ?_
  refine r_callS (cells1 := 0) (slots1 := 0) X hR (c_J16_newLength G cap (mn - cap) (cap + 2) (by omega) (by omega)) q601 q602 q112 q603 pd_J16_newLength ⟨Nat.le_of_ble_eq_true rfl, Nat.le_of_ble_eq_true rfl⟩ rfl rfl (Nat.le_of_ble_eq_true rfl) (Nat.le_of_ble_eq_true rfl) rfl (Nat.le_of_ble_eq_true rfl) hl.1 dJ5_newCapacity_29 (hB.of hS fp_no.base) trivial hS (fun _ h => h.elim) (fun v H_7 locs hp_4 hz_5 hk_6 hS => ?_)
  obtain ⟨rfl, rfl⟩ := hp_4
  refine r_stk (st2 := [.int (iI ((cap + max (mn - cap) (cap + 2) : Nat) : Int))]) rfl ?_
  refine lv_istore (lv' := [(5, .int (iI ((cap + max (mn - cap) (cap + 2) : Nat) : Int))), (4, .int (iI ((mn - cap : Nat) : Int))), (3, .int (iI ((mn : Nat) : Int))), (2, .int (iI ((cap : Nat) : Int))), (0, .ref (x)), (1, .int (iI ((mn : Nat) : Int)))]) hx hb dJ5_newCapacity_32 hl (by decide) rfl (fun ls hl => ?_)
  refine lv_iload hx hb dJ5_newCapacity_34 (lv_at hl 0 rfl) ?_
  refine lv_ldc (v := (iI ((2147483647 : Nat) : Int))) hx hb X.2.2.2.1 (X.2.2.2.2.1 _ q609) dJ5_newCapacity_36 ?_
  refine r_icmp_ne (tgt := 51) hx hb ⟨by omega, by omega⟩ (by decide) dJ5_newCapacity_38 (by decide) (fun c38 => ?_) (fun c38 => ?_)
  · skip
    refine lv_iload hx hb dJ5_newCapacity_51 (lv_at hl 0 rfl) ?_
    refine lv_aload_n hx hb dJ5_newCapacity_53 rfl (lv_at hl 4 rfl) ?_
    refine r_get X hso rfl in_J6 1 (by decide) q228 (Or.inl rfl) (v := .int (iI ((0 : Nat) : Int))) rfl dJ5_newCapacity_54 ?_
    refine lv_ishr hx hb dJ5_newCapacity_57 ?_
    refine r_set (y := .int (iI ((cap + max (mn - cap) (cap + 2) : Nat) : Int))) (congrArg Value.int (fp_shr0 _)) ?_
    refine r_iret hx hb hr hlk hQ hS (Nat.le_of_ble_eq_true rfl) (Nat.le_of_ble_eq_true rfl) dJ5_newCapacity_58 ?_
    exact ⟨rfl, rfl⟩
  · skip
    exact absurd c38 (by omega)
set_option maxHeartbeats 4000000 in
theorem c_J17_copyOf (G : fp_G) (vl : Nat) (f : Nat → Int) (cap : Nat) (c2 : Nat) (hc : cap < c2) (hc2 : c2 ≤ 1000) (hby : ∀ j, j < cap → -128 ≤ f j ∧ f j < 128) : fp_M G yJ17_copyOf cJ17_copyOf 3 (some (.array .byte)) 2 60 1 c2 [.ref (vl), .int (iI ((c2 : Nat) : Int))] (fun H => fp_At G H vl (eB G cap (fun j => iI (f j)))) fp_no (fun H v H1 => ∃ (q : Nat), v = some (.ref (q)) ∧ (H.size ≤ q) ∧ fp_At G H1 q (eB G c2 (fun j => iI ((va_cpy f (fun _ => 0) 0 0 cap) j)))) := by
  refine fp_M.intro (by decide) (Nat.le_of_ble_eq_true rfl) ?_
  intro pg en s mi ag bl mt cd rR qQ ls X hx hb hr hlk hnm hR hQ hB hM hl
  have hS : va_S (fA fp_no s.heap.size) s.heap s.heap [] := va_S.rf
  generalize ([] : List Loc) = locs at hS ⊢
  have hb0 := hB.1
  have h_row := hM
  have hsz0 := hS.1
  have lt_1 := h_row.lt
  refine lv_iload_n hx hb dJ17_copyOf_0 rfl (lv_at hl 1 rfl) ?_
  refine lv_aload_n hx hb dJ17_copyOf_1 rfl (lv_at hl 0 rfl) ?_
  refine r_alen X (t := 2) rfl h_row (v := (iI ((cap : Nat) : Int))) rfl dJ17_copyOf_2 ?_
  refine r_icmp_ne (tgt := 14) hx hb ⟨by omega, by omega⟩ ⟨by omega, by omega⟩ dJ17_copyOf_3 (by decide) (fun c3 => ?_) (fun c3 => ?_)
  · skip
    refine lv_iload_n hx hb dJ17_copyOf_14 rfl (lv_at hl 1 rfl) ?_
    refine r_newaB (n := c2) X hR hS q241 rfl (by omega) (Nat.le_of_ble_eq_true rfl) (by omega) dJ17_copyOf_15 (fun q9 H_2 hq_6 hE_3 hX_4 hz_5 hS => ?_)
    have hz_7 := hS.1
    have lt_8 := hE_3.lt
    refine lv_astore_n (lv' := [(2, .ref (q9)), (0, .ref (vl)), (1, .int (iI ((c2 : Nat) : Int)))]) hx hb dJ17_copyOf_17 rfl hl (by decide) rfl (fun ls hl => ?_)
    refine lv_aload_n hx hb dJ17_copyOf_18 rfl (lv_at hl 1 rfl) ?_
    refine lv_iconst (v := (iI ((0 : Nat) : Int))) hx hb dJ17_copyOf_19 rfl ?_
    refine lv_aload_n hx hb dJ17_copyOf_20 rfl (lv_at hl 0 rfl) ?_
    refine lv_iconst (v := (iI ((0 : Nat) : Int))) hx hb dJ17_copyOf_21 rfl ?_
    refine lv_aload_n hx hb dJ17_copyOf_22 rfl (lv_at hl 1 rfl) ?_
    have hE_9 := fp_At.kept h_row (fp_keptS (by omega) hS (fun z => z))
    refine r_alen X (t := 2) rfl hE_9 (v := (iI ((cap : Nat) : Int))) rfl dJ17_copyOf_23 ?_
    refine lv_iload_n hx hb dJ17_copyOf_24 rfl (lv_at hl 2 rfl) ?_
    refine r_minN X hR hl.1 q620 q621 q107 q622 (by decide) (Nat.le_of_ble_eq_true rfl) (Nat.le_of_ble_eq_true rfl) (by omega) ⟨by omega, by omega⟩ ⟨by omega, by omega⟩ dJ17_copyOf_25 ?_
    refine r_set (y := .int (iI ((min cap c2 : Nat) : Int))) (congrArg (fun q : Int => Value.int (iI q)) (by omega)) ?_
    refine r_copyB (sp := 0) (dp := 0) (n := cap) X hR hl.1 hE_9 hE_3 hS (Or.inr (by omega)) q623 q625 q624 q114 (by omega) (by omega) (by omega) (by omega) (by omega) (by omega) (by omega) (fun j hj => by rw [Nat.zero_add]; exact fp_fitb (hby j hj)) (by decide) (Nat.le_of_ble_eq_true rfl) dJ17_copyOf_28 (fun H_13 locs hE_10 hz_11 hq_12 hS => ?_)
    have hz_14 := hS.1
    refine lv_aload_n hx hb dJ17_copyOf_31 rfl (lv_at hl 0 rfl) ?_
    refine r_aret hx hb hr hlk hQ hS (Nat.le_of_ble_eq_true rfl) (by omega) dJ17_copyOf_32 (Or.inr ⟨_, rfl⟩) (Or.inr ⟨_, rfl⟩) ?_
    exact ⟨q9, rfl, (by omega), hE_10⟩
  · skip
    exact absurd c3 (by omega)
set_option maxHeartbeats 4000000 in
theorem c_J5_ensureCapacityInternal (G : fp_G) (x : Nat) (vl : Nat) (cap : Nat) (n : Nat) (ml : Nat) (tx : Nat → Nat) (mn : Nat) (hmb : mn ≤ 100) : fp_M G yJ5_ensureCapacityInternal cJ5_ensureCapacityInternal 3 none 4 88 1 202 [.ref (x), .int (iI ((mn : Nat) : Int))] (fun H => fp_SB G x vl cap n ml tx H) (fun q => (g_s G).heap.size ≤ q ∧ (q = x)) (fun H v H1 => ∃ (vl2 : Nat), ∃ (cap2 : Nat), v = none ∧ (vl2 = vl ∨ H.size ≤ vl2) ∧ (mn ≤ cap2) ∧ fp_SB G x vl2 cap2 n ml tx H1) := by
  refine fp_M.intro (by decide) (Nat.le_of_ble_eq_true rfl) ?_
  intro pg en s mi ag bl mt cd rR qQ ls X hx hb hr hlk hnm hR hQ hB hM hl
  have hS : va_S (fA (fun q => (g_s G).heap.size ≤ q ∧ (q = x)) s.heap.size) s.heap s.heap [] := va_S.rf
  generalize ([] : List Loc) = locs at hS ⊢
  have hb0 := hB.1
  have hAb : ∀ q, (fun q => (g_s G).heap.size ≤ q ∧ (q = x)) q → (g_s G).heap.size ≤ q := fun q h => h.1
  have h_sb := hM
  have hsz0 := hS.1
  have lt_1 := h_sb.1.lt
  have lt_2 := h_sb.2.2.1.1
  obtain ⟨hso_s_3, ⟨f_s_3, hsr_s_3, hsf_s_3, hsw_s_3⟩, hsb_s_3, hsx_s_3, hsv_s_3⟩ := id h_sb
  have lt_4 := hsr_s_3.lt
  have hxv_s_3 : fp_dif x vl := fp_SB.ne X.2.2.2.2.2 h_sb
  rcases Nat.lt_or_ge cap mn with hg | hg
  · skip
    refine lv_aload_n hx hb dJ5_ensureCapacityInternal_0 rfl (lv_at hl 0 rfl) ?_
    refine r_get X h_sb.1 rfl in_J6 0 (by decide) q227 (Or.inl rfl) (v := .ref (vl)) rfl dJ5_ensureCapacityInternal_1 ?_
    refine r_alen X (t := 2) rfl hsr_s_3 (v := (iI ((cap : Nat) : Int))) rfl dJ5_ensureCapacityInternal_4 ?_
    refine lv_aload_n hx hb dJ5_ensureCapacityInternal_5 rfl (lv_at hl 0 rfl) ?_
    refine r_get X h_sb.1 rfl in_J6 1 (by decide) q228 (Or.inl rfl) (v := .int (iI ((0 : Nat) : Int))) rfl dJ5_ensureCapacityInternal_6 ?_
    refine lv_ishr hx hb dJ5_ensureCapacityInternal_9 ?_
    refine r_set (y := .int (iI ((cap : Nat) : Int))) (congrArg Value.int (fp_shr0 _)) ?_
    refine lv_istore_n (lv' := [(2, .int (iI ((cap : Nat) : Int))), (0, .ref (x)), (1, .int (iI ((mn : Nat) : Int)))]) hx hb dJ5_ensureCapacityInternal_10 rfl hl (by decide) rfl (fun ls hl => ?_)
    refine lv_iload_n hx hb dJ5_ensureCapacityInternal_11 rfl (lv_at hl 2 rfl) ?_
    refine lv_iload_n hx hb dJ5_ensureCapacityInternal_12 rfl (lv_at hl 0 rfl) ?_
    refine r_isub hx hb dJ5_ensureCapacityInternal_13 ?_
    refine r_if_le (tgt := 38) hx hb ⟨by omega, by omega⟩ dJ5_ensureCapacityInternal_14 (by decide) (fun c14 => ?_) (fun c14 => ?_)
    · skip
      exact absurd c14 (by omega)
    · skip
      refine lv_aload_n hx hb dJ5_ensureCapacityInternal_17 rfl (lv_at hl 1 rfl) ?_
      refine lv_aload_n hx hb dJ5_ensureCapacityInternal_18 rfl (lv_at hl 1 rfl) ?_
      refine r_get X h_sb.1 rfl in_J6 0 (by decide) q227 (Or.inl rfl) (v := .ref (vl)) rfl dJ5_ensureCapacityInternal_19 ?_
      refine lv_aload_n hx hb dJ5_ensureCapacityInternal_22 rfl (lv_at hl 1 rfl) ?_
      refine lv_iload_n hx hb dJ5_ensureCapacityInternal_23 rfl (lv_at hl 2 rfl) ?_
      refine r_callVP (cells1 := 0) (slots1 := 0) X hR (c_J5_newCapacity G x vl cap n ml tx mn (by omega) hmb) q597 q599 q598 q2523 q96 q600 ⟨by decide, by decide, rfl⟩ ⟨Nat.le_of_ble_eq_true rfl, Nat.le_of_ble_eq_true rfl⟩ rfl rfl (Nat.le_of_ble_eq_true rfl) (Nat.le_of_ble_eq_true rfl) h_sb.1 rfl rfl (Nat.le_of_ble_eq_true rfl) hl.1 dJ5_ensureCapacityInternal_24 (hB.of hS hAb) h_sb hS (fun _ h => h.elim) (fun v H_8 locs hp_5 hz_6 hk_7 hS => ?_)
      obtain ⟨rfl, rfl⟩ := hp_5
      refine r_stk (st2 := [.int (iI ((cap + max (mn - cap) (cap + 2) : Nat) : Int)), .ref (vl), .ref (x)]) rfl ?_
      refine lv_aload_n hx hb dJ5_ensureCapacityInternal_27 rfl (lv_at hl 1 rfl) ?_
      refine r_get X h_sb.1 rfl in_J6 1 (by decide) q228 (Or.inl rfl) (v := .int (iI ((0 : Nat) : Int))) rfl dJ5_ensureCapacityInternal_28 ?_
      refine lv_ishl hx hb dJ5_ensureCapacityInternal_31 ?_
      refine r_set (y := .int (iI ((cap + max (mn - cap) (cap + 2) : Nat) : Int))) (congrArg Value.int (fp_shl0 _)) ?_
      refine r_callS (cells1 := 1) (slots1 := (0 + (cap + max (mn - cap) (cap + 2)))) X hR (c_J17_copyOf G vl f_s_3 cap (cap + max (mn - cap) (cap + 2)) (by omega) (by omega) hsw_s_3) q610 q611 q113 q612 pd_J17_copyOf ⟨Nat.le_of_ble_eq_true rfl, Nat.le_of_ble_eq_true rfl⟩ rfl rfl (Nat.le_of_ble_eq_true rfl) (by omega) rfl (Nat.le_of_ble_eq_true rfl) hl.1 dJ5_ensureCapacityInternal_32 (hB.of hS hAb) hsr_s_3 hS (fun _ h => h.elim) (fun v H_12 locs hp_9 hz_10 hk_11 hS => ?_)
      obtain ⟨q_13, rfl, hq_14, hE_15⟩ := hp_9
      have hz_16 := hS.1
      have lt_18 := hE_15.lt
      refine r_stk (st2 := [.ref (q_13), .ref (x)]) rfl ?_
      have hE_20 := fp_At.kept hso_s_3 (hk_11 _ (by omega) (fun z => z))
      refine r_put X hE_20 hS (Or.inl ⟨by omega, rfl⟩) rfl in_J6 tyJ6_ok nmJ6 0 (by decide) q227 (Or.inl rfl) rfl rfl rfl (show 0 < 4 by decide) dJ5_ensureCapacityInternal_35 (fun H_24 locs hE_21 hz_22 hq_23 hS => ?_)
      have hz_25 := hS.1
      refine r_vret hx hb hr hlk hQ hS (Nat.le_of_ble_eq_true rfl) (by omega) dJ5_ensureCapacityInternal_38 ?_
      have hE_27 := fp_At.kept hE_15 (hq_23 _ (by omega))
      exact ⟨q_13, cap + max (mn - cap) (cap + 2), rfl, (by omega), (by omega), (⟨hE_21, ⟨_, hE_27, fp_sbg hsf_s_3 (by omega), fun i _ => fp_sbw hsw_s_3 i⟩, ⟨hE_27.lt, by omega, by omega, by omega, by omega⟩, hsx_s_3, by omega⟩)⟩
  · skip
    refine lv_aload_n hx hb dJ5_ensureCapacityInternal_0 rfl (lv_at hl 0 rfl) ?_
    refine r_get X h_sb.1 rfl in_J6 0 (by decide) q227 (Or.inl rfl) (v := .ref (vl)) rfl dJ5_ensureCapacityInternal_1 ?_
    refine r_alen X (t := 2) rfl hsr_s_3 (v := (iI ((cap : Nat) : Int))) rfl dJ5_ensureCapacityInternal_4 ?_
    refine lv_aload_n hx hb dJ5_ensureCapacityInternal_5 rfl (lv_at hl 0 rfl) ?_
    refine r_get X h_sb.1 rfl in_J6 1 (by decide) q228 (Or.inl rfl) (v := .int (iI ((0 : Nat) : Int))) rfl dJ5_ensureCapacityInternal_6 ?_
    refine lv_ishr hx hb dJ5_ensureCapacityInternal_9 ?_
    refine r_set (y := .int (iI ((cap : Nat) : Int))) (congrArg Value.int (fp_shr0 _)) ?_
    refine lv_istore_n (lv' := [(2, .int (iI ((cap : Nat) : Int))), (0, .ref (x)), (1, .int (iI ((mn : Nat) : Int)))]) hx hb dJ5_ensureCapacityInternal_10 rfl hl (by decide) rfl (fun ls hl => ?_)
    refine lv_iload_n hx hb dJ5_ensureCapacityInternal_11 rfl (lv_at hl 2 rfl) ?_
    refine lv_iload_n hx hb dJ5_ensureCapacityInternal_12 rfl (lv_at hl 0 rfl) ?_
    refine r_isub hx hb dJ5_ensureCapacityInternal_13 ?_
    refine r_if_le (tgt := 38) hx hb ⟨by omega, by omega⟩ dJ5_ensureCapacityInternal_14 (by decide) (fun c14 => ?_) (fun c14 => ?_)
    · skip
      refine r_vret hx hb hr hlk hQ hS (Nat.le_of_ble_eq_true rfl) (Nat.le_of_ble_eq_true rfl) dJ5_ensureCapacityInternal_38 ?_
      exact ⟨vl, cap, rfl, (by omega), (by omega), h_sb⟩
    · skip
      exact absurd c14 (by omega)
set_option maxHeartbeats 4000000 in
theorem c_J5_append_3 (G : fp_G) (x : Nat) (vl : Nat) (cap : Nat) (n : Nat) (ml : Nat) (tx : Nat → Nat) (c : Nat) (hc : c < 128) (hn : n < 99) : fp_M G yJ5_append_3 cJ5_append_3 2 (some (.object "java/lang/AbstractStringBuilder")) 5 110 1 202 [.ref (x), .int (iI ((c : Nat) : Int))] (fun H => fp_SB G x vl cap n ml tx H) (fun q => (g_s G).heap.size ≤ q ∧ (q = x ∨ q = vl)) (fun H v H1 => ∃ (vl2 : Nat), ∃ (cap2 : Nat), v = some (.ref (x)) ∧ (vl2 = vl ∨ H.size ≤ vl2) ∧ fp_SB G x vl2 cap2 (n + 1) ml (va_up tx n c) H1) := by
  refine fp_M.intro (by decide) (Nat.le_of_ble_eq_true rfl) ?_
  intro pg en s mi ag bl mt cd rR qQ ls X hx hb hr hlk hnm hR hQ hB hM hl
  have hS : va_S (fA (fun q => (g_s G).heap.size ≤ q ∧ (q = x ∨ q = vl)) s.heap.size) s.heap s.heap [] := va_S.rf
  generalize ([] : List Loc) = locs at hS ⊢
  have hb0 := hB.1
  have hAb : ∀ q, (fun q => (g_s G).heap.size ≤ q ∧ (q = x ∨ q = vl)) q → (g_s G).heap.size ≤ q := fun q h => h.1
  have h_sb := hM
  have hsz0 := hS.1
  have lt_1 := h_sb.1.lt
  have lt_2 := h_sb.2.2.1.1
  have hsb0 := h_sb.2.2
  refine lv_aload_n hx hb dJ5_append_3_0 rfl (lv_at hl 0 rfl) ?_
  refine lv_aload_n hx hb dJ5_append_3_1 rfl (lv_at hl 0 rfl) ?_
  refine r_get X h_sb.1 rfl in_J6 3 (by decide) q231 (Or.inl rfl) (v := .int (iI ((n : Nat) : Int))) rfl dJ5_append_3_2 ?_
  refine lv_iconst (v := (iI ((1 : Nat) : Int))) hx hb dJ5_append_3_5 rfl ?_
  refine r_iaddN hx hb dJ5_append_3_6 ?_
  refine r_callVP (cells1 := 1) (slots1 := 202) X hR (c_J5_ensureCapacityInternal G x vl cap n ml tx (n + 1) (by omega)) q593 q595 q594 q2522 q96 q596 ⟨by decide, by decide, rfl⟩ ⟨Nat.le_of_ble_eq_true rfl, Nat.le_of_ble_eq_true rfl⟩ rfl rfl (Nat.le_of_ble_eq_true rfl) (Nat.le_of_ble_eq_true rfl) h_sb.1 rfl rfl (Nat.le_of_ble_eq_true rfl) hl.1 dJ5_append_3_7 (hB.of hS hAb) h_sb hS (fun q h => by have h2 : (g_s G).heap.size ≤ q ∧ (q = x) := h; show ((g_s G).heap.size ≤ q ∧ (q = x ∨ q = vl)) ∨ s.heap.size ≤ q; omega) (fun v H_6 locs hp_3 hz_4 hk_5 hS => ?_)
  obtain ⟨vl2_7, cap2_8, rfl, hv2_9, hm2_10, hE_11⟩ := hp_3
  have hz_12 := hS.1
  have lt_13 := hE_11.1.lt
  have lt_14 := hE_11.2.2.1.1
  refine r_stk (st2 := []) rfl ?_
  refine lv_aload_n hx hb dJ5_append_3_10 rfl (lv_at hl 0 rfl) ?_
  refine r_callU (x := ⟨"java/lang/AbstractStringBuilder", "isLatin1", "()Z"⟩) (cells1 := 1) (slots1 := 202) X hR (c_J5_isLatin1 G x vl2_7 cap2_8 n ml tx) q626 q628 (Or.inr ⟨q627, _, _, _, q630⟩) q629 q627 q96 q630 ⟨by decide, by decide, rfl⟩ ⟨Nat.le_of_ble_eq_true rfl, Nat.le_of_ble_eq_true rfl⟩ rfl rfl (Nat.le_of_ble_eq_true rfl) (Nat.le_of_ble_eq_true rfl) hE_11.1 rfl rfl (Nat.le_of_ble_eq_true rfl) hl.1 dJ5_append_3_11 (hB.of hS hAb) hE_11 hS (fun _ h => h.elim) (fun v H_18 locs hp_15 hz_16 hk_17 hS => ?_)
  obtain ⟨rfl, rfl⟩ := hp_15
  refine r_stk (st2 := [.int (iI (bI (true)))]) rfl ?_
  refine r_ifeqB (tgt := 45) hx hb dJ5_append_3_14 (by decide) (fun c14 => ?_) (fun c14 => ?_)
  · exact absurd c14 (by decide)
  · skip
    refine lv_iload_n hx hb dJ5_append_3_17 rfl (lv_at hl 1 rfl) ?_
    refine r_callS (cells1 := 1) (slots1 := 202) X hR (c_J21_canEncode G c hc) q1676 q1677 q118 q1678 pd_J21_canEncode ⟨Nat.le_of_ble_eq_true rfl, Nat.le_of_ble_eq_true rfl⟩ rfl rfl (Nat.le_of_ble_eq_true rfl) (Nat.le_of_ble_eq_true rfl) rfl (Nat.le_of_ble_eq_true rfl) hl.1 dJ5_append_3_18 (hB.of hS hAb) trivial hS (fun _ h => h.elim) (fun v H_22 locs hp_19 hz_20 hk_21 hS => ?_)
    obtain ⟨rfl, rfl⟩ := hp_19
    refine r_stk (st2 := [.int (iI (bI (true)))]) rfl ?_
    refine r_ifeqB (tgt := 45) hx hb dJ5_append_3_21 (by decide) (fun c21 => ?_) (fun c21 => ?_)
    · exact absurd c21 (by decide)
    · skip
      obtain ⟨hso_s_23, ⟨f_s_23, hsr_s_23, hsf_s_23, hsw_s_23⟩, hsb_s_23, hsx_s_23, hsv_s_23⟩ := id hE_11
      have lt_24 := hsr_s_23.lt
      have hxv_s_23 : fp_dif x vl2_7 := fp_SB.ne X.2.2.2.2.2 hE_11
      refine lv_aload_n hx hb dJ5_append_3_24 rfl (lv_at hl 0 rfl) ?_
      refine r_get X hso_s_23 rfl in_J6 0 (by decide) q227 (Or.inl rfl) (v := .ref (vl2_7)) rfl dJ5_append_3_25 ?_
      refine lv_aload_n hx hb dJ5_append_3_28 rfl (lv_at hl 0 rfl) ?_
      refine lv_dup hx hb dJ5_append_3_29 rfl ?_
      refine r_get X hso_s_23 rfl in_J6 3 (by decide) q231 (Or.inl rfl) (v := .int (iI ((n : Nat) : Int))) rfl dJ5_append_3_30 ?_
      refine lv_dup_x1 hx hb dJ5_append_3_33 rfl rfl ?_
      refine lv_iconst (v := (iI ((1 : Nat) : Int))) hx hb dJ5_append_3_34 rfl ?_
      refine r_iaddN hx hb dJ5_append_3_35 ?_
      refine r_put X hso_s_23 hS (Or.inl ⟨by omega, Or.inl rfl⟩) rfl in_J6 tyJ6_ok nmJ6 3 (by decide) q231 (Or.inl rfl) rfl rfl rfl (show 3 < 4 by decide) dJ5_append_3_36 (fun H_28 locs hE_25 hz_26 hq_27 hS => ?_)
      have hz_29 := hS.1
      refine lv_iload_n hx hb dJ5_append_3_39 rfl (lv_at hl 1 rfl) ?_
      refine lv_i2b (v := (iI ((c : Nat) : Int))) hx hb dJ5_append_3_40 (fp_i2b hc) ?_
      have hE_31 := fp_At.kept hsr_s_23 (hq_27 _ (Ne.symm (hxv_s_23)))
      refine r_bastI X hE_31 hS (show ((g_s G).heap.size ≤ vl2_7 ∧ (vl2_7 = x ∨ vl2_7 = vl)) ∨ s.heap.size ≤ vl2_7 by omega) (j := n) rfl (by omega) (by omega) ⟨by omega, by omega⟩ dJ5_append_3_41 (fun H_35 locs hE_32 hz_33 hq_34 hS => ?_)
      have hz_36 := hS.1
      have hE_37 : fp_At G H_35 vl2_7 (eB G cap2_8 (fun j => iI ((va_up f_s_23 n ((c : Nat) : Int)) j))) := hE_32.updB
      refine lv_goto (tgt := 75) hx hb dJ5_append_3_42 (by decide) ?_
      refine lv_aload_n hx hb dJ5_append_3_75 rfl (lv_at hl 0 rfl) ?_
      refine r_aret hx hb hr hlk hQ hS (Nat.le_of_ble_eq_true rfl) (Nat.le_of_ble_eq_true rfl) dJ5_append_3_76 (Or.inl ⟨_, rfl⟩) (Or.inr ⟨_, rfl⟩) ?_
      have hE_39 := fp_At.kept hE_25 (hq_34 _ (hxv_s_23))
      exact ⟨vl2_7, cap2_8, rfl, (by omega), (⟨hE_39, ⟨_, hE_37, fp_sba hsf_s_23 hc, fp_sbu hsw_s_23 hc⟩, ⟨hE_37.lt, by omega, by omega, by omega, by omega⟩, hsx_s_23, hsv_s_23⟩)⟩
set_option maxHeartbeats 4000000 in
theorem c_J6_append_3 (G : fp_G) (x : Nat) (vl : Nat) (cap : Nat) (n : Nat) (ml : Nat) (tx : Nat → Nat) (c : Nat) (hc : c < 128) (hn : n < 99) : fp_M G yJ6_append_3 cJ6_append_3 2 (some (.object "java/lang/StringBuilder")) 6 131 1 202 [.ref (x), .int (iI ((c : Nat) : Int))] (fun H => fp_SB G x vl cap n ml tx H) (fun q => (g_s G).heap.size ≤ q ∧ (q = x ∨ q = vl)) (fun H v H1 => ∃ (vl2 : Nat), ∃ (cap2 : Nat), v = some (.ref (x)) ∧ (vl2 = vl ∨ H.size ≤ vl2) ∧ fp_SB G x vl2 cap2 (n + 1) ml (va_up tx n c) H1) := by
  refine fp_M.intro (by decide) (Nat.le_of_ble_eq_true rfl) ?_
  intro pg en s mi ag bl mt cd rR qQ ls X hx hb hr hlk hnm hR hQ hB hM hl
  have hS : va_S (fA (fun q => (g_s G).heap.size ≤ q ∧ (q = x ∨ q = vl)) s.heap.size) s.heap s.heap [] := va_S.rf
  generalize ([] : List Loc) = locs at hS ⊢
  have hb0 := hB.1
  have hAb : ∀ q, (fun q => (g_s G).heap.size ≤ q ∧ (q = x ∨ q = vl)) q → (g_s G).heap.size ≤ q := fun q h => h.1
  have h_sb := hM
  have hsz0 := hS.1
  have lt_1 := h_sb.1.lt
  have lt_2 := h_sb.2.2.1.1
  refine lv_aload_n hx hb dJ6_append_3_0 rfl (lv_at hl 0 rfl) ?_
  refine lv_iload_n hx hb dJ6_append_3_1 rfl (lv_at hl 1 rfl) ?_
  refine r_callP (cells1 := 1) (slots1 := 202) X hR (c_J5_append_3 G x vl cap n ml tx c hc hn) q1673 q2530 q240 q1674 q96 q1675 ⟨by decide, rfl⟩ ⟨Nat.le_of_ble_eq_true rfl, Nat.le_of_ble_eq_true rfl⟩ rfl rfl (Nat.le_of_ble_eq_true rfl) (Nat.le_of_ble_eq_true rfl) h_sb.1 rfl rfl (Nat.le_of_ble_eq_true rfl) hl.1 dJ6_append_3_2 (hB.of hS hAb) h_sb hS (fun q h => by have h2 : (g_s G).heap.size ≤ q ∧ (q = x ∨ q = vl) := h; show ((g_s G).heap.size ≤ q ∧ (q = x ∨ q = vl)) ∨ s.heap.size ≤ q; omega) (fun v H_6 locs hp_3 hz_4 hk_5 hS => ?_)
  obtain ⟨vl2_7, cap2_8, rfl, hv2_9, hE_10⟩ := hp_3
  have hz_11 := hS.1
  have lt_12 := hE_10.1.lt
  have lt_13 := hE_10.2.2.1.1
  refine r_stk (st2 := [.ref (x)]) rfl ?_
  refine lv_pop hx hb dJ6_append_3_5 rfl ?_
  refine lv_aload_n hx hb dJ6_append_3_6 rfl (lv_at hl 0 rfl) ?_
  refine r_aret hx hb hr hlk hQ hS (Nat.le_of_ble_eq_true rfl) (Nat.le_of_ble_eq_true rfl) dJ6_append_3_7 (Or.inl ⟨_, rfl⟩) (Or.inr ⟨_, rfl⟩) ?_
  exact ⟨vl2_7, cap2_8, rfl, (by omega), hE_10⟩
set_option maxHeartbeats 4000000 in
theorem c_J5_setLength (G : fp_G) (x : Nat) (vl : Nat) (cap : Nat) (n : Nat) (ml : Nat) (tx : Nat → Nat) : fp_M G yJ5_setLength cJ5_setLength 2 none 5 110 1 202 [.ref (x), .int (iI ((0 : Nat) : Int))] (fun H => fp_SB G x vl cap n ml tx H) (fun q => (g_s G).heap.size ≤ q ∧ (q = x)) (fun H v H1 => ∃ (vl2 : Nat), ∃ (cap2 : Nat), ∃ (ml2 : Nat), v = none ∧ (vl2 = vl ∨ H.size ≤ vl2) ∧ fp_SB G x vl2 cap2 0 ml2 tx H1) := by
  refine fp_M.intro (by decide) (Nat.le_of_ble_eq_true rfl) ?_
  intro pg en s mi ag bl mt cd rR qQ ls X hx hb hr hlk hnm hR hQ hB hM hl
  have hS : va_S (fA (fun q => (g_s G).heap.size ≤ q ∧ (q = x)) s.heap.size) s.heap s.heap [] := va_S.rf
  generalize ([] : List Loc) = locs at hS ⊢
  have hb0 := hB.1
  have hAb : ∀ q, (fun q => (g_s G).heap.size ≤ q ∧ (q = x)) q → (g_s G).heap.size ≤ q := fun q h => h.1
  have h_sb := hM
  have hsz0 := hS.1
  have lt_1 := h_sb.1.lt
  have lt_2 := h_sb.2.2.1.1
  have hsb0 := h_sb.2.2
  refine lv_iload_n hx hb dJ5_setLength_0 rfl (lv_at hl 1 rfl) ?_
  refine r_if_ge (tgt := 13) hx hb (by decide) dJ5_setLength_1 (by decide) (fun c1 => ?_) (fun c1 => ?_)
  · skip
    refine lv_aload_n hx hb dJ5_setLength_13 rfl (lv_at hl 0 rfl) ?_
    refine lv_iload_n hx hb dJ5_setLength_14 rfl (lv_at hl 1 rfl) ?_
    refine r_callVP (cells1 := 1) (slots1 := 202) X hR (c_J5_ensureCapacityInternal G x vl cap n ml tx 0 (by omega)) q593 q595 q594 q2522 q96 q596 ⟨by decide, by decide, rfl⟩ ⟨Nat.le_of_ble_eq_true rfl, Nat.le_of_ble_eq_true rfl⟩ rfl rfl (Nat.le_of_ble_eq_true rfl) (Nat.le_of_ble_eq_true rfl) h_sb.1 rfl rfl (Nat.le_of_ble_eq_true rfl) hl.1 dJ5_setLength_15 (hB.of hS hAb) h_sb hS (fun q h => by have h2 : (g_s G).heap.size ≤ q ∧ (q = x) := h; show ((g_s G).heap.size ≤ q ∧ (q = x)) ∨ s.heap.size ≤ q; omega) (fun v H_6 locs hp_3 hz_4 hk_5 hS => ?_)
    obtain ⟨vl2_7, cap2_8, rfl, hv2_9, hm2_10, hE_11⟩ := hp_3
    have hz_12 := hS.1
    have lt_13 := hE_11.1.lt
    have lt_14 := hE_11.2.2.1.1
    refine r_stk (st2 := []) rfl ?_
    obtain ⟨hso_s_15, ⟨f_s_15, hsr_s_15, hsf_s_15, hsw_s_15⟩, hsb_s_15, hsx_s_15, hsv_s_15⟩ := id hE_11
    have lt_16 := hsr_s_15.lt
    have hxv_s_15 : fp_dif x vl2_7 := fp_SB.ne X.2.2.2.2.2 hE_11
    refine lv_aload_n hx hb dJ5_setLength_18 rfl (lv_at hl 0 rfl) ?_
    refine r_get X hso_s_15 rfl in_J6 3 (by decide) q231 (Or.inl rfl) (v := .int (iI ((n : Nat) : Int))) rfl dJ5_setLength_19 ?_
    refine lv_iload_n hx hb dJ5_setLength_22 rfl (lv_at hl 1 rfl) ?_
    refine r_icmp_ge (tgt := 63) hx hb ⟨by omega, by omega⟩ (by decide) dJ5_setLength_23 (by decide) (fun c23 => ?_) (fun c23 => ?_)
    · skip
      refine lv_aload_n hx hb dJ5_setLength_63 rfl (lv_at hl 0 rfl) ?_
      refine r_get X hso_s_15 rfl in_J6 3 (by decide) q231 (Or.inl rfl) (v := .int (iI ((n : Nat) : Int))) rfl dJ5_setLength_64 ?_
      refine lv_iload_n hx hb dJ5_setLength_67 rfl (lv_at hl 1 rfl) ?_
      refine r_icmp_le (tgt := 76) hx hb ⟨by omega, by omega⟩ (by decide) dJ5_setLength_68 (by decide) (fun c68 => ?_) (fun c68 => ?_)
      · skip
        refine lv_aload_n hx hb dJ5_setLength_76 rfl (lv_at hl 0 rfl) ?_
        refine lv_iload_n hx hb dJ5_setLength_77 rfl (lv_at hl 1 rfl) ?_
        refine r_put X hso_s_15 hS (Or.inl ⟨by omega, rfl⟩) rfl in_J6 tyJ6_ok nmJ6 3 (by decide) q231 (Or.inl rfl) rfl rfl rfl (show 3 < 4 by decide) dJ5_setLength_78 (fun H_20 locs hE_17 hz_18 hq_19 hS => ?_)
        have hz_21 := hS.1
        refine r_vret hx hb hr hlk hQ hS (Nat.le_of_ble_eq_true rfl) (Nat.le_of_ble_eq_true rfl) dJ5_setLength_81 ?_
        have hE_23 := fp_At.kept hsr_s_15 (hq_19 _ (Ne.symm (hxv_s_15)))
        exact ⟨vl2_7, cap2_8, ml, rfl, (by omega), (⟨hE_17, ⟨_, hE_23, fun i hi => absurd hi (Nat.not_lt_zero i), hsw_s_15⟩, ⟨hE_23.lt, by omega, by omega, by omega, by omega⟩, hsx_s_15, hsv_s_15⟩)⟩
      · skip
        refine lv_aload_n hx hb dJ5_setLength_71 rfl (lv_at hl 0 rfl) ?_
        refine lv_iconst (v := (iI ((1 : Nat) : Int))) hx hb dJ5_setLength_72 rfl ?_
        refine r_put X hso_s_15 hS (Or.inl ⟨by omega, rfl⟩) rfl in_J6 tyJ6_ok nmJ6 2 (by decide) q229 (Or.inl rfl) rfl rfl rfl (show 2 < 4 by decide) dJ5_setLength_73 (fun H_27 locs hE_24 hz_25 hq_26 hS => ?_)
        have hz_28 := hS.1
        refine lv_aload_n hx hb dJ5_setLength_76 rfl (lv_at hl 0 rfl) ?_
        refine lv_iload_n hx hb dJ5_setLength_77 rfl (lv_at hl 1 rfl) ?_
        refine r_put X hE_24 hS (Or.inl ⟨by omega, rfl⟩) rfl in_J6 tyJ6_ok nmJ6 3 (by decide) q231 (Or.inl rfl) rfl rfl rfl (show 3 < 4 by decide) dJ5_setLength_78 (fun H_32 locs hE_29 hz_30 hq_31 hS => ?_)
        have hz_33 := hS.1
        refine r_vret hx hb hr hlk hQ hS (Nat.le_of_ble_eq_true rfl) (Nat.le_of_ble_eq_true rfl) dJ5_setLength_81 ?_
        have hE_35 := fp_At.kept hsr_s_15 (hq_26 _ (Ne.symm (hxv_s_15)))
        have hE_36 := fp_At.kept hE_35 (hq_31 _ (Ne.symm (hxv_s_15)))
        exact ⟨vl2_7, cap2_8, 1, rfl, (by omega), (⟨hE_29, ⟨_, hE_36, fun i hi => absurd hi (Nat.not_lt_zero i), hsw_s_15⟩, ⟨hE_36.lt, by omega, by omega, by omega, by omega⟩, hsx_s_15, hsv_s_15⟩)⟩
    · skip
      exact absurd c23 (by omega)
  · exact absurd c1 (by omega)
set_option maxHeartbeats 4000000 in
theorem c_J6_setLength (G : fp_G) (x : Nat) (vl : Nat) (cap : Nat) (n : Nat) (ml : Nat) (tx : Nat → Nat) : fp_M G yJ6_setLength cJ6_setLength 2 none 6 131 1 202 [.ref (x), .int (iI ((0 : Nat) : Int))] (fun H => fp_SB G x vl cap n ml tx H) (fun q => (g_s G).heap.size ≤ q ∧ (q = x)) (fun H v H1 => ∃ (vl2 : Nat), ∃ (cap2 : Nat), ∃ (ml2 : Nat), v = none ∧ (vl2 = vl ∨ H.size ≤ vl2) ∧ fp_SB G x vl2 cap2 0 ml2 tx H1) := by
  refine fp_M.intro (by decide) (Nat.le_of_ble_eq_true rfl) ?_
  intro pg en s mi ag bl mt cd rR qQ ls X hx hb hr hlk hnm hR hQ hB hM hl
  have hS : va_S (fA (fun q => (g_s G).heap.size ≤ q ∧ (q = x)) s.heap.size) s.heap s.heap [] := va_S.rf
  generalize ([] : List Loc) = locs at hS ⊢
  have hb0 := hB.1
  have hAb : ∀ q, (fun q => (g_s G).heap.size ≤ q ∧ (q = x)) q → (g_s G).heap.size ≤ q := fun q h => h.1
  have h_sb := hM
  have hsz0 := hS.1
  have lt_1 := h_sb.1.lt
  have lt_2 := h_sb.2.2.1.1
  refine lv_aload_n hx hb dJ6_setLength_0 rfl (lv_at hl 0 rfl) ?_
  refine lv_iload_n hx hb dJ6_setLength_1 rfl (lv_at hl 1 rfl) ?_
  refine r_callP (cells1 := 1) (slots1 := 202) X hR (c_J5_setLength G x vl cap n ml tx) q1013 q2528 q240 q1014 q96 q1015 ⟨by decide, rfl⟩ ⟨Nat.le_of_ble_eq_true rfl, Nat.le_of_ble_eq_true rfl⟩ rfl rfl (Nat.le_of_ble_eq_true rfl) (Nat.le_of_ble_eq_true rfl) h_sb.1 rfl rfl (Nat.le_of_ble_eq_true rfl) hl.1 dJ6_setLength_2 (hB.of hS hAb) h_sb hS (fun q h => by have h2 : (g_s G).heap.size ≤ q ∧ (q = x) := h; show ((g_s G).heap.size ≤ q ∧ (q = x)) ∨ s.heap.size ≤ q; omega) (fun v H_6 locs hp_3 hz_4 hk_5 hS => ?_)
  obtain ⟨vl2_7, cap2_8, ml2_9, rfl, hv2_10, hE_11⟩ := hp_3
  have hz_12 := hS.1
  have lt_13 := hE_11.1.lt
  have lt_14 := hE_11.2.2.1.1
  refine r_stk (st2 := []) rfl ?_
  refine r_vret hx hb hr hlk hQ hS (Nat.le_of_ble_eq_true rfl) (Nat.le_of_ble_eq_true rfl) dJ6_setLength_5 ?_
  exact ⟨vl2_7, cap2_8, ml2_9, rfl, (by omega), hE_11⟩
set_option maxHeartbeats 4000000 in
theorem c_J5_init (G : fp_G) (x : Nat) (hxb : (g_s G).heap.size ≤ x) : fp_M G yJ5_init cJ5_init 2 none 2 30 1 16 [.ref (x), .int (iI ((16 : Nat) : Int))] (fun H => fp_At G H x (eO 11 [.null, .int (iI ((0 : Nat) : Int)), .int (iI ((0 : Nat) : Int)), .int (iI ((0 : Nat) : Int))])) (fun q => (g_s G).heap.size ≤ q ∧ (q = x)) (fun H v H1 => ∃ (vl : Nat), v = none ∧ (H.size ≤ vl) ∧ fp_SB G x vl 16 0 0 (fun _ => 0) H1) := by
  refine fp_M.intro (by decide) (Nat.le_of_ble_eq_true rfl) ?_
  intro pg en s mi ag bl mt cd rR qQ ls X hx hb hr hlk hnm hR hQ hB hM hl
  have hS : va_S (fA (fun q => (g_s G).heap.size ≤ q ∧ (q = x)) s.heap.size) s.heap s.heap [] := va_S.rf
  generalize ([] : List Loc) = locs at hS ⊢
  have hb0 := hB.1
  have hAb : ∀ q, (fun q => (g_s G).heap.size ≤ q ∧ (q = x)) q → (g_s G).heap.size ≤ q := fun q h => h.1
  have h_o := hM
  have hsz0 := hS.1
  have lt_1 := h_o.lt
  refine lv_aload_n hx hb dJ5_init_0 rfl (lv_at hl 0 rfl) ?_
  refine r_objInit X hR q217 q132 q133 hl.1 (by decide) (Nat.le_of_ble_eq_true rfl) dJ5_init_1 ?_
  refine r_gets X hB hAb hS q219 (lw_all_tbl q98) (X.2.2.2.2.2.cs) q218 rfl dJ5_init_4 ?_
  refine r_set (y := .int (iI ((1 : Nat) : Int))) rfl ?_
  refine r_if_eq (tgt := 25) hx hb (by decide) dJ5_init_7 (by decide) (fun c7 => ?_) (fun c7 => ?_)
  · exact absurd c7 (by omega)
  · skip
    refine lv_aload_n hx hb dJ5_init_10 rfl (lv_at hl 0 rfl) ?_
    refine lv_iload_n hx hb dJ5_init_11 rfl (lv_at hl 1 rfl) ?_
    refine r_newaB (n := 16) X hR hS q241 rfl (by decide) (Nat.le_of_ble_eq_true rfl) (Nat.le_of_ble_eq_true rfl) dJ5_init_12 (fun va H_2 hq_6 hE_3 hX_4 hz_5 hS => ?_)
    have hz_7 := hS.1
    have lt_8 := hE_3.lt
    have hE_10 := fp_At.kept h_o (hX_4.2 _ (by omega))
    refine r_put X hE_10 hS (Or.inl ⟨by omega, rfl⟩) rfl in_J6 tyJ6_ok nmJ6 0 (by decide) q227 (Or.inl rfl) rfl rfl rfl (show 0 < 4 by decide) dJ5_init_14 (fun H_14 locs hE_11 hz_12 hq_13 hS => ?_)
    have hz_15 := hS.1
    refine lv_aload_n hx hb dJ5_init_17 rfl (lv_at hl 0 rfl) ?_
    refine lv_iconst (v := (iI ((0 : Nat) : Int))) hx hb dJ5_init_18 rfl ?_
    refine r_put X hE_11 hS (Or.inl ⟨by omega, rfl⟩) rfl in_J6 tyJ6_ok nmJ6 1 (by decide) q228 (Or.inl rfl) rfl rfl rfl (show 1 < 4 by decide) dJ5_init_19 (fun H_19 locs hE_16 hz_17 hq_18 hS => ?_)
    have hz_20 := hS.1
    refine lv_goto (tgt := 38) hx hb dJ5_init_22 (by decide) ?_
    refine r_vret hx hb hr hlk hQ hS (Nat.le_of_ble_eq_true rfl) (Nat.le_of_ble_eq_true rfl) dJ5_init_38 ?_
    have hE_22 := fp_At.kept hE_3 (hq_13 _ (by omega))
    have hE_23 := fp_At.kept hE_22 (hq_18 _ (by omega))
    exact ⟨va, rfl, (by omega), (⟨hE_16, ⟨_, hE_23, fun i hi => absurd hi (Nat.not_lt_zero i), fun _ _ => by decide⟩, ⟨hE_23.lt, by omega, by omega, by omega, by omega⟩, hxb, by omega⟩)⟩
set_option maxHeartbeats 4000000 in
theorem c_J6_init (G : fp_G) (x : Nat) (hxb : (g_s G).heap.size ≤ x) : fp_M G yJ6_init cJ6_init 1 none 3 51 1 16 [.ref (x)] (fun H => fp_At G H x (eO 11 [.null, .int (iI ((0 : Nat) : Int)), .int (iI ((0 : Nat) : Int)), .int (iI ((0 : Nat) : Int))])) (fun q => (g_s G).heap.size ≤ q ∧ (q = x)) (fun H v H1 => ∃ (vl : Nat), v = none ∧ (H.size ≤ vl) ∧ fp_SB G x vl 16 0 0 (fun _ => 0) H1) := by
  refine fp_M.intro (by decide) (Nat.le_of_ble_eq_true rfl) ?_
  intro pg en s mi ag bl mt cd rR qQ ls X hx hb hr hlk hnm hR hQ hB hM hl
  have hS : va_S (fA (fun q => (g_s G).heap.size ≤ q ∧ (q = x)) s.heap.size) s.heap s.heap [] := va_S.rf
  generalize ([] : List Loc) = locs at hS ⊢
  have hb0 := hB.1
  have hAb : ∀ q, (fun q => (g_s G).heap.size ≤ q ∧ (q = x)) q → (g_s G).heap.size ≤ q := fun q h => h.1
  have h_o := hM
  have hsz0 := hS.1
  have lt_1 := h_o.lt
  refine lv_aload_n hx hb dJ6_init_0 rfl (lv_at hl 0 rfl) ?_
  refine lv_bipush (v := (iI ((16 : Nat) : Int))) hx hb dJ6_init_1 rfl ?_
  refine r_callI (cells1 := 1) (slots1 := 16) X hR (c_J5_init G x hxb) q214 q215 q96 q216 rfl ⟨by decide, by decide, rfl⟩ ⟨Nat.le_of_ble_eq_true rfl, Nat.le_of_ble_eq_true rfl⟩ rfl rfl (Nat.le_of_ble_eq_true rfl) (Nat.le_of_ble_eq_true rfl) rfl (Nat.le_of_ble_eq_true rfl) hl.1 dJ6_init_3 (hB.of hS hAb) h_o hS (fun q h => by have h2 : (g_s G).heap.size ≤ q ∧ (q = x) := h; show ((g_s G).heap.size ≤ q ∧ (q = x)) ∨ s.heap.size ≤ q; omega) (fun v H_5 locs hp_2 hz_3 hk_4 hS => ?_)
  obtain ⟨vl_6, rfl, hvl_7, hE_8⟩ := hp_2
  have hz_9 := hS.1
  have lt_11 := hE_8.1.lt
  have lt_12 := hE_8.2.2.1.1
  refine r_stk (st2 := []) rfl ?_
  refine r_vret hx hb hr hlk hQ hS (Nat.le_of_ble_eq_true rfl) (Nat.le_of_ble_eq_true rfl) dJ6_init_6 ?_
  exact ⟨vl_6, rfl, (by omega), hE_8⟩
