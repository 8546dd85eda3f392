/-! ARRAYDEQUE: a row of 17 places, at most 16 taken -/
set_option maxRecDepth 100000
def fp_DQ (G : fp_G) (x el hd n : Nat) (q : Nat → Nat) (H : Heap) : Prop := fp_At G H x (eO 10 [.ref el, .int (iI ((hd : Nat) : Int)), .int (iI (((hd + n) % 17 : Nat) : Int))]) ∧ (∃ f : Nat → Option Nat, fp_At G H el (eQ G 4 17 f) ∧ ∀ i, i < n → f ((hd + i) % 17) = some (q i)) ∧ (el < H.size ∧ hd < 17 ∧ n ≤ 16) ∧ (g_s G).heap.size ≤ x ∧ (g_s G).heap.size ≤ el
theorem fp_DQ.mv {G : fp_G} {x el hd n : Nat} {q : Nat → Nat} {H H1 : Heap} (h : fp_DQ G x el hd n q H) (hx : H1[x]? = H[x]?) (he : H1[el]? = H[el]?) : fp_DQ G x el hd n q H1 := by
  obtain ⟨h1, ⟨f, h2, h3⟩, h4, h5⟩ := h
  exact ⟨h1.kept hx, ⟨f, h2.kept he, h3⟩, ⟨fp_ltk h4.1 he, h4.2⟩, h5⟩
theorem fp_DQ.ext {G : fp_G} {x el hd n : Nat} {q : Nat → Nat} {H H1 : Heap} (h : fp_DQ G x el hd n q H) (hx : fp_X H H1) : fp_DQ G x el hd n q H1 := h.mv (hx.2 _ h.1.lt) (hx.2 _ h.2.2.1.1)
theorem fp_DQ.ne {G : fp_G} {U : State} (hK : fp_K G U) {x el hd n : Nat} {q : Nat → Nat} {H : Heap} (h : fp_DQ G x el hd n q H) : x ≠ el := by
  obtain ⟨h1, ⟨f, h2, -⟩, -⟩ := h
  exact fp_neOA hK (i := 10) (t := 4) rfl rfl h1 h2
theorem fp_dqa {f : Nat → Option Nat} {hd n e : Nat} {q : Nat → Nat} (h : ∀ i, i < n → f ((hd + i) % 17) = some (q i)) (hn : n < 17) : ∀ i, i < n + 1 → va_up f ((hd + n) % 17) (some e) ((hd + i) % 17) = some (va_up q n e i) := fun i hi => by
  by_cases ei : i = n
  · subst ei
    rw [va_up_self, va_up_self]
  · rw [va_up_ne _ _ (by omega), va_up_ne _ _ ei]
    exact h i (by omega)
theorem fp_dqf {f : Nat → Option Nat} {hd n : Nat} {q : Nat → Nat} (h : ∀ i, i < n → f ((hd + i) % 17) = some (q i)) (hn : n ≤ 16) (hh : hd < 17) : ∀ i, i < n - 1 → va_up f hd none (((hd + 1) % 17 + i) % 17) = some (q (i + 1)) := fun i hi => by
  rw [va_up_ne _ _ (by omega), show ((hd + 1) % 17 + i) % 17 = (hd + (i + 1)) % 17 by omega]
  exact h (i + 1) (by omega)
theorem fp_dql {f : Nat → Option Nat} {hd n : Nat} {q : Nat → Nat} (h : ∀ i, i < n → f ((hd + i) % 17) = some (q i)) (hn : n ≤ 16) (h0 : 0 < n) : ∀ i, i < n - 1 → va_up f ((hd + n - 1) % 17) none ((hd + i) % 17) = some (q i) := fun i hi => by
  rw [va_up_ne _ _ (by omega)]
  exact h i (by omega)

set_option maxRecDepth 100000
set_option maxHeartbeats 4000000 in
theorem c_J4_sub (G : fp_G) (i : Nat) (j : Nat) (hi : i < 17) (hj : j < 17) : fp_M G yJ4_sub cJ4_sub 3 (some .int) 1 12 0 0 [.int (iI ((i : Nat) : Int)), .int (iI ((j : Nat) : Int)), .int (iI ((17 : Nat) : Int))] (fun H => True) fp_no (fun H v H1 => v = some (.int (iI (((i + 17 - j) % 17 : Nat) : Int))) ∧ H = H1) := by
  refine fp_M.intro (by decide) (Nat.le_of_ble_eq_true rfl) ?_
  intro pg en s mi ag bl mt cd rR qQ ls X hx hb hr hlk hnm hR hQ hB hM hl
  have hS : va_S (fA fp_no s.heap.size) s.heap s.heap [] := va_S.rf
  generalize ([] : List Loc) = locs at hS ⊢
  have hb0 := hB.1
  have hsz0 := hS.1
  refine lv_iload_n hx hb dJ4_sub_0 rfl (lv_at hl 0 rfl) ?_
  refine lv_iload_n hx hb dJ4_sub_1 rfl (lv_at hl 1 rfl) ?_
  refine r_isub hx hb dJ4_sub_2 ?_
  refine lv_dup hx hb dJ4_sub_3 rfl ?_
  refine lv_istore_n (lv' := [(0, .int (iI (((i : Nat) : Int) - ((j : Nat) : Int)))), (1, .int (iI ((j : Nat) : Int))), (2, .int (iI ((17 : Nat) : Int)))]) hx hb dJ4_sub_4 rfl hl (by decide) rfl (fun ls hl => ?_)
  refine r_if_ge (tgt := 12) hx hb ⟨by omega, by omega⟩ dJ4_sub_5 (by decide) (fun c5 => ?_) (fun c5 => ?_)
  · skip
    refine lv_iload_n hx hb dJ4_sub_12 rfl (lv_at hl 0 rfl) ?_
    refine r_iret hx hb hr hlk hQ hS (Nat.le_of_ble_eq_true rfl) (Nat.le_of_ble_eq_true rfl) dJ4_sub_13 ?_
    exact ⟨(congrArg (fun q : Int => some (Value.int (iI q))) (show ((((i : Nat) : Int) - ((j : Nat) : Int)) : Int) = (((i + 17 - j) % 17 : Nat) : Int) by omega)), rfl⟩
  · skip
    refine lv_iload_n hx hb dJ4_sub_8 rfl (lv_at hl 0 rfl) ?_
    refine lv_iload_n hx hb dJ4_sub_9 rfl (lv_at hl 2 rfl) ?_
    refine r_iadd hx hb dJ4_sub_10 ?_
    refine lv_istore_n (lv' := [(0, .int (iI ((((i : Nat) : Int) - ((j : Nat) : Int)) + ((17 : Nat) : Int)))), (1, .int (iI ((j : Nat) : Int))), (2, .int (iI ((17 : Nat) : Int)))]) hx hb dJ4_sub_11 rfl hl (by decide) rfl (fun ls hl => ?_)
    refine lv_iload_n hx hb dJ4_sub_12 rfl (lv_at hl 0 rfl) ?_
    refine r_iret hx hb hr hlk hQ hS (Nat.le_of_ble_eq_true rfl) (Nat.le_of_ble_eq_true rfl) dJ4_sub_13 ?_
    exact ⟨(congrArg (fun q : Int => some (Value.int (iI q))) (show (((((i : Nat) : Int) - ((j : Nat) : Int)) + ((17 : Nat) : Int)) : Int) = (((i + 17 - j) % 17 : Nat) : Int) by omega)), rfl⟩
set_option maxHeartbeats 4000000 in
theorem c_J4_inc (G : fp_G) (i : Nat) (hi : i < 17) : fp_M G yJ4_inc cJ4_inc 2 (some .int) 1 12 0 0 [.int (iI ((i : Nat) : Int)), .int (iI ((17 : Nat) : Int))] (fun H => True) fp_no (fun H v H1 => v = some (.int (iI (((i + 1) % 17 : Nat) : Int))) ∧ H = H1) := by
  refine fp_M.intro (by decide) (Nat.le_of_ble_eq_true rfl) ?_
  intro pg en s mi ag bl mt cd rR qQ ls X hx hb hr hlk hnm hR hQ hB hM hl
  have hS : va_S (fA fp_no s.heap.size) s.heap s.heap [] := va_S.rf
  generalize ([] : List Loc) = locs at hS ⊢
  have hb0 := hB.1
  have hsz0 := hS.1
  refine lv_iinc (v := (iI ((i + 1 : Nat) : Int))) (lv' := [(0, .int (iI ((i + 1 : Nat) : Int))), (1, .int (iI ((17 : Nat) : Int)))]) hx hb dJ4_inc_0 hl (k := 0) rfl (iI_incN _ _) (by decide) rfl (fun ls hl => ?_)
  refine lv_iload_n hx hb dJ4_inc_3 rfl (lv_at hl 0 rfl) ?_
  refine lv_iload_n hx hb dJ4_inc_4 rfl (lv_at hl 1 rfl) ?_
  refine r_icmp_lt (tgt := 10) hx hb ⟨by omega, by omega⟩ (by decide) dJ4_inc_5 (by decide) (fun c5 => ?_) (fun c5 => ?_)
  · skip
    refine lv_iload_n hx hb dJ4_inc_10 rfl (lv_at hl 0 rfl) ?_
    refine r_iret hx hb hr hlk hQ hS (Nat.le_of_ble_eq_true rfl) (Nat.le_of_ble_eq_true rfl) dJ4_inc_11 ?_
    exact ⟨(congrArg (fun q : Int => some (Value.int (iI q))) (show (((i + 1 : Nat) : Int) : Int) = (((i + 1) % 17 : Nat) : Int) by omega)), rfl⟩
  · skip
    refine lv_iconst (v := (iI ((0 : Nat) : Int))) hx hb dJ4_inc_8 rfl ?_
    refine lv_istore_n (lv' := [(0, .int (iI ((0 : Nat) : Int))), (1, .int (iI ((17 : Nat) : Int)))]) hx hb dJ4_inc_9 rfl hl (by decide) rfl (fun ls hl => ?_)
    refine lv_iload_n hx hb dJ4_inc_10 rfl (lv_at hl 0 rfl) ?_
    refine r_iret hx hb hr hlk hQ hS (Nat.le_of_ble_eq_true rfl) (Nat.le_of_ble_eq_true rfl) dJ4_inc_11 ?_
    exact ⟨(congrArg (fun q : Int => some (Value.int (iI q))) (show (((0 : Nat) : Int) : Int) = (((i + 1) % 17 : Nat) : Int) by omega)), rfl⟩
set_option maxHeartbeats 4000000 in
theorem c_J4_dec (G : fp_G) (i : Nat) (hi : i < 17) : fp_M G yJ4_dec cJ4_dec 2 (some .int) 1 12 0 0 [.int (iI ((i : Nat) : Int)), .int (iI ((17 : Nat) : Int))] (fun H => True) fp_no (fun H v H1 => v = some (.int (iI (((i + 16) % 17 : Nat) : Int))) ∧ H = H1) := by
  refine fp_M.intro (by decide) (Nat.le_of_ble_eq_true rfl) ?_
  intro pg en s mi ag bl mt cd rR qQ ls X hx hb hr hlk hnm hR hQ hB hM hl
  have hS : va_S (fA fp_no s.heap.size) s.heap s.heap [] := va_S.rf
  generalize ([] : List Loc) = locs at hS ⊢
  have hb0 := hB.1
  have hsz0 := hS.1
  refine lv_iinc (v := (iI (((i : Nat) : Int) + (-1)))) (lv' := [(0, .int (iI (((i : Nat) : Int) + (-1)))), (1, .int (iI ((17 : Nat) : Int)))]) hx hb dJ4_dec_0 hl (k := 0) rfl (iI_add _ _) (by decide) rfl (fun ls hl => ?_)
  refine lv_iload_n hx hb dJ4_dec_3 rfl (lv_at hl 0 rfl) ?_
  refine r_if_ge (tgt := 11) hx hb ⟨by omega, by omega⟩ dJ4_dec_4 (by decide) (fun c4 => ?_) (fun c4 => ?_)
  · skip
    refine lv_iload_n hx hb dJ4_dec_11 rfl (lv_at hl 0 rfl) ?_
    refine r_iret hx hb hr hlk hQ hS (Nat.le_of_ble_eq_true rfl) (Nat.le_of_ble_eq_true rfl) dJ4_dec_12 ?_
    exact ⟨(congrArg (fun q : Int => some (Value.int (iI q))) (show ((((i : Nat) : Int) + (-1)) : Int) = (((i + 16) % 17 : Nat) : Int) by omega)), rfl⟩
  · skip
    refine lv_iload_n hx hb dJ4_dec_7 rfl (lv_at hl 1 rfl) ?_
    refine lv_iconst (v := (iI ((1 : Nat) : Int))) hx hb dJ4_dec_8 rfl ?_
    refine r_isub hx hb dJ4_dec_9 ?_
    refine lv_istore_n (lv' := [(0, .int (iI (((17 : Nat) : Int) - ((1 : Nat) : Int)))), (1, .int (iI ((17 : Nat) : Int)))]) hx hb dJ4_dec_10 rfl hl (by decide) rfl (fun ls hl => ?_)
    refine lv_iload_n hx hb dJ4_dec_11 rfl (lv_at hl 0 rfl) ?_
    refine r_iret hx hb hr hlk hQ hS (Nat.le_of_ble_eq_true rfl) (Nat.le_of_ble_eq_true rfl) dJ4_dec_12 ?_
    exact ⟨(congrArg (fun q : Int => some (Value.int (iI q))) (show ((((17 : Nat) : Int) - ((1 : Nat) : Int)) : Int) = (((i + 16) % 17 : Nat) : Int) by omega)), rfl⟩
set_option maxHeartbeats 4000000 in
theorem c_J4_size (G : fp_G) (x : Nat) (el : Nat) (hd : Nat) (n : Nat) (q : Nat → Nat) : fp_M G yJ4_size cJ4_size 1 (some .int) 2 34 0 0 [.ref (x)] (fun H => fp_DQ G x el hd n q H) fp_no (fun H v H1 => v = some (.int (iI ((n : Nat) : Int))) ∧ H = H1) := by
  refine fp_M.intro (by decide) (Nat.le_of_ble_eq_true rfl) ?_
  intro pg en s mi ag bl mt cd rR qQ ls X hx hb hr hlk hnm hR hQ hB hM hl
  have hS : va_S (fA fp_no s.heap.size) s.heap s.heap [] := va_S.rf
  generalize ([] : List Loc) = locs at hS ⊢
  have hb0 := hB.1
  have h_dq := hM
  have hsz0 := hS.1
  have lt_1 := h_dq.1.lt
  have lt_2 := h_dq.2.2.1.1
  have hxe := h_dq.ne X.2.2.2.2.2
  obtain ⟨hdo, ⟨f, hdr, hdf⟩, hdb, hdx, hde⟩ := id h_dq
  have lt_3 := hdr.lt
  refine lv_aload_n hx hb dJ4_size_0 rfl (lv_at hl 0 rfl) ?_
  refine r_get X hdo rfl in_J4 2 (by decide) q201 (Or.inl rfl) (v := .int (iI (((hd + n) % 17 : Nat) : Int))) rfl dJ4_size_1 ?_
  refine lv_aload_n hx hb dJ4_size_4 rfl (lv_at hl 0 rfl) ?_
  refine r_get X hdo rfl in_J4 1 (by decide) q200 (Or.inl rfl) (v := .int (iI ((hd : Nat) : Int))) rfl dJ4_size_5 ?_
  refine lv_aload_n hx hb dJ4_size_8 rfl (lv_at hl 0 rfl) ?_
  refine r_get X hdo rfl in_J4 0 (by decide) q199 (Or.inl rfl) (v := .ref (el)) rfl dJ4_size_9 ?_
  refine r_alen X (t := 4) rfl hdr (v := (iI ((17 : Nat) : Int))) rfl dJ4_size_12 ?_
  refine r_callS (cells1 := 0) (slots1 := 0) X hR (c_J4_sub G ((hd + n) % 17) hd (by omega) (by omega)) q1088 q1089 q95 q1090 pd_J4_sub ⟨Nat.le_of_ble_eq_true rfl, Nat.le_of_ble_eq_true rfl⟩ rfl rfl (Nat.le_of_ble_eq_true rfl) (Nat.le_of_ble_eq_true rfl) rfl (Nat.le_of_ble_eq_true rfl) hl.1 dJ4_size_13 (hB.of hS fp_no.base) trivial hS (fun _ h => h.elim) (fun v H_7 locs hp_4 hz_5 hk_6 hS => ?_)
  obtain ⟨rfl, rfl⟩ := hp_4
  refine r_stk (st2 := [.int (iI (((((hd + n) % 17) + 17 - hd) % 17 : Nat) : Int))]) rfl ?_
  refine r_iret hx hb hr hlk hQ hS (Nat.le_of_ble_eq_true rfl) (Nat.le_of_ble_eq_true rfl) dJ4_size_16 ?_
  exact ⟨(congrArg (fun q : Int => some (Value.int (iI q))) (show ((((((hd + n) % 17) + 17 - hd) % 17 : Nat) : Int) : Int) = ((n : Nat) : Int) by omega)), rfl⟩
set_option maxHeartbeats 4000000 in
theorem c_J4_isEmpty (G : fp_G) (x : Nat) (el : Nat) (hd : Nat) (n : Nat) (q : Nat → Nat) : fp_M G yJ4_isEmpty cJ4_isEmpty 1 (some .boolean) 1 12 0 0 [.ref (x)] (fun H => fp_DQ G x el hd n q H) fp_no (fun H v H1 => v = some (.int (iI (bI (decide (n = 0))))) ∧ H = H1) := by
  refine fp_M.intro (by decide) (Nat.le_of_ble_eq_true rfl) ?_
  intro pg en s mi ag bl mt cd rR qQ ls X hx hb hr hlk hnm hR hQ hB hM hl
  have hS : va_S (fA fp_no s.heap.size) s.heap s.heap [] := va_S.rf
  generalize ([] : List Loc) = locs at hS ⊢
  have hb0 := hB.1
  have h_dq := hM
  have hsz0 := hS.1
  have lt_1 := h_dq.1.lt
  have lt_2 := h_dq.2.2.1.1
  have hdb := h_dq.2.2.1
  refine lv_aload_n hx hb dJ4_isEmpty_0 rfl (lv_at hl 0 rfl) ?_
  refine r_get X h_dq.1 rfl in_J4 1 (by decide) q200 (Or.inl rfl) (v := .int (iI ((hd : Nat) : Int))) rfl dJ4_isEmpty_1 ?_
  refine lv_aload_n hx hb dJ4_isEmpty_4 rfl (lv_at hl 0 rfl) ?_
  refine r_get X h_dq.1 rfl in_J4 2 (by decide) q201 (Or.inl rfl) (v := .int (iI (((hd + n) % 17 : Nat) : Int))) rfl dJ4_isEmpty_5 ?_
  refine r_icmp_ne (tgt := 15) hx hb ⟨by omega, by omega⟩ ⟨by omega, by omega⟩ dJ4_isEmpty_8 (by decide) (fun c8 => ?_) (fun c8 => ?_)
  · skip
    refine lv_iconst (v := (iI ((0 : Nat) : Int))) hx hb dJ4_isEmpty_15 rfl ?_
    refine r_zret hx hb hr hlk hQ hS (Nat.le_of_ble_eq_true rfl) (Nat.le_of_ble_eq_true rfl) dJ4_isEmpty_16 rfl ?_
    exact ⟨(congrArg (fun q : Bool => some (Value.int (iI (bI q)))) (Eq.symm (show decide (n = 0) = false from decide_eq_false (by omega)))), rfl⟩
  · skip
    refine lv_iconst (v := (iI ((1 : Nat) : Int))) hx hb dJ4_isEmpty_11 rfl ?_
    refine lv_goto (tgt := 16) hx hb dJ4_isEmpty_12 (by decide) ?_
    refine r_zret hx hb hr hlk hQ hS (Nat.le_of_ble_eq_true rfl) (Nat.le_of_ble_eq_true rfl) dJ4_isEmpty_16 rfl ?_
    exact ⟨(congrArg (fun q : Bool => some (Value.int (iI (bI q)))) (Eq.symm (show decide (n = 0) = true from decide_eq_true (by omega)))), rfl⟩
set_option maxHeartbeats 4000000 in
theorem c_J4_elementAt (G : fp_G) (el : Nat) (f : Nat → Option Nat) (i : Nat) (e : Nat) (hi : i < 17) (hf : f i = some e) : fp_M G yJ4_elementAt cJ4_elementAt 2 (some (.object "java/lang/Object")) 1 12 0 0 [.ref (el), .int (iI ((i : Nat) : Int))] (fun H => fp_At G H el (eQ G 4 17 f)) fp_no (fun H v H1 => v = some (.ref (e)) ∧ H = H1) := by
  refine fp_M.intro (by decide) (Nat.le_of_ble_eq_true rfl) ?_
  intro pg en s mi ag bl mt cd rR qQ ls X hx hb hr hlk hnm hR hQ hB hM hl
  have hS : va_S (fA fp_no s.heap.size) s.heap s.heap [] := va_S.rf
  generalize ([] : List Loc) = locs at hS ⊢
  have hb0 := hB.1
  have h_row := hM
  have hsz0 := hS.1
  have lt_1 := h_row.lt
  refine lv_aload_n hx hb dJ4_elementAt_0 rfl (lv_at hl 0 rfl) ?_
  refine lv_iload_n hx hb dJ4_elementAt_1 rfl (lv_at hl 1 rfl) ?_
  refine r_aaldI X rfl h_row (j := i) rfl (by omega) (by decide) dJ4_elementAt_2 ?_
  refine r_set (y := .ref (e)) (by rw [hf]; rfl) ?_
  refine r_aret hx hb hr hlk hQ hS (Nat.le_of_ble_eq_true rfl) (Nat.le_of_ble_eq_true rfl) dJ4_elementAt_3 (Or.inl ⟨_, rfl⟩) (Or.inr ⟨_, rfl⟩) ?_
  exact ⟨rfl, rfl⟩
set_option maxHeartbeats 4000000 in
theorem c_J4_addLast (G : fp_G) (x : Nat) (el : Nat) (hd : Nat) (n : Nat) (q : Nat → Nat) (e : Nat) (hn : n < 15) : fp_M G yJ4_addLast cJ4_addLast 3 none 2 33 0 0 [.ref (x), .ref (e)] (fun H => fp_DQ G x el hd n q H ∧ fp_EO G e H) (fun q => (g_s G).heap.size ≤ q ∧ (q = x ∨ q = el)) (fun H v H1 => v = none ∧ fp_DQ G x el hd (n + 1) (va_up q n e) H1) := by
  refine fp_M.intro (by decide) (Nat.le_of_ble_eq_true rfl) ?_
  intro pg en s mi ag bl mt cd rR qQ ls X hx hb hr hlk hnm hR hQ hB hM hl
  have hS : va_S (fA (fun q => (g_s G).heap.size ≤ q ∧ (q = x ∨ q = el)) s.heap.size) s.heap s.heap [] := va_S.rf
  generalize ([] : List Loc) = locs at hS ⊢
  have hb0 := hB.1
  have hAb : ∀ q, (fun q => (g_s G).heap.size ≤ q ∧ (q = x ∨ q = el)) q → (g_s G).heap.size ≤ q := fun q h => h.1
  obtain ⟨h_dq, h_eo⟩ := hM
  have hsz0 := hS.1
  have lt_1 := h_dq.1.lt
  have lt_2 := h_dq.2.2.1.1
  have lt_3 := fp_el.lt h_eo
  have hxe := h_dq.ne X.2.2.2.2.2
  obtain ⟨hdo, ⟨f, hdr, hdf⟩, hdb, hdx, hde⟩ := id h_dq
  have lt_4 := hdr.lt
  refine lv_aload_n hx hb dJ4_addLast_0 rfl (lv_at hl 1 rfl) ?_
  refine lv_ifnonnull hx hb dJ4_addLast_1 (tgt := 12) (by decide) ?_
  refine lv_aload_n hx hb dJ4_addLast_12 rfl (lv_at hl 0 rfl) ?_
  refine r_get X hdo rfl in_J4 0 (by decide) q199 (Or.inl rfl) (v := .ref (el)) rfl dJ4_addLast_13 ?_
  refine lv_astore_n (lv' := [(2, .ref (el)), (0, .ref (x)), (1, .ref (e))]) hx hb dJ4_addLast_16 rfl hl (by decide) rfl (fun ls hl => ?_)
  refine lv_aload_n hx hb dJ4_addLast_17 rfl (lv_at hl 0 rfl) ?_
  refine lv_aload_n hx hb dJ4_addLast_18 rfl (lv_at hl 1 rfl) ?_
  refine r_get X hdo rfl in_J4 2 (by decide) q201 (Or.inl rfl) (v := .int (iI (((hd + n) % 17 : Nat) : Int))) rfl dJ4_addLast_19 ?_
  refine lv_aload_n hx hb dJ4_addLast_22 rfl (lv_at hl 2 rfl) ?_
  refine r_aastE X hdr hS (Or.inl ⟨by omega, Or.inr (rfl)⟩) h_eo (i0 := (hd + n) % 17) rfl (by omega) (by omega) dJ4_addLast_23 (fun H_8 locs hE_5 hz_6 hq_7 hS => ?_)
  have hz_9 := hS.1
  refine lv_aload_n hx hb dJ4_addLast_24 rfl (lv_at hl 1 rfl) ?_
  have hE_11 := fp_At.kept hdo (hq_7 _ (by omega))
  refine r_get X hE_11 rfl in_J4 1 (by decide) q200 (Or.inl rfl) (v := .int (iI ((hd : Nat) : Int))) rfl dJ4_addLast_25 ?_
  refine lv_aload_n hx hb dJ4_addLast_28 rfl (lv_at hl 1 rfl) ?_
  refine lv_aload_n hx hb dJ4_addLast_29 rfl (lv_at hl 1 rfl) ?_
  refine r_get X hE_11 rfl in_J4 2 (by decide) q201 (Or.inl rfl) (v := .int (iI (((hd + n) % 17 : Nat) : Int))) rfl dJ4_addLast_30 ?_
  refine lv_aload_n hx hb dJ4_addLast_33 rfl (lv_at hl 0 rfl) ?_
  refine r_alen X (t := 4) rfl hE_5 (v := (iI ((17 : Nat) : Int))) rfl dJ4_addLast_34 ?_
  refine r_callS (cells1 := 0) (slots1 := 0) X hR (c_J4_inc G ((hd + n) % 17) (by omega)) q1260 q1261 q95 q1262 pd_J4_inc ⟨Nat.le_of_ble_eq_true rfl, Nat.le_of_ble_eq_true rfl⟩ rfl rfl (Nat.le_of_ble_eq_true rfl) (Nat.le_of_ble_eq_true rfl) rfl (Nat.le_of_ble_eq_true rfl) hl.1 dJ4_addLast_35 (hB.of hS hAb) trivial hS (fun _ h => h.elim) (fun v H_15 locs hp_12 hz_13 hk_14 hS => ?_)
  obtain ⟨rfl, rfl⟩ := hp_12
  refine r_stk (st2 := [.int (iI (((((hd + n) % 17) + 1) % 17 : Nat) : Int)), .ref (x), .int (iI ((hd : Nat) : Int))]) rfl ?_
  refine lv_dup_x1 hx hb dJ4_addLast_38 rfl rfl ?_
  refine r_put X hE_11 hS (Or.inl ⟨by omega, Or.inl rfl⟩) rfl in_J4 tyJ4_ok nmJ4 2 (by decide) q201 (Or.inl rfl) rfl rfl rfl (show 2 < 3 by decide) dJ4_addLast_39 (fun H_19 locs hE_16 hz_17 hq_18 hS => ?_)
  have hz_20 := hS.1
  refine r_icmp_ne (tgt := 50) hx hb ⟨by omega, by omega⟩ ⟨by omega, by omega⟩ dJ4_addLast_42 (by decide) (fun c42 => ?_) (fun c42 => ?_)
  · skip
    refine r_vret hx hb hr hlk hQ hS (Nat.le_of_ble_eq_true rfl) (Nat.le_of_ble_eq_true rfl) dJ4_addLast_50 ?_
    have hE_22 := fp_At.kept hE_5 (hq_18 _ (by omega))
    have ho_23 : fp_At G H_19 x (eO 10 [.ref (el), .int (iI ((hd : Nat) : Int)), .int (iI (((hd + (n + 1)) % 17 : Nat) : Int))]) := by have h9 := hE_16; rw [show ((((hd + n) % 17) + 1) % 17 : Nat) = (hd + (n + 1)) % 17 by omega] at h9; exact h9
    exact ⟨rfl, (⟨ho_23, ⟨_, hE_22, fp_dqa hdf (by omega)⟩, ⟨hE_22.lt, by omega, by omega⟩, hdx, hde⟩)⟩
  · skip
    exact absurd c42 (by omega)
set_option maxHeartbeats 4000000 in
theorem c_J4_pollFirst (G : fp_G) (x : Nat) (el : Nat) (hd : Nat) (n : Nat) (q : Nat → Nat) (hn : 0 < n) : fp_M G yJ4_pollFirst cJ4_pollFirst 4 (some (.object "java/lang/Object")) 2 33 0 0 [.ref (x)] (fun H => fp_DQ G x el hd n q H) (fun q => (g_s G).heap.size ≤ q ∧ (q = x ∨ q = el)) (fun H v H1 => v = some (.ref (q 0)) ∧ fp_DQ G x el ((hd + 1) % 17) (n - 1) (fun i => q (i + 1)) H1) := by
  refine fp_M.intro (by decide) (Nat.le_of_ble_eq_true rfl) ?_
  intro pg en s mi ag bl mt cd rR qQ ls X hx hb hr hlk hnm hR hQ hB hM hl
  have hS : va_S (fA (fun q => (g_s G).heap.size ≤ q ∧ (q = x ∨ q = el)) s.heap.size) s.heap s.heap [] := va_S.rf
  generalize ([] : List Loc) = locs at hS ⊢
  have hb0 := hB.1
  have hAb : ∀ q, (fun q => (g_s G).heap.size ≤ q ∧ (q = x ∨ q = el)) q → (g_s G).heap.size ≤ q := fun q h => h.1
  have h_dq := hM
  have hsz0 := hS.1
  have lt_1 := h_dq.1.lt
  have lt_2 := h_dq.2.2.1.1
  have hxe := h_dq.ne X.2.2.2.2.2
  obtain ⟨hdo, ⟨f, hdr, hdf⟩, hdb, hdx, hde⟩ := id h_dq
  have lt_3 := hdr.lt
  have hd0 : f hd = some (q 0) := by have h9 := hdf 0 hn; rw [show (hd + 0) % 17 = hd by omega] at h9; exact h9
  refine lv_aload_n hx hb dJ4_pollFirst_0 rfl (lv_at hl 0 rfl) ?_
  refine r_get X hdo rfl in_J4 0 (by decide) q199 (Or.inl rfl) (v := .ref (el)) rfl dJ4_pollFirst_1 ?_
  refine lv_dup hx hb dJ4_pollFirst_4 rfl ?_
  refine lv_astore_n (lv' := [(1, .ref (el)), (0, .ref (x))]) hx hb dJ4_pollFirst_5 rfl hl (by decide) rfl (fun ls hl => ?_)
  refine lv_aload_n hx hb dJ4_pollFirst_6 rfl (lv_at hl 1 rfl) ?_
  refine r_get X hdo rfl in_J4 1 (by decide) q200 (Or.inl rfl) (v := .int (iI ((hd : Nat) : Int))) rfl dJ4_pollFirst_7 ?_
  refine lv_dup hx hb dJ4_pollFirst_10 rfl ?_
  refine lv_istore_n (lv' := [(2, .int (iI ((hd : Nat) : Int))), (1, .ref (el)), (0, .ref (x))]) hx hb dJ4_pollFirst_11 rfl hl (by decide) rfl (fun ls hl => ?_)
  refine r_callS (cells1 := 0) (slots1 := 0) X hR (c_J4_elementAt G el f hd (q 0) (by omega) hd0) q1289 q1290 q95 q1291 pd_J4_elementAt ⟨Nat.le_of_ble_eq_true rfl, Nat.le_of_ble_eq_true rfl⟩ rfl rfl (Nat.le_of_ble_eq_true rfl) (Nat.le_of_ble_eq_true rfl) rfl (Nat.le_of_ble_eq_true rfl) hl.1 dJ4_pollFirst_12 (hB.of hS hAb) hdr hS (fun _ h => h.elim) (fun v H_7 locs hp_4 hz_5 hk_6 hS => ?_)
  obtain ⟨rfl, rfl⟩ := hp_4
  refine r_stk (st2 := [.ref ((q 0))]) rfl ?_
  refine lv_astore_n (lv' := [(3, .ref ((q 0))), (2, .int (iI ((hd : Nat) : Int))), (1, .ref (el)), (0, .ref (x))]) hx hb dJ4_pollFirst_15 rfl hl (by decide) rfl (fun ls hl => ?_)
  refine lv_aload_n hx hb dJ4_pollFirst_16 rfl (lv_at hl 0 rfl) ?_
  refine lv_ifnull hx hb dJ4_pollFirst_17 ?_
  refine lv_aload_n hx hb dJ4_pollFirst_20 rfl (lv_at hl 2 rfl) ?_
  refine lv_iload_n hx hb dJ4_pollFirst_21 rfl (lv_at hl 1 rfl) ?_
  refine lv_null hx hb dJ4_pollFirst_22 ?_
  refine r_aastN X rfl hdr hS (Or.inl ⟨by omega, Or.inr (rfl)⟩) (i0 := hd) rfl (by omega) (by decide) dJ4_pollFirst_23 (fun H_11 locs hE_8 hz_9 hq_10 hS => ?_)
  have hz_12 := hS.1
  refine lv_aload_n hx hb dJ4_pollFirst_24 rfl (lv_at hl 3 rfl) ?_
  refine lv_iload_n hx hb dJ4_pollFirst_25 rfl (lv_at hl 1 rfl) ?_
  refine lv_aload_n hx hb dJ4_pollFirst_26 rfl (lv_at hl 2 rfl) ?_
  refine r_alen X (t := 4) rfl hE_8 (v := (iI ((17 : Nat) : Int))) rfl dJ4_pollFirst_27 ?_
  refine r_callS (cells1 := 0) (slots1 := 0) X hR (c_J4_inc G hd (by omega)) q1260 q1261 q95 q1262 pd_J4_inc ⟨Nat.le_of_ble_eq_true rfl, Nat.le_of_ble_eq_true rfl⟩ rfl rfl (Nat.le_of_ble_eq_true rfl) (Nat.le_of_ble_eq_true rfl) rfl (Nat.le_of_ble_eq_true rfl) hl.1 dJ4_pollFirst_28 (hB.of hS hAb) trivial hS (fun _ h => h.elim) (fun v H_16 locs hp_13 hz_14 hk_15 hS => ?_)
  obtain ⟨rfl, rfl⟩ := hp_13
  refine r_stk (st2 := [.int (iI (((hd + 1) % 17 : Nat) : Int)), .ref (x)]) rfl ?_
  have hE_18 := fp_At.kept hdo (hq_10 _ (by omega))
  refine r_put X hE_18 hS (Or.inl ⟨by omega, Or.inl rfl⟩) rfl in_J4 tyJ4_ok nmJ4 1 (by decide) q200 (Or.inl rfl) rfl rfl rfl (show 1 < 3 by decide) dJ4_pollFirst_31 (fun H_22 locs hE_19 hz_20 hq_21 hS => ?_)
  have hz_23 := hS.1
  refine lv_aload_n hx hb dJ4_pollFirst_34 rfl (lv_at hl 0 rfl) ?_
  refine r_aret hx hb hr hlk hQ hS (Nat.le_of_ble_eq_true rfl) (Nat.le_of_ble_eq_true rfl) dJ4_pollFirst_35 (Or.inl ⟨_, rfl⟩) (Or.inr ⟨_, rfl⟩) ?_
  have hE_25 := fp_At.kept hE_8 (hq_21 _ (by omega))
  have ho_26 : fp_At G H_22 x (eO 10 [.ref (el), .int (iI ((((hd + 1) % 17) : Nat) : Int)), .int (iI (((((hd + 1) % 17) + (n - 1)) % 17 : Nat) : Int))]) := by have h9 := hE_19; rw [show ((hd + n) % 17 : Nat) = (((hd + 1) % 17) + (n - 1)) % 17 by omega] at h9; exact h9
  exact ⟨rfl, (⟨ho_26, ⟨_, hE_25, fp_dqf hdf (by omega) (by omega)⟩, ⟨hE_25.lt, by omega, by omega⟩, hdx, hde⟩)⟩
set_option maxHeartbeats 4000000 in
theorem c_J4_removeFirst (G : fp_G) (x : Nat) (el : Nat) (hd : Nat) (n : Nat) (q : Nat → Nat) (hn : 0 < n) : fp_M G yJ4_removeFirst cJ4_removeFirst 2 (some (.object "java/lang/Object")) 3 56 0 0 [.ref (x)] (fun H => fp_DQ G x el hd n q H) (fun q => (g_s G).heap.size ≤ q ∧ (q = x ∨ q = el)) (fun H v H1 => v = some (.ref (q 0)) ∧ fp_DQ G x el ((hd + 1) % 17) (n - 1) (fun i => q (i + 1)) H1) := by
  refine fp_M.intro (by decide) (Nat.le_of_ble_eq_true rfl) ?_
  intro pg en s mi ag bl mt cd rR qQ ls X hx hb hr hlk hnm hR hQ hB hM hl
  have hS : va_S (fA (fun q => (g_s G).heap.size ≤ q ∧ (q = x ∨ q = el)) s.heap.size) s.heap s.heap [] := va_S.rf
  generalize ([] : List Loc) = locs at hS ⊢
  have hb0 := hB.1
  have hAb : ∀ q, (fun q => (g_s G).heap.size ≤ q ∧ (q = x ∨ q = el)) q → (g_s G).heap.size ≤ q := fun q h => h.1
  have h_dq := hM
  have hsz0 := hS.1
  have lt_1 := h_dq.1.lt
  have lt_2 := h_dq.2.2.1.1
  refine lv_aload_n hx hb dJ4_removeFirst_0 rfl (lv_at hl 0 rfl) ?_
  refine r_callV (cells1 := 0) (slots1 := 0) X hR (c_J4_pollFirst G x el hd n q hn) q1285 q1286 q1287 q95 q1288 ⟨rfl, pd_J4_pollFirst⟩ ⟨Nat.le_of_ble_eq_true rfl, Nat.le_of_ble_eq_true rfl⟩ rfl rfl (Nat.le_of_ble_eq_true rfl) (Nat.le_of_ble_eq_true rfl) h_dq.1 rfl rfl (Nat.le_of_ble_eq_true rfl) hl.1 dJ4_removeFirst_1 (hB.of hS hAb) h_dq hS (fun q h => by have h2 : (g_s G).heap.size ≤ q ∧ (q = x ∨ q = el) := h; show ((g_s G).heap.size ≤ q ∧ (q = x ∨ q = el)) ∨ s.heap.size ≤ q; omega) (fun v H_6 locs hp_3 hz_4 hk_5 hS => ?_)
  obtain ⟨rfl, hE_7⟩ := hp_3
  have hz_8 := hS.1
  have lt_9 := hE_7.1.lt
  have lt_10 := hE_7.2.2.1.1
  refine r_stk (st2 := [.ref (q 0)]) rfl ?_
  refine lv_astore_n (lv' := [(1, .ref (q 0)), (0, .ref (x))]) hx hb dJ4_removeFirst_4 rfl hl (by decide) rfl (fun ls hl => ?_)
  refine lv_aload_n hx hb dJ4_removeFirst_5 rfl (lv_at hl 0 rfl) ?_
  refine lv_ifnonnull hx hb dJ4_removeFirst_6 (tgt := 17) (by decide) ?_
  refine lv_aload_n hx hb dJ4_removeFirst_17 rfl (lv_at hl 0 rfl) ?_
  refine r_aret hx hb hr hlk hQ hS (Nat.le_of_ble_eq_true rfl) (Nat.le_of_ble_eq_true rfl) dJ4_removeFirst_18 (Or.inl ⟨_, rfl⟩) (Or.inr ⟨_, rfl⟩) ?_
  exact ⟨rfl, hE_7⟩
set_option maxHeartbeats 4000000 in
theorem c_J4_pollLast (G : fp_G) (x : Nat) (el : Nat) (hd : Nat) (n : Nat) (q : Nat → Nat) (hn : 0 < n) : fp_M G yJ4_pollLast cJ4_pollLast 4 (some (.object "java/lang/Object")) 2 33 0 0 [.ref (x)] (fun H => fp_DQ G x el hd n q H) (fun q => (g_s G).heap.size ≤ q ∧ (q = x ∨ q = el)) (fun H v H1 => v = some (.ref (q (n - 1))) ∧ fp_DQ G x el hd (n - 1) q H1) := by
  refine fp_M.intro (by decide) (Nat.le_of_ble_eq_true rfl) ?_
  intro pg en s mi ag bl mt cd rR qQ ls X hx hb hr hlk hnm hR hQ hB hM hl
  have hS : va_S (fA (fun q => (g_s G).heap.size ≤ q ∧ (q = x ∨ q = el)) s.heap.size) s.heap s.heap [] := va_S.rf
  generalize ([] : List Loc) = locs at hS ⊢
  have hb0 := hB.1
  have hAb : ∀ q, (fun q => (g_s G).heap.size ≤ q ∧ (q = x ∨ q = el)) q → (g_s G).heap.size ≤ q := fun q h => h.1
  have h_dq := hM
  have hsz0 := hS.1
  have lt_1 := h_dq.1.lt
  have lt_2 := h_dq.2.2.1.1
  have hxe := h_dq.ne X.2.2.2.2.2
  obtain ⟨hdo, ⟨f, hdr, hdf⟩, hdb, hdx, hde⟩ := id h_dq
  have lt_3 := hdr.lt
  have hd0 : f ((hd + n - 1) % 17) = some (q (n - 1)) := by have h9 := hdf (n - 1) (by omega); rw [show (hd + (n - 1)) % 17 = (hd + n - 1) % 17 by omega] at h9; exact h9
  refine lv_aload_n hx hb dJ4_pollLast_0 rfl (lv_at hl 0 rfl) ?_
  refine r_get X hdo rfl in_J4 0 (by decide) q199 (Or.inl rfl) (v := .ref (el)) rfl dJ4_pollLast_1 ?_
  refine lv_dup hx hb dJ4_pollLast_4 rfl ?_
  refine lv_astore_n (lv' := [(1, .ref (el)), (0, .ref (x))]) hx hb dJ4_pollLast_5 rfl hl (by decide) rfl (fun ls hl => ?_)
  refine lv_aload_n hx hb dJ4_pollLast_6 rfl (lv_at hl 1 rfl) ?_
  refine r_get X hdo rfl in_J4 2 (by decide) q201 (Or.inl rfl) (v := .int (iI (((hd + n) % 17 : Nat) : Int))) rfl dJ4_pollLast_7 ?_
  refine lv_aload_n hx hb dJ4_pollLast_10 rfl (lv_at hl 0 rfl) ?_
  refine r_alen X (t := 4) rfl hdr (v := (iI ((17 : Nat) : Int))) rfl dJ4_pollLast_11 ?_
  refine r_callS (cells1 := 0) (slots1 := 0) X hR (c_J4_dec G ((hd + n) % 17) (by omega)) q1986 q1987 q95 q1988 pd_J4_dec ⟨Nat.le_of_ble_eq_true rfl, Nat.le_of_ble_eq_true rfl⟩ rfl rfl (Nat.le_of_ble_eq_true rfl) (Nat.le_of_ble_eq_true rfl) rfl (Nat.le_of_ble_eq_true rfl) hl.1 dJ4_pollLast_12 (hB.of hS hAb) trivial hS (fun _ h => h.elim) (fun v H_7 locs hp_4 hz_5 hk_6 hS => ?_)
  obtain ⟨rfl, rfl⟩ := hp_4
  refine r_stk (st2 := [.int (iI (((((hd + n) % 17) + 16) % 17 : Nat) : Int)), .ref (el)]) rfl ?_
  refine r_set (y := .int (iI (((hd + n - 1) % 17 : Nat) : Int))) (congrArg (fun q : Nat => Value.int (iI (q : Int))) (by omega)) ?_
  refine lv_dup hx hb dJ4_pollLast_15 rfl ?_
  refine lv_istore_n (lv' := [(2, .int (iI (((hd + n - 1) % 17 : Nat) : Int))), (1, .ref (el)), (0, .ref (x))]) hx hb dJ4_pollLast_16 rfl hl (by decide) rfl (fun ls hl => ?_)
  refine r_callS (cells1 := 0) (slots1 := 0) X hR (c_J4_elementAt G el f ((hd + n - 1) % 17) (q (n - 1)) (by omega) hd0) q1289 q1290 q95 q1291 pd_J4_elementAt ⟨Nat.le_of_ble_eq_true rfl, Nat.le_of_ble_eq_true rfl⟩ rfl rfl (Nat.le_of_ble_eq_true rfl) (Nat.le_of_ble_eq_true rfl) rfl (Nat.le_of_ble_eq_true rfl) hl.1 dJ4_pollLast_17 (hB.of hS hAb) hdr hS (fun _ h => h.elim) (fun v H_11 locs hp_8 hz_9 hk_10 hS => ?_)
  obtain ⟨rfl, rfl⟩ := hp_8
  refine r_stk (st2 := [.ref ((q (n - 1)))]) rfl ?_
  refine lv_astore_n (lv' := [(3, .ref ((q (n - 1)))), (2, .int (iI (((hd + n - 1) % 17 : Nat) : Int))), (1, .ref (el)), (0, .ref (x))]) hx hb dJ4_pollLast_20 rfl hl (by decide) rfl (fun ls hl => ?_)
  refine lv_aload_n hx hb dJ4_pollLast_21 rfl (lv_at hl 0 rfl) ?_
  refine lv_ifnull hx hb dJ4_pollLast_22 ?_
  refine lv_aload_n hx hb dJ4_pollLast_25 rfl (lv_at hl 2 rfl) ?_
  refine lv_aload_n hx hb dJ4_pollLast_26 rfl (lv_at hl 3 rfl) ?_
  refine lv_iload_n hx hb dJ4_pollLast_27 rfl (lv_at hl 1 rfl) ?_
  refine lv_dup_x1 hx hb dJ4_pollLast_28 rfl rfl ?_
  refine r_put X hdo hS (Or.inl ⟨by omega, Or.inl rfl⟩) rfl in_J4 tyJ4_ok nmJ4 2 (by decide) q201 (Or.inl rfl) rfl rfl rfl (show 2 < 3 by decide) dJ4_pollLast_29 (fun H_15 locs hE_12 hz_13 hq_14 hS => ?_)
  have hz_16 := hS.1
  refine lv_null hx hb dJ4_pollLast_32 ?_
  have hE_18 := fp_At.kept hdr (hq_14 _ (by omega))
  refine r_aastN X rfl hE_18 hS (Or.inl ⟨by omega, Or.inr (rfl)⟩) (i0 := (hd + n - 1) % 17) rfl (by omega) (by decide) dJ4_pollLast_33 (fun H_22 locs hE_19 hz_20 hq_21 hS => ?_)
  have hz_23 := hS.1
  refine lv_aload_n hx hb dJ4_pollLast_34 rfl (lv_at hl 0 rfl) ?_
  refine r_aret hx hb hr hlk hQ hS (Nat.le_of_ble_eq_true rfl) (Nat.le_of_ble_eq_true rfl) dJ4_pollLast_35 (Or.inl ⟨_, rfl⟩) (Or.inr ⟨_, rfl⟩) ?_
  have hE_25 := fp_At.kept hE_12 (hq_21 _ (by omega))
  have ho_26 : fp_At G H_22 x (eO 10 [.ref (el), .int (iI ((hd : Nat) : Int)), .int (iI (((hd + (n - 1)) % 17 : Nat) : Int))]) := by have h9 := hE_25; rw [show ((hd + n - 1) % 17 : Nat) = (hd + (n - 1)) % 17 by omega] at h9; exact h9
  exact ⟨rfl, (⟨ho_26, ⟨_, hE_19, fp_dql hdf (by omega) hn⟩, ⟨hE_19.lt, by omega, by omega⟩, hdx, hde⟩)⟩
set_option maxHeartbeats 4000000 in
theorem c_J4_removeLast (G : fp_G) (x : Nat) (el : Nat) (hd : Nat) (n : Nat) (q : Nat → Nat) (hn : 0 < n) : fp_M G yJ4_removeLast cJ4_removeLast 2 (some (.object "java/lang/Object")) 3 56 0 0 [.ref (x)] (fun H => fp_DQ G x el hd n q H) (fun q => (g_s G).heap.size ≤ q ∧ (q = x ∨ q = el)) (fun H v H1 => v = some (.ref (q (n - 1))) ∧ fp_DQ G x el hd (n - 1) q H1) := by
  refine fp_M.intro (by decide) (Nat.le_of_ble_eq_true rfl) ?_
  intro pg en s mi ag bl mt cd rR qQ ls X hx hb hr hlk hnm hR hQ hB hM hl
  have hS : va_S (fA (fun q => (g_s G).heap.size ≤ q ∧ (q = x ∨ q = el)) s.heap.size) s.heap s.heap [] := va_S.rf
  generalize ([] : List Loc) = locs at hS ⊢
  have hb0 := hB.1
  have hAb : ∀ q, (fun q => (g_s G).heap.size ≤ q ∧ (q = x ∨ q = el)) q → (g_s G).heap.size ≤ q := fun q h => h.1
  have h_dq := hM
  have hsz0 := hS.1
  have lt_1 := h_dq.1.lt
  have lt_2 := h_dq.2.2.1.1
  refine lv_aload_n hx hb dJ4_removeLast_0 rfl (lv_at hl 0 rfl) ?_
  refine r_callV (cells1 := 0) (slots1 := 0) X hR (c_J4_pollLast G x el hd n q hn) q1982 q1983 q1984 q95 q1985 ⟨rfl, pd_J4_pollLast⟩ ⟨Nat.le_of_ble_eq_true rfl, Nat.le_of_ble_eq_true rfl⟩ rfl rfl (Nat.le_of_ble_eq_true rfl) (Nat.le_of_ble_eq_true rfl) h_dq.1 rfl rfl (Nat.le_of_ble_eq_true rfl) hl.1 dJ4_removeLast_1 (hB.of hS hAb) h_dq hS (fun q h => by have h2 : (g_s G).heap.size ≤ q ∧ (q = x ∨ q = el) := h; show ((g_s G).heap.size ≤ q ∧ (q = x ∨ q = el)) ∨ s.heap.size ≤ q; omega) (fun v H_6 locs hp_3 hz_4 hk_5 hS => ?_)
  obtain ⟨rfl, hE_7⟩ := hp_3
  have hz_8 := hS.1
  have lt_9 := hE_7.1.lt
  have lt_10 := hE_7.2.2.1.1
  refine r_stk (st2 := [.ref (q (n - 1))]) rfl ?_
  refine lv_astore_n (lv' := [(1, .ref (q (n - 1))), (0, .ref (x))]) hx hb dJ4_removeLast_4 rfl hl (by decide) rfl (fun ls hl => ?_)
  refine lv_aload_n hx hb dJ4_removeLast_5 rfl (lv_at hl 0 rfl) ?_
  refine lv_ifnonnull hx hb dJ4_removeLast_6 (tgt := 17) (by decide) ?_
  refine lv_aload_n hx hb dJ4_removeLast_17 rfl (lv_at hl 0 rfl) ?_
  refine r_aret hx hb hr hlk hQ hS (Nat.le_of_ble_eq_true rfl) (Nat.le_of_ble_eq_true rfl) dJ4_removeLast_18 (Or.inl ⟨_, rfl⟩) (Or.inr ⟨_, rfl⟩) ?_
  exact ⟨rfl, hE_7⟩
set_option maxHeartbeats 4000000 in
theorem c_J4_init (G : fp_G) (x : Nat) (hxb : (g_s G).heap.size ≤ x) : fp_M G yJ4_init cJ4_init 1 none 3 50 1 17 [.ref (x)] (fun H => fp_At G H x (eO 10 [.null, .int (iI ((0 : Nat) : Int)), .int (iI ((0 : Nat) : Int))])) (fun q => (g_s G).heap.size ≤ q ∧ (q = x)) (fun H v H1 => ∃ (el : Nat), v = none ∧ (H.size ≤ el) ∧ fp_DQ G x el 0 0 (fun _ => 0) H1) := by
  refine fp_M.intro (by decide) (Nat.le_of_ble_eq_true rfl) ?_
  intro pg en s mi ag bl mt cd rR qQ ls X hx hb hr hlk hnm hR hQ hB hM hl
  have hS : va_S (fA (fun q => (g_s G).heap.size ≤ q ∧ (q = x)) s.heap.size) s.heap s.heap [] := va_S.rf
  generalize ([] : List Loc) = locs at hS ⊢
  have hb0 := hB.1
  have hAb : ∀ q, (fun q => (g_s G).heap.size ≤ q ∧ (q = x)) q → (g_s G).heap.size ≤ q := fun q h => h.1
  have h_o := hM
  have hsz0 := hS.1
  have lt_1 := h_o.lt
  refine lv_aload_n hx hb dJ4_init_0 rfl (lv_at hl 0 rfl) ?_
  refine r_callI (cells1 := 0) (slots1 := 0) X hR (c_J0_init G x) q196 q149 q90 q150 rfl ⟨by decide, by decide, rfl⟩ ⟨Nat.le_of_ble_eq_true rfl, Nat.le_of_ble_eq_true rfl⟩ rfl rfl (Nat.le_of_ble_eq_true rfl) (Nat.le_of_ble_eq_true rfl) rfl (Nat.le_of_ble_eq_true rfl) hl.1 dJ4_init_1 (hB.of hS hAb) trivial hS (fun _ h => h.elim) (fun v H_5 locs hp_2 hz_3 hk_4 hS => ?_)
  obtain ⟨rfl, rfl⟩ := hp_2
  refine r_stk (st2 := []) rfl ?_
  refine lv_aload_n hx hb dJ4_init_4 rfl (lv_at hl 0 rfl) ?_
  refine lv_bipush (v := (iI ((17 : Nat) : Int))) hx hb dJ4_init_5 rfl ?_
  refine r_anew (t := 4) (n := 17) X hR hS q197 q198 rfl rfl (by decide) (Nat.le_of_ble_eq_true rfl) (Nat.le_of_ble_eq_true rfl) dJ4_init_7 (fun el H_6 hq_10 hE_7 hX_8 hz_9 hS => ?_)
  have hz_11 := hS.1
  have lt_12 := hE_7.lt
  have hE_14 := fp_At.kept h_o (hX_8.2 _ (by omega))
  refine r_put X hE_14 hS (Or.inl ⟨by omega, rfl⟩) rfl in_J4 tyJ4_ok nmJ4 0 (by decide) q199 (Or.inl rfl) rfl rfl rfl (show 0 < 3 by decide) dJ4_init_10 (fun H_18 locs hE_15 hz_16 hq_17 hS => ?_)
  have hz_19 := hS.1
  refine r_vret hx hb hr hlk hQ hS (Nat.le_of_ble_eq_true rfl) (Nat.le_of_ble_eq_true rfl) dJ4_init_13 ?_
  have hE_21 := fp_At.kept hE_7 (hq_17 _ (by omega))
  exact ⟨el, rfl, (by omega), (⟨hE_15, ⟨_, hE_21, fun i hi => absurd hi (Nat.not_lt_zero i)⟩, ⟨hE_21.lt, by omega, by omega⟩, hxb, by omega⟩)⟩
set_option maxHeartbeats 4000000 in
theorem c_J4_circularClear (G : fp_G) (el : Nat) (f : Nat → Option Nat) (hd : Nat) (t : Nat) (hh : hd < 17) (ht : t < 17) (hel : (g_s G).heap.size ≤ el) : fp_M G yJ4_circularClear cJ4_circularClear 4 none 1 12 0 0 [.ref (el), .int (iI ((hd : Nat) : Int)), .int (iI ((t : Nat) : Int))] (fun H => fp_At G H el (eQ G 4 17 f)) (fun q => (g_s G).heap.size ≤ q ∧ (q = el)) (fun H v H1 => ∃ (f2 : Nat → Option Nat), v = none ∧ fp_At G H1 el (eQ G 4 17 f2)) := by
  refine fp_M.intro (by decide) (Nat.le_of_ble_eq_true rfl) ?_
  intro pg en s mi ag bl mt cd rR qQ ls X hx hb hr hlk hnm hR hQ hB hM hl
  have hS : va_S (fA (fun q => (g_s G).heap.size ≤ q ∧ (q = el)) s.heap.size) s.heap s.heap [] := va_S.rf
  generalize ([] : List Loc) = locs at hS ⊢
  have hb0 := hB.1
  have hAb : ∀ q, (fun q => (g_s G).heap.size ≤ q ∧ (q = el)) q → (g_s G).heap.size ≤ q := fun q h => h.1
  have h_row := hM
  have hsz0 := hS.1
  have lt_1 := h_row.lt
  refine lv_iload_n hx hb dJ4_circularClear_0 rfl (lv_at hl 1 rfl) ?_
  refine lv_iload_n hx hb dJ4_circularClear_1 rfl (lv_at hl 2 rfl) ?_
  refine r_icmp_gt (tgt := 9) hx hb ⟨by omega, by omega⟩ ⟨by omega, by omega⟩ dJ4_circularClear_2 (by decide) (fun c2 => ?_) (fun c2 => ?_)
  · skip
    refine lv_aload_n hx hb dJ4_circularClear_9 rfl (lv_at hl 0 rfl) ?_
    refine r_alen X (t := 4) rfl h_row (v := (iI ((17 : Nat) : Int))) rfl dJ4_circularClear_10 ?_
    refine lv_istore_n (lv' := [(3, .int (iI ((17 : Nat) : Int))), (0, .ref (el)), (1, .int (iI ((hd : Nat) : Int))), (2, .int (iI ((t : Nat) : Int)))]) hx hb dJ4_circularClear_11 rfl hl (by decide) rfl (fun ls hl => ?_)
    have L12 : ∀ (k : Nat), k ≤ 17 - hd → ∀ (g : Nat → Option Nat) (H_2 : Heap) (locs : List Loc) (ls : Array Slot), lv_has ls 4 [(0, .ref (el)), (1, .int (iI ((hd + k : Nat) : Int))), (2, .int (iI ((t : Nat) : Int))), (3, .int (iI ((17 : Nat) : Int)))] → va_S (fA (fun q => (g_s G).heap.size ≤ q ∧ (q = el)) s.heap.size) s.heap H_2 locs → (s.heap.size ≤ H_2.size) → fp_At G H_2 el (eQ G 4 17 g) → W pg (g_l G) en rR s mi ag bl mt cd H_2 locs 0 0 qQ (F0 mi 12 ls []) := by
      refine lp_up (17 - hd) ?_
      intro k hk12 ih12 g H_2 locs ls hl hS hz_3 hE_4
      have hz_5 := hS.1
      have lt_6 := hE_4.lt
      refine lv_iload_n hx hb dJ4_circularClear_12 rfl (lv_at hl 1 rfl) ?_
      refine lv_iload_n hx hb dJ4_circularClear_13 rfl (lv_at hl 3 rfl) ?_
      refine r_icmp_ge (tgt := 27) hx hb ⟨by omega, by omega⟩ (by decide) dJ4_circularClear_14 (by decide) (fun c14 => ?_) (fun c14 => ?_)
      · skip
        refine lv_iload_n hx hb dJ4_circularClear_27 rfl (lv_at hl 3 rfl) ?_
        refine lv_iload_n hx hb dJ4_circularClear_28 rfl (lv_at hl 2 rfl) ?_
        refine r_icmp_ne (tgt := 35) hx hb (by decide) ⟨by omega, by omega⟩ dJ4_circularClear_29 (by decide) (fun c29 => ?_) (fun c29 => ?_)
        · skip
          refine lv_iconst (v := (iI ((0 : Nat) : Int))) hx hb dJ4_circularClear_35 rfl ?_
          refine lv_istore_n (lv' := [(1, .int (iI ((0 : Nat) : Int))), (0, .ref (el)), (2, .int (iI ((t : Nat) : Int))), (3, .int (iI ((17 : Nat) : Int)))]) hx hb dJ4_circularClear_36 rfl hl (by decide) rfl (fun ls hl => ?_)
          refine lv_iload_n hx hb dJ4_circularClear_37 rfl (lv_at hl 2 rfl) ?_
          refine lv_istore_n (lv' := [(3, .int (iI ((t : Nat) : Int))), (1, .int (iI ((0 : Nat) : Int))), (0, .ref (el)), (2, .int (iI ((t : Nat) : Int)))]) hx hb dJ4_circularClear_38 rfl hl (by decide) rfl (fun ls hl => ?_)
          refine lv_goto (tgt := 12) hx hb dJ4_circularClear_39 (by decide) ?_
          have L12 : ∀ (k2 : Nat), k2 ≤ t → ∀ (g2 : Nat → Option Nat) (H_7 : Heap) (locs : List Loc) (ls : Array Slot), lv_has ls 4 [(0, .ref (el)), (1, .int (iI ((k2 : Nat) : Int))), (2, .int (iI ((t : Nat) : Int))), (3, .int (iI ((t : Nat) : Int)))] → va_S (fA (fun q => (g_s G).heap.size ≤ q ∧ (q = el)) s.heap.size) s.heap H_7 locs → (H_2.size ≤ H_7.size) → fp_At G H_7 el (eQ G 4 17 g2) → W pg (g_l G) en rR s mi ag bl mt cd H_7 locs 0 0 qQ (F0 mi 12 ls []) := by
            refine lp_up t ?_
            intro k2 hk12 ih12 g2 H_7 locs ls hl hS hz_8 hE_9
            have hz_10 := hS.1
            have lt_11 := hE_9.lt
            refine lv_iload_n hx hb dJ4_circularClear_12 rfl (lv_at hl 1 rfl) ?_
            refine lv_iload_n hx hb dJ4_circularClear_13 rfl (lv_at hl 3 rfl) ?_
            refine r_icmp_ge (tgt := 27) hx hb ⟨by omega, by omega⟩ ⟨by omega, by omega⟩ dJ4_circularClear_14 (by decide) (fun c14 => ?_) (fun c14 => ?_)
            · skip
              refine lv_iload_n hx hb dJ4_circularClear_27 rfl (lv_at hl 3 rfl) ?_
              refine lv_iload_n hx hb dJ4_circularClear_28 rfl (lv_at hl 2 rfl) ?_
              refine r_icmp_ne (tgt := 35) hx hb ⟨by omega, by omega⟩ ⟨by omega, by omega⟩ dJ4_circularClear_29 (by decide) (fun c29 => ?_) (fun c29 => ?_)
              · skip
                exact absurd c29 (by omega)
              · skip
                refine lv_goto (tgt := 42) hx hb dJ4_circularClear_32 (by decide) ?_
                refine r_vret hx hb hr hlk hQ hS (Nat.le_of_ble_eq_true rfl) (Nat.le_of_ble_eq_true rfl) dJ4_circularClear_42 ?_
                exact ⟨g2, rfl, hE_9⟩
            · skip
              refine lv_aload_n hx hb dJ4_circularClear_17 rfl (lv_at hl 0 rfl) ?_
              refine lv_iload_n hx hb dJ4_circularClear_18 rfl (lv_at hl 1 rfl) ?_
              refine lv_null hx hb dJ4_circularClear_19 ?_
              refine r_aastN X rfl hE_9 hS (Or.inl ⟨by omega, rfl⟩) (i0 := k2) rfl (by omega) (by decide) dJ4_circularClear_20 (fun H_15 locs hE_12 hz_13 hq_14 hS => ?_)
              have hz_16 := hS.1
              refine lv_iinc (v := (iI ((k2 + 1 : Nat) : Int))) (lv' := [(1, .int (iI ((k2 + 1 : Nat) : Int))), (0, .ref (el)), (2, .int (iI ((t : Nat) : Int))), (3, .int (iI ((t : Nat) : Int)))]) hx hb dJ4_circularClear_21 hl (k := 1) rfl (iI_incN _ _) (by decide) rfl (fun ls hl => ?_)
              refine lv_goto (tgt := 12) hx hb dJ4_circularClear_24 (by decide) ?_
              exact ih12 (by omega) (va_up g2 k2 none) H_15 locs ls (by rw [show Value.int (iI (((k2 + 1) : Nat) : Int)) = Value.int (iI ((k2 + 1 : Nat) : Int)) from congrArg (fun q : Nat => Value.int (iI (q : Int))) (by omega)]; exact lv_sub hl [1, 0, 2, 3] rfl) hS (by omega) hE_12
          exact L12 0 (by omega) g H_2 locs ls (lv_sub hl [2, 1, 3, 0] rfl) hS (Nat.le_refl _) hE_4
        · skip
          exact absurd c29 (by omega)
      · skip
        refine lv_aload_n hx hb dJ4_circularClear_17 rfl (lv_at hl 0 rfl) ?_
        refine lv_iload_n hx hb dJ4_circularClear_18 rfl (lv_at hl 1 rfl) ?_
        refine lv_null hx hb dJ4_circularClear_19 ?_
        refine r_aastN X rfl hE_4 hS (Or.inl ⟨by omega, rfl⟩) (i0 := hd + k) rfl (by omega) (by decide) dJ4_circularClear_20 (fun H_20 locs hE_17 hz_18 hq_19 hS => ?_)
        have hz_21 := hS.1
        refine lv_iinc (v := (iI (((hd + k) + 1 : Nat) : Int))) (lv' := [(1, .int (iI (((hd + k) + 1 : Nat) : Int))), (0, .ref (el)), (2, .int (iI ((t : Nat) : Int))), (3, .int (iI ((17 : Nat) : Int)))]) hx hb dJ4_circularClear_21 hl (k := 1) rfl (iI_incN _ _) (by decide) rfl (fun ls hl => ?_)
        refine lv_goto (tgt := 12) hx hb dJ4_circularClear_24 (by decide) ?_
        exact ih12 (by omega) (va_up g (hd + k) none) H_20 locs ls (by rw [show Value.int (iI ((hd + (k + 1) : Nat) : Int)) = Value.int (iI (((hd + k) + 1 : Nat) : Int)) from congrArg (fun q : Nat => Value.int (iI (q : Int))) (by omega)]; exact lv_sub hl [1, 0, 2, 3] rfl) hS (by omega) hE_17
    exact L12 0 (by omega) f s.heap locs ls (by rw [show Value.int (iI ((hd + 0 : Nat) : Int)) = Value.int (iI ((hd : Nat) : Int)) from congrArg (fun q : Nat => Value.int (iI (q : Int))) (by omega)]; exact lv_sub hl [1, 2, 3, 0] rfl) hS (Nat.le_refl _) h_row
  · skip
    refine lv_iload_n hx hb dJ4_circularClear_5 rfl (lv_at hl 2 rfl) ?_
    refine lv_goto (tgt := 11) hx hb dJ4_circularClear_6 (by decide) ?_
    refine lv_istore_n (lv' := [(3, .int (iI ((t : Nat) : Int))), (0, .ref (el)), (1, .int (iI ((hd : Nat) : Int))), (2, .int (iI ((t : Nat) : Int)))]) hx hb dJ4_circularClear_11 rfl hl (by decide) rfl (fun ls hl => ?_)
    have L12 : ∀ (k : Nat), k ≤ t - hd → ∀ (g : Nat → Option Nat) (H_22 : Heap) (locs : List Loc) (ls : Array Slot), lv_has ls 4 [(0, .ref (el)), (1, .int (iI ((hd + k : Nat) : Int))), (2, .int (iI ((t : Nat) : Int))), (3, .int (iI ((t : Nat) : Int)))] → va_S (fA (fun q => (g_s G).heap.size ≤ q ∧ (q = el)) s.heap.size) s.heap H_22 locs → (s.heap.size ≤ H_22.size) → fp_At G H_22 el (eQ G 4 17 g) → W pg (g_l G) en rR s mi ag bl mt cd H_22 locs 0 0 qQ (F0 mi 12 ls []) := by
      refine lp_up (t - hd) ?_
      intro k hk12 ih12 g H_22 locs ls hl hS hz_23 hE_24
      have hz_25 := hS.1
      have lt_26 := hE_24.lt
      refine lv_iload_n hx hb dJ4_circularClear_12 rfl (lv_at hl 1 rfl) ?_
      refine lv_iload_n hx hb dJ4_circularClear_13 rfl (lv_at hl 3 rfl) ?_
      refine r_icmp_ge (tgt := 27) hx hb ⟨by omega, by omega⟩ ⟨by omega, by omega⟩ dJ4_circularClear_14 (by decide) (fun c14 => ?_) (fun c14 => ?_)
      · skip
        refine lv_iload_n hx hb dJ4_circularClear_27 rfl (lv_at hl 3 rfl) ?_
        refine lv_iload_n hx hb dJ4_circularClear_28 rfl (lv_at hl 2 rfl) ?_
        refine r_icmp_ne (tgt := 35) hx hb ⟨by omega, by omega⟩ ⟨by omega, by omega⟩ dJ4_circularClear_29 (by decide) (fun c29 => ?_) (fun c29 => ?_)
        · skip
          exact absurd c29 (by omega)
        · skip
          refine lv_goto (tgt := 42) hx hb dJ4_circularClear_32 (by decide) ?_
          refine r_vret hx hb hr hlk hQ hS (Nat.le_of_ble_eq_true rfl) (Nat.le_of_ble_eq_true rfl) dJ4_circularClear_42 ?_
          exact ⟨g, rfl, hE_24⟩
      · skip
        refine lv_aload_n hx hb dJ4_circularClear_17 rfl (lv_at hl 0 rfl) ?_
        refine lv_iload_n hx hb dJ4_circularClear_18 rfl (lv_at hl 1 rfl) ?_
        refine lv_null hx hb dJ4_circularClear_19 ?_
        refine r_aastN X rfl hE_24 hS (Or.inl ⟨by omega, rfl⟩) (i0 := hd + k) rfl (by omega) (by decide) dJ4_circularClear_20 (fun H_30 locs hE_27 hz_28 hq_29 hS => ?_)
        have hz_31 := hS.1
        refine lv_iinc (v := (iI (((hd + k) + 1 : Nat) : Int))) (lv' := [(1, .int (iI (((hd + k) + 1 : Nat) : Int))), (0, .ref (el)), (2, .int (iI ((t : Nat) : Int))), (3, .int (iI ((t : Nat) : Int)))]) hx hb dJ4_circularClear_21 hl (k := 1) rfl (iI_incN _ _) (by decide) rfl (fun ls hl => ?_)
        refine lv_goto (tgt := 12) hx hb dJ4_circularClear_24 (by decide) ?_
        exact ih12 (by omega) (va_up g (hd + k) none) H_30 locs ls (by rw [show Value.int (iI ((hd + (k + 1) : Nat) : Int)) = Value.int (iI (((hd + k) + 1 : Nat) : Int)) from congrArg (fun q : Nat => Value.int (iI (q : Int))) (by omega)]; exact lv_sub hl [1, 0, 2, 3] rfl) hS (by omega) hE_27
    exact L12 0 (by omega) f s.heap locs ls (by rw [show Value.int (iI ((hd + 0 : Nat) : Int)) = Value.int (iI ((hd : Nat) : Int)) from congrArg (fun q : Nat => Value.int (iI (q : Int))) (by omega)]; exact lv_sub hl [1, 2, 3, 0] rfl) hS (Nat.le_refl _) h_row
set_option maxHeartbeats 4000000 in
theorem c_J4_clear (G : fp_G) (x : Nat) (el : Nat) (hd : Nat) (n : Nat) (q : Nat → Nat) : fp_M G yJ4_clear cJ4_clear 1 none 2 35 0 0 [.ref (x)] (fun H => fp_DQ G x el hd n q H) (fun q => (g_s G).heap.size ≤ q ∧ (q = x ∨ q = el)) (fun H v H1 => v = none ∧ fp_DQ G x el 0 0 q H1) := by
  refine fp_M.intro (by decide) (Nat.le_of_ble_eq_true rfl) ?_
  intro pg en s mi ag bl mt cd rR qQ ls X hx hb hr hlk hnm hR hQ hB hM hl
  have hS : va_S (fA (fun q => (g_s G).heap.size ≤ q ∧ (q = x ∨ q = el)) s.heap.size) s.heap s.heap [] := va_S.rf
  generalize ([] : List Loc) = locs at hS ⊢
  have hb0 := hB.1
  have hAb : ∀ q, (fun q => (g_s G).heap.size ≤ q ∧ (q = x ∨ q = el)) q → (g_s G).heap.size ≤ q := fun q h => h.1
  have h_dq := hM
  have hsz0 := hS.1
  have lt_1 := h_dq.1.lt
  have lt_2 := h_dq.2.2.1.1
  have hxe := h_dq.ne X.2.2.2.2.2
  obtain ⟨hdo, ⟨f, hdr, hdf⟩, hdb, hdx, hde⟩ := id h_dq
  have lt_3 := hdr.lt
  refine lv_aload_n hx hb dJ4_clear_0 rfl (lv_at hl 0 rfl) ?_
  refine r_get X hdo rfl in_J4 0 (by decide) q199 (Or.inl rfl) (v := .ref (el)) rfl dJ4_clear_1 ?_
  refine lv_aload_n hx hb dJ4_clear_4 rfl (lv_at hl 0 rfl) ?_
  refine r_get X hdo rfl in_J4 1 (by decide) q200 (Or.inl rfl) (v := .int (iI ((hd : Nat) : Int))) rfl dJ4_clear_5 ?_
  refine lv_aload_n hx hb dJ4_clear_8 rfl (lv_at hl 0 rfl) ?_
  refine r_get X hdo rfl in_J4 2 (by decide) q201 (Or.inl rfl) (v := .int (iI (((hd + n) % 17 : Nat) : Int))) rfl dJ4_clear_9 ?_
  refine r_callS (cells1 := 0) (slots1 := 0) X hR (c_J4_circularClear G el f hd ((hd + n) % 17) (by omega) (by omega) (by omega)) q2000 q2001 q95 q2002 pd_J4_circularClear ⟨Nat.le_of_ble_eq_true rfl, Nat.le_of_ble_eq_true rfl⟩ rfl rfl (Nat.le_of_ble_eq_true rfl) (Nat.le_of_ble_eq_true rfl) rfl (Nat.le_of_ble_eq_true rfl) hl.1 dJ4_clear_12 (hB.of hS hAb) hdr hS (fun q h => by have h2 : (g_s G).heap.size ≤ q ∧ (q = el) := h; show ((g_s G).heap.size ≤ q ∧ (q = x ∨ q = el)) ∨ s.heap.size ≤ q; omega) (fun v H_7 locs hp_4 hz_5 hk_6 hS => ?_)
  obtain ⟨f2_8, rfl, hE_9⟩ := hp_4
  have hz_10 := hS.1
  have lt_11 := hE_9.lt
  refine r_stk (st2 := []) rfl ?_
  refine lv_aload_n hx hb dJ4_clear_15 rfl (lv_at hl 0 rfl) ?_
  refine lv_aload_n hx hb dJ4_clear_16 rfl (lv_at hl 0 rfl) ?_
  refine lv_iconst (v := (iI ((0 : Nat) : Int))) hx hb dJ4_clear_17 rfl ?_
  refine lv_dup_x1 hx hb dJ4_clear_18 rfl rfl ?_
  have hE_13 := fp_At.kept hdo (hk_6 _ (by omega) (by omega))
  refine r_put X hE_13 hS (Or.inl ⟨by omega, Or.inl rfl⟩) rfl in_J4 tyJ4_ok nmJ4 2 (by decide) q201 (Or.inl rfl) rfl rfl rfl (show 2 < 3 by decide) dJ4_clear_19 (fun H_17 locs hE_14 hz_15 hq_16 hS => ?_)
  have hz_18 := hS.1
  refine r_put X hE_14 hS (Or.inl ⟨by omega, Or.inl rfl⟩) rfl in_J4 tyJ4_ok nmJ4 1 (by decide) q200 (Or.inl rfl) rfl rfl rfl (show 1 < 3 by decide) dJ4_clear_22 (fun H_22 locs hE_19 hz_20 hq_21 hS => ?_)
  have hz_23 := hS.1
  refine r_vret hx hb hr hlk hQ hS (Nat.le_of_ble_eq_true rfl) (Nat.le_of_ble_eq_true rfl) dJ4_clear_25 ?_
  have hE_25 := fp_At.kept hE_9 (hq_16 _ (by omega))
  have hE_26 := fp_At.kept hE_25 (hq_21 _ (by omega))
  exact ⟨rfl, (⟨hE_19, ⟨_, hE_26, fun i hi => absurd hi (Nat.not_lt_zero i)⟩, ⟨hE_26.lt, by omega, by omega⟩, hdx, hde⟩)⟩
