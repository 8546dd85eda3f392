/-! ZONES: what they allow -/
set_option maxRecDepth 100000
set_option maxHeartbeats 4000000 in
theorem c_X11_allows (G : fp_G) (zz : Nat) (a : Nat) : fp_MU G yX11_allows cX11_allows 2 (some .boolean) 1 12 0 0 [.ref (zz), .ref (a)] (fun H => True) fp_no (fun H v H1 => v = some (.int (iI (bI (true)))) ∧ H = H1) := by
  refine fp_MU.intro (by decide) (Nat.le_of_ble_eq_true rfl) ?_
  intro pg en s mi ag bl mt cd rR qQ ls X hx hb hr hlk hnm hR hQ hB hM hl
  have hS : va_S (fA fp_no s.heap.size) s.heap s.heap [] := va_S.rf
  generalize ([] : List Loc) = locs at hS ⊢
  have hb0 := hB.1
  have hsz0 := hS.1
  refine lv_iconst (v := (iI ((1 : Nat) : Int))) hx hb dX11_allows_0 rfl ?_
  refine r_zret hx hb hr hlk hQ hS (Nat.le_of_ble_eq_true rfl) (Nat.le_of_ble_eq_true rfl) dX11_allows_1 rfl ?_
  exact ⟨rfl, rfl⟩
set_option maxHeartbeats 4000000 in
theorem c_X13_allows (G : fp_G) (zz : Nat) (a : Nat) : fp_MU G yX13_allows cX13_allows 2 (some .boolean) 1 12 0 0 [.ref (zz), .ref (a)] (fun H => True) fp_no (fun H v H1 => v = some (.int (iI (bI (false)))) ∧ H = H1) := by
  refine fp_MU.intro (by decide) (Nat.le_of_ble_eq_true rfl) ?_
  intro pg en s mi ag bl mt cd rR qQ ls X hx hb hr hlk hnm hR hQ hB hM hl
  have hS : va_S (fA fp_no s.heap.size) s.heap s.heap [] := va_S.rf
  generalize ([] : List Loc) = locs at hS ⊢
  have hb0 := hB.1
  have hsz0 := hS.1
  refine lv_iconst (v := (iI ((0 : Nat) : Int))) hx hb dX13_allows_0 rfl ?_
  refine r_zret hx hb hr hlk hQ hS (Nat.le_of_ble_eq_true rfl) (Nat.le_of_ble_eq_true rfl) dX13_allows_1 rfl ?_
  exact ⟨rfl, rfl⟩
set_option maxHeartbeats 4000000 in
theorem c_X12_allows (G : fp_G) (zz : Nat) (a : Nat) (B : Nat → Nat) (hB3 : B 1 < 3) : fp_MU G yX12_allows cX12_allows 2 (some .boolean) 1 12 0 0 [.ref (zz), .ref (a)] (fun H => fp_At G H a (fp_bE B)) fp_no (fun H v H1 => v = some (.int (iI (bI (!decide (B 1 = 1))))) ∧ H = H1) := by
  refine fp_MU.intro (by decide) (Nat.le_of_ble_eq_true rfl) ?_
  intro pg en s mi ag bl mt cd rR qQ ls X hx hb hr hlk hnm hR hQ hB hM hl
  have hS : va_S (fA fp_no s.heap.size) s.heap s.heap [] := va_S.rf
  generalize ([] : List Loc) = locs at hS ⊢
  have hb0 := hB.1
  have h_bk := hM
  have hsz0 := hS.1
  have lt_1 := h_bk.lt
  refine lv_aload_n hx hb dX12_allows_0 rfl (lv_at hl 1 rfl) ?_
  refine r_instB (kd := 1) X h_bk hB3 (Or.inr ⟨rfl, rfl⟩) q1221 dX12_allows_1 (by decide +kernel) ?_
  refine r_ifneB (tgt := 11) hx hb dX12_allows_4 (by decide) (fun c4 => ?_) (fun c4 => ?_)
  · skip
    have d4 := of_decide_eq_true c4
    refine lv_iconst (v := (iI ((0 : Nat) : Int))) hx hb dX12_allows_11 rfl ?_
    refine r_zret hx hb hr hlk hQ hS (Nat.le_of_ble_eq_true rfl) (Nat.le_of_ble_eq_true rfl) dX12_allows_12 rfl ?_
    exact ⟨(by rw [decide_eq_true (p := B 1 = 1) d4]; rfl), rfl⟩
  · skip
    have d4 := of_decide_eq_false c4
    refine lv_iconst (v := (iI ((1 : Nat) : Int))) hx hb dX12_allows_7 rfl ?_
    refine lv_goto (tgt := 12) hx hb dX12_allows_8 (by decide) ?_
    refine r_zret hx hb hr hlk hQ hS (Nat.le_of_ble_eq_true rfl) (Nat.le_of_ble_eq_true rfl) dX12_allows_12 rfl ?_
    exact ⟨(by rw [decide_eq_false (p := B 1 = 1) d4]; rfl), rfl⟩
