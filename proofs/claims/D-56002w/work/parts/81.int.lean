/-! INTEGER: digits -/
set_option maxRecDepth 100000
def fp_tp (k : Nat) : Nat := 10 ^ k
theorem fp_tp_s (k : Nat) : fp_tp (k + 1) = 10 * fp_tp k := by
  show 10 ^ (k + 1) = 10 * 10 ^ k
  rw [Nat.pow_succ]
  omega
theorem fp_dgk {v k : Nat} (hk : k ≤ 8) (h1 : v < fp_tp (k + 1)) (h2 : k = 0 ∨ fp_tp k ≤ v) : sb_dg v = k + 1 := by
  unfold fp_tp at h1 h2
  rcases (show k = 0 ∨ k = 1 ∨ k = 2 ∨ k = 3 ∨ k = 4 ∨ k = 5 ∨ k = 6 ∨ k = 7 ∨ k = 8 by omega) with rfl | rfl | rfl | rfl | rfl | rfl | rfl | rfl | rfl <;> (simp at h1 h2; unfold sb_dg; (repeat' split) <;> omega)
theorem fp_p9 {k : Nat} (hk : k ≤ 9) : fp_tp k ≤ 1000000000 := Nat.pow_le_pow_right (n := 10) (by decide) hk
theorem fp_tp9 : fp_tp 9 = 1000000000 := rfl
/-- the last k digits of z stand before p -/
def fp_dp (z p k : Nat) (f g : Nat → Int) : Prop := (∀ i, i < k → g (p - 1 - i) = ((48 + z / 10 ^ i % 10 : Nat) : Int)) ∧ ∀ j, (j < p - k ∨ p ≤ j) → g j = f j
theorem fp_dp.z {z p : Nat} {f : Nat → Int} : fp_dp z p 0 f f := ⟨fun i hi => absurd hi (Nat.not_lt_zero i), fun _ _ => rfl⟩
theorem fp_dp.s {z p k : Nat} {f g : Nat → Int} {v : Int} (h : fp_dp z p k f g) (hk : k < p) (hv : v = ((48 + z / 10 ^ k % 10 : Nat) : Int)) : fp_dp z p (k + 1) f (va_up g (p - 1 - k) v) := by
  refine ⟨fun i hi => ?_, fun j hj => ?_⟩
  · by_cases e : i = k
    · subst e
      rw [va_up_self, hv]
    · rw [va_up_ne _ _ (by omega)]
      exact h.1 i (by omega)
  · rw [va_up_ne _ _ (by omega)]
    exact h.2 j (by omega)
theorem fp_dg100a {z k : Nat} : z / 100 ^ k % 100 % 10 = z / 10 ^ (2 * k) % 10 := by
  rw [show (100 : Nat) = 10 ^ 2 from rfl, ← Nat.pow_mul]
  omega
theorem fp_divn {w : Nat} (h : w < 2147483648) : iI (-((w : Nat) : Int)) / iI ((100 : Nat) : Int) = iI (-((w / 100 : Nat) : Int)) := by
  apply Int32.toInt_inj.mp
  have hw : w / 100 ≤ w := Nat.div_le_self _ _
  rw [Int32.toInt_div, iI_toInt ⟨by omega, by omega⟩, iI_toInt (by decide), iI_toInt ⟨by omega, by omega⟩]
  have h1 : (-((w : Nat) : Int)).tdiv ((100 : Nat) : Int) = -((w / 100 : Nat) : Int) := by
    rw [Int.neg_tdiv]
    rfl
  rw [h1]
  exact Int.bmod_eq_of_le (by omega) (by omega)

set_option maxRecDepth 100000
set_option maxHeartbeats 4000000 in
theorem c_J22_stringSize (G : fp_G) (z : Nat) (hv : z < 1000000000) : fp_M G yJ22_stringSize cJ22_stringSize 4 (some .int) 1 12 0 0 [.int (iI ((z : Nat) : Int))] (fun H => True) fp_no (fun H v H1 => v = some (.int (iI ((sb_dg z : Nat) : Int))) ∧ H = H1) := by
  refine fp_M.intro (by decide) (Nat.le_of_ble_eq_true rfl) ?_
  intro pg en s mi ag bl mt cd rR qQ ls X hx hb hr hlk hnm hR hQ hB hM hl
  have hS : va_S (fA fp_no s.heap.size) s.heap s.heap [] := va_S.rf
  generalize ([] : List Loc) = locs at hS ⊢
  have hb0 := hB.1
  have hsz0 := hS.1
  refine lv_iconst (v := (iI ((1 : Nat) : Int))) hx hb dJ22_stringSize_0 rfl ?_
  refine lv_istore_n (lv' := [(1, .int (iI ((1 : Nat) : Int))), (0, .int (iI ((z : Nat) : Int)))]) hx hb dJ22_stringSize_1 rfl hl (by decide) rfl (fun ls hl => ?_)
  refine lv_iload_n hx hb dJ22_stringSize_2 rfl (lv_at hl 1 rfl) ?_
  refine r_if_lt (tgt := 11) hx hb ⟨by omega, by omega⟩ dJ22_stringSize_3 (by decide) (fun c3 => ?_) (fun c3 => ?_)
  · exact absurd c3 (by omega)
  · skip
    refine lv_iconst (v := (iI ((0 : Nat) : Int))) hx hb dJ22_stringSize_6 rfl ?_
    refine lv_istore_n (lv' := [(1, .int (iI ((0 : Nat) : Int))), (0, .int (iI ((z : Nat) : Int)))]) hx hb dJ22_stringSize_7 rfl hl (by decide) rfl (fun ls hl => ?_)
    refine lv_iload_n hx hb dJ22_stringSize_8 rfl (lv_at hl 1 rfl) ?_
    refine r_ineg hx hb dJ22_stringSize_9 ?_
    refine lv_istore_n (lv' := [(0, .int (iI (-((z : Nat) : Int)))), (1, .int (iI ((0 : Nat) : Int)))]) hx hb dJ22_stringSize_10 rfl hl (by decide) rfl (fun ls hl => ?_)
    refine lv_bipush (v := (iI (-10))) hx hb dJ22_stringSize_11 rfl ?_
    refine lv_istore_n (lv' := [(2, .int (iI (-10))), (0, .int (iI (-((z : Nat) : Int)))), (1, .int (iI ((0 : Nat) : Int)))]) hx hb dJ22_stringSize_13 rfl hl (by decide) rfl (fun ls hl => ?_)
    refine lv_iconst (v := (iI ((1 : Nat) : Int))) hx hb dJ22_stringSize_14 rfl ?_
    refine lv_istore_n (lv' := [(3, .int (iI ((1 : Nat) : Int))), (2, .int (iI (-10))), (0, .int (iI (-((z : Nat) : Int)))), (1, .int (iI ((0 : Nat) : Int)))]) hx hb dJ22_stringSize_15 rfl hl (by decide) rfl (fun ls hl => ?_)
    have L16 : ∀ (k : Nat), k ≤ 9 → ∀ (locs : List Loc) (ls : Array Slot),(k = 0 ∨ fp_tp k ≤ z) → lv_has ls 4 [(0, .int (iI (-((z : Nat) : Int)))), (1, .int (iI ((0 : Nat) : Int))), (2, .int (iI (-((fp_tp (k + 1) : Nat) : Int)))), (3, .int (iI ((k + 1 : Nat) : Int)))] → va_S (fA fp_no s.heap.size) s.heap s.heap locs → W pg (g_l G) en rR s mi ag bl mt cd s.heap locs 0 0 qQ (F0 mi 16 ls []) := by
      refine lp_up 9 ?_
      intro k hk16 ih16 locs ls hge hl hS
      have hp9 : k < 9 → fp_tp (k + 1) ≤ 1000000000 := fun h => fp_p9 (by omega)
      have htp := fp_tp_s (k + 1)
      refine lv_iload_n hx hb dJ22_stringSize_16 rfl (lv_at hl 3 rfl) ?_
      refine lv_bipush (v := (iI ((10 : Nat) : Int))) hx hb dJ22_stringSize_17 rfl ?_
      refine r_icmp_ge (tgt := 42) hx hb ⟨by omega, by omega⟩ (by decide) dJ22_stringSize_19 (by decide) (fun c19 => ?_) (fun c19 => ?_)
      · skip
        exfalso
        rcases hge with h | h
        · omega
        · rw [show k = 9 by omega, fp_tp9] at h; omega
      · skip
        have hp10 := hp9 (by omega)
        refine lv_iload_n hx hb dJ22_stringSize_22 rfl (lv_at hl 0 rfl) ?_
        refine lv_iload_n hx hb dJ22_stringSize_23 rfl (lv_at hl 2 rfl) ?_
        refine r_icmp_le (tgt := 31) hx hb ⟨by omega, by omega⟩ ⟨by omega, by omega⟩ dJ22_stringSize_24 (by decide) (fun c24 => ?_) (fun c24 => ?_)
        · skip
          refine lv_bipush (v := (iI ((10 : Nat) : Int))) hx hb dJ22_stringSize_31 rfl ?_
          refine lv_iload_n hx hb dJ22_stringSize_33 rfl (lv_at hl 2 rfl) ?_
          refine r_imul hx hb dJ22_stringSize_34 ?_
          refine lv_istore_n (lv' := [(2, .int (iI (((10 : Nat) : Int) * (-((fp_tp (k + 1) : Nat) : Int))))), (0, .int (iI (-((z : Nat) : Int)))), (1, .int (iI ((0 : Nat) : Int))), (3, .int (iI ((k + 1 : Nat) : Int)))]) hx hb dJ22_stringSize_35 rfl hl (by decide) rfl (fun ls hl => ?_)
          refine lv_iinc (v := (iI (((k + 1) + 1 : Nat) : Int))) (lv' := [(3, .int (iI (((k + 1) + 1 : Nat) : Int))), (2, .int (iI (((10 : Nat) : Int) * (-((fp_tp (k + 1) : Nat) : Int))))), (0, .int (iI (-((z : Nat) : Int)))), (1, .int (iI ((0 : Nat) : Int)))]) hx hb dJ22_stringSize_36 hl (k := 3) rfl (iI_incN _ _) (by decide) rfl (fun ls hl => ?_)
          refine lv_goto (tgt := 16) hx hb dJ22_stringSize_39 (by decide) ?_
          exact ih16 (by omega) locs ls (Or.inr (by omega)) (by rw [show Value.int (iI (-((fp_tp ((k + 1) + 1) : Nat) : Int))) = Value.int (iI (((10 : Nat) : Int) * (-((fp_tp (k + 1) : Nat) : Int)))) from congrArg (fun q : Int => Value.int (iI q)) (by omega)]; exact lv_sub hl [2, 3, 1, 0] rfl) hS
        · skip
          refine lv_iload_n hx hb dJ22_stringSize_27 rfl (lv_at hl 3 rfl) ?_
          refine lv_iload_n hx hb dJ22_stringSize_28 rfl (lv_at hl 1 rfl) ?_
          refine r_iaddN hx hb dJ22_stringSize_29 ?_
          refine r_iret hx hb hr hlk hQ hS (Nat.le_of_ble_eq_true rfl) (Nat.le_of_ble_eq_true rfl) dJ22_stringSize_30 ?_
          exact ⟨(congrArg (fun q : Int => some (Value.int (iI q))) (show ((((k + 1) + 0 : Nat) : Int) : Int) = ((sb_dg z : Nat) : Int) by rw [fp_dgk (k := k) (by omega) (by omega) hge])), rfl⟩
    exact L16 0 (by omega) locs ls (Or.inl rfl) (by rw [show Value.int (iI (-((fp_tp (0 + 1) : Nat) : Int))) = Value.int (iI (-10)) from rfl, show Value.int (iI ((0 + 1 : Nat) : Int)) = Value.int (iI ((1 : Nat) : Int)) from congrArg (fun q : Nat => Value.int (iI (q : Int))) (rfl)]; exact lv_sub hl [2, 3, 1, 0] rfl) hS
