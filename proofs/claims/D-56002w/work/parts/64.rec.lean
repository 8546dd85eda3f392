/-! THE STATE: levels, marks -/
set_option maxRecDepth 100000
/-- levels that are known, others not yet -/
def fp_lk (S : PS) (f : Nat → Int) : Prop := ∀ j, j < sN S → f j = -2 ∨ f j = ((fp_lv S j : Nat) : Int)
theorem fp_lk.up {S : PS} {f : Nat → Int} {i : Nat} {z : Int} (h : fp_lk S f) (hz : z = ((fp_lv S i : Nat) : Int)) : fp_lk S (va_up f i z) := fun j hj => by
  unfold va_up
  by_cases e : j = i
  · subst e; rw [if_pos rfl]; exact Or.inr hz
  · rw [if_neg e]; exact h j hj
/-- marks: what a walk down from i has done -/
def fp_mk (S : PS) (i k : Nat) (f g : Nat → Bool) : Prop := (∀ j, j < sN S → f j = true → g j = true) ∧ (∀ j, j < sN S → g j = true → f j = true ∨ fp_ab S j i = true) ∧ (∀ o, o < k → o < sN S → fp_supf S i o = true → g o = true) ∧ ∀ j, j < sN S → g j = true → f j = false → ∀ o, o < sN S → fp_supf S j o = true → g o = true
theorem fp_ab_d {S : PS} {j i o : Nat} (ho : o < sN S) (h : fp_supf S i o = true) (h2 : o = j ∨ fp_ab S j o = true) : fp_ab S j i = true := by
  rw [fp_ab_u]
  refine fp_any_t (k := o) ho ?_
  rw [h]
  rcases h2 with h2 | h2
  · rw [decide_eq_true h2]; rfl
  · rw [h2]; simp
theorem fp_mk.z {S : PS} {i : Nat} {f : Nat → Bool} : fp_mk S i 0 f f := ⟨fun _ _ h => h, fun _ _ h => Or.inl h, fun o ho => absurd ho (Nat.not_lt_zero _), fun j _ h1 h2 => by rw [h1] at h2; cases h2⟩
theorem fp_mk.skip {S : PS} {i k : Nat} {f g : Nat → Bool} (h : fp_mk S i k f g) (hk : g k = true ∨ fp_supf S i k = false) : fp_mk S i (k + 1) f g := ⟨h.1, h.2.1, fun o ho hn hs => by
  by_cases e : o = k
  · subst e
    rcases hk with hk | hk
    · exact hk
    · rw [hs] at hk; cases hk
  · exact h.2.2.1 o (by omega) hn hs, h.2.2.2⟩
theorem fp_mk.go {S : PS} {i k : Nat} {f g g2 : Nat → Bool} (h : fp_mk S i k f g) (hk : k < sN S) (hs : fp_supf S i k = true) (h2 : fp_mk S k (sN S) (va_up g k true) g2) : fp_mk S i (k + 1) f g2 := by
  have up : ∀ j, j < sN S → g j = true → g2 j = true := fun j hj hg => h2.1 j hj (by
    unfold va_up
    by_cases e : j = k
    · rw [if_pos e]
    · rw [if_neg e]; exact hg)
  have hk2 : g2 k = true := h2.1 k hk (va_up_self g k true)
  refine ⟨fun j hj hf => up j hj (h.1 j hj hf), fun j hj hg => ?_, fun o ho hn hso => ?_, fun j hj hg hf o ho hso => ?_⟩
  · rcases h2.2.1 j hj hg with h3 | h3
    · by_cases e : j = k
      · exact Or.inr (fp_ab_d hk hs (Or.inl e.symm))
      · rw [va_up_ne _ _ e] at h3
        exact h.2.1 j hj h3
    · exact Or.inr (fp_ab_d hk hs (Or.inr h3))
  · by_cases e : o = k
    · subst e; exact hk2
    · exact up o hn (h.2.2.1 o (by omega) hn hso)
  · by_cases e : j = k
    · subst e
      exact h2.2.2.1 o ho ho hso
    · cases hgj : g j with
      | true => exact up o ho (h.2.2.2 j hj hgj hf o ho hso)
      | false => exact h2.2.2.2 j hj hg (by rw [va_up_ne _ _ e]; exact hgj) o ho hso
theorem fp_mk.all {S : PS} {i : Nat} {g : Nat → Bool} (h : fp_mk S i (sN S) (fun _ => false) g) : ∀ j, j < sN S → g j = fp_ab S j i := by
  have down : ∀ d a, sB S a 5 < d → (∀ o, o < sN S → fp_supf S a o = true → g o = true) → ∀ j, j < sN S → fp_ab S j a = true → g j = true := by
    intro d
    induction d with
    | zero => exact fun a ha => absurd ha (Nat.not_lt_zero _)
    | succ d ih =>
      intro a ha hc j hj hab
      rw [fp_ab_u, fp_any_iff] at hab
      obtain ⟨o, ho, h3⟩ := hab
      rw [Bool.and_eq_true, Bool.or_eq_true, decide_eq_true_eq] at h3
      have hgo := hc o ho h3.1
      rcases h3.2 with h4 | h4
      · subst h4; exact hgo
      · have := fp_sup_bot h3.1
        exact ih o (by omega) (fun o2 ho2 hs2 => h.2.2.2 o ho hgo rfl o2 ho2 hs2) j hj h4
  intro j hj
  rw [Bool.eq_iff_iff]
  constructor
  · intro hg
    rcases h.2.1 j hj hg with h3 | h3
    · cases h3
    · exact h3
  · exact fun hab => down (sB S i 5 + 1) i (Nat.lt_succ_self _) (fun o ho hs => h.2.2.1 o ho ho hs) j hj hab

set_option maxRecDepth 100000
set_option maxHeartbeats 4000000 in
theorem c_X2_recursiveLevel (G : fp_G) (x : Nat) (l : Nat) (ed : Nat) (z : Nat) (t : Nat) (mc : Int32) (cap : Nat) (b : Nat → Nat) (S : PS) (a : Nat) (hsw : fp_sw S b) (hab : (g_s G).heap.size ≤ a) (hap : (a ≠ x ∧ a ≠ l ∧ a ≠ ed ∧ a ≠ z ∧ a ≠ t) ∧ ∀ k, k < sN S → b k ≠ a) : ∀ d : Nat, ∀ (i : Nat) (f : Nat → Int) (hi : i < sN S) (hlvv : fp_lk S f), sB S i 5 < d → fp_M G yX2_recursiveLevel cX2_recursiveLevel 5 (some .int) (6 * d) (141 * d) 0 0 [.ref (x), .int (iI ((i : Nat) : Int)), .ref (a)] (fun H => fp_SE G x l ed z t mc cap b S H ∧ fp_At G H a (eI G (sN S) (fun j => iI (f j)))) (fun q => (g_s G).heap.size ≤ q ∧ (q = a)) (fun H v H1 => ∃ (f2 : Nat → Int), v = some (.int (iI ((fp_lv S i : Nat) : Int))) ∧ (fp_lk S f2) ∧ fp_At G H1 a (eI G (sN S) (fun j => iI (f2 j)))) := by
  intro d
  induction d with
  | zero => intro i f hi hlvv hms; exact absurd hms (Nat.not_lt_zero _)
  | succ d ih =>
  intro i f hi hlvv hms
  refine fp_M.intro (by decide) (Nat.le_of_ble_eq_true rfl) ?_
  intro pg en s mi ag bl mt cd rR qQ ls X hx hb hr hlk hnm hR hQ hB hM hl
  have hS : va_S (fA (fun q => (g_s G).heap.size ≤ q ∧ (q = a)) s.heap.size) s.heap s.heap [] := va_S.rf
  generalize ([] : List Loc) = locs at hS ⊢
  have hb0 := hB.1
  have hAb : ∀ q, (fun q => (g_s G).heap.size ≤ q ∧ (q = a)) q → (g_s G).heap.size ≤ q := fun q h => h.1
  obtain ⟨h_st, h_ar⟩ := hM
  have hsz0 := hS.1
  have lt_1 := h_st.1.lt
  have lt_2 := h_ar.lt
  have hn24 := hsw.1.1
  obtain ⟨h_o, h_l, h_z, h_t, h_bl, h_xb, h_zb, h_tb⟩ := id h_st
  have lt_3 := h_l.1.lt
  have lt_4 := h_l.2.2
  have lt_5 := h_z.lt
  have lt_6 := h_t.lt
  have hlvb := fp_lv_b S i
  have hbi := hsw.1.2.2.1 i hi
  have hfi := hlvv i hi
  refine lv_aload_n hx hb dX2_recursiveLevel_0 rfl (lv_at hl 2 rfl) ?_
  refine lv_iload_n hx hb dX2_recursiveLevel_1 rfl (lv_at hl 1 rfl) ?_
  refine r_ialdI X h_ar (j := i) rfl (by omega) (by omega) dX2_recursiveLevel_2 ?_
  refine lv_bipush (v := (iI (-2))) hx hb dX2_recursiveLevel_3 rfl ?_
  refine r_icmp_ne (tgt := 73) hx hb ⟨by omega, by omega⟩ (by decide) dX2_recursiveLevel_5 (by decide) (fun c5 => ?_) (fun c5 => ?_)
  · skip
    refine lv_aload_n hx hb dX2_recursiveLevel_73 rfl (lv_at hl 2 rfl) ?_
    refine lv_iload_n hx hb dX2_recursiveLevel_74 rfl (lv_at hl 1 rfl) ?_
    refine r_ialdI X h_ar (j := i) rfl (by omega) (by omega) dX2_recursiveLevel_75 ?_
    refine r_set (y := .int (iI ((fp_lv S i : Nat) : Int))) (congrArg (fun q : Int => Value.int (iI q)) (by omega)) ?_
    refine r_iret hx hb hr hlk hQ hS (Nat.le_of_ble_eq_true rfl) (Nat.le_of_ble_eq_true rfl) dX2_recursiveLevel_76 ?_
    exact ⟨_, rfl, hlvv, h_ar⟩
  · skip
    refine lv_iconst (v := (iI ((0 : Nat) : Int))) hx hb dX2_recursiveLevel_8 rfl ?_
    refine lv_istore_n (lv' := [(3, .int (iI ((0 : Nat) : Int))), (0, .ref (x)), (1, .int (iI ((i : Nat) : Int))), (2, .ref (a))]) hx hb dX2_recursiveLevel_9 rfl hl (by decide) rfl (fun ls hl => ?_)
    refine lv_iconst (v := (iI ((0 : Nat) : Int))) hx hb dX2_recursiveLevel_10 rfl ?_
    refine lv_istore (lv' := [(4, .int (iI ((0 : Nat) : Int))), (3, .int (iI ((0 : Nat) : Int))), (0, .ref (x)), (1, .int (iI ((i : Nat) : Int))), (2, .ref (a))]) hx hb dX2_recursiveLevel_11 hl (by decide) rfl (fun ls hl => ?_)
    have L13 : ∀ (k : Nat), k ≤ sN S → ∀ (g : Nat → Int) (H_7 : Heap) (locs : List Loc) (ls : Array Slot), lv_has ls 5 [(0, .ref (x)), (1, .int (iI ((i : Nat) : Int))), (2, .ref (a)), (3, .int (iI ((fp_lvp S i k : Nat) : Int))), (4, .int (iI ((k : Nat) : Int)))] → va_S (fA (fun q => (g_s G).heap.size ≤ q ∧ (q = a)) s.heap.size) s.heap H_7 locs → (fp_lk S g) → (s.heap.size ≤ H_7.size) → fp_At G H_7 a (eI G (sN S) (fun j => iI (g j))) → W pg (g_l G) en rR s mi ag bl mt cd H_7 locs 0 0 qQ (F0 mi 13 ls []) := by
      refine lp_up (sN S) ?_
      intro k hk13 ih13 g H_7 locs ls hl hS hlg hz_8 hE_9
      have hz_10 := hS.1
      have lt_11 := hE_9.lt
      have hpb := fp_lvp_b (S := S) (k := i) k
      refine lv_iload hx hb dX2_recursiveLevel_13 (lv_at hl 4 rfl) ?_
      refine lv_aload_n hx hb dX2_recursiveLevel_15 rfl (lv_at hl 2 rfl) ?_
      refine r_alen X (t := 0) rfl hE_9 (v := (iI ((sN S : Nat) : Int))) rfl dX2_recursiveLevel_16 ?_
      refine r_icmp_ge (tgt := 69) hx hb ⟨by omega, by omega⟩ ⟨by omega, by omega⟩ dX2_recursiveLevel_17 (by decide) (fun c17 => ?_) (fun c17 => ?_)
      · skip
        obtain rfl : k = sN S := by omega
        refine lv_aload_n hx hb dX2_recursiveLevel_69 rfl (lv_at hl 2 rfl) ?_
        refine lv_iload_n hx hb dX2_recursiveLevel_70 rfl (lv_at hl 1 rfl) ?_
        refine lv_iload_n hx hb dX2_recursiveLevel_71 rfl (lv_at hl 3 rfl) ?_
        refine r_iastI X hE_9 hS (Or.inl ⟨by omega, rfl⟩) (j := i) rfl (by omega) (by omega) dX2_recursiveLevel_72 (fun H_15 locs hE_12 hz_13 hq_14 hS => ?_)
        have hz_16 := hS.1
        have hE_17 : fp_At G H_15 a (eI G (sN S) (fun j => iI ((va_up g i ((fp_lvp S i (sN S) : Nat) : Int)) j))) := hE_12.updI
        refine lv_aload_n hx hb dX2_recursiveLevel_73 rfl (lv_at hl 2 rfl) ?_
        refine lv_iload_n hx hb dX2_recursiveLevel_74 rfl (lv_at hl 1 rfl) ?_
        refine r_ialdI X hE_17 (j := i) rfl (by omega) (by omega) dX2_recursiveLevel_75 ?_
        refine r_set (y := .int (iI ((fp_lv S i : Nat) : Int))) (congrArg (fun q : Int => Value.int (iI q)) ((va_up_self _ _ _).trans (congrArg (fun q : Nat => (q : Int)) (fp_lv_u S i).symm))) ?_
        refine r_iret hx hb hr hlk hQ hS (Nat.le_of_ble_eq_true rfl) (Nat.le_of_ble_eq_true rfl) dX2_recursiveLevel_76 ?_
        exact ⟨_, rfl, (hlg.up (congrArg (fun q : Nat => (q : Int)) (fp_lv_u S i).symm)), hE_17⟩
      · skip
        refine lv_aload_n hx hb dX2_recursiveLevel_20 rfl (lv_at hl 0 rfl) ?_
        have hE_18 := fp_SE.mv h_st (fp_keptS (by omega) hS (by omega)) (fp_keptS (by omega) hS (by omega)) (fp_keptS (by omega) hS (by omega)) (fp_keptS (by omega) hS (by omega)) (fp_keptS (by omega) hS (by omega)) (fun k hk => fp_keptS (h_st.2.2.2.2.1 k hk).lt hS (by have := hap.2 k hk; omega))
        refine r_get X hE_18.1 rfl in_X2 0 (by decide) q173 (Or.inl rfl) (v := .ref (l)) rfl dX2_recursiveLevel_21 ?_
        refine lv_iload hx hb dX2_recursiveLevel_24 (lv_at hl 4 rfl) ?_
        have hE_19 := fp_LE.mv h_l (fp_keptS (by omega) hS (by omega)) (fp_keptS (by omega) hS (by omega))
        refine r_callV (cells1 := 0) (slots1 := 0) X hR (c_J2_get G l ed mc (sN S) cap b k (by omega)) q489 q490 q491 q92 q492 ⟨rfl, pd_J2_get⟩ ⟨by omega, by omega⟩ rfl rfl (Nat.le_of_ble_eq_true rfl) (Nat.le_of_ble_eq_true rfl) hE_19.1 rfl rfl (Nat.le_of_ble_eq_true rfl) hl.1 dX2_recursiveLevel_26 (hB.of hS hAb) hE_19 hS (fun _ h => h.elim) (fun v H_23 locs hp_20 hz_21 hk_22 hS => ?_)
        obtain ⟨rfl, rfl⟩ := hp_20
        refine r_stk (st2 := [.ref (b k)]) rfl ?_
        have hbk := hsw.1.2.2.1 k (by omega)
        have hE_24 := fp_BL.mv h_bl (fun k hk => fp_keptS (h_bl k hk).lt hS (by have := hap.2 k hk; omega))
        refine r_castB X (hE_24 k (by omega)) (hsw.1.2.2.1 k (by omega)).2.1 q388 dX2_recursiveLevel_29 ?_
        refine lv_aload_n hx hb dX2_recursiveLevel_32 rfl (lv_at hl 0 rfl) ?_
        refine r_get X hE_18.1 rfl in_X2 0 (by decide) q173 (Or.inl rfl) (v := .ref (l)) rfl dX2_recursiveLevel_33 ?_
        refine lv_iload_n hx hb dX2_recursiveLevel_36 rfl (lv_at hl 1 rfl) ?_
        refine r_callV (cells1 := 0) (slots1 := 0) X hR (c_J2_get G l ed mc (sN S) cap b i (by omega)) q489 q490 q491 q92 q492 ⟨rfl, pd_J2_get⟩ ⟨by omega, by omega⟩ rfl rfl (Nat.le_of_ble_eq_true rfl) (Nat.le_of_ble_eq_true rfl) hE_19.1 rfl rfl (Nat.le_of_ble_eq_true rfl) hl.1 dX2_recursiveLevel_37 (hB.of hS hAb) hE_19 hS (fun _ h => h.elim) (fun v H_28 locs hp_25 hz_26 hk_27 hS => ?_)
        obtain ⟨rfl, rfl⟩ := hp_25
        refine r_stk (st2 := [.ref (b i), .ref (b k)]) rfl ?_
        refine r_castB X (hE_24 i (by omega)) (hsw.1.2.2.1 i (by omega)).2.1 q388 dX2_recursiveLevel_40 ?_
        refine b_supports X hR (hE_24 k (by omega)) ((hsw.1.2.2.1 k (by omega)).2.1) (hsw.1.2.2.1 k (by omega)) (hsw.1.2.2.1 i (by omega)) (hE_24 i (by omega)) q503 (by omega) (by omega) (Nat.le_of_ble_eq_true rfl) (Nat.le_of_ble_eq_true rfl) (Nat.le_of_ble_eq_true rfl) hl.1 dX2_recursiveLevel_43 (hB.of hS hAb) hS (fun locs hS => ?_)
        refine r_ifeqB (tgt := 63) hx hb dX2_recursiveLevel_46 (by decide) (fun c46 => ?_) (fun c46 => ?_)
        · skip
          refine lv_iinc (v := (iI ((k + 1 : Nat) : Int))) (lv' := [(4, .int (iI ((k + 1 : Nat) : Int))), (0, .ref (x)), (1, .int (iI ((i : Nat) : Int))), (2, .ref (a)), (3, .int (iI ((fp_lvp S i k : Nat) : Int)))]) hx hb dX2_recursiveLevel_63 hl (k := 4) rfl (iI_incN _ _) (by decide) rfl (fun ls hl => ?_)
          refine lv_goto (tgt := 13) hx hb dX2_recursiveLevel_66 (by decide) ?_
          exact ih13 (by omega) g H_7 locs ls (by rw [show Value.int (iI ((fp_lvp S i (k + 1) : Nat) : Int)) = Value.int (iI ((fp_lvp S i k : Nat) : Int)) from congrArg (fun q : Nat => Value.int (iI (q : Int))) (fp_lvp_f c46)]; exact lv_sub hl [1, 2, 3, 4, 0] rfl) hS hlg (by omega) hE_9
        · skip
          have hsb := fp_sup_bot (S := S) (k := i) (o := k) c46
          have hlvk := fp_lv_b S k
          refine lv_iload_n hx hb dX2_recursiveLevel_49 rfl (lv_at hl 3 rfl) ?_
          refine lv_iconst (v := (iI ((1 : Nat) : Int))) hx hb dX2_recursiveLevel_50 rfl ?_
          refine lv_aload_n hx hb dX2_recursiveLevel_51 rfl (lv_at hl 0 rfl) ?_
          refine lv_iload hx hb dX2_recursiveLevel_52 (lv_at hl 4 rfl) ?_
          refine lv_aload_n hx hb dX2_recursiveLevel_54 rfl (lv_at hl 2 rfl) ?_
          refine r_callV (cells1 := 0) (slots1 := 0) X hR (ih k g (by omega) (by omega) (by omega)) q511 q486 q487 q89 q488 ⟨rfl, pd_X2_recursiveLevel⟩ ⟨by omega, by omega⟩ rfl rfl (Nat.le_of_ble_eq_true rfl) (Nat.le_of_ble_eq_true rfl) hE_18.1 rfl rfl (Nat.le_of_ble_eq_true rfl) hl.1 dX2_recursiveLevel_55 (hB.of hS hAb) ⟨hE_18, hE_9⟩ hS (fun q h => by have h2 : (g_s G).heap.size ≤ q ∧ (q = a) := h; show ((g_s G).heap.size ≤ q ∧ (q = a)) ∨ s.heap.size ≤ q; omega) (fun v H_32 locs hp_29 hz_30 hk_31 hS => ?_)
          obtain ⟨f2_33, rfl, hlv2_34, hE_35⟩ := hp_29
          have hz_36 := hS.1
          have lt_37 := hE_35.lt
          refine r_stk (st2 := [.int (iI ((fp_lv S k : Nat) : Int)), .int (iI ((1 : Nat) : Int)), .int (iI ((fp_lvp S i k : Nat) : Int))]) rfl ?_
          refine r_iaddN hx hb dX2_recursiveLevel_58 ?_
          refine r_maxN X hR hl.1 q424 q425 q107 q426 (by omega) (Nat.le_trans (show _ ≤ 60 from Nat.le_of_ble_eq_true rfl) (by omega)) (Nat.le_of_ble_eq_true rfl) (Nat.le_of_ble_eq_true rfl) (by omega) (by omega) dX2_recursiveLevel_59 ?_
          refine lv_istore_n (lv' := [(3, .int (iI ((max (fp_lvp S i k) (1 + (fp_lv S k)) : Nat) : Int))), (0, .ref (x)), (1, .int (iI ((i : Nat) : Int))), (2, .ref (a)), (4, .int (iI ((k : Nat) : Int)))]) hx hb dX2_recursiveLevel_62 rfl hl (by decide) rfl (fun ls hl => ?_)
          refine lv_iinc (v := (iI ((k + 1 : Nat) : Int))) (lv' := [(4, .int (iI ((k + 1 : Nat) : Int))), (3, .int (iI ((max (fp_lvp S i k) (1 + (fp_lv S k)) : Nat) : Int))), (0, .ref (x)), (1, .int (iI ((i : Nat) : Int))), (2, .ref (a))]) hx hb dX2_recursiveLevel_63 hl (k := 4) rfl (iI_incN _ _) (by decide) rfl (fun ls hl => ?_)
          refine lv_goto (tgt := 13) hx hb dX2_recursiveLevel_66 (by decide) ?_
          exact ih13 (by omega) f2_33 H_32 locs ls (by rw [show Value.int (iI ((fp_lvp S i (k + 1) : Nat) : Int)) = Value.int (iI ((max (fp_lvp S i k) (1 + (fp_lv S k)) : Nat) : Int)) from congrArg (fun q : Nat => Value.int (iI (q : Int))) ((fp_lvp_t c46).trans (by rw [Nat.add_comm]))]; exact lv_sub hl [2, 3, 4, 1, 0] rfl) hS hlv2_34 (by omega) hE_35
    exact L13 0 (by omega) f s.heap locs ls (by rw [show Value.int (iI ((fp_lvp S i 0 : Nat) : Int)) = Value.int (iI ((0 : Nat) : Int)) from congrArg (fun q : Nat => Value.int (iI (q : Int))) (rfl)]; exact lv_sub hl [2, 3, 4, 1, 0] rfl) hS hlvv (Nat.le_refl _) h_ar
theorem c_X2_recursiveLevel_t (G : fp_G) (x : Nat) (l : Nat) (ed : Nat) (z : Nat) (t : Nat) (mc : Int32) (cap : Nat) (b : Nat → Nat) (S : PS) (a : Nat) (i : Nat) (f : Nat → Int) (hsw : fp_sw S b) (hab : (g_s G).heap.size ≤ a) (hap : (a ≠ x ∧ a ≠ l ∧ a ≠ ed ∧ a ≠ z ∧ a ≠ t) ∧ ∀ k, k < sN S → b k ≠ a) (hi : i < sN S) (hlvv : fp_lk S f) : fp_M G yX2_recursiveLevel cX2_recursiveLevel 5 (some .int) 246 5781 0 0 [.ref (x), .int (iI ((i : Nat) : Int)), .ref (a)] (fun H => fp_SE G x l ed z t mc cap b S H ∧ fp_At G H a (eI G (sN S) (fun j => iI (f j)))) (fun q => (g_s G).heap.size ≤ q ∧ (q = a)) (fun H v H1 => ∃ (f2 : Nat → Int), v = some (.int (iI ((fp_lv S i : Nat) : Int))) ∧ (fp_lk S f2) ∧ fp_At G H1 a (eI G (sN S) (fun j => iI (f2 j)))) :=
  c_X2_recursiveLevel G x l ed z t mc cap b S a hsw hab hap 41 i f hi hlvv (by have := hsw.1.2.2.1 i hi; omega)
set_option maxHeartbeats 4000000 in
theorem c_X2_level (G : fp_G) (x : Nat) (l : Nat) (ed : Nat) (z : Nat) (t : Nat) (mc : Int32) (cap : Nat) (b : Nat → Nat) (S : PS) (u : Nat) (hsw : fp_sw S b) (hu : u < sN S) : fp_M G yX2_level cX2_level 2 (some .int) 247 5805 1 24 [.ref (x), .ref (b u)] (fun H => fp_SE G x l ed z t mc cap b S H) fp_no (fun H v H1 => v = some (.int (iI ((fp_lv S u : Nat) : Int)))) := by
  refine fp_M.intro (by decide) (Nat.le_of_ble_eq_true rfl) ?_
  intro pg en s mi ag bl mt cd rR qQ ls X hx hb hr hlk hnm hR hQ hB hM hl
  have hS : va_S (fA fp_no s.heap.size) s.heap s.heap [] := va_S.rf
  generalize ([] : List Loc) = locs at hS ⊢
  have hb0 := hB.1
  have h_st := hM
  have hsz0 := hS.1
  have lt_1 := h_st.1.lt
  have hn24 := hsw.1.1
  obtain ⟨h_o, h_l, h_z, h_t, h_bl, h_xb, h_zb, h_tb⟩ := id h_st
  have lt_2 := h_l.1.lt
  have lt_3 := h_l.2.2
  have lt_4 := h_z.lt
  have lt_5 := h_t.lt
  refine lv_aload_n hx hb dX2_level_0 rfl (lv_at hl 0 rfl) ?_
  refine lv_aload_n hx hb dX2_level_1 rfl (lv_at hl 0 rfl) ?_
  refine r_get X h_st.1 rfl in_X2 0 (by decide) q173 (Or.inl rfl) (v := .ref (l)) rfl dX2_level_2 ?_
  refine lv_aload_n hx hb dX2_level_5 rfl (lv_at hl 1 rfl) ?_
  refine r_callV (cells1 := 0) (slots1 := 0) X hR (c_J2_indexOf G l ed mc (sN S) cap b (b u) (sB S u) u ((hsw.1.2.2.1 u (by omega)).2.1) (by omega) rfl (fun j hj h => by have := hsw.2 j u (by omega) (by omega) h; omega)) q870 q871 q872 q92 q873 ⟨rfl, pd_J2_indexOf⟩ ⟨Nat.le_of_ble_eq_true rfl, Nat.le_of_ble_eq_true rfl⟩ rfl rfl (Nat.le_of_ble_eq_true rfl) (Nat.le_of_ble_eq_true rfl) h_l.1 rfl rfl (Nat.le_of_ble_eq_true rfl) hl.1 dX2_level_6 (hB.of hS fp_no.base) ⟨h_l, (h_bl u (by omega))⟩ hS (fun _ h => h.elim) (fun v H_9 locs hp_6 hz_7 hk_8 hS => ?_)
  obtain ⟨rfl, rfl⟩ := hp_6
  refine r_stk (st2 := [.int (iI ((u : Nat) : Int)), .ref (x)]) rfl ?_
  refine lv_aload_n hx hb dX2_level_9 rfl (lv_at hl 0 rfl) ?_
  refine r_callV (cells1 := 1) (slots1 := 24) X hR (c_X2_unknownNumbers G x l ed z t mc cap b S hsw) q1535 q481 q482 q89 q483 ⟨rfl, pd_X2_unknownNumbers⟩ ⟨Nat.le_of_ble_eq_true rfl, Nat.le_of_ble_eq_true rfl⟩ rfl rfl (Nat.le_of_ble_eq_true rfl) (Nat.le_of_ble_eq_true rfl) h_st.1 rfl rfl (Nat.le_of_ble_eq_true rfl) hl.1 dX2_level_10 (hB.of hS fp_no.base) h_st hS (fun _ h => h.elim) (fun v H_13 locs hp_10 hz_11 hk_12 hS => ?_)
  obtain ⟨q_14, rfl, hq_15, hE_16⟩ := hp_10
  have hz_17 := hS.1
  have lt_19 := hE_16.lt
  refine r_stk (st2 := [.ref (q_14), .int (iI ((u : Nat) : Int)), .ref (x)]) rfl ?_
  have hE_20 := h_st.ext (fp_X.ofS hS)
  refine r_callV (cells1 := 1) (slots1 := 24) X hR (c_X2_recursiveLevel_t G x l ed z t mc cap b S q_14 u (fun _ => (-2 : Int)) hsw (by omega) (⟨⟨by omega, by omega, by omega, by omega, by omega⟩, fun k hk => by have := (h_bl k hk).lt; omega⟩) hu (fun j hj => Or.inl rfl)) q511 q486 q487 q89 q488 ⟨rfl, pd_X2_recursiveLevel⟩ ⟨Nat.le_of_ble_eq_true rfl, Nat.le_of_ble_eq_true rfl⟩ rfl rfl (Nat.le_of_ble_eq_true rfl) (Nat.le_of_ble_eq_true rfl) hE_20.1 rfl rfl (Nat.le_of_ble_eq_true rfl) hl.1 dX2_level_13 (hB.of hS fp_no.base) ⟨hE_20, hE_16⟩ hS (fun q h => Or.inr (by have h2 : (g_s G).heap.size ≤ q ∧ (q = q_14) := h; omega)) (fun v H_24 locs hp_21 hz_22 hk_23 hS => ?_)
  obtain ⟨f2_25, rfl, hlv2_26, hE_27⟩ := hp_21
  have hz_28 := hS.1
  have lt_29 := hE_27.lt
  refine r_stk (st2 := [.int (iI ((fp_lv S u : Nat) : Int))]) rfl ?_
  refine r_iret hx hb hr hlk hQ hS (Nat.le_of_ble_eq_true rfl) (Nat.le_of_ble_eq_true rfl) dX2_level_16 ?_
  exact rfl
set_option maxHeartbeats 4000000 in
theorem c_X2_markBelow (G : fp_G) (x : Nat) (l : Nat) (ed : Nat) (z : Nat) (t : Nat) (mc : Int32) (cap : Nat) (b : Nat → Nat) (S : PS) (a : Nat) (hsw : fp_sw S b) (hab : (g_s G).heap.size ≤ a) (hap : (a ≠ x ∧ a ≠ l ∧ a ≠ ed ∧ a ≠ z ∧ a ≠ t) ∧ ∀ k, k < sN S → b k ≠ a) : ∀ d : Nat, ∀ (i : Nat) (f : Nat → Bool) (hi : i < sN S), sB S i 5 < d → fp_M G yX2_markBelow cX2_markBelow 4 none (6 * d) (141 * d) 0 0 [.ref (x), .int (iI ((i : Nat) : Int)), .ref (a)] (fun H => fp_SE G x l ed z t mc cap b S H ∧ fp_At G H a (eZ G (sN S) (fun j => iI (bI (f j))))) (fun q => (g_s G).heap.size ≤ q ∧ (q = a)) (fun H v H1 => ∃ (f2 : Nat → Bool), v = none ∧ (fp_mk S i (sN S) f f2) ∧ fp_At G H1 a (eZ G (sN S) (fun j => iI (bI (f2 j))))) := by
  intro d
  induction d with
  | zero => intro i f hi hms; exact absurd hms (Nat.not_lt_zero _)
  | succ d ih =>
  intro i f hi hms
  refine fp_M.intro (by decide) (Nat.le_of_ble_eq_true rfl) ?_
  intro pg en s mi ag bl mt cd rR qQ ls X hx hb hr hlk hnm hR hQ hB hM hl
  have hS : va_S (fA (fun q => (g_s G).heap.size ≤ q ∧ (q = a)) s.heap.size) s.heap s.heap [] := va_S.rf
  generalize ([] : List Loc) = locs at hS ⊢
  have hb0 := hB.1
  have hAb : ∀ q, (fun q => (g_s G).heap.size ≤ q ∧ (q = a)) q → (g_s G).heap.size ≤ q := fun q h => h.1
  obtain ⟨h_st, h_ar⟩ := hM
  have hsz0 := hS.1
  have lt_1 := h_st.1.lt
  have lt_2 := h_ar.lt
  have hn24 := hsw.1.1
  obtain ⟨h_o, h_l, h_z, h_t, h_bl, h_xb, h_zb, h_tb⟩ := id h_st
  have lt_3 := h_l.1.lt
  have lt_4 := h_l.2.2
  have lt_5 := h_z.lt
  have lt_6 := h_t.lt
  have hbi := hsw.1.2.2.1 i hi
  refine lv_iconst (v := (iI ((0 : Nat) : Int))) hx hb dX2_markBelow_0 rfl ?_
  refine lv_istore_n (lv' := [(3, .int (iI ((0 : Nat) : Int))), (0, .ref (x)), (1, .int (iI ((i : Nat) : Int))), (2, .ref (a))]) hx hb dX2_markBelow_1 rfl hl (by decide) rfl (fun ls hl => ?_)
  have L2 : ∀ (k : Nat), k ≤ sN S → ∀ (g : Nat → Bool) (H_7 : Heap) (locs : List Loc) (ls : Array Slot), lv_has ls 4 [(0, .ref (x)), (1, .int (iI ((i : Nat) : Int))), (2, .ref (a)), (3, .int (iI ((k : Nat) : Int)))] → va_S (fA (fun q => (g_s G).heap.size ≤ q ∧ (q = a)) s.heap.size) s.heap H_7 locs → (fp_mk S i k f g) → (s.heap.size ≤ H_7.size) → fp_At G H_7 a (eZ G (sN S) (fun j => iI (bI (g j)))) → W pg (g_l G) en rR s mi ag bl mt cd H_7 locs 0 0 qQ (F0 mi 2 ls []) := by
    refine lp_up (sN S) ?_
    intro k hk2 ih2 g H_7 locs ls hl hS hmg hz_8 hE_9
    have hz_10 := hS.1
    have lt_11 := hE_9.lt
    refine lv_iload_n hx hb dX2_markBelow_2 rfl (lv_at hl 3 rfl) ?_
    refine lv_aload_n hx hb dX2_markBelow_3 rfl (lv_at hl 2 rfl) ?_
    refine r_alen X (t := 1) rfl hE_9 (v := (iI ((sN S : Nat) : Int))) rfl dX2_markBelow_4 ?_
    refine r_icmp_ge (tgt := 58) hx hb ⟨by omega, by omega⟩ ⟨by omega, by omega⟩ dX2_markBelow_5 (by decide) (fun c5 => ?_) (fun c5 => ?_)
    · skip
      obtain rfl : k = sN S := by omega
      refine r_vret hx hb hr hlk hQ hS (Nat.le_of_ble_eq_true rfl) (Nat.le_of_ble_eq_true rfl) dX2_markBelow_58 ?_
      exact ⟨g, rfl, hmg, hE_9⟩
    · skip
      refine lv_aload_n hx hb dX2_markBelow_8 rfl (lv_at hl 2 rfl) ?_
      refine lv_iload_n hx hb dX2_markBelow_9 rfl (lv_at hl 3 rfl) ?_
      refine r_zaldI X hE_9 (j := k) rfl (by omega) (by omega) dX2_markBelow_10 ?_
      refine r_ifneB (tgt := 52) hx hb dX2_markBelow_11 (by decide) (fun c11 => ?_) (fun c11 => ?_)
      · skip
        refine lv_iinc (v := (iI ((k + 1 : Nat) : Int))) (lv' := [(3, .int (iI ((k + 1 : Nat) : Int))), (0, .ref (x)), (1, .int (iI ((i : Nat) : Int))), (2, .ref (a))]) hx hb dX2_markBelow_52 hl (k := 3) rfl (iI_incN _ _) (by decide) rfl (fun ls hl => ?_)
        refine lv_goto (tgt := 2) hx hb dX2_markBelow_55 (by decide) ?_
        exact ih2 (by omega) g H_7 locs ls (lv_sub hl [1, 2, 3, 0] rfl) hS (hmg.skip (Or.inl c11)) (by omega) hE_9
      · skip
        refine lv_aload_n hx hb dX2_markBelow_14 rfl (lv_at hl 0 rfl) ?_
        have hE_12 := fp_SE.mv h_st (fp_keptS (by omega) hS (by omega)) (fp_keptS (by omega) hS (by omega)) (fp_keptS (by omega) hS (by omega)) (fp_keptS (by omega) hS (by omega)) (fp_keptS (by omega) hS (by omega)) (fun k hk => fp_keptS (h_st.2.2.2.2.1 k hk).lt hS (by have := hap.2 k hk; omega))
        refine r_get X hE_12.1 rfl in_X2 0 (by decide) q173 (Or.inl rfl) (v := .ref (l)) rfl dX2_markBelow_15 ?_
        refine lv_iload_n hx hb dX2_markBelow_18 rfl (lv_at hl 3 rfl) ?_
        have hE_13 := fp_LE.mv h_l (fp_keptS (by omega) hS (by omega)) (fp_keptS (by omega) hS (by omega))
        refine r_callV (cells1 := 0) (slots1 := 0) X hR (c_J2_get G l ed mc (sN S) cap b k (by omega)) q489 q490 q491 q92 q492 ⟨rfl, pd_J2_get⟩ ⟨by omega, by omega⟩ rfl rfl (Nat.le_of_ble_eq_true rfl) (Nat.le_of_ble_eq_true rfl) hE_13.1 rfl rfl (Nat.le_of_ble_eq_true rfl) hl.1 dX2_markBelow_19 (hB.of hS hAb) hE_13 hS (fun _ h => h.elim) (fun v H_17 locs hp_14 hz_15 hk_16 hS => ?_)
        obtain ⟨rfl, rfl⟩ := hp_14
        refine r_stk (st2 := [.ref (b k)]) rfl ?_
        have hbk := hsw.1.2.2.1 k (by omega)
        have hE_18 := fp_BL.mv h_bl (fun k hk => fp_keptS (h_bl k hk).lt hS (by have := hap.2 k hk; omega))
        refine r_castB X (hE_18 k (by omega)) (hsw.1.2.2.1 k (by omega)).2.1 q388 dX2_markBelow_22 ?_
        refine lv_aload_n hx hb dX2_markBelow_25 rfl (lv_at hl 0 rfl) ?_
        refine r_get X hE_12.1 rfl in_X2 0 (by decide) q173 (Or.inl rfl) (v := .ref (l)) rfl dX2_markBelow_26 ?_
        refine lv_iload_n hx hb dX2_markBelow_29 rfl (lv_at hl 1 rfl) ?_
        refine r_callV (cells1 := 0) (slots1 := 0) X hR (c_J2_get G l ed mc (sN S) cap b i (by omega)) q489 q490 q491 q92 q492 ⟨rfl, pd_J2_get⟩ ⟨by omega, by omega⟩ rfl rfl (Nat.le_of_ble_eq_true rfl) (Nat.le_of_ble_eq_true rfl) hE_13.1 rfl rfl (Nat.le_of_ble_eq_true rfl) hl.1 dX2_markBelow_30 (hB.of hS hAb) hE_13 hS (fun _ h => h.elim) (fun v H_22 locs hp_19 hz_20 hk_21 hS => ?_)
        obtain ⟨rfl, rfl⟩ := hp_19
        refine r_stk (st2 := [.ref (b i), .ref (b k)]) rfl ?_
        refine r_castB X (hE_18 i (by omega)) (hsw.1.2.2.1 i (by omega)).2.1 q388 dX2_markBelow_33 ?_
        refine b_supports X hR (hE_18 k (by omega)) ((hsw.1.2.2.1 k (by omega)).2.1) (hsw.1.2.2.1 k (by omega)) (hsw.1.2.2.1 i (by omega)) (hE_18 i (by omega)) q503 (by omega) (by omega) (Nat.le_of_ble_eq_true rfl) (Nat.le_of_ble_eq_true rfl) (Nat.le_of_ble_eq_true rfl) hl.1 dX2_markBelow_36 (hB.of hS hAb) hS (fun locs hS => ?_)
        refine r_ifeqB (tgt := 52) hx hb dX2_markBelow_39 (by decide) (fun c39 => ?_) (fun c39 => ?_)
        · skip
          refine lv_iinc (v := (iI ((k + 1 : Nat) : Int))) (lv' := [(3, .int (iI ((k + 1 : Nat) : Int))), (0, .ref (x)), (1, .int (iI ((i : Nat) : Int))), (2, .ref (a))]) hx hb dX2_markBelow_52 hl (k := 3) rfl (iI_incN _ _) (by decide) rfl (fun ls hl => ?_)
          refine lv_goto (tgt := 2) hx hb dX2_markBelow_55 (by decide) ?_
          exact ih2 (by omega) g H_7 locs ls (lv_sub hl [1, 2, 3, 0] rfl) hS (hmg.skip (Or.inr c39)) (by omega) hE_9
        · skip
          have hsb := fp_sup_bot (S := S) (k := i) (o := k) c39
          refine lv_aload_n hx hb dX2_markBelow_42 rfl (lv_at hl 2 rfl) ?_
          refine lv_iload_n hx hb dX2_markBelow_43 rfl (lv_at hl 3 rfl) ?_
          refine lv_iconst (v := (iI ((1 : Nat) : Int))) hx hb dX2_markBelow_44 rfl ?_
          refine r_zastB (v := true) X hE_9 hS (Or.inl ⟨by omega, rfl⟩) (j := k) rfl (by omega) (by omega) dX2_markBelow_45 (fun H_26 locs hE_23 hz_24 hq_25 hS => ?_)
          have hz_27 := hS.1
          have hE_28 : fp_At G H_26 a (eZ G (sN S) (fun j => iI (bI ((va_up g k true) j)))) := hE_23.updZ
          refine lv_aload_n hx hb dX2_markBelow_46 rfl (lv_at hl 0 rfl) ?_
          refine lv_iload_n hx hb dX2_markBelow_47 rfl (lv_at hl 3 rfl) ?_
          refine lv_aload_n hx hb dX2_markBelow_48 rfl (lv_at hl 2 rfl) ?_
          have hE_29 := fp_SE.mv h_st (fp_keptS (by omega) hS (by omega)) (fp_keptS (by omega) hS (by omega)) (fp_keptS (by omega) hS (by omega)) (fp_keptS (by omega) hS (by omega)) (fp_keptS (by omega) hS (by omega)) (fun k hk => fp_keptS (h_st.2.2.2.2.1 k hk).lt hS (by have := hap.2 k hk; omega))
          refine r_callV (cells1 := 0) (slots1 := 0) X hR (ih k (va_up g k true) (by omega) (by omega)) q1587 q1589 qs31 q89 q1590 ⟨rfl, pd_X2_markBelow⟩ ⟨by omega, by omega⟩ rfl rfl (Nat.le_of_ble_eq_true rfl) (Nat.le_of_ble_eq_true rfl) hE_29.1 rfl rfl (Nat.le_of_ble_eq_true rfl) hl.1 dX2_markBelow_49 (hB.of hS hAb) ⟨hE_29, hE_28⟩ hS (fun q h => by have h2 : (g_s G).heap.size ≤ q ∧ (q = a) := h; show ((g_s G).heap.size ≤ q ∧ (q = a)) ∨ s.heap.size ≤ q; omega) (fun v H_33 locs hp_30 hz_31 hk_32 hS => ?_)
          obtain ⟨f2_34, rfl, hmk_35, hE_36⟩ := hp_30
          have hz_37 := hS.1
          have lt_38 := hE_36.lt
          refine r_stk (st2 := []) rfl ?_
          refine lv_iinc (v := (iI ((k + 1 : Nat) : Int))) (lv' := [(3, .int (iI ((k + 1 : Nat) : Int))), (0, .ref (x)), (1, .int (iI ((i : Nat) : Int))), (2, .ref (a))]) hx hb dX2_markBelow_52 hl (k := 3) rfl (iI_incN _ _) (by decide) rfl (fun ls hl => ?_)
          refine lv_goto (tgt := 2) hx hb dX2_markBelow_55 (by decide) ?_
          exact ih2 (by omega) f2_34 H_33 locs ls (lv_sub hl [1, 2, 3, 0] rfl) hS (hmg.go (by omega) c39 hmk_35) (by omega) hE_36
  exact L2 0 (by omega) f s.heap locs ls (lv_sub hl [1, 2, 3, 0] rfl) hS (fp_mk.z) (Nat.le_refl _) h_ar
theorem c_X2_markBelow_t (G : fp_G) (x : Nat) (l : Nat) (ed : Nat) (z : Nat) (t : Nat) (mc : Int32) (cap : Nat) (b : Nat → Nat) (S : PS) (a : Nat) (i : Nat) (f : Nat → Bool) (hsw : fp_sw S b) (hab : (g_s G).heap.size ≤ a) (hap : (a ≠ x ∧ a ≠ l ∧ a ≠ ed ∧ a ≠ z ∧ a ≠ t) ∧ ∀ k, k < sN S → b k ≠ a) (hi : i < sN S) : fp_M G yX2_markBelow cX2_markBelow 4 none 246 5781 0 0 [.ref (x), .int (iI ((i : Nat) : Int)), .ref (a)] (fun H => fp_SE G x l ed z t mc cap b S H ∧ fp_At G H a (eZ G (sN S) (fun j => iI (bI (f j))))) (fun q => (g_s G).heap.size ≤ q ∧ (q = a)) (fun H v H1 => ∃ (f2 : Nat → Bool), v = none ∧ (fp_mk S i (sN S) f f2) ∧ fp_At G H1 a (eZ G (sN S) (fun j => iI (bI (f2 j))))) :=
  c_X2_markBelow G x l ed z t mc cap b S a hsw hab hap 41 i f hi (by have := hsw.1.2.2.1 i hi; omega)
set_option maxHeartbeats 4000000 in
theorem c_X2_isAbove (G : fp_G) (x : Nat) (l : Nat) (ed : Nat) (z : Nat) (t : Nat) (mc : Int32) (cap : Nat) (b : Nat → Nat) (S : PS) (u : Nat) (w : Nat) (hsw : fp_sw S b) (hu : u < sN S) (hw : w < sN S) : fp_M G yX2_isAbove cX2_isAbove 4 (some .boolean) 247 5804 1 24 [.ref (x), .ref (b u), .ref (b w)] (fun H => fp_SE G x l ed z t mc cap b S H) fp_no (fun H v H1 => v = some (.int (iI (bI (fp_ab S w u))))) := by
  refine fp_M.intro (by decide) (Nat.le_of_ble_eq_true rfl) ?_
  intro pg en s mi ag bl mt cd rR qQ ls X hx hb hr hlk hnm hR hQ hB hM hl
  have hS : va_S (fA fp_no s.heap.size) s.heap s.heap [] := va_S.rf
  generalize ([] : List Loc) = locs at hS ⊢
  have hb0 := hB.1
  have h_st := hM
  have hsz0 := hS.1
  have lt_1 := h_st.1.lt
  have hn24 := hsw.1.1
  obtain ⟨h_o, h_l, h_z, h_t, h_bl, h_xb, h_zb, h_tb⟩ := id h_st
  have lt_2 := h_l.1.lt
  have lt_3 := h_l.2.2
  have lt_4 := h_z.lt
  have lt_5 := h_t.lt
  refine lv_aload_n hx hb dX2_isAbove_0 rfl (lv_at hl 0 rfl) ?_
  refine r_get X h_st.1 rfl in_X2 0 (by decide) q173 (Or.inl rfl) (v := .ref (l)) rfl dX2_isAbove_1 ?_
  refine r_callV (cells1 := 0) (slots1 := 0) X hR (c_J2_size G l ed mc (sN S) cap b) q484 q461 q462 q92 q463 ⟨rfl, pd_J2_size⟩ ⟨Nat.le_of_ble_eq_true rfl, Nat.le_of_ble_eq_true rfl⟩ rfl rfl (Nat.le_of_ble_eq_true rfl) (Nat.le_of_ble_eq_true rfl) h_l.1 rfl rfl (Nat.le_of_ble_eq_true rfl) hl.1 dX2_isAbove_4 (hB.of hS fp_no.base) h_l hS (fun _ h => h.elim) (fun v H_9 locs hp_6 hz_7 hk_8 hS => ?_)
  obtain ⟨rfl, rfl⟩ := hp_6
  refine r_stk (st2 := [.int (iI (((sN S) : Nat) : Int))]) rfl ?_
  refine r_newaZ (n := (sN S)) X hR hS q190 rfl (by omega) (Nat.le_of_ble_eq_true rfl) (by omega) dX2_isAbove_7 (fun aa H_10 hq_14 hE_11 hX_12 hz_13 hS => ?_)
  have hz_15 := hS.1
  have lt_16 := hE_11.lt
  refine lv_astore_n (lv' := [(3, .ref (aa)), (0, .ref (x)), (1, .ref (b u)), (2, .ref (b w))]) hx hb dX2_isAbove_9 rfl hl (by decide) rfl (fun ls hl => ?_)
  refine lv_aload_n hx hb dX2_isAbove_10 rfl (lv_at hl 1 rfl) ?_
  refine lv_aload_n hx hb dX2_isAbove_11 rfl (lv_at hl 1 rfl) ?_
  have hE_17 := h_st.ext (fp_X.ofS hS)
  refine r_get X hE_17.1 rfl in_X2 0 (by decide) q173 (Or.inl rfl) (v := .ref (l)) rfl dX2_isAbove_12 ?_
  refine lv_aload_n hx hb dX2_isAbove_15 rfl (lv_at hl 2 rfl) ?_
  have hE_18 := h_bl.ext (fp_X.ofS hS)
  have hE_19 := h_l.ext (fp_X.ofS hS)
  refine r_callV (cells1 := 1) (slots1 := (0 + (sN S))) X hR (c_J2_indexOf G l ed mc (sN S) cap b (b u) (sB S u) u ((hsw.1.2.2.1 u (by omega)).2.1) (by omega) rfl (fun j hj h => by have := hsw.2 j u (by omega) (by omega) h; omega)) q870 q871 q872 q92 q873 ⟨rfl, pd_J2_indexOf⟩ ⟨Nat.le_of_ble_eq_true rfl, Nat.le_of_ble_eq_true rfl⟩ rfl rfl (Nat.le_of_ble_eq_true rfl) (by omega) hE_19.1 rfl rfl (Nat.le_of_ble_eq_true rfl) hl.1 dX2_isAbove_16 (hB.of hS fp_no.base) ⟨hE_19, (hE_18 u (by omega))⟩ hS (fun _ h => h.elim) (fun v H_23 locs hp_20 hz_21 hk_22 hS => ?_)
  obtain ⟨rfl, rfl⟩ := hp_20
  refine r_stk (st2 := [.int (iI ((u : Nat) : Int)), .ref (x)]) rfl ?_
  refine lv_aload_n hx hb dX2_isAbove_19 rfl (lv_at hl 0 rfl) ?_
  refine r_callV (cells1 := 1) (slots1 := (0 + (sN S))) X hR (c_X2_markBelow_t G x l ed z t mc cap b S aa u (fun _ => false) hsw (by omega) (⟨⟨by omega, by omega, by omega, by omega, by omega⟩, fun k hk => by have := (h_bl k hk).lt; omega⟩) hu) q1587 q1589 qs31 q89 q1590 ⟨rfl, pd_X2_markBelow⟩ ⟨Nat.le_of_ble_eq_true rfl, Nat.le_of_ble_eq_true rfl⟩ rfl rfl (Nat.le_of_ble_eq_true rfl) (by omega) hE_17.1 rfl rfl (Nat.le_of_ble_eq_true rfl) hl.1 dX2_isAbove_20 (hB.of hS fp_no.base) ⟨hE_17, hE_11⟩ hS (fun q h => Or.inr (by have h2 : (g_s G).heap.size ≤ q ∧ (q = aa) := h; omega)) (fun v H_27 locs hp_24 hz_25 hk_26 hS => ?_)
  obtain ⟨f2_28, rfl, hmk_29, hE_30⟩ := hp_24
  have hz_31 := hS.1
  have lt_32 := hE_30.lt
  refine r_stk (st2 := []) rfl ?_
  refine lv_aload_n hx hb dX2_isAbove_23 rfl (lv_at hl 0 rfl) ?_
  refine lv_aload_n hx hb dX2_isAbove_24 rfl (lv_at hl 1 rfl) ?_
  have hE_33 := h_st.ext (fp_X.ofS hS)
  refine r_get X hE_33.1 rfl in_X2 0 (by decide) q173 (Or.inl rfl) (v := .ref (l)) rfl dX2_isAbove_25 ?_
  refine lv_aload_n hx hb dX2_isAbove_28 rfl (lv_at hl 3 rfl) ?_
  have hE_34 := h_bl.ext (fp_X.ofS hS)
  have hE_35 := h_l.ext (fp_X.ofS hS)
  refine r_callV (cells1 := 1) (slots1 := (0 + (sN S))) X hR (c_J2_indexOf G l ed mc (sN S) cap b (b w) (sB S w) w ((hsw.1.2.2.1 w (by omega)).2.1) (by omega) rfl (fun j hj h => by have := hsw.2 j w (by omega) (by omega) h; omega)) q870 q871 q872 q92 q873 ⟨rfl, pd_J2_indexOf⟩ ⟨Nat.le_of_ble_eq_true rfl, Nat.le_of_ble_eq_true rfl⟩ rfl rfl (Nat.le_of_ble_eq_true rfl) (by omega) hE_35.1 rfl rfl (Nat.le_of_ble_eq_true rfl) hl.1 dX2_isAbove_29 (hB.of hS fp_no.base) ⟨hE_35, (hE_34 w (by omega))⟩ hS (fun _ h => h.elim) (fun v H_39 locs hp_36 hz_37 hk_38 hS => ?_)
  obtain ⟨rfl, rfl⟩ := hp_36
  refine r_stk (st2 := [.int (iI ((w : Nat) : Int)), .ref (aa)]) rfl ?_
  refine r_zaldI X hE_30 (j := w) rfl (by omega) (by omega) dX2_isAbove_32 ?_
  refine r_set (y := .int (iI (bI (fp_ab S w u)))) (congrArg (fun q : Bool => Value.int (iI (bI q))) (fp_mk.all hmk_29 w hw)) ?_
  refine r_zret hx hb hr hlk hQ hS (Nat.le_of_ble_eq_true rfl) (by omega) dX2_isAbove_33 (bI_z _) ?_
  exact rfl
