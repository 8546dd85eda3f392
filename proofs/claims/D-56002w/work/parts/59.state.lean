/-! THE STATE: its cells; reading methods -/
set_option maxRecDepth 100000
/-- the zones' constants -/
def fp_zad (G : fp_G) (c : Nat) : Nat := fp_st G (.static "FortPlanner$Zone" (if c = 0 then "OPEN" else if c = 1 then "QUIET" else "CLOSED") "LFortPlanner$Zone;")
/-- blocks at b -/
def fp_BL (G : fp_G) (n : Nat) (b : Nat → Nat) (B : Nat → Nat → Nat) (H : Heap) : Prop := ∀ k, k < n → fp_At G H (b k) (fp_bE (B k))
theorem fp_BL.mv {G : fp_G} {n : Nat} {b : Nat → Nat} {B : Nat → Nat → Nat} {H H1 : Heap} (h : fp_BL G n b B H) (hq : ∀ k, k < n → H1[b k]? = H[b k]?) : fp_BL G n b B H1 := fun k hk => (h k hk).kept (hq k hk)
theorem fp_BL.ext {G : fp_G} {n : Nat} {b : Nat → Nat} {B : Nat → Nat → Nat} {H H1 : Heap} (h : fp_BL G n b B H) (hx : fp_X H H1) : fp_BL G n b B H1 := h.mv (fun k hk => hx.2 _ (h k hk).lt)
theorem fp_BL.el {G : fp_G} {n : Nat} {b : Nat → Nat} {B : Nat → Nat → Nat} {H : Heap} (h : fp_BL G n b B H) : fp_EL G n b H := fun k hk => fp_el.ofB (h k hk)
/-- a state at x: its list l with row ed, zones z, torches t -/
def fp_SE (G : fp_G) (x l ed z t : Nat) (mc : Int32) (cap : Nat) (b : Nat → Nat) (S : PS) (H : Heap) : Prop := fp_At G H x (eO 2 [.ref l, .ref z, .ref t, .int (iI ((sP S : Nat) : Int))]) ∧ fp_LE G l ed mc (sN S) cap b H ∧ fp_At G H z (eQ G 5 12 (fun c => some (fp_zad G (sZ S c)))) ∧ fp_At G H t (eZ G 12 (fun j => iI (bI (decide (sT S j = 1))))) ∧ fp_BL G (sN S) b (sB S) H ∧ (g_s G).heap.size ≤ x ∧ (g_s G).heap.size ≤ z ∧ (g_s G).heap.size ≤ t
theorem fp_SE.ext {G : fp_G} {x l ed z t : Nat} {mc : Int32} {cap : Nat} {b : Nat → Nat} {S : PS} {H H1 : Heap} (h : fp_SE G x l ed z t mc cap b S H) (hx : fp_X H H1) : fp_SE G x l ed z t mc cap b S H1 := ⟨h.1.ext hx, h.2.1.ext hx, h.2.2.1.ext hx, h.2.2.2.1.ext hx, h.2.2.2.2.1.ext hx, h.2.2.2.2.2⟩
theorem fp_SE.mv {G : fp_G} {x l ed z t : Nat} {mc : Int32} {cap : Nat} {b : Nat → Nat} {S : PS} {H H1 : Heap} (h : fp_SE G x l ed z t mc cap b S H) (h1 : H1[x]? = H[x]?) (h2 : H1[l]? = H[l]?) (h3 : H1[ed]? = H[ed]?) (h4 : H1[z]? = H[z]?) (h5 : H1[t]? = H[t]?) (h6 : ∀ k, k < sN S → H1[b k]? = H[b k]?) : fp_SE G x l ed z t mc cap b S H1 := ⟨h.1.kept h1, h.2.1.mv h2 h3, h.2.2.1.kept h4, h.2.2.2.1.kept h5, h.2.2.2.2.1.mv h6, h.2.2.2.2.2⟩
/-- what is known of a state's numbers and its blocks' addresses -/
def fp_sw (S : PS) (b : Nat → Nat) : Prop := fp_ok S ∧ ∀ i j, i < sN S → j < sN S → b i = b j → i = j
theorem fp_At.cI {G : fp_G} {H : Heap} {a n : Nat} {f g : Nat → Int} (h : fp_At G H a (eI G n (fun j => iI (f j)))) (e : ∀ j, j < n → f j = g j) : fp_At G H a (eI G n (fun j => iI (g j))) := h.arr (fun j hj => by rw [e j hj])
theorem fp_At.cZ {G : fp_G} {H : Heap} {a n : Nat} {f g : Nat → Bool} (h : fp_At G H a (eZ G n (fun j => iI (bI (f j))))) (e : ∀ j, j < n → f j = g j) : fp_At G H a (eZ G n (fun j => iI (bI (g j)))) := h.arr (fun j hj => by rw [e j hj])
theorem fp_At.cB {G : fp_G} {H : Heap} {a n : Nat} {f g : Nat → Int} (h : fp_At G H a (eB G n (fun j => iI (f j)))) (e : ∀ j, j < n → f j = g j) : fp_At G H a (eB G n (fun j => iI (g j))) := h.arr (fun j hj => by rw [e j hj])
theorem fp_At.cQ {G : fp_G} {H : Heap} {a n t : Nat} {f g : Nat → Option Nat} (h : fp_At G H a (eQ G t n f)) (e : ∀ j, j < n → f j = g j) : fp_At G H a (eQ G t n g) := h.arrQ e
/-- a block found by its number, or none -/
def fp_fq (S : PS) (b : Nat → Nat) (z : Int) : Option Nat := if fp_fnd S z < sN S then some (b (fp_fnd S z)) else none
theorem fp_fq_t {S : PS} {b : Nat → Nat} {z : Int} {k : Nat} (hk : k < sN S) (h : (sB S k 0 : Int) = z) (hl : ∀ j, j < k → (sB S j 0 : Int) ≠ z) : fp_fq S b z = some (b k) := by
  have e : fp_fnd S z = k := fp_fi_eq hk (decide_eq_true h) (fun j hj => decide_eq_false (hl j hj))
  unfold fp_fq
  rw [e, if_pos hk]
theorem fp_fq_f {S : PS} {b : Nat → Nat} {z : Int} (hl : ∀ j, j < sN S → (sB S j 0 : Int) ≠ z) : fp_fq S b z = none := by
  have e : fp_fnd S z = sN S := fp_fi_n (fun j hj => decide_eq_false (hl j hj))
  unfold fp_fq
  rw [e, if_neg (Nat.lt_irrefl _)]
theorem fp_ltS {P : Nat → Prop} {k : Nat} (h : ∀ j, j < k → P j) (hk : P k) : ∀ j, j < k + 1 → P j := fun j hj => by
  by_cases e : j = k
  · subst e; exact hk
  · exact h j (by omega)
/-- nothing between a torch and a column is too high -/
def fp_clr (S : PS) (t c : Nat) : Bool := !fp_any (fun i => decide (fp_hi S t + 2 < fp_hi S (min t c + 1 + i))) (max t c - min t c - 1)
theorem fp_clr_f {S : PS} {t c j : Nat} (hj : j < max t c - min t c - 1) (h : fp_hi S t + 2 < fp_hi S (min t c + 1 + j)) : fp_clr S t c = false := by
  unfold fp_clr
  rw [fp_any_t (k := j) hj (decide_eq_true h)]
  rfl
theorem fp_clr_t {S : PS} {t c : Nat} (h : ∀ j, j < max t c - min t c - 1 → ¬ (fp_hi S t + 2 < fp_hi S (min t c + 1 + j))) : fp_clr S t c = true := by
  unfold fp_clr
  rw [fp_any_f (fun j hj => decide_eq_false (h j hj))]
  rfl
theorem fp_rch_clr {S : PS} {t c : Nat} (h1 : sT S t = 1) (h2 : max t c - min t c ≤ 4) : fp_rch S t c = fp_clr S t c := by
  unfold fp_rch fp_clr
  rw [decide_eq_true ⟨by omega, h2⟩]
  rfl
theorem fp_lit_t {S : PS} {t c : Nat} (ht : t < 12) (h1 : sT S t = 1) (h2 : max t c - min t c ≤ 4) (h3 : fp_clr S t c = true) : fp_lit S c = true := fp_any_t (k := t) ht ((fp_rch_clr h1 h2).trans h3)
theorem fp_lit_f {S : PS} {c : Nat} (h : ∀ t, t < 12 → fp_rch S t c = false) : fp_lit S c = false := fp_any_f h
theorem fp_rch_0 {S : PS} {t c : Nat} (h : ¬ sT S t = 1) (hok : fp_ok S) (ht : t < 12) : fp_rch S t c = false := fp_rch_f1 (fun x => by have := hok.2.2.2.2 t ht; omega)

set_option maxRecDepth 100000
set_option maxHeartbeats 4000000 in
theorem c_X2_height (G : fp_G) (x : Nat) (l : Nat) (ed : Nat) (z : Nat) (t : Nat) (mc : Int32) (cap : Nat) (b : Nat → Nat) (S : PS) (c : Nat) (hsw : fp_sw S b) (hc : c < 12) : fp_M G yX2_height cX2_height 5 (some .int) 5 101 1 4 [.ref (x), .int (iI ((c : Nat) : Int))] (fun H => fp_SE G x l ed z t mc cap b S H) fp_no (fun H v H1 => v = some (.int (iI ((fp_hi S c : Nat) : Int)))) := by
  refine fp_M.intro (by decide) (Nat.le_of_ble_eq_true rfl) ?_
  intro pg en s mi ag bl mt cd rR qQ ls X hx hb hr hlk hnm hR hQ hB hM hl
  have hS : va_S (fA fp_no s.heap.size) s.heap s.heap [] := va_S.rf
  generalize ([] : List Loc) = locs at hS ⊢
  have hb0 := hB.1
  have h_st := hM
  have hsz0 := hS.1
  have lt_1 := h_st.1.lt
  have hn24 := hsw.1.1
  obtain ⟨h_o, h_l, h_z, h_t, h_bl, h_xb, h_zb, h_tb⟩ := id h_st
  have lt_2 := h_l.1.lt
  have lt_3 := h_l.2.2
  have lt_4 := h_z.lt
  have lt_5 := h_t.lt
  refine lv_iconst (v := (iI ((0 : Nat) : Int))) hx hb dX2_height_0 rfl ?_
  refine lv_istore_n (lv' := [(2, .int (iI ((0 : Nat) : Int))), (0, .ref (x)), (1, .int (iI ((c : Nat) : Int)))]) hx hb dX2_height_1 rfl hl (by decide) rfl (fun ls hl => ?_)
  refine lv_aload_n hx hb dX2_height_2 rfl (lv_at hl 1 rfl) ?_
  refine r_get X h_st.1 rfl in_X2 0 (by decide) q173 (Or.inl rfl) (v := .ref (l)) rfl dX2_height_3 ?_
  refine r_callV (cells1 := 1) (slots1 := 4) X hR (c_J2_iterator G l ed mc (sN S) cap b) q275 q276 q277 q92 q278 ⟨rfl, pd_J2_iterator⟩ ⟨Nat.le_of_ble_eq_true rfl, Nat.le_of_ble_eq_true rfl⟩ rfl rfl (Nat.le_of_ble_eq_true rfl) (Nat.le_of_ble_eq_true rfl) h_l.1 rfl rfl (Nat.le_of_ble_eq_true rfl) hl.1 dX2_height_6 (hB.of hS fp_no.base) h_l hS (fun _ h => h.elim) (fun v H_9 locs hp_6 hz_7 hk_8 hS => ?_)
  obtain ⟨y_10, rfl, hy_11, hE_12⟩ := hp_6
  have hz_13 := hS.1
  have lt_15 := hE_12.lt
  refine r_stk (st2 := [.ref (y_10)]) rfl ?_
  refine lv_astore_n (lv' := [(3, .ref (y_10)), (2, .int (iI ((0 : Nat) : Int))), (0, .ref (x)), (1, .int (iI ((c : Nat) : Int)))]) hx hb dX2_height_9 rfl hl (by decide) rfl (fun ls hl => ?_)
  have L10 : ∀ (k : Nat), k ≤ sN S → ∀ (H_16 : Heap) (locs : List Loc) (ls : Array Slot), lv_has ls 5 [(0, .ref (x)), (1, .int (iI ((c : Nat) : Int))), (2, .int (iI ((fp_mx (fp_hif S c) k : Nat) : Int))), (3, .ref (y_10))] → va_S (fA fp_no s.heap.size) s.heap H_16 locs → (H_9.size ≤ H_16.size) → fp_IE G y_10 k l mc (sN S) H_16 → W pg (g_l G) en rR s mi ag bl mt cd H_16 locs 1 4 qQ (F0 mi 10 ls []) := by
    refine lp_up (sN S) ?_
    intro k hk10 ih10 H_16 locs ls hl hS hz_17 hE_18
    have hz_19 := hS.1
    have lt_20 := hE_18.lt
    have hm42 : fp_mx (fp_hif S c) k ≤ 42 := fp_mx_le (fun j hj => fp_hif_le hsw.1 c j (by omega))
    refine lv_aload_n hx hb dX2_height_10 rfl (lv_at hl 3 rfl) ?_
    obtain ⟨⟨lr_21, hE_22⟩, hle_23⟩ := id hE_18
    have hE_24 := h_l.ext (fp_X.ofS hS)
    obtain ⟨⟨lr_25, hE_26⟩, hle_27⟩ := id hE_18
    refine r_callF (cells1 := 1) (slots1 := 4) X hR (c_J13_hasNext G l ed mc (sN S) cap b y_10 k) q299 q303 q305 q105 q307 ⟨q301, q300, q306, q304, q302⟩ ⟨by decide, by decide, rfl⟩ ⟨Nat.le_of_ble_eq_true rfl, Nat.le_of_ble_eq_true rfl⟩ rfl rfl (Nat.le_of_ble_eq_true rfl) (Nat.le_of_ble_eq_true rfl) hE_26 rfl rfl (Nat.le_of_ble_eq_true rfl) hl.1 dX2_height_11 (hB.of hS fp_no.base) ⟨hE_18, hE_24⟩ hS (fun _ h => h.elim) (fun v H_31 locs hp_28 hz_29 hk_30 hS => ?_)
    obtain ⟨rfl, rfl⟩ := hp_28
    refine r_stk (st2 := [.int (iI (bI (decide (k < (sN S)))))]) rfl ?_
    refine r_ifeqB (tgt := 56) hx hb dX2_height_16 (by decide) (fun c16 => ?_) (fun c16 => ?_)
    · skip
      have d16 := of_decide_eq_false c16
      obtain rfl : k = sN S := by omega
      refine lv_iload_n hx hb dX2_height_56 rfl (lv_at hl 2 rfl) ?_
      refine r_iret hx hb hr hlk hQ hS (Nat.le_of_ble_eq_true rfl) (Nat.le_of_ble_eq_true rfl) dX2_height_57 ?_
      exact (congrArg (fun q : Nat => some (Value.int (iI (q : Int)))) (rfl))
    · skip
      have d16 := of_decide_eq_true c16
      refine lv_aload_n hx hb dX2_height_19 rfl (lv_at hl 3 rfl) ?_
      obtain ⟨⟨lr_32, hE_33⟩, hle_34⟩ := id hE_18
      obtain ⟨⟨lr_35, hE_36⟩, hle_37⟩ := id hE_18
      refine r_callF (cells1 := 1) (slots1 := 4) X hR (c_J13_next G l ed mc (sN S) cap b y_10 k (by omega) (by omega)) q309 q312 q314 q105 q316 ⟨q311, q310, q315, q313, q302⟩ ⟨by decide, by decide, rfl⟩ ⟨Nat.le_of_ble_eq_true rfl, Nat.le_of_ble_eq_true rfl⟩ rfl rfl (Nat.le_of_ble_eq_true rfl) (Nat.le_of_ble_eq_true rfl) hE_36 rfl rfl (Nat.le_of_ble_eq_true rfl) hl.1 dX2_height_20 (hB.of hS fp_no.base) ⟨hE_18, hE_24⟩ hS (fun q h => Or.inr (by have h2 : (g_s G).heap.size ≤ q ∧ (q = y_10) := h; omega)) (fun v H_41 locs hp_38 hz_39 hk_40 hS => ?_)
      obtain ⟨rfl, hE_42⟩ := hp_38
      have hz_43 := hS.1
      have lt_44 := hE_42.lt
      refine r_stk (st2 := [.ref (b k)]) rfl ?_
      have hbk := hsw.1.2.2.1 k (by omega)
      have htp := fp_top_b (sB S k)
      have hE_45 := h_bl.ext (fp_X.ofS hS)
      refine r_castB X (hE_45 k (by omega)) (hsw.1.2.2.1 k (by omega)).2.1 q388 dX2_height_25 ?_
      refine lv_astore (lv' := [(4, .ref (b k)), (0, .ref (x)), (1, .int (iI ((c : Nat) : Int))), (2, .int (iI ((fp_mx (fp_hif S c) k : Nat) : Int))), (3, .ref (y_10))]) hx hb dX2_height_28 hl (by decide) rfl (fun ls hl => ?_)
      refine lv_aload hx hb dX2_height_30 (lv_at hl 0 rfl) ?_
      refine lv_iload_n hx hb dX2_height_32 rfl (lv_at hl 2 rfl) ?_
      refine b_covers X hR (hE_45 k (by omega)) ((hsw.1.2.2.1 k (by omega)).2.1) (hsw.1.2.2.1 k (by omega)) (by omega) q389 (by decide) (by decide) (Nat.le_of_ble_eq_true rfl) (Nat.le_of_ble_eq_true rfl) (Nat.le_of_ble_eq_true rfl) hl.1 dX2_height_33 (hB.of hS fp_no.base) hS (fun locs hS => ?_)
      refine r_ifeqB (tgt := 51) hx hb dX2_height_36 (by decide) (fun c36 => ?_) (fun c36 => ?_)
      · skip
        refine lv_iload_n hx hb dX2_height_51 rfl (lv_at hl 3 rfl) ?_
        refine lv_istore_n (lv' := [(2, .int (iI ((fp_mx (fp_hif S c) k : Nat) : Int))), (4, .ref (b k)), (0, .ref (x)), (1, .int (iI ((c : Nat) : Int))), (3, .ref (y_10))]) hx hb dX2_height_52 rfl hl (by decide) rfl (fun ls hl => ?_)
        refine lv_goto (tgt := 10) hx hb dX2_height_53 (by decide) ?_
        exact ih10 (by omega) H_41 locs ls (by rw [show Value.int (iI ((fp_mx (fp_hif S c) (k + 1) : Nat) : Int)) = Value.int (iI ((fp_mx (fp_hif S c) k : Nat) : Int)) from congrArg (fun q : Nat => Value.int (iI (q : Int))) (by show max (fp_mx (fp_hif S c) k) (fp_hif S c k) = _; unfold fp_hif; simp [c36])]; exact lv_sub hl [2, 3, 0, 4] rfl) hS (by omega) hE_42
      · skip
        refine lv_iload_n hx hb dX2_height_39 rfl (lv_at hl 3 rfl) ?_
        refine lv_aload hx hb dX2_height_40 (lv_at hl 0 rfl) ?_
        refine b_top X hR (hE_45 k (by omega)) ((hsw.1.2.2.1 k (by omega)).2.1) (hsw.1.2.2.1 k (by omega)) q406 (by decide) (by decide) (Nat.le_of_ble_eq_true rfl) (Nat.le_of_ble_eq_true rfl) (Nat.le_of_ble_eq_true rfl) hl.1 dX2_height_42 (hB.of hS fp_no.base) hS (fun locs hS => ?_)
        refine r_maxN X hR hl.1 q424 q425 q107 q426 (by decide) (Nat.le_of_ble_eq_true rfl) (Nat.le_of_ble_eq_true rfl) (Nat.le_of_ble_eq_true rfl) (by omega) (by omega) dX2_height_45 ?_
        refine lv_goto (tgt := 52) hx hb dX2_height_48 (by decide) ?_
        refine lv_istore_n (lv' := [(2, .int (iI ((max (fp_mx (fp_hif S c) k) (fp_top ((sB S) k)) : Nat) : Int))), (4, .ref (b k)), (0, .ref (x)), (1, .int (iI ((c : Nat) : Int))), (3, .ref (y_10))]) hx hb dX2_height_52 rfl hl (by decide) rfl (fun ls hl => ?_)
        refine lv_goto (tgt := 10) hx hb dX2_height_53 (by decide) ?_
        exact ih10 (by omega) H_41 locs ls (by rw [show Value.int (iI ((fp_mx (fp_hif S c) (k + 1) : Nat) : Int)) = Value.int (iI ((max (fp_mx (fp_hif S c) k) (fp_top ((sB S) k)) : Nat) : Int)) from congrArg (fun q : Nat => Value.int (iI (q : Int))) (by show max (fp_mx (fp_hif S c) k) (fp_hif S c k) = _; unfold fp_hif; simp [c36])]; exact lv_sub hl [2, 3, 0, 4] rfl) hS (by omega) hE_42
  exact L10 0 (by omega) H_9 locs ls (lv_sub hl [2, 3, 1, 0] rfl) hS (Nat.le_refl _) hE_12
set_option maxHeartbeats 4000000 in
theorem c_X2_flame (G : fp_G) (x : Nat) (l : Nat) (ed : Nat) (z : Nat) (t : Nat) (mc : Int32) (cap : Nat) (b : Nat → Nat) (S : PS) (c : Nat) (hsw : fp_sw S b) (hc : c < 12) : fp_M G yX2_flame cX2_flame 2 (some .int) 6 125 1 4 [.ref (x), .int (iI ((c : Nat) : Int))] (fun H => fp_SE G x l ed z t mc cap b S H) fp_no (fun H v H1 => v = some (.int (iI ((fp_hi S c + 2 : Nat) : Int)))) := by
  refine fp_M.intro (by decide) (Nat.le_of_ble_eq_true rfl) ?_
  intro pg en s mi ag bl mt cd rR qQ ls X hx hb hr hlk hnm hR hQ hB hM hl
  have hS : va_S (fA fp_no s.heap.size) s.heap s.heap [] := va_S.rf
  generalize ([] : List Loc) = locs at hS ⊢
  have hb0 := hB.1
  have h_st := hM
  have hsz0 := hS.1
  have lt_1 := h_st.1.lt
  have hn24 := hsw.1.1
  have hh_c := fp_hi_le hsw.1 c
  refine lv_aload_n hx hb dX2_flame_0 rfl (lv_at hl 0 rfl) ?_
  refine lv_iload_n hx hb dX2_flame_1 rfl (lv_at hl 1 rfl) ?_
  refine r_callV (cells1 := 1) (slots1 := 4) X hR (c_X2_height G x l ed z t mc cap b S c hsw hc) q455 q272 q273 q89 q274 ⟨rfl, pd_X2_height⟩ ⟨Nat.le_of_ble_eq_true rfl, Nat.le_of_ble_eq_true rfl⟩ rfl rfl (Nat.le_of_ble_eq_true rfl) (Nat.le_of_ble_eq_true rfl) h_st.1 rfl rfl (Nat.le_of_ble_eq_true rfl) hl.1 dX2_flame_2 (hB.of hS fp_no.base) h_st hS (fun _ h => h.elim) (fun v H_5 locs hp_2 hz_3 hk_4 hS => ?_)
  obtain rfl := hp_2
  have hz_6 := hS.1
  refine r_stk (st2 := [.int (iI ((fp_hi S c : Nat) : Int))]) rfl ?_
  refine lv_iconst (v := (iI ((2 : Nat) : Int))) hx hb dX2_flame_5 rfl ?_
  refine r_iaddN hx hb dX2_flame_6 ?_
  refine r_iret hx hb hr hlk hQ hS (Nat.le_of_ble_eq_true rfl) (Nat.le_of_ble_eq_true rfl) dX2_flame_7 ?_
  exact rfl
set_option maxHeartbeats 4000000 in
theorem c_X2_find (G : fp_G) (x : Nat) (l : Nat) (ed : Nat) (z : Nat) (t : Nat) (mc : Int32) (cap : Nat) (b : Nat → Nat) (S : PS) (z0 : Int) (hsw : fp_sw S b) (hz0 : rg z0) : fp_M G yX2_find cX2_find 4 (some (.object "FortPlanner$Block")) 4 71 1 4 [.ref (x), .int (iI (z0))] (fun H => fp_SE G x l ed z t mc cap b S H) fp_no (fun H v H1 => v = some (va_rf (fp_fq S b z0))) := by
  refine fp_M.intro (by decide) (Nat.le_of_ble_eq_true rfl) ?_
  intro pg en s mi ag bl mt cd rR qQ ls X hx hb hr hlk hnm hR hQ hB hM hl
  have hS : va_S (fA fp_no s.heap.size) s.heap s.heap [] := va_S.rf
  generalize ([] : List Loc) = locs at hS ⊢
  have hb0 := hB.1
  have h_st := hM
  have hsz0 := hS.1
  have lt_1 := h_st.1.lt
  have hn24 := hsw.1.1
  obtain ⟨h_o, h_l, h_z, h_t, h_bl, h_xb, h_zb, h_tb⟩ := id h_st
  have lt_2 := h_l.1.lt
  have lt_3 := h_l.2.2
  have lt_4 := h_z.lt
  have lt_5 := h_t.lt
  refine lv_aload_n hx hb dX2_find_0 rfl (lv_at hl 0 rfl) ?_
  refine r_get X h_st.1 rfl in_X2 0 (by decide) q173 (Or.inl rfl) (v := .ref (l)) rfl dX2_find_1 ?_
  refine r_callV (cells1 := 1) (slots1 := 4) X hR (c_J2_iterator G l ed mc (sN S) cap b) q275 q276 q277 q92 q278 ⟨rfl, pd_J2_iterator⟩ ⟨Nat.le_of_ble_eq_true rfl, Nat.le_of_ble_eq_true rfl⟩ rfl rfl (Nat.le_of_ble_eq_true rfl) (Nat.le_of_ble_eq_true rfl) h_l.1 rfl rfl (Nat.le_of_ble_eq_true rfl) hl.1 dX2_find_4 (hB.of hS fp_no.base) h_l hS (fun _ h => h.elim) (fun v H_9 locs hp_6 hz_7 hk_8 hS => ?_)
  obtain ⟨y_10, rfl, hy_11, hE_12⟩ := hp_6
  have hz_13 := hS.1
  have lt_15 := hE_12.lt
  refine r_stk (st2 := [.ref (y_10)]) rfl ?_
  refine lv_astore_n (lv' := [(2, .ref (y_10)), (0, .ref (x)), (1, .int (iI (z0)))]) hx hb dX2_find_7 rfl hl (by decide) rfl (fun ls hl => ?_)
  have L8 : ∀ (k : Nat), k ≤ sN S → ∀ (H_16 : Heap) (locs : List Loc) (ls : Array Slot), lv_has ls 4 [(0, .ref (x)), (1, .int (iI (z0))), (2, .ref (y_10))] → va_S (fA fp_no s.heap.size) s.heap H_16 locs → (∀ j, j < k → (sB S j 0 : Int) ≠ z0) → (H_9.size ≤ H_16.size) → fp_IE G y_10 k l mc (sN S) H_16 → W pg (g_l G) en rR s mi ag bl mt cd H_16 locs 1 4 qQ (F0 mi 8 ls []) := by
    refine lp_up (sN S) ?_
    intro k hk8 ih8 H_16 locs ls hl hS hno hz_17 hE_18
    have hz_19 := hS.1
    have lt_20 := hE_18.lt
    refine lv_aload_n hx hb dX2_find_8 rfl (lv_at hl 2 rfl) ?_
    obtain ⟨⟨lr_21, hE_22⟩, hle_23⟩ := id hE_18
    have hE_24 := h_l.ext (fp_X.ofS hS)
    obtain ⟨⟨lr_25, hE_26⟩, hle_27⟩ := id hE_18
    refine r_callF (cells1 := 1) (slots1 := 4) X hR (c_J13_hasNext G l ed mc (sN S) cap b y_10 k) q299 q303 q305 q105 q307 ⟨q301, q300, q306, q304, q302⟩ ⟨by decide, by decide, rfl⟩ ⟨Nat.le_of_ble_eq_true rfl, Nat.le_of_ble_eq_true rfl⟩ rfl rfl (Nat.le_of_ble_eq_true rfl) (Nat.le_of_ble_eq_true rfl) hE_26 rfl rfl (Nat.le_of_ble_eq_true rfl) hl.1 dX2_find_9 (hB.of hS fp_no.base) ⟨hE_18, hE_24⟩ hS (fun _ h => h.elim) (fun v H_31 locs hp_28 hz_29 hk_30 hS => ?_)
    obtain ⟨rfl, rfl⟩ := hp_28
    refine r_stk (st2 := [.int (iI (bI (decide (k < (sN S)))))]) rfl ?_
    refine r_ifeqB (tgt := 40) hx hb dX2_find_14 (by decide) (fun c14 => ?_) (fun c14 => ?_)
    · skip
      have d14 := of_decide_eq_false c14
      obtain rfl : k = sN S := by omega
      refine lv_null hx hb dX2_find_40 ?_
      refine r_aret hx hb hr hlk hQ hS (Nat.le_of_ble_eq_true rfl) (Nat.le_of_ble_eq_true rfl) dX2_find_41 (Or.inl ⟨_, rfl⟩) (Or.inl rfl) ?_
      exact (by rw [fp_fq_f hno]; rfl)
    · skip
      have d14 := of_decide_eq_true c14
      refine lv_aload_n hx hb dX2_find_17 rfl (lv_at hl 2 rfl) ?_
      obtain ⟨⟨lr_32, hE_33⟩, hle_34⟩ := id hE_18
      obtain ⟨⟨lr_35, hE_36⟩, hle_37⟩ := id hE_18
      refine r_callF (cells1 := 1) (slots1 := 4) X hR (c_J13_next G l ed mc (sN S) cap b y_10 k (by omega) (by omega)) q309 q312 q314 q105 q316 ⟨q311, q310, q315, q313, q302⟩ ⟨by decide, by decide, rfl⟩ ⟨Nat.le_of_ble_eq_true rfl, Nat.le_of_ble_eq_true rfl⟩ rfl rfl (Nat.le_of_ble_eq_true rfl) (Nat.le_of_ble_eq_true rfl) hE_36 rfl rfl (Nat.le_of_ble_eq_true rfl) hl.1 dX2_find_18 (hB.of hS fp_no.base) ⟨hE_18, hE_24⟩ hS (fun q h => Or.inr (by have h2 : (g_s G).heap.size ≤ q ∧ (q = y_10) := h; omega)) (fun v H_41 locs hp_38 hz_39 hk_40 hS => ?_)
      obtain ⟨rfl, hE_42⟩ := hp_38
      have hz_43 := hS.1
      have lt_44 := hE_42.lt
      refine r_stk (st2 := [.ref (b k)]) rfl ?_
      have hbk := hsw.1.2.2.1 k (by omega)
      have hE_45 := h_bl.ext (fp_X.ofS hS)
      refine r_castB X (hE_45 k (by omega)) (hsw.1.2.2.1 k (by omega)).2.1 q388 dX2_find_23 ?_
      refine lv_astore_n (lv' := [(3, .ref (b k)), (0, .ref (x)), (1, .int (iI (z0))), (2, .ref (y_10))]) hx hb dX2_find_26 rfl hl (by decide) rfl (fun ls hl => ?_)
      refine lv_aload_n hx hb dX2_find_27 rfl (lv_at hl 0 rfl) ?_
      refine r_getBN 0 (by decide) 0 rfl X (hE_45 k (by omega)) (hsw.1.2.2.1 k (by omega)).2.1 q1154 dX2_find_28 ?_
      refine lv_iload_n hx hb dX2_find_31 rfl (lv_at hl 2 rfl) ?_
      refine r_icmp_ne (tgt := 37) hx hb ⟨by omega, by omega⟩ ⟨by omega, by omega⟩ dX2_find_32 (by decide) (fun c32 => ?_) (fun c32 => ?_)
      · skip
        refine lv_goto (tgt := 8) hx hb dX2_find_37 (by decide) ?_
        exact ih8 (by omega) H_41 locs ls (lv_sub hl [1, 2, 3] rfl) hS (fp_ltS hno c32) (by omega) hE_42
      · skip
        refine lv_aload_n hx hb dX2_find_35 rfl (lv_at hl 0 rfl) ?_
        refine r_aret hx hb hr hlk hQ hS (Nat.le_of_ble_eq_true rfl) (Nat.le_of_ble_eq_true rfl) dX2_find_36 (Or.inl ⟨_, rfl⟩) (Or.inr ⟨_, rfl⟩) ?_
        exact (by rw [fp_fq_t (k := k) (by omega) c32 hno]; rfl)
  exact L8 0 (by omega) H_9 locs ls (lv_sub hl [1, 2, 0] rfl) hS (fun i hi => absurd hi (Nat.not_lt_zero _)) (Nat.le_refl _) hE_12
set_option maxHeartbeats 4000000 in
theorem c_X2_unknownNumbers (G : fp_G) (x : Nat) (l : Nat) (ed : Nat) (z : Nat) (t : Nat) (mc : Int32) (cap : Nat) (b : Nat → Nat) (S : PS) (hsw : fp_sw S b) : fp_M G yX2_unknownNumbers cX2_unknownNumbers 3 (some (.array .int)) 2 32 1 24 [.ref (x)] (fun H => fp_SE G x l ed z t mc cap b S H) fp_no (fun H v H1 => ∃ (q : Nat), v = some (.ref (q)) ∧ (H.size ≤ q) ∧ fp_At G H1 q (eI G (sN S) (fun j => iI ((fun _ => (-2 : Int)) j)))) := by
  refine fp_M.intro (by decide) (Nat.le_of_ble_eq_true rfl) ?_
  intro pg en s mi ag bl mt cd rR qQ ls X hx hb hr hlk hnm hR hQ hB hM hl
  have hS : va_S (fA fp_no s.heap.size) s.heap s.heap [] := va_S.rf
  generalize ([] : List Loc) = locs at hS ⊢
  have hb0 := hB.1
  have h_st := hM
  have hsz0 := hS.1
  have lt_1 := h_st.1.lt
  have hn24 := hsw.1.1
  obtain ⟨h_o, h_l, h_z, h_t, h_bl, h_xb, h_zb, h_tb⟩ := id h_st
  have lt_2 := h_l.1.lt
  have lt_3 := h_l.2.2
  have lt_4 := h_z.lt
  have lt_5 := h_t.lt
  refine lv_aload_n hx hb dX2_unknownNumbers_0 rfl (lv_at hl 0 rfl) ?_
  refine r_get X h_st.1 rfl in_X2 0 (by decide) q173 (Or.inl rfl) (v := .ref (l)) rfl dX2_unknownNumbers_1 ?_
  refine r_callV (cells1 := 0) (slots1 := 0) X hR (c_J2_size G l ed mc (sN S) cap b) q484 q461 q462 q92 q463 ⟨rfl, pd_J2_size⟩ ⟨Nat.le_of_ble_eq_true rfl, Nat.le_of_ble_eq_true rfl⟩ rfl rfl (Nat.le_of_ble_eq_true rfl) (Nat.le_of_ble_eq_true rfl) h_l.1 rfl rfl (Nat.le_of_ble_eq_true rfl) hl.1 dX2_unknownNumbers_4 (hB.of hS fp_no.base) h_l hS (fun _ h => h.elim) (fun v H_9 locs hp_6 hz_7 hk_8 hS => ?_)
  obtain ⟨rfl, rfl⟩ := hp_6
  refine r_stk (st2 := [.int (iI (((sN S) : Nat) : Int))]) rfl ?_
  refine r_newaI (n := (sN S)) X hR hS q513 rfl (by omega) (Nat.le_of_ble_eq_true rfl) (by omega) dX2_unknownNumbers_7 (fun q_10 H_11 hq_15 hE_12 hX_13 hz_14 hS => ?_)
  have hz_16 := hS.1
  have lt_17 := hE_12.lt
  refine lv_astore_n (lv' := [(1, .ref (q_10)), (0, .ref (x))]) hx hb dX2_unknownNumbers_9 rfl hl (by decide) rfl (fun ls hl => ?_)
  refine lv_iconst (v := (iI ((0 : Nat) : Int))) hx hb dX2_unknownNumbers_10 rfl ?_
  refine lv_istore_n (lv' := [(2, .int (iI ((0 : Nat) : Int))), (1, .ref (q_10)), (0, .ref (x))]) hx hb dX2_unknownNumbers_11 rfl hl (by decide) rfl (fun ls hl => ?_)
  have L12 : ∀ (k : Nat), k ≤ sN S → ∀ (H_18 : Heap) (locs : List Loc) (ls : Array Slot), lv_has ls 3 [(0, .ref (x)), (1, .ref (q_10)), (2, .int (iI ((k : Nat) : Int)))] → va_S (fA fp_no s.heap.size) s.heap H_18 locs → (H_11.size ≤ H_18.size) → fp_At G H_18 q_10 (eI G (sN S) (fun j => iI ((fun j => if j < k then (-2 : Int) else 0) j))) → W pg (g_l G) en rR s mi ag bl mt cd H_18 locs 1 (0 + (sN S)) qQ (F0 mi 12 ls []) := by
    refine lp_up (sN S) ?_
    intro k hk12 ih12 H_18 locs ls hl hS hz_19 hE_20
    have hz_21 := hS.1
    have lt_22 := hE_20.lt
    refine lv_iload_n hx hb dX2_unknownNumbers_12 rfl (lv_at hl 2 rfl) ?_
    refine lv_aload_n hx hb dX2_unknownNumbers_13 rfl (lv_at hl 1 rfl) ?_
    refine r_alen X (t := 0) rfl hE_20 (v := (iI (((sN S) : Nat) : Int))) rfl dX2_unknownNumbers_14 ?_
    refine r_icmp_ge (tgt := 29) hx hb ⟨by omega, by omega⟩ ⟨by omega, by omega⟩ dX2_unknownNumbers_15 (by decide) (fun c15 => ?_) (fun c15 => ?_)
    · skip
      obtain rfl : k = sN S := by omega
      refine lv_aload_n hx hb dX2_unknownNumbers_29 rfl (lv_at hl 1 rfl) ?_
      refine r_aret hx hb hr hlk hQ hS (Nat.le_of_ble_eq_true rfl) (by omega) dX2_unknownNumbers_30 (Or.inr ⟨_, rfl⟩) (Or.inr ⟨_, rfl⟩) ?_
      exact ⟨q_10, rfl, (by omega), (fp_At.cI hE_20 (fun j hj => if_pos hj))⟩
    · skip
      refine lv_aload_n hx hb dX2_unknownNumbers_18 rfl (lv_at hl 1 rfl) ?_
      refine lv_iload_n hx hb dX2_unknownNumbers_19 rfl (lv_at hl 2 rfl) ?_
      refine lv_bipush (v := (iI (-2))) hx hb dX2_unknownNumbers_20 rfl ?_
      refine r_iastI X hE_20 hS (Or.inr (by omega)) (j := k) rfl (by omega) (by omega) dX2_unknownNumbers_22 (fun H_26 locs hE_23 hz_24 hq_25 hS => ?_)
      have hz_27 := hS.1
      have hE_28 : fp_At G H_26 q_10 (eI G (sN S) (fun j => iI ((va_up (fun j => if j < k then (-2 : Int) else 0) k (-2)) j))) := hE_23.updI
      refine lv_iinc (v := (iI ((k + 1 : Nat) : Int))) (lv' := [(2, .int (iI ((k + 1 : Nat) : Int))), (0, .ref (x)), (1, .ref (q_10))]) hx hb dX2_unknownNumbers_23 hl (k := 2) rfl (iI_incN _ _) (by decide) rfl (fun ls hl => ?_)
      refine lv_goto (tgt := 12) hx hb dX2_unknownNumbers_26 (by decide) ?_
      exact ih12 (by omega) H_26 locs ls (lv_sub hl [1, 2, 0] rfl) hS (by omega) (fp_At.cI hE_28 (fun j _ => by unfold va_up; by_cases e : j = k <;> simp [e] <;> split <;> split <;> omega))
  exact L12 0 (by omega) H_11 locs ls (lv_sub hl [2, 1, 0] rfl) hS (Nat.le_refl _) (fp_At.cI hE_12 (fun j _ => by simp))
set_option maxHeartbeats 4000000 in
theorem c_X2_torches (G : fp_G) (x : Nat) (l : Nat) (ed : Nat) (z : Nat) (t : Nat) (mc : Int32) (cap : Nat) (b : Nat → Nat) (S : PS) (hsw : fp_sw S b) : fp_M G yX2_torches cX2_torches 6 (some .int) 1 12 0 0 [.ref (x)] (fun H => fp_SE G x l ed z t mc cap b S H) fp_no (fun H v H1 => v = some (.int (iI ((fp_tor S : Nat) : Int))) ∧ H = H1) := by
  refine fp_M.intro (by decide) (Nat.le_of_ble_eq_true rfl) ?_
  intro pg en s mi ag bl mt cd rR qQ ls X hx hb hr hlk hnm hR hQ hB hM hl
  have hS : va_S (fA fp_no s.heap.size) s.heap s.heap [] := va_S.rf
  generalize ([] : List Loc) = locs at hS ⊢
  have hb0 := hB.1
  have h_st := hM
  have hsz0 := hS.1
  have lt_1 := h_st.1.lt
  have hn24 := hsw.1.1
  obtain ⟨h_o, h_l, h_z, h_t, h_bl, h_xb, h_zb, h_tb⟩ := id h_st
  have lt_2 := h_l.1.lt
  have lt_3 := h_l.2.2
  have lt_4 := h_z.lt
  have lt_5 := h_t.lt
  refine lv_iconst (v := (iI ((0 : Nat) : Int))) hx hb dX2_torches_0 rfl ?_
  refine lv_istore_n (lv' := [(1, .int (iI ((0 : Nat) : Int))), (0, .ref (x))]) hx hb dX2_torches_1 rfl hl (by decide) rfl (fun ls hl => ?_)
  refine lv_aload_n hx hb dX2_torches_2 rfl (lv_at hl 1 rfl) ?_
  refine r_get X h_st.1 rfl in_X2 2 (by decide) q177 (Or.inl rfl) (v := .ref (t)) rfl dX2_torches_3 ?_
  refine lv_astore_n (lv' := [(2, .ref (t)), (1, .int (iI ((0 : Nat) : Int))), (0, .ref (x))]) hx hb dX2_torches_6 rfl hl (by decide) rfl (fun ls hl => ?_)
  refine lv_aload_n hx hb dX2_torches_7 rfl (lv_at hl 0 rfl) ?_
  refine r_alen X (t := 1) rfl h_t (v := (iI ((12 : Nat) : Int))) rfl dX2_torches_8 ?_
  refine lv_istore_n (lv' := [(3, .int (iI ((12 : Nat) : Int))), (2, .ref (t)), (1, .int (iI ((0 : Nat) : Int))), (0, .ref (x))]) hx hb dX2_torches_9 rfl hl (by decide) rfl (fun ls hl => ?_)
  refine lv_iconst (v := (iI ((0 : Nat) : Int))) hx hb dX2_torches_10 rfl ?_
  refine lv_istore (lv' := [(4, .int (iI ((0 : Nat) : Int))), (3, .int (iI ((12 : Nat) : Int))), (2, .ref (t)), (1, .int (iI ((0 : Nat) : Int))), (0, .ref (x))]) hx hb dX2_torches_11 hl (by decide) rfl (fun ls hl => ?_)
  have L13 : ∀ (k : Nat), k ≤ 12 → ∀ (locs : List Loc) (ls : Array Slot), lv_has ls 6 [(0, .ref (x)), (1, .int (iI ((fp_sm (sT S) k : Nat) : Int))), (2, .ref (t)), (3, .int (iI ((12 : Nat) : Int))), (4, .int (iI ((k : Nat) : Int)))] → va_S (fA fp_no s.heap.size) s.heap s.heap locs → W pg (g_l G) en rR s mi ag bl mt cd s.heap locs 0 0 qQ (F0 mi 13 ls []) := by
    refine lp_up 12 ?_
    intro k hk13 ih13 locs ls hl hS
    have hsm : fp_sm (sT S) k ≤ k * 1 := fp_sm_le (fun j hj => by have := hsw.1.2.2.2.2 j (by omega); omega)
    refine lv_iload hx hb dX2_torches_13 (lv_at hl 4 rfl) ?_
    refine lv_iload_n hx hb dX2_torches_15 rfl (lv_at hl 3 rfl) ?_
    refine r_icmp_ge (tgt := 44) hx hb ⟨by omega, by omega⟩ (by decide) dX2_torches_16 (by decide) (fun c16 => ?_) (fun c16 => ?_)
    · skip
      obtain rfl : k = 12 := by omega
      refine lv_iload_n hx hb dX2_torches_44 rfl (lv_at hl 1 rfl) ?_
      refine r_iret hx hb hr hlk hQ hS (Nat.le_of_ble_eq_true rfl) (Nat.le_of_ble_eq_true rfl) dX2_torches_45 ?_
      exact ⟨(congrArg (fun q : Nat => some (Value.int (iI (q : Int)))) (rfl)), rfl⟩
    · skip
      refine lv_aload_n hx hb dX2_torches_19 rfl (lv_at hl 2 rfl) ?_
      refine lv_iload hx hb dX2_torches_20 (lv_at hl 4 rfl) ?_
      refine r_zaldI X h_t (j := k) rfl (by omega) (by decide) dX2_torches_22 ?_
      refine r_set (y := .int (iI (bI (decide (sT S k = 1))))) rfl ?_
      refine lv_istore (lv' := [(5, .int (iI (bI (decide (sT S k = 1))))), (0, .ref (x)), (1, .int (iI ((fp_sm (sT S) k : Nat) : Int))), (2, .ref (t)), (3, .int (iI ((12 : Nat) : Int))), (4, .int (iI ((k : Nat) : Int)))]) hx hb dX2_torches_23 hl (by decide) rfl (fun ls hl => ?_)
      refine lv_iload_n hx hb dX2_torches_25 rfl (lv_at hl 2 rfl) ?_
      refine lv_iload hx hb dX2_torches_26 (lv_at hl 0 rfl) ?_
      refine r_ifeqB (tgt := 35) hx hb dX2_torches_28 (by decide) (fun c28 => ?_) (fun c28 => ?_)
      · skip
        have d28 := of_decide_eq_false c28
        refine lv_iconst (v := (iI ((0 : Nat) : Int))) hx hb dX2_torches_35 rfl ?_
        refine r_iaddN hx hb dX2_torches_36 ?_
        refine lv_istore_n (lv' := [(1, .int (iI (((fp_sm (sT S) k) + 0 : Nat) : Int))), (5, .int (iI (bI (decide (sT S k = 1))))), (0, .ref (x)), (2, .ref (t)), (3, .int (iI ((12 : Nat) : Int))), (4, .int (iI ((k : Nat) : Int)))]) hx hb dX2_torches_37 rfl hl (by decide) rfl (fun ls hl => ?_)
        refine lv_iinc (v := (iI ((k + 1 : Nat) : Int))) (lv' := [(4, .int (iI ((k + 1 : Nat) : Int))), (1, .int (iI (((fp_sm (sT S) k) + 0 : Nat) : Int))), (5, .int (iI (bI (decide (sT S k = 1))))), (0, .ref (x)), (2, .ref (t)), (3, .int (iI ((12 : Nat) : Int)))]) hx hb dX2_torches_38 hl (k := 5) rfl (iI_incN _ _) (by decide) rfl (fun ls hl => ?_)
        refine lv_goto (tgt := 13) hx hb dX2_torches_41 (by decide) ?_
        exact ih13 (by omega) locs ls (by rw [show Value.int (iI ((fp_sm (sT S) (k + 1) : Nat) : Int)) = Value.int (iI (((fp_sm (sT S) k) + 0 : Nat) : Int)) from congrArg (fun q : Nat => Value.int (iI (q : Int))) (by show fp_sm (sT S) k + sT S k = _; have := hsw.1.2.2.2.2 k (by omega); omega)]; exact lv_sub hl [3, 1, 4, 5, 0] rfl) hS
      · skip
        have d28 := of_decide_eq_true c28
        refine lv_iconst (v := (iI ((1 : Nat) : Int))) hx hb dX2_torches_31 rfl ?_
        refine lv_goto (tgt := 36) hx hb dX2_torches_32 (by decide) ?_
        refine r_iaddN hx hb dX2_torches_36 ?_
        refine lv_istore_n (lv' := [(1, .int (iI (((fp_sm (sT S) k) + 1 : Nat) : Int))), (5, .int (iI (bI (decide (sT S k = 1))))), (0, .ref (x)), (2, .ref (t)), (3, .int (iI ((12 : Nat) : Int))), (4, .int (iI ((k : Nat) : Int)))]) hx hb dX2_torches_37 rfl hl (by decide) rfl (fun ls hl => ?_)
        refine lv_iinc (v := (iI ((k + 1 : Nat) : Int))) (lv' := [(4, .int (iI ((k + 1 : Nat) : Int))), (1, .int (iI (((fp_sm (sT S) k) + 1 : Nat) : Int))), (5, .int (iI (bI (decide (sT S k = 1))))), (0, .ref (x)), (2, .ref (t)), (3, .int (iI ((12 : Nat) : Int)))]) hx hb dX2_torches_38 hl (k := 5) rfl (iI_incN _ _) (by decide) rfl (fun ls hl => ?_)
        refine lv_goto (tgt := 13) hx hb dX2_torches_41 (by decide) ?_
        exact ih13 (by omega) locs ls (by rw [show Value.int (iI ((fp_sm (sT S) (k + 1) : Nat) : Int)) = Value.int (iI (((fp_sm (sT S) k) + 1 : Nat) : Int)) from congrArg (fun q : Nat => Value.int (iI (q : Int))) (by show fp_sm (sT S) k + sT S k = _; have := hsw.1.2.2.2.2 k (by omega); omega)]; exact lv_sub hl [3, 1, 4, 5, 0] rfl) hS
  exact L13 0 (by omega) locs ls (lv_sub hl [4, 3, 2, 1, 0] rfl) hS
set_option maxHeartbeats 4000000 in
theorem c_X2_isClear (G : fp_G) (x : Nat) (l : Nat) (ed : Nat) (z : Nat) (t : Nat) (mc : Int32) (cap : Nat) (b : Nat → Nat) (S : PS) (tc : Nat) (c : Nat) (hsw : fp_sw S b) (htc : tc < 12) (hc : c < 12) : fp_M G yX2_isClear cX2_isClear 4 (some .boolean) 7 146 30 120 [.ref (x), .int (iI ((tc : Nat) : Int)), .int (iI ((c : Nat) : Int))] (fun H => fp_SE G x l ed z t mc cap b S H) fp_no (fun H v H1 => v = some (.int (iI (bI (fp_clr S tc c))))) := by
  refine fp_M.intro (by decide) (Nat.le_of_ble_eq_true rfl) ?_
  intro pg en s mi ag bl mt cd rR qQ ls X hx hb hr hlk hnm hR hQ hB hM hl
  have hS : va_S (fA fp_no s.heap.size) s.heap s.heap [] := va_S.rf
  generalize ([] : List Loc) = locs at hS ⊢
  have hb0 := hB.1
  have h_st := hM
  have hsz0 := hS.1
  have lt_1 := h_st.1.lt
  have hn24 := hsw.1.1
  have hh_tc := fp_hi_le hsw.1 tc
  refine lv_iload_n hx hb dX2_isClear_0 rfl (lv_at hl 1 rfl) ?_
  refine lv_iload_n hx hb dX2_isClear_1 rfl (lv_at hl 2 rfl) ?_
  refine r_minN X hR hl.1 q950 q621 q107 q622 (by decide) (Nat.le_of_ble_eq_true rfl) (Nat.le_of_ble_eq_true rfl) (Nat.le_of_ble_eq_true rfl) ⟨by omega, by omega⟩ ⟨by omega, by omega⟩ dX2_isClear_2 ?_
  refine r_set (y := .int (iI ((min tc c : Nat) : Int))) (congrArg (fun q : Int => Value.int (iI q)) (by omega)) ?_
  refine lv_iconst (v := (iI ((1 : Nat) : Int))) hx hb dX2_isClear_5 rfl ?_
  refine r_iaddN hx hb dX2_isClear_6 ?_
  refine lv_istore_n (lv' := [(3, .int (iI (((min tc c) + 1 : Nat) : Int))), (0, .ref (x)), (1, .int (iI ((tc : Nat) : Int))), (2, .int (iI ((c : Nat) : Int)))]) hx hb dX2_isClear_7 rfl hl (by decide) rfl (fun ls hl => ?_)
  have L8 : ∀ (k : Nat), k ≤ max tc c - min tc c - 1 → ∀ (H_2 : Heap) (locs : List Loc) (ls : Array Slot), lv_has ls 4 [(0, .ref (x)), (1, .int (iI ((tc : Nat) : Int))), (2, .int (iI ((c : Nat) : Int))), (3, .int (iI ((min tc c + 1 + k : Nat) : Int)))] → va_S (fA fp_no s.heap.size) s.heap H_2 locs → (∀ i, i < k → ¬ (fp_hi S tc + 2 < fp_hi S (min tc c + 1 + i))) → (s.heap.size ≤ H_2.size) → W pg (g_l G) en rR s mi ag bl mt cd H_2 locs (2 * k) (8 * k) qQ (F0 mi 8 ls []) := by
    refine lp_up (max tc c - min tc c - 1) ?_
    intro k hk8 ih8 H_2 locs ls hl hS hno hz_3
    have hz_4 := hS.1
    refine lv_iload_n hx hb dX2_isClear_8 rfl (lv_at hl 3 rfl) ?_
    refine lv_iload_n hx hb dX2_isClear_9 rfl (lv_at hl 1 rfl) ?_
    refine lv_iload_n hx hb dX2_isClear_10 rfl (lv_at hl 2 rfl) ?_
    refine r_maxN X hR hl.1 q424 q425 q107 q426 (by decide) (Nat.le_of_ble_eq_true rfl) (by omega) (by omega) (by omega) (by omega) dX2_isClear_11 ?_
    refine r_icmp_ge (tgt := 38) hx hb ⟨by omega, by omega⟩ ⟨by omega, by omega⟩ dX2_isClear_14 (by decide) (fun c14 => ?_) (fun c14 => ?_)
    · skip
      refine lv_iconst (v := (iI ((1 : Nat) : Int))) hx hb dX2_isClear_38 rfl ?_
      refine r_zret hx hb hr hlk hQ hS (by omega) (by omega) dX2_isClear_39 rfl ?_
      exact (congrArg (fun q : Bool => some (Value.int (iI (bI q)))) (Eq.symm (show (fp_clr S tc c) = true from fp_clr_t (fun j hj => hno j (by omega)))))
    · skip
      have hh_mintcc1k := fp_hi_le hsw.1 (min tc c + 1 + k)
      refine lv_aload_n hx hb dX2_isClear_17 rfl (lv_at hl 0 rfl) ?_
      refine lv_iload_n hx hb dX2_isClear_18 rfl (lv_at hl 3 rfl) ?_
      have hE_5 := h_st.ext (fp_X.ofS hS)
      refine r_callV (cells1 := (2 * k + 1)) (slots1 := (8 * k + 4)) X hR (c_X2_height G x l ed z t mc cap b S (min tc c + 1 + k) hsw (by omega)) q455 q272 q273 q89 q274 ⟨rfl, pd_X2_height⟩ ⟨Nat.le_of_ble_eq_true rfl, Nat.le_of_ble_eq_true rfl⟩ rfl rfl (by omega) (by omega) hE_5.1 rfl rfl (Nat.le_of_ble_eq_true rfl) hl.1 dX2_isClear_19 (hB.of hS fp_no.base) hE_5 hS (fun _ h => h.elim) (fun v H_9 locs hp_6 hz_7 hk_8 hS => ?_)
      obtain rfl := hp_6
      have hz_10 := hS.1
      refine r_stk (st2 := [.int (iI ((fp_hi S (min tc c + 1 + k) : Nat) : Int))]) rfl ?_
      refine lv_aload_n hx hb dX2_isClear_22 rfl (lv_at hl 0 rfl) ?_
      refine lv_iload_n hx hb dX2_isClear_23 rfl (lv_at hl 1 rfl) ?_
      have hE_11 := h_st.ext (fp_X.ofS hS)
      refine r_callV (cells1 := (2 * k + 1 + 1)) (slots1 := (8 * k + 4 + 4)) X hR (c_X2_flame G x l ed z t mc cap b S tc hsw htc) q451 q453 qs3 q89 q454 ⟨rfl, pd_X2_flame⟩ ⟨Nat.le_of_ble_eq_true rfl, Nat.le_of_ble_eq_true rfl⟩ rfl rfl (by omega) (by omega) hE_11.1 rfl rfl (Nat.le_of_ble_eq_true rfl) hl.1 dX2_isClear_24 (hB.of hS fp_no.base) hE_11 hS (fun _ h => h.elim) (fun v H_15 locs hp_12 hz_13 hk_14 hS => ?_)
      obtain rfl := hp_12
      have hz_16 := hS.1
      refine r_stk (st2 := [.int (iI ((fp_hi S tc + 2 : Nat) : Int)), .int (iI ((fp_hi S (min tc c + 1 + k) : Nat) : Int))]) rfl ?_
      refine r_icmp_le (tgt := 32) hx hb ⟨by omega, by omega⟩ ⟨by omega, by omega⟩ dX2_isClear_27 (by decide) (fun c27 => ?_) (fun c27 => ?_)
      · skip
        refine lv_iinc (v := (iI (((min tc c + 1 + k) + 1 : Nat) : Int))) (lv' := [(3, .int (iI (((min tc c + 1 + k) + 1 : Nat) : Int))), (0, .ref (x)), (1, .int (iI ((tc : Nat) : Int))), (2, .int (iI ((c : Nat) : Int)))]) hx hb dX2_isClear_32 hl (k := 3) rfl (iI_incN _ _) (by decide) rfl (fun ls hl => ?_)
        refine lv_goto (tgt := 8) hx hb dX2_isClear_35 (by decide) ?_
        refine W.widen (k := 2 * (k + 1)) (n := 8 * (k + 1)) (by omega) (by omega) ?_
        exact ih8 (by omega) H_15 locs ls (by rw [show Value.int (iI ((min tc c + 1 + (k + 1) : Nat) : Int)) = Value.int (iI (((min tc c + 1 + k) + 1 : Nat) : Int)) from congrArg (fun q : Nat => Value.int (iI (q : Int))) (by omega)]; exact lv_sub hl [1, 2, 3, 0] rfl) hS (fp_ltS hno (by omega)) (by omega)
      · skip
        refine lv_iconst (v := (iI ((0 : Nat) : Int))) hx hb dX2_isClear_30 rfl ?_
        refine r_zret hx hb hr hlk hQ hS (by omega) (by omega) dX2_isClear_31 rfl ?_
        exact (congrArg (fun q : Bool => some (Value.int (iI (bI q)))) (Eq.symm (show (fp_clr S tc c) = false from fp_clr_f (j := k) (by omega) (by omega))))
  refine W.widen (k := 2 * 0) (n := 8 * 0) (by omega) (by omega) ?_
  exact L8 0 (by omega) s.heap locs ls (by rw [show Value.int (iI ((min tc c + 1 + 0 : Nat) : Int)) = Value.int (iI (((min tc c) + 1 : Nat) : Int)) from congrArg (fun q : Nat => Value.int (iI (q : Int))) (by omega)]; exact lv_sub hl [1, 2, 3, 0] rfl) hS (fun i hi => absurd hi (Nat.not_lt_zero _)) (Nat.le_refl _)
set_option maxHeartbeats 4000000 in
theorem c_X2_isLit (G : fp_G) (x : Nat) (l : Nat) (ed : Nat) (z : Nat) (t : Nat) (mc : Int32) (cap : Nat) (b : Nat → Nat) (S : PS) (c : Nat) (hsw : fp_sw S b) (hc : c < 12) : fp_M G yX2_isLit cX2_isLit 3 (some .boolean) 8 169 400 1600 [.ref (x), .int (iI ((c : Nat) : Int))] (fun H => fp_SE G x l ed z t mc cap b S H) fp_no (fun H v H1 => v = some (.int (iI (bI (fp_lit S c))))) := by
  refine fp_M.intro (by decide) (Nat.le_of_ble_eq_true rfl) ?_
  intro pg en s mi ag bl mt cd rR qQ ls X hx hb hr hlk hnm hR hQ hB hM hl
  have hS : va_S (fA fp_no s.heap.size) s.heap s.heap [] := va_S.rf
  generalize ([] : List Loc) = locs at hS ⊢
  have hb0 := hB.1
  have h_st := hM
  have hsz0 := hS.1
  have lt_1 := h_st.1.lt
  have hn24 := hsw.1.1
  obtain ⟨h_o, h_l, h_z, h_t, h_bl, h_xb, h_zb, h_tb⟩ := id h_st
  have lt_2 := h_l.1.lt
  have lt_3 := h_l.2.2
  have lt_4 := h_z.lt
  have lt_5 := h_t.lt
  refine lv_iconst (v := (iI ((0 : Nat) : Int))) hx hb dX2_isLit_0 rfl ?_
  refine lv_iload_n hx hb dX2_isLit_1 rfl (lv_at hl 1 rfl) ?_
  refine lv_iconst (v := (iI ((4 : Nat) : Int))) hx hb dX2_isLit_2 rfl ?_
  refine r_isub hx hb dX2_isLit_3 ?_
  refine r_maxI X hR hl.1 q424 q425 q107 q426 (by decide) (Nat.le_of_ble_eq_true rfl) (Nat.le_of_ble_eq_true rfl) (Nat.le_of_ble_eq_true rfl) (by decide) ⟨by omega, by omega⟩ dX2_isLit_4 ?_
  refine r_set (y := .int (iI ((c - 4 : Nat) : Int))) (congrArg (fun q : Int => Value.int (iI q)) (by omega)) ?_
  refine lv_istore_n (lv' := [(2, .int (iI ((c - 4 : Nat) : Int))), (0, .ref (x)), (1, .int (iI ((c : Nat) : Int)))]) hx hb dX2_isLit_7 rfl hl (by decide) rfl (fun ls hl => ?_)
  have L8 : ∀ (k : Nat), k ≤ 12 → ∀ (H_6 : Heap) (locs : List Loc) (ls : Array Slot), lv_has ls 3 [(0, .ref (x)), (1, .int (iI ((c : Nat) : Int))), (2, .int (iI ((c - 4 + k : Nat) : Int)))] → va_S (fA fp_no s.heap.size) s.heap H_6 locs → (∀ i, i < k → fp_rch S (c - 4 + i) c = false) → (s.heap.size ≤ H_6.size) → W pg (g_l G) en rR s mi ag bl mt cd H_6 locs (30 * k) (120 * k) qQ (F0 mi 8 ls []) := by
    refine lp_up 12 ?_
    intro k hk8 ih8 H_6 locs ls hl hS hno hz_7
    have hz_8 := hS.1
    refine lv_iload_n hx hb dX2_isLit_8 rfl (lv_at hl 2 rfl) ?_
    refine lv_bipush (v := (iI ((11 : Nat) : Int))) hx hb dX2_isLit_9 rfl ?_
    refine lv_iload_n hx hb dX2_isLit_11 rfl (lv_at hl 1 rfl) ?_
    refine lv_iconst (v := (iI ((4 : Nat) : Int))) hx hb dX2_isLit_12 rfl ?_
    refine r_iaddN hx hb dX2_isLit_13 ?_
    refine r_minN X hR hl.1 q950 q621 q107 q622 (by decide) (Nat.le_of_ble_eq_true rfl) (by omega) (by omega) (by decide) ⟨by omega, by omega⟩ dX2_isLit_14 ?_
    refine r_set (y := .int (iI ((min 11 (c + 4) : Nat) : Int))) (congrArg (fun q : Int => Value.int (iI q)) (by omega)) ?_
    refine r_icmp_gt (tgt := 46) hx hb ⟨by omega, by omega⟩ ⟨by omega, by omega⟩ dX2_isLit_17 (by decide) (fun c17 => ?_) (fun c17 => ?_)
    · skip
      refine lv_iconst (v := (iI ((0 : Nat) : Int))) hx hb dX2_isLit_46 rfl ?_
      refine r_zret hx hb hr hlk hQ hS (by omega) (by omega) dX2_isLit_47 rfl ?_
      exact (congrArg (fun q : Bool => some (Value.int (iI (bI q)))) (Eq.symm (show (fp_lit S c) = false from fp_lit_f (fun i hi => if h : c - 4 ≤ i ∧ i < c - 4 + k then (by have := hno (i - (c - 4)) (by omega); rw [show c - 4 + (i - (c - 4)) = i by omega] at this; exact this) else fp_rch_f1 (fun x => by omega)))))
    · skip
      refine lv_aload_n hx hb dX2_isLit_20 rfl (lv_at hl 0 rfl) ?_
      have hE_9 := h_st.ext (fp_X.ofS hS)
      refine r_get X hE_9.1 rfl in_X2 2 (by decide) q177 (Or.inl rfl) (v := .ref (t)) rfl dX2_isLit_21 ?_
      refine lv_iload_n hx hb dX2_isLit_24 rfl (lv_at hl 2 rfl) ?_
      have hE_10 := fp_At.kept h_t (fp_keptS (by omega) hS (fun z => z))
      refine r_zaldI X hE_10 (j := c - 4 + k) rfl (by omega) (by decide) dX2_isLit_25 ?_
      refine r_set (y := .int (iI (bI (decide (sT S (c - 4 + k) = 1))))) rfl ?_
      refine r_ifeqB (tgt := 40) hx hb dX2_isLit_26 (by decide) (fun c26 => ?_) (fun c26 => ?_)
      · skip
        have d26 := of_decide_eq_false c26
        refine lv_iinc (v := (iI (((c - 4 + k) + 1 : Nat) : Int))) (lv' := [(2, .int (iI (((c - 4 + k) + 1 : Nat) : Int))), (0, .ref (x)), (1, .int (iI ((c : Nat) : Int)))]) hx hb dX2_isLit_40 hl (k := 2) rfl (iI_incN _ _) (by decide) rfl (fun ls hl => ?_)
        refine lv_goto (tgt := 8) hx hb dX2_isLit_43 (by decide) ?_
        refine W.widen (k := 30 * (k + 1)) (n := 120 * (k + 1)) (by omega) (by omega) ?_
        exact ih8 (by omega) H_6 locs ls (by rw [show Value.int (iI ((c - 4 + (k + 1) : Nat) : Int)) = Value.int (iI (((c - 4 + k) + 1 : Nat) : Int)) from congrArg (fun q : Nat => Value.int (iI (q : Int))) (by omega)]; exact lv_sub hl [1, 2, 0] rfl) hS (fp_ltS hno (fp_rch_0 d26 hsw.1 (by omega))) (by omega)
      · skip
        have d26 := of_decide_eq_true c26
        refine lv_aload_n hx hb dX2_isLit_29 rfl (lv_at hl 0 rfl) ?_
        refine lv_iload_n hx hb dX2_isLit_30 rfl (lv_at hl 2 rfl) ?_
        refine lv_iload_n hx hb dX2_isLit_31 rfl (lv_at hl 1 rfl) ?_
        refine r_callV (cells1 := (30 * k + 30)) (slots1 := (120 * k + 120)) X hR (c_X2_isClear G x l ed z t mc cap b S (c - 4 + k) c hsw (by omega) hc) q951 q953 qs14 q89 q954 ⟨rfl, pd_X2_isClear⟩ ⟨Nat.le_of_ble_eq_true rfl, Nat.le_of_ble_eq_true rfl⟩ rfl rfl (by omega) (by omega) hE_9.1 rfl rfl (Nat.le_of_ble_eq_true rfl) hl.1 dX2_isLit_32 (hB.of hS fp_no.base) hE_9 hS (fun _ h => h.elim) (fun v H_14 locs hp_11 hz_12 hk_13 hS => ?_)
        obtain rfl := hp_11
        have hz_15 := hS.1
        refine r_stk (st2 := [.int (iI (bI (fp_clr S (c - 4 + k) c)))]) rfl ?_
        refine r_ifeqB (tgt := 40) hx hb dX2_isLit_35 (by decide) (fun c35 => ?_) (fun c35 => ?_)
        · skip
          refine lv_iinc (v := (iI (((c - 4 + k) + 1 : Nat) : Int))) (lv' := [(2, .int (iI (((c - 4 + k) + 1 : Nat) : Int))), (0, .ref (x)), (1, .int (iI ((c : Nat) : Int)))]) hx hb dX2_isLit_40 hl (k := 2) rfl (iI_incN _ _) (by decide) rfl (fun ls hl => ?_)
          refine lv_goto (tgt := 8) hx hb dX2_isLit_43 (by decide) ?_
          refine W.widen (k := 30 * (k + 1)) (n := 120 * (k + 1)) (by omega) (by omega) ?_
          exact ih8 (by omega) H_14 locs ls (by rw [show Value.int (iI ((c - 4 + (k + 1) : Nat) : Int)) = Value.int (iI (((c - 4 + k) + 1 : Nat) : Int)) from congrArg (fun q : Nat => Value.int (iI (q : Int))) (by omega)]; exact lv_sub hl [1, 2, 0] rfl) hS (fp_ltS hno ((fp_rch_clr d26 (by omega)).trans c35)) (by omega)
        · skip
          refine lv_iconst (v := (iI ((1 : Nat) : Int))) hx hb dX2_isLit_38 rfl ?_
          refine r_zret hx hb hr hlk hQ hS (by omega) (by omega) dX2_isLit_39 rfl ?_
          exact (congrArg (fun q : Bool => some (Value.int (iI (bI q)))) (Eq.symm (show (fp_lit S c) = true from fp_lit_t (t := c - 4 + k) (by omega) d26 (by omega) c35)))
  refine W.widen (k := 30 * 0) (n := 120 * 0) (by omega) (by omega) ?_
  exact L8 0 (by omega) s.heap locs ls (by rw [show Value.int (iI ((c - 4 + 0 : Nat) : Int)) = Value.int (iI ((c - 4 : Nat) : Int)) from congrArg (fun q : Nat => Value.int (iI (q : Int))) (by omega)]; exact lv_sub hl [1, 2, 0] rfl) hS (fun i hi => absurd hi (Nat.not_lt_zero _)) (Nat.le_refl _)
