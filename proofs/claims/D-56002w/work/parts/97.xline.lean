/-! THE PLANNER: the formatted line; checks of places -/
set_option maxRecDepth 100000
theorem fp_SB.congr {G : fp_G} {x vl cap n n2 ml : Nat} {tx ty : Nat → Nat} {H : Heap} (h : fp_SB G x vl cap n ml tx H) (hn : n = n2) (e : ∀ i, i < n → tx i = ty i) : fp_SB G x vl cap n2 ml ty H := by
  subst hn
  obtain ⟨h1, ⟨f, h2, h3, h4⟩, h5⟩ := h
  exact ⟨h1, ⟨f, h2, fun i hi => by rw [← e i hi]; exact h3 i hi, h4⟩, h5⟩
/-- the text of a builder is the line L -/
def fp_LQ (tx : Nat → Nat) (n : Nat) (L : FL) : Prop := n = L.2 ∧ ∀ i, i < n → tx i = L.1 i
theorem fp_LQ.z {tx : Nat → Nat} : fp_LQ tx 0 fp_L0 := ⟨rfl, fun i hi => absurd hi (Nat.not_lt_zero i)⟩
theorem fp_LQ.cat {tx ty ty2 : Nat → Nat} {n m : Nat} {L : FL} (h : fp_LQ tx n L) (e : ∀ j, j < m → ty j = ty2 j) : fp_LQ (sb_cat tx n ty) (n + m) (sb_cat L.1 L.2 ty2, L.2 + m) := by
  obtain ⟨h1, h2⟩ := h
  refine ⟨by show n + m = L.2 + m; rw [h1], fun i hi => ?_⟩
  show sb_cat tx n ty i = sb_cat L.1 L.2 ty2 i
  unfold sb_cat
  rw [← h1]
  by_cases c : i < n
  · rw [if_pos c, if_pos c]
    exact h2 i c
  · rw [if_neg c, if_neg c]
    exact e _ (by omega)
theorem fp_LQ.pn {tx : Nat → Nat} {n z : Nat} {L : FL} (h : fp_LQ tx n L) : fp_LQ (sb_cat tx n (sb_dec z)) (n + sb_dg z) (fp_pn L z) := h.cat (fun _ _ => rfl)
theorem fp_LQ.pc {tx : Nat → Nat} {n c : Nat} {L : FL} (h : fp_LQ tx n L) : fp_LQ (va_up tx n c) (n + 1) (fp_pc L c) := by
  obtain ⟨h1, h2⟩ := h
  refine ⟨by show n + 1 = L.2 + 1; rw [h1], fun i hi => ?_⟩
  show va_up tx n c i = sb_cat L.1 L.2 (fun _ => c) i
  unfold sb_cat
  rw [← h1]
  by_cases e : i < n
  · rw [if_pos e, va_up_ne _ _ (by omega)]
    exact h2 i e
  · rw [if_neg e, show i = n by omega, va_up_self]
theorem fp_LQ.s1 {tx ty : Nat → Nat} {n c : Nat} {L : FL} (h : fp_LQ tx n L) (e : ty 0 = c) : fp_LQ (sb_cat tx n ty) (n + 1) (fp_pc L c) := h.cat (fun j hj => by rw [show j = 0 by omega]; exact e)
theorem fp_LQ.s0 {tx ty : Nat → Nat} {n : Nat} {L : FL} (h : fp_LQ tx n L) : fp_LQ (sb_cat tx n ty) (n + 0) L := ⟨h.1, fun i hi => by
  unfold sb_cat
  rw [if_pos (show i < n by omega)]
  exact h.2 i hi⟩
theorem fp_LQ.s2 {tx ty : Nat → Nat} {n c d : Nat} {L : FL} (h : fp_LQ tx n L) (e : ty 0 = c) (e2 : ty 1 = d) : fp_LQ (sb_cat tx n ty) (n + 2) (fp_pc (fp_pc L c) d) := by
  obtain ⟨h1, h2⟩ := h
  refine ⟨by show n + 2 = L.2 + 1 + 1; rw [h1], fun i hi => ?_⟩
  show sb_cat tx n ty i = sb_cat (sb_cat L.1 L.2 (fun _ => c)) (L.2 + 1) (fun _ => d) i
  unfold sb_cat
  rw [← h1]
  by_cases c1 : i < n
  · rw [if_pos c1, if_pos (show i < n + 1 by omega)]
    show _ = if i < n then _ else _
    rw [if_pos c1]
    exact h2 i c1
  · rw [if_neg c1]
    by_cases c2 : i = n
    · rw [if_pos (show i < n + 1 by omega), c2, Nat.sub_self, e]
      show _ = if n < n then _ else c
      rw [if_neg (Nat.lt_irrefl _)]
    · rw [if_neg (show ¬ i < n + 1 by omega), show i - n = 1 by omega, e2]
theorem fp_LQ.sb {G : fp_G} {x vl cap n ml : Nat} {tx : Nat → Nat} {L : FL} {H : Heap} (q : fp_LQ tx n L) (h : fp_SB G x vl cap n ml tx H) : fp_SB G x vl cap L.2 ml L.1 H := h.congr q.1 q.2
/-- is q a cell of a state? -/
def fp_isS (x l ed z t : Nat) (b : Nat → Nat) (n q : Nat) : Prop := q = x ∨ q = l ∨ q = ed ∨ q = z ∨ q = t ∨ ∃ k, k < n ∧ q = b k
/-- a is no cell of a state -/
def fp_nS (x l ed z t : Nat) (b : Nat → Nat) (n a : Nat) : Prop := ∀ q, fp_isS x l ed z t b n q → q ≠ a
theorem fp_nS.mk {x l ed z t n a : Nat} {b : Nat → Nat} (h : (x ≠ a ∧ l ≠ a ∧ ed ≠ a ∧ z ≠ a ∧ t ≠ a) ∧ ∀ k, k < n → b k ≠ a) : fp_nS x l ed z t b n a := by
  obtain ⟨⟨h1, h2, h3, h4, h5⟩, h6⟩ := h
  rintro q (rfl | rfl | rfl | rfl | rfl | ⟨k, hk, rfl⟩)
  · exact h1
  · exact h2
  · exact h3
  · exact h4
  · exact h5
  · exact h6 k hk
theorem fp_SE.nO {G : fp_G} {U : State} (hK : fp_K G U) (hd : fp_de G < (g_s G).heap.size) {x l ed z t : Nat} {mc : Int32} {cap : Nat} {b : Nat → Nat} {S : PS} {H : Heap} (h : fp_SE G x l ed z t mc cap b S H) {a j : Nat} {gs : List Value} {r : vw_C} (hj : fp_cl[j]? = some r) (hne : RX6 ≠ r.1 ∧ RX7 ≠ r.1 ∧ RX8 ≠ r.1 ∧ r.1 ≠ "FortPlanner$State" ∧ r.1 ≠ "java/util/ArrayList") (ha : fp_At G H a (eO j gs)) (hb : (g_s G).heap.size ≤ a) : fp_nS x l ed z t b (sN S) a := by
  obtain ⟨h1, h2, h3, h4, h5, -⟩ := h
  refine fp_nS.mk ⟨⟨fp_neOO hK (i := 2) rfl hj (fun z => hne.2.2.2.1 z.symm) h1 ha, fp_neOO hK (i := 8) rfl hj (fun z => hne.2.2.2.2 z.symm) h2.1 ha, Ne.symm (h2.neE hd hb (fun f h => fp_neOA hK (t := 4) hj rfl ha h)), Ne.symm (fp_neOA hK (t := 5) hj rfl ha h3), Ne.symm (fp_neOA hK (t := 1) hj rfl ha h4)⟩, fun k hk => fp_neBO hK hj hne.1 hne.2.1 hne.2.2.1 (h5 k hk) ha⟩
theorem fp_SE.nA {G : fp_G} {U : State} (hK : fp_K G U) (hd : fp_de G < (g_s G).heap.size) {x l ed z t : Nat} {mc : Int32} {cap : Nat} {b : Nat → Nat} {S : PS} {H : Heap} (h : fp_SE G x l ed z t mc cap b S H) {a j : Nat} {w : vp_A} {ty : FieldType} (hj : (fp_tys (g_A G))[j]? = some (g_A G j, ty)) (hne : (∀ ty2, (fp_tys (g_A G))[4]? = some (g_A G 4, ty2) → ty ≠ ty2) ∧ (∀ ty2, (fp_tys (g_A G))[5]? = some (g_A G 5, ty2) → ty ≠ ty2) ∧ ∀ ty2, (fp_tys (g_A G))[1]? = some (g_A G 1, ty2) → ty ≠ ty2) (ha : fp_At G H a (.inl (g_A G j, w))) (hb : (g_s G).heap.size ≤ a) : fp_nS x l ed z t b (sN S) a := by
  obtain ⟨h1, h2, h3, h4, h5, -⟩ := h
  refine fp_nS.mk ⟨⟨fp_neOA hK (i := 2) rfl hj h1 ha, fp_neOA hK (i := 8) rfl hj h2.1 ha, Ne.symm (h2.neE hd hb (fun f h => fp_neAA hK (t2 := 4) hj rfl (hne.1 _ rfl) ha h)), Ne.symm (fp_neAA hK (t2 := 5) hj rfl (hne.2.1 _ rfl) ha h3), Ne.symm (fp_neAA hK (t2 := 1) hj rfl (hne.2.2 _ rfl) ha h4)⟩, fun k hk => fp_neBA hK hj (h5 k hk) ha⟩

theorem fp_SE.mvA {G : fp_G} {x l ed z t : Nat} {mc : Int32} {cap : Nat} {b : Nat → Nat} {S : PS} {H H1 : Heap} (h : fp_SE G x l ed z t mc cap b S H) (hk : ∀ q, q < H.size → fp_isS x l ed z t b (sN S) q → H1[q]? = H[q]?) : fp_SE G x l ed z t mc cap b S H1 :=
  h.mv (hk _ h.1.lt (Or.inl rfl)) (hk _ h.2.1.1.lt (Or.inr (Or.inl rfl))) (hk _ h.2.1.2.2.1 (Or.inr (Or.inr (Or.inl rfl)))) (hk _ h.2.2.1.lt (Or.inr (Or.inr (Or.inr (Or.inl rfl))))) (hk _ h.2.2.2.1.lt (Or.inr (Or.inr (Or.inr (Or.inr (Or.inl rfl)))))) (fun k hk2 => hk _ (h.2.2.2.2.1 k hk2).lt (Or.inr (Or.inr (Or.inr (Or.inr (Or.inr ⟨k, hk2, rfl⟩))))))
theorem fp_SE.nB {G : fp_G} {U : State} (hK : fp_K G U) (hd : fp_de G < (g_s G).heap.size) {x l ed z t : Nat} {mc : Int32} {cap : Nat} {b : Nat → Nat} {S : PS} {H : Heap} (h : fp_SE G x l ed z t mc cap b S H) {a : Nat} {w : vp_A} (ha : fp_At G H a (.inl (g_A G 2, w))) (hb : (g_s G).heap.size ≤ a) : fp_nS x l ed z t b (sN S) a := by
  refine h.nA hK hd (j := 2) rfl ⟨fun ty2 e => ?_, fun ty2 e => ?_, fun ty2 e => ?_⟩ ha hb
  · have e2 : ty2 = .object "java/lang/Object" := (congrArg Prod.snd (Option.some.inj e)).symm
    rw [e2]; decide
  · have e2 : ty2 = .object "FortPlanner$Zone" := (congrArg Prod.snd (Option.some.inj e)).symm
    rw [e2]; decide
  · have e2 : ty2 = .boolean := (congrArg Prod.snd (Option.some.inj e)).symm
    rw [e2]; decide
theorem fp_let_b (B : Nat → Nat) : fp_let B < 128 := by
  unfold fp_let
  repeat' split
  all_goals decide
theorem fp_vch {a b c n m : Nat} (h : b = a ∨ n ≤ b) (h2 : c = b ∨ m ≤ c) (h3 : n ≤ m) : c = a ∨ n ≤ c := by
  rcases h2 with h2 | h2
  · rw [h2]; exact h
  · exact Or.inr (Nat.le_trans h3 h2)
theorem fp_LQ.r {L : FL} : fp_LQ L.1 L.2 L := ⟨rfl, fun _ _ => rfl⟩
section FPSBL
variable {G : fp_G} {x vl cap ml : Nat} {L : FL} {H : Heap}
theorem fp_SB.z {tx : Nat → Nat} (h : fp_SB G x vl cap 0 ml tx H) : fp_SB G x vl cap fp_L0.2 ml fp_L0.1 H := fp_LQ.z.sb h
theorem fp_SB.pc {c : Nat} (h : fp_SB G x vl cap (L.2 + 1) ml (va_up L.1 L.2 c) H) : fp_SB G x vl cap (fp_pc L c).2 ml (fp_pc L c).1 H := (fp_LQ.r.pc).sb h
theorem fp_SB.pn {c : Nat} (h : fp_SB G x vl cap (L.2 + sb_dg c) ml (sb_cat L.1 L.2 (sb_dec c)) H) : fp_SB G x vl cap (fp_pn L c).2 ml (fp_pn L c).1 H := (fp_LQ.r.pn).sb h
theorem fp_SB.s0 {ty : Nat → Nat} (h : fp_SB G x vl cap (L.2 + 0) ml (sb_cat L.1 L.2 ty) H) : fp_SB G x vl cap L.2 ml L.1 H := (fp_LQ.r.s0).sb h
theorem fp_SB.s1 {ty : Nat → Nat} {c : Nat} (e : ty 0 = c) (h : fp_SB G x vl cap (L.2 + 1) ml (sb_cat L.1 L.2 ty) H) : fp_SB G x vl cap (fp_pc L c).2 ml (fp_pc L c).1 H := (fp_LQ.r.s1 e).sb h
theorem fp_SB.s2 {ty : Nat → Nat} {c d : Nat} (e : ty 0 = c) (e2 : ty 1 = d) (h : fp_SB G x vl cap (L.2 + 2) ml (sb_cat L.1 L.2 ty) H) : fp_SB G x vl cap (fp_pc (fp_pc L c) d).2 ml (fp_pc (fp_pc L c) d).1 H := (fp_LQ.r.s2 e e2).sb h
end FPSBL
theorem fp_fh1_t {L : FL} {k : Nat} (h : 0 < k) : fp_fh1 L k = fp_pc L 32 := if_neg (by omega)
theorem fp_fh1_f {L : FL} {k : Nat} (h : k = 0) : fp_fh1 L k = L := if_pos h
theorem fp_fh2_t {S : PS} {L : FL} {k : Nat} (h : sT S k = 1) : fp_fh2 S L k = fp_pc L 33 := if_pos h
theorem fp_fh2_f {S : PS} {L : FL} {k : Nat} (h : ¬ sT S k = 1) : fp_fh2 S L k = L := if_neg h

set_option maxRecDepth 100000
set_option maxHeartbeats 4000000 in
theorem c_X1_lineChar (G : fp_G) (x : Nat) (u : Nat) (sv : Value) (hi : Nat) (ip : Nat) (ln : Nat) (ex : Bool) (er : Int) (fa : Int) (l : Nat) (ed : Nat) (z : Nat) (t : Nat) (mc : Int32) (cap : Nat) (b : Nat → Nat) (S : PS) (lv : Nat) (lc : Nat) (n : Nat) (ml : Nat) (tx : Nat → Nat) (zn : Int) (hsw : fp_sw S b) (hz : rg zn) : fp_MX G yX1_lineChar cX1_lineChar 2 (some .char) 7 101 1 6 [.ref (x), .int (iI (zn))] (fun H => fp_At G H x (eO 1 [.ref (u), sv, .ref (hi), .ref (ip), .ref (ln), .int (iI (bI (ex))), .int (iI (er)), .int (iI (fa))]) ∧ fp_SE G u l ed z t mc cap b S H ∧ fp_SB G ln lv lc n ml tx H) fp_no (fun H v H1 => v = some (.int (iI ((tx zn.toNat : Nat) : Int))) ∧ (0 ≤ zn ∧ zn < (n : Int))) (fun H E H1 => (E = "java/lang/IndexOutOfBoundsException" ∧ fp_X H H1 ∧ ¬ (0 ≤ zn ∧ zn < (n : Int)))) := by
  refine fp_MX.intro (by decide) (Nat.le_of_ble_eq_true rfl) ?_
  intro pg en s mi ag bl mt cd rR qQ ls X hx hb hr hlk hnm hR hQ hT hB hM hl
  have hS : va_S (fA fp_no s.heap.size) s.heap s.heap [] := va_S.rf
  generalize ([] : List Loc) = locs at hS ⊢
  have hb0 := hB.1
  obtain ⟨h_pob, h_st, h_sb⟩ := hM
  have hsz0 := hS.1
  have lt_1 := h_pob.lt
  have lt_2 := h_st.1.lt
  have lt_3 := h_sb.1.lt
  have lt_4 := h_sb.2.2.1.1
  obtain ⟨-, ⟨fsb, -, hsf, -⟩, hsw9, -⟩ := id h_sb
  refine lv_iload_n hx hb dX1_lineChar_0 rfl (lv_at hl 1 rfl) ?_
  refine lv_iconst (v := (iI ((0 : Nat) : Int))) hx hb dX1_lineChar_1 rfl ?_
  refine lv_aload_n hx hb dX1_lineChar_2 rfl (lv_at hl 0 rfl) ?_
  refine r_get X h_pob rfl in_X1 4 (by decide) q246 (Or.inl rfl) (v := .ref (ln)) rfl dX1_lineChar_3 ?_
  refine r_callV (cells1 := 0) (slots1 := 0) X hR (c_J6_length G ln lv lc n ml tx) q1079 q748 q2529 q97 q749 ⟨rfl, pd_J6_length⟩ ⟨Nat.le_of_ble_eq_true rfl, Nat.le_of_ble_eq_true rfl⟩ rfl rfl (Nat.le_of_ble_eq_true rfl) (Nat.le_of_ble_eq_true rfl) h_sb.1 rfl rfl (Nat.le_of_ble_eq_true rfl) hl.1 dX1_lineChar_6 (hB.of hS fp_no.base) h_sb hS (fun _ h => h.elim) (fun v H_8 locs hp_5 hz_6 hk_7 hS => ?_)
  obtain ⟨rfl, rfl⟩ := hp_5
  refine r_stk (st2 := [.int (iI ((n : Nat) : Int)), .int (iI ((0 : Nat) : Int)), .int (iI (zn))]) rfl ?_
  refine lv_iconst (v := (iI ((1 : Nat) : Int))) hx hb dX1_lineChar_9 rfl ?_
  refine r_isub hx hb dX1_lineChar_10 ?_
  refine r_callS (cells1 := 0) (slots1 := 0) X hR (c_X1_isBetween G (zn) 0 (((n : Nat) : Int) - ((1 : Nat) : Int)) (⟨by omega, by omega⟩) (⟨by omega, by omega⟩) (⟨by omega, by omega⟩)) q450 q404 q88 q405 pd_X1_isBetween ⟨Nat.le_of_ble_eq_true rfl, Nat.le_of_ble_eq_true rfl⟩ rfl rfl (Nat.le_of_ble_eq_true rfl) (Nat.le_of_ble_eq_true rfl) rfl (Nat.le_of_ble_eq_true rfl) hl.1 dX1_lineChar_11 (hB.of hS fp_no.base) trivial hS (fun _ h => h.elim) (fun v H_12 locs hp_9 hz_10 hk_11 hS => ?_)
  obtain ⟨rfl, rfl⟩ := hp_9
  refine r_stk (st2 := [.int (iI (bI (decide (0 ≤ (zn) ∧ (zn) ≤ (((n : Nat) : Int) - ((1 : Nat) : Int))))))]) rfl ?_
  refine x_callS (cells1 := 1) (slots1 := 6) X hR (c_X1_checkIndex G (decide (0 ≤ (zn) ∧ (zn) ≤ (((n : Nat) : Int) - ((1 : Nat) : Int))))) q1350 q1351 q88 q1352 pd_X1_checkIndex ⟨Nat.le_of_ble_eq_true rfl, Nat.le_of_ble_eq_true rfl⟩ rfl rfl (Nat.le_of_ble_eq_true rfl) (Nat.le_of_ble_eq_true rfl) rfl (Nat.le_of_ble_eq_true rfl) hl.1 dX1_lineChar_14 (hB.of hS fp_no.base) trivial hS (fun _ h => h.elim) (fun v H_16 locs hp_13 hz_14 hk_15 hS => ?_) (fun Ex qx cx H_16 locs hp_13 hz_14 hk_15 hS hcx hvx hlx => ?_)
  · skip
    obtain ⟨rfl, rfl, hbt_17⟩ := hp_13
    refine r_stk (st2 := []) rfl ?_
    have hck9 := of_decide_eq_true hbt_17
    obtain ⟨kn, rfl⟩ : ∃ kn : Nat, zn = ((kn : Nat) : Int) := ⟨zn.toNat, by omega⟩
    have hkn : kn < n := by omega
    have hsk := (hsf kn hkn).2
    refine lv_aload_n hx hb dX1_lineChar_17 rfl (lv_at hl 0 rfl) ?_
    refine r_get X h_pob rfl in_X1 4 (by decide) q246 (Or.inl rfl) (v := .ref (ln)) rfl dX1_lineChar_18 ?_
    refine lv_iload_n hx hb dX1_lineChar_21 rfl (lv_at hl 1 rfl) ?_
    refine r_callV (cells1 := 1) (slots1 := 6) X hR (c_J6_charAt G ln lv lc n ml tx kn (by omega)) q1697 q1698 q1699 q97 q1700 ⟨rfl, pd_J6_charAt⟩ ⟨Nat.le_of_ble_eq_true rfl, Nat.le_of_ble_eq_true rfl⟩ rfl rfl (Nat.le_of_ble_eq_true rfl) (Nat.le_of_ble_eq_true rfl) h_sb.1 rfl rfl (Nat.le_of_ble_eq_true rfl) hl.1 dX1_lineChar_22 (hB.of hS fp_no.base) h_sb hS (fun _ h => h.elim) (fun v H_21 locs hp_18 hz_19 hk_20 hS => ?_)
    obtain ⟨rfl, rfl⟩ := hp_18
    refine r_stk (st2 := [.int (iI ((tx kn : Nat) : Int))]) rfl ?_
    refine x_zret hx hb hr hlk hQ hS (Nat.le_of_ble_eq_true rfl) (Nat.le_of_ble_eq_true rfl) dX1_lineChar_25 (iI_char ⟨by omega, by omega⟩) ?_
    exact ⟨(congrArg (fun q : Nat => some (Value.int (iI (tx q : Nat)))) (Int.toNat_natCast kn).symm), (⟨by omega, by omega⟩)⟩
  · skip
    rcases hp_13 with ⟨rfl, hX9, hb9⟩
    exact x_out hT hlk hQ hS (Nat.le_of_ble_eq_true rfl) (Nat.le_of_ble_eq_true rfl) hcx hvx hlx (⟨rfl, fp_X.ofS hS, fun z => of_decide_eq_false hb9 (by omega)⟩)
set_option maxHeartbeats 4000000 in
theorem c_X1_formatBlock (G : fp_G) (x : Nat) (u : Nat) (sv : Value) (hi : Nat) (ip : Nat) (ln : Nat) (ex : Bool) (er : Int) (fa : Int) (l : Nat) (ed : Nat) (z : Nat) (t : Nat) (mc : Int32) (cap : Nat) (b : Nat → Nat) (S : PS) (lv : Nat) (lc : Nat) (n : Nat) (ml : Nat) (tx : Nat → Nat) (zn : Int) (hsw : fp_sw S b) (hz : rg zn) (hdl : fp_dl S) : fp_MX G yX1_formatBlock cX1_formatBlock 3 (some .int) 11 266 162 5968 [.ref (x), .int (iI (zn))] (fun H => fp_At G H x (eO 1 [.ref (u), sv, .ref (hi), .ref (ip), .ref (ln), .int (iI (bI (ex))), .int (iI (er)), .int (iI (fa))]) ∧ fp_SE G u l ed z t mc cap b S H ∧ fp_SB G ln lv lc n ml tx H) (fun q => (g_s G).heap.size ≤ q ∧ (q = ln ∨ q = lv)) (fun H v H1 => ∃ (lv2 : Nat), ∃ (lc2 : Nat), ∃ (ml2 : Nat), v = some (.int (iI (((fp_fbl S (fp_fnd S zn)).2 : Nat) : Int))) ∧ (fp_fc S zn = 0) ∧ (lv2 = lv ∨ H.size ≤ lv2) ∧ fp_SB G ln lv2 lc2 ((fp_fbl S (fp_fnd S zn)).2) ml2 ((fp_fbl S (fp_fnd S zn)).1) H1) (fun H E H1 => (E = "java/util/NoSuchElementException" ∧ ((fp_fc S zn = 1) ∧ fp_SB G ln lv lc n ml tx H1))) := by
  refine fp_MX.intro (by decide) (Nat.le_of_ble_eq_true rfl) ?_
  intro pg en s mi ag bl mt cd rR qQ ls X hx hb hr hlk hnm hR hQ hT hB hM hl
  have hS : va_S (fA (fun q => (g_s G).heap.size ≤ q ∧ (q = ln ∨ q = lv)) s.heap.size) s.heap s.heap [] := va_S.rf
  generalize ([] : List Loc) = locs at hS ⊢
  have hb0 := hB.1
  have hAb : ∀ q, (fun q => (g_s G).heap.size ≤ q ∧ (q = ln ∨ q = lv)) q → (g_s G).heap.size ≤ q := fun q h => h.1
  obtain ⟨h_pob, h_st, h_sb⟩ := hM
  have hsz0 := hS.1
  have lt_1 := h_pob.lt
  have lt_2 := h_st.1.lt
  have lt_3 := h_sb.1.lt
  have lt_4 := h_sb.2.2.1.1
  have hn24 := hsw.1.1
  have hed0 := (X.2.2.2.2.2.deT (A := fp_no) hB fp_no.base).2.2
  obtain ⟨hso, ⟨fsb, hsr, -⟩, hsw9, hsb1, hsb2⟩ := id h_sb
  have hnSl := fp_SE.nO X.2.2.2.2.2 hed0 h_st (j := 11) rfl ⟨by decide, by decide, by decide, by decide, by decide⟩ hso hsb1
  have hnSv := fp_SE.nB X.2.2.2.2.2 hed0 h_st hsr hsb2
  have hne_5 : fp_dif x ln := fp_neOO X.2.2.2.2.2 (i := 1) (j := 11) rfl rfl (by decide) h_pob hso
  have hne_6 : fp_dif x lv := fp_neOA X.2.2.2.2.2 (i := 1) (t := 2) rfl rfl h_pob hsr
  have hne_7 : fp_dif ln lv := fp_neOA X.2.2.2.2.2 (i := 11) (t := 2) rfl rfl hso hsr
  obtain ⟨h_o, h_l, h_z, h_t, h_bl, h_xb, h_zb, h_tb⟩ := id h_st
  have lt_8 := h_l.1.lt
  have lt_9 := h_l.2.2
  have lt_10 := h_z.lt
  have lt_11 := h_t.lt
  refine lv_aload_n hx hb dX1_formatBlock_0 rfl (lv_at hl 0 rfl) ?_
  refine lv_iload_n hx hb dX1_formatBlock_1 rfl (lv_at hl 1 rfl) ?_
  refine x_callV (cells1 := 2) (slots1 := 10) X hR (c_X1_block G x u sv hi ip ln ex (er) (fa) l ed z t mc cap b S (zn) hsw (⟨by omega, by omega⟩)) q1320 q1322 qs26 q88 q1323 ⟨rfl, pd_X1_block⟩ ⟨Nat.le_of_ble_eq_true rfl, Nat.le_of_ble_eq_true rfl⟩ rfl rfl (Nat.le_of_ble_eq_true rfl) (Nat.le_of_ble_eq_true rfl) h_pob rfl rfl (Nat.le_of_ble_eq_true rfl) hl.1 dX1_formatBlock_2 (hB.of hS hAb) ⟨h_pob, h_st⟩ hS (fun _ h => h.elim) (fun v H_15 locs hp_12 hz_13 hk_14 hS => ?_) (fun Ex qx cx H_15 locs hp_12 hz_13 hk_14 hS hcx hvx hlx => ?_)
  · skip
    obtain ⟨rfl, hfn_16⟩ := hp_12
    have hz_17 := hS.1
    refine r_stk (st2 := [.ref (b (fp_fnd S (zn)))]) rfl ?_
    have hfn := hfn_16
    have hbk0 := hsw.1.2.2.1 (fp_fnd S zn) hfn
    have hFC : fp_fc S zn = 0 := fp_fc_0 rfl hfn
    have hltb := fp_let_b (sB S (fp_fnd S zn))
    have hstb := fp_str_b hbk0
    have hldb := fp_ld_b hsw.1 (fp_fnd S zn)
    have hdg0 := fp_dg9 (n := sB S (fp_fnd S zn) 0) (by omega)
    have hdg1 := fp_dg9 (n := sB S (fp_fnd S zn) 2) (by omega)
    have hdg2 := fp_dg9 (n := sB S (fp_fnd S zn) 3) (by omega)
    have hdg3 := fp_dg9 (n := sB S (fp_fnd S zn) 5) (by omega)
    have hdg4 := fp_dg9 (n := sB S (fp_fnd S zn) 4) (by omega)
    have hdg5 := fp_dg9 (n := fp_ld S (fp_fnd S zn)) (by omega)
    have hdg6 := fp_dg9 (n := fp_str (sB S (fp_fnd S zn))) (by omega)
    refine lv_astore_n (lv' := [(2, .ref (b (fp_fnd S (zn)))), (0, .ref (x)), (1, .int (iI (zn)))]) hx hb dX1_formatBlock_5 rfl hl (by decide) rfl (fun ls hl => ?_)
    refine lv_aload_n hx hb dX1_formatBlock_6 rfl (lv_at hl 1 rfl) ?_
    have hE_18 := fp_At.kept h_pob (fp_keptS (by omega) hS (fun h => (fun h => h.elim (hne_5) (hne_6)) h.2))
    refine r_get X hE_18 rfl in_X1 4 (by decide) q246 (Or.inl rfl) (v := .ref (ln)) rfl dX1_formatBlock_7 ?_
    refine lv_iconst (v := (iI ((0 : Nat) : Int))) hx hb dX1_formatBlock_10 rfl ?_
    have hE_20 := h_sb.ext (fp_X.no hz_13 hk_14)
    refine r_callV (cells1 := 3) (slots1 := 212) X hR (c_J6_setLength G ln lv lc n ml tx) q1009 q1010 q1011 q97 q1012 ⟨rfl, pd_J6_setLength⟩ ⟨Nat.le_of_ble_eq_true rfl, Nat.le_of_ble_eq_true rfl⟩ rfl rfl (Nat.le_of_ble_eq_true rfl) (Nat.le_of_ble_eq_true rfl) hE_20.1 rfl rfl (Nat.le_of_ble_eq_true rfl) hl.1 dX1_formatBlock_11 (hB.of hS hAb) hE_20 hS (fun q h => by have h2 : (g_s G).heap.size ≤ q ∧ (q = ln) := h; show ((g_s G).heap.size ≤ q ∧ (q = ln ∨ q = lv)) ∨ s.heap.size ≤ q; omega) (fun v H_24 locs hp_21 hz_22 hk_23 hS => ?_)
    obtain ⟨vl2_25, cap2_26, ml2_27, rfl, hv2_28, hE_29⟩ := hp_21
    have hz_30 := hS.1
    have lt_31 := hE_29.1.lt
    have lt_32 := hE_29.2.2.1.1
    refine r_stk (st2 := []) rfl ?_
    have hvc_33 := fp_vch (Or.inl rfl) hv2_28 (show s.heap.size ≤ _ by omega)
    clear hv2_28
    have hE_34 : fp_SB G ln vl2_25 cap2_26 (fp_L0.2) ml2_27 (fp_L0.1) H_24 := fp_SB.z hE_29
    have hl11 : fp_L0.2 = 0 := rfl
    have lt_35 := hE_34.1.lt
    have lt_36 := hE_34.2.2.1.1
    refine lv_aload_n hx hb dX1_formatBlock_14 rfl (lv_at hl 1 rfl) ?_
    have hE_37 := fp_At.kept h_pob (fp_keptS (by omega) hS (fun h => (fun h => h.elim (hne_5) (hne_6)) h.2))
    refine r_get X hE_37 rfl in_X1 4 (by decide) q246 (Or.inl rfl) (v := .ref (ln)) rfl dX1_formatBlock_15 ?_
    refine lv_aload_n hx hb dX1_formatBlock_18 rfl (lv_at hl 0 rfl) ?_
    have hE_38 := fp_BL.mv h_bl (fun k hk => fp_keptS (h_bl k hk).lt hS (fun h9 => (fun h9 => h9.elim (hnSl (b k) (Or.inr (Or.inr (Or.inr (Or.inr (Or.inr ⟨k, hk, rfl⟩)))))) (hnSv (b k) (Or.inr (Or.inr (Or.inr (Or.inr (Or.inr ⟨k, hk, rfl⟩))))))) h9.2))
    refine b_letter X hR (hE_38 (fp_fnd S (zn)) (by omega)) ((hsw.1.2.2.1 (fp_fnd S (zn)) (by omega)).2.1) q1657 (by decide) (by decide) (Nat.le_of_ble_eq_true rfl) (Nat.le_of_ble_eq_true rfl) (Nat.le_of_ble_eq_true rfl) hl.1 dX1_formatBlock_19 (hB.of hS hAb) hS (fun locs hS => ?_)
    refine r_callV (cells1 := 4) (slots1 := 414) X hR (c_J6_append_3 G ln vl2_25 cap2_26 (fp_L0.2) ml2_27 (fp_L0.1) (fp_let ((sB S) (fp_fnd S (zn)))) (by omega) (by omega)) q1669 q1670 q1671 q97 q1672 ⟨rfl, pd_J6_append_3⟩ ⟨Nat.le_of_ble_eq_true rfl, Nat.le_of_ble_eq_true rfl⟩ rfl rfl (Nat.le_of_ble_eq_true rfl) (Nat.le_of_ble_eq_true rfl) hE_34.1 rfl rfl (Nat.le_of_ble_eq_true rfl) hl.1 dX1_formatBlock_22 (hB.of hS hAb) hE_34 hS (fun q h => by have h2 : (g_s G).heap.size ≤ q ∧ (q = ln ∨ q = vl2_25) := h; show ((g_s G).heap.size ≤ q ∧ (q = ln ∨ q = lv)) ∨ s.heap.size ≤ q; omega) (fun v H_42 locs hp_39 hz_40 hk_41 hS => ?_)
    obtain ⟨vl2_43, cap2_44, rfl, hv2_45, hE_46⟩ := hp_39
    have hz_47 := hS.1
    have lt_48 := hE_46.1.lt
    have lt_49 := hE_46.2.2.1.1
    refine r_stk (st2 := [.ref (ln)]) rfl ?_
    have hvc_50 := fp_vch hvc_33 hv2_45 (show s.heap.size ≤ _ by omega)
    clear hv2_45 hvc_33
    obtain ⟨L_52, hL_53⟩ : ∃ L9 : FL, L9 = fp_pc fp_L0 (fp_let (sB S (fp_fnd S zn))) := ⟨_, rfl⟩
    have hL_53l : L_52.2 = fp_L0.2 + 1 := by rw [hL_53]; rfl
    have hE_51 : fp_SB G ln vl2_43 cap2_44 (L_52.2) ml2_27 (L_52.1) H_42 := by rw [hL_53]; exact fp_SB.pc hE_46
    have lt_54 := hE_51.1.lt
    have lt_55 := hE_51.2.2.1.1
    refine lv_aload_n hx hb dX1_formatBlock_25 rfl (lv_at hl 0 rfl) ?_
    have hE_56 := fp_BL.mv h_bl (fun k hk => fp_keptS (h_bl k hk).lt hS (fun h9 => (fun h9 => h9.elim (hnSl (b k) (Or.inr (Or.inr (Or.inr (Or.inr (Or.inr ⟨k, hk, rfl⟩)))))) (hnSv (b k) (Or.inr (Or.inr (Or.inr (Or.inr (Or.inr ⟨k, hk, rfl⟩))))))) h9.2))
    refine r_getBN 0 (by decide) 0 rfl X (hE_56 (fp_fnd S (zn)) (by omega)) (hsw.1.2.2.1 (fp_fnd S (zn)) (by omega)).2.1 q1155 dX1_formatBlock_26 ?_
    refine r_callV (cells1 := 5) (slots1 := 616) X hR (c_J6_append_2 G ln vl2_43 cap2_44 (L_52.2) ml2_27 (L_52.1) (((sB S) (fp_fnd S (zn))) 0) (by omega) (by omega)) q1078 q701 q702 q97 q703 ⟨rfl, pd_J6_append_2⟩ ⟨Nat.le_of_ble_eq_true rfl, Nat.le_of_ble_eq_true rfl⟩ rfl rfl (Nat.le_of_ble_eq_true rfl) (Nat.le_of_ble_eq_true rfl) hE_51.1 rfl rfl (Nat.le_of_ble_eq_true rfl) hl.1 dX1_formatBlock_29 (hB.of hS hAb) hE_51 hS (fun q h => by have h2 : (g_s G).heap.size ≤ q ∧ (q = ln ∨ q = vl2_43) := h; show ((g_s G).heap.size ≤ q ∧ (q = ln ∨ q = lv)) ∨ s.heap.size ≤ q; omega) (fun v H_60 locs hp_57 hz_58 hk_59 hS => ?_)
    obtain ⟨vl2_61, cap2_62, rfl, hv2_63, hE_64⟩ := hp_57
    have hz_65 := hS.1
    have lt_66 := hE_64.1.lt
    have lt_67 := hE_64.2.2.1.1
    refine r_stk (st2 := [.ref (ln)]) rfl ?_
    have hvc_68 := fp_vch hvc_50 hv2_63 (show s.heap.size ≤ _ by omega)
    clear hv2_63 hvc_50
    obtain ⟨L_70, hL_71⟩ : ∃ L9 : FL, L9 = fp_pn L_52 (sB S (fp_fnd S zn) 0) := ⟨_, rfl⟩
    have hL_71l : L_70.2 = L_52.2 + sb_dg (sB S (fp_fnd S zn) 0) := by rw [hL_71]; rfl
    have hE_69 : fp_SB G ln vl2_61 cap2_62 (L_70.2) ml2_27 (L_70.1) H_60 := by rw [hL_71]; exact fp_SB.pn hE_64
    have lt_72 := hE_69.1.lt
    have lt_73 := hE_69.2.2.1.1
    refine lv_bipush (v := (iI ((91 : Nat) : Int))) hx hb dX1_formatBlock_32 rfl ?_
    refine r_callV (cells1 := 6) (slots1 := 818) X hR (c_J6_append_3 G ln vl2_61 cap2_62 (L_70.2) ml2_27 (L_70.1) 91 (by omega) (by omega)) q1669 q1670 q1671 q97 q1672 ⟨rfl, pd_J6_append_3⟩ ⟨Nat.le_of_ble_eq_true rfl, Nat.le_of_ble_eq_true rfl⟩ rfl rfl (Nat.le_of_ble_eq_true rfl) (Nat.le_of_ble_eq_true rfl) hE_69.1 rfl rfl (Nat.le_of_ble_eq_true rfl) hl.1 dX1_formatBlock_34 (hB.of hS hAb) hE_69 hS (fun q h => by have h2 : (g_s G).heap.size ≤ q ∧ (q = ln ∨ q = vl2_61) := h; show ((g_s G).heap.size ≤ q ∧ (q = ln ∨ q = lv)) ∨ s.heap.size ≤ q; omega) (fun v H_77 locs hp_74 hz_75 hk_76 hS => ?_)
    obtain ⟨vl2_78, cap2_79, rfl, hv2_80, hE_81⟩ := hp_74
    have hz_82 := hS.1
    have lt_83 := hE_81.1.lt
    have lt_84 := hE_81.2.2.1.1
    refine r_stk (st2 := [.ref (ln)]) rfl ?_
    have hvc_85 := fp_vch hvc_68 hv2_80 (show s.heap.size ≤ _ by omega)
    clear hv2_80 hvc_68
    obtain ⟨L_87, hL_88⟩ : ∃ L9 : FL, L9 = fp_pc L_70 91 := ⟨_, rfl⟩
    have hL_88l : L_87.2 = L_70.2 + 1 := by rw [hL_88]; rfl
    have hE_86 : fp_SB G ln vl2_78 cap2_79 (L_87.2) ml2_27 (L_87.1) H_77 := by rw [hL_88]; exact fp_SB.pc hE_81
    have lt_89 := hE_86.1.lt
    have lt_90 := hE_86.2.2.1.1
    refine lv_aload_n hx hb dX1_formatBlock_37 rfl (lv_at hl 0 rfl) ?_
    have hE_91 := fp_BL.mv h_bl (fun k hk => fp_keptS (h_bl k hk).lt hS (fun h9 => (fun h9 => h9.elim (hnSl (b k) (Or.inr (Or.inr (Or.inr (Or.inr (Or.inr ⟨k, hk, rfl⟩)))))) (hnSv (b k) (Or.inr (Or.inr (Or.inr (Or.inr (Or.inr ⟨k, hk, rfl⟩))))))) h9.2))
    refine r_getBN 1 (by decide) 2 rfl X (hE_91 (fp_fnd S (zn)) (by omega)) (hsw.1.2.2.1 (fp_fnd S (zn)) (by omega)).2.1 q1158 dX1_formatBlock_38 ?_
    refine r_callV (cells1 := 7) (slots1 := 1020) X hR (c_J6_append_2 G ln vl2_78 cap2_79 (L_87.2) ml2_27 (L_87.1) (((sB S) (fp_fnd S (zn))) 2) (by omega) (by omega)) q1078 q701 q702 q97 q703 ⟨rfl, pd_J6_append_2⟩ ⟨Nat.le_of_ble_eq_true rfl, Nat.le_of_ble_eq_true rfl⟩ rfl rfl (Nat.le_of_ble_eq_true rfl) (Nat.le_of_ble_eq_true rfl) hE_86.1 rfl rfl (Nat.le_of_ble_eq_true rfl) hl.1 dX1_formatBlock_41 (hB.of hS hAb) hE_86 hS (fun q h => by have h2 : (g_s G).heap.size ≤ q ∧ (q = ln ∨ q = vl2_78) := h; show ((g_s G).heap.size ≤ q ∧ (q = ln ∨ q = lv)) ∨ s.heap.size ≤ q; omega) (fun v H_95 locs hp_92 hz_93 hk_94 hS => ?_)
    obtain ⟨vl2_96, cap2_97, rfl, hv2_98, hE_99⟩ := hp_92
    have hz_100 := hS.1
    have lt_101 := hE_99.1.lt
    have lt_102 := hE_99.2.2.1.1
    refine r_stk (st2 := [.ref (ln)]) rfl ?_
    have hvc_103 := fp_vch hvc_85 hv2_98 (show s.heap.size ≤ _ by omega)
    clear hv2_98 hvc_85
    obtain ⟨L_105, hL_106⟩ : ∃ L9 : FL, L9 = fp_pn L_87 (sB S (fp_fnd S zn) 2) := ⟨_, rfl⟩
    have hL_106l : L_105.2 = L_87.2 + sb_dg (sB S (fp_fnd S zn) 2) := by rw [hL_106]; rfl
    have hE_104 : fp_SB G ln vl2_96 cap2_97 (L_105.2) ml2_27 (L_105.1) H_95 := by rw [hL_106]; exact fp_SB.pn hE_99
    have lt_107 := hE_104.1.lt
    have lt_108 := hE_104.2.2.1.1
    refine lv_pop hx hb dX1_formatBlock_44 rfl ?_
    refine lv_aload_n hx hb dX1_formatBlock_45 rfl (lv_at hl 1 rfl) ?_
    have hE_109 := fp_At.kept h_pob (fp_keptS (by omega) hS (fun h => (fun h => h.elim (hne_5) (hne_6)) h.2))
    refine r_get X hE_109 rfl in_X1 4 (by decide) q246 (Or.inl rfl) (v := .ref (ln)) rfl dX1_formatBlock_46 ?_
    refine lv_bipush (v := (iI ((43 : Nat) : Int))) hx hb dX1_formatBlock_49 rfl ?_
    refine r_callV (cells1 := 8) (slots1 := 1222) X hR (c_J6_append_3 G ln vl2_96 cap2_97 (L_105.2) ml2_27 (L_105.1) 43 (by omega) (by omega)) q1669 q1670 q1671 q97 q1672 ⟨rfl, pd_J6_append_3⟩ ⟨Nat.le_of_ble_eq_true rfl, Nat.le_of_ble_eq_true rfl⟩ rfl rfl (Nat.le_of_ble_eq_true rfl) (Nat.le_of_ble_eq_true rfl) hE_104.1 rfl rfl (Nat.le_of_ble_eq_true rfl) hl.1 dX1_formatBlock_51 (hB.of hS hAb) hE_104 hS (fun q h => by have h2 : (g_s G).heap.size ≤ q ∧ (q = ln ∨ q = vl2_96) := h; show ((g_s G).heap.size ≤ q ∧ (q = ln ∨ q = lv)) ∨ s.heap.size ≤ q; omega) (fun v H_113 locs hp_110 hz_111 hk_112 hS => ?_)
    obtain ⟨vl2_114, cap2_115, rfl, hv2_116, hE_117⟩ := hp_110
    have hz_118 := hS.1
    have lt_119 := hE_117.1.lt
    have lt_120 := hE_117.2.2.1.1
    refine r_stk (st2 := [.ref (ln)]) rfl ?_
    have hvc_121 := fp_vch hvc_103 hv2_116 (show s.heap.size ≤ _ by omega)
    clear hv2_116 hvc_103
    obtain ⟨L_123, hL_124⟩ : ∃ L9 : FL, L9 = fp_pc L_105 43 := ⟨_, rfl⟩
    have hL_124l : L_123.2 = L_105.2 + 1 := by rw [hL_124]; rfl
    have hE_122 : fp_SB G ln vl2_114 cap2_115 (L_123.2) ml2_27 (L_123.1) H_113 := by rw [hL_124]; exact fp_SB.pc hE_117
    have lt_125 := hE_122.1.lt
    have lt_126 := hE_122.2.2.1.1
    refine lv_aload_n hx hb dX1_formatBlock_54 rfl (lv_at hl 0 rfl) ?_
    have hE_127 := fp_BL.mv h_bl (fun k hk => fp_keptS (h_bl k hk).lt hS (fun h9 => (fun h9 => h9.elim (hnSl (b k) (Or.inr (Or.inr (Or.inr (Or.inr (Or.inr ⟨k, hk, rfl⟩)))))) (hnSv (b k) (Or.inr (Or.inr (Or.inr (Or.inr (Or.inr ⟨k, hk, rfl⟩))))))) h9.2))
    refine r_getBN 2 (by decide) 3 rfl X (hE_127 (fp_fnd S (zn)) (by omega)) (hsw.1.2.2.1 (fp_fnd S (zn)) (by omega)).2.1 q1160 dX1_formatBlock_55 ?_
    refine r_callV (cells1 := 9) (slots1 := 1424) X hR (c_J6_append_2 G ln vl2_114 cap2_115 (L_123.2) ml2_27 (L_123.1) (((sB S) (fp_fnd S (zn))) 3) (by omega) (by omega)) q1078 q701 q702 q97 q703 ⟨rfl, pd_J6_append_2⟩ ⟨Nat.le_of_ble_eq_true rfl, Nat.le_of_ble_eq_true rfl⟩ rfl rfl (Nat.le_of_ble_eq_true rfl) (Nat.le_of_ble_eq_true rfl) hE_122.1 rfl rfl (Nat.le_of_ble_eq_true rfl) hl.1 dX1_formatBlock_58 (hB.of hS hAb) hE_122 hS (fun q h => by have h2 : (g_s G).heap.size ≤ q ∧ (q = ln ∨ q = vl2_114) := h; show ((g_s G).heap.size ≤ q ∧ (q = ln ∨ q = lv)) ∨ s.heap.size ≤ q; omega) (fun v H_131 locs hp_128 hz_129 hk_130 hS => ?_)
    obtain ⟨vl2_132, cap2_133, rfl, hv2_134, hE_135⟩ := hp_128
    have hz_136 := hS.1
    have lt_137 := hE_135.1.lt
    have lt_138 := hE_135.2.2.1.1
    refine r_stk (st2 := [.ref (ln)]) rfl ?_
    have hvc_139 := fp_vch hvc_121 hv2_134 (show s.heap.size ≤ _ by omega)
    clear hv2_134 hvc_121
    obtain ⟨L_141, hL_142⟩ : ∃ L9 : FL, L9 = fp_pn L_123 (sB S (fp_fnd S zn) 3) := ⟨_, rfl⟩
    have hL_142l : L_141.2 = L_123.2 + sb_dg (sB S (fp_fnd S zn) 3) := by rw [hL_142]; rfl
    have hE_140 : fp_SB G ln vl2_132 cap2_133 (L_141.2) ml2_27 (L_141.1) H_131 := by rw [hL_142]; exact fp_SB.pn hE_135
    have lt_143 := hE_140.1.lt
    have lt_144 := hE_140.2.2.1.1
    refine r_ldcSw X q1689 (X.2.2.2.2.2.kst hB fp_kXa).2.1 dX1_formatBlock_61 ?_
    have hk_145 := (X.2.2.2.2.2.kst (hB.of hS hAb) fp_kXa).1
    have lt_146 := hk_145.1.2
    have lt_147 := hk_145.2.2.1
    refine r_callV (cells1 := 10) (slots1 := 1626) X hR (c_J6_append G ln vl2_132 cap2_133 (L_141.2) ml2_27 (L_141.1) (fp_ks G "FortPlanner" 345) (fp_kv G "FortPlanner" 345) 2 (fun i => [93, 64].getD i 0) (show _ + 2 ≤ 99 by omega) ((X.2.2.2.2.2.kst hB fp_kXa).2.2)) q1076 q583 q584 q97 q585 ⟨rfl, pd_J6_append⟩ ⟨Nat.le_of_ble_eq_true rfl, Nat.le_of_ble_eq_true rfl⟩ rfl rfl (Nat.le_of_ble_eq_true rfl) (Nat.le_of_ble_eq_true rfl) hE_140.1 rfl rfl (Nat.le_of_ble_eq_true rfl) hl.1 dX1_formatBlock_64 (hB.of hS hAb) ⟨hE_140, hk_145⟩ hS (fun q h => by have h2 : (g_s G).heap.size ≤ q ∧ (q = ln ∨ q = vl2_132) := h; show ((g_s G).heap.size ≤ q ∧ (q = ln ∨ q = lv)) ∨ s.heap.size ≤ q; omega) (fun v H_151 locs hp_148 hz_149 hk_150 hS => ?_)
    obtain ⟨vl2_152, cap2_153, rfl, hv2_154, hE_155⟩ := hp_148
    have hz_156 := hS.1
    have lt_157 := hE_155.1.lt
    have lt_158 := hE_155.2.2.1.1
    refine r_stk (st2 := [.ref (ln)]) rfl ?_
    have hvc_159 := fp_vch hvc_139 hv2_154 (show s.heap.size ≤ _ by omega)
    clear hv2_154 hvc_139
    obtain ⟨L_161, hL_162⟩ : ∃ L9 : FL, L9 = fp_pc (fp_pc L_141 93) 64 := ⟨_, rfl⟩
    have hL_162l : L_161.2 = L_141.2 + 2 := by rw [hL_162]; rfl
    have hE_160 : fp_SB G ln vl2_152 cap2_153 (L_161.2) ml2_27 (L_161.1) H_151 := by rw [hL_162]; exact fp_SB.s2 rfl rfl hE_155
    have lt_163 := hE_160.1.lt
    have lt_164 := hE_160.2.2.1.1
    refine lv_aload_n hx hb dX1_formatBlock_67 rfl (lv_at hl 0 rfl) ?_
    have hE_165 := fp_BL.mv h_bl (fun k hk => fp_keptS (h_bl k hk).lt hS (fun h9 => (fun h9 => h9.elim (hnSl (b k) (Or.inr (Or.inr (Or.inr (Or.inr (Or.inr ⟨k, hk, rfl⟩)))))) (hnSv (b k) (Or.inr (Or.inr (Or.inr (Or.inr (Or.inr ⟨k, hk, rfl⟩))))))) h9.2))
    refine r_getBN 4 (by decide) 5 rfl X (hE_165 (fp_fnd S (zn)) (by omega)) (hsw.1.2.2.1 (fp_fnd S (zn)) (by omega)).2.1 q1166 dX1_formatBlock_68 ?_
    refine r_callV (cells1 := 11) (slots1 := 1828) X hR (c_J6_append_2 G ln vl2_152 cap2_153 (L_161.2) ml2_27 (L_161.1) (((sB S) (fp_fnd S (zn))) 5) (by omega) (by omega)) q1078 q701 q702 q97 q703 ⟨rfl, pd_J6_append_2⟩ ⟨Nat.le_of_ble_eq_true rfl, Nat.le_of_ble_eq_true rfl⟩ rfl rfl (Nat.le_of_ble_eq_true rfl) (Nat.le_of_ble_eq_true rfl) hE_160.1 rfl rfl (Nat.le_of_ble_eq_true rfl) hl.1 dX1_formatBlock_71 (hB.of hS hAb) hE_160 hS (fun q h => by have h2 : (g_s G).heap.size ≤ q ∧ (q = ln ∨ q = vl2_152) := h; show ((g_s G).heap.size ≤ q ∧ (q = ln ∨ q = lv)) ∨ s.heap.size ≤ q; omega) (fun v H_169 locs hp_166 hz_167 hk_168 hS => ?_)
    obtain ⟨vl2_170, cap2_171, rfl, hv2_172, hE_173⟩ := hp_166
    have hz_174 := hS.1
    have lt_175 := hE_173.1.lt
    have lt_176 := hE_173.2.2.1.1
    refine r_stk (st2 := [.ref (ln)]) rfl ?_
    have hvc_177 := fp_vch hvc_159 hv2_172 (show s.heap.size ≤ _ by omega)
    clear hv2_172 hvc_159
    obtain ⟨L_179, hL_180⟩ : ∃ L9 : FL, L9 = fp_pn L_161 (sB S (fp_fnd S zn) 5) := ⟨_, rfl⟩
    have hL_180l : L_179.2 = L_161.2 + sb_dg (sB S (fp_fnd S zn) 5) := by rw [hL_180]; rfl
    have hE_178 : fp_SB G ln vl2_170 cap2_171 (L_179.2) ml2_27 (L_179.1) H_169 := by rw [hL_180]; exact fp_SB.pn hE_173
    have lt_181 := hE_178.1.lt
    have lt_182 := hE_178.2.2.1.1
    refine lv_pop hx hb dX1_formatBlock_74 rfl ?_
    refine lv_aload_n hx hb dX1_formatBlock_75 rfl (lv_at hl 1 rfl) ?_
    have hE_183 := fp_At.kept h_pob (fp_keptS (by omega) hS (fun h => (fun h => h.elim (hne_5) (hne_6)) h.2))
    refine r_get X hE_183 rfl in_X1 4 (by decide) q246 (Or.inl rfl) (v := .ref (ln)) rfl dX1_formatBlock_76 ?_
    refine lv_bipush (v := (iI ((42 : Nat) : Int))) hx hb dX1_formatBlock_79 rfl ?_
    refine r_callV (cells1 := 12) (slots1 := 2030) X hR (c_J6_append_3 G ln vl2_170 cap2_171 (L_179.2) ml2_27 (L_179.1) 42 (by omega) (by omega)) q1669 q1670 q1671 q97 q1672 ⟨rfl, pd_J6_append_3⟩ ⟨Nat.le_of_ble_eq_true rfl, Nat.le_of_ble_eq_true rfl⟩ rfl rfl (Nat.le_of_ble_eq_true rfl) (Nat.le_of_ble_eq_true rfl) hE_178.1 rfl rfl (Nat.le_of_ble_eq_true rfl) hl.1 dX1_formatBlock_81 (hB.of hS hAb) hE_178 hS (fun q h => by have h2 : (g_s G).heap.size ≤ q ∧ (q = ln ∨ q = vl2_170) := h; show ((g_s G).heap.size ≤ q ∧ (q = ln ∨ q = lv)) ∨ s.heap.size ≤ q; omega) (fun v H_187 locs hp_184 hz_185 hk_186 hS => ?_)
    obtain ⟨vl2_188, cap2_189, rfl, hv2_190, hE_191⟩ := hp_184
    have hz_192 := hS.1
    have lt_193 := hE_191.1.lt
    have lt_194 := hE_191.2.2.1.1
    refine r_stk (st2 := [.ref (ln)]) rfl ?_
    have hvc_195 := fp_vch hvc_177 hv2_190 (show s.heap.size ≤ _ by omega)
    clear hv2_190 hvc_177
    obtain ⟨L_197, hL_198⟩ : ∃ L9 : FL, L9 = fp_pc L_179 42 := ⟨_, rfl⟩
    have hL_198l : L_197.2 = L_179.2 + 1 := by rw [hL_198]; rfl
    have hE_196 : fp_SB G ln vl2_188 cap2_189 (L_197.2) ml2_27 (L_197.1) H_187 := by rw [hL_198]; exact fp_SB.pc hE_191
    have lt_199 := hE_196.1.lt
    have lt_200 := hE_196.2.2.1.1
    refine lv_aload_n hx hb dX1_formatBlock_84 rfl (lv_at hl 0 rfl) ?_
    have hE_201 := fp_BL.mv h_bl (fun k hk => fp_keptS (h_bl k hk).lt hS (fun h9 => (fun h9 => h9.elim (hnSl (b k) (Or.inr (Or.inr (Or.inr (Or.inr (Or.inr ⟨k, hk, rfl⟩)))))) (hnSv (b k) (Or.inr (Or.inr (Or.inr (Or.inr (Or.inr ⟨k, hk, rfl⟩))))))) h9.2))
    refine r_getBN 3 (by decide) 4 rfl X (hE_201 (fp_fnd S (zn)) (by omega)) (hsw.1.2.2.1 (fp_fnd S (zn)) (by omega)).2.1 q1163 dX1_formatBlock_85 ?_
    refine r_callV (cells1 := 13) (slots1 := 2232) X hR (c_J6_append_2 G ln vl2_188 cap2_189 (L_197.2) ml2_27 (L_197.1) (((sB S) (fp_fnd S (zn))) 4) (by omega) (by omega)) q1078 q701 q702 q97 q703 ⟨rfl, pd_J6_append_2⟩ ⟨Nat.le_of_ble_eq_true rfl, Nat.le_of_ble_eq_true rfl⟩ rfl rfl (Nat.le_of_ble_eq_true rfl) (Nat.le_of_ble_eq_true rfl) hE_196.1 rfl rfl (Nat.le_of_ble_eq_true rfl) hl.1 dX1_formatBlock_88 (hB.of hS hAb) hE_196 hS (fun q h => by have h2 : (g_s G).heap.size ≤ q ∧ (q = ln ∨ q = vl2_188) := h; show ((g_s G).heap.size ≤ q ∧ (q = ln ∨ q = lv)) ∨ s.heap.size ≤ q; omega) (fun v H_205 locs hp_202 hz_203 hk_204 hS => ?_)
    obtain ⟨vl2_206, cap2_207, rfl, hv2_208, hE_209⟩ := hp_202
    have hz_210 := hS.1
    have lt_211 := hE_209.1.lt
    have lt_212 := hE_209.2.2.1.1
    refine r_stk (st2 := [.ref (ln)]) rfl ?_
    have hvc_213 := fp_vch hvc_195 hv2_208 (show s.heap.size ≤ _ by omega)
    clear hv2_208 hvc_195
    obtain ⟨L_215, hL_216⟩ : ∃ L9 : FL, L9 = fp_pn L_197 (sB S (fp_fnd S zn) 4) := ⟨_, rfl⟩
    have hL_216l : L_215.2 = L_197.2 + sb_dg (sB S (fp_fnd S zn) 4) := by rw [hL_216]; rfl
    have hE_214 : fp_SB G ln vl2_206 cap2_207 (L_215.2) ml2_27 (L_215.1) H_205 := by rw [hL_216]; exact fp_SB.pn hE_209
    have lt_217 := hE_214.1.lt
    have lt_218 := hE_214.2.2.1.1
    refine lv_bipush (v := (iI ((32 : Nat) : Int))) hx hb dX1_formatBlock_91 rfl ?_
    refine r_callV (cells1 := 14) (slots1 := 2434) X hR (c_J6_append_3 G ln vl2_206 cap2_207 (L_215.2) ml2_27 (L_215.1) 32 (by omega) (by omega)) q1669 q1670 q1671 q97 q1672 ⟨rfl, pd_J6_append_3⟩ ⟨Nat.le_of_ble_eq_true rfl, Nat.le_of_ble_eq_true rfl⟩ rfl rfl (Nat.le_of_ble_eq_true rfl) (Nat.le_of_ble_eq_true rfl) hE_214.1 rfl rfl (Nat.le_of_ble_eq_true rfl) hl.1 dX1_formatBlock_93 (hB.of hS hAb) hE_214 hS (fun q h => by have h2 : (g_s G).heap.size ≤ q ∧ (q = ln ∨ q = vl2_206) := h; show ((g_s G).heap.size ≤ q ∧ (q = ln ∨ q = lv)) ∨ s.heap.size ≤ q; omega) (fun v H_222 locs hp_219 hz_220 hk_221 hS => ?_)
    obtain ⟨vl2_223, cap2_224, rfl, hv2_225, hE_226⟩ := hp_219
    have hz_227 := hS.1
    have lt_228 := hE_226.1.lt
    have lt_229 := hE_226.2.2.1.1
    refine r_stk (st2 := [.ref (ln)]) rfl ?_
    have hvc_230 := fp_vch hvc_213 hv2_225 (show s.heap.size ≤ _ by omega)
    clear hv2_225 hvc_213
    obtain ⟨L_232, hL_233⟩ : ∃ L9 : FL, L9 = fp_pc L_215 32 := ⟨_, rfl⟩
    have hL_233l : L_232.2 = L_215.2 + 1 := by rw [hL_233]; rfl
    have hE_231 : fp_SB G ln vl2_223 cap2_224 (L_232.2) ml2_27 (L_232.1) H_222 := by rw [hL_233]; exact fp_SB.pc hE_226
    have lt_234 := hE_231.1.lt
    have lt_235 := hE_231.2.2.1.1
    refine lv_aload_n hx hb dX1_formatBlock_96 rfl (lv_at hl 1 rfl) ?_
    have hE_236 := fp_At.kept h_pob (fp_keptS (by omega) hS (fun h => (fun h => h.elim (hne_5) (hne_6)) h.2))
    refine r_get X hE_236 rfl in_X1 0 (by decide) q242 (Or.inl rfl) (v := .ref (u)) rfl dX1_formatBlock_97 ?_
    refine lv_aload_n hx hb dX1_formatBlock_100 rfl (lv_at hl 0 rfl) ?_
    have hE_237 := fp_SE.mvA h_st (fun q9 hq9 hs9 => fp_keptS hq9 hS (fun h9 => (fun h9 => h9.elim (hnSl q9 hs9) (hnSv q9 hs9)) h9.2))
    refine r_callV (cells1 := 159) (slots1 := 5362) X hR (c_X2_load G u l ed z t mc cap b S (fp_fnd S zn) hsw hdl hfn) q1520 q1521 q1522 q89 q1523 ⟨rfl, pd_X2_load⟩ ⟨Nat.le_of_ble_eq_true rfl, Nat.le_of_ble_eq_true rfl⟩ rfl rfl (Nat.le_of_ble_eq_true rfl) (Nat.le_of_ble_eq_true rfl) hE_237.1 rfl rfl (Nat.le_of_ble_eq_true rfl) hl.1 dX1_formatBlock_101 (hB.of hS hAb) hE_237 hS (fun _ h => h.elim) (fun v H_241 locs hp_238 hz_239 hk_240 hS => ?_)
    obtain rfl := hp_238
    have hz_242 := hS.1
    refine r_stk (st2 := [.int (iI ((fp_ld S (fp_fnd S zn) : Nat) : Int)), .ref (ln)]) rfl ?_
    have hE_244 := hE_231.ext (fp_X.no hz_239 hk_240)
    refine r_callV (cells1 := 160) (slots1 := 5564) X hR (c_J6_append_2 G ln vl2_223 cap2_224 (L_232.2) ml2_27 (L_232.1) (fp_ld S (fp_fnd S zn)) (by omega) (by omega)) q1078 q701 q702 q97 q703 ⟨rfl, pd_J6_append_2⟩ ⟨Nat.le_of_ble_eq_true rfl, Nat.le_of_ble_eq_true rfl⟩ rfl rfl (Nat.le_of_ble_eq_true rfl) (Nat.le_of_ble_eq_true rfl) hE_244.1 rfl rfl (Nat.le_of_ble_eq_true rfl) hl.1 dX1_formatBlock_104 (hB.of hS hAb) hE_244 hS (fun q h => by have h2 : (g_s G).heap.size ≤ q ∧ (q = ln ∨ q = vl2_223) := h; show ((g_s G).heap.size ≤ q ∧ (q = ln ∨ q = lv)) ∨ s.heap.size ≤ q; omega) (fun v H_248 locs hp_245 hz_246 hk_247 hS => ?_)
    obtain ⟨vl2_249, cap2_250, rfl, hv2_251, hE_252⟩ := hp_245
    have hz_253 := hS.1
    have lt_254 := hE_252.1.lt
    have lt_255 := hE_252.2.2.1.1
    refine r_stk (st2 := [.ref (ln)]) rfl ?_
    have hvc_256 := fp_vch hvc_230 hv2_251 (show s.heap.size ≤ _ by omega)
    clear hv2_251 hvc_230
    obtain ⟨L_258, hL_259⟩ : ∃ L9 : FL, L9 = fp_pn L_232 (fp_ld S (fp_fnd S zn)) := ⟨_, rfl⟩
    have hL_259l : L_258.2 = L_232.2 + sb_dg (fp_ld S (fp_fnd S zn)) := by rw [hL_259]; rfl
    have hE_257 : fp_SB G ln vl2_249 cap2_250 (L_258.2) ml2_27 (L_258.1) H_248 := by rw [hL_259]; exact fp_SB.pn hE_252
    have lt_260 := hE_257.1.lt
    have lt_261 := hE_257.2.2.1.1
    refine lv_pop hx hb dX1_formatBlock_107 rfl ?_
    refine lv_aload_n hx hb dX1_formatBlock_108 rfl (lv_at hl 1 rfl) ?_
    have hE_262 := fp_At.kept h_pob (fp_keptS (by omega) hS (fun h => (fun h => h.elim (hne_5) (hne_6)) h.2))
    refine r_get X hE_262 rfl in_X1 4 (by decide) q246 (Or.inl rfl) (v := .ref (ln)) rfl dX1_formatBlock_109 ?_
    refine lv_bipush (v := (iI ((47 : Nat) : Int))) hx hb dX1_formatBlock_112 rfl ?_
    refine r_callV (cells1 := 161) (slots1 := 5766) X hR (c_J6_append_3 G ln vl2_249 cap2_250 (L_258.2) ml2_27 (L_258.1) 47 (by omega) (by omega)) q1669 q1670 q1671 q97 q1672 ⟨rfl, pd_J6_append_3⟩ ⟨Nat.le_of_ble_eq_true rfl, Nat.le_of_ble_eq_true rfl⟩ rfl rfl (Nat.le_of_ble_eq_true rfl) (Nat.le_of_ble_eq_true rfl) hE_257.1 rfl rfl (Nat.le_of_ble_eq_true rfl) hl.1 dX1_formatBlock_114 (hB.of hS hAb) hE_257 hS (fun q h => by have h2 : (g_s G).heap.size ≤ q ∧ (q = ln ∨ q = vl2_249) := h; show ((g_s G).heap.size ≤ q ∧ (q = ln ∨ q = lv)) ∨ s.heap.size ≤ q; omega) (fun v H_266 locs hp_263 hz_264 hk_265 hS => ?_)
    obtain ⟨vl2_267, cap2_268, rfl, hv2_269, hE_270⟩ := hp_263
    have hz_271 := hS.1
    have lt_272 := hE_270.1.lt
    have lt_273 := hE_270.2.2.1.1
    refine r_stk (st2 := [.ref (ln)]) rfl ?_
    have hvc_274 := fp_vch hvc_256 hv2_269 (show s.heap.size ≤ _ by omega)
    clear hv2_269 hvc_256
    obtain ⟨L_276, hL_277⟩ : ∃ L9 : FL, L9 = fp_pc L_258 47 := ⟨_, rfl⟩
    have hL_277l : L_276.2 = L_258.2 + 1 := by rw [hL_277]; rfl
    have hE_275 : fp_SB G ln vl2_267 cap2_268 (L_276.2) ml2_27 (L_276.1) H_266 := by rw [hL_277]; exact fp_SB.pc hE_270
    have lt_278 := hE_275.1.lt
    have lt_279 := hE_275.2.2.1.1
    refine lv_aload_n hx hb dX1_formatBlock_117 rfl (lv_at hl 0 rfl) ?_
    have hE_280 := fp_BL.mv h_bl (fun k hk => fp_keptS (h_bl k hk).lt hS (fun h9 => (fun h9 => h9.elim (hnSl (b k) (Or.inr (Or.inr (Or.inr (Or.inr (Or.inr ⟨k, hk, rfl⟩)))))) (hnSv (b k) (Or.inr (Or.inr (Or.inr (Or.inr (Or.inr ⟨k, hk, rfl⟩))))))) h9.2))
    refine b_strength X hR (hE_280 (fp_fnd S (zn)) (by omega)) ((hsw.1.2.2.1 (fp_fnd S (zn)) (by omega)).2.1) (hsw.1.2.2.1 (fp_fnd S (zn)) (by omega)) q1476 (by decide) (by decide) (Nat.le_of_ble_eq_true rfl) (Nat.le_of_ble_eq_true rfl) (Nat.le_of_ble_eq_true rfl) hl.1 dX1_formatBlock_118 (hB.of hS hAb) hS (fun locs hS => ?_)
    refine r_callV (cells1 := 162) (slots1 := 5968) X hR (c_J6_append_2 G ln vl2_267 cap2_268 (L_276.2) ml2_27 (L_276.1) (fp_str ((sB S) (fp_fnd S (zn)))) (by omega) (by omega)) q1078 q701 q702 q97 q703 ⟨rfl, pd_J6_append_2⟩ ⟨Nat.le_of_ble_eq_true rfl, Nat.le_of_ble_eq_true rfl⟩ rfl rfl (Nat.le_of_ble_eq_true rfl) (Nat.le_of_ble_eq_true rfl) hE_275.1 rfl rfl (Nat.le_of_ble_eq_true rfl) hl.1 dX1_formatBlock_121 (hB.of hS hAb) hE_275 hS (fun q h => by have h2 : (g_s G).heap.size ≤ q ∧ (q = ln ∨ q = vl2_267) := h; show ((g_s G).heap.size ≤ q ∧ (q = ln ∨ q = lv)) ∨ s.heap.size ≤ q; omega) (fun v H_284 locs hp_281 hz_282 hk_283 hS => ?_)
    obtain ⟨vl2_285, cap2_286, rfl, hv2_287, hE_288⟩ := hp_281
    have hz_289 := hS.1
    have lt_290 := hE_288.1.lt
    have lt_291 := hE_288.2.2.1.1
    refine r_stk (st2 := [.ref (ln)]) rfl ?_
    have hvc_292 := fp_vch hvc_274 hv2_287 (show s.heap.size ≤ _ by omega)
    clear hv2_287 hvc_274
    obtain ⟨L_294, hL_295⟩ : ∃ L9 : FL, L9 = fp_pn L_276 (fp_str (sB S (fp_fnd S zn))) := ⟨_, rfl⟩
    have hL_295l : L_294.2 = L_276.2 + sb_dg (fp_str (sB S (fp_fnd S zn))) := by rw [hL_295]; rfl
    have hE_293 : fp_SB G ln vl2_285 cap2_286 (L_294.2) ml2_27 (L_294.1) H_284 := by rw [hL_295]; exact fp_SB.pn hE_288
    have lt_296 := hE_293.1.lt
    have lt_297 := hE_293.2.2.1.1
    refine lv_pop hx hb dX1_formatBlock_124 rfl ?_
    refine lv_aload_n hx hb dX1_formatBlock_125 rfl (lv_at hl 1 rfl) ?_
    have hE_298 := fp_At.kept h_pob (fp_keptS (by omega) hS (fun h => (fun h => h.elim (hne_5) (hne_6)) h.2))
    refine r_get X hE_298 rfl in_X1 4 (by decide) q246 (Or.inl rfl) (v := .ref (ln)) rfl dX1_formatBlock_126 ?_
    refine r_callV (cells1 := 162) (slots1 := 5968) X hR (c_J6_length G ln vl2_285 cap2_286 (L_294.2) ml2_27 (L_294.1)) q1079 q748 q2529 q97 q749 ⟨rfl, pd_J6_length⟩ ⟨Nat.le_of_ble_eq_true rfl, Nat.le_of_ble_eq_true rfl⟩ rfl rfl (Nat.le_of_ble_eq_true rfl) (Nat.le_of_ble_eq_true rfl) hE_293.1 rfl rfl (Nat.le_of_ble_eq_true rfl) hl.1 dX1_formatBlock_129 (hB.of hS hAb) hE_293 hS (fun _ h => h.elim) (fun v H_302 locs hp_299 hz_300 hk_301 hS => ?_)
    obtain ⟨rfl, rfl⟩ := hp_299
    refine r_stk (st2 := [.int (iI (((L_294.2) : Nat) : Int))]) rfl ?_
    refine x_iret hx hb hr hlk hQ hS (Nat.le_of_ble_eq_true rfl) (Nat.le_of_ble_eq_true rfl) dX1_formatBlock_132 ?_
    have hLe : L_294 = fp_fbl S (fp_fnd S zn) := by rw [hL_295, hL_277, hL_259, hL_233, hL_216, hL_198, hL_180, hL_162, hL_142, hL_124, hL_106, hL_88, hL_71, hL_53]; rfl
    rw [hLe] at hE_293
    exact ⟨vl2_285, cap2_286, ml2_27, (by rw [hLe]), hFC, hvc_292, hE_293⟩
  · skip
    obtain ⟨rfl, hX9, hb9⟩ := hp_12
    have hE_305 := h_sb.ext hX9
    exact x_out hT hlk hQ hS (Nat.le_of_ble_eq_true rfl) (Nat.le_of_ble_eq_true rfl) hcx hvx hlx (⟨rfl, hb9, hE_305⟩)
set_option maxHeartbeats 4000000 in
theorem c_X1_formatHeights (G : fp_G) (x : Nat) (u : Nat) (sv : Value) (hi : Nat) (ip : Nat) (ln : Nat) (ex : Bool) (er : Int) (fa : Int) (l : Nat) (ed : Nat) (z : Nat) (t : Nat) (mc : Int32) (cap : Nat) (b : Nat → Nat) (S : PS) (lv : Nat) (lc : Nat) (n : Nat) (ml : Nat) (tx : Nat → Nat) (hsw : fp_sw S b) : fp_M G yX1_formatHeights cX1_formatHeights 2 (some .int) 7 154 49 7522 [.ref (x)] (fun H => fp_At G H x (eO 1 [.ref (u), sv, .ref (hi), .ref (ip), .ref (ln), .int (iI (bI (ex))), .int (iI (er)), .int (iI (fa))]) ∧ fp_SE G u l ed z t mc cap b S H ∧ fp_SB G ln lv lc n ml tx H) (fun q => (g_s G).heap.size ≤ q ∧ (q = ln ∨ q = lv)) (fun H v H1 => ∃ (lv2 : Nat), ∃ (lc2 : Nat), ∃ (ml2 : Nat), v = some (.int (iI (((fp_fhl S 12).2 : Nat) : Int))) ∧ (lv2 = lv ∨ H.size ≤ lv2) ∧ fp_SB G ln lv2 lc2 ((fp_fhl S 12).2) ml2 ((fp_fhl S 12).1) H1) := by
  refine fp_M.intro (by decide) (Nat.le_of_ble_eq_true rfl) ?_
  intro pg en s mi ag bl mt cd rR qQ ls X hx hb hr hlk hnm hR hQ hB hM hl
  have hS : va_S (fA (fun q => (g_s G).heap.size ≤ q ∧ (q = ln ∨ q = lv)) s.heap.size) s.heap s.heap [] := va_S.rf
  generalize ([] : List Loc) = locs at hS ⊢
  have hb0 := hB.1
  have hAb : ∀ q, (fun q => (g_s G).heap.size ≤ q ∧ (q = ln ∨ q = lv)) q → (g_s G).heap.size ≤ q := fun q h => h.1
  obtain ⟨h_pob, h_st, h_sb⟩ := hM
  have hsz0 := hS.1
  have lt_1 := h_pob.lt
  have lt_2 := h_st.1.lt
  have lt_3 := h_sb.1.lt
  have lt_4 := h_sb.2.2.1.1
  have hn24 := hsw.1.1
  have hed0 := (X.2.2.2.2.2.deT (A := fp_no) hB fp_no.base).2.2
  obtain ⟨hso, ⟨fsb, hsr, -⟩, hsw9, hsb1, hsb2⟩ := id h_sb
  have hnSl := fp_SE.nO X.2.2.2.2.2 hed0 h_st (j := 11) rfl ⟨by decide, by decide, by decide, by decide, by decide⟩ hso hsb1
  have hnSv := fp_SE.nB X.2.2.2.2.2 hed0 h_st hsr hsb2
  have hne_5 : fp_dif x ln := fp_neOO X.2.2.2.2.2 (i := 1) (j := 11) rfl rfl (by decide) h_pob hso
  have hne_6 : fp_dif x lv := fp_neOA X.2.2.2.2.2 (i := 1) (t := 2) rfl rfl h_pob hsr
  have hne_7 : fp_dif ln lv := fp_neOA X.2.2.2.2.2 (i := 11) (t := 2) rfl rfl hso hsr
  obtain ⟨h_o, h_l, h_z, h_t, h_bl, h_xb, h_zb, h_tb⟩ := id h_st
  have lt_8 := h_l.1.lt
  have lt_9 := h_l.2.2
  have lt_10 := h_z.lt
  have lt_11 := h_t.lt
  refine lv_aload_n hx hb dX1_formatHeights_0 rfl (lv_at hl 0 rfl) ?_
  refine r_get X h_pob rfl in_X1 4 (by decide) q246 (Or.inl rfl) (v := .ref (ln)) rfl dX1_formatHeights_1 ?_
  refine lv_iconst (v := (iI ((0 : Nat) : Int))) hx hb dX1_formatHeights_4 rfl ?_
  refine r_callV (cells1 := 1) (slots1 := 202) X hR (c_J6_setLength G ln lv lc n ml tx) q1009 q1010 q1011 q97 q1012 ⟨rfl, pd_J6_setLength⟩ ⟨Nat.le_of_ble_eq_true rfl, Nat.le_of_ble_eq_true rfl⟩ rfl rfl (Nat.le_of_ble_eq_true rfl) (Nat.le_of_ble_eq_true rfl) h_sb.1 rfl rfl (Nat.le_of_ble_eq_true rfl) hl.1 dX1_formatHeights_5 (hB.of hS hAb) h_sb hS (fun q h => by have h2 : (g_s G).heap.size ≤ q ∧ (q = ln) := h; show ((g_s G).heap.size ≤ q ∧ (q = ln ∨ q = lv)) ∨ s.heap.size ≤ q; omega) (fun v H_15 locs hp_12 hz_13 hk_14 hS => ?_)
  obtain ⟨vl2_16, cap2_17, ml2_18, rfl, hv2_19, hE_20⟩ := hp_12
  have hz_21 := hS.1
  have lt_22 := hE_20.1.lt
  have lt_23 := hE_20.2.2.1.1
  refine r_stk (st2 := []) rfl ?_
  have hvc_24 := fp_vch (Or.inl rfl) hv2_19 (show s.heap.size ≤ _ by omega)
  clear hv2_19
  have hE_25 : fp_SB G ln vl2_16 cap2_17 (fp_L0.2) ml2_18 (fp_L0.1) H_15 := fp_SB.z hE_20
  have hl5 : fp_L0.2 = 0 := rfl
  have lt_26 := hE_25.1.lt
  have lt_27 := hE_25.2.2.1.1
  refine lv_iconst (v := (iI ((0 : Nat) : Int))) hx hb dX1_formatHeights_8 rfl ?_
  refine lv_istore_n (lv' := [(1, .int (iI ((0 : Nat) : Int))), (0, .ref (x))]) hx hb dX1_formatHeights_9 rfl hl (by decide) rfl (fun ls hl => ?_)
  have L10 : ∀ (k : Nat), k ≤ 12 → ∀ (lvg : Nat) (lcg : Nat) (H_28 : Heap) (locs : List Loc) (ls : Array Slot), lv_has ls 2 [(0, .ref (x)), (1, .int (iI ((k : Nat) : Int)))] → va_S (fA (fun q => (g_s G).heap.size ≤ q ∧ (q = ln ∨ q = lv)) s.heap.size) s.heap H_28 locs → (lvg = lv ∨ s.heap.size ≤ lvg) → (H_15.size ≤ H_28.size) → fp_SB G ln lvg lcg ((fp_fhl S k).2) ml2_18 ((fp_fhl S k).1) H_28 → W pg (g_l G) en rR s mi ag bl mt cd H_28 locs (1 + 4 * k) (202 + 610 * k) qQ (F0 mi 10 ls []) := by
    refine lp_up 12 ?_
    intro k hk10 ih10 lvg lcg H_28 locs ls hl hS hvg hz_29 hE_30
    have hz_31 := hS.1
    have lt_32 := hE_30.1.lt
    have lt_33 := hE_30.2.2.1.1
    have hfl := fp_fhl_le hsw.1 k
    have hhk := fp_hi_le hsw.1 k
    have hdg := fp_dg2 (n := fp_hi S k) (by omega)
    refine lv_iload_n hx hb dX1_formatHeights_10 rfl (lv_at hl 1 rfl) ?_
    refine lv_bipush (v := (iI ((12 : Nat) : Int))) hx hb dX1_formatHeights_11 rfl ?_
    refine r_icmp_ge (tgt := 78) hx hb ⟨by omega, by omega⟩ (by decide) dX1_formatHeights_13 (by decide) (fun c13 => ?_) (fun c13 => ?_)
    · skip
      obtain rfl : k = 12 := by omega
      refine lv_aload_n hx hb dX1_formatHeights_78 rfl (lv_at hl 0 rfl) ?_
      have hE_34 := fp_At.kept h_pob (fp_keptS (by omega) hS (fun h => (fun h => h.elim (hne_5) (hne_6)) h.2))
      refine r_get X hE_34 rfl in_X1 4 (by decide) q246 (Or.inl rfl) (v := .ref (ln)) rfl dX1_formatHeights_79 ?_
      refine r_callV (cells1 := (1 + 4 * 12)) (slots1 := (202 + 610 * 12)) X hR (c_J6_length G ln lvg lcg ((fp_fhl S 12).2) ml2_18 ((fp_fhl S 12).1)) q1079 q748 q2529 q97 q749 ⟨rfl, pd_J6_length⟩ ⟨Nat.le_of_ble_eq_true rfl, Nat.le_of_ble_eq_true rfl⟩ rfl rfl (by omega) (by omega) hE_30.1 rfl rfl (Nat.le_of_ble_eq_true rfl) hl.1 dX1_formatHeights_82 (hB.of hS hAb) hE_30 hS (fun _ h => h.elim) (fun v H_38 locs hp_35 hz_36 hk_37 hS => ?_)
      obtain ⟨rfl, rfl⟩ := hp_35
      refine r_stk (st2 := [.int (iI ((((fp_fhl S 12).2) : Nat) : Int))]) rfl ?_
      refine r_iret hx hb hr hlk hQ hS (by omega) (by omega) dX1_formatHeights_85 ?_
      exact ⟨lvg, lcg, _, rfl, hvg, hE_30⟩
    · skip
      refine lv_aload_n hx hb dX1_formatHeights_16 rfl (lv_at hl 0 rfl) ?_
      have hE_39 := fp_At.kept h_pob (fp_keptS (by omega) hS (fun h => (fun h => h.elim (hne_5) (hne_6)) h.2))
      refine r_get X hE_39 rfl in_X1 4 (by decide) q246 (Or.inl rfl) (v := .ref (ln)) rfl dX1_formatHeights_17 ?_
      refine lv_iload_n hx hb dX1_formatHeights_20 rfl (lv_at hl 1 rfl) ?_
      refine r_if_le (tgt := 30) hx hb ⟨by omega, by omega⟩ dX1_formatHeights_21 (by decide) (fun c21 => ?_) (fun c21 => ?_)
      · skip
        have d21 : k = 0 := by omega
        refine r_ldcSw X q1075 (X.2.2.2.2.2.kst hB fp_kXe).2.1 dX1_formatHeights_30 ?_
        have hk_40 := (X.2.2.2.2.2.kst (hB.of hS hAb) fp_kXe).1
        have lt_41 := hk_40.1.2
        have lt_42 := hk_40.2.2.1
        refine r_callV (cells1 := (1 + 4 * k + 1)) (slots1 := (202 + 610 * k + 202)) X hR (c_J6_append G ln lvg lcg ((fp_fhl S k).2) ml2_18 ((fp_fhl S k).1) (fp_ks G "FortPlanner" 355) (fp_kv G "FortPlanner" 355) 0 (fun i => [].getD i 0) (by omega) ((X.2.2.2.2.2.kst hB fp_kXe).2.2)) q1076 q583 q584 q97 q585 ⟨rfl, pd_J6_append⟩ ⟨Nat.le_of_ble_eq_true rfl, Nat.le_of_ble_eq_true rfl⟩ rfl rfl (by omega) (by omega) hE_30.1 rfl rfl (Nat.le_of_ble_eq_true rfl) hl.1 dX1_formatHeights_33 (hB.of hS hAb) ⟨hE_30, hk_40⟩ hS (fun q h => by have h2 : (g_s G).heap.size ≤ q ∧ (q = ln ∨ q = lvg) := h; show ((g_s G).heap.size ≤ q ∧ (q = ln ∨ q = lv)) ∨ s.heap.size ≤ q; omega) (fun v H_46 locs hp_43 hz_44 hk_45 hS => ?_)
        obtain ⟨vl2_47, cap2_48, rfl, hv2_49, hE_50⟩ := hp_43
        have hz_51 := hS.1
        have lt_52 := hE_50.1.lt
        have lt_53 := hE_50.2.2.1.1
        refine r_stk (st2 := [.ref (ln)]) rfl ?_
        have hvc_54 := fp_vch hvg hv2_49 (show s.heap.size ≤ _ by omega)
        clear hv2_49 hvg
        have hE_55 : fp_SB G ln vl2_47 cap2_48 ((fp_fhl S k).2) ml2_18 ((fp_fhl S k).1) H_46 := fp_SB.s0 hE_50
        have lt_56 := hE_55.1.lt
        have lt_57 := hE_55.2.2.1.1
        refine lv_aload_n hx hb dX1_formatHeights_36 rfl (lv_at hl 0 rfl) ?_
        have hE_58 := fp_At.kept h_pob (fp_keptS (by omega) hS (fun h => (fun h => h.elim (hne_5) (hne_6)) h.2))
        refine r_get X hE_58 rfl in_X1 0 (by decide) q242 (Or.inl rfl) (v := .ref (u)) rfl dX1_formatHeights_37 ?_
        have hE_59 := fp_SE.mvA h_st (fun q9 hq9 hs9 => fp_keptS hq9 hS (fun h9 => (fun h9 => h9.elim (hnSl q9 hs9) (hnSv q9 hs9)) h9.2))
        refine r_getN X hE_59.1 rfl in_X2 2 (by decide) q178 (Or.inl rfl) (v := .ref (t)) rfl dX1_formatHeights_40 ?_
        refine lv_iload_n hx hb dX1_formatHeights_43 rfl (lv_at hl 1 rfl) ?_
        have hE_60 := fp_At.kept h_t (fp_keptS (by omega) hS (fun h => (fun h => h.elim (hnSl t (Or.inr (Or.inr (Or.inr (Or.inr (Or.inl rfl)))))) (hnSv t (Or.inr (Or.inr (Or.inr (Or.inr (Or.inl rfl))))))) h.2))
        refine r_zaldI X hE_60 (j := k) rfl (by omega) (by decide) dX1_formatHeights_44 ?_
        refine r_set (y := .int (iI (bI (decide (sT S k = 1))))) rfl ?_
        refine r_ifeqB (tgt := 54) hx hb dX1_formatHeights_45 (by decide) (fun c45 => ?_) (fun c45 => ?_)
        · skip
          have d45 : ¬ sT S k = 1 := of_decide_eq_false c45
          refine r_ldcSw X q1075 (X.2.2.2.2.2.kst hB fp_kXe).2.1 dX1_formatHeights_54 ?_
          have hk_61 := (X.2.2.2.2.2.kst (hB.of hS hAb) fp_kXe).1
          have lt_62 := hk_61.1.2
          have lt_63 := hk_61.2.2.1
          refine r_callV (cells1 := (1 + 4 * k + 1 + 1)) (slots1 := (202 + 610 * k + 202 + 202)) X hR (c_J6_append G ln vl2_47 cap2_48 ((fp_fhl S k).2) ml2_18 ((fp_fhl S k).1) (fp_ks G "FortPlanner" 355) (fp_kv G "FortPlanner" 355) 0 (fun i => [].getD i 0) (by omega) ((X.2.2.2.2.2.kst hB fp_kXe).2.2)) q1076 q583 q584 q97 q585 ⟨rfl, pd_J6_append⟩ ⟨Nat.le_of_ble_eq_true rfl, Nat.le_of_ble_eq_true rfl⟩ rfl rfl (by omega) (by omega) hE_55.1 rfl rfl (Nat.le_of_ble_eq_true rfl) hl.1 dX1_formatHeights_57 (hB.of hS hAb) ⟨hE_55, hk_61⟩ hS (fun q h => by have h2 : (g_s G).heap.size ≤ q ∧ (q = ln ∨ q = vl2_47) := h; show ((g_s G).heap.size ≤ q ∧ (q = ln ∨ q = lv)) ∨ s.heap.size ≤ q; omega) (fun v H_67 locs hp_64 hz_65 hk_66 hS => ?_)
          obtain ⟨vl2_68, cap2_69, rfl, hv2_70, hE_71⟩ := hp_64
          have hz_72 := hS.1
          have lt_73 := hE_71.1.lt
          have lt_74 := hE_71.2.2.1.1
          refine r_stk (st2 := [.ref (ln)]) rfl ?_
          have hvc_75 := fp_vch hvc_54 hv2_70 (show s.heap.size ≤ _ by omega)
          clear hv2_70 hvc_54
          have hE_76 : fp_SB G ln vl2_68 cap2_69 ((fp_fhl S k).2) ml2_18 ((fp_fhl S k).1) H_67 := fp_SB.s0 hE_71
          have lt_77 := hE_76.1.lt
          have lt_78 := hE_76.2.2.1.1
          refine lv_aload_n hx hb dX1_formatHeights_60 rfl (lv_at hl 0 rfl) ?_
          have hE_79 := fp_At.kept h_pob (fp_keptS (by omega) hS (fun h => (fun h => h.elim (hne_5) (hne_6)) h.2))
          refine r_get X hE_79 rfl in_X1 0 (by decide) q242 (Or.inl rfl) (v := .ref (u)) rfl dX1_formatHeights_61 ?_
          refine lv_iload_n hx hb dX1_formatHeights_64 rfl (lv_at hl 1 rfl) ?_
          have hE_80 := fp_SE.mvA h_st (fun q9 hq9 hs9 => fp_keptS hq9 hS (fun h9 => (fun h9 => h9.elim (hnSl q9 hs9) (hnSv q9 hs9)) h9.2))
          refine r_callV (cells1 := (1 + 4 * k + 1 + 1 + 1)) (slots1 := (202 + 610 * k + 202 + 202 + 4)) X hR (c_X2_height G u l ed z t mc cap b S k hsw (by omega)) q271 q272 q273 q89 q274 ⟨rfl, pd_X2_height⟩ ⟨Nat.le_of_ble_eq_true rfl, Nat.le_of_ble_eq_true rfl⟩ rfl rfl (by omega) (by omega) hE_80.1 rfl rfl (Nat.le_of_ble_eq_true rfl) hl.1 dX1_formatHeights_65 (hB.of hS hAb) hE_80 hS (fun _ h => h.elim) (fun v H_84 locs hp_81 hz_82 hk_83 hS => ?_)
          obtain rfl := hp_81
          have hz_85 := hS.1
          refine r_stk (st2 := [.int (iI ((fp_hi S k : Nat) : Int)), .ref (ln)]) rfl ?_
          have hE_87 := hE_76.ext (fp_X.no hz_82 hk_83)
          refine r_callV (cells1 := (1 + 4 * k + 1 + 1 + 1 + 1)) (slots1 := (202 + 610 * k + 202 + 202 + 4 + 202)) X hR (c_J6_append_2 G ln vl2_68 cap2_69 ((fp_fhl S k).2) ml2_18 ((fp_fhl S k).1) (fp_hi S k) (by omega) (by omega)) q1078 q701 q702 q97 q703 ⟨rfl, pd_J6_append_2⟩ ⟨Nat.le_of_ble_eq_true rfl, Nat.le_of_ble_eq_true rfl⟩ rfl rfl (by omega) (by omega) hE_87.1 rfl rfl (Nat.le_of_ble_eq_true rfl) hl.1 dX1_formatHeights_68 (hB.of hS hAb) hE_87 hS (fun q h => by have h2 : (g_s G).heap.size ≤ q ∧ (q = ln ∨ q = vl2_68) := h; show ((g_s G).heap.size ≤ q ∧ (q = ln ∨ q = lv)) ∨ s.heap.size ≤ q; omega) (fun v H_91 locs hp_88 hz_89 hk_90 hS => ?_)
          obtain ⟨vl2_92, cap2_93, rfl, hv2_94, hE_95⟩ := hp_88
          have hz_96 := hS.1
          have lt_97 := hE_95.1.lt
          have lt_98 := hE_95.2.2.1.1
          refine r_stk (st2 := [.ref (ln)]) rfl ?_
          have hvc_99 := fp_vch hvc_75 hv2_94 (show s.heap.size ≤ _ by omega)
          clear hv2_94 hvc_75
          obtain ⟨L_101, hL_102⟩ : ∃ L9 : FL, L9 = fp_pn (fp_fhl S k) (fp_hi S k) := ⟨_, rfl⟩
          have hL_102l : L_101.2 = (fp_fhl S k).2 + sb_dg (fp_hi S k) := by rw [hL_102]; rfl
          have hE_100 : fp_SB G ln vl2_92 cap2_93 (L_101.2) ml2_18 (L_101.1) H_91 := by rw [hL_102]; exact fp_SB.pn hE_95
          have lt_103 := hE_100.1.lt
          have lt_104 := hE_100.2.2.1.1
          have hLe : L_101 = fp_fhl S (k + 1) := by show _ = fp_pn (fp_fh2 S (fp_fh1 (fp_fhl S k) k) k) (fp_hi S k); rw [fp_fh1_f d21, fp_fh2_f d45, hL_102]
          rw [hLe] at hE_100
          have lt_105 := hE_100.1.lt
          have lt_106 := hE_100.2.2.1.1
          refine lv_pop hx hb dX1_formatHeights_71 rfl ?_
          refine lv_iinc (v := (iI ((k + 1 : Nat) : Int))) (lv' := [(1, .int (iI ((k + 1 : Nat) : Int))), (0, .ref (x))]) hx hb dX1_formatHeights_72 hl (k := 1) rfl (iI_incN _ _) (by decide) rfl (fun ls hl => ?_)
          refine lv_goto (tgt := 10) hx hb dX1_formatHeights_75 (by decide) ?_
          refine W.widen (k := 1 + 4 * (k + 1)) (n := 202 + 610 * (k + 1)) (by omega) (by omega) ?_
          exact ih10 (by omega) vl2_92 cap2_93 H_91 locs ls (lv_sub hl [1, 0] rfl) hS hvc_99 (by omega) hE_100
        · skip
          have d45 : sT S k = 1 := of_decide_eq_true c45
          refine r_ldcSw X q1077 (X.2.2.2.2.2.kst hB fp_kXs).2.1 dX1_formatHeights_48 ?_
          have hk_107 := (X.2.2.2.2.2.kst (hB.of hS hAb) fp_kXs).1
          have lt_108 := hk_107.1.2
          have lt_109 := hk_107.2.2.1
          refine lv_goto (tgt := 57) hx hb dX1_formatHeights_51 (by decide) ?_
          refine r_callV (cells1 := (1 + 4 * k + 1 + 1)) (slots1 := (202 + 610 * k + 202 + 202)) X hR (c_J6_append G ln vl2_47 cap2_48 ((fp_fhl S k).2) ml2_18 ((fp_fhl S k).1) (fp_ks G "FortPlanner" 357) (fp_kv G "FortPlanner" 357) 1 (fun i => [33].getD i 0) (by omega) ((X.2.2.2.2.2.kst hB fp_kXs).2.2)) q1076 q583 q584 q97 q585 ⟨rfl, pd_J6_append⟩ ⟨Nat.le_of_ble_eq_true rfl, Nat.le_of_ble_eq_true rfl⟩ rfl rfl (by omega) (by omega) hE_55.1 rfl rfl (Nat.le_of_ble_eq_true rfl) hl.1 dX1_formatHeights_57 (hB.of hS hAb) ⟨hE_55, hk_107⟩ hS (fun q h => by have h2 : (g_s G).heap.size ≤ q ∧ (q = ln ∨ q = vl2_47) := h; show ((g_s G).heap.size ≤ q ∧ (q = ln ∨ q = lv)) ∨ s.heap.size ≤ q; omega) (fun v H_113 locs hp_110 hz_111 hk_112 hS => ?_)
          obtain ⟨vl2_114, cap2_115, rfl, hv2_116, hE_117⟩ := hp_110
          have hz_118 := hS.1
          have lt_119 := hE_117.1.lt
          have lt_120 := hE_117.2.2.1.1
          refine r_stk (st2 := [.ref (ln)]) rfl ?_
          have hvc_121 := fp_vch hvc_54 hv2_116 (show s.heap.size ≤ _ by omega)
          clear hv2_116 hvc_54
          obtain ⟨L_123, hL_124⟩ : ∃ L9 : FL, L9 = fp_pc (fp_fhl S k) 33 := ⟨_, rfl⟩
          have hL_124l : L_123.2 = (fp_fhl S k).2 + 1 := by rw [hL_124]; rfl
          have hE_122 : fp_SB G ln vl2_114 cap2_115 (L_123.2) ml2_18 (L_123.1) H_113 := by rw [hL_124]; exact fp_SB.s1 rfl hE_117
          have lt_125 := hE_122.1.lt
          have lt_126 := hE_122.2.2.1.1
          refine lv_aload_n hx hb dX1_formatHeights_60 rfl (lv_at hl 0 rfl) ?_
          have hE_127 := fp_At.kept h_pob (fp_keptS (by omega) hS (fun h => (fun h => h.elim (hne_5) (hne_6)) h.2))
          refine r_get X hE_127 rfl in_X1 0 (by decide) q242 (Or.inl rfl) (v := .ref (u)) rfl dX1_formatHeights_61 ?_
          refine lv_iload_n hx hb dX1_formatHeights_64 rfl (lv_at hl 1 rfl) ?_
          have hE_128 := fp_SE.mvA h_st (fun q9 hq9 hs9 => fp_keptS hq9 hS (fun h9 => (fun h9 => h9.elim (hnSl q9 hs9) (hnSv q9 hs9)) h9.2))
          refine r_callV (cells1 := (1 + 4 * k + 1 + 1 + 1)) (slots1 := (202 + 610 * k + 202 + 202 + 4)) X hR (c_X2_height G u l ed z t mc cap b S k hsw (by omega)) q271 q272 q273 q89 q274 ⟨rfl, pd_X2_height⟩ ⟨Nat.le_of_ble_eq_true rfl, Nat.le_of_ble_eq_true rfl⟩ rfl rfl (by omega) (by omega) hE_128.1 rfl rfl (Nat.le_of_ble_eq_true rfl) hl.1 dX1_formatHeights_65 (hB.of hS hAb) hE_128 hS (fun _ h => h.elim) (fun v H_132 locs hp_129 hz_130 hk_131 hS => ?_)
          obtain rfl := hp_129
          have hz_133 := hS.1
          refine r_stk (st2 := [.int (iI ((fp_hi S k : Nat) : Int)), .ref (ln)]) rfl ?_
          have hE_135 := hE_122.ext (fp_X.no hz_130 hk_131)
          refine r_callV (cells1 := (1 + 4 * k + 1 + 1 + 1 + 1)) (slots1 := (202 + 610 * k + 202 + 202 + 4 + 202)) X hR (c_J6_append_2 G ln vl2_114 cap2_115 (L_123.2) ml2_18 (L_123.1) (fp_hi S k) (by omega) (by omega)) q1078 q701 q702 q97 q703 ⟨rfl, pd_J6_append_2⟩ ⟨Nat.le_of_ble_eq_true rfl, Nat.le_of_ble_eq_true rfl⟩ rfl rfl (by omega) (by omega) hE_135.1 rfl rfl (Nat.le_of_ble_eq_true rfl) hl.1 dX1_formatHeights_68 (hB.of hS hAb) hE_135 hS (fun q h => by have h2 : (g_s G).heap.size ≤ q ∧ (q = ln ∨ q = vl2_114) := h; show ((g_s G).heap.size ≤ q ∧ (q = ln ∨ q = lv)) ∨ s.heap.size ≤ q; omega) (fun v H_139 locs hp_136 hz_137 hk_138 hS => ?_)
          obtain ⟨vl2_140, cap2_141, rfl, hv2_142, hE_143⟩ := hp_136
          have hz_144 := hS.1
          have lt_145 := hE_143.1.lt
          have lt_146 := hE_143.2.2.1.1
          refine r_stk (st2 := [.ref (ln)]) rfl ?_
          have hvc_147 := fp_vch hvc_121 hv2_142 (show s.heap.size ≤ _ by omega)
          clear hv2_142 hvc_121
          obtain ⟨L_149, hL_150⟩ : ∃ L9 : FL, L9 = fp_pn L_123 (fp_hi S k) := ⟨_, rfl⟩
          have hL_150l : L_149.2 = L_123.2 + sb_dg (fp_hi S k) := by rw [hL_150]; rfl
          have hE_148 : fp_SB G ln vl2_140 cap2_141 (L_149.2) ml2_18 (L_149.1) H_139 := by rw [hL_150]; exact fp_SB.pn hE_143
          have lt_151 := hE_148.1.lt
          have lt_152 := hE_148.2.2.1.1
          have hLe : L_149 = fp_fhl S (k + 1) := by show _ = fp_pn (fp_fh2 S (fp_fh1 (fp_fhl S k) k) k) (fp_hi S k); rw [fp_fh1_f d21, fp_fh2_t d45, hL_150, hL_124]
          rw [hLe] at hE_148
          have lt_153 := hE_148.1.lt
          have lt_154 := hE_148.2.2.1.1
          refine lv_pop hx hb dX1_formatHeights_71 rfl ?_
          refine lv_iinc (v := (iI ((k + 1 : Nat) : Int))) (lv' := [(1, .int (iI ((k + 1 : Nat) : Int))), (0, .ref (x))]) hx hb dX1_formatHeights_72 hl (k := 1) rfl (iI_incN _ _) (by decide) rfl (fun ls hl => ?_)
          refine lv_goto (tgt := 10) hx hb dX1_formatHeights_75 (by decide) ?_
          refine W.widen (k := 1 + 4 * (k + 1)) (n := 202 + 610 * (k + 1)) (by omega) (by omega) ?_
          exact ih10 (by omega) vl2_140 cap2_141 H_139 locs ls (lv_sub hl [1, 0] rfl) hS hvc_147 (by omega) hE_148
      · skip
        have d21 : 0 < k := by omega
        refine r_ldcSw X q1074 (X.2.2.2.2.2.kst hB fp_kXb).2.1 dX1_formatHeights_24 ?_
        have hk_155 := (X.2.2.2.2.2.kst (hB.of hS hAb) fp_kXb).1
        have lt_156 := hk_155.1.2
        have lt_157 := hk_155.2.2.1
        refine lv_goto (tgt := 33) hx hb dX1_formatHeights_27 (by decide) ?_
        refine r_callV (cells1 := (1 + 4 * k + 1)) (slots1 := (202 + 610 * k + 202)) X hR (c_J6_append G ln lvg lcg ((fp_fhl S k).2) ml2_18 ((fp_fhl S k).1) (fp_ks G "FortPlanner" 353) (fp_kv G "FortPlanner" 353) 1 (fun i => [32].getD i 0) (by omega) ((X.2.2.2.2.2.kst hB fp_kXb).2.2)) q1076 q583 q584 q97 q585 ⟨rfl, pd_J6_append⟩ ⟨Nat.le_of_ble_eq_true rfl, Nat.le_of_ble_eq_true rfl⟩ rfl rfl (by omega) (by omega) hE_30.1 rfl rfl (Nat.le_of_ble_eq_true rfl) hl.1 dX1_formatHeights_33 (hB.of hS hAb) ⟨hE_30, hk_155⟩ hS (fun q h => by have h2 : (g_s G).heap.size ≤ q ∧ (q = ln ∨ q = lvg) := h; show ((g_s G).heap.size ≤ q ∧ (q = ln ∨ q = lv)) ∨ s.heap.size ≤ q; omega) (fun v H_161 locs hp_158 hz_159 hk_160 hS => ?_)
        obtain ⟨vl2_162, cap2_163, rfl, hv2_164, hE_165⟩ := hp_158
        have hz_166 := hS.1
        have lt_167 := hE_165.1.lt
        have lt_168 := hE_165.2.2.1.1
        refine r_stk (st2 := [.ref (ln)]) rfl ?_
        have hvc_169 := fp_vch hvg hv2_164 (show s.heap.size ≤ _ by omega)
        clear hv2_164 hvg
        obtain ⟨L_171, hL_172⟩ : ∃ L9 : FL, L9 = fp_pc (fp_fhl S k) 32 := ⟨_, rfl⟩
        have hL_172l : L_171.2 = (fp_fhl S k).2 + 1 := by rw [hL_172]; rfl
        have hE_170 : fp_SB G ln vl2_162 cap2_163 (L_171.2) ml2_18 (L_171.1) H_161 := by rw [hL_172]; exact fp_SB.s1 rfl hE_165
        have lt_173 := hE_170.1.lt
        have lt_174 := hE_170.2.2.1.1
        refine lv_aload_n hx hb dX1_formatHeights_36 rfl (lv_at hl 0 rfl) ?_
        have hE_175 := fp_At.kept h_pob (fp_keptS (by omega) hS (fun h => (fun h => h.elim (hne_5) (hne_6)) h.2))
        refine r_get X hE_175 rfl in_X1 0 (by decide) q242 (Or.inl rfl) (v := .ref (u)) rfl dX1_formatHeights_37 ?_
        have hE_176 := fp_SE.mvA h_st (fun q9 hq9 hs9 => fp_keptS hq9 hS (fun h9 => (fun h9 => h9.elim (hnSl q9 hs9) (hnSv q9 hs9)) h9.2))
        refine r_getN X hE_176.1 rfl in_X2 2 (by decide) q178 (Or.inl rfl) (v := .ref (t)) rfl dX1_formatHeights_40 ?_
        refine lv_iload_n hx hb dX1_formatHeights_43 rfl (lv_at hl 1 rfl) ?_
        have hE_177 := fp_At.kept h_t (fp_keptS (by omega) hS (fun h => (fun h => h.elim (hnSl t (Or.inr (Or.inr (Or.inr (Or.inr (Or.inl rfl)))))) (hnSv t (Or.inr (Or.inr (Or.inr (Or.inr (Or.inl rfl))))))) h.2))
        refine r_zaldI X hE_177 (j := k) rfl (by omega) (by decide) dX1_formatHeights_44 ?_
        refine r_set (y := .int (iI (bI (decide (sT S k = 1))))) rfl ?_
        refine r_ifeqB (tgt := 54) hx hb dX1_formatHeights_45 (by decide) (fun c45 => ?_) (fun c45 => ?_)
        · skip
          have d45 : ¬ sT S k = 1 := of_decide_eq_false c45
          refine r_ldcSw X q1075 (X.2.2.2.2.2.kst hB fp_kXe).2.1 dX1_formatHeights_54 ?_
          have hk_178 := (X.2.2.2.2.2.kst (hB.of hS hAb) fp_kXe).1
          have lt_179 := hk_178.1.2
          have lt_180 := hk_178.2.2.1
          refine r_callV (cells1 := (1 + 4 * k + 1 + 1)) (slots1 := (202 + 610 * k + 202 + 202)) X hR (c_J6_append G ln vl2_162 cap2_163 (L_171.2) ml2_18 (L_171.1) (fp_ks G "FortPlanner" 355) (fp_kv G "FortPlanner" 355) 0 (fun i => [].getD i 0) (by omega) ((X.2.2.2.2.2.kst hB fp_kXe).2.2)) q1076 q583 q584 q97 q585 ⟨rfl, pd_J6_append⟩ ⟨Nat.le_of_ble_eq_true rfl, Nat.le_of_ble_eq_true rfl⟩ rfl rfl (by omega) (by omega) hE_170.1 rfl rfl (Nat.le_of_ble_eq_true rfl) hl.1 dX1_formatHeights_57 (hB.of hS hAb) ⟨hE_170, hk_178⟩ hS (fun q h => by have h2 : (g_s G).heap.size ≤ q ∧ (q = ln ∨ q = vl2_162) := h; show ((g_s G).heap.size ≤ q ∧ (q = ln ∨ q = lv)) ∨ s.heap.size ≤ q; omega) (fun v H_184 locs hp_181 hz_182 hk_183 hS => ?_)
          obtain ⟨vl2_185, cap2_186, rfl, hv2_187, hE_188⟩ := hp_181
          have hz_189 := hS.1
          have lt_190 := hE_188.1.lt
          have lt_191 := hE_188.2.2.1.1
          refine r_stk (st2 := [.ref (ln)]) rfl ?_
          have hvc_192 := fp_vch hvc_169 hv2_187 (show s.heap.size ≤ _ by omega)
          clear hv2_187 hvc_169
          have hE_193 : fp_SB G ln vl2_185 cap2_186 (L_171.2) ml2_18 (L_171.1) H_184 := fp_SB.s0 hE_188
          have lt_194 := hE_193.1.lt
          have lt_195 := hE_193.2.2.1.1
          refine lv_aload_n hx hb dX1_formatHeights_60 rfl (lv_at hl 0 rfl) ?_
          have hE_196 := fp_At.kept h_pob (fp_keptS (by omega) hS (fun h => (fun h => h.elim (hne_5) (hne_6)) h.2))
          refine r_get X hE_196 rfl in_X1 0 (by decide) q242 (Or.inl rfl) (v := .ref (u)) rfl dX1_formatHeights_61 ?_
          refine lv_iload_n hx hb dX1_formatHeights_64 rfl (lv_at hl 1 rfl) ?_
          have hE_197 := fp_SE.mvA h_st (fun q9 hq9 hs9 => fp_keptS hq9 hS (fun h9 => (fun h9 => h9.elim (hnSl q9 hs9) (hnSv q9 hs9)) h9.2))
          refine r_callV (cells1 := (1 + 4 * k + 1 + 1 + 1)) (slots1 := (202 + 610 * k + 202 + 202 + 4)) X hR (c_X2_height G u l ed z t mc cap b S k hsw (by omega)) q271 q272 q273 q89 q274 ⟨rfl, pd_X2_height⟩ ⟨Nat.le_of_ble_eq_true rfl, Nat.le_of_ble_eq_true rfl⟩ rfl rfl (by omega) (by omega) hE_197.1 rfl rfl (Nat.le_of_ble_eq_true rfl) hl.1 dX1_formatHeights_65 (hB.of hS hAb) hE_197 hS (fun _ h => h.elim) (fun v H_201 locs hp_198 hz_199 hk_200 hS => ?_)
          obtain rfl := hp_198
          have hz_202 := hS.1
          refine r_stk (st2 := [.int (iI ((fp_hi S k : Nat) : Int)), .ref (ln)]) rfl ?_
          have hE_204 := hE_193.ext (fp_X.no hz_199 hk_200)
          refine r_callV (cells1 := (1 + 4 * k + 1 + 1 + 1 + 1)) (slots1 := (202 + 610 * k + 202 + 202 + 4 + 202)) X hR (c_J6_append_2 G ln vl2_185 cap2_186 (L_171.2) ml2_18 (L_171.1) (fp_hi S k) (by omega) (by omega)) q1078 q701 q702 q97 q703 ⟨rfl, pd_J6_append_2⟩ ⟨Nat.le_of_ble_eq_true rfl, Nat.le_of_ble_eq_true rfl⟩ rfl rfl (by omega) (by omega) hE_204.1 rfl rfl (Nat.le_of_ble_eq_true rfl) hl.1 dX1_formatHeights_68 (hB.of hS hAb) hE_204 hS (fun q h => by have h2 : (g_s G).heap.size ≤ q ∧ (q = ln ∨ q = vl2_185) := h; show ((g_s G).heap.size ≤ q ∧ (q = ln ∨ q = lv)) ∨ s.heap.size ≤ q; omega) (fun v H_208 locs hp_205 hz_206 hk_207 hS => ?_)
          obtain ⟨vl2_209, cap2_210, rfl, hv2_211, hE_212⟩ := hp_205
          have hz_213 := hS.1
          have lt_214 := hE_212.1.lt
          have lt_215 := hE_212.2.2.1.1
          refine r_stk (st2 := [.ref (ln)]) rfl ?_
          have hvc_216 := fp_vch hvc_192 hv2_211 (show s.heap.size ≤ _ by omega)
          clear hv2_211 hvc_192
          obtain ⟨L_218, hL_219⟩ : ∃ L9 : FL, L9 = fp_pn L_171 (fp_hi S k) := ⟨_, rfl⟩
          have hL_219l : L_218.2 = L_171.2 + sb_dg (fp_hi S k) := by rw [hL_219]; rfl
          have hE_217 : fp_SB G ln vl2_209 cap2_210 (L_218.2) ml2_18 (L_218.1) H_208 := by rw [hL_219]; exact fp_SB.pn hE_212
          have lt_220 := hE_217.1.lt
          have lt_221 := hE_217.2.2.1.1
          have hLe : L_218 = fp_fhl S (k + 1) := by show _ = fp_pn (fp_fh2 S (fp_fh1 (fp_fhl S k) k) k) (fp_hi S k); rw [fp_fh1_t d21, fp_fh2_f d45, hL_219, hL_172]
          rw [hLe] at hE_217
          have lt_222 := hE_217.1.lt
          have lt_223 := hE_217.2.2.1.1
          refine lv_pop hx hb dX1_formatHeights_71 rfl ?_
          refine lv_iinc (v := (iI ((k + 1 : Nat) : Int))) (lv' := [(1, .int (iI ((k + 1 : Nat) : Int))), (0, .ref (x))]) hx hb dX1_formatHeights_72 hl (k := 1) rfl (iI_incN _ _) (by decide) rfl (fun ls hl => ?_)
          refine lv_goto (tgt := 10) hx hb dX1_formatHeights_75 (by decide) ?_
          refine W.widen (k := 1 + 4 * (k + 1)) (n := 202 + 610 * (k + 1)) (by omega) (by omega) ?_
          exact ih10 (by omega) vl2_209 cap2_210 H_208 locs ls (lv_sub hl [1, 0] rfl) hS hvc_216 (by omega) hE_217
        · skip
          have d45 : sT S k = 1 := of_decide_eq_true c45
          refine r_ldcSw X q1077 (X.2.2.2.2.2.kst hB fp_kXs).2.1 dX1_formatHeights_48 ?_
          have hk_224 := (X.2.2.2.2.2.kst (hB.of hS hAb) fp_kXs).1
          have lt_225 := hk_224.1.2
          have lt_226 := hk_224.2.2.1
          refine lv_goto (tgt := 57) hx hb dX1_formatHeights_51 (by decide) ?_
          refine r_callV (cells1 := (1 + 4 * k + 1 + 1)) (slots1 := (202 + 610 * k + 202 + 202)) X hR (c_J6_append G ln vl2_162 cap2_163 (L_171.2) ml2_18 (L_171.1) (fp_ks G "FortPlanner" 357) (fp_kv G "FortPlanner" 357) 1 (fun i => [33].getD i 0) (by omega) ((X.2.2.2.2.2.kst hB fp_kXs).2.2)) q1076 q583 q584 q97 q585 ⟨rfl, pd_J6_append⟩ ⟨Nat.le_of_ble_eq_true rfl, Nat.le_of_ble_eq_true rfl⟩ rfl rfl (by omega) (by omega) hE_170.1 rfl rfl (Nat.le_of_ble_eq_true rfl) hl.1 dX1_formatHeights_57 (hB.of hS hAb) ⟨hE_170, hk_224⟩ hS (fun q h => by have h2 : (g_s G).heap.size ≤ q ∧ (q = ln ∨ q = vl2_162) := h; show ((g_s G).heap.size ≤ q ∧ (q = ln ∨ q = lv)) ∨ s.heap.size ≤ q; omega) (fun v H_230 locs hp_227 hz_228 hk_229 hS => ?_)
          obtain ⟨vl2_231, cap2_232, rfl, hv2_233, hE_234⟩ := hp_227
          have hz_235 := hS.1
          have lt_236 := hE_234.1.lt
          have lt_237 := hE_234.2.2.1.1
          refine r_stk (st2 := [.ref (ln)]) rfl ?_
          have hvc_238 := fp_vch hvc_169 hv2_233 (show s.heap.size ≤ _ by omega)
          clear hv2_233 hvc_169
          obtain ⟨L_240, hL_241⟩ : ∃ L9 : FL, L9 = fp_pc L_171 33 := ⟨_, rfl⟩
          have hL_241l : L_240.2 = L_171.2 + 1 := by rw [hL_241]; rfl
          have hE_239 : fp_SB G ln vl2_231 cap2_232 (L_240.2) ml2_18 (L_240.1) H_230 := by rw [hL_241]; exact fp_SB.s1 rfl hE_234
          have lt_242 := hE_239.1.lt
          have lt_243 := hE_239.2.2.1.1
          refine lv_aload_n hx hb dX1_formatHeights_60 rfl (lv_at hl 0 rfl) ?_
          have hE_244 := fp_At.kept h_pob (fp_keptS (by omega) hS (fun h => (fun h => h.elim (hne_5) (hne_6)) h.2))
          refine r_get X hE_244 rfl in_X1 0 (by decide) q242 (Or.inl rfl) (v := .ref (u)) rfl dX1_formatHeights_61 ?_
          refine lv_iload_n hx hb dX1_formatHeights_64 rfl (lv_at hl 1 rfl) ?_
          have hE_245 := fp_SE.mvA h_st (fun q9 hq9 hs9 => fp_keptS hq9 hS (fun h9 => (fun h9 => h9.elim (hnSl q9 hs9) (hnSv q9 hs9)) h9.2))
          refine r_callV (cells1 := (1 + 4 * k + 1 + 1 + 1)) (slots1 := (202 + 610 * k + 202 + 202 + 4)) X hR (c_X2_height G u l ed z t mc cap b S k hsw (by omega)) q271 q272 q273 q89 q274 ⟨rfl, pd_X2_height⟩ ⟨Nat.le_of_ble_eq_true rfl, Nat.le_of_ble_eq_true rfl⟩ rfl rfl (by omega) (by omega) hE_245.1 rfl rfl (Nat.le_of_ble_eq_true rfl) hl.1 dX1_formatHeights_65 (hB.of hS hAb) hE_245 hS (fun _ h => h.elim) (fun v H_249 locs hp_246 hz_247 hk_248 hS => ?_)
          obtain rfl := hp_246
          have hz_250 := hS.1
          refine r_stk (st2 := [.int (iI ((fp_hi S k : Nat) : Int)), .ref (ln)]) rfl ?_
          have hE_252 := hE_239.ext (fp_X.no hz_247 hk_248)
          refine r_callV (cells1 := (1 + 4 * k + 1 + 1 + 1 + 1)) (slots1 := (202 + 610 * k + 202 + 202 + 4 + 202)) X hR (c_J6_append_2 G ln vl2_231 cap2_232 (L_240.2) ml2_18 (L_240.1) (fp_hi S k) (by omega) (by omega)) q1078 q701 q702 q97 q703 ⟨rfl, pd_J6_append_2⟩ ⟨Nat.le_of_ble_eq_true rfl, Nat.le_of_ble_eq_true rfl⟩ rfl rfl (by omega) (by omega) hE_252.1 rfl rfl (Nat.le_of_ble_eq_true rfl) hl.1 dX1_formatHeights_68 (hB.of hS hAb) hE_252 hS (fun q h => by have h2 : (g_s G).heap.size ≤ q ∧ (q = ln ∨ q = vl2_231) := h; show ((g_s G).heap.size ≤ q ∧ (q = ln ∨ q = lv)) ∨ s.heap.size ≤ q; omega) (fun v H_256 locs hp_253 hz_254 hk_255 hS => ?_)
          obtain ⟨vl2_257, cap2_258, rfl, hv2_259, hE_260⟩ := hp_253
          have hz_261 := hS.1
          have lt_262 := hE_260.1.lt
          have lt_263 := hE_260.2.2.1.1
          refine r_stk (st2 := [.ref (ln)]) rfl ?_
          have hvc_264 := fp_vch hvc_238 hv2_259 (show s.heap.size ≤ _ by omega)
          clear hv2_259 hvc_238
          obtain ⟨L_266, hL_267⟩ : ∃ L9 : FL, L9 = fp_pn L_240 (fp_hi S k) := ⟨_, rfl⟩
          have hL_267l : L_266.2 = L_240.2 + sb_dg (fp_hi S k) := by rw [hL_267]; rfl
          have hE_265 : fp_SB G ln vl2_257 cap2_258 (L_266.2) ml2_18 (L_266.1) H_256 := by rw [hL_267]; exact fp_SB.pn hE_260
          have lt_268 := hE_265.1.lt
          have lt_269 := hE_265.2.2.1.1
          have hLe : L_266 = fp_fhl S (k + 1) := by show _ = fp_pn (fp_fh2 S (fp_fh1 (fp_fhl S k) k) k) (fp_hi S k); rw [fp_fh1_t d21, fp_fh2_t d45, hL_267, hL_241, hL_172]
          rw [hLe] at hE_265
          have lt_270 := hE_265.1.lt
          have lt_271 := hE_265.2.2.1.1
          refine lv_pop hx hb dX1_formatHeights_71 rfl ?_
          refine lv_iinc (v := (iI ((k + 1 : Nat) : Int))) (lv' := [(1, .int (iI ((k + 1 : Nat) : Int))), (0, .ref (x))]) hx hb dX1_formatHeights_72 hl (k := 1) rfl (iI_incN _ _) (by decide) rfl (fun ls hl => ?_)
          refine lv_goto (tgt := 10) hx hb dX1_formatHeights_75 (by decide) ?_
          refine W.widen (k := 1 + 4 * (k + 1)) (n := 202 + 610 * (k + 1)) (by omega) (by omega) ?_
          exact ih10 (by omega) vl2_257 cap2_258 H_256 locs ls (lv_sub hl [1, 0] rfl) hS hvc_264 (by omega) hE_265
  refine W.widen (k := 1 + 4 * 0) (n := 202 + 610 * 0) (by omega) (by omega) ?_
  exact L10 0 (by omega) vl2_16 cap2_17 H_15 locs ls (lv_sub hl [1, 0] rfl) hS hvc_24 (Nat.le_refl _) hE_25
