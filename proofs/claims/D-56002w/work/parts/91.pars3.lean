/-! THE PARSER: the commands that it has read -/
set_option maxRecDepth 100000
/-- a command's cells, all from lo on -/
def fp_CM (G : fp_G) (lo c : Nat) (C : Nat × Int × Int × Int) (H : Heap) : Prop := ∃ (y qy nu lt : Nat) (f : Nat → Int), fp_At G H c (eO 7 [.ref y, .ref nu, .int (iI ((lt : Nat) : Int))]) ∧ fp_At G H nu (eI G 3 (fun j => iI (f j))) ∧ fp_HH G y qy (fp_wk C.1) (fp_ww C.1) H ∧ (lo ≤ c ∧ lo ≤ nu ∧ lo ≤ y ∧ lo ≤ qy) ∧ C.1 < 7 ∧ f 0 = C.2.1 ∧ (C.1 < 3 → f 1 = C.2.2.1 ∧ f 2 = C.2.2.2) ∧ (C.1 = 4 → ((lt : Nat) : Int) = C.2.2.1) ∧ lt < 128 ∧ ∀ i, i < 3 → 0 ≤ f i ∧ f i ≤ 99
theorem fp_CM.of {G : fp_G} {lo c w y qy nu lt : Nat} {C : Nat × Int × Int × Int} {r : Bool × Nat × Int × Int × Int} {f : Nat → Int} {H : Heap} (h1 : fp_At G H c (eO 7 [.ref y, .ref nu, .int (iI ((lt : Nat) : Int))])) (h2 : fp_At G H nu (eI G 3 (fun j => iI (f j)))) (h3 : fp_HH G y qy (fp_wk w) (fp_ww w) H) (hb : lo ≤ c ∧ lo ≤ nu ∧ lo ≤ y ∧ lo ≤ qy) (hw : w < 7) (hca : fp_ca w r f lt) (e : C = (w, r.2.2)) : fp_CM G lo c C H := by
  subst e
  exact ⟨y, qy, nu, lt, f, h1, h2, h3, hb, hw, hca⟩
/-- a cell that is no command's -/
def fp_nc (G : fp_G) (lo : Nat) (H : Heap) (q : Nat) : Prop := q < lo ∨ (∃ ci fs, (ci = 6 ∨ ci = 8) ∧ fp_At G H q (eO ci fs)) ∨ ∃ n f, fp_At G H q (eQ G 4 n f)
theorem fp_nc.O {G : fp_G} {U : State} (hK : fp_K G U) {lo q a i : Nat} {H : Heap} {fs : List Value} (h : fp_nc G lo H q) (hi : i = 7 ∨ i = 12) (ha : fp_At G H a (eO i fs)) (hl : lo ≤ a) : q ≠ a := by
  rcases h with h | ⟨ci, gs, h1, h2⟩ | ⟨n, f, h⟩
  · omega
  · rcases h1 with rfl | rfl <;> rcases hi with rfl | rfl
    · exact fp_neOO hK (i := 6) (j := 7) rfl rfl (by decide) h2 ha
    · exact fp_neOO hK (i := 6) (j := 12) rfl rfl (by decide) h2 ha
    · exact fp_neOO hK (i := 8) (j := 7) rfl rfl (by decide) h2 ha
    · exact fp_neOO hK (i := 8) (j := 12) rfl rfl (by decide) h2 ha
  · rcases hi with rfl | rfl
    · exact Ne.symm (fp_neOA hK (i := 7) (t := 4) rfl rfl ha h)
    · exact Ne.symm (fp_neOA hK (i := 12) (t := 4) rfl rfl ha h)
theorem fp_nc.I {G : fp_G} {U : State} (hK : fp_K G U) {lo q a n : Nat} {H : Heap} {f : Nat → Int32} (h : fp_nc G lo H q) (ha : fp_At G H a (eI G n f)) (hl : lo ≤ a) : q ≠ a := by
  rcases h with h | ⟨ci, gs, h1, h2⟩ | ⟨n, f, h⟩
  · omega
  · rcases h1 with rfl | rfl
    · exact fp_neOA hK (i := 6) (t := 0) rfl rfl h2 ha
    · exact fp_neOA hK (i := 8) (t := 0) rfl rfl h2 ha
  · exact fp_neAA hK (t := 4) (t2 := 0) rfl rfl (by decide) h ha
theorem fp_nc.B {G : fp_G} {U : State} (hK : fp_K G U) {lo q a n : Nat} {H : Heap} {f : Nat → Int32} (h : fp_nc G lo H q) (ha : fp_At G H a (eB G n f)) (hl : lo ≤ a) : q ≠ a := by
  rcases h with h | ⟨ci, gs, h1, h2⟩ | ⟨n, f, h⟩
  · omega
  · rcases h1 with rfl | rfl
    · exact fp_neOA hK (i := 6) (t := 2) rfl rfl h2 ha
    · exact fp_neOA hK (i := 8) (t := 2) rfl rfl h2 ha
  · exact fp_neAA hK (t := 4) (t2 := 2) rfl rfl (by decide) h ha
theorem fp_CM.keep {G : fp_G} {U : State} (hK : fp_K G U) {lo c : Nat} {C : Nat × Int × Int × Int} {H H1 : Heap} {A : Nat → Prop} (h : fp_CM G lo c C H) (hk : ∀ q : Nat, q < H.size → ¬ A q → H1[q]? = H[q]?) (hA : ∀ q, A q → fp_nc G lo H q) : fp_CM G lo c C H1 := by
  obtain ⟨y, qy, nu, lt, f, h1, h2, h3, ⟨b1, b2, b3, b4⟩, h5⟩ := h
  obtain ⟨⟨k1, k2, k3, -⟩, kr, -⟩ := id h3.1
  refine ⟨y, qy, nu, lt, f, h1.kept (hk _ h1.lt (fun z => ?_)), h2.kept (hk _ h2.lt (fun z => ?_)), h3.mv (hk _ k3.lt (fun z => ?_)) (hk _ kr.lt (fun z => ?_)), ⟨b1, b2, b3, b4⟩, h5⟩
  · exact (hA _ z).O hK (Or.inl rfl) h1 b1 rfl
  · exact (hA _ z).I hK h2 b2 rfl
  · exact (hA _ z).O hK (Or.inr rfl) k3 b3 rfl
  · exact (hA _ z).B hK kr b4 rfl
/-- the commands read so far, unless it has failed -/
def fp_CMF (G : fp_G) (lo : Nat) (fl : Bool) (b : Nat → Nat) (L : List (Nat × Int × Int × Int)) (H : Heap) : Prop := lo ≤ H.size ∧ (fl = false → ∀ i, i < L.length → fp_CM G lo (b i) (L.getD i (0, 0, 0, 0)) H)
theorem fp_CMF.keep {G : fp_G} {U : State} (hK : fp_K G U) {lo : Nat} {fl : Bool} {b : Nat → Nat} {L : List (Nat × Int × Int × Int)} {H H1 : Heap} {A : Nat → Prop} (h : fp_CMF G lo fl b L H) (hz : H.size ≤ H1.size) (hk : ∀ q : Nat, q < H.size → ¬ A q → H1[q]? = H[q]?) (hA : ∀ q, A q → fp_nc G lo H q) : fp_CMF G lo fl b L H1 := ⟨Nat.le_trans h.1 hz, fun hf i hi => (h.2 hf i hi).keep hK hk hA⟩
theorem fp_CMF.keep1 {G : fp_G} {U : State} (hK : fp_K G U) {lo x : Nat} {fl : Bool} {b : Nat → Nat} {L : List (Nat × Int × Int × Int)} {H H1 : Heap} (h : fp_CMF G lo fl b L H) (hz : H.size ≤ H1.size) (hk : ∀ q : Nat, q ≠ x → H1[q]? = H[q]?) (hA : fp_nc G lo H x) : fp_CMF G lo fl b L H1 := h.keep hK hz (A := fun q => q = x) (fun q _ hq => hk q hq) (fun q e => by subst e; exact hA)
theorem fp_CMF.ext {G : fp_G} {lo : Nat} {fl : Bool} {b : Nat → Nat} {L : List (Nat × Int × Int × Int)} {H H1 : Heap} (h : fp_CMF G lo fl b L H) (hx : fp_X H H1) : fp_CMF G lo fl b L H1 := by
  refine ⟨Nat.le_trans h.1 hx.1, fun hf i hi => ?_⟩
  obtain ⟨y, qy, nu, lt, f, h1, h2, h3, h4⟩ := h.2 hf i hi
  exact ⟨y, qy, nu, lt, f, h1.ext hx, h2.ext hx, h3.ext hx, h4⟩
theorem fp_CMF.el {G : fp_G} {lo m : Nat} {b : Nat → Nat} {L : List (Nat × Int × Int × Int)} {H : Heap} (h : fp_CMF G lo false b L H) (hm : L.length = m) : fp_EL G m b H := fun k hk => by
  obtain ⟨y, qy, nu, lt, f, h1, -⟩ := h.2 rfl k (by omega)
  exact ⟨7, _, by decide, h1⟩
theorem fp_CMF.nel {G : fp_G} {U : State} (hK : fp_K G U) {lo l : Nat} {b : Nat → Nat} {L : List (Nat × Int × Int × Int)} {H : Heap} {fs : List Value} (h : fp_CMF G lo false b L H) (hl : fp_At G H l (eO 8 fs)) : ∀ k, k < L.length → b k ≠ l := fun k hk => by
  obtain ⟨y, qy, nu, lt, f, h1, -⟩ := h.2 rfl k hk
  exact fp_neOO hK (i := 7) (j := 8) rfl rfl (by decide) h1 hl
theorem fp_CMF.push {G : fp_G} {lo m c : Nat} {b : Nat → Nat} {L : List (Nat × Int × Int × Int)} {C : Nat × Int × Int × Int} {H : Heap} (h : fp_CMF G lo false b L H) (hm : L.length = m) (hc : fp_CM G lo c C H) : fp_CMF G lo false (va_up b m c) (L ++ [C]) H := by
  refine ⟨h.1, fun _ i hi => ?_⟩
  rw [List.length_append, List.length_singleton] at hi
  by_cases e : i = m
  · subst e
    rw [va_up_self, List.getD_eq_getElem?_getD, List.getElem?_append_right (by omega), hm]
    simpa using hc
  · rw [va_up_ne _ _ e, List.getD_eq_getElem?_getD, List.getElem?_append_left (by omega), ← List.getD_eq_getElem?_getD]
    exact h.2 rfl i (by omega)
theorem fp_nc4 {G : fp_G} {lo x l ed p cap m : Nat} {mc : Int32} {b : Nat → Nat} {H : Heap} {fs : List Value} (ho : fp_At G H x (eO 6 fs)) (hl : fp_LE G l ed mc m cap b H) (hd : fp_de G < (g_s G).heap.size) (hp : p < lo) (hlo : (g_s G).heap.size ≤ lo) : ∀ q, ((g_s G).heap.size ≤ q ∧ (q = x ∨ q = l ∨ q = ed ∨ q = p)) → fp_nc G lo H q := by
  rintro q ⟨h0, rfl | rfl | rfl | rfl⟩
  · exact Or.inr (Or.inl ⟨6, _, Or.inl rfl, ho⟩)
  · exact Or.inr (Or.inl ⟨8, _, Or.inr rfl, hl.1⟩)
  · rcases hl.2.1 with ⟨-, -, h1⟩ | ⟨-, -, -, f, h1, -⟩
    · omega
    · exact Or.inr (Or.inr ⟨_, _, h1⟩)
  · exact Or.inl hp

set_option maxRecDepth 100000
set_option maxHeartbeats 4000000 in
theorem c_X9_parseCommand (G : fp_G) (x : Nat) (kw : Nat) (p : Nat) (pv : Nat) (l : Nat) (n : Nat) (tx : Nat → Nat) (pos : Nat) (fl : Bool) (lo : Nat) (ed : Nat) (mc : Int32) (m : Nat) (cap : Nat) (b : Nat → Nat) (L : List (Nat × Int × Int × Int)) (hpos : pos ≤ n) (hfl : fl = false) (hn24 : n ≤ 24) (hlo : p < lo ∧ (g_s G).heap.size ≤ lo) (hxb : (g_s G).heap.size ≤ x) (hLm : L.length = m) (hm : m ≤ 30) (hkb : (g_s G).heap.size ≤ kw) : fp_M G yX9_parseCommand cX9_parseCommand 2 none 10 206 55 800 [.ref (x)] (fun H => fp_At G H x (eO 6 [.ref (kw), .ref (p), .ref (l), .int (iI ((pos : Nat) : Int)), .int (iI (bI (fl)))]) ∧ fp_HS G p pv n tx H ∧ fp_At G H kw (eQ G 6 7 (fun i => some (fp_kq G i))) ∧ fp_LE G l ed mc m cap b H ∧ fp_CMF G lo false b L H) (fun q => (g_s G).heap.size ≤ q ∧ (q = x ∨ q = l ∨ q = ed ∨ q = p)) (fun H v H1 => ∃ (fl2 : Bool), ∃ (pos2 : Nat), ∃ (ed2 : Nat), ∃ (mc2 : Int32), ∃ (cap2 : Nat), ∃ (b2 : Nat → Nat), ∃ (L2 : List (Nat × Int × Int × Int)), ∃ (c : FC), v = none ∧ (fp_cmd tx n pos = c) ∧ (fl2 = c.1) ∧ (pos2 = c.2.1) ∧ (fl2 = false → L2 = L ++ [c.2.2] ∧ fp_CMF G lo false b2 L2 H1) ∧ (ed2 = ed ∨ H.size ≤ ed2) ∧ fp_At G H1 x (eO 6 [.ref (kw), .ref (p), .ref (l), .int (iI ((pos2 : Nat) : Int)), .int (iI (bI (fl2)))]) ∧ fp_LE G l ed2 mc2 (m + 1) cap2 b2 H1 ∧ fp_HS G p pv n tx H1) := by
  refine fp_M.intro (by decide) (Nat.le_of_ble_eq_true rfl) ?_
  intro pg en s mi ag bl mt cd rR qQ ls X hx hb hr hlk hnm hR hQ hB hM hl
  have hS : va_S (fA (fun q => (g_s G).heap.size ≤ q ∧ (q = x ∨ q = l ∨ q = ed ∨ q = p)) s.heap.size) s.heap s.heap [] := va_S.rf
  generalize ([] : List Loc) = locs at hS ⊢
  have hb0 := hB.1
  have hAb : ∀ q, (fun q => (g_s G).heap.size ≤ q ∧ (q = x ∨ q = l ∨ q = ed ∨ q = p)) q → (g_s G).heap.size ≤ q := fun q h => h.1
  obtain ⟨h_o, h_pg, h_kr, h_ls, h_cl⟩ := hM
  have hsz0 := hS.1
  have lt_1 := h_o.lt
  have lt_2 := h_pg.lt
  have lt_3 := h_pg.2.1.lt
  have lt_4 := h_kr.lt
  have lt_5 := h_ls.1.lt
  have lt_6 := h_ls.2.2
  have hpg := h_pg.2.2.1
  obtain rfl : fl = false := hfl
  have hed0 := (X.2.2.2.2.2.deT (A := fp_no) hB fp_no.base).2.2
  have hlb := h_ls.2.2.2
  have hlo2 := h_cl.1
  obtain ⟨⟨hp1, hp2, hpo, hpp⟩, hprow, hpz, hpb, hpvb⟩ := id h_pg
  have hnel := fp_CMF.nel X.2.2.2.2.2 h_cl h_ls.1
  have hne_7 : fp_dif x p := fp_neOO X.2.2.2.2.2 (i := 6) (j := 12) rfl rfl (by decide) h_o hpo
  have hne_8 : fp_dif x pv := fp_neOA X.2.2.2.2.2 (i := 6) (t := 2) rfl rfl h_o hprow
  have hne_9 : fp_dif x kw := fp_neOA X.2.2.2.2.2 (i := 6) (t := 6) rfl rfl h_o h_kr
  have hne_10 : fp_dif x l := fp_neOO X.2.2.2.2.2 (i := 6) (j := 8) rfl rfl (by decide) h_o h_ls.1
  have hne_11 : fp_dif x ed := fp_LE.neE h_ls hed0 (by omega) (fun f9 h9 => fp_neOA X.2.2.2.2.2 (i := 6) (t := 4) rfl rfl h_o h9)
  have hne_12 : fp_dif p pv := fp_neOA X.2.2.2.2.2 (i := 12) (t := 2) rfl rfl hpo hprow
  have hne_13 : fp_dif p kw := fp_neOA X.2.2.2.2.2 (i := 12) (t := 6) rfl rfl hpo h_kr
  have hne_14 : fp_dif p l := fp_neOO X.2.2.2.2.2 (i := 12) (j := 8) rfl rfl (by decide) hpo h_ls.1
  have hne_15 : fp_dif p ed := fp_LE.neE h_ls hed0 (by omega) (fun f9 h9 => fp_neOA X.2.2.2.2.2 (i := 12) (t := 4) rfl rfl hpo h9)
  have hne_16 : fp_dif pv kw := fp_neAA X.2.2.2.2.2 (t := 2) (t2 := 6) rfl rfl (by decide) hprow h_kr
  have hne_17 : fp_dif pv l := Ne.symm (fp_neOA X.2.2.2.2.2 (i := 8) (t := 2) rfl rfl h_ls.1 hprow)
  have hne_18 : fp_dif pv ed := fp_LE.neE h_ls hed0 (by omega) (fun f9 h9 => fp_neAA X.2.2.2.2.2 (t := 2) (t2 := 4) rfl rfl (by decide) hprow h9)
  have hne_19 : fp_dif kw l := Ne.symm (fp_neOA X.2.2.2.2.2 (i := 8) (t := 6) rfl rfl h_ls.1 h_kr)
  have hne_20 : fp_dif kw ed := fp_LE.neE h_ls hed0 (by omega) (fun f9 h9 => fp_neAA X.2.2.2.2.2 (t := 6) (t2 := 4) rfl rfl (by decide) h_kr h9)
  have hne_21 : fp_dif l ed := fp_LE.neE h_ls hed0 (by omega) (fun f9 h9 => fp_neOA X.2.2.2.2.2 (i := 8) (t := 4) rfl rfl h_ls.1 h9)
  have hnc : ∀ q, ((g_s G).heap.size ≤ q ∧ (q = x ∨ q = l ∨ q = ed ∨ q = p)) → fp_nc G lo s.heap q := fp_nc4 h_o h_ls hed0 hlo.1 hlo.2
  refine r_new (ci := 7) (fs := [.null, .null, .int (iI ((0 : Nat) : Int))]) X hR hS rfl in_X10 tyX10_ok q1765 q1766 q125 (by intro j hj; rcases (show j = 0 ∨ j = 1 ∨ j = 2 by omega) with rfl | rfl | rfl <;> rfl) (Nat.le_of_ble_eq_true rfl) (Nat.le_of_ble_eq_true rfl) dX9_parseCommand_0 (fun qn H_22 hq_26 hE_23 hX_24 hz_25 hS => ?_)
  have hz_27 := hS.1
  have lt_28 := hE_23.lt
  refine lv_dup hx hb dX9_parseCommand_3 rfl ?_
  refine lv_aload_n hx hb dX9_parseCommand_4 rfl (lv_at hl 0 rfl) ?_
  have hE_30 := fp_At.kept h_o (hX_24.2 _ (by omega))
  have hE_32 := h_pg.ext hX_24
  have hE_33 := fp_At.kept h_kr (fp_keptS (by omega) hS (fun h => (fun h => h.elim (Ne.symm (hne_9)) (fun h => h.elim (hne_19) (fun h => h.elim (hne_20) (Ne.symm (hne_13))))) h.2))
  refine r_callV (cells1 := 53) (slots1 := 731) X hR (c_X9_parseKeyword G x kw p pv l n tx pos false hpos hxb rfl hn24) q1767 q1769 qs34 q124 q1770 ⟨rfl, pd_X9_parseKeyword⟩ ⟨Nat.le_of_ble_eq_true rfl, Nat.le_of_ble_eq_true rfl⟩ rfl rfl (Nat.le_of_ble_eq_true rfl) (Nat.le_of_ble_eq_true rfl) hE_30 rfl rfl (Nat.le_of_ble_eq_true rfl) hl.1 dX9_parseCommand_5 (hB.of hS hAb) ⟨hE_30, hE_32, hE_33⟩ hS (fun q h => by have h2 : (g_s G).heap.size ≤ q ∧ (q = x) := h; show ((g_s G).heap.size ≤ q ∧ (q = x ∨ q = l ∨ q = ed ∨ q = p)) ∨ s.heap.size ≤ q; omega) (fun v H_37 locs hp_34 hz_35 hk_36 hS => ?_)
  obtain ⟨y_38, qy_39, k_40, fl2_41, rfl, hk1_42, hk2_43, hk3_44, hk4_45, hk5_46, hE_47⟩ := hp_34
  have hz_48 := hS.1
  have lt_49 := hE_47.lt
  refine r_stk (st2 := [.ref (y_38), .ref (qn), .ref (qn)]) rfl ?_
  cases hfl2 : fl2_41 with
  | true =>
    have hk4 := hk4_45
    rw [hfl2] at hk4 hE_47
    have hcb := fp_kw_bad hk1_42 hk2_43 hk3_44 (by simpa using hk4.symm)
    have hE_51 := fp_At.kept hE_23 (hk_36 _ (by omega) (by omega))
    refine r_callI (cells1 := 54) (slots1 := 734) X hR (c_X10_init G qn y_38 (by omega)) q1823 q1824 q125 q1825 rfl ⟨by decide, by decide, rfl⟩ ⟨Nat.le_of_ble_eq_true rfl, Nat.le_of_ble_eq_true rfl⟩ rfl rfl (Nat.le_of_ble_eq_true rfl) (Nat.le_of_ble_eq_true rfl) rfl (Nat.le_of_ble_eq_true rfl) hl.1 dX9_parseCommand_8 (hB.of hS hAb) hE_51 hS (fun q h => by have h2 : (g_s G).heap.size ≤ q ∧ (q = qn) := h; show ((g_s G).heap.size ≤ q ∧ (q = x ∨ q = l ∨ q = ed ∨ q = p)) ∨ s.heap.size ≤ q; omega) (fun v H_55 locs hp_52 hz_53 hk_54 hS => ?_)
    obtain ⟨nu_56, rfl, hnu_57, hE_58, hE_59⟩ := hp_52
    have hz_60 := hS.1
    have lt_61 := hE_58.lt
    have lt_63 := hE_59.lt
    refine r_stk (st2 := [.ref (qn)]) rfl ?_
    refine lv_astore_n (lv' := [(1, .ref (qn)), (0, .ref (x))]) hx hb dX9_parseCommand_11 rfl hl (by decide) rfl (fun ls hl => ?_)
    refine lv_aload_n hx hb dX9_parseCommand_12 rfl (lv_at hl 1 rfl) ?_
    have hE_65 := fp_At.kept hE_47 (hk_54 _ (by omega) (by omega))
    refine r_get X hE_65 rfl in_X9 2 (by decide) q1741 (Or.inl rfl) (v := .ref (l)) rfl dX9_parseCommand_13 ?_
    refine lv_aload_n hx hb dX9_parseCommand_16 rfl (lv_at hl 0 rfl) ?_
    have hE_68 := fp_CMF.keep X.2.2.2.2.2 h_cl hS.1 (fun q hq hn => fp_keptS hq hS hn) hnc
    have hel_66 : fp_EL G m b H_55 := fp_CMF.el hE_68 hLm
    have heo_67 : fp_EO G qn H_55 := ⟨7, _, by decide, hE_58⟩
    have lt_69 := fp_el.lt heo_67
    have hE_71 := h_ls.ext hX_24
    have hE_72 := fp_LE.mv hE_71 (hk_36 _ (by omega) (fun h => (Ne.symm (hne_10)) h.2)) (hk_36 _ (by omega) (fun h => (Ne.symm (hne_11)) h.2))
    have hE_73 := fp_LE.mv hE_72 (hk_54 _ (by omega) (by omega)) (hk_54 _ (by omega) (by omega))
    refine r_callV (cells1 := (54 + (1 - (cap - m)))) (slots1 := (734 + (m + m / 2 + 11 - 10000 * (cap - m)))) X hR (c_J2_add_2 G l ed mc m cap b qn (fun k hk => hnel k (by omega)) (by omega) (by omega)) q1842 q1102 q1103 q92 q1104 ⟨rfl, pd_J2_add_2⟩ ⟨Nat.le_of_ble_eq_true rfl, Nat.le_of_ble_eq_true rfl⟩ rfl rfl (by omega) (by omega) hE_73.1 rfl rfl (Nat.le_of_ble_eq_true rfl) hl.1 dX9_parseCommand_17 (hB.of hS hAb) ⟨hE_73, hel_66, heo_67⟩ hS (fun q h => by have h2 : (g_s G).heap.size ≤ q ∧ (q = l ∨ q = ed) := h; show ((g_s G).heap.size ≤ q ∧ (q = x ∨ q = l ∨ q = ed ∨ q = p)) ∨ s.heap.size ≤ q; omega) (fun v H_77 locs hp_74 hz_75 hk_76 hS => ?_)
    obtain ⟨ed2_78, mc2_79, cap2_80, rfl, hed2_81, hcp_82, hE_83⟩ := hp_74
    have hz_84 := hS.1
    have lt_85 := hE_83.1.lt
    have lt_86 := hE_83.2.2
    refine r_stk (st2 := [.int (iI ((1 : Nat) : Int))]) rfl ?_
    refine lv_pop hx hb dX9_parseCommand_20 rfl ?_
    refine lv_aload_n hx hb dX9_parseCommand_21 rfl (lv_at hl 1 rfl) ?_
    have hE_88 := fp_At.kept hE_65 (hk_76 _ (by omega) (fun h => (fun h => h.elim (hne_10) (hne_11)) h.2))
    refine r_get X hE_88 rfl in_X9 4 (by decide) q1745 (Or.inl rfl) (v := .int (iI (bI (true)))) rfl dX9_parseCommand_22 ?_
    refine r_ifneB (tgt := 33) hx hb dX9_parseCommand_25 (by decide) (fun c25 => ?_) (fun c25 => ?_)
    · skip
      refine r_vret hx hb hr hlk hQ hS (by omega) (by omega) dX9_parseCommand_33 ?_
      have hE_90 := fp_HS.mv hE_32 (hk_36 _ (by omega) (fun h => (Ne.symm (hne_7)) h.2)) (hk_36 _ (by omega) (fun h => (Ne.symm (hne_8)) h.2))
      have hE_91 := fp_HS.mv hE_90 (hk_54 _ (by omega) (by omega)) (hk_54 _ (by omega) (by omega))
      have hE_92 := fp_HS.mv hE_91 (hk_76 _ (by omega) (fun h => (fun h => h.elim (hne_14) (hne_15)) h.2)) (hk_76 _ (by omega) (fun h => (fun h => h.elim (hne_17) (hne_18)) h.2))
      exact ⟨true, pos + k_40, ed2_78, mc2_79, cap2_80, _, L, _, rfl, hcb, rfl, rfl, (fun h => by cases h), (by omega), hE_88, hE_83, hE_92⟩
    · exact absurd c25 (by decide)
  | false =>
    have hk4 := hk4_45
    rw [hfl2] at hk4 hE_47
    obtain ⟨wd, hwd, hkw, hwm, hwt⟩ := fp_kw_good hk1_42 (by simpa using hk4.symm)
    obtain ⟨hky, hyy⟩ := hk5_46 hfl2
    obtain rfl : k_40 = fp_wk wd := hkw
    have hky := hky.cg hwt
    have hwkb := fp_wk_b hwd
    have lt_93 := hky.lt
    have lt_94 := hky.2.1.lt
    obtain ⟨⟨hy1, hy2, hyo, hyp⟩, hyrow, hyz, hyb, hqb⟩ := id hky
    have hE_96 := h_ls.ext hX_24
    have hE_97 := fp_LE.mv hE_96 (hk_36 _ (by omega) (fun h => (Ne.symm (hne_10)) h.2)) (hk_36 _ (by omega) (fun h => (Ne.symm (hne_11)) h.2))
    have hlS := hE_97
    have hoS := hE_47
    have hE_99 := fp_At.kept hE_23 (hk_36 _ (by omega) (by omega))
    have hqnS := hE_99
    have hne_100 : fp_dif x y_38 := fp_neOO X.2.2.2.2.2 (i := 6) (j := 12) rfl rfl (by decide) hoS hyo
    have hne_101 : fp_dif x qy_39 := fp_neOA X.2.2.2.2.2 (i := 6) (t := 2) rfl rfl hoS hyrow
    have hne_102 : fp_dif x qn := fp_neOO X.2.2.2.2.2 (i := 6) (j := 7) rfl rfl (by decide) hoS hqnS
    have hne_103 : fp_dif y_38 qy_39 := fp_neOA X.2.2.2.2.2 (i := 12) (t := 2) rfl rfl hyo hyrow
    have hne_104 : fp_dif y_38 qn := fp_neOO X.2.2.2.2.2 (i := 12) (j := 7) rfl rfl (by decide) hyo hqnS
    have hne_105 : fp_dif y_38 l := fp_neOO X.2.2.2.2.2 (i := 12) (j := 8) rfl rfl (by decide) hyo hlS.1
    have hne_106 : fp_dif y_38 ed := fp_LE.neE hlS hed0 (by omega) (fun f9 h9 => fp_neOA X.2.2.2.2.2 (i := 12) (t := 4) rfl rfl hyo h9)
    have hne_107 : fp_dif qy_39 qn := Ne.symm (fp_neOA X.2.2.2.2.2 (i := 7) (t := 2) rfl rfl hqnS hyrow)
    have hne_108 : fp_dif qy_39 l := Ne.symm (fp_neOA X.2.2.2.2.2 (i := 8) (t := 2) rfl rfl hlS.1 hyrow)
    have hne_109 : fp_dif qy_39 ed := fp_LE.neE hlS hed0 (by omega) (fun f9 h9 => fp_neAA X.2.2.2.2.2 (t := 2) (t2 := 4) rfl rfl (by decide) hyrow h9)
    have hne_110 : fp_dif qn l := fp_neOO X.2.2.2.2.2 (i := 7) (j := 8) rfl rfl (by decide) hqnS hlS.1
    have hne_111 : fp_dif qn ed := fp_LE.neE hlS hed0 (by omega) (fun f9 h9 => fp_neOA X.2.2.2.2.2 (i := 7) (t := 4) rfl rfl hqnS h9)
    refine r_callI (cells1 := 54) (slots1 := 734) X hR (c_X10_init G qn y_38 (by omega)) q1823 q1824 q125 q1825 rfl ⟨by decide, by decide, rfl⟩ ⟨Nat.le_of_ble_eq_true rfl, Nat.le_of_ble_eq_true rfl⟩ rfl rfl (Nat.le_of_ble_eq_true rfl) (Nat.le_of_ble_eq_true rfl) rfl (Nat.le_of_ble_eq_true rfl) hl.1 dX9_parseCommand_8 (hB.of hS hAb) hE_99 hS (fun q h => by have h2 : (g_s G).heap.size ≤ q ∧ (q = qn) := h; show ((g_s G).heap.size ≤ q ∧ (q = x ∨ q = l ∨ q = ed ∨ q = p)) ∨ s.heap.size ≤ q; omega) (fun v H_115 locs hp_112 hz_113 hk_114 hS => ?_)
    obtain ⟨nu_116, rfl, hnu_117, hE_118, hE_119⟩ := hp_112
    have hz_120 := hS.1
    have lt_121 := hE_118.lt
    have lt_123 := hE_119.lt
    refine r_stk (st2 := [.ref (qn)]) rfl ?_
    refine lv_astore_n (lv' := [(1, .ref (qn)), (0, .ref (x))]) hx hb dX9_parseCommand_11 rfl hl (by decide) rfl (fun ls hl => ?_)
    refine lv_aload_n hx hb dX9_parseCommand_12 rfl (lv_at hl 1 rfl) ?_
    have hE_125 := fp_At.kept hE_47 (hk_114 _ (by omega) (fun h => (hne_102) h.2))
    refine r_get X hE_125 rfl in_X9 2 (by decide) q1741 (Or.inl rfl) (v := .ref (l)) rfl dX9_parseCommand_13 ?_
    refine lv_aload_n hx hb dX9_parseCommand_16 rfl (lv_at hl 0 rfl) ?_
    have hE_128 := fp_CMF.keep X.2.2.2.2.2 h_cl hS.1 (fun q hq hn => fp_keptS hq hS hn) hnc
    have hel_126 : fp_EL G m b H_115 := fp_CMF.el hE_128 hLm
    have heo_127 : fp_EO G qn H_115 := ⟨7, _, by decide, hE_118⟩
    have lt_129 := fp_el.lt heo_127
    have hE_131 := fp_LE.mv hE_97 (hk_114 _ (by omega) (fun h => (Ne.symm (hne_110)) h.2)) (hk_114 _ (by omega) (fun h => (Ne.symm (hne_111)) h.2))
    refine r_callV (cells1 := (54 + (1 - (cap - m)))) (slots1 := (734 + (m + m / 2 + 11 - 10000 * (cap - m)))) X hR (c_J2_add_2 G l ed mc m cap b qn (fun k hk => hnel k (by omega)) (by omega) (by omega)) q1842 q1102 q1103 q92 q1104 ⟨rfl, pd_J2_add_2⟩ ⟨Nat.le_of_ble_eq_true rfl, Nat.le_of_ble_eq_true rfl⟩ rfl rfl (by omega) (by omega) hE_131.1 rfl rfl (Nat.le_of_ble_eq_true rfl) hl.1 dX9_parseCommand_17 (hB.of hS hAb) ⟨hE_131, hel_126, heo_127⟩ hS (fun q h => by have h2 : (g_s G).heap.size ≤ q ∧ (q = l ∨ q = ed) := h; show ((g_s G).heap.size ≤ q ∧ (q = x ∨ q = l ∨ q = ed ∨ q = p)) ∨ s.heap.size ≤ q; omega) (fun v H_135 locs hp_132 hz_133 hk_134 hS => ?_)
    obtain ⟨ed2_136, mc2_137, cap2_138, rfl, hed2_139, hcp_140, hE_141⟩ := hp_132
    have hz_142 := hS.1
    have lt_143 := hE_141.1.lt
    have lt_144 := hE_141.2.2
    refine r_stk (st2 := [.int (iI ((1 : Nat) : Int))]) rfl ?_
    have hE_146 := fp_At.kept hE_118 (hk_134 _ (by omega) (fun h => (fun h => h.elim (hne_110) (hne_111)) h.2))
    have hE_148 := fp_At.kept hE_119 (hk_134 _ (by omega) (by omega))
    have hE_150 := fp_At.kept hE_125 (hk_134 _ (by omega) (fun h => (fun h => h.elim (hne_10) (hne_11)) h.2))
    have hE_152 := fp_HS.mv hky (hk_114 _ (by omega) (fun h => (hne_104) h.2)) (hk_114 _ (by omega) (fun h => (hne_107) h.2))
    have hE_153 := fp_HS.mv hE_152 (hk_134 _ (by omega) (fun h => (fun h => h.elim (hne_105) (hne_106)) h.2)) (hk_134 _ (by omega) (fun h => (fun h => h.elim (hne_108) (hne_109)) h.2))
    have hkyS := hE_153
    obtain ⟨⟨hY1, hY2, hYo, hYp⟩, hYrow, -⟩ := id hkyS
    have hE_155 := fp_HS.mv hE_32 (hk_36 _ (by omega) (fun h => (Ne.symm (hne_7)) h.2)) (hk_36 _ (by omega) (fun h => (Ne.symm (hne_8)) h.2))
    have hE_156 := fp_HS.mv hE_155 (hk_114 _ (by omega) (by omega)) (hk_114 _ (by omega) (by omega))
    have hE_157 := fp_HS.mv hE_156 (hk_134 _ (by omega) (fun h => (fun h => h.elim (hne_14) (hne_15)) h.2)) (hk_134 _ (by omega) (fun h => (fun h => h.elim (hne_17) (hne_18)) h.2))
    have hpgS := hE_157
    obtain ⟨⟨hP1, hP2, hPo, hPp⟩, hProw, -⟩ := id hpgS
    have hne_158 : fp_dif x nu_116 := fp_neOA X.2.2.2.2.2 (i := 6) (t := 0) rfl rfl hE_150 hE_148
    have hne_159 : fp_dif x ed2_136 := fp_LE.neE hE_141 hed0 (by omega) (fun f9 h9 => fp_neOA X.2.2.2.2.2 (i := 6) (t := 4) rfl rfl hE_150 h9)
    have hne_160 : fp_dif p qn := fp_neOO X.2.2.2.2.2 (i := 12) (j := 7) rfl rfl (by decide) hPo hE_146
    have hne_161 : fp_dif p nu_116 := fp_neOA X.2.2.2.2.2 (i := 12) (t := 0) rfl rfl hPo hE_148
    have hne_162 : fp_dif p qy_39 := fp_neOA X.2.2.2.2.2 (i := 12) (t := 2) rfl rfl hPo hYrow
    have hne_163 : fp_dif p ed2_136 := fp_LE.neE hE_141 hed0 (by omega) (fun f9 h9 => fp_neOA X.2.2.2.2.2 (i := 12) (t := 4) rfl rfl hPo h9)
    have hne_164 : fp_dif pv qn := Ne.symm (fp_neOA X.2.2.2.2.2 (i := 7) (t := 2) rfl rfl hE_146 hProw)
    have hne_165 : fp_dif pv nu_116 := fp_neAA X.2.2.2.2.2 (t := 2) (t2 := 0) rfl rfl (by decide) hProw hE_148
    have hne_166 : fp_dif pv y_38 := Ne.symm (fp_neOA X.2.2.2.2.2 (i := 12) (t := 2) rfl rfl hYo hProw)
    have hne_167 : fp_dif pv ed2_136 := fp_LE.neE hE_141 hed0 (by omega) (fun f9 h9 => fp_neAA X.2.2.2.2.2 (t := 2) (t2 := 4) rfl rfl (by decide) hProw h9)
    have hne_168 : fp_dif qn nu_116 := fp_neOA X.2.2.2.2.2 (i := 7) (t := 0) rfl rfl hE_146 hE_148
    have hne_169 : fp_dif qn y_38 := fp_neOO X.2.2.2.2.2 (i := 7) (j := 12) rfl rfl (by decide) hE_146 hYo
    have hne_170 : fp_dif qn qy_39 := fp_neOA X.2.2.2.2.2 (i := 7) (t := 2) rfl rfl hE_146 hYrow
    have hne_171 : fp_dif qn ed2_136 := fp_LE.neE hE_141 hed0 (by omega) (fun f9 h9 => fp_neOA X.2.2.2.2.2 (i := 7) (t := 4) rfl rfl hE_146 h9)
    have hne_172 : fp_dif nu_116 y_38 := Ne.symm (fp_neOA X.2.2.2.2.2 (i := 12) (t := 0) rfl rfl hYo hE_148)
    have hne_173 : fp_dif nu_116 qy_39 := fp_neAA X.2.2.2.2.2 (t := 0) (t2 := 2) rfl rfl (by decide) hE_148 hYrow
    have hne_174 : fp_dif nu_116 l := Ne.symm (fp_neOA X.2.2.2.2.2 (i := 8) (t := 0) rfl rfl hE_141.1 hE_148)
    have hne_175 : fp_dif nu_116 ed2_136 := fp_LE.neE hE_141 hed0 (by omega) (fun f9 h9 => fp_neAA X.2.2.2.2.2 (t := 0) (t2 := 4) rfl rfl (by decide) hE_148 h9)
    have hne_176 : fp_dif y_38 ed2_136 := fp_LE.neE hE_141 hed0 (by omega) (fun f9 h9 => fp_neOA X.2.2.2.2.2 (i := 12) (t := 4) rfl rfl hYo h9)
    have hne_177 : fp_dif qy_39 ed2_136 := fp_LE.neE hE_141 hed0 (by omega) (fun f9 h9 => fp_neAA X.2.2.2.2.2 (t := 2) (t2 := 4) rfl rfl (by decide) hYrow h9)
    have hne_178 : fp_dif l ed2_136 := fp_LE.neE hE_141 hed0 (by omega) (fun f9 h9 => fp_neOA X.2.2.2.2.2 (i := 8) (t := 4) rfl rfl hE_141.1 h9)
    refine lv_pop hx hb dX9_parseCommand_20 rfl ?_
    refine lv_aload_n hx hb dX9_parseCommand_21 rfl (lv_at hl 1 rfl) ?_
    refine r_get X hE_150 rfl in_X9 4 (by decide) q1745 (Or.inl rfl) (v := .int (iI (bI (false)))) rfl dX9_parseCommand_22 ?_
    refine r_ifneB (tgt := 33) hx hb dX9_parseCommand_25 (by decide) (fun c25 => ?_) (fun c25 => ?_)
    · exact absurd c25 (by decide)
    · skip
      have hlb1 : lo ≤ qn := by omega
      have hlb2 : lo ≤ nu_116 := by omega
      have hedf : ed2_136 = ed ∨ s.heap.size ≤ ed2_136 := by omega
      have hyb2 : (y_38 = p ∧ qy_39 = pv ∧ pos = 0 ∧ fp_wk wd = n) ∨ (lo ≤ y_38 ∧ lo ≤ qy_39) := hyy.imp id (fun z => ⟨by omega, by omega⟩)
      refine lv_aload_n hx hb dX9_parseCommand_28 rfl (lv_at hl 1 rfl) ?_
      refine lv_aload_n hx hb dX9_parseCommand_29 rfl (lv_at hl 0 rfl) ?_
      refine r_callV (cells1 := (54 + (1 - (cap - m)))) (slots1 := (734 + (m + m / 2 + 11 - 10000 * (cap - m)))) X hR (c_X9_parseArguments G x kw p pv l n tx (pos + (fp_wk wd)) false qn y_38 qy_39 nu_116 wd (by omega) rfl (by omega) (by omega) hxb) q1843 q1845 qs37 q124 q1846 ⟨rfl, pd_X9_parseArguments⟩ ⟨Nat.le_of_ble_eq_true rfl, Nat.le_of_ble_eq_true rfl⟩ rfl rfl (by omega) (by omega) hE_150 rfl rfl (Nat.le_of_ble_eq_true rfl) hl.1 dX9_parseCommand_30 (hB.of hS hAb) ⟨hE_150, hE_157, hE_146, hE_148, hE_153⟩ hS (fun q h => by have h2 : (g_s G).heap.size ≤ q ∧ (q = x ∨ q = qn ∨ q = nu_116 ∨ q = y_38) := h; show ((g_s G).heap.size ≤ q ∧ (q = x ∨ q = l ∨ q = ed ∨ q = p)) ∨ s.heap.size ≤ q; omega) (fun v H_182 locs hp_179 hz_180 hk_181 hS => ?_)
      obtain ⟨fl2_183, pos2_184, f2_185, lt_186, r_187, rfl, hr_188, hf2_189, hp2_190, hca_191, hE_192, hE_193, hE_194, hE_195, hE_196⟩ := hp_179
      have hz_197 := hS.1
      have lt_198 := hE_192.lt
      have lt_199 := hE_193.lt
      have lt_200 := hE_194.lt
      have lt_201 := hE_195.1.lt
      have lt_202 := hE_195.1.2.1.lt
      have lt_203 := hE_196.lt
      have lt_204 := hE_196.2.1.lt
      refine r_stk (st2 := []) rfl ?_
      have hyn : fl2_183 = false → lo ≤ y_38 ∧ lo ≤ qy_39 := fun h9 => hyb2.elim (fun z => absurd (hf2_189.symm.trans h9) (fun e9 => by rw [← hr_188, fp_xa_end (by rw [z.2.2.1, z.2.2.2, Nat.zero_add]; exact Nat.le_refl _)] at e9; cases e9)) id
      refine r_vret hx hb hr hlk hQ hS (by omega) (by omega) dX9_parseCommand_33 ?_
      have hE_206 := fp_LE.mv hE_141 (hk_181 _ (by omega) (fun h => (fun h => h.elim (Ne.symm (hne_10)) (fun h => h.elim (Ne.symm (hne_110)) (fun h => h.elim (Ne.symm (hne_174)) (Ne.symm (hne_105))))) h.2)) (hk_181 _ (by omega) (fun h => (fun h => h.elim (Ne.symm (hne_159)) (fun h => h.elim (Ne.symm (hne_171)) (fun h => h.elim (Ne.symm (hne_175)) (Ne.symm (hne_176))))) h.2))
      have hE_207 := fp_CMF.keep X.2.2.2.2.2 h_cl hS.1 (fun q hq hn => fp_keptS hq hS hn) hnc
      exact ⟨fl2_183, pos2_184, ed2_136, mc2_137, cap2_138, _, (L ++ [(fp_cmd tx n pos).2.2]), (fp_cmd tx n pos), rfl, rfl, (hf2_189.trans ((fp_xa_cmd hwd hwm).1.trans (congrArg Prod.fst hr_188)).symm), (hp2_190.trans ((fp_xa_cmd hwd hwm).2.1.trans (congrArg (fun q => q.2.1) hr_188)).symm), (fun h9 => ⟨rfl, fp_CMF.push hE_207 hLm (fp_CM.of hE_193 hE_194 hE_195 ⟨hlb1, hlb2, (hyn h9).1, (hyn h9).2⟩ hwd hca_191 (((fp_xa_cmd hwd hwm).2.2 (((fp_xa_cmd hwd hwm).1.trans (congrArg Prod.fst hr_188)).trans (hf2_189.symm.trans h9))).trans (congrArg (fun q => (wd, q.2.2)) hr_188)))⟩), hedf, hE_192, hE_206, hE_196⟩
