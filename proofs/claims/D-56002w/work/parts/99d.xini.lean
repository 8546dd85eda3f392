/-! THE PLANNER: its beginning; contracts with their frames -/
set_option maxRecDepth 100000
theorem fp_SE.nL {G : fp_G} {x l ed z t : Nat} {mc : Int32} {cap : Nat} {b : Nat → Nat} {S : PS} {H : Heap} (h : fp_SE G x l ed z t mc cap b S H) {a : Nat} (ha : H.size ≤ a) : fp_nS x l ed z t b (sN S) a := by
  have h1 := h.1.lt
  have h2 := h.2.1.1.lt
  have h3 := h.2.1.2.2.1
  have h4 := h.2.2.1.lt
  have h5 := h.2.2.2.1.lt
  rintro q (rfl | rfl | rfl | rfl | rfl | ⟨k, hk, rfl⟩)
  · omega
  · omega
  · omega
  · omega
  · omega
  · have := (h.2.2.2.2.1 k hk).lt
    omega
/-- old cells change in A alone -/
def fp_fr (A : Nat → Prop) (H H1 : Heap) : Prop := H.size ≤ H1.size ∧ ∀ q : Nat, q < H.size → ¬ A q → H1[q]? = H[q]?
/-- a contract used in another world: what holds ahead is more, what may change is more, what holds behind follows, the frame too -/
theorem fp_MX.conseq {G : fp_G} {y : MethodName} {cc : ByteArray} {maxL : Nat} {ret : Option FieldType} {fr lo mc ms : Nat} {av : List Value} {Pre Pre2 : Heap → Prop} {A A2 : Nat → Prop} {Post Post2 : Heap → Option Value → Heap → Prop} {XPost XPost2 : Heap → String → Heap → Prop}
    (h : fp_MX G y cc maxL ret fr lo mc ms av Pre A Post XPost) (hp : ∀ H, Pre2 H → Pre H) (hA : ∀ q, A q → A2 q) (hq : ∀ H v H1, Pre2 H → Post H v H1 → fp_fr A H H1 → Post2 H v H1) (hx : ∀ H E H1, Pre2 H → XPost H E H1 → fp_fr A H H1 → XPost2 H E H1) : fp_MX G y cc maxL ret fr lo mc ms av Pre2 A2 Post2 XPost2 := by
  intro sz p e adm cas clk s m args below hf hs hP hK
  obtain ⟨hv, hsz, hK1, hB, hPre⟩ := hP
  have mono : ∀ z, fA A sz z → fA A2 sz z := fun z hz => hz.imp (hA z) id
  have fr : ∀ {st t : State}, st.heap.size = sz → va_F (fA A sz) st t → fp_fr A st.heap t.heap ∧ va_F (fA A2 sz) st t := fun {st t} hst hF => ⟨⟨hF.1, fun q hq hn => hF.2 q hq (fun z => z.elim hn (fun z => by omega))⟩, ⟨hF.1, fun q hq hn => hF.2 q hq (fun z => hn (mono q z))⟩⟩
  obtain ⟨n, o, a1, a2, a3, a4⟩ := h sz p e adm cas clk s m args below hf hs ⟨hv, hsz, hK1, hB, hp _ hPre⟩ hK
  refine ⟨n, o, a1, a2, a3, ?_⟩
  rcases a4 with ⟨⟨v, ov, hpost, hF⟩, L, hfe, hfree⟩ | ⟨q, ho, E, ce, L, ⟨hx1, hF⟩, c1, c2, c3, c4, c5, c6⟩
  · obtain ⟨f1, f2⟩ := fr hsz hF
    exact Or.inl ⟨⟨v, ov, hq _ _ _ hPre hpost f1, f2⟩, L, hfe, fun z hz => mono _ (hfree z hz)⟩
  · obtain ⟨f1, f2⟩ := fr hsz hF
    exact Or.inr ⟨q, ho, E, ce, L, ⟨hx _ _ _ hPre hx1 f1, f2⟩, c1, c2, c3, c4, c5, fun z hz => mono _ (c6 z hz)⟩
/-- a contract for whichever value a heap shows -/
theorem fp_MX.ex {G : fp_G} {y : MethodName} {cc : ByteArray} {maxL : Nat} {ret : Option FieldType} {fr lo mc ms : Nat} {av : List Value} {α : Type} {Pre : α → Heap → Prop} {A : Nat → Prop} {Post : Heap → Option Value → Heap → Prop} {XPost : Heap → String → Heap → Prop}
    (h : ∀ a, fp_MX G y cc maxL ret fr lo mc ms av (Pre a) A Post XPost) : fp_MX G y cc maxL ret fr lo mc ms av (fun H => ∃ a, Pre a H) A Post XPost := by
  intro sz p e adm cas clk s m args below hf hs hP hK
  obtain ⟨hv, hsz, hK1, hB, a, hPre⟩ := hP
  exact h a sz p e adm cas clk s m args below hf hs ⟨hv, hsz, hK1, hB, hPre⟩ hK
/-- a method that only returns, as one that may throw -/
theorem fp_M.toX {G : fp_G} {y : MethodName} {cc : ByteArray} {maxL : Nat} {ret : Option FieldType} {fr lo mc ms : Nat} {av : List Value} {Pre : Heap → Prop} {A : Nat → Prop} {Post : Heap → Option Value → Heap → Prop}
    (h : fp_M G y cc maxL ret fr lo mc ms av Pre A Post) : fp_MX G y cc maxL ret fr lo mc ms av Pre A Post (fun _ _ _ => False) := by
  intro sz p e adm cas clk s m args below hf hs hP hK
  obtain ⟨n, o, a1, a2, a3, a4⟩ := h sz p e adm cas clk s m args below hf hs hP hK
  exact ⟨n, o, a1, a2, a3, Or.inl a4⟩

set_option maxRecDepth 100000
set_option maxHeartbeats 4000000 in
theorem c_X1_undoableCount (G : fp_G) (x : Nat) (u : Nat) (sv : Value) (hi : Nat) (ip : Nat) (ln : Nat) (ex : Bool) (er : Int) (fa : Int) (el : Nat) (hd : Nat) (hn : Nat) (q : Nat → Nat) : fp_M G yX1_undoableCount cX1_undoableCount 1 (some .int) 3 54 0 0 [.ref (x)] (fun H => fp_At G H x (eO 1 [.ref (u), sv, .ref (hi), .ref (ip), .ref (ln), .int (iI (bI (ex))), .int (iI (er)), .int (iI (fa))]) ∧ fp_DQ G hi el hd hn q H) fp_no (fun H v H1 => v = some (.int (iI ((hn : Nat) : Int))) ∧ H = H1) := by
  refine fp_M.intro (by decide) (Nat.le_of_ble_eq_true rfl) ?_
  intro pg en s mi ag bl mt cd rR qQ ls X hx hb hr hlk hnm hR hQ hB hM hl
  have hS : va_S (fA fp_no s.heap.size) s.heap s.heap [] := va_S.rf
  generalize ([] : List Loc) = locs at hS ⊢
  have hb0 := hB.1
  obtain ⟨h_pob, h_dq⟩ := hM
  have hsz0 := hS.1
  have lt_1 := h_pob.lt
  have lt_2 := h_dq.1.lt
  have lt_3 := h_dq.2.2.1.1
  refine lv_aload_n hx hb dX1_undoableCount_0 rfl (lv_at hl 0 rfl) ?_
  refine r_get X h_pob rfl in_X1 2 (by decide) q244 (Or.inl rfl) (v := .ref (hi)) rfl dX1_undoableCount_1 ?_
  refine r_callV (cells1 := 0) (slots1 := 0) X hR (c_J4_size G hi el hd hn q) q1084 q1085 q1086 q95 q1087 ⟨rfl, pd_J4_size⟩ ⟨Nat.le_of_ble_eq_true rfl, Nat.le_of_ble_eq_true rfl⟩ rfl rfl (Nat.le_of_ble_eq_true rfl) (Nat.le_of_ble_eq_true rfl) h_dq.1 rfl rfl (Nat.le_of_ble_eq_true rfl) hl.1 dX1_undoableCount_4 (hB.of hS fp_no.base) h_dq hS (fun _ h => h.elim) (fun v H_7 locs hp_4 hz_5 hk_6 hS => ?_)
  obtain ⟨rfl, rfl⟩ := hp_4
  refine r_stk (st2 := [.int (iI ((hn : Nat) : Int))]) rfl ?_
  refine r_iret hx hb hr hlk hQ hS (Nat.le_of_ble_eq_true rfl) (Nat.le_of_ble_eq_true rfl) dX1_undoableCount_7 ?_
  exact ⟨rfl, rfl⟩
set_option maxHeartbeats 4000000 in
theorem c_X1_init (G : fp_G) (x : Nat) (hxb : (g_s G).heap.size ≤ x) : fp_M G yX1_init cX1_init 1 none 6 111 10 91 [.ref (x)] (fun H => fp_At G H x (eO 1 [.null, .null, .null, .null, .null, .int (iI ((0 : Nat) : Int)), .int (iI ((0 : Nat) : Int)), .int (iI ((0 : Nat) : Int))])) (fun q => (g_s G).heap.size ≤ q ∧ (q = x)) (fun H v H1 => ∃ (u : Nat), ∃ (hi : Nat), ∃ (ip : Nat), ∃ (ln : Nat), ∃ (l : Nat), ∃ (z : Nat), ∃ (t : Nat), ∃ (el : Nat), ∃ (iv : Nat), ∃ (lv : Nat), v = none ∧ (H.size ≤ u ∧ H.size ≤ hi ∧ H.size ≤ ip ∧ H.size ≤ ln) ∧ ((H.size ≤ l ∧ H.size ≤ z ∧ H.size ≤ t) ∧ H.size ≤ el ∧ H.size ≤ iv ∧ H.size ≤ lv) ∧ fp_At G H1 x (eO 1 [.ref (u), .null, .ref (hi), .ref (ip), .ref (ln), .int (iI (bI (false))), .int (iI (-1)), .int (iI (-1))]) ∧ fp_SE G u l (fp_de G) z t (iI ((0 : Nat) : Int)) 0 (fun _ => 0) fp_S0 H1 ∧ fp_DQ G hi el 0 0 (fun _ => 0) H1 ∧ fp_SB G ip iv 16 0 0 (fun _ => 0) H1 ∧ fp_SB G ln lv 16 0 0 (fun _ => 0) H1) := by
  refine fp_M.intro (by decide) (Nat.le_of_ble_eq_true rfl) ?_
  intro pg en s mi ag bl mt cd rR qQ ls X hx hb hr hlk hnm hR hQ hB hM hl
  have hS : va_S (fA (fun q => (g_s G).heap.size ≤ q ∧ (q = x)) s.heap.size) s.heap s.heap [] := va_S.rf
  generalize ([] : List Loc) = locs at hS ⊢
  have hb0 := hB.1
  have hAb : ∀ q, (fun q => (g_s G).heap.size ≤ q ∧ (q = x)) q → (g_s G).heap.size ≤ q := fun q h => h.1
  have h_pob := hM
  have hsz0 := hS.1
  have lt_1 := h_pob.lt
  have hed0 := (X.2.2.2.2.2.deT (A := fp_no) hB fp_no.base).2.2
  refine lv_aload_n hx hb dX1_init_0 rfl (lv_at hl 0 rfl) ?_
  refine r_objInit X hR q131 q132 q133 hl.1 (by decide) (Nat.le_of_ble_eq_true rfl) dX1_init_1 ?_
  refine lv_aload_n hx hb dX1_init_4 rfl (lv_at hl 0 rfl) ?_
  refine r_new (ci := 2) (fs := [.null, .null, .null, .int (iI ((0 : Nat) : Int))]) X hR hS rfl in_X2 tyX2_ok q134 q135 q89 (by intro j hj; rcases (show j = 0 ∨ j = 1 ∨ j = 2 ∨ j = 3 by omega) with rfl | rfl | rfl | rfl <;> rfl) (Nat.le_of_ble_eq_true rfl) (Nat.le_of_ble_eq_true rfl) dX1_init_5 (fun u H_2 hq_6 hE_3 hX_4 hz_5 hS => ?_)
  have hz_7 := hS.1
  have lt_8 := hE_3.lt
  refine lv_dup hx hb dX1_init_8 rfl ?_
  refine r_callI (cells1 := 4) (slots1 := 31) X hR (c_X2_init G u (by omega)) q136 q137 q89 q138 rfl ⟨by decide, by decide, rfl⟩ ⟨Nat.le_of_ble_eq_true rfl, Nat.le_of_ble_eq_true rfl⟩ rfl rfl (Nat.le_of_ble_eq_true rfl) (Nat.le_of_ble_eq_true rfl) rfl (Nat.le_of_ble_eq_true rfl) hl.1 dX1_init_9 (hB.of hS hAb) hE_3 hS (fun q h => by have h2 : (g_s G).heap.size ≤ q ∧ (q = u) := h; show ((g_s G).heap.size ≤ q ∧ (q = x)) ∨ s.heap.size ≤ q; omega) (fun v H_12 locs hp_9 hz_10 hk_11 hS => ?_)
  obtain ⟨l_13, z_14, t_15, rfl, hfr_16, hE_17⟩ := hp_9
  have hz_18 := hS.1
  have lt_20 := hE_17.1.lt
  refine r_stk (st2 := [.ref (u), .ref (x)]) rfl ?_
  have hE_22 := fp_At.kept h_pob (hX_4.2 _ (by omega))
  have hE_23 := fp_At.kept hE_22 (hk_11 _ (by omega) (by omega))
  have hnUx := fp_SE.nO X.2.2.2.2.2 hed0 hE_17 (j := 1) rfl ⟨by decide, by decide, by decide, by decide, by decide⟩ hE_23 hxb
  refine r_put X hE_23 hS (Or.inl ⟨by omega, rfl⟩) rfl in_X1 tyX1_ok nmX1 0 (by decide) q242 (Or.inl rfl) rfl rfl rfl (show 0 < 8 by decide) dX1_init_12 (fun H_27 locs hE_24 hz_25 hq_26 hS => ?_)
  have hz_28 := hS.1
  refine lv_aload_n hx hb dX1_init_15 rfl (lv_at hl 0 rfl) ?_
  refine r_new (ci := 10) (fs := [.null, .int (iI ((0 : Nat) : Int)), .int (iI ((0 : Nat) : Int))]) X hR hS rfl in_J4 tyJ4_ok q191 q192 q95 (by intro j hj; rcases (show j = 0 ∨ j = 1 ∨ j = 2 by omega) with rfl | rfl | rfl <;> rfl) (Nat.le_of_ble_eq_true rfl) (Nat.le_of_ble_eq_true rfl) dX1_init_16 (fun hi H_29 hq_33 hE_30 hX_31 hz_32 hS => ?_)
  have hz_34 := hS.1
  have lt_35 := hE_30.lt
  refine lv_dup hx hb dX1_init_19 rfl ?_
  have hnU_hi := fp_SE.nL hE_17 (a := hi) (by omega)
  refine r_callI (cells1 := 6) (slots1 := 51) X hR (c_J4_init G hi (by omega)) q193 q194 q95 q195 rfl ⟨by decide, by decide, rfl⟩ ⟨Nat.le_of_ble_eq_true rfl, Nat.le_of_ble_eq_true rfl⟩ rfl rfl (Nat.le_of_ble_eq_true rfl) (Nat.le_of_ble_eq_true rfl) rfl (Nat.le_of_ble_eq_true rfl) hl.1 dX1_init_20 (hB.of hS hAb) hE_30 hS (fun q h => by have h2 : (g_s G).heap.size ≤ q ∧ (q = hi) := h; show ((g_s G).heap.size ≤ q ∧ (q = x)) ∨ s.heap.size ≤ q; omega) (fun v H_39 locs hp_36 hz_37 hk_38 hS => ?_)
  obtain ⟨el_40, rfl, hel_41, hE_42⟩ := hp_36
  have hz_43 := hS.1
  have lt_45 := hE_42.1.lt
  have lt_46 := hE_42.2.2.1.1
  refine r_stk (st2 := [.ref (hi), .ref (x)]) rfl ?_
  have hE_48 := fp_At.kept hE_24 (hX_31.2 _ (by omega))
  have hE_49 := fp_At.kept hE_48 (hk_38 _ (by omega) (by omega))
  refine r_putF X hE_49 hS (Or.inl ⟨by omega, rfl⟩) rfl in_X1 tyX1_ok nmX1 2 (by decide) q244 (Or.inl rfl) rfl hnm rfl rfl rfl (show 2 < 8 by decide) dX1_init_23 (fun H_53 locs hE_50 hz_51 hq_52 hS => ?_)
  have hz_54 := hS.1
  refine lv_aload_n hx hb dX1_init_26 rfl (lv_at hl 0 rfl) ?_
  refine r_new (ci := 11) (fs := [.null, .int (iI ((0 : Nat) : Int)), .int (iI ((0 : Nat) : Int)), .int (iI ((0 : Nat) : Int))]) X hR hS rfl in_J6 tyJ6_ok q209 q210 q97 (by intro j hj; rcases (show j = 0 ∨ j = 1 ∨ j = 2 ∨ j = 3 by omega) with rfl | rfl | rfl | rfl <;> rfl) (Nat.le_of_ble_eq_true rfl) (Nat.le_of_ble_eq_true rfl) dX1_init_27 (fun ip H_55 hq_59 hE_56 hX_57 hz_58 hS => ?_)
  have hz_60 := hS.1
  have lt_61 := hE_56.lt
  refine lv_dup hx hb dX1_init_30 rfl ?_
  have hnU_ip := fp_SE.nL hE_17 (a := ip) (by omega)
  refine r_callI (cells1 := 8) (slots1 := 71) X hR (c_J6_init G ip (by omega)) q211 q212 q97 q213 rfl ⟨by decide, by decide, rfl⟩ ⟨Nat.le_of_ble_eq_true rfl, Nat.le_of_ble_eq_true rfl⟩ rfl rfl (Nat.le_of_ble_eq_true rfl) (Nat.le_of_ble_eq_true rfl) rfl (Nat.le_of_ble_eq_true rfl) hl.1 dX1_init_31 (hB.of hS hAb) hE_56 hS (fun q h => by have h2 : (g_s G).heap.size ≤ q ∧ (q = ip) := h; show ((g_s G).heap.size ≤ q ∧ (q = x)) ∨ s.heap.size ≤ q; omega) (fun v H_65 locs hp_62 hz_63 hk_64 hS => ?_)
  obtain ⟨vl_66, rfl, hvl_67, hE_68⟩ := hp_62
  have hz_69 := hS.1
  have lt_71 := hE_68.1.lt
  have lt_72 := hE_68.2.2.1.1
  refine r_stk (st2 := [.ref (ip), .ref (x)]) rfl ?_
  have hE_74 := fp_At.kept hE_50 (hX_57.2 _ (by omega))
  have hE_75 := fp_At.kept hE_74 (hk_64 _ (by omega) (by omega))
  refine r_putF X hE_75 hS (Or.inl ⟨by omega, rfl⟩) rfl in_X1 tyX1_ok nmX1 3 (by decide) q245 (Or.inl rfl) rfl hnm rfl rfl rfl (show 3 < 8 by decide) dX1_init_34 (fun H_79 locs hE_76 hz_77 hq_78 hS => ?_)
  have hz_80 := hS.1
  refine lv_aload_n hx hb dX1_init_37 rfl (lv_at hl 0 rfl) ?_
  refine r_new (ci := 11) (fs := [.null, .int (iI ((0 : Nat) : Int)), .int (iI ((0 : Nat) : Int)), .int (iI ((0 : Nat) : Int))]) X hR hS rfl in_J6 tyJ6_ok q209 q210 q97 (by intro j hj; rcases (show j = 0 ∨ j = 1 ∨ j = 2 ∨ j = 3 by omega) with rfl | rfl | rfl | rfl <;> rfl) (Nat.le_of_ble_eq_true rfl) (Nat.le_of_ble_eq_true rfl) dX1_init_38 (fun ln H_81 hq_85 hE_82 hX_83 hz_84 hS => ?_)
  have hz_86 := hS.1
  have lt_87 := hE_82.lt
  refine lv_dup hx hb dX1_init_41 rfl ?_
  have hnU_ln := fp_SE.nL hE_17 (a := ln) (by omega)
  refine r_callI (cells1 := 10) (slots1 := 91) X hR (c_J6_init G ln (by omega)) q211 q212 q97 q213 rfl ⟨by decide, by decide, rfl⟩ ⟨Nat.le_of_ble_eq_true rfl, Nat.le_of_ble_eq_true rfl⟩ rfl rfl (Nat.le_of_ble_eq_true rfl) (Nat.le_of_ble_eq_true rfl) rfl (Nat.le_of_ble_eq_true rfl) hl.1 dX1_init_42 (hB.of hS hAb) hE_82 hS (fun q h => by have h2 : (g_s G).heap.size ≤ q ∧ (q = ln) := h; show ((g_s G).heap.size ≤ q ∧ (q = x)) ∨ s.heap.size ≤ q; omega) (fun v H_91 locs hp_88 hz_89 hk_90 hS => ?_)
  obtain ⟨vl_92, rfl, hvl_93, hE_94⟩ := hp_88
  have hz_95 := hS.1
  have lt_97 := hE_94.1.lt
  have lt_98 := hE_94.2.2.1.1
  refine r_stk (st2 := [.ref (ln), .ref (x)]) rfl ?_
  have hE_100 := fp_At.kept hE_76 (hX_83.2 _ (by omega))
  have hE_101 := fp_At.kept hE_100 (hk_90 _ (by omega) (by omega))
  refine r_putF X hE_101 hS (Or.inl ⟨by omega, rfl⟩) rfl in_X1 tyX1_ok nmX1 4 (by decide) q246 (Or.inl rfl) rfl hnm rfl rfl rfl (show 4 < 8 by decide) dX1_init_45 (fun H_105 locs hE_102 hz_103 hq_104 hS => ?_)
  have hz_106 := hS.1
  refine lv_aload_n hx hb dX1_init_48 rfl (lv_at hl 0 rfl) ?_
  refine lv_iconst (v := (iI (-1))) hx hb dX1_init_49 rfl ?_
  refine r_put X hE_102 hS (Or.inl ⟨by omega, rfl⟩) rfl in_X1 tyX1_ok nmX1 6 (by decide) q248 (Or.inl rfl) rfl rfl rfl (show 6 < 8 by decide) dX1_init_50 (fun H_110 locs hE_107 hz_108 hq_109 hS => ?_)
  have hz_111 := hS.1
  refine lv_aload_n hx hb dX1_init_53 rfl (lv_at hl 0 rfl) ?_
  refine lv_iconst (v := (iI (-1))) hx hb dX1_init_54 rfl ?_
  refine r_put X hE_107 hS (Or.inl ⟨by omega, rfl⟩) rfl in_X1 tyX1_ok nmX1 7 (by decide) q249 (Or.inl rfl) rfl rfl rfl (show 7 < 8 by decide) dX1_init_55 (fun H_115 locs hE_112 hz_113 hq_114 hS => ?_)
  have hz_116 := hS.1
  refine r_vret hx hb hr hlk hQ hS (Nat.le_of_ble_eq_true rfl) (Nat.le_of_ble_eq_true rfl) dX1_init_58 ?_
  have hE_118 := fp_SE.mvA hE_17 (fun q9 hq9 hs9 => hq_26 _ (hnUx q9 hs9))
  have hE_119 := hE_118.ext hX_31
  have hE_120 := fp_SE.mvA hE_119 (fun q9 hq9 hs9 => hk_38 _ hq9 (fun h8 => (hnU_hi.t q9 hs9 h8.1) h8.2))
  have hE_121 := fp_SE.mvA hE_120 (fun q9 hq9 hs9 => hq_52 _ (hnUx q9 hs9))
  have hE_122 := hE_121.ext hX_57
  have hE_123 := fp_SE.mvA hE_122 (fun q9 hq9 hs9 => hk_64 _ hq9 (fun h8 => (hnU_ip.t q9 hs9 h8.1) h8.2))
  have hE_124 := fp_SE.mvA hE_123 (fun q9 hq9 hs9 => hq_78 _ (hnUx q9 hs9))
  have hE_125 := hE_124.ext hX_83
  have hE_126 := fp_SE.mvA hE_125 (fun q9 hq9 hs9 => hk_90 _ hq9 (fun h8 => (hnU_ln.t q9 hs9 h8.1) h8.2))
  have hE_127 := fp_SE.mvA hE_126 (fun q9 hq9 hs9 => hq_104 _ (hnUx q9 hs9))
  have hE_128 := fp_SE.mvA hE_127 (fun q9 hq9 hs9 => hq_109 _ (hnUx q9 hs9))
  have hE_129 := fp_SE.mvA hE_128 (fun q9 hq9 hs9 => hq_114 _ (hnUx q9 hs9))
  have hE_131 := fp_DQ.mv hE_42 (hq_52 _ (by omega)) (hq_52 _ (by omega))
  have hE_132 := hE_131.ext hX_57
  have hE_133 := fp_DQ.mv hE_132 (hk_64 _ (by omega) (by omega)) (hk_64 _ (by omega) (by omega))
  have hE_134 := fp_DQ.mv hE_133 (hq_78 _ (by omega)) (hq_78 _ (by omega))
  have hE_135 := hE_134.ext hX_83
  have hE_136 := fp_DQ.mv hE_135 (hk_90 _ (by omega) (by omega)) (hk_90 _ (by omega) (by omega))
  have hE_137 := fp_DQ.mv hE_136 (hq_104 _ (by omega)) (hq_104 _ (by omega))
  have hE_138 := fp_DQ.mv hE_137 (hq_109 _ (by omega)) (hq_109 _ (by omega))
  have hE_139 := fp_DQ.mv hE_138 (hq_114 _ (by omega)) (hq_114 _ (by omega))
  have hE_141 := fp_SB.mv hE_68 (hq_78 _ (by omega)) (hq_78 _ (by omega))
  have hE_142 := hE_141.ext hX_83
  have hE_143 := fp_SB.mv hE_142 (hk_90 _ (by omega) (by omega)) (hk_90 _ (by omega) (by omega))
  have hE_144 := fp_SB.mv hE_143 (hq_104 _ (by omega)) (hq_104 _ (by omega))
  have hE_145 := fp_SB.mv hE_144 (hq_109 _ (by omega)) (hq_109 _ (by omega))
  have hE_146 := fp_SB.mv hE_145 (hq_114 _ (by omega)) (hq_114 _ (by omega))
  have hE_148 := fp_SB.mv hE_94 (hq_104 _ (by omega)) (hq_104 _ (by omega))
  have hE_149 := fp_SB.mv hE_148 (hq_109 _ (by omega)) (hq_109 _ (by omega))
  have hE_150 := fp_SB.mv hE_149 (hq_114 _ (by omega)) (hq_114 _ (by omega))
  exact ⟨u, hi, ip, ln, l_13, z_14, t_15, el_40, vl_66, vl_92, rfl, (by omega), (by omega), hE_112, hE_129, hE_139, hE_146, hE_150⟩
