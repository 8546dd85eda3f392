/-! THE LAW's LEVEL: the law's own methods, each with its handlers -/
set_option maxRecDepth 100000
theorem fp_PW.ob {G : fp_G} {x : Nat} {M : Nat → Prop} {T : TH} {H : Heap} (h : fp_PW G x M T H) : ∃ fs, fp_At G H x (eO 1 fs) := by
  obtain ⟨o, u, sv, hi, ip, ln, el, hd, q, iv, ic, im, lv, lc, lm, h1, -⟩ := h
  exact ⟨_, h1⟩
theorem fp_PW.xb {G : fp_G} {x : Nat} {M : Nat → Prop} {T : TH} {H : Heap} (h : fp_PW G x M T H) : (g_s G).heap.size ≤ x := by
  obtain ⟨o, u, sv, hi, ip, ln, el, hd, q, iv, ic, im, lv, lc, lm, -, -, -, -, -, -, -, -, -, h1⟩ := h
  exact h1
section FPL3
variable {G : fp_G} {p : Program} {e : Env} {R : Room} {s : State} {m : MethodId} {args : Array Value} {below : List Frame} {meth : Method} {c : Code} {H : Heap} {locs : List Loc} {cells slots : Nat} {Q : State → Prop}
variable {cc : ByteArray} {pc nL : Nat} {ls : Array Slot} {rest : List Value} {own : String} {H0 : Heap}
theorem r_lastI {a n j : Nat} {f : Nat → Int64} {z : Int} {x : Int64} {A : Nat → Prop} (X : fp_C G p s m args c cc own nL) (hat : fp_At G H a (eJ G n f)) (hS : va_S A H0 H locs) (hA : A a) (hz : z = (j : Int)) (hj : j < n) (hn : n ≤ 2147483647) (hd : decode cc pc = .ok (.lastore, 1))
    (kk : ∀ (H1 : Heap) (locs1 : List Loc), fp_At G H1 a (eJ G n (vp_updL f j x)) → H1.size = H.size → (∀ q : Nat, q ≠ a → H1[q]? = H[q]?) → va_S A H0 H1 locs1 → W p (g_l G) e R s m args below meth c H1 locs1 cells slots Q (F0 m (pc + 1) ls rest)) : W p (g_l G) e R s m args below meth c H locs cells slots Q (F0 m pc ls (.long x :: .int (iI z) :: .ref a :: rest)) := by
  refine r_last X hat hS hA (iI_in hz hj (by omega)) hd ?_
  rw [iI_cl hz (by omega)]
  exact kk
/-- two longs that are the same -/
theorem r_lcmpE {x y : Int64} (X : fp_C G p s m args c cc own nL) (h : y = x) (hd : decode cc pc = .ok (.lcmp, 1)) (kk : W p (g_l G) e R s m args below meth c H locs cells slots Q (F0 m (pc + 1) ls (.int (iI ((0 : Nat) : Int)) :: rest))) : W p (g_l G) e R s m args below meth c H locs cells slots Q (F0 m pc ls (.long y :: .long x :: rest)) := by
  subst h
  obtain ⟨hx, hb, -⟩ := X
  intro T hT X1
  obtain ⟨t, st, q⟩ := kk T hT X1
  refine ⟨t, ?_, q⟩
  have hd' : decode c.code pc = .ok (.lcmp, 1) := by rw [hb]; exact hd
  jvm_step X1.here [X1.here.top, hx, hd']
  exact st
end FPL3
theorem fp_updL_0 {f : Nat → Int64} {x : Int64} : vp_updL f 0 x 0 = x := by simp [vp_updL]
theorem fp_PW.st {G : fp_G} {U : State} (hK : fp_K G U) {x out n : Nat} {M : Nat → Prop} {T : TH} {H H1 : Heap} {g : Nat → Int64} (h : fp_PW G x M T H) (ho : fp_At G H out (eJ G n g)) (hM : M out) (hb : (g_s G).heap.size ≤ out) (hz : H1.size = H.size) (hq : ∀ q : Nat, q ≠ out → H1[q]? = H[q]?) : fp_PW G x M T H1 :=
  h.go (A := fun q => q = out) ⟨Nat.le_of_eq hz.symm, fun q _ hn => hq q hn⟩ (fun q e => by subst e; exact ⟨hb, hM, fp_nb.A hK (t := 3) rfl ho⟩)

set_option maxRecDepth 100000
set_option maxHeartbeats 1000000 in
theorem x0_placeFoam (G : fp_G) (x : Nat) (M : Nat → Prop) (T : TH) (i out : Nat) (g : Nat → Int64) (a0 : Int) (a1 : Int) (a2 : Int) (hI : fp_TI i T) (g0 : rg a0) (g1 : rg a1) (g2 : rg a2) (hMo : M out) (hob : (g_s G).heap.size ≤ out) : fp_MH G yX0_placeFoam cX0_placeFoam 6 (some .int) [(0, 12, 15, 13), (0, 12, 19, 15)] 15 377 165 3215 [.ref (x), .int (iI (a0)), .int (iI (a1)), .int (iI (a2)), .ref (out)] (fun H => fp_PW G x M T H ∧ fp_At G H out (eJ G 1 g)) (fun q => (g_s G).heap.size ≤ q ∧ (¬ M q ∨ q = out)) (fun H v H1 => ∃ g2 : Nat → Int64, v = some (.int (iI ((fp_plc T.1 0 a0 a1 a2 : Nat) : Int))) ∧ (fp_plc T.1 0 a0 a1 a2 = 0 → g2 0 = (iI ((sP (T.1) : Nat) : Int)).toInt64) ∧ fp_PW G x M (fp_if (fp_plc T.1 0 a0 a1 a2) (fp_psh T (fp_add T.1 0 a0.toNat a1.toNat a2.toNat)) T) H1 ∧ fp_At G H1 out (eJ G 1 g2)) (fun _ _ _ => False) := by
  refine fp_MH.intro (by decide +kernel) (Nat.le_of_ble_eq_true rfl) ?_
  intro pg en s mi ag bl mt cd rR qQ ls X hx hb hr hlk hnm hR hQ hT hB hM hl
  have hS : va_S (fA (fun q => (g_s G).heap.size ≤ q ∧ (¬ M q ∨ q = out)) s.heap.size) s.heap s.heap [] := va_S.rf
  generalize ([] : List Loc) = locs at hS ⊢
  obtain ⟨hP, ho⟩ := hM
  obtain ⟨fs9, hob1⟩ := hP.ob
  refine lv_aload hx hb dX0_placeFoam_0 (lv_at hl 4 rfl) ?_
  refine lv_iconst (v := (iI ((0 : Nat) : Int))) hx hb dX0_placeFoam_2 rfl ?_
  refine lv_aload_n hx hb dX0_placeFoam_3 rfl (lv_at hl 0 rfl) ?_
  refine lv_iload_n hx hb dX0_placeFoam_4 rfl (lv_at hl 1 rfl) ?_
  refine lv_iload_n hx hb dX0_placeFoam_5 rfl (lv_at hl 2 rfl) ?_
  refine lv_iload_n hx hb dX0_placeFoam_6 rfl (lv_at hl 3 rfl) ?_
  refine x_callV (cells1 := 165) (slots1 := 3215) X hR (w_placeFoam G x M T i a0 a1 a2 hI g0 g1 g2) q1114 q1115 q1116 q88 q1117 ⟨rfl, pd_X1_placeFoam⟩ ⟨Nat.le_of_ble_eq_true rfl, Nat.le_of_ble_eq_true rfl⟩ (Nat.zero_add _) (Nat.zero_add _) (Nat.le_refl _) (Nat.le_refl _) hob1 rfl rfl (Nat.le_of_ble_eq_true rfl) hl.1 dX0_placeFoam_7 hB hP hS (fun q h => Or.inl ⟨h.1, Or.inl h.2⟩) (fun v H1 locs hp hz hk hS => ?_) (fun Ex qx cx H1 locs hp hz hk hS hcx hvx hlx => ?_)
  · obtain ⟨rfl, hc0, hP1⟩ := hp
    have ho1 := ho.kept (hk out ho.lt (fun h => h.2 hMo))
    refine r_stk (st2 := [.int (iI ((sP (T.1) : Nat) : Int)), .int (iI ((0 : Nat) : Int)), .ref out]) rfl ?_
    refine lv_i2l (v := (iI ((sP (T.1) : Nat) : Int)).toInt64) hx hb dX0_placeFoam_10 rfl ?_
    refine r_lastI X ho1 hS (Or.inl ⟨hob, Or.inr rfl⟩) (j := 0) rfl (by decide) (by decide) dX0_placeFoam_11 (fun H2 locs ho2 hz2 hq2 hS => ?_)
    refine lv_goto (tgt := 23) hx hb dX0_placeFoam_12 (by decide) ?_
    refine lv_iconst (v := (iI ((0 : Nat) : Int))) hx hb dX0_placeFoam_23 rfl ?_
    refine x_iret hx hb hr hlk hQ hS (Nat.le_refl _) (Nat.le_refl _) dX0_placeFoam_24 ?_
    exact ⟨_, by rw [hc0], fun _ => fp_updL_0.trans rfl, (by rw [fp_if0 hc0]; exact hP1.st X.2.2.2.2.2 ho1 hMo hob hz2 hq2), ho2⟩
  · have ho1 := ho.kept (hk out ho.lt (fun h => h.2 hMo))
    rcases hp with ⟨rfl, hc1, hP1⟩ | ⟨rfl, hc1, hP1⟩
    · skip
      refine r_catch (E := "java/lang/IllegalArgumentException") (name := "java/lang/IllegalArgumentException") X hT ([] : List ExceptionTableEntry) ⟨0, 12, 15, 13⟩ ([⟨0, 12, 19, 15⟩] : List ExceptionTableEntry) rfl fp_ps_nil rfl (by decide) q1112 q764 hcx hvx hlx ?_
      refine lv_astore (lv' := [(5, .ref (qx)), (0, .ref (x)), (1, .int (iI (a0))), (2, .int (iI (a1))), (3, .int (iI (a2))), (4, .ref (out))]) hx hb dX0_placeFoam_15 hl (by decide) rfl (fun ls hl => ?_)
      refine lv_iconst (v := (iI ((1 : Nat) : Int))) hx hb dX0_placeFoam_17 rfl ?_
      refine x_iret hx hb hr hlk hQ hS (Nat.le_refl _) (Nat.le_refl _) dX0_placeFoam_18 ?_
      exact ⟨g, by rw [hc1], fun z => by rw [hc1] at z; cases z, (by rw [fp_if1 (by rw [hc1]; decide)]; exact hP1), ho1⟩
    · skip
      refine r_catch (E := "java/lang/IllegalStateException") (name := "java/lang/IllegalStateException") X hT ([⟨0, 12, 15, 13⟩] : List ExceptionTableEntry) ⟨0, 12, 19, 15⟩ ([] : List ExceptionTableEntry) rfl (fp_ps_cons (Or.inr ⟨by decide, "java/lang/IllegalArgumentException", q1112, X.2.2.2.2.2.nc fp_nc10⟩) fp_ps_nil) rfl (by decide) q1113 q1239 hcx hvx hlx ?_
      refine lv_astore (lv' := [(5, .ref (qx)), (0, .ref (x)), (1, .int (iI (a0))), (2, .int (iI (a1))), (3, .int (iI (a2))), (4, .ref (out))]) hx hb dX0_placeFoam_19 hl (by decide) rfl (fun ls hl => ?_)
      refine lv_iconst (v := (iI ((2 : Nat) : Int))) hx hb dX0_placeFoam_21 rfl ?_
      refine x_iret hx hb hr hlk hQ hS (Nat.le_refl _) (Nat.le_refl _) dX0_placeFoam_22 ?_
      exact ⟨g, by rw [hc1], fun z => by rw [hc1] at z; cases z, (by rw [fp_if1 (by rw [hc1]; decide)]; exact hP1), ho1⟩
set_option maxHeartbeats 1000000 in
theorem x0_placeBoard (G : fp_G) (x : Nat) (M : Nat → Prop) (T : TH) (i out : Nat) (g : Nat → Int64) (a0 : Int) (a1 : Int) (a2 : Int) (hI : fp_TI i T) (g0 : rg a0) (g1 : rg a1) (g2 : rg a2) (hMo : M out) (hob : (g_s G).heap.size ≤ out) : fp_MH G yX0_placeBoard cX0_placeBoard 6 (some .int) [(0, 12, 15, 13), (0, 12, 19, 15)] 15 377 165 3215 [.ref (x), .int (iI (a0)), .int (iI (a1)), .int (iI (a2)), .ref (out)] (fun H => fp_PW G x M T H ∧ fp_At G H out (eJ G 1 g)) (fun q => (g_s G).heap.size ≤ q ∧ (¬ M q ∨ q = out)) (fun H v H1 => ∃ g2 : Nat → Int64, v = some (.int (iI ((fp_plc T.1 1 a0 a1 a2 : Nat) : Int))) ∧ (fp_plc T.1 1 a0 a1 a2 = 0 → g2 0 = (iI ((sP (T.1) : Nat) : Int)).toInt64) ∧ fp_PW G x M (fp_if (fp_plc T.1 1 a0 a1 a2) (fp_psh T (fp_add T.1 1 a0.toNat a1.toNat a2.toNat)) T) H1 ∧ fp_At G H1 out (eJ G 1 g2)) (fun _ _ _ => False) := by
  refine fp_MH.intro (by decide +kernel) (Nat.le_of_ble_eq_true rfl) ?_
  intro pg en s mi ag bl mt cd rR qQ ls X hx hb hr hlk hnm hR hQ hT hB hM hl
  have hS : va_S (fA (fun q => (g_s G).heap.size ≤ q ∧ (¬ M q ∨ q = out)) s.heap.size) s.heap s.heap [] := va_S.rf
  generalize ([] : List Loc) = locs at hS ⊢
  obtain ⟨hP, ho⟩ := hM
  obtain ⟨fs9, hob1⟩ := hP.ob
  refine lv_aload hx hb dX0_placeBoard_0 (lv_at hl 4 rfl) ?_
  refine lv_iconst (v := (iI ((0 : Nat) : Int))) hx hb dX0_placeBoard_2 rfl ?_
  refine lv_aload_n hx hb dX0_placeBoard_3 rfl (lv_at hl 0 rfl) ?_
  refine lv_iload_n hx hb dX0_placeBoard_4 rfl (lv_at hl 1 rfl) ?_
  refine lv_iload_n hx hb dX0_placeBoard_5 rfl (lv_at hl 2 rfl) ?_
  refine lv_iload_n hx hb dX0_placeBoard_6 rfl (lv_at hl 3 rfl) ?_
  refine x_callV (cells1 := 165) (slots1 := 3215) X hR (w_placeBoard G x M T i a0 a1 a2 hI g0 g1 g2) q1301 q1302 q1303 q88 q1304 ⟨rfl, pd_X1_placeBoard⟩ ⟨Nat.le_of_ble_eq_true rfl, Nat.le_of_ble_eq_true rfl⟩ (Nat.zero_add _) (Nat.zero_add _) (Nat.le_refl _) (Nat.le_refl _) hob1 rfl rfl (Nat.le_of_ble_eq_true rfl) hl.1 dX0_placeBoard_7 hB hP hS (fun q h => Or.inl ⟨h.1, Or.inl h.2⟩) (fun v H1 locs hp hz hk hS => ?_) (fun Ex qx cx H1 locs hp hz hk hS hcx hvx hlx => ?_)
  · obtain ⟨rfl, hc0, hP1⟩ := hp
    have ho1 := ho.kept (hk out ho.lt (fun h => h.2 hMo))
    refine r_stk (st2 := [.int (iI ((sP (T.1) : Nat) : Int)), .int (iI ((0 : Nat) : Int)), .ref out]) rfl ?_
    refine lv_i2l (v := (iI ((sP (T.1) : Nat) : Int)).toInt64) hx hb dX0_placeBoard_10 rfl ?_
    refine r_lastI X ho1 hS (Or.inl ⟨hob, Or.inr rfl⟩) (j := 0) rfl (by decide) (by decide) dX0_placeBoard_11 (fun H2 locs ho2 hz2 hq2 hS => ?_)
    refine lv_goto (tgt := 23) hx hb dX0_placeBoard_12 (by decide) ?_
    refine lv_iconst (v := (iI ((0 : Nat) : Int))) hx hb dX0_placeBoard_23 rfl ?_
    refine x_iret hx hb hr hlk hQ hS (Nat.le_refl _) (Nat.le_refl _) dX0_placeBoard_24 ?_
    exact ⟨_, by rw [hc0], fun _ => fp_updL_0.trans rfl, (by rw [fp_if0 hc0]; exact hP1.st X.2.2.2.2.2 ho1 hMo hob hz2 hq2), ho2⟩
  · have ho1 := ho.kept (hk out ho.lt (fun h => h.2 hMo))
    rcases hp with ⟨rfl, hc1, hP1⟩ | ⟨rfl, hc1, hP1⟩
    · skip
      refine r_catch (E := "java/lang/IllegalArgumentException") (name := "java/lang/IllegalArgumentException") X hT ([] : List ExceptionTableEntry) ⟨0, 12, 15, 13⟩ ([⟨0, 12, 19, 15⟩] : List ExceptionTableEntry) rfl fp_ps_nil rfl (by decide) q1112 q764 hcx hvx hlx ?_
      refine lv_astore (lv' := [(5, .ref (qx)), (0, .ref (x)), (1, .int (iI (a0))), (2, .int (iI (a1))), (3, .int (iI (a2))), (4, .ref (out))]) hx hb dX0_placeBoard_15 hl (by decide) rfl (fun ls hl => ?_)
      refine lv_iconst (v := (iI ((1 : Nat) : Int))) hx hb dX0_placeBoard_17 rfl ?_
      refine x_iret hx hb hr hlk hQ hS (Nat.le_refl _) (Nat.le_refl _) dX0_placeBoard_18 ?_
      exact ⟨g, by rw [hc1], fun z => by rw [hc1] at z; cases z, (by rw [fp_if1 (by rw [hc1]; decide)]; exact hP1), ho1⟩
    · skip
      refine r_catch (E := "java/lang/IllegalStateException") (name := "java/lang/IllegalStateException") X hT ([⟨0, 12, 15, 13⟩] : List ExceptionTableEntry) ⟨0, 12, 19, 15⟩ ([] : List ExceptionTableEntry) rfl (fp_ps_cons (Or.inr ⟨by decide, "java/lang/IllegalArgumentException", q1112, X.2.2.2.2.2.nc fp_nc10⟩) fp_ps_nil) rfl (by decide) q1113 q1239 hcx hvx hlx ?_
      refine lv_astore (lv' := [(5, .ref (qx)), (0, .ref (x)), (1, .int (iI (a0))), (2, .int (iI (a1))), (3, .int (iI (a2))), (4, .ref (out))]) hx hb dX0_placeBoard_19 hl (by decide) rfl (fun ls hl => ?_)
      refine lv_iconst (v := (iI ((2 : Nat) : Int))) hx hb dX0_placeBoard_21 rfl ?_
      refine x_iret hx hb hr hlk hQ hS (Nat.le_refl _) (Nat.le_refl _) dX0_placeBoard_22 ?_
      exact ⟨g, by rw [hc1], fun z => by rw [hc1] at z; cases z, (by rw [fp_if1 (by rw [hc1]; decide)]; exact hP1), ho1⟩
set_option maxHeartbeats 1000000 in
theorem x0_placeBag (G : fp_G) (x : Nat) (M : Nat → Prop) (T : TH) (i out : Nat) (g : Nat → Int64) (a0 : Int) (a1 : Int) (a2 : Int) (hI : fp_TI i T) (g0 : rg a0) (g1 : rg a1) (g2 : rg a2) (hMo : M out) (hob : (g_s G).heap.size ≤ out) : fp_MH G yX0_placeBag cX0_placeBag 6 (some .int) [(0, 12, 15, 13), (0, 12, 19, 15)] 15 377 165 3215 [.ref (x), .int (iI (a0)), .int (iI (a1)), .int (iI (a2)), .ref (out)] (fun H => fp_PW G x M T H ∧ fp_At G H out (eJ G 1 g)) (fun q => (g_s G).heap.size ≤ q ∧ (¬ M q ∨ q = out)) (fun H v H1 => ∃ g2 : Nat → Int64, v = some (.int (iI ((fp_plc T.1 2 a0 a1 a2 : Nat) : Int))) ∧ (fp_plc T.1 2 a0 a1 a2 = 0 → g2 0 = (iI ((sP (T.1) : Nat) : Int)).toInt64) ∧ fp_PW G x M (fp_if (fp_plc T.1 2 a0 a1 a2) (fp_psh T (fp_add T.1 2 a0.toNat a1.toNat a2.toNat)) T) H1 ∧ fp_At G H1 out (eJ G 1 g2)) (fun _ _ _ => False) := by
  refine fp_MH.intro (by decide +kernel) (Nat.le_of_ble_eq_true rfl) ?_
  intro pg en s mi ag bl mt cd rR qQ ls X hx hb hr hlk hnm hR hQ hT hB hM hl
  have hS : va_S (fA (fun q => (g_s G).heap.size ≤ q ∧ (¬ M q ∨ q = out)) s.heap.size) s.heap s.heap [] := va_S.rf
  generalize ([] : List Loc) = locs at hS ⊢
  obtain ⟨hP, ho⟩ := hM
  obtain ⟨fs9, hob1⟩ := hP.ob
  refine lv_aload hx hb dX0_placeBag_0 (lv_at hl 4 rfl) ?_
  refine lv_iconst (v := (iI ((0 : Nat) : Int))) hx hb dX0_placeBag_2 rfl ?_
  refine lv_aload_n hx hb dX0_placeBag_3 rfl (lv_at hl 0 rfl) ?_
  refine lv_iload_n hx hb dX0_placeBag_4 rfl (lv_at hl 1 rfl) ?_
  refine lv_iload_n hx hb dX0_placeBag_5 rfl (lv_at hl 2 rfl) ?_
  refine lv_iload_n hx hb dX0_placeBag_6 rfl (lv_at hl 3 rfl) ?_
  refine x_callV (cells1 := 165) (slots1 := 3215) X hR (w_placeBag G x M T i a0 a1 a2 hI g0 g1 g2) q1308 q1309 q1310 q88 q1311 ⟨rfl, pd_X1_placeBag⟩ ⟨Nat.le_of_ble_eq_true rfl, Nat.le_of_ble_eq_true rfl⟩ (Nat.zero_add _) (Nat.zero_add _) (Nat.le_refl _) (Nat.le_refl _) hob1 rfl rfl (Nat.le_of_ble_eq_true rfl) hl.1 dX0_placeBag_7 hB hP hS (fun q h => Or.inl ⟨h.1, Or.inl h.2⟩) (fun v H1 locs hp hz hk hS => ?_) (fun Ex qx cx H1 locs hp hz hk hS hcx hvx hlx => ?_)
  · obtain ⟨rfl, hc0, hP1⟩ := hp
    have ho1 := ho.kept (hk out ho.lt (fun h => h.2 hMo))
    refine r_stk (st2 := [.int (iI ((sP (T.1) : Nat) : Int)), .int (iI ((0 : Nat) : Int)), .ref out]) rfl ?_
    refine lv_i2l (v := (iI ((sP (T.1) : Nat) : Int)).toInt64) hx hb dX0_placeBag_10 rfl ?_
    refine r_lastI X ho1 hS (Or.inl ⟨hob, Or.inr rfl⟩) (j := 0) rfl (by decide) (by decide) dX0_placeBag_11 (fun H2 locs ho2 hz2 hq2 hS => ?_)
    refine lv_goto (tgt := 23) hx hb dX0_placeBag_12 (by decide) ?_
    refine lv_iconst (v := (iI ((0 : Nat) : Int))) hx hb dX0_placeBag_23 rfl ?_
    refine x_iret hx hb hr hlk hQ hS (Nat.le_refl _) (Nat.le_refl _) dX0_placeBag_24 ?_
    exact ⟨_, by rw [hc0], fun _ => fp_updL_0.trans rfl, (by rw [fp_if0 hc0]; exact hP1.st X.2.2.2.2.2 ho1 hMo hob hz2 hq2), ho2⟩
  · have ho1 := ho.kept (hk out ho.lt (fun h => h.2 hMo))
    rcases hp with ⟨rfl, hc1, hP1⟩ | ⟨rfl, hc1, hP1⟩
    · skip
      refine r_catch (E := "java/lang/IllegalArgumentException") (name := "java/lang/IllegalArgumentException") X hT ([] : List ExceptionTableEntry) ⟨0, 12, 15, 13⟩ ([⟨0, 12, 19, 15⟩] : List ExceptionTableEntry) rfl fp_ps_nil rfl (by decide) q1112 q764 hcx hvx hlx ?_
      refine lv_astore (lv' := [(5, .ref (qx)), (0, .ref (x)), (1, .int (iI (a0))), (2, .int (iI (a1))), (3, .int (iI (a2))), (4, .ref (out))]) hx hb dX0_placeBag_15 hl (by decide) rfl (fun ls hl => ?_)
      refine lv_iconst (v := (iI ((1 : Nat) : Int))) hx hb dX0_placeBag_17 rfl ?_
      refine x_iret hx hb hr hlk hQ hS (Nat.le_refl _) (Nat.le_refl _) dX0_placeBag_18 ?_
      exact ⟨g, by rw [hc1], fun z => by rw [hc1] at z; cases z, (by rw [fp_if1 (by rw [hc1]; decide)]; exact hP1), ho1⟩
    · skip
      refine r_catch (E := "java/lang/IllegalStateException") (name := "java/lang/IllegalStateException") X hT ([⟨0, 12, 15, 13⟩] : List ExceptionTableEntry) ⟨0, 12, 19, 15⟩ ([] : List ExceptionTableEntry) rfl (fp_ps_cons (Or.inr ⟨by decide, "java/lang/IllegalArgumentException", q1112, X.2.2.2.2.2.nc fp_nc10⟩) fp_ps_nil) rfl (by decide) q1113 q1239 hcx hvx hlx ?_
      refine lv_astore (lv' := [(5, .ref (qx)), (0, .ref (x)), (1, .int (iI (a0))), (2, .int (iI (a1))), (3, .int (iI (a2))), (4, .ref (out))]) hx hb dX0_placeBag_19 hl (by decide) rfl (fun ls hl => ?_)
      refine lv_iconst (v := (iI ((2 : Nat) : Int))) hx hb dX0_placeBag_21 rfl ?_
      refine x_iret hx hb hr hlk hQ hS (Nat.le_refl _) (Nat.le_refl _) dX0_placeBag_22 ?_
      exact ⟨g, by rw [hc1], fun z => by rw [hc1] at z; cases z, (by rw [fp_if1 (by rw [hc1]; decide)]; exact hP1), ho1⟩
set_option maxHeartbeats 1000000 in
theorem x0_remove (G : fp_G) (x : Nat) (M : Nat → Prop) (T : TH) (i out : Nat) (g : Nat → Int64) (a0 : Int) (hI : fp_TI i T) (g0 : rg a0) (hMo : M out) (hob : (g_s G).heap.size ≤ out) : fp_MH G yX0_remove cX0_remove 4 (some .int) [(0, 9, 12, 27), (0, 9, 15, 15)] 305 8128 14 170 [.ref (x), .int (iI (a0)), .ref (out)] (fun H => fp_PW G x M T H ∧ fp_At G H out (eJ G 1 g)) (fun q => (g_s G).heap.size ≤ q ∧ (¬ M q ∨ q = out)) (fun H v H1 => ∃ g2 : Nat → Int64, v = some (.int (iI ((fp_rm_c T.1 a0 : Nat) : Int))) ∧ (fp_rm_c T.1 a0 = 0 → g2 0 = (iI ((sN (T.1) - 1 : Nat) : Int)).toInt64) ∧ fp_PW G x M (fp_if (fp_rm_c T.1 a0) (fp_psh T (fp_del T.1 (fp_fnd T.1 a0))) T) H1 ∧ fp_At G H1 out (eJ G 1 g2)) (fun _ _ _ => False) := by
  refine fp_MH.intro (by decide +kernel) (Nat.le_of_ble_eq_true rfl) ?_
  intro pg en s mi ag bl mt cd rR qQ ls X hx hb hr hlk hnm hR hQ hT hB hM hl
  have hS : va_S (fA (fun q => (g_s G).heap.size ≤ q ∧ (¬ M q ∨ q = out)) s.heap.size) s.heap s.heap [] := va_S.rf
  generalize ([] : List Loc) = locs at hS ⊢
  obtain ⟨hP, ho⟩ := hM
  obtain ⟨fs9, hob1⟩ := hP.ob
  refine lv_aload_n hx hb dX0_remove_0 rfl (lv_at hl 2 rfl) ?_
  refine lv_iconst (v := (iI ((0 : Nat) : Int))) hx hb dX0_remove_1 rfl ?_
  refine lv_aload_n hx hb dX0_remove_2 rfl (lv_at hl 0 rfl) ?_
  refine lv_iload_n hx hb dX0_remove_3 rfl (lv_at hl 1 rfl) ?_
  refine x_callV (cells1 := 14) (slots1 := 170) X hR (w_remove G x M T i a0 hI g0) q1316 q1317 q1318 q88 q1319 ⟨rfl, pd_X1_remove⟩ ⟨Nat.le_of_ble_eq_true rfl, Nat.le_of_ble_eq_true rfl⟩ (Nat.zero_add _) (Nat.zero_add _) (Nat.le_refl _) (Nat.le_refl _) hob1 rfl rfl (Nat.le_of_ble_eq_true rfl) hl.1 dX0_remove_4 hB hP hS (fun q h => Or.inl ⟨h.1, Or.inl h.2⟩) (fun v H1 locs hp hz hk hS => ?_) (fun Ex qx cx H1 locs hp hz hk hS hcx hvx hlx => ?_)
  · obtain ⟨rfl, hc0, hP1⟩ := hp
    have ho1 := ho.kept (hk out ho.lt (fun h => h.2 hMo))
    refine r_stk (st2 := [.int (iI ((sN (T.1) - 1 : Nat) : Int)), .int (iI ((0 : Nat) : Int)), .ref out]) rfl ?_
    refine lv_i2l (v := (iI ((sN (T.1) - 1 : Nat) : Int)).toInt64) hx hb dX0_remove_7 rfl ?_
    refine r_lastI X ho1 hS (Or.inl ⟨hob, Or.inr rfl⟩) (j := 0) rfl (by decide) (by decide) dX0_remove_8 (fun H2 locs ho2 hz2 hq2 hS => ?_)
    refine lv_goto (tgt := 18) hx hb dX0_remove_9 (by decide) ?_
    refine lv_iconst (v := (iI ((0 : Nat) : Int))) hx hb dX0_remove_18 rfl ?_
    refine x_iret hx hb hr hlk hQ hS (Nat.le_refl _) (Nat.le_refl _) dX0_remove_19 ?_
    exact ⟨_, by rw [hc0], fun _ => fp_updL_0.trans rfl, (by rw [fp_if0 hc0]; exact hP1.st X.2.2.2.2.2 ho1 hMo hob hz2 hq2), ho2⟩
  · have ho1 := ho.kept (hk out ho.lt (fun h => h.2 hMo))
    rcases hp with ⟨rfl, hc1, hP1⟩ | ⟨rfl, hc1, hP1⟩
    · skip
      refine r_catch (E := "java/util/NoSuchElementException") (name := "java/util/NoSuchElementException") X hT ([] : List ExceptionTableEntry) ⟨0, 9, 12, 27⟩ ([⟨0, 9, 15, 15⟩] : List ExceptionTableEntry) rfl fp_ps_nil rfl (by decide) q1315 q323 hcx hvx hlx ?_
      refine lv_astore_n (lv' := [(3, .ref (qx)), (0, .ref (x)), (1, .int (iI (a0))), (2, .ref (out))]) hx hb dX0_remove_12 rfl hl (by decide) rfl (fun ls hl => ?_)
      refine lv_iconst (v := (iI ((1 : Nat) : Int))) hx hb dX0_remove_13 rfl ?_
      refine x_iret hx hb hr hlk hQ hS (Nat.le_refl _) (Nat.le_refl _) dX0_remove_14 ?_
      exact ⟨g, by rw [hc1], fun z => by rw [hc1] at z; cases z, (by rw [fp_if1 (by rw [hc1]; decide)]; exact hP1), ho1⟩
    · skip
      refine r_catch (E := "java/lang/IllegalStateException") (name := "java/lang/IllegalStateException") X hT ([⟨0, 9, 12, 27⟩] : List ExceptionTableEntry) ⟨0, 9, 15, 15⟩ ([] : List ExceptionTableEntry) rfl (fp_ps_cons (Or.inr ⟨by decide, "java/util/NoSuchElementException", q1315, X.2.2.2.2.2.nc fp_nc13⟩) fp_ps_nil) rfl (by decide) q1113 q1239 hcx hvx hlx ?_
      refine lv_astore_n (lv' := [(3, .ref (qx)), (0, .ref (x)), (1, .int (iI (a0))), (2, .ref (out))]) hx hb dX0_remove_15 rfl hl (by decide) rfl (fun ls hl => ?_)
      refine lv_iconst (v := (iI ((2 : Nat) : Int))) hx hb dX0_remove_16 rfl ?_
      refine x_iret hx hb hr hlk hQ hS (Nat.le_refl _) (Nat.le_refl _) dX0_remove_17 ?_
      exact ⟨g, by rw [hc1], fun z => by rw [hc1] at z; cases z, (by rw [fp_if1 (by rw [hc1]; decide)]; exact hP1), ho1⟩
set_option maxHeartbeats 1000000 in
theorem x0_setZone (G : fp_G) (x : Nat) (M : Nat → Prop) (T : TH) (i out : Nat) (g : Nat → Int64) (a0 : Int) (a1 : Int) (hI : fp_TI i T) (g0 : rg a0) (g1 : rg a1) (hMo : M out) (hob : (g_s G).heap.size ≤ out) : fp_MH G yX0_setZone cX0_setZone 5 (some .int) [(0, 10, 13, 33), (0, 10, 17, 13)] 12 298 12 164 [.ref (x), .int (iI (a0)), .int (iI (a1)), .ref (out)] (fun H => fp_PW G x M T H ∧ fp_At G H out (eJ G 1 g)) (fun q => (g_s G).heap.size ≤ q ∧ (¬ M q ∨ q = out)) (fun H v H1 => ∃ g2 : Nat → Int64, v = some (.int (iI ((fp_sz_c a0 a1 : Nat) : Int))) ∧ (fp_sz_c a0 a1 = 0 → g2 0 = (iI ((fp_zlet (sZ (T.1) a0.toNat) : Nat) : Int)).toInt64) ∧ fp_PW G x M (fp_if (fp_sz_c a0 a1) (fp_psh T (fp_setz T.1 a0.toNat (fp_zby a1).toNat)) T) H1 ∧ fp_At G H1 out (eJ G 1 g2)) (fun _ _ _ => False) := by
  refine fp_MH.intro (by decide +kernel) (Nat.le_of_ble_eq_true rfl) ?_
  intro pg en s mi ag bl mt cd rR qQ ls X hx hb hr hlk hnm hR hQ hT hB hM hl
  have hS : va_S (fA (fun q => (g_s G).heap.size ≤ q ∧ (¬ M q ∨ q = out)) s.heap.size) s.heap s.heap [] := va_S.rf
  generalize ([] : List Loc) = locs at hS ⊢
  obtain ⟨hP, ho⟩ := hM
  obtain ⟨fs9, hob1⟩ := hP.ob
  refine lv_aload_n hx hb dX0_setZone_0 rfl (lv_at hl 3 rfl) ?_
  refine lv_iconst (v := (iI ((0 : Nat) : Int))) hx hb dX0_setZone_1 rfl ?_
  refine lv_aload_n hx hb dX0_setZone_2 rfl (lv_at hl 0 rfl) ?_
  refine lv_iload_n hx hb dX0_setZone_3 rfl (lv_at hl 1 rfl) ?_
  refine lv_iload_n hx hb dX0_setZone_4 rfl (lv_at hl 2 rfl) ?_
  refine x_callV (cells1 := 12) (slots1 := 164) X hR (w_setZone G x M T i a0 a1 hI g0 g1) q1343 q1344 q1345 q88 q1346 ⟨rfl, pd_X1_setZone⟩ ⟨Nat.le_of_ble_eq_true rfl, Nat.le_of_ble_eq_true rfl⟩ (Nat.zero_add _) (Nat.zero_add _) (Nat.le_refl _) (Nat.le_refl _) hob1 rfl rfl (Nat.le_of_ble_eq_true rfl) hl.1 dX0_setZone_5 hB hP hS (fun q h => Or.inl ⟨h.1, Or.inl h.2⟩) (fun v H1 locs hp hz hk hS => ?_) (fun Ex qx cx H1 locs hp hz hk hS hcx hvx hlx => ?_)
  · obtain ⟨rfl, hc0, hP1⟩ := hp
    have ho1 := ho.kept (hk out ho.lt (fun h => h.2 hMo))
    refine r_stk (st2 := [.int (iI ((fp_zlet (sZ (T.1) a0.toNat) : Nat) : Int)), .int (iI ((0 : Nat) : Int)), .ref out]) rfl ?_
    refine lv_i2l (v := (iI ((fp_zlet (sZ (T.1) a0.toNat) : Nat) : Int)).toInt64) hx hb dX0_setZone_8 rfl ?_
    refine r_lastI X ho1 hS (Or.inl ⟨hob, Or.inr rfl⟩) (j := 0) rfl (by decide) (by decide) dX0_setZone_9 (fun H2 locs ho2 hz2 hq2 hS => ?_)
    refine lv_goto (tgt := 21) hx hb dX0_setZone_10 (by decide) ?_
    refine lv_iconst (v := (iI ((0 : Nat) : Int))) hx hb dX0_setZone_21 rfl ?_
    refine x_iret hx hb hr hlk hQ hS (Nat.le_refl _) (Nat.le_refl _) dX0_setZone_22 ?_
    exact ⟨_, by rw [hc0], fun _ => fp_updL_0.trans rfl, (by rw [fp_if0 hc0]; exact hP1.st X.2.2.2.2.2 ho1 hMo hob hz2 hq2), ho2⟩
  · have ho1 := ho.kept (hk out ho.lt (fun h => h.2 hMo))
    rcases hp with ⟨rfl, hc1, hP1⟩ | ⟨rfl, hc1, hP1⟩
    · skip
      refine r_catch (E := "java/lang/IndexOutOfBoundsException") (name := "java/lang/IndexOutOfBoundsException") X hT ([] : List ExceptionTableEntry) ⟨0, 10, 13, 33⟩ ([⟨0, 10, 17, 13⟩] : List ExceptionTableEntry) rfl fp_ps_nil rfl (by decide) q1340 q568 hcx hvx hlx ?_
      refine lv_astore (lv' := [(4, .ref (qx)), (0, .ref (x)), (1, .int (iI (a0))), (2, .int (iI (a1))), (3, .ref (out))]) hx hb dX0_setZone_13 hl (by decide) rfl (fun ls hl => ?_)
      refine lv_iconst (v := (iI ((1 : Nat) : Int))) hx hb dX0_setZone_15 rfl ?_
      refine x_iret hx hb hr hlk hQ hS (Nat.le_refl _) (Nat.le_refl _) dX0_setZone_16 ?_
      exact ⟨g, by rw [hc1], fun z => by rw [hc1] at z; cases z, (by rw [fp_if1 (by rw [hc1]; decide)]; exact hP1), ho1⟩
    · skip
      refine r_catch (E := "java/lang/IllegalArgumentException") (name := "java/lang/IllegalArgumentException") X hT ([⟨0, 10, 13, 33⟩] : List ExceptionTableEntry) ⟨0, 10, 17, 13⟩ ([] : List ExceptionTableEntry) rfl (fp_ps_cons (Or.inr ⟨by decide, "java/lang/IndexOutOfBoundsException", q1340, X.2.2.2.2.2.nc fp_nc02⟩) fp_ps_nil) rfl (by decide) q1112 q764 hcx hvx hlx ?_
      refine lv_astore (lv' := [(4, .ref (qx)), (0, .ref (x)), (1, .int (iI (a0))), (2, .int (iI (a1))), (3, .ref (out))]) hx hb dX0_setZone_17 hl (by decide) rfl (fun ls hl => ?_)
      refine lv_iconst (v := (iI ((2 : Nat) : Int))) hx hb dX0_setZone_19 rfl ?_
      refine x_iret hx hb hr hlk hQ hS (Nat.le_refl _) (Nat.le_refl _) dX0_setZone_20 ?_
      exact ⟨g, by rw [hc1], fun z => by rw [hc1] at z; cases z, (by rw [fp_if1 (by rw [hc1]; decide)]; exact hP1), ho1⟩
set_option maxHeartbeats 1000000 in
theorem x0_addTorch (G : fp_G) (x : Nat) (M : Nat → Prop) (T : TH) (i out : Nat) (g : Nat → Int64) (a0 : Int) (hI : fp_TI i T) (g0 : rg a0) (hMo : M out) (hob : (g_s G).heap.size ≤ out) : fp_MH G yX0_addTorch cX0_addTorch 4 (some .int) [(0, 9, 12, 33), (0, 9, 15, 15)] 13 317 12 161 [.ref (x), .int (iI (a0)), .ref (out)] (fun H => fp_PW G x M T H ∧ fp_At G H out (eJ G 1 g)) (fun q => (g_s G).heap.size ≤ q ∧ (¬ M q ∨ q = out)) (fun H v H1 => ∃ g2 : Nat → Int64, v = some (.int (iI ((fp_at_c T.1 a0 : Nat) : Int))) ∧ (fp_at_c T.1 a0 = 0 → g2 0 = (iI ((fp_tor (fp_sett (T.1) a0.toNat 1) : Nat) : Int)).toInt64) ∧ fp_PW G x M (fp_if (fp_at_c T.1 a0) (fp_psh T (fp_sett T.1 a0.toNat 1)) T) H1 ∧ fp_At G H1 out (eJ G 1 g2)) (fun _ _ _ => False) := by
  refine fp_MH.intro (by decide +kernel) (Nat.le_of_ble_eq_true rfl) ?_
  intro pg en s mi ag bl mt cd rR qQ ls X hx hb hr hlk hnm hR hQ hT hB hM hl
  have hS : va_S (fA (fun q => (g_s G).heap.size ≤ q ∧ (¬ M q ∨ q = out)) s.heap.size) s.heap s.heap [] := va_S.rf
  generalize ([] : List Loc) = locs at hS ⊢
  obtain ⟨hP, ho⟩ := hM
  obtain ⟨fs9, hob1⟩ := hP.ob
  refine lv_aload_n hx hb dX0_addTorch_0 rfl (lv_at hl 2 rfl) ?_
  refine lv_iconst (v := (iI ((0 : Nat) : Int))) hx hb dX0_addTorch_1 rfl ?_
  refine lv_aload_n hx hb dX0_addTorch_2 rfl (lv_at hl 0 rfl) ?_
  refine lv_iload_n hx hb dX0_addTorch_3 rfl (lv_at hl 1 rfl) ?_
  refine x_callV (cells1 := 12) (slots1 := 161) X hR (w_addTorch G x M T i a0 hI g0) q1374 q1375 q1376 q88 q1377 ⟨rfl, pd_X1_addTorch⟩ ⟨Nat.le_of_ble_eq_true rfl, Nat.le_of_ble_eq_true rfl⟩ (Nat.zero_add _) (Nat.zero_add _) (Nat.le_refl _) (Nat.le_refl _) hob1 rfl rfl (Nat.le_of_ble_eq_true rfl) hl.1 dX0_addTorch_4 hB hP hS (fun q h => Or.inl ⟨h.1, Or.inl h.2⟩) (fun v H1 locs hp hz hk hS => ?_) (fun Ex qx cx H1 locs hp hz hk hS hcx hvx hlx => ?_)
  · obtain ⟨rfl, hc0, hP1⟩ := hp
    have ho1 := ho.kept (hk out ho.lt (fun h => h.2 hMo))
    refine r_stk (st2 := [.int (iI ((fp_tor (fp_sett (T.1) a0.toNat 1) : Nat) : Int)), .int (iI ((0 : Nat) : Int)), .ref out]) rfl ?_
    refine lv_i2l (v := (iI ((fp_tor (fp_sett (T.1) a0.toNat 1) : Nat) : Int)).toInt64) hx hb dX0_addTorch_7 rfl ?_
    refine r_lastI X ho1 hS (Or.inl ⟨hob, Or.inr rfl⟩) (j := 0) rfl (by decide) (by decide) dX0_addTorch_8 (fun H2 locs ho2 hz2 hq2 hS => ?_)
    refine lv_goto (tgt := 18) hx hb dX0_addTorch_9 (by decide) ?_
    refine lv_iconst (v := (iI ((0 : Nat) : Int))) hx hb dX0_addTorch_18 rfl ?_
    refine x_iret hx hb hr hlk hQ hS (Nat.le_refl _) (Nat.le_refl _) dX0_addTorch_19 ?_
    exact ⟨_, by rw [hc0], fun _ => fp_updL_0.trans rfl, (by rw [fp_if0 hc0]; exact hP1.st X.2.2.2.2.2 ho1 hMo hob hz2 hq2), ho2⟩
  · have ho1 := ho.kept (hk out ho.lt (fun h => h.2 hMo))
    rcases hp with ⟨rfl, hc1, hP1⟩ | ⟨rfl, hc1, hP1⟩
    · skip
      refine r_catch (E := "java/lang/IndexOutOfBoundsException") (name := "java/lang/IndexOutOfBoundsException") X hT ([] : List ExceptionTableEntry) ⟨0, 9, 12, 33⟩ ([⟨0, 9, 15, 15⟩] : List ExceptionTableEntry) rfl fp_ps_nil rfl (by decide) q1340 q568 hcx hvx hlx ?_
      refine lv_astore_n (lv' := [(3, .ref (qx)), (0, .ref (x)), (1, .int (iI (a0))), (2, .ref (out))]) hx hb dX0_addTorch_12 rfl hl (by decide) rfl (fun ls hl => ?_)
      refine lv_iconst (v := (iI ((1 : Nat) : Int))) hx hb dX0_addTorch_13 rfl ?_
      refine x_iret hx hb hr hlk hQ hS (Nat.le_refl _) (Nat.le_refl _) dX0_addTorch_14 ?_
      exact ⟨g, by rw [hc1], fun z => by rw [hc1] at z; cases z, (by rw [fp_if1 (by rw [hc1]; decide)]; exact hP1), ho1⟩
    · skip
      refine r_catch (E := "java/lang/IllegalStateException") (name := "java/lang/IllegalStateException") X hT ([⟨0, 9, 12, 33⟩] : List ExceptionTableEntry) ⟨0, 9, 15, 15⟩ ([] : List ExceptionTableEntry) rfl (fp_ps_cons (Or.inr ⟨by decide, "java/lang/IndexOutOfBoundsException", q1340, X.2.2.2.2.2.nc fp_nc12⟩) fp_ps_nil) rfl (by decide) q1113 q1239 hcx hvx hlx ?_
      refine lv_astore_n (lv' := [(3, .ref (qx)), (0, .ref (x)), (1, .int (iI (a0))), (2, .ref (out))]) hx hb dX0_addTorch_15 rfl hl (by decide) rfl (fun ls hl => ?_)
      refine lv_iconst (v := (iI ((2 : Nat) : Int))) hx hb dX0_addTorch_16 rfl ?_
      refine x_iret hx hb hr hlk hQ hS (Nat.le_refl _) (Nat.le_refl _) dX0_addTorch_17 ?_
      exact ⟨g, by rw [hc1], fun z => by rw [hc1] at z; cases z, (by rw [fp_if1 (by rw [hc1]; decide)]; exact hP1), ho1⟩
set_option maxHeartbeats 1000000 in
theorem x0_removeTorch (G : fp_G) (x : Nat) (M : Nat → Prop) (T : TH) (i out : Nat) (g : Nat → Int64) (a0 : Int) (hI : fp_TI i T) (g0 : rg a0) (hMo : M out) (hob : (g_s G).heap.size ≤ out) : fp_MH G yX0_removeTorch cX0_removeTorch 4 (some .int) [(0, 9, 12, 33), (0, 9, 15, 15)] 13 317 12 161 [.ref (x), .int (iI (a0)), .ref (out)] (fun H => fp_PW G x M T H ∧ fp_At G H out (eJ G 1 g)) (fun q => (g_s G).heap.size ≤ q ∧ (¬ M q ∨ q = out)) (fun H v H1 => ∃ g2 : Nat → Int64, v = some (.int (iI ((fp_rt_c T.1 a0 : Nat) : Int))) ∧ (fp_rt_c T.1 a0 = 0 → g2 0 = (iI ((fp_tor (fp_sett (T.1) a0.toNat 0) : Nat) : Int)).toInt64) ∧ fp_PW G x M (fp_if (fp_rt_c T.1 a0) (fp_psh T (fp_sett T.1 a0.toNat 0)) T) H1 ∧ fp_At G H1 out (eJ G 1 g2)) (fun _ _ _ => False) := by
  refine fp_MH.intro (by decide +kernel) (Nat.le_of_ble_eq_true rfl) ?_
  intro pg en s mi ag bl mt cd rR qQ ls X hx hb hr hlk hnm hR hQ hT hB hM hl
  have hS : va_S (fA (fun q => (g_s G).heap.size ≤ q ∧ (¬ M q ∨ q = out)) s.heap.size) s.heap s.heap [] := va_S.rf
  generalize ([] : List Loc) = locs at hS ⊢
  obtain ⟨hP, ho⟩ := hM
  obtain ⟨fs9, hob1⟩ := hP.ob
  refine lv_aload_n hx hb dX0_removeTorch_0 rfl (lv_at hl 2 rfl) ?_
  refine lv_iconst (v := (iI ((0 : Nat) : Int))) hx hb dX0_removeTorch_1 rfl ?_
  refine lv_aload_n hx hb dX0_removeTorch_2 rfl (lv_at hl 0 rfl) ?_
  refine lv_iload_n hx hb dX0_removeTorch_3 rfl (lv_at hl 1 rfl) ?_
  refine x_callV (cells1 := 12) (slots1 := 161) X hR (w_removeTorch G x M T i a0 hI g0) q1389 q1390 q1391 q88 q1392 ⟨rfl, pd_X1_removeTorch⟩ ⟨Nat.le_of_ble_eq_true rfl, Nat.le_of_ble_eq_true rfl⟩ (Nat.zero_add _) (Nat.zero_add _) (Nat.le_refl _) (Nat.le_refl _) hob1 rfl rfl (Nat.le_of_ble_eq_true rfl) hl.1 dX0_removeTorch_4 hB hP hS (fun q h => Or.inl ⟨h.1, Or.inl h.2⟩) (fun v H1 locs hp hz hk hS => ?_) (fun Ex qx cx H1 locs hp hz hk hS hcx hvx hlx => ?_)
  · obtain ⟨rfl, hc0, hP1⟩ := hp
    have ho1 := ho.kept (hk out ho.lt (fun h => h.2 hMo))
    refine r_stk (st2 := [.int (iI ((fp_tor (fp_sett (T.1) a0.toNat 0) : Nat) : Int)), .int (iI ((0 : Nat) : Int)), .ref out]) rfl ?_
    refine lv_i2l (v := (iI ((fp_tor (fp_sett (T.1) a0.toNat 0) : Nat) : Int)).toInt64) hx hb dX0_removeTorch_7 rfl ?_
    refine r_lastI X ho1 hS (Or.inl ⟨hob, Or.inr rfl⟩) (j := 0) rfl (by decide) (by decide) dX0_removeTorch_8 (fun H2 locs ho2 hz2 hq2 hS => ?_)
    refine lv_goto (tgt := 18) hx hb dX0_removeTorch_9 (by decide) ?_
    refine lv_iconst (v := (iI ((0 : Nat) : Int))) hx hb dX0_removeTorch_18 rfl ?_
    refine x_iret hx hb hr hlk hQ hS (Nat.le_refl _) (Nat.le_refl _) dX0_removeTorch_19 ?_
    exact ⟨_, by rw [hc0], fun _ => fp_updL_0.trans rfl, (by rw [fp_if0 hc0]; exact hP1.st X.2.2.2.2.2 ho1 hMo hob hz2 hq2), ho2⟩
  · have ho1 := ho.kept (hk out ho.lt (fun h => h.2 hMo))
    rcases hp with ⟨rfl, hc1, hP1⟩ | ⟨rfl, hc1, hP1⟩
    · skip
      refine r_catch (E := "java/lang/IndexOutOfBoundsException") (name := "java/lang/IndexOutOfBoundsException") X hT ([] : List ExceptionTableEntry) ⟨0, 9, 12, 33⟩ ([⟨0, 9, 15, 15⟩] : List ExceptionTableEntry) rfl fp_ps_nil rfl (by decide) q1340 q568 hcx hvx hlx ?_
      refine lv_astore_n (lv' := [(3, .ref (qx)), (0, .ref (x)), (1, .int (iI (a0))), (2, .ref (out))]) hx hb dX0_removeTorch_12 rfl hl (by decide) rfl (fun ls hl => ?_)
      refine lv_iconst (v := (iI ((1 : Nat) : Int))) hx hb dX0_removeTorch_13 rfl ?_
      refine x_iret hx hb hr hlk hQ hS (Nat.le_refl _) (Nat.le_refl _) dX0_removeTorch_14 ?_
      exact ⟨g, by rw [hc1], fun z => by rw [hc1] at z; cases z, (by rw [fp_if1 (by rw [hc1]; decide)]; exact hP1), ho1⟩
    · skip
      refine r_catch (E := "java/lang/IllegalStateException") (name := "java/lang/IllegalStateException") X hT ([⟨0, 9, 12, 33⟩] : List ExceptionTableEntry) ⟨0, 9, 15, 15⟩ ([] : List ExceptionTableEntry) rfl (fp_ps_cons (Or.inr ⟨by decide, "java/lang/IndexOutOfBoundsException", q1340, X.2.2.2.2.2.nc fp_nc12⟩) fp_ps_nil) rfl (by decide) q1113 q1239 hcx hvx hlx ?_
      refine lv_astore_n (lv' := [(3, .ref (qx)), (0, .ref (x)), (1, .int (iI (a0))), (2, .ref (out))]) hx hb dX0_removeTorch_15 rfl hl (by decide) rfl (fun ls hl => ?_)
      refine lv_iconst (v := (iI ((2 : Nat) : Int))) hx hb dX0_removeTorch_16 rfl ?_
      refine x_iret hx hb hr hlk hQ hS (Nat.le_refl _) (Nat.le_refl _) dX0_removeTorch_17 ?_
      exact ⟨g, by rw [hc1], fun z => by rw [hc1] at z; cases z, (by rw [fp_if1 (by rw [hc1]; decide)]; exact hP1), ho1⟩
set_option maxHeartbeats 1000000 in
theorem x0_canPlaceFoam (G : fp_G) (x : Nat) (M : Nat → Prop) (T : TH) (i out : Nat) (g : Nat → Int64) (a0 : Int) (a1 : Int) (a2 : Int) (hI : fp_TI i T) (g0 : rg a0) (g1 : rg a1) (g2 : rg a2) (hMo : M out) (hob : (g_s G).heap.size ≤ out) : fp_MH G yX0_canPlaceFoam cX0_canPlaceFoam 6 (some .int) [(0, 19, 22, 13)] 15 376 154 3013 [.ref (x), .int (iI (a0)), .int (iI (a1)), .int (iI (a2)), .ref (out)] (fun H => fp_PW G x M T H ∧ fp_At G H out (eJ G 1 g)) (fun q => (g_s G).heap.size ≤ q ∧ (¬ M q ∨ q = out)) (fun H v H1 => ∃ g2 : Nat → Int64, v = some (.int (iI ((fp_cn_c T.1 0 a0 a1 a2 : Nat) : Int))) ∧ (fp_cn_c T.1 0 a0 a1 a2 = 0 → g2 0 = (iI (bI (decide (fp_plc (T.1) 0 a0 a1 a2 = 0)))).toInt64) ∧ fp_PW G x M T H1 ∧ fp_At G H1 out (eJ G 1 g2)) (fun _ _ _ => False) := by
  refine fp_MH.intro (by decide +kernel) (Nat.le_of_ble_eq_true rfl) ?_
  intro pg en s mi ag bl mt cd rR qQ ls X hx hb hr hlk hnm hR hQ hT hB hM hl
  have hS : va_S (fA (fun q => (g_s G).heap.size ≤ q ∧ (¬ M q ∨ q = out)) s.heap.size) s.heap s.heap [] := va_S.rf
  generalize ([] : List Loc) = locs at hS ⊢
  obtain ⟨hP, ho⟩ := hM
  obtain ⟨fs9, hob1⟩ := hP.ob
  refine lv_aload hx hb dX0_canPlaceFoam_0 (lv_at hl 4 rfl) ?_
  refine lv_iconst (v := (iI ((0 : Nat) : Int))) hx hb dX0_canPlaceFoam_2 rfl ?_
  refine lv_aload_n hx hb dX0_canPlaceFoam_3 rfl (lv_at hl 0 rfl) ?_
  refine lv_iload_n hx hb dX0_canPlaceFoam_4 rfl (lv_at hl 1 rfl) ?_
  refine lv_iload_n hx hb dX0_canPlaceFoam_5 rfl (lv_at hl 2 rfl) ?_
  refine lv_iload_n hx hb dX0_canPlaceFoam_6 rfl (lv_at hl 3 rfl) ?_
  refine x_callV (cells1 := 154) (slots1 := 3013) X hR (w_canPlaceFoam G x M T i a0 a1 a2 hI g0 g1 g2) q1396 q1397 q1398 q88 q1399 ⟨rfl, pd_X1_canPlaceFoam⟩ ⟨Nat.le_of_ble_eq_true rfl, Nat.le_of_ble_eq_true rfl⟩ (Nat.zero_add _) (Nat.zero_add _) (Nat.le_refl _) (Nat.le_refl _) hob1 rfl rfl (Nat.le_of_ble_eq_true rfl) hl.1 dX0_canPlaceFoam_7 hB hP hS (fun q h => Or.inl ⟨h.1, Or.inl h.2⟩) (fun v H1 locs hp hz hk hS => ?_) (fun Ex qx cx H1 locs hp hz hk hS hcx hvx hlx => ?_)
  · obtain ⟨rfl, hc0, hP1⟩ := hp
    have ho1 := ho.kept (hk out ho.lt (fun h => h.2 hMo))
    refine r_stk (st2 := [.int (iI (bI (decide (fp_plc (T.1) 0 a0 a1 a2 = 0)))), .int (iI ((0 : Nat) : Int)), .ref out]) rfl ?_
    refine r_ifeqB (tgt := 17) hx hb dX0_canPlaceFoam_10 (by decide) (fun cb => ?_) (fun cb => ?_)
    · refine lv_lconst (v := 0) hx hb dX0_canPlaceFoam_17 rfl ?_
      refine r_lastI X ho1 hS (Or.inl ⟨hob, Or.inr rfl⟩) (j := 0) rfl (by decide) (by decide) dX0_canPlaceFoam_18 (fun H2 locs ho2 hz2 hq2 hS => ?_)
      refine lv_goto (tgt := 26) hx hb dX0_canPlaceFoam_19 (by decide) ?_
      refine lv_iconst (v := (iI ((0 : Nat) : Int))) hx hb dX0_canPlaceFoam_26 rfl ?_
      refine x_iret hx hb hr hlk hQ hS (Nat.le_refl _) (Nat.le_refl _) dX0_canPlaceFoam_27 ?_
      exact ⟨_, by rw [hc0], fun _ => fp_updL_0.trans (by rw [cb]; rfl), hP1.st X.2.2.2.2.2 ho1 hMo hob hz2 hq2, ho2⟩
    · refine lv_lconst (v := 1) hx hb dX0_canPlaceFoam_13 rfl ?_
      refine lv_goto (tgt := 18) hx hb dX0_canPlaceFoam_14 (by decide) ?_
      refine r_lastI X ho1 hS (Or.inl ⟨hob, Or.inr rfl⟩) (j := 0) rfl (by decide) (by decide) dX0_canPlaceFoam_18 (fun H2 locs ho2 hz2 hq2 hS => ?_)
      refine lv_goto (tgt := 26) hx hb dX0_canPlaceFoam_19 (by decide) ?_
      refine lv_iconst (v := (iI ((0 : Nat) : Int))) hx hb dX0_canPlaceFoam_26 rfl ?_
      refine x_iret hx hb hr hlk hQ hS (Nat.le_refl _) (Nat.le_refl _) dX0_canPlaceFoam_27 ?_
      exact ⟨_, by rw [hc0], fun _ => fp_updL_0.trans (by rw [cb]; rfl), hP1.st X.2.2.2.2.2 ho1 hMo hob hz2 hq2, ho2⟩
  · have ho1 := ho.kept (hk out ho.lt (fun h => h.2 hMo))
    obtain ⟨rfl, hc1, hP1⟩ := hp
    refine r_catch (E := "java/lang/IllegalArgumentException") (name := "java/lang/IllegalArgumentException") X hT ([] : List ExceptionTableEntry) ⟨0, 19, 22, 13⟩ ([] : List ExceptionTableEntry) rfl fp_ps_nil rfl (by decide) q1112 q764 hcx hvx hlx ?_
    refine lv_astore (lv' := [(5, .ref (qx)), (0, .ref (x)), (1, .int (iI (a0))), (2, .int (iI (a1))), (3, .int (iI (a2))), (4, .ref (out))]) hx hb dX0_canPlaceFoam_22 hl (by decide) rfl (fun ls hl => ?_)
    refine lv_iconst (v := (iI ((1 : Nat) : Int))) hx hb dX0_canPlaceFoam_24 rfl ?_
    refine x_iret hx hb hr hlk hQ hS (Nat.le_refl _) (Nat.le_refl _) dX0_canPlaceFoam_25 ?_
    exact ⟨g, by rw [hc1], fun z => by rw [hc1] at z; cases z, hP1, ho1⟩
set_option maxHeartbeats 1000000 in
theorem x0_canPlaceBoard (G : fp_G) (x : Nat) (M : Nat → Prop) (T : TH) (i out : Nat) (g : Nat → Int64) (a0 : Int) (a1 : Int) (a2 : Int) (hI : fp_TI i T) (g0 : rg a0) (g1 : rg a1) (g2 : rg a2) (hMo : M out) (hob : (g_s G).heap.size ≤ out) : fp_MH G yX0_canPlaceBoard cX0_canPlaceBoard 6 (some .int) [(0, 19, 22, 13)] 15 376 154 3013 [.ref (x), .int (iI (a0)), .int (iI (a1)), .int (iI (a2)), .ref (out)] (fun H => fp_PW G x M T H ∧ fp_At G H out (eJ G 1 g)) (fun q => (g_s G).heap.size ≤ q ∧ (¬ M q ∨ q = out)) (fun H v H1 => ∃ g2 : Nat → Int64, v = some (.int (iI ((fp_cn_c T.1 1 a0 a1 a2 : Nat) : Int))) ∧ (fp_cn_c T.1 1 a0 a1 a2 = 0 → g2 0 = (iI (bI (decide (fp_plc (T.1) 1 a0 a1 a2 = 0)))).toInt64) ∧ fp_PW G x M T H1 ∧ fp_At G H1 out (eJ G 1 g2)) (fun _ _ _ => False) := by
  refine fp_MH.intro (by decide +kernel) (Nat.le_of_ble_eq_true rfl) ?_
  intro pg en s mi ag bl mt cd rR qQ ls X hx hb hr hlk hnm hR hQ hT hB hM hl
  have hS : va_S (fA (fun q => (g_s G).heap.size ≤ q ∧ (¬ M q ∨ q = out)) s.heap.size) s.heap s.heap [] := va_S.rf
  generalize ([] : List Loc) = locs at hS ⊢
  obtain ⟨hP, ho⟩ := hM
  obtain ⟨fs9, hob1⟩ := hP.ob
  refine lv_aload hx hb dX0_canPlaceBoard_0 (lv_at hl 4 rfl) ?_
  refine lv_iconst (v := (iI ((0 : Nat) : Int))) hx hb dX0_canPlaceBoard_2 rfl ?_
  refine lv_aload_n hx hb dX0_canPlaceBoard_3 rfl (lv_at hl 0 rfl) ?_
  refine lv_iload_n hx hb dX0_canPlaceBoard_4 rfl (lv_at hl 1 rfl) ?_
  refine lv_iload_n hx hb dX0_canPlaceBoard_5 rfl (lv_at hl 2 rfl) ?_
  refine lv_iload_n hx hb dX0_canPlaceBoard_6 rfl (lv_at hl 3 rfl) ?_
  refine x_callV (cells1 := 154) (slots1 := 3013) X hR (w_canPlaceBoard G x M T i a0 a1 a2 hI g0 g1 g2) q1407 q1408 q1409 q88 q1410 ⟨rfl, pd_X1_canPlaceBoard⟩ ⟨Nat.le_of_ble_eq_true rfl, Nat.le_of_ble_eq_true rfl⟩ (Nat.zero_add _) (Nat.zero_add _) (Nat.le_refl _) (Nat.le_refl _) hob1 rfl rfl (Nat.le_of_ble_eq_true rfl) hl.1 dX0_canPlaceBoard_7 hB hP hS (fun q h => Or.inl ⟨h.1, Or.inl h.2⟩) (fun v H1 locs hp hz hk hS => ?_) (fun Ex qx cx H1 locs hp hz hk hS hcx hvx hlx => ?_)
  · obtain ⟨rfl, hc0, hP1⟩ := hp
    have ho1 := ho.kept (hk out ho.lt (fun h => h.2 hMo))
    refine r_stk (st2 := [.int (iI (bI (decide (fp_plc (T.1) 1 a0 a1 a2 = 0)))), .int (iI ((0 : Nat) : Int)), .ref out]) rfl ?_
    refine r_ifeqB (tgt := 17) hx hb dX0_canPlaceBoard_10 (by decide) (fun cb => ?_) (fun cb => ?_)
    · refine lv_lconst (v := 0) hx hb dX0_canPlaceBoard_17 rfl ?_
      refine r_lastI X ho1 hS (Or.inl ⟨hob, Or.inr rfl⟩) (j := 0) rfl (by decide) (by decide) dX0_canPlaceBoard_18 (fun H2 locs ho2 hz2 hq2 hS => ?_)
      refine lv_goto (tgt := 26) hx hb dX0_canPlaceBoard_19 (by decide) ?_
      refine lv_iconst (v := (iI ((0 : Nat) : Int))) hx hb dX0_canPlaceBoard_26 rfl ?_
      refine x_iret hx hb hr hlk hQ hS (Nat.le_refl _) (Nat.le_refl _) dX0_canPlaceBoard_27 ?_
      exact ⟨_, by rw [hc0], fun _ => fp_updL_0.trans (by rw [cb]; rfl), hP1.st X.2.2.2.2.2 ho1 hMo hob hz2 hq2, ho2⟩
    · refine lv_lconst (v := 1) hx hb dX0_canPlaceBoard_13 rfl ?_
      refine lv_goto (tgt := 18) hx hb dX0_canPlaceBoard_14 (by decide) ?_
      refine r_lastI X ho1 hS (Or.inl ⟨hob, Or.inr rfl⟩) (j := 0) rfl (by decide) (by decide) dX0_canPlaceBoard_18 (fun H2 locs ho2 hz2 hq2 hS => ?_)
      refine lv_goto (tgt := 26) hx hb dX0_canPlaceBoard_19 (by decide) ?_
      refine lv_iconst (v := (iI ((0 : Nat) : Int))) hx hb dX0_canPlaceBoard_26 rfl ?_
      refine x_iret hx hb hr hlk hQ hS (Nat.le_refl _) (Nat.le_refl _) dX0_canPlaceBoard_27 ?_
      exact ⟨_, by rw [hc0], fun _ => fp_updL_0.trans (by rw [cb]; rfl), hP1.st X.2.2.2.2.2 ho1 hMo hob hz2 hq2, ho2⟩
  · have ho1 := ho.kept (hk out ho.lt (fun h => h.2 hMo))
    obtain ⟨rfl, hc1, hP1⟩ := hp
    refine r_catch (E := "java/lang/IllegalArgumentException") (name := "java/lang/IllegalArgumentException") X hT ([] : List ExceptionTableEntry) ⟨0, 19, 22, 13⟩ ([] : List ExceptionTableEntry) rfl fp_ps_nil rfl (by decide) q1112 q764 hcx hvx hlx ?_
    refine lv_astore (lv' := [(5, .ref (qx)), (0, .ref (x)), (1, .int (iI (a0))), (2, .int (iI (a1))), (3, .int (iI (a2))), (4, .ref (out))]) hx hb dX0_canPlaceBoard_22 hl (by decide) rfl (fun ls hl => ?_)
    refine lv_iconst (v := (iI ((1 : Nat) : Int))) hx hb dX0_canPlaceBoard_24 rfl ?_
    refine x_iret hx hb hr hlk hQ hS (Nat.le_refl _) (Nat.le_refl _) dX0_canPlaceBoard_25 ?_
    exact ⟨g, by rw [hc1], fun z => by rw [hc1] at z; cases z, hP1, ho1⟩
set_option maxHeartbeats 1000000 in
theorem x0_canPlaceBag (G : fp_G) (x : Nat) (M : Nat → Prop) (T : TH) (i out : Nat) (g : Nat → Int64) (a0 : Int) (a1 : Int) (a2 : Int) (hI : fp_TI i T) (g0 : rg a0) (g1 : rg a1) (g2 : rg a2) (hMo : M out) (hob : (g_s G).heap.size ≤ out) : fp_MH G yX0_canPlaceBag cX0_canPlaceBag 6 (some .int) [(0, 19, 22, 13)] 15 376 154 3013 [.ref (x), .int (iI (a0)), .int (iI (a1)), .int (iI (a2)), .ref (out)] (fun H => fp_PW G x M T H ∧ fp_At G H out (eJ G 1 g)) (fun q => (g_s G).heap.size ≤ q ∧ (¬ M q ∨ q = out)) (fun H v H1 => ∃ g2 : Nat → Int64, v = some (.int (iI ((fp_cn_c T.1 2 a0 a1 a2 : Nat) : Int))) ∧ (fp_cn_c T.1 2 a0 a1 a2 = 0 → g2 0 = (iI (bI (decide (fp_plc (T.1) 2 a0 a1 a2 = 0)))).toInt64) ∧ fp_PW G x M T H1 ∧ fp_At G H1 out (eJ G 1 g2)) (fun _ _ _ => False) := by
  refine fp_MH.intro (by decide +kernel) (Nat.le_of_ble_eq_true rfl) ?_
  intro pg en s mi ag bl mt cd rR qQ ls X hx hb hr hlk hnm hR hQ hT hB hM hl
  have hS : va_S (fA (fun q => (g_s G).heap.size ≤ q ∧ (¬ M q ∨ q = out)) s.heap.size) s.heap s.heap [] := va_S.rf
  generalize ([] : List Loc) = locs at hS ⊢
  obtain ⟨hP, ho⟩ := hM
  obtain ⟨fs9, hob1⟩ := hP.ob
  refine lv_aload hx hb dX0_canPlaceBag_0 (lv_at hl 4 rfl) ?_
  refine lv_iconst (v := (iI ((0 : Nat) : Int))) hx hb dX0_canPlaceBag_2 rfl ?_
  refine lv_aload_n hx hb dX0_canPlaceBag_3 rfl (lv_at hl 0 rfl) ?_
  refine lv_iload_n hx hb dX0_canPlaceBag_4 rfl (lv_at hl 1 rfl) ?_
  refine lv_iload_n hx hb dX0_canPlaceBag_5 rfl (lv_at hl 2 rfl) ?_
  refine lv_iload_n hx hb dX0_canPlaceBag_6 rfl (lv_at hl 3 rfl) ?_
  refine x_callV (cells1 := 154) (slots1 := 3013) X hR (w_canPlaceBag G x M T i a0 a1 a2 hI g0 g1 g2) q1414 q1415 q1416 q88 q1417 ⟨rfl, pd_X1_canPlaceBag⟩ ⟨Nat.le_of_ble_eq_true rfl, Nat.le_of_ble_eq_true rfl⟩ (Nat.zero_add _) (Nat.zero_add _) (Nat.le_refl _) (Nat.le_refl _) hob1 rfl rfl (Nat.le_of_ble_eq_true rfl) hl.1 dX0_canPlaceBag_7 hB hP hS (fun q h => Or.inl ⟨h.1, Or.inl h.2⟩) (fun v H1 locs hp hz hk hS => ?_) (fun Ex qx cx H1 locs hp hz hk hS hcx hvx hlx => ?_)
  · obtain ⟨rfl, hc0, hP1⟩ := hp
    have ho1 := ho.kept (hk out ho.lt (fun h => h.2 hMo))
    refine r_stk (st2 := [.int (iI (bI (decide (fp_plc (T.1) 2 a0 a1 a2 = 0)))), .int (iI ((0 : Nat) : Int)), .ref out]) rfl ?_
    refine r_ifeqB (tgt := 17) hx hb dX0_canPlaceBag_10 (by decide) (fun cb => ?_) (fun cb => ?_)
    · refine lv_lconst (v := 0) hx hb dX0_canPlaceBag_17 rfl ?_
      refine r_lastI X ho1 hS (Or.inl ⟨hob, Or.inr rfl⟩) (j := 0) rfl (by decide) (by decide) dX0_canPlaceBag_18 (fun H2 locs ho2 hz2 hq2 hS => ?_)
      refine lv_goto (tgt := 26) hx hb dX0_canPlaceBag_19 (by decide) ?_
      refine lv_iconst (v := (iI ((0 : Nat) : Int))) hx hb dX0_canPlaceBag_26 rfl ?_
      refine x_iret hx hb hr hlk hQ hS (Nat.le_refl _) (Nat.le_refl _) dX0_canPlaceBag_27 ?_
      exact ⟨_, by rw [hc0], fun _ => fp_updL_0.trans (by rw [cb]; rfl), hP1.st X.2.2.2.2.2 ho1 hMo hob hz2 hq2, ho2⟩
    · refine lv_lconst (v := 1) hx hb dX0_canPlaceBag_13 rfl ?_
      refine lv_goto (tgt := 18) hx hb dX0_canPlaceBag_14 (by decide) ?_
      refine r_lastI X ho1 hS (Or.inl ⟨hob, Or.inr rfl⟩) (j := 0) rfl (by decide) (by decide) dX0_canPlaceBag_18 (fun H2 locs ho2 hz2 hq2 hS => ?_)
      refine lv_goto (tgt := 26) hx hb dX0_canPlaceBag_19 (by decide) ?_
      refine lv_iconst (v := (iI ((0 : Nat) : Int))) hx hb dX0_canPlaceBag_26 rfl ?_
      refine x_iret hx hb hr hlk hQ hS (Nat.le_refl _) (Nat.le_refl _) dX0_canPlaceBag_27 ?_
      exact ⟨_, by rw [hc0], fun _ => fp_updL_0.trans (by rw [cb]; rfl), hP1.st X.2.2.2.2.2 ho1 hMo hob hz2 hq2, ho2⟩
  · have ho1 := ho.kept (hk out ho.lt (fun h => h.2 hMo))
    obtain ⟨rfl, hc1, hP1⟩ := hp
    refine r_catch (E := "java/lang/IllegalArgumentException") (name := "java/lang/IllegalArgumentException") X hT ([] : List ExceptionTableEntry) ⟨0, 19, 22, 13⟩ ([] : List ExceptionTableEntry) rfl fp_ps_nil rfl (by decide) q1112 q764 hcx hvx hlx ?_
    refine lv_astore (lv' := [(5, .ref (qx)), (0, .ref (x)), (1, .int (iI (a0))), (2, .int (iI (a1))), (3, .int (iI (a2))), (4, .ref (out))]) hx hb dX0_canPlaceBag_22 hl (by decide) rfl (fun ls hl => ?_)
    refine lv_iconst (v := (iI ((1 : Nat) : Int))) hx hb dX0_canPlaceBag_24 rfl ?_
    refine x_iret hx hb hr hlk hQ hS (Nat.le_refl _) (Nat.le_refl _) dX0_canPlaceBag_25 ?_
    exact ⟨g, by rw [hc1], fun z => by rw [hc1] at z; cases z, hP1, ho1⟩
set_option maxHeartbeats 1000000 in
theorem x0_heaviestFoam (G : fp_G) (x : Nat) (M : Nat → Prop) (T : TH) (i out : Nat) (g : Nat → Int64) (a0 : Int) (a1 : Int) (hI : fp_TI i T) (g0 : rg a0) (g1 : rg a1) (hMo : M out) (hob : (g_s G).heap.size ≤ out) : fp_MH G yX0_heaviestFoam cX0_heaviestFoam 5 (some .int) [(0, 10, 13, 13), (0, 10, 17, 27)] 14 352 1370 27021 [.ref (x), .int (iI (a0)), .int (iI (a1)), .ref (out)] (fun H => fp_PW G x M T H ∧ fp_At G H out (eJ G 1 g)) (fun q => (g_s G).heap.size ≤ q ∧ (¬ M q ∨ q = out)) (fun H v H1 => ∃ g2 : Nat → Int64, v = some (.int (iI ((fp_hvc T.1 a0 a1 : Nat) : Int))) ∧ (fp_hvc T.1 a0 a1 = 0 → g2 0 = (iI ((fp_hv (T.1) a0 a1 : Nat) : Int)).toInt64) ∧ fp_PW G x M T H1 ∧ fp_At G H1 out (eJ G 1 g2)) (fun _ _ _ => False) := by
  refine fp_MH.intro (by decide +kernel) (Nat.le_of_ble_eq_true rfl) ?_
  intro pg en s mi ag bl mt cd rR qQ ls X hx hb hr hlk hnm hR hQ hT hB hM hl
  have hS : va_S (fA (fun q => (g_s G).heap.size ≤ q ∧ (¬ M q ∨ q = out)) s.heap.size) s.heap s.heap [] := va_S.rf
  generalize ([] : List Loc) = locs at hS ⊢
  obtain ⟨hP, ho⟩ := hM
  obtain ⟨fs9, hob1⟩ := hP.ob
  refine lv_aload_n hx hb dX0_heaviestFoam_0 rfl (lv_at hl 3 rfl) ?_
  refine lv_iconst (v := (iI ((0 : Nat) : Int))) hx hb dX0_heaviestFoam_1 rfl ?_
  refine lv_aload_n hx hb dX0_heaviestFoam_2 rfl (lv_at hl 0 rfl) ?_
  refine lv_iload_n hx hb dX0_heaviestFoam_3 rfl (lv_at hl 1 rfl) ?_
  refine lv_iload_n hx hb dX0_heaviestFoam_4 rfl (lv_at hl 2 rfl) ?_
  refine x_callV (cells1 := 1370) (slots1 := 27021) X hR (w_heaviestFoam G x M T i a0 a1 hI g0 g1) q1421 q1422 q1423 q88 q1424 ⟨rfl, pd_X1_heaviestFoam⟩ ⟨Nat.le_of_ble_eq_true rfl, Nat.le_of_ble_eq_true rfl⟩ (Nat.zero_add _) (Nat.zero_add _) (Nat.le_refl _) (Nat.le_refl _) hob1 rfl rfl (Nat.le_of_ble_eq_true rfl) hl.1 dX0_heaviestFoam_5 hB hP hS (fun q h => Or.inl ⟨h.1, Or.inl h.2⟩) (fun v H1 locs hp hz hk hS => ?_) (fun Ex qx cx H1 locs hp hz hk hS hcx hvx hlx => ?_)
  · obtain ⟨rfl, hc0, hP1⟩ := hp
    have ho1 := ho.kept (hk out ho.lt (fun h => h.2 hMo))
    refine r_stk (st2 := [.int (iI ((fp_hv (T.1) a0 a1 : Nat) : Int)), .int (iI ((0 : Nat) : Int)), .ref out]) rfl ?_
    refine lv_i2l (v := (iI ((fp_hv (T.1) a0 a1 : Nat) : Int)).toInt64) hx hb dX0_heaviestFoam_8 rfl ?_
    refine r_lastI X ho1 hS (Or.inl ⟨hob, Or.inr rfl⟩) (j := 0) rfl (by decide) (by decide) dX0_heaviestFoam_9 (fun H2 locs ho2 hz2 hq2 hS => ?_)
    refine lv_goto (tgt := 21) hx hb dX0_heaviestFoam_10 (by decide) ?_
    refine lv_iconst (v := (iI ((0 : Nat) : Int))) hx hb dX0_heaviestFoam_21 rfl ?_
    refine x_iret hx hb hr hlk hQ hS (Nat.le_refl _) (Nat.le_refl _) dX0_heaviestFoam_22 ?_
    exact ⟨_, by rw [hc0], fun _ => fp_updL_0.trans rfl, hP1.st X.2.2.2.2.2 ho1 hMo hob hz2 hq2, ho2⟩
  · have ho1 := ho.kept (hk out ho.lt (fun h => h.2 hMo))
    rcases hp with ⟨rfl, hc1, hP1⟩ | ⟨rfl, hc1, hP1⟩
    · skip
      refine r_catch (E := "java/lang/IllegalArgumentException") (name := "java/lang/IllegalArgumentException") X hT ([] : List ExceptionTableEntry) ⟨0, 10, 13, 13⟩ ([⟨0, 10, 17, 27⟩] : List ExceptionTableEntry) rfl fp_ps_nil rfl (by decide) q1112 q764 hcx hvx hlx ?_
      refine lv_astore (lv' := [(4, .ref (qx)), (0, .ref (x)), (1, .int (iI (a0))), (2, .int (iI (a1))), (3, .ref (out))]) hx hb dX0_heaviestFoam_13 hl (by decide) rfl (fun ls hl => ?_)
      refine lv_iconst (v := (iI ((1 : Nat) : Int))) hx hb dX0_heaviestFoam_15 rfl ?_
      refine x_iret hx hb hr hlk hQ hS (Nat.le_refl _) (Nat.le_refl _) dX0_heaviestFoam_16 ?_
      exact ⟨g, by rw [hc1], fun z => by rw [hc1] at z; cases z, hP1, ho1⟩
    · skip
      refine r_catch (E := "java/util/NoSuchElementException") (name := "java/util/NoSuchElementException") X hT ([⟨0, 10, 13, 13⟩] : List ExceptionTableEntry) ⟨0, 10, 17, 27⟩ ([] : List ExceptionTableEntry) rfl (fp_ps_cons (Or.inr ⟨by decide, "java/lang/IllegalArgumentException", q1112, X.2.2.2.2.2.nc fp_nc30⟩) fp_ps_nil) rfl (by decide) q1315 q323 hcx hvx hlx ?_
      refine lv_astore (lv' := [(4, .ref (qx)), (0, .ref (x)), (1, .int (iI (a0))), (2, .int (iI (a1))), (3, .ref (out))]) hx hb dX0_heaviestFoam_17 hl (by decide) rfl (fun ls hl => ?_)
      refine lv_iconst (v := (iI ((2 : Nat) : Int))) hx hb dX0_heaviestFoam_19 rfl ?_
      refine x_iret hx hb hr hlk hQ hS (Nat.le_refl _) (Nat.le_refl _) dX0_heaviestFoam_20 ?_
      exact ⟨g, by rw [hc1], fun z => by rw [hc1] at z; cases z, hP1, ho1⟩
set_option maxHeartbeats 1000000 in
theorem x0_blockAt (G : fp_G) (x : Nat) (M : Nat → Prop) (T : TH) (i out : Nat) (g : Nat → Int64) (a0 : Int) (hI : fp_TI i T) (g0 : rg a0) (hMo : M out) (hob : (g_s G).heap.size ≤ out) : fp_MH G yX0_blockAt cX0_blockAt 4 (some .int) [(0, 9, 12, 33)] 9 162 1 6 [.ref (x), .int (iI (a0)), .ref (out)] (fun H => fp_PW G x M T H ∧ fp_At G H out (eJ G 1 g)) (fun q => (g_s G).heap.size ≤ q ∧ (¬ M q ∨ q = out)) (fun H v H1 => ∃ g2 : Nat → Int64, v = some (.int (iI ((fp_atc (T.1) a0 : Nat) : Int))) ∧ (fp_atc (T.1) a0 = 0 → g2 0 = (iI ((sB (T.1) a0.toNat 0 : Nat) : Int)).toInt64) ∧ fp_PW G x M T H1 ∧ fp_At G H1 out (eJ G 1 g2)) (fun _ _ _ => False) := by
  refine fp_MH.intro (by decide +kernel) (Nat.le_of_ble_eq_true rfl) ?_
  intro pg en s mi ag bl mt cd rR qQ ls X hx hb hr hlk hnm hR hQ hT hB hM hl
  have hS : va_S (fA (fun q => (g_s G).heap.size ≤ q ∧ (¬ M q ∨ q = out)) s.heap.size) s.heap s.heap [] := va_S.rf
  generalize ([] : List Loc) = locs at hS ⊢
  obtain ⟨hP, ho⟩ := hM
  obtain ⟨fs9, hob1⟩ := hP.ob
  refine lv_aload_n hx hb dX0_blockAt_0 rfl (lv_at hl 2 rfl) ?_
  refine lv_iconst (v := (iI ((0 : Nat) : Int))) hx hb dX0_blockAt_1 rfl ?_
  refine lv_aload_n hx hb dX0_blockAt_2 rfl (lv_at hl 0 rfl) ?_
  refine lv_iload_n hx hb dX0_blockAt_3 rfl (lv_at hl 1 rfl) ?_
  refine x_callV (cells1 := 1) (slots1 := 6) X hR (w_blockAt G x M T i a0 hI g0) q1428 q1429 q1430 q88 q1431 ⟨rfl, pd_X1_blockAt⟩ ⟨Nat.le_of_ble_eq_true rfl, Nat.le_of_ble_eq_true rfl⟩ (Nat.zero_add _) (Nat.zero_add _) (Nat.le_refl _) (Nat.le_refl _) hob1 rfl rfl (Nat.le_of_ble_eq_true rfl) hl.1 dX0_blockAt_4 hB hP hS (fun q h => Or.inl ⟨h.1, Or.inl h.2⟩) (fun v H1 locs hp hz hk hS => ?_) (fun Ex qx cx H1 locs hp hz hk hS hcx hvx hlx => ?_)
  · obtain ⟨rfl, hc0, hP1⟩ := hp
    have ho1 := ho.kept (hk out ho.lt (fun h => h.2 hMo))
    refine r_stk (st2 := [.int (iI ((sB (T.1) a0.toNat 0 : Nat) : Int)), .int (iI ((0 : Nat) : Int)), .ref out]) rfl ?_
    refine lv_i2l (v := (iI ((sB (T.1) a0.toNat 0 : Nat) : Int)).toInt64) hx hb dX0_blockAt_7 rfl ?_
    refine r_lastI X ho1 hS (Or.inl ⟨hob, Or.inr rfl⟩) (j := 0) rfl (by decide) (by decide) dX0_blockAt_8 (fun H2 locs ho2 hz2 hq2 hS => ?_)
    refine lv_goto (tgt := 15) hx hb dX0_blockAt_9 (by decide) ?_
    refine lv_iconst (v := (iI ((0 : Nat) : Int))) hx hb dX0_blockAt_15 rfl ?_
    refine x_iret hx hb hr hlk hQ hS (Nat.le_refl _) (Nat.le_refl _) dX0_blockAt_16 ?_
    exact ⟨_, by rw [hc0], fun _ => fp_updL_0.trans rfl, hP1.st X.2.2.2.2.2 ho1 hMo hob hz2 hq2, ho2⟩
  · have ho1 := ho.kept (hk out ho.lt (fun h => h.2 hMo))
    obtain ⟨rfl, hc1, hP1⟩ := hp
    refine r_catch (E := "java/lang/IndexOutOfBoundsException") (name := "java/lang/IndexOutOfBoundsException") X hT ([] : List ExceptionTableEntry) ⟨0, 9, 12, 33⟩ ([] : List ExceptionTableEntry) rfl fp_ps_nil rfl (by decide) q1340 q568 hcx hvx hlx ?_
    refine lv_astore_n (lv' := [(3, .ref (qx)), (0, .ref (x)), (1, .int (iI (a0))), (2, .ref (out))]) hx hb dX0_blockAt_12 rfl hl (by decide) rfl (fun ls hl => ?_)
    refine lv_iconst (v := (iI ((1 : Nat) : Int))) hx hb dX0_blockAt_13 rfl ?_
    refine x_iret hx hb hr hlk hQ hS (Nat.le_refl _) (Nat.le_refl _) dX0_blockAt_14 ?_
    exact ⟨g, by rw [hc1], fun z => by rw [hc1] at z; cases z, hP1, ho1⟩
set_option maxHeartbeats 1000000 in
theorem x0_isFoam (G : fp_G) (x : Nat) (M : Nat → Prop) (T : TH) (i out : Nat) (g : Nat → Int64) (a0 : Int) (hI : fp_TI i T) (g0 : rg a0) (hMo : M out) (hob : (g_s G).heap.size ≤ out) : fp_MH G yX0_isFoam cX0_isFoam 4 (some .int) [(0, 16, 19, 27)] 10 184 2 10 [.ref (x), .int (iI (a0)), .ref (out)] (fun H => fp_PW G x M T H ∧ fp_At G H out (eJ G 1 g)) (fun q => (g_s G).heap.size ≤ q ∧ (¬ M q ∨ q = out)) (fun H v H1 => ∃ g2 : Nat → Int64, v = some (.int (iI ((fp_fc (T.1) a0 : Nat) : Int))) ∧ (fp_fc (T.1) a0 = 0 → g2 0 = (iI (bI (decide (sB (T.1) (fp_fnd (T.1) a0) 1 = 0)))).toInt64) ∧ fp_PW G x M T H1 ∧ fp_At G H1 out (eJ G 1 g2)) (fun _ _ _ => False) := by
  refine fp_MH.intro (by decide +kernel) (Nat.le_of_ble_eq_true rfl) ?_
  intro pg en s mi ag bl mt cd rR qQ ls X hx hb hr hlk hnm hR hQ hT hB hM hl
  have hS : va_S (fA (fun q => (g_s G).heap.size ≤ q ∧ (¬ M q ∨ q = out)) s.heap.size) s.heap s.heap [] := va_S.rf
  generalize ([] : List Loc) = locs at hS ⊢
  obtain ⟨hP, ho⟩ := hM
  obtain ⟨fs9, hob1⟩ := hP.ob
  refine lv_aload_n hx hb dX0_isFoam_0 rfl (lv_at hl 2 rfl) ?_
  refine lv_iconst (v := (iI ((0 : Nat) : Int))) hx hb dX0_isFoam_1 rfl ?_
  refine lv_aload_n hx hb dX0_isFoam_2 rfl (lv_at hl 0 rfl) ?_
  refine lv_iload_n hx hb dX0_isFoam_3 rfl (lv_at hl 1 rfl) ?_
  refine x_callV (cells1 := 2) (slots1 := 10) X hR (w_isFoam G x M T i a0 hI g0) q1437 q1438 q1439 q88 q1440 ⟨rfl, pd_X1_isFoam⟩ ⟨Nat.le_of_ble_eq_true rfl, Nat.le_of_ble_eq_true rfl⟩ (Nat.zero_add _) (Nat.zero_add _) (Nat.le_refl _) (Nat.le_refl _) hob1 rfl rfl (Nat.le_of_ble_eq_true rfl) hl.1 dX0_isFoam_4 hB hP hS (fun q h => Or.inl ⟨h.1, Or.inl h.2⟩) (fun v H1 locs hp hz hk hS => ?_) (fun Ex qx cx H1 locs hp hz hk hS hcx hvx hlx => ?_)
  · obtain ⟨rfl, hc0, hP1⟩ := hp
    have ho1 := ho.kept (hk out ho.lt (fun h => h.2 hMo))
    refine r_stk (st2 := [.int (iI (bI (decide (sB (T.1) (fp_fnd (T.1) a0) 1 = 0)))), .int (iI ((0 : Nat) : Int)), .ref out]) rfl ?_
    refine r_ifeqB (tgt := 14) hx hb dX0_isFoam_7 (by decide) (fun cb => ?_) (fun cb => ?_)
    · refine lv_lconst (v := 0) hx hb dX0_isFoam_14 rfl ?_
      refine r_lastI X ho1 hS (Or.inl ⟨hob, Or.inr rfl⟩) (j := 0) rfl (by decide) (by decide) dX0_isFoam_15 (fun H2 locs ho2 hz2 hq2 hS => ?_)
      refine lv_goto (tgt := 22) hx hb dX0_isFoam_16 (by decide) ?_
      refine lv_iconst (v := (iI ((0 : Nat) : Int))) hx hb dX0_isFoam_22 rfl ?_
      refine x_iret hx hb hr hlk hQ hS (Nat.le_refl _) (Nat.le_refl _) dX0_isFoam_23 ?_
      exact ⟨_, by rw [hc0], fun _ => fp_updL_0.trans (by rw [cb]; rfl), hP1.st X.2.2.2.2.2 ho1 hMo hob hz2 hq2, ho2⟩
    · refine lv_lconst (v := 1) hx hb dX0_isFoam_10 rfl ?_
      refine lv_goto (tgt := 15) hx hb dX0_isFoam_11 (by decide) ?_
      refine r_lastI X ho1 hS (Or.inl ⟨hob, Or.inr rfl⟩) (j := 0) rfl (by decide) (by decide) dX0_isFoam_15 (fun H2 locs ho2 hz2 hq2 hS => ?_)
      refine lv_goto (tgt := 22) hx hb dX0_isFoam_16 (by decide) ?_
      refine lv_iconst (v := (iI ((0 : Nat) : Int))) hx hb dX0_isFoam_22 rfl ?_
      refine x_iret hx hb hr hlk hQ hS (Nat.le_refl _) (Nat.le_refl _) dX0_isFoam_23 ?_
      exact ⟨_, by rw [hc0], fun _ => fp_updL_0.trans (by rw [cb]; rfl), hP1.st X.2.2.2.2.2 ho1 hMo hob hz2 hq2, ho2⟩
  · have ho1 := ho.kept (hk out ho.lt (fun h => h.2 hMo))
    obtain ⟨rfl, hc1, hP1⟩ := hp
    refine r_catch (E := "java/util/NoSuchElementException") (name := "java/util/NoSuchElementException") X hT ([] : List ExceptionTableEntry) ⟨0, 16, 19, 27⟩ ([] : List ExceptionTableEntry) rfl fp_ps_nil rfl (by decide) q1315 q323 hcx hvx hlx ?_
    refine lv_astore_n (lv' := [(3, .ref (qx)), (0, .ref (x)), (1, .int (iI (a0))), (2, .ref (out))]) hx hb dX0_isFoam_19 rfl hl (by decide) rfl (fun ls hl => ?_)
    refine lv_iconst (v := (iI ((1 : Nat) : Int))) hx hb dX0_isFoam_20 rfl ?_
    refine x_iret hx hb hr hlk hQ hS (Nat.le_refl _) (Nat.le_refl _) dX0_isFoam_21 ?_
    exact ⟨g, by rw [hc1], fun z => by rw [hc1] at z; cases z, hP1, ho1⟩
set_option maxHeartbeats 1000000 in
theorem x0_isBoard (G : fp_G) (x : Nat) (M : Nat → Prop) (T : TH) (i out : Nat) (g : Nat → Int64) (a0 : Int) (hI : fp_TI i T) (g0 : rg a0) (hMo : M out) (hob : (g_s G).heap.size ≤ out) : fp_MH G yX0_isBoard cX0_isBoard 4 (some .int) [(0, 16, 19, 27)] 10 184 2 10 [.ref (x), .int (iI (a0)), .ref (out)] (fun H => fp_PW G x M T H ∧ fp_At G H out (eJ G 1 g)) (fun q => (g_s G).heap.size ≤ q ∧ (¬ M q ∨ q = out)) (fun H v H1 => ∃ g2 : Nat → Int64, v = some (.int (iI ((fp_fc (T.1) a0 : Nat) : Int))) ∧ (fp_fc (T.1) a0 = 0 → g2 0 = (iI (bI (decide (sB (T.1) (fp_fnd (T.1) a0) 1 = 1)))).toInt64) ∧ fp_PW G x M T H1 ∧ fp_At G H1 out (eJ G 1 g2)) (fun _ _ _ => False) := by
  refine fp_MH.intro (by decide +kernel) (Nat.le_of_ble_eq_true rfl) ?_
  intro pg en s mi ag bl mt cd rR qQ ls X hx hb hr hlk hnm hR hQ hT hB hM hl
  have hS : va_S (fA (fun q => (g_s G).heap.size ≤ q ∧ (¬ M q ∨ q = out)) s.heap.size) s.heap s.heap [] := va_S.rf
  generalize ([] : List Loc) = locs at hS ⊢
  obtain ⟨hP, ho⟩ := hM
  obtain ⟨fs9, hob1⟩ := hP.ob
  refine lv_aload_n hx hb dX0_isBoard_0 rfl (lv_at hl 2 rfl) ?_
  refine lv_iconst (v := (iI ((0 : Nat) : Int))) hx hb dX0_isBoard_1 rfl ?_
  refine lv_aload_n hx hb dX0_isBoard_2 rfl (lv_at hl 0 rfl) ?_
  refine lv_iload_n hx hb dX0_isBoard_3 rfl (lv_at hl 1 rfl) ?_
  refine x_callV (cells1 := 2) (slots1 := 10) X hR (w_isBoard G x M T i a0 hI g0) q1444 q1445 q1446 q88 q1447 ⟨rfl, pd_X1_isBoard⟩ ⟨Nat.le_of_ble_eq_true rfl, Nat.le_of_ble_eq_true rfl⟩ (Nat.zero_add _) (Nat.zero_add _) (Nat.le_refl _) (Nat.le_refl _) hob1 rfl rfl (Nat.le_of_ble_eq_true rfl) hl.1 dX0_isBoard_4 hB hP hS (fun q h => Or.inl ⟨h.1, Or.inl h.2⟩) (fun v H1 locs hp hz hk hS => ?_) (fun Ex qx cx H1 locs hp hz hk hS hcx hvx hlx => ?_)
  · obtain ⟨rfl, hc0, hP1⟩ := hp
    have ho1 := ho.kept (hk out ho.lt (fun h => h.2 hMo))
    refine r_stk (st2 := [.int (iI (bI (decide (sB (T.1) (fp_fnd (T.1) a0) 1 = 1)))), .int (iI ((0 : Nat) : Int)), .ref out]) rfl ?_
    refine r_ifeqB (tgt := 14) hx hb dX0_isBoard_7 (by decide) (fun cb => ?_) (fun cb => ?_)
    · refine lv_lconst (v := 0) hx hb dX0_isBoard_14 rfl ?_
      refine r_lastI X ho1 hS (Or.inl ⟨hob, Or.inr rfl⟩) (j := 0) rfl (by decide) (by decide) dX0_isBoard_15 (fun H2 locs ho2 hz2 hq2 hS => ?_)
      refine lv_goto (tgt := 22) hx hb dX0_isBoard_16 (by decide) ?_
      refine lv_iconst (v := (iI ((0 : Nat) : Int))) hx hb dX0_isBoard_22 rfl ?_
      refine x_iret hx hb hr hlk hQ hS (Nat.le_refl _) (Nat.le_refl _) dX0_isBoard_23 ?_
      exact ⟨_, by rw [hc0], fun _ => fp_updL_0.trans (by rw [cb]; rfl), hP1.st X.2.2.2.2.2 ho1 hMo hob hz2 hq2, ho2⟩
    · refine lv_lconst (v := 1) hx hb dX0_isBoard_10 rfl ?_
      refine lv_goto (tgt := 15) hx hb dX0_isBoard_11 (by decide) ?_
      refine r_lastI X ho1 hS (Or.inl ⟨hob, Or.inr rfl⟩) (j := 0) rfl (by decide) (by decide) dX0_isBoard_15 (fun H2 locs ho2 hz2 hq2 hS => ?_)
      refine lv_goto (tgt := 22) hx hb dX0_isBoard_16 (by decide) ?_
      refine lv_iconst (v := (iI ((0 : Nat) : Int))) hx hb dX0_isBoard_22 rfl ?_
      refine x_iret hx hb hr hlk hQ hS (Nat.le_refl _) (Nat.le_refl _) dX0_isBoard_23 ?_
      exact ⟨_, by rw [hc0], fun _ => fp_updL_0.trans (by rw [cb]; rfl), hP1.st X.2.2.2.2.2 ho1 hMo hob hz2 hq2, ho2⟩
  · have ho1 := ho.kept (hk out ho.lt (fun h => h.2 hMo))
    obtain ⟨rfl, hc1, hP1⟩ := hp
    refine r_catch (E := "java/util/NoSuchElementException") (name := "java/util/NoSuchElementException") X hT ([] : List ExceptionTableEntry) ⟨0, 16, 19, 27⟩ ([] : List ExceptionTableEntry) rfl fp_ps_nil rfl (by decide) q1315 q323 hcx hvx hlx ?_
    refine lv_astore_n (lv' := [(3, .ref (qx)), (0, .ref (x)), (1, .int (iI (a0))), (2, .ref (out))]) hx hb dX0_isBoard_19 rfl hl (by decide) rfl (fun ls hl => ?_)
    refine lv_iconst (v := (iI ((1 : Nat) : Int))) hx hb dX0_isBoard_20 rfl ?_
    refine x_iret hx hb hr hlk hQ hS (Nat.le_refl _) (Nat.le_refl _) dX0_isBoard_21 ?_
    exact ⟨g, by rw [hc1], fun z => by rw [hc1] at z; cases z, hP1, ho1⟩
set_option maxHeartbeats 1000000 in
theorem x0_left (G : fp_G) (x : Nat) (M : Nat → Prop) (T : TH) (i out : Nat) (g : Nat → Int64) (a0 : Int) (hI : fp_TI i T) (g0 : rg a0) (hMo : M out) (hob : (g_s G).heap.size ≤ out) : fp_MH G yX0_left cX0_left 4 (some .int) [(0, 9, 12, 27)] 10 184 2 10 [.ref (x), .int (iI (a0)), .ref (out)] (fun H => fp_PW G x M T H ∧ fp_At G H out (eJ G 1 g)) (fun q => (g_s G).heap.size ≤ q ∧ (¬ M q ∨ q = out)) (fun H v H1 => ∃ g2 : Nat → Int64, v = some (.int (iI ((fp_fc (T.1) a0 : Nat) : Int))) ∧ (fp_fc (T.1) a0 = 0 → g2 0 = (iI ((sB (T.1) (fp_fnd (T.1) a0) 2 : Nat) : Int)).toInt64) ∧ fp_PW G x M T H1 ∧ fp_At G H1 out (eJ G 1 g2)) (fun _ _ _ => False) := by
  refine fp_MH.intro (by decide +kernel) (Nat.le_of_ble_eq_true rfl) ?_
  intro pg en s mi ag bl mt cd rR qQ ls X hx hb hr hlk hnm hR hQ hT hB hM hl
  have hS : va_S (fA (fun q => (g_s G).heap.size ≤ q ∧ (¬ M q ∨ q = out)) s.heap.size) s.heap s.heap [] := va_S.rf
  generalize ([] : List Loc) = locs at hS ⊢
  obtain ⟨hP, ho⟩ := hM
  obtain ⟨fs9, hob1⟩ := hP.ob
  refine lv_aload_n hx hb dX0_left_0 rfl (lv_at hl 2 rfl) ?_
  refine lv_iconst (v := (iI ((0 : Nat) : Int))) hx hb dX0_left_1 rfl ?_
  refine lv_aload_n hx hb dX0_left_2 rfl (lv_at hl 0 rfl) ?_
  refine lv_iload_n hx hb dX0_left_3 rfl (lv_at hl 1 rfl) ?_
  refine x_callV (cells1 := 2) (slots1 := 10) X hR (w_left G x M T i a0 hI g0) q1451 q1452 q1453 q88 q1454 ⟨rfl, pd_X1_left⟩ ⟨Nat.le_of_ble_eq_true rfl, Nat.le_of_ble_eq_true rfl⟩ (Nat.zero_add _) (Nat.zero_add _) (Nat.le_refl _) (Nat.le_refl _) hob1 rfl rfl (Nat.le_of_ble_eq_true rfl) hl.1 dX0_left_4 hB hP hS (fun q h => Or.inl ⟨h.1, Or.inl h.2⟩) (fun v H1 locs hp hz hk hS => ?_) (fun Ex qx cx H1 locs hp hz hk hS hcx hvx hlx => ?_)
  · obtain ⟨rfl, hc0, hP1⟩ := hp
    have ho1 := ho.kept (hk out ho.lt (fun h => h.2 hMo))
    refine r_stk (st2 := [.int (iI ((sB (T.1) (fp_fnd (T.1) a0) 2 : Nat) : Int)), .int (iI ((0 : Nat) : Int)), .ref out]) rfl ?_
    refine lv_i2l (v := (iI ((sB (T.1) (fp_fnd (T.1) a0) 2 : Nat) : Int)).toInt64) hx hb dX0_left_7 rfl ?_
    refine r_lastI X ho1 hS (Or.inl ⟨hob, Or.inr rfl⟩) (j := 0) rfl (by decide) (by decide) dX0_left_8 (fun H2 locs ho2 hz2 hq2 hS => ?_)
    refine lv_goto (tgt := 15) hx hb dX0_left_9 (by decide) ?_
    refine lv_iconst (v := (iI ((0 : Nat) : Int))) hx hb dX0_left_15 rfl ?_
    refine x_iret hx hb hr hlk hQ hS (Nat.le_refl _) (Nat.le_refl _) dX0_left_16 ?_
    exact ⟨_, by rw [hc0], fun _ => fp_updL_0.trans rfl, hP1.st X.2.2.2.2.2 ho1 hMo hob hz2 hq2, ho2⟩
  · have ho1 := ho.kept (hk out ho.lt (fun h => h.2 hMo))
    obtain ⟨rfl, hc1, hP1⟩ := hp
    refine r_catch (E := "java/util/NoSuchElementException") (name := "java/util/NoSuchElementException") X hT ([] : List ExceptionTableEntry) ⟨0, 9, 12, 27⟩ ([] : List ExceptionTableEntry) rfl fp_ps_nil rfl (by decide) q1315 q323 hcx hvx hlx ?_
    refine lv_astore_n (lv' := [(3, .ref (qx)), (0, .ref (x)), (1, .int (iI (a0))), (2, .ref (out))]) hx hb dX0_left_12 rfl hl (by decide) rfl (fun ls hl => ?_)
    refine lv_iconst (v := (iI ((1 : Nat) : Int))) hx hb dX0_left_13 rfl ?_
    refine x_iret hx hb hr hlk hQ hS (Nat.le_refl _) (Nat.le_refl _) dX0_left_14 ?_
    exact ⟨g, by rw [hc1], fun z => by rw [hc1] at z; cases z, hP1, ho1⟩
set_option maxHeartbeats 1000000 in
theorem x0_width (G : fp_G) (x : Nat) (M : Nat → Prop) (T : TH) (i out : Nat) (g : Nat → Int64) (a0 : Int) (hI : fp_TI i T) (g0 : rg a0) (hMo : M out) (hob : (g_s G).heap.size ≤ out) : fp_MH G yX0_width cX0_width 4 (some .int) [(0, 9, 12, 27)] 10 184 2 10 [.ref (x), .int (iI (a0)), .ref (out)] (fun H => fp_PW G x M T H ∧ fp_At G H out (eJ G 1 g)) (fun q => (g_s G).heap.size ≤ q ∧ (¬ M q ∨ q = out)) (fun H v H1 => ∃ g2 : Nat → Int64, v = some (.int (iI ((fp_fc (T.1) a0 : Nat) : Int))) ∧ (fp_fc (T.1) a0 = 0 → g2 0 = (iI ((sB (T.1) (fp_fnd (T.1) a0) 3 : Nat) : Int)).toInt64) ∧ fp_PW G x M T H1 ∧ fp_At G H1 out (eJ G 1 g2)) (fun _ _ _ => False) := by
  refine fp_MH.intro (by decide +kernel) (Nat.le_of_ble_eq_true rfl) ?_
  intro pg en s mi ag bl mt cd rR qQ ls X hx hb hr hlk hnm hR hQ hT hB hM hl
  have hS : va_S (fA (fun q => (g_s G).heap.size ≤ q ∧ (¬ M q ∨ q = out)) s.heap.size) s.heap s.heap [] := va_S.rf
  generalize ([] : List Loc) = locs at hS ⊢
  obtain ⟨hP, ho⟩ := hM
  obtain ⟨fs9, hob1⟩ := hP.ob
  refine lv_aload_n hx hb dX0_width_0 rfl (lv_at hl 2 rfl) ?_
  refine lv_iconst (v := (iI ((0 : Nat) : Int))) hx hb dX0_width_1 rfl ?_
  refine lv_aload_n hx hb dX0_width_2 rfl (lv_at hl 0 rfl) ?_
  refine lv_iload_n hx hb dX0_width_3 rfl (lv_at hl 1 rfl) ?_
  refine x_callV (cells1 := 2) (slots1 := 10) X hR (w_width G x M T i a0 hI g0) q1458 q1459 q1460 q88 q1461 ⟨rfl, pd_X1_width⟩ ⟨Nat.le_of_ble_eq_true rfl, Nat.le_of_ble_eq_true rfl⟩ (Nat.zero_add _) (Nat.zero_add _) (Nat.le_refl _) (Nat.le_refl _) hob1 rfl rfl (Nat.le_of_ble_eq_true rfl) hl.1 dX0_width_4 hB hP hS (fun q h => Or.inl ⟨h.1, Or.inl h.2⟩) (fun v H1 locs hp hz hk hS => ?_) (fun Ex qx cx H1 locs hp hz hk hS hcx hvx hlx => ?_)
  · obtain ⟨rfl, hc0, hP1⟩ := hp
    have ho1 := ho.kept (hk out ho.lt (fun h => h.2 hMo))
    refine r_stk (st2 := [.int (iI ((sB (T.1) (fp_fnd (T.1) a0) 3 : Nat) : Int)), .int (iI ((0 : Nat) : Int)), .ref out]) rfl ?_
    refine lv_i2l (v := (iI ((sB (T.1) (fp_fnd (T.1) a0) 3 : Nat) : Int)).toInt64) hx hb dX0_width_7 rfl ?_
    refine r_lastI X ho1 hS (Or.inl ⟨hob, Or.inr rfl⟩) (j := 0) rfl (by decide) (by decide) dX0_width_8 (fun H2 locs ho2 hz2 hq2 hS => ?_)
    refine lv_goto (tgt := 15) hx hb dX0_width_9 (by decide) ?_
    refine lv_iconst (v := (iI ((0 : Nat) : Int))) hx hb dX0_width_15 rfl ?_
    refine x_iret hx hb hr hlk hQ hS (Nat.le_refl _) (Nat.le_refl _) dX0_width_16 ?_
    exact ⟨_, by rw [hc0], fun _ => fp_updL_0.trans rfl, hP1.st X.2.2.2.2.2 ho1 hMo hob hz2 hq2, ho2⟩
  · have ho1 := ho.kept (hk out ho.lt (fun h => h.2 hMo))
    obtain ⟨rfl, hc1, hP1⟩ := hp
    refine r_catch (E := "java/util/NoSuchElementException") (name := "java/util/NoSuchElementException") X hT ([] : List ExceptionTableEntry) ⟨0, 9, 12, 27⟩ ([] : List ExceptionTableEntry) rfl fp_ps_nil rfl (by decide) q1315 q323 hcx hvx hlx ?_
    refine lv_astore_n (lv' := [(3, .ref (qx)), (0, .ref (x)), (1, .int (iI (a0))), (2, .ref (out))]) hx hb dX0_width_12 rfl hl (by decide) rfl (fun ls hl => ?_)
    refine lv_iconst (v := (iI ((1 : Nat) : Int))) hx hb dX0_width_13 rfl ?_
    refine x_iret hx hb hr hlk hQ hS (Nat.le_refl _) (Nat.le_refl _) dX0_width_14 ?_
    exact ⟨g, by rw [hc1], fun z => by rw [hc1] at z; cases z, hP1, ho1⟩
set_option maxHeartbeats 1000000 in
theorem x0_weight (G : fp_G) (x : Nat) (M : Nat → Prop) (T : TH) (i out : Nat) (g : Nat → Int64) (a0 : Int) (hI : fp_TI i T) (g0 : rg a0) (hMo : M out) (hob : (g_s G).heap.size ≤ out) : fp_MH G yX0_weight cX0_weight 4 (some .int) [(0, 9, 12, 27)] 10 184 2 10 [.ref (x), .int (iI (a0)), .ref (out)] (fun H => fp_PW G x M T H ∧ fp_At G H out (eJ G 1 g)) (fun q => (g_s G).heap.size ≤ q ∧ (¬ M q ∨ q = out)) (fun H v H1 => ∃ g2 : Nat → Int64, v = some (.int (iI ((fp_fc (T.1) a0 : Nat) : Int))) ∧ (fp_fc (T.1) a0 = 0 → g2 0 = (iI ((sB (T.1) (fp_fnd (T.1) a0) 4 : Nat) : Int)).toInt64) ∧ fp_PW G x M T H1 ∧ fp_At G H1 out (eJ G 1 g2)) (fun _ _ _ => False) := by
  refine fp_MH.intro (by decide +kernel) (Nat.le_of_ble_eq_true rfl) ?_
  intro pg en s mi ag bl mt cd rR qQ ls X hx hb hr hlk hnm hR hQ hT hB hM hl
  have hS : va_S (fA (fun q => (g_s G).heap.size ≤ q ∧ (¬ M q ∨ q = out)) s.heap.size) s.heap s.heap [] := va_S.rf
  generalize ([] : List Loc) = locs at hS ⊢
  obtain ⟨hP, ho⟩ := hM
  obtain ⟨fs9, hob1⟩ := hP.ob
  refine lv_aload_n hx hb dX0_weight_0 rfl (lv_at hl 2 rfl) ?_
  refine lv_iconst (v := (iI ((0 : Nat) : Int))) hx hb dX0_weight_1 rfl ?_
  refine lv_aload_n hx hb dX0_weight_2 rfl (lv_at hl 0 rfl) ?_
  refine lv_iload_n hx hb dX0_weight_3 rfl (lv_at hl 1 rfl) ?_
  refine x_callV (cells1 := 2) (slots1 := 10) X hR (w_weight G x M T i a0 hI g0) q1465 q1466 q1467 q88 q1468 ⟨rfl, pd_X1_weight⟩ ⟨Nat.le_of_ble_eq_true rfl, Nat.le_of_ble_eq_true rfl⟩ (Nat.zero_add _) (Nat.zero_add _) (Nat.le_refl _) (Nat.le_refl _) hob1 rfl rfl (Nat.le_of_ble_eq_true rfl) hl.1 dX0_weight_4 hB hP hS (fun q h => Or.inl ⟨h.1, Or.inl h.2⟩) (fun v H1 locs hp hz hk hS => ?_) (fun Ex qx cx H1 locs hp hz hk hS hcx hvx hlx => ?_)
  · obtain ⟨rfl, hc0, hP1⟩ := hp
    have ho1 := ho.kept (hk out ho.lt (fun h => h.2 hMo))
    refine r_stk (st2 := [.int (iI ((sB (T.1) (fp_fnd (T.1) a0) 4 : Nat) : Int)), .int (iI ((0 : Nat) : Int)), .ref out]) rfl ?_
    refine lv_i2l (v := (iI ((sB (T.1) (fp_fnd (T.1) a0) 4 : Nat) : Int)).toInt64) hx hb dX0_weight_7 rfl ?_
    refine r_lastI X ho1 hS (Or.inl ⟨hob, Or.inr rfl⟩) (j := 0) rfl (by decide) (by decide) dX0_weight_8 (fun H2 locs ho2 hz2 hq2 hS => ?_)
    refine lv_goto (tgt := 15) hx hb dX0_weight_9 (by decide) ?_
    refine lv_iconst (v := (iI ((0 : Nat) : Int))) hx hb dX0_weight_15 rfl ?_
    refine x_iret hx hb hr hlk hQ hS (Nat.le_refl _) (Nat.le_refl _) dX0_weight_16 ?_
    exact ⟨_, by rw [hc0], fun _ => fp_updL_0.trans rfl, hP1.st X.2.2.2.2.2 ho1 hMo hob hz2 hq2, ho2⟩
  · have ho1 := ho.kept (hk out ho.lt (fun h => h.2 hMo))
    obtain ⟨rfl, hc1, hP1⟩ := hp
    refine r_catch (E := "java/util/NoSuchElementException") (name := "java/util/NoSuchElementException") X hT ([] : List ExceptionTableEntry) ⟨0, 9, 12, 27⟩ ([] : List ExceptionTableEntry) rfl fp_ps_nil rfl (by decide) q1315 q323 hcx hvx hlx ?_
    refine lv_astore_n (lv' := [(3, .ref (qx)), (0, .ref (x)), (1, .int (iI (a0))), (2, .ref (out))]) hx hb dX0_weight_12 rfl hl (by decide) rfl (fun ls hl => ?_)
    refine lv_iconst (v := (iI ((1 : Nat) : Int))) hx hb dX0_weight_13 rfl ?_
    refine x_iret hx hb hr hlk hQ hS (Nat.le_refl _) (Nat.le_refl _) dX0_weight_14 ?_
    exact ⟨g, by rw [hc1], fun z => by rw [hc1] at z; cases z, hP1, ho1⟩
set_option maxHeartbeats 1000000 in
theorem x0_strength (G : fp_G) (x : Nat) (M : Nat → Prop) (T : TH) (i out : Nat) (g : Nat → Int64) (a0 : Int) (hI : fp_TI i T) (g0 : rg a0) (hMo : M out) (hob : (g_s G).heap.size ≤ out) : fp_MH G yX0_strength cX0_strength 4 (some .int) [(0, 9, 12, 27)] 10 184 2 10 [.ref (x), .int (iI (a0)), .ref (out)] (fun H => fp_PW G x M T H ∧ fp_At G H out (eJ G 1 g)) (fun q => (g_s G).heap.size ≤ q ∧ (¬ M q ∨ q = out)) (fun H v H1 => ∃ g2 : Nat → Int64, v = some (.int (iI ((fp_fc (T.1) a0 : Nat) : Int))) ∧ (fp_fc (T.1) a0 = 0 → g2 0 = (iI ((fp_str (sB (T.1) (fp_fnd (T.1) a0)) : Nat) : Int)).toInt64) ∧ fp_PW G x M T H1 ∧ fp_At G H1 out (eJ G 1 g2)) (fun _ _ _ => False) := by
  refine fp_MH.intro (by decide +kernel) (Nat.le_of_ble_eq_true rfl) ?_
  intro pg en s mi ag bl mt cd rR qQ ls X hx hb hr hlk hnm hR hQ hT hB hM hl
  have hS : va_S (fA (fun q => (g_s G).heap.size ≤ q ∧ (¬ M q ∨ q = out)) s.heap.size) s.heap s.heap [] := va_S.rf
  generalize ([] : List Loc) = locs at hS ⊢
  obtain ⟨hP, ho⟩ := hM
  obtain ⟨fs9, hob1⟩ := hP.ob
  refine lv_aload_n hx hb dX0_strength_0 rfl (lv_at hl 2 rfl) ?_
  refine lv_iconst (v := (iI ((0 : Nat) : Int))) hx hb dX0_strength_1 rfl ?_
  refine lv_aload_n hx hb dX0_strength_2 rfl (lv_at hl 0 rfl) ?_
  refine lv_iload_n hx hb dX0_strength_3 rfl (lv_at hl 1 rfl) ?_
  refine x_callV (cells1 := 2) (slots1 := 10) X hR (w_strength G x M T i a0 hI g0) q1472 q1473 q1474 q88 q1475 ⟨rfl, pd_X1_strength⟩ ⟨Nat.le_of_ble_eq_true rfl, Nat.le_of_ble_eq_true rfl⟩ (Nat.zero_add _) (Nat.zero_add _) (Nat.le_refl _) (Nat.le_refl _) hob1 rfl rfl (Nat.le_of_ble_eq_true rfl) hl.1 dX0_strength_4 hB hP hS (fun q h => Or.inl ⟨h.1, Or.inl h.2⟩) (fun v H1 locs hp hz hk hS => ?_) (fun Ex qx cx H1 locs hp hz hk hS hcx hvx hlx => ?_)
  · obtain ⟨rfl, hc0, hP1⟩ := hp
    have ho1 := ho.kept (hk out ho.lt (fun h => h.2 hMo))
    refine r_stk (st2 := [.int (iI ((fp_str (sB (T.1) (fp_fnd (T.1) a0)) : Nat) : Int)), .int (iI ((0 : Nat) : Int)), .ref out]) rfl ?_
    refine lv_i2l (v := (iI ((fp_str (sB (T.1) (fp_fnd (T.1) a0)) : Nat) : Int)).toInt64) hx hb dX0_strength_7 rfl ?_
    refine r_lastI X ho1 hS (Or.inl ⟨hob, Or.inr rfl⟩) (j := 0) rfl (by decide) (by decide) dX0_strength_8 (fun H2 locs ho2 hz2 hq2 hS => ?_)
    refine lv_goto (tgt := 15) hx hb dX0_strength_9 (by decide) ?_
    refine lv_iconst (v := (iI ((0 : Nat) : Int))) hx hb dX0_strength_15 rfl ?_
    refine x_iret hx hb hr hlk hQ hS (Nat.le_refl _) (Nat.le_refl _) dX0_strength_16 ?_
    exact ⟨_, by rw [hc0], fun _ => fp_updL_0.trans rfl, hP1.st X.2.2.2.2.2 ho1 hMo hob hz2 hq2, ho2⟩
  · have ho1 := ho.kept (hk out ho.lt (fun h => h.2 hMo))
    obtain ⟨rfl, hc1, hP1⟩ := hp
    refine r_catch (E := "java/util/NoSuchElementException") (name := "java/util/NoSuchElementException") X hT ([] : List ExceptionTableEntry) ⟨0, 9, 12, 27⟩ ([] : List ExceptionTableEntry) rfl fp_ps_nil rfl (by decide) q1315 q323 hcx hvx hlx ?_
    refine lv_astore_n (lv' := [(3, .ref (qx)), (0, .ref (x)), (1, .int (iI (a0))), (2, .ref (out))]) hx hb dX0_strength_12 rfl hl (by decide) rfl (fun ls hl => ?_)
    refine lv_iconst (v := (iI ((1 : Nat) : Int))) hx hb dX0_strength_13 rfl ?_
    refine x_iret hx hb hr hlk hQ hS (Nat.le_refl _) (Nat.le_refl _) dX0_strength_14 ?_
    exact ⟨g, by rw [hc1], fun z => by rw [hc1] at z; cases z, hP1, ho1⟩
set_option maxHeartbeats 1000000 in
theorem x0_bottom (G : fp_G) (x : Nat) (M : Nat → Prop) (T : TH) (i out : Nat) (g : Nat → Int64) (a0 : Int) (hI : fp_TI i T) (g0 : rg a0) (hMo : M out) (hob : (g_s G).heap.size ≤ out) : fp_MH G yX0_bottom cX0_bottom 4 (some .int) [(0, 9, 12, 27)] 10 184 2 10 [.ref (x), .int (iI (a0)), .ref (out)] (fun H => fp_PW G x M T H ∧ fp_At G H out (eJ G 1 g)) (fun q => (g_s G).heap.size ≤ q ∧ (¬ M q ∨ q = out)) (fun H v H1 => ∃ g2 : Nat → Int64, v = some (.int (iI ((fp_fc (T.1) a0 : Nat) : Int))) ∧ (fp_fc (T.1) a0 = 0 → g2 0 = (iI ((sB (T.1) (fp_fnd (T.1) a0) 5 : Nat) : Int)).toInt64) ∧ fp_PW G x M T H1 ∧ fp_At G H1 out (eJ G 1 g2)) (fun _ _ _ => False) := by
  refine fp_MH.intro (by decide +kernel) (Nat.le_of_ble_eq_true rfl) ?_
  intro pg en s mi ag bl mt cd rR qQ ls X hx hb hr hlk hnm hR hQ hT hB hM hl
  have hS : va_S (fA (fun q => (g_s G).heap.size ≤ q ∧ (¬ M q ∨ q = out)) s.heap.size) s.heap s.heap [] := va_S.rf
  generalize ([] : List Loc) = locs at hS ⊢
  obtain ⟨hP, ho⟩ := hM
  obtain ⟨fs9, hob1⟩ := hP.ob
  refine lv_aload_n hx hb dX0_bottom_0 rfl (lv_at hl 2 rfl) ?_
  refine lv_iconst (v := (iI ((0 : Nat) : Int))) hx hb dX0_bottom_1 rfl ?_
  refine lv_aload_n hx hb dX0_bottom_2 rfl (lv_at hl 0 rfl) ?_
  refine lv_iload_n hx hb dX0_bottom_3 rfl (lv_at hl 1 rfl) ?_
  refine x_callV (cells1 := 2) (slots1 := 10) X hR (w_bottom G x M T i a0 hI g0) q1480 q1481 q1482 q88 q1483 ⟨rfl, pd_X1_bottom⟩ ⟨Nat.le_of_ble_eq_true rfl, Nat.le_of_ble_eq_true rfl⟩ (Nat.zero_add _) (Nat.zero_add _) (Nat.le_refl _) (Nat.le_refl _) hob1 rfl rfl (Nat.le_of_ble_eq_true rfl) hl.1 dX0_bottom_4 hB hP hS (fun q h => Or.inl ⟨h.1, Or.inl h.2⟩) (fun v H1 locs hp hz hk hS => ?_) (fun Ex qx cx H1 locs hp hz hk hS hcx hvx hlx => ?_)
  · obtain ⟨rfl, hc0, hP1⟩ := hp
    have ho1 := ho.kept (hk out ho.lt (fun h => h.2 hMo))
    refine r_stk (st2 := [.int (iI ((sB (T.1) (fp_fnd (T.1) a0) 5 : Nat) : Int)), .int (iI ((0 : Nat) : Int)), .ref out]) rfl ?_
    refine lv_i2l (v := (iI ((sB (T.1) (fp_fnd (T.1) a0) 5 : Nat) : Int)).toInt64) hx hb dX0_bottom_7 rfl ?_
    refine r_lastI X ho1 hS (Or.inl ⟨hob, Or.inr rfl⟩) (j := 0) rfl (by decide) (by decide) dX0_bottom_8 (fun H2 locs ho2 hz2 hq2 hS => ?_)
    refine lv_goto (tgt := 15) hx hb dX0_bottom_9 (by decide) ?_
    refine lv_iconst (v := (iI ((0 : Nat) : Int))) hx hb dX0_bottom_15 rfl ?_
    refine x_iret hx hb hr hlk hQ hS (Nat.le_refl _) (Nat.le_refl _) dX0_bottom_16 ?_
    exact ⟨_, by rw [hc0], fun _ => fp_updL_0.trans rfl, hP1.st X.2.2.2.2.2 ho1 hMo hob hz2 hq2, ho2⟩
  · have ho1 := ho.kept (hk out ho.lt (fun h => h.2 hMo))
    obtain ⟨rfl, hc1, hP1⟩ := hp
    refine r_catch (E := "java/util/NoSuchElementException") (name := "java/util/NoSuchElementException") X hT ([] : List ExceptionTableEntry) ⟨0, 9, 12, 27⟩ ([] : List ExceptionTableEntry) rfl fp_ps_nil rfl (by decide) q1315 q323 hcx hvx hlx ?_
    refine lv_astore_n (lv' := [(3, .ref (qx)), (0, .ref (x)), (1, .int (iI (a0))), (2, .ref (out))]) hx hb dX0_bottom_12 rfl hl (by decide) rfl (fun ls hl => ?_)
    refine lv_iconst (v := (iI ((1 : Nat) : Int))) hx hb dX0_bottom_13 rfl ?_
    refine x_iret hx hb hr hlk hQ hS (Nat.le_refl _) (Nat.le_refl _) dX0_bottom_14 ?_
    exact ⟨g, by rw [hc1], fun z => by rw [hc1] at z; cases z, hP1, ho1⟩
set_option maxHeartbeats 1000000 in
theorem x0_top (G : fp_G) (x : Nat) (M : Nat → Prop) (T : TH) (i out : Nat) (g : Nat → Int64) (a0 : Int) (hI : fp_TI i T) (g0 : rg a0) (hMo : M out) (hob : (g_s G).heap.size ≤ out) : fp_MH G yX0_top cX0_top 4 (some .int) [(0, 9, 12, 27)] 10 184 2 10 [.ref (x), .int (iI (a0)), .ref (out)] (fun H => fp_PW G x M T H ∧ fp_At G H out (eJ G 1 g)) (fun q => (g_s G).heap.size ≤ q ∧ (¬ M q ∨ q = out)) (fun H v H1 => ∃ g2 : Nat → Int64, v = some (.int (iI ((fp_fc (T.1) a0 : Nat) : Int))) ∧ (fp_fc (T.1) a0 = 0 → g2 0 = (iI ((fp_top (sB (T.1) (fp_fnd (T.1) a0)) : Nat) : Int)).toInt64) ∧ fp_PW G x M T H1 ∧ fp_At G H1 out (eJ G 1 g2)) (fun _ _ _ => False) := by
  refine fp_MH.intro (by decide +kernel) (Nat.le_of_ble_eq_true rfl) ?_
  intro pg en s mi ag bl mt cd rR qQ ls X hx hb hr hlk hnm hR hQ hT hB hM hl
  have hS : va_S (fA (fun q => (g_s G).heap.size ≤ q ∧ (¬ M q ∨ q = out)) s.heap.size) s.heap s.heap [] := va_S.rf
  generalize ([] : List Loc) = locs at hS ⊢
  obtain ⟨hP, ho⟩ := hM
  obtain ⟨fs9, hob1⟩ := hP.ob
  refine lv_aload_n hx hb dX0_top_0 rfl (lv_at hl 2 rfl) ?_
  refine lv_iconst (v := (iI ((0 : Nat) : Int))) hx hb dX0_top_1 rfl ?_
  refine lv_aload_n hx hb dX0_top_2 rfl (lv_at hl 0 rfl) ?_
  refine lv_iload_n hx hb dX0_top_3 rfl (lv_at hl 1 rfl) ?_
  refine x_callV (cells1 := 2) (slots1 := 10) X hR (w_top G x M T i a0 hI g0) q1487 q1488 q1489 q88 q1490 ⟨rfl, pd_X1_top⟩ ⟨Nat.le_of_ble_eq_true rfl, Nat.le_of_ble_eq_true rfl⟩ (Nat.zero_add _) (Nat.zero_add _) (Nat.le_refl _) (Nat.le_refl _) hob1 rfl rfl (Nat.le_of_ble_eq_true rfl) hl.1 dX0_top_4 hB hP hS (fun q h => Or.inl ⟨h.1, Or.inl h.2⟩) (fun v H1 locs hp hz hk hS => ?_) (fun Ex qx cx H1 locs hp hz hk hS hcx hvx hlx => ?_)
  · obtain ⟨rfl, hc0, hP1⟩ := hp
    have ho1 := ho.kept (hk out ho.lt (fun h => h.2 hMo))
    refine r_stk (st2 := [.int (iI ((fp_top (sB (T.1) (fp_fnd (T.1) a0)) : Nat) : Int)), .int (iI ((0 : Nat) : Int)), .ref out]) rfl ?_
    refine lv_i2l (v := (iI ((fp_top (sB (T.1) (fp_fnd (T.1) a0)) : Nat) : Int)).toInt64) hx hb dX0_top_7 rfl ?_
    refine r_lastI X ho1 hS (Or.inl ⟨hob, Or.inr rfl⟩) (j := 0) rfl (by decide) (by decide) dX0_top_8 (fun H2 locs ho2 hz2 hq2 hS => ?_)
    refine lv_goto (tgt := 15) hx hb dX0_top_9 (by decide) ?_
    refine lv_iconst (v := (iI ((0 : Nat) : Int))) hx hb dX0_top_15 rfl ?_
    refine x_iret hx hb hr hlk hQ hS (Nat.le_refl _) (Nat.le_refl _) dX0_top_16 ?_
    exact ⟨_, by rw [hc0], fun _ => fp_updL_0.trans rfl, hP1.st X.2.2.2.2.2 ho1 hMo hob hz2 hq2, ho2⟩
  · have ho1 := ho.kept (hk out ho.lt (fun h => h.2 hMo))
    obtain ⟨rfl, hc1, hP1⟩ := hp
    refine r_catch (E := "java/util/NoSuchElementException") (name := "java/util/NoSuchElementException") X hT ([] : List ExceptionTableEntry) ⟨0, 9, 12, 27⟩ ([] : List ExceptionTableEntry) rfl fp_ps_nil rfl (by decide) q1315 q323 hcx hvx hlx ?_
    refine lv_astore_n (lv' := [(3, .ref (qx)), (0, .ref (x)), (1, .int (iI (a0))), (2, .ref (out))]) hx hb dX0_top_12 rfl hl (by decide) rfl (fun ls hl => ?_)
    refine lv_iconst (v := (iI ((1 : Nat) : Int))) hx hb dX0_top_13 rfl ?_
    refine x_iret hx hb hr hlk hQ hS (Nat.le_refl _) (Nat.le_refl _) dX0_top_14 ?_
    exact ⟨g, by rw [hc1], fun z => by rw [hc1] at z; cases z, hP1, ho1⟩
set_option maxHeartbeats 1000000 in
theorem x0_supporterCount (G : fp_G) (x : Nat) (M : Nat → Prop) (T : TH) (i out : Nat) (g : Nat → Int64) (a0 : Int) (hI : fp_TI i T) (g0 : rg a0) (hMo : M out) (hob : (g_s G).heap.size ≤ out) : fp_MH G yX0_supporterCount cX0_supporterCount 4 (some .int) [(0, 9, 12, 27)] 10 257 8 131 [.ref (x), .int (iI (a0)), .ref (out)] (fun H => fp_PW G x M T H ∧ fp_At G H out (eJ G 1 g)) (fun q => (g_s G).heap.size ≤ q ∧ (¬ M q ∨ q = out)) (fun H v H1 => ∃ g2 : Nat → Int64, v = some (.int (iI ((fp_fc (T.1) a0 : Nat) : Int))) ∧ (fp_fc (T.1) a0 = 0 → g2 0 = (iI ((fp_nsup (T.1) (fp_fnd (T.1) a0) : Nat) : Int)).toInt64) ∧ fp_PW G x M T H1 ∧ fp_At G H1 out (eJ G 1 g2)) (fun _ _ _ => False) := by
  refine fp_MH.intro (by decide +kernel) (Nat.le_of_ble_eq_true rfl) ?_
  intro pg en s mi ag bl mt cd rR qQ ls X hx hb hr hlk hnm hR hQ hT hB hM hl
  have hS : va_S (fA (fun q => (g_s G).heap.size ≤ q ∧ (¬ M q ∨ q = out)) s.heap.size) s.heap s.heap [] := va_S.rf
  generalize ([] : List Loc) = locs at hS ⊢
  obtain ⟨hP, ho⟩ := hM
  obtain ⟨fs9, hob1⟩ := hP.ob
  refine lv_aload_n hx hb dX0_supporterCount_0 rfl (lv_at hl 2 rfl) ?_
  refine lv_iconst (v := (iI ((0 : Nat) : Int))) hx hb dX0_supporterCount_1 rfl ?_
  refine lv_aload_n hx hb dX0_supporterCount_2 rfl (lv_at hl 0 rfl) ?_
  refine lv_iload_n hx hb dX0_supporterCount_3 rfl (lv_at hl 1 rfl) ?_
  refine x_callV (cells1 := 8) (slots1 := 131) X hR (w_supporterCount G x M T i a0 hI g0) q1494 q1495 q1496 q88 q1497 ⟨rfl, pd_X1_supporterCount⟩ ⟨Nat.le_of_ble_eq_true rfl, Nat.le_of_ble_eq_true rfl⟩ (Nat.zero_add _) (Nat.zero_add _) (Nat.le_refl _) (Nat.le_refl _) hob1 rfl rfl (Nat.le_of_ble_eq_true rfl) hl.1 dX0_supporterCount_4 hB hP hS (fun q h => Or.inl ⟨h.1, Or.inl h.2⟩) (fun v H1 locs hp hz hk hS => ?_) (fun Ex qx cx H1 locs hp hz hk hS hcx hvx hlx => ?_)
  · obtain ⟨rfl, hc0, hP1⟩ := hp
    have ho1 := ho.kept (hk out ho.lt (fun h => h.2 hMo))
    refine r_stk (st2 := [.int (iI ((fp_nsup (T.1) (fp_fnd (T.1) a0) : Nat) : Int)), .int (iI ((0 : Nat) : Int)), .ref out]) rfl ?_
    refine lv_i2l (v := (iI ((fp_nsup (T.1) (fp_fnd (T.1) a0) : Nat) : Int)).toInt64) hx hb dX0_supporterCount_7 rfl ?_
    refine r_lastI X ho1 hS (Or.inl ⟨hob, Or.inr rfl⟩) (j := 0) rfl (by decide) (by decide) dX0_supporterCount_8 (fun H2 locs ho2 hz2 hq2 hS => ?_)
    refine lv_goto (tgt := 15) hx hb dX0_supporterCount_9 (by decide) ?_
    refine lv_iconst (v := (iI ((0 : Nat) : Int))) hx hb dX0_supporterCount_15 rfl ?_
    refine x_iret hx hb hr hlk hQ hS (Nat.le_refl _) (Nat.le_refl _) dX0_supporterCount_16 ?_
    exact ⟨_, by rw [hc0], fun _ => fp_updL_0.trans rfl, hP1.st X.2.2.2.2.2 ho1 hMo hob hz2 hq2, ho2⟩
  · have ho1 := ho.kept (hk out ho.lt (fun h => h.2 hMo))
    obtain ⟨rfl, hc1, hP1⟩ := hp
    refine r_catch (E := "java/util/NoSuchElementException") (name := "java/util/NoSuchElementException") X hT ([] : List ExceptionTableEntry) ⟨0, 9, 12, 27⟩ ([] : List ExceptionTableEntry) rfl fp_ps_nil rfl (by decide) q1315 q323 hcx hvx hlx ?_
    refine lv_astore_n (lv' := [(3, .ref (qx)), (0, .ref (x)), (1, .int (iI (a0))), (2, .ref (out))]) hx hb dX0_supporterCount_12 rfl hl (by decide) rfl (fun ls hl => ?_)
    refine lv_iconst (v := (iI ((1 : Nat) : Int))) hx hb dX0_supporterCount_13 rfl ?_
    refine x_iret hx hb hr hlk hQ hS (Nat.le_refl _) (Nat.le_refl _) dX0_supporterCount_14 ?_
    exact ⟨g, by rw [hc1], fun z => by rw [hc1] at z; cases z, hP1, ho1⟩
set_option maxHeartbeats 1000000 in
theorem x0_supporterAt (G : fp_G) (x : Nat) (M : Nat → Prop) (T : TH) (i out : Nat) (g : Nat → Int64) (a0 : Int) (a1 : Int) (hI : fp_TI i T) (g0 : rg a0) (g1 : rg a1) (hMo : M out) (hob : (g_s G).heap.size ≤ out) : fp_MH G yX0_supporterAt cX0_supporterAt 5 (some .int) [(0, 10, 13, 27)] 10 259 9 140 [.ref (x), .int (iI (a0)), .int (iI (a1)), .ref (out)] (fun H => fp_PW G x M T H ∧ fp_At G H out (eJ G 1 g)) (fun q => (g_s G).heap.size ≤ q ∧ (¬ M q ∨ q = out)) (fun H v H1 => ∃ g2 : Nat → Int64, v = some (.int (iI ((fp_satc (T.1) a0 a1 : Nat) : Int))) ∧ (fp_satc (T.1) a0 a1 = 0 → g2 0 = (iI ((sB (T.1) (fp_sat (T.1) (fp_fnd (T.1) a0) a1) 0 : Nat) : Int)).toInt64) ∧ fp_PW G x M T H1 ∧ fp_At G H1 out (eJ G 1 g2)) (fun _ _ _ => False) := by
  refine fp_MH.intro (by decide +kernel) (Nat.le_of_ble_eq_true rfl) ?_
  intro pg en s mi ag bl mt cd rR qQ ls X hx hb hr hlk hnm hR hQ hT hB hM hl
  have hS : va_S (fA (fun q => (g_s G).heap.size ≤ q ∧ (¬ M q ∨ q = out)) s.heap.size) s.heap s.heap [] := va_S.rf
  generalize ([] : List Loc) = locs at hS ⊢
  obtain ⟨hP, ho⟩ := hM
  obtain ⟨fs9, hob1⟩ := hP.ob
  refine lv_aload_n hx hb dX0_supporterAt_0 rfl (lv_at hl 3 rfl) ?_
  refine lv_iconst (v := (iI ((0 : Nat) : Int))) hx hb dX0_supporterAt_1 rfl ?_
  refine lv_aload_n hx hb dX0_supporterAt_2 rfl (lv_at hl 0 rfl) ?_
  refine lv_iload_n hx hb dX0_supporterAt_3 rfl (lv_at hl 1 rfl) ?_
  refine lv_iload_n hx hb dX0_supporterAt_4 rfl (lv_at hl 2 rfl) ?_
  refine x_callV (cells1 := 9) (slots1 := 140) X hR (w_supporterAt G x M T i a0 a1 hI g0 g1) q1502 q1503 q1504 q88 q1505 ⟨rfl, pd_X1_supporterAt⟩ ⟨Nat.le_of_ble_eq_true rfl, Nat.le_of_ble_eq_true rfl⟩ (Nat.zero_add _) (Nat.zero_add _) (Nat.le_refl _) (Nat.le_refl _) hob1 rfl rfl (Nat.le_of_ble_eq_true rfl) hl.1 dX0_supporterAt_5 hB hP hS (fun q h => Or.inl ⟨h.1, Or.inl h.2⟩) (fun v H1 locs hp hz hk hS => ?_) (fun Ex qx cx H1 locs hp hz hk hS hcx hvx hlx => ?_)
  · obtain ⟨rfl, hc0, hP1⟩ := hp
    have ho1 := ho.kept (hk out ho.lt (fun h => h.2 hMo))
    refine r_stk (st2 := [.int (iI ((sB (T.1) (fp_sat (T.1) (fp_fnd (T.1) a0) a1) 0 : Nat) : Int)), .int (iI ((0 : Nat) : Int)), .ref out]) rfl ?_
    refine lv_i2l (v := (iI ((sB (T.1) (fp_sat (T.1) (fp_fnd (T.1) a0) a1) 0 : Nat) : Int)).toInt64) hx hb dX0_supporterAt_8 rfl ?_
    refine r_lastI X ho1 hS (Or.inl ⟨hob, Or.inr rfl⟩) (j := 0) rfl (by decide) (by decide) dX0_supporterAt_9 (fun H2 locs ho2 hz2 hq2 hS => ?_)
    refine lv_goto (tgt := 17) hx hb dX0_supporterAt_10 (by decide) ?_
    refine lv_iconst (v := (iI ((0 : Nat) : Int))) hx hb dX0_supporterAt_17 rfl ?_
    refine x_iret hx hb hr hlk hQ hS (Nat.le_refl _) (Nat.le_refl _) dX0_supporterAt_18 ?_
    exact ⟨_, by rw [hc0], fun _ => fp_updL_0.trans rfl, hP1.st X.2.2.2.2.2 ho1 hMo hob hz2 hq2, ho2⟩
  · have ho1 := ho.kept (hk out ho.lt (fun h => h.2 hMo))
    obtain ⟨rfl, hc1, hP1⟩ := hp
    refine r_catch (E := "java/util/NoSuchElementException") (name := "java/util/NoSuchElementException") X hT ([] : List ExceptionTableEntry) ⟨0, 10, 13, 27⟩ ([] : List ExceptionTableEntry) rfl fp_ps_nil rfl (by decide) q1315 q323 hcx hvx hlx ?_
    refine lv_astore (lv' := [(4, .ref (qx)), (0, .ref (x)), (1, .int (iI (a0))), (2, .int (iI (a1))), (3, .ref (out))]) hx hb dX0_supporterAt_13 hl (by decide) rfl (fun ls hl => ?_)
    refine lv_iconst (v := (iI ((1 : Nat) : Int))) hx hb dX0_supporterAt_15 rfl ?_
    refine x_iret hx hb hr hlk hQ hS (Nat.le_refl _) (Nat.le_refl _) dX0_supporterAt_16 ?_
    exact ⟨g, by rw [hc1], fun z => by rw [hc1] at z; cases z, hP1, ho1⟩
set_option maxHeartbeats 1000000 in
theorem x0_isSupporting (G : fp_G) (x : Nat) (M : Nat → Prop) (T : TH) (i out : Nat) (g : Nat → Int64) (a0 : Int) (hI : fp_TI i T) (g0 : rg a0) (hMo : M out) (hob : (g_s G).heap.size ≤ out) : fp_MH G yX0_isSupporting cX0_isSupporting 4 (some .int) [(0, 16, 19, 27)] 305 8127 4 15 [.ref (x), .int (iI (a0)), .ref (out)] (fun H => fp_PW G x M T H ∧ fp_At G H out (eJ G 1 g)) (fun q => (g_s G).heap.size ≤ q ∧ (¬ M q ∨ q = out)) (fun H v H1 => ∃ g2 : Nat → Int64, v = some (.int (iI ((fp_fc (T.1) a0 : Nat) : Int))) ∧ (fp_fc (T.1) a0 = 0 → g2 0 = (iI (bI (fp_und (T.1) (fp_fnd (T.1) a0)))).toInt64) ∧ fp_PW G x M T H1 ∧ fp_At G H1 out (eJ G 1 g2)) (fun _ _ _ => False) := by
  refine fp_MH.intro (by decide +kernel) (Nat.le_of_ble_eq_true rfl) ?_
  intro pg en s mi ag bl mt cd rR qQ ls X hx hb hr hlk hnm hR hQ hT hB hM hl
  have hS : va_S (fA (fun q => (g_s G).heap.size ≤ q ∧ (¬ M q ∨ q = out)) s.heap.size) s.heap s.heap [] := va_S.rf
  generalize ([] : List Loc) = locs at hS ⊢
  obtain ⟨hP, ho⟩ := hM
  obtain ⟨fs9, hob1⟩ := hP.ob
  refine lv_aload_n hx hb dX0_isSupporting_0 rfl (lv_at hl 2 rfl) ?_
  refine lv_iconst (v := (iI ((0 : Nat) : Int))) hx hb dX0_isSupporting_1 rfl ?_
  refine lv_aload_n hx hb dX0_isSupporting_2 rfl (lv_at hl 0 rfl) ?_
  refine lv_iload_n hx hb dX0_isSupporting_3 rfl (lv_at hl 1 rfl) ?_
  refine x_callV (cells1 := 4) (slots1 := 15) X hR (w_isSupporting G x M T i a0 hI g0) q1509 q1510 q1511 q88 q1512 ⟨rfl, pd_X1_isSupporting⟩ ⟨Nat.le_of_ble_eq_true rfl, Nat.le_of_ble_eq_true rfl⟩ (Nat.zero_add _) (Nat.zero_add _) (Nat.le_refl _) (Nat.le_refl _) hob1 rfl rfl (Nat.le_of_ble_eq_true rfl) hl.1 dX0_isSupporting_4 hB hP hS (fun q h => Or.inl ⟨h.1, Or.inl h.2⟩) (fun v H1 locs hp hz hk hS => ?_) (fun Ex qx cx H1 locs hp hz hk hS hcx hvx hlx => ?_)
  · obtain ⟨rfl, hc0, hP1⟩ := hp
    have ho1 := ho.kept (hk out ho.lt (fun h => h.2 hMo))
    refine r_stk (st2 := [.int (iI (bI (fp_und (T.1) (fp_fnd (T.1) a0)))), .int (iI ((0 : Nat) : Int)), .ref out]) rfl ?_
    refine r_ifeqB (tgt := 14) hx hb dX0_isSupporting_7 (by decide) (fun cb => ?_) (fun cb => ?_)
    · refine lv_lconst (v := 0) hx hb dX0_isSupporting_14 rfl ?_
      refine r_lastI X ho1 hS (Or.inl ⟨hob, Or.inr rfl⟩) (j := 0) rfl (by decide) (by decide) dX0_isSupporting_15 (fun H2 locs ho2 hz2 hq2 hS => ?_)
      refine lv_goto (tgt := 22) hx hb dX0_isSupporting_16 (by decide) ?_
      refine lv_iconst (v := (iI ((0 : Nat) : Int))) hx hb dX0_isSupporting_22 rfl ?_
      refine x_iret hx hb hr hlk hQ hS (Nat.le_refl _) (Nat.le_refl _) dX0_isSupporting_23 ?_
      exact ⟨_, by rw [hc0], fun _ => fp_updL_0.trans (by rw [cb]; rfl), hP1.st X.2.2.2.2.2 ho1 hMo hob hz2 hq2, ho2⟩
    · refine lv_lconst (v := 1) hx hb dX0_isSupporting_10 rfl ?_
      refine lv_goto (tgt := 15) hx hb dX0_isSupporting_11 (by decide) ?_
      refine r_lastI X ho1 hS (Or.inl ⟨hob, Or.inr rfl⟩) (j := 0) rfl (by decide) (by decide) dX0_isSupporting_15 (fun H2 locs ho2 hz2 hq2 hS => ?_)
      refine lv_goto (tgt := 22) hx hb dX0_isSupporting_16 (by decide) ?_
      refine lv_iconst (v := (iI ((0 : Nat) : Int))) hx hb dX0_isSupporting_22 rfl ?_
      refine x_iret hx hb hr hlk hQ hS (Nat.le_refl _) (Nat.le_refl _) dX0_isSupporting_23 ?_
      exact ⟨_, by rw [hc0], fun _ => fp_updL_0.trans (by rw [cb]; rfl), hP1.st X.2.2.2.2.2 ho1 hMo hob hz2 hq2, ho2⟩
  · have ho1 := ho.kept (hk out ho.lt (fun h => h.2 hMo))
    obtain ⟨rfl, hc1, hP1⟩ := hp
    refine r_catch (E := "java/util/NoSuchElementException") (name := "java/util/NoSuchElementException") X hT ([] : List ExceptionTableEntry) ⟨0, 16, 19, 27⟩ ([] : List ExceptionTableEntry) rfl fp_ps_nil rfl (by decide) q1315 q323 hcx hvx hlx ?_
    refine lv_astore_n (lv' := [(3, .ref (qx)), (0, .ref (x)), (1, .int (iI (a0))), (2, .ref (out))]) hx hb dX0_isSupporting_19 rfl hl (by decide) rfl (fun ls hl => ?_)
    refine lv_iconst (v := (iI ((1 : Nat) : Int))) hx hb dX0_isSupporting_20 rfl ?_
    refine x_iret hx hb hr hlk hQ hS (Nat.le_refl _) (Nat.le_refl _) dX0_isSupporting_21 ?_
    exact ⟨g, by rw [hc1], fun z => by rw [hc1] at z; cases z, hP1, ho1⟩
set_option maxHeartbeats 1000000 in
theorem x0_load (G : fp_G) (x : Nat) (M : Nat → Prop) (T : TH) (i out : Nat) (g : Nat → Int64) (a0 : Int) (hI : fp_TI i T) (g0 : rg a0) (hMo : M out) (hob : (g_s G).heap.size ≤ out) : fp_MH G yX0_load cX0_load 4 (some .int) [(0, 9, 12, 27)] 13 327 147 2938 [.ref (x), .int (iI (a0)), .ref (out)] (fun H => fp_PW G x M T H ∧ fp_At G H out (eJ G 1 g)) (fun q => (g_s G).heap.size ≤ q ∧ (¬ M q ∨ q = out)) (fun H v H1 => ∃ g2 : Nat → Int64, v = some (.int (iI ((fp_fc (T.1) a0 : Nat) : Int))) ∧ (fp_fc (T.1) a0 = 0 → g2 0 = (iI ((fp_ld (T.1) (fp_fnd (T.1) a0) : Nat) : Int)).toInt64) ∧ fp_PW G x M T H1 ∧ fp_At G H1 out (eJ G 1 g2)) (fun _ _ _ => False) := by
  refine fp_MH.intro (by decide +kernel) (Nat.le_of_ble_eq_true rfl) ?_
  intro pg en s mi ag bl mt cd rR qQ ls X hx hb hr hlk hnm hR hQ hT hB hM hl
  have hS : va_S (fA (fun q => (g_s G).heap.size ≤ q ∧ (¬ M q ∨ q = out)) s.heap.size) s.heap s.heap [] := va_S.rf
  generalize ([] : List Loc) = locs at hS ⊢
  obtain ⟨hP, ho⟩ := hM
  obtain ⟨fs9, hob1⟩ := hP.ob
  refine lv_aload_n hx hb dX0_load_0 rfl (lv_at hl 2 rfl) ?_
  refine lv_iconst (v := (iI ((0 : Nat) : Int))) hx hb dX0_load_1 rfl ?_
  refine lv_aload_n hx hb dX0_load_2 rfl (lv_at hl 0 rfl) ?_
  refine lv_iload_n hx hb dX0_load_3 rfl (lv_at hl 1 rfl) ?_
  refine x_callV (cells1 := 147) (slots1 := 2938) X hR (w_load G x M T i a0 hI g0) q1516 q1517 q1518 q88 q1519 ⟨rfl, pd_X1_load⟩ ⟨Nat.le_of_ble_eq_true rfl, Nat.le_of_ble_eq_true rfl⟩ (Nat.zero_add _) (Nat.zero_add _) (Nat.le_refl _) (Nat.le_refl _) hob1 rfl rfl (Nat.le_of_ble_eq_true rfl) hl.1 dX0_load_4 hB hP hS (fun q h => Or.inl ⟨h.1, Or.inl h.2⟩) (fun v H1 locs hp hz hk hS => ?_) (fun Ex qx cx H1 locs hp hz hk hS hcx hvx hlx => ?_)
  · obtain ⟨rfl, hc0, hP1⟩ := hp
    have ho1 := ho.kept (hk out ho.lt (fun h => h.2 hMo))
    refine r_stk (st2 := [.int (iI ((fp_ld (T.1) (fp_fnd (T.1) a0) : Nat) : Int)), .int (iI ((0 : Nat) : Int)), .ref out]) rfl ?_
    refine lv_i2l (v := (iI ((fp_ld (T.1) (fp_fnd (T.1) a0) : Nat) : Int)).toInt64) hx hb dX0_load_7 rfl ?_
    refine r_lastI X ho1 hS (Or.inl ⟨hob, Or.inr rfl⟩) (j := 0) rfl (by decide) (by decide) dX0_load_8 (fun H2 locs ho2 hz2 hq2 hS => ?_)
    refine lv_goto (tgt := 15) hx hb dX0_load_9 (by decide) ?_
    refine lv_iconst (v := (iI ((0 : Nat) : Int))) hx hb dX0_load_15 rfl ?_
    refine x_iret hx hb hr hlk hQ hS (Nat.le_refl _) (Nat.le_refl _) dX0_load_16 ?_
    exact ⟨_, by rw [hc0], fun _ => fp_updL_0.trans rfl, hP1.st X.2.2.2.2.2 ho1 hMo hob hz2 hq2, ho2⟩
  · have ho1 := ho.kept (hk out ho.lt (fun h => h.2 hMo))
    obtain ⟨rfl, hc1, hP1⟩ := hp
    refine r_catch (E := "java/util/NoSuchElementException") (name := "java/util/NoSuchElementException") X hT ([] : List ExceptionTableEntry) ⟨0, 9, 12, 27⟩ ([] : List ExceptionTableEntry) rfl fp_ps_nil rfl (by decide) q1315 q323 hcx hvx hlx ?_
    refine lv_astore_n (lv' := [(3, .ref (qx)), (0, .ref (x)), (1, .int (iI (a0))), (2, .ref (out))]) hx hb dX0_load_12 rfl hl (by decide) rfl (fun ls hl => ?_)
    refine lv_iconst (v := (iI ((1 : Nat) : Int))) hx hb dX0_load_13 rfl ?_
    refine x_iret hx hb hr hlk hQ hS (Nat.le_refl _) (Nat.le_refl _) dX0_load_14 ?_
    exact ⟨g, by rw [hc1], fun z => by rw [hc1] at z; cases z, hP1, ho1⟩
set_option maxHeartbeats 1000000 in
theorem x0_loadByRecursion (G : fp_G) (x : Nat) (M : Nat → Prop) (T : TH) (i out : Nat) (g : Nat → Int64) (a0 : Int) (hI : fp_TI i T) (g0 : rg a0) (hMo : M out) (hob : (g_s G).heap.size ≤ out) : fp_MH G yX0_loadByRecursion cX0_loadByRecursion 4 (some .int) [(0, 9, 12, 27)] 332 8145 3459 69730 [.ref (x), .int (iI (a0)), .ref (out)] (fun H => fp_PW G x M T H ∧ fp_At G H out (eJ G 1 g)) (fun q => (g_s G).heap.size ≤ q ∧ (¬ M q ∨ q = out)) (fun H v H1 => ∃ g2 : Nat → Int64, v = some (.int (iI ((fp_fc (T.1) a0 : Nat) : Int))) ∧ (fp_fc (T.1) a0 = 0 → g2 0 = (iI ((fp_ld (T.1) (fp_fnd (T.1) a0) : Nat) : Int)).toInt64) ∧ fp_PW G x M T H1 ∧ fp_At G H1 out (eJ G 1 g2)) (fun _ _ _ => False) := by
  refine fp_MH.intro (by decide +kernel) (Nat.le_of_ble_eq_true rfl) ?_
  intro pg en s mi ag bl mt cd rR qQ ls X hx hb hr hlk hnm hR hQ hT hB hM hl
  have hS : va_S (fA (fun q => (g_s G).heap.size ≤ q ∧ (¬ M q ∨ q = out)) s.heap.size) s.heap s.heap [] := va_S.rf
  generalize ([] : List Loc) = locs at hS ⊢
  obtain ⟨hP, ho⟩ := hM
  obtain ⟨fs9, hob1⟩ := hP.ob
  refine lv_aload_n hx hb dX0_loadByRecursion_0 rfl (lv_at hl 2 rfl) ?_
  refine lv_iconst (v := (iI ((0 : Nat) : Int))) hx hb dX0_loadByRecursion_1 rfl ?_
  refine lv_aload_n hx hb dX0_loadByRecursion_2 rfl (lv_at hl 0 rfl) ?_
  refine lv_iload_n hx hb dX0_loadByRecursion_3 rfl (lv_at hl 1 rfl) ?_
  refine x_callV (cells1 := 3459) (slots1 := 69730) X hR (w_loadByRecursion G x M T i a0 hI g0) q1527 q1528 q1529 q88 q1530 ⟨rfl, pd_X1_loadByRecursion⟩ ⟨Nat.le_of_ble_eq_true rfl, Nat.le_of_ble_eq_true rfl⟩ (Nat.zero_add _) (Nat.zero_add _) (Nat.le_refl _) (Nat.le_refl _) hob1 rfl rfl (Nat.le_of_ble_eq_true rfl) hl.1 dX0_loadByRecursion_4 hB hP hS (fun q h => Or.inl ⟨h.1, Or.inl h.2⟩) (fun v H1 locs hp hz hk hS => ?_) (fun Ex qx cx H1 locs hp hz hk hS hcx hvx hlx => ?_)
  · obtain ⟨rfl, hc0, hP1⟩ := hp
    have ho1 := ho.kept (hk out ho.lt (fun h => h.2 hMo))
    refine r_stk (st2 := [.int (iI ((fp_ld (T.1) (fp_fnd (T.1) a0) : Nat) : Int)), .int (iI ((0 : Nat) : Int)), .ref out]) rfl ?_
    refine lv_i2l (v := (iI ((fp_ld (T.1) (fp_fnd (T.1) a0) : Nat) : Int)).toInt64) hx hb dX0_loadByRecursion_7 rfl ?_
    refine r_lastI X ho1 hS (Or.inl ⟨hob, Or.inr rfl⟩) (j := 0) rfl (by decide) (by decide) dX0_loadByRecursion_8 (fun H2 locs ho2 hz2 hq2 hS => ?_)
    refine lv_goto (tgt := 15) hx hb dX0_loadByRecursion_9 (by decide) ?_
    refine lv_iconst (v := (iI ((0 : Nat) : Int))) hx hb dX0_loadByRecursion_15 rfl ?_
    refine x_iret hx hb hr hlk hQ hS (Nat.le_refl _) (Nat.le_refl _) dX0_loadByRecursion_16 ?_
    exact ⟨_, by rw [hc0], fun _ => fp_updL_0.trans rfl, hP1.st X.2.2.2.2.2 ho1 hMo hob hz2 hq2, ho2⟩
  · have ho1 := ho.kept (hk out ho.lt (fun h => h.2 hMo))
    obtain ⟨rfl, hc1, hP1⟩ := hp
    refine r_catch (E := "java/util/NoSuchElementException") (name := "java/util/NoSuchElementException") X hT ([] : List ExceptionTableEntry) ⟨0, 9, 12, 27⟩ ([] : List ExceptionTableEntry) rfl fp_ps_nil rfl (by decide) q1315 q323 hcx hvx hlx ?_
    refine lv_astore_n (lv' := [(3, .ref (qx)), (0, .ref (x)), (1, .int (iI (a0))), (2, .ref (out))]) hx hb dX0_loadByRecursion_12 rfl hl (by decide) rfl (fun ls hl => ?_)
    refine lv_iconst (v := (iI ((1 : Nat) : Int))) hx hb dX0_loadByRecursion_13 rfl ?_
    refine x_iret hx hb hr hlk hQ hS (Nat.le_refl _) (Nat.le_refl _) dX0_loadByRecursion_14 ?_
    exact ⟨g, by rw [hc1], fun z => by rw [hc1] at z; cases z, hP1, ho1⟩
set_option maxHeartbeats 1000000 in
theorem x0_slack (G : fp_G) (x : Nat) (M : Nat → Prop) (T : TH) (i out : Nat) (g : Nat → Int64) (a0 : Int) (hI : fp_TI i T) (g0 : rg a0) (hMo : M out) (hob : (g_s G).heap.size ≤ out) : fp_MH G yX0_slack cX0_slack 4 (some .int) [(0, 9, 12, 27)] 13 328 147 2938 [.ref (x), .int (iI (a0)), .ref (out)] (fun H => fp_PW G x M T H ∧ fp_At G H out (eJ G 1 g)) (fun q => (g_s G).heap.size ≤ q ∧ (¬ M q ∨ q = out)) (fun H v H1 => ∃ g2 : Nat → Int64, v = some (.int (iI ((fp_fc (T.1) a0 : Nat) : Int))) ∧ (fp_fc (T.1) a0 = 0 → g2 0 = (iI (fp_slk (T.1) (fp_fnd (T.1) a0))).toInt64) ∧ fp_PW G x M T H1 ∧ fp_At G H1 out (eJ G 1 g2)) (fun _ _ _ => False) := by
  refine fp_MH.intro (by decide +kernel) (Nat.le_of_ble_eq_true rfl) ?_
  intro pg en s mi ag bl mt cd rR qQ ls X hx hb hr hlk hnm hR hQ hT hB hM hl
  have hS : va_S (fA (fun q => (g_s G).heap.size ≤ q ∧ (¬ M q ∨ q = out)) s.heap.size) s.heap s.heap [] := va_S.rf
  generalize ([] : List Loc) = locs at hS ⊢
  obtain ⟨hP, ho⟩ := hM
  obtain ⟨fs9, hob1⟩ := hP.ob
  refine lv_aload_n hx hb dX0_slack_0 rfl (lv_at hl 2 rfl) ?_
  refine lv_iconst (v := (iI ((0 : Nat) : Int))) hx hb dX0_slack_1 rfl ?_
  refine lv_aload_n hx hb dX0_slack_2 rfl (lv_at hl 0 rfl) ?_
  refine lv_iload_n hx hb dX0_slack_3 rfl (lv_at hl 1 rfl) ?_
  refine x_callV (cells1 := 147) (slots1 := 2938) X hR (w_slack G x M T i a0 hI g0) q1539 q1540 q1541 q88 q1542 ⟨rfl, pd_X1_slack⟩ ⟨Nat.le_of_ble_eq_true rfl, Nat.le_of_ble_eq_true rfl⟩ (Nat.zero_add _) (Nat.zero_add _) (Nat.le_refl _) (Nat.le_refl _) hob1 rfl rfl (Nat.le_of_ble_eq_true rfl) hl.1 dX0_slack_4 hB hP hS (fun q h => Or.inl ⟨h.1, Or.inl h.2⟩) (fun v H1 locs hp hz hk hS => ?_) (fun Ex qx cx H1 locs hp hz hk hS hcx hvx hlx => ?_)
  · obtain ⟨rfl, hc0, hP1⟩ := hp
    have ho1 := ho.kept (hk out ho.lt (fun h => h.2 hMo))
    refine r_stk (st2 := [.int (iI (fp_slk (T.1) (fp_fnd (T.1) a0))), .int (iI ((0 : Nat) : Int)), .ref out]) rfl ?_
    refine lv_i2l (v := (iI (fp_slk (T.1) (fp_fnd (T.1) a0))).toInt64) hx hb dX0_slack_7 rfl ?_
    refine r_lastI X ho1 hS (Or.inl ⟨hob, Or.inr rfl⟩) (j := 0) rfl (by decide) (by decide) dX0_slack_8 (fun H2 locs ho2 hz2 hq2 hS => ?_)
    refine lv_goto (tgt := 15) hx hb dX0_slack_9 (by decide) ?_
    refine lv_iconst (v := (iI ((0 : Nat) : Int))) hx hb dX0_slack_15 rfl ?_
    refine x_iret hx hb hr hlk hQ hS (Nat.le_refl _) (Nat.le_refl _) dX0_slack_16 ?_
    exact ⟨_, by rw [hc0], fun _ => fp_updL_0.trans rfl, hP1.st X.2.2.2.2.2 ho1 hMo hob hz2 hq2, ho2⟩
  · have ho1 := ho.kept (hk out ho.lt (fun h => h.2 hMo))
    obtain ⟨rfl, hc1, hP1⟩ := hp
    refine r_catch (E := "java/util/NoSuchElementException") (name := "java/util/NoSuchElementException") X hT ([] : List ExceptionTableEntry) ⟨0, 9, 12, 27⟩ ([] : List ExceptionTableEntry) rfl fp_ps_nil rfl (by decide) q1315 q323 hcx hvx hlx ?_
    refine lv_astore_n (lv' := [(3, .ref (qx)), (0, .ref (x)), (1, .int (iI (a0))), (2, .ref (out))]) hx hb dX0_slack_12 rfl hl (by decide) rfl (fun ls hl => ?_)
    refine lv_iconst (v := (iI ((1 : Nat) : Int))) hx hb dX0_slack_13 rfl ?_
    refine x_iret hx hb hr hlk hQ hS (Nat.le_refl _) (Nat.le_refl _) dX0_slack_14 ?_
    exact ⟨g, by rw [hc1], fun z => by rw [hc1] at z; cases z, hP1, ho1⟩
set_option maxHeartbeats 1000000 in
theorem x0_weakest (G : fp_G) (x : Nat) (M : Nat → Prop) (T : TH) (i out : Nat) (g : Nat → Int64) (hI : fp_TI i T) (hMo : M out) (hob : (g_s G).heap.size ≤ out) : fp_MH G yX0_weakest cX0_weakest 3 (some .int) [(0, 8, 11, 27)] 14 352 148 2986 [.ref (x), .ref (out)] (fun H => fp_PW G x M T H ∧ fp_At G H out (eJ G 1 g)) (fun q => (g_s G).heap.size ≤ q ∧ (¬ M q ∨ q = out)) (fun H v H1 => ∃ g2 : Nat → Int64, v = some (.int (iI ((fp_wkc (T.1) : Nat) : Int))) ∧ (fp_wkc (T.1) = 0 → g2 0 = (iI ((sB (T.1) (fp_best (fp_slk (T.1)) (sN (T.1))) 0 : Nat) : Int)).toInt64) ∧ fp_PW G x M T H1 ∧ fp_At G H1 out (eJ G 1 g2)) (fun _ _ _ => False) := by
  refine fp_MH.intro (by decide +kernel) (Nat.le_of_ble_eq_true rfl) ?_
  intro pg en s mi ag bl mt cd rR qQ ls X hx hb hr hlk hnm hR hQ hT hB hM hl
  have hS : va_S (fA (fun q => (g_s G).heap.size ≤ q ∧ (¬ M q ∨ q = out)) s.heap.size) s.heap s.heap [] := va_S.rf
  generalize ([] : List Loc) = locs at hS ⊢
  obtain ⟨hP, ho⟩ := hM
  obtain ⟨fs9, hob1⟩ := hP.ob
  refine lv_aload_n hx hb dX0_weakest_0 rfl (lv_at hl 1 rfl) ?_
  refine lv_iconst (v := (iI ((0 : Nat) : Int))) hx hb dX0_weakest_1 rfl ?_
  refine lv_aload_n hx hb dX0_weakest_2 rfl (lv_at hl 0 rfl) ?_
  refine x_callV (cells1 := 148) (slots1 := 2986) X hR (w_weakest G x M T i hI) q1546 q1547 q1548 q88 q1549 ⟨rfl, pd_X1_weakest⟩ ⟨Nat.le_of_ble_eq_true rfl, Nat.le_of_ble_eq_true rfl⟩ (Nat.zero_add _) (Nat.zero_add _) (Nat.le_refl _) (Nat.le_refl _) hob1 rfl rfl (Nat.le_of_ble_eq_true rfl) hl.1 dX0_weakest_3 hB hP hS (fun q h => Or.inl ⟨h.1, Or.inl h.2⟩) (fun v H1 locs hp hz hk hS => ?_) (fun Ex qx cx H1 locs hp hz hk hS hcx hvx hlx => ?_)
  · obtain ⟨rfl, hc0, hP1⟩ := hp
    have ho1 := ho.kept (hk out ho.lt (fun h => h.2 hMo))
    refine r_stk (st2 := [.int (iI ((sB (T.1) (fp_best (fp_slk (T.1)) (sN (T.1))) 0 : Nat) : Int)), .int (iI ((0 : Nat) : Int)), .ref out]) rfl ?_
    refine lv_i2l (v := (iI ((sB (T.1) (fp_best (fp_slk (T.1)) (sN (T.1))) 0 : Nat) : Int)).toInt64) hx hb dX0_weakest_6 rfl ?_
    refine r_lastI X ho1 hS (Or.inl ⟨hob, Or.inr rfl⟩) (j := 0) rfl (by decide) (by decide) dX0_weakest_7 (fun H2 locs ho2 hz2 hq2 hS => ?_)
    refine lv_goto (tgt := 14) hx hb dX0_weakest_8 (by decide) ?_
    refine lv_iconst (v := (iI ((0 : Nat) : Int))) hx hb dX0_weakest_14 rfl ?_
    refine x_iret hx hb hr hlk hQ hS (Nat.le_refl _) (Nat.le_refl _) dX0_weakest_15 ?_
    exact ⟨_, by rw [hc0], fun _ => fp_updL_0.trans rfl, hP1.st X.2.2.2.2.2 ho1 hMo hob hz2 hq2, ho2⟩
  · have ho1 := ho.kept (hk out ho.lt (fun h => h.2 hMo))
    obtain ⟨rfl, hc1, hP1⟩ := hp
    refine r_catch (E := "java/util/NoSuchElementException") (name := "java/util/NoSuchElementException") X hT ([] : List ExceptionTableEntry) ⟨0, 8, 11, 27⟩ ([] : List ExceptionTableEntry) rfl fp_ps_nil rfl (by decide) q1315 q323 hcx hvx hlx ?_
    refine lv_astore_n (lv' := [(2, .ref (qx)), (0, .ref (x)), (1, .ref (out))]) hx hb dX0_weakest_11 rfl hl (by decide) rfl (fun ls hl => ?_)
    refine lv_iconst (v := (iI ((1 : Nat) : Int))) hx hb dX0_weakest_12 rfl ?_
    refine x_iret hx hb hr hlk hQ hS (Nat.le_refl _) (Nat.le_refl _) dX0_weakest_13 ?_
    exact ⟨g, by rw [hc1], fun z => by rw [hc1] at z; cases z, hP1, ho1⟩
set_option maxHeartbeats 1000000 in
theorem x0_blockBySlack (G : fp_G) (x : Nat) (M : Nat → Prop) (T : TH) (i out : Nat) (g : Nat → Int64) (a0 : Int) (hI : fp_TI i T) (g0 : rg a0) (hMo : M out) (hob : (g_s G).heap.size ≤ out) : fp_MH G yX0_blockBySlack cX0_blockBySlack 4 (some .int) [(0, 9, 12, 27)] 14 353 148 2986 [.ref (x), .int (iI (a0)), .ref (out)] (fun H => fp_PW G x M T H ∧ fp_At G H out (eJ G 1 g)) (fun q => (g_s G).heap.size ≤ q ∧ (¬ M q ∨ q = out)) (fun H v H1 => ∃ g2 : Nat → Int64, v = some (.int (iI ((fp_bslc (T.1) a0 : Nat) : Int))) ∧ (fp_bslc (T.1) a0 = 0 → g2 0 = (iI ((sB (T.1) (fp_bsl (T.1) a0) 0 : Nat) : Int)).toInt64) ∧ fp_PW G x M T H1 ∧ fp_At G H1 out (eJ G 1 g2)) (fun _ _ _ => False) := by
  refine fp_MH.intro (by decide +kernel) (Nat.le_of_ble_eq_true rfl) ?_
  intro pg en s mi ag bl mt cd rR qQ ls X hx hb hr hlk hnm hR hQ hT hB hM hl
  have hS : va_S (fA (fun q => (g_s G).heap.size ≤ q ∧ (¬ M q ∨ q = out)) s.heap.size) s.heap s.heap [] := va_S.rf
  generalize ([] : List Loc) = locs at hS ⊢
  obtain ⟨hP, ho⟩ := hM
  obtain ⟨fs9, hob1⟩ := hP.ob
  refine lv_aload_n hx hb dX0_blockBySlack_0 rfl (lv_at hl 2 rfl) ?_
  refine lv_iconst (v := (iI ((0 : Nat) : Int))) hx hb dX0_blockBySlack_1 rfl ?_
  refine lv_aload_n hx hb dX0_blockBySlack_2 rfl (lv_at hl 0 rfl) ?_
  refine lv_iload_n hx hb dX0_blockBySlack_3 rfl (lv_at hl 1 rfl) ?_
  refine x_callV (cells1 := 148) (slots1 := 2986) X hR (w_blockBySlack G x M T i a0 hI g0) q1561 q1562 q1563 q88 q1564 ⟨rfl, pd_X1_blockBySlack⟩ ⟨Nat.le_of_ble_eq_true rfl, Nat.le_of_ble_eq_true rfl⟩ (Nat.zero_add _) (Nat.zero_add _) (Nat.le_refl _) (Nat.le_refl _) hob1 rfl rfl (Nat.le_of_ble_eq_true rfl) hl.1 dX0_blockBySlack_4 hB hP hS (fun q h => Or.inl ⟨h.1, Or.inl h.2⟩) (fun v H1 locs hp hz hk hS => ?_) (fun Ex qx cx H1 locs hp hz hk hS hcx hvx hlx => ?_)
  · obtain ⟨rfl, hc0, hP1⟩ := hp
    have ho1 := ho.kept (hk out ho.lt (fun h => h.2 hMo))
    refine r_stk (st2 := [.int (iI ((sB (T.1) (fp_bsl (T.1) a0) 0 : Nat) : Int)), .int (iI ((0 : Nat) : Int)), .ref out]) rfl ?_
    refine lv_i2l (v := (iI ((sB (T.1) (fp_bsl (T.1) a0) 0 : Nat) : Int)).toInt64) hx hb dX0_blockBySlack_7 rfl ?_
    refine r_lastI X ho1 hS (Or.inl ⟨hob, Or.inr rfl⟩) (j := 0) rfl (by decide) (by decide) dX0_blockBySlack_8 (fun H2 locs ho2 hz2 hq2 hS => ?_)
    refine lv_goto (tgt := 15) hx hb dX0_blockBySlack_9 (by decide) ?_
    refine lv_iconst (v := (iI ((0 : Nat) : Int))) hx hb dX0_blockBySlack_15 rfl ?_
    refine x_iret hx hb hr hlk hQ hS (Nat.le_refl _) (Nat.le_refl _) dX0_blockBySlack_16 ?_
    exact ⟨_, by rw [hc0], fun _ => fp_updL_0.trans rfl, hP1.st X.2.2.2.2.2 ho1 hMo hob hz2 hq2, ho2⟩
  · have ho1 := ho.kept (hk out ho.lt (fun h => h.2 hMo))
    obtain ⟨rfl, hc1, hP1⟩ := hp
    refine r_catch (E := "java/util/NoSuchElementException") (name := "java/util/NoSuchElementException") X hT ([] : List ExceptionTableEntry) ⟨0, 9, 12, 27⟩ ([] : List ExceptionTableEntry) rfl fp_ps_nil rfl (by decide) q1315 q323 hcx hvx hlx ?_
    refine lv_astore_n (lv' := [(3, .ref (qx)), (0, .ref (x)), (1, .int (iI (a0))), (2, .ref (out))]) hx hb dX0_blockBySlack_12 rfl hl (by decide) rfl (fun ls hl => ?_)
    refine lv_iconst (v := (iI ((1 : Nat) : Int))) hx hb dX0_blockBySlack_13 rfl ?_
    refine x_iret hx hb hr hlk hQ hS (Nat.le_refl _) (Nat.le_refl _) dX0_blockBySlack_14 ?_
    exact ⟨g, by rw [hc1], fun z => by rw [hc1] at z; cases z, hP1, ho1⟩
set_option maxHeartbeats 1000000 in
theorem x0_level (G : fp_G) (x : Nat) (M : Nat → Prop) (T : TH) (i out : Nat) (g : Nat → Int64) (a0 : Int) (hI : fp_TI i T) (g0 : rg a0) (hMo : M out) (hob : (g_s G).heap.size ≤ out) : fp_MH G yX0_level cX0_level 4 (some .int) [(0, 9, 12, 27)] 250 5887 3 34 [.ref (x), .int (iI (a0)), .ref (out)] (fun H => fp_PW G x M T H ∧ fp_At G H out (eJ G 1 g)) (fun q => (g_s G).heap.size ≤ q ∧ (¬ M q ∨ q = out)) (fun H v H1 => ∃ g2 : Nat → Int64, v = some (.int (iI ((fp_fc (T.1) a0 : Nat) : Int))) ∧ (fp_fc (T.1) a0 = 0 → g2 0 = (iI ((fp_lv (T.1) (fp_fnd (T.1) a0) : Nat) : Int)).toInt64) ∧ fp_PW G x M T H1 ∧ fp_At G H1 out (eJ G 1 g2)) (fun _ _ _ => False) := by
  refine fp_MH.intro (by decide +kernel) (Nat.le_of_ble_eq_true rfl) ?_
  intro pg en s mi ag bl mt cd rR qQ ls X hx hb hr hlk hnm hR hQ hT hB hM hl
  have hS : va_S (fA (fun q => (g_s G).heap.size ≤ q ∧ (¬ M q ∨ q = out)) s.heap.size) s.heap s.heap [] := va_S.rf
  generalize ([] : List Loc) = locs at hS ⊢
  obtain ⟨hP, ho⟩ := hM
  obtain ⟨fs9, hob1⟩ := hP.ob
  refine lv_aload_n hx hb dX0_level_0 rfl (lv_at hl 2 rfl) ?_
  refine lv_iconst (v := (iI ((0 : Nat) : Int))) hx hb dX0_level_1 rfl ?_
  refine lv_aload_n hx hb dX0_level_2 rfl (lv_at hl 0 rfl) ?_
  refine lv_iload_n hx hb dX0_level_3 rfl (lv_at hl 1 rfl) ?_
  refine x_callV (cells1 := 3) (slots1 := 34) X hR (w_level G x M T i a0 hI g0) q1568 q1569 q1570 q88 q1571 ⟨rfl, pd_X1_level⟩ ⟨Nat.le_of_ble_eq_true rfl, Nat.le_of_ble_eq_true rfl⟩ (Nat.zero_add _) (Nat.zero_add _) (Nat.le_refl _) (Nat.le_refl _) hob1 rfl rfl (Nat.le_of_ble_eq_true rfl) hl.1 dX0_level_4 hB hP hS (fun q h => Or.inl ⟨h.1, Or.inl h.2⟩) (fun v H1 locs hp hz hk hS => ?_) (fun Ex qx cx H1 locs hp hz hk hS hcx hvx hlx => ?_)
  · obtain ⟨rfl, hc0, hP1⟩ := hp
    have ho1 := ho.kept (hk out ho.lt (fun h => h.2 hMo))
    refine r_stk (st2 := [.int (iI ((fp_lv (T.1) (fp_fnd (T.1) a0) : Nat) : Int)), .int (iI ((0 : Nat) : Int)), .ref out]) rfl ?_
    refine lv_i2l (v := (iI ((fp_lv (T.1) (fp_fnd (T.1) a0) : Nat) : Int)).toInt64) hx hb dX0_level_7 rfl ?_
    refine r_lastI X ho1 hS (Or.inl ⟨hob, Or.inr rfl⟩) (j := 0) rfl (by decide) (by decide) dX0_level_8 (fun H2 locs ho2 hz2 hq2 hS => ?_)
    refine lv_goto (tgt := 15) hx hb dX0_level_9 (by decide) ?_
    refine lv_iconst (v := (iI ((0 : Nat) : Int))) hx hb dX0_level_15 rfl ?_
    refine x_iret hx hb hr hlk hQ hS (Nat.le_refl _) (Nat.le_refl _) dX0_level_16 ?_
    exact ⟨_, by rw [hc0], fun _ => fp_updL_0.trans rfl, hP1.st X.2.2.2.2.2 ho1 hMo hob hz2 hq2, ho2⟩
  · have ho1 := ho.kept (hk out ho.lt (fun h => h.2 hMo))
    obtain ⟨rfl, hc1, hP1⟩ := hp
    refine r_catch (E := "java/util/NoSuchElementException") (name := "java/util/NoSuchElementException") X hT ([] : List ExceptionTableEntry) ⟨0, 9, 12, 27⟩ ([] : List ExceptionTableEntry) rfl fp_ps_nil rfl (by decide) q1315 q323 hcx hvx hlx ?_
    refine lv_astore_n (lv' := [(3, .ref (qx)), (0, .ref (x)), (1, .int (iI (a0))), (2, .ref (out))]) hx hb dX0_level_12 rfl hl (by decide) rfl (fun ls hl => ?_)
    refine lv_iconst (v := (iI ((1 : Nat) : Int))) hx hb dX0_level_13 rfl ?_
    refine x_iret hx hb hr hlk hQ hS (Nat.le_refl _) (Nat.le_refl _) dX0_level_14 ?_
    exact ⟨g, by rw [hc1], fun z => by rw [hc1] at z; cases z, hP1, ho1⟩
set_option maxHeartbeats 1000000 in
theorem x0_isAbove (G : fp_G) (x : Nat) (M : Nat → Prop) (T : TH) (i out : Nat) (g : Nat → Int64) (a0 : Int) (a1 : Int) (hI : fp_TI i T) (g0 : rg a0) (g1 : rg a1) (hMo : M out) (hob : (g_s G).heap.size ≤ out) : fp_MH G yX0_isAbove cX0_isAbove 5 (some .int) [(0, 17, 20, 27)] 250 5890 5 44 [.ref (x), .int (iI (a0)), .int (iI (a1)), .ref (out)] (fun H => fp_PW G x M T H ∧ fp_At G H out (eJ G 1 g)) (fun q => (g_s G).heap.size ≤ q ∧ (¬ M q ∨ q = out)) (fun H v H1 => ∃ g2 : Nat → Int64, v = some (.int (iI ((fp_fc2 (T.1) a0 a1 : Nat) : Int))) ∧ (fp_fc2 (T.1) a0 a1 = 0 → g2 0 = (iI (bI (fp_ab (T.1) (fp_fnd (T.1) a1) (fp_fnd (T.1) a0)))).toInt64) ∧ fp_PW G x M T H1 ∧ fp_At G H1 out (eJ G 1 g2)) (fun _ _ _ => False) := by
  refine fp_MH.intro (by decide +kernel) (Nat.le_of_ble_eq_true rfl) ?_
  intro pg en s mi ag bl mt cd rR qQ ls X hx hb hr hlk hnm hR hQ hT hB hM hl
  have hS : va_S (fA (fun q => (g_s G).heap.size ≤ q ∧ (¬ M q ∨ q = out)) s.heap.size) s.heap s.heap [] := va_S.rf
  generalize ([] : List Loc) = locs at hS ⊢
  obtain ⟨hP, ho⟩ := hM
  obtain ⟨fs9, hob1⟩ := hP.ob
  refine lv_aload_n hx hb dX0_isAbove_0 rfl (lv_at hl 3 rfl) ?_
  refine lv_iconst (v := (iI ((0 : Nat) : Int))) hx hb dX0_isAbove_1 rfl ?_
  refine lv_aload_n hx hb dX0_isAbove_2 rfl (lv_at hl 0 rfl) ?_
  refine lv_iload_n hx hb dX0_isAbove_3 rfl (lv_at hl 1 rfl) ?_
  refine lv_iload_n hx hb dX0_isAbove_4 rfl (lv_at hl 2 rfl) ?_
  refine x_callV (cells1 := 5) (slots1 := 44) X hR (w_isAbove G x M T i a0 a1 hI g0 g1) q1579 q1580 q1581 q88 q1582 ⟨rfl, pd_X1_isAbove⟩ ⟨Nat.le_of_ble_eq_true rfl, Nat.le_of_ble_eq_true rfl⟩ (Nat.zero_add _) (Nat.zero_add _) (Nat.le_refl _) (Nat.le_refl _) hob1 rfl rfl (Nat.le_of_ble_eq_true rfl) hl.1 dX0_isAbove_5 hB hP hS (fun q h => Or.inl ⟨h.1, Or.inl h.2⟩) (fun v H1 locs hp hz hk hS => ?_) (fun Ex qx cx H1 locs hp hz hk hS hcx hvx hlx => ?_)
  · obtain ⟨rfl, hc0, hP1⟩ := hp
    have ho1 := ho.kept (hk out ho.lt (fun h => h.2 hMo))
    refine r_stk (st2 := [.int (iI (bI (fp_ab (T.1) (fp_fnd (T.1) a1) (fp_fnd (T.1) a0)))), .int (iI ((0 : Nat) : Int)), .ref out]) rfl ?_
    refine r_ifeqB (tgt := 15) hx hb dX0_isAbove_8 (by decide) (fun cb => ?_) (fun cb => ?_)
    · refine lv_lconst (v := 0) hx hb dX0_isAbove_15 rfl ?_
      refine r_lastI X ho1 hS (Or.inl ⟨hob, Or.inr rfl⟩) (j := 0) rfl (by decide) (by decide) dX0_isAbove_16 (fun H2 locs ho2 hz2 hq2 hS => ?_)
      refine lv_goto (tgt := 24) hx hb dX0_isAbove_17 (by decide) ?_
      refine lv_iconst (v := (iI ((0 : Nat) : Int))) hx hb dX0_isAbove_24 rfl ?_
      refine x_iret hx hb hr hlk hQ hS (Nat.le_refl _) (Nat.le_refl _) dX0_isAbove_25 ?_
      exact ⟨_, by rw [hc0], fun _ => fp_updL_0.trans (by rw [cb]; rfl), hP1.st X.2.2.2.2.2 ho1 hMo hob hz2 hq2, ho2⟩
    · refine lv_lconst (v := 1) hx hb dX0_isAbove_11 rfl ?_
      refine lv_goto (tgt := 16) hx hb dX0_isAbove_12 (by decide) ?_
      refine r_lastI X ho1 hS (Or.inl ⟨hob, Or.inr rfl⟩) (j := 0) rfl (by decide) (by decide) dX0_isAbove_16 (fun H2 locs ho2 hz2 hq2 hS => ?_)
      refine lv_goto (tgt := 24) hx hb dX0_isAbove_17 (by decide) ?_
      refine lv_iconst (v := (iI ((0 : Nat) : Int))) hx hb dX0_isAbove_24 rfl ?_
      refine x_iret hx hb hr hlk hQ hS (Nat.le_refl _) (Nat.le_refl _) dX0_isAbove_25 ?_
      exact ⟨_, by rw [hc0], fun _ => fp_updL_0.trans (by rw [cb]; rfl), hP1.st X.2.2.2.2.2 ho1 hMo hob hz2 hq2, ho2⟩
  · have ho1 := ho.kept (hk out ho.lt (fun h => h.2 hMo))
    obtain ⟨rfl, hc1, hP1⟩ := hp
    refine r_catch (E := "java/util/NoSuchElementException") (name := "java/util/NoSuchElementException") X hT ([] : List ExceptionTableEntry) ⟨0, 17, 20, 27⟩ ([] : List ExceptionTableEntry) rfl fp_ps_nil rfl (by decide) q1315 q323 hcx hvx hlx ?_
    refine lv_astore (lv' := [(4, .ref (qx)), (0, .ref (x)), (1, .int (iI (a0))), (2, .int (iI (a1))), (3, .ref (out))]) hx hb dX0_isAbove_20 hl (by decide) rfl (fun ls hl => ?_)
    refine lv_iconst (v := (iI ((1 : Nat) : Int))) hx hb dX0_isAbove_22 rfl ?_
    refine x_iret hx hb hr hlk hQ hS (Nat.le_refl _) (Nat.le_refl _) dX0_isAbove_23 ?_
    exact ⟨g, by rw [hc1], fun z => by rw [hc1] at z; cases z, hP1, ho1⟩
set_option maxHeartbeats 1000000 in
theorem x0_countAbove (G : fp_G) (x : Nat) (M : Nat → Prop) (T : TH) (i out : Nat) (g : Nat → Int64) (a0 : Int) (hI : fp_TI i T) (g0 : rg a0) (hMo : M out) (hob : (g_s G).heap.size ≤ out) : fp_MH G yX0_countAbove cX0_countAbove 4 (some .int) [(0, 9, 12, 27)] 304 8107 28 592 [.ref (x), .int (iI (a0)), .ref (out)] (fun H => fp_PW G x M T H ∧ fp_At G H out (eJ G 1 g)) (fun q => (g_s G).heap.size ≤ q ∧ (¬ M q ∨ q = out)) (fun H v H1 => ∃ g2 : Nat → Int64, v = some (.int (iI ((fp_fc (T.1) a0 : Nat) : Int))) ∧ (fp_fc (T.1) a0 = 0 → g2 0 = (iI ((fp_ct (fp_ab (T.1) (fp_fnd (T.1) a0)) (sN (T.1)) : Nat) : Int)).toInt64) ∧ fp_PW G x M T H1 ∧ fp_At G H1 out (eJ G 1 g2)) (fun _ _ _ => False) := by
  refine fp_MH.intro (by decide +kernel) (Nat.le_of_ble_eq_true rfl) ?_
  intro pg en s mi ag bl mt cd rR qQ ls X hx hb hr hlk hnm hR hQ hT hB hM hl
  have hS : va_S (fA (fun q => (g_s G).heap.size ≤ q ∧ (¬ M q ∨ q = out)) s.heap.size) s.heap s.heap [] := va_S.rf
  generalize ([] : List Loc) = locs at hS ⊢
  obtain ⟨hP, ho⟩ := hM
  obtain ⟨fs9, hob1⟩ := hP.ob
  refine lv_aload_n hx hb dX0_countAbove_0 rfl (lv_at hl 2 rfl) ?_
  refine lv_iconst (v := (iI ((0 : Nat) : Int))) hx hb dX0_countAbove_1 rfl ?_
  refine lv_aload_n hx hb dX0_countAbove_2 rfl (lv_at hl 0 rfl) ?_
  refine lv_iload_n hx hb dX0_countAbove_3 rfl (lv_at hl 1 rfl) ?_
  refine x_callV (cells1 := 28) (slots1 := 592) X hR (w_countAbove G x M T i a0 hI g0) q1594 q1595 q1596 q88 q1597 ⟨rfl, pd_X1_countAbove⟩ ⟨Nat.le_of_ble_eq_true rfl, Nat.le_of_ble_eq_true rfl⟩ (Nat.zero_add _) (Nat.zero_add _) (Nat.le_refl _) (Nat.le_refl _) hob1 rfl rfl (Nat.le_of_ble_eq_true rfl) hl.1 dX0_countAbove_4 hB hP hS (fun q h => Or.inl ⟨h.1, Or.inl h.2⟩) (fun v H1 locs hp hz hk hS => ?_) (fun Ex qx cx H1 locs hp hz hk hS hcx hvx hlx => ?_)
  · obtain ⟨rfl, hc0, hP1⟩ := hp
    have ho1 := ho.kept (hk out ho.lt (fun h => h.2 hMo))
    refine r_stk (st2 := [.int (iI ((fp_ct (fp_ab (T.1) (fp_fnd (T.1) a0)) (sN (T.1)) : Nat) : Int)), .int (iI ((0 : Nat) : Int)), .ref out]) rfl ?_
    refine lv_i2l (v := (iI ((fp_ct (fp_ab (T.1) (fp_fnd (T.1) a0)) (sN (T.1)) : Nat) : Int)).toInt64) hx hb dX0_countAbove_7 rfl ?_
    refine r_lastI X ho1 hS (Or.inl ⟨hob, Or.inr rfl⟩) (j := 0) rfl (by decide) (by decide) dX0_countAbove_8 (fun H2 locs ho2 hz2 hq2 hS => ?_)
    refine lv_goto (tgt := 15) hx hb dX0_countAbove_9 (by decide) ?_
    refine lv_iconst (v := (iI ((0 : Nat) : Int))) hx hb dX0_countAbove_15 rfl ?_
    refine x_iret hx hb hr hlk hQ hS (Nat.le_refl _) (Nat.le_refl _) dX0_countAbove_16 ?_
    exact ⟨_, by rw [hc0], fun _ => fp_updL_0.trans rfl, hP1.st X.2.2.2.2.2 ho1 hMo hob hz2 hq2, ho2⟩
  · have ho1 := ho.kept (hk out ho.lt (fun h => h.2 hMo))
    obtain ⟨rfl, hc1, hP1⟩ := hp
    refine r_catch (E := "java/util/NoSuchElementException") (name := "java/util/NoSuchElementException") X hT ([] : List ExceptionTableEntry) ⟨0, 9, 12, 27⟩ ([] : List ExceptionTableEntry) rfl fp_ps_nil rfl (by decide) q1315 q323 hcx hvx hlx ?_
    refine lv_astore_n (lv' := [(3, .ref (qx)), (0, .ref (x)), (1, .int (iI (a0))), (2, .ref (out))]) hx hb dX0_countAbove_12 rfl hl (by decide) rfl (fun ls hl => ?_)
    refine lv_iconst (v := (iI ((1 : Nat) : Int))) hx hb dX0_countAbove_13 rfl ?_
    refine x_iret hx hb hr hlk hQ hS (Nat.le_refl _) (Nat.le_refl _) dX0_countAbove_14 ?_
    exact ⟨g, by rw [hc1], fun z => by rw [hc1] at z; cases z, hP1, ho1⟩
set_option maxHeartbeats 1000000 in
theorem x0_height (G : fp_G) (x : Nat) (M : Nat → Prop) (T : TH) (i out : Nat) (g : Nat → Int64) (a0 : Int) (hI : fp_TI i T) (g0 : rg a0) (hMo : M out) (hob : (g_s G).heap.size ≤ out) : fp_MH G yX0_height cX0_height 4 (some .int) [(0, 9, 12, 33)] 10 186 2 10 [.ref (x), .int (iI (a0)), .ref (out)] (fun H => fp_PW G x M T H ∧ fp_At G H out (eJ G 1 g)) (fun q => (g_s G).heap.size ≤ q ∧ (¬ M q ∨ q = out)) (fun H v H1 => ∃ g2 : Nat → Int64, v = some (.int (iI ((fp_cc a0 : Nat) : Int))) ∧ (fp_cc a0 = 0 → g2 0 = (iI ((fp_hi (T.1) a0.toNat : Nat) : Int)).toInt64) ∧ fp_PW G x M T H1 ∧ fp_At G H1 out (eJ G 1 g2)) (fun _ _ _ => False) := by
  refine fp_MH.intro (by decide +kernel) (Nat.le_of_ble_eq_true rfl) ?_
  intro pg en s mi ag bl mt cd rR qQ ls X hx hb hr hlk hnm hR hQ hT hB hM hl
  have hS : va_S (fA (fun q => (g_s G).heap.size ≤ q ∧ (¬ M q ∨ q = out)) s.heap.size) s.heap s.heap [] := va_S.rf
  generalize ([] : List Loc) = locs at hS ⊢
  obtain ⟨hP, ho⟩ := hM
  obtain ⟨fs9, hob1⟩ := hP.ob
  refine lv_aload_n hx hb dX0_height_0 rfl (lv_at hl 2 rfl) ?_
  refine lv_iconst (v := (iI ((0 : Nat) : Int))) hx hb dX0_height_1 rfl ?_
  refine lv_aload_n hx hb dX0_height_2 rfl (lv_at hl 0 rfl) ?_
  refine lv_iload_n hx hb dX0_height_3 rfl (lv_at hl 1 rfl) ?_
  refine x_callV (cells1 := 2) (slots1 := 10) X hR (w_height G x M T i a0 hI g0) q1604 q1605 q1606 q88 q1607 ⟨rfl, pd_X1_height⟩ ⟨Nat.le_of_ble_eq_true rfl, Nat.le_of_ble_eq_true rfl⟩ (Nat.zero_add _) (Nat.zero_add _) (Nat.le_refl _) (Nat.le_refl _) hob1 rfl rfl (Nat.le_of_ble_eq_true rfl) hl.1 dX0_height_4 hB hP hS (fun q h => Or.inl ⟨h.1, Or.inl h.2⟩) (fun v H1 locs hp hz hk hS => ?_) (fun Ex qx cx H1 locs hp hz hk hS hcx hvx hlx => ?_)
  · obtain ⟨rfl, hc0, hP1⟩ := hp
    have ho1 := ho.kept (hk out ho.lt (fun h => h.2 hMo))
    refine r_stk (st2 := [.int (iI ((fp_hi (T.1) a0.toNat : Nat) : Int)), .int (iI ((0 : Nat) : Int)), .ref out]) rfl ?_
    refine lv_i2l (v := (iI ((fp_hi (T.1) a0.toNat : Nat) : Int)).toInt64) hx hb dX0_height_7 rfl ?_
    refine r_lastI X ho1 hS (Or.inl ⟨hob, Or.inr rfl⟩) (j := 0) rfl (by decide) (by decide) dX0_height_8 (fun H2 locs ho2 hz2 hq2 hS => ?_)
    refine lv_goto (tgt := 15) hx hb dX0_height_9 (by decide) ?_
    refine lv_iconst (v := (iI ((0 : Nat) : Int))) hx hb dX0_height_15 rfl ?_
    refine x_iret hx hb hr hlk hQ hS (Nat.le_refl _) (Nat.le_refl _) dX0_height_16 ?_
    exact ⟨_, by rw [hc0], fun _ => fp_updL_0.trans rfl, hP1.st X.2.2.2.2.2 ho1 hMo hob hz2 hq2, ho2⟩
  · have ho1 := ho.kept (hk out ho.lt (fun h => h.2 hMo))
    obtain ⟨rfl, hc1, hP1⟩ := hp
    refine r_catch (E := "java/lang/IndexOutOfBoundsException") (name := "java/lang/IndexOutOfBoundsException") X hT ([] : List ExceptionTableEntry) ⟨0, 9, 12, 33⟩ ([] : List ExceptionTableEntry) rfl fp_ps_nil rfl (by decide) q1340 q568 hcx hvx hlx ?_
    refine lv_astore_n (lv' := [(3, .ref (qx)), (0, .ref (x)), (1, .int (iI (a0))), (2, .ref (out))]) hx hb dX0_height_12 rfl hl (by decide) rfl (fun ls hl => ?_)
    refine lv_iconst (v := (iI ((1 : Nat) : Int))) hx hb dX0_height_13 rfl ?_
    refine x_iret hx hb hr hlk hQ hS (Nat.le_refl _) (Nat.le_refl _) dX0_height_14 ?_
    exact ⟨g, by rw [hc1], fun z => by rw [hc1] at z; cases z, hP1, ho1⟩
set_option maxHeartbeats 1000000 in
theorem x0_holes (G : fp_G) (x : Nat) (M : Nat → Prop) (T : TH) (i out : Nat) (g : Nat → Int64) (a0 : Int) (hI : fp_TI i T) (g0 : rg a0) (hMo : M out) (hob : (g_s G).heap.size ≤ out) : fp_MH G yX0_holes cX0_holes 4 (some .int) [(0, 9, 12, 33)] 306 8151 133 448 [.ref (x), .int (iI (a0)), .ref (out)] (fun H => fp_PW G x M T H ∧ fp_At G H out (eJ G 1 g)) (fun q => (g_s G).heap.size ≤ q ∧ (¬ M q ∨ q = out)) (fun H v H1 => ∃ g2 : Nat → Int64, v = some (.int (iI ((fp_cc a0 : Nat) : Int))) ∧ (fp_cc a0 = 0 → g2 0 = (iI (fp_hol (T.1) a0.toNat)).toInt64) ∧ fp_PW G x M T H1 ∧ fp_At G H1 out (eJ G 1 g2)) (fun _ _ _ => False) := by
  refine fp_MH.intro (by decide +kernel) (Nat.le_of_ble_eq_true rfl) ?_
  intro pg en s mi ag bl mt cd rR qQ ls X hx hb hr hlk hnm hR hQ hT hB hM hl
  have hS : va_S (fA (fun q => (g_s G).heap.size ≤ q ∧ (¬ M q ∨ q = out)) s.heap.size) s.heap s.heap [] := va_S.rf
  generalize ([] : List Loc) = locs at hS ⊢
  obtain ⟨hP, ho⟩ := hM
  obtain ⟨fs9, hob1⟩ := hP.ob
  refine lv_aload_n hx hb dX0_holes_0 rfl (lv_at hl 2 rfl) ?_
  refine lv_iconst (v := (iI ((0 : Nat) : Int))) hx hb dX0_holes_1 rfl ?_
  refine lv_aload_n hx hb dX0_holes_2 rfl (lv_at hl 0 rfl) ?_
  refine lv_iload_n hx hb dX0_holes_3 rfl (lv_at hl 1 rfl) ?_
  refine x_callV (cells1 := 133) (slots1 := 448) X hR (w_holes G x M T i a0 hI g0) q1611 q1612 q1613 q88 q1614 ⟨rfl, pd_X1_holes⟩ ⟨Nat.le_of_ble_eq_true rfl, Nat.le_of_ble_eq_true rfl⟩ (Nat.zero_add _) (Nat.zero_add _) (Nat.le_refl _) (Nat.le_refl _) hob1 rfl rfl (Nat.le_of_ble_eq_true rfl) hl.1 dX0_holes_4 hB hP hS (fun q h => Or.inl ⟨h.1, Or.inl h.2⟩) (fun v H1 locs hp hz hk hS => ?_) (fun Ex qx cx H1 locs hp hz hk hS hcx hvx hlx => ?_)
  · obtain ⟨rfl, hc0, hP1⟩ := hp
    have ho1 := ho.kept (hk out ho.lt (fun h => h.2 hMo))
    refine r_stk (st2 := [.int (iI (fp_hol (T.1) a0.toNat)), .int (iI ((0 : Nat) : Int)), .ref out]) rfl ?_
    refine lv_i2l (v := (iI (fp_hol (T.1) a0.toNat)).toInt64) hx hb dX0_holes_7 rfl ?_
    refine r_lastI X ho1 hS (Or.inl ⟨hob, Or.inr rfl⟩) (j := 0) rfl (by decide) (by decide) dX0_holes_8 (fun H2 locs ho2 hz2 hq2 hS => ?_)
    refine lv_goto (tgt := 15) hx hb dX0_holes_9 (by decide) ?_
    refine lv_iconst (v := (iI ((0 : Nat) : Int))) hx hb dX0_holes_15 rfl ?_
    refine x_iret hx hb hr hlk hQ hS (Nat.le_refl _) (Nat.le_refl _) dX0_holes_16 ?_
    exact ⟨_, by rw [hc0], fun _ => fp_updL_0.trans rfl, hP1.st X.2.2.2.2.2 ho1 hMo hob hz2 hq2, ho2⟩
  · have ho1 := ho.kept (hk out ho.lt (fun h => h.2 hMo))
    obtain ⟨rfl, hc1, hP1⟩ := hp
    refine r_catch (E := "java/lang/IndexOutOfBoundsException") (name := "java/lang/IndexOutOfBoundsException") X hT ([] : List ExceptionTableEntry) ⟨0, 9, 12, 33⟩ ([] : List ExceptionTableEntry) rfl fp_ps_nil rfl (by decide) q1340 q568 hcx hvx hlx ?_
    refine lv_astore_n (lv' := [(3, .ref (qx)), (0, .ref (x)), (1, .int (iI (a0))), (2, .ref (out))]) hx hb dX0_holes_12 rfl hl (by decide) rfl (fun ls hl => ?_)
    refine lv_iconst (v := (iI ((1 : Nat) : Int))) hx hb dX0_holes_13 rfl ?_
    refine x_iret hx hb hr hlk hQ hS (Nat.le_refl _) (Nat.le_refl _) dX0_holes_14 ?_
    exact ⟨g, by rw [hc1], fun z => by rw [hc1] at z; cases z, hP1, ho1⟩
set_option maxHeartbeats 1000000 in
theorem x0_holesByHeights (G : fp_G) (x : Nat) (M : Nat → Prop) (T : TH) (i out : Nat) (g : Nat → Int64) (a0 : Int) (hI : fp_TI i T) (g0 : rg a0) (hMo : M out) (hob : (g_s G).heap.size ≤ out) : fp_MH G yX0_holesByHeights cX0_holesByHeights 4 (some .int) [(0, 9, 12, 33)] 305 8128 4 15 [.ref (x), .int (iI (a0)), .ref (out)] (fun H => fp_PW G x M T H ∧ fp_At G H out (eJ G 1 g)) (fun q => (g_s G).heap.size ≤ q ∧ (¬ M q ∨ q = out)) (fun H v H1 => ∃ g2 : Nat → Int64, v = some (.int (iI ((fp_cc a0 : Nat) : Int))) ∧ (fp_cc a0 = 0 → g2 0 = (iI (fp_hol (T.1) a0.toNat)).toInt64) ∧ fp_PW G x M T H1 ∧ fp_At G H1 out (eJ G 1 g2)) (fun _ _ _ => False) := by
  refine fp_MH.intro (by decide +kernel) (Nat.le_of_ble_eq_true rfl) ?_
  intro pg en s mi ag bl mt cd rR qQ ls X hx hb hr hlk hnm hR hQ hT hB hM hl
  have hS : va_S (fA (fun q => (g_s G).heap.size ≤ q ∧ (¬ M q ∨ q = out)) s.heap.size) s.heap s.heap [] := va_S.rf
  generalize ([] : List Loc) = locs at hS ⊢
  obtain ⟨hP, ho⟩ := hM
  obtain ⟨fs9, hob1⟩ := hP.ob
  refine lv_aload_n hx hb dX0_holesByHeights_0 rfl (lv_at hl 2 rfl) ?_
  refine lv_iconst (v := (iI ((0 : Nat) : Int))) hx hb dX0_holesByHeights_1 rfl ?_
  refine lv_aload_n hx hb dX0_holesByHeights_2 rfl (lv_at hl 0 rfl) ?_
  refine lv_iload_n hx hb dX0_holesByHeights_3 rfl (lv_at hl 1 rfl) ?_
  refine x_callV (cells1 := 4) (slots1 := 15) X hR (w_holesByHeights G x M T i a0 hI g0) q1618 q1619 q1620 q88 q1621 ⟨rfl, pd_X1_holesByHeights⟩ ⟨Nat.le_of_ble_eq_true rfl, Nat.le_of_ble_eq_true rfl⟩ (Nat.zero_add _) (Nat.zero_add _) (Nat.le_refl _) (Nat.le_refl _) hob1 rfl rfl (Nat.le_of_ble_eq_true rfl) hl.1 dX0_holesByHeights_4 hB hP hS (fun q h => Or.inl ⟨h.1, Or.inl h.2⟩) (fun v H1 locs hp hz hk hS => ?_) (fun Ex qx cx H1 locs hp hz hk hS hcx hvx hlx => ?_)
  · obtain ⟨rfl, hc0, hP1⟩ := hp
    have ho1 := ho.kept (hk out ho.lt (fun h => h.2 hMo))
    refine r_stk (st2 := [.int (iI (fp_hol (T.1) a0.toNat)), .int (iI ((0 : Nat) : Int)), .ref out]) rfl ?_
    refine lv_i2l (v := (iI (fp_hol (T.1) a0.toNat)).toInt64) hx hb dX0_holesByHeights_7 rfl ?_
    refine r_lastI X ho1 hS (Or.inl ⟨hob, Or.inr rfl⟩) (j := 0) rfl (by decide) (by decide) dX0_holesByHeights_8 (fun H2 locs ho2 hz2 hq2 hS => ?_)
    refine lv_goto (tgt := 15) hx hb dX0_holesByHeights_9 (by decide) ?_
    refine lv_iconst (v := (iI ((0 : Nat) : Int))) hx hb dX0_holesByHeights_15 rfl ?_
    refine x_iret hx hb hr hlk hQ hS (Nat.le_refl _) (Nat.le_refl _) dX0_holesByHeights_16 ?_
    exact ⟨_, by rw [hc0], fun _ => fp_updL_0.trans rfl, hP1.st X.2.2.2.2.2 ho1 hMo hob hz2 hq2, ho2⟩
  · have ho1 := ho.kept (hk out ho.lt (fun h => h.2 hMo))
    obtain ⟨rfl, hc1, hP1⟩ := hp
    refine r_catch (E := "java/lang/IndexOutOfBoundsException") (name := "java/lang/IndexOutOfBoundsException") X hT ([] : List ExceptionTableEntry) ⟨0, 9, 12, 33⟩ ([] : List ExceptionTableEntry) rfl fp_ps_nil rfl (by decide) q1340 q568 hcx hvx hlx ?_
    refine lv_astore_n (lv' := [(3, .ref (qx)), (0, .ref (x)), (1, .int (iI (a0))), (2, .ref (out))]) hx hb dX0_holesByHeights_12 rfl hl (by decide) rfl (fun ls hl => ?_)
    refine lv_iconst (v := (iI ((1 : Nat) : Int))) hx hb dX0_holesByHeights_13 rfl ?_
    refine x_iret hx hb hr hlk hQ hS (Nat.le_refl _) (Nat.le_refl _) dX0_holesByHeights_14 ?_
    exact ⟨g, by rw [hc1], fun z => by rw [hc1] at z; cases z, hP1, ho1⟩
set_option maxHeartbeats 1000000 in
theorem x0_zone (G : fp_G) (x : Nat) (M : Nat → Prop) (T : TH) (i out : Nat) (g : Nat → Int64) (a0 : Int) (hI : fp_TI i T) (g0 : rg a0) (hMo : M out) (hob : (g_s G).heap.size ≤ out) : fp_MH G yX0_zone cX0_zone 4 (some .int) [(0, 9, 12, 33)] 10 182 1 6 [.ref (x), .int (iI (a0)), .ref (out)] (fun H => fp_PW G x M T H ∧ fp_At G H out (eJ G 1 g)) (fun q => (g_s G).heap.size ≤ q ∧ (¬ M q ∨ q = out)) (fun H v H1 => ∃ g2 : Nat → Int64, v = some (.int (iI ((fp_cc a0 : Nat) : Int))) ∧ (fp_cc a0 = 0 → g2 0 = (iI ((fp_zlet (sZ (T.1) a0.toNat) : Nat) : Int)).toInt64) ∧ fp_PW G x M T H1 ∧ fp_At G H1 out (eJ G 1 g2)) (fun _ _ _ => False) := by
  refine fp_MH.intro (by decide +kernel) (Nat.le_of_ble_eq_true rfl) ?_
  intro pg en s mi ag bl mt cd rR qQ ls X hx hb hr hlk hnm hR hQ hT hB hM hl
  have hS : va_S (fA (fun q => (g_s G).heap.size ≤ q ∧ (¬ M q ∨ q = out)) s.heap.size) s.heap s.heap [] := va_S.rf
  generalize ([] : List Loc) = locs at hS ⊢
  obtain ⟨hP, ho⟩ := hM
  obtain ⟨fs9, hob1⟩ := hP.ob
  refine lv_aload_n hx hb dX0_zone_0 rfl (lv_at hl 2 rfl) ?_
  refine lv_iconst (v := (iI ((0 : Nat) : Int))) hx hb dX0_zone_1 rfl ?_
  refine lv_aload_n hx hb dX0_zone_2 rfl (lv_at hl 0 rfl) ?_
  refine lv_iload_n hx hb dX0_zone_3 rfl (lv_at hl 1 rfl) ?_
  refine x_callV (cells1 := 1) (slots1 := 6) X hR (w_zone G x M T i a0 hI g0) q1625 q1626 q1627 q88 q1628 ⟨rfl, pd_X1_zone⟩ ⟨Nat.le_of_ble_eq_true rfl, Nat.le_of_ble_eq_true rfl⟩ (Nat.zero_add _) (Nat.zero_add _) (Nat.le_refl _) (Nat.le_refl _) hob1 rfl rfl (Nat.le_of_ble_eq_true rfl) hl.1 dX0_zone_4 hB hP hS (fun q h => Or.inl ⟨h.1, Or.inl h.2⟩) (fun v H1 locs hp hz hk hS => ?_) (fun Ex qx cx H1 locs hp hz hk hS hcx hvx hlx => ?_)
  · obtain ⟨rfl, hc0, hP1⟩ := hp
    have ho1 := ho.kept (hk out ho.lt (fun h => h.2 hMo))
    refine r_stk (st2 := [.int (iI ((fp_zlet (sZ (T.1) a0.toNat) : Nat) : Int)), .int (iI ((0 : Nat) : Int)), .ref out]) rfl ?_
    refine lv_i2l (v := (iI ((fp_zlet (sZ (T.1) a0.toNat) : Nat) : Int)).toInt64) hx hb dX0_zone_7 rfl ?_
    refine r_lastI X ho1 hS (Or.inl ⟨hob, Or.inr rfl⟩) (j := 0) rfl (by decide) (by decide) dX0_zone_8 (fun H2 locs ho2 hz2 hq2 hS => ?_)
    refine lv_goto (tgt := 15) hx hb dX0_zone_9 (by decide) ?_
    refine lv_iconst (v := (iI ((0 : Nat) : Int))) hx hb dX0_zone_15 rfl ?_
    refine x_iret hx hb hr hlk hQ hS (Nat.le_refl _) (Nat.le_refl _) dX0_zone_16 ?_
    exact ⟨_, by rw [hc0], fun _ => fp_updL_0.trans rfl, hP1.st X.2.2.2.2.2 ho1 hMo hob hz2 hq2, ho2⟩
  · have ho1 := ho.kept (hk out ho.lt (fun h => h.2 hMo))
    obtain ⟨rfl, hc1, hP1⟩ := hp
    refine r_catch (E := "java/lang/IndexOutOfBoundsException") (name := "java/lang/IndexOutOfBoundsException") X hT ([] : List ExceptionTableEntry) ⟨0, 9, 12, 33⟩ ([] : List ExceptionTableEntry) rfl fp_ps_nil rfl (by decide) q1340 q568 hcx hvx hlx ?_
    refine lv_astore_n (lv' := [(3, .ref (qx)), (0, .ref (x)), (1, .int (iI (a0))), (2, .ref (out))]) hx hb dX0_zone_12 rfl hl (by decide) rfl (fun ls hl => ?_)
    refine lv_iconst (v := (iI ((1 : Nat) : Int))) hx hb dX0_zone_13 rfl ?_
    refine x_iret hx hb hr hlk hQ hS (Nat.le_refl _) (Nat.le_refl _) dX0_zone_14 ?_
    exact ⟨g, by rw [hc1], fun z => by rw [hc1] at z; cases z, hP1, ho1⟩
set_option maxHeartbeats 1000000 in
theorem x0_hasTorch (G : fp_G) (x : Nat) (M : Nat → Prop) (T : TH) (i out : Nat) (g : Nat → Int64) (a0 : Int) (hI : fp_TI i T) (g0 : rg a0) (hMo : M out) (hob : (g_s G).heap.size ≤ out) : fp_MH G yX0_hasTorch cX0_hasTorch 4 (some .int) [(0, 16, 19, 33)] 10 182 1 6 [.ref (x), .int (iI (a0)), .ref (out)] (fun H => fp_PW G x M T H ∧ fp_At G H out (eJ G 1 g)) (fun q => (g_s G).heap.size ≤ q ∧ (¬ M q ∨ q = out)) (fun H v H1 => ∃ g2 : Nat → Int64, v = some (.int (iI ((fp_cc a0 : Nat) : Int))) ∧ (fp_cc a0 = 0 → g2 0 = (iI (bI (decide (sT (T.1) a0.toNat = 1)))).toInt64) ∧ fp_PW G x M T H1 ∧ fp_At G H1 out (eJ G 1 g2)) (fun _ _ _ => False) := by
  refine fp_MH.intro (by decide +kernel) (Nat.le_of_ble_eq_true rfl) ?_
  intro pg en s mi ag bl mt cd rR qQ ls X hx hb hr hlk hnm hR hQ hT hB hM hl
  have hS : va_S (fA (fun q => (g_s G).heap.size ≤ q ∧ (¬ M q ∨ q = out)) s.heap.size) s.heap s.heap [] := va_S.rf
  generalize ([] : List Loc) = locs at hS ⊢
  obtain ⟨hP, ho⟩ := hM
  obtain ⟨fs9, hob1⟩ := hP.ob
  refine lv_aload_n hx hb dX0_hasTorch_0 rfl (lv_at hl 2 rfl) ?_
  refine lv_iconst (v := (iI ((0 : Nat) : Int))) hx hb dX0_hasTorch_1 rfl ?_
  refine lv_aload_n hx hb dX0_hasTorch_2 rfl (lv_at hl 0 rfl) ?_
  refine lv_iload_n hx hb dX0_hasTorch_3 rfl (lv_at hl 1 rfl) ?_
  refine x_callV (cells1 := 1) (slots1 := 6) X hR (w_hasTorch G x M T i a0 hI g0) q1632 q1633 q1634 q88 q1635 ⟨rfl, pd_X1_hasTorch⟩ ⟨Nat.le_of_ble_eq_true rfl, Nat.le_of_ble_eq_true rfl⟩ (Nat.zero_add _) (Nat.zero_add _) (Nat.le_refl _) (Nat.le_refl _) hob1 rfl rfl (Nat.le_of_ble_eq_true rfl) hl.1 dX0_hasTorch_4 hB hP hS (fun q h => Or.inl ⟨h.1, Or.inl h.2⟩) (fun v H1 locs hp hz hk hS => ?_) (fun Ex qx cx H1 locs hp hz hk hS hcx hvx hlx => ?_)
  · obtain ⟨rfl, hc0, hP1⟩ := hp
    have ho1 := ho.kept (hk out ho.lt (fun h => h.2 hMo))
    refine r_stk (st2 := [.int (iI (bI (decide (sT (T.1) a0.toNat = 1)))), .int (iI ((0 : Nat) : Int)), .ref out]) rfl ?_
    refine r_ifeqB (tgt := 14) hx hb dX0_hasTorch_7 (by decide) (fun cb => ?_) (fun cb => ?_)
    · refine lv_lconst (v := 0) hx hb dX0_hasTorch_14 rfl ?_
      refine r_lastI X ho1 hS (Or.inl ⟨hob, Or.inr rfl⟩) (j := 0) rfl (by decide) (by decide) dX0_hasTorch_15 (fun H2 locs ho2 hz2 hq2 hS => ?_)
      refine lv_goto (tgt := 22) hx hb dX0_hasTorch_16 (by decide) ?_
      refine lv_iconst (v := (iI ((0 : Nat) : Int))) hx hb dX0_hasTorch_22 rfl ?_
      refine x_iret hx hb hr hlk hQ hS (Nat.le_refl _) (Nat.le_refl _) dX0_hasTorch_23 ?_
      exact ⟨_, by rw [hc0], fun _ => fp_updL_0.trans (by rw [cb]; rfl), hP1.st X.2.2.2.2.2 ho1 hMo hob hz2 hq2, ho2⟩
    · refine lv_lconst (v := 1) hx hb dX0_hasTorch_10 rfl ?_
      refine lv_goto (tgt := 15) hx hb dX0_hasTorch_11 (by decide) ?_
      refine r_lastI X ho1 hS (Or.inl ⟨hob, Or.inr rfl⟩) (j := 0) rfl (by decide) (by decide) dX0_hasTorch_15 (fun H2 locs ho2 hz2 hq2 hS => ?_)
      refine lv_goto (tgt := 22) hx hb dX0_hasTorch_16 (by decide) ?_
      refine lv_iconst (v := (iI ((0 : Nat) : Int))) hx hb dX0_hasTorch_22 rfl ?_
      refine x_iret hx hb hr hlk hQ hS (Nat.le_refl _) (Nat.le_refl _) dX0_hasTorch_23 ?_
      exact ⟨_, by rw [hc0], fun _ => fp_updL_0.trans (by rw [cb]; rfl), hP1.st X.2.2.2.2.2 ho1 hMo hob hz2 hq2, ho2⟩
  · have ho1 := ho.kept (hk out ho.lt (fun h => h.2 hMo))
    obtain ⟨rfl, hc1, hP1⟩ := hp
    refine r_catch (E := "java/lang/IndexOutOfBoundsException") (name := "java/lang/IndexOutOfBoundsException") X hT ([] : List ExceptionTableEntry) ⟨0, 16, 19, 33⟩ ([] : List ExceptionTableEntry) rfl fp_ps_nil rfl (by decide) q1340 q568 hcx hvx hlx ?_
    refine lv_astore_n (lv' := [(3, .ref (qx)), (0, .ref (x)), (1, .int (iI (a0))), (2, .ref (out))]) hx hb dX0_hasTorch_19 rfl hl (by decide) rfl (fun ls hl => ?_)
    refine lv_iconst (v := (iI ((1 : Nat) : Int))) hx hb dX0_hasTorch_20 rfl ?_
    refine x_iret hx hb hr hlk hQ hS (Nat.le_refl _) (Nat.le_refl _) dX0_hasTorch_21 ?_
    exact ⟨g, by rw [hc1], fun z => by rw [hc1] at z; cases z, hP1, ho1⟩
set_option maxHeartbeats 1000000 in
theorem x0_isLit (G : fp_G) (x : Nat) (M : Nat → Prop) (T : TH) (i out : Nat) (g : Nat → Int64) (a0 : Int) (hI : fp_TI i T) (g0 : rg a0) (hMo : M out) (hob : (g_s G).heap.size ≤ out) : fp_MH G yX0_isLit cX0_isLit 4 (some .int) [(0, 16, 19, 33)] 11 252 401 1606 [.ref (x), .int (iI (a0)), .ref (out)] (fun H => fp_PW G x M T H ∧ fp_At G H out (eJ G 1 g)) (fun q => (g_s G).heap.size ≤ q ∧ (¬ M q ∨ q = out)) (fun H v H1 => ∃ g2 : Nat → Int64, v = some (.int (iI ((fp_cc a0 : Nat) : Int))) ∧ (fp_cc a0 = 0 → g2 0 = (iI (bI (fp_lit (T.1) a0.toNat))).toInt64) ∧ fp_PW G x M T H1 ∧ fp_At G H1 out (eJ G 1 g2)) (fun _ _ _ => False) := by
  refine fp_MH.intro (by decide +kernel) (Nat.le_of_ble_eq_true rfl) ?_
  intro pg en s mi ag bl mt cd rR qQ ls X hx hb hr hlk hnm hR hQ hT hB hM hl
  have hS : va_S (fA (fun q => (g_s G).heap.size ≤ q ∧ (¬ M q ∨ q = out)) s.heap.size) s.heap s.heap [] := va_S.rf
  generalize ([] : List Loc) = locs at hS ⊢
  obtain ⟨hP, ho⟩ := hM
  obtain ⟨fs9, hob1⟩ := hP.ob
  refine lv_aload_n hx hb dX0_isLit_0 rfl (lv_at hl 2 rfl) ?_
  refine lv_iconst (v := (iI ((0 : Nat) : Int))) hx hb dX0_isLit_1 rfl ?_
  refine lv_aload_n hx hb dX0_isLit_2 rfl (lv_at hl 0 rfl) ?_
  refine lv_iload_n hx hb dX0_isLit_3 rfl (lv_at hl 1 rfl) ?_
  refine x_callV (cells1 := 401) (slots1 := 1606) X hR (w_isLit G x M T i a0 hI g0) q1639 q1640 q1641 q88 q1642 ⟨rfl, pd_X1_isLit⟩ ⟨Nat.le_of_ble_eq_true rfl, Nat.le_of_ble_eq_true rfl⟩ (Nat.zero_add _) (Nat.zero_add _) (Nat.le_refl _) (Nat.le_refl _) hob1 rfl rfl (Nat.le_of_ble_eq_true rfl) hl.1 dX0_isLit_4 hB hP hS (fun q h => Or.inl ⟨h.1, Or.inl h.2⟩) (fun v H1 locs hp hz hk hS => ?_) (fun Ex qx cx H1 locs hp hz hk hS hcx hvx hlx => ?_)
  · obtain ⟨rfl, hc0, hP1⟩ := hp
    have ho1 := ho.kept (hk out ho.lt (fun h => h.2 hMo))
    refine r_stk (st2 := [.int (iI (bI (fp_lit (T.1) a0.toNat))), .int (iI ((0 : Nat) : Int)), .ref out]) rfl ?_
    refine r_ifeqB (tgt := 14) hx hb dX0_isLit_7 (by decide) (fun cb => ?_) (fun cb => ?_)
    · refine lv_lconst (v := 0) hx hb dX0_isLit_14 rfl ?_
      refine r_lastI X ho1 hS (Or.inl ⟨hob, Or.inr rfl⟩) (j := 0) rfl (by decide) (by decide) dX0_isLit_15 (fun H2 locs ho2 hz2 hq2 hS => ?_)
      refine lv_goto (tgt := 22) hx hb dX0_isLit_16 (by decide) ?_
      refine lv_iconst (v := (iI ((0 : Nat) : Int))) hx hb dX0_isLit_22 rfl ?_
      refine x_iret hx hb hr hlk hQ hS (Nat.le_refl _) (Nat.le_refl _) dX0_isLit_23 ?_
      exact ⟨_, by rw [hc0], fun _ => fp_updL_0.trans (by rw [cb]; rfl), hP1.st X.2.2.2.2.2 ho1 hMo hob hz2 hq2, ho2⟩
    · refine lv_lconst (v := 1) hx hb dX0_isLit_10 rfl ?_
      refine lv_goto (tgt := 15) hx hb dX0_isLit_11 (by decide) ?_
      refine r_lastI X ho1 hS (Or.inl ⟨hob, Or.inr rfl⟩) (j := 0) rfl (by decide) (by decide) dX0_isLit_15 (fun H2 locs ho2 hz2 hq2 hS => ?_)
      refine lv_goto (tgt := 22) hx hb dX0_isLit_16 (by decide) ?_
      refine lv_iconst (v := (iI ((0 : Nat) : Int))) hx hb dX0_isLit_22 rfl ?_
      refine x_iret hx hb hr hlk hQ hS (Nat.le_refl _) (Nat.le_refl _) dX0_isLit_23 ?_
      exact ⟨_, by rw [hc0], fun _ => fp_updL_0.trans (by rw [cb]; rfl), hP1.st X.2.2.2.2.2 ho1 hMo hob hz2 hq2, ho2⟩
  · have ho1 := ho.kept (hk out ho.lt (fun h => h.2 hMo))
    obtain ⟨rfl, hc1, hP1⟩ := hp
    refine r_catch (E := "java/lang/IndexOutOfBoundsException") (name := "java/lang/IndexOutOfBoundsException") X hT ([] : List ExceptionTableEntry) ⟨0, 16, 19, 33⟩ ([] : List ExceptionTableEntry) rfl fp_ps_nil rfl (by decide) q1340 q568 hcx hvx hlx ?_
    refine lv_astore_n (lv' := [(3, .ref (qx)), (0, .ref (x)), (1, .int (iI (a0))), (2, .ref (out))]) hx hb dX0_isLit_19 rfl hl (by decide) rfl (fun ls hl => ?_)
    refine lv_iconst (v := (iI ((1 : Nat) : Int))) hx hb dX0_isLit_20 rfl ?_
    refine x_iret hx hb hr hlk hQ hS (Nat.le_refl _) (Nat.le_refl _) dX0_isLit_21 ?_
    exact ⟨g, by rw [hc1], fun z => by rw [hc1] at z; cases z, hP1, ho1⟩
set_option maxHeartbeats 1000000 in
theorem x0_isLitByMaxima (G : fp_G) (x : Nat) (M : Nat → Prop) (T : TH) (i out : Nat) (g : Nat → Int64) (a0 : Int) (hI : fp_TI i T) (g0 : rg a0) (hMo : M out) (hob : (g_s G).heap.size ≤ out) : fp_MH G yX0_isLitByMaxima cX0_isLitByMaxima 4 (some .int) [(0, 16, 19, 33)] 11 255 194 786 [.ref (x), .int (iI (a0)), .ref (out)] (fun H => fp_PW G x M T H ∧ fp_At G H out (eJ G 1 g)) (fun q => (g_s G).heap.size ≤ q ∧ (¬ M q ∨ q = out)) (fun H v H1 => ∃ g2 : Nat → Int64, v = some (.int (iI ((fp_cc a0 : Nat) : Int))) ∧ (fp_cc a0 = 0 → g2 0 = (iI (bI (fp_lit (T.1) a0.toNat))).toInt64) ∧ fp_PW G x M T H1 ∧ fp_At G H1 out (eJ G 1 g2)) (fun _ _ _ => False) := by
  refine fp_MH.intro (by decide +kernel) (Nat.le_of_ble_eq_true rfl) ?_
  intro pg en s mi ag bl mt cd rR qQ ls X hx hb hr hlk hnm hR hQ hT hB hM hl
  have hS : va_S (fA (fun q => (g_s G).heap.size ≤ q ∧ (¬ M q ∨ q = out)) s.heap.size) s.heap s.heap [] := va_S.rf
  generalize ([] : List Loc) = locs at hS ⊢
  obtain ⟨hP, ho⟩ := hM
  obtain ⟨fs9, hob1⟩ := hP.ob
  refine lv_aload_n hx hb dX0_isLitByMaxima_0 rfl (lv_at hl 2 rfl) ?_
  refine lv_iconst (v := (iI ((0 : Nat) : Int))) hx hb dX0_isLitByMaxima_1 rfl ?_
  refine lv_aload_n hx hb dX0_isLitByMaxima_2 rfl (lv_at hl 0 rfl) ?_
  refine lv_iload_n hx hb dX0_isLitByMaxima_3 rfl (lv_at hl 1 rfl) ?_
  refine x_callV (cells1 := 194) (slots1 := 786) X hR (w_isLitByMaxima G x M T i a0 hI g0) q1646 q1647 q1648 q88 q1649 ⟨rfl, pd_X1_isLitByMaxima⟩ ⟨Nat.le_of_ble_eq_true rfl, Nat.le_of_ble_eq_true rfl⟩ (Nat.zero_add _) (Nat.zero_add _) (Nat.le_refl _) (Nat.le_refl _) hob1 rfl rfl (Nat.le_of_ble_eq_true rfl) hl.1 dX0_isLitByMaxima_4 hB hP hS (fun q h => Or.inl ⟨h.1, Or.inl h.2⟩) (fun v H1 locs hp hz hk hS => ?_) (fun Ex qx cx H1 locs hp hz hk hS hcx hvx hlx => ?_)
  · obtain ⟨rfl, hc0, hP1⟩ := hp
    have ho1 := ho.kept (hk out ho.lt (fun h => h.2 hMo))
    refine r_stk (st2 := [.int (iI (bI (fp_lit (T.1) a0.toNat))), .int (iI ((0 : Nat) : Int)), .ref out]) rfl ?_
    refine r_ifeqB (tgt := 14) hx hb dX0_isLitByMaxima_7 (by decide) (fun cb => ?_) (fun cb => ?_)
    · refine lv_lconst (v := 0) hx hb dX0_isLitByMaxima_14 rfl ?_
      refine r_lastI X ho1 hS (Or.inl ⟨hob, Or.inr rfl⟩) (j := 0) rfl (by decide) (by decide) dX0_isLitByMaxima_15 (fun H2 locs ho2 hz2 hq2 hS => ?_)
      refine lv_goto (tgt := 22) hx hb dX0_isLitByMaxima_16 (by decide) ?_
      refine lv_iconst (v := (iI ((0 : Nat) : Int))) hx hb dX0_isLitByMaxima_22 rfl ?_
      refine x_iret hx hb hr hlk hQ hS (Nat.le_refl _) (Nat.le_refl _) dX0_isLitByMaxima_23 ?_
      exact ⟨_, by rw [hc0], fun _ => fp_updL_0.trans (by rw [cb]; rfl), hP1.st X.2.2.2.2.2 ho1 hMo hob hz2 hq2, ho2⟩
    · refine lv_lconst (v := 1) hx hb dX0_isLitByMaxima_10 rfl ?_
      refine lv_goto (tgt := 15) hx hb dX0_isLitByMaxima_11 (by decide) ?_
      refine r_lastI X ho1 hS (Or.inl ⟨hob, Or.inr rfl⟩) (j := 0) rfl (by decide) (by decide) dX0_isLitByMaxima_15 (fun H2 locs ho2 hz2 hq2 hS => ?_)
      refine lv_goto (tgt := 22) hx hb dX0_isLitByMaxima_16 (by decide) ?_
      refine lv_iconst (v := (iI ((0 : Nat) : Int))) hx hb dX0_isLitByMaxima_22 rfl ?_
      refine x_iret hx hb hr hlk hQ hS (Nat.le_refl _) (Nat.le_refl _) dX0_isLitByMaxima_23 ?_
      exact ⟨_, by rw [hc0], fun _ => fp_updL_0.trans (by rw [cb]; rfl), hP1.st X.2.2.2.2.2 ho1 hMo hob hz2 hq2, ho2⟩
  · have ho1 := ho.kept (hk out ho.lt (fun h => h.2 hMo))
    obtain ⟨rfl, hc1, hP1⟩ := hp
    refine r_catch (E := "java/lang/IndexOutOfBoundsException") (name := "java/lang/IndexOutOfBoundsException") X hT ([] : List ExceptionTableEntry) ⟨0, 16, 19, 33⟩ ([] : List ExceptionTableEntry) rfl fp_ps_nil rfl (by decide) q1340 q568 hcx hvx hlx ?_
    refine lv_astore_n (lv' := [(3, .ref (qx)), (0, .ref (x)), (1, .int (iI (a0))), (2, .ref (out))]) hx hb dX0_isLitByMaxima_19 rfl hl (by decide) rfl (fun ls hl => ?_)
    refine lv_iconst (v := (iI ((1 : Nat) : Int))) hx hb dX0_isLitByMaxima_20 rfl ?_
    refine x_iret hx hb hr hlk hQ hS (Nat.le_refl _) (Nat.le_refl _) dX0_isLitByMaxima_21 ?_
    exact ⟨g, by rw [hc1], fun z => by rw [hc1] at z; cases z, hP1, ho1⟩
set_option maxHeartbeats 1000000 in
theorem x0_formatBlock (G : fp_G) (x : Nat) (M : Nat → Prop) (T : TH) (i out : Nat) (g : Nat → Int64) (a0 : Int) (hI : fp_TI i T) (g0 : rg a0) (hMo : M out) (hob : (g_s G).heap.size ≤ out) : fp_MH G yX0_formatBlock cX0_formatBlock 4 (some .int) [(0, 9, 12, 27)] 13 328 162 5968 [.ref (x), .int (iI (a0)), .ref (out)] (fun H => fp_PW G x M T H ∧ fp_At G H out (eJ G 1 g)) (fun q => (g_s G).heap.size ≤ q ∧ (¬ M q ∨ q = out)) (fun H v H1 => ∃ g2 : Nat → Int64, v = some (.int (iI ((fp_fc T.1 a0 : Nat) : Int))) ∧ (fp_fc T.1 a0 = 0 → g2 0 = (iI (((fp_fbl (T.1) (fp_fnd (T.1) a0)).2 : Nat) : Int)).toInt64) ∧ fp_PW G x M (fp_if (fp_fc T.1 a0) (fp_Tln T (fp_fbl T.1 (fp_fnd T.1 a0))) T) H1 ∧ fp_At G H1 out (eJ G 1 g2)) (fun _ _ _ => False) := by
  refine fp_MH.intro (by decide +kernel) (Nat.le_of_ble_eq_true rfl) ?_
  intro pg en s mi ag bl mt cd rR qQ ls X hx hb hr hlk hnm hR hQ hT hB hM hl
  have hS : va_S (fA (fun q => (g_s G).heap.size ≤ q ∧ (¬ M q ∨ q = out)) s.heap.size) s.heap s.heap [] := va_S.rf
  generalize ([] : List Loc) = locs at hS ⊢
  obtain ⟨hP, ho⟩ := hM
  obtain ⟨fs9, hob1⟩ := hP.ob
  refine lv_aload_n hx hb dX0_formatBlock_0 rfl (lv_at hl 2 rfl) ?_
  refine lv_iconst (v := (iI ((0 : Nat) : Int))) hx hb dX0_formatBlock_1 rfl ?_
  refine lv_aload_n hx hb dX0_formatBlock_2 rfl (lv_at hl 0 rfl) ?_
  refine lv_iload_n hx hb dX0_formatBlock_3 rfl (lv_at hl 1 rfl) ?_
  refine x_callV (cells1 := 162) (slots1 := 5968) X hR (w_formatBlock G x M T i a0 hI g0) q1653 q1654 q1655 q88 q1656 ⟨rfl, pd_X1_formatBlock⟩ ⟨Nat.le_of_ble_eq_true rfl, Nat.le_of_ble_eq_true rfl⟩ (Nat.zero_add _) (Nat.zero_add _) (Nat.le_refl _) (Nat.le_refl _) hob1 rfl rfl (Nat.le_of_ble_eq_true rfl) hl.1 dX0_formatBlock_4 hB hP hS (fun q h => Or.inl ⟨h.1, Or.inl h.2⟩) (fun v H1 locs hp hz hk hS => ?_) (fun Ex qx cx H1 locs hp hz hk hS hcx hvx hlx => ?_)
  · obtain ⟨rfl, hc0, hP1⟩ := hp
    have ho1 := ho.kept (hk out ho.lt (fun h => h.2 hMo))
    refine r_stk (st2 := [.int (iI (((fp_fbl (T.1) (fp_fnd (T.1) a0)).2 : Nat) : Int)), .int (iI ((0 : Nat) : Int)), .ref out]) rfl ?_
    refine lv_i2l (v := (iI (((fp_fbl (T.1) (fp_fnd (T.1) a0)).2 : Nat) : Int)).toInt64) hx hb dX0_formatBlock_7 rfl ?_
    refine r_lastI X ho1 hS (Or.inl ⟨hob, Or.inr rfl⟩) (j := 0) rfl (by decide) (by decide) dX0_formatBlock_8 (fun H2 locs ho2 hz2 hq2 hS => ?_)
    refine lv_goto (tgt := 15) hx hb dX0_formatBlock_9 (by decide) ?_
    refine lv_iconst (v := (iI ((0 : Nat) : Int))) hx hb dX0_formatBlock_15 rfl ?_
    refine x_iret hx hb hr hlk hQ hS (Nat.le_refl _) (Nat.le_refl _) dX0_formatBlock_16 ?_
    exact ⟨_, by rw [hc0], fun _ => fp_updL_0.trans rfl, (by rw [fp_if0 hc0]; exact hP1.st X.2.2.2.2.2 ho1 hMo hob hz2 hq2), ho2⟩
  · have ho1 := ho.kept (hk out ho.lt (fun h => h.2 hMo))
    obtain ⟨rfl, hc1, hP1⟩ := hp
    refine r_catch (E := "java/util/NoSuchElementException") (name := "java/util/NoSuchElementException") X hT ([] : List ExceptionTableEntry) ⟨0, 9, 12, 27⟩ ([] : List ExceptionTableEntry) rfl fp_ps_nil rfl (by decide) q1315 q323 hcx hvx hlx ?_
    refine lv_astore_n (lv' := [(3, .ref (qx)), (0, .ref (x)), (1, .int (iI (a0))), (2, .ref (out))]) hx hb dX0_formatBlock_12 rfl hl (by decide) rfl (fun ls hl => ?_)
    refine lv_iconst (v := (iI ((1 : Nat) : Int))) hx hb dX0_formatBlock_13 rfl ?_
    refine x_iret hx hb hr hlk hQ hS (Nat.le_refl _) (Nat.le_refl _) dX0_formatBlock_14 ?_
    exact ⟨g, by rw [hc1], fun z => by rw [hc1] at z; cases z, (by rw [fp_if1 (by rw [hc1]; decide)]; exact hP1), ho1⟩
set_option maxHeartbeats 1000000 in
theorem x0_lineChar (G : fp_G) (x : Nat) (M : Nat → Prop) (T : TH) (i out : Nat) (g : Nat → Int64) (a0 : Int) (hI : fp_TI i T) (g0 : rg a0) (hMo : M out) (hob : (g_s G).heap.size ≤ out) : fp_MH G yX0_lineChar cX0_lineChar 4 (some .int) [(0, 9, 12, 33)] 9 162 1 6 [.ref (x), .int (iI (a0)), .ref (out)] (fun H => fp_PW G x M T H ∧ fp_At G H out (eJ G 1 g)) (fun q => (g_s G).heap.size ≤ q ∧ (¬ M q ∨ q = out)) (fun H v H1 => ∃ g2 : Nat → Int64, v = some (.int (iI ((fp_ln_c T.2.2.2.2.1.1 a0 : Nat) : Int))) ∧ (fp_ln_c T.2.2.2.2.1.1 a0 = 0 → g2 0 = (iI (((T.2.2.2.2.1.2) a0.toNat : Nat) : Int)).toInt64) ∧ fp_PW G x M T H1 ∧ fp_At G H1 out (eJ G 1 g2)) (fun _ _ _ => False) := by
  refine fp_MH.intro (by decide +kernel) (Nat.le_of_ble_eq_true rfl) ?_
  intro pg en s mi ag bl mt cd rR qQ ls X hx hb hr hlk hnm hR hQ hT hB hM hl
  have hS : va_S (fA (fun q => (g_s G).heap.size ≤ q ∧ (¬ M q ∨ q = out)) s.heap.size) s.heap s.heap [] := va_S.rf
  generalize ([] : List Loc) = locs at hS ⊢
  obtain ⟨hP, ho⟩ := hM
  obtain ⟨fs9, hob1⟩ := hP.ob
  refine lv_aload_n hx hb dX0_lineChar_0 rfl (lv_at hl 2 rfl) ?_
  refine lv_iconst (v := (iI ((0 : Nat) : Int))) hx hb dX0_lineChar_1 rfl ?_
  refine lv_aload_n hx hb dX0_lineChar_2 rfl (lv_at hl 0 rfl) ?_
  refine lv_iload_n hx hb dX0_lineChar_3 rfl (lv_at hl 1 rfl) ?_
  refine x_callV (cells1 := 1) (slots1 := 6) X hR (w_lineChar G x M T i a0 hI g0) q1693 q1694 q1695 q88 q1696 ⟨rfl, pd_X1_lineChar⟩ ⟨Nat.le_of_ble_eq_true rfl, Nat.le_of_ble_eq_true rfl⟩ (Nat.zero_add _) (Nat.zero_add _) (Nat.le_refl _) (Nat.le_refl _) hob1 rfl rfl (Nat.le_of_ble_eq_true rfl) hl.1 dX0_lineChar_4 hB hP hS (fun q h => Or.inl ⟨h.1, Or.inl h.2⟩) (fun v H1 locs hp hz hk hS => ?_) (fun Ex qx cx H1 locs hp hz hk hS hcx hvx hlx => ?_)
  · obtain ⟨rfl, hc0, hP1⟩ := hp
    have ho1 := ho.kept (hk out ho.lt (fun h => h.2 hMo))
    refine r_stk (st2 := [.int (iI (((T.2.2.2.2.1.2) a0.toNat : Nat) : Int)), .int (iI ((0 : Nat) : Int)), .ref out]) rfl ?_
    refine lv_i2l (v := (iI (((T.2.2.2.2.1.2) a0.toNat : Nat) : Int)).toInt64) hx hb dX0_lineChar_7 rfl ?_
    refine r_lastI X ho1 hS (Or.inl ⟨hob, Or.inr rfl⟩) (j := 0) rfl (by decide) (by decide) dX0_lineChar_8 (fun H2 locs ho2 hz2 hq2 hS => ?_)
    refine lv_goto (tgt := 15) hx hb dX0_lineChar_9 (by decide) ?_
    refine lv_iconst (v := (iI ((0 : Nat) : Int))) hx hb dX0_lineChar_15 rfl ?_
    refine x_iret hx hb hr hlk hQ hS (Nat.le_refl _) (Nat.le_refl _) dX0_lineChar_16 ?_
    exact ⟨_, by rw [hc0], fun _ => fp_updL_0.trans rfl, hP1.st X.2.2.2.2.2 ho1 hMo hob hz2 hq2, ho2⟩
  · have ho1 := ho.kept (hk out ho.lt (fun h => h.2 hMo))
    obtain ⟨rfl, hc1, hP1⟩ := hp
    refine r_catch (E := "java/lang/IndexOutOfBoundsException") (name := "java/lang/IndexOutOfBoundsException") X hT ([] : List ExceptionTableEntry) ⟨0, 9, 12, 33⟩ ([] : List ExceptionTableEntry) rfl fp_ps_nil rfl (by decide) q1340 q568 hcx hvx hlx ?_
    refine lv_astore_n (lv' := [(3, .ref (qx)), (0, .ref (x)), (1, .int (iI (a0))), (2, .ref (out))]) hx hb dX0_lineChar_12 rfl hl (by decide) rfl (fun ls hl => ?_)
    refine lv_iconst (v := (iI ((1 : Nat) : Int))) hx hb dX0_lineChar_13 rfl ?_
    refine x_iret hx hb hr hlk hQ hS (Nat.le_refl _) (Nat.le_refl _) dX0_lineChar_14 ?_
    exact ⟨g, by rw [hc1], fun z => by rw [hc1] at z; cases z, hP1, ho1⟩
set_option maxHeartbeats 1000000 in
theorem x0_append (G : fp_G) (x : Nat) (M : Nat → Prop) (T : TH) (i out : Nat) (g : Nat → Int64) (a0 : Int) (hI : fp_TI i T) (g0 : 0 ≤ a0 ∧ a0 < 65536) (hMo : M out) (hob : (g_s G).heap.size ≤ out) : fp_MH G yX0_append cX0_append 4 (some .int) [(0, 9, 12, 13), (0, 9, 15, 15)] 9 213 3 214 [.ref (x), .int (iI (a0)), .ref (out)] (fun H => fp_PW G x M T H ∧ fp_At G H out (eJ G 1 g)) (fun q => (g_s G).heap.size ≤ q ∧ (¬ M q ∨ q = out)) (fun H v H1 => ∃ g2 : Nat → Int64, v = some (.int (iI ((fp_ap_c T.2.2.2.1.1 a0 : Nat) : Int))) ∧ (fp_ap_c T.2.2.2.1.1 a0 = 0 → g2 0 = (iI (((T.2.2.2.1.1) + 1 : Nat) : Int)).toInt64) ∧ fp_PW G x M (fp_if (fp_ap_c T.2.2.2.1.1 a0) (fp_Tap T a0) T) H1 ∧ fp_At G H1 out (eJ G 1 g2)) (fun _ _ _ => False) := by
  refine fp_MH.intro (by decide +kernel) (Nat.le_of_ble_eq_true rfl) ?_
  intro pg en s mi ag bl mt cd rR qQ ls X hx hb hr hlk hnm hR hQ hT hB hM hl
  have hS : va_S (fA (fun q => (g_s G).heap.size ≤ q ∧ (¬ M q ∨ q = out)) s.heap.size) s.heap s.heap [] := va_S.rf
  generalize ([] : List Loc) = locs at hS ⊢
  obtain ⟨hP, ho⟩ := hM
  obtain ⟨fs9, hob1⟩ := hP.ob
  refine lv_aload_n hx hb dX0_append_0 rfl (lv_at hl 2 rfl) ?_
  refine lv_iconst (v := (iI ((0 : Nat) : Int))) hx hb dX0_append_1 rfl ?_
  refine lv_aload_n hx hb dX0_append_2 rfl (lv_at hl 0 rfl) ?_
  refine lv_iload_n hx hb dX0_append_3 rfl (lv_at hl 1 rfl) ?_
  refine x_callV (cells1 := 3) (slots1 := 214) X hR (w_append G x M T i a0 hI g0) q1710 q1711 q1712 q88 q1713 ⟨rfl, pd_X1_append⟩ ⟨Nat.le_of_ble_eq_true rfl, Nat.le_of_ble_eq_true rfl⟩ (Nat.zero_add _) (Nat.zero_add _) (Nat.le_refl _) (Nat.le_refl _) hob1 rfl rfl (Nat.le_of_ble_eq_true rfl) hl.1 dX0_append_4 hB hP hS (fun q h => Or.inl ⟨h.1, Or.inl h.2⟩) (fun v H1 locs hp hz hk hS => ?_) (fun Ex qx cx H1 locs hp hz hk hS hcx hvx hlx => ?_)
  · obtain ⟨rfl, hc0, hP1⟩ := hp
    have ho1 := ho.kept (hk out ho.lt (fun h => h.2 hMo))
    refine r_stk (st2 := [.int (iI (((T.2.2.2.1.1) + 1 : Nat) : Int)), .int (iI ((0 : Nat) : Int)), .ref out]) rfl ?_
    refine lv_i2l (v := (iI (((T.2.2.2.1.1) + 1 : Nat) : Int)).toInt64) hx hb dX0_append_7 rfl ?_
    refine r_lastI X ho1 hS (Or.inl ⟨hob, Or.inr rfl⟩) (j := 0) rfl (by decide) (by decide) dX0_append_8 (fun H2 locs ho2 hz2 hq2 hS => ?_)
    refine lv_goto (tgt := 18) hx hb dX0_append_9 (by decide) ?_
    refine lv_iconst (v := (iI ((0 : Nat) : Int))) hx hb dX0_append_18 rfl ?_
    refine x_iret hx hb hr hlk hQ hS (Nat.le_refl _) (Nat.le_refl _) dX0_append_19 ?_
    exact ⟨_, by rw [hc0], fun _ => fp_updL_0.trans rfl, (by rw [fp_if0 hc0]; exact hP1.st X.2.2.2.2.2 ho1 hMo hob hz2 hq2), ho2⟩
  · have ho1 := ho.kept (hk out ho.lt (fun h => h.2 hMo))
    rcases hp with ⟨rfl, hc1, hP1⟩ | ⟨rfl, hc1, hP1⟩
    · skip
      refine r_catch (E := "java/lang/IllegalArgumentException") (name := "java/lang/IllegalArgumentException") X hT ([] : List ExceptionTableEntry) ⟨0, 9, 12, 13⟩ ([⟨0, 9, 15, 15⟩] : List ExceptionTableEntry) rfl fp_ps_nil rfl (by decide) q1112 q764 hcx hvx hlx ?_
      refine lv_astore_n (lv' := [(3, .ref (qx)), (0, .ref (x)), (1, .int (iI (a0))), (2, .ref (out))]) hx hb dX0_append_12 rfl hl (by decide) rfl (fun ls hl => ?_)
      refine lv_iconst (v := (iI ((1 : Nat) : Int))) hx hb dX0_append_13 rfl ?_
      refine x_iret hx hb hr hlk hQ hS (Nat.le_refl _) (Nat.le_refl _) dX0_append_14 ?_
      exact ⟨g, by rw [hc1], fun z => by rw [hc1] at z; cases z, (by rw [fp_if1 (by rw [hc1]; decide)]; exact hP1), ho1⟩
    · skip
      refine r_catch (E := "java/lang/IllegalStateException") (name := "java/lang/IllegalStateException") X hT ([⟨0, 9, 12, 13⟩] : List ExceptionTableEntry) ⟨0, 9, 15, 15⟩ ([] : List ExceptionTableEntry) rfl (fp_ps_cons (Or.inr ⟨by decide, "java/lang/IllegalArgumentException", q1112, X.2.2.2.2.2.nc fp_nc10⟩) fp_ps_nil) rfl (by decide) q1113 q1239 hcx hvx hlx ?_
      refine lv_astore_n (lv' := [(3, .ref (qx)), (0, .ref (x)), (1, .int (iI (a0))), (2, .ref (out))]) hx hb dX0_append_15 rfl hl (by decide) rfl (fun ls hl => ?_)
      refine lv_iconst (v := (iI ((2 : Nat) : Int))) hx hb dX0_append_16 rfl ?_
      refine x_iret hx hb hr hlk hQ hS (Nat.le_refl _) (Nat.le_refl _) dX0_append_17 ?_
      exact ⟨g, by rw [hc1], fun z => by rw [hc1] at z; cases z, (by rw [fp_if1 (by rw [hc1]; decide)]; exact hP1), ho1⟩
set_option maxHeartbeats 1000000 in
theorem x0_run (G : fp_G) (x : Nat) (M : Nat → Prop) (T : TH) (i out : Nat) (g : Nat → Int64) (P : List (Nat × Int × Int × Int) × Bool × Nat) (R : Nat × Nat × PS) (hI : fp_TI i T) (hPp : fp_prg T.2.2.2.1.2 T.2.2.2.1.1 = P) (hRr : fp_exe P.1 T.1 = R) (hMo : M out) (hob : (g_s G).heap.size ≤ out) : fp_MH G yX0_run cX0_run 3 (some .int) [(0, 8, 11, 13), (0, 8, 14, 15)] 308 8201 5600 101200 [.ref (x), .ref (out)] (fun H => fp_PW G x M T H ∧ fp_At G H out (eJ G 1 g)) (fun q => (g_s G).heap.size ≤ q ∧ (¬ M q ∨ q = out)) (fun H v H1 => ∃ g2 : Nat → Int64, v = some (.int (iI ((fp_rn_c P R : Nat) : Int))) ∧ (fp_rn_c P R = 0 → g2 0 = (iI ((R.1 : Nat) : Int)).toInt64) ∧ fp_PW G x M (fp_Trn T P R) H1 ∧ fp_At G H1 out (eJ G 1 g2)) (fun _ _ _ => False) := by
  refine fp_MH.intro (by decide +kernel) (Nat.le_of_ble_eq_true rfl) ?_
  intro pg en s mi ag bl mt cd rR qQ ls X hx hb hr hlk hnm hR hQ hT hB hM hl
  have hS : va_S (fA (fun q => (g_s G).heap.size ≤ q ∧ (¬ M q ∨ q = out)) s.heap.size) s.heap s.heap [] := va_S.rf
  generalize ([] : List Loc) = locs at hS ⊢
  obtain ⟨hP, ho⟩ := hM
  obtain ⟨fs9, hob1⟩ := hP.ob
  refine lv_aload_n hx hb dX0_run_0 rfl (lv_at hl 1 rfl) ?_
  refine lv_iconst (v := (iI ((0 : Nat) : Int))) hx hb dX0_run_1 rfl ?_
  refine lv_aload_n hx hb dX0_run_2 rfl (lv_at hl 0 rfl) ?_
  refine x_callV (cells1 := 5600) (slots1 := 101200) X hR (w_run G x M T i P R hI hPp hRr) q1717 q1718 q1719 q88 q1720 ⟨rfl, pd_X1_run⟩ ⟨Nat.le_of_ble_eq_true rfl, Nat.le_of_ble_eq_true rfl⟩ (Nat.zero_add _) (Nat.zero_add _) (Nat.le_refl _) (Nat.le_refl _) hob1 rfl rfl (Nat.le_of_ble_eq_true rfl) hl.1 dX0_run_3 hB hP hS (fun q h => Or.inl ⟨h.1, Or.inl h.2⟩) (fun v H1 locs hp hz hk hS => ?_) (fun Ex qx cx H1 locs hp hz hk hS hcx hvx hlx => ?_)
  · obtain ⟨rfl, hc0, hP1⟩ := hp
    have ho1 := ho.kept (hk out ho.lt (fun h => h.2 hMo))
    refine r_stk (st2 := [.int (iI ((R.1 : Nat) : Int)), .int (iI ((0 : Nat) : Int)), .ref out]) rfl ?_
    refine lv_i2l (v := (iI ((R.1 : Nat) : Int)).toInt64) hx hb dX0_run_6 rfl ?_
    refine r_lastI X ho1 hS (Or.inl ⟨hob, Or.inr rfl⟩) (j := 0) rfl (by decide) (by decide) dX0_run_7 (fun H2 locs ho2 hz2 hq2 hS => ?_)
    refine lv_goto (tgt := 17) hx hb dX0_run_8 (by decide) ?_
    refine lv_iconst (v := (iI ((0 : Nat) : Int))) hx hb dX0_run_17 rfl ?_
    refine x_iret hx hb hr hlk hQ hS (Nat.le_refl _) (Nat.le_refl _) dX0_run_18 ?_
    exact ⟨_, by rw [hc0], fun _ => fp_updL_0.trans rfl, hP1.st X.2.2.2.2.2 ho1 hMo hob hz2 hq2, ho2⟩
  · have ho1 := ho.kept (hk out ho.lt (fun h => h.2 hMo))
    rcases hp with ⟨rfl, hc1, hP1⟩ | ⟨rfl, hc1, hP1⟩
    · skip
      refine r_catch (E := "java/lang/IllegalArgumentException") (name := "java/lang/IllegalArgumentException") X hT ([] : List ExceptionTableEntry) ⟨0, 8, 11, 13⟩ ([⟨0, 8, 14, 15⟩] : List ExceptionTableEntry) rfl fp_ps_nil rfl (by decide) q1112 q764 hcx hvx hlx ?_
      refine lv_astore_n (lv' := [(2, .ref (qx)), (0, .ref (x)), (1, .ref (out))]) hx hb dX0_run_11 rfl hl (by decide) rfl (fun ls hl => ?_)
      refine lv_iconst (v := (iI ((1 : Nat) : Int))) hx hb dX0_run_12 rfl ?_
      refine x_iret hx hb hr hlk hQ hS (Nat.le_refl _) (Nat.le_refl _) dX0_run_13 ?_
      exact ⟨g, by rw [hc1], fun z => by rw [hc1] at z; cases z, hP1, ho1⟩
    · skip
      refine r_catch (E := "java/lang/IllegalStateException") (name := "java/lang/IllegalStateException") X hT ([⟨0, 8, 11, 13⟩] : List ExceptionTableEntry) ⟨0, 8, 14, 15⟩ ([] : List ExceptionTableEntry) rfl (fp_ps_cons (Or.inr ⟨by decide, "java/lang/IllegalArgumentException", q1112, X.2.2.2.2.2.nc fp_nc10⟩) fp_ps_nil) rfl (by decide) q1113 q1239 hcx hvx hlx ?_
      refine lv_astore_n (lv' := [(2, .ref (qx)), (0, .ref (x)), (1, .ref (out))]) hx hb dX0_run_14 rfl hl (by decide) rfl (fun ls hl => ?_)
      refine lv_iconst (v := (iI ((2 : Nat) : Int))) hx hb dX0_run_15 rfl ?_
      refine x_iret hx hb hr hlk hQ hS (Nat.le_refl _) (Nat.le_refl _) dX0_run_16 ?_
      exact ⟨g, by rw [hc1], fun z => by rw [hc1] at z; cases z, hP1, ho1⟩
set_option maxHeartbeats 1000000 in
theorem x0_errorPosition (G : fp_G) (x : Nat) (M : Nat → Prop) (T : TH) (i out : Nat) (g : Nat → Int64) (hI : fp_TI i T) (hMo : M out) (hob : (g_s G).heap.size ≤ out) : fp_MH G yX0_errorPosition cX0_errorPosition 3 (some .int) [(0, 8, 11, 27)] 9 161 1 6 [.ref (x), .ref (out)] (fun H => fp_PW G x M T H ∧ fp_At G H out (eJ G 1 g)) (fun q => (g_s G).heap.size ≤ q ∧ (¬ M q ∨ q = out)) (fun H v H1 => ∃ g2 : Nat → Int64, v = some (.int (iI ((fp_er_c T.2.2.2.2.2.1 : Nat) : Int))) ∧ (fp_er_c T.2.2.2.2.2.1 = 0 → g2 0 = (iI ((T.2.2.2.2.2.1))).toInt64) ∧ fp_PW G x M T H1 ∧ fp_At G H1 out (eJ G 1 g2)) (fun _ _ _ => False) := by
  refine fp_MH.intro (by decide +kernel) (Nat.le_of_ble_eq_true rfl) ?_
  intro pg en s mi ag bl mt cd rR qQ ls X hx hb hr hlk hnm hR hQ hT hB hM hl
  have hS : va_S (fA (fun q => (g_s G).heap.size ≤ q ∧ (¬ M q ∨ q = out)) s.heap.size) s.heap s.heap [] := va_S.rf
  generalize ([] : List Loc) = locs at hS ⊢
  obtain ⟨hP, ho⟩ := hM
  obtain ⟨fs9, hob1⟩ := hP.ob
  refine lv_aload_n hx hb dX0_errorPosition_0 rfl (lv_at hl 1 rfl) ?_
  refine lv_iconst (v := (iI ((0 : Nat) : Int))) hx hb dX0_errorPosition_1 rfl ?_
  refine lv_aload_n hx hb dX0_errorPosition_2 rfl (lv_at hl 0 rfl) ?_
  refine x_callV (cells1 := 1) (slots1 := 6) X hR (w_errorPosition G x M T i hI) q1956 q1957 q1958 q88 q1959 ⟨rfl, pd_X1_errorPosition⟩ ⟨Nat.le_of_ble_eq_true rfl, Nat.le_of_ble_eq_true rfl⟩ (Nat.zero_add _) (Nat.zero_add _) (Nat.le_refl _) (Nat.le_refl _) hob1 rfl rfl (Nat.le_of_ble_eq_true rfl) hl.1 dX0_errorPosition_3 hB hP hS (fun q h => Or.inl ⟨h.1, Or.inl h.2⟩) (fun v H1 locs hp hz hk hS => ?_) (fun Ex qx cx H1 locs hp hz hk hS hcx hvx hlx => ?_)
  · obtain ⟨rfl, hc0, hP1⟩ := hp
    have ho1 := ho.kept (hk out ho.lt (fun h => h.2 hMo))
    refine r_stk (st2 := [.int (iI ((T.2.2.2.2.2.1))), .int (iI ((0 : Nat) : Int)), .ref out]) rfl ?_
    refine lv_i2l (v := (iI ((T.2.2.2.2.2.1))).toInt64) hx hb dX0_errorPosition_6 rfl ?_
    refine r_lastI X ho1 hS (Or.inl ⟨hob, Or.inr rfl⟩) (j := 0) rfl (by decide) (by decide) dX0_errorPosition_7 (fun H2 locs ho2 hz2 hq2 hS => ?_)
    refine lv_goto (tgt := 14) hx hb dX0_errorPosition_8 (by decide) ?_
    refine lv_iconst (v := (iI ((0 : Nat) : Int))) hx hb dX0_errorPosition_14 rfl ?_
    refine x_iret hx hb hr hlk hQ hS (Nat.le_refl _) (Nat.le_refl _) dX0_errorPosition_15 ?_
    exact ⟨_, by rw [hc0], fun _ => fp_updL_0.trans rfl, hP1.st X.2.2.2.2.2 ho1 hMo hob hz2 hq2, ho2⟩
  · have ho1 := ho.kept (hk out ho.lt (fun h => h.2 hMo))
    obtain ⟨rfl, hc1, hP1⟩ := hp
    refine r_catch (E := "java/util/NoSuchElementException") (name := "java/util/NoSuchElementException") X hT ([] : List ExceptionTableEntry) ⟨0, 8, 11, 27⟩ ([] : List ExceptionTableEntry) rfl fp_ps_nil rfl (by decide) q1315 q323 hcx hvx hlx ?_
    refine lv_astore_n (lv' := [(2, .ref (qx)), (0, .ref (x)), (1, .ref (out))]) hx hb dX0_errorPosition_11 rfl hl (by decide) rfl (fun ls hl => ?_)
    refine lv_iconst (v := (iI ((1 : Nat) : Int))) hx hb dX0_errorPosition_12 rfl ?_
    refine x_iret hx hb hr hlk hQ hS (Nat.le_refl _) (Nat.le_refl _) dX0_errorPosition_13 ?_
    exact ⟨g, by rw [hc1], fun z => by rw [hc1] at z; cases z, hP1, ho1⟩
set_option maxHeartbeats 1000000 in
theorem x0_failedCommand (G : fp_G) (x : Nat) (M : Nat → Prop) (T : TH) (i out : Nat) (g : Nat → Int64) (hI : fp_TI i T) (hMo : M out) (hob : (g_s G).heap.size ≤ out) : fp_MH G yX0_failedCommand cX0_failedCommand 3 (some .int) [(0, 8, 11, 27)] 9 161 1 6 [.ref (x), .ref (out)] (fun H => fp_PW G x M T H ∧ fp_At G H out (eJ G 1 g)) (fun q => (g_s G).heap.size ≤ q ∧ (¬ M q ∨ q = out)) (fun H v H1 => ∃ g2 : Nat → Int64, v = some (.int (iI ((fp_er_c T.2.2.2.2.2.2 : Nat) : Int))) ∧ (fp_er_c T.2.2.2.2.2.2 = 0 → g2 0 = (iI ((T.2.2.2.2.2.2))).toInt64) ∧ fp_PW G x M T H1 ∧ fp_At G H1 out (eJ G 1 g2)) (fun _ _ _ => False) := by
  refine fp_MH.intro (by decide +kernel) (Nat.le_of_ble_eq_true rfl) ?_
  intro pg en s mi ag bl mt cd rR qQ ls X hx hb hr hlk hnm hR hQ hT hB hM hl
  have hS : va_S (fA (fun q => (g_s G).heap.size ≤ q ∧ (¬ M q ∨ q = out)) s.heap.size) s.heap s.heap [] := va_S.rf
  generalize ([] : List Loc) = locs at hS ⊢
  obtain ⟨hP, ho⟩ := hM
  obtain ⟨fs9, hob1⟩ := hP.ob
  refine lv_aload_n hx hb dX0_failedCommand_0 rfl (lv_at hl 1 rfl) ?_
  refine lv_iconst (v := (iI ((0 : Nat) : Int))) hx hb dX0_failedCommand_1 rfl ?_
  refine lv_aload_n hx hb dX0_failedCommand_2 rfl (lv_at hl 0 rfl) ?_
  refine x_callV (cells1 := 1) (slots1 := 6) X hR (w_failedCommand G x M T i hI) q1963 q1964 q1965 q88 q1966 ⟨rfl, pd_X1_failedCommand⟩ ⟨Nat.le_of_ble_eq_true rfl, Nat.le_of_ble_eq_true rfl⟩ (Nat.zero_add _) (Nat.zero_add _) (Nat.le_refl _) (Nat.le_refl _) hob1 rfl rfl (Nat.le_of_ble_eq_true rfl) hl.1 dX0_failedCommand_3 hB hP hS (fun q h => Or.inl ⟨h.1, Or.inl h.2⟩) (fun v H1 locs hp hz hk hS => ?_) (fun Ex qx cx H1 locs hp hz hk hS hcx hvx hlx => ?_)
  · obtain ⟨rfl, hc0, hP1⟩ := hp
    have ho1 := ho.kept (hk out ho.lt (fun h => h.2 hMo))
    refine r_stk (st2 := [.int (iI ((T.2.2.2.2.2.2))), .int (iI ((0 : Nat) : Int)), .ref out]) rfl ?_
    refine lv_i2l (v := (iI ((T.2.2.2.2.2.2))).toInt64) hx hb dX0_failedCommand_6 rfl ?_
    refine r_lastI X ho1 hS (Or.inl ⟨hob, Or.inr rfl⟩) (j := 0) rfl (by decide) (by decide) dX0_failedCommand_7 (fun H2 locs ho2 hz2 hq2 hS => ?_)
    refine lv_goto (tgt := 14) hx hb dX0_failedCommand_8 (by decide) ?_
    refine lv_iconst (v := (iI ((0 : Nat) : Int))) hx hb dX0_failedCommand_14 rfl ?_
    refine x_iret hx hb hr hlk hQ hS (Nat.le_refl _) (Nat.le_refl _) dX0_failedCommand_15 ?_
    exact ⟨_, by rw [hc0], fun _ => fp_updL_0.trans rfl, hP1.st X.2.2.2.2.2 ho1 hMo hob hz2 hq2, ho2⟩
  · have ho1 := ho.kept (hk out ho.lt (fun h => h.2 hMo))
    obtain ⟨rfl, hc1, hP1⟩ := hp
    refine r_catch (E := "java/util/NoSuchElementException") (name := "java/util/NoSuchElementException") X hT ([] : List ExceptionTableEntry) ⟨0, 8, 11, 27⟩ ([] : List ExceptionTableEntry) rfl fp_ps_nil rfl (by decide) q1315 q323 hcx hvx hlx ?_
    refine lv_astore_n (lv' := [(2, .ref (qx)), (0, .ref (x)), (1, .ref (out))]) hx hb dX0_failedCommand_11 rfl hl (by decide) rfl (fun ls hl => ?_)
    refine lv_iconst (v := (iI ((1 : Nat) : Int))) hx hb dX0_failedCommand_12 rfl ?_
    refine x_iret hx hb hr hlk hQ hS (Nat.le_refl _) (Nat.le_refl _) dX0_failedCommand_13 ?_
    exact ⟨g, by rw [hc1], fun z => by rw [hc1] at z; cases z, hP1, ho1⟩
set_option maxHeartbeats 1000000 in
theorem x0_undo (G : fp_G) (x : Nat) (M : Nat → Prop) (T : TH) (i out : Nat) (g : Nat → Int64) (hI : fp_TI i T) (hMo : M out) (hob : (g_s G).heap.size ≤ out) : fp_MH G yX0_undo cX0_undo 3 (some .int) [(0, 8, 11, 15)] 9 161 1 6 [.ref (x), .ref (out)] (fun H => fp_PW G x M T H ∧ fp_At G H out (eJ G 1 g)) (fun q => (g_s G).heap.size ≤ q ∧ (¬ M q ∨ q = out)) (fun H v H1 => ∃ g2 : Nat → Int64, v = some (.int (iI ((fp_un_c T.2.2.1.1 : Nat) : Int))) ∧ (fp_un_c T.2.2.1.1 = 0 → g2 0 = (iI (((T.2.2.1.1) - 1 : Nat) : Int)).toInt64) ∧ fp_PW G x M (fp_if (fp_un_c T.2.2.1.1) (fp_Tun T) T) H1 ∧ fp_At G H1 out (eJ G 1 g2)) (fun _ _ _ => False) := by
  refine fp_MH.intro (by decide +kernel) (Nat.le_of_ble_eq_true rfl) ?_
  intro pg en s mi ag bl mt cd rR qQ ls X hx hb hr hlk hnm hR hQ hT hB hM hl
  have hS : va_S (fA (fun q => (g_s G).heap.size ≤ q ∧ (¬ M q ∨ q = out)) s.heap.size) s.heap s.heap [] := va_S.rf
  generalize ([] : List Loc) = locs at hS ⊢
  obtain ⟨hP, ho⟩ := hM
  obtain ⟨fs9, hob1⟩ := hP.ob
  refine lv_aload_n hx hb dX0_undo_0 rfl (lv_at hl 1 rfl) ?_
  refine lv_iconst (v := (iI ((0 : Nat) : Int))) hx hb dX0_undo_1 rfl ?_
  refine lv_aload_n hx hb dX0_undo_2 rfl (lv_at hl 0 rfl) ?_
  refine x_callV (cells1 := 1) (slots1 := 6) X hR (w_undo G x M T i hI) q1970 q1971 q1972 q88 q1973 ⟨rfl, pd_X1_undo⟩ ⟨Nat.le_of_ble_eq_true rfl, Nat.le_of_ble_eq_true rfl⟩ (Nat.zero_add _) (Nat.zero_add _) (Nat.le_refl _) (Nat.le_refl _) hob1 rfl rfl (Nat.le_of_ble_eq_true rfl) hl.1 dX0_undo_3 hB hP hS (fun q h => Or.inl ⟨h.1, Or.inl h.2⟩) (fun v H1 locs hp hz hk hS => ?_) (fun Ex qx cx H1 locs hp hz hk hS hcx hvx hlx => ?_)
  · obtain ⟨rfl, hc0, hP1⟩ := hp
    have ho1 := ho.kept (hk out ho.lt (fun h => h.2 hMo))
    refine r_stk (st2 := [.int (iI (((T.2.2.1.1) - 1 : Nat) : Int)), .int (iI ((0 : Nat) : Int)), .ref out]) rfl ?_
    refine lv_i2l (v := (iI (((T.2.2.1.1) - 1 : Nat) : Int)).toInt64) hx hb dX0_undo_6 rfl ?_
    refine r_lastI X ho1 hS (Or.inl ⟨hob, Or.inr rfl⟩) (j := 0) rfl (by decide) (by decide) dX0_undo_7 (fun H2 locs ho2 hz2 hq2 hS => ?_)
    refine lv_goto (tgt := 14) hx hb dX0_undo_8 (by decide) ?_
    refine lv_iconst (v := (iI ((0 : Nat) : Int))) hx hb dX0_undo_14 rfl ?_
    refine x_iret hx hb hr hlk hQ hS (Nat.le_refl _) (Nat.le_refl _) dX0_undo_15 ?_
    exact ⟨_, by rw [hc0], fun _ => fp_updL_0.trans rfl, (by rw [fp_if0 hc0]; exact hP1.st X.2.2.2.2.2 ho1 hMo hob hz2 hq2), ho2⟩
  · have ho1 := ho.kept (hk out ho.lt (fun h => h.2 hMo))
    obtain ⟨rfl, hc1, hP1⟩ := hp
    refine r_catch (E := "java/lang/IllegalStateException") (name := "java/lang/IllegalStateException") X hT ([] : List ExceptionTableEntry) ⟨0, 8, 11, 15⟩ ([] : List ExceptionTableEntry) rfl fp_ps_nil rfl (by decide) q1113 q1239 hcx hvx hlx ?_
    refine lv_astore_n (lv' := [(2, .ref (qx)), (0, .ref (x)), (1, .ref (out))]) hx hb dX0_undo_11 rfl hl (by decide) rfl (fun ls hl => ?_)
    refine lv_iconst (v := (iI ((1 : Nat) : Int))) hx hb dX0_undo_12 rfl ?_
    refine x_iret hx hb hr hlk hQ hS (Nat.le_refl _) (Nat.le_refl _) dX0_undo_13 ?_
    exact ⟨g, by rw [hc1], fun z => by rw [hc1] at z; cases z, (by rw [fp_if1 (by rw [hc1]; decide)]; exact hP1), ho1⟩
set_option maxHeartbeats 1000000 in
theorem x0_restore (G : fp_G) (x : Nat) (M : Nat → Prop) (T : TH) (i out : Nat) (g : Nat → Int64) (hI : fp_TI i T) (hMo : M out) (hob : (g_s G).heap.size ≤ out) : fp_MH G yX0_restore cX0_restore 3 (some .int) [(0, 8, 11, 15)] 11 274 10 155 [.ref (x), .ref (out)] (fun H => fp_PW G x M T H ∧ fp_At G H out (eJ G 1 g)) (fun q => (g_s G).heap.size ≤ q ∧ (¬ M q ∨ q = out)) (fun H v H1 => ∃ g2 : Nat → Int64, v = some (.int (iI ((fp_re_c T.2.1 : Nat) : Int))) ∧ (fp_re_c T.2.1 = 0 → g2 0 = (iI ((sN (T.2.1.getD T.1) : Nat) : Int)).toInt64) ∧ fp_PW G x M (fp_if (fp_re_c T.2.1) (fp_Tre T) T) H1 ∧ fp_At G H1 out (eJ G 1 g2)) (fun _ _ _ => False) := by
  refine fp_MH.intro (by decide +kernel) (Nat.le_of_ble_eq_true rfl) ?_
  intro pg en s mi ag bl mt cd rR qQ ls X hx hb hr hlk hnm hR hQ hT hB hM hl
  have hS : va_S (fA (fun q => (g_s G).heap.size ≤ q ∧ (¬ M q ∨ q = out)) s.heap.size) s.heap s.heap [] := va_S.rf
  generalize ([] : List Loc) = locs at hS ⊢
  obtain ⟨hP, ho⟩ := hM
  obtain ⟨fs9, hob1⟩ := hP.ob
  refine lv_aload_n hx hb dX0_restore_0 rfl (lv_at hl 1 rfl) ?_
  refine lv_iconst (v := (iI ((0 : Nat) : Int))) hx hb dX0_restore_1 rfl ?_
  refine lv_aload_n hx hb dX0_restore_2 rfl (lv_at hl 0 rfl) ?_
  refine x_callV (cells1 := 10) (slots1 := 155) X hR (w_restore G x M T i hI) q1992 q1993 q1994 q88 q1995 ⟨rfl, pd_X1_restore⟩ ⟨Nat.le_of_ble_eq_true rfl, Nat.le_of_ble_eq_true rfl⟩ (Nat.zero_add _) (Nat.zero_add _) (Nat.le_refl _) (Nat.le_refl _) hob1 rfl rfl (Nat.le_of_ble_eq_true rfl) hl.1 dX0_restore_3 hB hP hS (fun q h => Or.inl ⟨h.1, Or.inl h.2⟩) (fun v H1 locs hp hz hk hS => ?_) (fun Ex qx cx H1 locs hp hz hk hS hcx hvx hlx => ?_)
  · obtain ⟨rfl, hc0, hP1⟩ := hp
    have ho1 := ho.kept (hk out ho.lt (fun h => h.2 hMo))
    refine r_stk (st2 := [.int (iI ((sN (T.2.1.getD T.1) : Nat) : Int)), .int (iI ((0 : Nat) : Int)), .ref out]) rfl ?_
    refine lv_i2l (v := (iI ((sN (T.2.1.getD T.1) : Nat) : Int)).toInt64) hx hb dX0_restore_6 rfl ?_
    refine r_lastI X ho1 hS (Or.inl ⟨hob, Or.inr rfl⟩) (j := 0) rfl (by decide) (by decide) dX0_restore_7 (fun H2 locs ho2 hz2 hq2 hS => ?_)
    refine lv_goto (tgt := 14) hx hb dX0_restore_8 (by decide) ?_
    refine lv_iconst (v := (iI ((0 : Nat) : Int))) hx hb dX0_restore_14 rfl ?_
    refine x_iret hx hb hr hlk hQ hS (Nat.le_refl _) (Nat.le_refl _) dX0_restore_15 ?_
    exact ⟨_, by rw [hc0], fun _ => fp_updL_0.trans rfl, (by rw [fp_if0 hc0]; exact hP1.st X.2.2.2.2.2 ho1 hMo hob hz2 hq2), ho2⟩
  · have ho1 := ho.kept (hk out ho.lt (fun h => h.2 hMo))
    obtain ⟨rfl, hc1, hP1⟩ := hp
    refine r_catch (E := "java/lang/IllegalStateException") (name := "java/lang/IllegalStateException") X hT ([] : List ExceptionTableEntry) ⟨0, 8, 11, 15⟩ ([] : List ExceptionTableEntry) rfl fp_ps_nil rfl (by decide) q1113 q1239 hcx hvx hlx ?_
    refine lv_astore_n (lv' := [(2, .ref (qx)), (0, .ref (x)), (1, .ref (out))]) hx hb dX0_restore_11 rfl hl (by decide) rfl (fun ls hl => ?_)
    refine lv_iconst (v := (iI ((1 : Nat) : Int))) hx hb dX0_restore_12 rfl ?_
    refine x_iret hx hb hr hlk hQ hS (Nat.le_refl _) (Nat.le_refl _) dX0_restore_13 ?_
    exact ⟨g, by rw [hc1], fun z => by rw [hc1] at z; cases z, (by rw [fp_if1 (by rw [hc1]; decide)]; exact hP1), ho1⟩
