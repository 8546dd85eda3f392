/-! ROWS, on: interface calls, casts, arrays of references, constants -/
set_option maxRecDepth 100000
theorem fp_X.ofS {H0 H : Heap} {locs : List Loc} (hS : va_S (fA fp_no H0.size) H0 H locs) : fp_X H0 H := ⟨hS.1, fun q hq => hS.2.1 q hq (fun z => z.elim (fun h => h.elim) (fun h => absurd hq (Nat.not_lt.mpr h)))⟩
theorem fp_X.ofK {H H1 : Heap} {A : Nat → Prop} (hz : H.size ≤ H1.size) (hk : ∀ q : Nat, q < H.size → ¬ A q → H1[q]? = H[q]?) (hA : ∀ q, ¬ A q) : fp_X H H1 := ⟨hz, fun q hq => hk q hq (hA q)⟩
theorem fp_X.no {H H1 : Heap} (hz : H.size ≤ H1.size) (hk : ∀ q : Nat, q < H.size → ¬ fp_no q → H1[q]? = H[q]?) : fp_X H H1 := ⟨hz, fun q hq => hk q hq (fun h => h)⟩
theorem fp_At.keptS {G : fp_G} {A : Nat → Prop} {H0 H : Heap} {locs : List Loc} {a : Nat} {e : va_E} (h : fp_At G H0 a e) (hS : va_S (fA A H0.size) H0 H locs) (hA : ¬ A a) : fp_At G H a e := h.kept (hS.2.1 a h.lt (fun z => z.elim hA (fun z => absurd h.lt (Nat.not_lt.mpr z))))
theorem fp_keptS {A : Nat → Prop} {H0 H : Heap} {locs : List Loc} {a : Nat} (hl : a < H0.size) (hS : va_S (fA A H0.size) H0 H locs) (hA : ¬ A a) : H[a]? = H0[a]? := hS.2.1 a hl (fun z => z.elim hA (fun z => absurd hl (Nat.not_lt.mpr z)))
/-- cells of two kinds are two -/
theorem fp_At.neOA {G : fp_G} {H : Heap} {a b i : Nat} {fs : List Value} {y : ClassId × vp_A} (h : fp_At G H a (eO i fs)) (h2 : fp_At G H b (.inl y)) (hne : ∀ k : Nat, (g_D G).1 i ≠ y.1) : a ≠ b := by
  rintro rfl
  obtain ⟨r, -, cell, q1, q2, -⟩ := h
  have h3 : H[a]? = some (vp_cell y.1 y.2) := h2
  rw [q1] at h3
  have h4 := Option.some.inj h3
  have h5 : cell.cls = y.1 := by
    rw [h4]
    obtain ⟨c, n, f⟩ := y
    rcases f with f | f | f | f | f <;> rfl
  exact hne 0 (q2.symm.trans h5)
theorem fp_clsne {G : fp_G} {U : State} (hK : fp_K G U) {i : Nat} {r : vw_C} (hc : fp_cl[i]? = some r) {t : Nat} {ty : FieldType} (ht : (fp_tys (g_A G))[t]? = some (g_A G t, ty)) : (g_D G).1 i ≠ g_A G t := by
  intro h
  obtain ⟨k1, hk1, hkind⟩ := (hK.va.1 i _ hc).2.2
  obtain ⟨-, kA, hkA, comp, hkA2⟩ := (hK.va.2 t _ ht).1 0 (fun _ => .null)
  have h2 : U.vm.classes[(g_D G).1 i]? = some kA := by rw [h]; exact hkA
  rw [hk1] at h2
  cases h2
  rw [hkind] at hkA2
  cases hkA2
/-- an object and an array are apart -/
theorem fp_neOA {G : fp_G} {U : State} (hK : fp_K G U) {H : Heap} {a b i : Nat} {fs : List Value} {t : Nat} {x : vp_A} {r : vw_C} {ty : FieldType} (hc : fp_cl[i]? = some r) (ht : (fp_tys (g_A G))[t]? = some (g_A G t, ty)) (h : fp_At G H a (eO i fs)) (h2 : fp_At G H b (.inl (g_A G t, x))) : a ≠ b := h.neOA h2 (fun _ => fp_clsne hK hc ht)
section FPR2
variable {G : fp_G} {p : Program} {e : Env} {R : Room} {s : State} {m : MethodId} {args : Array Value} {below : List Frame} {meth : Method} {c : Code} {H : Heap} {locs : List Loc} {cells slots : Nat} {Q : State → Prop}
variable {cc : ByteArray} {pc nL : Nat} {ls : Array Slot} {rest : List Value} {own : String} {A0 : Nat → Prop} {mc0 ms0 : Nat} {Post0 : Heap → Option Value → Heap → Prop} {H0 : Heap}
-- calls through an interface
def fp_fw (C : String) (x y : MethodName) : Prop := Cond.declares x ∈ lw_tbl ∧ Cond.interfaceMethod x.cls x.cls x.name x.desc ∈ lw_tbl ∧ Cond.publicMethod y ∈ lw_tbl ∧ Cond.unhidden C x.name x.desc ∈ lw_tbl ∧ Cond.castable C x.cls ∈ lw_tbl
theorem fp_K.fw {U : State} {C : String} {x y : MethodName} (hK : fp_K G U) (hx : x.cls ≠ "java/lang/invoke/MethodHandle" ∧ x.cls ≠ "java/lang/invoke/VarHandle") (h : fp_fw C x y) : va_Fw C x y U := va_Fw.moved hx hK.2.alike (va_Fw.of (hK.1.1 _ h.1) (hK.1.1 _ h.2.1) (hK.1.1 _ h.2.2.1) (hK.1.1 _ h.2.2.2.1) (hK.1.1 _ h.2.2.2.2))
theorem r_after5 {A : Nat → Prop} {Post : Heap → Option Value → Heap → Prop} {mc ms cells1 slots1 : Nat} {st0 : List Value} {a : Array Value} (ec : cells + mc = cells1) (es : slots + ms = slots1) (hr : va_Run5 p (g_l G) e R s m args below meth c H locs cells slots mc ms (F0 m pc ls st0) rest (fp_Q A H.size Post a) (fA A H.size)) (hS : va_S (fA A0 s.heap.size) s.heap H locs) (hA : ∀ q, A q → fA A0 s.heap.size q)
    (kk : ∀ (v : Option Value) (H1 : Heap) (locs1 : List Loc), Post H v H1 → H.size ≤ H1.size → (∀ q : Nat, q < H.size → ¬ A q → H1[q]? = H[q]?) → va_S (fA A0 s.heap.size) s.heap H1 locs1 → W p (g_l G) e R s m args below meth c H1 locs1 cells1 slots1 Q (F0 m (pc + 5) ls (v.toList ++ rest))) : W p (g_l G) e R s m args below meth c H locs cells slots Q (F0 m pc ls st0) := by
  subst ec es
  intro T hT X
  obtain ⟨v, st₀, t, T', L, h0, X', hL, e1, e2, ⟨v2, hv, hp, hz, hk⟩, st⟩ := hr T hT X
  cases hv
  rw [h0] at hz hk hp
  have hA2 : ∀ q, fA A H.size q → fA A0 s.heap.size q := fun q h => by
    rcases h with h | h
    · exact hA q h
    · exact Or.inr (Nat.le_trans hS.1 h)
  obtain ⟨t2, a1, b1⟩ := kk v T'.heap (locs ++ L) (by rw [e1]; exact hp) (by rw [e1]; exact hz) (fun q h1 h2 => by rw [e1]; exact hk q h1 (fun h => by rcases h with h | h; exact h2 h; omega))
    ⟨Nat.le_trans hS.1 (by rw [e1]; exact hz), fun q h1 h2 => by rw [e1, hk q (Nat.lt_of_lt_of_le h1 hS.1) (fun z => h2 (hA2 q z))]; exact hS.2.1 q h1 h2, fun q hq => by
      rcases List.mem_append.mp hq with h | h
      · exact hS.2.2 q h
      · exact hA2 _ (hL q h)⟩ T' rfl X'
  exact ⟨t2, st t2 a1, b1⟩
theorem lw_F {own : String} {idx : Nat} {C : String} {x y : MethodName} {b : ByteArray} {L : Nat} {r : Option FieldType} (h1 : Cond.methodLink own idx x ∈ lw_all) (h2 : Cond.selects C x y ∈ lw_all) (h3 : Cond.instanceMethod y ∈ lw_all) (h4 : Cond.initialized y.cls ∈ lw_all) (h5 : Cond.code y b L r ∈ lw_all) : GoodIn lw_all (va_wsF own idx C x y (ws_ y b L r)) := by
  refine lw_app ?_ (lw_meth h5)
  intro w hw
  simp only [List.mem_cons, List.not_mem_nil, or_false] at hw
  rcases hw with rfl | rfl | rfl | rfl
  · exact h1
  · exact h2
  · exact h3
  · exact h4
theorem r_callF {x y : MethodName} {bytes : ByteArray} {maxL : Nat} {ret : Option FieldType} {fr lo mc ms fr0 lo0 mc0 ms0 cells1 slots1 index count : Nat} {C : String} {b : Nat} {As st0 : List Value} {A : Nat → Prop} {Pre : Heap → Prop} {Post : Heap → Option Value → Heap → Prop} {ci : Nat} {fs : List Value} {T : u_T} {N : Nat}
    (X : fp_C G p s m args c cc own nL) (hR : fp_R R fr0 lo0 mc0 ms0) (hM : fp_M G y bytes maxL ret fr lo mc ms (.ref b :: As) Pre A Post) (w1 : Cond.methodLink own index x ∈ lw_all) (w3 : Cond.selects C x y ∈ lw_all) (w2 : Cond.instanceMethod y ∈ lw_all) (w4 : Cond.initialized y.cls ∈ lw_all) (w5 : Cond.code y bytes maxL ret ∈ lw_all) (w6 : fp_fw C x y)
    (hd : x.cls ≠ "java/lang/invoke/MethodHandle" ∧ x.cls ≠ "java/lang/invoke/VarHandle" ∧ (parseMethodDescriptor x.desc).map (fun d => d.parameters.length) = some As.length) (hRR : fr + 1 ≤ fr0 ∧ 8 + (maxL + 11) + lo ≤ lo0) (ec : cells + mc = cells1) (es : slots + ms = slots1) (hcells : cells1 ≤ mc0) (hslots : slots1 ≤ ms0) (hat : fp_At G H b (eO ci fs)) (hc : fp_cl[ci]? = some (C, T, N)) (hst : st0 = As.reverse ++ .ref b :: rest) (hrest : (rest.map fun v => v.category).sum ≤ 8) (hls : ls.size = nL) (hdg : decode cc pc = .ok (.invokeinterface index count, 5))
    (hB : fp_B G H) (hP : Pre H) (hS : va_S (fA A0 s.heap.size) s.heap H locs) (hA : ∀ q, A q → fA A0 s.heap.size q)
    (kk : ∀ (v : Option Value) (H1 : Heap) (locs1 : List Loc), Post H v H1 → H.size ≤ H1.size → (∀ q : Nat, q < H.size → ¬ A q → H1[q]? = H[q]?) → va_S (fA A0 s.heap.size) s.heap H1 locs1 → W p (g_l G) e R s m args below meth c H1 locs1 cells1 slots1 Q (F0 m (pc + 5) ls (v.toList ++ rest))) : W p (g_l G) e R s m args below meth c H locs cells slots Q (F0 m pc ls st0) := by
  obtain ⟨hx, hb, hml, hown, hts, hK⟩ := X
  obtain ⟨rfl, rfl, rfl, rfl⟩ := hR
  refine r_after5 ec es (va_runF (As := As) (b := b) (C := C) (hK.va.1 ci _ hc).2 ⟨hx, hb, hml, hown, hts⟩ (hM H.size) (va_cwF As.length hts (lw_F w1 w3 w2 w4 w5) rfl rfl rfl (hK.fw ⟨hd.1, hd.2.1⟩ w6) hd hRR) ⟨fp_blind, va_recv (q0 := 0) hK.va (fp_P1 hat) hc rfl, fun U hU hW => ⟨rfl, by rw [hU], hK.moved hW, by rw [hU]; exact hB, by rw [hU]; exact hP⟩⟩ rfl rfl hls hst (lv_room hrest) hdg ⟨by rw [ec]; exact hcells, by rw [es]; exact hslots⟩) hS hA kk
/-- a nest mate's method called through an object -/
theorem r_callVN {y : MethodName} {host : String} {bytes : ByteArray} {maxL : Nat} {ret : Option FieldType} {fr lo mc ms fr0 lo0 mc0 ms0 cells1 slots1 index : Nat} {C : String} {b : Nat} {As st0 : List Value} {A : Nat → Prop} {Pre : Heap → Prop} {Post : Heap → Option Value → Heap → Prop} {ci : Nat} {fs : List Value} {T : u_T} {N : Nat}
    (X : fp_C G p s m args c cc own nL) (hR : fp_R R fr0 lo0 mc0 ms0) (hM : fp_M G y bytes maxL ret fr lo mc ms (.ref b :: As) Pre A Post) (w1 : Cond.methodLinkNest own index y host ∈ lw_tbl) (w2 : Cond.instanceMethod y ∈ lw_all) (w3 : Cond.selects C y y ∈ lw_all) (w4 : Cond.initialized y.cls ∈ lw_all) (w5 : Cond.code y bytes maxL ret ∈ lw_all)
    (hd : y.cls ≠ "java/lang/invoke/MethodHandle" ∧ y.cls ≠ "java/lang/invoke/VarHandle" ∧ (parseMethodDescriptor y.desc).map (fun d => d.parameters.length) = some As.length) (hRR : fr + 1 ≤ fr0 ∧ 8 + (maxL + 11) + lo ≤ lo0) (ec : cells + mc = cells1) (es : slots + ms = slots1) (hcells : cells1 ≤ mc0) (hslots : slots1 ≤ ms0) (hat : fp_At G H b (eO ci fs)) (hc : fp_cl[ci]? = some (C, T, N)) (hst : st0 = As.reverse ++ .ref b :: rest) (hrest : (rest.map fun v => v.category).sum ≤ 8) (hls : ls.size = nL) (hdg : decode cc pc = .ok (.invokevirtual index, 3))
    (hB : fp_B G H) (hP : Pre H) (hS : va_S (fA A0 s.heap.size) s.heap H locs) (hA : ∀ q, A q → fA A0 s.heap.size q)
    (kk : ∀ (v : Option Value) (H1 : Heap) (locs1 : List Loc), Post H v H1 → H.size ≤ H1.size → (∀ q : Nat, q < H.size → ¬ A q → H1[q]? = H[q]?) → va_S (fA A0 s.heap.size) s.heap H1 locs1 → W p (g_l G) e R s m args below meth c H1 locs1 cells1 slots1 Q (F0 m (pc + 3) ls (v.toList ++ rest))) : W p (g_l G) e R s m args below meth c H locs cells slots Q (F0 m pc ls st0) := by
  obtain ⟨hx, hb, hml, hown, hts, hK⟩ := X
  obtain ⟨rfl, rfl, rfl, rfl⟩ := hR
  refine r_after ec es (va_runVN (As := As) (b := b) (C := C) ⟨hx, hb, hml, hown, hts⟩ (hM H.size) ⟨va_cnB As.length hts (lw_meth w5) rfl rfl rfl (va_Nw.warmM hK.2 (va_Nw.of rfl (hK.1.1 _ w1))) (hts _ w4) hd hRR, hts _ w2, hts _ w3⟩ ⟨fp_blind, va_recv (q0 := 0) hK.va (fp_P1 hat) hc rfl, fun U hU hW => ⟨rfl, by rw [hU], hK.moved hW, by rw [hU]; exact hB, by rw [hU]; exact hP⟩⟩ rfl rfl hls hst (lv_room hrest) hdg ⟨by rw [ec]; exact hcells, by rw [es]; exact hslots⟩) hS hA kk
/-- a constructor of another class, with words as they are -/
theorem r_cast {C nm : String} {index ci a : Nat} {fs : List Value} {T : u_T} {N : Nat} (X : fp_C G p s m args c cc own nL) (hat : fp_At G H a (eO ci fs)) (hc : fp_cl[ci]? = some (C, T, N)) (hlink : Cond.classLink own index nm ∈ lw_all) (hw : Cond.castable C nm ∈ lw_tbl) (hd : decode cc pc = .ok (.checkcast index, 3))
    (kk : W p (g_l G) e R s m args below meth c H locs cells slots Q (F0 m (pc + 3) ls (.ref a :: rest))) : W p (g_l G) e R s m args below meth c H locs cells slots Q (F0 m pc ls (.ref a :: rest)) := by
  obtain ⟨hx, hb, -, hown, hts, hK⟩ := X
  exact va_castY hx hb hown (hts _ hlink) (va_Nw.warmC hK.2 (va_Nw.of rfl (hK.1.1 _ hw))) (va_recv (q0 := 0) hK.va (fp_P1 hat) hc rfl) hd kk
theorem r_castS {C : String} {index ci a : Nat} {fs : List Value} {T : u_T} {N : Nat} (X : fp_C G p s m args c cc own nL) (hat : fp_At G H a (eO ci fs)) (hc : fp_cl[ci]? = some (C, T, N)) (hlink : Cond.classLink own index C ∈ lw_all) (hd : decode cc pc = .ok (.checkcast index, 3))
    (kk : W p (g_l G) e R s m args below meth c H locs cells slots Q (F0 m (pc + 3) ls (.ref a :: rest))) : W p (g_l G) e R s m args below meth c H locs cells slots Q (F0 m pc ls (.ref a :: rest)) := by
  obtain ⟨hx, hb, -, hown, hts, hK⟩ := X
  exact va_castS hx hb hown (hts _ hlink) (hK.va.1 ci _ hc).2 (va_recv (q0 := 0) hK.va (fp_P1 hat) hc rfl) hd kk
theorem r_castB {index a : Nat} {b : Nat → Nat} (X : fp_C G p s m args c cc own nL) (hat : fp_At G H a (fp_bE b)) (hb3 : b 1 < 3) (hlink : Cond.classLink own index "FortPlanner$Block" ∈ lw_all) (hd : decode cc pc = .ok (.checkcast index, 3))
    (kk : W p (g_l G) e R s m args below meth c H locs cells slots Q (F0 m (pc + 3) ls (.ref a :: rest))) : W p (g_l G) e R s m args below meth c H locs cells slots Q (F0 m pc ls (.ref a :: rest)) := by
  rcases (show b 1 = 0 ∨ b 1 = 1 ∨ b 1 = 2 by omega) with h | h | h
  · rw [fp_bE_0 h] at hat
    exact r_cast X hat rfl hlink q2538 hd kk
  · rw [fp_bE_1 h] at hat
    exact r_cast X hat rfl hlink q2537 hd kk
  · rw [fp_bE_2 h] at hat
    exact r_cast X hat rfl hlink q2536 hd kk
theorem r_instB {index a : Nat} {b : Nat → Nat} {nm : String} {kd : Nat} (X : fp_C G p s m args c cc own nL) (hat : fp_At G H a (fp_bE b)) (hb3 : b 1 < 3) (hnm : nm = RX6 ∧ kd = 0 ∨ nm = RX7 ∧ kd = 1) (hlink : Cond.classLink own index nm ∈ lw_all) (hd : decode cc pc = .ok (.instanceof index, 3))
    (hno : ∀ C, C ∈ [RX6, RX7, RX8] → C ≠ nm → Cond.not (.castable C nm) ∈ flatC (Jvm.Cond.and given_1 narrow_1))
    (kk : W p (g_l G) e R s m args below meth c H locs cells slots Q (F0 m (pc + 3) ls (.int (iI (bI (decide (b 1 = kd)))) :: rest))) : W p (g_l G) e R s m args below meth c H locs cells slots Q (F0 m pc ls (.ref a :: rest)) := by
  obtain ⟨hx, hb, -, hown, hts, hK⟩ := X
  have no : ∀ C, C ∈ [RX6, RX7, RX8] → C ≠ nm → va_Nc C nm s := fun C h1 h2 => va_Nc.moved hK.2.alike (va_Nc.of (hK.flat _ (hno C h1 h2)))
  have yes : ∀ ci fs T N, fp_At G H a (eO ci fs) → fp_cl[ci]? = some (nm, T, N) → b 1 = kd → W p (g_l G) e R s m args below meth c H locs cells slots Q (F0 m pc ls (.ref a :: rest)) := fun ci fs T N hat hc hk => by
    refine va_instS hx hb hown (hts _ hlink) (hK.va.1 ci _ hc).2 (va_recv (q0 := 0) hK.va (fp_P1 hat) hc rfl) hd ?_
    rw [decide_eq_true hk] at kk
    exact kk
  have nay : ∀ ci fs C T N, fp_At G H a (eO ci fs) → fp_cl[ci]? = some (C, T, N) → C ∈ [RX6, RX7, RX8] → C ≠ nm → b 1 ≠ kd → W p (g_l G) e R s m args below meth c H locs cells slots Q (F0 m pc ls (.ref a :: rest)) := fun ci fs C T N hat hc h1 h2 hk => by
    refine va_instNo hx hb hown (hts _ hlink) (no C h1 h2) (va_recv (q0 := 0) hK.va (fp_P1 hat) hc rfl) hd ?_
    rw [decide_eq_false hk] at kk
    exact kk
  rcases (show b 1 = 0 ∨ b 1 = 1 ∨ b 1 = 2 by omega) with h | h | h
  · rw [fp_bE_0 h] at hat
    rcases hnm with ⟨rfl, rfl⟩ | ⟨rfl, rfl⟩
    · exact yes 3 _ _ _ hat rfl h
    · exact nay 3 _ _ _ _ hat rfl (by decide) (by decide) (by omega)
  · rw [fp_bE_1 h] at hat
    rcases hnm with ⟨rfl, rfl⟩ | ⟨rfl, rfl⟩
    · exact nay 4 _ _ _ _ hat rfl (by decide) (by decide) (by omega)
    · exact yes 4 _ _ _ hat rfl h
  · rw [fp_bE_2 h] at hat
    rcases hnm with ⟨rfl, rfl⟩ | ⟨rfl, rfl⟩
    · exact nay 5 _ _ _ _ hat rfl (by decide) (by decide) (by omega)
    · exact nay 5 _ _ _ _ hat rfl (by decide) (by decide) (by omega)
-- arrays of references
/-- a reference stored: an object whose class casts to the component's -/
theorem r_aast {a n t v i0 ci : Nat} {C E : String} {z : Int} {f : Nat → Option Nat} {fs : List Value} {T : u_T} {N : Nat} {A : Nat → Prop} (X : fp_C G p s m args c cc own nL) (ht : (fp_tys (g_A G))[t]? = some (g_A G t, .object E)) (hat : fp_At G H a (eQ G t n f)) (hS : va_S A H0 H locs) (hA : A a) (hv : fp_At G H v (eO ci fs)) (hc : fp_cl[ci]? = some (C, T, N)) (hca : Cond.castable C E ∈ lw_tbl) (hz : z = (i0 : Int)) (hi : i0 < n) (hn : n ≤ 2147483647) (hd : decode cc pc = .ok (.aastore, 1))
    (kk : ∀ (H1 : Heap) (locs1 : List Loc), fp_At G H1 a (eQ G t n (va_up f i0 (some v))) → H1.size = H.size → (∀ q : Nat, q ≠ a → H1[q]? = H[q]?) → va_S A H0 H1 locs1 → W p (g_l G) e R s m args below meth c H1 locs1 cells slots Q (F0 m (pc + 1) ls rest)) : W p (g_l G) e R s m args below meth c H locs cells slots Q (F0 m pc ls (.ref v :: .int (iI z) :: .ref a :: rest)) := by
  obtain ⟨hx, hb, -, hown, hts, hK⟩ := X
  have hin : vp_in (iI z) n := iI_in hz hi (by omega)
  have hcl : (iI z).toNatClampNeg = i0 := iI_cl hz (by omega)
  have hlt : (iI z).toNatClampNeg < n := by rw [hcl]; exact hi
  have h0 : ¬ (iI z) < 0 := fun q => hin (Or.inl q)
  obtain ⟨r', hr', cellV, g1, g2, g3, -⟩ := hv
  have hcls := (hK.va.1 ci _ hc).2
  obtain ⟨kA, comp, k1, k2, k3, -⟩ := (hK.va.2 t _ ht).2
  obtain ⟨c0, t0, f1, f2, f3⟩ := Cond.castable_spec (args := args) (hK.cast hca)
  have hc0 : c0 = (g_D G).1 ci := Option.some.inj (f1.symm.trans hcls.1)
  have ht0 : t0 = comp := Option.some.inj (f2.symm.trans k3)
  obtain ⟨kC, hkC, -⟩ := hcls.2
  subst hc0 ht0
  obtain ⟨kE, hkE, -⟩ := Vm.findClass_spec f2
  refine W.aast hx hb hat (fun q h => by cases h) (fun h => by cases h) k1 k2 rfl hkE ⟨h0, by show _ < (arrV _ _ _).slots.size; rw [arrV_size]; exact hlt⟩ g1 (fun q h => by rw [g3] at h; cases h) (by rw [g2]; exact hkC) (by rw [g2]; exact f3) rfl rfl hd fun H1 e z1 oq => ?_
  refine kk H1 _ ?_ z1 oq (hS.put z1 oq hA)
  show H1[a]? = some (vp_cell _ _)
  rw [e]
  rw [vp_cell_q, vp_cell_q, arrV_store, hcl]
  congr 2
  funext q
  by_cases hq : q = i0
  · subst hq
    simp [updV, va_up, va_rf]
  · simp [updV, va_up, hq]
theorem r_aastN {a n t i0 : Nat} {E : String} {z : Int} {f : Nat → Option Nat} {A : Nat → Prop} (X : fp_C G p s m args c cc own nL) (ht : (fp_tys (g_A G))[t]? = some (g_A G t, .object E)) (hat : fp_At G H a (eQ G t n f)) (hS : va_S A H0 H locs) (hA : A a) (hz : z = (i0 : Int)) (hi : i0 < n) (hn : n ≤ 2147483647) (hd : decode cc pc = .ok (.aastore, 1))
    (kk : ∀ (H1 : Heap) (locs1 : List Loc), fp_At G H1 a (eQ G t n (va_up f i0 none)) → H1.size = H.size → (∀ q : Nat, q ≠ a → H1[q]? = H[q]?) → va_S A H0 H1 locs1 → W p (g_l G) e R s m args below meth c H1 locs1 cells slots Q (F0 m (pc + 1) ls rest)) : W p (g_l G) e R s m args below meth c H locs cells slots Q (F0 m pc ls (.null :: .int (iI z) :: .ref a :: rest)) := by
  obtain ⟨hx, hb, -, hown, hts, hK⟩ := X
  have hin : vp_in (iI z) n := iI_in hz hi (by omega)
  have hcl : (iI z).toNatClampNeg = i0 := iI_cl hz (by omega)
  refine va_WaastN (C := E) hx hb hat ((hK.va.2 t _ ht).1 n (fun j => va_rf (f j))) (fun h => by cases h) (by show ¬ (_ ∨ (arrV _ _ _).slots.size ≤ _); rw [arrV_size]; exact hin) rfl rfl hd fun H1 e z1 oq => ?_
  refine kk H1 _ ?_ z1 oq (hS.put z1 oq hA)
  show H1[a]? = some (vp_cell _ _)
  rw [e]
  rw [vp_cell_q, vp_cell_q, arrV_store, hcl]
  congr 2
  funext q
  by_cases hq : q = i0
  · subst hq
    simp [updV, va_up, va_rf]
  · simp [updV, va_up, hq]
theorem r_anew {C : String} {t index n : Nat} {z : Int} {A : Nat → Prop} {fr lo mc ms : Nat} (X : fp_C G p s m args c cc own nL) (hR : fp_R R fr lo mc ms) (hS : va_S A H0 H locs) (hcl : Cond.classLink own index C ∈ lw_all) (hov : Cond.arrayOver (.object C) ∈ lw_tbl) (ht : (fp_tys (g_A G))[t]? = some (g_A G t, .object C)) (hz : z = (n : Int)) (hn : n ≤ 100000) (hcells : cells + 1 ≤ mc) (hslots : slots + n ≤ ms) (hd : decode cc pc = .ok (.anewarray index, 3))
    (kk : ∀ (q : Nat) (H1 : Heap), q = H.size → fp_At G H1 q (eQ G t n (fun _ => none)) → fp_X H H1 → H1.size = H.size + 1 → va_S A H0 H1 locs → W p (g_l G) e R s m args below meth c H1 locs (cells + 1) (slots + n) Q (F0 m (pc + 3) ls (.ref q :: rest))) : W p (g_l G) e R s m args below meth c H locs cells slots Q (F0 m pc ls (.int (iI z) :: rest)) := by
  obtain ⟨hx, hb, -, hown, hts, hK⟩ := X
  obtain ⟨-, -, rfl, rfl⟩ := hR
  have hcl0 : (iI z).toNatClampNeg = n := iI_cl hz (by omega)
  have hneg : ¬ (iI z) < 0 := by rw [iI_0, iI_lt ⟨by omega, by omega⟩ rg_0]; omega
  refine W.anew hx hb hown (hts _ hcl) (va_AO.use (va_AO.moved hK.2.alike (va_AO.of (hK.1.1 _ hov)))) rfl hd rfl hneg (by rw [hcl0]; omega) hcells (by rw [hcl0]; exact hslots) fun cA kA comp f1 f2 f3 f4 => ?_
  rw [hcl0]
  obtain ⟨kA2, comp2, k1, k2, k3, k4⟩ := (hK.va.2 t _ ht).2
  have hcA : cA = g_A G t := Option.some.inj (f1.symm.trans k4)
  subst hcA
  generalize hH1 : H.push ({ cls := g_A G t, slots := Array.replicate n .null, vm := .none } : Cell) = H1
  have z1 : H1.size = H.size + 1 := by rw [← hH1, Array.size_push]
  have e1 : H1[H.size]? = some (arrV (g_A G t) n (fun _ => .null)) := by rw [← hH1, Array.getElem?_push_size, ← arrV_new]
  have o1 : ∀ q : Nat, q < H.size → H1[q]? = H[q]? := fun q hq => by rw [← hH1, Array.getElem?_push, if_neg (Nat.ne_of_lt hq)]
  refine kk H.size H1 rfl ?_ ⟨by omega, o1⟩ z1 ⟨Nat.le_trans hS.1 (by omega), fun x h1 h2 => (o1 x (Nat.lt_of_lt_of_le h1 hS.1)).trans (hS.2.1 x h1 h2), hS.2.2⟩
  show H1[H.size]? = some (vp_cell _ _)
  rw [vp_cell_q]
  exact e1
/-- the row's places, as far as they are said -/
theorem fp_At.arrQ {a n : Nat} {c : ClassId} {f g : Nat → Option Nat} (h : fp_At G H a (.inl (c, n, .inr (.inr (.inr (.inr f)))))) (e : ∀ j, j < n → f j = g j) : fp_At G H a (.inl (c, n, .inr (.inr (.inr (.inr g))))) := by
  have h1 : H[a]? = some (vp_cell c (n, .inr (.inr (.inr (.inr f))))) := h
  show H[a]? = some (vp_cell c (n, .inr (.inr (.inr (.inr g)))))
  rw [h1, vp_cell_q, vp_cell_q, fp_arrV (fun j hj => by rw [e j hj])]
-- Math.max, Math.min of numbers
theorem r_maxN {index fr lo mc ms a b : Nat} (X : fp_C G p s m args c cc own nL) (hR : fp_R R fr lo mc ms) (hls : ls.size = nL) (w1 : Cond.methodLink own index Lib.Math.max.name ∈ lw_all) (w2 : Cond.static Lib.Math.max.name ∈ lw_all) (w3 : Cond.initialized "java/lang/Math" ∈ lw_all) (w4 : Cond.code Lib.Math.max.name Lib.Math.max.code 2 (some .int) ∈ lw_all) (hfr : 1 ≤ fr) (hlo : (rest.map fun v => v.category).sum + 13 ≤ lo) (hc : cells ≤ mc) (hs : slots ≤ ms) (ha : a < 2147483648) (hb2 : b < 2147483648) (hd : decode cc pc = .ok (.invokestatic index, 3))
    (kk : W p (g_l G) e R s m args below meth c H locs cells slots Q (F0 m (pc + 3) ls (.int (iI ((max a b : Nat) : Int)) :: rest))) : W p (g_l G) e R s m args below meth c H locs cells slots Q (F0 m pc ls (.int (iI ((b : Nat) : Int)) :: .int (iI ((a : Nat) : Int)) :: rest)) := by
  obtain ⟨hx, hb, hml, hown, hts, hK⟩ := X
  obtain ⟨rfl, rfl, rfl, rfl⟩ := hR
  refine va_mmax hx hb (hml.trans hls.symm) hown (hts _ w1) (hts _ w2) (hts _ w3) (hts _ w4) hfr hlo hc hs hd ?_
  have h := iI_lt (a := (a : Int)) (b := (b : Int)) ⟨by omega, by omega⟩ ⟨by omega, by omega⟩
  by_cases hab : a < b
  · rw [if_pos (h.mpr (by omega))]
    rw [show max a b = b by omega] at kk
    exact kk
  · rw [if_neg (fun z => hab (by have := h.mp z; omega))]
    rw [show max a b = a by omega] at kk
    exact kk
theorem r_minN {index fr lo mc ms : Nat} {a b : Int} (X : fp_C G p s m args c cc own nL) (hR : fp_R R fr lo mc ms) (hls : ls.size = nL) (w1 : Cond.methodLink own index Lib.Math.min.name ∈ lw_all) (w2 : Cond.static Lib.Math.min.name ∈ lw_all) (w3 : Cond.initialized "java/lang/Math" ∈ lw_all) (w4 : Cond.code Lib.Math.min.name Lib.Math.min.code 2 (some .int) ∈ lw_all) (hfr : 1 ≤ fr) (hlo : (rest.map fun v => v.category).sum + 13 ≤ lo) (hc : cells ≤ mc) (hs : slots ≤ ms) (ha : rg a) (hb2 : rg b) (hd : decode cc pc = .ok (.invokestatic index, 3))
    (kk : W p (g_l G) e R s m args below meth c H locs cells slots Q (F0 m (pc + 3) ls (.int (iI (min a b)) :: rest))) : W p (g_l G) e R s m args below meth c H locs cells slots Q (F0 m pc ls (.int (iI b) :: .int (iI a) :: rest)) := by
  obtain ⟨hx, hb, hml, hown, hts, hK⟩ := X
  obtain ⟨rfl, rfl, rfl, rfl⟩ := hR
  refine va_mmin hx hb (hml.trans hls.symm) hown (hts _ w1) (hts _ w2) (hts _ w3) (hts _ w4) hfr hlo hc hs hd ?_
  have h := iI_lt hb2 ha
  have h2 := iI_lt ha hb2
  have h3 := iI_le ha hb2
  have h4 := iI_le hb2 ha
  by_cases hab : a ≤ b
  · rw [show min a b = a by omega] at kk
    by_cases he : a = b
    · subst he
      simp
      exact kk
    · first | (rw [if_pos (h2.mpr (by omega))]; exact kk) | (rw [if_neg (fun z => by have := h.mp z; omega)]; exact kk) | (rw [if_pos (h3.mpr hab)]; exact kk)
  · rw [show min a b = b by omega] at kk
    first | (rw [if_neg (fun z => by have := h2.mp z; omega)]; exact kk) | (rw [if_pos (h.mpr (by omega))]; exact kk) | (rw [if_neg (fun z => by have := h3.mp z; omega)]; exact kk)
theorem r_maxI {index fr lo mc ms : Nat} {a b : Int} (X : fp_C G p s m args c cc own nL) (hR : fp_R R fr lo mc ms) (hls : ls.size = nL) (w1 : Cond.methodLink own index Lib.Math.max.name ∈ lw_all) (w2 : Cond.static Lib.Math.max.name ∈ lw_all) (w3 : Cond.initialized "java/lang/Math" ∈ lw_all) (w4 : Cond.code Lib.Math.max.name Lib.Math.max.code 2 (some .int) ∈ lw_all) (hfr : 1 ≤ fr) (hlo : (rest.map fun v => v.category).sum + 13 ≤ lo) (hc : cells ≤ mc) (hs : slots ≤ ms) (ha : rg a) (hb2 : rg b) (hd : decode cc pc = .ok (.invokestatic index, 3))
    (kk : W p (g_l G) e R s m args below meth c H locs cells slots Q (F0 m (pc + 3) ls (.int (iI (max a b)) :: rest))) : W p (g_l G) e R s m args below meth c H locs cells slots Q (F0 m pc ls (.int (iI b) :: .int (iI a) :: rest)) := by
  obtain ⟨hx, hb, hml, hown, hts, hK⟩ := X
  obtain ⟨rfl, rfl, rfl, rfl⟩ := hR
  refine va_mmax hx hb (hml.trans hls.symm) hown (hts _ w1) (hts _ w2) (hts _ w3) (hts _ w4) hfr hlo hc hs hd ?_
  have h := iI_lt ha hb2
  by_cases hab : a < b
  · rw [if_pos (h.mpr hab)]
    rw [show max a b = b by omega] at kk
    exact kk
  · rw [if_neg (fun z => hab (h.mp z))]
    rw [show max a b = a by omega] at kk
    exact kk
theorem r_zastB {a n j : Nat} {f : Nat → Bool} {z : Int} {v : Bool} {A : Nat → Prop} (X : fp_C G p s m args c cc own nL) (hat : fp_At G H a (eZ G n (fun j => iI (bI (f j))))) (hS : va_S A H0 H locs) (hA : A a) (hz : z = (j : Int)) (hj : j < n) (hn : n ≤ 2147483647) (hd : decode cc pc = .ok (.bastore, 1))
    (kk : ∀ (H1 : Heap) (locs1 : List Loc), fp_At G H1 a (eZ G n (upd (fun j => iI (bI (f j))) j (iI (bI v)))) → H1.size = H.size → (∀ q : Nat, q ≠ a → H1[q]? = H[q]?) → va_S A H0 H1 locs1 → W p (g_l G) e R s m args below meth c H1 locs1 cells slots Q (F0 m (pc + 1) ls rest)) : W p (g_l G) e R s m args below meth c H locs cells slots Q (F0 m pc ls (.int (iI (bI v)) :: .int (iI z) :: .ref a :: rest)) := by
  refine r_zastI X hat hS hA hz hj hn hd ?_
  rw [bI_nar]
  exact kk
theorem fp_At.updZ {a n j : Nat} {f : Nat → Bool} {v : Bool} (h : fp_At G H a (eZ G n (upd (fun j => iI (bI (f j))) j (iI (bI v))))) : fp_At G H a (eZ G n (fun i => iI (bI (va_up f j v i)))) := h.arr (fun i _ => by unfold upd va_up; by_cases e : i = j <;> simp [e])
theorem fp_At.updI {a n j : Nat} {f : Nat → Int} {v : Int} (h : fp_At G H a (eI G n (upd (fun j => iI (f j)) j (iI v)))) : fp_At G H a (eI G n (fun i => iI (va_up f j v i))) := h.arr (fun i _ => by unfold upd va_up; by_cases e : i = j <;> simp [e])
theorem fp_At.updB {a n j : Nat} {f : Nat → Int} {v : Int} (h : fp_At G H a (eB G n (upd (fun j => iI (f j)) j (iI v)))) : fp_At G H a (eB G n (fun i => iI (va_up f j v i))) := h.arr (fun i _ => by unfold upd va_up; by_cases e : i = j <;> simp [e])
theorem iI_narB {z : Int} (h : -128 ≤ z ∧ z < 128) : vp_nar .byte (iI z) = iI z := by
  have e : narrow .byte (.int (iI z)) = .int (iI z) := by
    apply congrArg Value.int
    apply Int32.toInt_inj.mp
    have h2 : (iI z).toInt8.toInt = z := by
      rw [Int32.toInt_toInt8, iI_toInt ⟨by omega, by omega⟩]
      exact Int.bmod_eq_of_le (by omega) (by omega)
    first | (rw [Int8.toInt_toInt32, h2, iI_toInt ⟨by omega, by omega⟩]) | simp [h2, iI_toInt]
  unfold vp_nar
  rw [e]
theorem r_bastI {a n j : Nat} {f : Nat → Int} {z v : Int} {A : Nat → Prop} (X : fp_C G p s m args c cc own nL) (hat : fp_At G H a (eB G n (fun j => iI (f j)))) (hS : va_S A H0 H locs) (hA : A a) (hz : z = (j : Int)) (hj : j < n) (hn : n ≤ 2147483647) (hv : -128 ≤ v ∧ v < 128) (hd : decode cc pc = .ok (.bastore, 1))
    (kk : ∀ (H1 : Heap) (locs1 : List Loc), fp_At G H1 a (eB G n (upd (fun j => iI (f j)) j (iI v))) → H1.size = H.size → (∀ q : Nat, q ≠ a → H1[q]? = H[q]?) → va_S A H0 H1 locs1 → W p (g_l G) e R s m args below meth c H1 locs1 cells slots Q (F0 m (pc + 1) ls rest)) : W p (g_l G) e R s m args below meth c H locs cells slots Q (F0 m pc ls (.int (iI v) :: .int (iI z) :: .ref a :: rest)) := by
  refine r_bast X hat hS hA (iI_in hz hj (by omega)) hd ?_
  rw [iI_cl hz (by omega), iI_narB hv]
  exact kk
theorem fp_neg {z : Int} {n : Nat} (hz : z = (n : Int)) (hn : n ≤ 2147483647) : ¬ iI z < 0 := by rw [iI_0, iI_lt ⟨by omega, by omega⟩ rg_0]; omega
theorem r_newaI {n : Nat} {z : Int} {A : Nat → Prop} {fr lo mc ms : Nat} (X : fp_C G p s m args c cc own nL) (hR : fp_R R fr lo mc ms) (hS : va_S A H0 H locs) (harr : Cond.arrayClass .int ∈ lw_all) (hz : z = (n : Int)) (hn : n ≤ 100000) (hcells : cells + 1 ≤ mc) (hslots : slots + n ≤ ms) (hd : decode cc pc = .ok (.newarray .int, 2))
    (kk : ∀ (q : Nat) (H1 : Heap), q = H.size → fp_At G H1 q (eI G n (fun _ => iI 0)) → fp_X H H1 → H1.size = H.size + 1 → va_S A H0 H1 locs → W p (g_l G) e R s m args below meth c H1 locs (cells + 1) (slots + n) Q (F0 m (pc + 2) ls (.ref q :: rest))) : W p (g_l G) e R s m args below meth c H locs cells slots Q (F0 m pc ls (.int (iI z) :: rest)) :=
  r_newarr (atype := .int) (ty := .int) (t := 0) (N' := n) (x := (n, .inl (fun _ => iI 0))) X hR hS harr rfl rfl (fun _ h => by cases h) (fun _ => rfl) (fp_neg hz (by omega)) (iI_cl hz (by omega)) (by show n * 4 ≤ _; omega) hcells hslots hd kk
theorem r_newaZ {n : Nat} {z : Int} {A : Nat → Prop} {fr lo mc ms : Nat} (X : fp_C G p s m args c cc own nL) (hR : fp_R R fr lo mc ms) (hS : va_S A H0 H locs) (harr : Cond.arrayClass .boolean ∈ lw_all) (hz : z = (n : Int)) (hn : n ≤ 100000) (hcells : cells + 1 ≤ mc) (hslots : slots + n ≤ ms) (hd : decode cc pc = .ok (.newarray .boolean, 2))
    (kk : ∀ (q : Nat) (H1 : Heap), q = H.size → fp_At G H1 q (eZ G n (fun _ => iI (bI false))) → fp_X H H1 → H1.size = H.size + 1 → va_S A H0 H1 locs → W p (g_l G) e R s m args below meth c H1 locs (cells + 1) (slots + n) Q (F0 m (pc + 2) ls (.ref q :: rest))) : W p (g_l G) e R s m args below meth c H locs cells slots Q (F0 m pc ls (.int (iI z) :: rest)) :=
  r_newarr (atype := .boolean) (ty := .boolean) (t := 1) (N' := n) (x := (n, .inl (fun _ => iI (bI false)))) X hR hS harr rfl rfl (fun _ h => by cases h) (fun _ => rfl) (fp_neg hz (by omega)) (iI_cl hz (by omega)) (by show n * 1 ≤ _; omega) hcells hslots hd kk
theorem r_newaB {n : Nat} {z : Int} {A : Nat → Prop} {fr lo mc ms : Nat} (X : fp_C G p s m args c cc own nL) (hR : fp_R R fr lo mc ms) (hS : va_S A H0 H locs) (harr : Cond.arrayClass .byte ∈ lw_all) (hz : z = (n : Int)) (hn : n ≤ 100000) (hcells : cells + 1 ≤ mc) (hslots : slots + n ≤ ms) (hd : decode cc pc = .ok (.newarray .byte, 2))
    (kk : ∀ (q : Nat) (H1 : Heap), q = H.size → fp_At G H1 q (eB G n (fun _ => iI 0)) → fp_X H H1 → H1.size = H.size + 1 → va_S A H0 H1 locs → W p (g_l G) e R s m args below meth c H1 locs (cells + 1) (slots + n) Q (F0 m (pc + 2) ls (.ref q :: rest))) : W p (g_l G) e R s m args below meth c H locs cells slots Q (F0 m pc ls (.int (iI z) :: rest)) :=
  r_newarr (atype := .byte) (ty := .byte) (t := 2) (N' := n) (x := (n, .inl (fun _ => iI 0))) X hR hS harr rfl rfl (fun _ h => by cases h) (fun _ => rfl) (fp_neg hz (by omega)) (iI_cl hz (by omega)) (by show n * 1 ≤ _; omega) hcells hslots hd kk
theorem r_newaJ {n : Nat} {z : Int} {A : Nat → Prop} {fr lo mc ms : Nat} (X : fp_C G p s m args c cc own nL) (hR : fp_R R fr lo mc ms) (hS : va_S A H0 H locs) (harr : Cond.arrayClass .long ∈ lw_all) (hz : z = (n : Int)) (hn : n ≤ 100000) (hcells : cells + 1 ≤ mc) (hslots : slots + n ≤ ms) (hd : decode cc pc = .ok (.newarray .long, 2))
    (kk : ∀ (q : Nat) (H1 : Heap), q = H.size → fp_At G H1 q (eJ G n (fun _ => 0)) → fp_X H H1 → H1.size = H.size + 1 → va_S A H0 H1 locs → W p (g_l G) e R s m args below meth c H1 locs (cells + 1) (slots + n) Q (F0 m (pc + 2) ls (.ref q :: rest))) : W p (g_l G) e R s m args below meth c H locs cells slots Q (F0 m pc ls (.int (iI z) :: rest)) :=
  r_newarr (atype := .long) (ty := .long) (t := 3) (N' := n) (x := (n, .inr (.inl (fun _ => 0)))) X hR hS harr rfl rfl (fun _ h => by cases h) (fun _ => rfl) (fp_neg hz (by omega)) (iI_cl hz (by omega)) (by show n * 8 ≤ _; omega) hcells hslots hd kk
theorem r_putN {ref C host : String} {T : u_T} {N ci index : Nat} {a : Nat} {fs : List Value} {v : Value} {ty0 : Nat → FieldType} {A : Nat → Prop} (X : fp_C G p s m args c cc own nL) (hat : fp_At G H a (eO ci fs)) (hS : va_S A H0 H locs) (hA : A a) (hc : fp_cl[ci]? = some (C, T, N)) (hin : ∀ w ∈ u_ws C T N, w ∈ lw_all) (hty : ∀ k, k < N → parseFieldDescriptor (T k).2.2.1 = some (ty0 k)) (hnm : ∀ a, a < N → ∀ b, b < N → a ≠ b → (T a).2.1 ≠ (T b).2.1) (k : Nat) (hk : k < N) (hlink : Cond.fieldLinkNest own index ref (T k).2.1 (T k).2.2.1 host ∈ lw_tbl) (hsame : ref = (T k).1 ∨ Cond.sameField ref (T k).1 (T k).2.1 (T k).2.2.1 ∈ lw_all) (hfin : (T k).2.2.2 = false) (hn : narrow (ty0 k) v = v) (hfit : fits (ty0 k) v = true) (hl : k < fs.length) (hd : decode cc pc = .ok (.putfield index, 3))
    (kk : ∀ (H1 : Heap) (locs1 : List Loc), fp_At G H1 a (eO ci (fs.set k v)) → H1.size = H.size → (∀ q : Nat, q ≠ a → H1[q]? = H[q]?) → va_S A H0 H1 locs1 → W p (g_l G) e R s m args below meth c H1 locs1 cells slots Q (F0 m (pc + 3) ls rest)) : W p (g_l G) e R s m args below meth c H locs cells slots Q (F0 m pc ls (v :: .ref a :: rest)) := by
  obtain ⟨hx, hb, -, hown, hts, hK⟩ := X
  have hsm : ∀ x, s.fieldFound? (T k).1 (T k).2.1 (T k).2.2.1 = some x → s.fieldFound? ref (T k).2.1 (T k).2.2.1 = some x := by
    rcases hsame with h | h
    · subst h
      exact fun x h => h
    · exact fun x ho => u_same (hts _ h) x ho
  have hKv := hK.va
  have hap := va_apart (own := own) hts hin ty0 hty hnm hKv hc
  obtain ⟨r, h1, cell, q1, q2, q3, q4⟩ := hat
  have hr : r = (C, T, N) := Option.some.inj (h1.symm.trans hc)
  subst hr
  obtain ⟨hSl, hfc, kC, hkC, hkind⟩ := hKv.1 ci _ hc
  obtain ⟨cf, kf, fi, f, hi, hsl⟩ := hSl k hk
  have hlay := hts _ (hin _ (u_in_lay hk))
  unfold u_lay at hlay
  rw [if_neg (by rw [hfin]; decide)] at hlay
  have hst := (u_facts hfc hkC (u_lays hts hin hk) hi).1
  have h6 := u_store hfc hkC hkind hlay hi (hty k hk) hn hfit
  refine va_WputK hx hb (f := f) hown (hK.linkF hlink) (hsm _ hi) hst (by rw [q2]; exact h6) q1 q3 (by rw [hsl]; exact k2_hasslot (q4 k hk)) rfl rfl hd fun H' e1 e2 e3 => ?_
  rw [hsl] at e1 ⊢
  exact kk H' _ ⟨_, hc, t_OB.to (V := updV (vp_V fs) k v) ⟨_, e1, q2, q3, t_set q4 hap hk v⟩ (fun j _ => vp_updV_set hl v j)⟩ e2 e3 (hS.put e2 e3 hA)
theorem r_aastB {a n v i0 : Nat} {z : Int} {f : Nat → Option Nat} {b : Nat → Nat} {A : Nat → Prop} (X : fp_C G p s m args c cc own nL) (hat : fp_At G H a (eQ G 4 n f)) (hS : va_S A H0 H locs) (hA : A a) (hv : fp_At G H v (fp_bE b)) (hb3 : b 1 < 3) (hz : z = (i0 : Int)) (hi : i0 < n) (hn : n ≤ 2147483647) (hd : decode cc pc = .ok (.aastore, 1))
    (kk : ∀ (H1 : Heap) (locs1 : List Loc), fp_At G H1 a (eQ G 4 n (va_up f i0 (some v))) → H1.size = H.size → (∀ q : Nat, q ≠ a → H1[q]? = H[q]?) → va_S A H0 H1 locs1 → W p (g_l G) e R s m args below meth c H1 locs1 cells slots Q (F0 m (pc + 1) ls rest)) : W p (g_l G) e R s m args below meth c H locs cells slots Q (F0 m pc ls (.ref v :: .int (iI z) :: .ref a :: rest)) := by
  rcases (show b 1 = 0 ∨ b 1 = 1 ∨ b 1 = 2 by omega) with h | h | h
  · rw [fp_bE_0 h] at hv
    exact r_aast X rfl hat hS hA hv rfl q2551 hz hi hn hd kk
  · rw [fp_bE_1 h] at hv
    exact r_aast X rfl hat hS hA hv rfl q2552 hz hi hn hd kk
  · rw [fp_bE_2 h] at hv
    exact r_aast X rfl hat hS hA hv rfl q2553 hz hi hn hd kk
end FPR2
