/-! ZONES' CONSTANTS: objects that stand below the run -/
set_option maxRecDepth 100000
def fp_zs (c : Nat) : Term := .static "FortPlanner$Zone" (if c = 0 then "OPEN" else if c = 1 then "QUIET" else "CLOSED") "LFortPlanner$Zone;"
def fp_zk (c : Nat) : String := if c = 0 then RX11 else if c = 1 then RX12 else RX13
theorem fp_K.zex {G : fp_G} {U : State} (hK : fp_K G U) {c : Nat} (hc : c < 3) : (Cond.exactly (fp_zs c) (fp_zk c)).before #[Value.ref G.1.2.2] (g_s G) = true := by
  rcases (show c = 0 ∨ c = 1 ∨ c = 2 by omega) with rfl | rfl | rfl
  · exact hK.flat _ (by decide +kernel)
  · exact hK.flat _ (by decide +kernel)
  · exact hK.flat _ (by decide +kernel)
theorem fp_K.zev {G : fp_G} {U : State} (hK : fp_K G U) {c : Nat} (hc : c < 3) : (fp_zs c).eval #[Value.ref G.1.2.2] (g_s G) none [] (g_s G) = some (.ref (fp_zad G c)) := by
  obtain ⟨a, c0, cell, k, q1, q2, q3, q4, q5, q6, -⟩ := Cond.exactly_spec (hK.zex hc)
  have h2 : fp_zad G c = a := fp_st_of q1
  rw [h2]
  exact q1
/-- a zone's constant is an object of its class -/
theorem fp_K.zO {G : fp_G} {U : State} (hK : fp_K G U) {H : Heap} (hB : fp_B G H) {A : Nat → Prop} (hA : ∀ q, A q → (g_s G).heap.size ≤ q) {c : Nat} (hc : c < 3) : va_O (fp_zk c) (fp_zad G c) A U H := by
  have h1 : va_O (fp_zk c) (fp_zad G c) A (g_s G) (g_s G).heap := va_Oof (hK.zex hc) (hK.zev hc) (fun a ha hz => by have := hA a hz; omega)
  exact (h1.kept (fun a ha _ => hB.2 a ha)).moved hK.2.alike
theorem fp_K.zeq {G : fp_G} {U : State} (hK : fp_K G U) {c : Nat} (hc : c < 3) : (Cond.eq (.field (fp_zs c) "FortPlanner$Zone" "letter" "C") (.int (Int32.ofNat (fp_zlet c)))).before #[Value.ref G.1.2.2] (g_s G) = true := by
  rcases (show c = 0 ∨ c = 1 ∨ c = 2 by omega) with rfl | rfl | rfl
  · exact hK.flat _ (by decide +kernel)
  · exact hK.flat _ (by decide +kernel)
  · exact hK.flat _ (by decide +kernel)
/-- its letter -/
theorem fp_K.zF {G : fp_G} {U : State} (hK : fp_K G U) {H : Heap} (hB : fp_B G H) {A : Nat → Prop} (hA : ∀ q, A q → (g_s G).heap.size ≤ q) {c : Nat} (hc : c < 3) : va_OF "FortPlanner$Zone" "letter" "C" (.int (iI ((fp_zlet c : Nat) : Int))) (fp_zad G c) A U H := by
  have hv := va_eqt (hK.zeq hc)
  have h1 : va_OF "FortPlanner$Zone" "letter" "C" (.int (iI ((fp_zlet c : Nat) : Int))) (fp_zad G c) A (g_s G) (g_s G).heap := by
    cases hfo : (g_s G).fieldFound? "FortPlanner$Zone" "letter" "C" with
    | none =>
      rw [va_fe (hK.zev hc)] at hv
      simp [State.fieldOf?, State.fieldNamed?, hfo] at hv
    | some x =>
      obtain ⟨cf, k, fi, f⟩ := x
      obtain ⟨g1, cell, g2, g3, -, -, g6⟩ := Term.field_spec hfo (hK.zev hc) hv
      refine ⟨cf, k, fi, f, cell, hfo, g1, g2, g3, ?_, fun hz => by have := hA _ hz; have := (Array.getElem?_eq_some_iff.mp g2).1; omega⟩
      rw [g6]
      rfl
  exact (h1.kept (fun a ha _ => hB.2 a ha)).moved hK.2.alike
/-- the constants differ -/
theorem fp_K.zne {G : fp_G} {U : State} (hK : fp_K G U) {c d : Nat} (hc : c < 3) (hd : d < 3) (h : fp_zad G c = fp_zad G d) : c = d := by
  have h0 := hK.zev (c := 0) (by decide)
  have h1 := hK.zev (c := 1) (by decide)
  have h2 := hK.zev (c := 2) (by decide)
  have n01 : fp_zad G 0 ≠ fp_zad G 1 := va_neR (hK.flat (Cond.not (.eq (fp_zs 0) (fp_zs 1))) (by decide +kernel)) h0 h1
  have n02 : fp_zad G 0 ≠ fp_zad G 2 := va_neR (hK.flat (Cond.not (.eq (fp_zs 0) (fp_zs 2))) (by decide +kernel)) h0 h2
  have n12 : fp_zad G 1 ≠ fp_zad G 2 := va_neR (hK.flat (Cond.not (.eq (fp_zs 1) (fp_zs 2))) (by decide +kernel)) h1 h2
  rcases (show c = 0 ∨ c = 1 ∨ c = 2 by omega) with rfl | rfl | rfl <;> rcases (show d = 0 ∨ d = 1 ∨ d = 2 by omega) with rfl | rfl | rfl
  · rfl
  · exact absurd h n01
  · exact absurd h n02
  · exact absurd h.symm n01
  · rfl
  · exact absurd h n12
  · exact absurd h.symm n02
  · exact absurd h.symm n12
  · rfl
section FPZ
variable {G : fp_G} {p : Program} {e : Env} {R : Room} {s : State} {m : MethodId} {args : Array Value} {below : List Frame} {meth : Method} {c : Code} {H : Heap} {locs : List Loc} {cells slots : Nat} {Q : State → Prop}
variable {cc : ByteArray} {pc nL : Nat} {ls : Array Slot} {rest : List Value} {own : String} {A0 : Nat → Prop} {mc0 ms0 : Nat} {H0 : Heap}
theorem r_callUO {x y : MethodName} {bytes : ByteArray} {maxL : Nat} {ret : Option FieldType} {fr lo mc ms fr0 lo0 mc0 ms0 cells1 slots1 index : Nat} {C owner : String} {b : Nat} {As st0 : List Value} {A : Nat → Prop} {Pre : Heap → Prop} {Post : Heap → Option Value → Heap → Prop}
    (X : fp_C G p s m args c cc own nL) (hR : fp_R R fr0 lo0 mc0 ms0) (hM : fp_MU G y bytes maxL ret fr lo mc ms (.ref b :: As) Pre A Post) (w1 : Cond.methodLink own index x ∈ lw_all) (w6 : Cond.sameMethod x.cls owner x.name x.desc ∈ lw_all) (w7 : fp_dcl ⟨owner, x.name, x.desc⟩) (w3 : Cond.selects C x y ∈ lw_all) (w2 : Cond.instanceMethod y ∈ lw_all) (w5 : Cond.code y bytes maxL ret ∈ lw_all)
    (hd : owner ≠ "java/lang/invoke/MethodHandle" ∧ owner ≠ "java/lang/invoke/VarHandle" ∧ (parseMethodDescriptor x.desc).map (fun d => d.parameters.length) = some As.length) (hRR : fr + 1 ≤ fr0 ∧ 8 + (maxL + 11) + lo ≤ lo0) (ec : cells + mc = cells1) (es : slots + ms = slots1) (hcells : cells1 ≤ mc0) (hslots : slots1 ≤ ms0) (hrecv : ∃ cell : Cell, H[b]? = some cell ∧ cell.vm.isStatics = false ∧ s.vm.findClass C = some cell.cls) (hst : st0 = As.reverse ++ .ref b :: rest) (hrest : (rest.map fun v => v.category).sum ≤ 8) (hls : ls.size = nL) (hdg : decode cc pc = .ok (.invokevirtual index, 3))
    (hB : fp_B G H) (hP : Pre H) (hS : va_S (fA A0 s.heap.size) s.heap H locs) (hA : ∀ q, A q → fA A0 s.heap.size q)
    (kk : ∀ (v : Option Value) (H1 : Heap) (locs1 : List Loc), Post H v H1 → H.size ≤ H1.size → (∀ q : Nat, q < H.size → ¬ A q → H1[q]? = H[q]?) → va_S (fA A0 s.heap.size) s.heap H1 locs1 → W p (g_l G) e R s m args below meth c H1 locs1 cells1 slots1 Q (F0 m (pc + 3) ls (v.toList ++ rest))) : W p (g_l G) e R s m args below meth c H locs cells slots Q (F0 m pc ls st0) := by
  obtain ⟨hx, hb, hml, hown, hts, hK⟩ := X
  obtain ⟨rfl, rfl, rfl, rfl⟩ := hR
  have hlen : ∀ sig, parseMethodDescriptor x.desc = some sig → As.length = sig.parameters.length := fun sig h => by
    have h2 := hd.2.2
    rw [h] at h2
    exact (Option.some.inj h2).symm
  have hws : ∀ w ∈ ws_ y bytes maxL ret, ∀ (a' : Array Value) (U : State), s.WarmedH U.vm → w.before a' U = true := pay_in hts (lw_meth w5)
  have hBk : Back (g_l G) R p e below s args y 3 8 (PreOf R mc ms (fun v U => v = (Value.ref b :: As).toArray ∧ U.heap.size = H.size ∧ fp_K G U ∧ fp_B G U.heap ∧ Pre U.heap)) (PostOf (fp_Q A H.size Post) mc ms (fA A H.size)) := (hM H.size).back fp_blind rfl rfl hRR.1 hRR.2 hws List.mem_cons_self
  obtain ⟨cellB, hcB, hoB, hclB⟩ := hrecv
  refine r_after (a := (Value.ref b :: As).toArray) ec es (fun T hT X => ?_) hS hA kk
  obtain ⟨v, vm₁, ⟨U', l2, c2, s2⟩, hW₁, X', ⟨g', mk, t, L, e1, e2, hq, h1, hL, h2, h3⟩, st⟩ := va_callVU X hx (C := C) (owner := owner) (bytes := bytes) (maxL := maxL) (ret := ret) hown (hts _ w1) (hts _ w6) (w7.at hK hts) ⟨hd.1, hd.2.1⟩ (hts _ w3) (hts _ w2) (hts _ w5) hBk (by rw [hT]; exact hcB) hoB hclB rfl (hls.trans hml.symm) (argsL := As) (rest := rest) hlen hst (lv_room hrest) (by rw [hb]; exact hdg)
    (fun vm₁ hW₁ => ⟨by show cells + mc ≤ _; omega, by show slots + ms ≤ _; omega, rfl, by show T.heap.size = _; rw [hT], hK.moved hW₁, by show fp_B G T.heap; rw [hT]; exact hB, by show Pre T.heap; rw [hT]; exact hP⟩)
  dsimp only [Pt.U, Pt.locs, Pt.cells, Pt.slots] at X' e1 e2 h1 h2 h3 st
  subst h1; subst h2; subst h3
  exact ⟨v, (T.setVm vm₁).calling g' mk (Value.ref b :: As).toArray, t, U', L, hT, X', hL, e1, e2, hq, st⟩
def fp_zbd (c kd : Nat) : Bool := decide (c = 2 ∨ c = 1 ∧ kd = 1)
/-- does a zone allow a block? -/
theorem r_callZ {z a index fr0 lo0 mc0 ms0 : Nat} {b : Nat → Nat} (X : fp_C G p s m args c cc own nL) (hR : fp_R R fr0 lo0 mc0 ms0) (hA : ∀ q, A0 q → (g_s G).heap.size ≤ q) (hz : z < 3) (hat : fp_At G H a (fp_bE b)) (hb3 : b 1 < 3) (w1 : Cond.methodLink own index ⟨"FortPlanner$Zone", "allows", "(LFortPlanner$Block;)Z"⟩ ∈ lw_all) (hRR : 2 ≤ fr0 ∧ 33 ≤ lo0) (hcells : cells ≤ mc0) (hslots : slots ≤ ms0) (hrest : (rest.map fun v => v.category).sum ≤ 8) (hls : ls.size = nL) (hdg : decode cc pc = .ok (.invokevirtual index, 3)) (hB0 : fp_B G s.heap)
    (hB : fp_B G H) (hS : va_S (fA A0 s.heap.size) s.heap H locs)
    (kk : ∀ (locs1 : List Loc), va_S (fA A0 s.heap.size) s.heap H locs1 → W p (g_l G) e R s m args below meth c H locs1 cells slots Q (F0 m (pc + 3) ls (.int (iI (bI (!fp_zbd z (b 1)))) :: rest))) : W p (g_l G) e R s m args below meth c H locs cells slots Q (F0 m pc ls (.ref a :: .ref (fp_zad G z) :: rest)) := by
  have hrecv := va_Orecv (X.2.2.2.2.2.zO hB0 (fA.base hA hB0.1) hz) hS
  rcases (show z = 0 ∨ z = 1 ∨ z = 2 by omega) with rfl | rfl | rfl
  · refine r_callUO (x := ⟨"FortPlanner$Zone", "allows", "(LFortPlanner$Block;)Z"⟩) (C := RX11) X hR (c_X11_allows G (fp_zad G 0) a) w1 q1214 (Or.inl q1213) q1215 q1216 q1217 ⟨by decide, by decide, rfl⟩ hRR rfl rfl hcells hslots hrecv rfl hrest hls hdg hB trivial hS (fun _ h => h.elim) (fun v H1 locs1 hp _ _ hS1 => ?_)
    obtain ⟨rfl, rfl⟩ := hp
    exact kk locs1 hS1
  · refine r_callUO (x := ⟨"FortPlanner$Zone", "allows", "(LFortPlanner$Block;)Z"⟩) (C := RX12) X hR (c_X12_allows G (fp_zad G 1) a b hb3) w1 q1214 (Or.inl q1213) q1218 q1219 q1220 ⟨by decide, by decide, rfl⟩ hRR rfl rfl hcells hslots hrecv rfl hrest hls hdg hB hat hS (fun _ h => h.elim) (fun v H1 locs1 hp _ _ hS1 => ?_)
    obtain ⟨rfl, rfl⟩ := hp
    have h2 : (!decide (b 1 = 1)) = !fp_zbd 1 (b 1) := by unfold fp_zbd; by_cases h : b 1 = 1 <;> simp [h]
    rw [h2]
    exact kk locs1 hS1
  · refine r_callUO (x := ⟨"FortPlanner$Zone", "allows", "(LFortPlanner$Block;)Z"⟩) (C := RX13) X hR (c_X13_allows G (fp_zad G 2) a) w1 q1214 (Or.inl q1213) q1222 q1223 q1224 ⟨by decide, by decide, rfl⟩ hRR rfl rfl hcells hslots hrecv rfl hrest hls hdg hB trivial hS (fun _ h => h.elim) (fun v H1 locs1 hp _ _ hS1 => ?_)
    obtain ⟨rfl, rfl⟩ := hp
    exact kk locs1 hS1
/-- an object that a premise names, stored -/
theorem r_aastY {a n t v i0 : Nat} {E : String} {z : Int} {f : Nat → Option Nat} {A : Nat → Prop} (X : fp_C G p s m args c cc own nL) (ht : (fp_tys (g_A G))[t]? = some (g_A G t, .object E)) (hat : fp_At G H a (eQ G t n f)) (hS : va_S A H0 H locs) (hA : A a) (hv : va_Any E s H v) (hz : z = (i0 : Int)) (hi : i0 < n) (hn : n ≤ 2147483647) (hd : decode cc pc = .ok (.aastore, 1))
    (kk : ∀ (H1 : Heap) (locs1 : List Loc), fp_At G H1 a (eQ G t n (va_up f i0 (some v))) → H1.size = H.size → (∀ q : Nat, q ≠ a → H1[q]? = H[q]?) → va_S A H0 H1 locs1 → W p (g_l G) e R s m args below meth c H1 locs1 cells slots Q (F0 m (pc + 1) ls rest)) : W p (g_l G) e R s m args below meth c H locs cells slots Q (F0 m pc ls (.ref v :: .int (iI z) :: .ref a :: rest)) := by
  obtain ⟨hx, hb, -, hown, hts, hK⟩ := X
  have hin : vp_in (iI z) n := iI_in hz hi (by omega)
  have hcl : (iI z).toNatClampNeg = i0 := iI_cl hz (by omega)
  have hlt : (iI z).toNatClampNeg < n := by rw [hcl]; exact hi
  have h0 : ¬ (iI z) < 0 := fun q => hin (Or.inl q)
  obtain ⟨cellV, g1, g3, ⟨kC, hkC⟩, hasg⟩ := hv
  obtain ⟨kA, comp, k1, k2, k3, -⟩ := (hK.va.2 t _ ht).2
  obtain ⟨kE, hkE, -⟩ := Vm.findClass_spec k3
  refine W.aast hx hb hat (fun q h => by cases h) (fun h => by cases h) k1 k2 rfl hkE ⟨h0, by show _ < (arrV _ _ _).slots.size; rw [arrV_size]; exact hlt⟩ g1 (fun q h => by rw [h] at g3; cases g3) hkC (hasg _ k3) rfl rfl hd fun H1 e z1 oq => ?_
  refine kk H1 _ ?_ z1 oq (hS.put z1 oq hA)
  show H1[a]? = some (vp_cell _ _)
  rw [e]
  rw [vp_cell_q, vp_cell_q, arrV_store, hcl]
  congr 2
  funext q
  by_cases hq : q = i0
  · subst hq
    simp [updV, va_up, va_rf]
  · simp [updV, va_up, hq]
theorem fp_K.zAny {U : State} (hK : fp_K G U) (hB : fp_B G H) {z : Nat} (hz : z < 3) : va_Any "FortPlanner$Zone" U H (fp_zad G z) := by
  obtain ⟨cell, h1, h2, h3, -⟩ := hK.zO hB (A := fp_no) (fun _ h => h.elim) hz
  obtain ⟨kC, hkC, -⟩ := Vm.findClass_spec h3
  refine ⟨cell, h1, h2, ⟨kC, hkC⟩, fun comp hc => ?_⟩
  have hw : Cond.castable (fp_zk z) "FortPlanner$Zone" ∈ lw_tbl := by
    rcases (show z = 0 ∨ z = 1 ∨ z = 2 by omega) with rfl | rfl | rfl
    · exact q2564
    · exact q2565
    · exact q2566
  obtain ⟨c1, t1, f1, f2, f3⟩ := Cond.castable_spec (args := #[]) (hK.cast hw)
  cases hc.symm.trans f2
  cases h3.symm.trans f1
  exact f3
end FPZ
