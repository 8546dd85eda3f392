/-! FORWARDERS: rows of a hidden class's method -/
set_option maxRecDepth 100000
def fp_Lp (D : ClassFile.ClassFile) (σ : Lambda.Shape) (idx : Nat) : Prop := ∃ ci nt n, D.constantPool[idx]? = some (.methodref ci nt) ∧ D.constantPool.className? ci = some σ.implClass ∧ D.constantPool.nameAndType? nt = some (σ.implName, σ.implDesc.toString) ∧ D.constantPool[ci]? = some (.class_ n) ∧ D.constantPool.string? n = some σ.implClass ∧ ci ≠ D.thisClass
def fp_Lg (D : ClassFile.ClassFile) (laid : Array Field × Array FieldType × Array FieldType) (idx j : Nat) : Prop := ∃ ci nt name desc f, D.constantPool[idx]? = some (.fieldref ci nt) ∧ D.constantPool.nameAndType? nt = some (name, desc) ∧ laid.1.findIdx? (·.name == name) = some j ∧ laid.1[j]? = some f ∧ f.isStatic = false ∧ f.slot = j
section FPL8
variable {G : fp_G} {p : Program} {e : Env} {R : Room} {s : State} {args : Array Value} {below : List Frame} {meth : Method} {c : Code} {H : Heap} {locs : List Loc} {cells slots : Nat} {Q : State → Prop}
variable {cc : ByteArray} {pc nL : Nat} {ls : Array Slot} {rest : List Value} {A0 : Nat → Prop} {mc0 ms0 : Nat} {H0 : Heap}
variable {ownL : String} {σ : Lambda.Shape} {cK : ClassId} {D : ClassFile.ClassFile} {fw : Method} {laid : Array Field × Array FieldType × Array FieldType}
theorem r_hget {idx j a : Nat} {cell : Cell} {v : Value} (hx : p.tables.exec = Jvm.exec) (hb : c.code = cc) (hK : fp_K G s) (hL : fp_Lm G ownL σ cK) (hs : fp_Ls ownL σ D fw laid) (hg : fp_Lg D laid idx j) (hcell : H[a]? = some cell) (hvm : cell.vm = .none) (hv : cell.slots[j]? = some v) (hdg : decode cc pc = .ok (.getfield idx, 3))
    (kk : W p (g_l G) e R s ⟨cK, 1⟩ args below meth c H locs cells slots Q (F0 ⟨cK, 1⟩ (pc + 3) ls (v :: rest))) : W p (g_l G) e R s ⟨cK, 1⟩ args below meth c H locs cells slots Q (F0 ⟨cK, 1⟩ pc ls (.ref a :: rest)) := by
  intro T hT X
  obtain ⟨t, h1, h2⟩ := kk T hT X
  refine ⟨t, ?_, h2⟩
  obtain ⟨k, tk, file, bm, t0, iface, target, found, hk, hkn, hfile, hpool, hmk, hsame, -, -, hfields, hres, -⟩ := hL.made hs (hK.moved X.warmed)
  obtain ⟨ci, nt, name, desc, f, g1, g2, g3, g4, g5, g6⟩ := hg
  have hready : T.vm.fieldReady cK idx cK f := ⟨k, j, k, hk, hres idx _ (Lambda.resolvedOf_field g1 g2 g3), hk, hfields j _ g4⟩
  jvm_step X.here [hx, hb, hdg, getfield.wp_ready (e := e) (s := T) (c := cK) (field := f) (a := a) (rest := rest) (cell := cell) (v := v) (f := F0 ⟨cK, 1⟩ pc ls (.ref a :: rest)) X.here.top hready g5 rfl (by rw [hT]; exact hcell) (by rw [hvm]; decide) (by rw [g6]; exact hv)]
  exact h1
theorem r_hcS {y : MethodName} {bytes : ByteArray} {maxL : Nat} {ret : Option FieldType} {fr lo mc ms fr0 lo0 cells1 slots1 idx : Nat} {As st0 : List Value} {A : Nat → Prop} {Pre : Heap → Prop} {Post : Heap → Option Value → Heap → Prop}
    (hx : p.tables.exec = Jvm.exec) (hb : c.code = cc) (hml : c.maxLocals = nL) (hts : ∀ w ∈ lw_all, w.before args s = true) (hK : fp_K G s) (hL : fp_Lm G ownL σ cK) (hs : fp_Ls ownL σ D fw laid) (hpl : fp_Lp D σ idx) (hy : (σ.implClass = y.cls ∧ σ.implName = y.name ∧ σ.implDesc.toString = y.desc) ∧ σ.implItf = false) (hR : fp_R R fr0 lo0 mc0 ms0) (hM : fp_M G y bytes maxL ret fr lo mc ms As Pre A Post)
    (w2 : Cond.static y ∈ lw_all) (w4 : Cond.initialized y.cls ∈ lw_all) (w5 : Cond.code y bytes maxL ret ∈ lw_all) (hd : y.cls ≠ "java/lang/invoke/MethodHandle" ∧ y.cls ≠ "java/lang/invoke/VarHandle" ∧ (parseMethodDescriptor y.desc).map (fun d => d.parameters.length) = some As.length) (hRR : fr + 1 ≤ fr0 ∧ 8 + (maxL + 11) + lo ≤ lo0) (ec : cells + mc = cells1) (es : slots + ms = slots1) (hcells : cells1 ≤ mc0) (hslots : slots1 ≤ ms0) (hst : st0 = As.reverse ++ rest) (hrest : (rest.map fun v => v.category).sum ≤ 8) (hls : ls.size = nL) (hdg : decode cc pc = .ok (.invokestatic idx, 3))
    (hB : fp_B G H) (hP : Pre H) (hS : va_S (fA A0 s.heap.size) s.heap H locs) (hA : ∀ q, A q → fA A0 s.heap.size q)
    (kk : ∀ (v : Option Value) (H1 : Heap) (locs1 : List Loc), Post H v H1 → H.size ≤ H1.size → (∀ q : Nat, q < H.size → ¬ A q → H1[q]? = H[q]?) → va_S (fA A0 s.heap.size) s.heap H1 locs1 → W p (g_l G) e R s ⟨cK, 1⟩ args below meth c H1 locs1 cells1 slots1 Q (F0 ⟨cK, 1⟩ (pc + 3) ls (v.toList ++ rest))) : W p (g_l G) e R s ⟨cK, 1⟩ args below meth c H locs cells slots Q (F0 ⟨cK, 1⟩ pc ls st0) := by
  obtain ⟨rfl, rfl, rfl, rfl⟩ := hR
  have hws : ∀ w ∈ ws_ y bytes maxL ret, ∀ (a' : Array Value) (U : State), s.WarmedH U.vm → w.before a' U = true := pay_in hts (lw_meth w5)
  have hBk : Back (g_l G) R p e below s args y 3 8 (PreOf R mc ms (fun v U => v = As.toArray ∧ U.heap.size = H.size ∧ fp_K G U ∧ fp_B G U.heap ∧ Pre U.heap)) (PostOf (fp_Q A H.size Post) mc ms (fA A H.size)) := back_of (bytes := bytes) (maxL := maxL) (ret := ret) (hM H.size) fp_blind rfl rfl hRR.1 hRR.2 hws List.mem_cons_self (pay_in hts (lw_good (ws := [Cond.initialized y.cls]) (fun w hw => by rw [List.mem_singleton.mp hw]; exact w4)) _ List.mem_cons_self)
  refine r_after (a := As.toArray) ec es (fun T hT X => ?_) hS hA kk
  subst hT
  have hKT := hK.moved X.warmed
  obtain ⟨k, tk, file, bm, t0, iface, target, found, hk, hkn, hfile, hpool, hmk, hsame, ⟨hi1, hi2, hi3, hi4⟩, -, -, hres, -⟩ := hL.made hs hKT
  obtain ⟨ci, nt, n0, g1, g2, g3, g4, g5, g6⟩ := hpl
  obtain ⟨mk, hnamed0⟩ := Cond.code_named (hts _ w5)
  have hnamed : T.methodNamed? y = some mk := X.named hnamed0
  have tr : ∀ w ∈ lw_all, w.before #[] T = true := fun w hw => pay_in hts lw_self w hw _ _ X.warmed
  obtain ⟨methM, cM, hmethM, -, -, -, -, -, -, hsigM⟩ := Cond.code_spec hnamed (tr _ w5)
  have hstatic : methM.isStatic = true := Cond.static_spec hnamed hmethM (tr _ w2)
  obtain ⟨kP, hkP, hnP⟩ := className_of_methodNamed hnamed
  have hinitP : kP.init = .initialized := Cond.initialized_spec (findClass_of_methodNamed hnamed) hkP (tr _ w4)
  have hpoly : ∀ z, signaturePolymorphic kP z = false := fun z => by simp [signaturePolymorphic, hnP, hd.1, hd.2.1]
  have hi1' := hi1
  rw [hy.1.1] at hi1'
  have hcl : t0 = mk.cls := Option.some.inj (hi1'.symm.trans (findClass_of_methodNamed hnamed))
  subst hcl
  obtain rfl : tk = kP := Option.some.inj (hi2.symm.trans hkP)
  have hfnd := State.methodFound?_of_named hnamed ⟨hd.1, hd.2.1⟩
  rw [hy.1.2.1, hy.1.2.2] at hi4
  have htg : target = mk := by
    simp only [State.methodFound?, findClass_of_methodNamed hnamed, hi2, Option.bind_eq_bind, Option.bind_some, hi4] at hfnd
    exact Option.some.inj hfnd
  subst htg
  have hcls : T.vm.classReady cK ci target.cls := ⟨k, hk, hres ci _ (Lambda.resolvedOf_class g4 g6 g5 hi1)⟩
  have hready : T.vm.methodReady cK idx target := ⟨k, hk, hres idx _ (Lambda.resolvedOf_method g1 g2 hi1 hi2 (by rw [g3, hy.1.2.1, hy.1.2.2]) hi4)⟩
  obtain ⟨bb, hmem⟩ := memberRef_ask' (e := e) (vm := T.vm) (d := cK) (index := idx) hk hfile (Or.inl (by rw [hpool]; exact g1)) (by rw [hpool]; exact g3)
  have href : plainRef T e cK idx := ⟨ci, _, _, bb, target.cls, tk, hmem, hcls, hi2, by simp [hpoly]⟩
  have hlen : As.length = methM.sig.parameters.length := by
    have h2 := hd.2.2
    rw [hsigM] at h2
    exact (Option.some.inj h2).symm
  obtain ⟨v, B, X', ⟨g', mk', t, L, e1, e2, hq, h1, hL9, h2, h3⟩, hsteps⟩ := hBk ⟨cK, 1⟩ meth c ⟨T, locs, cells, slots⟩ { F0 ⟨cK, 1⟩ pc ls st0 with stack := rest } (.invokestatic idx) target As.toArray X rfl (hls.trans hml.symm) (by rw [hb]; exact hdg) (lv_room hrest) hnamed
    ⟨by show cells + mc ≤ _; omega, by show slots + ms ≤ _; omega, rfl, rfl, hKT, hB, hP⟩
  obtain ⟨U', l2, c2, s2⟩ := B
  dsimp only [Pt.U, Pt.locs, Pt.cells, Pt.slots] at X' e1 e2 h1 h2 h3 hq hsteps
  subst h1; subst h2; subst h3
  refine ⟨v, T.calling g' mk' As.toArray, t, U', L, rfl, X', hL9, e1, e2, hq, fun tg h => ?_⟩
  jvm_step X.here [hx, hb, hdg, invokestatic.wp_ready (e := e) (s := T) (m := target) (k := tk) (meth := methM) (args := As) (rest := rest) (f := F0 ⟨cK, 1⟩ pc ls st0) X.here.top href hready hi2 hmethM (hpoly methM) hstatic hinitP hlen hst]
  intro acts
  rw [doInvoke_state]
  exact hsteps.trans h
theorem r_hcV {y : MethodName} {bytes : ByteArray} {maxL : Nat} {ret : Option FieldType} {fr lo mc ms fr0 lo0 cells1 slots1 idx b ci0 N0 : Nat} {T0 : u_T} {fs : List Value} {As st0 : List Value} {A : Nat → Prop} {Pre : Heap → Prop} {Post : Heap → Option Value → Heap → Prop}
    (hx : p.tables.exec = Jvm.exec) (hb : c.code = cc) (hml : c.maxLocals = nL) (hts : ∀ w ∈ lw_all, w.before args s = true) (hK : fp_K G s) (hL : fp_Lm G ownL σ cK) (hs : fp_Ls ownL σ D fw laid) (hpl : fp_Lp D σ idx) (hy : (σ.implClass = y.cls ∧ σ.implName = y.name ∧ σ.implDesc.toString = y.desc) ∧ σ.implItf = false) (hR : fp_R R fr0 lo0 mc0 ms0) (hM : fp_M G y bytes maxL ret fr lo mc ms (.ref b :: As) Pre A Post)
    (w2 : Cond.instanceMethod y ∈ lw_all) (w3 : Cond.selects y.cls y y ∈ lw_all) (hat : fp_At G H b (eO ci0 fs)) (hc : fp_cl[ci0]? = some (y.cls, T0, N0)) (w4 : Cond.initialized y.cls ∈ lw_all) (w5 : Cond.code y bytes maxL ret ∈ lw_all) (hd : y.cls ≠ "java/lang/invoke/MethodHandle" ∧ y.cls ≠ "java/lang/invoke/VarHandle" ∧ (parseMethodDescriptor y.desc).map (fun d => d.parameters.length) = some As.length) (hRR : fr + 1 ≤ fr0 ∧ 8 + (maxL + 11) + lo ≤ lo0) (ec : cells + mc = cells1) (es : slots + ms = slots1) (hcells : cells1 ≤ mc0) (hslots : slots1 ≤ ms0) (hst : st0 = As.reverse ++ .ref b :: rest) (hrest : (rest.map fun v => v.category).sum ≤ 8) (hls : ls.size = nL) (hdg : decode cc pc = .ok (.invokevirtual idx, 3))
    (hB : fp_B G H) (hP : Pre H) (hS : va_S (fA A0 s.heap.size) s.heap H locs) (hA : ∀ q, A q → fA A0 s.heap.size q)
    (kk : ∀ (v : Option Value) (H1 : Heap) (locs1 : List Loc), Post H v H1 → H.size ≤ H1.size → (∀ q : Nat, q < H.size → ¬ A q → H1[q]? = H[q]?) → va_S (fA A0 s.heap.size) s.heap H1 locs1 → W p (g_l G) e R s ⟨cK, 1⟩ args below meth c H1 locs1 cells1 slots1 Q (F0 ⟨cK, 1⟩ (pc + 3) ls (v.toList ++ rest))) : W p (g_l G) e R s ⟨cK, 1⟩ args below meth c H locs cells slots Q (F0 ⟨cK, 1⟩ pc ls st0) := by
  obtain ⟨rfl, rfl, rfl, rfl⟩ := hR
  have hws : ∀ w ∈ ws_ y bytes maxL ret, ∀ (a' : Array Value) (U : State), s.WarmedH U.vm → w.before a' U = true := pay_in hts (lw_meth w5)
  have hBk : Back (g_l G) R p e below s args y 3 8 (PreOf R mc ms (fun v U => v = (Value.ref b :: As).toArray ∧ U.heap.size = H.size ∧ fp_K G U ∧ fp_B G U.heap ∧ Pre U.heap)) (PostOf (fp_Q A H.size Post) mc ms (fA A H.size)) := back_of (bytes := bytes) (maxL := maxL) (ret := ret) (hM H.size) fp_blind rfl rfl hRR.1 hRR.2 hws List.mem_cons_self (pay_in hts (lw_good (ws := [Cond.initialized y.cls]) (fun w hw => by rw [List.mem_singleton.mp hw]; exact w4)) _ List.mem_cons_self)
  refine r_after (a := (Value.ref b :: As).toArray) ec es (fun T hT X => ?_) hS hA kk
  subst hT
  have hKT := hK.moved X.warmed
  obtain ⟨k, tk, file, bm, t0, iface, target, found, hk, hkn, hfile, hpool, hmk, hsame, ⟨hi1, hi2, hi3, hi4⟩, -, -, hres, -⟩ := hL.made hs hKT
  obtain ⟨ci, nt, n0, g1, g2, g3, g4, g5, g6⟩ := hpl
  obtain ⟨mk, methM0, hnamed0, hmM0, hstatic0, habs0⟩ := Cond.instanceMethod_spec (hts _ w2)
  have hnamed : T.methodNamed? y = some mk := X.named hnamed0
  have tr : ∀ w ∈ lw_all, w.before #[] T = true := fun w hw => pay_in hts lw_self w hw _ _ X.warmed
  obtain ⟨methM, cM, hmethM, -, -, -, -, -, -, hsigM⟩ := Cond.code_spec hnamed (tr _ w5)
  have hmM1 : T.vm.method? mk = some methM0 := by rw [X.warmed.alike.method?]; exact hmM0
  cases hmM1.symm.trans hmethM
  obtain ⟨kP, hkP, hnP⟩ := className_of_methodNamed hnamed
  have hpoly : ∀ z, signaturePolymorphic kP z = false := fun z => by simp [signaturePolymorphic, hnP, hd.1, hd.2.1]
  have hi1' := hi1
  rw [hy.1.1] at hi1'
  have hcl : t0 = mk.cls := Option.some.inj (hi1'.symm.trans (findClass_of_methodNamed hnamed))
  subst hcl
  obtain rfl : tk = kP := Option.some.inj (hi2.symm.trans hkP)
  have hfnd := State.methodFound?_of_named hnamed ⟨hd.1, hd.2.1⟩
  have hfnd0 := hfnd
  rw [hy.1.2.1, hy.1.2.2] at hi4
  have htg : target = mk := by
    simp only [State.methodFound?, findClass_of_methodNamed hnamed, hi2, Option.bind_eq_bind, Option.bind_some, hi4] at hfnd
    exact Option.some.inj hfnd
  subst htg
  have hcls : T.vm.classReady cK ci target.cls := ⟨k, hk, hres ci _ (Lambda.resolvedOf_class g4 g6 g5 hi1)⟩
  have hready : T.vm.methodReady cK idx target := ⟨k, hk, hres idx _ (Lambda.resolvedOf_method g1 g2 hi1 hi2 (by rw [g3, hy.1.2.1, hy.1.2.2]) hi4)⟩
  obtain ⟨c2, r2, m2, q1, q2, q3, q4, kR, hkR, hkRi⟩ := Cond.selects_spec (tr _ w3)
  cases hfnd0.symm.trans q2
  cases hnamed.symm.trans q3
  obtain ⟨cellB, hcB, hoB, hclB⟩ := va_recv (q0 := 0) hKT.va (fp_P1 hat) hc rfl
  cases q1.symm.trans hclB
  have hselP : selectMethod e.platform T.vm cellB.cls target = .method target := by rw [Launch.admits_selectMethod X.admits]; exact q4
  have hnc : namesAClass T cK idx := ⟨k, file, ci, nt, target.cls, tk, hk, hfile, by rw [hpool]; exact g1, hcls, hi2, by rw [hi3]; exact hy.2⟩
  have hlen : As.length = methM0.sig.parameters.length := by
    have h2 := hd.2.2
    rw [hsigM] at h2
    exact (Option.some.inj h2).symm
  obtain ⟨v, B, X', ⟨g', mk', t, L, e1, e2, hq, h1, hL9, h2, h3⟩, hsteps⟩ := hBk ⟨cK, 1⟩ meth c ⟨T, locs, cells, slots⟩ { F0 ⟨cK, 1⟩ pc ls st0 with stack := rest } (.invokevirtual idx) target (Value.ref b :: As).toArray X rfl (hls.trans hml.symm) (by rw [hb]; exact hdg) (lv_room hrest) hnamed
    ⟨by show cells + mc ≤ _; omega, by show slots + ms ≤ _; omega, rfl, rfl, hKT, hB, hP⟩
  obtain ⟨U', l2, c2, s2⟩ := B
  dsimp only [Pt.U, Pt.locs, Pt.cells, Pt.slots] at X' e1 e2 h1 h2 h3 hq hsteps
  subst h1; subst h2; subst h3
  refine ⟨v, T.calling g' mk' (Value.ref b :: As).toArray, t, U', L, rfl, X', hL9, e1, e2, hq, fun tg h => ?_⟩
  jvm_step X.here [hx, hb, hdg, invokevirtual.wp_ready (e := e) (s := T) (r := target) (m := target) (k := tk) (mk := tk) (rmeth := methM0) (meth := methM0) (a := b) (args := As) (rest := rest) (cell := cellB) (f := F0 ⟨cK, 1⟩ pc ls st0) X.here.top hnc hready hi2 hmethM (hpoly methM0) hstatic0 hlen hst hcB (fun z h => by rw [h] at hoB; cases hoB) hselP hmethM habs0 hi2 (by rw [hi3]; exact hy.2)]
  intro acts
  rw [doInvoke_state]
  exact hsteps.trans h
end FPL8
