/-! LAMBDAS: objects of hidden classes, and calls of them -/
set_option maxRecDepth 100000
/-- a method told by its number, walked inside the walk that calls it -/
theorem fp_inv {p : Program} {l : Launch} {e : Env} {R : Room} {s : State} {m : MethodId} {args : Array Value} {below : List Frame} {meth : Method} {c : Code} {T : State} {locs : List Loc} {cells slots : Nat} (X : Stand p l e R s m args below meth c T locs cells slots) {g : JFrame} (hg : g.method = m) (hsize : g.locals.size = c.maxLocals) {ig : Instr} {len : Nat} (hdg : decode c.code g.pc = .ok (ig, len))
    {mk : MethodId} {methk : Method} {ck : Code} {a : Array Value} {R' : Room} {Qc : Array Value → State → Outcome → State → Prop} {mc ms : Nat} {free : Addr → Prop} (hmk : T.vm.method? mk = some methk) (hck : methk.code = some ck) (hlk : methk.locks = false) (hpk : T.plainMethod mk)
    (hframes : R'.frames + 1 ≤ R.frames) (hlocals : 2 * g.monitorRoom + (g.stack.map fun v => v.category).sum + (ck.maxLocals + 11) + R'.locals ≤ R.locals) (hcells : cells + R'.cells ≤ R.cells) (hslots : slots + R'.slots ≤ R.slots)
    (body : W p l e R' (T.calling g mk a) mk a (.java g :: below) methk ck T.heap [] 0 0 (MQ (.java g :: below) Qc a (T.calling g mk a) mc ms free) (entryFrame mk a ck.maxLocals)) :
    ∃ (v : Option Value) (t T' : State) (L : List Loc), Stand p l e R s m args below meth c T' (locs ++ L) (cells + mc) (slots + ms) ∧ (∀ q ∈ L, free q.base) ∧ T'.heap = t.heap ∧ T'.vm = t.vm ∧ Qc a (T.calling g mk a) (.returned v) t ∧
      ∀ acts target, Steps p.tables e below (T'.setTop { g with pc := g.pc + len, stack := v.toList ++ g.stack }) target → Steps p.tables e below (doInvoke e (T.setTop g) acts mk a).1 target := by
  obtain ⟨Y₀, hin⟩ := X.into hg hsize hdg a (R' := R') hmk hck hlk hpk hframes hlocals hcells hslots
  obtain ⟨t, hst, o, hrun, hend, hq, L, hF, hL⟩ := body ((T.setTop g).pushFrame (.java (entryFrame mk a ck.maxLocals))) rfl Y₀
  obtain ⟨⟨v, rfl⟩, hW, hsame⟩ := hF
  obtain ⟨T', X', hW', -, ht⟩ := X.outOf hg hdg hend hW hsame
  refine ⟨v, t, T', L, X', hL, by rw [ht]; rfl, by rw [ht]; rfl, hq, fun acts target h => ?_⟩
  rw [hin acts]
  rw [← ht] at h
  exact (Steps.weaken (mid := [.java g]) hst).trans h
/-- a site linked at the law's entry: its hidden class -/
def fp_Lm (G : fp_G) (own : String) (σ : Lambda.Shape) (cK : ClassId) : Prop := ∃ (d : ClassId) (dk : Class), (g_s G).vm.classes[d]? = some dk ∧ dk.name = own ∧ Lambda.isMade { classPath := fun _ => none } (g_s G).vm d σ cK = true ∧ (g_s G).lambdaCallable σ cK = true
theorem fp_Lm.at {G : fp_G} {own : String} {σ : Lambda.Shape} {cK : ClassId} {U : State} (h : fp_Lm G own σ cK) (hK : fp_K G U) : ∃ (d : ClassId) (dk : Class), U.vm.classes[d]? = some dk ∧ dk.name = own ∧ Lambda.isMade { classPath := fun _ => none } U.vm d σ cK = true ∧ U.lambdaCallable σ cK = true := by
  obtain ⟨d, dk, h1, h2, h3, h4⟩ := h
  have hA := hK.2.alike
  obtain ⟨dk', h1', e1⟩ := hA.2.2 _ _ h1
  refine ⟨d, dk', h1', by rw [e1]; exact h2, Lambda.isMade_warmer hK.2 h3, ?_⟩
  simp only [State.lambdaCallable, hA.findClass, hA.assignable, hA.superclasses, hA.declaredIn] at h4 ⊢
  exact h4
theorem fp_K.noF {G : fp_G} {U : State} (hK : fp_K G U) : ∀ o ok, U.vm.findClass "java/lang/Object" = some o → U.vm.classes[o]? = some ok → ok.instanceTypes.size = 0 := fun o ok h1 h2 => by
  have h0 : (Cond.instantiable "java/lang/Object" 0).before #[] U = true := word_at hK.2 (Or.inl rfl) (hK.1.1 _ (lw_all_tbl q2583))
  obtain ⟨c, k, q1, q2, -, -, -, q3⟩ := Cond.instantiable_spec h0
  cases h1.symm.trans q1
  cases h2.symm.trans q2
  exact q3
/-- what a hidden class is, by its shape's file -/
def fp_Ls (own : String) (σ : Lambda.Shape) (D : ClassFile.ClassFile) (fw : Method) (laid : Array Field × Array FieldType × Array FieldType) : Prop := σ.file own = some D ∧ (∀ ms, layoutMethods D = some ms → ms[1]? = some fw) ∧ layoutFields D 0 = some laid
theorem fp_Lm.made {G : fp_G} {own : String} {σ : Lambda.Shape} {cK : ClassId} {U : State} {D : ClassFile.ClassFile} {fw : Method} {laid : Array Field × Array FieldType × Array FieldType} (h : fp_Lm G own σ cK) (hs : fp_Ls own σ D fw laid) (hK : fp_K G U) :
    ∃ (k tk : Class) (file : ClassFile.ClassFile) (b : Method) (t iface : ClassId) (target found : MethodId), U.vm.classes[cK]? = some k ∧ k.name = own ++ "$$Lambda" ∧ k.cf = some file ∧ file.constantPool = D.constantPool ∧ U.vm.method? ⟨cK, 1⟩ = some b ∧ Lambda.sameMethod fw b = true ∧
      (U.vm.findClass σ.implClass = some t ∧ U.vm.classes[t]? = some tk ∧ tk.isInterface = σ.implItf ∧ ((methodIn t σ.implName σ.implDesc.toString tk.isInterface none).ask { classPath := fun _ => none } U.vm).1 = .ok target) ∧
      (U.vm.findClass σ.iface = some iface ∧ ((methodIn iface σ.name σ.sam.toString true none).ask { classPath := fun _ => none } U.vm).1 = .ok found ∧ selectMethod {} U.vm cK found = .method ⟨cK, 1⟩ ∧ U.vm.assignable cK iface = true ∧ ((cK :: U.vm.superclasses cK).any fun k => (declaredIn U.vm σ.name σ.sam.toString k).any fun (_, x) => x.isPrivate || x.isStatic) = false) ∧
      (∀ (i : Nat) a, laid.1[i]? = some a → k.fields[i]? = some a) ∧ (∀ (i : Nat) x, (Lambda.resolvedOf { classPath := fun _ => none } U.vm D laid.1 cK)[i]? = some (some x) → k.resolved[i]? = some (some x)) ∧ k.instanceTypes = laid.2.1 := by
  obtain ⟨d, dk0, hd, hname, hmade, hcall⟩ := h.at hK
  obtain ⟨dk, k, ok, tk, file, cf, object, iface, t, lay, methods, target, found, hd', hk, hfile, hcf, hobj, hi, hok, hlay, hms, ht, htk, hg, hf, hrec, -, -, -, hitf, hpool, hmeth, hfields, hit, hres, hsel⟩ := Lambda.isMade_spec hmade
  cases hd.symm.trans hd'
  rw [hname, hs.1] at hcf
  cases hcf
  have h0 := hK.noF object ok hobj hok
  rw [h0, hs.2.2] at hlay
  cases hlay
  obtain ⟨b, hb, hsame⟩ := hmeth 1 fw (hs.2.1 methods hms)
  obtain ⟨i2, hi2, hasg, hway⟩ := State.lambdaCallable_spec hcall
  cases hi.symm.trans hi2
  refine ⟨k, tk, file, b, t, iface, target, found, hk, by rw [hrec.1, hname], hfile, hpool.2.1, by simp [Vm.method?, hk, hb], hsame, ⟨ht, htk, hitf, hg⟩, ⟨hi, hf, hsel, hasg, hway⟩, hfields, hres, ?_⟩
  rw [hit.1]
  have h1 : ok.instanceTypes = #[] := Array.eq_empty_of_size_eq_zero h0
  rw [h1]
  simp
/-- the forwarder's contract -/
def fp_MI (G : fp_G) (cK : ClassId) (fr lo mc ms : Nat) (av : List Value) (Pre : Heap → Prop) (A : Nat → Prop) (Post : Heap → Option Value → Heap → Prop) : Prop :=
  ∀ (p : Program) (e : Env) (R : Room) (s : State) (below : List Frame) (meth : Method) (c : Code), p.tables.exec = Jvm.exec → s.vm.method? ⟨cK, 1⟩ = some meth → meth.code = some c → (∀ w ∈ lw_all, w.before av.toArray s = true) → fp_K G s → fp_B G s.heap → Pre s.heap → fp_R R fr lo mc ms →
    W p (g_l G) e R s ⟨cK, 1⟩ av.toArray below meth c s.heap [] 0 0 (MQ below (fp_Q A s.heap.size Post) av.toArray s mc ms (fA A s.heap.size)) (entryFrame ⟨cK, 1⟩ av.toArray c.maxLocals)
/-- what the forwarder is, as far as a call asks -/
def fp_Lf (fw : Method) : Prop := (∃ x, fw.code = some x ∧ x.maxLocals = 2) ∧ fw.accessFlags = 1
section FPL7
variable {G : fp_G} {p : Program} {e : Env} {R : Room} {s : State} {m : MethodId} {args : Array Value} {below : List Frame} {meth : Method} {c : Code} {H : Heap} {locs : List Loc} {cells slots : Nat} {Q : State → Prop}
variable {cc : ByteArray} {pc nL : Nat} {ls : Array Slot} {rest : List Value} {own : String} {A0 : Nat → Prop} {mc0 ms0 : Nat} {H0 : Heap}
theorem r_callL {ownL : String} {σ : Lambda.Shape} {cK : ClassId} {D : ClassFile.ClassFile} {fw : Method} {laid : Array Field × Array FieldType × Array FieldType} {x : MethodName} {fr lo mc ms fr0 lo0 cells1 slots1 index count : Nat} {b : Nat} {cellB : Cell} {As st0 : List Value} {A : Nat → Prop} {Pre : Heap → Prop} {Post : Heap → Option Value → Heap → Prop}
    (X : fp_C G p s m args c cc own nL) (hR : fp_R R fr0 lo0 mc0 ms0) (hL : fp_Lm G ownL σ cK) (hs : fp_Ls ownL σ D fw laid) (hf : fp_Lf fw) (hpl : plainName (ownL ++ "$$Lambda") = true) (hM : fp_MI G cK fr lo mc ms (.ref b :: As) Pre A Post) (hσ : σ.iface = x.cls ∧ σ.name = x.name ∧ σ.sam.toString = x.desc) (w1 : Cond.methodLink own index x ∈ lw_all) (w2 : Cond.declares x ∈ lw_tbl) (w3 : Cond.interfaceMethod x.cls x.cls x.name x.desc ∈ lw_tbl)
    (hd : x.cls ≠ "java/lang/invoke/MethodHandle" ∧ x.cls ≠ "java/lang/invoke/VarHandle" ∧ (parseMethodDescriptor x.desc).map (fun d => d.parameters.length) = some As.length) (hRR : fr + 1 ≤ fr0 ∧ 8 + (2 + 11) + lo ≤ lo0) (ec : cells + mc = cells1) (es : slots + ms = slots1) (hcells : cells1 ≤ mc0) (hslots : slots1 ≤ ms0) (hcell : H[b]? = some cellB) (hcls : cellB.cls = cK) (hvm : cellB.vm = .none) (hst : st0 = As.reverse ++ .ref b :: rest) (hrest : (rest.map fun v => v.category).sum ≤ 8) (hls : ls.size = nL) (hdg : decode cc pc = .ok (.invokeinterface index count, 5))
    (hB : fp_B G H) (hP : Pre H) (hS : va_S (fA A0 s.heap.size) s.heap H locs) (hA : ∀ q, A q → fA A0 s.heap.size q)
    (kk : ∀ (v : Option Value) (H1 : Heap) (locs1 : List Loc), Post H v H1 → H.size ≤ H1.size → (∀ q : Nat, q < H.size → ¬ A q → H1[q]? = H[q]?) → va_S (fA A0 s.heap.size) s.heap H1 locs1 → W p (g_l G) e R s m args below meth c H1 locs1 cells1 slots1 Q (F0 m (pc + 5) ls (v.toList ++ rest))) : W p (g_l G) e R s m args below meth c H locs cells slots Q (F0 m pc ls st0) := by
  obtain ⟨hx, hb, hml, hown, hts, hK⟩ := X
  obtain ⟨rfl, rfl, rfl, rfl⟩ := hR
  subst hcls
  have hlen : ∀ sig, parseMethodDescriptor x.desc = some sig → As.length = sig.parameters.length := fun sig h => by
    have h2 := hd.2.2
    rw [h] at h2
    exact (Option.some.inj h2).symm
  refine r_after5 (a := (Value.ref b :: As).toArray) ec es (fun T hT X => ?_) hS hA kk
  subst hT
  obtain ⟨r0, r, hn, hrm, hstR, hsigR⟩ := Cond.declares_spec (args := args) (hK.decl w2)
  have hface : (Cond.interfaceMethod x.cls x.cls x.name x.desc).before #[] s = true := by
    have h1 : (Cond.interfaceMethod x.cls x.cls x.name x.desc).before #[] (g_s G) = true := va_any rfl (hK.1.1 _ w3)
    obtain ⟨r1, m1, hn1, -⟩ := Cond.declares_spec (hK.1.1 _ w2)
    have e9 := Cond.onTables_vm (A := #[]) (A' := #[]) (U := g_s G) (U' := s) s.vm (Cond.interfaceMethod x.cls x.cls x.name x.desc) rfl
    have hU : s.setVm s.vm = s := rfl
    rw [hU] at e9
    rw [← e9, Cond.interfaceMethod_setVm hK.2.alike (r := r1) hn1 ⟨hd.1, hd.2.1⟩]
    exact h1
  obtain ⟨cL, kL, r1, hcL, hkL, hiL, hfoundL, hn1⟩ := Cond.interfaceMethod_spec hface
  cases hn.symm.trans hn1
  have hr0cls : r0.cls = cL := Option.some.inj ((findClass_of_methodNamed hn).symm.trans hcL)
  obtain ⟨hnameR, hdescR⟩ := name_of_methodNamed hn hrm
  obtain ⟨k, tk, file, bm, t0, iface, target, found, hk, hkn, hfile, hpool, hmk, hsame, himpl, ⟨hi, hfo, hsel, hasg, hway⟩, -, -, -⟩ := hL.made hs hK
  rw [hσ.1] at hi
  rw [hσ.2.1, hσ.2.2] at hfo hway
  cases hcL.symm.trans hi
  have hr0 : found = r0 := by
    simp only [State.methodFound?, hcL, hkL, Option.bind_eq_bind, Option.bind_some, hiL, hfo] at hfoundL
    exact Option.some.inj hfoundL
  subst hr0
  obtain ⟨hbn, hbd, hbs, hbf, xc, yc, hxc, hyc, -, hycl, hyco, -⟩ := Lambda.sameMethod_spec hsame
  obtain ⟨⟨xc2, hxc2, hxl⟩, hfl⟩ := hf
  cases hxc.symm.trans hxc2
  have hpub : hasFlag bm.accessFlags Acc.public_ = true := by rw [hbf, hfl]; decide
  have habs : bm.isAbstract = false := by simp [Method.isAbstract, hbf, hfl, hasFlag, Acc.abstract]
  have hlk : bm.locks = false := by simp [Method.locks, Method.isSynchronized, hbf, hfl, hasFlag, Acc.synchronized]
  have hselP : selectMethod e.platform s.vm cellB.cls found = .method ⟨cellB.cls, 1⟩ := by rw [Launch.admits_selectMethod X.admits]; exact hsel
  obtain ⟨vm₁, X₁, hstep₁⟩ := X.invokeinterface hx hown (hts _ w1) hn hrm hstR (by rw [hr0cls]; exact hkL) hiL ⟨hd.1, hd.2.1⟩ (a := b) (cell := cellB) (kcell := k) hcell
    (fun z h => by rw [hvm] at h; cases h) hk (by rw [hr0cls]; exact hasg) hselP hmk (by rw [hnameR, hdescR]; exact hway) hpub habs (g := F0 m pc ls st0) rfl (argsL := As) (rest := rest) (hlen _ hsigR) hst (by rw [hb]; exact hdg)
  have hW₁ : s.WarmedH vm₁ := X₁.warmed
  have hmk₁ : vm₁.method? ⟨cellB.cls, 1⟩ = some bm := by rw [hW₁.alike.method?]; exact hmk
  have hpk : (T.setVm vm₁).plainMethod ⟨cellB.cls, 1⟩ := State.plainMethod.of_name (fun k' hk' => by
    obtain ⟨k2, hk2, he2⟩ := hW₁.alike.2.2 _ _ hk
    cases (show vm₁.classes[cellB.cls]? = some k' from hk').symm.trans hk2
    rw [he2]
    show plainName k.name = true
    rw [hkn]
    exact hpl)
  obtain ⟨v, t, T', L, X', hL2, e1, e2, hq, hgo⟩ := fp_inv X₁ (g := { F0 m pc ls st0 with stack := rest }) rfl (hls.trans hml.symm) (by rw [hb]; exact hdg) (mk := ⟨cellB.cls, 1⟩) (a := (Value.ref b :: As).toArray) (R' := { frames := fr, cells := mc, slots := ms, locals := lo }) hmk₁ hyc hlk hpk hRR.1
    (by have h9 := hRR.2; rw [hycl, hxl]; show 2 * 0 + (rest.map fun v => v.category).sum + (2 + 11) + lo ≤ _; omega) (by show cells + mc ≤ _; omega) (by show slots + ms ≤ _; omega)
    (hM p e _ _ _ bm yc hx hmk₁ hyc (fun w hw => pay_in hts lw_self w hw _ _ hW₁) (hK.moved hW₁) hB hP ⟨rfl, rfl, rfl, rfl⟩)
  exact ⟨v, (T.setVm vm₁).calling _ _ _, t, T', L, rfl, X', hL2, e1, e2, hq, fun tg h => hstep₁ tg (fun acts => hgo acts tg h)⟩
end FPL7
