/-! FORWARDERS' CONTRACTS; SITES -/
set_option maxRecDepth 100000
/-- a hidden class's object -/
def fp_ob (H : Heap) (a : Nat) (cK : ClassId) (vs : List Value) : Prop := ∃ cell : Cell, H[a]? = some cell ∧ cell.cls = cK ∧ cell.vm = .none ∧ cell.slots = vs.toArray
theorem fp_ob.lt {H : Heap} {a : Nat} {cK : ClassId} {vs : List Value} (h : fp_ob H a cK vs) : a < H.size := by
  obtain ⟨cell, h1, -⟩ := h
  exact (Array.getElem?_eq_some_iff.mp h1).1
theorem fp_ob.mv {H H1 : Heap} {a : Nat} {cK : ClassId} {vs : List Value} (h : fp_ob H a cK vs) (hq : H1[a]? = H[a]?) : fp_ob H1 a cK vs := by
  obtain ⟨cell, h1, h2⟩ := h
  exact ⟨cell, hq.trans h1, h2⟩
/-- the forwarder's code, its answer's type -/
def fp_Lc (fw : Method) (bytes : ByteArray) (ty : FieldType) : Prop := fw.code.map (fun x => (x.code.data, x.maxLocals)) = some (bytes.data, 2) ∧ fw.accessFlags = 1 ∧ fw.sig.returnType = some ty
theorem fp_Lc.lf {fw : Method} {bytes : ByteArray} {ty : FieldType} (h : fp_Lc fw bytes ty) : fp_Lf fw := by
  obtain ⟨h1, h2, -⟩ := h
  obtain ⟨x, hx, he⟩ := Option.map_eq_some_iff.mp h1
  exact ⟨⟨x, hx, congrArg Prod.snd he⟩, h2⟩
section FPL9
variable {G : fp_G} {ownL : String} {σ : Lambda.Shape} {cK : ClassId} {D : ClassFile.ClassFile} {fw : Method} {laid : Array Field × Array FieldType × Array FieldType}
theorem fp_MI.intro {bytes : ByteArray} {ty : FieldType} {fr lo mc ms : Nat} {av : List Value} {Pre : Heap → Prop} {A : Nat → Prop} {Post : Heap → Option Value → Heap → Prop} (hL : fp_Lm G ownL σ cK) (hs : fp_Ls ownL σ D fw laid) (hc : fp_Lc fw bytes ty) (hlen : (lg_sl av).length ≤ 2)
    (body : ∀ (p : Program) (e : Env) (R : Room) (s : State) (below : List Frame) (meth : Method) (c : Code) (Q : State → Prop) (ls : Array Slot), p.tables.exec = Jvm.exec → c.code = bytes → c.maxLocals = 2 → meth.sig.returnType = some ty → meth.locks = false → (∀ w ∈ lw_all, w.before av.toArray s = true) → fp_K G s → fp_B G s.heap → Pre s.heap → fp_R R fr lo mc ms →
      Q = MQ below (fp_Q A s.heap.size Post) av.toArray s mc ms (fA A s.heap.size) → lv_has ls 2 (lv_args 0 av) → W p (g_l G) e R s ⟨cK, 1⟩ av.toArray below meth c s.heap [] 0 0 Q (F0 ⟨cK, 1⟩ 0 ls [])) : fp_MI G cK fr lo mc ms av Pre A Post := by
  intro p e R s below meth c hx hmk hck hts hK hB hP hR
  obtain ⟨k, tk, file, bm, t0, iface, target, found, hk, hkn, hfile, hpool, hmk2, hsame, -, -, -, -, -⟩ := hL.made hs hK
  cases hmk.symm.trans hmk2
  obtain ⟨hbn, hbd, hbs, hbf, xc, yc, hxc, hyc, -, hycl, hyco, -⟩ := Lambda.sameMethod_spec hsame
  cases hck.symm.trans hyc
  obtain ⟨h1, h2, h3⟩ := hc
  rw [hxc] at h1
  have h4 := Option.some.inj h1
  have hb : c.code = bytes := hyco.trans (ByteArray.ext (congrArg Prod.fst h4))
  have hl : c.maxLocals = 2 := hycl.trans (congrArg Prod.snd h4)
  have hlk : meth.locks = false := by simp [Method.locks, Method.isSynchronized, hbf, h2, hasFlag, Acc.synchronized]
  rw [hl, lg_entry_eq]
  exact body p e R s below meth c _ _ hx hb hl (by rw [hbs]; exact h3) hlk hts hK hB hP hR rfl (lv_entry av hlen)
variable {y : MethodName} {bytes : ByteArray} {maxL : Nat} {ret : Option FieldType} {ty : FieldType} {fr lo mc ms : Nat} {a q : Nat} {Pre : Heap → Prop} {A : Nat → Prop} {Post : Heap → Option Value → Heap → Prop}
def fp_c0 : ByteArray := ⟨#[43, 184, 0, 17, 172]⟩
def fp_c1 : ByteArray := ⟨#[42, 180, 0, 15, 43, 184, 0, 23, 172]⟩
def fp_c2 : ByteArray := ⟨#[42, 180, 0, 16, 42, 180, 0, 18, 43, 184, 0, 26, 172]⟩
def fp_c3 : ByteArray := ⟨#[42, 180, 0, 17, 42, 180, 0, 19, 43, 182, 0, 27, 172]⟩
/-- what a static target asks -/
def fp_tS (y : MethodName) (bytes : ByteArray) (maxL : Nat) (ret : Option FieldType) (n : Nat) : Prop := Cond.static y ∈ lw_all ∧ Cond.initialized y.cls ∈ lw_all ∧ Cond.code y bytes maxL ret ∈ lw_all ∧ y.cls ≠ "java/lang/invoke/MethodHandle" ∧ y.cls ≠ "java/lang/invoke/VarHandle" ∧ (parseMethodDescriptor y.desc).map (fun d => d.parameters.length) = some n
def fp_tV (y : MethodName) (bytes : ByteArray) (maxL : Nat) (ret : Option FieldType) (n : Nat) : Prop := Cond.instanceMethod y ∈ lw_all ∧ Cond.selects y.cls y y ∈ lw_all ∧ Cond.initialized y.cls ∈ lw_all ∧ Cond.code y bytes maxL ret ∈ lw_all ∧ y.cls ≠ "java/lang/invoke/MethodHandle" ∧ y.cls ≠ "java/lang/invoke/VarHandle" ∧ (parseMethodDescriptor y.desc).map (fun d => d.parameters.length) = some n
def fp_hy (σ : Lambda.Shape) (y : MethodName) : Prop := (σ.implClass = y.cls ∧ σ.implName = y.name ∧ σ.implDesc.toString = y.desc) ∧ σ.implItf = false
theorem fp_MI.c0 (hL : fp_Lm G ownL σ cK) (hs : fp_Ls ownL σ D fw laid) (hc : fp_Lc fw fp_c0 ty) (hpl : fp_Lp D σ 17) (hy : fp_hy σ y) (hM : fp_M G y bytes maxL ret fr lo mc ms [.ref q] Pre A Post) (hw : fp_tS y bytes maxL ret 1) (hv : ∀ H v H1, Post H v H1 → ∃ z : Int32, v = some (.int z) ∧ narrow ty (.int z) = .int z) : fp_MI G cK (fr + 1) (8 + (maxL + 11) + lo) mc ms [.ref a, .ref q] Pre A Post := by
  refine fp_MI.intro hL hs hc (Nat.le_of_ble_eq_true rfl) (fun p e R s below meth c Q ls hx hb hml hret hlk hts hK hB hP hR hQ hl => ?_)
  have hS : va_S (fA A s.heap.size) s.heap s.heap [] := va_S.rf
  refine lv_aload_n hx hb (by decide +kernel : decode fp_c0 0 = .ok (.aload_n 1, 1)) rfl (lv_at hl 1 rfl) ?_
  refine r_hcS (nL := 2) hx hb hml hts hK hL hs hpl hy hR hM hw.1 hw.2.1 hw.2.2.1 hw.2.2.2 ⟨Nat.le_refl _, Nat.le_refl _⟩ (Nat.zero_add _) (Nat.zero_add _) (Nat.le_refl _) (Nat.le_refl _) rfl (Nat.le_of_ble_eq_true rfl) hl.1 (by decide +kernel : decode fp_c0 1 = .ok (.invokestatic 17, 3)) hB hP hS (fun _ h => Or.inl h) (fun v H1 locs1 hp hz hk hS1 => ?_)
  obtain ⟨z, rfl, hn⟩ := hv _ _ _ hp
  exact r_zret hx hb hret hlk hQ hS1 (Nat.le_refl _) (Nat.le_refl _) (by decide +kernel : decode fp_c0 4 = .ok (.ireturn, 1)) hn hp
theorem fp_MI.c1 {v0 : Value} (hL : fp_Lm G ownL σ cK) (hs : fp_Ls ownL σ D fw laid) (hc : fp_Lc fw fp_c1 ty) (hpl : fp_Lp D σ 23) (hg0 : fp_Lg D laid 15 0) (hy : fp_hy σ y) (hM : fp_M G y bytes maxL ret fr lo mc ms [v0, .ref q] Pre A Post) (hw : fp_tS y bytes maxL ret 2) (hv : ∀ H v H1, Post H v H1 → ∃ z : Int32, v = some (.int z) ∧ narrow ty (.int z) = .int z) : fp_MI G cK (fr + 1) (8 + (maxL + 11) + lo) mc ms [.ref a, .ref q] (fun H => fp_ob H a cK [v0] ∧ Pre H) A Post := by
  refine fp_MI.intro hL hs hc (Nat.le_of_ble_eq_true rfl) (fun p e R s below meth c Q ls hx hb hml hret hlk hts hK hB hP hR hQ hl => ?_)
  obtain ⟨cell, k1, k2, k3, k4⟩ := hP.1
  have hS : va_S (fA A s.heap.size) s.heap s.heap [] := va_S.rf
  refine lv_aload_n hx hb (by decide +kernel : decode fp_c1 0 = .ok (.aload_n 0, 1)) rfl (lv_at hl 0 rfl) ?_
  refine r_hget hx hb hK hL hs hg0 k1 k3 (by rw [k4]; rfl) (by decide +kernel : decode fp_c1 1 = .ok (.getfield 15, 3)) ?_
  refine lv_aload_n hx hb (by decide +kernel : decode fp_c1 4 = .ok (.aload_n 1, 1)) rfl (lv_at hl 1 rfl) ?_
  refine r_hcS (nL := 2) (As := [v0, .ref q]) (rest := []) hx hb hml hts hK hL hs hpl hy hR hM hw.1 hw.2.1 hw.2.2.1 hw.2.2.2 ⟨Nat.le_refl _, Nat.le_refl _⟩ (Nat.zero_add _) (Nat.zero_add _) (Nat.le_refl _) (Nat.le_refl _) rfl (Nat.le_of_ble_eq_true rfl) hl.1 (by decide +kernel : decode fp_c1 5 = .ok (.invokestatic 23, 3)) hB hP.2 hS (fun _ h => Or.inl h) (fun v H1 locs1 hp hz hk hS1 => ?_)
  obtain ⟨z, rfl, hn⟩ := hv _ _ _ hp
  exact r_zret hx hb hret hlk hQ hS1 (Nat.le_refl _) (Nat.le_refl _) (by decide +kernel : decode fp_c1 8 = .ok (.ireturn, 1)) hn hp
theorem fp_MI.c2 {v0 v1 : Value} (hL : fp_Lm G ownL σ cK) (hs : fp_Ls ownL σ D fw laid) (hc : fp_Lc fw fp_c2 ty) (hpl : fp_Lp D σ 26) (hg0 : fp_Lg D laid 16 0) (hg1 : fp_Lg D laid 18 1) (hy : fp_hy σ y) (hM : fp_M G y bytes maxL ret fr lo mc ms [v0, v1, .ref q] Pre A Post) (hw : fp_tS y bytes maxL ret 3) (hv : ∀ H v H1, Post H v H1 → ∃ z : Int32, v = some (.int z) ∧ narrow ty (.int z) = .int z) : fp_MI G cK (fr + 1) (8 + (maxL + 11) + lo) mc ms [.ref a, .ref q] (fun H => fp_ob H a cK [v0, v1] ∧ Pre H) A Post := by
  refine fp_MI.intro hL hs hc (Nat.le_of_ble_eq_true rfl) (fun p e R s below meth c Q ls hx hb hml hret hlk hts hK hB hP hR hQ hl => ?_)
  obtain ⟨cell, k1, k2, k3, k4⟩ := hP.1
  have hS : va_S (fA A s.heap.size) s.heap s.heap [] := va_S.rf
  refine lv_aload_n hx hb (by decide +kernel : decode fp_c2 0 = .ok (.aload_n 0, 1)) rfl (lv_at hl 0 rfl) ?_
  refine r_hget hx hb hK hL hs hg0 k1 k3 (by rw [k4]; rfl) (by decide +kernel : decode fp_c2 1 = .ok (.getfield 16, 3)) ?_
  refine lv_aload_n hx hb (by decide +kernel : decode fp_c2 4 = .ok (.aload_n 0, 1)) rfl (lv_at hl 0 rfl) ?_
  refine r_hget hx hb hK hL hs hg1 k1 k3 (by rw [k4]; rfl) (by decide +kernel : decode fp_c2 5 = .ok (.getfield 18, 3)) ?_
  refine lv_aload_n hx hb (by decide +kernel : decode fp_c2 8 = .ok (.aload_n 1, 1)) rfl (lv_at hl 1 rfl) ?_
  refine r_hcS (nL := 2) (As := [v0, v1, .ref q]) (rest := []) hx hb hml hts hK hL hs hpl hy hR hM hw.1 hw.2.1 hw.2.2.1 hw.2.2.2 ⟨Nat.le_refl _, Nat.le_refl _⟩ (Nat.zero_add _) (Nat.zero_add _) (Nat.le_refl _) (Nat.le_refl _) rfl (Nat.le_of_ble_eq_true rfl) hl.1 (by decide +kernel : decode fp_c2 9 = .ok (.invokestatic 26, 3)) hB hP.2 hS (fun _ h => Or.inl h) (fun v H1 locs1 hp hz hk hS1 => ?_)
  obtain ⟨z, rfl, hn⟩ := hv _ _ _ hp
  exact r_zret hx hb hret hlk hQ hS1 (Nat.le_refl _) (Nat.le_refl _) (by decide +kernel : decode fp_c2 12 = .ok (.ireturn, 1)) hn hp
theorem fp_MI.c3 {v1 : Value} {b ci0 N0 : Nat} {T0 : u_T} {fs : List Value} (hL : fp_Lm G ownL σ cK) (hs : fp_Ls ownL σ D fw laid) (hc : fp_Lc fw fp_c3 ty) (hpl : fp_Lp D σ 27) (hg0 : fp_Lg D laid 17 0) (hg1 : fp_Lg D laid 19 1) (hy : fp_hy σ y) (hM : fp_M G y bytes maxL ret fr lo mc ms [.ref b, v1, .ref q] Pre A Post) (hw : fp_tV y bytes maxL ret 2) (hcl : fp_cl[ci0]? = some (y.cls, T0, N0)) (hv : ∀ H v H1, Post H v H1 → ∃ z : Int32, v = some (.int z) ∧ narrow ty (.int z) = .int z) : fp_MI G cK (fr + 1) (8 + (maxL + 11) + lo) mc ms [.ref a, .ref q] (fun H => fp_ob H a cK [.ref b, v1] ∧ fp_At G H b (eO ci0 fs) ∧ Pre H) A Post := by
  refine fp_MI.intro hL hs hc (Nat.le_of_ble_eq_true rfl) (fun p e R s below meth c Q ls hx hb hml hret hlk hts hK hB hP hR hQ hl => ?_)
  obtain ⟨cell, k1, k2, k3, k4⟩ := hP.1
  have hS : va_S (fA A s.heap.size) s.heap s.heap [] := va_S.rf
  refine lv_aload_n hx hb (by decide +kernel : decode fp_c3 0 = .ok (.aload_n 0, 1)) rfl (lv_at hl 0 rfl) ?_
  refine r_hget hx hb hK hL hs hg0 k1 k3 (by rw [k4]; rfl) (by decide +kernel : decode fp_c3 1 = .ok (.getfield 17, 3)) ?_
  refine lv_aload_n hx hb (by decide +kernel : decode fp_c3 4 = .ok (.aload_n 0, 1)) rfl (lv_at hl 0 rfl) ?_
  refine r_hget hx hb hK hL hs hg1 k1 k3 (by rw [k4]; rfl) (by decide +kernel : decode fp_c3 5 = .ok (.getfield 19, 3)) ?_
  refine lv_aload_n hx hb (by decide +kernel : decode fp_c3 8 = .ok (.aload_n 1, 1)) rfl (lv_at hl 1 rfl) ?_
  refine r_hcV (nL := 2) (b := b) (As := [v1, .ref q]) (rest := []) hx hb hml hts hK hL hs hpl hy hR hM hw.1 hw.2.1 hP.2.1 hcl hw.2.2.1 hw.2.2.2.1 hw.2.2.2.2 ⟨Nat.le_refl _, Nat.le_refl _⟩ (Nat.zero_add _) (Nat.zero_add _) (Nat.le_refl _) (Nat.le_refl _) rfl (Nat.le_of_ble_eq_true rfl) hl.1 (by decide +kernel : decode fp_c3 9 = .ok (.invokevirtual 27, 3)) hB hP.2.2 hS (fun _ h => Or.inl h) (fun v H1 locs1 hp hz hk hS1 => ?_)
  obtain ⟨z, rfl, hn⟩ := hv _ _ _ hp
  exact r_zret hx hb hret hlk hQ hS1 (Nat.le_refl _) (Nat.le_refl _) (by decide +kernel : decode fp_c3 12 = .ok (.ireturn, 1)) hn hp
end FPL9
