/-! HANDLERS: contracts of methods with an exception table, calls of them, catching -/
set_option maxRecDepth 100000
/-- a contract of a method with handlers: it returns with Post, or throws an exception of the class E with XPost -/
def fp_MH (G : fp_G) (y : MethodName) (cc : ByteArray) (maxL : Nat) (ret : Option FieldType) (hh : List (Nat × Nat × Nat × Nat)) (fr lo mc ms : Nat) (av : List Value) (Pre : Heap → Prop) (A : Nat → Prop) (Post : Heap → Option Value → Heap → Prop) (XPost : Heap → String → Heap → Prop) : Prop :=
  ∀ sz : Nat, vx_Met (g_l G) y (wsW_ y cc maxL ret hh) ({ frames := fr, cells := mc, slots := ms, locals := lo }) (fun v U => v = av.toArray ∧ U.heap.size = sz ∧ fp_K G U ∧ fp_B G U.heap ∧ Pre U.heap) (fp_Q A sz Post) (fp_XC A sz XPost) mc ms (fA A sz)
theorem fp_MH.intro {G : fp_G} {y : MethodName} {cc : ByteArray} {maxL : Nat} {ret : Option FieldType} {hh : List (Nat × Nat × Nat × Nat)} {fr lo mc ms : Nat} {av : List Value} {Pre : Heap → Prop} {A : Nat → Prop} {Post : Heap → Option Value → Heap → Prop} {XPost : Heap → String → Heap → Prop}
    (hy : plainName y.cls = true) (hlen : (lg_sl av).length ≤ maxL)
    (body : ∀ (p : Program) (e : Env) (s : State) (m : MethodId) (args : Array Value) (below : List Frame) (meth : Method) (c : Code) (R : Room) (Q : State → Prop) (ls : Array Slot),
      fp_C G p s m args c cc y.cls maxL → p.tables.exec = Jvm.exec → c.code = cc → meth.sig.returnType = ret → meth.locks = false → meth.name = y.name → fp_R R fr lo mc ms → Q = fp_QX below A Post XPost args s mc ms → c.exceptionTable.toList = tableOf hh →
      fp_B G s.heap → Pre s.heap → lv_has ls maxL (lv_args 0 av) →
      W p (g_l G) e R s m args below meth c s.heap [] 0 0 Q (F0 m 0 ls [])) : fp_MH G y cc maxL ret hh fr lo mc ms av Pre A Post XPost := by
  intro sz
  refine vx_ofWH (cc := cc) (maxL := maxL) (ret := ret) (hh := hh) hy rfl ?_
  intro p e s m args below meth c s₁ B hml hv
  obtain ⟨rfl, hsz, hK, hB, hP⟩ := hv
  subst hsz
  have hts := atoms_spec (ws := wsW_ y cc maxL ret hh) B.pre
  have hT := vx_table (x := y) B (hts _ List.mem_cons_self)
  rw [lg_entry_eq]
  exact body p e s m av.toArray below meth c _ _ _ ⟨B.exec, B.bytes, hml, findClass_of_methodNamed B.named, fun w h => hts w (List.mem_cons_of_mem _ h), hK⟩ B.exec B.bytes B.returns B.notSynchronized (name_of_methodNamed B.named B.method).1 ⟨rfl, rfl, rfl, rfl⟩ rfl hT hB hP (lv_entry av hlen)
section FPMH
variable {G : fp_G} {p : Program} {e : Env} {R : Room} {s : State} {m : MethodId} {args : Array Value} {below : List Frame} {meth : Method} {c : Code} {H : Heap} {locs : List Loc} {cells slots : Nat} {Q : State → Prop}
variable {cc : ByteArray} {pc nL : Nat} {ls : Array Slot} {rest : List Value} {own : String} {A0 : Nat → Prop} {mc0 ms0 : Nat} {Post0 : Heap → Option Value → Heap → Prop} {XPost0 : Heap → String → Heap → Prop} {H0 : Heap}
theorem x_callSH {y : MethodName} {bytes : ByteArray} {maxL : Nat} {ret : Option FieldType} {hh : List (Nat × Nat × Nat × Nat)} {fr lo mc ms fr0 lo0 mc0 ms0 cells1 slots1 index : Nat} {As st0 : List Value} {A : Nat → Prop} {Pre : Heap → Prop} {Post : Heap → Option Value → Heap → Prop} {XPost : Heap → String → Heap → Prop}
    (X : fp_C G p s m args c cc own nL) (hR : fp_R R fr0 lo0 mc0 ms0) (hM : fp_MH G y bytes maxL ret hh fr lo mc ms As Pre A Post XPost) (w1 : Cond.methodLink own index y ∈ lw_all) (w2 : Cond.static y ∈ lw_all) (w4 : Cond.initialized y.cls ∈ lw_all) (w5 : Cond.codeWith y bytes maxL ret hh ∈ lw_all)
    (hd : y.cls ≠ "java/lang/invoke/MethodHandle" ∧ y.cls ≠ "java/lang/invoke/VarHandle" ∧ (parseMethodDescriptor y.desc).map (fun d => d.parameters.length) = some As.length) (hRR : fr + 1 ≤ fr0 ∧ 8 + (maxL + 11) + lo ≤ lo0) (ec : cells + mc = cells1) (es : slots + ms = slots1) (hcells : cells1 ≤ mc0) (hslots : slots1 ≤ ms0) (hst : st0 = As.reverse ++ rest) (hrest : (rest.map fun v => v.category).sum ≤ 8) (hls : ls.size = nL) (hdg : decode cc pc = .ok (.invokestatic index, 3))
    (hB : fp_B G H) (hP : Pre H) (hS : va_S (fA A0 s.heap.size) s.heap H locs) (hA : ∀ q, A q → fA A0 s.heap.size q)
    (kk : ∀ (v : Option Value) (H1 : Heap) (locs1 : List Loc), Post H v H1 → H.size ≤ H1.size → (∀ q : Nat, q < H.size → ¬ A q → H1[q]? = H[q]?) → va_S (fA A0 s.heap.size) s.heap H1 locs1 → W p (g_l G) e R s m args below meth c H1 locs1 cells1 slots1 Q (F0 m (pc + 3) ls (v.toList ++ rest)))
    (kx : ∀ (E : String) (q : Addr) (ce : Cell) (H1 : Heap) (locs1 : List Loc), XPost H E H1 → H.size ≤ H1.size → (∀ q : Nat, q < H.size → ¬ A q → H1[q]? = H[q]?) → va_S (fA A0 s.heap.size) s.heap H1 locs1 → H1[q]? = some ce → ce.vm = .none → s.vm.findClass E = some ce.cls → vx_W p (g_l G) e R s m args below meth c H1 locs1 cells1 slots1 Q (F0 m pc ls rest) q) : W p (g_l G) e R s m args below meth c H locs cells slots Q (F0 m pc ls st0) := by
  obtain ⟨hx, hb, hml, hown, hts, hK⟩ := X
  obtain ⟨rfl, rfl, rfl, rfl⟩ := hR
  refine x_after ec es (vx_runSX (As := As) ⟨hx, hb, hml, hown, hts⟩ (hM H.size) (vx_cwSW As.length hts (lw_SW w1 w2 w4 w5) rfl rfl rfl hd hRR) ⟨fp_blind, fun U hU hW => ⟨rfl, by rw [hU], hK.moved hW, by rw [hU]; exact hB, by rw [hU]; exact hP⟩⟩ rfl rfl hls hst (lv_room hrest) hdg ⟨by rw [ec]; exact hcells, by rw [es]; exact hslots⟩) hS hA kk kx
theorem x_callVH {y : MethodName} {bytes : ByteArray} {maxL : Nat} {ret : Option FieldType} {hh : List (Nat × Nat × Nat × Nat)} {fr lo mc ms fr0 lo0 mc0 ms0 cells1 slots1 index : Nat} {C : String} {b : Nat} {As st0 : List Value} {A : Nat → Prop} {Pre : Heap → Prop} {Post : Heap → Option Value → Heap → Prop} {XPost : Heap → String → Heap → Prop} {ci : Nat} {fs : List Value} {T : u_T} {N : Nat}
    (X : fp_C G p s m args c cc own nL) (hR : fp_R R fr0 lo0 mc0 ms0) (hM : fp_MH G y bytes maxL ret hh fr lo mc ms (.ref b :: As) Pre A Post XPost) (w1 : Cond.methodLink own index y ∈ lw_all) (w2 : Cond.instanceMethod y ∈ lw_all) (w3 : Cond.selects C y y ∈ lw_all) (w4 : Cond.initialized C ∈ lw_all) (w5 : Cond.codeWith y bytes maxL ret hh ∈ lw_all)
    (hd : y.cls = C ∧ y.cls ≠ "java/lang/invoke/MethodHandle" ∧ y.cls ≠ "java/lang/invoke/VarHandle" ∧ (parseMethodDescriptor y.desc).map (fun d => d.parameters.length) = some As.length) (hRR : fr + 1 ≤ fr0 ∧ 8 + (maxL + 11) + lo ≤ lo0) (ec : cells + mc = cells1) (es : slots + ms = slots1) (hcells : cells1 ≤ mc0) (hslots : slots1 ≤ ms0) (hat : fp_At G H b (eO ci fs)) (hc : fp_cl[ci]? = some (C, T, N)) (hst : st0 = As.reverse ++ .ref b :: rest) (hrest : (rest.map fun v => v.category).sum ≤ 8) (hls : ls.size = nL) (hdg : decode cc pc = .ok (.invokevirtual index, 3))
    (hB : fp_B G H) (hP : Pre H) (hS : va_S (fA A0 s.heap.size) s.heap H locs) (hA : ∀ q, A q → fA A0 s.heap.size q)
    (kk : ∀ (v : Option Value) (H1 : Heap) (locs1 : List Loc), Post H v H1 → H.size ≤ H1.size → (∀ q : Nat, q < H.size → ¬ A q → H1[q]? = H[q]?) → va_S (fA A0 s.heap.size) s.heap H1 locs1 → W p (g_l G) e R s m args below meth c H1 locs1 cells1 slots1 Q (F0 m (pc + 3) ls (v.toList ++ rest)))
    (kx : ∀ (E : String) (q : Addr) (ce : Cell) (H1 : Heap) (locs1 : List Loc), XPost H E H1 → H.size ≤ H1.size → (∀ q : Nat, q < H.size → ¬ A q → H1[q]? = H[q]?) → va_S (fA A0 s.heap.size) s.heap H1 locs1 → H1[q]? = some ce → ce.vm = .none → s.vm.findClass E = some ce.cls → vx_W p (g_l G) e R s m args below meth c H1 locs1 cells1 slots1 Q (F0 m pc ls rest) q) : W p (g_l G) e R s m args below meth c H locs cells slots Q (F0 m pc ls st0) := by
  obtain ⟨hx, hb, hml, hown, hts, hK⟩ := X
  obtain ⟨rfl, rfl, rfl, rfl⟩ := hR
  refine x_after ec es (vx_runVX (As := As) (b := b) (C := C) ⟨hx, hb, hml, hown, hts⟩ (hM H.size) (vx_cwVW As.length hts (lw_VW w1 w2 w3 w4 w5) rfl rfl rfl hd hRR) ⟨fp_blind, va_recv (q0 := 0) hK.va (fp_P1 hat) hc rfl, fun U hU hW => ⟨rfl, by rw [hU], hK.moved hW, by rw [hU]; exact hB, by rw [hU]; exact hP⟩⟩ rfl rfl hls hst (lv_room hrest) hdg ⟨by rw [ec]; exact hcells, by rw [es]; exact hslots⟩) hS hA kk kx
/-- an exception that the table's row x catches; no row before it covers the place -/
theorem r_catch {E name : String} {ce : Cell} {q : Addr} {hh : List (Nat × Nat × Nat × Nat)} (X : fp_C G p s m args c cc own nL) (hT : c.exceptionTable.toList = tableOf hh) (pre : List ExceptionTableEntry) (x : ExceptionTableEntry) (suf : List ExceptionTableEntry) (hsplit : tableOf hh = pre ++ x :: suf)
    (hpass : ∀ z ∈ pre, covers z pc = false ∨ (z.catchType ≠ 0 ∧ ∃ nm : String, Cond.classLink own z.catchType nm ∈ lw_all ∧ va_Nc E nm s)) (hx : covers x pc = true) (h0 : x.catchType ≠ 0) (hlink : Cond.classLink own x.catchType name ∈ lw_all) (hcast : Cond.castable E name ∈ lw_tbl) (hcell : H[q]? = some ce) (hv : ce.vm = .none) (hcl : s.vm.findClass E = some ce.cls)
    (kk : W p (g_l G) e R s m args below meth c H locs cells slots Q (F0 m x.handlerPc ls [.ref q])) : vx_W p (g_l G) e R s m args below meth c H locs cells slots Q (F0 m pc ls rest) q := by
  obtain ⟨-, -, -, hown, hts, hK⟩ := X
  exact vx_catch hown pre x suf (hT.trans hsplit) (fun z hz => (hpass z hz).imp id (fun ⟨a, nm, b, d⟩ => ⟨a, nm, hts _ b, d⟩)) hx h0 (hts _ hlink) (hK.cast hcast) hcell hv hcl kk
/-- an exception at a place that no row covers -/
theorem x_outH {E : String} {ce : Cell} {q : Addr} (hT : ∀ x ∈ c.exceptionTable.toList, covers x pc = false) (hlk : meth.locks = false) (hQ : Q = fp_QX below A0 Post0 XPost0 args s mc0 ms0) (hS : va_S (fA A0 s.heap.size) s.heap H locs) (hc : cells ≤ mc0) (hs : slots ≤ ms0) (hcell : H[q]? = some ce) (hv : ce.vm = .none) (hcl : s.vm.findClass E = some ce.cls) (hp : XPost0 s.heap E H) : vx_W p (g_l G) e R s m args below meth c H locs cells slots Q (F0 m pc ls rest) q := by
  subst hQ
  exact vx_out (E := E) (ce := ce) hT hlk hcell hv hcl (fun t ht _ => ⟨by rw [ht]; exact hp, hS.F ht⟩) hS.2.2 hc hs
end FPMH
