/-! THROWING: contracts of methods that return or throw -/
set_option maxRecDepth 100000
def fp_XC (A : Nat → Prop) (sz : Nat) (XPost : Heap → String → Heap → Prop) : String → State → State → Prop := fun E st t => XPost st.heap E t.heap ∧ va_F (fA A sz) st t
/-- a contract: from every heap with Pre the method returns with Post, or throws an exception of the class E with XPost -/
def fp_MX (G : fp_G) (y : MethodName) (cc : ByteArray) (maxL : Nat) (ret : Option FieldType) (fr lo mc ms : Nat) (av : List Value) (Pre : Heap → Prop) (A : Nat → Prop) (Post : Heap → Option Value → Heap → Prop) (XPost : Heap → String → Heap → Prop) : Prop :=
  ∀ sz : Nat, vx_Met (g_l G) y (ws_ y cc maxL ret) ({ frames := fr, cells := mc, slots := ms, locals := lo }) (fun v U => v = av.toArray ∧ U.heap.size = sz ∧ fp_K G U ∧ fp_B G U.heap ∧ Pre U.heap) (fp_Q A sz Post) (fp_XC A sz XPost) mc ms (fA A sz)
/-- what a walk of a method that may throw owes -/
abbrev fp_QX (below : List Frame) (A : Nat → Prop) (Post : Heap → Option Value → Heap → Prop) (XPost : Heap → String → Heap → Prop) (args : Array Value) (s : State) (mc ms : Nat) : State → Prop := vx_MQ below (fp_Q A s.heap.size Post) (fp_XC A s.heap.size XPost) args s mc ms (fA A s.heap.size)
theorem fp_MX.intro {G : fp_G} {y : MethodName} {cc : ByteArray} {maxL : Nat} {ret : Option FieldType} {fr lo mc ms : Nat} {av : List Value} {Pre : Heap → Prop} {A : Nat → Prop} {Post : Heap → Option Value → Heap → Prop} {XPost : Heap → String → Heap → Prop}
    (hy : plainName y.cls = true) (hlen : (lg_sl av).length ≤ maxL)
    (body : ∀ (p : Program) (e : Env) (s : State) (m : MethodId) (args : Array Value) (below : List Frame) (meth : Method) (c : Code) (R : Room) (Q : State → Prop) (ls : Array Slot),
      fp_C G p s m args c cc y.cls maxL → p.tables.exec = Jvm.exec → c.code = cc → meth.sig.returnType = ret → meth.locks = false → meth.name = y.name → fp_R R fr lo mc ms → Q = fp_QX below A Post XPost args s mc ms → (∀ x ∈ c.exceptionTable.toList, False) →
      fp_B G s.heap → Pre s.heap → lv_has ls maxL (lv_args 0 av) →
      W p (g_l G) e R s m args below meth c s.heap [] 0 0 Q (F0 m 0 ls [])) : fp_MX G y cc maxL ret fr lo mc ms av Pre A Post XPost := by
  intro sz
  refine vx_ofW (cc := cc) (maxL := maxL) (ret := ret) hy rfl ?_
  intro p e s m args below meth c s₁ B hml hT hv
  obtain ⟨rfl, hsz, hK, hB, hP⟩ := hv
  subst hsz
  have hts := atoms_spec (ws := ws_ y cc maxL ret) B.pre
  rw [lg_entry_eq]
  exact body p e s m av.toArray below meth c _ _ _ ⟨B.exec, B.bytes, hml, findClass_of_methodNamed B.named, fun w h => hts w (List.mem_cons_of_mem _ h), hK⟩ B.exec B.bytes B.returns B.notSynchronized (name_of_methodNamed B.named B.method).1 ⟨rfl, rfl, rfl, rfl⟩ rfl hT hB hP (lv_entry av hlen)
section FPX
variable {G : fp_G} {p : Program} {e : Env} {R : Room} {s : State} {m : MethodId} {args : Array Value} {below : List Frame} {meth : Method} {c : Code} {H : Heap} {locs : List Loc} {cells slots : Nat} {Q : State → Prop}
variable {cc : ByteArray} {pc nL : Nat} {ls : Array Slot} {rest : List Value} {own : String} {A0 : Nat → Prop} {mc0 ms0 : Nat} {Post0 : Heap → Option Value → Heap → Prop} {XPost0 : Heap → String → Heap → Prop} {H0 : Heap}
theorem x_iret {v : Int32} (hx : p.tables.exec = Jvm.exec) (hb : c.code = cc) (hr : meth.sig.returnType = some .int) (hlk : meth.locks = false) (hQ : Q = fp_QX below A0 Post0 XPost0 args s mc0 ms0) (hS : va_S (fA A0 s.heap.size) s.heap H locs) (hc : cells ≤ mc0) (hs : slots ≤ ms0) (hd : decode cc pc = .ok (.ireturn, 1)) (hp : Post0 s.heap (some (.int v)) H) : W p (g_l G) e R s m args below meth c H locs cells slots Q (F0 m pc ls [.int v]) := by
  subst hQ
  exact vx_ret (r_iret hx hb hr hlk rfl hS hc hs hd hp)
theorem x_zret {v : Int32} {ty : FieldType} (hx : p.tables.exec = Jvm.exec) (hb : c.code = cc) (hr : meth.sig.returnType = some ty) (hlk : meth.locks = false) (hQ : Q = fp_QX below A0 Post0 XPost0 args s mc0 ms0) (hS : va_S (fA A0 s.heap.size) s.heap H locs) (hc : cells ≤ mc0) (hs : slots ≤ ms0) (hd : decode cc pc = .ok (.ireturn, 1)) (hn : narrow ty (.int v) = .int v) (hp : Post0 s.heap (some (.int v)) H) : W p (g_l G) e R s m args below meth c H locs cells slots Q (F0 m pc ls [.int v]) := by
  subst hQ
  exact vx_ret (r_zret hx hb hr hlk rfl hS hc hs hd hn hp)
theorem x_vret (hx : p.tables.exec = Jvm.exec) (hb : c.code = cc) (hr : meth.sig.returnType = none) (hlk : meth.locks = false) (hQ : Q = fp_QX below A0 Post0 XPost0 args s mc0 ms0) (hS : va_S (fA A0 s.heap.size) s.heap H locs) (hc : cells ≤ mc0) (hs : slots ≤ ms0) (hd : decode cc pc = .ok (.return_, 1)) (hp : Post0 s.heap none H) : W p (g_l G) e R s m args below meth c H locs cells slots Q (F0 m pc ls []) := by
  subst hQ
  exact vx_ret (r_vret hx hb hr hlk rfl hS hc hs hd hp)
theorem x_aret {v : Value} {rt : FieldType} (hx : p.tables.exec = Jvm.exec) (hb : c.code = cc) (hr : meth.sig.returnType = some rt) (hlk : meth.locks = false) (hQ : Q = fp_QX below A0 Post0 XPost0 args s mc0 ms0) (hS : va_S (fA A0 s.heap.size) s.heap H locs) (hc : cells ≤ mc0) (hs : slots ≤ ms0) (hd : decode cc pc = .ok (.areturn, 1)) (hrt : (∃ n, rt = .object n) ∨ ∃ t, rt = .array t) (hv : v = .null ∨ ∃ a, v = .ref a) (hp : Post0 s.heap (some v) H) : W p (g_l G) e R s m args below meth c H locs cells slots Q (F0 m pc ls [v]) := by
  subst hQ
  exact vx_ret (r_aret hx hb hr hlk rfl hS hc hs hd hrt hv hp)
/-- an exception that this method doesn't catch -/
theorem x_out {E : String} {ce : Cell} {q : Addr} (hT : ∀ x ∈ c.exceptionTable.toList, False) (hlk : meth.locks = false) (hQ : Q = fp_QX below A0 Post0 XPost0 args s mc0 ms0) (hS : va_S (fA A0 s.heap.size) s.heap H locs) (hc : cells ≤ mc0) (hs : slots ≤ ms0) (hcell : H[q]? = some ce) (hv : ce.vm = .none) (hcl : s.vm.findClass E = some ce.cls) (hp : XPost0 s.heap E H) : vx_W p (g_l G) e R s m args below meth c H locs cells slots Q (F0 m pc ls rest) q := by
  subst hQ
  exact vx_out (E := E) (ce := ce) (fun x h => (hT x h).elim) hlk hcell hv hcl (fun t ht _ => ⟨by rw [ht]; exact hp, hS.F ht⟩) hS.2.2 hc hs
/-- behind a call that may throw -/
theorem x_after {A : Nat → Prop} {Post : Heap → Option Value → Heap → Prop} {XPost : Heap → String → Heap → Prop} {mc ms cells1 slots1 : Nat} {st0 : List Value} {a : Array Value} (ec : cells + mc = cells1) (es : slots + ms = slots1) (hr : vx_Run p (g_l G) e R s m args below meth c H locs cells slots mc ms (F0 m pc ls st0) rest (fp_Q A H.size Post a) (fp_XC A H.size XPost) (fA A H.size)) (hS : va_S (fA A0 s.heap.size) s.heap H locs) (hA : ∀ q, A q → fA A0 s.heap.size q)
    (kk : ∀ (v : Option Value) (H1 : Heap) (locs1 : List Loc), Post H v H1 → H.size ≤ H1.size → (∀ q : Nat, q < H.size → ¬ A q → H1[q]? = H[q]?) → va_S (fA A0 s.heap.size) s.heap H1 locs1 → W p (g_l G) e R s m args below meth c H1 locs1 cells1 slots1 Q (F0 m (pc + 3) ls (v.toList ++ rest)))
    (kx : ∀ (E : String) (q : Addr) (ce : Cell) (H1 : Heap) (locs1 : List Loc), XPost H E H1 → H.size ≤ H1.size → (∀ q : Nat, q < H.size → ¬ A q → H1[q]? = H[q]?) → va_S (fA A0 s.heap.size) s.heap H1 locs1 → H1[q]? = some ce → ce.vm = .none → s.vm.findClass E = some ce.cls → vx_W p (g_l G) e R s m args below meth c H1 locs1 cells1 slots1 Q (F0 m pc ls rest) q) : W p (g_l G) e R s m args below meth c H locs cells slots Q (F0 m pc ls st0) := by
  subst ec es
  intro T hT X
  have hA2 : ∀ q, fA A H.size q → fA A0 s.heap.size q := fun q h => by
    rcases h with h | h
    · exact hA q h
    · exact Or.inr (Nat.le_trans hS.1 h)
  rcases hr T hT X with ⟨v, st₀, t, T', L, h0, X', hL, e1, e2, ⟨v2, hv, hp, hz, hk⟩, st⟩ | ⟨q, st₀, t, T', L, E, ce, h0, X', hL, e1, e2, ⟨hp, hz, hk⟩, h5, h6, h7, st⟩
  · cases hv
    rw [h0] at hz hk hp
    obtain ⟨t2, a1, b1⟩ := kk v T'.heap (locs ++ L) (by rw [e1]; exact hp) (by rw [e1]; exact hz) (fun q h1 h2 => by rw [e1]; exact hk q h1 (fun h => by rcases h with h | h; exact h2 h; omega))
      ⟨Nat.le_trans hS.1 (by rw [e1]; exact hz), fun q h1 h2 => by rw [e1, hk q (Nat.lt_of_lt_of_le h1 hS.1) (fun z => h2 (hA2 q z))]; exact hS.2.1 q h1 h2, fun q hq => by
        rcases List.mem_append.mp hq with h | h
        · exact hS.2.2 q h
        · exact hA2 _ (hL q h)⟩ T' rfl X'
    exact ⟨t2, st t2 a1, b1⟩
  · rw [h0] at hz hk hp
    obtain ⟨t2, a1, b1⟩ := kx E q ce T'.heap (locs ++ L) (by rw [e1]; exact hp) (by rw [e1]; exact hz) (fun q h1 h2 => by rw [e1]; exact hk q h1 (fun h => by rcases h with h | h; exact h2 h; omega))
      ⟨Nat.le_trans hS.1 (by rw [e1]; exact hz), fun q h1 h2 => by rw [e1, hk q (Nat.lt_of_lt_of_le h1 hS.1) (fun z => h2 (hA2 q z))]; exact hS.2.1 q h1 h2, fun q hq => by
        rcases List.mem_append.mp hq with h | h
        · exact hS.2.2 q h
        · exact hA2 _ (hL q h)⟩ (by rw [e1]; exact h5) h6 h7 T' rfl X'
    exact ⟨t2, st.trans a1, b1⟩
theorem x_callS {y : MethodName} {bytes : ByteArray} {maxL : Nat} {ret : Option FieldType} {fr lo mc ms fr0 lo0 mc0 ms0 cells1 slots1 index : Nat} {As st0 : List Value} {A : Nat → Prop} {Pre : Heap → Prop} {Post : Heap → Option Value → Heap → Prop} {XPost : Heap → String → Heap → Prop}
    (X : fp_C G p s m args c cc own nL) (hR : fp_R R fr0 lo0 mc0 ms0) (hM : fp_MX G y bytes maxL ret fr lo mc ms As Pre A Post XPost) (w1 : Cond.methodLink own index y ∈ lw_all) (w2 : Cond.static y ∈ lw_all) (w4 : Cond.initialized y.cls ∈ lw_all) (w5 : Cond.code y bytes maxL ret ∈ lw_all)
    (hd : y.cls ≠ "java/lang/invoke/MethodHandle" ∧ y.cls ≠ "java/lang/invoke/VarHandle" ∧ (parseMethodDescriptor y.desc).map (fun d => d.parameters.length) = some As.length) (hRR : fr + 1 ≤ fr0 ∧ 8 + (maxL + 11) + lo ≤ lo0) (ec : cells + mc = cells1) (es : slots + ms = slots1) (hcells : cells1 ≤ mc0) (hslots : slots1 ≤ ms0) (hst : st0 = As.reverse ++ rest) (hrest : (rest.map fun v => v.category).sum ≤ 8) (hls : ls.size = nL) (hdg : decode cc pc = .ok (.invokestatic index, 3))
    (hB : fp_B G H) (hP : Pre H) (hS : va_S (fA A0 s.heap.size) s.heap H locs) (hA : ∀ q, A q → fA A0 s.heap.size q)
    (kk : ∀ (v : Option Value) (H1 : Heap) (locs1 : List Loc), Post H v H1 → H.size ≤ H1.size → (∀ q : Nat, q < H.size → ¬ A q → H1[q]? = H[q]?) → va_S (fA A0 s.heap.size) s.heap H1 locs1 → W p (g_l G) e R s m args below meth c H1 locs1 cells1 slots1 Q (F0 m (pc + 3) ls (v.toList ++ rest)))
    (kx : ∀ (E : String) (q : Addr) (ce : Cell) (H1 : Heap) (locs1 : List Loc), XPost H E H1 → H.size ≤ H1.size → (∀ q : Nat, q < H.size → ¬ A q → H1[q]? = H[q]?) → va_S (fA A0 s.heap.size) s.heap H1 locs1 → H1[q]? = some ce → ce.vm = .none → s.vm.findClass E = some ce.cls → vx_W p (g_l G) e R s m args below meth c H1 locs1 cells1 slots1 Q (F0 m pc ls rest) q) : W p (g_l G) e R s m args below meth c H locs cells slots Q (F0 m pc ls st0) := by
  obtain ⟨hx, hb, hml, hown, hts, hK⟩ := X
  obtain ⟨rfl, rfl, rfl, rfl⟩ := hR
  refine x_after ec es (vx_runS (As := As) ⟨hx, hb, hml, hown, hts⟩ (hM H.size) (va_cwS As.length hts (lw_S w1 w2 w4 w5) rfl rfl rfl hd hRR) ⟨fp_blind, fun U hU hW => ⟨rfl, by rw [hU], hK.moved hW, by rw [hU]; exact hB, by rw [hU]; exact hP⟩⟩ rfl rfl hls hst (lv_room hrest) hdg ⟨by rw [ec]; exact hcells, by rw [es]; exact hslots⟩) hS hA kk kx
theorem x_callV {y : MethodName} {bytes : ByteArray} {maxL : Nat} {ret : Option FieldType} {fr lo mc ms fr0 lo0 mc0 ms0 cells1 slots1 index : Nat} {C : String} {b : Nat} {As st0 : List Value} {A : Nat → Prop} {Pre : Heap → Prop} {Post : Heap → Option Value → Heap → Prop} {XPost : Heap → String → Heap → Prop} {ci : Nat} {fs : List Value} {T : u_T} {N : Nat}
    (X : fp_C G p s m args c cc own nL) (hR : fp_R R fr0 lo0 mc0 ms0) (hM : fp_MX G y bytes maxL ret fr lo mc ms (.ref b :: As) Pre A Post XPost) (w1 : Cond.methodLink own index y ∈ lw_all) (w2 : Cond.instanceMethod y ∈ lw_all) (w3 : Cond.selects C y y ∈ lw_all) (w4 : Cond.initialized C ∈ lw_all) (w5 : Cond.code y bytes maxL ret ∈ lw_all)
    (hd : y.cls = C ∧ y.cls ≠ "java/lang/invoke/MethodHandle" ∧ y.cls ≠ "java/lang/invoke/VarHandle" ∧ (parseMethodDescriptor y.desc).map (fun d => d.parameters.length) = some As.length) (hRR : fr + 1 ≤ fr0 ∧ 8 + (maxL + 11) + lo ≤ lo0) (ec : cells + mc = cells1) (es : slots + ms = slots1) (hcells : cells1 ≤ mc0) (hslots : slots1 ≤ ms0) (hat : fp_At G H b (eO ci fs)) (hc : fp_cl[ci]? = some (C, T, N)) (hst : st0 = As.reverse ++ .ref b :: rest) (hrest : (rest.map fun v => v.category).sum ≤ 8) (hls : ls.size = nL) (hdg : decode cc pc = .ok (.invokevirtual index, 3))
    (hB : fp_B G H) (hP : Pre H) (hS : va_S (fA A0 s.heap.size) s.heap H locs) (hA : ∀ q, A q → fA A0 s.heap.size q)
    (kk : ∀ (v : Option Value) (H1 : Heap) (locs1 : List Loc), Post H v H1 → H.size ≤ H1.size → (∀ q : Nat, q < H.size → ¬ A q → H1[q]? = H[q]?) → va_S (fA A0 s.heap.size) s.heap H1 locs1 → W p (g_l G) e R s m args below meth c H1 locs1 cells1 slots1 Q (F0 m (pc + 3) ls (v.toList ++ rest)))
    (kx : ∀ (E : String) (q : Addr) (ce : Cell) (H1 : Heap) (locs1 : List Loc), XPost H E H1 → H.size ≤ H1.size → (∀ q : Nat, q < H.size → ¬ A q → H1[q]? = H[q]?) → va_S (fA A0 s.heap.size) s.heap H1 locs1 → H1[q]? = some ce → ce.vm = .none → s.vm.findClass E = some ce.cls → vx_W p (g_l G) e R s m args below meth c H1 locs1 cells1 slots1 Q (F0 m pc ls rest) q) : W p (g_l G) e R s m args below meth c H locs cells slots Q (F0 m pc ls st0) := by
  obtain ⟨hx, hb, hml, hown, hts, hK⟩ := X
  obtain ⟨rfl, rfl, rfl, rfl⟩ := hR
  refine x_after ec es (vx_runV (As := As) (b := b) (C := C) ⟨hx, hb, hml, hown, hts⟩ (hM H.size) (cwV As.length hts (lw_V w1 w2 w3 w4 w5) rfl rfl rfl hd hRR) ⟨fp_blind, va_recv (q0 := 0) hK.va (fp_P1 hat) hc rfl, fun U hU hW => ⟨rfl, by rw [hU], hK.moved hW, by rw [hU]; exact hB, by rw [hU]; exact hP⟩⟩ rfl rfl hls hst (lv_room hrest) hdg ⟨by rw [ec]; exact hcells, by rw [es]; exact hslots⟩) hS hA kk kx
end FPX
