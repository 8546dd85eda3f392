/-! ROWS over single cells, on: nest mates' fields, overriding and inherited methods -/
set_option maxRecDepth 100000
theorem fp_K.linkF {G : fp_G} {U : State} {a : String} {i : Nat} {b n d h : String} {args : Array Value} (hK : fp_K G U) (hw : Cond.fieldLinkNest a i b n d h ∈ lw_tbl) : (Cond.fieldLinkNest a i b n d h).before args U = true := va_Nw.use rfl (va_Nw.warmF hK.2 (va_Nw.of rfl (hK.1.1 _ hw)))
section FPN
variable {G : fp_G} {p : Program} {e : Env} {R : Room} {s : State} {m : MethodId} {args : Array Value} {below : List Frame} {meth : Method} {c : Code} {H : Heap} {locs : List Loc} {cells slots : Nat} {Q : State → Prop}
variable {cc : ByteArray} {pc nL : Nat} {ls : Array Slot} {rest : List Value} {own : String} {A0 : Nat → Prop} {H0 : Heap}
theorem r_getN {ref C host : String} {T : u_T} {N ci index : Nat} {a : Nat} {fs : List Value} {v : Value} (X : fp_C G p s m args c cc own nL) (hat : fp_At G H a (eO ci fs)) (hc : fp_cl[ci]? = some (C, T, N)) (hin : ∀ w ∈ u_ws C T N, w ∈ lw_all) (k : Nat) (hk : k < N) (hlink : Cond.fieldLinkNest own index ref (T k).2.1 (T k).2.2.1 host ∈ lw_tbl) (hsame : ref = (T k).1 ∨ Cond.sameField ref (T k).1 (T k).2.1 (T k).2.2.1 ∈ lw_all) (hv : fs[k]? = some v) (hd : decode cc pc = .ok (.getfield index, 3))
    (kk : W p (g_l G) e R s m args below meth c H locs cells slots Q (F0 m (pc + 3) ls (v :: rest))) : W p (g_l G) e R s m args below meth c H locs cells slots Q (F0 m pc ls (.ref a :: rest)) := by
  obtain ⟨hx, hb, -, hown, hts, hK⟩ := X
  refine va_getN hx hb hts hin hown hK.va (fp_P1 hat) 0 rfl hc k hk (hK.linkF hlink) ?_ hv hd kk
  rcases hsame with h | h
  · subst h
    exact fun x h => h
  · exact fun x ho => u_same (hts _ h) x ho
/-- what a reference names is there -/
def fp_dcl (x : MethodName) : Prop := Cond.declares x ∈ lw_tbl ∨ (Cond.instanceMethod x ∈ lw_all ∧ ∃ b0 m0 r0, Cond.code x b0 m0 r0 ∈ lw_all)
theorem fp_dcl.at {x : MethodName} {U : State} (h : fp_dcl x) (hK : fp_K G U) (hts : ∀ w ∈ lw_all, w.before args U = true) : va_Decl U x := by
  rcases h with h | ⟨h1, b0, m0, r0, h2⟩
  · exact va_Decl.abs (va_Nw.warmD hK.2 (va_Nw.of rfl (hK.1.1 _ h)))
  · exact va_Decl.of (hts _ h1) (hts _ h2)
theorem r_callU {x y : MethodName} {bytes : ByteArray} {maxL : Nat} {ret : Option FieldType} {fr lo mc ms fr0 lo0 mc0 ms0 cells1 slots1 index : Nat} {C owner : String} {b : Nat} {As st0 : List Value} {A : Nat → Prop} {Pre : Heap → Prop} {Post : Heap → Option Value → Heap → Prop} {ci : Nat} {fs : List Value} {T : u_T} {N : Nat}
    (X : fp_C G p s m args c cc own nL) (hR : fp_R R fr0 lo0 mc0 ms0) (hM : fp_M G y bytes maxL ret fr lo mc ms (.ref b :: As) Pre A Post) (w1 : Cond.methodLink own index x ∈ lw_all) (w6 : Cond.sameMethod x.cls owner x.name x.desc ∈ lw_all) (w7 : fp_dcl ⟨owner, x.name, x.desc⟩) (w3 : Cond.selects C x y ∈ lw_all) (w2 : Cond.instanceMethod y ∈ lw_all) (w4 : Cond.initialized y.cls ∈ lw_all) (w5 : Cond.code y bytes maxL ret ∈ lw_all)
    (hd : owner ≠ "java/lang/invoke/MethodHandle" ∧ owner ≠ "java/lang/invoke/VarHandle" ∧ (parseMethodDescriptor x.desc).map (fun d => d.parameters.length) = some As.length) (hRR : fr + 1 ≤ fr0 ∧ 8 + (maxL + 11) + lo ≤ lo0) (ec : cells + mc = cells1) (es : slots + ms = slots1) (hcells : cells1 ≤ mc0) (hslots : slots1 ≤ ms0) (hat : fp_At G H b (eO ci fs)) (hc : fp_cl[ci]? = some (C, T, N)) (hst : st0 = As.reverse ++ .ref b :: rest) (hrest : (rest.map fun v => v.category).sum ≤ 8) (hls : ls.size = nL) (hdg : decode cc pc = .ok (.invokevirtual index, 3))
    (hB : fp_B G H) (hP : Pre H) (hS : va_S (fA A0 s.heap.size) s.heap H locs) (hA : ∀ q, A q → fA A0 s.heap.size q)
    (kk : ∀ (v : Option Value) (H1 : Heap) (locs1 : List Loc), Post H v H1 → H.size ≤ H1.size → (∀ q : Nat, q < H.size → ¬ A q → H1[q]? = H[q]?) → va_S (fA A0 s.heap.size) s.heap H1 locs1 → W p (g_l G) e R s m args below meth c H1 locs1 cells1 slots1 Q (F0 m (pc + 3) ls (v.toList ++ rest))) : W p (g_l G) e R s m args below meth c H locs cells slots Q (F0 m pc ls st0) := by
  obtain ⟨hx, hb, hml, hown, hts, hK⟩ := X
  obtain ⟨rfl, rfl, rfl, rfl⟩ := hR
  have hlen : ∀ sig, parseMethodDescriptor x.desc = some sig → As.length = sig.parameters.length := fun sig h => by
    have h2 := hd.2.2
    rw [h] at h2
    exact (Option.some.inj h2).symm
  have cw : va_CU R s args own C owner index x y bytes maxL ret (ws_ y bytes maxL ret) { frames := fr, cells := mc, slots := ms, locals := lo } mc ms As.length := ⟨⟨rfl, rfl, hRR.1, hRR.2, pay_in hts (lw_meth w5), List.mem_cons_self⟩, hts _ w5, hts _ w4, ⟨hd.1, hd.2.1⟩, hlen, hts _ w1, hts _ w6, w7.at hK hts, hts _ w3, hts _ w2⟩
  refine r_after ec es (va_runU (As := As) (b := b) (C := C) ⟨hx, hb, hml, hown, hts⟩ (hM H.size) cw ⟨fp_blind, va_recv (q0 := 0) hK.va (fp_P1 hat) hc rfl, fun U hU hW => ⟨rfl, by rw [hU], hK.moved hW, by rw [hU]; exact hB, by rw [hU]; exact hP⟩⟩ rfl rfl hls hst (lv_room hrest) hdg ⟨by rw [ec]; exact hcells, by rw [es]; exact hslots⟩) hS hA kk
/-- super.f(..) -/
theorem r_callP {y : MethodName} {bytes : ByteArray} {maxL : Nat} {ret : Option FieldType} {fr lo mc ms fr0 lo0 mc0 ms0 cells1 slots1 index : Nat} {C : String} {b : Nat} {As st0 : List Value} {A : Nat → Prop} {Pre : Heap → Prop} {Post : Heap → Option Value → Heap → Prop} {ci : Nat} {fs : List Value} {T : u_T} {N : Nat}
    (X : fp_C G p s m args c cc own nL) (hR : fp_R R fr0 lo0 mc0 ms0) (hM : fp_M G y bytes maxL ret fr lo mc ms (.ref b :: As) Pre A Post) (w1 : Cond.methodLink own index y ∈ lw_all) (w6 : Cond.sameMethod y.cls y.cls y.name y.desc ∈ lw_all) (w7 : Cond.superclass own y.cls ∈ lw_all) (w2 : Cond.instanceMethod y ∈ lw_all) (w4 : Cond.initialized y.cls ∈ lw_all) (w5 : Cond.code y bytes maxL ret ∈ lw_all)
    (hd : y.name ≠ "<init>" ∧ (parseMethodDescriptor y.desc).map (fun d => d.parameters.length) = some As.length) (hRR : fr + 1 ≤ fr0 ∧ 8 + (maxL + 11) + lo ≤ lo0) (ec : cells + mc = cells1) (es : slots + ms = slots1) (hcells : cells1 ≤ mc0) (hslots : slots1 ≤ ms0) (hat : fp_At G H b (eO ci fs)) (hc : fp_cl[ci]? = some (C, T, N)) (hst : st0 = As.reverse ++ .ref b :: rest) (hrest : (rest.map fun v => v.category).sum ≤ 8) (hls : ls.size = nL) (hdg : decode cc pc = .ok (.invokespecial index, 3))
    (hB : fp_B G H) (hP : Pre H) (hS : va_S (fA A0 s.heap.size) s.heap H locs) (hA : ∀ q, A q → fA A0 s.heap.size q)
    (kk : ∀ (v : Option Value) (H1 : Heap) (locs1 : List Loc), Post H v H1 → H.size ≤ H1.size → (∀ q : Nat, q < H.size → ¬ A q → H1[q]? = H[q]?) → va_S (fA A0 s.heap.size) s.heap H1 locs1 → W p (g_l G) e R s m args below meth c H1 locs1 cells1 slots1 Q (F0 m (pc + 3) ls (v.toList ++ rest))) : W p (g_l G) e R s m args below meth c H locs cells slots Q (F0 m pc ls st0) := by
  obtain ⟨hx, hb, hml, hown, hts, hK⟩ := X
  obtain ⟨rfl, rfl, rfl, rfl⟩ := hR
  have hlen : ∀ sig, parseMethodDescriptor y.desc = some sig → As.length = sig.parameters.length := fun sig h => by
    have h2 := hd.2
    rw [h] at h2
    exact (Option.some.inj h2).symm
  have cw : va_CS R s args own index y bytes maxL ret (ws_ y bytes maxL ret) { frames := fr, cells := mc, slots := ms, locals := lo } mc ms As.length := ⟨⟨rfl, rfl, hRR.1, hRR.2, pay_in hts (lw_meth w5), List.mem_cons_self⟩, hts _ w1, hts _ w6, hts _ w7, hts _ w2, hts _ w4, hts _ w5, hd.1, hlen⟩
  refine r_after ec es (va_runSU (As := As) (b := b) (C := C) (hK.va.1 ci _ hc).2 ⟨hx, hb, hml, hown, hts⟩ (hM H.size) cw ⟨fp_blind, va_recv (q0 := 0) hK.va (fp_P1 hat) hc rfl, fun U hU hW => ⟨rfl, by rw [hU], hK.moved hW, by rw [hU]; exact hB, by rw [hU]; exact hP⟩⟩ rfl rfl hls hst (lv_room hrest) hdg ⟨by rw [ec]; exact hcells, by rw [es]; exact hslots⟩) hS hA kk
end FPN
theorem fp_K.linkM {G : fp_G} {U : State} {a : String} {i : Nat} {x : MethodName} {h : String} {args : Array Value} (hK : fp_K G U) (hw : Cond.methodLinkNest a i x h ∈ lw_tbl) : (Cond.methodLinkNest a i x h).before args U = true := va_Nw.use rfl (va_Nw.warmM hK.2 (va_Nw.of rfl (hK.1.1 _ hw)))
section FPM2
variable {G : fp_G} {p : Program} {e : Env} {R : Room} {s : State} {m : MethodId} {args : Array Value} {below : List Frame} {meth : Method} {c : Code} {H : Heap} {locs : List Loc} {cells slots : Nat} {Q : State → Prop}
variable {cc : ByteArray} {pc nL : Nat} {ls : Array Slot} {rest : List Value} {own : String} {A0 : Nat → Prop} {H0 : Heap}
/-- a nest mate's static method -/
theorem r_callSN {y : MethodName} {host : String} {bytes : ByteArray} {maxL : Nat} {ret : Option FieldType} {fr lo mc ms fr0 lo0 mc0 ms0 cells1 slots1 index : Nat} {As st0 : List Value} {A : Nat → Prop} {Pre : Heap → Prop} {Post : Heap → Option Value → Heap → Prop}
    (X : fp_C G p s m args c cc own nL) (hR : fp_R R fr0 lo0 mc0 ms0) (hM : fp_M G y bytes maxL ret fr lo mc ms As Pre A Post) (w1 : Cond.methodLinkNest own index y host ∈ lw_tbl) (w2 : Cond.static y ∈ lw_all) (w4 : Cond.initialized y.cls ∈ lw_all) (w5 : Cond.code y bytes maxL ret ∈ lw_all)
    (hd : y.cls ≠ "java/lang/invoke/MethodHandle" ∧ y.cls ≠ "java/lang/invoke/VarHandle" ∧ (parseMethodDescriptor y.desc).map (fun d => d.parameters.length) = some As.length) (hRR : fr + 1 ≤ fr0 ∧ 8 + (maxL + 11) + lo ≤ lo0) (ec : cells + mc = cells1) (es : slots + ms = slots1) (hcells : cells1 ≤ mc0) (hslots : slots1 ≤ ms0) (hst : st0 = As.reverse ++ rest) (hrest : (rest.map fun v => v.category).sum ≤ 8) (hls : ls.size = nL) (hdg : decode cc pc = .ok (.invokestatic index, 3))
    (hB : fp_B G H) (hP : Pre H) (hS : va_S (fA A0 s.heap.size) s.heap H locs) (hA : ∀ q, A q → fA A0 s.heap.size q)
    (kk : ∀ (v : Option Value) (H1 : Heap) (locs1 : List Loc), Post H v H1 → H.size ≤ H1.size → (∀ q : Nat, q < H.size → ¬ A q → H1[q]? = H[q]?) → va_S (fA A0 s.heap.size) s.heap H1 locs1 → W p (g_l G) e R s m args below meth c H1 locs1 cells1 slots1 Q (F0 m (pc + 3) ls (v.toList ++ rest))) : W p (g_l G) e R s m args below meth c H locs cells slots Q (F0 m pc ls st0) := by
  obtain ⟨hx, hb, hml, hown, hts, hK⟩ := X
  obtain ⟨rfl, rfl, rfl, rfl⟩ := hR
  have hlen : ∀ sig, parseMethodDescriptor y.desc = some sig → As.length = sig.parameters.length := fun sig h => by
    have h2 := hd.2.2
    rw [h] at h2
    exact (Option.some.inj h2).symm
  have cw : va_CN R s args own index y host bytes maxL ret (ws_ y bytes maxL ret) { frames := fr, cells := mc, slots := ms, locals := lo } mc ms As.length ∧ (Cond.static y).before args s = true ∧ True := ⟨⟨⟨rfl, rfl, hRR.1, hRR.2, pay_in hts (lw_meth w5), List.mem_cons_self⟩, hts _ w5, hts _ w4, ⟨hd.1, hd.2.1⟩, hlen, hK.linkM w1⟩, hts _ w2, trivial⟩
  refine r_after ec es (va_runSN (As := As) ⟨hx, hb, hml, hown, hts⟩ (hM H.size) cw ⟨fp_blind, fun U hU hW => ⟨rfl, by rw [hU], hK.moved hW, by rw [hU]; exact hB, by rw [hU]; exact hP⟩⟩ rfl rfl hls hst (lv_room hrest) hdg ⟨by rw [ec]; exact hcells, by rw [es]; exact hslots⟩) hS hA kk
end FPM2
