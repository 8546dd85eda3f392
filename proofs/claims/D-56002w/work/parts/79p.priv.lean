/-! A PRIVATE METHOD OF A CLASS ABOVE, CALLED THROUGH AN OBJECT -/
set_option maxRecDepth 100000
section FPPV
variable {G : fp_G} {p : Program} {e : Env} {R : Room} {s : State} {m : MethodId} {args : Array Value} {below : List Frame} {meth : Method} {c : Code} {H : Heap} {locs : List Loc} {cells slots : Nat} {Q : State → Prop}
variable {cc : ByteArray} {pc nL : Nat} {ls : Array Slot} {rest : List Value} {own : String} {A0 : Nat → Prop}
theorem r_callVP {y : MethodName} {bytes : ByteArray} {maxL : Nat} {ret : Option FieldType} {fr lo mc ms fr0 lo0 mc0 ms0 cells1 slots1 index : Nat} {C : String} {b : Nat} {As st0 : List Value} {A : Nat → Prop} {Pre : Heap → Prop} {Post : Heap → Option Value → Heap → Prop} {ci : Nat} {fs : List Value} {T0 : u_T} {N : Nat}
    (X : fp_C G p s m args c cc own nL) (hR : fp_R R fr0 lo0 mc0 ms0) (hM : fp_M G y bytes maxL ret fr lo mc ms (.ref b :: As) Pre A Post) (w1 : Cond.methodLink own index y ∈ lw_all) (w2 : Cond.instanceMethod y ∈ lw_all) (w3 : Cond.privateMethod y ∈ lw_tbl) (w6 : Cond.sameMethod y.cls y.cls y.name y.desc ∈ lw_all) (w4 : Cond.initialized y.cls ∈ lw_all) (w5 : Cond.code y bytes maxL ret ∈ lw_all)
    (hd : y.cls ≠ "java/lang/invoke/MethodHandle" ∧ y.cls ≠ "java/lang/invoke/VarHandle" ∧ (parseMethodDescriptor y.desc).map (fun d => d.parameters.length) = some As.length) (hRR : fr + 1 ≤ fr0 ∧ 8 + (maxL + 11) + lo ≤ lo0) (ec : cells + mc = cells1) (es : slots + ms = slots1) (hcells : cells1 ≤ mc0) (hslots : slots1 ≤ ms0) (hat : fp_At G H b (eO ci fs)) (hc : fp_cl[ci]? = some (C, T0, N)) (hst : st0 = As.reverse ++ .ref b :: rest) (hrest : (rest.map fun v => v.category).sum ≤ 8) (hls : ls.size = nL) (hdg : decode cc pc = .ok (.invokevirtual index, 3))
    (hB : fp_B G H) (hP : Pre H) (hS : va_S (fA A0 s.heap.size) s.heap H locs) (hA : ∀ q, A q → fA A0 s.heap.size q)
    (kk : ∀ (v : Option Value) (H1 : Heap) (locs1 : List Loc), Post H v H1 → H.size ≤ H1.size → (∀ q : Nat, q < H.size → ¬ A q → H1[q]? = H[q]?) → va_S (fA A0 s.heap.size) s.heap H1 locs1 → W p (g_l G) e R s m args below meth c H1 locs1 cells1 slots1 Q (F0 m (pc + 3) ls (v.toList ++ rest))) : W p (g_l G) e R s m args below meth c H locs cells slots Q (F0 m pc ls st0) := by
  obtain ⟨hx, hb, hml, hown, hts, hK⟩ := X
  obtain ⟨rfl, rfl, rfl, rfl⟩ := hR
  have hlen : ∀ sig, parseMethodDescriptor y.desc = some sig → As.length = sig.parameters.length := fun sig h => by
    have h2 := hd.2.2
    rw [h] at h2
    exact (Option.some.inj h2).symm
  have hws : ∀ w ∈ ws_ y bytes maxL ret, ∀ (a' : Array Value) (U : State), s.WarmedH U.vm → w.before a' U = true := pay_in hts (lw_meth w5)
  have hBk : Back (g_l G) R p e below s args y 3 8 (PreOf R mc ms (fun v U => v = (Value.ref b :: As).toArray ∧ U.heap.size = H.size ∧ fp_K G U ∧ fp_B G U.heap ∧ Pre U.heap)) (PostOf (fp_Q A H.size Post) mc ms (fA A H.size)) := back_of (bytes := bytes) (maxL := maxL) (ret := ret) (hM H.size) fp_blind rfl rfl hRR.1 hRR.2 hws List.mem_cons_self (pay_in hts (lw_good (ws := [Cond.initialized y.cls]) (fun w hw => by rw [List.mem_singleton.mp hw]; exact w4)) _ List.mem_cons_self)
  obtain ⟨cellB, hcB, hoB, hclB⟩ := va_recv (q0 := 0) hK.va (fp_P1 hat) hc rfl
  obtain ⟨mk, methM, hnamed, hmethM, hstM, habM⟩ := Cond.instanceMethod_spec (hts _ w2)
  obtain ⟨methM', cM, hmethM', -, -, -, -, -, -, hsigM⟩ := Cond.code_spec hnamed (hts _ w5)
  cases hmethM.symm.trans hmethM'
  obtain ⟨cn, ck, r1, hcn, hck, hni, hf, hn1⟩ := Cond.sameMethod_found (hts _ w6)
  cases hnamed.symm.trans hn1
  have hcm : cn = mk.cls := Option.some.inj (hcn.symm.trans (findClass_of_methodNamed hnamed))
  subst hcm
  have hA0 := hK.2.alike
  have hng : (g_s G).methodNamed? y = some mk := by
    have := State.methodNamed?_setVm (s := g_s G) hA0 y
    rw [show (g_s G).setVm s.vm = ((g_s G).setVm s.vm) from rfl] at this
    rw [← this]
    exact hnamed
  have hmg : (g_s G).vm.method? mk = some methM := by rw [← hA0.method?]; exact hmethM
  have hpriv : methM.isPrivate = true := Cond.privateMethod_at (hK.1.1 _ w3) mk methM hng hmg
  have hselP : selectMethod e.platform s.vm cellB.cls mk = .method mk := selectMethod_private hmethM hpriv
  refine r_after (a := (Value.ref b :: As).toArray) ec es (fun T hT X => ?_) hS hA kk
  subst hT
  obtain ⟨vm₁, X₁, hstep₁⟩ := X.invokevirtual hx hown (hts _ w1) hnamed hmethM hstM hck hni ⟨hd.1, hd.2.1⟩ (a := b) (cell := cellB) hcB
    (fun z h => by rw [h] at hoB; cases hoB) hselP hmethM habM hck hni (g := F0 m pc ls st0) rfl (argsL := As) (rest := rest) (hlen _ hsigM) hst (by rw [hb]; exact hdg)
  obtain ⟨v, B, X', ⟨g', mk', t, L, e1, e2, hq, h1, hL9, h2, h3⟩, hsteps⟩ := hBk m meth c ⟨T.setVm vm₁, locs, cells, slots⟩ { F0 m pc ls st0 with stack := rest } (.invokevirtual index) mk (Value.ref b :: As).toArray X₁ rfl (hls.trans hml.symm) (by rw [hb]; exact hdg) (lv_room hrest) (X₁.named hnamed)
    ⟨by show cells + mc ≤ _; omega, by show slots + ms ≤ _; omega, rfl, rfl, hK.moved X₁.warmed, hB, hP⟩
  obtain ⟨U', l2, c2, s2⟩ := B
  dsimp only [Pt.U, Pt.locs, Pt.cells, Pt.slots] at X' e1 e2 h1 h2 h3 hq hsteps
  subst h1; subst h2; subst h3
  exact ⟨v, (T.setVm vm₁).calling g' mk' (Value.ref b :: As).toArray, t, U', L, rfl, X', hL9, e1, e2, hq, fun tg h => hstep₁ tg (fun acts => by rw [doInvoke_state]; exact hsteps.trans h)⟩
end FPPV
