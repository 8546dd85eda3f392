/-! BASE: the launch and the law's entry state as one value G; what a method's entry knows; contracts; rows over single cells -/
set_option maxRecDepth 100000
/-- the launch, the law's entry state, its argument; class numbers and field slots; the array classes -/
abbrev fp_G : Type := (Launch × State × Nat) × va_G × (Nat → ClassId)
abbrev g_l (G : fp_G) : Launch := G.1.1
abbrev g_s (G : fp_G) : State := G.1.2.1
abbrev g_D (G : fp_G) : va_G := G.2.1
abbrev g_A (G : fp_G) : Nat → ClassId := G.2.2
def fp_cl : List vw_C := [(RX4, TX4, 23), (RX1, TX1, 8), (RX2, TX2, 4), (RX6, TX6, 5), (RX7, TX7, 5), (RX8, TX8, 6), (RX9, TX9, 5), (RX10, TX10, 3), (RJ2, TJ2, 3), (RJ13, TJ13, 4), (RJ4, TJ4, 3), (RJ6, TJ6, 4), (RJ7, TJ7, 4)]
def fp_tys (cA : Nat → ClassId) : List (ClassId × FieldType) := [(cA 0, .int), (cA 1, .boolean), (cA 2, .byte), (cA 3, .long), (cA 4, .object "java/lang/Object"), (cA 5, .object "FortPlanner$Zone"), (cA 6, .object "java/lang/String")]
/-- what is known of the law's entry -/
def fp_S (G : fp_G) : Prop := (∀ w ∈ lw_tbl, w.before #[Value.ref G.1.2.2] (g_s G) = true) ∧ (Jvm.Cond.and given_1 narrow_1).before #[Value.ref G.1.2.2] (g_s G) = true ∧ (g_l G).stackTraces = false ∧ va_K (g_D G) fp_cl (fp_tys (g_A G)) (g_s G)
/-- a state of the run: its tables are those of the law's entry, warmer -/
def fp_K (G : fp_G) (U : State) : Prop := fp_S G ∧ (g_s G).WarmedH U.vm
theorem fp_K.moved {G : fp_G} {u U : State} (hW : u.WarmedH U.vm) (h : fp_K G u) : fp_K G U := ⟨h.1, State.WarmedH.trans h.2 hW⟩
theorem fp_K.va {G : fp_G} {U : State} (h : fp_K G U) : va_K (g_D G) fp_cl (fp_tys (g_A G)) U := h.1.2.2.2.moved h.2.alike
/-- what was there at the law's entry is there still -/
def fp_B (G : fp_G) (H : Heap) : Prop := (g_s G).heap.size ≤ H.size ∧ ∀ q : Nat, q < (g_s G).heap.size → H[q]? = (g_s G).heap[q]?
/-- the cell at an address -/
abbrev fp_At (G : fp_G) (H : Heap) (a : Nat) (e : va_E) : Prop := va_at (g_D G) fp_cl (a, e) H
abbrev eO (ci : Nat) (fs : List Value) : va_E := .inr (ci, fs)
abbrev eI (G : fp_G) (n : Nat) (f : Nat → Int32) : va_E := .inl (g_A G 0, n, .inl f)
abbrev eZ (G : fp_G) (n : Nat) (f : Nat → Int32) : va_E := .inl (g_A G 1, n, .inl f)
abbrev eB (G : fp_G) (n : Nat) (f : Nat → Int32) : va_E := .inl (g_A G 2, n, .inl f)
abbrev eJ (G : fp_G) (n : Nat) (f : Nat → Int64) : va_E := .inl (g_A G 3, n, .inr (.inl f))
abbrev eQ (G : fp_G) (t n : Nat) (f : Nat → Option Nat) : va_E := .inl (g_A G t, n, .inr (.inr (.inr (.inr f))))
theorem fp_At.kept {G : fp_G} {H H1 : Heap} {a : Nat} {e : va_E} (h : fp_At G H a e) (hq : H1[a]? = H[a]?) : fp_At G H1 a e := va_at.kept (q := (a, e)) h hq
theorem fp_At.lt {G : fp_G} {H : Heap} {a : Nat} {e : va_E} (h : fp_At G H a e) : a < H.size := va_at.lt (q := (a, e)) h
/-- H1 has all of H, unchanged -/
def fp_X (H H1 : Heap) : Prop := H.size ≤ H1.size ∧ ∀ q : Nat, q < H.size → H1[q]? = H[q]?
theorem fp_X.rf {H : Heap} : fp_X H H := ⟨Nat.le_refl _, fun _ _ => rfl⟩
theorem fp_X.trans {H H1 H2 : Heap} (h : fp_X H H1) (h2 : fp_X H1 H2) : fp_X H H2 := ⟨Nat.le_trans h.1 h2.1, fun q hq => (h2.2 q (Nat.lt_of_lt_of_le hq h.1)).trans (h.2 q hq)⟩
theorem fp_At.ext {G : fp_G} {H H1 : Heap} {a : Nat} {e : va_E} (h : fp_At G H a e) (hx : fp_X H H1) : fp_At G H1 a e := h.kept (hx.2 a h.lt)
theorem fp_B.ext {G : fp_G} {H H1 : Heap} (h : fp_B G H) (hx : fp_X H H1) : fp_B G H1 := ⟨Nat.le_trans h.1 hx.1, fun q hq => (hx.2 q (Nat.lt_of_lt_of_le hq h.1)).trans (h.2 q hq)⟩
/-- one cell as a list -/
theorem fp_P1 {G : fp_G} {H : Heap} {a : Nat} {e : va_E} (h : fp_At G H a e) : va_P (g_D G) fp_cl [(a, e)] H := by
  intro k q hk
  have hz : k < 1 := (List.getElem?_eq_some_iff.mp hk).1
  rw [show k = 0 by omega] at hk
  cases hk
  exact h
theorem fp_D1 {A : Nat → Prop} {a : Nat} {e : va_E} (h : A a) : va_D A [(a, e)] := by
  refine ⟨fun i j x y hi hj _ => ?_, fun k q hk => ?_⟩
  · have h1 : i < 1 := (List.getElem?_eq_some_iff.mp hi).1
    have h2 : j < 1 := (List.getElem?_eq_some_iff.mp hj).1
    omega
  · have hz : k < 1 := (List.getElem?_eq_some_iff.mp hk).1
    rw [show k = 0 by omega] at hk
    cases hk
    exact h
theorem fp_P1.get {D : va_G} {cl : List vw_C} {H : Heap} {a : Nat} {e : va_E} {ws : va_W} (h : va_P D cl ws H) (k : Nat) (hk : ws[k]? = some (a, e)) : va_at D cl (a, e) H := h k _ hk
/-- old cells that a method may change; and all new ones -/
def fA (A : Nat → Prop) (sz : Nat) : Nat → Prop := fun q => A q ∨ sz ≤ q
/-- the frame of a walk as seen at a heap H: where old cells that may not change are as they were -/
theorem fp_B.of {G : fp_G} {A : Nat → Prop} {H0 H : Heap} {locs : List Loc} (hB : fp_B G H0) (hS : va_S (fA A H0.size) H0 H locs) (hA : ∀ q, A q → (g_s G).heap.size ≤ q) : fp_B G H := by
  refine ⟨Nat.le_trans hB.1 hS.1, fun q hq => ?_⟩
  rw [hS.2.1 q (Nat.lt_of_lt_of_le hq hB.1) (fun h => ?_)]
  · exact hB.2 q hq
  · rcases h with h | h
    · have := hA q h
      omega
    · have := hB.1
      omega
/-- a contract: from every heap with Pre the method returns, Post holds of the old heap, the answer and the new heap; old cells change in A alone -/
def fp_Q (A : Nat → Prop) (sz : Nat) (Post : Heap → Option Value → Heap → Prop) : Array Value → State → Outcome → State → Prop := fun _ st o t => ∃ v, o = .returned v ∧ Post st.heap v t.heap ∧ va_F (fA A sz) st t
def fp_M (G : fp_G) (y : MethodName) (cc : ByteArray) (maxL : Nat) (ret : Option FieldType) (fr lo mc ms : Nat) (av : List Value) (Pre : Heap → Prop) (A : Nat → Prop) (Post : Heap → Option Value → Heap → Prop) : Prop :=
  ∀ sz : Nat, Met (g_l G) y (ws_ y cc maxL ret) ({ frames := fr, cells := mc, slots := ms, locals := lo }) (fun v U => v = av.toArray ∧ U.heap.size = sz ∧ fp_K G U ∧ fp_B G U.heap ∧ Pre U.heap) (fp_Q A sz Post) mc ms (fA A sz)
/-- what a method's walk has at hand all through -/
def fp_C (G : fp_G) (p : Program) (s : State) (m : MethodId) (args : Array Value) (c : Code) (cc : ByteArray) (own : String) (nL : Nat) : Prop :=
  p.tables.exec = Jvm.exec ∧ c.code = cc ∧ c.maxLocals = nL ∧ s.vm.findClass own = some m.cls ∧ (∀ w ∈ lw_all, w.before args s = true) ∧ fp_K G s
/-- the room of a walk -/
def fp_R (R : Room) (fr lo mc ms : Nat) : Prop := R.frames = fr ∧ R.locals = lo ∧ R.cells = mc ∧ R.slots = ms
theorem fp_M.intro {G : fp_G} {y : MethodName} {cc : ByteArray} {maxL : Nat} {ret : Option FieldType} {fr lo mc ms : Nat} {av : List Value} {Pre : Heap → Prop} {A : Nat → Prop} {Post : Heap → Option Value → Heap → Prop}
    (hy : plainName y.cls = true) (hlen : (lg_sl av).length ≤ maxL)
    (body : ∀ (p : Program) (e : Env) (s : State) (m : MethodId) (args : Array Value) (below : List Frame) (meth : Method) (c : Code) (R : Room) (Q : State → Prop) (ls : Array Slot),
      fp_C G p s m args c cc y.cls maxL → p.tables.exec = Jvm.exec → c.code = cc → meth.sig.returnType = ret → meth.locks = false → meth.name = y.name → fp_R R fr lo mc ms → Q = MQ below (fp_Q A s.heap.size Post) args s mc ms (fA A s.heap.size) →
      fp_B G s.heap → Pre s.heap → lv_has ls maxL (lv_args 0 av) →
      W p (g_l G) e R s m args below meth c s.heap [] 0 0 Q (F0 m 0 ls [])) : fp_M G y cc maxL ret fr lo mc ms av Pre A Post := by
  intro sz
  refine Met.ofW (cc := cc) (maxL := maxL) (ret := ret) hy rfl ?_
  intro p e s m args below meth c s₁ B hml hv
  obtain ⟨rfl, hsz, hK, hB, hP⟩ := hv
  subst hsz
  have hts := atoms_spec (ws := ws_ y cc maxL ret) B.pre
  rw [lg_entry_eq]
  exact body p e s m av.toArray below meth c _ _ _ ⟨B.exec, B.bytes, hml, findClass_of_methodNamed B.named, fun w h => hts w (List.mem_cons_of_mem _ h), hK⟩ B.exec B.bytes B.returns B.notSynchronized (name_of_methodNamed B.named B.method).1 ⟨rfl, rfl, rfl, rfl⟩ rfl hB hP (lv_entry av hlen)
section FPR
variable {G : fp_G} {p : Program} {e : Env} {R : Room} {s : State} {m : MethodId} {args : Array Value} {below : List Frame} {meth : Method} {c : Code} {H : Heap} {locs : List Loc} {cells slots : Nat} {Q : State → Prop}
variable {cc : ByteArray} {pc nL : Nat} {ls : Array Slot} {rest : List Value} {own : String} {A0 : Nat → Prop} {mc0 ms0 : Nat} {Post0 : Heap → Option Value → Heap → Prop} {H0 : Heap}
-- ends
theorem r_iret {v : Int32} (hx : p.tables.exec = Jvm.exec) (hb : c.code = cc) (hr : meth.sig.returnType = some .int) (hlk : meth.locks = false) (hQ : Q = MQ below (fp_Q A0 s.heap.size Post0) args s mc0 ms0 (fA A0 s.heap.size)) (hS : va_S (fA A0 s.heap.size) s.heap H locs) (hc : cells ≤ mc0) (hs : slots ≤ ms0) (hd : decode cc pc = .ok (.ireturn, 1)) (hp : Post0 s.heap (some (.int v)) H) : W p (g_l G) e R s m args below meth c H locs cells slots Q (F0 m pc ls [.int v]) := by
  subst hQ
  refine W.widen hc hs (W.iret hx hb hr (fun t ht hW => ⟨_, rfl, by rw [ht]; exact hp, hS.F ht⟩) hS.2.2 hd hlk)
theorem r_zret {v : Int32} {ty : FieldType} (hx : p.tables.exec = Jvm.exec) (hb : c.code = cc) (hr : meth.sig.returnType = some ty) (hlk : meth.locks = false) (hQ : Q = MQ below (fp_Q A0 s.heap.size Post0) args s mc0 ms0 (fA A0 s.heap.size)) (hS : va_S (fA A0 s.heap.size) s.heap H locs) (hc : cells ≤ mc0) (hs : slots ≤ ms0) (hd : decode cc pc = .ok (.ireturn, 1)) (hn : narrow ty (.int v) = .int v) (hp : Post0 s.heap (some (.int v)) H) : W p (g_l G) e R s m args below meth c H locs cells slots Q (F0 m pc ls [.int v]) := by
  subst hQ
  refine W.widen hc hs (W.zret hx hb hr hn (fun t ht hW => ⟨_, rfl, by rw [ht]; exact hp, hS.F ht⟩) hS.2.2 hd hlk)
theorem r_vret (hx : p.tables.exec = Jvm.exec) (hb : c.code = cc) (hr : meth.sig.returnType = none) (hlk : meth.locks = false) (hQ : Q = MQ below (fp_Q A0 s.heap.size Post0) args s mc0 ms0 (fA A0 s.heap.size)) (hS : va_S (fA A0 s.heap.size) s.heap H locs) (hc : cells ≤ mc0) (hs : slots ≤ ms0) (hd : decode cc pc = .ok (.return_, 1)) (hp : Post0 s.heap none H) : W p (g_l G) e R s m args below meth c H locs cells slots Q (F0 m pc ls []) := by
  subst hQ
  refine W.widen hc hs (W.vret hx hb hr (fun t ht hW => ⟨_, rfl, by rw [ht]; exact hp, hS.F ht⟩) hS.2.2 hd hlk)
theorem r_aret {v : Value} {rt : FieldType} (hx : p.tables.exec = Jvm.exec) (hb : c.code = cc) (hr : meth.sig.returnType = some rt) (hlk : meth.locks = false) (hQ : Q = MQ below (fp_Q A0 s.heap.size Post0) args s mc0 ms0 (fA A0 s.heap.size)) (hS : va_S (fA A0 s.heap.size) s.heap H locs) (hc : cells ≤ mc0) (hs : slots ≤ ms0) (hd : decode cc pc = .ok (.areturn, 1)) (hrt : (∃ n, rt = .object n) ∨ ∃ t, rt = .array t) (hv : v = .null ∨ ∃ a, v = .ref a) (hp : Post0 s.heap (some v) H) : W p (g_l G) e R s m args below meth c H locs cells slots Q (F0 m pc ls [v]) := by
  subst hQ
  refine W.widen hc hs (W.aret hx hb hr hrt hv (fun t ht hW => ⟨_, rfl, by rw [ht]; exact hp, hS.F ht⟩) hS.2.2 hd hlk)
-- fields
theorem r_get {ref C : String} {T : u_T} {N ci index : Nat} {a : Nat} {fs : List Value} {v : Value} (X : fp_C G p s m args c cc own nL) (hat : fp_At G H a (eO ci fs)) (hc : fp_cl[ci]? = some (C, T, N)) (hin : ∀ w ∈ u_ws C T N, w ∈ lw_all) (k : Nat) (hk : k < N) (hlink : Cond.fieldLink own index ref (T k).2.1 (T k).2.2.1 ∈ lw_all) (hsame : ref = (T k).1 ∨ Cond.sameField ref (T k).1 (T k).2.1 (T k).2.2.1 ∈ lw_all) (hv : fs[k]? = some v) (hd : decode cc pc = .ok (.getfield index, 3))
    (kk : W p (g_l G) e R s m args below meth c H locs cells slots Q (F0 m (pc + 3) ls (v :: rest))) : W p (g_l G) e R s m args below meth c H locs cells slots Q (F0 m pc ls (.ref a :: rest)) := by
  obtain ⟨hx, hb, -, hown, hts, hK⟩ := X
  refine va_get hx hb hts hin hown hK.va (fp_P1 hat) 0 rfl hc k hk (hts _ hlink) ?_ hv hd kk
  rcases hsame with h | h
  · subst h
    exact fun x h => h
  · exact fun x ho => u_same (hts _ h) x ho
theorem r_put {ref C : String} {T : u_T} {N ci index : Nat} {a : Nat} {fs : List Value} {v : Value} {ty0 : Nat → FieldType} {A : Nat → Prop} (X : fp_C G p s m args c cc own nL) (hat : fp_At G H a (eO ci fs)) (hS : va_S A H0 H locs) (hA : A a) (hc : fp_cl[ci]? = some (C, T, N)) (hin : ∀ w ∈ u_ws C T N, w ∈ lw_all) (hty : ∀ k, k < N → parseFieldDescriptor (T k).2.2.1 = some (ty0 k)) (hnm : ∀ a, a < N → ∀ b, b < N → a ≠ b → (T a).2.1 ≠ (T b).2.1) (k : Nat) (hk : k < N) (hlink : Cond.fieldLink own index ref (T k).2.1 (T k).2.2.1 ∈ lw_all) (hsame : ref = (T k).1 ∨ Cond.sameField ref (T k).1 (T k).2.1 (T k).2.2.1 ∈ lw_all) (hfin : (T k).2.2.2 = false) (hn : narrow (ty0 k) v = v) (hfit : fits (ty0 k) v = true) (hl : k < fs.length) (hd : decode cc pc = .ok (.putfield index, 3))
    (kk : ∀ (H1 : Heap) (locs1 : List Loc), fp_At G H1 a (eO ci (fs.set k v)) → H1.size = H.size → (∀ q : Nat, q ≠ a → H1[q]? = H[q]?) → va_S A H0 H1 locs1 → W p (g_l G) e R s m args below meth c H1 locs1 cells slots Q (F0 m (pc + 3) ls rest)) : W p (g_l G) e R s m args below meth c H locs cells slots Q (F0 m pc ls (v :: .ref a :: rest)) := by
  obtain ⟨hx, hb, -, hown, hts, hK⟩ := X
  have hsm : ∀ x, s.fieldFound? (T k).1 (T k).2.1 (T k).2.2.1 = some x → s.fieldFound? ref (T k).2.1 (T k).2.2.1 = some x := by
    rcases hsame with h | h
    · subst h
      exact fun x h => h
    · exact fun x ho => u_same (hts _ h) x ho
  have hKv := hK.va
  have hap := va_apart (own := own) hts hin ty0 hty hnm hKv hc
  obtain ⟨r, h1, cell, q1, q2, q3, q4⟩ := hat
  have hr : r = (C, T, N) := Option.some.inj (h1.symm.trans hc)
  subst hr
  obtain ⟨hSl, hfc, kC, hkC, hkind⟩ := hKv.1 ci _ hc
  obtain ⟨cf, kf, fi, f, hi, hsl⟩ := hSl k hk
  have hlay := hts _ (hin _ (u_in_lay hk))
  unfold u_lay at hlay
  rw [if_neg (by rw [hfin]; decide)] at hlay
  have hst := (u_facts hfc hkC (u_lays hts hin hk) hi).1
  have h6 := u_store hfc hkC hkind hlay hi (hty k hk) hn hfit
  refine W.putK hx hb (f := f) ⟨hown, hts _ hlink, ⟨_, _, _, hsm _ hi⟩, hst⟩ (by rw [q2]; exact h6) q1 q3 (by rw [hsl]; exact k2_hasslot (q4 k hk)) rfl rfl hd fun H' e1 e2 e3 => ?_
  rw [hsl] at e1 ⊢
  exact kk H' _ ⟨_, hc, t_OB.to (V := updV (vp_V fs) k v) ⟨_, e1, q2, q3, t_set q4 hap hk v⟩ (fun j _ => vp_updV_set hl v j)⟩ e2 e3 (hS.put e2 e3 hA)
theorem r_putF {ref C : String} {T : u_T} {N ci index : Nat} {a : Nat} {fs : List Value} {v : Value} {ty0 : Nat → FieldType} {A : Nat → Prop} (X : fp_C G p s m args c cc own nL) (hat : fp_At G H a (eO ci fs)) (hS : va_S A H0 H locs) (hA : A a) (hc : fp_cl[ci]? = some (C, T, N)) (hin : ∀ w ∈ u_ws C T N, w ∈ lw_all) (hty : ∀ k, k < N → parseFieldDescriptor (T k).2.2.1 = some (ty0 k)) (hnm : ∀ a, a < N → ∀ b, b < N → a ≠ b → (T a).2.1 ≠ (T b).2.1) (k : Nat) (hk : k < N) (hlink : Cond.fieldLink own index ref (T k).2.1 (T k).2.2.1 ∈ lw_all) (hsame : ref = (T k).1 ∨ Cond.sameField ref (T k).1 (T k).2.1 (T k).2.2.1 ∈ lw_all) (hfin : (T k).2.2.2 = true) (hinit : meth.name = "<init>") (hdecl : (T k).1 = own) (hn : narrow (ty0 k) v = v) (hfit : fits (ty0 k) v = true) (hl : k < fs.length) (hd : decode cc pc = .ok (.putfield index, 3))
    (kk : ∀ (H1 : Heap) (locs1 : List Loc), fp_At G H1 a (eO ci (fs.set k v)) → H1.size = H.size → (∀ q : Nat, q ≠ a → H1[q]? = H[q]?) → va_S A H0 H1 locs1 → W p (g_l G) e R s m args below meth c H1 locs1 cells slots Q (F0 m (pc + 3) ls rest)) : W p (g_l G) e R s m args below meth c H locs cells slots Q (F0 m pc ls (v :: .ref a :: rest)) := by
  obtain ⟨hx, hb, -, hown, hts, hK⟩ := X
  have hsm : ∀ x, s.fieldFound? (T k).1 (T k).2.1 (T k).2.2.1 = some x → s.fieldFound? ref (T k).2.1 (T k).2.2.1 = some x := by
    rcases hsame with h | h
    · subst h
      exact fun x h => h
    · exact fun x ho => u_same (hts _ h) x ho
  have hKv := hK.va
  have hap := va_apart (own := own) hts hin ty0 hty hnm hKv hc
  obtain ⟨r, h1, cell, q1, q2, q3, q4⟩ := hat
  have hr : r = (C, T, N) := Option.some.inj (h1.symm.trans hc)
  subst hr
  obtain ⟨hSl, hfc, kC, hkC, hkind⟩ := hKv.1 ci _ hc
  obtain ⟨cf, kf, fi, f, hi, hsl⟩ := hSl k hk
  have hlay := hts _ (hin _ (u_in_lay hk))
  unfold u_lay at hlay
  rw [if_pos hfin] at hlay
  have hst := (u_facts hfc hkC (u_lays hts hin hk) hi).1
  have hcf : m.cls = cf := by
    obtain ⟨_, _, c', _, _, _, -, -, hf', -, -, -, hown2, -⟩ := Cond.laysFinal_spec hlay
    have e1 : c' = cf := by have := hi.symm.trans hf'; simp at this; exact this.1.symm
    rw [hdecl] at hown2
    rw [← e1]; exact Option.some.inj (hown.symm.trans hown2)
  have h6 := u_fits hfc hkC hkind (Or.inr hlay) hi (hty k hk) hn hfit
  refine W.putFinK hx hb hown (hts _ hlink) (hsm _ hi) hst hcf hinit (by rw [q2]; exact h6) q1 q3 (by rw [hsl]; exact k2_hasslot (q4 k hk)) rfl rfl hd fun H' e1 e2 e3 => ?_
  rw [hsl] at e1 ⊢
  exact kk H' _ ⟨_, hc, t_OB.to (V := updV (vp_V fs) k v) ⟨_, e1, q2, q3, t_set q4 hap hk v⟩ (fun j _ => vp_updV_set hl v j)⟩ e2 e3 (hS.put e2 e3 hA)
-- arrays
theorem r_iald {a n : Nat} {f : Nat → Int32} {i : Int32} (X : fp_C G p s m args c cc own nL) (hat : fp_At G H a (eI G n f)) (hin : vp_in i n) (hd : decode cc pc = .ok (.iaload, 1)) (kk : W p (g_l G) e R s m args below meth c H locs cells slots Q (F0 m (pc + 1) ls (.int (f i.toNatClampNeg) :: rest))) : W p (g_l G) e R s m args below meth c H locs cells slots Q (F0 m pc ls (.int i :: .ref a :: rest)) :=
  va_iald X.1 X.2.1 X.2.2.2.2.2.va (fp_P1 hat) 0 0 rfl rfl hin hd kk
theorem r_zald {a n : Nat} {f : Nat → Int32} {i : Int32} (X : fp_C G p s m args c cc own nL) (hat : fp_At G H a (eZ G n f)) (hin : vp_in i n) (hd : decode cc pc = .ok (.baload, 1)) (kk : W p (g_l G) e R s m args below meth c H locs cells slots Q (F0 m (pc + 1) ls (.int (f i.toNatClampNeg) :: rest))) : W p (g_l G) e R s m args below meth c H locs cells slots Q (F0 m pc ls (.int i :: .ref a :: rest)) :=
  va_zald X.1 X.2.1 X.2.2.2.2.2.va (fp_P1 hat) 0 1 rfl rfl hin hd kk
theorem r_bald {a n : Nat} {f : Nat → Int32} {i : Int32} (X : fp_C G p s m args c cc own nL) (hat : fp_At G H a (eB G n f)) (hin : vp_in i n) (hd : decode cc pc = .ok (.baload, 1)) (kk : W p (g_l G) e R s m args below meth c H locs cells slots Q (F0 m (pc + 1) ls (.int (f i.toNatClampNeg) :: rest))) : W p (g_l G) e R s m args below meth c H locs cells slots Q (F0 m pc ls (.int i :: .ref a :: rest)) :=
  va_bald X.1 X.2.1 X.2.2.2.2.2.va (fp_P1 hat) 0 2 rfl rfl hin hd kk
theorem r_lald {a n : Nat} {f : Nat → Int64} {i : Int32} (X : fp_C G p s m args c cc own nL) (hat : fp_At G H a (eJ G n f)) (hin : vp_in i n) (hd : decode cc pc = .ok (.laload, 1)) (kk : W p (g_l G) e R s m args below meth c H locs cells slots Q (F0 m (pc + 1) ls (.long (f i.toNatClampNeg) :: rest))) : W p (g_l G) e R s m args below meth c H locs cells slots Q (F0 m pc ls (.int i :: .ref a :: rest)) :=
  va_lald X.1 X.2.1 X.2.2.2.2.2.va (fp_P1 hat) 0 3 rfl rfl hin hd kk
theorem r_alen {a : Nat} {t : Nat} {ty : FieldType} {x : vp_A} {v : Int32} (X : fp_C G p s m args c cc own nL) (ht : (fp_tys (g_A G))[t]? = some (g_A G t, ty)) (hat : fp_At G H a (.inl (g_A G t, x))) (hv : Int32.ofNat x.1 = v) (hd : decode cc pc = .ok (.arraylength, 1)) (kk : W p (g_l G) e R s m args below meth c H locs cells slots Q (F0 m (pc + 1) ls (.int v :: rest))) : W p (g_l G) e R s m args below meth c H locs cells slots Q (F0 m pc ls (.ref a :: rest)) :=
  va_alen X.1 X.2.1 X.2.2.2.2.2.va (fp_P1 hat) 0 t rfl ht hv hd kk
theorem fp_stw {A : Nat → Prop} {H1 : Heap} {a : Nat} {ws : va_W} {e2 : va_E} (hP : va_P (g_D G) fp_cl ws H1) (hk : ws[0]? = some (a, e2)) : fp_At G H1 a e2 := hP 0 _ hk
theorem r_iast {a n : Nat} {f : Nat → Int32} {i x : Int32} {A : Nat → Prop} (X : fp_C G p s m args c cc own nL) (hat : fp_At G H a (eI G n f)) (hS : va_S A H0 H locs) (hA : A a) (hin : vp_in i n) (hd : decode cc pc = .ok (.iastore, 1))
    (kk : ∀ (H1 : Heap) (locs1 : List Loc), fp_At G H1 a (eI G n (upd f i.toNatClampNeg x)) → H1.size = H.size → (∀ q : Nat, q ≠ a → H1[q]? = H[q]?) → va_S A H0 H1 locs1 → W p (g_l G) e R s m args below meth c H1 locs1 cells slots Q (F0 m (pc + 1) ls rest)) : W p (g_l G) e R s m args below meth c H locs cells slots Q (F0 m pc ls (.int x :: .int i :: .ref a :: rest)) := by
  refine W.iast X.1 X.2.1 hat ((X.2.2.2.2.2.va.2 0 _ rfl).1 n (fun j => .int (f j))) (fun q => by cases q) (by show ¬ (i < 0 ∨ (arrV _ _ _).slots.size ≤ _); rw [arrV_size]; exact hin) rfl rfl hd fun H1 e1 z oq => ?_
  refine kk H1 _ ?_ z oq (hS.put z oq hA)
  show H1[a]? = some (vp_cell _ _)
  rw [e1, vp_cell_i, vp_cell_i, arrV_store]
  congr 2
  funext q
  by_cases hq : q = i.toNatClampNeg
  · subst hq
    simp [updV, upd]
  · simp [updV, upd, hq]
theorem r_zast {a n : Nat} {f : Nat → Int32} {i x : Int32} {A : Nat → Prop} (X : fp_C G p s m args c cc own nL) (hat : fp_At G H a (eZ G n f)) (hS : va_S A H0 H locs) (hA : A a) (hin : vp_in i n) (hd : decode cc pc = .ok (.bastore, 1))
    (kk : ∀ (H1 : Heap) (locs1 : List Loc), fp_At G H1 a (eZ G n (upd f i.toNatClampNeg (vp_nar .boolean x))) → H1.size = H.size → (∀ q : Nat, q ≠ a → H1[q]? = H[q]?) → va_S A H0 H1 locs1 → W p (g_l G) e R s m args below meth c H1 locs1 cells slots Q (F0 m (pc + 1) ls rest)) : W p (g_l G) e R s m args below meth c H locs cells slots Q (F0 m pc ls (.int x :: .int i :: .ref a :: rest)) := by
  refine W.zast X.1 X.2.1 hat ((X.2.2.2.2.2.va.2 1 _ rfl).1 n (fun j => .int (f j))) (fun q => by cases q) (by show ¬ (i < 0 ∨ (arrV _ _ _).slots.size ≤ _); rw [arrV_size]; exact hin) rfl rfl hd fun H1 e1 z oq => ?_
  refine kk H1 _ ?_ z oq (hS.put z oq hA)
  show H1[a]? = some (vp_cell _ _)
  rw [e1, vp_cell_i, vp_cell_i, arrV_store]
  congr 2
  funext q
  by_cases hq : q = i.toNatClampNeg
  · subst hq
    simp [updV, upd, vp_nar]
    try rfl
  · simp [updV, upd, hq]
theorem r_bast {a n : Nat} {f : Nat → Int32} {i x : Int32} {A : Nat → Prop} (X : fp_C G p s m args c cc own nL) (hat : fp_At G H a (eB G n f)) (hS : va_S A H0 H locs) (hA : A a) (hin : vp_in i n) (hd : decode cc pc = .ok (.bastore, 1))
    (kk : ∀ (H1 : Heap) (locs1 : List Loc), fp_At G H1 a (eB G n (upd f i.toNatClampNeg (vp_nar .byte x))) → H1.size = H.size → (∀ q : Nat, q ≠ a → H1[q]? = H[q]?) → va_S A H0 H1 locs1 → W p (g_l G) e R s m args below meth c H1 locs1 cells slots Q (F0 m (pc + 1) ls rest)) : W p (g_l G) e R s m args below meth c H locs cells slots Q (F0 m pc ls (.int x :: .int i :: .ref a :: rest)) := by
  refine W.bast X.1 X.2.1 hat ((X.2.2.2.2.2.va.2 2 _ rfl).1 n (fun j => .int (f j))) (fun q => by cases q) (by show ¬ (i < 0 ∨ (arrV _ _ _).slots.size ≤ _); rw [arrV_size]; exact hin) rfl rfl hd fun H1 e1 z oq => ?_
  refine kk H1 _ ?_ z oq (hS.put z oq hA)
  show H1[a]? = some (vp_cell _ _)
  rw [e1, vp_cell_i, vp_cell_i, arrV_store]
  congr 2
  funext q
  by_cases hq : q = i.toNatClampNeg
  · subst hq
    simp [updV, upd, vp_nar]
    try rfl
  · simp [updV, upd, hq]
theorem r_last {a n : Nat} {f : Nat → Int64} {i : Int32} {x : Int64} {A : Nat → Prop} (X : fp_C G p s m args c cc own nL) (hat : fp_At G H a (eJ G n f)) (hS : va_S A H0 H locs) (hA : A a) (hin : vp_in i n) (hd : decode cc pc = .ok (.lastore, 1))
    (kk : ∀ (H1 : Heap) (locs1 : List Loc), fp_At G H1 a (eJ G n (vp_updL f i.toNatClampNeg x)) → H1.size = H.size → (∀ q : Nat, q ≠ a → H1[q]? = H[q]?) → va_S A H0 H1 locs1 → W p (g_l G) e R s m args below meth c H1 locs1 cells slots Q (F0 m (pc + 1) ls rest)) : W p (g_l G) e R s m args below meth c H locs cells slots Q (F0 m pc ls (.long x :: .int i :: .ref a :: rest)) := by
  refine W.last X.1 X.2.1 hat ((X.2.2.2.2.2.va.2 3 _ rfl).1 n (fun j => .long (f j))) (fun q => by cases q) (by show ¬ (i < 0 ∨ (arrV _ _ _).slots.size ≤ _); rw [arrV_size]; exact hin) rfl rfl hd fun H1 e1 z oq => ?_
  refine kk H1 _ ?_ z oq (hS.put z oq hA)
  show H1[a]? = some (vp_cell _ _)
  rw [e1, vp_cell_l, vp_cell_l, arrV_store]
  congr 2
  funext q
  by_cases hq : q = i.toNatClampNeg
  · subst hq
    simp [updV, vp_updL]
  · simp [updV, vp_updL, hq]
theorem r_aald {a n t : Nat} {C : String} {f : Nat → Option Nat} {i : Int32} (X : fp_C G p s m args c cc own nL) (ht : (fp_tys (g_A G))[t]? = some (g_A G t, .object C)) (hat : fp_At G H a (eQ G t n f)) (hin : vp_in i n) (hd : decode cc pc = .ok (.aaload, 1)) (kk : W p (g_l G) e R s m args below meth c H locs cells slots Q (F0 m (pc + 1) ls (va_rf (f i.toNatClampNeg) :: rest))) : W p (g_l G) e R s m args below meth c H locs cells slots Q (F0 m pc ls (.int i :: .ref a :: rest)) :=
  va_aldq X.1 X.2.1 X.2.2.2.2.2.va (fp_P1 hat) 0 t rfl ht hin hd kk
-- making
theorem r_new {C : String} {T : u_T} {N ci index : Nat} {ty0 : Nat → FieldType} {fs : List Value} {A : Nat → Prop} {fr lo mc ms : Nat} (X : fp_C G p s m args c cc own nL) (hR : fp_R R fr lo mc ms) (hS : va_S A H0 H locs) (hc : fp_cl[ci]? = some (C, T, N)) (hin : ∀ w ∈ u_ws C T N, w ∈ lw_all) (hty : ∀ k, k < N → parseFieldDescriptor (T k).2.2.1 = some (ty0 k)) (hcl : Cond.classLink own index C ∈ lw_all) (hinst : Cond.instantiable C N ∈ lw_all) (hini : Cond.initialized C ∈ lw_all)
    (hfs : ∀ j, j < N → defaultValue (ty0 j) = vp_V fs j) (hcells : cells + 1 ≤ mc) (hslots : slots + N ≤ ms) (hd : decode cc pc = .ok (.new index, 3))
    (kk : ∀ (q : Nat) (H1 : Heap), q = H.size → fp_At G H1 q (eO ci fs) → fp_X H H1 → H1.size = H.size + 1 → va_S A H0 H1 locs → W p (g_l G) e R s m args below meth c H1 locs (cells + 1) (slots + N) Q (F0 m (pc + 3) ls (.ref q :: rest))) : W p (g_l G) e R s m args below meth c H locs cells slots Q (F0 m pc ls rest) := by
  obtain ⟨hx, hb, -, hown, hts, hK⟩ := X
  obtain ⟨-, -, rfl, rfl⟩ := hR
  have hKn := hK.va.1 ci _ hc
  refine W.newcK hx hb hown (hts _ hcl) (hts _ hinst) (hts _ hini) rfl hd hcells hslots hKn.2.1 rfl fun H1 kC hkC e1 z1 o1 => ?_
  refine kk H.size H1 rfl ⟨_, hc, (u_born ty0 hts hin hKn hkC e1 hty).to hfs⟩ ⟨by omega, o1⟩ z1 ⟨Nat.le_trans hS.1 (by omega), fun x h1 h2 => (o1 x (Nat.lt_of_lt_of_le h1 hS.1)).trans (hS.2.1 x h1 h2), hS.2.2⟩
theorem r_newarr {atype : ArrayType} {ty : FieldType} {t : Nat} {n : Int32} {N' : Nat} {x : vp_A} {A : Nat → Prop} {fr lo mc ms : Nat} (X : fp_C G p s m args c cc own nL) (hR : fp_R R fr lo mc ms) (hS : va_S A H0 H locs) (harr : Cond.arrayClass ty ∈ lw_all) (hty : newarray.typeOf atype = ty) (ht : (fp_tys (g_A G))[t]? = some (g_A G t, ty)) (hob : ∀ C, ty ≠ .object C) (hx0 : ∀ cA : ClassId, vp_cell cA x = arrV cA N' (fun _ => defaultValue ty)) (hn : ¬ n < 0) (hN : n.toNatClampNeg = N') (hbytes : N' * componentBytes ty ≤ 536870912) (hcells : cells + 1 ≤ mc) (hslots : slots + N' ≤ ms) (hd : decode cc pc = .ok (.newarray atype, 2))
    (kk : ∀ (q : Nat) (H1 : Heap), q = H.size → fp_At G H1 q (.inl (g_A G t, x)) → fp_X H H1 → H1.size = H.size + 1 → va_S A H0 H1 locs → W p (g_l G) e R s m args below meth c H1 locs (cells + 1) (slots + N') Q (F0 m (pc + 2) ls (.ref q :: rest))) : W p (g_l G) e R s m args below meth c H locs cells slots Q (F0 m pc ls (.int n :: rest)) := by
  obtain ⟨hx, hb, -, hown, hts, hK⟩ := X
  obtain ⟨-, -, rfl, rfl⟩ := hR
  subst hty
  refine va_newaK hx hb (hts _ harr) rfl hd rfl hn hN hbytes hcells hslots rfl fun H1 cA e1 z1 o1 hAr hNm => ?_
  have h5 : s.vm.findClass ("[" ++ (newarray.typeOf atype).toString) = some (g_A G t) := by
    have h6 := (hK.va.2 t _ ht).2
    revert h6
    show va_RA s (g_A G t) (newarray.typeOf atype) → _
    cases atype <;> exact fun h => h
  have h7 : cA = g_A G t := Option.some.inj (hNm.symm.trans h5)
  subst h7
  refine kk H.size H1 rfl ?_ ⟨by omega, o1⟩ z1 ⟨Nat.le_trans hS.1 (by omega), fun x h1 h2 => (o1 x (Nat.lt_of_lt_of_le h1 hS.1)).trans (hS.2.1 x h1 h2), hS.2.2⟩
  show H1[H.size]? = some (vp_cell _ _)
  rw [hx0]
  exact e1
-- behind a call
theorem r_after {A : Nat → Prop} {Post : Heap → Option Value → Heap → Prop} {mc ms cells1 slots1 : Nat} {st0 : List Value} {a : Array Value} (ec : cells + mc = cells1) (es : slots + ms = slots1) (hr : va_Run p (g_l G) e R s m args below meth c H locs cells slots mc ms (F0 m pc ls st0) rest (fp_Q A H.size Post a) (fA A H.size)) (hS : va_S (fA A0 s.heap.size) s.heap H locs) (hA : ∀ q, A q → fA A0 s.heap.size q)
    (kk : ∀ (v : Option Value) (H1 : Heap) (locs1 : List Loc), Post H v H1 → H.size ≤ H1.size → (∀ q : Nat, q < H.size → ¬ A q → H1[q]? = H[q]?) → va_S (fA A0 s.heap.size) s.heap H1 locs1 → W p (g_l G) e R s m args below meth c H1 locs1 cells1 slots1 Q (F0 m (pc + 3) ls (v.toList ++ rest))) : W p (g_l G) e R s m args below meth c H locs cells slots Q (F0 m pc ls st0) := by
  subst ec es
  intro T hT X
  obtain ⟨v, st₀, t, T', L, h0, X', hL, e1, e2, ⟨v2, hv, hp, hz, hk⟩, st⟩ := hr T hT X
  cases hv
  rw [h0] at hz hk hp
  have hA2 : ∀ q, fA A H.size q → fA A0 s.heap.size q := fun q h => by
    rcases h with h | h
    · exact hA q h
    · exact Or.inr (Nat.le_trans hS.1 h)
  obtain ⟨t2, a1, b1⟩ := kk v T'.heap (locs ++ L) (by rw [e1]; exact hp) (by rw [e1]; exact hz) (fun q h1 h2 => by rw [e1]; exact hk q h1 (fun h => by rcases h with h | h; exact h2 h; omega))
    ⟨Nat.le_trans hS.1 (by rw [e1]; exact hz), fun q h1 h2 => by rw [e1, hk q (Nat.lt_of_lt_of_le h1 hS.1) (fun z => h2 (hA2 q z))]; exact hS.2.1 q h1 h2, fun q hq => by
      rcases List.mem_append.mp hq with h | h
      · exact hS.2.2 q h
      · exact hA2 _ (hL q h)⟩ T' rfl X'
  exact ⟨t2, st t2 a1, b1⟩
theorem fp_blind {av : List Value} {sz : Nat} {Pre : Heap → Prop} : FrameBlind (fun v U => v = av.toArray ∧ U.heap.size = sz ∧ fp_K G U ∧ fp_B G U.heap ∧ Pre U.heap) := by
  intro a U g mk q
  obtain ⟨q0, q1, q2, q3, q4⟩ := q
  exact ⟨q0, q1, ⟨q2.1, q2.2⟩, q3, q4⟩
theorem r_callV {y : MethodName} {bytes : ByteArray} {maxL : Nat} {ret : Option FieldType} {fr lo mc ms fr0 lo0 mc0 ms0 cells1 slots1 index : Nat} {C : String} {b : Nat} {As st0 : List Value} {A : Nat → Prop} {Pre : Heap → Prop} {Post : Heap → Option Value → Heap → Prop} {ci : Nat} {fs : List Value} {T : u_T} {N : Nat}
    (X : fp_C G p s m args c cc own nL) (hR : fp_R R fr0 lo0 mc0 ms0) (hM : fp_M G y bytes maxL ret fr lo mc ms (.ref b :: As) Pre A Post) (w1 : Cond.methodLink own index y ∈ lw_all) (w2 : Cond.instanceMethod y ∈ lw_all) (w3 : Cond.selects C y y ∈ lw_all) (w4 : Cond.initialized C ∈ lw_all) (w5 : Cond.code y bytes maxL ret ∈ lw_all)
    (hd : y.cls = C ∧ y.cls ≠ "java/lang/invoke/MethodHandle" ∧ y.cls ≠ "java/lang/invoke/VarHandle" ∧ (parseMethodDescriptor y.desc).map (fun d => d.parameters.length) = some As.length) (hRR : fr + 1 ≤ fr0 ∧ 8 + (maxL + 11) + lo ≤ lo0) (ec : cells + mc = cells1) (es : slots + ms = slots1) (hcells : cells1 ≤ mc0) (hslots : slots1 ≤ ms0) (hat : fp_At G H b (eO ci fs)) (hc : fp_cl[ci]? = some (C, T, N)) (hst : st0 = As.reverse ++ .ref b :: rest) (hrest : (rest.map fun v => v.category).sum ≤ 8) (hls : ls.size = nL) (hdg : decode cc pc = .ok (.invokevirtual index, 3))
    (hB : fp_B G H) (hP : Pre H) (hS : va_S (fA A0 s.heap.size) s.heap H locs) (hA : ∀ q, A q → fA A0 s.heap.size q)
    (kk : ∀ (v : Option Value) (H1 : Heap) (locs1 : List Loc), Post H v H1 → H.size ≤ H1.size → (∀ q : Nat, q < H.size → ¬ A q → H1[q]? = H[q]?) → va_S (fA A0 s.heap.size) s.heap H1 locs1 → W p (g_l G) e R s m args below meth c H1 locs1 cells1 slots1 Q (F0 m (pc + 3) ls (v.toList ++ rest))) : W p (g_l G) e R s m args below meth c H locs cells slots Q (F0 m pc ls st0) := by
  obtain ⟨hx, hb, hml, hown, hts, hK⟩ := X
  obtain ⟨rfl, rfl, rfl, rfl⟩ := hR
  refine r_after ec es (va_runV (As := As) (b := b) (C := C) ⟨hx, hb, hml, hown, hts⟩ (hM H.size) (cwV As.length hts (lw_V w1 w2 w3 w4 w5) rfl rfl rfl hd hRR) ⟨fp_blind, va_recv (q0 := 0) hK.va (fp_P1 hat) hc rfl, fun U hU hW => ⟨rfl, by rw [hU], hK.moved hW, by rw [hU]; exact hB, by rw [hU]; exact hP⟩⟩ rfl rfl hls hst (lv_room hrest) hdg ⟨by rw [ec]; exact hcells, by rw [es]; exact hslots⟩) hS hA kk
theorem r_callS {y : MethodName} {bytes : ByteArray} {maxL : Nat} {ret : Option FieldType} {fr lo mc ms fr0 lo0 mc0 ms0 cells1 slots1 index : Nat} {As st0 : List Value} {A : Nat → Prop} {Pre : Heap → Prop} {Post : Heap → Option Value → Heap → Prop}
    (X : fp_C G p s m args c cc own nL) (hR : fp_R R fr0 lo0 mc0 ms0) (hM : fp_M G y bytes maxL ret fr lo mc ms As Pre A Post) (w1 : Cond.methodLink own index y ∈ lw_all) (w2 : Cond.static y ∈ lw_all) (w4 : Cond.initialized y.cls ∈ lw_all) (w5 : Cond.code y bytes maxL ret ∈ lw_all)
    (hd : y.cls ≠ "java/lang/invoke/MethodHandle" ∧ y.cls ≠ "java/lang/invoke/VarHandle" ∧ (parseMethodDescriptor y.desc).map (fun d => d.parameters.length) = some As.length) (hRR : fr + 1 ≤ fr0 ∧ 8 + (maxL + 11) + lo ≤ lo0) (ec : cells + mc = cells1) (es : slots + ms = slots1) (hcells : cells1 ≤ mc0) (hslots : slots1 ≤ ms0) (hst : st0 = As.reverse ++ rest) (hrest : (rest.map fun v => v.category).sum ≤ 8) (hls : ls.size = nL) (hdg : decode cc pc = .ok (.invokestatic index, 3))
    (hB : fp_B G H) (hP : Pre H) (hS : va_S (fA A0 s.heap.size) s.heap H locs) (hA : ∀ q, A q → fA A0 s.heap.size q)
    (kk : ∀ (v : Option Value) (H1 : Heap) (locs1 : List Loc), Post H v H1 → H.size ≤ H1.size → (∀ q : Nat, q < H.size → ¬ A q → H1[q]? = H[q]?) → va_S (fA A0 s.heap.size) s.heap H1 locs1 → W p (g_l G) e R s m args below meth c H1 locs1 cells1 slots1 Q (F0 m (pc + 3) ls (v.toList ++ rest))) : W p (g_l G) e R s m args below meth c H locs cells slots Q (F0 m pc ls st0) := by
  obtain ⟨hx, hb, hml, hown, hts, hK⟩ := X
  obtain ⟨rfl, rfl, rfl, rfl⟩ := hR
  refine r_after ec es (va_runS (As := As) ⟨hx, hb, hml, hown, hts⟩ (hM H.size) (va_cwS As.length hts (lw_S w1 w2 w4 w5) rfl rfl rfl hd hRR) ⟨fp_blind, fun U hU hW => ⟨rfl, by rw [hU], hK.moved hW, by rw [hU]; exact hB, by rw [hU]; exact hP⟩⟩ rfl rfl hls hst (lv_room hrest) hdg ⟨by rw [ec]; exact hcells, by rw [es]; exact hslots⟩) hS hA kk
theorem r_callI {y : MethodName} {bytes : ByteArray} {maxL : Nat} {fr lo mc ms fr0 lo0 mc0 ms0 cells1 slots1 index : Nat} {b : Nat} {As st0 : List Value} {A : Nat → Prop} {Pre : Heap → Prop} {Post : Heap → Option Value → Heap → Prop}
    (X : fp_C G p s m args c cc own nL) (hR : fp_R R fr0 lo0 mc0 ms0) (hM : fp_M G y bytes maxL none fr lo mc ms (.ref b :: As) Pre A Post) (w1 : Cond.methodLink own index y ∈ lw_all) (w2 : Cond.instanceMethod y ∈ lw_all) (w4 : Cond.initialized y.cls ∈ lw_all) (w5 : Cond.code y bytes maxL none ∈ lw_all) (hy1 : y.name = "<init>")
    (hd : y.cls ≠ "java/lang/invoke/MethodHandle" ∧ y.cls ≠ "java/lang/invoke/VarHandle" ∧ (parseMethodDescriptor y.desc).map (fun d => d.parameters.length) = some As.length) (hRR : fr + 1 ≤ fr0 ∧ 8 + (maxL + 11) + lo ≤ lo0) (ec : cells + mc = cells1) (es : slots + ms = slots1) (hcells : cells1 ≤ mc0) (hslots : slots1 ≤ ms0) (hst : st0 = As.reverse ++ .ref b :: rest) (hrest : (rest.map fun v => v.category).sum ≤ 8) (hls : ls.size = nL) (hdg : decode cc pc = .ok (.invokespecial index, 3))
    (hB : fp_B G H) (hP : Pre H) (hS : va_S (fA A0 s.heap.size) s.heap H locs) (hA : ∀ q, A q → fA A0 s.heap.size q)
    (kk : ∀ (v : Option Value) (H1 : Heap) (locs1 : List Loc), Post H v H1 → H.size ≤ H1.size → (∀ q : Nat, q < H.size → ¬ A q → H1[q]? = H[q]?) → va_S (fA A0 s.heap.size) s.heap H1 locs1 → W p (g_l G) e R s m args below meth c H1 locs1 cells1 slots1 Q (F0 m (pc + 3) ls (v.toList ++ rest))) : W p (g_l G) e R s m args below meth c H locs cells slots Q (F0 m pc ls st0) := by
  obtain ⟨hx, hb, hml, hown, hts, hK⟩ := X
  obtain ⟨rfl, rfl, rfl, rfl⟩ := hR
  refine r_after ec es (va_runI (As := As) (b := b) ⟨hx, hb, hml, hown, hts⟩ (hM H.size) (cwI As.length hts (lw_meth w5) rfl rfl rfl (hts _ w4) (hts _ w1) (hts _ w2) hy1 hd hRR) ⟨fp_blind, fun U hU hW => ⟨rfl, by rw [hU], hK.moved hW, by rw [hU]; exact hB, by rw [hU]; exact hP⟩⟩ rfl rfl hls hst (lv_room hrest) hdg ⟨by rw [ec]; exact hcells, by rw [es]; exact hslots⟩) hS hA kk
theorem r_objInit {index : Nat} {a : Nat} {fr lo mc ms : Nat} (X : fp_C G p s m args c cc own nL) (hR : fp_R R fr lo mc ms) (w1 : Cond.methodLink own index Lib.objectInit ∈ lw_all) (w2 : Cond.instanceMethod Lib.objectInit ∈ lw_all) (w3 : Cond.code Lib.objectInit ⟨#[0xb1]⟩ 1 none ∈ lw_all) (hls : ls.size = nL) (hf : 1 ≤ fr) (hlo : (rest.map fun v => v.category).sum + 12 ≤ lo) (hd : decode cc pc = .ok (.invokespecial index, 3)) (kk : W p (g_l G) e R s m args below meth c H locs cells slots Q (F0 m (pc + 3) ls rest)) : W p (g_l G) e R s m args below meth c H locs cells slots Q (F0 m pc ls (.ref a :: rest)) := by
  obtain ⟨hx, hb, hml, hown, hts, hK⟩ := X
  obtain ⟨rfl, rfl, -, -⟩ := hR
  exact W.objInit hx hb hown (hts _ w1) (hts _ w2) (hts _ w3) rfl (hls.trans hml.symm) rfl hd hf (by show 2 * 0 + _ + 12 ≤ _; omega) kk
end FPR
