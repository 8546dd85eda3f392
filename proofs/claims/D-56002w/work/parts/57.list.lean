/-! LISTS: constants below the run, predicates, copying -/
set_option maxRecDepth 100000
theorem fp_M.introF {G : fp_G} {y : MethodName} {cc : ByteArray} {maxL : Nat} {ret : Option FieldType} {fr lo mc ms : Nat} {av : List Value} {Pre : Heap → Prop} {A : Nat → Prop} {Post : Heap → Option Value → Heap → Prop}
    (hy : plainFor y = true) (hlen : (lg_sl av).length ≤ maxL)
    (body : ∀ (p : Program) (e : Env) (s : State) (m : MethodId) (args : Array Value) (below : List Frame) (meth : Method) (c : Code) (R : Room) (Q : State → Prop) (ls : Array Slot),
      fp_C G p s m args c cc y.cls maxL → p.tables.exec = Jvm.exec → c.code = cc → meth.sig.returnType = ret → meth.locks = false → meth.name = y.name → fp_R R fr lo mc ms → Q = MQ below (fp_Q A s.heap.size Post) args s mc ms (fA A s.heap.size) →
      fp_B G s.heap → Pre s.heap → lv_has ls maxL (lv_args 0 av) →
      W p (g_l G) e R s m args below meth c s.heap [] 0 0 Q (F0 m 0 ls [])) : fp_M G y cc maxL ret fr lo mc ms av Pre A Post := by
  intro sz
  refine va_MetF (cc := cc) (maxL := maxL) (ret := ret) hy rfl ?_
  intro p e s m args below meth c s₁ B hml hv
  obtain ⟨rfl, hsz, hK, hB, hP⟩ := hv
  subst hsz
  have hts := atoms_spec (ws := ws_ y cc maxL ret) B.pre
  rw [lg_entry_eq]
  exact body p e s m av.toArray below meth c _ _ _ ⟨B.exec, B.bytes, hml, findClass_of_methodNamed B.named, fun w h => hts w (List.mem_cons_of_mem _ h), hK⟩ B.exec B.bytes B.returns B.notSynchronized (name_of_methodNamed B.named B.method).1 ⟨rfl, rfl, rfl, rfl⟩ rfl hB hP (lv_entry av hlen)
/-- the address that a term of the start names -/
def fp_st (G : fp_G) (t : Term) : Nat := match t.eval #[Value.ref G.1.2.2] (g_s G) none [] (g_s G) with
  | some (.ref a) => a
  | _ => 0
theorem fp_st_of {G : fp_G} {t : Term} {a : Nat} (h : t.eval #[Value.ref G.1.2.2] (g_s G) none [] (g_s G) = some (.ref a)) : fp_st G t = a := by
  unfold fp_st
  rw [h]
theorem fp_stT {G : fp_G} {U : State} (hK : fp_K G U) {H : Heap} (hB : fp_B G H) {A : Nat → Prop} (hA : ∀ q, A q → (g_s G).heap.size ≤ q) {tm : Term} {ty : FieldType} {N : Nat} {f : Nat → Value} (hN : N < 2 ^ 31) (harr : (Cond.arrayOf tm ty).before #[Value.ref G.1.2.2] (g_s G) = true) (hlen : (Cond.eq (Term.length tm) (.int (Int32.ofNat N))).before #[Value.ref G.1.2.2] (g_s G) = true) (hel : ∀ j : Nat, j < N → (Term.elem tm (.int (Int32.ofNat j))).eval #[Value.ref G.1.2.2] (g_s G) none [] (g_s G) = some (f j)) : va_T ty (fp_st G tm) N f A U H ∧ tm.eval #[Value.ref G.1.2.2] (g_s G) none [] (g_s G) = some (.ref (fp_st G tm)) ∧ fp_st G tm < (g_s G).heap.size := by
  obtain ⟨t, h1, h2⟩ := va_Tof (A := A) hN harr (va_eqt hlen) hel (fun a ha hz => by have := hA a hz; omega)
  rw [fp_st_of h1]
  refine ⟨(h2.kept (fun a ha _ => hB.2 a ha)).moved hK.2.alike, h1, ?_⟩
  obtain ⟨cell, h3, -⟩ := h2
  exact (Array.getElem?_eq_some_iff.mp h3).1
theorem fp_stZ {G : fp_G} {U : State} (hK : fp_K G U) {H : Heap} (hB : fp_B G H) {A : Nat → Prop} (hA : ∀ q, A q → (g_s G).heap.size ≤ q) {C n d : String} {v : Value} (hl : Cond.laysStatic C n d ∈ lw_tbl) (hi : Cond.initialized C ∈ lw_tbl) (hv : (Term.static C n d).eval #[Value.ref G.1.2.2] (g_s G) none [] (g_s G) = some v) : va_Z C n d v A U H := by
  have h1 : va_Z C n d v A (g_s G) (g_s G).heap := va_Zof (hK.1.1 _ hl) (hK.1.1 _ hi) hv (fun a ha hz => by have := hA a hz; omega)
  exact (h1.kept (fun a ha _ => hB.2 a ha)).moved hK.2.alike
/-- the shared empty row -/
def fp_de (G : fp_G) : Nat := fp_st G (.static "java/util/ArrayList" "DEFAULTCAPACITY_EMPTY_ELEMENTDATA" "[Ljava/lang/Object;")
theorem fp_K.deT {G : fp_G} {U : State} (hK : fp_K G U) {H : Heap} (hB : fp_B G H) {A : Nat → Prop} (hA : ∀ q, A q → (g_s G).heap.size ≤ q) : va_T (.object "java/lang/Object") (fp_de G) 0 (fun _ => .null) A U H ∧ (Term.static "java/util/ArrayList" "DEFAULTCAPACITY_EMPTY_ELEMENTDATA" "[Ljava/lang/Object;").eval #[Value.ref G.1.2.2] (g_s G) none [] (g_s G) = some (.ref (fp_de G)) ∧ fp_de G < (g_s G).heap.size :=
  fp_stT hK hB hA (by decide) (hK.flat _ (by decide +kernel)) (hK.flat _ (by decide +kernel)) (fun j hj => absurd hj (Nat.not_lt_zero j))
theorem fA.base {G : fp_G} {A : Nat → Prop} {sz : Nat} (hA : ∀ q, A q → (g_s G).heap.size ≤ q) (hsz : (g_s G).heap.size ≤ sz) : ∀ q, fA A sz q → (g_s G).heap.size ≤ q := fun q h => h.elim (hA q) (fun h => Nat.le_trans hsz h)
section FPL
variable {G : fp_G} {p : Program} {e : Env} {R : Room} {s : State} {m : MethodId} {args : Array Value} {below : List Frame} {meth : Method} {c : Code} {H : Heap} {locs : List Loc} {cells slots : Nat} {Q : State → Prop}
variable {cc : ByteArray} {pc nL : Nat} {ls : Array Slot} {rest : List Value} {own : String} {A0 : Nat → Prop} {mc0 ms0 : Nat} {H0 : Heap}
/-- a static that nobody writes -/
theorem r_gets {C n d ref : String} {v : Value} {index : Nat} (X : fp_C G p s m args c cc own nL) (hB : fp_B G s.heap) (hA : ∀ q, A0 q → (g_s G).heap.size ≤ q) (hS : va_S (fA A0 s.heap.size) s.heap H locs) (hl : Cond.laysStatic C n d ∈ lw_tbl) (hi : Cond.initialized C ∈ lw_tbl) (hv : (Term.static C n d).eval #[Value.ref G.1.2.2] (g_s G) none [] (g_s G) = some v) (hlink : Cond.fieldLink own index ref n d ∈ lw_all) (hsame : ref = C) (hd : decode cc pc = .ok (.getstatic index, 3))
    (kk : W p (g_l G) e R s m args below meth c H locs cells slots Q (F0 m (pc + 3) ls (v :: rest))) : W p (g_l G) e R s m args below meth c H locs cells slots Q (F0 m pc ls rest) := by
  subst hsame
  exact va_gets X.1 X.2.1 (fp_stZ X.2.2.2.2.2 hB (fA.base hA hB.1) hl hi hv) hS X.2.2.2.1 (X.2.2.2.2.1 _ hlink) (fun x h => h) hd kk
theorem r_getsN {C n d ref host : String} {v : Value} {index : Nat} (X : fp_C G p s m args c cc own nL) (hB : fp_B G s.heap) (hA : ∀ q, A0 q → (g_s G).heap.size ≤ q) (hS : va_S (fA A0 s.heap.size) s.heap H locs) (hl : Cond.laysStatic C n d ∈ lw_tbl) (hi : Cond.initialized C ∈ lw_tbl) (hv : (Term.static C n d).eval #[Value.ref G.1.2.2] (g_s G) none [] (g_s G) = some v) (hlink : Cond.fieldLinkNest own index ref n d host ∈ lw_tbl) (hsame : ref = C) (hd : decode cc pc = .ok (.getstatic index, 3))
    (kk : W p (g_l G) e R s m args below meth c H locs cells slots Q (F0 m (pc + 3) ls (v :: rest))) : W p (g_l G) e R s m args below meth c H locs cells slots Q (F0 m pc ls rest) := by
  subst hsame
  exact va_getsN X.1 X.2.1 (fp_stZ X.2.2.2.2.2 hB (fA.base hA hB.1) hl hi hv) hS X.2.2.2.1 (X.2.2.2.2.2.linkF hlink) (fun x h => h) hd kk
theorem r_tlen {t N : Nat} {ty : FieldType} {f : Nat → Value} {v : Int32} {A : Nat → Prop} (X : fp_C G p s m args c cc own nL) (hT : va_T ty t N f A s s.heap) (hS : va_S A s.heap H locs) (hv : Int32.ofNat N = v) (hd : decode cc pc = .ok (.arraylength, 1))
    (kk : W p (g_l G) e R s m args below meth c H locs cells slots Q (F0 m (pc + 1) ls (.int v :: rest))) : W p (g_l G) e R s m args below meth c H locs cells slots Q (F0 m pc ls (.ref t :: rest)) := va_tlen X.1 X.2.1 hT hS hv hd kk
/-- a row's class, and its Class object -/
noncomputable def fp_mi (G : fp_G) : Nat := Classical.epsilon (fun mi => va_Mi "[Ljava/lang/Object;" mi (g_s G))
theorem fp_K.mi {U : State} (hK : fp_K G U) : va_Mi "[Ljava/lang/Object;" (fp_mi G) U := va_Mi.moved hK.2.alike (Classical.epsilon_spec (va_Mi.of (hK.flat (.isRef (.mirror "[Ljava/lang/Object;")) (by decide +kernel))))
theorem r_getC {a n index fr lo mc ms : Nat} {f : Nat → Option Nat} (X : fp_C G p s m args c cc own nL) (hR : fp_R R fr lo mc ms) (hls : ls.size = nL) (hat : fp_At G H a (eQ G 4 n f)) (w1 : Cond.methodLink own index ⟨"java/lang/Object", "getClass", "()Ljava/lang/Class;"⟩ ∈ lw_all) (w2 : Cond.declares ⟨"java/lang/Object", "getClass", "()Ljava/lang/Class;"⟩ ∈ lw_tbl) (w3 : Cond.selects "[Ljava/lang/Object;" ⟨"java/lang/Object", "getClass", "()Ljava/lang/Class;"⟩ ⟨"java/lang/Object", "getClass", "()Ljava/lang/Class;"⟩ ∈ lw_all) (w4 : Cond.instanceMethod ⟨"java/lang/Object", "getClass", "()Ljava/lang/Class;"⟩ ∈ lw_all) (w5 : Cond.native ⟨"java/lang/Object", "getClass", "()Ljava/lang/Class;"⟩ ∈ lw_all) (hfr : 1 ≤ fr) (hlo : (rest.map fun v => v.category).sum + 14 ≤ lo) (hd : decode cc pc = .ok (.invokevirtual index, 3))
    (kk : W p (g_l G) e R s m args below meth c H locs cells slots Q (F0 m (pc + 3) ls (.ref (fp_mi G) :: rest))) : W p (g_l G) e R s m args below meth c H locs cells slots Q (F0 m pc ls (.ref a :: rest)) := by
  obtain ⟨hx, hb, hml, hown, hts, hK⟩ := X
  obtain ⟨rfl, rfl, -, -⟩ := hR
  refine va_getC hx hb (hml.trans hls.symm) hown (hts _ w1) (hK.decl w2) (hts _ w3) (hts _ w4) (hts _ w5) hK.mi ⟨vp_cell (g_A G 4) (n, .inr (.inr (.inr (.inr f)))), hat, rfl, ?_⟩ hfr hlo hd kk
  exact va_nmO (hK.va.2 4 _ rfl).2 (by decide)
theorem r_ldcM {index : Nat} (X : fp_C G p s m args c cc own nL) (w1 : Cond.classLink own index "[Ljava/lang/Object;" ∈ lw_all) (hd : decode cc pc = .ok (.ldc index, 2))
    (kk : W p (g_l G) e R s m args below meth c H locs cells slots Q (F0 m (pc + 2) ls (.ref (fp_mi G) :: rest))) : W p (g_l G) e R s m args below meth c H locs cells slots Q (F0 m pc ls rest) := va_ldcM X.1 X.2.1 X.2.2.2.1 (X.2.2.2.2.1 _ w1) X.2.2.2.2.2.mi hd kk
/-- an object of one of our classes -/
def fp_el (G : fp_G) (H : Heap) (y : Nat) : Prop := ∃ (ci : Nat) (fs : List Value), ci < 13 ∧ fp_At G H y (eO ci fs)
theorem fp_el.kept {H1 : Heap} {y : Nat} (h : fp_el G H y) (hq : H1[y]? = H[y]?) : fp_el G H1 y := by
  obtain ⟨ci, fs, h1, h2⟩ := h
  exact ⟨ci, fs, h1, h2.kept hq⟩
theorem fp_el.lt {y : Nat} (h : fp_el G H y) : y < H.size := by
  obtain ⟨ci, fs, h1, h2⟩ := h
  exact h2.lt
theorem fp_el.ofB {y : Nat} {b : Nat → Nat} (h : fp_At G H y (fp_bE b)) : fp_el G H y := by
  unfold fp_bE at h
  split at h
  · exact ⟨3, _, by decide, h⟩
  · split at h
    · exact ⟨4, _, by decide, h⟩
    · exact ⟨5, _, by decide, h⟩
def fp_clO : Prop := ∀ ci, ci < 13 → ∃ r : vw_C, fp_cl[ci]? = some r ∧ Cond.castable r.1 "java/lang/Object" ∈ lw_tbl
theorem fp_clO_ok : fp_clO := by
  intro ci hci
  rcases (show ci = 0 ∨ ci = 1 ∨ ci = 2 ∨ ci = 3 ∨ ci = 4 ∨ ci = 5 ∨ ci = 6 ∨ ci = 7 ∨ ci = 8 ∨ ci = 9 ∨ ci = 10 ∨ ci = 11 ∨ ci = 12 by omega) with rfl | rfl | rfl | rfl | rfl | rfl | rfl | rfl | rfl | rfl | rfl | rfl | rfl
  · exact ⟨_, rfl, q2547⟩
  · exact ⟨_, rfl, q2541⟩
  · exact ⟨_, rfl, q2542⟩
  · exact ⟨_, rfl, q2551⟩
  · exact ⟨_, rfl, q2552⟩
  · exact ⟨_, rfl, q2553⟩
  · exact ⟨_, rfl, q2560⟩
  · exact ⟨_, rfl, q2561⟩
  · exact ⟨_, rfl, q2543⟩
  · exact ⟨_, rfl, q2549⟩
  · exact ⟨_, rfl, q2545⟩
  · exact ⟨_, rfl, q2546⟩
  · exact ⟨_, rfl, q2540⟩
theorem fp_el.any {y : Nat} (hK : fp_K G s) (h : fp_el G H y) : va_Any "java/lang/Object" s H y := by
  obtain ⟨ci, fs, h1, h2⟩ := h
  obtain ⟨r, hr, hw⟩ := fp_clO_ok ci h1
  refine va_rAny (q0 := 0) hK.va (fp_P1 h2) rfl hr (fun comp c0 g1 g2 => ?_)
  obtain ⟨c1, t1, f1, f2, f3⟩ := Cond.castable_spec (args := #[]) (hK.cast hw)
  cases g2.symm.trans f1
  cases g1.symm.trans f2
  exact f3
/-- System.arraycopy within one array, or from one to another of its kind -/
theorem r_copyG {α : Type} (mk : α → Value) {t : Nat} {ty : FieldType} {a0 a n0 n1 sp dp n index fr lo mc ms : Nat} {f g : Nat → α} {z1 z2 z3 : Int} {A : Nat → Prop} (X : fp_C G p s m args c cc own nL) (hR : fp_R R fr lo mc ms) (hls : ls.size = nL) (ht : (fp_tys (g_A G))[t]? = some (g_A G t, ty)) (h0 : H[a0]? = some (arrV (g_A G t) n0 (fun j => mk (f j)))) (h1 : H[a]? = some (arrV (g_A G t) n1 (fun j => mk (g j)))) (hS : va_S A H0 H locs) (hA : A a) (w1 : Cond.methodLink own index arraycopyName ∈ lw_all) (w2 : Cond.native arraycopyName ∈ lw_all) (w3 : Cond.static arraycopyName ∈ lw_all) (w4 : Cond.initialized "java/lang/System" ∈ lw_all) (e1 : z1 = (sp : Int)) (e2 : z2 = (dp : Int)) (e3 : z3 = (n : Int)) (hb1 : sp + n ≤ n0) (hb2 : dp + n ≤ n1) (hn0 : n0 < 1000000) (hn1 : n1 < 1000000)
    (hvals : ∀ (kA : Class) (comp : ClassId), s.vm.classes[g_A G t]? = some kA → kA.kind = .array comp ty → ∀ (T : State) (vm' : Vm), T.heap = H → s.vm.Alike vm' → ∀ i : Nat, i < n → fits ty (mk (f (sp + i))) = true ∧ (T.setVm vm').takes comp (mk (f (sp + i)))) (hfr : 1 ≤ fr) (hlo : (rest.map fun v => v.category).sum + 30 ≤ lo) (hd : decode cc pc = .ok (.invokestatic index, 3))
    (kk : ∀ (H1 : Heap) (locs1 : List Loc), H1[a]? = some (arrV (g_A G t) n1 (fun j => mk (va_cpy f g sp dp n j))) → H1.size = H.size → (∀ q : Nat, q ≠ a → H1[q]? = H[q]?) → va_S A H0 H1 locs1 → W p (g_l G) e R s m args below meth c H1 locs1 cells slots Q (F0 m (pc + 3) ls rest)) : W p (g_l G) e R s m args below meth c H locs cells slots Q (F0 m pc ls (.int (iI z3) :: .int (iI z2) :: .ref a :: .int (iI z1) :: .ref a0 :: rest)) := by
  obtain ⟨hx, hb, hml, hown, hts, hK⟩ := X
  obtain ⟨rfl, rfl, -, -⟩ := hR
  have c1 : (iI z1).toNatClampNeg = sp := iI_cl e1 (by omega)
  have c2 : (iI z2).toNatClampNeg = dp := iI_cl e2 (by omega)
  have c3 : (iI z3).toNatClampNeg = n := iI_cl e3 (by omega)
  have hwd : nativeFrameWords "java/lang/System" "arraycopy" 5 ≤ 19 := by decide
  obtain ⟨-, kA, hkA, comp, hkk⟩ := (hK.va.2 t _ ht).1 0 (fun _ => .null)
  intro T hT X
  obtain ⟨vm', X', step⟩ := X.arraycopy hx hown (hts _ w1) (hts _ w2) (hts _ w3) (hts _ w4) (src := a0) (dst := a) (cs := arrV (g_A G t) n0 (fun j => mk (f j))) (cd := arrV (g_A G t) n1 (fun j => mk (g j))) (srcPos := iI z1) (destPos := iI z2) (n := iI z3) (by rw [hT]; exact h0) (by rw [hT]; exact h1)
    (fun _ h => by cases h) (fun _ h => by cases h) (fun h => by cases h) (fun h => by cases h) hkA hkA hkk hkk (by cases refKind ty <;> simp) (fp_neg e1 (by omega)) (fp_neg e2 (by omega)) (fp_neg e3 (by omega))
    (by rw [iI_toInt ⟨by omega, by omega⟩, iI_toInt ⟨by omega, by omega⟩, arrV_size]; omega)
    (by rw [iI_toInt ⟨by omega, by omega⟩, iI_toInt ⟨by omega, by omega⟩, arrV_size]; omega)
    (fun vm₁ hal i hi => by
      rw [c3] at hi
      rw [c1, Array.getD_eq_getD_getElem?, arrV_read _ _ (by omega)]
      exact hvals kA comp hkA hkk T vm₁ hT hal i hi)
    (g := F0 m pc ls (.int (iI z3) :: .int (iI z2) :: .ref a :: .int (iI z1) :: .ref a0 :: rest)) rfl (by rw [hml]; exact hls) (rest := rest) rfl (by rw [hb]; exact hd) hfr (by show 2 * 0 + _ + _ ≤ _; omega)
  have e4 : copied (arrV (g_A G t) n0 (fun j => mk (f j))) (arrV (g_A G t) n1 (fun j => mk (g j))) (iI z1) (iI z2) (iI z3) = arrV (g_A G t) n1 (fun j => mk (va_cpy f g sp dp n j)) := by
    unfold copied
    rw [c1, c2, c3]
    exact va_copied mk (g_A G t) (g_A G t) f g hb1
  rw [e4] at X' step
  have hl : a < H.size := (Array.getElem?_eq_some_iff.mp h1).1
  obtain ⟨H2, hH2⟩ : ∃ H2 : Heap, H2 = H.setIfInBounds a (arrV (g_A G t) n1 (fun j => mk (va_cpy f g sp dp n j))) := ⟨_, rfl⟩
  have hheap : ((T.setVm vm').setCell a (arrV (g_A G t) n1 (fun j => mk (va_cpy f g sp dp n j)))).heap = H2 := by rw [hH2, ← hT]; rfl
  have oq : ∀ q : Nat, q ≠ a → H2[q]? = H[q]? := fun q hq => by rw [hH2]; simp [Array.getElem?_setIfInBounds, Ne.symm hq]
  have hz : H2.size = H.size := by rw [hH2]; simp
  have ha : H2[a]? = some (arrV (g_A G t) n1 (fun j => mk (va_cpy f g sp dp n j))) := by rw [hH2]; simp [Array.getElem?_setIfInBounds, hl]
  obtain ⟨t1, a1, b1⟩ := kk H2 _ ha hz oq ⟨by rw [hz]; exact hS.1, fun q g1 g2 => by
      rw [oq q (fun e => g2 (by rw [e]; exact hA))]
      exact hS.2.1 q g1 g2, fun q hq => by
      rcases List.mem_append.mp hq with h | h
      · exact hS.2.2 q h
      · obtain ⟨z, -, hz⟩ := List.mem_map.mp h
        rw [← hz]
        exact hA⟩ _ hheap X'
  exact ⟨t1, step t1 a1, b1⟩
theorem r_copyQ {a0 a n0 n1 sp dp n index fr lo mc ms : Nat} {f g : Nat → Option Nat} {z1 z2 z3 : Int} {A : Nat → Prop} (X : fp_C G p s m args c cc own nL) (hR : fp_R R fr lo mc ms) (hls : ls.size = nL) (h0 : fp_At G H a0 (eQ G 4 n0 f)) (h1 : fp_At G H a (eQ G 4 n1 g)) (hS : va_S A H0 H locs) (hA : A a) (w1 : Cond.methodLink own index arraycopyName ∈ lw_all) (w2 : Cond.native arraycopyName ∈ lw_all) (w3 : Cond.static arraycopyName ∈ lw_all) (w4 : Cond.initialized "java/lang/System" ∈ lw_all) (e1 : z1 = (sp : Int)) (e2 : z2 = (dp : Int)) (e3 : z3 = (n : Int)) (hb1 : sp + n ≤ n0) (hb2 : dp + n ≤ n1) (hn0 : n0 < 1000000) (hn1 : n1 < 1000000) (hel : ∀ i : Nat, i < n → ∀ y : Nat, f (sp + i) = some y → fp_el G H y) (hfr : 1 ≤ fr) (hlo : (rest.map fun v => v.category).sum + 30 ≤ lo) (hd : decode cc pc = .ok (.invokestatic index, 3))
    (kk : ∀ (H1 : Heap) (locs1 : List Loc), fp_At G H1 a (eQ G 4 n1 (va_cpy f g sp dp n)) → H1.size = H.size → (∀ q : Nat, q ≠ a → H1[q]? = H[q]?) → va_S A H0 H1 locs1 → W p (g_l G) e R s m args below meth c H1 locs1 cells slots Q (F0 m (pc + 3) ls rest)) : W p (g_l G) e R s m args below meth c H locs cells slots Q (F0 m pc ls (.int (iI z3) :: .int (iI z2) :: .ref a :: .int (iI z1) :: .ref a0 :: rest)) := by
  have h0' : H[a0]? = some (vp_cell (g_A G 4) (n0, .inr (.inr (.inr (.inr f))))) := h0
  have h1' : H[a]? = some (vp_cell (g_A G 4) (n1, .inr (.inr (.inr (.inr g))))) := h1
  rw [vp_cell_q] at h0' h1'
  refine r_copyG (fun z => va_rf z) (t := 4) X hR hls rfl h0' h1' hS hA w1 w2 w3 w4 e1 e2 e3 hb1 hb2 hn0 hn1 (fun kA comp hkA hkk T vm₁ hT hal i hi => ?_) hfr hlo hd (fun H1 locs1 g1 g2 g3 g4 => kk H1 locs1 (by show H1[a]? = some (vp_cell _ _); rw [vp_cell_q]; exact g1) g2 g3 g4)
  have hK := X.2.2.2.2.2
  cases hy : f (sp + i) with
  | none => exact ⟨rfl, trivial⟩
  | some y =>
    obtain ⟨cellV, g1, g2, ⟨kC, hkC⟩, hasg⟩ := (hel i hi y hy).any hK
    obtain ⟨kA2, comp2, r1, r2, r3, -⟩ := (hK.va.2 4 _ rfl).2
    cases hkA.symm.trans r1
    cases hkk.symm.trans r2
    obtain ⟨kE, hkE, -⟩ := Vm.findClass_spec r3
    obtain ⟨kC', hkC', -⟩ := hal.2.2 _ _ hkC
    obtain ⟨kE', hkE', -⟩ := hal.2.2 _ _ hkE
    refine ⟨rfl, cellV, (show T.heap[y]? = some cellV by rw [hT]; exact g1), (fun q h => by rw [h] at g2; cases g2), ⟨kC', hkC'⟩, ⟨kE', hkE'⟩, ?_⟩
    show vm₁.assignable _ _ = true
    rw [hal.assignable]
    exact hasg _ r3
theorem r_copyB {a0 a n0 n1 sp dp n index fr lo mc ms : Nat} {f g : Nat → Int} {z1 z2 z3 : Int} {A : Nat → Prop} (X : fp_C G p s m args c cc own nL) (hR : fp_R R fr lo mc ms) (hls : ls.size = nL) (h0 : fp_At G H a0 (eB G n0 (fun j => iI (f j)))) (h1 : fp_At G H a (eB G n1 (fun j => iI (g j)))) (hS : va_S A H0 H locs) (hA : A a) (w1 : Cond.methodLink own index arraycopyName ∈ lw_all) (w2 : Cond.native arraycopyName ∈ lw_all) (w3 : Cond.static arraycopyName ∈ lw_all) (w4 : Cond.initialized "java/lang/System" ∈ lw_all) (e1 : z1 = (sp : Int)) (e2 : z2 = (dp : Int)) (e3 : z3 = (n : Int)) (hb1 : sp + n ≤ n0) (hb2 : dp + n ≤ n1) (hn0 : n0 < 1000000) (hn1 : n1 < 1000000) (hfit : ∀ i : Nat, i < n → fits .byte (.int (iI (f (sp + i)))) = true) (hfr : 1 ≤ fr) (hlo : (rest.map fun v => v.category).sum + 30 ≤ lo) (hd : decode cc pc = .ok (.invokestatic index, 3))
    (kk : ∀ (H1 : Heap) (locs1 : List Loc), fp_At G H1 a (eB G n1 (fun j => iI (va_cpy f g sp dp n j))) → H1.size = H.size → (∀ q : Nat, q ≠ a → H1[q]? = H[q]?) → va_S A H0 H1 locs1 → W p (g_l G) e R s m args below meth c H1 locs1 cells slots Q (F0 m (pc + 3) ls rest)) : W p (g_l G) e R s m args below meth c H locs cells slots Q (F0 m pc ls (.int (iI z3) :: .int (iI z2) :: .ref a :: .int (iI z1) :: .ref a0 :: rest)) := by
  have h0' : H[a0]? = some (vp_cell (g_A G 2) (n0, .inl (fun j => iI (f j)))) := h0
  have h1' : H[a]? = some (vp_cell (g_A G 2) (n1, .inl (fun j => iI (g j)))) := h1
  rw [vp_cell_i] at h0' h1'
  exact r_copyG (fun z : Int => Value.int (iI z)) (t := 2) X hR hls rfl h0' h1' hS hA w1 w2 w3 w4 e1 e2 e3 hb1 hb2 hn0 hn1 (fun kA comp hkA hkk T vm₁ hT hal i hi => ⟨hfit i hi, trivial⟩) hfr hlo hd (fun H1 locs1 g1 g2 g3 g4 => kk H1 locs1 (by show H1[a]? = some (vp_cell _ _); rw [vp_cell_i]; exact g1) g2 g3 g4)
end FPL
theorem fp_ltk {H H1 : Heap} {a : Nat} (h : a < H.size) (hq : H1[a]? = H[a]?) : a < H1.size := by
  rw [Array.getElem?_eq_getElem h] at hq
  exact (Array.getElem?_eq_some_iff.mp hq).1
/-- a list's row: the shared empty one, or its own -/
def fp_RW (G : fp_G) (ed n cap : Nat) (b : Nat → Nat) (H : Heap) : Prop := (cap = 0 ∧ n = 0 ∧ ed = fp_de G) ∨ (n ≤ cap ∧ ((g_s G).heap.size ≤ ed ∧ 0 < cap) ∧ cap ≤ 1000 ∧ ∃ f : Nat → Option Nat, fp_At G H ed (eQ G 4 cap f) ∧ ∀ k, k < n → f k = some (b k))
theorem fp_RW.kept {G : fp_G} {ed n cap : Nat} {b : Nat → Nat} {H H1 : Heap} (h : fp_RW G ed n cap b H) (hq : H1[ed]? = H[ed]?) : fp_RW G ed n cap b H1 := by
  rcases h with h | ⟨h1, h2, h3, f, h4, h5⟩
  · exact Or.inl h
  · exact Or.inr ⟨h1, h2, h3, f, h4.kept hq, h5⟩
/-- a list at x: its row ed of cap places, n of them taken, by b -/
def fp_LE (G : fp_G) (x ed : Nat) (mc : Int32) (n cap : Nat) (b : Nat → Nat) (H : Heap) : Prop := fp_At G H x (eO 8 [.int mc, .ref ed, .int (iI ((n : Nat) : Int))]) ∧ fp_RW G ed n cap b H ∧ (ed < H.size ∧ (g_s G).heap.size ≤ x)
theorem fp_LE.mv {G : fp_G} {x ed : Nat} {mc : Int32} {n cap : Nat} {b : Nat → Nat} {H H1 : Heap} (h : fp_LE G x ed mc n cap b H) (hx : H1[x]? = H[x]?) (he : H1[ed]? = H[ed]?) : fp_LE G x ed mc n cap b H1 := ⟨h.1.kept hx, h.2.1.kept he, fp_ltk h.2.2.1 he, h.2.2.2⟩
theorem fp_LE.ext {G : fp_G} {x ed : Nat} {mc : Int32} {n cap : Nat} {b : Nat → Nat} {H H1 : Heap} (h : fp_LE G x ed mc n cap b H) (hx : fp_X H H1) : fp_LE G x ed mc n cap b H1 := h.mv (hx.2 _ h.1.lt) (hx.2 _ h.2.2.1)
theorem fp_LE.cap {G : fp_G} {x ed : Nat} {mc : Int32} {n cap : Nat} {b : Nat → Nat} {H : Heap} (h : fp_LE G x ed mc n cap b H) : n ≤ 1000 := by
  rcases h.2.1 with h | h <;> omega
theorem fp_LE.row {G : fp_G} {x ed : Nat} {mc : Int32} {n cap : Nat} {b : Nat → Nat} {H : Heap} (h : fp_LE G x ed mc n cap b H) {k : Nat} (hk : k < n) : n ≤ cap ∧ cap ≤ 1000 ∧ ∃ f : Nat → Option Nat, fp_At G H ed (eQ G 4 cap f) ∧ ∀ k, k < n → f k = some (b k) := by
  rcases h.2.1 with h | ⟨h1, h2, h3, h4⟩
  · omega
  · exact ⟨h1, h3, h4⟩
theorem fp_LE.ne {G : fp_G} {U : State} (hK : fp_K G U) {x ed : Nat} {mc : Int32} {n cap : Nat} {b : Nat → Nat} {H : Heap} (h : fp_LE G x ed mc n cap b H) (hd : fp_de G < (g_s G).heap.size) : x ≠ ed := by
  have hx := h.2.2.2
  rcases h.2.1 with ⟨-, -, h1⟩ | ⟨-, -, -, f, h1, -⟩
  · omega
  · exact fp_neOA hK (i := 8) (t := 4) rfl rfl h.1 h1
theorem fp_LE.congr {G : fp_G} {x ed : Nat} {mc : Int32} {n cap : Nat} {b b2 : Nat → Nat} {H : Heap} (h : fp_LE G x ed mc n cap b H) (e : ∀ k, k < n → b k = b2 k) : fp_LE G x ed mc n cap b2 H := by
  refine ⟨h.1, ?_, h.2.2⟩
  rcases h.2.1 with h | ⟨h1, h2, h3, f, h4, h5⟩
  · exact Or.inl h
  · exact Or.inr ⟨h1, h2, h3, f, h4, fun k hk => by rw [h5 k hk, e k hk]⟩
/-- the elements of a list are objects -/
def fp_EL (G : fp_G) (n : Nat) (b : Nat → Nat) (H : Heap) : Prop := ∀ k, k < n → fp_el G H (b k)
theorem fp_EL.mv {G : fp_G} {n : Nat} {b : Nat → Nat} {H H1 : Heap} (h : fp_EL G n b H) (hq : ∀ k, k < n → H1[b k]? = H[b k]?) : fp_EL G n b H1 := fun k hk => (h k hk).kept (hq k hk)
theorem fp_EL.ext {G : fp_G} {n : Nat} {b : Nat → Nat} {H H1 : Heap} (h : fp_EL G n b H) (hx : fp_X H H1) : fp_EL G n b H1 := h.mv (fun k hk => hx.2 _ (h k hk).lt)
/-- an iterator at y over the list at x, at its place k -/
def fp_IE (G : fp_G) (y k x : Nat) (mc : Int32) (n : Nat) (H : Heap) : Prop := (∃ lr : Int32, fp_At G H y (eO 9 [.int (iI ((k : Nat) : Int)), .int lr, .int mc, .ref x])) ∧ k ≤ n ∧ (g_s G).heap.size ≤ y
theorem fp_IE.mv {G : fp_G} {y k x : Nat} {mc : Int32} {n : Nat} {H H1 : Heap} (h : fp_IE G y k x mc n H) (hy : H1[y]? = H[y]?) : fp_IE G y k x mc n H1 := by
  obtain ⟨⟨lr, h1⟩, h2⟩ := h
  exact ⟨⟨lr, h1.kept hy⟩, h2⟩
theorem fp_IE.lt {G : fp_G} {y k x : Nat} {mc : Int32} {n : Nat} {H : Heap} (h : fp_IE G y k x mc n H) : y < H.size := by
  obtain ⟨⟨lr, h1⟩, h2⟩ := h
  exact h1.lt
theorem fp_IE.ext {G : fp_G} {y k x : Nat} {mc : Int32} {n : Nat} {H H1 : Heap} (h : fp_IE G y k x mc n H) (hx : fp_X H H1) : fp_IE G y k x mc n H1 := h.mv (hx.2 _ h.lt)

set_option maxRecDepth 100000
set_option maxHeartbeats 4000000 in
theorem c_J2_size (G : fp_G) (x : Nat) (ed : Nat) (mc : Int32) (n : Nat) (cap : Nat) (b : Nat → Nat) : fp_M G yJ2_size cJ2_size 1 (some .int) 1 12 0 0 [.ref (x)] (fun H => fp_LE G x ed mc n cap b H) fp_no (fun H v H1 => v = some (.int (iI ((n : Nat) : Int))) ∧ H = H1) := by
  refine fp_M.intro (by decide) (Nat.le_of_ble_eq_true rfl) ?_
  intro pg en s mi ag bl mt cd rR qQ ls X hx hb hr hlk hnm hR hQ hB hM hl
  have hS : va_S (fA fp_no s.heap.size) s.heap s.heap [] := va_S.rf
  generalize ([] : List Loc) = locs at hS ⊢
  have hb0 := hB.1
  have h_ls := hM
  have hsz0 := hS.1
  have lt_1 := h_ls.1.lt
  have lt_2 := h_ls.2.2
  refine lv_aload_n hx hb dJ2_size_0 rfl (lv_at hl 0 rfl) ?_
  refine r_get X h_ls.1 rfl in_J2 2 (by decide) q157 (Or.inl rfl) (v := .int (iI ((n : Nat) : Int))) rfl dJ2_size_1 ?_
  refine r_iret hx hb hr hlk hQ hS (Nat.le_of_ble_eq_true rfl) (Nat.le_of_ble_eq_true rfl) dJ2_size_4 ?_
  exact ⟨rfl, rfl⟩
set_option maxHeartbeats 4000000 in
theorem c_J2_elementData (G : fp_G) (x : Nat) (ed : Nat) (mc : Int32) (n : Nat) (cap : Nat) (b : Nat → Nat) (i : Nat) (hi : i < n) : fp_M G yJ2_elementData cJ2_elementData 2 (some (.object "java/lang/Object")) 1 12 0 0 [.ref (x), .int (iI ((i : Nat) : Int))] (fun H => fp_LE G x ed mc n cap b H) fp_no (fun H v H1 => v = some (.ref (b i)) ∧ H = H1) := by
  refine fp_M.intro (by decide) (Nat.le_of_ble_eq_true rfl) ?_
  intro pg en s mi ag bl mt cd rR qQ ls X hx hb hr hlk hnm hR hQ hB hM hl
  have hS : va_S (fA fp_no s.heap.size) s.heap s.heap [] := va_S.rf
  generalize ([] : List Loc) = locs at hS ⊢
  have hb0 := hB.1
  have h_ls := hM
  have hsz0 := hS.1
  have lt_1 := h_ls.1.lt
  have lt_2 := h_ls.2.2
  obtain ⟨hnc, hc1000, f, hrow, hf⟩ := h_ls.row hi
  have lt_3 := hrow.lt
  refine lv_aload_n hx hb dJ2_elementData_0 rfl (lv_at hl 0 rfl) ?_
  refine r_get X h_ls.1 rfl in_J2 1 (by decide) q154 (Or.inl rfl) (v := .ref (ed)) rfl dJ2_elementData_1 ?_
  refine lv_iload_n hx hb dJ2_elementData_4 rfl (lv_at hl 1 rfl) ?_
  refine r_aaldI X rfl hrow (j := i) rfl (by omega) (by omega) dJ2_elementData_5 ?_
  refine r_set (y := .ref (b i)) (by rw [hf i hi]; rfl) ?_
  refine r_aret hx hb hr hlk hQ hS (Nat.le_of_ble_eq_true rfl) (Nat.le_of_ble_eq_true rfl) dJ2_elementData_6 (Or.inl ⟨_, rfl⟩) (Or.inr ⟨_, rfl⟩) ?_
  exact ⟨rfl, rfl⟩
set_option maxHeartbeats 4000000 in
theorem c_J19_checkIndex (G : fp_G) (i : Nat) (n : Nat) (hi : i < n) (hn : n ≤ 1000000) : fp_M G yJ19_checkIndex cJ19_checkIndex 3 (some .int) 1 12 0 0 [.int (iI ((i : Nat) : Int)), .int (iI ((n : Nat) : Int)), .null] (fun H => True) fp_no (fun H v H1 => v = some (.int (iI ((i : Nat) : Int))) ∧ H = H1) := by
  refine fp_M.intro (by decide) (Nat.le_of_ble_eq_true rfl) ?_
  intro pg en s mi ag bl mt cd rR qQ ls X hx hb hr hlk hnm hR hQ hB hM hl
  have hS : va_S (fA fp_no s.heap.size) s.heap s.heap [] := va_S.rf
  generalize ([] : List Loc) = locs at hS ⊢
  have hb0 := hB.1
  have hsz0 := hS.1
  refine lv_iload_n hx hb dJ19_checkIndex_0 rfl (lv_at hl 0 rfl) ?_
  refine r_if_lt (tgt := 9) hx hb ⟨by omega, by omega⟩ dJ19_checkIndex_1 (by decide) (fun c1 => ?_) (fun c1 => ?_)
  · exact absurd c1 (by omega)
  · skip
    refine lv_iload_n hx hb dJ19_checkIndex_4 rfl (lv_at hl 0 rfl) ?_
    refine lv_iload_n hx hb dJ19_checkIndex_5 rfl (lv_at hl 1 rfl) ?_
    refine r_icmp_lt (tgt := 16) hx hb ⟨by omega, by omega⟩ ⟨by omega, by omega⟩ dJ19_checkIndex_6 (by decide) (fun c6 => ?_) (fun c6 => ?_)
    · skip
      refine lv_iload_n hx hb dJ19_checkIndex_16 rfl (lv_at hl 0 rfl) ?_
      refine r_iret hx hb hr hlk hQ hS (Nat.le_of_ble_eq_true rfl) (Nat.le_of_ble_eq_true rfl) dJ19_checkIndex_17 ?_
      exact ⟨rfl, rfl⟩
    · skip
      exact absurd c6 (by omega)
set_option maxHeartbeats 4000000 in
theorem c_J18_checkIndex (G : fp_G) (i : Nat) (n : Nat) (hi : i < n) (hn : n ≤ 1000000) : fp_M G yJ18_checkIndex cJ18_checkIndex 2 (some .int) 2 34 0 0 [.int (iI ((i : Nat) : Int)), .int (iI ((n : Nat) : Int))] (fun H => True) fp_no (fun H v H1 => v = some (.int (iI ((i : Nat) : Int))) ∧ H = H1) := by
  refine fp_M.intro (by decide) (Nat.le_of_ble_eq_true rfl) ?_
  intro pg en s mi ag bl mt cd rR qQ ls X hx hb hr hlk hnm hR hQ hB hM hl
  have hS : va_S (fA fp_no s.heap.size) s.heap s.heap [] := va_S.rf
  generalize ([] : List Loc) = locs at hS ⊢
  have hb0 := hB.1
  have hsz0 := hS.1
  refine lv_iload_n hx hb dJ18_checkIndex_0 rfl (lv_at hl 0 rfl) ?_
  refine lv_iload_n hx hb dJ18_checkIndex_1 rfl (lv_at hl 1 rfl) ?_
  refine lv_null hx hb dJ18_checkIndex_2 ?_
  refine r_callS (cells1 := 0) (slots1 := 0) X hR (c_J19_checkIndex G i n hi hn) q496 q497 q116 q498 pd_J19_checkIndex ⟨Nat.le_of_ble_eq_true rfl, Nat.le_of_ble_eq_true rfl⟩ rfl rfl (Nat.le_of_ble_eq_true rfl) (Nat.le_of_ble_eq_true rfl) rfl (Nat.le_of_ble_eq_true rfl) hl.1 dJ18_checkIndex_3 (hB.of hS fp_no.base) trivial hS (fun _ h => h.elim) (fun v H_4 locs hp_1 hz_2 hk_3 hS => ?_)
  obtain ⟨rfl, rfl⟩ := hp_1
  refine r_stk (st2 := [.int (iI ((i : Nat) : Int))]) rfl ?_
  refine r_iret hx hb hr hlk hQ hS (Nat.le_of_ble_eq_true rfl) (Nat.le_of_ble_eq_true rfl) dJ18_checkIndex_6 ?_
  exact ⟨rfl, rfl⟩
set_option maxHeartbeats 4000000 in
theorem c_J2_get (G : fp_G) (x : Nat) (ed : Nat) (mc : Int32) (n : Nat) (cap : Nat) (b : Nat → Nat) (i : Nat) (hi : i < n) : fp_M G yJ2_get cJ2_get 2 (some (.object "java/lang/Object")) 3 55 0 0 [.ref (x), .int (iI ((i : Nat) : Int))] (fun H => fp_LE G x ed mc n cap b H) fp_no (fun H v H1 => v = some (.ref (b i)) ∧ H = H1) := by
  refine fp_M.intro (by decide) (Nat.le_of_ble_eq_true rfl) ?_
  intro pg en s mi ag bl mt cd rR qQ ls X hx hb hr hlk hnm hR hQ hB hM hl
  have hS : va_S (fA fp_no s.heap.size) s.heap s.heap [] := va_S.rf
  generalize ([] : List Loc) = locs at hS ⊢
  have hb0 := hB.1
  have h_ls := hM
  have hsz0 := hS.1
  have lt_1 := h_ls.1.lt
  have lt_2 := h_ls.2.2
  have hcap := h_ls.cap
  refine lv_iload_n hx hb dJ2_get_0 rfl (lv_at hl 1 rfl) ?_
  refine lv_aload_n hx hb dJ2_get_1 rfl (lv_at hl 0 rfl) ?_
  refine r_get X h_ls.1 rfl in_J2 2 (by decide) q157 (Or.inl rfl) (v := .int (iI ((n : Nat) : Int))) rfl dJ2_get_2 ?_
  refine r_callS (cells1 := 0) (slots1 := 0) X hR (c_J18_checkIndex G i n hi (by omega)) q493 q494 q115 q495 pd_J18_checkIndex ⟨Nat.le_of_ble_eq_true rfl, Nat.le_of_ble_eq_true rfl⟩ rfl rfl (Nat.le_of_ble_eq_true rfl) (Nat.le_of_ble_eq_true rfl) rfl (Nat.le_of_ble_eq_true rfl) hl.1 dJ2_get_5 (hB.of hS fp_no.base) trivial hS (fun _ h => h.elim) (fun v H_6 locs hp_3 hz_4 hk_5 hS => ?_)
  obtain ⟨rfl, rfl⟩ := hp_3
  refine r_stk (st2 := [.int (iI ((i : Nat) : Int))]) rfl ?_
  refine lv_pop hx hb dJ2_get_8 rfl ?_
  refine lv_aload_n hx hb dJ2_get_9 rfl (lv_at hl 0 rfl) ?_
  refine lv_iload_n hx hb dJ2_get_10 rfl (lv_at hl 1 rfl) ?_
  refine r_callV (cells1 := 0) (slots1 := 0) X hR (c_J2_elementData G x ed mc n cap b i hi) q499 q500 q501 q92 q502 ⟨rfl, pd_J2_elementData⟩ ⟨Nat.le_of_ble_eq_true rfl, Nat.le_of_ble_eq_true rfl⟩ rfl rfl (Nat.le_of_ble_eq_true rfl) (Nat.le_of_ble_eq_true rfl) h_ls.1 rfl rfl (Nat.le_of_ble_eq_true rfl) hl.1 dJ2_get_11 (hB.of hS fp_no.base) h_ls hS (fun _ h => h.elim) (fun v H_10 locs hp_7 hz_8 hk_9 hS => ?_)
  obtain ⟨rfl, rfl⟩ := hp_7
  refine r_stk (st2 := [.ref (b i)]) rfl ?_
  refine r_aret hx hb hr hlk hQ hS (Nat.le_of_ble_eq_true rfl) (Nat.le_of_ble_eq_true rfl) dJ2_get_14 (Or.inl ⟨_, rfl⟩) (Or.inr ⟨_, rfl⟩) ?_
  exact ⟨rfl, rfl⟩
set_option maxHeartbeats 4000000 in
theorem c_J13_hasNext (G : fp_G) (x : Nat) (ed : Nat) (mc : Int32) (n : Nat) (cap : Nat) (b : Nat → Nat) (y : Nat) (k : Nat) : fp_M G yJ13_hasNext cJ13_hasNext 1 (some .boolean) 1 12 0 0 [.ref (y)] (fun H => fp_IE G y k x mc n H ∧ fp_LE G x ed mc n cap b H) fp_no (fun H v H1 => v = some (.int (iI (bI (decide (k < n))))) ∧ H = H1) := by
  refine fp_M.intro (by decide) (Nat.le_of_ble_eq_true rfl) ?_
  intro pg en s mi ag bl mt cd rR qQ ls X hx hb hr hlk hnm hR hQ hB hM hl
  have hS : va_S (fA fp_no s.heap.size) s.heap s.heap [] := va_S.rf
  generalize ([] : List Loc) = locs at hS ⊢
  have hb0 := hB.1
  obtain ⟨h_it, h_ls⟩ := hM
  have hsz0 := hS.1
  have lt_1 := h_it.lt
  have lt_2 := h_ls.1.lt
  have lt_3 := h_ls.2.2
  have hcap := h_ls.cap
  have hkn := h_it.2.1
  refine lv_aload_n hx hb dJ13_hasNext_0 rfl (lv_at hl 0 rfl) ?_
  obtain ⟨⟨lr_4, hE_5⟩, hle_6⟩ := id h_it
  refine r_get X hE_5 rfl in_J13 0 (by decide) q285 (Or.inl rfl) (v := .int (iI ((k : Nat) : Int))) rfl dJ13_hasNext_1 ?_
  refine lv_aload_n hx hb dJ13_hasNext_4 rfl (lv_at hl 0 rfl) ?_
  obtain ⟨⟨lr_7, hE_8⟩, hle_9⟩ := id h_it
  refine r_get X hE_8 rfl in_J13 3 (by decide) q288 (Or.inl rfl) (v := .ref (x)) rfl dJ13_hasNext_5 ?_
  refine r_getN X h_ls.1 rfl in_J2 2 (by decide) q156 (Or.inl rfl) (v := .int (iI ((n : Nat) : Int))) rfl dJ13_hasNext_8 ?_
  refine r_icmp_eq (tgt := 18) hx hb ⟨by omega, by omega⟩ ⟨by omega, by omega⟩ dJ13_hasNext_11 (by decide) (fun c11 => ?_) (fun c11 => ?_)
  · skip
    refine lv_iconst (v := (iI ((0 : Nat) : Int))) hx hb dJ13_hasNext_18 rfl ?_
    refine r_zret hx hb hr hlk hQ hS (Nat.le_of_ble_eq_true rfl) (Nat.le_of_ble_eq_true rfl) dJ13_hasNext_19 rfl ?_
    exact ⟨(congrArg (fun q : Bool => some (Value.int (iI (bI q)))) (Eq.symm (decide_eq_false (by omega)))), rfl⟩
  · skip
    refine lv_iconst (v := (iI ((1 : Nat) : Int))) hx hb dJ13_hasNext_14 rfl ?_
    refine lv_goto (tgt := 19) hx hb dJ13_hasNext_15 (by decide) ?_
    refine r_zret hx hb hr hlk hQ hS (Nat.le_of_ble_eq_true rfl) (Nat.le_of_ble_eq_true rfl) dJ13_hasNext_19 rfl ?_
    exact ⟨(congrArg (fun q : Bool => some (Value.int (iI (bI q)))) (Eq.symm (decide_eq_true (by omega)))), rfl⟩
set_option maxHeartbeats 4000000 in
theorem c_J13_checkForComodification (G : fp_G) (x : Nat) (ed : Nat) (mc : Int32) (n : Nat) (cap : Nat) (b : Nat → Nat) (y : Nat) (k : Nat) : fp_M G yJ13_checkForComodification cJ13_checkForComodification 1 none 1 12 0 0 [.ref (y)] (fun H => fp_IE G y k x mc n H ∧ fp_LE G x ed mc n cap b H) fp_no (fun H v H1 => v = none ∧ H = H1) := by
  refine fp_M.intro (by decide) (Nat.le_of_ble_eq_true rfl) ?_
  intro pg en s mi ag bl mt cd rR qQ ls X hx hb hr hlk hnm hR hQ hB hM hl
  have hS : va_S (fA fp_no s.heap.size) s.heap s.heap [] := va_S.rf
  generalize ([] : List Loc) = locs at hS ⊢
  have hb0 := hB.1
  obtain ⟨h_it, h_ls⟩ := hM
  have hsz0 := hS.1
  have lt_1 := h_it.lt
  have lt_2 := h_ls.1.lt
  have lt_3 := h_ls.2.2
  refine lv_aload_n hx hb dJ13_checkForComodification_0 rfl (lv_at hl 0 rfl) ?_
  obtain ⟨⟨lr_4, hE_5⟩, hle_6⟩ := id h_it
  refine r_get X hE_5 rfl in_J13 3 (by decide) q288 (Or.inl rfl) (v := .ref (x)) rfl dJ13_checkForComodification_1 ?_
  refine r_get X h_ls.1 rfl in_J2 0 (by decide) q159 (Or.inr q160) (v := .int (mc)) rfl dJ13_checkForComodification_4 ?_
  refine lv_aload_n hx hb dJ13_checkForComodification_7 rfl (lv_at hl 0 rfl) ?_
  obtain ⟨⟨lr_7, hE_8⟩, hle_9⟩ := id h_it
  refine r_get X hE_8 rfl in_J13 2 (by decide) q287 (Or.inl rfl) (v := .int (mc)) rfl dJ13_checkForComodification_8 ?_
  refine lv_icmp_eq (tgt := 22) hx hb dJ13_checkForComodification_11 (by decide) (fun c11 => ?_) (fun c11 => ?_)
  · skip
    refine r_vret hx hb hr hlk hQ hS (Nat.le_of_ble_eq_true rfl) (Nat.le_of_ble_eq_true rfl) dJ13_checkForComodification_22 ?_
    exact ⟨rfl, rfl⟩
  · exact absurd rfl c11
set_option maxHeartbeats 4000000 in
theorem c_J13_next (G : fp_G) (x : Nat) (ed : Nat) (mc : Int32) (n : Nat) (cap : Nat) (b : Nat → Nat) (y : Nat) (k : Nat) (hlt : k < n) (hyx : y ≠ x ∧ y ≠ ed) : fp_M G yJ13_next cJ13_next 3 (some (.object "java/lang/Object")) 2 32 0 0 [.ref (y)] (fun H => fp_IE G y k x mc n H ∧ fp_LE G x ed mc n cap b H) (fun q => (g_s G).heap.size ≤ q ∧ (q = y)) (fun H v H1 => v = some (.ref (b k)) ∧ fp_IE G y (k + 1) x mc n H1) := by
  refine fp_M.intro (by decide) (Nat.le_of_ble_eq_true rfl) ?_
  intro pg en s mi ag bl mt cd rR qQ ls X hx hb hr hlk hnm hR hQ hB hM hl
  have hS : va_S (fA (fun q => (g_s G).heap.size ≤ q ∧ (q = y)) s.heap.size) s.heap s.heap [] := va_S.rf
  generalize ([] : List Loc) = locs at hS ⊢
  have hb0 := hB.1
  have hAb : ∀ q, (fun q => (g_s G).heap.size ≤ q ∧ (q = y)) q → (g_s G).heap.size ≤ q := fun q h => h.1
  obtain ⟨h_it, h_ls⟩ := hM
  have hsz0 := hS.1
  have lt_1 := h_it.lt
  have lt_2 := h_ls.1.lt
  have lt_3 := h_ls.2.2
  obtain ⟨hnc, hc1000, f, hrow, hf⟩ := h_ls.row hlt
  refine lv_aload_n hx hb dJ13_next_0 rfl (lv_at hl 0 rfl) ?_
  obtain ⟨⟨lr_4, hE_5⟩, hle_6⟩ := id h_it
  refine r_callV (cells1 := 0) (slots1 := 0) X hR (c_J13_checkForComodification G x ed mc n cap b y k) q317 q318 q319 q105 q320 ⟨rfl, pd_J13_checkForComodification⟩ ⟨Nat.le_of_ble_eq_true rfl, Nat.le_of_ble_eq_true rfl⟩ rfl rfl (Nat.le_of_ble_eq_true rfl) (Nat.le_of_ble_eq_true rfl) hE_5 rfl rfl (Nat.le_of_ble_eq_true rfl) hl.1 dJ13_next_1 (hB.of hS hAb) ⟨h_it, h_ls⟩ hS (fun _ h => h.elim) (fun v H_10 locs hp_7 hz_8 hk_9 hS => ?_)
  obtain ⟨rfl, rfl⟩ := hp_7
  refine r_stk (st2 := []) rfl ?_
  obtain ⟨⟨lr, h_i0⟩, hkn, hyb⟩ := h_it
  have lt_11 := hrow.lt
  refine lv_aload_n hx hb dJ13_next_4 rfl (lv_at hl 0 rfl) ?_
  refine r_get X h_i0 rfl in_J13 0 (by decide) q285 (Or.inl rfl) (v := .int (iI ((k : Nat) : Int))) rfl dJ13_next_5 ?_
  refine lv_istore_n (lv' := [(1, .int (iI ((k : Nat) : Int))), (0, .ref (y))]) hx hb dJ13_next_8 rfl hl (by decide) rfl (fun ls hl => ?_)
  refine lv_iload_n hx hb dJ13_next_9 rfl (lv_at hl 0 rfl) ?_
  refine lv_aload_n hx hb dJ13_next_10 rfl (lv_at hl 1 rfl) ?_
  refine r_get X h_i0 rfl in_J13 3 (by decide) q288 (Or.inl rfl) (v := .ref (x)) rfl dJ13_next_11 ?_
  refine r_getN X h_ls.1 rfl in_J2 2 (by decide) q156 (Or.inl rfl) (v := .int (iI ((n : Nat) : Int))) rfl dJ13_next_14 ?_
  refine r_icmp_lt (tgt := 28) hx hb ⟨by omega, by omega⟩ ⟨by omega, by omega⟩ dJ13_next_17 (by decide) (fun c17 => ?_) (fun c17 => ?_)
  · skip
    refine lv_aload_n hx hb dJ13_next_28 rfl (lv_at hl 1 rfl) ?_
    refine r_get X h_i0 rfl in_J13 3 (by decide) q288 (Or.inl rfl) (v := .ref (x)) rfl dJ13_next_29 ?_
    refine r_get X h_ls.1 rfl in_J2 1 (by decide) q155 (Or.inl rfl) (v := .ref (ed)) rfl dJ13_next_32 ?_
    refine lv_astore_n (lv' := [(2, .ref (ed)), (1, .int (iI ((k : Nat) : Int))), (0, .ref (y))]) hx hb dJ13_next_35 rfl hl (by decide) rfl (fun ls hl => ?_)
    refine lv_iload_n hx hb dJ13_next_36 rfl (lv_at hl 1 rfl) ?_
    refine lv_aload_n hx hb dJ13_next_37 rfl (lv_at hl 0 rfl) ?_
    refine r_alen X (t := 4) rfl hrow (v := (iI ((cap : Nat) : Int))) rfl dJ13_next_38 ?_
    refine r_icmp_lt (tgt := 50) hx hb ⟨by omega, by omega⟩ ⟨by omega, by omega⟩ dJ13_next_39 (by decide) (fun c39 => ?_) (fun c39 => ?_)
    · skip
      refine lv_aload_n hx hb dJ13_next_50 rfl (lv_at hl 2 rfl) ?_
      refine lv_iload_n hx hb dJ13_next_51 rfl (lv_at hl 1 rfl) ?_
      refine lv_iconst (v := (iI ((1 : Nat) : Int))) hx hb dJ13_next_52 rfl ?_
      refine r_iaddN hx hb dJ13_next_53 ?_
      refine r_put X h_i0 hS (Or.inl ⟨by omega, rfl⟩) rfl in_J13 tyJ13_ok nmJ13 0 (by decide) q285 (Or.inl rfl) rfl rfl rfl (show 0 < 4 by decide) dJ13_next_54 (fun H_15 locs hE_12 hz_13 hq_14 hS => ?_)
      have hz_16 := hS.1
      refine lv_aload_n hx hb dJ13_next_57 rfl (lv_at hl 0 rfl) ?_
      refine lv_aload_n hx hb dJ13_next_58 rfl (lv_at hl 2 rfl) ?_
      refine lv_iload_n hx hb dJ13_next_59 rfl (lv_at hl 1 rfl) ?_
      refine lv_dup_x1 hx hb dJ13_next_60 rfl rfl ?_
      refine r_put X hE_12 hS (Or.inl ⟨by omega, rfl⟩) rfl in_J13 tyJ13_ok nmJ13 1 (by decide) q286 (Or.inl rfl) rfl rfl rfl (show 1 < 4 by decide) dJ13_next_61 (fun H_20 locs hE_17 hz_18 hq_19 hS => ?_)
      have hz_21 := hS.1
      have hE_22 := fp_At.kept hrow (fp_keptS (by omega) hS (by omega))
      refine r_aaldI X rfl hE_22 (j := k) rfl (by omega) (by omega) dJ13_next_64 ?_
      refine r_set (y := .ref (b k)) (by rw [hf k hlt]; rfl) ?_
      refine r_aret hx hb hr hlk hQ hS (Nat.le_of_ble_eq_true rfl) (Nat.le_of_ble_eq_true rfl) dJ13_next_65 (Or.inl ⟨_, rfl⟩) (Or.inr ⟨_, rfl⟩) ?_
      exact ⟨rfl, (⟨⟨_, hE_17⟩, hlt, hyb⟩)⟩
    · skip
      exact absurd c39 (by omega)
  · skip
    exact absurd c17 (by omega)
set_option maxHeartbeats 4000000 in
theorem c_J13_init (G : fp_G) (x : Nat) (ed : Nat) (mc : Int32) (n : Nat) (cap : Nat) (b : Nat → Nat) (y : Nat) (hyb : (g_s G).heap.size ≤ y) (hyx : y ≠ x ∧ y ≠ ed) : fp_M G yJ13_init cJ13_init 2 none 2 30 0 0 [.ref (y), .ref (x)] (fun H => fp_At G H y (eO 9 [.int (iI ((0 : Nat) : Int)), .int (iI ((0 : Nat) : Int)), .int (iI ((0 : Nat) : Int)), .null]) ∧ fp_LE G x ed mc n cap b H) (fun q => (g_s G).heap.size ≤ q ∧ (q = y)) (fun H v H1 => v = none ∧ fp_IE G y 0 x mc n H1) := by
  refine fp_M.intro (by decide) (Nat.le_of_ble_eq_true rfl) ?_
  intro pg en s mi ag bl mt cd rR qQ ls X hx hb hr hlk hnm hR hQ hB hM hl
  have hS : va_S (fA (fun q => (g_s G).heap.size ≤ q ∧ (q = y)) s.heap.size) s.heap s.heap [] := va_S.rf
  generalize ([] : List Loc) = locs at hS ⊢
  have hb0 := hB.1
  have hAb : ∀ q, (fun q => (g_s G).heap.size ≤ q ∧ (q = y)) q → (g_s G).heap.size ≤ q := fun q h => h.1
  obtain ⟨h_it, h_ls⟩ := hM
  have hsz0 := hS.1
  have lt_1 := h_it.lt
  have lt_2 := h_ls.1.lt
  have lt_3 := h_ls.2.2
  refine lv_aload_n hx hb dJ13_init_0 rfl (lv_at hl 0 rfl) ?_
  refine lv_aload_n hx hb dJ13_init_1 rfl (lv_at hl 1 rfl) ?_
  refine r_putF X h_it hS (Or.inl ⟨by omega, rfl⟩) rfl in_J13 tyJ13_ok nmJ13 3 (by decide) q288 (Or.inl rfl) rfl hnm rfl rfl rfl (show 3 < 4 by decide) dJ13_init_2 (fun H_7 locs hE_4 hz_5 hq_6 hS => ?_)
  have hz_8 := hS.1
  refine lv_aload_n hx hb dJ13_init_5 rfl (lv_at hl 0 rfl) ?_
  refine r_objInit X hR q284 q132 q133 hl.1 (by decide) (Nat.le_of_ble_eq_true rfl) dJ13_init_6 ?_
  refine lv_aload_n hx hb dJ13_init_9 rfl (lv_at hl 0 rfl) ?_
  refine lv_iconst (v := (iI (-1))) hx hb dJ13_init_10 rfl ?_
  refine r_put X hE_4 hS (Or.inl ⟨by omega, rfl⟩) rfl in_J13 tyJ13_ok nmJ13 1 (by decide) q286 (Or.inl rfl) rfl rfl rfl (show 1 < 4 by decide) dJ13_init_11 (fun H_12 locs hE_9 hz_10 hq_11 hS => ?_)
  have hz_13 := hS.1
  refine lv_aload_n hx hb dJ13_init_14 rfl (lv_at hl 0 rfl) ?_
  refine lv_aload_n hx hb dJ13_init_15 rfl (lv_at hl 0 rfl) ?_
  refine r_get X hE_9 rfl in_J13 3 (by decide) q288 (Or.inl rfl) (v := .ref (x)) rfl dJ13_init_16 ?_
  have hE_14 := fp_LE.mv h_ls (fp_keptS (by omega) hS (by omega)) (fp_keptS (by omega) hS (by omega))
  refine r_get X hE_14.1 rfl in_J2 0 (by decide) q159 (Or.inr q160) (v := .int (mc)) rfl dJ13_init_19 ?_
  refine r_put X hE_9 hS (Or.inl ⟨by omega, rfl⟩) rfl in_J13 tyJ13_ok nmJ13 2 (by decide) q287 (Or.inl rfl) rfl rfl rfl (show 2 < 4 by decide) dJ13_init_22 (fun H_18 locs hE_15 hz_16 hq_17 hS => ?_)
  have hz_19 := hS.1
  refine r_vret hx hb hr hlk hQ hS (Nat.le_of_ble_eq_true rfl) (Nat.le_of_ble_eq_true rfl) dJ13_init_25 ?_
  exact ⟨rfl, (⟨⟨_, hE_15⟩, Nat.zero_le _, hyb⟩)⟩
set_option maxHeartbeats 4000000 in
theorem c_J2_iterator (G : fp_G) (x : Nat) (ed : Nat) (mc : Int32) (n : Nat) (cap : Nat) (b : Nat → Nat) : fp_M G yJ2_iterator cJ2_iterator 1 (some (.object "java/util/Iterator")) 3 51 1 4 [.ref (x)] (fun H => fp_LE G x ed mc n cap b H) fp_no (fun H v H1 => ∃ (y : Nat), v = some (.ref (y)) ∧ (y = H.size) ∧ fp_IE G y 0 x mc n H1) := by
  refine fp_M.intro (by decide) (Nat.le_of_ble_eq_true rfl) ?_
  intro pg en s mi ag bl mt cd rR qQ ls X hx hb hr hlk hnm hR hQ hB hM hl
  have hS : va_S (fA fp_no s.heap.size) s.heap s.heap [] := va_S.rf
  generalize ([] : List Loc) = locs at hS ⊢
  have hb0 := hB.1
  have h_ls := hM
  have hsz0 := hS.1
  have lt_1 := h_ls.1.lt
  have lt_2 := h_ls.2.2
  refine r_new (ci := 9) (fs := [.int (iI ((0 : Nat) : Int)), .int (iI ((0 : Nat) : Int)), .int (iI ((0 : Nat) : Int)), .null]) X hR hS rfl in_J13 tyJ13_ok q279 q280 q105 (by intro j hj; rcases (show j = 0 ∨ j = 1 ∨ j = 2 ∨ j = 3 by omega) with rfl | rfl | rfl | rfl <;> rfl) (Nat.le_of_ble_eq_true rfl) (Nat.le_of_ble_eq_true rfl) dJ2_iterator_0 (fun q_3 H_4 hq_8 hE_5 hX_6 hz_7 hS => ?_)
  have hz_9 := hS.1
  have lt_10 := hE_5.lt
  refine lv_dup hx hb dJ2_iterator_3 rfl ?_
  refine lv_aload_n hx hb dJ2_iterator_4 rfl (lv_at hl 0 rfl) ?_
  have hE_11 := h_ls.ext (fp_X.ofS hS)
  refine r_callI (cells1 := 1) (slots1 := 4) X hR (c_J13_init G x ed mc n cap b q_3 (by omega) (by omega)) q281 q282 q105 q283 rfl ⟨by decide, by decide, rfl⟩ ⟨Nat.le_of_ble_eq_true rfl, Nat.le_of_ble_eq_true rfl⟩ rfl rfl (Nat.le_of_ble_eq_true rfl) (Nat.le_of_ble_eq_true rfl) rfl (Nat.le_of_ble_eq_true rfl) hl.1 dJ2_iterator_5 (hB.of hS fp_no.base) ⟨hE_5, hE_11⟩ hS (fun q h => Or.inr (by have h2 : (g_s G).heap.size ≤ q ∧ (q = q_3) := h; omega)) (fun v H_15 locs hp_12 hz_13 hk_14 hS => ?_)
  obtain ⟨rfl, hE_16⟩ := hp_12
  have hz_17 := hS.1
  have lt_18 := hE_16.lt
  refine r_stk (st2 := [.ref (q_3)]) rfl ?_
  refine r_aret hx hb hr hlk hQ hS (Nat.le_of_ble_eq_true rfl) (Nat.le_of_ble_eq_true rfl) dJ2_iterator_8 (Or.inl ⟨_, rfl⟩) (Or.inr ⟨_, rfl⟩) ?_
  exact ⟨q_3, rfl, (by omega), hE_16⟩
