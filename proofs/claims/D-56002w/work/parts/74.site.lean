/-! SITES OF LAMBDAS -/
set_option maxRecDepth 100000
theorem fp_M.introN {G : fp_G} {y : MethodName} {cc : ByteArray} {maxL : Nat} {ret : Option FieldType} {fr lo mc ms : Nat} {av : List Value} {Pre : Heap → Prop} {A : Nat → Prop} {Post : Heap → Option Value → Heap → Prop}
    (hy : plainName y.cls = true) (hlen : (lg_sl av).length ≤ maxL)
    (body : ∀ (p : Program) (e : Env) (s : State) (m : MethodId) (args : Array Value) (below : List Frame) (meth : Method) (c : Code) (R : Room) (Q : State → Prop) (ls : Array Slot), s.methodNamed? y = some m →
      fp_C G p s m args c cc y.cls maxL → p.tables.exec = Jvm.exec → c.code = cc → meth.sig.returnType = ret → meth.locks = false → meth.name = y.name → fp_R R fr lo mc ms → Q = MQ below (fp_Q A s.heap.size Post) args s mc ms (fA A s.heap.size) →
      fp_B G s.heap → Pre s.heap → lv_has ls maxL (lv_args 0 av) →
      W p (g_l G) e R s m args below meth c s.heap [] 0 0 Q (F0 m 0 ls [])) : fp_M G y cc maxL ret fr lo mc ms av Pre A Post := by
  intro sz
  refine Met.ofW (cc := cc) (maxL := maxL) (ret := ret) hy rfl ?_
  intro p e s m args below meth c s₁ B hml hv
  obtain ⟨rfl, hsz, hK, hB, hP⟩ := hv
  subst hsz
  have hts := atoms_spec (ws := ws_ y cc maxL ret) B.pre
  rw [lg_entry_eq]
  exact body p e s m av.toArray below meth c _ _ _ B.named ⟨B.exec, B.bytes, hml, findClass_of_methodNamed B.named, fun w h => hts w (List.mem_cons_of_mem _ h), hK⟩ B.exec B.bytes B.returns B.notSynchronized (name_of_methodNamed B.named B.method).1 ⟨rfl, rfl, rfl, rfl⟩ rfl hB hP (lv_entry av hlen)
theorem fp_K.site {G : fp_G} {U : State} {x : MethodName} {pc idx : Nat} {σ : Lambda.Shape} (hK : fp_K G U) (hw : Cond.lambdaSite x pc idx σ ∈ flatC (Jvm.Cond.and given_1 narrow_1)) : ∃ cK : ClassId, fp_Lm G x.cls σ cK ∧ ∃ (m : MethodId) (k : Class) (cf : ClassFile.ClassFile) (i0 p0 : Nat) (l : Linked), U.methodNamed? x = some m ∧ U.vm.classes[m.cls]? = some k ∧ k.cf = some cf ∧ Lambda.shapeOf? cf idx = some σ ∧ (k.callSites.find? fun y => y.1 == m.idx && y.2.1 == pc) = some (i0, p0, l) ∧
    ((∃ a, l = .constant a ∧ σ.captured = [] ∧ a < (g_s G).heap.size ∧ ∀ H, fp_B G H → fp_ob H a cK []) ∨ (l = .makes cK ∧ σ.captured ≠ [])) := by
  obtain ⟨cK, one, hat⟩ := Cond.lambdaSite_spec (hK.flat _ hw)
  obtain ⟨m, k, cf, i0, p0, l, hm, hk, hcf, hshape, -, hfind, hmade, hcan, hlk⟩ := State.lambdaAt?_spec hat
  obtain ⟨k', hk', hnameS⟩ := className_of_methodNamed hm
  cases hk.symm.trans hk'
  have hA := hK.2.alike
  obtain ⟨kU, hkU, he⟩ := hA.2.2 _ _ hk
  have hmU : U.methodNamed? x = some m := by
    have := State.methodNamed?_setVm (s := g_s G) hA x
    rw [hm] at this
    exact this
  refine ⟨cK, ⟨m.cls, k, hk, hnameS, hmade, hcan⟩, m, kU, cf, i0, p0, l, hmU, hkU, by rw [he]; exact hcf, hshape, by rw [he]; exact hfind, ?_⟩
  rcases hlk with ⟨a, cell, h1, -, h3, h4, h5, h6, h7⟩ | ⟨h1, -, h3⟩
  · have hlt := (Array.getElem?_eq_some_iff.mp h4).1
    exact Or.inl ⟨a, h1, h3, hlt, fun H hB => ⟨cell, (hB.2 a hlt).trans h4, h5, h6, h7⟩⟩
  · exact Or.inr ⟨h1, h3⟩
theorem fp_Lm.kd {G : fp_G} {own : String} {σ : Lambda.Shape} {cK : ClassId} {U : State} {D : ClassFile.ClassFile} {fw : Method} {laid : Array Field × Array FieldType × Array FieldType} (h : fp_Lm G own σ cK) (hs : fp_Ls own σ D fw laid) (hK : fp_K G U) : ∃ k : Class, U.vm.classes[cK]? = some k ∧ k.kind = .ordinary ∧ k.instanceTypes = laid.2.1 := by
  obtain ⟨k, tk, file, b, t, iface, target, found, hk, -, -, -, -, -, -, -, -, -, hit⟩ := h.made hs hK
  obtain ⟨d, dk0, hd, hname, hmade, hcall⟩ := h.at hK
  obtain ⟨dk, k2, ok, tk2, file2, cf, object, iface2, t2, lay, methods, target2, found2, hd', hk2, hfile, hcf, hobj, hi, hok, hlay, hms, ht, htk, hg, hf, hrec, -⟩ := Lambda.isMade_spec hmade
  cases hk.symm.trans hk2
  exact ⟨k, hk, hrec.2.1, hit⟩
theorem fp_m3 {α : Type} {L : Array Nat} {f : Nat → Nat → Nat → Option α} {r : α} (h : Lambda.shapeOf?.match_15 (fun _ => Option α) L f (fun _ => none) = some r) : ∃ a0 a1 a2, f a0 a1 a2 = some r := by
  rcases L with ⟨L⟩
  rcases L with _ | ⟨a0, _ | ⟨a1, _ | ⟨a2, _ | ⟨a3, L⟩⟩⟩⟩
  · cases h
  · cases h
  · cases h
  · exact ⟨a0, a1, a2, h⟩
  · cases h
theorem fp_shape {cf : ClassFile.ClassFile} {index : Nat} {σ : Lambda.Shape} (h : Lambda.shapeOf? cf index = some σ) : ∃ (b nt : Nat) (name desc : String) (site : MethodDescriptor), cf.constantPool[index]? = some (.invokeDynamic b nt) ∧ cf.constantPool.nameAndType? nt = some (name, desc) ∧ parseMethodDescriptor desc = some site ∧ site.parameters = σ.captured := by
  unfold Lambda.shapeOf? at h
  have hcp : ∀ x : Option CpInfo, cf.constantPool[index]? = x → ∃ b nt, x = some (.invokeDynamic b nt) := fun x hx => by
    rw [hx] at h
    rcases x with _ | x
    · cases h
    · cases x <;> first | cases h | exact ⟨_, _, rfl⟩
  obtain ⟨b, nt, hidx⟩ := hcp _ rfl
  rw [hidx] at h
  obtain ⟨entries, -, h⟩ := Option.bind_eq_some_iff.mp h
  obtain ⟨bm, -, h⟩ := Option.bind_eq_some_iff.mp h
  generalize cf.constantPool[bm.bootstrapMethodRef]? = y1 at h
  rcases y1 with _ | y1
  · cases h
  obtain ⟨r1, rfl⟩ : ∃ r1, y1 = .methodHandle 6 r1 := by
    cases y1 with
    | methodHandle k r =>
      by_cases hk : k = 6
      · subst hk
        exact ⟨r, rfl⟩
      · exfalso
        revert h
        match k, hk with
        | 0, _ => intro h; cases h
        | 1, _ => intro h; cases h
        | 2, _ => intro h; cases h
        | 3, _ => intro h; cases h
        | 4, _ => intro h; cases h
        | 5, _ => intro h; cases h
        | 6, hk => exact absurd rfl hk
        | n + 7, _ => intro h; cases h
    | _ => cases h
  obtain ⟨u1, -, h⟩ := Option.bind_eq_some_iff.mp h
  obtain ⟨a0, a1, a2, h⟩ := fp_m3 h
  generalize cf.constantPool[a0]? = z0 at h
  rcases z0 with _ | z0
  · cases h
  cases z0 <;> try cases h
  generalize cf.constantPool[a1]? = z1 at h
  rcases z1 with _ | z1
  · cases h
  cases z1 <;> try cases h
  generalize cf.constantPool[a2]? = z2 at h
  rcases z2 with _ | z2
  · cases h
  cases z2 <;> try cases h
  obtain ⟨⟨name, desc⟩, hnt, h⟩ := Option.bind_eq_some_iff.mp h
  obtain ⟨site, hsite, h⟩ := Option.bind_eq_some_iff.mp h
  generalize hrt : site.returnType = rt at h
  rcases rt with _ | rt
  · cases h
  cases rt <;> try cases h
  obtain ⟨⟨m1, m2, m3, m4⟩, -, h⟩ := Option.bind_eq_some_iff.mp h
  obtain ⟨x1, -, h⟩ := Option.bind_eq_some_iff.mp h
  obtain ⟨x2, -, h⟩ := Option.bind_eq_some_iff.mp h
  obtain ⟨x3, -, h⟩ := Option.bind_eq_some_iff.mp h
  obtain ⟨x4, -, h⟩ := Option.bind_eq_some_iff.mp h
  obtain ⟨x5, -, h⟩ := Option.bind_eq_some_iff.mp h
  cases h
  exact ⟨b, nt, name, desc, site, hidx, hnt, hsite, rfl⟩
theorem fp_Ls.of {own : String} {σ : Lambda.Shape} {D0 : ClassFile.ClassFile} {D : ClassFile.ClassFile} {fw : Method} {laid : Array Field × Array FieldType × Array FieldType} (h1 : (σ.file own).isSome = true) (e1 : D = (σ.file own).getD D0) (h2 : ((layoutMethods D).bind (·[1]?)).isSome = true) (e2 : fw = ((layoutMethods D).bind (·[1]?)).getD default) (h3 : (layoutFields D 0).isSome = true) (e3 : laid = (layoutFields D 0).getD (#[], #[], #[])) : fp_Ls own σ D fw laid := by
  obtain ⟨x, hx⟩ := Option.isSome_iff_exists.mp h1
  obtain ⟨y, hy⟩ := Option.isSome_iff_exists.mp h2
  obtain ⟨z, hz⟩ := Option.isSome_iff_exists.mp h3
  refine ⟨by rw [e1, hx]; rfl, fun ms hms => ?_, by rw [e3, hz]; rfl⟩
  rw [hy] at e2
  rw [hms] at hy
  rw [e2]
  exact hy
theorem fp_Lg.of {D : ClassFile.ClassFile} {laid : Array Field × Array FieldType × Array FieldType} {idx j ci nt : Nat} {name desc : String} (h1 : D.constantPool[idx]? = some (.fieldref ci nt)) (h2 : D.constantPool.nameAndType? nt = some (name, desc)) (h3 : laid.1.findIdx? (·.name == name) = some j) (h4 : (laid.1[j]?).map (fun f => (f.isStatic, f.slot)) = some (false, j)) : fp_Lg D laid idx j := by
  obtain ⟨f, hf, he⟩ := Option.map_eq_some_iff.mp h4
  exact ⟨ci, nt, name, desc, f, h1, h2, h3, hf, congrArg Prod.fst he, congrArg Prod.snd he⟩
section FPL10
variable {G : fp_G} {p : Program} {e : Env} {R : Room} {s : State} {m : MethodId} {args : Array Value} {below : List Frame} {meth : Method} {c : Code} {H : Heap} {locs : List Loc} {cells slots : Nat} {Q : State → Prop}
variable {cc : ByteArray} {pc nL : Nat} {ls : Array Slot} {rest : List Value} {own : String} {A0 : Nat → Prop} {mc0 ms0 : Nat} {H0 : Heap}
theorem fp_llw (ha : (g_l G).admits e) : e.platform.lambdaLinkWords = 3072 := by rw [ha.platform]
theorem r_indyC {x : MethodName} {σ : Lambda.Shape} {idx fr lo mc ms : Nat} (X : fp_C G p s m args c cc own nL) (hn : s.methodNamed? x = some m) (hR : fp_R R fr lo mc ms) (hw : Cond.lambdaSite x pc idx σ ∈ flatC (Jvm.Cond.and given_1 narrow_1)) (hcap : σ.captured = []) (hB : fp_B G H) (hlo : (rest.map fun v => v.category).sum + 3072 ≤ lo) (hls : ls.size = nL) (hd : decode cc pc = .ok (.invokedynamic idx, 5))
    (kk : ∀ (cK : ClassId) (a : Nat), fp_Lm G x.cls σ cK → fp_ob H a cK [] → a < (g_s G).heap.size → W p (g_l G) e R s m args below meth c H locs cells slots Q (F0 m (pc + 5) ls (.ref a :: rest))) : W p (g_l G) e R s m args below meth c H locs cells slots Q (F0 m pc ls rest) := by
  obtain ⟨hx, hb, hml, hown, hts, hK⟩ := X
  obtain ⟨rfl, rfl, -, -⟩ := hR
  obtain ⟨cK, hL, m', k, cf, i0, p0, l, hm, hk, hcf, hshape, hfind, hlk⟩ := hK.site hw
  cases hn.symm.trans hm
  rcases hlk with ⟨a, rfl, -, hlt, hob⟩ | ⟨-, h⟩
  · intro T hT X
    obtain ⟨t, h1, h2⟩ := kk cK a hL (hob H hB) hlt T hT X
    refine ⟨t, X.lambdaConstant hx (g := F0 m pc ls rest) rfl (hls.trans hml.symm) (by rw [hb]; exact hd) hk hfind ?_ h1, h2⟩
    rw [fp_llw X.admits]
    show 2 * 0 + (rest.map fun v => v.category).sum + 3072 ≤ R.locals
    omega
  · exact absurd hcap h
theorem r_indyM {x : MethodName} {σ : Lambda.Shape} {D : ClassFile.ClassFile} {fw : Method} {laid : Array Field × Array FieldType × Array FieldType} {idx fr lo mc ms : Nat} {vals st0 : List Value} {A : Nat → Prop} (X : fp_C G p s m args c cc own nL) (hn : s.methodNamed? x = some m) (hR : fp_R R fr lo mc ms) (hw : Cond.lambdaSite x pc idx σ ∈ flatC (Jvm.Cond.and given_1 narrow_1)) (hcap : σ.captured ≠ []) (hs : fp_Ls x.cls σ D fw laid) (hS : va_S A H0 H locs) (hlen : vals.length = σ.captured.length) (hnar : ((laid.2.1.toList.zip vals).map fun (t, v) => narrow t v) = vals) (hfit : ∀ (i : Nat) (v : Value), vals[i]? = some v → ∃ t, laid.2.1[i]? = some t ∧ fits t v = true) (hst : st0 = vals.reverse ++ rest)
    (hlo : (st0.map fun v => v.category).sum + 3072 ≤ lo) (hcells : cells + 1 ≤ mc) (hslots : slots + vals.length ≤ ms) (hls : ls.size = nL) (hd : decode cc pc = .ok (.invokedynamic idx, 5))
    (kk : ∀ (cK : ClassId) (H1 : Heap), fp_Lm G x.cls σ cK → fp_ob H1 H.size cK vals → fp_X H H1 → H1.size = H.size + 1 → va_S A H0 H1 locs → W p (g_l G) e R s m args below meth c H1 locs (cells + 1) (slots + vals.length) Q (F0 m (pc + 5) ls (.ref H.size :: rest))) : W p (g_l G) e R s m args below meth c H locs cells slots Q (F0 m pc ls st0) := by
  obtain ⟨hx, hb, hml, hown, hts, hK⟩ := X
  obtain ⟨rfl, rfl, rfl, rfl⟩ := hR
  obtain ⟨cK, hL, m', k, cf, i0, p0, l, hm, hk, hcf, hshape, hfind, hlk⟩ := hK.site hw
  cases hn.symm.trans hm
  rcases hlk with ⟨a, -, h, -⟩ | ⟨rfl, -⟩
  · exact absurd h hcap
  obtain ⟨bsm, nt, name9, desc, site, hc, hnt, hsite, hpar⟩ := fp_shape hshape
  obtain ⟨kK, hkK, hkindK, htyK⟩ := hL.kd hs hK
  have hE : ((kK.instanceTypes.toList.zip vals).map fun (t, v) => narrow t v) = vals := by rw [htyK]; exact hnar
  intro T hT X
  obtain ⟨X₁, st1⟩ := X.lambdaMakes hx (g := F0 m pc ls st0) rfl (hls.trans hml.symm) (by rw [hb]; exact hd) (vals := vals) (rest := rest) hk hfind hcf hc hnt (parseLong_of_parse hsite) (by rw [hpar]; exact hlen) hst hkK
    (by rw [fp_llw X.admits]; show 2 * 0 + (st0.map fun v => v.category).sum + 3072 ≤ R.locals; omega) hcells (by rw [hE]; exact hslots)
    (fun i v hv => by
      rw [hE] at hv
      obtain ⟨t, ht1, ht2⟩ := hfit i v (by simpa using hv)
      simp [State.fitsSlot, State.slotType?, hkK, hkindK, htyK, ht1, ht2])
  rw [hE] at X₁ st1
  have hsz : (vals.toArray).size = vals.length := by simp
  rw [hsz] at X₁
  subst hT
  have h1 : (T.pushCell { cls := cK, slots := vals.toArray, vm := .none }).heap = T.heap.push { cls := cK, slots := vals.toArray, vm := .none } := rfl
  have z1 : (T.pushCell { cls := cK, slots := vals.toArray, vm := .none }).heap.size = T.heap.size + 1 := by rw [h1, Array.size_push]
  have o1 : ∀ q : Nat, q < T.heap.size → (T.pushCell { cls := cK, slots := vals.toArray, vm := .none }).heap[q]? = T.heap[q]? := fun q hq => by rw [h1, Array.getElem?_push, if_neg (Nat.ne_of_lt hq)]
  obtain ⟨t, a1, a2⟩ := kk cK _ hL ⟨_, by rw [h1]; exact Array.getElem?_push_size, rfl, rfl, rfl⟩ ⟨by omega, o1⟩ z1 ⟨Nat.le_trans hS.1 (by omega), fun x h1 h2 => (o1 x (Nat.lt_of_lt_of_le h1 hS.1)).trans (hS.2.1 x h1 h2), hS.2.2⟩ _ rfl X₁
  exact ⟨t, st1 t a1, a2⟩
end FPL10
