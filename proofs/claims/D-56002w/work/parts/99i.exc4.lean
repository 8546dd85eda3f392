/-! HANDLERS: the four exceptions are apart -/
set_option maxRecDepth 100000
theorem fp_K.nc {G : fp_G} {U : State} (hK : fp_K G U) {E T : String} (h : Cond.not (.castable E T) ∈ flatC (Jvm.Cond.and given_1 narrow_1)) : va_Nc E T U := va_Nc.moved hK.2.alike (va_Nc.of (hK.flat _ h))
theorem fp_nc01 : Cond.not (.castable "java/lang/IllegalArgumentException" "java/lang/IllegalStateException") ∈ flatC (Jvm.Cond.and given_1 narrow_1) := by decide +kernel
theorem fp_nc02 : Cond.not (.castable "java/lang/IllegalArgumentException" "java/lang/IndexOutOfBoundsException") ∈ flatC (Jvm.Cond.and given_1 narrow_1) := by decide +kernel
theorem fp_nc03 : Cond.not (.castable "java/lang/IllegalArgumentException" "java/util/NoSuchElementException") ∈ flatC (Jvm.Cond.and given_1 narrow_1) := by decide +kernel
theorem fp_nc10 : Cond.not (.castable "java/lang/IllegalStateException" "java/lang/IllegalArgumentException") ∈ flatC (Jvm.Cond.and given_1 narrow_1) := by decide +kernel
theorem fp_nc12 : Cond.not (.castable "java/lang/IllegalStateException" "java/lang/IndexOutOfBoundsException") ∈ flatC (Jvm.Cond.and given_1 narrow_1) := by decide +kernel
theorem fp_nc13 : Cond.not (.castable "java/lang/IllegalStateException" "java/util/NoSuchElementException") ∈ flatC (Jvm.Cond.and given_1 narrow_1) := by decide +kernel
theorem fp_nc20 : Cond.not (.castable "java/lang/IndexOutOfBoundsException" "java/lang/IllegalArgumentException") ∈ flatC (Jvm.Cond.and given_1 narrow_1) := by decide +kernel
theorem fp_nc21 : Cond.not (.castable "java/lang/IndexOutOfBoundsException" "java/lang/IllegalStateException") ∈ flatC (Jvm.Cond.and given_1 narrow_1) := by decide +kernel
theorem fp_nc23 : Cond.not (.castable "java/lang/IndexOutOfBoundsException" "java/util/NoSuchElementException") ∈ flatC (Jvm.Cond.and given_1 narrow_1) := by decide +kernel
theorem fp_nc30 : Cond.not (.castable "java/util/NoSuchElementException" "java/lang/IllegalArgumentException") ∈ flatC (Jvm.Cond.and given_1 narrow_1) := by decide +kernel
theorem fp_nc31 : Cond.not (.castable "java/util/NoSuchElementException" "java/lang/IllegalStateException") ∈ flatC (Jvm.Cond.and given_1 narrow_1) := by decide +kernel
theorem fp_nc32 : Cond.not (.castable "java/util/NoSuchElementException" "java/lang/IndexOutOfBoundsException") ∈ flatC (Jvm.Cond.and given_1 narrow_1) := by decide +kernel
theorem fp_ps_nil {α : Type} {P : α → Prop} : ∀ z ∈ ([] : List α), P z := fun _ h => nomatch h
theorem fp_ps_cons {α : Type} {P : α → Prop} {a : α} {l : List α} (h : P a) (hl : ∀ z ∈ l, P z) : ∀ z ∈ a :: l, P z := fun z hz => by
  rcases List.mem_cons.mp hz with rfl | hz
  · exact h
  · exact hl z hz
section FPMH0
variable {G : fp_G} {p : Program} {e : Env} {R : Room} {s : State} {m : MethodId} {args : Array Value} {below : List Frame} {meth : Method} {c : Code} {H : Heap} {locs : List Loc} {cells slots : Nat} {Q : State → Prop}
variable {cc : ByteArray} {pc nL : Nat} {ls : Array Slot} {rest : List Value} {own : String}
/-- an exception that a row for any class catches ('finally') -/
theorem r_catch0 {E : String} {ce : Cell} {q : Addr} {hh : List (Nat × Nat × Nat × Nat)} (X : fp_C G p s m args c cc own nL) (hT : c.exceptionTable.toList = tableOf hh) (pre : List ExceptionTableEntry) (x : ExceptionTableEntry) (suf : List ExceptionTableEntry) (hsplit : tableOf hh = pre ++ x :: suf)
    (hpass : ∀ z ∈ pre, covers z pc = false ∨ (z.catchType ≠ 0 ∧ ∃ nm : String, Cond.classLink own z.catchType nm ∈ lw_all ∧ va_Nc E nm s)) (hx : covers x pc = true) (h0 : x.catchType = 0) (hcell : H[q]? = some ce) (hv : ce.vm = .none) (hcl : s.vm.findClass E = some ce.cls)
    (kk : W p (g_l G) e R s m args below meth c H locs cells slots Q (F0 m x.handlerPc ls [.ref q])) : vx_W p (g_l G) e R s m args below meth c H locs cells slots Q (F0 m pc ls rest) q := by
  obtain ⟨-, -, -, hown, hts, -⟩ := X
  intro T hT2 X
  have hpl : e.platform.magicAccessors = ({} : Platform).magicAccessors := by rw [X.admits.platform]
  obtain ⟨vm', X', st⟩ := X.thenCaughtThrough q (g := F0 m pc ls rest) rfl (Steps.refl _) (by rw [hT2]; exact hcell) (by rw [hv]; rfl) (by obtain ⟨k9, h9, -⟩ := Vm.findClass_spec hcl; exact ⟨k9, h9⟩) pre x suf (hT.trans hsplit)
    (fun z hz => by
      rcases hpass z hz with h | ⟨hz0, nm, hl1, hn1⟩
      · exact Or.inl h
      · obtain ⟨c6, hc6, hcl6⟩ := Cond.classLink_spec hown (hts _ hl1) e.platform hpl
        obtain ⟨a8, b8, h1, h2, h3⟩ := hn1
        cases Option.some.inj (h1.symm.trans hcl)
        cases Option.some.inj (h2.symm.trans hc6)
        exact Or.inr ⟨hz0, _, hcl6, h3⟩) hx (Or.inl h0)
  obtain ⟨t, a1, b1⟩ := kk (T.setVm vm') hT2 X'
  exact ⟨t, st.trans a1, b1⟩
end FPMH0
