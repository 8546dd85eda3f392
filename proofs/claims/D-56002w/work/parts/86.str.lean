/-! STRINGS: of the run, and constants; one byte a sign -/
set_option maxRecDepth 100000
/-- what lies at or above the run's base -/
def fp_bs (G : fp_G) : Nat → Prop := fun a => (g_s G).heap.size ≤ a
theorem fp_K.tT {G : fp_G} {s : State} {A0 : Nat → Prop} {ty : FieldType} {t N : Nat} {f : Nat → Value} (hK : fp_K G s) (hB : fp_B G s.heap) (hA : ∀ q, A0 q → (g_s G).heap.size ≤ q) (h : va_T ty t N f (fp_bs G) (g_s G) (g_s G).heap) : va_T ty t N f (fA A0 s.heap.size) s s.heap :=
  ((h.kept (fun a ha _ => hB.2 a ha)).moved hK.2.alike).narrow (fA.base hA hB.1)
theorem fp_K.tO {G : fp_G} {s : State} {A0 : Nat → Prop} {E : String} {t : Nat} (hK : fp_K G s) (hB : fp_B G s.heap) (hA : ∀ q, A0 q → (g_s G).heap.size ≤ q) (h : va_O E t (fp_bs G) (g_s G) (g_s G).heap) : va_O E t (fA A0 s.heap.size) s s.heap :=
  ((h.kept (fun a ha _ => hB.2 a ha)).moved hK.2.alike).narrow (fA.base hA hB.1)
theorem fp_K.tF {G : fp_G} {s : State} {A0 : Nat → Prop} {o n d : String} {v : Value} {t : Nat} (hK : fp_K G s) (hB : fp_B G s.heap) (hA : ∀ q, A0 q → (g_s G).heap.size ≤ q) (h : va_OF o n d v t (fp_bs G) (g_s G) (g_s G).heap) : va_OF o n d v t (fA A0 s.heap.size) s s.heap :=
  ((h.kept (fun a ha _ => hB.2 a ha)).moved hK.2.alike).narrow (fA.base hA hB.1)
/-- a row of signs: of the run, or a constant's -/
def fp_RB (G : fp_G) (q n : Nat) (tx : Nat → Nat) (H : Heap) : Prop := (((g_s G).heap.size ≤ q ∧ fp_At G H q (eB G n (fun j => iI ((tx j : Nat) : Int)))) ∨ va_T .byte q n (fun j => .int (iI ((tx j : Nat) : Int))) (fp_bs G) (g_s G) (g_s G).heap) ∧ q < H.size ∧ (∀ i, i < n → tx i < 128) ∧ n ≤ 1000
theorem fp_RB.mv {G : fp_G} {q n : Nat} {tx : Nat → Nat} {H H1 : Heap} (h : fp_RB G q n tx H) (hq : H1[q]? = H[q]?) : fp_RB G q n tx H1 := ⟨h.1.imp (fun h => ⟨h.1, h.2.kept hq⟩) id, fp_ltk h.2.1 hq, h.2.2⟩
theorem fp_RB.ext {G : fp_G} {q n : Nat} {tx : Nat → Nat} {H H1 : Heap} (h : fp_RB G q n tx H) (hx : fp_X H H1) : fp_RB G q n tx H1 := h.mv (hx.2 _ h.2.1)
/-- a string's cell -/
def fp_SO (G : fp_G) (x vl : Nat) (H : Heap) : Prop := (((g_s G).heap.size ≤ x ∧ ∃ h1 h2 : Int32, fp_At G H x (eO 12 [.ref vl, .int (iI ((0 : Nat) : Int)), .int h1, .int h2])) ∨ (va_O "java/lang/String" x (fp_bs G) (g_s G) (g_s G).heap ∧ va_OF "java/lang/String" "coder" "B" (.int (iI ((0 : Nat) : Int))) x (fp_bs G) (g_s G) (g_s G).heap ∧ va_OF "java/lang/String" "value" "[B" (.ref vl) x (fp_bs G) (g_s G) (g_s G).heap)) ∧ x < H.size
theorem fp_SO.mv {G : fp_G} {x vl : Nat} {H H1 : Heap} (h : fp_SO G x vl H) (hq : H1[x]? = H[x]?) : fp_SO G x vl H1 := ⟨h.1.imp (fun ⟨h0, h1, h2, h⟩ => ⟨h0, h1, h2, h.kept hq⟩) id, fp_ltk h.2 hq⟩
theorem fp_SO.ext {G : fp_G} {x vl : Nat} {H H1 : Heap} (h : fp_SO G x vl H) (hx : fp_X H H1) : fp_SO G x vl H1 := h.mv (hx.2 _ h.2)
/-- a string: its row vl, its n signs -/
def fp_ST (G : fp_G) (x vl n : Nat) (tx : Nat → Nat) (H : Heap) : Prop := fp_SO G x vl H ∧ fp_RB G vl n tx H
theorem fp_ST.mv {G : fp_G} {x vl n : Nat} {tx : Nat → Nat} {H H1 : Heap} (h : fp_ST G x vl n tx H) (hx : H1[x]? = H[x]?) (he : H1[vl]? = H[vl]?) : fp_ST G x vl n tx H1 := ⟨h.1.mv hx, h.2.mv he⟩
theorem fp_ST.ext {G : fp_G} {x vl n : Nat} {tx : Nat → Nat} {H H1 : Heap} (h : fp_ST G x vl n tx H) (hx : fp_X H H1) : fp_ST G x vl n tx H1 := h.mv (hx.2 _ h.1.2) (hx.2 _ h.2.2.1)
/-- the number that the JDK makes of a text -/
def fp_hsh (tx : Nat → Nat) : Nat → Int32
  | 0 => 0
  | k + 1 => (iI ((31 : Nat) : Int)) * fp_hsh tx k + (iI ((tx k : Nat) : Int))
/-- a string of the run -/
def fp_HS (G : fp_G) (x vl n : Nat) (tx : Nat → Nat) (H : Heap) : Prop := (∃ h1 h2 : Int32, fp_At G H x (eO 12 [.ref vl, .int (iI ((0 : Nat) : Int)), .int h1, .int h2]) ∧ (h1 = fp_hsh tx n ∨ h1 = 0 ∧ h2 = 0)) ∧ fp_At G H vl (eB G n (fun j => iI ((tx j : Nat) : Int))) ∧ ((∀ i, i < n → tx i < 128) ∧ n ≤ 1000) ∧ (g_s G).heap.size ≤ x ∧ (g_s G).heap.size ≤ vl
theorem fp_HS.lt {G : fp_G} {x vl n : Nat} {tx : Nat → Nat} {H : Heap} (h : fp_HS G x vl n tx H) : x < H.size := by
  obtain ⟨⟨h1, h2, h3, -⟩, -⟩ := h
  exact h3.lt
theorem fp_HS.mv {G : fp_G} {x vl n : Nat} {tx : Nat → Nat} {H H1 : Heap} (h : fp_HS G x vl n tx H) (hx : H1[x]? = H[x]?) (he : H1[vl]? = H[vl]?) : fp_HS G x vl n tx H1 := by
  obtain ⟨⟨h1, h2, h3, h4⟩, h5, h6⟩ := h
  exact ⟨⟨h1, h2, h3.kept hx, h4⟩, h5.kept he, h6⟩
theorem fp_HS.ext {G : fp_G} {x vl n : Nat} {tx : Nat → Nat} {H H1 : Heap} (h : fp_HS G x vl n tx H) (hx : fp_X H H1) : fp_HS G x vl n tx H1 := h.mv (hx.2 _ h.lt) (hx.2 _ h.2.1.lt)
theorem fp_HS.st {G : fp_G} {x vl n : Nat} {tx : Nat → Nat} {H : Heap} (h : fp_HS G x vl n tx H) : fp_ST G x vl n tx H := by
  have hl := h.lt
  obtain ⟨⟨h1, h2, h3, -⟩, h5, h6, h7, h8⟩ := h
  exact ⟨⟨Or.inl ⟨h7, h1, h2, h3⟩, hl⟩, ⟨Or.inl ⟨h8, h5⟩, h5.lt, h6.1, h6.2⟩⟩
theorem fp_HS.ne {G : fp_G} {U : State} (hK : fp_K G U) {x vl n : Nat} {tx : Nat → Nat} {H : Heap} (h : fp_HS G x vl n tx H) : x ≠ vl := by
  obtain ⟨⟨h1, h2, h3, -⟩, h5, -⟩ := h
  exact fp_neOA hK (i := 12) (t := 2) rfl rfl h3 h5
theorem fp_hsh_cg {tx tx2 : Nat → Nat} {n : Nat} (e : ∀ i, i < n → tx i = tx2 i) : fp_hsh tx n = fp_hsh tx2 n := by
  induction n with
  | zero => rfl
  | succ k ih =>
    show (iI ((31 : Nat) : Int)) * fp_hsh tx k + (iI ((tx k : Nat) : Int)) = (iI ((31 : Nat) : Int)) * fp_hsh tx2 k + (iI ((tx2 k : Nat) : Int))
    rw [ih (fun i hi => e i (by omega)), e k (by omega)]
theorem fp_HS.cg {G : fp_G} {x vl n : Nat} {tx tx2 : Nat → Nat} {H : Heap} (h : fp_HS G x vl n tx H) (e : ∀ i, i < n → tx i = tx2 i) : fp_HS G x vl n tx2 H := by
  obtain ⟨⟨h1, h2, h3, h4⟩, h5, ⟨h6, h7⟩, h8⟩ := h
  rw [fp_hsh_cg e] at h4
  exact ⟨⟨h1, h2, h3, h4⟩, fp_At.cB (f := fun i => ((tx i : Nat) : Int)) (g := fun i => ((tx2 i : Nat) : Int)) h5 (fun j hj => by rw [e j hj]), ⟨fun i hi => by rw [← e i hi]; exact h6 i hi, h7⟩, h8⟩
theorem fp_HS.sub0 {G : fp_G} {y q n i0 i1 : Nat} {ty : Nat → Nat} {H : Heap} (h : fp_HS G y q n ty H) (e0 : i0 = 0) (e1 : i1 = n) : fp_HS G y q (i1 - i0) (fun i => ty (i0 + i)) H := by
  subst e0
  subst e1
  exact h.cg (fun j hj => by rw [Nat.zero_add])
theorem fp_HS.st0 {G : fp_G} {y q n : Nat} {ty : Nat → Nat} {H : Heap} (h : fp_HS G y q n ty H) (e : n = 0) : fp_ST G y q 0 ty H := by
  subst e
  exact h.st
/-- a string whose number is known to it -/
def fp_HH (G : fp_G) (x vl n : Nat) (tx : Nat → Nat) (H : Heap) : Prop := fp_HS G x vl n tx H ∧ ∃ h2 : Int32, fp_At G H x (eO 12 [.ref vl, .int (iI ((0 : Nat) : Int)), .int (fp_hsh tx n), .int h2])
theorem fp_HH.of {G : fp_G} {x vl n : Nat} {tx : Nat → Nat} {H : Heap} {h2 : Int32} (h : fp_HS G x vl n tx H) (g : fp_At G H x (eO 12 [.ref vl, .int (iI ((0 : Nat) : Int)), .int (fp_hsh tx n), .int h2])) : fp_HH G x vl n tx H := ⟨h, h2, g⟩
theorem fp_HH.mv {G : fp_G} {x vl n : Nat} {tx : Nat → Nat} {H H1 : Heap} (h : fp_HH G x vl n tx H) (hx : H1[x]? = H[x]?) (he : H1[vl]? = H[vl]?) : fp_HH G x vl n tx H1 := by
  obtain ⟨h1, h2, h3⟩ := h
  exact ⟨h1.mv hx he, h2, h3.kept hx⟩
theorem fp_HH.ext {G : fp_G} {x vl n : Nat} {tx : Nat → Nat} {H H1 : Heap} (h : fp_HH G x vl n tx H) (hx : fp_X H H1) : fp_HH G x vl n tx H1 := h.mv (hx.2 _ h.1.lt) (hx.2 _ h.1.2.1.lt)
-- two tellings of one string agree
theorem fp_RB.eq {G : fp_G} {q n n2 : Nat} {tx tx2 : Nat → Nat} {H : Heap} (h : fp_RB G q n tx H) (h2 : fp_RB G q n2 tx2 H) : n = n2 ∧ ∀ i, i < n → tx i = tx2 i := by
  obtain ⟨h, -, hb, hn⟩ := h
  obtain ⟨h2, -, hb2, hn2⟩ := h2
  have key : n = n2 ∧ ∀ i, i < n → (Value.int (iI ((tx i : Nat) : Int))) = .int (iI ((tx2 i : Nat) : Int)) := by
    rcases h with ⟨g1, g2⟩ | g1 <;> rcases h2 with ⟨k1, k2⟩ | k1
    · have e1 : H[q]? = some (vp_cell (g_A G 2) (n, .inl (fun j => iI ((tx j : Nat) : Int)))) := g2
      have e2 : H[q]? = some (vp_cell (g_A G 2) (n2, .inl (fun j => iI ((tx2 j : Nat) : Int)))) := k2
      rw [vp_cell_i] at e1 e2
      have e3 := Option.some.inj (e1.symm.trans e2)
      have e4 : n = n2 := by
        have := congrArg (fun c : Cell => c.slots.size) e3
        simpa [arrV_size] using this
      subst e4
      refine ⟨rfl, fun i hi => ?_⟩
      have e5 := congrArg (fun c : Cell => c.slots[i]?) e3
      rw [arrV_read _ _ hi, arrV_read _ _ hi] at e5
      exact Option.some.inj e5
    · obtain ⟨-, -, -, -, -, -, -, z⟩ := k1
      exact absurd g1 z
    · obtain ⟨-, -, -, -, -, -, -, z⟩ := g1
      exact absurd k1 z
    · obtain ⟨c1, a1, -, -, a4, a5, a6, -⟩ := g1
      obtain ⟨c2, b1, -, -, b4, b5, b6, -⟩ := k1
      cases Option.some.inj (a1.symm.trans b1)
      have e4 : n = n2 := by
        have e1 := congrArg Int32.toInt (a5.symm.trans b5)
        rw [show Int32.ofNat n = iI (n : Int) from rfl, show Int32.ofNat n2 = iI (n2 : Int) from rfl, iI_toInt ⟨by omega, by omega⟩, iI_toInt ⟨by omega, by omega⟩] at e1
        omega
      subst e4
      exact ⟨rfl, fun i hi => Option.some.inj ((a6 i hi).symm.trans (b6 i hi))⟩
  refine ⟨key.1, fun i hi => ?_⟩
  have e := key.2 i hi
  have a := hb i hi
  have b := hb2 i (by omega)
  injection e with e
  have c := (iI_eq ⟨by omega, by omega⟩ ⟨by omega, by omega⟩).mp e
  omega
theorem fp_SO.eq {G : fp_G} {x vl vl2 : Nat} {H : Heap} (h : fp_SO G x vl H) (h2 : fp_SO G x vl2 H) : vl = vl2 := by
  rcases h.1 with ⟨g0, g1, g2, g3⟩ | ⟨⟨-, -, -, -, g0⟩, -, g3⟩ <;> rcases h2.1 with ⟨k0, k1, k2, k3⟩ | ⟨⟨-, -, -, -, k0⟩, -, k3⟩
  · obtain ⟨r, a1, c1, a2, -, -, a3⟩ := g3
    obtain ⟨r2, b1, c2, b2, -, -, b3⟩ := k3
    cases Option.some.inj (a1.symm.trans b1)
    cases Option.some.inj (a2.symm.trans b2)
    cases a1
    have e := (a3 0 (by decide)).symm.trans (b3 0 (by decide))
    injection e with e
    injection e
  · exact absurd g0 k0
  · exact absurd k0 g0
  · obtain ⟨cf, k, i, f, c1, a1, -, a2, -, a3, -⟩ := g3
    obtain ⟨cf2, k2, i2, f2, c2, b1, -, b2, -, b3, -⟩ := k3
    cases Option.some.inj (a1.symm.trans b1)
    cases Option.some.inj (a2.symm.trans b2)
    have e := a3.symm.trans b3
    injection e with e
    injection e
theorem fp_ST.eq {G : fp_G} {x vl vl2 n n2 : Nat} {tx tx2 : Nat → Nat} {H : Heap} (h : fp_ST G x vl n tx H) (h2 : fp_ST G x vl2 n2 tx2 H) : n = n2 ∧ ∀ i, i < n → tx i = tx2 i := by
  obtain rfl := h.1.eq h2.1
  exact h.2.eq h2.2
/-- writing a string's number leaves all strings what they are -/
theorem fp_HS.hash {G : fp_G} {U : State} (hK : fp_K G U) {x vl n : Nat} {tx : Nat → Nat} {H H1 : Heap} {h2 : Int32} (h : fp_HS G x vl n tx H) (g : fp_At G H1 x (eO 12 [.ref vl, .int (iI ((0 : Nat) : Int)), .int (fp_hsh tx n), .int h2])) (hq : ∀ q : Nat, q ≠ x → H1[q]? = H[q]?) : ∀ z r m tz, fp_HS G z r m tz H → fp_HS G z r m tz H1 := by
  intro z r m tz hz
  have hne : x ≠ r := by
    obtain ⟨⟨a1, a2, a3, -⟩, -⟩ := h
    exact fp_neOA hK (i := 12) (t := 2) rfl rfl a3 hz.2.1
  by_cases e : z = x
  · subst e
    obtain ⟨e1, e2⟩ := h.st.eq hz.st
    subst e1
    obtain rfl := h.st.1.eq hz.st.1
    obtain ⟨-, b2, b3⟩ := hz
    exact ⟨⟨_, _, g, Or.inl (fp_hsh_cg e2)⟩, b2.kept (hq _ (Ne.symm hne)), b3⟩
  · exact hz.mv (hq z e) (hq r (Ne.symm hne))
-- rows
section FPST
variable {G : fp_G} {p : Program} {e : Env} {R : Room} {s : State} {m : MethodId} {args : Array Value} {below : List Frame} {meth : Method} {c : Code} {H : Heap} {locs : List Loc} {cells slots : Nat} {Q : State → Prop}
variable {cc : ByteArray} {pc nL : Nat} {ls : Array Slot} {rest : List Value} {own : String} {A0 : Nat → Prop}
theorem fp_SO.recv {x vl : Nat} (X : fp_C G p s m args c cc own nL) (h : fp_SO G x vl H) (hB : fp_B G s.heap) (hA : ∀ q, A0 q → (g_s G).heap.size ≤ q) (hS : va_S (fA A0 s.heap.size) s.heap H locs) : ∃ cell : Cell, H[x]? = some cell ∧ cell.vm.isStatics = false ∧ s.vm.findClass "java/lang/String" = some cell.cls := by
  rcases h.1 with ⟨-, h1, h2, h3⟩ | ⟨h1, -⟩
  · exact va_recv (q0 := 0) (ci := 12) (q := (RJ7, TJ7, 4)) X.2.2.2.2.2.va (fp_P1 h3) rfl rfl
  · exact va_Orecv (X.2.2.2.2.2.tO hB hA h1) hS
theorem fp_SO.any {x vl : Nat} (X : fp_C G p s m args c cc own nL) (h : fp_SO G x vl H) (hB : fp_B G s.heap) (hA : ∀ q, A0 q → (g_s G).heap.size ≤ q) (hS : va_S (fA A0 s.heap.size) s.heap H locs) : va_Any "java/lang/String" s H x := by
  obtain ⟨cell, h1, h2, h3⟩ := h.recv X hB hA hS
  obtain ⟨kC, hkC, -⟩ := Vm.findClass_spec h3
  refine ⟨cell, h1, h2, ⟨kC, hkC⟩, fun comp hc => ?_⟩
  have e : comp = cell.cls := Option.some.inj (hc.symm.trans h3)
  rw [e]
  exact va_asg _ _
theorem r_sval {x vl index : Nat} (X : fp_C G p s m args c cc own nL) (h : fp_SO G x vl H) (hB : fp_B G s.heap) (hA : ∀ q, A0 q → (g_s G).heap.size ≤ q) (hS : va_S (fA A0 s.heap.size) s.heap H locs) (hlink : Cond.fieldLink own index "java/lang/String" "value" "[B" ∈ lw_all) (hd : decode cc pc = .ok (.getfield index, 3))
    (kk : W p (g_l G) e R s m args below meth c H locs cells slots Q (F0 m (pc + 3) ls (.ref vl :: rest))) : W p (g_l G) e R s m args below meth c H locs cells slots Q (F0 m pc ls (.ref x :: rest)) := by
  rcases h.1 with ⟨-, h1, h2, h3⟩ | ⟨-, -, h3⟩
  · exact r_get X h3 rfl in_J7 0 (by decide) hlink (Or.inl rfl) (v := .ref vl) rfl hd kk
  · exact vk_getf X.1 X.2.1 (X.2.2.2.2.2.tF hB hA h3) hS X.2.2.2.1 (X.2.2.2.2.1 _ hlink) (fun x h => h) hd kk
theorem r_scod {x vl index : Nat} (X : fp_C G p s m args c cc own nL) (h : fp_SO G x vl H) (hB : fp_B G s.heap) (hA : ∀ q, A0 q → (g_s G).heap.size ≤ q) (hS : va_S (fA A0 s.heap.size) s.heap H locs) (hlink : Cond.fieldLink own index "java/lang/String" "coder" "B" ∈ lw_all) (hd : decode cc pc = .ok (.getfield index, 3))
    (kk : W p (g_l G) e R s m args below meth c H locs cells slots Q (F0 m (pc + 3) ls (.int (iI ((0 : Nat) : Int)) :: rest))) : W p (g_l G) e R s m args below meth c H locs cells slots Q (F0 m pc ls (.ref x :: rest)) := by
  rcases h.1 with ⟨-, h1, h2, h3⟩ | ⟨-, h3, -⟩
  · exact r_get X h3 rfl in_J7 1 (by decide) hlink (Or.inl rfl) (v := .int (iI ((0 : Nat) : Int))) rfl hd kk
  · exact vk_getf X.1 X.2.1 (X.2.2.2.2.2.tF hB hA h3) hS X.2.2.2.1 (X.2.2.2.2.1 _ hlink) (fun x h => h) hd kk
theorem r_rbld {q n j : Nat} {tx : Nat → Nat} {z : Int} (X : fp_C G p s m args c cc own nL) (h : fp_RB G q n tx H) (hB : fp_B G s.heap) (hA : ∀ q, A0 q → (g_s G).heap.size ≤ q) (hS : va_S (fA A0 s.heap.size) s.heap H locs) (hz : z = (j : Int)) (hj : j < n) (hd : decode cc pc = .ok (.baload, 1))
    (kk : W p (g_l G) e R s m args below meth c H locs cells slots Q (F0 m (pc + 1) ls (.int (iI ((tx j : Nat) : Int)) :: rest))) : W p (g_l G) e R s m args below meth c H locs cells slots Q (F0 m pc ls (.int (iI z) :: .ref q :: rest)) := by
  have hn := h.2.2.2
  rcases h.1 with ⟨-, h1⟩ | h1
  · exact r_baldI X h1 hz hj (by omega) hd kk
  · exact r_tbld X (X.2.2.2.2.2.tT hB hA h1) hS hz hj (by omega) rfl hd kk
theorem r_rlen {q n : Nat} {tx : Nat → Nat} (X : fp_C G p s m args c cc own nL) (h : fp_RB G q n tx H) (hB : fp_B G s.heap) (hA : ∀ q, A0 q → (g_s G).heap.size ≤ q) (hS : va_S (fA A0 s.heap.size) s.heap H locs) (hd : decode cc pc = .ok (.arraylength, 1))
    (kk : W p (g_l G) e R s m args below meth c H locs cells slots Q (F0 m (pc + 1) ls (.int (iI ((n : Nat) : Int)) :: rest))) : W p (g_l G) e R s m args below meth c H locs cells slots Q (F0 m pc ls (.ref q :: rest)) := by
  rcases h.1 with ⟨-, h1⟩ | h1
  · exact r_alen X (t := 2) rfl h1 (v := iI ((n : Nat) : Int)) rfl hd kk
  · exact r_tlen X (X.2.2.2.2.2.tT hB hA h1) hS (v := iI ((n : Nat) : Int)) rfl hd kk
theorem r_sinst {x vl index : Nat} (X : fp_C G p s m args c cc own nL) (h : fp_SO G x vl H) (hB : fp_B G s.heap) (hA : ∀ q, A0 q → (g_s G).heap.size ≤ q) (hS : va_S (fA A0 s.heap.size) s.heap H locs) (hlink : Cond.classLink own index "java/lang/String" ∈ lw_all) (hd : decode cc pc = .ok (.instanceof index, 3))
    (kk : W p (g_l G) e R s m args below meth c H locs cells slots Q (F0 m (pc + 3) ls (.int (iI (bI true)) :: rest))) : W p (g_l G) e R s m args below meth c H locs cells slots Q (F0 m pc ls (.ref x :: rest)) := va_instE X.1 X.2.1 X.2.2.2.1 (X.2.2.2.2.1 _ hlink) (h.recv X hB hA hS) hd kk
theorem r_scast {x vl index : Nat} (X : fp_C G p s m args c cc own nL) (h : fp_SO G x vl H) (hB : fp_B G s.heap) (hA : ∀ q, A0 q → (g_s G).heap.size ≤ q) (hS : va_S (fA A0 s.heap.size) s.heap H locs) (hlink : Cond.classLink own index "java/lang/String" ∈ lw_all) (hd : decode cc pc = .ok (.checkcast index, 3))
    (kk : W p (g_l G) e R s m args below meth c H locs cells slots Q (F0 m (pc + 3) ls (.ref x :: rest))) : W p (g_l G) e R s m args below meth c H locs cells slots Q (F0 m pc ls (.ref x :: rest)) := va_castE X.1 X.2.1 X.2.2.2.1 (X.2.2.2.2.1 _ hlink) (h.recv X hB hA hS) hd kk
/-- arraycopy out of a string's row -/
theorem r_rcopy {a0 a n0 n1 sp dp n index fr lo mc ms : Nat} {tx : Nat → Nat} {g : Nat → Int} {z1 z2 z3 : Int} (X : fp_C G p s m args c cc own nL) (hR : fp_R R fr lo mc ms) (hls : ls.size = nL) (h0 : fp_RB G a0 n0 tx H) (hB : fp_B G s.heap) (hA0 : ∀ q, A0 q → (g_s G).heap.size ≤ q) (h1 : fp_At G H a (eB G n1 (fun j => iI (g j)))) (hS : va_S (fA A0 s.heap.size) s.heap H locs) (hA : fA A0 s.heap.size a) (w1 : Cond.methodLink own index arraycopyName ∈ lw_all) (w2 : Cond.native arraycopyName ∈ lw_all) (w3 : Cond.static arraycopyName ∈ lw_all) (w4 : Cond.initialized "java/lang/System" ∈ lw_all) (e1 : z1 = (sp : Int)) (e2 : z2 = (dp : Int)) (e3 : z3 = (n : Int)) (hb1 : sp + n ≤ n0) (hb2 : dp + n ≤ n1) (hn1 : n1 < 1000000) (hfr : 1 ≤ fr) (hlo : (rest.map fun v => v.category).sum + 30 ≤ lo) (hd : decode cc pc = .ok (.invokestatic index, 3))
    (kk : ∀ (H1 : Heap) (locs1 : List Loc), fp_At G H1 a (eB G n1 (fun j => iI (va_cpy (fun i => ((tx i : Nat) : Int)) g sp dp n j))) → H1.size = H.size → (∀ q : Nat, q ≠ a → H1[q]? = H[q]?) → va_S (fA A0 s.heap.size) s.heap H1 locs1 → W p (g_l G) e R s m args below meth c H1 locs1 cells slots Q (F0 m (pc + 3) ls rest)) : W p (g_l G) e R s m args below meth c H locs cells slots Q (F0 m pc ls (.int (iI z3) :: .int (iI z2) :: .ref a :: .int (iI z1) :: .ref a0 :: rest)) := by
  have hn0 := h0.2.2.2
  have hfit : ∀ i : Nat, i < n → fits .byte (.int (iI ((tx (sp + i) : Nat) : Int))) = true := fun i hi => fp_fitb (by have := h0.2.2.1 (sp + i) (by omega); omega)
  rcases h0.1 with ⟨-, h2⟩ | h2
  · exact r_copyB (f := fun i => ((tx i : Nat) : Int)) X hR hls h2 h1 hS hA w1 w2 w3 w4 e1 e2 e3 hb1 hb2 (by omega) hn1 hfit hfr hlo hd kk
  obtain ⟨hx, hb, hml, hown, hts, hK⟩ := X
  obtain ⟨rfl, rfl, -, -⟩ := hR
  have h1' : H[a]? = some (vp_cell (g_A G 2) (n1, .inl (fun j => iI (g j)))) := h1
  rw [vp_cell_i] at h1'
  have c1 : (iI z1).toNatClampNeg = sp := iI_cl e1 (by omega)
  have c2 : (iI z2).toNatClampNeg = dp := iI_cl e2 (by omega)
  have c3 : (iI z3).toNatClampNeg = n := iI_cl e3 (by omega)
  have hwd : nativeFrameWords "java/lang/System" "arraycopy" 5 ≤ 19 := by decide
  obtain ⟨scr, g1, ⟨g2, kS, hkS, compS, hkindS⟩, g3, g4, -, g5, g6⟩ := hK.tT hB hA0 h2
  have hc0 : H[a0]? = some scr := by rw [hS.2.1 a0 (Array.getElem?_eq_some_iff.mp g1).1 g6]; exact g1
  obtain ⟨-, kA, hkA, comp, hkk⟩ := (hK.va.2 2 _ rfl).1 0 (fun _ => .null)
  intro T hT X
  obtain ⟨vm', X', step⟩ := X.arraycopy hx hown (hts _ w1) (hts _ w2) (hts _ w3) (hts _ w4) (src := a0) (dst := a) (cs := scr) (cd := arrV (g_A G 2) n1 (fun j => .int (iI (g j)))) (srcPos := iI z1) (destPos := iI z2) (n := iI z3) (by rw [hT]; exact hc0) (by rw [hT]; exact h1')
    g2 (fun _ h => by cases h) g3 (fun h => by cases h) hkS hkA hkindS hkk (by simp [refKind]) (fp_neg e1 (by omega)) (fp_neg e2 (by omega)) (fp_neg e3 (by omega))
    (by rw [iI_toInt ⟨by omega, by omega⟩, iI_toInt ⟨by omega, by omega⟩]; omega)
    (by rw [iI_toInt ⟨by omega, by omega⟩, iI_toInt ⟨by omega, by omega⟩, arrV_size]; omega)
    (fun vm₁ hal i hi => by
      rw [c3] at hi
      have e9 : scr.slots.getD ((iI z1).toNatClampNeg + i) .null = .int (iI ((tx (sp + i) : Nat) : Int)) := by
        rw [c1, Array.getD_eq_getD_getElem?, g5 _ (by omega)]
        rfl
      rw [e9]
      exact ⟨hfit i hi, trivial⟩)
    (g := F0 m pc ls (.int (iI z3) :: .int (iI z2) :: .ref a :: .int (iI z1) :: .ref a0 :: rest)) rfl (by rw [hml]; exact hls) (rest := rest) rfl (by rw [hb]; exact hd) hfr (by show 2 * 0 + _ + _ ≤ _; omega)
  have e4 : copied scr (arrV (g_A G 2) n1 (fun j => .int (iI (g j)))) (iI z1) (iI z2) (iI z3) = arrV (g_A G 2) n1 (fun j => .int (iI (va_cpy (fun i => ((tx i : Nat) : Int)) g sp dp n j))) := by
    unfold copied
    rw [c1, c2, c3]
    exact va_copiedX (fun z : Int => Value.int (iI z)) scr (g_A G 2) (fun i => ((tx i : Nat) : Int)) g g5 hb1
  rw [e4] at X' step
  have hl : a < H.size := (Array.getElem?_eq_some_iff.mp h1').1
  obtain ⟨H2, hH2⟩ : ∃ H2 : Heap, H2 = H.setIfInBounds a (arrV (g_A G 2) n1 (fun j => .int (iI (va_cpy (fun i => ((tx i : Nat) : Int)) g sp dp n j)))) := ⟨_, rfl⟩
  have hheap : ((T.setVm vm').setCell a (arrV (g_A G 2) n1 (fun j => .int (iI (va_cpy (fun i => ((tx i : Nat) : Int)) g sp dp n j))))).heap = H2 := by rw [hH2, ← hT]; rfl
  have oq : ∀ q : Nat, q ≠ a → H2[q]? = H[q]? := fun q hq => by rw [hH2]; simp [Array.getElem?_setIfInBounds, Ne.symm hq]
  have hz : H2.size = H.size := by rw [hH2]; simp
  have ha : H2[a]? = some (arrV (g_A G 2) n1 (fun j => .int (iI (va_cpy (fun i => ((tx i : Nat) : Int)) g sp dp n j)))) := by rw [hH2]; simp [Array.getElem?_setIfInBounds, hl]
  obtain ⟨t1, a1, b1⟩ := kk H2 _ (by show H2[a]? = some (vp_cell _ _); rw [vp_cell_i]; exact ha) hz oq ⟨by rw [hz]; exact hS.1, fun q k1 k2 => by
      rw [oq q (fun e => k2 (by rw [e]; exact hA))]
      exact hS.2.1 q k1 k2, fun q hq => by
      rcases List.mem_append.mp hq with h | h
      · exact hS.2.2 q h
      · obtain ⟨z, -, hz⟩ := List.mem_map.mp h
        rw [← hz]
        exact hA⟩ _ hheap X'
  exact ⟨t1, step t1 a1, b1⟩
/-- a copy of a row of bytes -/
theorem r_cloneB {a n index fr lo mc ms : Nat} {f : Nat → Int32} {A : Nat → Prop} {H0 : Heap} (X : fp_C G p s m args c cc own nL) (hR : fp_R R fr lo mc ms) (hls : ls.size = nL) (hat : fp_At G H a (eB G n f)) (hS : va_S A H0 H locs) (w1 : Cond.methodLink own index ⟨"[B", "clone", "()Ljava/lang/Object;"⟩ ∈ lw_all) (w2 : Cond.sameMethod "[B" "java/lang/Object" "clone" "()Ljava/lang/Object;" ∈ lw_all) (w3 : Cond.native ⟨"java/lang/Object", "clone", "()Ljava/lang/Object;"⟩ ∈ lw_all) (w4 : Cond.instanceMethod ⟨"java/lang/Object", "clone", "()Ljava/lang/Object;"⟩ ∈ lw_all) (w5 : Cond.selects "[B" ⟨"[B", "clone", "()Ljava/lang/Object;"⟩ ⟨"java/lang/Object", "clone", "()Ljava/lang/Object;"⟩ ∈ lw_all) (w6 : Cond.castable "[B" "java/lang/Cloneable" ∈ lw_tbl)
    (hfit : ∀ j, j < n → fits .byte (.int (f j)) = true) (hfr : 1 ≤ fr) (hlo : (rest.map fun v => v.category).sum + 14 ≤ lo) (hcells : cells + 1 ≤ mc) (hslots : slots + n ≤ ms) (hd : decode cc pc = .ok (.invokevirtual index, 3))
    (kk : ∀ (q : Nat) (H1 : Heap), q = H.size → fp_At G H1 q (eB G n f) → fp_X H H1 → H1.size = H.size + 1 → va_S A H0 H1 locs → W p (g_l G) e R s m args below meth c H1 locs (cells + 1) (slots + n) Q (F0 m (pc + 3) ls (.ref q :: rest))) : W p (g_l G) e R s m args below meth c H locs cells slots Q (F0 m pc ls (.ref a :: rest)) := by
  obtain ⟨hx, hb, hml, hown, hts, hK⟩ := X
  obtain ⟨rfl, rfl, rfl, rfl⟩ := hR
  have hat' : H[a]? = some (vp_cell (g_A G 2) (n, .inl f)) := hat
  rw [vp_cell_i] at hat'
  have hcE : ({ cls := (arrV (g_A G 2) n (fun j => .int (f j))).cls, slots := (arrV (g_A G 2) n (fun j => .int (f j))).slots } : Cell) = arrV (g_A G 2) n (fun j => .int (f j)) := rfl
  have hnm := va_nm_byte (hK.va.2 2 _ rfl).2
  obtain ⟨c0, t0', f1, f2, f3⟩ := Cond.castable_spec (args := args) (hK.cast w6)
  cases hnm.symm.trans f1
  intro T hT X
  obtain ⟨-, kA, hkA, comp, hkind⟩ := State.isArrayOf_alike X.warmed.alike ((hK.va.2 2 _ rfl).1 0 (fun _ => .null))
  obtain ⟨-, kS, hkS, compS, hkindS⟩ := (hK.va.2 2 _ rfl).1 0 (fun _ => .null)
  obtain ⟨vm', X', st⟩ := X.cloneArray hx hown (hts _ w1) (hts _ w2) (hts _ w3) (hts _ w4) (hts _ w5) (a := a) (cell := arrV (g_A G 2) n (fun j => .int (f j))) (by rw [hT]; exact hat') (fun k h => by cases h) (fun h => by cases h) hnm f2 f3
    (fun i v hv => by
      have hk' : T.vm.classes[g_A G 2]? = some kA := hkA
      simpa [State.fitsSlot, State.slotType?, hk', hkind, arrV] using va_fit (ty := .byte) hfit i v hv)
    (g := F0 m pc ls (.ref a :: rest)) rfl (by rw [hml]; exact hls) rfl (by rw [hb]; exact hd) hfr (by show 2 * 0 + _ + 14 ≤ _; omega) hcells (by rw [arrV_size]; exact hslots) (hloader := Vm.clonesLoader_of_array hkS hkindS)
  rw [hcE, arrV_size] at X'
  rw [hcE] at st
  obtain ⟨H1, hH1⟩ : ∃ H1 : Heap, H1 = H.push (arrV (g_A G 2) n (fun j => .int (f j))) := ⟨_, rfl⟩
  have z1 : H1.size = H.size + 1 := by rw [hH1, Array.size_push]
  have e1 : H1[H.size]? = some (arrV (g_A G 2) n (fun j => .int (f j))) := by rw [hH1, Array.getElem?_push_size]
  have o1 : ∀ q : Nat, q < H.size → H1[q]? = H[q]? := fun q hq => by rw [hH1, Array.getElem?_push, if_neg (Nat.ne_of_lt hq)]
  obtain ⟨t, b1, b2⟩ := kk H.size H1 rfl (by show H1[H.size]? = some (vp_cell _ _); rw [vp_cell_i]; exact e1) ⟨by omega, o1⟩ z1 ⟨Nat.le_trans hS.1 (by omega), fun y h1 h2 => (o1 y (Nat.lt_of_lt_of_le h1 hS.1)).trans (hS.2.1 y h1 h2), hS.2.2⟩
    ((T.setVm vm').pushCell (arrV (g_A G 2) n (fun j => .int (f j)))) (by rw [hH1, ← hT]; rfl) X'
  refine ⟨t, st t ?_, b2⟩
  rw [hT]
  exact b1
theorem r_callVR {y : MethodName} {bytes : ByteArray} {maxL : Nat} {ret : Option FieldType} {fr lo mc ms fr0 lo0 mc0 ms0 cells1 slots1 index : Nat} {C : String} {b : Nat} {As st0 : List Value} {A : Nat → Prop} {Pre : Heap → Prop} {Post : Heap → Option Value → Heap → Prop}
    (X : fp_C G p s m args c cc own nL) (hR : fp_R R fr0 lo0 mc0 ms0) (hM : fp_M G y bytes maxL ret fr lo mc ms (.ref b :: As) Pre A Post) (w1 : Cond.methodLink own index y ∈ lw_all) (w2 : Cond.instanceMethod y ∈ lw_all) (w3 : Cond.selects C y y ∈ lw_all) (w4 : Cond.initialized C ∈ lw_all) (w5 : Cond.code y bytes maxL ret ∈ lw_all)
    (hd : y.cls = C ∧ y.cls ≠ "java/lang/invoke/MethodHandle" ∧ y.cls ≠ "java/lang/invoke/VarHandle" ∧ (parseMethodDescriptor y.desc).map (fun d => d.parameters.length) = some As.length) (hRR : fr + 1 ≤ fr0 ∧ 8 + (maxL + 11) + lo ≤ lo0) (ec : cells + mc = cells1) (es : slots + ms = slots1) (hcells : cells1 ≤ mc0) (hslots : slots1 ≤ ms0) (hrecv : ∃ cell : Cell, H[b]? = some cell ∧ cell.vm.isStatics = false ∧ s.vm.findClass C = some cell.cls) (hst : st0 = As.reverse ++ .ref b :: rest) (hrest : (rest.map fun v => v.category).sum ≤ 8) (hls : ls.size = nL) (hdg : decode cc pc = .ok (.invokevirtual index, 3))
    (hB : fp_B G H) (hP : Pre H) (hS : va_S (fA A0 s.heap.size) s.heap H locs) (hA : ∀ q, A q → fA A0 s.heap.size q)
    (kk : ∀ (v : Option Value) (H1 : Heap) (locs1 : List Loc), Post H v H1 → H.size ≤ H1.size → (∀ q : Nat, q < H.size → ¬ A q → H1[q]? = H[q]?) → va_S (fA A0 s.heap.size) s.heap H1 locs1 → W p (g_l G) e R s m args below meth c H1 locs1 cells1 slots1 Q (F0 m (pc + 3) ls (v.toList ++ rest))) : W p (g_l G) e R s m args below meth c H locs cells slots Q (F0 m pc ls st0) := by
  obtain ⟨hx, hb, hml, hown, hts, hK⟩ := X
  obtain ⟨rfl, rfl, rfl, rfl⟩ := hR
  refine r_after ec es (va_runV (As := As) (b := b) (C := C) ⟨hx, hb, hml, hown, hts⟩ (hM H.size) (cwV As.length hts (lw_V w1 w2 w3 w4 w5) rfl rfl rfl hd hRR) ⟨fp_blind, hrecv, fun U hU hW => ⟨rfl, by rw [hU], hK.moved hW, by rw [hU]; exact hB, by rw [hU]; exact hP⟩⟩ rfl rfl hls hst (lv_room hrest) hdg ⟨by rw [ec]; exact hcells, by rw [es]; exact hslots⟩) hS hA kk
theorem r_castAB {a n index : Nat} {f : Nat → Int32} (X : fp_C G p s m args c cc own nL) (hat : fp_At G H a (eB G n f)) (hlink : Cond.classLink own index "[B" ∈ lw_all) (hd : decode cc pc = .ok (.checkcast index, 3))
    (kk : W p (g_l G) e R s m args below meth c H locs cells slots Q (F0 m (pc + 3) ls (.ref a :: rest))) : W p (g_l G) e R s m args below meth c H locs cells slots Q (F0 m pc ls (.ref a :: rest)) := va_castA X.1 X.2.1 X.2.2.2.1 (X.2.2.2.2.1 _ hlink) (fp_P1 hat) 0 rfl (va_nm_byte (X.2.2.2.2.2.va.2 2 _ rfl).2) hd kk
end FPST
/-- the equality of two texts -/
def fp_teq (n : Nat) (tx : Nat → Nat) (n2 : Nat) (tx2 : Nat → Nat) : Bool := decide (n = n2 ∧ ∀ i, i < n → tx i = tx2 i)
theorem fp_and255z {z : Int} (h : 0 ≤ z ∧ z < 256) : iI z &&& iI ((255 : Nat) : Int) = iI z := by
  obtain ⟨j, rfl⟩ : ∃ j : Nat, z = (j : Int) := ⟨z.toNat, by omega⟩
  exact fp_and255 (by omega)
theorem fp_fit128 {c : Nat} (h : c < 128) : fits .byte (.int (iI ((c : Nat) : Int))) = true := fp_fitb ⟨by omega, by omega⟩
-- constants
/-- what the start says of a constant: its row, its signs -/
def fp_kw (own : String) (k : Nat) (tx : List Nat) : List Cond := [.exactly (.string own k) "java/lang/String", .eq (.field (.string own k) "java/lang/String" "coder" "B") (.int (Int32.ofNat 0)), .arrayOf (.field (.string own k) "java/lang/String" "value" "[B") .byte, .eq (.length (.field (.string own k) "java/lang/String" "value" "[B")) (.int (Int32.ofNat tx.length))] ++ (List.range tx.length).map (fun j => .eq (.elem (.field (.string own k) "java/lang/String" "value" "[B") (.int (Int32.ofNat j))) (.int (Int32.ofNat (tx.getD j 0))))
def fp_kok (own : String) (k : Nat) (tx : List Nat) : Prop := (∀ w ∈ fp_kw own k tx, w ∈ flatC (Jvm.Cond.and given_1 narrow_1)) ∧ tx.length ≤ 30 ∧ ∀ c ∈ tx, c < 128
/-- a constant's address -/
def fp_ks (G : fp_G) (own : String) (k : Nat) : Nat := fp_st G (.string own k)
def fp_kv (G : fp_G) (own : String) (k : Nat) : Nat := fp_st G (.field (.string own k) "java/lang/String" "value" "[B")
theorem fp_K.kst {G : fp_G} {U : State} (hK : fp_K G U) {H : Heap} (hB : fp_B G H) {own : String} {k : Nat} {tx : List Nat} (h : fp_kok own k tx) : fp_ST G (fp_ks G own k) (fp_kv G own k) tx.length (fun i => tx.getD i 0) H ∧ (Term.string own k).eval #[Value.ref G.1.2.2] (g_s G) none [] (g_s G) = some (.ref (fp_ks G own k)) ∧ fp_ks G own k < (g_s G).heap.size ∧ fp_kv G own k < (g_s G).heap.size := by
  obtain ⟨h0, hlen, h128⟩ := h
  have hm : ∀ w ∈ fp_kw own k tx, w.before #[Value.ref G.1.2.2] (g_s G) = true := fun w hw => hK.flat _ (h0 w hw)
  have w1 := hm (.exactly (.string own k) "java/lang/String") (by simp [fp_kw])
  have w2 := hm (.eq (.field (.string own k) "java/lang/String" "coder" "B") (.int (Int32.ofNat 0))) (by simp [fp_kw])
  have w3 := hm (.arrayOf (.field (.string own k) "java/lang/String" "value" "[B") .byte) (by simp [fp_kw])
  have w4 := hm (.eq (.length (.field (.string own k) "java/lang/String" "value" "[B")) (.int (Int32.ofNat tx.length))) (by simp [fp_kw])
  have w5 : ∀ j, j < tx.length → (Cond.eq (.elem (.field (.string own k) "java/lang/String" "value" "[B") (.int (Int32.ofNat j))) (.int (Int32.ofNat (tx.getD j 0)))).before #[Value.ref G.1.2.2] (g_s G) = true := fun j hj => hm _ (List.mem_append_right _ (List.mem_map.mpr ⟨j, List.mem_range.mpr hj, rfl⟩))
  have hA : ∀ a : Nat, a < (g_s G).heap.size → ¬ fp_bs G a := fun a ha hz => Nat.not_le.mpr ha hz
  obtain ⟨a, c0, cell, k0, q1, q2, q3, q4, q5, q6, -⟩ := Cond.exactly_spec w1
  have ea : fp_ks G own k = a := fp_st_of q1
  obtain ⟨t, ht, hT⟩ := va_Tof (f := fun j => .int (iI (((fun i => tx.getD i 0) j : Nat) : Int))) (A := fp_bs G) (show tx.length < 2 ^ 31 by omega) w3 (va_eqt w4) (fun j hj => va_eqt (w5 j hj)) hA
  have et : fp_kv G own k = t := fp_st_of ht
  rw [ea, et]
  have hlt : a < (g_s G).heap.size := (Array.getElem?_eq_some_iff.mp q3).1
  have htl : t < (g_s G).heap.size := by
    obtain ⟨cell, h3, -⟩ := hT
    exact (Array.getElem?_eq_some_iff.mp h3).1
  refine ⟨⟨⟨Or.inr ⟨va_Oof w1 q1 hA, vk_OFof q1 (va_eqt w2) hA, vk_OFof q1 ht hA⟩, Nat.lt_of_lt_of_le hlt hB.1⟩, ⟨Or.inr hT, Nat.lt_of_lt_of_le htl hB.1, fun i hi => ?_, by omega⟩⟩, q1, hlt, htl⟩
  have e9 : tx.getD i 0 = tx[i] := by simp [List.getD_eq_getElem?_getD, hi]
  show tx.getD i 0 < 128
  rw [e9]
  exact h128 _ (List.getElem_mem hi)
section FPLC
variable {G : fp_G} {p : Program} {e : Env} {R : Room} {s : State} {m : MethodId} {args : Array Value} {below : List Frame} {meth : Method} {c : Code} {H : Heap} {locs : List Loc} {cells slots : Nat} {Q : State → Prop}
variable {cc : ByteArray} {pc nL : Nat} {ls : Array Slot} {rest : List Value} {own : String}
theorem fp_K.kR {own tx : String} {k : Nat} (hK : fp_K G s) (hw : Cond.stringRef own k tx ∈ lw_tbl) (hev : (Term.string own k).eval #[Value.ref G.1.2.2] (g_s G) none [] (g_s G) = some (.ref (fp_ks G own k))) : vk_R own k tx (fp_ks G own k) s := vk_R.warm hK.2 (vk_R.of (hK.1.1 _ hw) hev)
theorem r_ldcS {tx : String} {k : Nat} (X : fp_C G p s m args c cc own nL) (hw : Cond.stringRef own k tx ∈ lw_tbl) (hev : (Term.string own k).eval #[Value.ref G.1.2.2] (g_s G) none [] (g_s G) = some (.ref (fp_ks G own k))) (hd : decode cc pc = .ok (.ldc k, 2))
    (kk : W p (g_l G) e R s m args below meth c H locs cells slots Q (F0 m (pc + 2) ls (.ref (fp_ks G own k) :: rest))) : W p (g_l G) e R s m args below meth c H locs cells slots Q (F0 m pc ls rest) := va_ldcS X.1 X.2.1 X.2.2.2.1 (X.2.2.2.2.2.kR hw hev) hd kk
theorem r_ldcSw {tx : String} {k : Nat} (X : fp_C G p s m args c cc own nL) (hw : Cond.stringRef own k tx ∈ lw_tbl) (hev : (Term.string own k).eval #[Value.ref G.1.2.2] (g_s G) none [] (g_s G) = some (.ref (fp_ks G own k))) (hd : decode cc pc = .ok (.ldc_w k, 3))
    (kk : W p (g_l G) e R s m args below meth c H locs cells slots Q (F0 m (pc + 3) ls (.ref (fp_ks G own k) :: rest))) : W p (g_l G) e R s m args below meth c H locs cells slots Q (F0 m pc ls rest) := by
  have hZ := X.2.2.2.2.2.kR hw hev
  obtain ⟨hx, hb, -, hown, -⟩ := X
  intro T hT X
  obtain ⟨t, a1, b1⟩ := kk T hT X
  exact ⟨t, X.ldcStringW hx hown (text := tx) (a := fp_ks G own k) hZ.1 hZ.2 (g := F0 m pc ls rest) rfl (by rw [hb]; exact hd) t a1, b1⟩
end FPLC

set_option maxRecDepth 100000
set_option maxHeartbeats 4000000 in
theorem c_J7_coder (G : fp_G) (y : Nat) (q : Nat) (n : Nat) (ty : Nat → Nat) : fp_M G yJ7_coder cJ7_coder 1 (some .byte) 1 12 0 0 [.ref (y)] (fun H => fp_ST G y q n ty H) fp_no (fun H v H1 => v = some (.int (iI ((0 : Nat) : Int))) ∧ H = H1) := by
  refine fp_M.intro (by decide) (Nat.le_of_ble_eq_true rfl) ?_
  intro pg en s mi ag bl mt cd rR qQ ls X hx hb hr hlk hnm hR hQ hB hM hl
  have hS : va_S (fA fp_no s.heap.size) s.heap s.heap [] := va_S.rf
  generalize ([] : List Loc) = locs at hS ⊢
  have hb0 := hB.1
  have h_st := hM
  have hsz0 := hS.1
  have lt_1 := h_st.1.2
  have lt_2 := h_st.2.2.1
  refine r_gets X hB fp_no.base hS q219 (lw_all_tbl q98) (X.2.2.2.2.2.cs) q665 rfl dJ7_coder_0 ?_
  refine r_set (y := .int (iI ((1 : Nat) : Int))) rfl ?_
  refine r_if_eq (tgt := 13) hx hb (by decide) dJ7_coder_3 (by decide) (fun c3 => ?_) (fun c3 => ?_)
  · exact absurd c3 (by omega)
  · skip
    refine lv_aload_n hx hb dJ7_coder_6 rfl (lv_at hl 0 rfl) ?_
    refine r_scod X (h_st.1) hB fp_no.base hS q805 dJ7_coder_7 ?_
    refine lv_goto (tgt := 14) hx hb dJ7_coder_10 (by decide) ?_
    refine r_zret hx hb hr hlk hQ hS (Nat.le_of_ble_eq_true rfl) (Nat.le_of_ble_eq_true rfl) dJ7_coder_14 rfl ?_
    exact ⟨rfl, rfl⟩
set_option maxHeartbeats 4000000 in
theorem c_J7_length (G : fp_G) (y : Nat) (q : Nat) (n : Nat) (ty : Nat → Nat) : fp_M G yJ7_length cJ7_length 1 (some .int) 2 32 0 0 [.ref (y)] (fun H => fp_ST G y q n ty H) fp_no (fun H v H1 => v = some (.int (iI ((n : Nat) : Int))) ∧ H = H1) := by
  refine fp_M.intro (by decide) (Nat.le_of_ble_eq_true rfl) ?_
  intro pg en s mi ag bl mt cd rR qQ ls X hx hb hr hlk hnm hR hQ hB hM hl
  have hS : va_S (fA fp_no s.heap.size) s.heap s.heap [] := va_S.rf
  generalize ([] : List Loc) = locs at hS ⊢
  have hb0 := hB.1
  have h_st := hM
  have hsz0 := hS.1
  have lt_1 := h_st.1.2
  have lt_2 := h_st.2.2.1
  obtain ⟨hso, hrow⟩ := id h_st
  have h128 := hrow.2.2.1
  have hn1000 := hrow.2.2.2
  have lt_3 := hso.2
  have lt_4 := hrow.2.1
  refine lv_aload_n hx hb dJ7_length_0 rfl (lv_at hl 0 rfl) ?_
  refine r_sval X (h_st.1) hB fp_no.base hS q804 dJ7_length_1 ?_
  refine r_rlen X hrow hB fp_no.base hS dJ7_length_4 ?_
  refine lv_aload_n hx hb dJ7_length_5 rfl (lv_at hl 0 rfl) ?_
  refine r_callVR (cells1 := 0) (slots1 := 0) X hR (c_J7_coder G y q n ty) q661 q662 q663 q98 q664 ⟨rfl, pd_J7_coder⟩ ⟨Nat.le_of_ble_eq_true rfl, Nat.le_of_ble_eq_true rfl⟩ rfl rfl (Nat.le_of_ble_eq_true rfl) (Nat.le_of_ble_eq_true rfl) (fp_SO.recv X (h_st.1) hB fp_no.base hS) rfl (Nat.le_of_ble_eq_true rfl) hl.1 dJ7_length_6 (hB.of hS fp_no.base) h_st hS (fun _ h => h.elim) (fun v H_8 locs hp_5 hz_6 hk_7 hS => ?_)
  obtain ⟨rfl, rfl⟩ := hp_5
  refine r_stk (st2 := [.int (iI ((0 : Nat) : Int)), .int (iI ((n : Nat) : Int))]) rfl ?_
  refine lv_ishr hx hb dJ7_length_9 ?_
  refine r_set (y := .int (iI ((n : Nat) : Int))) (congrArg Value.int (fp_shr0 _)) ?_
  refine r_iret hx hb hr hlk hQ hS (Nat.le_of_ble_eq_true rfl) (Nat.le_of_ble_eq_true rfl) dJ7_length_10 ?_
  exact ⟨rfl, rfl⟩
set_option maxHeartbeats 4000000 in
theorem c_J7_isLatin1 (G : fp_G) (y : Nat) (q : Nat) (n : Nat) (ty : Nat → Nat) : fp_M G yJ7_isLatin1 cJ7_isLatin1 1 (some .boolean) 1 12 0 0 [.ref (y)] (fun H => fp_ST G y q n ty H) fp_no (fun H v H1 => v = some (.int (iI (bI (true)))) ∧ H = H1) := by
  refine fp_M.intro (by decide) (Nat.le_of_ble_eq_true rfl) ?_
  intro pg en s mi ag bl mt cd rR qQ ls X hx hb hr hlk hnm hR hQ hB hM hl
  have hS : va_S (fA fp_no s.heap.size) s.heap s.heap [] := va_S.rf
  generalize ([] : List Loc) = locs at hS ⊢
  have hb0 := hB.1
  have h_st := hM
  have hsz0 := hS.1
  have lt_1 := h_st.1.2
  have lt_2 := h_st.2.2.1
  refine r_gets X hB fp_no.base hS q219 (lw_all_tbl q98) (X.2.2.2.2.2.cs) q665 rfl dJ7_isLatin1_0 ?_
  refine r_set (y := .int (iI ((1 : Nat) : Int))) rfl ?_
  refine r_if_eq (tgt := 17) hx hb (by decide) dJ7_isLatin1_3 (by decide) (fun c3 => ?_) (fun c3 => ?_)
  · exact absurd c3 (by omega)
  · skip
    refine lv_aload_n hx hb dJ7_isLatin1_6 rfl (lv_at hl 0 rfl) ?_
    refine r_scod X (h_st.1) hB fp_no.base hS q805 dJ7_isLatin1_7 ?_
    refine r_if_ne (tgt := 17) hx hb (by decide) dJ7_isLatin1_10 (by decide) (fun c10 => ?_) (fun c10 => ?_)
    · exact absurd c10 (by omega)
    · skip
      refine lv_iconst (v := (iI ((1 : Nat) : Int))) hx hb dJ7_isLatin1_13 rfl ?_
      refine lv_goto (tgt := 18) hx hb dJ7_isLatin1_14 (by decide) ?_
      refine r_zret hx hb hr hlk hQ hS (Nat.le_of_ble_eq_true rfl) (Nat.le_of_ble_eq_true rfl) dJ7_isLatin1_18 rfl ?_
      exact ⟨rfl, rfl⟩
set_option maxHeartbeats 4000000 in
theorem c_J21_charAt (G : fp_G) (q : Nat) (n : Nat) (ty : Nat → Nat) (i : Nat) (hi : i < n) : fp_M G yJ21_charAt cJ21_charAt 2 (some .char) 3 55 0 0 [.ref (q), .int (iI ((i : Nat) : Int))] (fun H => fp_RB G q n ty H) fp_no (fun H v H1 => v = some (.int (iI ((ty i : Nat) : Int))) ∧ H = H1) := by
  refine fp_M.intro (by decide) (Nat.le_of_ble_eq_true rfl) ?_
  intro pg en s mi ag bl mt cd rR qQ ls X hx hb hr hlk hnm hR hQ hB hM hl
  have hS : va_S (fA fp_no s.heap.size) s.heap s.heap [] := va_S.rf
  generalize ([] : List Loc) = locs at hS ⊢
  have hb0 := hB.1
  have h_row := hM
  have hsz0 := hS.1
  have lt_1 := h_row.2.1
  have h128 := h_row.2.2.1 i hi
  have hn1000 := h_row.2.2.2
  refine lv_iload_n hx hb dJ21_charAt_0 rfl (lv_at hl 1 rfl) ?_
  refine lv_aload_n hx hb dJ21_charAt_1 rfl (lv_at hl 0 rfl) ?_
  refine r_rlen X h_row hB fp_no.base hS dJ21_charAt_2 ?_
  refine r_callS (cells1 := 0) (slots1 := 0) X hR (c_J7_checkIndex G i n hi (by omega)) q1819 q1686 q98 q1687 pd_J7_checkIndex ⟨Nat.le_of_ble_eq_true rfl, Nat.le_of_ble_eq_true rfl⟩ rfl rfl (Nat.le_of_ble_eq_true rfl) (Nat.le_of_ble_eq_true rfl) rfl (Nat.le_of_ble_eq_true rfl) hl.1 dJ21_charAt_3 (hB.of hS fp_no.base) trivial hS (fun _ h => h.elim) (fun v H_5 locs hp_2 hz_3 hk_4 hS => ?_)
  obtain ⟨rfl, rfl⟩ := hp_2
  refine r_stk (st2 := []) rfl ?_
  refine lv_aload_n hx hb dJ21_charAt_6 rfl (lv_at hl 0 rfl) ?_
  refine lv_iload_n hx hb dJ21_charAt_7 rfl (lv_at hl 1 rfl) ?_
  refine r_rbld X h_row hB fp_no.base hS (j := i) rfl (by omega) dJ21_charAt_8 ?_
  refine lv_sipush (v := (iI ((255 : Nat) : Int))) hx hb dJ21_charAt_9 rfl ?_
  refine lv_iand hx hb dJ21_charAt_12 ?_
  refine r_set (y := .int (iI ((ty i : Nat) : Int))) (congrArg Value.int (fp_and255 (by omega))) ?_
  refine lv_i2c (v := (iI ((ty i : Nat) : Int))) hx hb dJ21_charAt_13 (iI_i2c ⟨by omega, by omega⟩) ?_
  refine r_zret hx hb hr hlk hQ hS (Nat.le_of_ble_eq_true rfl) (Nat.le_of_ble_eq_true rfl) dJ21_charAt_14 (iI_char ⟨by omega, by omega⟩) ?_
  exact ⟨rfl, rfl⟩
set_option maxHeartbeats 4000000 in
theorem c_J7_charAt (G : fp_G) (y : Nat) (q : Nat) (n : Nat) (ty : Nat → Nat) (i : Nat) (hi : i < n) : fp_M G yJ7_charAt cJ7_charAt 2 (some .char) 4 76 0 0 [.ref (y), .int (iI ((i : Nat) : Int))] (fun H => fp_ST G y q n ty H) fp_no (fun H v H1 => v = some (.int (iI ((ty i : Nat) : Int))) ∧ H = H1) := by
  refine fp_M.intro (by decide) (Nat.le_of_ble_eq_true rfl) ?_
  intro pg en s mi ag bl mt cd rR qQ ls X hx hb hr hlk hnm hR hQ hB hM hl
  have hS : va_S (fA fp_no s.heap.size) s.heap s.heap [] := va_S.rf
  generalize ([] : List Loc) = locs at hS ⊢
  have hb0 := hB.1
  have h_st := hM
  have hsz0 := hS.1
  have lt_1 := h_st.1.2
  have lt_2 := h_st.2.2.1
  obtain ⟨hso, hrow⟩ := id h_st
  have h128 := hrow.2.2.1
  have hn1000 := hrow.2.2.2
  have lt_3 := hso.2
  have lt_4 := hrow.2.1
  have h128i := h128 i hi
  refine lv_aload_n hx hb dJ7_charAt_0 rfl (lv_at hl 0 rfl) ?_
  refine r_callVR (cells1 := 0) (slots1 := 0) X hR (c_J7_isLatin1 G y q n ty) q1782 q1783 q1784 q98 q1785 ⟨rfl, pd_J7_isLatin1⟩ ⟨Nat.le_of_ble_eq_true rfl, Nat.le_of_ble_eq_true rfl⟩ rfl rfl (Nat.le_of_ble_eq_true rfl) (Nat.le_of_ble_eq_true rfl) (fp_SO.recv X (h_st.1) hB fp_no.base hS) rfl (Nat.le_of_ble_eq_true rfl) hl.1 dJ7_charAt_1 (hB.of hS fp_no.base) h_st hS (fun _ h => h.elim) (fun v H_8 locs hp_5 hz_6 hk_7 hS => ?_)
  obtain ⟨rfl, rfl⟩ := hp_5
  refine r_stk (st2 := [.int (iI (bI (true)))]) rfl ?_
  refine r_ifeqB (tgt := 16) hx hb dJ7_charAt_4 (by decide) (fun c4 => ?_) (fun c4 => ?_)
  · exact absurd c4 (by decide)
  · skip
    refine lv_aload_n hx hb dJ7_charAt_7 rfl (lv_at hl 0 rfl) ?_
    refine r_sval X (h_st.1) hB fp_no.base hS q804 dJ7_charAt_8 ?_
    refine lv_iload_n hx hb dJ7_charAt_11 rfl (lv_at hl 1 rfl) ?_
    refine r_callS (cells1 := 0) (slots1 := 0) X hR (c_J21_charAt G q n ty i hi) q1816 q1817 q118 q1818 pd_J21_charAt ⟨Nat.le_of_ble_eq_true rfl, Nat.le_of_ble_eq_true rfl⟩ rfl rfl (Nat.le_of_ble_eq_true rfl) (Nat.le_of_ble_eq_true rfl) rfl (Nat.le_of_ble_eq_true rfl) hl.1 dJ7_charAt_12 (hB.of hS fp_no.base) hrow hS (fun _ h => h.elim) (fun v H_12 locs hp_9 hz_10 hk_11 hS => ?_)
    obtain ⟨rfl, rfl⟩ := hp_9
    refine r_stk (st2 := [.int (iI ((ty i : Nat) : Int))]) rfl ?_
    refine r_zret hx hb hr hlk hQ hS (Nat.le_of_ble_eq_true rfl) (Nat.le_of_ble_eq_true rfl) dJ7_charAt_15 (iI_char ⟨by omega, by omega⟩) ?_
    exact ⟨rfl, rfl⟩
set_option maxHeartbeats 4000000 in
theorem c_J21_equals (G : fp_G) (a : Nat) (n : Nat) (tx : Nat → Nat) (c : Nat) (m : Nat) (ty : Nat → Nat) : fp_M G yJ21_equals cJ21_equals 3 (some .boolean) 1 12 0 0 [.ref (a), .ref (c)] (fun H => fp_RB G a n tx H ∧ fp_RB G c m ty H) fp_no (fun H v H1 => v = some (.int (iI (bI (fp_teq n tx m ty)))) ∧ H = H1) := by
  refine fp_M.intro (by decide) (Nat.le_of_ble_eq_true rfl) ?_
  intro pg en s mi ag bl mt cd rR qQ ls X hx hb hr hlk hnm hR hQ hB hM hl
  have hS : va_S (fA fp_no s.heap.size) s.heap s.heap [] := va_S.rf
  generalize ([] : List Loc) = locs at hS ⊢
  have hb0 := hB.1
  obtain ⟨h_r1, h_r2⟩ := hM
  have hsz0 := hS.1
  have lt_1 := h_r1.2.1
  have lt_2 := h_r2.2.1
  have hn1 := h_r1.2.2
  have hn2 := h_r2.2.2
  refine lv_aload_n hx hb dJ21_equals_0 rfl (lv_at hl 0 rfl) ?_
  refine r_rlen X h_r1 hB fp_no.base hS dJ21_equals_1 ?_
  refine lv_aload_n hx hb dJ21_equals_2 rfl (lv_at hl 1 rfl) ?_
  refine r_rlen X h_r2 hB fp_no.base hS dJ21_equals_3 ?_
  refine r_icmp_ne (tgt := 34) hx hb ⟨by omega, by omega⟩ ⟨by omega, by omega⟩ dJ21_equals_4 (by decide) (fun c4 => ?_) (fun c4 => ?_)
  · skip
    refine lv_iconst (v := (iI ((0 : Nat) : Int))) hx hb dJ21_equals_34 rfl ?_
    refine r_zret hx hb hr hlk hQ hS (Nat.le_of_ble_eq_true rfl) (Nat.le_of_ble_eq_true rfl) dJ21_equals_35 rfl ?_
    exact ⟨(congrArg (fun q : Bool => some (Value.int (iI (bI q)))) (Eq.symm (show fp_teq n tx m ty = false from decide_eq_false (fun h => by omega)))), rfl⟩
  · skip
    obtain rfl : n = m := by omega
    refine lv_iconst (v := (iI ((0 : Nat) : Int))) hx hb dJ21_equals_7 rfl ?_
    refine lv_istore_n (lv' := [(2, .int (iI ((0 : Nat) : Int))), (0, .ref (a)), (1, .ref (c))]) hx hb dJ21_equals_8 rfl hl (by decide) rfl (fun ls hl => ?_)
    have L9 : ∀ (k : Nat), k ≤ n → ∀ (locs : List Loc) (ls : Array Slot),(∀ j, j < k → tx j = ty j) → lv_has ls 3 [(0, .ref (a)), (1, .ref (c)), (2, .int (iI ((k : Nat) : Int)))] → va_S (fA fp_no s.heap.size) s.heap s.heap locs → W pg (g_l G) en rR s mi ag bl mt cd s.heap locs 0 0 qQ (F0 mi 9 ls []) := by
      refine lp_up n ?_
      intro k hk9 ih9 locs ls hno hl hS
      refine lv_iload_n hx hb dJ21_equals_9 rfl (lv_at hl 2 rfl) ?_
      refine lv_aload_n hx hb dJ21_equals_10 rfl (lv_at hl 0 rfl) ?_
      refine r_rlen X h_r1 hB fp_no.base hS dJ21_equals_11 ?_
      refine r_icmp_ge (tgt := 32) hx hb ⟨by omega, by omega⟩ ⟨by omega, by omega⟩ dJ21_equals_12 (by decide) (fun c12 => ?_) (fun c12 => ?_)
      · skip
        obtain rfl : n = k := by omega
        refine lv_iconst (v := (iI ((1 : Nat) : Int))) hx hb dJ21_equals_32 rfl ?_
        refine r_zret hx hb hr hlk hQ hS (Nat.le_of_ble_eq_true rfl) (Nat.le_of_ble_eq_true rfl) dJ21_equals_33 rfl ?_
        exact ⟨(congrArg (fun q : Bool => some (Value.int (iI (bI q)))) (Eq.symm (show fp_teq n tx n ty = true from decide_eq_true (⟨rfl, hno⟩)))), rfl⟩
      · skip
        have hx1 := hn1.1 k (by omega)
        have hx2 := hn2.1 k (by omega)
        refine lv_aload_n hx hb dJ21_equals_15 rfl (lv_at hl 0 rfl) ?_
        refine lv_iload_n hx hb dJ21_equals_16 rfl (lv_at hl 2 rfl) ?_
        refine r_rbld X h_r1 hB fp_no.base hS (j := k) rfl (by omega) dJ21_equals_17 ?_
        refine lv_aload_n hx hb dJ21_equals_18 rfl (lv_at hl 1 rfl) ?_
        refine lv_iload_n hx hb dJ21_equals_19 rfl (lv_at hl 2 rfl) ?_
        refine r_rbld X h_r2 hB fp_no.base hS (j := k) rfl (by omega) dJ21_equals_20 ?_
        refine r_icmp_eq (tgt := 26) hx hb ⟨by omega, by omega⟩ ⟨by omega, by omega⟩ dJ21_equals_21 (by decide) (fun c21 => ?_) (fun c21 => ?_)
        · skip
          refine lv_iinc (v := (iI ((k + 1 : Nat) : Int))) (lv' := [(2, .int (iI ((k + 1 : Nat) : Int))), (0, .ref (a)), (1, .ref (c))]) hx hb dJ21_equals_26 hl (k := 2) rfl (iI_incN _ _) (by decide) rfl (fun ls hl => ?_)
          refine lv_goto (tgt := 9) hx hb dJ21_equals_29 (by decide) ?_
          exact ih9 (by omega) locs ls (fp_ltS hno (by omega)) (lv_sub hl [1, 2, 0] rfl) hS
        · skip
          refine lv_iconst (v := (iI ((0 : Nat) : Int))) hx hb dJ21_equals_24 rfl ?_
          refine r_zret hx hb hr hlk hQ hS (Nat.le_of_ble_eq_true rfl) (Nat.le_of_ble_eq_true rfl) dJ21_equals_25 rfl ?_
          exact ⟨(congrArg (fun q : Bool => some (Value.int (iI (bI q)))) (Eq.symm (show fp_teq n tx n ty = false from decide_eq_false (fun h => by have := h.2 k (by omega); omega)))), rfl⟩
    exact L9 0 (by omega) locs ls (fun i hi => absurd hi (Nat.not_lt_zero _)) (lv_sub hl [1, 2, 0] rfl) hS
set_option maxHeartbeats 4000000 in
theorem c_J7_equals (G : fp_G) (y : Nat) (q : Nat) (n : Nat) (tx : Nat → Nat) (z : Nat) (r : Nat) (m : Nat) (ty : Nat → Nat) : fp_M G yJ7_equals cJ7_equals 3 (some .boolean) 2 34 0 0 [.ref (y), .ref (z)] (fun H => fp_ST G y q n tx H ∧ fp_ST G z r m ty H) fp_no (fun H v H1 => v = some (.int (iI (bI (fp_teq n tx m ty)))) ∧ H = H1) := by
  refine fp_M.intro (by decide) (Nat.le_of_ble_eq_true rfl) ?_
  intro pg en s mi ag bl mt cd rR qQ ls X hx hb hr hlk hnm hR hQ hB hM hl
  have hS : va_S (fA fp_no s.heap.size) s.heap s.heap [] := va_S.rf
  generalize ([] : List Loc) = locs at hS ⊢
  have hb0 := hB.1
  obtain ⟨h_s1, h_s2⟩ := hM
  have hsz0 := hS.1
  have lt_1 := h_s1.1.2
  have lt_2 := h_s1.2.2.1
  have lt_3 := h_s2.1.2
  have lt_4 := h_s2.2.2.1
  have lt_5 := h_s1.2.2.1
  have lt_6 := h_s2.2.2.1
  refine lv_aload_n hx hb dJ7_equals_0 rfl (lv_at hl 0 rfl) ?_
  refine lv_aload_n hx hb dJ7_equals_1 rfl (lv_at hl 1 rfl) ?_
  refine lv_acmp_ne (rx := (some y)) (ry := (some z)) (tgt := 7) hx hb dJ7_equals_2 (by decide) (fun c2 => ?_) (fun c2 => ?_)
  · skip
    refine lv_aload_n hx hb dJ7_equals_7 rfl (lv_at hl 1 rfl) ?_
    refine r_sinst X (h_s2.1) hB fp_no.base hS q902 dJ7_equals_8 ?_
    refine r_ifeqB (tgt := 54) hx hb dJ7_equals_11 (by decide) (fun c11 => ?_) (fun c11 => ?_)
    · exact absurd c11 (by decide)
    · skip
      refine lv_aload_n hx hb dJ7_equals_14 rfl (lv_at hl 1 rfl) ?_
      refine r_scast X (h_s2.1) hB fp_no.base hS q902 dJ7_equals_15 ?_
      refine lv_astore_n (lv' := [(2, .ref (z)), (0, .ref (y)), (1, .ref (z))]) hx hb dJ7_equals_18 rfl hl (by decide) rfl (fun ls hl => ?_)
      refine r_gets X hB fp_no.base hS q219 (lw_all_tbl q98) (X.2.2.2.2.2.cs) q665 rfl dJ7_equals_19 ?_
      refine r_set (y := .int (iI ((1 : Nat) : Int))) rfl ?_
      refine r_if_eq (tgt := 36) hx hb (by decide) dJ7_equals_22 (by decide) (fun c22 => ?_) (fun c22 => ?_)
      · exact absurd c22 (by omega)
      · skip
        refine lv_aload_n hx hb dJ7_equals_25 rfl (lv_at hl 1 rfl) ?_
        refine r_scod X (h_s1.1) hB fp_no.base hS q805 dJ7_equals_26 ?_
        refine lv_aload_n hx hb dJ7_equals_29 rfl (lv_at hl 0 rfl) ?_
        refine r_scod X (h_s2.1) hB fp_no.base hS q805 dJ7_equals_30 ?_
        refine r_icmp_ne (tgt := 54) hx hb (by decide) (by decide) dJ7_equals_33 (by decide) (fun c33 => ?_) (fun c33 => ?_)
        · exact absurd c33 (by omega)
        · skip
          refine lv_aload_n hx hb dJ7_equals_36 rfl (lv_at hl 1 rfl) ?_
          refine r_sval X (h_s1.1) hB fp_no.base hS q804 dJ7_equals_37 ?_
          refine lv_aload_n hx hb dJ7_equals_40 rfl (lv_at hl 0 rfl) ?_
          refine r_sval X (h_s2.1) hB fp_no.base hS q804 dJ7_equals_41 ?_
          refine r_callS (cells1 := 0) (slots1 := 0) X hR (c_J21_equals G q n tx r m ty) q903 q904 q118 q905 pd_J21_equals ⟨Nat.le_of_ble_eq_true rfl, Nat.le_of_ble_eq_true rfl⟩ rfl rfl (Nat.le_of_ble_eq_true rfl) (Nat.le_of_ble_eq_true rfl) rfl (Nat.le_of_ble_eq_true rfl) hl.1 dJ7_equals_44 (hB.of hS fp_no.base) ⟨h_s1.2, h_s2.2⟩ hS (fun _ h => h.elim) (fun v H_10 locs hp_7 hz_8 hk_9 hS => ?_)
          obtain ⟨rfl, rfl⟩ := hp_7
          refine r_stk (st2 := [.int (iI (bI (fp_teq n tx m ty)))]) rfl ?_
          refine r_ifeqB (tgt := 54) hx hb dJ7_equals_47 (by decide) (fun c47 => ?_) (fun c47 => ?_)
          · skip
            refine lv_iconst (v := (iI ((0 : Nat) : Int))) hx hb dJ7_equals_54 rfl ?_
            refine r_zret hx hb hr hlk hQ hS (Nat.le_of_ble_eq_true rfl) (Nat.le_of_ble_eq_true rfl) dJ7_equals_55 rfl ?_
            exact ⟨(congrArg (fun q : Bool => some (Value.int (iI (bI q)))) (Eq.symm c47)), rfl⟩
          · skip
            refine lv_iconst (v := (iI ((1 : Nat) : Int))) hx hb dJ7_equals_50 rfl ?_
            refine lv_goto (tgt := 55) hx hb dJ7_equals_51 (by decide) ?_
            refine r_zret hx hb hr hlk hQ hS (Nat.le_of_ble_eq_true rfl) (Nat.le_of_ble_eq_true rfl) dJ7_equals_55 rfl ?_
            exact ⟨(congrArg (fun q : Bool => some (Value.int (iI (bI q)))) (Eq.symm c47)), rfl⟩
  · skip
    refine lv_iconst (v := (iI ((1 : Nat) : Int))) hx hb dJ7_equals_5 rfl ?_
    refine r_zret hx hb hr hlk hQ hS (Nat.le_of_ble_eq_true rfl) (Nat.le_of_ble_eq_true rfl) dJ7_equals_6 rfl ?_
    exact ⟨(congrArg (fun q : Bool => some (Value.int (iI (bI q)))) (Eq.symm (show fp_teq n tx m ty = true from decide_eq_true (by have h9 := Option.some.inj c2; subst h9; exact fp_ST.eq h_s1 h_s2)))), rfl⟩
set_option maxHeartbeats 4000000 in
theorem c_J17_checkLength (G : fp_G) (f0 : Nat) (t0 : Nat) (hft : f0 ≤ t0) (ht : t0 ≤ 1000) : fp_M G yJ17_checkLength cJ17_checkLength 2 none 1 12 0 0 [.int (iI ((f0 : Nat) : Int)), .int (iI ((t0 : Nat) : Int))] (fun H => True) fp_no (fun H v H1 => v = none ∧ H = H1) := by
  refine fp_M.intro (by decide) (Nat.le_of_ble_eq_true rfl) ?_
  intro pg en s mi ag bl mt cd rR qQ ls X hx hb hr hlk hnm hR hQ hB hM hl
  have hS : va_S (fA fp_no s.heap.size) s.heap s.heap [] := va_S.rf
  generalize ([] : List Loc) = locs at hS ⊢
  have hb0 := hB.1
  have hsz0 := hS.1
  refine lv_iload_n hx hb dJ17_checkLength_0 rfl (lv_at hl 1 rfl) ?_
  refine lv_iload_n hx hb dJ17_checkLength_1 rfl (lv_at hl 0 rfl) ?_
  refine r_icmp_ge (tgt := 37) hx hb ⟨by omega, by omega⟩ ⟨by omega, by omega⟩ dJ17_checkLength_2 (by decide) (fun c2 => ?_) (fun c2 => ?_)
  · skip
    refine r_vret hx hb hr hlk hQ hS (Nat.le_of_ble_eq_true rfl) (Nat.le_of_ble_eq_true rfl) dJ17_checkLength_37 ?_
    exact ⟨rfl, rfl⟩
  · skip
    exact absurd c2 (by omega)
set_option maxHeartbeats 4000000 in
theorem c_J17_copyOfRangeByte (G : fp_G) (vl : Nat) (f : Nat → Int) (cap : Nat) (i0 : Nat) (i1 : Nat) (hi : i0 ≤ i1 ∧ i1 ≤ cap) (hc : cap ≤ 1000) (hby : ∀ j, j < cap → -128 ≤ f j ∧ f j < 128) : fp_M G yJ17_copyOfRangeByte cJ17_copyOfRangeByte 5 (some (.array .byte)) 2 60 1 (i1 - i0) [.ref (vl), .int (iI ((i0 : Nat) : Int)), .int (iI ((i1 : Nat) : Int))] (fun H => fp_At G H vl (eB G cap (fun j => iI (f j)))) fp_no (fun H v H1 => ∃ (q : Nat), v = some (.ref (q)) ∧ (H.size ≤ q) ∧ fp_At G H1 q (eB G (i1 - i0) (fun j => iI ((fun j => f (i0 + j)) j)))) := by
  refine fp_M.intro (by decide) (Nat.le_of_ble_eq_true rfl) ?_
  intro pg en s mi ag bl mt cd rR qQ ls X hx hb hr hlk hnm hR hQ hB hM hl
  have hS : va_S (fA fp_no s.heap.size) s.heap s.heap [] := va_S.rf
  generalize ([] : List Loc) = locs at hS ⊢
  have hb0 := hB.1
  have h_row := hM
  have hsz0 := hS.1
  have lt_1 := h_row.lt
  refine lv_iload_n hx hb dJ17_copyOfRangeByte_0 rfl (lv_at hl 1 rfl) ?_
  refine lv_iload_n hx hb dJ17_copyOfRangeByte_1 rfl (lv_at hl 2 rfl) ?_
  refine r_callS (cells1 := 0) (slots1 := 0) X hR (c_J17_checkLength G i0 i1 (by omega) (by omega)) q759 q760 q113 q761 pd_J17_checkLength ⟨Nat.le_of_ble_eq_true rfl, Nat.le_of_ble_eq_true rfl⟩ rfl rfl (Nat.le_of_ble_eq_true rfl) (by omega) rfl (Nat.le_of_ble_eq_true rfl) hl.1 dJ17_copyOfRangeByte_2 (hB.of hS fp_no.base) trivial hS (fun _ h => h.elim) (fun v H_5 locs hp_2 hz_3 hk_4 hS => ?_)
  obtain ⟨rfl, rfl⟩ := hp_2
  refine r_stk (st2 := []) rfl ?_
  refine lv_iload_n hx hb dJ17_copyOfRangeByte_5 rfl (lv_at hl 2 rfl) ?_
  refine lv_iload_n hx hb dJ17_copyOfRangeByte_6 rfl (lv_at hl 1 rfl) ?_
  refine r_isub hx hb dJ17_copyOfRangeByte_7 ?_
  refine r_set (y := .int (iI ((i1 - i0 : Nat) : Int))) (congrArg (fun q : Int => Value.int (iI q)) (by omega)) ?_
  refine lv_istore_n (lv' := [(3, .int (iI ((i1 - i0 : Nat) : Int))), (0, .ref (vl)), (1, .int (iI ((i0 : Nat) : Int))), (2, .int (iI ((i1 : Nat) : Int)))]) hx hb dJ17_copyOfRangeByte_8 rfl hl (by decide) rfl (fun ls hl => ?_)
  refine lv_iload_n hx hb dJ17_copyOfRangeByte_9 rfl (lv_at hl 0 rfl) ?_
  refine r_newaB (n := i1 - i0) X hR hS q241 rfl (by omega) (Nat.le_of_ble_eq_true rfl) (by omega) dJ17_copyOfRangeByte_10 (fun q9 H_6 hq_10 hE_7 hX_8 hz_9 hS => ?_)
  have hz_11 := hS.1
  have lt_12 := hE_7.lt
  refine lv_astore (lv' := [(4, .ref (q9)), (3, .int (iI ((i1 - i0 : Nat) : Int))), (0, .ref (vl)), (1, .int (iI ((i0 : Nat) : Int))), (2, .int (iI ((i1 : Nat) : Int)))]) hx hb dJ17_copyOfRangeByte_12 hl (by decide) rfl (fun ls hl => ?_)
  refine lv_aload_n hx hb dJ17_copyOfRangeByte_14 rfl (lv_at hl 2 rfl) ?_
  refine lv_iload_n hx hb dJ17_copyOfRangeByte_15 rfl (lv_at hl 3 rfl) ?_
  refine lv_aload hx hb dJ17_copyOfRangeByte_16 (lv_at hl 0 rfl) ?_
  refine lv_iconst (v := (iI ((0 : Nat) : Int))) hx hb dJ17_copyOfRangeByte_18 rfl ?_
  refine lv_aload_n hx hb dJ17_copyOfRangeByte_19 rfl (lv_at hl 2 rfl) ?_
  have hE_13 := fp_At.kept h_row (fp_keptS (by omega) hS (fun z => z))
  refine r_alen X (t := 2) rfl hE_13 (v := (iI ((cap : Nat) : Int))) rfl dJ17_copyOfRangeByte_20 ?_
  refine lv_iload_n hx hb dJ17_copyOfRangeByte_21 rfl (lv_at hl 3 rfl) ?_
  refine r_isub hx hb dJ17_copyOfRangeByte_22 ?_
  refine r_set (y := .int (iI ((cap - i0 : Nat) : Int))) (congrArg (fun q : Int => Value.int (iI q)) (by omega)) ?_
  refine lv_iload_n hx hb dJ17_copyOfRangeByte_23 rfl (lv_at hl 1 rfl) ?_
  refine r_minN X hR hl.1 q620 q621 q107 q622 (by decide) (Nat.le_of_ble_eq_true rfl) (Nat.le_of_ble_eq_true rfl) (by omega) ⟨by omega, by omega⟩ ⟨by omega, by omega⟩ dJ17_copyOfRangeByte_24 ?_
  refine r_set (y := .int (iI ((min (cap - i0) (i1 - i0) : Nat) : Int))) (congrArg (fun q : Int => Value.int (iI q)) (by omega)) ?_
  refine r_copyB (sp := i0) (dp := 0) (n := i1 - i0) X hR hl.1 hE_13 hE_7 hS (Or.inr (by omega)) q623 q625 q624 q114 (by omega) (by omega) (by omega) (by omega) (by omega) (by omega) (by omega) (fun j hj => fp_fitb (hby _ (by omega))) (by decide) (Nat.le_of_ble_eq_true rfl) dJ17_copyOfRangeByte_27 (fun H_17 locs hE_14 hz_15 hq_16 hS => ?_)
  have hz_18 := hS.1
  refine lv_aload hx hb dJ17_copyOfRangeByte_30 (lv_at hl 0 rfl) ?_
  refine r_aret hx hb hr hlk hQ hS (Nat.le_of_ble_eq_true rfl) (by omega) dJ17_copyOfRangeByte_32 (Or.inr ⟨_, rfl⟩) (Or.inr ⟨_, rfl⟩) ?_
  exact ⟨q9, rfl, (by omega), (fp_At.cB hE_14 (fun j hj => by unfold va_cpy; rw [if_pos (by omega)]; congr 1))⟩
set_option maxHeartbeats 4000000 in
theorem c_J17_copyOfRange (G : fp_G) (vl : Nat) (f : Nat → Int) (cap : Nat) (i0 : Nat) (i1 : Nat) (hi : i0 ≤ i1 ∧ i1 ≤ cap) (hc : cap ≤ 1000) (hby : ∀ j, j < cap → -128 ≤ f j ∧ f j < 128) : fp_M G yJ17_copyOfRange cJ17_copyOfRange 3 (some (.array .byte)) 3 84 1 (i1 - i0) [.ref (vl), .int (iI ((i0 : Nat) : Int)), .int (iI ((i1 : Nat) : Int))] (fun H => fp_At G H vl (eB G cap (fun j => iI (f j)))) fp_no (fun H v H1 => ∃ (q : Nat), v = some (.ref (q)) ∧ (H.size ≤ q) ∧ fp_At G H1 q (eB G (i1 - i0) (fun j => iI ((fun j => f (i0 + j)) j)))) := by
  refine fp_M.intro (by decide) (Nat.le_of_ble_eq_true rfl) ?_
  intro pg en s mi ag bl mt cd rR qQ ls X hx hb hr hlk hnm hR hQ hB hM hl
  have hS : va_S (fA fp_no s.heap.size) s.heap s.heap [] := va_S.rf
  generalize ([] : List Loc) = locs at hS ⊢
  have hb0 := hB.1
  have h_row := hM
  have hsz0 := hS.1
  have lt_1 := h_row.lt
  refine lv_iload_n hx hb dJ17_copyOfRange_0 rfl (lv_at hl 1 rfl) ?_
  refine r_if_ne (tgt := 10) hx hb ⟨by omega, by omega⟩ dJ17_copyOfRange_1 (by decide) (fun c1 => ?_) (fun c1 => ?_)
  · skip
    refine lv_aload_n hx hb dJ17_copyOfRange_10 rfl (lv_at hl 0 rfl) ?_
    refine lv_iload_n hx hb dJ17_copyOfRange_11 rfl (lv_at hl 1 rfl) ?_
    refine lv_iload_n hx hb dJ17_copyOfRange_12 rfl (lv_at hl 2 rfl) ?_
    refine r_callS (cells1 := 1) (slots1 := (0 + (i1 - i0))) X hR (c_J17_copyOfRangeByte G vl f cap i0 i1 hi hc hby) q756 q757 q113 q758 pd_J17_copyOfRangeByte ⟨Nat.le_of_ble_eq_true rfl, Nat.le_of_ble_eq_true rfl⟩ rfl rfl (Nat.le_of_ble_eq_true rfl) (by omega) rfl (Nat.le_of_ble_eq_true rfl) hl.1 dJ17_copyOfRange_13 (hB.of hS fp_no.base) h_row hS (fun _ h => h.elim) (fun v H_5 locs hp_2 hz_3 hk_4 hS => ?_)
    obtain ⟨q_6, rfl, hq_7, hE_8⟩ := hp_2
    have hz_9 := hS.1
    have lt_11 := hE_8.lt
    refine r_stk (st2 := [.ref (q_6)]) rfl ?_
    refine r_aret hx hb hr hlk hQ hS (Nat.le_of_ble_eq_true rfl) (by omega) dJ17_copyOfRange_16 (Or.inr ⟨_, rfl⟩) (Or.inr ⟨_, rfl⟩) ?_
    exact ⟨q_6, rfl, (by omega), hE_8⟩
  · skip
    refine lv_iload_n hx hb dJ17_copyOfRange_4 rfl (lv_at hl 2 rfl) ?_
    refine lv_aload_n hx hb dJ17_copyOfRange_5 rfl (lv_at hl 0 rfl) ?_
    refine r_alen X (t := 2) rfl h_row (v := (iI ((cap : Nat) : Int))) rfl dJ17_copyOfRange_6 ?_
    refine r_icmp_eq (tgt := 17) hx hb ⟨by omega, by omega⟩ ⟨by omega, by omega⟩ dJ17_copyOfRange_7 (by decide) (fun c7 => ?_) (fun c7 => ?_)
    · skip
      refine lv_aload_n hx hb dJ17_copyOfRange_17 rfl (lv_at hl 0 rfl) ?_
      have hz0 : i0 = 0 := by omega
      have hz1 : i1 = cap := by omega
      refine r_cloneB X hR hl.1 h_row hS q613 q614 q615 q616 q617 q618 (fun j hj => fp_fitb (hby j hj)) (by decide) (Nat.le_of_ble_eq_true rfl) (Nat.le_of_ble_eq_true rfl) (by omega) dJ17_copyOfRange_18 (fun qc H_12 hq_16 hE_13 hX_14 hz_15 hS => ?_)
      have hz_17 := hS.1
      have lt_18 := hE_13.lt
      refine r_castAB X hE_13 q619 dJ17_copyOfRange_21 ?_
      refine r_aret hx hb hr hlk hQ hS (Nat.le_of_ble_eq_true rfl) (by omega) dJ17_copyOfRange_24 (Or.inr ⟨_, rfl⟩) (Or.inr ⟨_, rfl⟩) ?_
      exact ⟨qc, rfl, (by omega), (by subst hz0; subst hz1; exact fp_At.cB hE_13 (fun j hj => by rw [Nat.zero_add]))⟩
    · skip
      refine lv_aload_n hx hb dJ17_copyOfRange_10 rfl (lv_at hl 0 rfl) ?_
      refine lv_iload_n hx hb dJ17_copyOfRange_11 rfl (lv_at hl 1 rfl) ?_
      refine lv_iload_n hx hb dJ17_copyOfRange_12 rfl (lv_at hl 2 rfl) ?_
      refine r_callS (cells1 := 1) (slots1 := (0 + (i1 - i0))) X hR (c_J17_copyOfRangeByte G vl f cap i0 i1 hi hc hby) q756 q757 q113 q758 pd_J17_copyOfRangeByte ⟨Nat.le_of_ble_eq_true rfl, Nat.le_of_ble_eq_true rfl⟩ rfl rfl (Nat.le_of_ble_eq_true rfl) (by omega) rfl (Nat.le_of_ble_eq_true rfl) hl.1 dJ17_copyOfRange_13 (hB.of hS fp_no.base) h_row hS (fun _ h => h.elim) (fun v H_22 locs hp_19 hz_20 hk_21 hS => ?_)
      obtain ⟨q_23, rfl, hq_24, hE_25⟩ := hp_19
      have hz_26 := hS.1
      have lt_28 := hE_25.lt
      refine r_stk (st2 := [.ref (q_23)]) rfl ?_
      refine r_aret hx hb hr hlk hQ hS (Nat.le_of_ble_eq_true rfl) (by omega) dJ17_copyOfRange_16 (Or.inr ⟨_, rfl⟩) (Or.inr ⟨_, rfl⟩) ?_
      exact ⟨q_23, rfl, (by omega), hE_25⟩
set_option maxHeartbeats 4000000 in
theorem c_J7_init_3 (G : fp_G) (x : Nat) (vl : Nat) (hxb : (g_s G).heap.size ≤ x) : fp_M G yJ7_init_3 cJ7_init_3 3 none 2 30 0 0 [.ref (x), .ref (vl), .int (iI ((0 : Nat) : Int))] (fun H => fp_At G H x (eO 12 [.null, .int (iI ((0 : Nat) : Int)), .int (iI ((0 : Nat) : Int)), .int (iI ((0 : Nat) : Int))])) (fun q => (g_s G).heap.size ≤ q ∧ (q = x)) (fun H v H1 => v = none ∧ fp_At G H1 x (eO 12 [.ref (vl), .int (iI ((0 : Nat) : Int)), .int (iI ((0 : Nat) : Int)), .int (iI ((0 : Nat) : Int))])) := by
  refine fp_M.intro (by decide) (Nat.le_of_ble_eq_true rfl) ?_
  intro pg en s mi ag bl mt cd rR qQ ls X hx hb hr hlk hnm hR hQ hB hM hl
  have hS : va_S (fA (fun q => (g_s G).heap.size ≤ q ∧ (q = x)) s.heap.size) s.heap s.heap [] := va_S.rf
  generalize ([] : List Loc) = locs at hS ⊢
  have hb0 := hB.1
  have hAb : ∀ q, (fun q => (g_s G).heap.size ≤ q ∧ (q = x)) q → (g_s G).heap.size ≤ q := fun q h => h.1
  have h_o := hM
  have hsz0 := hS.1
  have lt_1 := h_o.lt
  refine lv_aload_n hx hb dJ7_init_3_0 rfl (lv_at hl 0 rfl) ?_
  refine r_objInit X hR q738 q132 q133 hl.1 (by decide) (Nat.le_of_ble_eq_true rfl) dJ7_init_3_1 ?_
  refine lv_aload_n hx hb dJ7_init_3_4 rfl (lv_at hl 0 rfl) ?_
  refine lv_aload_n hx hb dJ7_init_3_5 rfl (lv_at hl 1 rfl) ?_
  refine r_putF X h_o hS (Or.inl ⟨by omega, rfl⟩) rfl in_J7 tyJ7_ok nmJ7 0 (by decide) q804 (Or.inl rfl) rfl hnm rfl rfl rfl (show 0 < 4 by decide) dJ7_init_3_6 (fun H_5 locs hE_2 hz_3 hq_4 hS => ?_)
  have hz_6 := hS.1
  refine lv_aload_n hx hb dJ7_init_3_9 rfl (lv_at hl 0 rfl) ?_
  refine lv_iload_n hx hb dJ7_init_3_10 rfl (lv_at hl 2 rfl) ?_
  refine r_putF X hE_2 hS (Or.inl ⟨by omega, rfl⟩) rfl in_J7 tyJ7_ok nmJ7 1 (by decide) q805 (Or.inl rfl) rfl hnm rfl rfl rfl (show 1 < 4 by decide) dJ7_init_3_11 (fun H_10 locs hE_7 hz_8 hq_9 hS => ?_)
  have hz_11 := hS.1
  refine r_vret hx hb hr hlk hQ hS (Nat.le_of_ble_eq_true rfl) (Nat.le_of_ble_eq_true rfl) dJ7_init_3_14 ?_
  exact ⟨rfl, hE_7⟩
set_option maxHeartbeats 4000000 in
theorem c_J21_newString (G : fp_G) (vl : Nat) (n : Nat) (tx : Nat → Nat) (i0 : Nat) (k : Nat) (hk : 0 < k) (hi : i0 + k ≤ n) (hn : n ≤ 1000) (h128 : ∀ i, i < n → tx i < 128) : fp_M G yJ21_newString cJ21_newString 3 (some (.object "java/lang/String")) 4 106 2 (4 + k) [.ref (vl), .int (iI ((i0 : Nat) : Int)), .int (iI ((k : Nat) : Int))] (fun H => fp_At G H vl (eB G n (fun j => iI ((fun i => ((tx i : Nat) : Int)) j)))) fp_no (fun H v H1 => ∃ (x : Nat), ∃ (q : Nat), v = some (.ref (x)) ∧ (H.size ≤ x ∧ H.size ≤ q) ∧ fp_HS G x q k (fun i => tx (i0 + i)) H1) := by
  refine fp_M.intro (by decide) (Nat.le_of_ble_eq_true rfl) ?_
  intro pg en s mi ag bl mt cd rR qQ ls X hx hb hr hlk hnm hR hQ hB hM hl
  have hS : va_S (fA fp_no s.heap.size) s.heap s.heap [] := va_S.rf
  generalize ([] : List Loc) = locs at hS ⊢
  have hb0 := hB.1
  have h_row := hM
  have hsz0 := hS.1
  have lt_1 := h_row.lt
  refine lv_iload_n hx hb dJ21_newString_0 rfl (lv_at hl 2 rfl) ?_
  refine r_if_ne (tgt := 7) hx hb ⟨by omega, by omega⟩ dJ21_newString_1 (by decide) (fun c1 => ?_) (fun c1 => ?_)
  · skip
    refine r_new (ci := 12) (fs := [.null, .int (iI ((0 : Nat) : Int)), .int (iI ((0 : Nat) : Int)), .int (iI ((0 : Nat) : Int))]) X hR hS rfl in_J7 tyJ7_ok q1790 q731 q98 (by intro j hj; rcases (show j = 0 ∨ j = 1 ∨ j = 2 ∨ j = 3 by omega) with rfl | rfl | rfl | rfl <;> rfl) (Nat.le_of_ble_eq_true rfl) (by omega) dJ21_newString_7 (fun xn H_2 hq_6 hE_3 hX_4 hz_5 hS => ?_)
    have hz_7 := hS.1
    have lt_8 := hE_3.lt
    refine lv_dup hx hb dJ21_newString_10 rfl ?_
    refine lv_aload_n hx hb dJ21_newString_11 rfl (lv_at hl 0 rfl) ?_
    refine lv_iload_n hx hb dJ21_newString_12 rfl (lv_at hl 1 rfl) ?_
    refine lv_iload_n hx hb dJ21_newString_13 rfl (lv_at hl 1 rfl) ?_
    refine lv_iload_n hx hb dJ21_newString_14 rfl (lv_at hl 2 rfl) ?_
    refine r_iaddN hx hb dJ21_newString_15 ?_
    have hE_9 := fp_At.kept h_row (fp_keptS (by omega) hS (fun z => z))
    refine r_callS (cells1 := 2) (slots1 := (4 + ((i0 + k) - i0))) X hR (c_J17_copyOfRange G vl (fun i => ((tx i : Nat) : Int)) n i0 (i0 + k) (by omega) hn (fun j hj => by have := h128 j hj; constructor <;> omega)) q1791 q754 q113 q755 pd_J17_copyOfRange ⟨Nat.le_of_ble_eq_true rfl, Nat.le_of_ble_eq_true rfl⟩ rfl rfl (Nat.le_of_ble_eq_true rfl) (by omega) rfl (Nat.le_of_ble_eq_true rfl) hl.1 dJ21_newString_16 (hB.of hS fp_no.base) hE_9 hS (fun _ h => h.elim) (fun v H_13 locs hp_10 hz_11 hk_12 hS => ?_)
    obtain ⟨q_14, rfl, hq_15, hE_16⟩ := hp_10
    have hz_17 := hS.1
    have lt_19 := hE_16.lt
    refine r_stk (st2 := [.ref (q_14), .ref (xn), .ref (xn)]) rfl ?_
    refine lv_iconst (v := (iI ((0 : Nat) : Int))) hx hb dJ21_newString_19 rfl ?_
    have hE_21 := fp_At.kept hE_3 (hk_12 _ (by omega) (fun z => z))
    refine r_callI (cells1 := 2) (slots1 := (4 + ((i0 + k) - i0))) X hR (c_J7_init_3 G xn q_14 (by omega)) q1792 q1793 q98 q1794 rfl ⟨by decide, by decide, rfl⟩ ⟨Nat.le_of_ble_eq_true rfl, Nat.le_of_ble_eq_true rfl⟩ rfl rfl (Nat.le_of_ble_eq_true rfl) (by omega) rfl (Nat.le_of_ble_eq_true rfl) hl.1 dJ21_newString_20 (hB.of hS fp_no.base) hE_21 hS (fun q h => Or.inr (by have h2 : (g_s G).heap.size ≤ q ∧ (q = xn) := h; omega)) (fun v H_25 locs hp_22 hz_23 hk_24 hS => ?_)
    obtain ⟨rfl, hE_26⟩ := hp_22
    have hz_27 := hS.1
    have lt_28 := hE_26.lt
    refine r_stk (st2 := [.ref (xn)]) rfl ?_
    refine r_aret hx hb hr hlk hQ hS (Nat.le_of_ble_eq_true rfl) (by omega) dJ21_newString_23 (Or.inl ⟨_, rfl⟩) (Or.inr ⟨_, rfl⟩) ?_
    have hE_30 := fp_At.kept hE_16 (hk_24 _ (by omega) (by omega))
    exact ⟨xn, q_14, rfl, (by omega), (⟨⟨_, _, hE_26, Or.inr ⟨rfl, rfl⟩⟩, fp_At.cB (by have h9 := hE_30; rw [show i0 + k - i0 = k by omega] at h9; exact h9) (fun j hj => rfl), ⟨fun i hi => h128 _ (by omega), by omega⟩, by omega, by omega⟩)⟩
  · skip
    exact absurd c1 (by omega)
set_option maxHeartbeats 4000000 in
theorem c_J19_checkFromToIndex (G : fp_G) (i0 : Nat) (i1 : Nat) (n : Nat) (hi : i0 ≤ i1 ∧ i1 ≤ n) (hn : n ≤ 1000) : fp_M G yJ19_checkFromToIndex cJ19_checkFromToIndex 4 (some .int) 1 12 0 0 [.int (iI ((i0 : Nat) : Int)), .int (iI ((i1 : Nat) : Int)), .int (iI ((n : Nat) : Int)), .null] (fun H => True) fp_no (fun H v H1 => v = some (.int (iI ((i0 : Nat) : Int))) ∧ H = H1) := by
  refine fp_M.intro (by decide) (Nat.le_of_ble_eq_true rfl) ?_
  intro pg en s mi ag bl mt cd rR qQ ls X hx hb hr hlk hnm hR hQ hB hM hl
  have hS : va_S (fA fp_no s.heap.size) s.heap s.heap [] := va_S.rf
  generalize ([] : List Loc) = locs at hS ⊢
  have hb0 := hB.1
  have hsz0 := hS.1
  refine lv_iload_n hx hb dJ19_checkFromToIndex_0 rfl (lv_at hl 0 rfl) ?_
  refine r_if_lt (tgt := 14) hx hb ⟨by omega, by omega⟩ dJ19_checkFromToIndex_1 (by decide) (fun c1 => ?_) (fun c1 => ?_)
  · exact absurd c1 (by omega)
  · skip
    refine lv_iload_n hx hb dJ19_checkFromToIndex_4 rfl (lv_at hl 0 rfl) ?_
    refine lv_iload_n hx hb dJ19_checkFromToIndex_5 rfl (lv_at hl 1 rfl) ?_
    refine r_icmp_gt (tgt := 14) hx hb ⟨by omega, by omega⟩ ⟨by omega, by omega⟩ dJ19_checkFromToIndex_6 (by decide) (fun c6 => ?_) (fun c6 => ?_)
    · skip
      exact absurd c6 (by omega)
    · skip
      refine lv_iload_n hx hb dJ19_checkFromToIndex_9 rfl (lv_at hl 1 rfl) ?_
      refine lv_iload_n hx hb dJ19_checkFromToIndex_10 rfl (lv_at hl 2 rfl) ?_
      refine r_icmp_le (tgt := 22) hx hb ⟨by omega, by omega⟩ ⟨by omega, by omega⟩ dJ19_checkFromToIndex_11 (by decide) (fun c11 => ?_) (fun c11 => ?_)
      · skip
        refine lv_iload_n hx hb dJ19_checkFromToIndex_22 rfl (lv_at hl 0 rfl) ?_
        refine r_iret hx hb hr hlk hQ hS (Nat.le_of_ble_eq_true rfl) (Nat.le_of_ble_eq_true rfl) dJ19_checkFromToIndex_23 ?_
        exact ⟨rfl, rfl⟩
      · skip
        exact absurd c11 (by omega)
set_option maxHeartbeats 4000000 in
theorem c_J19_checkFromToIndex_r (G : fp_G) (i0 : Nat) (i1 : Nat) (n : Nat) (bf : Nat) (hi : i0 ≤ i1 ∧ i1 ≤ n) (hn : n ≤ 1000) : fp_M G yJ19_checkFromToIndex cJ19_checkFromToIndex 4 (some .int) 1 12 0 0 [.int (iI ((i0 : Nat) : Int)), .int (iI ((i1 : Nat) : Int)), .int (iI ((n : Nat) : Int)), .ref (bf)] (fun H => True) fp_no (fun H v H1 => v = some (.int (iI ((i0 : Nat) : Int))) ∧ H = H1) := by
  refine fp_M.intro (by decide) (Nat.le_of_ble_eq_true rfl) ?_
  intro pg en s mi ag bl mt cd rR qQ ls X hx hb hr hlk hnm hR hQ hB hM hl
  have hS : va_S (fA fp_no s.heap.size) s.heap s.heap [] := va_S.rf
  generalize ([] : List Loc) = locs at hS ⊢
  have hb0 := hB.1
  have hsz0 := hS.1
  refine lv_iload_n hx hb dJ19_checkFromToIndex_0 rfl (lv_at hl 0 rfl) ?_
  refine r_if_lt (tgt := 14) hx hb ⟨by omega, by omega⟩ dJ19_checkFromToIndex_1 (by decide) (fun c1 => ?_) (fun c1 => ?_)
  · exact absurd c1 (by omega)
  · skip
    refine lv_iload_n hx hb dJ19_checkFromToIndex_4 rfl (lv_at hl 0 rfl) ?_
    refine lv_iload_n hx hb dJ19_checkFromToIndex_5 rfl (lv_at hl 1 rfl) ?_
    refine r_icmp_gt (tgt := 14) hx hb ⟨by omega, by omega⟩ ⟨by omega, by omega⟩ dJ19_checkFromToIndex_6 (by decide) (fun c6 => ?_) (fun c6 => ?_)
    · skip
      exact absurd c6 (by omega)
    · skip
      refine lv_iload_n hx hb dJ19_checkFromToIndex_9 rfl (lv_at hl 1 rfl) ?_
      refine lv_iload_n hx hb dJ19_checkFromToIndex_10 rfl (lv_at hl 2 rfl) ?_
      refine r_icmp_le (tgt := 22) hx hb ⟨by omega, by omega⟩ ⟨by omega, by omega⟩ dJ19_checkFromToIndex_11 (by decide) (fun c11 => ?_) (fun c11 => ?_)
      · skip
        refine lv_iload_n hx hb dJ19_checkFromToIndex_22 rfl (lv_at hl 0 rfl) ?_
        refine r_iret hx hb hr hlk hQ hS (Nat.le_of_ble_eq_true rfl) (Nat.le_of_ble_eq_true rfl) dJ19_checkFromToIndex_23 ?_
        exact ⟨rfl, rfl⟩
      · skip
        exact absurd c11 (by omega)
set_option maxHeartbeats 4000000 in
theorem c_J7_checkBoundsBeginEnd (G : fp_G) (i0 : Nat) (i1 : Nat) (n : Nat) (hi : i0 ≤ i1 ∧ i1 ≤ n) (hn : n ≤ 1000) : fp_M G yJ7_checkBoundsBeginEnd cJ7_checkBoundsBeginEnd 3 none 2 35 0 0 [.int (iI ((i0 : Nat) : Int)), .int (iI ((i1 : Nat) : Int)), .int (iI ((n : Nat) : Int))] (fun H => True) fp_no (fun H v H1 => v = none ∧ H = H1) := by
  refine fp_M.intro (by decide) (Nat.le_of_ble_eq_true rfl) ?_
  intro pg en s mi ag bl mt cd rR qQ ls X hx hb hr hlk hnm hR hQ hB hM hl
  have hS : va_S (fA fp_no s.heap.size) s.heap s.heap [] := va_S.rf
  generalize ([] : List Loc) = locs at hS ⊢
  have hb0 := hB.1
  have hsz0 := hS.1
  rcases X.2.2.2.2.2.sio with ⟨bf, hbf⟩ | hbf
  · skip
    refine lv_iload_n hx hb dJ7_checkBoundsBeginEnd_0 rfl (lv_at hl 0 rfl) ?_
    refine lv_iload_n hx hb dJ7_checkBoundsBeginEnd_1 rfl (lv_at hl 1 rfl) ?_
    refine lv_iload_n hx hb dJ7_checkBoundsBeginEnd_2 rfl (lv_at hl 2 rfl) ?_
    refine r_gets X hB fp_no.base hS q644 (lw_all_tbl q116) hbf q643 rfl dJ7_checkBoundsBeginEnd_3 ?_
    refine r_callS (cells1 := 0) (slots1 := 0) X hR (c_J19_checkFromToIndex_r G i0 i1 n bf hi hn) q645 q646 q116 q647 pd_J19_checkFromToIndex ⟨Nat.le_of_ble_eq_true rfl, Nat.le_of_ble_eq_true rfl⟩ rfl rfl (Nat.le_of_ble_eq_true rfl) (Nat.le_of_ble_eq_true rfl) rfl (Nat.le_of_ble_eq_true rfl) hl.1 dJ7_checkBoundsBeginEnd_6 (hB.of hS fp_no.base) trivial hS (fun _ h => h.elim) (fun v H_4 locs hp_1 hz_2 hk_3 hS => ?_)
    obtain ⟨rfl, rfl⟩ := hp_1
    refine r_stk (st2 := [.int (iI ((i0 : Nat) : Int))]) rfl ?_
    refine lv_pop hx hb dJ7_checkBoundsBeginEnd_9 rfl ?_
    refine r_vret hx hb hr hlk hQ hS (Nat.le_of_ble_eq_true rfl) (Nat.le_of_ble_eq_true rfl) dJ7_checkBoundsBeginEnd_10 ?_
    exact ⟨rfl, rfl⟩
  · skip
    refine lv_iload_n hx hb dJ7_checkBoundsBeginEnd_0 rfl (lv_at hl 0 rfl) ?_
    refine lv_iload_n hx hb dJ7_checkBoundsBeginEnd_1 rfl (lv_at hl 1 rfl) ?_
    refine lv_iload_n hx hb dJ7_checkBoundsBeginEnd_2 rfl (lv_at hl 2 rfl) ?_
    refine r_gets X hB fp_no.base hS q644 (lw_all_tbl q116) hbf q643 rfl dJ7_checkBoundsBeginEnd_3 ?_
    refine r_callS (cells1 := 0) (slots1 := 0) X hR (c_J19_checkFromToIndex G i0 i1 n hi hn) q645 q646 q116 q647 pd_J19_checkFromToIndex ⟨Nat.le_of_ble_eq_true rfl, Nat.le_of_ble_eq_true rfl⟩ rfl rfl (Nat.le_of_ble_eq_true rfl) (Nat.le_of_ble_eq_true rfl) rfl (Nat.le_of_ble_eq_true rfl) hl.1 dJ7_checkBoundsBeginEnd_6 (hB.of hS fp_no.base) trivial hS (fun _ h => h.elim) (fun v H_8 locs hp_5 hz_6 hk_7 hS => ?_)
    obtain ⟨rfl, rfl⟩ := hp_5
    refine r_stk (st2 := [.int (iI ((i0 : Nat) : Int))]) rfl ?_
    refine lv_pop hx hb dJ7_checkBoundsBeginEnd_9 rfl ?_
    refine r_vret hx hb hr hlk hQ hS (Nat.le_of_ble_eq_true rfl) (Nat.le_of_ble_eq_true rfl) dJ7_checkBoundsBeginEnd_10 ?_
    exact ⟨rfl, rfl⟩
set_option maxHeartbeats 4000000 in
theorem c_J7_substring (G : fp_G) (y : Nat) (q : Nat) (n : Nat) (ty : Nat → Nat) (i0 : Nat) (i1 : Nat) (hi : i0 < i1 ∧ i1 ≤ n) : fp_M G yJ7_substring cJ7_substring 5 (some (.object "java/lang/String")) 5 128 2 (4 + (i1 - i0)) [.ref (y), .int (iI ((i0 : Nat) : Int)), .int (iI ((i1 : Nat) : Int))] (fun H => fp_HS G y q n ty H) fp_no (fun H v H1 => ∃ (x : Nat), ∃ (r : Nat), v = some (.ref (x)) ∧ ((x = y ∧ r = q ∧ i0 = 0 ∧ i1 = n) ∨ (H.size ≤ x ∧ H.size ≤ r)) ∧ fp_HS G x r (i1 - i0) (fun i => ty (i0 + i)) H1) := by
  refine fp_M.intro (by decide) (Nat.le_of_ble_eq_true rfl) ?_
  intro pg en s mi ag bl mt cd rR qQ ls X hx hb hr hlk hnm hR hQ hB hM hl
  have hS : va_S (fA fp_no s.heap.size) s.heap s.heap [] := va_S.rf
  generalize ([] : List Loc) = locs at hS ⊢
  have hb0 := hB.1
  have h_hs := hM
  have hsz0 := hS.1
  have lt_1 := h_hs.lt
  have lt_2 := h_hs.2.1.lt
  obtain ⟨⟨h1, h2, hso, hh⟩, hrow, ⟨h128, hn1000⟩, hyb, hqb⟩ := id h_hs
  have lt_3 := hrow.lt
  refine lv_aload_n hx hb dJ7_substring_0 rfl (lv_at hl 0 rfl) ?_
  refine r_callVR (cells1 := 0) (slots1 := 0) X hR (c_J7_length G y q n ty) q1780 q658 q659 q98 q660 ⟨rfl, pd_J7_length⟩ ⟨Nat.le_of_ble_eq_true rfl, Nat.le_of_ble_eq_true rfl⟩ rfl rfl (Nat.le_of_ble_eq_true rfl) (by omega) (fp_SO.recv X ((fp_HS.st h_hs).1) hB fp_no.base hS) rfl (Nat.le_of_ble_eq_true rfl) hl.1 dJ7_substring_1 (hB.of hS fp_no.base) (fp_HS.st h_hs) hS (fun _ h => h.elim) (fun v H_7 locs hp_4 hz_5 hk_6 hS => ?_)
  obtain ⟨rfl, rfl⟩ := hp_4
  refine r_stk (st2 := [.int (iI ((n : Nat) : Int))]) rfl ?_
  refine lv_istore_n (lv' := [(3, .int (iI ((n : Nat) : Int))), (0, .ref (y)), (1, .int (iI ((i0 : Nat) : Int))), (2, .int (iI ((i1 : Nat) : Int)))]) hx hb dJ7_substring_4 rfl hl (by decide) rfl (fun ls hl => ?_)
  refine lv_iload_n hx hb dJ7_substring_5 rfl (lv_at hl 2 rfl) ?_
  refine lv_iload_n hx hb dJ7_substring_6 rfl (lv_at hl 3 rfl) ?_
  refine lv_iload_n hx hb dJ7_substring_7 rfl (lv_at hl 0 rfl) ?_
  refine r_callS (cells1 := 0) (slots1 := 0) X hR (c_J7_checkBoundsBeginEnd G i0 i1 n (by omega) (by omega)) q1781 q641 q98 q642 pd_J7_checkBoundsBeginEnd ⟨Nat.le_of_ble_eq_true rfl, Nat.le_of_ble_eq_true rfl⟩ rfl rfl (Nat.le_of_ble_eq_true rfl) (by omega) rfl (Nat.le_of_ble_eq_true rfl) hl.1 dJ7_substring_8 (hB.of hS fp_no.base) trivial hS (fun _ h => h.elim) (fun v H_11 locs hp_8 hz_9 hk_10 hS => ?_)
  obtain ⟨rfl, rfl⟩ := hp_8
  refine r_stk (st2 := []) rfl ?_
  refine lv_iload_n hx hb dJ7_substring_11 rfl (lv_at hl 2 rfl) ?_
  refine r_if_ne (tgt := 22) hx hb ⟨by omega, by omega⟩ dJ7_substring_12 (by decide) (fun c12 => ?_) (fun c12 => ?_)
  · skip
    refine lv_iload_n hx hb dJ7_substring_22 rfl (lv_at hl 3 rfl) ?_
    refine lv_iload_n hx hb dJ7_substring_23 rfl (lv_at hl 2 rfl) ?_
    refine r_isub hx hb dJ7_substring_24 ?_
    refine r_set (y := .int (iI ((i1 - i0 : Nat) : Int))) (congrArg (fun q : Int => Value.int (iI q)) (by omega)) ?_
    refine lv_istore (lv' := [(4, .int (iI ((i1 - i0 : Nat) : Int))), (3, .int (iI ((n : Nat) : Int))), (0, .ref (y)), (1, .int (iI ((i0 : Nat) : Int))), (2, .int (iI ((i1 : Nat) : Int)))]) hx hb dJ7_substring_25 hl (by decide) rfl (fun ls hl => ?_)
    refine lv_aload_n hx hb dJ7_substring_27 rfl (lv_at hl 2 rfl) ?_
    refine r_callVR (cells1 := 0) (slots1 := 0) X hR (c_J7_isLatin1 G y q n ty) q1782 q1783 q1784 q98 q1785 ⟨rfl, pd_J7_isLatin1⟩ ⟨Nat.le_of_ble_eq_true rfl, Nat.le_of_ble_eq_true rfl⟩ rfl rfl (Nat.le_of_ble_eq_true rfl) (by omega) (fp_SO.recv X ((fp_HS.st h_hs).1) hB fp_no.base hS) rfl (Nat.le_of_ble_eq_true rfl) hl.1 dJ7_substring_28 (hB.of hS fp_no.base) (fp_HS.st h_hs) hS (fun _ h => h.elim) (fun v H_15 locs hp_12 hz_13 hk_14 hS => ?_)
    obtain ⟨rfl, rfl⟩ := hp_12
    refine r_stk (st2 := [.int (iI (bI (true)))]) rfl ?_
    refine r_ifeqB (tgt := 47) hx hb dJ7_substring_31 (by decide) (fun c31 => ?_) (fun c31 => ?_)
    · exact absurd c31 (by decide)
    · skip
      have lt_16 := (fp_HS.st h_hs).1.2
      refine lv_aload_n hx hb dJ7_substring_34 rfl (lv_at hl 2 rfl) ?_
      refine r_sval X ((fp_HS.st h_hs).1) hB fp_no.base hS q804 dJ7_substring_35 ?_
      refine lv_iload_n hx hb dJ7_substring_38 rfl (lv_at hl 3 rfl) ?_
      refine lv_iload hx hb dJ7_substring_39 (lv_at hl 0 rfl) ?_
      refine r_callS (cells1 := 2) (slots1 := (0 + (4 + (i1 - i0)))) X hR (c_J21_newString G q n ty i0 (i1 - i0) (by omega) (by omega) (by omega) h128) q1786 q1787 q118 q1788 pd_J21_newString ⟨Nat.le_of_ble_eq_true rfl, Nat.le_of_ble_eq_true rfl⟩ rfl rfl (Nat.le_of_ble_eq_true rfl) (by omega) rfl (Nat.le_of_ble_eq_true rfl) hl.1 dJ7_substring_41 (hB.of hS fp_no.base) hrow hS (fun _ h => h.elim) (fun v H_20 locs hp_17 hz_18 hk_19 hS => ?_)
      obtain ⟨x_21, q_22, rfl, hx_23, hE_24⟩ := hp_17
      have hz_25 := hS.1
      have lt_27 := hE_24.lt
      have lt_28 := hE_24.2.1.lt
      refine r_stk (st2 := [.ref (x_21)]) rfl ?_
      refine lv_goto (tgt := 57) hx hb dJ7_substring_44 (by decide) ?_
      refine r_aret hx hb hr hlk hQ hS (Nat.le_of_ble_eq_true rfl) (by omega) dJ7_substring_57 (Or.inl ⟨_, rfl⟩) (Or.inr ⟨_, rfl⟩) ?_
      exact ⟨x_21, q_22, rfl, (Or.inr ⟨by omega, by omega⟩), hE_24⟩
  · skip
    refine lv_iload_n hx hb dJ7_substring_15 rfl (lv_at hl 3 rfl) ?_
    refine lv_iload_n hx hb dJ7_substring_16 rfl (lv_at hl 0 rfl) ?_
    refine r_icmp_ne (tgt := 22) hx hb ⟨by omega, by omega⟩ ⟨by omega, by omega⟩ dJ7_substring_17 (by decide) (fun c17 => ?_) (fun c17 => ?_)
    · skip
      refine lv_iload_n hx hb dJ7_substring_22 rfl (lv_at hl 3 rfl) ?_
      refine lv_iload_n hx hb dJ7_substring_23 rfl (lv_at hl 2 rfl) ?_
      refine r_isub hx hb dJ7_substring_24 ?_
      refine r_set (y := .int (iI ((i1 - i0 : Nat) : Int))) (congrArg (fun q : Int => Value.int (iI q)) (by omega)) ?_
      refine lv_istore (lv' := [(4, .int (iI ((i1 - i0 : Nat) : Int))), (3, .int (iI ((n : Nat) : Int))), (0, .ref (y)), (1, .int (iI ((i0 : Nat) : Int))), (2, .int (iI ((i1 : Nat) : Int)))]) hx hb dJ7_substring_25 hl (by decide) rfl (fun ls hl => ?_)
      refine lv_aload_n hx hb dJ7_substring_27 rfl (lv_at hl 2 rfl) ?_
      refine r_callVR (cells1 := 0) (slots1 := 0) X hR (c_J7_isLatin1 G y q n ty) q1782 q1783 q1784 q98 q1785 ⟨rfl, pd_J7_isLatin1⟩ ⟨Nat.le_of_ble_eq_true rfl, Nat.le_of_ble_eq_true rfl⟩ rfl rfl (Nat.le_of_ble_eq_true rfl) (by omega) (fp_SO.recv X ((fp_HS.st h_hs).1) hB fp_no.base hS) rfl (Nat.le_of_ble_eq_true rfl) hl.1 dJ7_substring_28 (hB.of hS fp_no.base) (fp_HS.st h_hs) hS (fun _ h => h.elim) (fun v H_32 locs hp_29 hz_30 hk_31 hS => ?_)
      obtain ⟨rfl, rfl⟩ := hp_29
      refine r_stk (st2 := [.int (iI (bI (true)))]) rfl ?_
      refine r_ifeqB (tgt := 47) hx hb dJ7_substring_31 (by decide) (fun c31 => ?_) (fun c31 => ?_)
      · exact absurd c31 (by decide)
      · skip
        have lt_33 := (fp_HS.st h_hs).1.2
        refine lv_aload_n hx hb dJ7_substring_34 rfl (lv_at hl 2 rfl) ?_
        refine r_sval X ((fp_HS.st h_hs).1) hB fp_no.base hS q804 dJ7_substring_35 ?_
        refine lv_iload_n hx hb dJ7_substring_38 rfl (lv_at hl 3 rfl) ?_
        refine lv_iload hx hb dJ7_substring_39 (lv_at hl 0 rfl) ?_
        refine r_callS (cells1 := 2) (slots1 := (0 + (4 + (i1 - i0)))) X hR (c_J21_newString G q n ty i0 (i1 - i0) (by omega) (by omega) (by omega) h128) q1786 q1787 q118 q1788 pd_J21_newString ⟨Nat.le_of_ble_eq_true rfl, Nat.le_of_ble_eq_true rfl⟩ rfl rfl (Nat.le_of_ble_eq_true rfl) (by omega) rfl (Nat.le_of_ble_eq_true rfl) hl.1 dJ7_substring_41 (hB.of hS fp_no.base) hrow hS (fun _ h => h.elim) (fun v H_37 locs hp_34 hz_35 hk_36 hS => ?_)
        obtain ⟨x_38, q_39, rfl, hx_40, hE_41⟩ := hp_34
        have hz_42 := hS.1
        have lt_44 := hE_41.lt
        have lt_45 := hE_41.2.1.lt
        refine r_stk (st2 := [.ref (x_38)]) rfl ?_
        refine lv_goto (tgt := 57) hx hb dJ7_substring_44 (by decide) ?_
        refine r_aret hx hb hr hlk hQ hS (Nat.le_of_ble_eq_true rfl) (by omega) dJ7_substring_57 (Or.inl ⟨_, rfl⟩) (Or.inr ⟨_, rfl⟩) ?_
        exact ⟨x_38, q_39, rfl, (Or.inr ⟨by omega, by omega⟩), hE_41⟩
    · skip
      refine lv_aload_n hx hb dJ7_substring_20 rfl (lv_at hl 1 rfl) ?_
      refine r_aret hx hb hr hlk hQ hS (Nat.le_of_ble_eq_true rfl) (by omega) dJ7_substring_21 (Or.inl ⟨_, rfl⟩) (Or.inr ⟨_, rfl⟩) ?_
      exact ⟨y, q, rfl, (Or.inl ⟨rfl, rfl, by omega, by omega⟩), (fp_HS.sub0 h_hs (by omega) (by omega))⟩
theorem fp_kP0 : fp_kok "FortPlanner$Parser" 9 [102, 111, 97, 109] := ⟨by decide +kernel, by decide, by decide⟩
theorem fp_kP1 : fp_kok "FortPlanner$Parser" 11 [98, 111, 97, 114, 100] := ⟨by decide +kernel, by decide, by decide⟩
theorem fp_kP2 : fp_kok "FortPlanner$Parser" 13 [98, 97, 103] := ⟨by decide +kernel, by decide, by decide⟩
theorem fp_kP3 : fp_kok "FortPlanner$Parser" 15 [114, 101, 109, 111, 118, 101] := ⟨by decide +kernel, by decide, by decide⟩
theorem fp_kP4 : fp_kok "FortPlanner$Parser" 17 [122, 111, 110, 101] := ⟨by decide +kernel, by decide, by decide⟩
theorem fp_kP5 : fp_kok "FortPlanner$Parser" 19 [116, 111, 114, 99, 104] := ⟨by decide +kernel, by decide, by decide⟩
theorem fp_kP6 : fp_kok "FortPlanner$Parser" 21 [115, 110, 117, 102, 102] := ⟨by decide +kernel, by decide, by decide⟩
theorem fp_kX0 : fp_kok "FortPlanner" 378 [102, 111, 97, 109] := ⟨by decide +kernel, by decide, by decide⟩
theorem fp_kX1 : fp_kok "FortPlanner" 383 [98, 111, 97, 114, 100] := ⟨by decide +kernel, by decide, by decide⟩
theorem fp_kX2 : fp_kok "FortPlanner" 385 [98, 97, 103] := ⟨by decide +kernel, by decide, by decide⟩
theorem fp_kX3 : fp_kok "FortPlanner" 387 [114, 101, 109, 111, 118, 101] := ⟨by decide +kernel, by decide, by decide⟩
theorem fp_kX4 : fp_kok "FortPlanner" 388 [122, 111, 110, 101] := ⟨by decide +kernel, by decide, by decide⟩
theorem fp_kX5 : fp_kok "FortPlanner" 390 [116, 111, 114, 99, 104] := ⟨by decide +kernel, by decide, by decide⟩
theorem fp_kXb : fp_kok "FortPlanner" 353 [32] := ⟨by decide +kernel, by decide, by decide⟩
theorem fp_kXe : fp_kok "FortPlanner" 355 [] := ⟨by decide +kernel, by decide, by decide⟩
theorem fp_kXs : fp_kok "FortPlanner" 357 [33] := ⟨by decide +kernel, by decide, by decide⟩
theorem fp_kXa : fp_kok "FortPlanner" 345 [93, 64] := ⟨by decide +kernel, by decide, by decide⟩
theorem fp_kLe : fp_kok "java/lang/StringLatin1" 151 [] := ⟨by decide +kernel, by decide, by decide⟩
set_option maxHeartbeats 4000000 in
theorem c_J16_signedHashCode (G : fp_G) (q : Nat) (n : Nat) (ty : Nat → Nat) (h128 : ∀ i, i < n → ty i < 128) (hn : n ≤ 1000) : fp_M G yJ16_signedHashCode cJ16_signedHashCode 6 (some .int) 1 12 0 0 [.int (iI ((0 : Nat) : Int)), .ref (q), .int (iI ((0 : Nat) : Int)), .int (iI ((n : Nat) : Int))] (fun H => fp_At G H q (eB G n (fun j => iI ((fun i => ((ty i : Nat) : Int)) j)))) fp_no (fun H v H1 => v = some (.int (fp_hsh ty n)) ∧ H = H1) := by
  refine fp_M.intro (by decide) (Nat.le_of_ble_eq_true rfl) ?_
  intro pg en s mi ag bl mt cd rR qQ ls X hx hb hr hlk hnm hR hQ hB hM hl
  have hS : va_S (fA fp_no s.heap.size) s.heap s.heap [] := va_S.rf
  generalize ([] : List Loc) = locs at hS ⊢
  have hb0 := hB.1
  have h_row := hM
  have hsz0 := hS.1
  have lt_1 := h_row.lt
  refine lv_iload_n hx hb dJ16_signedHashCode_0 rfl (lv_at hl 2 rfl) ?_
  refine lv_iload_n hx hb dJ16_signedHashCode_1 rfl (lv_at hl 3 rfl) ?_
  refine r_iaddN hx hb dJ16_signedHashCode_2 ?_
  refine r_set (y := .int (iI ((n : Nat) : Int))) (congrArg (fun q : Nat => Value.int (iI (q : Int))) (Nat.zero_add n)) ?_
  refine lv_istore (lv' := [(4, .int (iI ((n : Nat) : Int))), (0, .int (iI ((0 : Nat) : Int))), (1, .ref (q)), (2, .int (iI ((0 : Nat) : Int))), (3, .int (iI ((n : Nat) : Int)))]) hx hb dJ16_signedHashCode_3 hl (by decide) rfl (fun ls hl => ?_)
  refine lv_iload_n hx hb dJ16_signedHashCode_5 rfl (lv_at hl 3 rfl) ?_
  refine lv_istore (lv' := [(5, .int (iI ((0 : Nat) : Int))), (4, .int (iI ((n : Nat) : Int))), (0, .int (iI ((0 : Nat) : Int))), (1, .ref (q)), (2, .int (iI ((0 : Nat) : Int))), (3, .int (iI ((n : Nat) : Int)))]) hx hb dJ16_signedHashCode_6 hl (by decide) rfl (fun ls hl => ?_)
  have L8 : ∀ (k : Nat), k ≤ n → ∀ (locs : List Loc) (ls : Array Slot), lv_has ls 6 [(0, .int (fp_hsh ty k)), (1, .ref (q)), (2, .int (iI ((0 : Nat) : Int))), (3, .int (iI ((n : Nat) : Int))), (4, .int (iI ((n : Nat) : Int))), (5, .int (iI ((k : Nat) : Int)))] → va_S (fA fp_no s.heap.size) s.heap s.heap locs → W pg (g_l G) en rR s mi ag bl mt cd s.heap locs 0 0 qQ (F0 mi 8 ls []) := by
    refine lp_up n ?_
    intro k hk8 ih8 locs ls hl hS
    refine lv_iload hx hb dJ16_signedHashCode_8 (lv_at hl 5 rfl) ?_
    refine lv_iload hx hb dJ16_signedHashCode_10 (lv_at hl 4 rfl) ?_
    refine r_icmp_ge (tgt := 35) hx hb ⟨by omega, by omega⟩ ⟨by omega, by omega⟩ dJ16_signedHashCode_12 (by decide) (fun c12 => ?_) (fun c12 => ?_)
    · skip
      obtain rfl : n = k := by omega
      refine lv_iload_n hx hb dJ16_signedHashCode_35 rfl (lv_at hl 0 rfl) ?_
      refine r_iret hx hb hr hlk hQ hS (Nat.le_of_ble_eq_true rfl) (Nat.le_of_ble_eq_true rfl) dJ16_signedHashCode_36 ?_
      exact ⟨rfl, rfl⟩
    · skip
      have h128k := h128 k (by omega)
      refine lv_bipush (v := (iI ((31 : Nat) : Int))) hx hb dJ16_signedHashCode_15 rfl ?_
      refine lv_iload_n hx hb dJ16_signedHashCode_17 rfl (lv_at hl 0 rfl) ?_
      refine lv_imul hx hb dJ16_signedHashCode_18 ?_
      refine lv_aload_n hx hb dJ16_signedHashCode_19 rfl (lv_at hl 1 rfl) ?_
      refine lv_iload hx hb dJ16_signedHashCode_20 (lv_at hl 5 rfl) ?_
      refine r_baldI X h_row (j := k) rfl (by omega) (by omega) dJ16_signedHashCode_22 ?_
      refine r_set (y := .int (iI (((ty k : Nat) : Int)))) rfl ?_
      refine lv_sipush (v := (iI ((255 : Nat) : Int))) hx hb dJ16_signedHashCode_23 rfl ?_
      refine lv_iand hx hb dJ16_signedHashCode_26 ?_
      refine r_set (y := .int (iI ((ty k : Nat) : Int))) (congrArg Value.int (fp_and255 (by omega))) ?_
      refine lv_iadd hx hb dJ16_signedHashCode_27 ?_
      refine lv_istore_n (lv' := [(0, .int ((iI ((31 : Nat) : Int)) * fp_hsh ty k + (iI ((ty k : Nat) : Int)))), (1, .ref (q)), (2, .int (iI ((0 : Nat) : Int))), (3, .int (iI ((n : Nat) : Int))), (4, .int (iI ((n : Nat) : Int))), (5, .int (iI ((k : Nat) : Int)))]) hx hb dJ16_signedHashCode_28 rfl hl (by decide) rfl (fun ls hl => ?_)
      refine lv_iinc (v := (iI ((k + 1 : Nat) : Int))) (lv' := [(5, .int (iI ((k + 1 : Nat) : Int))), (0, .int ((iI ((31 : Nat) : Int)) * fp_hsh ty k + (iI ((ty k : Nat) : Int)))), (1, .ref (q)), (2, .int (iI ((0 : Nat) : Int))), (3, .int (iI ((n : Nat) : Int))), (4, .int (iI ((n : Nat) : Int)))]) hx hb dJ16_signedHashCode_29 hl (k := 5) rfl (iI_incN _ _) (by decide) rfl (fun ls hl => ?_)
      refine lv_goto (tgt := 8) hx hb dJ16_signedHashCode_32 (by decide) ?_
      exact ih8 (by omega) locs ls (by rw [show Value.int (fp_hsh ty (k + 1)) = Value.int ((iI ((31 : Nat) : Int)) * fp_hsh ty k + (iI ((ty k : Nat) : Int))) from rfl]; exact lv_sub hl [1, 2, 3, 4, 5, 0] rfl) hS
  exact L8 0 (by omega) locs ls (by rw [show Value.int (fp_hsh ty 0) = Value.int (iI ((0 : Nat) : Int)) from rfl]; exact lv_sub hl [2, 3, 4, 5, 1, 0] rfl) hS
set_option maxHeartbeats 4000000 in
theorem c_J16_vectorizedHashCode (G : fp_G) (q : Nat) (n : Nat) (ty : Nat → Nat) (h128 : ∀ i, i < n → ty i < 128) (hn : n ≤ 1000) : fp_M G yJ16_vectorizedHashCode cJ16_vectorizedHashCode 5 (some .int) 2 37 0 0 [.ref (q), .int (iI ((0 : Nat) : Int)), .int (iI ((n : Nat) : Int)), .int (iI ((0 : Nat) : Int)), .int (iI ((4 : Nat) : Int))] (fun H => fp_At G H q (eB G n (fun j => iI ((fun i => ((ty i : Nat) : Int)) j)))) fp_no (fun H v H1 => v = some (.int (fp_hsh ty n)) ∧ H = H1) := by
  refine fp_M.intro (by decide) (Nat.le_of_ble_eq_true rfl) ?_
  intro pg en s mi ag bl mt cd rR qQ ls X hx hb hr hlk hnm hR hQ hB hM hl
  have hS : va_S (fA fp_no s.heap.size) s.heap s.heap [] := va_S.rf
  generalize ([] : List Loc) = locs at hS ⊢
  have hb0 := hB.1
  have h_row := hM
  have hsz0 := hS.1
  have lt_1 := h_row.lt
  refine lv_iload hx hb dJ16_vectorizedHashCode_0 (lv_at hl 4 rfl) ?_
  refine lv_tableIn (off := 42) (tgt := 44) hx hb dJ16_vectorizedHashCode_2 (by decide) (by decide) rfl (by decide) ?_
  refine lv_iload_n hx hb dJ16_vectorizedHashCode_44 rfl (lv_at hl 3 rfl) ?_
  refine lv_aload_n hx hb dJ16_vectorizedHashCode_45 rfl (lv_at hl 0 rfl) ?_
  refine r_castAB X h_row q1873 dJ16_vectorizedHashCode_46 ?_
  refine lv_iload_n hx hb dJ16_vectorizedHashCode_49 rfl (lv_at hl 1 rfl) ?_
  refine lv_iload_n hx hb dJ16_vectorizedHashCode_50 rfl (lv_at hl 2 rfl) ?_
  refine r_callS (cells1 := 0) (slots1 := 0) X hR (c_J16_signedHashCode G q n ty h128 hn) q1874 q1875 q112 q1876 pd_J16_signedHashCode ⟨Nat.le_of_ble_eq_true rfl, Nat.le_of_ble_eq_true rfl⟩ rfl rfl (Nat.le_of_ble_eq_true rfl) (Nat.le_of_ble_eq_true rfl) rfl (Nat.le_of_ble_eq_true rfl) hl.1 dJ16_vectorizedHashCode_51 (hB.of hS fp_no.base) h_row hS (fun _ h => h.elim) (fun v H_5 locs hp_2 hz_3 hk_4 hS => ?_)
  obtain ⟨rfl, rfl⟩ := hp_2
  refine r_stk (st2 := [.int (fp_hsh ty n)]) rfl ?_
  refine lv_goto (tgt := 157) hx hb dJ16_vectorizedHashCode_54 (by decide) ?_
  refine r_iret hx hb hr hlk hQ hS (Nat.le_of_ble_eq_true rfl) (Nat.le_of_ble_eq_true rfl) dJ16_vectorizedHashCode_157 ?_
  exact ⟨rfl, rfl⟩
set_option maxHeartbeats 4000000 in
theorem c_J21_hashCode (G : fp_G) (q : Nat) (n : Nat) (ty : Nat → Nat) (h128 : ∀ i, i < n → ty i < 128) (hn : n ≤ 1000) (hn2 : 2 ≤ n) : fp_M G yJ21_hashCode cJ21_hashCode 1 (some .int) 3 61 0 0 [.ref (q)] (fun H => fp_At G H q (eB G n (fun j => iI ((fun i => ((ty i : Nat) : Int)) j)))) fp_no (fun H v H1 => v = some (.int (fp_hsh ty n)) ∧ H = H1) := by
  refine fp_M.intro (by decide) (Nat.le_of_ble_eq_true rfl) ?_
  intro pg en s mi ag bl mt cd rR qQ ls X hx hb hr hlk hnm hR hQ hB hM hl
  have hS : va_S (fA fp_no s.heap.size) s.heap s.heap [] := va_S.rf
  generalize ([] : List Loc) = locs at hS ⊢
  have hb0 := hB.1
  have h_row := hM
  have hsz0 := hS.1
  have lt_1 := h_row.lt
  refine lv_aload_n hx hb dJ21_hashCode_0 rfl (lv_at hl 0 rfl) ?_
  refine r_alen X (t := 2) rfl h_row (v := (iI ((n : Nat) : Int))) rfl dJ21_hashCode_1 ?_
  refine lv_lookup (off := 40) (tgt := 42) hx hb dJ21_hashCode_2 (by decide) (by show (if (0 : Int) = (iI ((n : Nat) : Int)).toInt then (26 : Int) else if (1 : Int) = (iI ((n : Nat) : Int)).toInt then 30 else 40) = 40; rw [iI_toInt ⟨by omega, by omega⟩, if_neg (by omega), if_neg (by omega)]) (by decide) ?_
  refine lv_aload_n hx hb dJ21_hashCode_42 rfl (lv_at hl 0 rfl) ?_
  refine lv_iconst (v := (iI ((0 : Nat) : Int))) hx hb dJ21_hashCode_43 rfl ?_
  refine lv_aload_n hx hb dJ21_hashCode_44 rfl (lv_at hl 0 rfl) ?_
  refine r_alen X (t := 2) rfl h_row (v := (iI ((n : Nat) : Int))) rfl dJ21_hashCode_45 ?_
  refine lv_iconst (v := (iI ((0 : Nat) : Int))) hx hb dJ21_hashCode_46 rfl ?_
  refine lv_iconst (v := (iI ((4 : Nat) : Int))) hx hb dJ21_hashCode_47 rfl ?_
  refine r_callS (cells1 := 0) (slots1 := 0) X hR (c_J16_vectorizedHashCode G q n ty h128 hn) q1870 q1871 q112 q1872 pd_J16_vectorizedHashCode ⟨Nat.le_of_ble_eq_true rfl, Nat.le_of_ble_eq_true rfl⟩ rfl rfl (Nat.le_of_ble_eq_true rfl) (Nat.le_of_ble_eq_true rfl) rfl (Nat.le_of_ble_eq_true rfl) hl.1 dJ21_hashCode_48 (hB.of hS fp_no.base) h_row hS (fun _ h => h.elim) (fun v H_5 locs hp_2 hz_3 hk_4 hS => ?_)
  obtain ⟨rfl, rfl⟩ := hp_2
  refine r_stk (st2 := [.int (fp_hsh ty n)]) rfl ?_
  refine r_iret hx hb hr hlk hQ hS (Nat.le_of_ble_eq_true rfl) (Nat.le_of_ble_eq_true rfl) dJ21_hashCode_51 ?_
  exact ⟨rfl, rfl⟩
set_option maxHeartbeats 4000000 in
theorem c_J7_hashCode (G : fp_G) (y : Nat) (q : Nat) (n : Nat) (ty : Nat → Nat) (hne : fp_hsh ty n ≠ 0) (hn2 : 2 ≤ n) : fp_M G yJ7_hashCode cJ7_hashCode 2 (some .int) 4 81 0 0 [.ref (y)] (fun H => fp_HS G y q n ty H) (fun q => (g_s G).heap.size ≤ q ∧ (q = y)) (fun H v H1 => v = some (.int (fp_hsh ty n)) ∧ (∀ z r m tz, fp_HS G z r m tz H → fp_HS G z r m tz H1) ∧ (fp_HH G y q n ty H1)) := by
  refine fp_M.intro (by decide) (Nat.le_of_ble_eq_true rfl) ?_
  intro pg en s mi ag bl mt cd rR qQ ls X hx hb hr hlk hnm hR hQ hB hM hl
  have hS : va_S (fA (fun q => (g_s G).heap.size ≤ q ∧ (q = y)) s.heap.size) s.heap s.heap [] := va_S.rf
  generalize ([] : List Loc) = locs at hS ⊢
  have hb0 := hB.1
  have hAb : ∀ q, (fun q => (g_s G).heap.size ≤ q ∧ (q = y)) q → (g_s G).heap.size ≤ q := fun q h => h.1
  have h_hs := hM
  have hsz0 := hS.1
  have lt_1 := h_hs.lt
  have lt_2 := h_hs.2.1.lt
  obtain ⟨⟨h1, h2, hso, hh⟩, hrow, ⟨h128, hn1000⟩, hyb, hqb⟩ := id h_hs
  have lt_3 := hrow.lt
  rcases hh with rfl | ⟨rfl, rfl⟩
  · skip
    refine lv_aload_n hx hb dJ7_hashCode_0 rfl (lv_at hl 0 rfl) ?_
    refine r_get X hso rfl in_J7 2 (by decide) q806 (Or.inl rfl) (v := .int (fp_hsh ty n)) rfl dJ7_hashCode_1 ?_
    refine lv_istore_n (lv' := [(1, .int (fp_hsh ty n)), (0, .ref (y))]) hx hb dJ7_hashCode_4 rfl hl (by decide) rfl (fun ls hl => ?_)
    refine lv_iload_n hx hb dJ7_hashCode_5 rfl (lv_at hl 0 rfl) ?_
    refine lv_if_ne (tgt := 58) hx hb dJ7_hashCode_6 (by decide) (fun c6 => ?_) (fun c6 => ?_)
    · skip
      refine lv_iload_n hx hb dJ7_hashCode_58 rfl (lv_at hl 0 rfl) ?_
      refine r_iret hx hb hr hlk hQ hS (Nat.le_of_ble_eq_true rfl) (Nat.le_of_ble_eq_true rfl) dJ7_hashCode_59 ?_
      exact ⟨rfl, (fun _ _ _ _ h => h), (fp_HH.of h_hs hso)⟩
    · skip
      exact absurd c6 hne
  · skip
    refine lv_aload_n hx hb dJ7_hashCode_0 rfl (lv_at hl 0 rfl) ?_
    refine r_get X hso rfl in_J7 2 (by decide) q806 (Or.inl rfl) (v := .int ((0 : Int32))) rfl dJ7_hashCode_1 ?_
    refine lv_istore_n (lv' := [(1, .int ((0 : Int32))), (0, .ref (y))]) hx hb dJ7_hashCode_4 rfl hl (by decide) rfl (fun ls hl => ?_)
    refine lv_iload_n hx hb dJ7_hashCode_5 rfl (lv_at hl 0 rfl) ?_
    refine lv_if_ne (tgt := 58) hx hb dJ7_hashCode_6 (by decide) (fun c6 => ?_) (fun c6 => ?_)
    · skip
      exact absurd rfl c6
    · skip
      refine lv_aload_n hx hb dJ7_hashCode_9 rfl (lv_at hl 1 rfl) ?_
      refine r_get X hso rfl in_J7 3 (by decide) q807 (Or.inl rfl) (v := .int ((0 : Int32))) rfl dJ7_hashCode_10 ?_
      refine lv_if_ne (tgt := 58) hx hb dJ7_hashCode_13 (by decide) (fun c13 => ?_) (fun c13 => ?_)
      · skip
        exact absurd rfl c13
      · skip
        refine lv_aload_n hx hb dJ7_hashCode_16 rfl (lv_at hl 1 rfl) ?_
        refine r_callV (cells1 := 0) (slots1 := 0) X hR (c_J7_isLatin1 G y q n ty) q1782 q1783 q1784 q98 q1785 ⟨rfl, pd_J7_isLatin1⟩ ⟨Nat.le_of_ble_eq_true rfl, Nat.le_of_ble_eq_true rfl⟩ rfl rfl (Nat.le_of_ble_eq_true rfl) (Nat.le_of_ble_eq_true rfl) hso rfl rfl (Nat.le_of_ble_eq_true rfl) hl.1 dJ7_hashCode_17 (hB.of hS hAb) (fp_HS.st h_hs) hS (fun _ h => h.elim) (fun v H_7 locs hp_4 hz_5 hk_6 hS => ?_)
        obtain ⟨rfl, rfl⟩ := hp_4
        refine r_stk (st2 := [.int (iI (bI (true)))]) rfl ?_
        have lt_8 := (fp_HS.st h_hs).1.2
        refine r_ifeqB (tgt := 33) hx hb dJ7_hashCode_20 (by decide) (fun c20 => ?_) (fun c20 => ?_)
        · exact absurd c20 (by decide)
        · skip
          refine lv_aload_n hx hb dJ7_hashCode_23 rfl (lv_at hl 1 rfl) ?_
          refine r_sval X ((fp_HS.st h_hs).1) hB hAb hS q804 dJ7_hashCode_24 ?_
          refine r_callS (cells1 := 0) (slots1 := 0) X hR (c_J21_hashCode G q n ty h128 (by omega) hn2) q1867 q1868 q118 q1869 pd_J21_hashCode ⟨Nat.le_of_ble_eq_true rfl, Nat.le_of_ble_eq_true rfl⟩ rfl rfl (Nat.le_of_ble_eq_true rfl) (Nat.le_of_ble_eq_true rfl) rfl (Nat.le_of_ble_eq_true rfl) hl.1 dJ7_hashCode_27 (hB.of hS hAb) hrow hS (fun _ h => h.elim) (fun v H_12 locs hp_9 hz_10 hk_11 hS => ?_)
          obtain ⟨rfl, rfl⟩ := hp_9
          refine r_stk (st2 := [.int (fp_hsh ty n)]) rfl ?_
          refine lv_goto (tgt := 40) hx hb dJ7_hashCode_30 (by decide) ?_
          refine lv_istore_n (lv' := [(1, .int (fp_hsh ty n)), (0, .ref (y))]) hx hb dJ7_hashCode_40 rfl hl (by decide) rfl (fun ls hl => ?_)
          refine lv_iload_n hx hb dJ7_hashCode_41 rfl (lv_at hl 0 rfl) ?_
          refine lv_if_ne (tgt := 53) hx hb dJ7_hashCode_42 (by decide) (fun c42 => ?_) (fun c42 => ?_)
          · skip
            refine lv_aload_n hx hb dJ7_hashCode_53 rfl (lv_at hl 1 rfl) ?_
            refine lv_iload_n hx hb dJ7_hashCode_54 rfl (lv_at hl 0 rfl) ?_
            refine r_put X hso hS (Or.inl ⟨by omega, rfl⟩) rfl in_J7 tyJ7_ok nmJ7 2 (by decide) q806 (Or.inl rfl) rfl rfl rfl (show 2 < 4 by decide) dJ7_hashCode_55 (fun H_16 locs hE_13 hz_14 hq_15 hS => ?_)
            have hz_17 := hS.1
            refine lv_iload_n hx hb dJ7_hashCode_58 rfl (lv_at hl 0 rfl) ?_
            refine r_iret hx hb hr hlk hQ hS (Nat.le_of_ble_eq_true rfl) (Nat.le_of_ble_eq_true rfl) dJ7_hashCode_59 ?_
            exact ⟨rfl, (fp_HS.hash X.2.2.2.2.2 h_hs hE_13 hq_15), (fp_HH.of (fp_HS.hash X.2.2.2.2.2 h_hs hE_13 hq_15 _ _ _ _ h_hs) hE_13)⟩
          · skip
            exact absurd c42 hne
set_option maxHeartbeats 4000000 in
theorem c_J7_hashCode_r (G : fp_G) (y : Nat) (q : Nat) (n : Nat) (ty : Nat → Nat) (hne : fp_hsh ty n ≠ 0) : fp_M G yJ7_hashCode cJ7_hashCode 2 (some .int) 1 12 0 0 [.ref (y)] (fun H => fp_HH G y q n ty H) fp_no (fun H v H1 => v = some (.int (fp_hsh ty n)) ∧ H = H1) := by
  refine fp_M.intro (by decide) (Nat.le_of_ble_eq_true rfl) ?_
  intro pg en s mi ag bl mt cd rR qQ ls X hx hb hr hlk hnm hR hQ hB hM hl
  have hS : va_S (fA fp_no s.heap.size) s.heap s.heap [] := va_S.rf
  generalize ([] : List Loc) = locs at hS ⊢
  have hb0 := hB.1
  have h_hs := hM
  have hsz0 := hS.1
  have lt_1 := h_hs.1.lt
  have lt_2 := h_hs.1.2.1.lt
  obtain ⟨-, h2, hso⟩ := id h_hs
  refine lv_aload_n hx hb dJ7_hashCode_0 rfl (lv_at hl 0 rfl) ?_
  refine r_get X hso rfl in_J7 2 (by decide) q806 (Or.inl rfl) (v := .int (fp_hsh ty n)) rfl dJ7_hashCode_1 ?_
  refine lv_istore_n (lv' := [(1, .int (fp_hsh ty n)), (0, .ref (y))]) hx hb dJ7_hashCode_4 rfl hl (by decide) rfl (fun ls hl => ?_)
  refine lv_iload_n hx hb dJ7_hashCode_5 rfl (lv_at hl 0 rfl) ?_
  refine lv_if_ne (tgt := 58) hx hb dJ7_hashCode_6 (by decide) (fun c6 => ?_) (fun c6 => ?_)
  · skip
    refine lv_iload_n hx hb dJ7_hashCode_58 rfl (lv_at hl 0 rfl) ?_
    refine r_iret hx hb hr hlk hQ hS (Nat.le_of_ble_eq_true rfl) (Nat.le_of_ble_eq_true rfl) dJ7_hashCode_59 ?_
    exact ⟨rfl, rfl⟩
  · skip
    exact absurd c6 hne
