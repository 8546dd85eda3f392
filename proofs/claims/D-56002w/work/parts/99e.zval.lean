/-! ZONES: all of them, the zone of a letter -/
set_option maxRecDepth 100000
def fp_tVs : Term := .static "FortPlanner$Zone" "$VALUES" "[LFortPlanner$Zone;"
noncomputable def fp_zv (G : fp_G) : Nat := fp_st G fp_tVs
def fp_vw (j : Nat) : Cond := .eq (.elem fp_tVs (.int (Int32.ofNat j))) (fp_zs j)
theorem fp_K.vwf {G : fp_G} {U : State} (hK : fp_K G U) {j : Nat} (hj : j < 3) : (fp_vw j).before #[Value.ref G.1.2.2] (g_s G) = true := by
  rcases (show j = 0 ∨ j = 1 ∨ j = 2 by omega) with rfl | rfl | rfl
  · exact hK.flat _ (by decide +kernel)
  · exact hK.flat _ (by decide +kernel)
  · exact hK.flat _ (by decide +kernel)
/-- the row of all zones, as the start lays it -/
theorem fp_K.zvs {G : fp_G} {U : State} (hK : fp_K G U) : ∃ cell : Cell, fp_tVs.eval #[Value.ref G.1.2.2] (g_s G) none [] (g_s G) = some (.ref (fp_zv G)) ∧ (g_s G).heap[fp_zv G]? = some cell ∧ cell.cls = g_A G 5 ∧ cell.vm.isStatics = false ∧ cell.vm ≠ .unknown ∧ cell.slots.size = 3 ∧ ∀ j, j < 3 → cell.slots[j]? = some (.ref (fp_zad G j)) := by
  obtain ⟨a, c0, cell, k, q1, q2, q3, q4, q5, q6, -⟩ := Cond.exactly_spec (hK.flat (.exactly fp_tVs "[LFortPlanner$Zone;") (by decide +kernel))
  have ea : fp_zv G = a := fp_st_of q1
  have hlen := va_eqt (hK.flat (.eq (.length fp_tVs) (.int (Int32.ofNat 3))) (by decide +kernel))
  obtain ⟨b, cell2, ht, hat, hv⟩ := Term.length_spec hlen
  cases q1.symm.trans ht
  obtain ⟨hcell, hkn, -, -⟩ := State.arrayAt?_spec hat
  cases q3.symm.trans hcell
  have hall : (Cond.all fp_tVs (.le (.index 0) (.int 2))).before #[Value.ref G.1.2.2] (g_s G) = true := hK.flat _ (by decide +kernel)
  have hall2 := Cond.all_elim ht hat (by simpa [Cond.before, Cond.holds] using hall)
  have hle : cell.slots.size ≤ 3 := Nat.not_lt.mp (fun h => by
    have h3 := hall2 3 h
    simp [Cond.value, Term.eval] at h3
    revert h3
    decide)
  have key : ∀ j : Nat, j < 3 → j < cell.slots.size ∧ cell.slots[j]? = some (.ref (fp_zad G j)) := by
    intro j hj
    obtain ⟨a', i, cell3, h1, h2, h3, h4, h5⟩ := Term.elem_spec (va_eqv (hK.vwf hj) (hK.zev hj))
    cases ht.symm.trans h1
    cases hat.symm.trans h3
    have hi : i = Int32.ofNat j := by
      have e : (Term.int (Int32.ofNat j)).eval #[Value.ref G.1.2.2] (g_s G) none [] (g_s G) = some (.int (Int32.ofNat j)) := rfl
      cases h2.symm.trans e
      rfl
    have hc : i.toNatClampNeg = j := by rw [hi]; exact Int32.toNatClampNeg_ofNat_of_lt (by omega)
    rw [hc] at h4 h5
    exact ⟨Nat.not_le.mp fun q => h4 (Or.inr q), h5⟩
  have hcl : c0 = g_A G 5 := by
    have h1 := va_nmO (hK.1.2.2.2.2 5 _ rfl).2 (nm := "[LFortPlanner$Zone;") (by decide)
    exact Option.some.inj (q2.symm.trans h1)
  refine ⟨cell, by rw [ea]; exact q1, by rw [ea]; exact q3, q6.trans hcl, q5, hkn, ?_, fun j hj => (key j hj).2⟩
  have := (key 2 (by decide)).1
  omega
section FPZV
variable {G : fp_G} {p : Program} {e : Env} {R : Room} {s : State} {m : MethodId} {args : Array Value} {below : List Frame} {meth : Method} {c : Code} {H : Heap} {locs : List Loc} {cells slots : Nat} {Q : State → Prop}
variable {cc : ByteArray} {pc nL : Nat} {ls : Array Slot} {rest : List Value} {own : String}
/-- a copy of the row of all zones -/
theorem r_cloneV {index fr lo mc ms : Nat} {A : Nat → Prop} {H0 : Heap} (X : fp_C G p s m args c cc own nL) (hR : fp_R R fr lo mc ms) (hls : ls.size = nL) (hB : fp_B G H) (hS : va_S A H0 H locs) (w1 : Cond.methodLink own index ⟨"[LFortPlanner$Zone;", "clone", "()Ljava/lang/Object;"⟩ ∈ lw_all) (w2 : Cond.sameMethod "[LFortPlanner$Zone;" "java/lang/Object" "clone" "()Ljava/lang/Object;" ∈ lw_all) (w3 : Cond.native ⟨"java/lang/Object", "clone", "()Ljava/lang/Object;"⟩ ∈ lw_all) (w4 : Cond.instanceMethod ⟨"java/lang/Object", "clone", "()Ljava/lang/Object;"⟩ ∈ lw_all) (w5 : Cond.selects "[LFortPlanner$Zone;" ⟨"[LFortPlanner$Zone;", "clone", "()Ljava/lang/Object;"⟩ ⟨"java/lang/Object", "clone", "()Ljava/lang/Object;"⟩ ∈ lw_all) (w6 : Cond.castable "[LFortPlanner$Zone;" "java/lang/Cloneable" ∈ lw_tbl)
    (hfr : 1 ≤ fr) (hlo : (rest.map fun v => v.category).sum + 14 ≤ lo) (hcells : cells + 1 ≤ mc) (hslots : slots + 3 ≤ ms) (hd : decode cc pc = .ok (.invokevirtual index, 3))
    (kk : ∀ (q : Nat) (H1 : Heap), q = H.size → fp_At G H1 q (eQ G 5 3 (fun j => some (fp_zad G j))) → fp_X H H1 → H1.size = H.size + 1 → va_S A H0 H1 locs → W p (g_l G) e R s m args below meth c H1 locs (cells + 1) (slots + 3) Q (F0 m (pc + 3) ls (.ref q :: rest))) : W p (g_l G) e R s m args below meth c H locs cells slots Q (F0 m pc ls (.ref (fp_zv G) :: rest)) := by
  obtain ⟨hx, hb, hml, hown, hts, hK⟩ := X
  obtain ⟨rfl, rfl, rfl, rfl⟩ := hR
  obtain ⟨cell, -, hc0, hcls, hst, hkn, hsz, hsl⟩ := hK.zvs
  have hcH : H[fp_zv G]? = some cell := by rw [hB.2 _ (Array.getElem?_eq_some_iff.mp hc0).1]; exact hc0
  have hnm := va_nmO (hK.va.2 5 _ rfl).2 (nm := "[LFortPlanner$Zone;") (by decide)
  obtain ⟨c0, t0', f1, f2, f3⟩ := Cond.castable_spec (args := args) (hK.cast w6)
  cases hnm.symm.trans f1
  have hce : ({ cls := cell.cls, slots := cell.slots } : Cell) = vp_cell (g_A G 5) (3, .inr (.inr (.inr (.inr (fun j => some (fp_zad G j)))))) := by
    rw [vp_cell_q]
    have e2 : cell.slots = (arrV (g_A G 5) 3 (fun j => va_rf (some (fp_zad G j)))).slots := by
      apply Array.ext
      · rw [hsz, arrV_size]
      · intro i h1 h2
        have h3 := hsl i (by omega)
        rw [Array.getElem?_eq_getElem h1] at h3
        rw [Option.some.inj h3]
        simp [arrV, va_rf]
    rw [hcls, e2]
    rfl
  intro T hT X
  obtain ⟨kA, comp, hkA, hkind, -, -⟩ := (hK.va.2 5 _ rfl).2
  have hkA2 := X.warmed.alike
  obtain ⟨-, kT, hkT, compT, hkindT⟩ := State.isArrayOf_alike X.warmed.alike ((hK.va.2 5 _ rfl).1 0 (fun _ => .null))
  obtain ⟨-, kS, hkS, compS, hkindS⟩ := (hK.va.2 5 _ rfl).1 0 (fun _ => .null)
  obtain ⟨vm', X', st⟩ := X.cloneArray hx hown (hts _ w1) (hts _ w2) (hts _ w3) (hts _ w4) (hts _ w5) (a := fp_zv G) (cell := cell) (by rw [hT]; exact hcH) (fun k h => by rw [h] at hst; cases hst) hkn (by rw [hcls]; exact hnm) f2 (by rw [hcls]; exact f3)
    (fun i v hv => by
      have hi : i < 3 := by rw [← hsz]; exact (Array.getElem?_eq_some_iff.mp hv).1
      cases (hsl i hi).symm.trans hv
      have hk' : T.vm.classes[g_A G 5]? = some kT := hkT
      rw [hcls]
      simp [State.fitsSlot, State.slotType?, hk', hkindT, fits])
    (g := F0 m pc ls (.ref (fp_zv G) :: rest)) rfl (by rw [hml]; exact hls) rfl (by rw [hb]; exact hd) hfr (by show 2 * 0 + _ + 14 ≤ _; omega) hcells (by rw [hsz]; exact hslots) (hloader := by rw [hcls]; exact Vm.clonesLoader_of_array hkS hkindS)
  rw [hce, hsz] at X'
  rw [hce] at st
  obtain ⟨cN, hcN⟩ : ∃ cN : Cell, cN = vp_cell (g_A G 5) (3, .inr (.inr (.inr (.inr (fun j => some (fp_zad G j)))))) := ⟨_, rfl⟩
  rw [← hcN] at X' st
  obtain ⟨H1, hH1⟩ : ∃ H1 : Heap, H1 = H.push cN := ⟨_, rfl⟩
  have z1 : H1.size = H.size + 1 := by rw [hH1, Array.size_push]
  have e1 : H1[H.size]? = some cN := by rw [hH1, Array.getElem?_push_size]
  have o1 : ∀ q : Nat, q < H.size → H1[q]? = H[q]? := fun q hq => by rw [hH1, Array.getElem?_push, if_neg (Nat.ne_of_lt hq)]
  obtain ⟨t, b1, b2⟩ := kk H.size H1 rfl (by show H1[H.size]? = some (vp_cell _ _); rw [e1, hcN]) ⟨by omega, o1⟩ z1 ⟨Nat.le_trans hS.1 (by omega), fun y h1 h2 => (o1 y (Nat.lt_of_lt_of_le h1 hS.1)).trans (hS.2.1 y h1 h2), hS.2.2⟩
    ((T.setVm vm').pushCell cN) (by rw [hH1, ← hT]; rfl) X'
  refine ⟨t, st t ?_, b2⟩
  rw [hT]
  exact b1
theorem r_castAV {a n index : Nat} {f : Nat → Option Nat} (X : fp_C G p s m args c cc own nL) (hat : fp_At G H a (eQ G 5 n f)) (hlink : Cond.classLink own index "[LFortPlanner$Zone;" ∈ lw_all) (hd : decode cc pc = .ok (.checkcast index, 3))
    (kk : W p (g_l G) e R s m args below meth c H locs cells slots Q (F0 m (pc + 3) ls (.ref a :: rest))) : W p (g_l G) e R s m args below meth c H locs cells slots Q (F0 m pc ls (.ref a :: rest)) := va_castA X.1 X.2.1 X.2.2.2.1 (X.2.2.2.2.1 _ hlink) (fp_P1 hat) 0 rfl (va_nmO (X.2.2.2.2.2.va.2 5 _ rfl).2 (by decide)) hd kk
end FPZV
