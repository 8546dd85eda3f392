/-! TESTS AND VALUES OF BLOCKS: lambdas as the state meets them -/
set_option maxRecDepth 100000
abbrev fp_nM : MethodName := ⟨"FortPlanner$BlockTest", "matches", "(LFortPlanner$Block;)Z"⟩
abbrev fp_nV : MethodName := ⟨"FortPlanner$BlockValue", "of", "(LFortPlanner$Block;)I"⟩
/-- an object at y answers for the blocks at b by r: x the method, mk the answer -/
def fp_CL (G : fp_G) (x : MethodName) (y mc ms n : Nat) (b : Nat → Nat) (PL : Heap → Prop) (mk : Nat → Int32) : Prop :=
  ∃ (own : String) (σ : Lambda.Shape) (cK : ClassId) (D : ClassFile.ClassFile) (fw : Method) (laid : Array Field × Array FieldType × Array FieldType) (fr lo : Nat), fp_Lm G own σ cK ∧ fp_Ls own σ D fw laid ∧ fp_Lf fw ∧ plainName (own ++ "$$Lambda") = true ∧ (σ.iface = x.cls ∧ σ.name = x.name ∧ σ.sam.toString = x.desc) ∧ (fr ≤ 300 ∧ lo ≤ 8000) ∧
    (∀ k, k < n → fp_MI G cK fr lo mc ms [.ref y, .ref (b k)] PL fp_no (fun _ v _ => v = some (.int (mk k)))) ∧ (∀ H, PL H → ∃ cell : Cell, H[y]? = some cell ∧ cell.cls = cK ∧ cell.vm = .none)
theorem fp_MI.pre {G : fp_G} {cK : ClassId} {fr lo mc ms : Nat} {av : List Value} {Pre Pre2 : Heap → Prop} {A : Nat → Prop} {Post : Heap → Option Value → Heap → Prop} (h : fp_MI G cK fr lo mc ms av Pre A Post) (hp : ∀ H, Pre2 H → Pre H) : fp_MI G cK fr lo mc ms av Pre2 A Post := fun p e R s below meth c h1 h2 h3 h4 h5 h6 h7 h8 => h p e R s below meth c h1 h2 h3 h4 h5 h6 (hp _ h7) h8
theorem fp_MI.post {G : fp_G} {cK : ClassId} {fr lo mc ms : Nat} {av : List Value} {Pre : Heap → Prop} {A : Nat → Prop} {Post Post2 : Heap → Option Value → Heap → Prop} (h : fp_MI G cK fr lo mc ms av Pre A Post) (hp : ∀ H v H1, Post H v H1 → Post2 H v H1) : fp_MI G cK fr lo mc ms av Pre A Post2 := by
  intro p e R s below meth c h1 h2 h3 h4 h5 h6 h7 h8 T hT X
  obtain ⟨t, a1, o, b1, b2, ⟨v, q1, q2, q3⟩, b4⟩ := h p e R s below meth c h1 h2 h3 h4 h5 h6 h7 h8 T hT X
  exact ⟨t, a1, o, b1, b2, ⟨v, q1, hp _ _ _ q2, q3⟩, b4⟩
theorem fp_fit1 {t0 : FieldType} {v0 : Value} (h0 : fits t0 v0 = true) : ∀ (i : Nat) (v : Value), [v0][i]? = some v → ∃ t, #[t0][i]? = some t ∧ fits t v = true := fun i v hv => by
  rcases i with _ | i
  · cases hv
    exact ⟨t0, rfl, h0⟩
  · simp at hv
theorem fp_fit2 {t0 t1 : FieldType} {v0 v1 : Value} (h0 : fits t0 v0 = true) (h1 : fits t1 v1 = true) : ∀ (i : Nat) (v : Value), [v0, v1][i]? = some v → ∃ t, #[t0, t1][i]? = some t ∧ fits t v = true := fun i v hv => by
  rcases i with _ | i
  · cases hv
    exact ⟨t0, rfl, h0⟩
  · rcases i with _ | i
    · cases hv
      exact ⟨t1, rfl, h1⟩
    · simp at hv
theorem fp_any_ct (q : Nat → Bool) : ∀ n, fp_any q n = decide (0 < fp_ct q n)
  | 0 => rfl
  | n + 1 => by
    have h := fp_any_ct q n
    cases hq : q n with
    | true => rw [fp_any_t (k := n) (by omega) hq, decide_eq_true (fp_ct_pos (k := n) (by omega) hq)]
    | false =>
      have h2 : fp_ct q (n + 1) = fp_ct q n := by
        show fp_ct q n + (if q n then 1 else 0) = _
        rw [hq]
        rfl
      rw [h2, ← h]
      cases ha : fp_any q n with
      | true =>
        obtain ⟨k, hk, hk2⟩ := fp_any_iff.mp ha
        exact fp_any_t (k := k) (by omega) hk2
      | false => exact fp_any_f (fun k hk => by
          by_cases e : k = n
          · rw [e]; exact hq
          · cases hqk : q k with
            | false => rfl
            | true => rw [fp_any_t (k := k) (by omega) hqk] at ha; cases ha)
theorem fp_zI {ty : FieldType} {v : Option Value} {z : Int32} (h : v = some (.int z)) (hn : narrow ty (.int z) = .int z) : ∃ z : Int32, v = some (.int z) ∧ narrow ty (.int z) = .int z := ⟨z, h, hn⟩
section FPL11
variable {G : fp_G} {p : Program} {e : Env} {R : Room} {s : State} {m : MethodId} {args : Array Value} {below : List Frame} {meth : Method} {c : Code} {H : Heap} {locs : List Loc} {cells slots : Nat} {Q : State → Prop}
variable {cc : ByteArray} {pc nL : Nat} {ls : Array Slot} {rest : List Value} {own : String} {A0 : Nat → Prop} {mc0 ms0 : Nat}
theorem r_cl {x : MethodName} {y mc ms n k fr0 lo0 cells1 slots1 index count : Nat} {b : Nat → Nat} {PL : Heap → Prop} {mk : Nat → Int32} (X : fp_C G p s m args c cc own nL) (hR : fp_R R fr0 lo0 mc0 ms0) (hC : fp_CL G x y mc ms n b PL mk) (hk : k < n) (w1 : Cond.methodLink own index x ∈ lw_all) (w2 : Cond.declares x ∈ lw_tbl) (w3 : Cond.interfaceMethod x.cls x.cls x.name x.desc ∈ lw_tbl) (hd : x.cls ≠ "java/lang/invoke/MethodHandle" ∧ x.cls ≠ "java/lang/invoke/VarHandle" ∧ (parseMethodDescriptor x.desc).map (fun d => d.parameters.length) = some 1) (hfr : 301 ≤ fr0) (hlo : 8021 ≤ lo0)
    (ec : cells + mc = cells1) (es : slots + ms = slots1) (hcells : cells1 ≤ mc0) (hslots : slots1 ≤ ms0) (hP : PL H) (hrest : (rest.map fun v => v.category).sum ≤ 8) (hls : ls.size = nL) (hdg : decode cc pc = .ok (.invokeinterface index count, 5)) (hB : fp_B G H) (hS : va_S (fA A0 s.heap.size) s.heap H locs)
    (kk : ∀ (H1 : Heap) (locs1 : List Loc), H.size ≤ H1.size → fp_X H H1 → va_S (fA A0 s.heap.size) s.heap H1 locs1 → W p (g_l G) e R s m args below meth c H1 locs1 cells1 slots1 Q (F0 m (pc + 5) ls (.int (mk k) :: rest))) : W p (g_l G) e R s m args below meth c H locs cells slots Q (F0 m pc ls (.ref (b k) :: .ref y :: rest)) := by
  obtain ⟨ow, σ, cK, D, fw, laid, fr, lo, hL, hs, hf, hpl, hσ, hb1, hM, hO⟩ := hC
  obtain ⟨cell, k1, k2, k3⟩ := hO H hP
  refine r_callL (x := x) (As := [.ref (b k)]) X hR hL hs hf hpl (hM k hk) hσ w1 w2 w3 hd ⟨by omega, by omega⟩ ec es hcells hslots k1 k2 k3 rfl hrest hls hdg hB hP hS (fun _ h => h.elim) (fun v H1 locs1 hp hz hk1 hS1 => ?_)
  subst hp
  exact kk H1 locs1 hz (fp_X.no hz hk1) hS1
end FPL11
