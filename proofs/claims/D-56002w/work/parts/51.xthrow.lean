/-! THROWING: 'throw new E()' -/
set_option maxRecDepth 100000
/-- what lies below the law's entry -/
theorem fp_K.Zq {G : fp_G} {U : State} {H : Heap} {A : Nat → Prop} {C n d : String} (hK : fp_K G U) (hB : fp_B G H) (hA : ∀ q, A q → (g_s G).heap.size ≤ q) (hl : Cond.laysStatic C n d ∈ lw_tbl) (hi : Cond.initialized C ∈ lw_tbl) (h : (Cond.isRef (.static C n d)).before #[Value.ref G.1.2.2] (g_s G) = true) : vx_Zq C n d A U H := by
  have h1 : vx_Zq C n d A (g_s G) (g_s G).heap := vx_Zqof (hK.1.1 _ hl) (hK.1.1 _ hi) h (fun a ha hz => by
    have := hA a hz
    omega)
  exact (h1.kept (fun a ha _ => hB.2 a ha)).moved hK.2.alike
theorem fp_K.flat {G : fp_G} {U : State} (hK : fp_K G U) : ∀ w ∈ flatC (Jvm.Cond.and given_1 narrow_1), w.before #[Value.ref G.1.2.2] (g_s G) = true := flat_of_before _ hK.1.2.1
theorem fp_K.U {G : fp_G} {U : State} {H : Heap} {A : Nat → Prop} (hK : fp_K G U) (hB : fp_B G H) (hA : ∀ q, A q → (g_s G).heap.size ≤ q) : vx_Zq Bundle.tN "UNASSIGNED_STACK" Bundle.steD A U H := hK.Zq hB hA q348 (lw_all_tbl q101) (hK.flat _ (by decide +kernel))
theorem fp_K.N {G : fp_G} {U : State} {H : Heap} {A : Nat → Prop} (hK : fp_K G U) (hB : fp_B G H) (hA : ∀ q, A q → (g_s G).heap.size ≤ q) : vx_Zq Bundle.tN "SUPPRESSED_SENTINEL" Bundle.listD A U H := hK.Zq hB hA q350 (lw_all_tbl q101) (hK.flat _ (by decide +kernel))
theorem fp_K.cast {G : fp_G} {U : State} {C T : String} {args : Array Value} (hK : fp_K G U) (h : Cond.castable C T ∈ lw_tbl) : (Cond.castable C T).before args U = true := va_Nw.use rfl (va_Nw.warmC hK.2 (va_Nw.of rfl (hK.1.1 _ h)))
theorem fp_K.decl {G : fp_G} {U : State} {x : MethodName} {args : Array Value} (hK : fp_K G U) (h : Cond.declares x ∈ lw_tbl) : (Cond.declares x).before args U = true := va_Nw.use rfl (va_Nw.warmD hK.2 (va_Nw.of rfl (hK.1.1 _ h)))
def fp_rx : List String := ["java/lang/RuntimeException", "java/lang/Exception"]
def fp_tB (E : String) : List Cond := [Cond.castable E E, Cond.declares (Bundle.init0 "java/lang/RuntimeException"), Cond.declares (Bundle.init0 "java/lang/Exception"), Cond.declares (Bundle.init0 "java/lang/Throwable")]
/-- the words of a throw of E out of own: all ride, but that E casts to itself -/
def fp_thw (own : String) (ic : Nat) (E : String) : Prop := (∀ w ∈ (vx_at0 own ic E fp_rx).filter goodWord, w ∈ lw_all) ∧ (∀ w ∈ (vx_at0 own ic E fp_rx).filter (fun w => !goodWord w), w ∈ fp_tB E) ∧ Cond.castable E E ∈ lw_tbl
section FPT
variable {G : fp_G} {p : Program} {e : Env} {R : Room} {s : State} {m : MethodId} {args : Array Value} {below : List Frame} {meth : Method} {c : Code} {H : Heap} {locs : List Loc} {cells slots : Nat} {Q : State → Prop}
variable {cc : ByteArray} {pc nL : Nat} {ls : Array Slot} {rest : List Value} {own : String} {A0 : Nat → Prop} {mc0 ms0 : Nat} {Post0 : Heap → Option Value → Heap → Prop} {XPost0 : Heap → String → Heap → Prop} {H0 : Heap}
theorem x_throw0 {ik ic fr lo mc ms : Nat} {E : String} (X : fp_C G p s m args c cc own nL) (hR : fp_R R fr lo mc ms) (hQ : Q = fp_QX below A0 Post0 XPost0 args s mc0 ms0) (hB : fp_B G s.heap) (hA : ∀ q, A0 q → (g_s G).heap.size ≤ q) (hT : ∀ x ∈ c.exceptionTable.toList, False) (hlk : meth.locks = false) (hS : va_S (fA A0 s.heap.size) s.heap H locs) (hw : fp_thw own ic E) (hE : Bundle.fit E = true) (hk : Cond.classLink own ik E ∈ lw_all) (hi : Cond.initialized E ∈ lw_all) (hkg : vx_ot (Cond.classLink own ik E) = true) (hig : vx_ot (Cond.initialized E) = true) (hag : ∀ w ∈ vx_at0 own ic E fp_rx, vx_ot w = true)
    (hls : ls.size = nL) (d0 : decode cc pc = .ok (.new ik, 3)) (d3 : decode cc (pc + 3) = .ok (.dup, 1)) (d4 : decode cc (pc + 4) = .ok (.invokespecial ic, 3)) (d7 : decode cc (pc + 7) = .ok (.athrow, 1))
    (hfr : 5 < fr) (hlo : (rest.map fun v => v.category).sum + 81 ≤ lo) (hc : cells + 1 ≤ mc) (hs : slots + 6 ≤ ms) (hc0 : cells + 1 ≤ mc0) (hs0 : slots + 6 ≤ ms0)
    (hp : ∀ H1 : Heap, fp_X H H1 → XPost0 s.heap E H1) : W p (g_l G) e R s m args below meth c H locs cells slots Q (F0 m pc ls rest) := by
  obtain ⟨hx, hb, hml, hown, hts, hK⟩ := X
  obtain ⟨rfl, rfl, rfl, rfl⟩ := hR
  subst hQ
  have hat : ∀ w ∈ vx_at0 own ic E fp_rx, w.before args s = true := vx_hat (B := fp_tB E) (fun w h => hts w (hw.1 w h)) hw.2.1 (vx_c (hK.cast hw.2.2) (vx_c (hK.decl (by decide +kernel)) (vx_c (hK.decl (by decide +kernel)) (vx_c (hK.decl (by decide +kernel)) vx_n))))
  refine vx_throw0 (A := fA A0 s.heap.size) hx hb hK.1.2.2.1 hown hE (by decide) (hts _ hk) (hts _ hi) hat (fun w h => ?_) (hK.U hB (fun q h => ?_)) (hK.N hB (fun q h => ?_)) hS (hls.trans hml.symm) d0 d3 d4 d7 (fun x h => (hT x h).elim) hfr hlo hc hs hlk (fun t ht h1 h2 => ⟨hp t.heap ⟨h1, h2⟩, Nat.le_trans hS.1 h1, fun q hq hn => (h2 q (Nat.lt_of_lt_of_le hq hS.1)).trans (hS.2.1 q hq hn)⟩) hS.2.2 hc0 hs0
  · rcases List.mem_cons.mp h with h | h
    · rw [h]; exact hkg
    · rcases List.mem_cons.mp h with h | h
      · rw [h]; exact hig
      · exact hag w h
  · rcases h with h | h
    · exact hA q h
    · exact Nat.le_trans hB.1 h
  · rcases h with h | h
    · exact hA q h
    · exact Nat.le_trans hB.1 h
end FPT
theorem tw_IAE : fp_thw "FortPlanner" 42 "java/lang/IllegalArgumentException" := ⟨by decide +kernel, by decide +kernel, by decide +kernel⟩
