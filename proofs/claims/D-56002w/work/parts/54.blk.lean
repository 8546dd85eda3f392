/-! THE BLOCKS -/
set_option maxRecDepth 100000
def fp_bf (b : Nat → Nat) : List Value := [.int (iI (b 0 : Int)), .int (iI (b 2 : Int)), .int (iI (b 3 : Int)), .int (iI (b 4 : Int)), .int (iI (b 5 : Int))]
/-- a block's cell: its kind is its class -/
def fp_bE (b : Nat → Nat) : va_E := if b 1 = 0 then eO 3 (fp_bf b) else if b 1 = 1 then eO 4 (fp_bf b) else eO 5 (fp_bf b ++ [.int (iI (b 4 : Int))])
theorem fp_bE_0 {b : Nat → Nat} (h : b 1 = 0) : fp_bE b = eO 3 (fp_bf b) := if_pos h
theorem fp_bE_1 {b : Nat → Nat} (h : b 1 = 1) : fp_bE b = eO 4 (fp_bf b) := (if_neg (by omega)).trans (if_pos h)
theorem fp_bE_2 {b : Nat → Nat} (h : b 1 = 2) : fp_bE b = eO 5 (fp_bf b ++ [.int (iI (b 4 : Int))]) := (if_neg (by omega)).trans (if_neg (by omega))
def fp_bi (k : Nat) : Nat := if k = 0 then 0 else k + 1
section FPB
variable {G : fp_G} {p : Program} {e : Env} {R : Room} {s : State} {m : MethodId} {args : Array Value} {below : List Frame} {meth : Method} {c : Code} {H : Heap} {locs : List Loc} {cells slots : Nat} {Q : State → Prop}
variable {cc : ByteArray} {pc nL : Nat} {ls : Array Slot} {rest : List Value} {own : String} {A0 : Nat → Prop} {H0 : Heap} {a : Nat} {b : Nat → Nat}
theorem r_getB {index : Nat} (k : Nat) (hk : k < 5) (j : Nat) (hj : fp_bi k = j) (X : fp_C G p s m args c cc own nL) (hat : fp_At G H a (fp_bE b)) (hb3 : b 1 < 3) (hlink : Cond.fieldLink own index "FortPlanner$Block" (TX6 k).2.1 (TX6 k).2.2.1 ∈ lw_all) (hd : decode cc pc = .ok (.getfield index, 3))
    (kk : W p (g_l G) e R s m args below meth c H locs cells slots Q (F0 m (pc + 3) ls (.int (iI (b j : Int)) :: rest))) : W p (g_l G) e R s m args below meth c H locs cells slots Q (F0 m pc ls (.ref a :: rest)) := by
  subst hj
  rcases (show b 1 = 0 ∨ b 1 = 1 ∨ b 1 = 2 by omega) with h | h | h
  · rw [fp_bE_0 h] at hat
    refine r_get X hat rfl in_X6 k hk hlink (Or.inl ?_) ?_ hd kk <;> rcases (show k = 0 ∨ k = 1 ∨ k = 2 ∨ k = 3 ∨ k = 4 by omega) with rfl | rfl | rfl | rfl | rfl <;> rfl
  · rw [fp_bE_1 h] at hat
    refine r_get (ref := "FortPlanner$Block") (T := TX7) X hat rfl in_X7 k hk ?_ (Or.inl ?_) ?_ hd kk <;> rcases (show k = 0 ∨ k = 1 ∨ k = 2 ∨ k = 3 ∨ k = 4 by omega) with rfl | rfl | rfl | rfl | rfl <;> first | exact hlink | rfl
  · rw [fp_bE_2 h] at hat
    refine r_get (ref := "FortPlanner$Block") (T := TX8) X hat rfl in_X8 k (by omega) ?_ (Or.inl ?_) ?_ hd kk <;> rcases (show k = 0 ∨ k = 1 ∨ k = 2 ∨ k = 3 ∨ k = 4 by omega) with rfl | rfl | rfl | rfl | rfl <;> first | exact hlink | rfl
theorem r_getBN {index : Nat} {host : String} (k : Nat) (hk : k < 5) (j : Nat) (hj : fp_bi k = j) (X : fp_C G p s m args c cc own nL) (hat : fp_At G H a (fp_bE b)) (hb3 : b 1 < 3) (hlink : Cond.fieldLinkNest own index "FortPlanner$Block" (TX6 k).2.1 (TX6 k).2.2.1 host ∈ lw_tbl) (hd : decode cc pc = .ok (.getfield index, 3))
    (kk : W p (g_l G) e R s m args below meth c H locs cells slots Q (F0 m (pc + 3) ls (.int (iI (b j : Int)) :: rest))) : W p (g_l G) e R s m args below meth c H locs cells slots Q (F0 m pc ls (.ref a :: rest)) := by
  subst hj
  rcases (show b 1 = 0 ∨ b 1 = 1 ∨ b 1 = 2 by omega) with h | h | h
  · rw [fp_bE_0 h] at hat
    refine r_getN X hat rfl in_X6 k hk hlink (Or.inl ?_) ?_ hd kk <;> rcases (show k = 0 ∨ k = 1 ∨ k = 2 ∨ k = 3 ∨ k = 4 by omega) with rfl | rfl | rfl | rfl | rfl <;> rfl
  · rw [fp_bE_1 h] at hat
    refine r_getN (ref := "FortPlanner$Block") (T := TX7) (host := host) X hat rfl in_X7 k hk ?_ (Or.inl ?_) ?_ hd kk <;> rcases (show k = 0 ∨ k = 1 ∨ k = 2 ∨ k = 3 ∨ k = 4 by omega) with rfl | rfl | rfl | rfl | rfl <;> first | exact hlink | rfl
  · rw [fp_bE_2 h] at hat
    refine r_getN (ref := "FortPlanner$Block") (T := TX8) (host := host) X hat rfl in_X8 k (by omega) ?_ (Or.inl ?_) ?_ hd kk <;> rcases (show k = 0 ∨ k = 1 ∨ k = 2 ∨ k = 3 ∨ k = 4 by omega) with rfl | rfl | rfl | rfl | rfl <;> first | exact hlink | rfl
end FPB
theorem c_X5_thickness (G : fp_G) (a : Nat) (b : Nat → Nat) : fp_M G yX5_thickness cX5_thickness 1 (some .int) 1 12 0 0 [.ref a] (fun H => True) fp_no (fun H v H1 => v = some (.int (iI ((1 : Nat) : Int))) ∧ H = H1) := by
  refine fp_M.intro (by decide) (Nat.le_of_ble_eq_true rfl) ?_
  intro pg en s mi ag bl mt cd rR qQ ls X hx hb hr hlk hnm hR hQ hB hM hl
  have hS : va_S (fA fp_no s.heap.size) s.heap s.heap [] := va_S.rf
  refine lv_iconst (v := iI ((1 : Nat) : Int)) hx hb dX5_thickness_0 rfl ?_
  exact r_iret hx hb hr hlk hQ hS (by decide) (by decide) dX5_thickness_1 ⟨rfl, rfl⟩
theorem c_X6_thickness (G : fp_G) (a : Nat) (b : Nat → Nat) : fp_M G yX6_thickness cX6_thickness 1 (some .int) 2 40 0 0 [.ref a] (fun H => fp_At G H a (eO 3 (fp_bf b))) fp_no (fun H v H1 => v = some (.int (iI ((1 + 1 : Nat) : Int))) ∧ H = H1) := by
  refine fp_M.intro (by decide) (Nat.le_of_ble_eq_true rfl) ?_
  intro pg en s mi ag bl mt cd rR qQ ls X hx hb hr hlk hnm hR hQ hB hM hl
  have hS : va_S (fA fp_no s.heap.size) s.heap s.heap [] := va_S.rf
  refine lv_iconst (v := iI ((1 : Nat) : Int)) hx hb dX6_thickness_0 rfl ?_
  refine lv_aload_n hx hb dX6_thickness_1 rfl (lv_at hl 0 rfl) ?_
  refine r_callP (cells1 := 0) (slots1 := 0) (ci := 3) X hR (c_X5_thickness G a b) q421 q415 q422 q414 q108 q423 ⟨by decide, rfl⟩ ⟨by decide, by decide⟩ rfl rfl (by decide) (by decide) hM rfl rfl (by decide) hl.1 dX6_thickness_2 hB (by first | trivial | exact hM) hS (fun _ h => h.elim) (fun v H1 locs hp _ _ hS => ?_)
  obtain ⟨rfl, rfl⟩ := hp
  refine r_iaddN hx hb dX6_thickness_5 ?_
  exact r_iret hx hb hr hlk hQ hS (by decide) (by decide) dX6_thickness_6 ⟨rfl, rfl⟩
def fp_thk (b : Nat → Nat) : Nat := if b 1 = 0 then 2 else 1
section FPB2
variable {G : fp_G} {p : Program} {e : Env} {R : Room} {s : State} {m : MethodId} {args : Array Value} {below : List Frame} {meth : Method} {c : Code} {H : Heap} {locs : List Loc} {cells slots : Nat} {Q : State → Prop}
variable {cc : ByteArray} {pc nL : Nat} {ls : Array Slot} {rest : List Value} {own : String} {A0 : Nat → Prop} {a : Nat} {b : Nat → Nat}
theorem b_thickness {index fr0 lo0 mc0 ms0 : Nat} (X : fp_C G p s m args c cc own nL) (hR : fp_R R fr0 lo0 mc0 ms0) (hat : fp_At G H a (fp_bE b)) (hb3 : b 1 < 3) (w1 : Cond.methodLink own index ⟨"FortPlanner$Block", "thickness", "()I"⟩ ∈ lw_all) (hfr : 3 ≤ fr0) (hlo : 61 ≤ lo0) (hcells : cells ≤ mc0) (hslots : slots ≤ ms0) (hrest : (rest.map fun v => v.category).sum ≤ 8) (hls : ls.size = nL) (hd : decode cc pc = .ok (.invokevirtual index, 3)) (hB : fp_B G H) (hS : va_S (fA A0 s.heap.size) s.heap H locs)
    (kk : ∀ locs1 : List Loc, va_S (fA A0 s.heap.size) s.heap H locs1 → W p (g_l G) e R s m args below meth c H locs1 cells slots Q (F0 m (pc + 3) ls (.int (iI ((fp_thk b : Nat) : Int)) :: rest))) : W p (g_l G) e R s m args below meth c H locs cells slots Q (F0 m pc ls (.ref a :: rest)) := by
  rcases (show b 1 = 0 ∨ b 1 = 1 ∨ b 1 = 2 by omega) with h | h | h
  · have hat2 := hat
    rw [fp_bE_0 h] at hat2
    refine r_callU (x := ⟨"FortPlanner$Block", "thickness", "()I"⟩) (C := "FortPlanner$Foam") (owner := "FortPlanner$Block") (ci := 3) (cells1 := cells) (slots1 := slots) X hR (c_X6_thickness G a b) w1 q415 (Or.inr ⟨q414, _, _, _, q423⟩) q418 q419 q109 q420 ⟨by decide, by decide, rfl⟩ ⟨by omega, by omega⟩ rfl rfl hcells hslots hat2 rfl rfl hrest hls hd hB (by first | trivial | exact hat2 | exact hat | exact ⟨hat, hb3⟩ | exact ⟨hat, hatB⟩) hS (fun _ h => h.elim) (fun v H1 locs hp _ _ hS => ?_)
    obtain ⟨rfl, rfl⟩ := hp
    have hk2 := kk locs hS
    first | exact hk2 | (refine r_stk (st2 := .int (iI ((fp_thk b : Nat) : Int)) :: rest) ?_ hk2; exact congrArg (fun q : Nat => Value.int (iI (q : Int)) :: rest) (by first | (unfold fp_thk; simp [h]) | (unfold fp_str; simp [h]; try omega) | (unfold fp_let; simp [h])))
  · have hat2 := hat
    rw [fp_bE_1 h] at hat2
    refine r_callU (x := ⟨"FortPlanner$Block", "thickness", "()I"⟩) (C := "FortPlanner$Board") (owner := "FortPlanner$Block") (ci := 4) (cells1 := cells) (slots1 := slots) X hR (c_X5_thickness G a b) w1 q415 (Or.inr ⟨q414, _, _, _, q423⟩) q417 q414 q108 q423 ⟨by decide, by decide, rfl⟩ ⟨by omega, by omega⟩ rfl rfl hcells hslots hat2 rfl rfl hrest hls hd hB (by first | trivial | exact hat2 | exact hat | exact ⟨hat, hb3⟩ | exact ⟨hat, hatB⟩) hS (fun _ h => h.elim) (fun v H1 locs hp _ _ hS => ?_)
    obtain ⟨rfl, rfl⟩ := hp
    have hk2 := kk locs hS
    first | exact hk2 | (refine r_stk (st2 := .int (iI ((fp_thk b : Nat) : Int)) :: rest) ?_ hk2; exact congrArg (fun q : Nat => Value.int (iI (q : Int)) :: rest) (by first | (unfold fp_thk; simp [h]) | (unfold fp_str; simp [h]; try omega) | (unfold fp_let; simp [h])))
  · have hat2 := hat
    rw [fp_bE_2 h] at hat2
    refine r_callU (x := ⟨"FortPlanner$Block", "thickness", "()I"⟩) (C := "FortPlanner$Bag") (owner := "FortPlanner$Block") (ci := 5) (cells1 := cells) (slots1 := slots) X hR (c_X5_thickness G a b) w1 q415 (Or.inr ⟨q414, _, _, _, q423⟩) q416 q414 q108 q423 ⟨by decide, by decide, rfl⟩ ⟨by omega, by omega⟩ rfl rfl hcells hslots hat2 rfl rfl hrest hls hd hB (by first | trivial | exact hat2 | exact hat | exact ⟨hat, hb3⟩ | exact ⟨hat, hatB⟩) hS (fun _ h => h.elim) (fun v H1 locs hp _ _ hS => ?_)
    obtain ⟨rfl, rfl⟩ := hp
    have hk2 := kk locs hS
    first | exact hk2 | (refine r_stk (st2 := .int (iI ((fp_thk b : Nat) : Int)) :: rest) ?_ hk2; exact congrArg (fun q : Nat => Value.int (iI (q : Int)) :: rest) (by first | (unfold fp_thk; simp [h]) | (unfold fp_str; simp [h]; try omega) | (unfold fp_let; simp [h])))
end FPB2
theorem c_X5_top (G : fp_G) (a : Nat) (b : Nat → Nat) (hbk : fp_bk b) : fp_M G yX5_top cX5_top 1 (some .int) 4 80 0 0 [.ref a] (fun H => fp_At G H a (fp_bE b)) fp_no (fun H v H1 => v = some (.int (iI ((fp_top b : Nat) : Int))) ∧ H = H1) := by
  refine fp_M.intro (by decide) (Nat.le_of_ble_eq_true rfl) ?_
  intro pg en s mi ag bl mt cd rR qQ ls X hx hb hr hlk hnm hR hQ hB hM hl
  have hS : va_S (fA fp_no s.heap.size) s.heap s.heap [] := va_S.rf
  have hb3 : b 1 < 3 := hbk.2.1
  refine lv_aload_n hx hb dX5_top_0 rfl (lv_at hl 0 rfl) ?_
  refine r_getB 4 (by decide) 5 rfl X hM hb3 q1164 dX5_top_1 ?_
  refine lv_aload_n hx hb dX5_top_4 rfl (lv_at hl 0 rfl) ?_
  refine b_thickness X hR (by first | exact hM | exact hM.1) hb3 q413 (by decide) (by decide) (by decide) (by decide) (Nat.le_of_ble_eq_true rfl) hl.1 dX5_top_5 hB hS (fun locs hS => ?_)
  refine r_iaddN hx hb dX5_top_8 ?_
  refine r_iret hx hb hr hlk hQ hS (by decide) (by decide) dX5_top_9 ⟨?_, rfl⟩
  exact congrArg (fun q : Nat => some (Value.int (iI (q : Int)))) (show b 5 + fp_thk b = fp_top b from rfl)
section FPB2
variable {G : fp_G} {p : Program} {e : Env} {R : Room} {s : State} {m : MethodId} {args : Array Value} {below : List Frame} {meth : Method} {c : Code} {H : Heap} {locs : List Loc} {cells slots : Nat} {Q : State → Prop}
variable {cc : ByteArray} {pc nL : Nat} {ls : Array Slot} {rest : List Value} {own : String} {A0 : Nat → Prop} {a : Nat} {b : Nat → Nat}
theorem b_top {index fr0 lo0 mc0 ms0 : Nat} (X : fp_C G p s m args c cc own nL) (hR : fp_R R fr0 lo0 mc0 ms0) (hat : fp_At G H a (fp_bE b)) (hb3 : b 1 < 3) (hbk : fp_bk b) (w1 : Cond.methodLink own index ⟨"FortPlanner$Block", "top", "()I"⟩ ∈ lw_all) (hfr : 5 ≤ fr0) (hlo : 101 ≤ lo0) (hcells : cells ≤ mc0) (hslots : slots ≤ ms0) (hrest : (rest.map fun v => v.category).sum ≤ 8) (hls : ls.size = nL) (hd : decode cc pc = .ok (.invokevirtual index, 3)) (hB : fp_B G H) (hS : va_S (fA A0 s.heap.size) s.heap H locs)
    (kk : ∀ locs1 : List Loc, va_S (fA A0 s.heap.size) s.heap H locs1 → W p (g_l G) e R s m args below meth c H locs1 cells slots Q (F0 m (pc + 3) ls (.int (iI ((fp_top b : Nat) : Int)) :: rest))) : W p (g_l G) e R s m args below meth c H locs cells slots Q (F0 m pc ls (.ref a :: rest)) := by
  rcases (show b 1 = 0 ∨ b 1 = 1 ∨ b 1 = 2 by omega) with h | h | h
  · have hat2 := hat
    rw [fp_bE_0 h] at hat2
    refine r_callU (x := ⟨"FortPlanner$Block", "top", "()I"⟩) (C := "FortPlanner$Foam") (owner := "FortPlanner$Block") (ci := 3) (cells1 := cells) (slots1 := slots) X hR (c_X5_top G a b hbk) w1 q408 (Or.inr ⟨q407, _, _, _, q412⟩) q411 q407 q108 q412 ⟨by decide, by decide, rfl⟩ ⟨by omega, by omega⟩ rfl rfl hcells hslots hat2 rfl rfl hrest hls hd hB (by first | trivial | exact hat2 | exact hat | exact ⟨hat, hb3⟩ | exact ⟨hat, hatB⟩) hS (fun _ h => h.elim) (fun v H1 locs hp _ _ hS => ?_)
    obtain ⟨rfl, rfl⟩ := hp
    have hk2 := kk locs hS
    first | exact hk2 | (refine r_stk (st2 := .int (iI ((fp_top b : Nat) : Int)) :: rest) ?_ hk2; exact congrArg (fun q : Nat => Value.int (iI (q : Int)) :: rest) (by first | (unfold fp_thk; simp [h]) | (unfold fp_str; simp [h]; try omega) | (unfold fp_let; simp [h])))
  · have hat2 := hat
    rw [fp_bE_1 h] at hat2
    refine r_callU (x := ⟨"FortPlanner$Block", "top", "()I"⟩) (C := "FortPlanner$Board") (owner := "FortPlanner$Block") (ci := 4) (cells1 := cells) (slots1 := slots) X hR (c_X5_top G a b hbk) w1 q408 (Or.inr ⟨q407, _, _, _, q412⟩) q410 q407 q108 q412 ⟨by decide, by decide, rfl⟩ ⟨by omega, by omega⟩ rfl rfl hcells hslots hat2 rfl rfl hrest hls hd hB (by first | trivial | exact hat2 | exact hat | exact ⟨hat, hb3⟩ | exact ⟨hat, hatB⟩) hS (fun _ h => h.elim) (fun v H1 locs hp _ _ hS => ?_)
    obtain ⟨rfl, rfl⟩ := hp
    have hk2 := kk locs hS
    first | exact hk2 | (refine r_stk (st2 := .int (iI ((fp_top b : Nat) : Int)) :: rest) ?_ hk2; exact congrArg (fun q : Nat => Value.int (iI (q : Int)) :: rest) (by first | (unfold fp_thk; simp [h]) | (unfold fp_str; simp [h]; try omega) | (unfold fp_let; simp [h])))
  · have hat2 := hat
    rw [fp_bE_2 h] at hat2
    refine r_callU (x := ⟨"FortPlanner$Block", "top", "()I"⟩) (C := "FortPlanner$Bag") (owner := "FortPlanner$Block") (ci := 5) (cells1 := cells) (slots1 := slots) X hR (c_X5_top G a b hbk) w1 q408 (Or.inr ⟨q407, _, _, _, q412⟩) q409 q407 q108 q412 ⟨by decide, by decide, rfl⟩ ⟨by omega, by omega⟩ rfl rfl hcells hslots hat2 rfl rfl hrest hls hd hB (by first | trivial | exact hat2 | exact hat | exact ⟨hat, hb3⟩ | exact ⟨hat, hatB⟩) hS (fun _ h => h.elim) (fun v H1 locs hp _ _ hS => ?_)
    obtain ⟨rfl, rfl⟩ := hp
    have hk2 := kk locs hS
    first | exact hk2 | (refine r_stk (st2 := .int (iI ((fp_top b : Nat) : Int)) :: rest) ?_ hk2; exact congrArg (fun q : Nat => Value.int (iI (q : Int)) :: rest) (by first | (unfold fp_thk; simp [h]) | (unfold fp_str; simp [h]; try omega) | (unfold fp_let; simp [h])))
end FPB2
theorem c_X5_right (G : fp_G) (a : Nat) (b : Nat → Nat) (hbk : fp_bk b) : fp_M G yX5_right cX5_right 1 (some .int) 1 12 0 0 [.ref a] (fun H => fp_At G H a (fp_bE b)) fp_no (fun H v H1 => v = some (.int (iI (((b 2 : Nat) : Int) + ((b 3 : Nat) : Int) - 1))) ∧ H = H1) := by
  refine fp_M.intro (by decide) (Nat.le_of_ble_eq_true rfl) ?_
  intro pg en s mi ag bl mt cd rR qQ ls X hx hb hr hlk hnm hR hQ hB hM hl
  have hS : va_S (fA fp_no s.heap.size) s.heap s.heap [] := va_S.rf
  have hb3 : b 1 < 3 := hbk.2.1
  refine lv_aload_n hx hb dX5_right_0 rfl (lv_at hl 0 rfl) ?_
  refine r_getB 1 (by decide) 2 rfl X hM hb3 q1156 dX5_right_1 ?_
  refine lv_aload_n hx hb dX5_right_4 rfl (lv_at hl 0 rfl) ?_
  refine r_getB 2 (by decide) 3 rfl X hM hb3 q1159 dX5_right_5 ?_
  refine r_iadd hx hb dX5_right_8 ?_
  refine lv_iconst (v := iI (1 : Int)) hx hb dX5_right_9 rfl ?_
  refine r_isub hx hb dX5_right_10 ?_
  exact r_iret hx hb hr hlk hQ hS (by decide) (by decide) dX5_right_11 ⟨rfl, rfl⟩
section FPB2
variable {G : fp_G} {p : Program} {e : Env} {R : Room} {s : State} {m : MethodId} {args : Array Value} {below : List Frame} {meth : Method} {c : Code} {H : Heap} {locs : List Loc} {cells slots : Nat} {Q : State → Prop}
variable {cc : ByteArray} {pc nL : Nat} {ls : Array Slot} {rest : List Value} {own : String} {A0 : Nat → Prop} {a : Nat} {b : Nat → Nat}
theorem b_right {index fr0 lo0 mc0 ms0 : Nat} (X : fp_C G p s m args c cc own nL) (hR : fp_R R fr0 lo0 mc0 ms0) (hat : fp_At G H a (fp_bE b)) (hb3 : b 1 < 3) (hbk : fp_bk b) (w1 : Cond.methodLink own index ⟨"FortPlanner$Block", "right", "()I"⟩ ∈ lw_all) (hfr : 2 ≤ fr0) (hlo : 33 ≤ lo0) (hcells : cells ≤ mc0) (hslots : slots ≤ ms0) (hrest : (rest.map fun v => v.category).sum ≤ 8) (hls : ls.size = nL) (hd : decode cc pc = .ok (.invokevirtual index, 3)) (hB : fp_B G H) (hS : va_S (fA A0 s.heap.size) s.heap H locs)
    (kk : ∀ locs1 : List Loc, va_S (fA A0 s.heap.size) s.heap H locs1 → W p (g_l G) e R s m args below meth c H locs1 cells slots Q (F0 m (pc + 3) ls (.int (iI (((b 2 : Nat) : Int) + ((b 3 : Nat) : Int) - 1)) :: rest))) : W p (g_l G) e R s m args below meth c H locs cells slots Q (F0 m pc ls (.ref a :: rest)) := by
  rcases (show b 1 = 0 ∨ b 1 = 1 ∨ b 1 = 2 by omega) with h | h | h
  · have hat2 := hat
    rw [fp_bE_0 h] at hat2
    refine r_callU (x := ⟨"FortPlanner$Block", "right", "()I"⟩) (C := "FortPlanner$Foam") (owner := "FortPlanner$Block") (ci := 3) (cells1 := cells) (slots1 := slots) X hR (c_X5_right G a b hbk) w1 q398 (Or.inr ⟨q397, _, _, _, q402⟩) q401 q397 q108 q402 ⟨by decide, by decide, rfl⟩ ⟨by omega, by omega⟩ rfl rfl hcells hslots hat2 rfl rfl hrest hls hd hB (by first | trivial | exact hat2 | exact hat | exact ⟨hat, hb3⟩ | exact ⟨hat, hatB⟩) hS (fun _ h => h.elim) (fun v H1 locs hp _ _ hS => ?_)
    obtain ⟨rfl, rfl⟩ := hp
    have hk2 := kk locs hS
    first | exact hk2 | (refine r_stk (st2 := .int (iI (((b 2 : Nat) : Int) + ((b 3 : Nat) : Int) - 1)) :: rest) ?_ hk2; exact congrArg (fun q : Nat => Value.int (iI (q : Int)) :: rest) (by first | (unfold fp_thk; simp [h]) | (unfold fp_str; simp [h]; try omega) | (unfold fp_let; simp [h])))
  · have hat2 := hat
    rw [fp_bE_1 h] at hat2
    refine r_callU (x := ⟨"FortPlanner$Block", "right", "()I"⟩) (C := "FortPlanner$Board") (owner := "FortPlanner$Block") (ci := 4) (cells1 := cells) (slots1 := slots) X hR (c_X5_right G a b hbk) w1 q398 (Or.inr ⟨q397, _, _, _, q402⟩) q400 q397 q108 q402 ⟨by decide, by decide, rfl⟩ ⟨by omega, by omega⟩ rfl rfl hcells hslots hat2 rfl rfl hrest hls hd hB (by first | trivial | exact hat2 | exact hat | exact ⟨hat, hb3⟩ | exact ⟨hat, hatB⟩) hS (fun _ h => h.elim) (fun v H1 locs hp _ _ hS => ?_)
    obtain ⟨rfl, rfl⟩ := hp
    have hk2 := kk locs hS
    first | exact hk2 | (refine r_stk (st2 := .int (iI (((b 2 : Nat) : Int) + ((b 3 : Nat) : Int) - 1)) :: rest) ?_ hk2; exact congrArg (fun q : Nat => Value.int (iI (q : Int)) :: rest) (by first | (unfold fp_thk; simp [h]) | (unfold fp_str; simp [h]; try omega) | (unfold fp_let; simp [h])))
  · have hat2 := hat
    rw [fp_bE_2 h] at hat2
    refine r_callU (x := ⟨"FortPlanner$Block", "right", "()I"⟩) (C := "FortPlanner$Bag") (owner := "FortPlanner$Block") (ci := 5) (cells1 := cells) (slots1 := slots) X hR (c_X5_right G a b hbk) w1 q398 (Or.inr ⟨q397, _, _, _, q402⟩) q399 q397 q108 q402 ⟨by decide, by decide, rfl⟩ ⟨by omega, by omega⟩ rfl rfl hcells hslots hat2 rfl rfl hrest hls hd hB (by first | trivial | exact hat2 | exact hat | exact ⟨hat, hb3⟩ | exact ⟨hat, hatB⟩) hS (fun _ h => h.elim) (fun v H1 locs hp _ _ hS => ?_)
    obtain ⟨rfl, rfl⟩ := hp
    have hk2 := kk locs hS
    first | exact hk2 | (refine r_stk (st2 := .int (iI (((b 2 : Nat) : Int) + ((b 3 : Nat) : Int) - 1)) :: rest) ?_ hk2; exact congrArg (fun q : Nat => Value.int (iI (q : Int)) :: rest) (by first | (unfold fp_thk; simp [h]) | (unfold fp_str; simp [h]; try omega) | (unfold fp_let; simp [h])))
end FPB2
theorem c_X5_strength (G : fp_G) (a : Nat) (b : Nat → Nat) (hbk : fp_bk b) : fp_M G yX5_strength cX5_strength 1 (some .int) 1 12 0 0 [.ref a] (fun H => fp_At G H a (fp_bE b)) fp_no (fun H v H1 => v = some (.int (iI ((b 3 : Nat) : Int))) ∧ H = H1) := by
  refine fp_M.intro (by decide) (Nat.le_of_ble_eq_true rfl) ?_
  intro pg en s mi ag bl mt cd rR qQ ls X hx hb hr hlk hnm hR hQ hB hM hl
  have hS : va_S (fA fp_no s.heap.size) s.heap s.heap [] := va_S.rf
  have hb3 : b 1 < 3 := hbk.2.1
  refine lv_aload_n hx hb dX5_strength_0 rfl (lv_at hl 0 rfl) ?_
  refine r_getB 2 (by decide) 3 rfl X hM hb3 q1159 dX5_strength_1 ?_
  exact r_iret hx hb hr hlk hQ hS (by decide) (by decide) dX5_strength_4 ⟨rfl, rfl⟩
theorem c_X6_strength (G : fp_G) (a : Nat) (b : Nat → Nat) (hbk : fp_bk b) (hk : b 1 = 0) : fp_M G yX6_strength cX6_strength 1 (some .int) 2 40 0 0 [.ref a] (fun H => fp_At G H a (eO 3 (fp_bf b))) fp_no (fun H v H1 => v = some (.int (iI ((6 * b 3 : Nat) : Int))) ∧ H = H1) := by
  refine fp_M.intro (by decide) (Nat.le_of_ble_eq_true rfl) ?_
  intro pg en s mi ag bl mt cd rR qQ ls X hx hb hr hlk hnm hR hQ hB hM hl
  have hS : va_S (fA fp_no s.heap.size) s.heap s.heap [] := va_S.rf
  refine lv_bipush (v := iI ((6 : Nat) : Int)) hx hb dX6_strength_0 rfl ?_
  refine lv_aload_n hx hb dX6_strength_2 rfl (lv_at hl 0 rfl) ?_
  refine r_callP (cells1 := 0) (slots1 := 0) (ci := 3) X hR (c_X5_strength G a b hbk) q1004 q991 q422 q990 q108 q1000 ⟨by decide, rfl⟩ ⟨by decide, by decide⟩ rfl rfl (by decide) (by decide) hM rfl rfl (by decide) hl.1 dX6_strength_3 hB (by rw [fp_bE_0 hk]; exact hM) hS (fun _ h => h.elim) (fun v H1 locs hp _ _ hS => ?_)
  obtain ⟨rfl, rfl⟩ := hp
  refine r_imulN hx hb dX6_strength_6 ?_
  exact r_iret hx hb hr hlk hQ hS (by decide) (by decide) dX6_strength_7 ⟨rfl, rfl⟩
theorem c_X7_strength (G : fp_G) (a : Nat) (b : Nat → Nat) (hbk : fp_bk b) (hk : b 1 = 1) : fp_M G yX7_strength cX7_strength 1 (some .int) 2 40 0 0 [.ref a] (fun H => fp_At G H a (eO 4 (fp_bf b))) fp_no (fun H v H1 => v = some (.int (iI ((12 * b 3 : Nat) : Int))) ∧ H = H1) := by
  refine fp_M.intro (by decide) (Nat.le_of_ble_eq_true rfl) ?_
  intro pg en s mi ag bl mt cd rR qQ ls X hx hb hr hlk hnm hR hQ hB hM hl
  have hS : va_S (fA fp_no s.heap.size) s.heap s.heap [] := va_S.rf
  refine lv_bipush (v := iI ((12 : Nat) : Int)) hx hb dX7_strength_0 rfl ?_
  refine lv_aload_n hx hb dX7_strength_2 rfl (lv_at hl 0 rfl) ?_
  refine r_callP (cells1 := 0) (slots1 := 0) (ci := 4) X hR (c_X5_strength G a b hbk) q998 q991 q999 q990 q108 q1000 ⟨by decide, rfl⟩ ⟨by decide, by decide⟩ rfl rfl (by decide) (by decide) hM rfl rfl (by decide) hl.1 dX7_strength_3 hB (by rw [fp_bE_1 hk]; exact hM) hS (fun _ h => h.elim) (fun v H1 locs hp _ _ hS => ?_)
  obtain ⟨rfl, rfl⟩ := hp
  refine r_imulN hx hb dX7_strength_6 ?_
  exact r_iret hx hb hr hlk hQ hS (by decide) (by decide) dX7_strength_7 ⟨rfl, rfl⟩
theorem c_X8_strength (G : fp_G) (a : Nat) (b : Nat → Nat) (hbk : fp_bk b) (hk : b 1 = 2) : fp_M G yX8_strength cX8_strength 1 (some .int) 1 12 0 0 [.ref a] (fun H => fp_At G H a (eO 5 (fp_bf b ++ [.int (iI (b 4 : Int))]))) fp_no (fun H v H1 => v = some (.int (iI ((b 4 + 8 : Nat) : Int))) ∧ H = H1) := by
  refine fp_M.intro (by decide) (Nat.le_of_ble_eq_true rfl) ?_
  intro pg en s mi ag bl mt cd rR qQ ls X hx hb hr hlk hnm hR hQ hB hM hl
  have hS : va_S (fA fp_no s.heap.size) s.heap s.heap [] := va_S.rf
  refine lv_aload_n hx hb dX8_strength_0 rfl (lv_at hl 0 rfl) ?_
  refine r_get (v := .int (iI ((b 4 : Nat) : Int))) X hM rfl in_X8 5 (by decide) q1194 (Or.inl rfl) rfl dX8_strength_1 ?_
  refine lv_bipush (v := iI ((8 : Nat) : Int)) hx hb dX8_strength_4 rfl ?_
  refine r_iaddN hx hb dX8_strength_6 ?_
  exact r_iret hx hb hr hlk hQ hS (by decide) (by decide) dX8_strength_7 ⟨rfl, rfl⟩
section FPB2
variable {G : fp_G} {p : Program} {e : Env} {R : Room} {s : State} {m : MethodId} {args : Array Value} {below : List Frame} {meth : Method} {c : Code} {H : Heap} {locs : List Loc} {cells slots : Nat} {Q : State → Prop}
variable {cc : ByteArray} {pc nL : Nat} {ls : Array Slot} {rest : List Value} {own : String} {A0 : Nat → Prop} {a : Nat} {b : Nat → Nat}
theorem b_strength {index fr0 lo0 mc0 ms0 : Nat} (X : fp_C G p s m args c cc own nL) (hR : fp_R R fr0 lo0 mc0 ms0) (hat : fp_At G H a (fp_bE b)) (hb3 : b 1 < 3) (hbk : fp_bk b) (w1 : Cond.methodLink own index ⟨"FortPlanner$Block", "strength", "()I"⟩ ∈ lw_all) (hfr : 3 ≤ fr0) (hlo : 61 ≤ lo0) (hcells : cells ≤ mc0) (hslots : slots ≤ ms0) (hrest : (rest.map fun v => v.category).sum ≤ 8) (hls : ls.size = nL) (hd : decode cc pc = .ok (.invokevirtual index, 3)) (hB : fp_B G H) (hS : va_S (fA A0 s.heap.size) s.heap H locs)
    (kk : ∀ locs1 : List Loc, va_S (fA A0 s.heap.size) s.heap H locs1 → W p (g_l G) e R s m args below meth c H locs1 cells slots Q (F0 m (pc + 3) ls (.int (iI ((fp_str b : Nat) : Int)) :: rest))) : W p (g_l G) e R s m args below meth c H locs cells slots Q (F0 m pc ls (.ref a :: rest)) := by
  rcases (show b 1 = 0 ∨ b 1 = 1 ∨ b 1 = 2 by omega) with h | h | h
  · have hat2 := hat
    rw [fp_bE_0 h] at hat2
    refine r_callU (x := ⟨"FortPlanner$Block", "strength", "()I"⟩) (C := "FortPlanner$Foam") (owner := "FortPlanner$Block") (ci := 3) (cells1 := cells) (slots1 := slots) X hR (c_X6_strength G a b hbk h) w1 q991 (Or.inr ⟨q990, _, _, _, q1000⟩) q1001 q1002 q109 q1003 ⟨by decide, by decide, rfl⟩ ⟨by omega, by omega⟩ rfl rfl hcells hslots hat2 rfl rfl hrest hls hd hB (by first | trivial | exact hat2 | exact hat | exact ⟨hat, hb3⟩ | exact ⟨hat, hatB⟩) hS (fun _ h => h.elim) (fun v H1 locs hp _ _ hS => ?_)
    obtain ⟨rfl, rfl⟩ := hp
    have hk2 := kk locs hS
    first | exact hk2 | (refine r_stk (st2 := .int (iI ((fp_str b : Nat) : Int)) :: rest) ?_ hk2; exact congrArg (fun q : Nat => Value.int (iI (q : Int)) :: rest) (by first | (unfold fp_thk; simp [h]) | (unfold fp_str; simp [h]; try omega) | (unfold fp_let; simp [h])))
  · have hat2 := hat
    rw [fp_bE_1 h] at hat2
    refine r_callU (x := ⟨"FortPlanner$Block", "strength", "()I"⟩) (C := "FortPlanner$Board") (owner := "FortPlanner$Block") (ci := 4) (cells1 := cells) (slots1 := slots) X hR (c_X7_strength G a b hbk h) w1 q991 (Or.inr ⟨q990, _, _, _, q1000⟩) q995 q996 q110 q997 ⟨by decide, by decide, rfl⟩ ⟨by omega, by omega⟩ rfl rfl hcells hslots hat2 rfl rfl hrest hls hd hB (by first | trivial | exact hat2 | exact hat | exact ⟨hat, hb3⟩ | exact ⟨hat, hatB⟩) hS (fun _ h => h.elim) (fun v H1 locs hp _ _ hS => ?_)
    obtain ⟨rfl, rfl⟩ := hp
    have hk2 := kk locs hS
    first | exact hk2 | (refine r_stk (st2 := .int (iI ((fp_str b : Nat) : Int)) :: rest) ?_ hk2; exact congrArg (fun q : Nat => Value.int (iI (q : Int)) :: rest) (by first | (unfold fp_thk; simp [h]) | (unfold fp_str; simp [h]; try omega) | (unfold fp_let; simp [h])))
  · have hat2 := hat
    rw [fp_bE_2 h] at hat2
    refine r_callU (x := ⟨"FortPlanner$Block", "strength", "()I"⟩) (C := "FortPlanner$Bag") (owner := "FortPlanner$Block") (ci := 5) (cells1 := cells) (slots1 := slots) X hR (c_X8_strength G a b hbk h) w1 q991 (Or.inr ⟨q990, _, _, _, q1000⟩) q992 q993 q111 q994 ⟨by decide, by decide, rfl⟩ ⟨by omega, by omega⟩ rfl rfl hcells hslots hat2 rfl rfl hrest hls hd hB (by first | trivial | exact hat2 | exact hat | exact ⟨hat, hb3⟩ | exact ⟨hat, hatB⟩) hS (fun _ h => h.elim) (fun v H1 locs hp _ _ hS => ?_)
    obtain ⟨rfl, rfl⟩ := hp
    have hk2 := kk locs hS
    first | exact hk2 | (refine r_stk (st2 := .int (iI ((fp_str b : Nat) : Int)) :: rest) ?_ hk2; exact congrArg (fun q : Nat => Value.int (iI (q : Int)) :: rest) (by first | (unfold fp_thk; simp [h]) | (unfold fp_str; simp [h]; try omega) | (unfold fp_let; simp [h])))
end FPB2
set_option maxHeartbeats 4000000 in
theorem c_X1_isBetween (G : fp_G) (x : Int) (l : Int) (h : Int) (hx1 : rg x) (hl1 : rg l) (hh1 : rg h) : fp_M G yX1_isBetween cX1_isBetween 3 (some .boolean) 1 12 0 0 [.int (iI (x)), .int (iI (l)), .int (iI (h))] (fun _ => True) fp_no (fun H v H' => v = some (.int (iI (bI (decide (l ≤ x ∧ x ≤ h))))) ∧ H = H') := by
  refine fp_M.intro (by decide) (Nat.le_of_ble_eq_true rfl) ?_
  intro pg en s mi ag bl mt cd rR qQ ls X hx hb hr hlk hnm hR hQ hB hM hl
  have hS : va_S (fA fp_no s.heap.size) s.heap s.heap [] := va_S.rf
  generalize ([] : List Loc) = locs at hS ⊢
  refine lv_iload_n hx hb dX1_isBetween_0 rfl (lv_at hl 0 rfl) ?_
  refine lv_iload_n hx hb dX1_isBetween_1 rfl (lv_at hl 1 rfl) ?_
  refine r_icmp_lt (tgt := 14) hx hb ⟨by omega, by omega⟩ ⟨by omega, by omega⟩ dX1_isBetween_2 (by decide) (fun c2 => ?_) (fun c2 => ?_)
  · skip
    refine lv_iconst (v := (iI ((0 : Nat) : Int))) hx hb dX1_isBetween_14 rfl ?_
    refine r_zret hx hb hr hlk hQ hS (Nat.le_of_ble_eq_true rfl) (Nat.le_of_ble_eq_true rfl) dX1_isBetween_15 rfl ?_
    exact ⟨congrArg (fun q : Bool => some (Value.int (iI (bI q)))) (Eq.symm (decide_eq_false (by omega))), rfl⟩
  · skip
    refine lv_iload_n hx hb dX1_isBetween_5 rfl (lv_at hl 0 rfl) ?_
    refine lv_iload_n hx hb dX1_isBetween_6 rfl (lv_at hl 2 rfl) ?_
    refine r_icmp_gt (tgt := 14) hx hb ⟨by omega, by omega⟩ ⟨by omega, by omega⟩ dX1_isBetween_7 (by decide) (fun c7 => ?_) (fun c7 => ?_)
    · skip
      refine lv_iconst (v := (iI ((0 : Nat) : Int))) hx hb dX1_isBetween_14 rfl ?_
      refine r_zret hx hb hr hlk hQ hS (Nat.le_of_ble_eq_true rfl) (Nat.le_of_ble_eq_true rfl) dX1_isBetween_15 rfl ?_
      exact ⟨congrArg (fun q : Bool => some (Value.int (iI (bI q)))) (Eq.symm (decide_eq_false (by omega))), rfl⟩
    · skip
      refine lv_iconst (v := (iI ((1 : Nat) : Int))) hx hb dX1_isBetween_10 rfl ?_
      refine lv_goto (tgt := 15) hx hb dX1_isBetween_11 (by decide) ?_
      refine r_zret hx hb hr hlk hQ hS (Nat.le_of_ble_eq_true rfl) (Nat.le_of_ble_eq_true rfl) dX1_isBetween_15 rfl ?_
      exact ⟨congrArg (fun q : Bool => some (Value.int (iI (bI q)))) (Eq.symm (decide_eq_true (by omega))), rfl⟩
theorem c_X5_covers (G : fp_G) (a : Nat) (b : Nat → Nat) (hbk : fp_bk b) (k : Nat) (hk : k < 12) : fp_M G yX5_covers cX5_covers 2 (some .boolean) 3 80 0 0 [.ref a, .int (iI ((k : Nat) : Int))] (fun H => fp_At G H a (fp_bE b)) fp_no (fun H v H1 => v = some (.int (iI (bI (fp_cov b k)))) ∧ H = H1) := by
  refine fp_M.intro (by decide) (Nat.le_of_ble_eq_true rfl) ?_
  intro pg en s mi ag bl mt cd rR qQ ls X hx hb hr hlk hnm hR hQ hB hM hl
  have hS : va_S (fA fp_no s.heap.size) s.heap s.heap [] := va_S.rf
  have hb3 : b 1 < 3 := hbk.2.1
  refine lv_iload_n hx hb dX5_covers_0 rfl (lv_at hl 1 rfl) ?_
  refine lv_aload_n hx hb dX5_covers_1 rfl (lv_at hl 0 rfl) ?_
  refine r_getB 1 (by decide) 2 rfl X hM hb3 q1156 dX5_covers_2 ?_
  refine lv_aload_n hx hb dX5_covers_5 rfl (lv_at hl 0 rfl) ?_
  refine b_right X hR (by first | exact hM | exact hM.1) hb3 hbk q396 (by decide) (by decide) (by decide) (by decide) (Nat.le_of_ble_eq_true rfl) hl.1 dX5_covers_6 hB hS (fun locs hS => ?_)
  refine r_callSN (cells1 := 0) (slots1 := 0) X hR (c_X1_isBetween G ((k : Nat) : Int) ((b 2 : Nat) : Int) (((b 2 : Nat) : Int) + ((b 3 : Nat) : Int) - 1) ⟨by omega, by omega⟩ ⟨by omega, by omega⟩ ⟨by omega, by omega⟩) q403 q404 q88 q405 pd_X1_isBetween ⟨by decide, by decide⟩ rfl rfl (by decide) (by decide) rfl (Nat.le_of_ble_eq_true rfl) hl.1 dX5_covers_9 hB trivial hS (fun _ h => h.elim) (fun v H1 locs hp _ _ hS => ?_)
  obtain ⟨rfl, rfl⟩ := hp
  refine r_zret hx hb hr hlk hQ hS (by decide) (by decide) dX5_covers_12 (bI_z _) ⟨?_, rfl⟩
  exact congrArg (fun q : Bool => some (Value.int (iI (bI q)))) (decide_eq_decide.mpr ⟨fun z => ⟨by omega, by omega⟩, fun z => ⟨by omega, by omega⟩⟩)
section FPB2
variable {G : fp_G} {p : Program} {e : Env} {R : Room} {s : State} {m : MethodId} {args : Array Value} {below : List Frame} {meth : Method} {c : Code} {H : Heap} {locs : List Loc} {cells slots : Nat} {Q : State → Prop}
variable {cc : ByteArray} {pc nL : Nat} {ls : Array Slot} {rest : List Value} {own : String} {A0 : Nat → Prop} {a : Nat} {b : Nat → Nat}
theorem b_covers {index fr0 lo0 mc0 ms0 : Nat} {k : Nat} (X : fp_C G p s m args c cc own nL) (hR : fp_R R fr0 lo0 mc0 ms0) (hat : fp_At G H a (fp_bE b)) (hb3 : b 1 < 3) (hbk : fp_bk b) (hk : k < 12) (w1 : Cond.methodLink own index ⟨"FortPlanner$Block", "covers", "(I)Z"⟩ ∈ lw_all) (hfr : 4 ≤ fr0) (hlo : 101 ≤ lo0) (hcells : cells ≤ mc0) (hslots : slots ≤ ms0) (hrest : (rest.map fun v => v.category).sum ≤ 8) (hls : ls.size = nL) (hd : decode cc pc = .ok (.invokevirtual index, 3)) (hB : fp_B G H) (hS : va_S (fA A0 s.heap.size) s.heap H locs)
    (kk : ∀ locs1 : List Loc, va_S (fA A0 s.heap.size) s.heap H locs1 → W p (g_l G) e R s m args below meth c H locs1 cells slots Q (F0 m (pc + 3) ls (.int (iI (bI (fp_cov b k))) :: rest))) : W p (g_l G) e R s m args below meth c H locs cells slots Q (F0 m pc ls (.int (iI ((k : Nat) : Int)) :: .ref a :: rest)) := by
  rcases (show b 1 = 0 ∨ b 1 = 1 ∨ b 1 = 2 by omega) with h | h | h
  · have hat2 := hat
    rw [fp_bE_0 h] at hat2
    refine r_callU (x := ⟨"FortPlanner$Block", "covers", "(I)Z"⟩) (C := "FortPlanner$Foam") (owner := "FortPlanner$Block") (ci := 3) (cells1 := cells) (slots1 := slots) X hR (c_X5_covers G a b hbk k hk) w1 q391 (Or.inr ⟨q390, _, _, _, q395⟩) q394 q390 q108 q395 ⟨by decide, by decide, rfl⟩ ⟨by omega, by omega⟩ rfl rfl hcells hslots hat2 rfl rfl hrest hls hd hB (by first | trivial | exact hat2 | exact hat | exact ⟨hat, hb3⟩ | exact ⟨hat, hatB⟩) hS (fun _ h => h.elim) (fun v H1 locs hp _ _ hS => ?_)
    obtain ⟨rfl, rfl⟩ := hp
    have hk2 := kk locs hS
    first | exact hk2 | (refine r_stk (st2 := .int (iI (bI (fp_cov b k))) :: rest) ?_ hk2; exact congrArg (fun q : Nat => Value.int (iI (q : Int)) :: rest) (by first | (unfold fp_thk; simp [h]) | (unfold fp_str; simp [h]; try omega) | (unfold fp_let; simp [h])))
  · have hat2 := hat
    rw [fp_bE_1 h] at hat2
    refine r_callU (x := ⟨"FortPlanner$Block", "covers", "(I)Z"⟩) (C := "FortPlanner$Board") (owner := "FortPlanner$Block") (ci := 4) (cells1 := cells) (slots1 := slots) X hR (c_X5_covers G a b hbk k hk) w1 q391 (Or.inr ⟨q390, _, _, _, q395⟩) q393 q390 q108 q395 ⟨by decide, by decide, rfl⟩ ⟨by omega, by omega⟩ rfl rfl hcells hslots hat2 rfl rfl hrest hls hd hB (by first | trivial | exact hat2 | exact hat | exact ⟨hat, hb3⟩ | exact ⟨hat, hatB⟩) hS (fun _ h => h.elim) (fun v H1 locs hp _ _ hS => ?_)
    obtain ⟨rfl, rfl⟩ := hp
    have hk2 := kk locs hS
    first | exact hk2 | (refine r_stk (st2 := .int (iI (bI (fp_cov b k))) :: rest) ?_ hk2; exact congrArg (fun q : Nat => Value.int (iI (q : Int)) :: rest) (by first | (unfold fp_thk; simp [h]) | (unfold fp_str; simp [h]; try omega) | (unfold fp_let; simp [h])))
  · have hat2 := hat
    rw [fp_bE_2 h] at hat2
    refine r_callU (x := ⟨"FortPlanner$Block", "covers", "(I)Z"⟩) (C := "FortPlanner$Bag") (owner := "FortPlanner$Block") (ci := 5) (cells1 := cells) (slots1 := slots) X hR (c_X5_covers G a b hbk k hk) w1 q391 (Or.inr ⟨q390, _, _, _, q395⟩) q392 q390 q108 q395 ⟨by decide, by decide, rfl⟩ ⟨by omega, by omega⟩ rfl rfl hcells hslots hat2 rfl rfl hrest hls hd hB (by first | trivial | exact hat2 | exact hat | exact ⟨hat, hb3⟩ | exact ⟨hat, hatB⟩) hS (fun _ h => h.elim) (fun v H1 locs hp _ _ hS => ?_)
    obtain ⟨rfl, rfl⟩ := hp
    have hk2 := kk locs hS
    first | exact hk2 | (refine r_stk (st2 := .int (iI (bI (fp_cov b k))) :: rest) ?_ hk2; exact congrArg (fun q : Nat => Value.int (iI (q : Int)) :: rest) (by first | (unfold fp_thk; simp [h]) | (unfold fp_str; simp [h]; try omega) | (unfold fp_let; simp [h])))
end FPB2
theorem c_X5_supports (G : fp_G) (a : Nat) (b : Nat → Nat) (hbk : fp_bk b) (a2 : Nat) (b2 : Nat → Nat) (hbk2 : fp_bk b2) : fp_M G yX5_supports cX5_supports 2 (some .boolean) 5 120 0 0 [.ref a, .ref a2] (fun H => fp_At G H a (fp_bE b) ∧ fp_At G H a2 (fp_bE b2)) fp_no (fun H v H1 => v = some (.int (iI (bI (fp_sup b b2)))) ∧ H = H1) := by
  refine fp_M.intro (by decide) (Nat.le_of_ble_eq_true rfl) ?_
  intro pg en s mi ag bl mt cd rR qQ ls X hx hb hr hlk hnm hR hQ hB hM hl
  have hS : va_S (fA fp_no s.heap.size) s.heap s.heap [] := va_S.rf
  have hb3 : b 1 < 3 := hbk.2.1
  have hb32 : b2 1 < 3 := hbk2.2.1
  have ht1 := fp_top_b b
  have ht2 : fp_top b ≤ 42 := by omega
  refine lv_aload_n hx hb dX5_supports_0 rfl (lv_at hl 0 rfl) ?_
  refine b_top X hR hM.1 hb3 hbk q510 (by decide) (by decide) (by decide) (by decide) (Nat.le_of_ble_eq_true rfl) hl.1 dX5_supports_1 hB hS (fun locs hS => ?_)
  refine lv_aload_n hx hb dX5_supports_4 rfl (lv_at hl 1 rfl) ?_
  refine r_getB 4 (by decide) 5 rfl X hM.2 hb32 q1164 dX5_supports_5 ?_
  refine r_icmp_ne (tgt := 37) hx hb ⟨by omega, by omega⟩ (show rg ((b2 5 : Nat) : Int) from ⟨by omega, by omega⟩) dX5_supports_8 (by decide) (fun c8 => ?_) (fun c8 => ?_)
  · skip
    refine lv_iconst (v := iI (bI false)) hx hb dX5_supports_37 rfl ?_
    exact r_zret (v := iI (bI false)) hx hb hr hlk hQ hS (by decide) (by decide) dX5_supports_38 (bI_z _) ⟨congrArg (fun q : Bool => some (Value.int (iI (bI q)))) (Eq.symm (decide_eq_false (by omega))), rfl⟩
  refine lv_aload_n hx hb dX5_supports_11 rfl (lv_at hl 0 rfl) ?_
  refine r_getB 1 (by decide) 2 rfl X hM.1 hb3 q1156 dX5_supports_12 ?_
  refine lv_aload_n hx hb dX5_supports_15 rfl (lv_at hl 1 rfl) ?_
  refine b_right X hR hM.2 hb32 hbk2 q396 (by decide) (by decide) (by decide) (by decide) (Nat.le_of_ble_eq_true rfl) hl.1 dX5_supports_16 hB hS (fun locs hS => ?_)
  refine r_icmp_gt (tgt := 37) hx hb (show rg ((b 2 : Nat) : Int) from ⟨by omega, by omega⟩) ⟨by omega, by omega⟩ dX5_supports_19 (by decide) (fun c19 => ?_) (fun c19 => ?_)
  · skip
    refine lv_iconst (v := iI (bI false)) hx hb dX5_supports_37 rfl ?_
    exact r_zret (v := iI (bI false)) hx hb hr hlk hQ hS (by decide) (by decide) dX5_supports_38 (bI_z _) ⟨congrArg (fun q : Bool => some (Value.int (iI (bI q)))) (Eq.symm (decide_eq_false (by omega))), rfl⟩
  refine lv_aload_n hx hb dX5_supports_22 rfl (lv_at hl 1 rfl) ?_
  refine r_getB 1 (by decide) 2 rfl X hM.2 hb32 q1156 dX5_supports_23 ?_
  refine lv_aload_n hx hb dX5_supports_26 rfl (lv_at hl 0 rfl) ?_
  refine b_right X hR hM.1 hb3 hbk q396 (by decide) (by decide) (by decide) (by decide) (Nat.le_of_ble_eq_true rfl) hl.1 dX5_supports_27 hB hS (fun locs hS => ?_)
  refine r_icmp_gt (tgt := 37) hx hb (show rg ((b2 2 : Nat) : Int) from ⟨by omega, by omega⟩) ⟨by omega, by omega⟩ dX5_supports_30 (by decide) (fun c30 => ?_) (fun c30 => ?_)
  · skip
    refine lv_iconst (v := iI (bI false)) hx hb dX5_supports_37 rfl ?_
    exact r_zret (v := iI (bI false)) hx hb hr hlk hQ hS (by decide) (by decide) dX5_supports_38 (bI_z _) ⟨congrArg (fun q : Bool => some (Value.int (iI (bI q)))) (Eq.symm (decide_eq_false (by omega))), rfl⟩
  refine lv_iconst (v := iI (bI true)) hx hb dX5_supports_33 rfl ?_
  refine lv_goto (tgt := 38) hx hb dX5_supports_34 (by decide) ?_
  have c8 : fp_top b = b2 5 := by omega
  have c19 : ((b 2 : Nat) : Int) ≤ ((b2 2 : Nat) : Int) + ((b2 3 : Nat) : Int) - 1 := by first | exact c19 | exact Int.not_lt.mp c19
  have c30 : ((b2 2 : Nat) : Int) ≤ ((b 2 : Nat) : Int) + ((b 3 : Nat) : Int) - 1 := by first | exact c30 | exact Int.not_lt.mp c30
  exact r_zret (v := iI (bI true)) hx hb hr hlk hQ hS (by decide) (by decide) dX5_supports_38 (bI_z _) ⟨congrArg (fun q : Bool => some (Value.int (iI (bI q)))) (Eq.symm (decide_eq_true (by omega))), rfl⟩
section FPB2
variable {G : fp_G} {p : Program} {e : Env} {R : Room} {s : State} {m : MethodId} {args : Array Value} {below : List Frame} {meth : Method} {c : Code} {H : Heap} {locs : List Loc} {cells slots : Nat} {Q : State → Prop}
variable {cc : ByteArray} {pc nL : Nat} {ls : Array Slot} {rest : List Value} {own : String} {A0 : Nat → Prop} {a : Nat} {b : Nat → Nat}
theorem b_supports {index fr0 lo0 mc0 ms0 : Nat} {a2 : Nat} {b2 : Nat → Nat} (X : fp_C G p s m args c cc own nL) (hR : fp_R R fr0 lo0 mc0 ms0) (hat : fp_At G H a (fp_bE b)) (hb3 : b 1 < 3) (hbk : fp_bk b) (hbk2 : fp_bk b2) (hatB : fp_At G H a2 (fp_bE b2)) (w1 : Cond.methodLink own index ⟨"FortPlanner$Block", "supports", "(LFortPlanner$Block;)Z"⟩ ∈ lw_all) (hfr : 6 ≤ fr0) (hlo : 141 ≤ lo0) (hcells : cells ≤ mc0) (hslots : slots ≤ ms0) (hrest : (rest.map fun v => v.category).sum ≤ 8) (hls : ls.size = nL) (hd : decode cc pc = .ok (.invokevirtual index, 3)) (hB : fp_B G H) (hS : va_S (fA A0 s.heap.size) s.heap H locs)
    (kk : ∀ locs1 : List Loc, va_S (fA A0 s.heap.size) s.heap H locs1 → W p (g_l G) e R s m args below meth c H locs1 cells slots Q (F0 m (pc + 3) ls (.int (iI (bI (fp_sup b b2))) :: rest))) : W p (g_l G) e R s m args below meth c H locs cells slots Q (F0 m pc ls (.ref a2 :: .ref a :: rest)) := by
  rcases (show b 1 = 0 ∨ b 1 = 1 ∨ b 1 = 2 by omega) with h | h | h
  · have hat2 := hat
    rw [fp_bE_0 h] at hat2
    refine r_callU (x := ⟨"FortPlanner$Block", "supports", "(LFortPlanner$Block;)Z"⟩) (C := "FortPlanner$Foam") (owner := "FortPlanner$Block") (ci := 3) (cells1 := cells) (slots1 := slots) X hR (c_X5_supports G a b hbk a2 b2 hbk2) w1 q505 (Or.inr ⟨q504, _, _, _, q509⟩) q508 q504 q108 q509 ⟨by decide, by decide, rfl⟩ ⟨by omega, by omega⟩ rfl rfl hcells hslots hat2 rfl rfl hrest hls hd hB (by first | trivial | exact hat2 | exact hat | exact ⟨hat, hb3⟩ | exact ⟨hat, hatB⟩) hS (fun _ h => h.elim) (fun v H1 locs hp _ _ hS => ?_)
    obtain ⟨rfl, rfl⟩ := hp
    have hk2 := kk locs hS
    first | exact hk2 | (refine r_stk (st2 := .int (iI (bI (fp_sup b b2))) :: rest) ?_ hk2; exact congrArg (fun q : Nat => Value.int (iI (q : Int)) :: rest) (by first | (unfold fp_thk; simp [h]) | (unfold fp_str; simp [h]; try omega) | (unfold fp_let; simp [h])))
  · have hat2 := hat
    rw [fp_bE_1 h] at hat2
    refine r_callU (x := ⟨"FortPlanner$Block", "supports", "(LFortPlanner$Block;)Z"⟩) (C := "FortPlanner$Board") (owner := "FortPlanner$Block") (ci := 4) (cells1 := cells) (slots1 := slots) X hR (c_X5_supports G a b hbk a2 b2 hbk2) w1 q505 (Or.inr ⟨q504, _, _, _, q509⟩) q507 q504 q108 q509 ⟨by decide, by decide, rfl⟩ ⟨by omega, by omega⟩ rfl rfl hcells hslots hat2 rfl rfl hrest hls hd hB (by first | trivial | exact hat2 | exact hat | exact ⟨hat, hb3⟩ | exact ⟨hat, hatB⟩) hS (fun _ h => h.elim) (fun v H1 locs hp _ _ hS => ?_)
    obtain ⟨rfl, rfl⟩ := hp
    have hk2 := kk locs hS
    first | exact hk2 | (refine r_stk (st2 := .int (iI (bI (fp_sup b b2))) :: rest) ?_ hk2; exact congrArg (fun q : Nat => Value.int (iI (q : Int)) :: rest) (by first | (unfold fp_thk; simp [h]) | (unfold fp_str; simp [h]; try omega) | (unfold fp_let; simp [h])))
  · have hat2 := hat
    rw [fp_bE_2 h] at hat2
    refine r_callU (x := ⟨"FortPlanner$Block", "supports", "(LFortPlanner$Block;)Z"⟩) (C := "FortPlanner$Bag") (owner := "FortPlanner$Block") (ci := 5) (cells1 := cells) (slots1 := slots) X hR (c_X5_supports G a b hbk a2 b2 hbk2) w1 q505 (Or.inr ⟨q504, _, _, _, q509⟩) q506 q504 q108 q509 ⟨by decide, by decide, rfl⟩ ⟨by omega, by omega⟩ rfl rfl hcells hslots hat2 rfl rfl hrest hls hd hB (by first | trivial | exact hat2 | exact hat | exact ⟨hat, hb3⟩ | exact ⟨hat, hatB⟩) hS (fun _ h => h.elim) (fun v H1 locs hp _ _ hS => ?_)
    obtain ⟨rfl, rfl⟩ := hp
    have hk2 := kk locs hS
    first | exact hk2 | (refine r_stk (st2 := .int (iI (bI (fp_sup b b2))) :: rest) ?_ hk2; exact congrArg (fun q : Nat => Value.int (iI (q : Int)) :: rest) (by first | (unfold fp_thk; simp [h]) | (unfold fp_str; simp [h]; try omega) | (unfold fp_let; simp [h])))
end FPB2
theorem c_X6_letter (G : fp_G) (a : Nat) (b : Nat → Nat) : fp_M G yX6_letter cX6_letter 1 (some .char) 1 12 0 0 [.ref a] (fun H => True) fp_no (fun H v H1 => v = some (.int (iI ((102 : Nat) : Int))) ∧ H = H1) := by
  refine fp_M.intro (by decide) (Nat.le_of_ble_eq_true rfl) ?_
  intro pg en s mi ag bl mt cd rR qQ ls X hx hb hr hlk hnm hR hQ hB hM hl
  have hS : va_S (fA fp_no s.heap.size) s.heap s.heap [] := va_S.rf
  refine lv_bipush (v := iI ((102 : Nat) : Int)) hx hb dX6_letter_0 rfl ?_
  exact r_zret hx hb hr hlk hQ hS (by decide) (by decide) dX6_letter_2 (iI_char ⟨by omega, by omega⟩) ⟨rfl, rfl⟩
theorem c_X7_letter (G : fp_G) (a : Nat) (b : Nat → Nat) : fp_M G yX7_letter cX7_letter 1 (some .char) 1 12 0 0 [.ref a] (fun H => True) fp_no (fun H v H1 => v = some (.int (iI ((98 : Nat) : Int))) ∧ H = H1) := by
  refine fp_M.intro (by decide) (Nat.le_of_ble_eq_true rfl) ?_
  intro pg en s mi ag bl mt cd rR qQ ls X hx hb hr hlk hnm hR hQ hB hM hl
  have hS : va_S (fA fp_no s.heap.size) s.heap s.heap [] := va_S.rf
  refine lv_bipush (v := iI ((98 : Nat) : Int)) hx hb dX7_letter_0 rfl ?_
  exact r_zret hx hb hr hlk hQ hS (by decide) (by decide) dX7_letter_2 (iI_char ⟨by omega, by omega⟩) ⟨rfl, rfl⟩
theorem c_X8_letter (G : fp_G) (a : Nat) (b : Nat → Nat) : fp_M G yX8_letter cX8_letter 1 (some .char) 1 12 0 0 [.ref a] (fun H => True) fp_no (fun H v H1 => v = some (.int (iI ((103 : Nat) : Int))) ∧ H = H1) := by
  refine fp_M.intro (by decide) (Nat.le_of_ble_eq_true rfl) ?_
  intro pg en s mi ag bl mt cd rR qQ ls X hx hb hr hlk hnm hR hQ hB hM hl
  have hS : va_S (fA fp_no s.heap.size) s.heap s.heap [] := va_S.rf
  refine lv_bipush (v := iI ((103 : Nat) : Int)) hx hb dX8_letter_0 rfl ?_
  exact r_zret hx hb hr hlk hQ hS (by decide) (by decide) dX8_letter_2 (iI_char ⟨by omega, by omega⟩) ⟨rfl, rfl⟩
section FPB2
variable {G : fp_G} {p : Program} {e : Env} {R : Room} {s : State} {m : MethodId} {args : Array Value} {below : List Frame} {meth : Method} {c : Code} {H : Heap} {locs : List Loc} {cells slots : Nat} {Q : State → Prop}
variable {cc : ByteArray} {pc nL : Nat} {ls : Array Slot} {rest : List Value} {own : String} {A0 : Nat → Prop} {a : Nat} {b : Nat → Nat}
theorem b_letter {index fr0 lo0 mc0 ms0 : Nat} (X : fp_C G p s m args c cc own nL) (hR : fp_R R fr0 lo0 mc0 ms0) (hat : fp_At G H a (fp_bE b)) (hb3 : b 1 < 3) (w1 : Cond.methodLink own index ⟨"FortPlanner$Block", "letter", "()C"⟩ ∈ lw_all) (hfr : 2 ≤ fr0) (hlo : 33 ≤ lo0) (hcells : cells ≤ mc0) (hslots : slots ≤ ms0) (hrest : (rest.map fun v => v.category).sum ≤ 8) (hls : ls.size = nL) (hd : decode cc pc = .ok (.invokevirtual index, 3)) (hB : fp_B G H) (hS : va_S (fA A0 s.heap.size) s.heap H locs)
    (kk : ∀ locs1 : List Loc, va_S (fA A0 s.heap.size) s.heap H locs1 → W p (g_l G) e R s m args below meth c H locs1 cells slots Q (F0 m (pc + 3) ls (.int (iI ((fp_let b : Nat) : Int)) :: rest))) : W p (g_l G) e R s m args below meth c H locs cells slots Q (F0 m pc ls (.ref a :: rest)) := by
  rcases (show b 1 = 0 ∨ b 1 = 1 ∨ b 1 = 2 by omega) with h | h | h
  · have hat2 := hat
    rw [fp_bE_0 h] at hat2
    refine r_callU (x := ⟨"FortPlanner$Block", "letter", "()C"⟩) (C := "FortPlanner$Foam") (owner := "FortPlanner$Block") (ci := 3) (cells1 := cells) (slots1 := slots) X hR (c_X6_letter G a b) w1 q1659 (Or.inl q1658) q1666 q1667 q109 q1668 ⟨by decide, by decide, rfl⟩ ⟨by omega, by omega⟩ rfl rfl hcells hslots hat2 rfl rfl hrest hls hd hB (by first | trivial | exact hat2 | exact hat | exact ⟨hat, hb3⟩ | exact ⟨hat, hatB⟩) hS (fun _ h => h.elim) (fun v H1 locs hp _ _ hS => ?_)
    obtain ⟨rfl, rfl⟩ := hp
    have hk2 := kk locs hS
    first | exact hk2 | (refine r_stk (st2 := .int (iI ((fp_let b : Nat) : Int)) :: rest) ?_ hk2; exact congrArg (fun q : Nat => Value.int (iI (q : Int)) :: rest) (by first | (unfold fp_thk; simp [h]) | (unfold fp_str; simp [h]; try omega) | (unfold fp_let; simp [h])))
  · have hat2 := hat
    rw [fp_bE_1 h] at hat2
    refine r_callU (x := ⟨"FortPlanner$Block", "letter", "()C"⟩) (C := "FortPlanner$Board") (owner := "FortPlanner$Block") (ci := 4) (cells1 := cells) (slots1 := slots) X hR (c_X7_letter G a b) w1 q1659 (Or.inl q1658) q1663 q1664 q110 q1665 ⟨by decide, by decide, rfl⟩ ⟨by omega, by omega⟩ rfl rfl hcells hslots hat2 rfl rfl hrest hls hd hB (by first | trivial | exact hat2 | exact hat | exact ⟨hat, hb3⟩ | exact ⟨hat, hatB⟩) hS (fun _ h => h.elim) (fun v H1 locs hp _ _ hS => ?_)
    obtain ⟨rfl, rfl⟩ := hp
    have hk2 := kk locs hS
    first | exact hk2 | (refine r_stk (st2 := .int (iI ((fp_let b : Nat) : Int)) :: rest) ?_ hk2; exact congrArg (fun q : Nat => Value.int (iI (q : Int)) :: rest) (by first | (unfold fp_thk; simp [h]) | (unfold fp_str; simp [h]; try omega) | (unfold fp_let; simp [h])))
  · have hat2 := hat
    rw [fp_bE_2 h] at hat2
    refine r_callU (x := ⟨"FortPlanner$Block", "letter", "()C"⟩) (C := "FortPlanner$Bag") (owner := "FortPlanner$Block") (ci := 5) (cells1 := cells) (slots1 := slots) X hR (c_X8_letter G a b) w1 q1659 (Or.inl q1658) q1660 q1661 q111 q1662 ⟨by decide, by decide, rfl⟩ ⟨by omega, by omega⟩ rfl rfl hcells hslots hat2 rfl rfl hrest hls hd hB (by first | trivial | exact hat2 | exact hat | exact ⟨hat, hb3⟩ | exact ⟨hat, hatB⟩) hS (fun _ h => h.elim) (fun v H1 locs hp _ _ hS => ?_)
    obtain ⟨rfl, rfl⟩ := hp
    have hk2 := kk locs hS
    first | exact hk2 | (refine r_stk (st2 := .int (iI ((fp_let b : Nat) : Int)) :: rest) ?_ hk2; exact congrArg (fun q : Nat => Value.int (iI (q : Int)) :: rest) (by first | (unfold fp_thk; simp [h]) | (unfold fp_str; simp [h]; try omega) | (unfold fp_let; simp [h])))
end FPB2
