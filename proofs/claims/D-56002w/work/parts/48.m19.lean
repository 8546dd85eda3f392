/-! THE MODEL: how it is made -/
/-- the model half made: its fields, and the arrays behind it -/
def fp_LI (G : fp_G) (e0 sz : Nat) (fs : List Value) (n : Nat) (F : Nat → Nat → Int) (H : Heap) : Prop := e0 < sz ∧ H.size = sz + n ∧ fp_At G H e0 (eO 0 fs) ∧ ∀ k, k < n → fp_At G H (sz + k) (eI G (fp_ml (k + 5)) (fun j => iI (F k j)))
section MI
variable {G : fp_G} {p : Program} {e : Env} {R : Room} {s : State} {m : MethodId} {args : Array Value} {below : List Frame} {meth : Method} {c : Code} {H : Heap} {locs : List Loc} {cells slots : Nat} {Q : State → Prop}
variable {cc : ByteArray} {pc nL : Nat} {ls : Array Slot} {rest : List Value} {own : String} {sz n e0 : Nat} {H0 : Heap} {fs : List Value} {F : Nat → Nat → Int}
theorem i_new {fr lo mc ms N cells1 slots1 : Nat} (ec : cells + 1 = cells1) (es : slots + N = slots1) (X : fp_C G p s m args c cc own nL) (hR : fp_R R fr lo mc ms) (hI : fp_LI G e0 sz fs n F H) (hS : va_S (fA (fun q => q = e0) sz) H0 H locs) (harr : Cond.arrayClass .int ∈ lw_all) (hn : fp_ml (n + 5) = N) (hN : N ≤ 1360) (hcells : cells1 ≤ mc) (hslots : slots1 ≤ ms) (hd : decode cc pc = .ok (.newarray .int, 2))
    (kk : ∀ (H1 : Heap), fp_LI G e0 sz fs (n + 1) (va_up F n (fun _ => 0)) H1 → va_S (fA (fun q => q = e0) sz) H0 H1 locs → W p (g_l G) e R s m args below meth c H1 locs cells1 slots1 Q (F0 m (pc + 2) ls (.ref (sz + n) :: rest))) : W p (g_l G) e R s m args below meth c H locs cells slots Q (F0 m pc ls (.int (iI (N : Int)) :: rest)) := by
  subst ec es
  have ht : (iI (N : Int)).toInt = (N : Int) := iI_toInt ⟨by omega, by omega⟩
  refine r_newarr (ty := .int) (t := 0) (N' := N) (x := (N, .inl (fun _ => iI 0))) X hR hS harr rfl rfl (fun _ h => by cases h) (fun _ => rfl) (by rw [Int32.lt_iff_toInt_lt, ht]; show ¬ (N : Int) < 0; omega) (by show (iI (N : Int)).toInt.toNat = N; rw [ht]; rfl) (by show N * 4 ≤ _; omega) hcells hslots hd (fun q H1 hq h1 hx hz hS1 => ?_)
  have hqe : q = sz + n := hq.trans hI.2.1
  subst hqe
  refine kk H1 ⟨hI.1, by rw [hz, hI.2.1, Nat.add_assoc], hI.2.2.1.ext hx, fun k hk => ?_⟩ hS1
  by_cases ek : k = n
  · subst ek
    rw [va_up_self, hn]
    exact h1
  · rw [va_up_ne _ _ ek]
    exact (hI.2.2.2 k (by omega)).ext hx
theorem i_put {index : Nat} {v : Value} (k : Nat) (X : fp_C G p s m args c cc own nL) (hI : fp_LI G e0 sz fs n F H) (hS : va_S (fA (fun q => q = e0) sz) H0 H locs) (hk : k < 23) (hfs : fs.length = 23) (hlink : Cond.fieldLink own index RX4 (TX4 k).2.1 (TX4 k).2.2.1 ∈ lw_all) (hn : narrow (tyX4 k) v = v) (hfit : fits (tyX4 k) v = true) (hfin : (TX4 k).2.2.2 = false) (hd : decode cc pc = .ok (.putfield index, 3)) (hdecl : RX4 = (TX4 k).1)
    (kk : ∀ (H1 : Heap) (locs1 : List Loc), fp_LI G e0 sz (fs.set k v) n F H1 → va_S (fA (fun q => q = e0) sz) H0 H1 locs1 → W p (g_l G) e R s m args below meth c H1 locs1 cells slots Q (F0 m (pc + 3) ls rest)) : W p (g_l G) e R s m args below meth c H locs cells slots Q (F0 m pc ls (v :: .ref e0 :: rest)) := by
  refine r_put X hI.2.2.1 hS (Or.inl rfl) rfl in_X4 tyX4_ok nmX4 k hk hlink (Or.inl hdecl) hfin hn hfit (by rw [hfs]; exact hk) hd (fun H1 locs1 h1 hz hq hS1 => ?_)
  exact kk H1 locs1 ⟨hI.1, hz.trans hI.2.1, h1, fun j hj => (hI.2.2.2 j hj).kept (hq _ (by have := hI.1; omega))⟩ hS1
theorem i_putF {index : Nat} {v : Value} (k : Nat) (X : fp_C G p s m args c cc own nL) (hI : fp_LI G e0 sz fs n F H) (hS : va_S (fA (fun q => q = e0) sz) H0 H locs) (hk : k < 23) (hfs : fs.length = 23) (hlink : Cond.fieldLink own index RX4 (TX4 k).2.1 (TX4 k).2.2.1 ∈ lw_all) (hn : narrow (tyX4 k) v = v) (hfit : fits (tyX4 k) v = true) (hfin : (TX4 k).2.2.2 = true) (hinit : meth.name = "<init>") (hown : (TX4 k).1 = own) (hd : decode cc pc = .ok (.putfield index, 3)) (hdecl : RX4 = (TX4 k).1)
    (kk : ∀ (H1 : Heap) (locs1 : List Loc), fp_LI G e0 sz (fs.set k v) n F H1 → va_S (fA (fun q => q = e0) sz) H0 H1 locs1 → W p (g_l G) e R s m args below meth c H1 locs1 cells slots Q (F0 m (pc + 3) ls rest)) : W p (g_l G) e R s m args below meth c H locs cells slots Q (F0 m pc ls (v :: .ref e0 :: rest)) := by
  refine r_putF X hI.2.2.1 hS (Or.inl rfl) rfl in_X4 tyX4_ok nmX4 k hk hlink (Or.inl hdecl) hfin hinit hown hn hfit (by rw [hfs]; exact hk) hd (fun H1 locs1 h1 hz hq hS1 => ?_)
  exact kk H1 locs1 ⟨hI.1, hz.trans hI.2.1, h1, fun j hj => (hI.2.2.2 j hj).kept (hq _ (by have := hI.1; omega))⟩ hS1
theorem i_ast {k j N : Nat} {z : Int} {g : Nat → Int} (X : fp_C G p s m args c cc own nL) (hI : fp_LI G e0 sz fs n (va_up F k g) H) (hS : va_S (fA (fun q => q = e0) sz) H0 H locs) (hk : k < n) (hn : fp_ml (k + 5) = N) (hj : j < N) (hN : N ≤ 1360) (hd : decode cc pc = .ok (.iastore, 1))
    (kk : ∀ (H1 : Heap) (locs1 : List Loc), fp_LI G e0 sz fs n (va_up F k (va_up g j z)) H1 → va_S (fA (fun q => q = e0) sz) H0 H1 locs1 → W p (g_l G) e R s m args below meth c H1 locs1 cells slots Q (F0 m (pc + 1) ls rest)) : W p (g_l G) e R s m args below meth c H locs cells slots Q (F0 m pc ls (.int (iI z) :: .int (iI (j : Int)) :: .ref (sz + k) :: rest)) := by
  have hg := hI.2.2.2 k hk
  rw [va_up_self] at hg
  refine r_iastI X hg hS (Or.inr (Nat.le_add_right _ _)) rfl (by rw [hn]; exact hj) (by rw [hn]; exact Nat.le_trans hN (by decide)) hd (fun H1 locs1 h1 hz hq hS1 => ?_)
  refine kk H1 locs1 ⟨hI.1, hz.trans hI.2.1, hI.2.2.1.kept (hq _ (by have := hI.1; omega)), fun i hi => ?_⟩ hS1
  by_cases ek : i = k
  · subst ek
    have e2 : (fun q => iI (va_up F i (va_up g j z) i q)) = upd (fun q => iI (g q)) j (iI z) := by
      funext q
      rw [va_up_self]
      unfold upd va_up
      by_cases hq : q = j
      · simp [hq]
      · simp [hq]
    rw [e2]
    exact h1
  · have h2 := hI.2.2.2 i hi
    rw [va_up_ne _ _ ek] at h2 ⊢
    exact h2.kept (hq _ (by omega))
end MI
/-- the addresses of a model made at sz -/
def fp_iad (e0 sz : Nat) : Nat → Nat := fun k => if k = 0 then e0 else if k < 5 then sz + 12 + k else sz + (k - 5)
def fp_isc : Nat → Int := fun k => if k = 2 ∨ k = 3 then -1 else 0
theorem fp_iad_MA {G : fp_G} {e0 sz : Nat} (h : e0 < sz) (hb : (g_s G).heap.size ≤ e0) : fp_MA G (fp_iad e0 sz) := by
  constructor
  · intro i j hi hj he
    unfold fp_iad at he
    by_cases i0 : i = 0
    · rw [if_pos i0] at he
      by_cases j0 : j = 0
      · omega
      · rw [if_neg j0] at he
        by_cases j5 : j < 5
        · rw [if_pos j5] at he; omega
        · rw [if_neg j5] at he; omega
    · rw [if_neg i0] at he
      by_cases j0 : j = 0
      · rw [if_pos j0] at he
        by_cases i5 : i < 5
        · rw [if_pos i5] at he; omega
        · rw [if_neg i5] at he; omega
      · rw [if_neg j0] at he
        by_cases i5 : i < 5
        · rw [if_pos i5] at he
          by_cases j5 : j < 5
          · rw [if_pos j5] at he; omega
          · rw [if_neg j5] at he; omega
        · rw [if_neg i5] at he
          by_cases j5 : j < 5
          · rw [if_pos j5] at he; omega
          · rw [if_neg j5] at he; omega
  · intro i hi
    unfold fp_iad
    by_cases i0 : i = 0
    · rw [if_pos i0]; exact hb
    · rw [if_neg i0]
      by_cases i5 : i < 5
      · rw [if_pos i5]; omega
      · rw [if_neg i5]; omega
theorem fp_LI.out {G : fp_G} {e0 sz : Nat} {fs : List Value} {F : Nat → Nat → Int} {H : Heap} (hI : fp_LI G e0 sz fs 12 F H) (hf : fs = fp_mf (fp_iad e0 sz) fp_isc) : fp_ME G (fp_iad e0 sz) fp_isc (fun k => F (k - 5)) H := by
  subst hf
  refine ⟨hI.2.2.1, fun k h5 h17 => ?_⟩
  have h := hI.2.2.2 (k - 5) (by omega)
  have e : fp_iad e0 sz k = sz + (k - 5) := by
    unfold fp_iad
    rw [if_neg (by omega), if_neg (by omega)]
  rw [e]
  rw [show k - 5 + 5 = k by omega] at h
  exact h

set_option maxHeartbeats 4000000 in
theorem c_X4_init (G : fp_G) (e0 : Nat) (hb0 : (g_s G).heap.size ≤ e0) : fp_M G yX4_init cX4_init 1 none 1 24 12 2282 [.ref e0] (fun H => fp_At G H e0 (eO 0 (fp_mf (fun _ => 0) (fun _ => 0) |>.set 5 .null |>.set 6 .null |>.set 7 .null |>.set 8 .null |>.set 9 .null |>.set 10 .null |>.set 11 .null |>.set 12 .null |>.set 13 .null |>.set 14 .null |>.set 15 .null |>.set 16 .null))) (fun q => q = e0) (fun H v H1 => v = none ∧ H1.size = H.size + 12 ∧ fp_MA G (fp_iad e0 H.size) ∧ ∃ ar : Nat → Nat → Int, fp_ME G (fp_iad e0 H.size) fp_isc ar H1 ∧ (∀ k, k < 15 → ∀ j, ar k j = 0) ∧ (∀ i, i < 39 → ar 15 i = (fp_wd i : Int)) ∧ (∀ i, i < 8 → ar 16 i = (fp_wa i : Int))) := by
  refine fp_M.intro (by decide) (Nat.le_of_ble_eq_true rfl) ?_
  intro pg en s mi ag bl mt cd rR qQ ls X hx hb hr hlk hnm hR hQ hB hM hl
  have hS : va_S (fA (fun q => q = e0) s.heap.size) s.heap s.heap [] := va_S.rf
  generalize ([] : List Loc) = locs at hS ⊢
  have hI : fp_LI G e0 s.heap.size _ 0 (fun _ _ => 0) s.heap := ⟨hM.lt, rfl, hM, fun k hk => absurd hk (Nat.not_lt_zero _)⟩
  refine lv_aload_n hx hb dX4_init_0 rfl (lv_at hl 0 rfl) ?_
  refine r_objInit X hR q2008 q132 q133 hl.1 (by decide) (by decide) dX4_init_1 ?_
  refine lv_aload_n hx hb dX4_init_4 rfl (lv_at hl 0 rfl) ?_
  refine lv_iconst (v := (iI (-1))) hx hb dX4_init_5 rfl ?_
  refine i_put 2 X hI hS (by decide) rfl q2011 rfl rfl rfl dX4_init_6 rfl (fun H locs hI hS => ?_)
  refine lv_aload_n hx hb dX4_init_9 rfl (lv_at hl 0 rfl) ?_
  refine lv_iconst (v := (iI (-1))) hx hb dX4_init_10 rfl ?_
  refine i_put 3 X hI hS (by decide) rfl q2012 rfl rfl rfl dX4_init_11 rfl (fun H locs hI hS => ?_)
  refine lv_aload_n hx hb dX4_init_14 rfl (lv_at hl 0 rfl) ?_
  refine lv_sipush (v := (iI ((170 : Nat) : Int))) hx hb dX4_init_15 rfl ?_
  refine i_new (n := 0) (N := 170) (cells1 := 1) (slots1 := 170) rfl rfl X hR hI hS q513 rfl (by decide) (by decide) (by decide) dX4_init_18 (fun H hI hS => ?_)
  refine i_putF 5 X hI hS (by decide) rfl q2014 rfl rfl rfl hnm rfl dX4_init_20 rfl (fun H locs hI hS => ?_)
  refine lv_aload_n hx hb dX4_init_23 rfl (lv_at hl 0 rfl) ?_
  refine lv_sipush (v := (iI ((170 : Nat) : Int))) hx hb dX4_init_24 rfl ?_
  refine i_new (n := 1) (N := 170) (cells1 := 2) (slots1 := 340) rfl rfl X hR hI hS q513 rfl (by decide) (by decide) (by decide) dX4_init_27 (fun H hI hS => ?_)
  refine i_putF 6 X hI hS (by decide) rfl q2015 rfl rfl rfl hnm rfl dX4_init_29 rfl (fun H locs hI hS => ?_)
  refine lv_aload_n hx hb dX4_init_32 rfl (lv_at hl 0 rfl) ?_
  refine lv_sipush (v := (iI ((170 : Nat) : Int))) hx hb dX4_init_33 rfl ?_
  refine i_new (n := 2) (N := 170) (cells1 := 3) (slots1 := 510) rfl rfl X hR hI hS q513 rfl (by decide) (by decide) (by decide) dX4_init_36 (fun H hI hS => ?_)
  refine i_putF 7 X hI hS (by decide) rfl q2016 rfl rfl rfl hnm rfl dX4_init_38 rfl (fun H locs hI hS => ?_)
  refine lv_aload_n hx hb dX4_init_41 rfl (lv_at hl 0 rfl) ?_
  refine lv_sipush (v := (iI ((170 : Nat) : Int))) hx hb dX4_init_42 rfl ?_
  refine i_new (n := 3) (N := 170) (cells1 := 4) (slots1 := 680) rfl rfl X hR hI hS q513 rfl (by decide) (by decide) (by decide) dX4_init_45 (fun H hI hS => ?_)
  refine i_putF 8 X hI hS (by decide) rfl q2017 rfl rfl rfl hnm rfl dX4_init_47 rfl (fun H locs hI hS => ?_)
  refine lv_aload_n hx hb dX4_init_50 rfl (lv_at hl 0 rfl) ?_
  refine lv_sipush (v := (iI ((1360 : Nat) : Int))) hx hb dX4_init_51 rfl ?_
  refine i_new (n := 4) (N := 1360) (cells1 := 5) (slots1 := 2040) rfl rfl X hR hI hS q513 rfl (by decide) (by decide) (by decide) dX4_init_54 (fun H hI hS => ?_)
  refine i_putF 9 X hI hS (by decide) rfl q2018 rfl rfl rfl hnm rfl dX4_init_56 rfl (fun H locs hI hS => ?_)
  refine lv_aload_n hx hb dX4_init_59 rfl (lv_at hl 0 rfl) ?_
  refine lv_bipush (v := (iI ((24 : Nat) : Int))) hx hb dX4_init_60 rfl ?_
  refine i_new (n := 5) (N := 24) (cells1 := 6) (slots1 := 2064) rfl rfl X hR hI hS q513 rfl (by decide) (by decide) (by decide) dX4_init_62 (fun H hI hS => ?_)
  refine i_putF 10 X hI hS (by decide) rfl q2019 rfl rfl rfl hnm rfl dX4_init_64 rfl (fun H locs hI hS => ?_)
  refine lv_aload_n hx hb dX4_init_67 rfl (lv_at hl 0 rfl) ?_
  refine lv_bipush (v := (iI ((24 : Nat) : Int))) hx hb dX4_init_68 rfl ?_
  refine i_new (n := 6) (N := 24) (cells1 := 7) (slots1 := 2088) rfl rfl X hR hI hS q513 rfl (by decide) (by decide) (by decide) dX4_init_70 (fun H hI hS => ?_)
  refine i_putF 11 X hI hS (by decide) rfl q2020 rfl rfl rfl hnm rfl dX4_init_72 rfl (fun H locs hI hS => ?_)
  refine lv_aload_n hx hb dX4_init_75 rfl (lv_at hl 0 rfl) ?_
  refine lv_bipush (v := (iI ((60 : Nat) : Int))) hx hb dX4_init_76 rfl ?_
  refine i_new (n := 7) (N := 60) (cells1 := 8) (slots1 := 2148) rfl rfl X hR hI hS q513 rfl (by decide) (by decide) (by decide) dX4_init_78 (fun H hI hS => ?_)
  refine i_putF 12 X hI hS (by decide) rfl q2021 rfl rfl rfl hnm rfl dX4_init_80 rfl (fun H locs hI hS => ?_)
  refine lv_aload_n hx hb dX4_init_83 rfl (lv_at hl 0 rfl) ?_
  refine lv_bipush (v := (iI ((80 : Nat) : Int))) hx hb dX4_init_84 rfl ?_
  refine i_new (n := 8) (N := 80) (cells1 := 9) (slots1 := 2228) rfl rfl X hR hI hS q513 rfl (by decide) (by decide) (by decide) dX4_init_86 (fun H hI hS => ?_)
  refine i_putF 13 X hI hS (by decide) rfl q2022 rfl rfl rfl hnm rfl dX4_init_88 rfl (fun H locs hI hS => ?_)
  refine lv_aload_n hx hb dX4_init_91 rfl (lv_at hl 0 rfl) ?_
  refine lv_bipush (v := (iI ((7 : Nat) : Int))) hx hb dX4_init_92 rfl ?_
  refine i_new (n := 9) (N := 7) (cells1 := 10) (slots1 := 2235) rfl rfl X hR hI hS q513 rfl (by decide) (by decide) (by decide) dX4_init_94 (fun H hI hS => ?_)
  refine i_putF 14 X hI hS (by decide) rfl q2023 rfl rfl rfl hnm rfl dX4_init_96 rfl (fun H locs hI hS => ?_)
  refine lv_aload_n hx hb dX4_init_99 rfl (lv_at hl 0 rfl) ?_
  refine lv_bipush (v := (iI ((39 : Nat) : Int))) hx hb dX4_init_100 rfl ?_
  refine i_new (n := 10) (N := 39) (cells1 := 11) (slots1 := 2274) rfl rfl X hR hI hS q513 rfl (by decide) (by decide) (by decide) dX4_init_102 (fun H hI hS => ?_)
  refine lv_dup hx hb dX4_init_104 rfl ?_
  refine lv_iconst (v := (iI ((0 : Nat) : Int))) hx hb dX4_init_105 rfl ?_
  refine lv_bipush (v := (iI ((102 : Nat) : Int))) hx hb dX4_init_106 rfl ?_
  refine i_ast (k := 10) (j := 0) (N := 39) (z := ((102 : Nat) : Int)) X hI hS (by decide) rfl (by decide) (by decide) dX4_init_108 (fun H locs hI hS => ?_)
  refine lv_dup hx hb dX4_init_109 rfl ?_
  refine lv_iconst (v := (iI ((1 : Nat) : Int))) hx hb dX4_init_110 rfl ?_
  refine lv_bipush (v := (iI ((111 : Nat) : Int))) hx hb dX4_init_111 rfl ?_
  refine i_ast (k := 10) (j := 1) (N := 39) (z := ((111 : Nat) : Int)) X hI hS (by decide) rfl (by decide) (by decide) dX4_init_113 (fun H locs hI hS => ?_)
  refine lv_dup hx hb dX4_init_114 rfl ?_
  refine lv_iconst (v := (iI ((2 : Nat) : Int))) hx hb dX4_init_115 rfl ?_
  refine lv_bipush (v := (iI ((97 : Nat) : Int))) hx hb dX4_init_116 rfl ?_
  refine i_ast (k := 10) (j := 2) (N := 39) (z := ((97 : Nat) : Int)) X hI hS (by decide) rfl (by decide) (by decide) dX4_init_118 (fun H locs hI hS => ?_)
  refine lv_dup hx hb dX4_init_119 rfl ?_
  refine lv_iconst (v := (iI ((3 : Nat) : Int))) hx hb dX4_init_120 rfl ?_
  refine lv_bipush (v := (iI ((109 : Nat) : Int))) hx hb dX4_init_121 rfl ?_
  refine i_ast (k := 10) (j := 3) (N := 39) (z := ((109 : Nat) : Int)) X hI hS (by decide) rfl (by decide) (by decide) dX4_init_123 (fun H locs hI hS => ?_)
  refine lv_dup hx hb dX4_init_124 rfl ?_
  refine lv_iconst (v := (iI ((4 : Nat) : Int))) hx hb dX4_init_125 rfl ?_
  refine lv_bipush (v := (iI ((32 : Nat) : Int))) hx hb dX4_init_126 rfl ?_
  refine i_ast (k := 10) (j := 4) (N := 39) (z := ((32 : Nat) : Int)) X hI hS (by decide) rfl (by decide) (by decide) dX4_init_128 (fun H locs hI hS => ?_)
  refine lv_dup hx hb dX4_init_129 rfl ?_
  refine lv_iconst (v := (iI ((5 : Nat) : Int))) hx hb dX4_init_130 rfl ?_
  refine lv_bipush (v := (iI ((98 : Nat) : Int))) hx hb dX4_init_131 rfl ?_
  refine i_ast (k := 10) (j := 5) (N := 39) (z := ((98 : Nat) : Int)) X hI hS (by decide) rfl (by decide) (by decide) dX4_init_133 (fun H locs hI hS => ?_)
  refine lv_dup hx hb dX4_init_134 rfl ?_
  refine lv_bipush (v := (iI ((6 : Nat) : Int))) hx hb dX4_init_135 rfl ?_
  refine lv_bipush (v := (iI ((111 : Nat) : Int))) hx hb dX4_init_137 rfl ?_
  refine i_ast (k := 10) (j := 6) (N := 39) (z := ((111 : Nat) : Int)) X hI hS (by decide) rfl (by decide) (by decide) dX4_init_139 (fun H locs hI hS => ?_)
  refine lv_dup hx hb dX4_init_140 rfl ?_
  refine lv_bipush (v := (iI ((7 : Nat) : Int))) hx hb dX4_init_141 rfl ?_
  refine lv_bipush (v := (iI ((97 : Nat) : Int))) hx hb dX4_init_143 rfl ?_
  refine i_ast (k := 10) (j := 7) (N := 39) (z := ((97 : Nat) : Int)) X hI hS (by decide) rfl (by decide) (by decide) dX4_init_145 (fun H locs hI hS => ?_)
  refine lv_dup hx hb dX4_init_146 rfl ?_
  refine lv_bipush (v := (iI ((8 : Nat) : Int))) hx hb dX4_init_147 rfl ?_
  refine lv_bipush (v := (iI ((114 : Nat) : Int))) hx hb dX4_init_149 rfl ?_
  refine i_ast (k := 10) (j := 8) (N := 39) (z := ((114 : Nat) : Int)) X hI hS (by decide) rfl (by decide) (by decide) dX4_init_151 (fun H locs hI hS => ?_)
  refine lv_dup hx hb dX4_init_152 rfl ?_
  refine lv_bipush (v := (iI ((9 : Nat) : Int))) hx hb dX4_init_153 rfl ?_
  refine lv_bipush (v := (iI ((100 : Nat) : Int))) hx hb dX4_init_155 rfl ?_
  refine i_ast (k := 10) (j := 9) (N := 39) (z := ((100 : Nat) : Int)) X hI hS (by decide) rfl (by decide) (by decide) dX4_init_157 (fun H locs hI hS => ?_)
  refine lv_dup hx hb dX4_init_158 rfl ?_
  refine lv_bipush (v := (iI ((10 : Nat) : Int))) hx hb dX4_init_159 rfl ?_
  refine lv_bipush (v := (iI ((32 : Nat) : Int))) hx hb dX4_init_161 rfl ?_
  refine i_ast (k := 10) (j := 10) (N := 39) (z := ((32 : Nat) : Int)) X hI hS (by decide) rfl (by decide) (by decide) dX4_init_163 (fun H locs hI hS => ?_)
  refine lv_dup hx hb dX4_init_164 rfl ?_
  refine lv_bipush (v := (iI ((11 : Nat) : Int))) hx hb dX4_init_165 rfl ?_
  refine lv_bipush (v := (iI ((98 : Nat) : Int))) hx hb dX4_init_167 rfl ?_
  refine i_ast (k := 10) (j := 11) (N := 39) (z := ((98 : Nat) : Int)) X hI hS (by decide) rfl (by decide) (by decide) dX4_init_169 (fun H locs hI hS => ?_)
  refine lv_dup hx hb dX4_init_170 rfl ?_
  refine lv_bipush (v := (iI ((12 : Nat) : Int))) hx hb dX4_init_171 rfl ?_
  refine lv_bipush (v := (iI ((97 : Nat) : Int))) hx hb dX4_init_173 rfl ?_
  refine i_ast (k := 10) (j := 12) (N := 39) (z := ((97 : Nat) : Int)) X hI hS (by decide) rfl (by decide) (by decide) dX4_init_175 (fun H locs hI hS => ?_)
  refine lv_dup hx hb dX4_init_176 rfl ?_
  refine lv_bipush (v := (iI ((13 : Nat) : Int))) hx hb dX4_init_177 rfl ?_
  refine lv_bipush (v := (iI ((103 : Nat) : Int))) hx hb dX4_init_179 rfl ?_
  refine i_ast (k := 10) (j := 13) (N := 39) (z := ((103 : Nat) : Int)) X hI hS (by decide) rfl (by decide) (by decide) dX4_init_181 (fun H locs hI hS => ?_)
  refine lv_dup hx hb dX4_init_182 rfl ?_
  refine lv_bipush (v := (iI ((14 : Nat) : Int))) hx hb dX4_init_183 rfl ?_
  refine lv_bipush (v := (iI ((32 : Nat) : Int))) hx hb dX4_init_185 rfl ?_
  refine i_ast (k := 10) (j := 14) (N := 39) (z := ((32 : Nat) : Int)) X hI hS (by decide) rfl (by decide) (by decide) dX4_init_187 (fun H locs hI hS => ?_)
  refine lv_dup hx hb dX4_init_188 rfl ?_
  refine lv_bipush (v := (iI ((15 : Nat) : Int))) hx hb dX4_init_189 rfl ?_
  refine lv_bipush (v := (iI ((114 : Nat) : Int))) hx hb dX4_init_191 rfl ?_
  refine i_ast (k := 10) (j := 15) (N := 39) (z := ((114 : Nat) : Int)) X hI hS (by decide) rfl (by decide) (by decide) dX4_init_193 (fun H locs hI hS => ?_)
  refine lv_dup hx hb dX4_init_194 rfl ?_
  refine lv_bipush (v := (iI ((16 : Nat) : Int))) hx hb dX4_init_195 rfl ?_
  refine lv_bipush (v := (iI ((101 : Nat) : Int))) hx hb dX4_init_197 rfl ?_
  refine i_ast (k := 10) (j := 16) (N := 39) (z := ((101 : Nat) : Int)) X hI hS (by decide) rfl (by decide) (by decide) dX4_init_199 (fun H locs hI hS => ?_)
  refine lv_dup hx hb dX4_init_200 rfl ?_
  refine lv_bipush (v := (iI ((17 : Nat) : Int))) hx hb dX4_init_201 rfl ?_
  refine lv_bipush (v := (iI ((109 : Nat) : Int))) hx hb dX4_init_203 rfl ?_
  refine i_ast (k := 10) (j := 17) (N := 39) (z := ((109 : Nat) : Int)) X hI hS (by decide) rfl (by decide) (by decide) dX4_init_205 (fun H locs hI hS => ?_)
  refine lv_dup hx hb dX4_init_206 rfl ?_
  refine lv_bipush (v := (iI ((18 : Nat) : Int))) hx hb dX4_init_207 rfl ?_
  refine lv_bipush (v := (iI ((111 : Nat) : Int))) hx hb dX4_init_209 rfl ?_
  refine i_ast (k := 10) (j := 18) (N := 39) (z := ((111 : Nat) : Int)) X hI hS (by decide) rfl (by decide) (by decide) dX4_init_211 (fun H locs hI hS => ?_)
  refine lv_dup hx hb dX4_init_212 rfl ?_
  refine lv_bipush (v := (iI ((19 : Nat) : Int))) hx hb dX4_init_213 rfl ?_
  refine lv_bipush (v := (iI ((118 : Nat) : Int))) hx hb dX4_init_215 rfl ?_
  refine i_ast (k := 10) (j := 19) (N := 39) (z := ((118 : Nat) : Int)) X hI hS (by decide) rfl (by decide) (by decide) dX4_init_217 (fun H locs hI hS => ?_)
  refine lv_dup hx hb dX4_init_218 rfl ?_
  refine lv_bipush (v := (iI ((20 : Nat) : Int))) hx hb dX4_init_219 rfl ?_
  refine lv_bipush (v := (iI ((101 : Nat) : Int))) hx hb dX4_init_221 rfl ?_
  refine i_ast (k := 10) (j := 20) (N := 39) (z := ((101 : Nat) : Int)) X hI hS (by decide) rfl (by decide) (by decide) dX4_init_223 (fun H locs hI hS => ?_)
  refine lv_dup hx hb dX4_init_224 rfl ?_
  refine lv_bipush (v := (iI ((21 : Nat) : Int))) hx hb dX4_init_225 rfl ?_
  refine lv_bipush (v := (iI ((32 : Nat) : Int))) hx hb dX4_init_227 rfl ?_
  refine i_ast (k := 10) (j := 21) (N := 39) (z := ((32 : Nat) : Int)) X hI hS (by decide) rfl (by decide) (by decide) dX4_init_229 (fun H locs hI hS => ?_)
  refine lv_dup hx hb dX4_init_230 rfl ?_
  refine lv_bipush (v := (iI ((22 : Nat) : Int))) hx hb dX4_init_231 rfl ?_
  refine lv_bipush (v := (iI ((122 : Nat) : Int))) hx hb dX4_init_233 rfl ?_
  refine i_ast (k := 10) (j := 22) (N := 39) (z := ((122 : Nat) : Int)) X hI hS (by decide) rfl (by decide) (by decide) dX4_init_235 (fun H locs hI hS => ?_)
  refine lv_dup hx hb dX4_init_236 rfl ?_
  refine lv_bipush (v := (iI ((23 : Nat) : Int))) hx hb dX4_init_237 rfl ?_
  refine lv_bipush (v := (iI ((111 : Nat) : Int))) hx hb dX4_init_239 rfl ?_
  refine i_ast (k := 10) (j := 23) (N := 39) (z := ((111 : Nat) : Int)) X hI hS (by decide) rfl (by decide) (by decide) dX4_init_241 (fun H locs hI hS => ?_)
  refine lv_dup hx hb dX4_init_242 rfl ?_
  refine lv_bipush (v := (iI ((24 : Nat) : Int))) hx hb dX4_init_243 rfl ?_
  refine lv_bipush (v := (iI ((110 : Nat) : Int))) hx hb dX4_init_245 rfl ?_
  refine i_ast (k := 10) (j := 24) (N := 39) (z := ((110 : Nat) : Int)) X hI hS (by decide) rfl (by decide) (by decide) dX4_init_247 (fun H locs hI hS => ?_)
  refine lv_dup hx hb dX4_init_248 rfl ?_
  refine lv_bipush (v := (iI ((25 : Nat) : Int))) hx hb dX4_init_249 rfl ?_
  refine lv_bipush (v := (iI ((101 : Nat) : Int))) hx hb dX4_init_251 rfl ?_
  refine i_ast (k := 10) (j := 25) (N := 39) (z := ((101 : Nat) : Int)) X hI hS (by decide) rfl (by decide) (by decide) dX4_init_253 (fun H locs hI hS => ?_)
  refine lv_dup hx hb dX4_init_254 rfl ?_
  refine lv_bipush (v := (iI ((26 : Nat) : Int))) hx hb dX4_init_255 rfl ?_
  refine lv_bipush (v := (iI ((32 : Nat) : Int))) hx hb dX4_init_257 rfl ?_
  refine i_ast (k := 10) (j := 26) (N := 39) (z := ((32 : Nat) : Int)) X hI hS (by decide) rfl (by decide) (by decide) dX4_init_259 (fun H locs hI hS => ?_)
  refine lv_dup hx hb dX4_init_260 rfl ?_
  refine lv_bipush (v := (iI ((27 : Nat) : Int))) hx hb dX4_init_261 rfl ?_
  refine lv_bipush (v := (iI ((116 : Nat) : Int))) hx hb dX4_init_263 rfl ?_
  refine i_ast (k := 10) (j := 27) (N := 39) (z := ((116 : Nat) : Int)) X hI hS (by decide) rfl (by decide) (by decide) dX4_init_265 (fun H locs hI hS => ?_)
  refine lv_dup hx hb dX4_init_266 rfl ?_
  refine lv_bipush (v := (iI ((28 : Nat) : Int))) hx hb dX4_init_267 rfl ?_
  refine lv_bipush (v := (iI ((111 : Nat) : Int))) hx hb dX4_init_269 rfl ?_
  refine i_ast (k := 10) (j := 28) (N := 39) (z := ((111 : Nat) : Int)) X hI hS (by decide) rfl (by decide) (by decide) dX4_init_271 (fun H locs hI hS => ?_)
  refine lv_dup hx hb dX4_init_272 rfl ?_
  refine lv_bipush (v := (iI ((29 : Nat) : Int))) hx hb dX4_init_273 rfl ?_
  refine lv_bipush (v := (iI ((114 : Nat) : Int))) hx hb dX4_init_275 rfl ?_
  refine i_ast (k := 10) (j := 29) (N := 39) (z := ((114 : Nat) : Int)) X hI hS (by decide) rfl (by decide) (by decide) dX4_init_277 (fun H locs hI hS => ?_)
  refine lv_dup hx hb dX4_init_278 rfl ?_
  refine lv_bipush (v := (iI ((30 : Nat) : Int))) hx hb dX4_init_279 rfl ?_
  refine lv_bipush (v := (iI ((99 : Nat) : Int))) hx hb dX4_init_281 rfl ?_
  refine i_ast (k := 10) (j := 30) (N := 39) (z := ((99 : Nat) : Int)) X hI hS (by decide) rfl (by decide) (by decide) dX4_init_283 (fun H locs hI hS => ?_)
  refine lv_dup hx hb dX4_init_284 rfl ?_
  refine lv_bipush (v := (iI ((31 : Nat) : Int))) hx hb dX4_init_285 rfl ?_
  refine lv_bipush (v := (iI ((104 : Nat) : Int))) hx hb dX4_init_287 rfl ?_
  refine i_ast (k := 10) (j := 31) (N := 39) (z := ((104 : Nat) : Int)) X hI hS (by decide) rfl (by decide) (by decide) dX4_init_289 (fun H locs hI hS => ?_)
  refine lv_dup hx hb dX4_init_290 rfl ?_
  refine lv_bipush (v := (iI ((32 : Nat) : Int))) hx hb dX4_init_291 rfl ?_
  refine lv_bipush (v := (iI ((32 : Nat) : Int))) hx hb dX4_init_293 rfl ?_
  refine i_ast (k := 10) (j := 32) (N := 39) (z := ((32 : Nat) : Int)) X hI hS (by decide) rfl (by decide) (by decide) dX4_init_295 (fun H locs hI hS => ?_)
  refine lv_dup hx hb dX4_init_296 rfl ?_
  refine lv_bipush (v := (iI ((33 : Nat) : Int))) hx hb dX4_init_297 rfl ?_
  refine lv_bipush (v := (iI ((115 : Nat) : Int))) hx hb dX4_init_299 rfl ?_
  refine i_ast (k := 10) (j := 33) (N := 39) (z := ((115 : Nat) : Int)) X hI hS (by decide) rfl (by decide) (by decide) dX4_init_301 (fun H locs hI hS => ?_)
  refine lv_dup hx hb dX4_init_302 rfl ?_
  refine lv_bipush (v := (iI ((34 : Nat) : Int))) hx hb dX4_init_303 rfl ?_
  refine lv_bipush (v := (iI ((110 : Nat) : Int))) hx hb dX4_init_305 rfl ?_
  refine i_ast (k := 10) (j := 34) (N := 39) (z := ((110 : Nat) : Int)) X hI hS (by decide) rfl (by decide) (by decide) dX4_init_307 (fun H locs hI hS => ?_)
  refine lv_dup hx hb dX4_init_308 rfl ?_
  refine lv_bipush (v := (iI ((35 : Nat) : Int))) hx hb dX4_init_309 rfl ?_
  refine lv_bipush (v := (iI ((117 : Nat) : Int))) hx hb dX4_init_311 rfl ?_
  refine i_ast (k := 10) (j := 35) (N := 39) (z := ((117 : Nat) : Int)) X hI hS (by decide) rfl (by decide) (by decide) dX4_init_313 (fun H locs hI hS => ?_)
  refine lv_dup hx hb dX4_init_314 rfl ?_
  refine lv_bipush (v := (iI ((36 : Nat) : Int))) hx hb dX4_init_315 rfl ?_
  refine lv_bipush (v := (iI ((102 : Nat) : Int))) hx hb dX4_init_317 rfl ?_
  refine i_ast (k := 10) (j := 36) (N := 39) (z := ((102 : Nat) : Int)) X hI hS (by decide) rfl (by decide) (by decide) dX4_init_319 (fun H locs hI hS => ?_)
  refine lv_dup hx hb dX4_init_320 rfl ?_
  refine lv_bipush (v := (iI ((37 : Nat) : Int))) hx hb dX4_init_321 rfl ?_
  refine lv_bipush (v := (iI ((102 : Nat) : Int))) hx hb dX4_init_323 rfl ?_
  refine i_ast (k := 10) (j := 37) (N := 39) (z := ((102 : Nat) : Int)) X hI hS (by decide) rfl (by decide) (by decide) dX4_init_325 (fun H locs hI hS => ?_)
  refine lv_dup hx hb dX4_init_326 rfl ?_
  refine lv_bipush (v := (iI ((38 : Nat) : Int))) hx hb dX4_init_327 rfl ?_
  refine lv_bipush (v := (iI ((32 : Nat) : Int))) hx hb dX4_init_329 rfl ?_
  refine i_ast (k := 10) (j := 38) (N := 39) (z := ((32 : Nat) : Int)) X hI hS (by decide) rfl (by decide) (by decide) dX4_init_331 (fun H locs hI hS => ?_)
  refine i_putF 15 X hI hS (by decide) rfl q2024 rfl rfl rfl hnm rfl dX4_init_332 rfl (fun H locs hI hS => ?_)
  refine lv_aload_n hx hb dX4_init_335 rfl (lv_at hl 0 rfl) ?_
  refine lv_bipush (v := (iI ((8 : Nat) : Int))) hx hb dX4_init_336 rfl ?_
  refine i_new (n := 11) (N := 8) (cells1 := 12) (slots1 := 2282) rfl rfl X hR hI hS q513 rfl (by decide) (by decide) (by decide) dX4_init_338 (fun H hI hS => ?_)
  refine lv_dup hx hb dX4_init_340 rfl ?_
  refine lv_iconst (v := (iI ((0 : Nat) : Int))) hx hb dX4_init_341 rfl ?_
  refine lv_iconst (v := (iI ((0 : Nat) : Int))) hx hb dX4_init_342 rfl ?_
  refine i_ast (k := 11) (j := 0) (N := 8) (z := ((0 : Nat) : Int)) X hI hS (by decide) rfl (by decide) (by decide) dX4_init_343 (fun H locs hI hS => ?_)
  refine lv_dup hx hb dX4_init_344 rfl ?_
  refine lv_iconst (v := (iI ((1 : Nat) : Int))) hx hb dX4_init_345 rfl ?_
  refine lv_iconst (v := (iI ((5 : Nat) : Int))) hx hb dX4_init_346 rfl ?_
  refine i_ast (k := 11) (j := 1) (N := 8) (z := ((5 : Nat) : Int)) X hI hS (by decide) rfl (by decide) (by decide) dX4_init_347 (fun H locs hI hS => ?_)
  refine lv_dup hx hb dX4_init_348 rfl ?_
  refine lv_iconst (v := (iI ((2 : Nat) : Int))) hx hb dX4_init_349 rfl ?_
  refine lv_bipush (v := (iI ((11 : Nat) : Int))) hx hb dX4_init_350 rfl ?_
  refine i_ast (k := 11) (j := 2) (N := 8) (z := ((11 : Nat) : Int)) X hI hS (by decide) rfl (by decide) (by decide) dX4_init_352 (fun H locs hI hS => ?_)
  refine lv_dup hx hb dX4_init_353 rfl ?_
  refine lv_iconst (v := (iI ((3 : Nat) : Int))) hx hb dX4_init_354 rfl ?_
  refine lv_bipush (v := (iI ((15 : Nat) : Int))) hx hb dX4_init_355 rfl ?_
  refine i_ast (k := 11) (j := 3) (N := 8) (z := ((15 : Nat) : Int)) X hI hS (by decide) rfl (by decide) (by decide) dX4_init_357 (fun H locs hI hS => ?_)
  refine lv_dup hx hb dX4_init_358 rfl ?_
  refine lv_iconst (v := (iI ((4 : Nat) : Int))) hx hb dX4_init_359 rfl ?_
  refine lv_bipush (v := (iI ((22 : Nat) : Int))) hx hb dX4_init_360 rfl ?_
  refine i_ast (k := 11) (j := 4) (N := 8) (z := ((22 : Nat) : Int)) X hI hS (by decide) rfl (by decide) (by decide) dX4_init_362 (fun H locs hI hS => ?_)
  refine lv_dup hx hb dX4_init_363 rfl ?_
  refine lv_iconst (v := (iI ((5 : Nat) : Int))) hx hb dX4_init_364 rfl ?_
  refine lv_bipush (v := (iI ((27 : Nat) : Int))) hx hb dX4_init_365 rfl ?_
  refine i_ast (k := 11) (j := 5) (N := 8) (z := ((27 : Nat) : Int)) X hI hS (by decide) rfl (by decide) (by decide) dX4_init_367 (fun H locs hI hS => ?_)
  refine lv_dup hx hb dX4_init_368 rfl ?_
  refine lv_bipush (v := (iI ((6 : Nat) : Int))) hx hb dX4_init_369 rfl ?_
  refine lv_bipush (v := (iI ((33 : Nat) : Int))) hx hb dX4_init_371 rfl ?_
  refine i_ast (k := 11) (j := 6) (N := 8) (z := ((33 : Nat) : Int)) X hI hS (by decide) rfl (by decide) (by decide) dX4_init_373 (fun H locs hI hS => ?_)
  refine lv_dup hx hb dX4_init_374 rfl ?_
  refine lv_bipush (v := (iI ((7 : Nat) : Int))) hx hb dX4_init_375 rfl ?_
  refine lv_bipush (v := (iI ((39 : Nat) : Int))) hx hb dX4_init_377 rfl ?_
  refine i_ast (k := 11) (j := 7) (N := 8) (z := ((39 : Nat) : Int)) X hI hS (by decide) rfl (by decide) (by decide) dX4_init_379 (fun H locs hI hS => ?_)
  refine i_putF 16 X hI hS (by decide) rfl q2025 rfl rfl rfl hnm rfl dX4_init_380 rfl (fun H locs hI hS => ?_)
  refine r_vret hx hb hr hlk hQ hS (by decide) (by decide) dX4_init_383 ?_
  refine ⟨rfl, hI.2.1, fp_iad_MA hI.1 hb0, _, hI.out rfl, ?_, ?_, ?_⟩
  · intro k hk j
    rcases (show k = 0 ∨ k = 1 ∨ k = 2 ∨ k = 3 ∨ k = 4 ∨ k = 5 ∨ k = 6 ∨ k = 7 ∨ k = 8 ∨ k = 9 ∨ k = 10 ∨ k = 11 ∨ k = 12 ∨ k = 13 ∨ k = 14 by omega) with rfl | rfl | rfl | rfl | rfl | rfl | rfl | rfl | rfl | rfl | rfl | rfl | rfl | rfl | rfl <;> rfl
  · intro i hi
    rcases (show i = 0 ∨ i = 1 ∨ i = 2 ∨ i = 3 ∨ i = 4 ∨ i = 5 ∨ i = 6 ∨ i = 7 ∨ i = 8 ∨ i = 9 ∨ i = 10 ∨ i = 11 ∨ i = 12 ∨ i = 13 ∨ i = 14 ∨ i = 15 ∨ i = 16 ∨ i = 17 ∨ i = 18 ∨ i = 19 ∨ i = 20 ∨ i = 21 ∨ i = 22 ∨ i = 23 ∨ i = 24 ∨ i = 25 ∨ i = 26 ∨ i = 27 ∨ i = 28 ∨ i = 29 ∨ i = 30 ∨ i = 31 ∨ i = 32 ∨ i = 33 ∨ i = 34 ∨ i = 35 ∨ i = 36 ∨ i = 37 ∨ i = 38 by omega) with rfl | rfl | rfl | rfl | rfl | rfl | rfl | rfl | rfl | rfl | rfl | rfl | rfl | rfl | rfl | rfl | rfl | rfl | rfl | rfl | rfl | rfl | rfl | rfl | rfl | rfl | rfl | rfl | rfl | rfl | rfl | rfl | rfl | rfl | rfl | rfl | rfl | rfl | rfl <;> rfl
  · intro i hi
    rcases (show i = 0 ∨ i = 1 ∨ i = 2 ∨ i = 3 ∨ i = 4 ∨ i = 5 ∨ i = 6 ∨ i = 7 by omega) with rfl | rfl | rfl | rfl | rfl | rfl | rfl | rfl <;> rfl
