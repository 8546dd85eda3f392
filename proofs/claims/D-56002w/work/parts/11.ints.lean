/-! INTS: whole numbers in the machine's words, rows over them -/
def iI (z : Int) : Int32 := Int32.ofInt z
abbrev rg (z : Int) : Prop := -2147483648 ≤ z ∧ z < 2147483648
theorem iI_toInt {z : Int} (h : rg z) : (iI z).toInt = z := by
  unfold iI
  rw [Int32.toInt_ofInt]
  have h2 : ((Int32.size : Nat) : Int) = 4294967296 := rfl
  exact Int.bmod_eq_of_le (by omega) (by omega)
theorem iI_of (x : Int32) : x = iI x.toInt := (Int32.ofInt_toInt x).symm
theorem rg_of (x : Int32) : rg x.toInt := ⟨Int32.le_toInt x, Int32.toInt_lt x⟩
theorem iI_add (a b : Int) : iI a + iI b = iI (a + b) := (Int32.ofInt_add a b).symm
theorem iI_sub (a b : Int) : iI a - iI b = iI (a - b) := (Int32.ofInt_sub a b).symm
theorem iI_mul (a b : Int) : iI a * iI b = iI (a * b) := (Int32.ofInt_mul a b).symm
theorem iI_neg (a : Int) : -iI a = iI (-a) := (Int32.ofInt_neg a).symm
theorem iI_le {a b : Int} (ha : rg a) (hb : rg b) : iI a ≤ iI b ↔ a ≤ b := by rw [Int32.le_iff_toInt_le, iI_toInt ha, iI_toInt hb]
theorem iI_lt {a b : Int} (ha : rg a) (hb : rg b) : iI a < iI b ↔ a < b := by rw [Int32.lt_iff_toInt_lt, iI_toInt ha, iI_toInt hb]
theorem iI_eq {a b : Int} (ha : rg a) (hb : rg b) : iI a = iI b ↔ a = b := by rw [← Int32.toInt_inj, iI_toInt ha, iI_toInt hb]
theorem iI_0 : (0 : Int32) = iI 0 := rfl
theorem rg_0 : rg 0 := by decide
theorem iI_nat (n : Nat) : Int32.ofNat n = iI (n : Int) := rfl
theorem iI_div {a b : Int} (ha : 0 ≤ a) (ha2 : a < 2147483648) (hb : 0 < b) (hb2 : b < 2147483648) : iI a / iI b = iI (a / b) := by
  apply Int32.toInt_inj.mp
  have h0 : 0 ≤ a / b := Int.ediv_nonneg ha (by omega)
  have h1 : a / b ≤ a := Int.ediv_le_self b ha
  rw [Int32.toInt_div, iI_toInt ⟨by omega, ha2⟩, iI_toInt ⟨by omega, hb2⟩, iI_toInt ⟨by omega, by omega⟩, Int.tdiv_eq_ediv_of_nonneg ha]
  exact Int.bmod_eq_of_le (by omega) (by omega)
theorem iI_rem {a b : Int} (ha : 0 ≤ a) (ha2 : a < 2147483648) (hb : 0 < b) (hb2 : b < 2147483648) : iI a - iI a / iI b * iI b = iI (a % b) := by
  rw [iI_div ha ha2 hb hb2, iI_mul, iI_sub, Int.emod_def, Int.mul_comm]
theorem iI_cl {z : Int} {j : Nat} (hz : z = (j : Int)) (hj : j < 2147483648) : (iI z).toNatClampNeg = j := by
  show (iI z).toInt.toNat = j
  rw [iI_toInt ⟨by omega, by omega⟩]
  omega
theorem iI_in {z : Int} {j n : Nat} (hz : z = (j : Int)) (hj : j < n) (hn : n ≤ 2147483648) : vp_in (iI z) n := by
  unfold vp_in
  rw [iI_cl hz (by omega), iI_0, iI_lt ⟨by omega, by omega⟩ rg_0]
  omega
/-- a truth value as a number -/
def bI (b : Bool) : Int := if b then 1 else 0
theorem bI_t : bI true = 1 := rfl
theorem bI_f : bI false = 0 := rfl
theorem bI_rg (b : Bool) : rg (bI b) := by cases b <;> decide
theorem bI_eq0 (b : Bool) : iI (bI b) = 0 ↔ b = false := by cases b <;> decide
theorem bI_z (b : Bool) : narrow .boolean (.int (iI (bI b))) = .int (iI (bI b)) := by cases b <;> rfl
theorem bI_nar (b : Bool) : vp_nar .boolean (iI (bI b)) = iI (bI b) := by cases b <;> rfl
theorem iI_char {z : Int} (h : 0 ≤ z ∧ z < 65536) : narrow .char (.int (iI z)) = .int (iI z) := by
  have h2 := (pk_charN (q := z.toNat) (by omega)).1
  have e : nI z.toNat = iI z := by
    show Int32.ofNat z.toNat = Int32.ofInt z
    rw [show z = ((z.toNat : Nat) : Int) by omega]
    rfl
  rw [e] at h2
  exact h2
section FPI
variable {G : fp_G} {p : Program} {l : Launch} {e : Env} {R : Room} {s : State} {m : MethodId} {args : Array Value} {below : List Frame} {meth : Method} {c : Code} {H : Heap} {locs : List Loc} {cells slots : Nat} {Q : State → Prop}
variable {cc : ByteArray} {pc nL : Nat} {ls : Array Slot} {rest : List Value} {own : String} {A0 : Nat → Prop} {mc0 ms0 : Nat} {Post0 : Heap → Option Value → Heap → Prop} {H0 : Heap}
theorem r_iadd {a b : Int} (hx : p.tables.exec = Jvm.exec) (hb : c.code = cc) (hd : decode cc pc = .ok (.iadd, 1)) (k : W p l e R s m args below meth c H locs cells slots Q (F0 m (pc + 1) ls (.int (iI (a + b)) :: rest))) : W p l e R s m args below meth c H locs cells slots Q (F0 m pc ls (.int (iI b) :: .int (iI a) :: rest)) := by
  refine lv_iadd hx hb hd ?_
  rw [iI_add]
  exact k
theorem r_isub {a b : Int} (hx : p.tables.exec = Jvm.exec) (hb : c.code = cc) (hd : decode cc pc = .ok (.isub, 1)) (k : W p l e R s m args below meth c H locs cells slots Q (F0 m (pc + 1) ls (.int (iI (a - b)) :: rest))) : W p l e R s m args below meth c H locs cells slots Q (F0 m pc ls (.int (iI b) :: .int (iI a) :: rest)) := by
  refine lv_isub hx hb hd ?_
  rw [iI_sub]
  exact k
theorem r_imul {a b : Int} (hx : p.tables.exec = Jvm.exec) (hb : c.code = cc) (hd : decode cc pc = .ok (.imul, 1)) (k : W p l e R s m args below meth c H locs cells slots Q (F0 m (pc + 1) ls (.int (iI (a * b)) :: rest))) : W p l e R s m args below meth c H locs cells slots Q (F0 m pc ls (.int (iI b) :: .int (iI a) :: rest)) := by
  refine lv_imul hx hb hd ?_
  rw [iI_mul]
  exact k
theorem r_ineg {a : Int} (hx : p.tables.exec = Jvm.exec) (hb : c.code = cc) (hd : decode cc pc = .ok (.ineg, 1)) (k : W p l e R s m args below meth c H locs cells slots Q (F0 m (pc + 1) ls (.int (iI (-a)) :: rest))) : W p l e R s m args below meth c H locs cells slots Q (F0 m pc ls (.int (iI a) :: rest)) := by
  refine lv_ineg hx hb hd ?_
  rw [iI_neg]
  exact k
theorem r_idiv {a b : Int} (hx : p.tables.exec = Jvm.exec) (hb : c.code = cc) (hr : 0 ≤ a ∧ a < 2147483648 ∧ 0 < b ∧ b < 2147483648) (hd : decode cc pc = .ok (.idiv, 1)) (k : W p l e R s m args below meth c H locs cells slots Q (F0 m (pc + 1) ls (.int (iI (a / b)) :: rest))) : W p l e R s m args below meth c H locs cells slots Q (F0 m pc ls (.int (iI b) :: .int (iI a) :: rest)) := by
  refine lv_idiv hx hb hd ?_ ?_
  · rw [iI_0, iI_eq ⟨by omega, by omega⟩ rg_0]
    omega
  · rw [iI_div hr.1 hr.2.1 hr.2.2.1 hr.2.2.2]
    exact k
theorem r_irem {a b : Int} (hx : p.tables.exec = Jvm.exec) (hb : c.code = cc) (hr : 0 ≤ a ∧ a < 2147483648 ∧ 0 < b ∧ b < 2147483648) (hd : decode cc pc = .ok (.irem, 1)) (k : W p l e R s m args below meth c H locs cells slots Q (F0 m (pc + 1) ls (.int (iI (a % b)) :: rest))) : W p l e R s m args below meth c H locs cells slots Q (F0 m pc ls (.int (iI b) :: .int (iI a) :: rest)) := by
  refine lv_irem hx hb hd ?_ ?_
  · rw [iI_0, iI_eq ⟨by omega, by omega⟩ rg_0]
    omega
  · rw [iI_rem hr.1 hr.2.1 hr.2.2.1 hr.2.2.2]
    exact k
theorem r_set {x y : Value} (h : x = y) (k : W p l e R s m args below meth c H locs cells slots Q (F0 m pc ls (y :: rest))) : W p l e R s m args below meth c H locs cells slots Q (F0 m pc ls (x :: rest)) := h ▸ k
theorem r_icmp_eq {a b : Int} {off : Int} {tgt : Nat} (hx : p.tables.exec = Jvm.exec) (hb : c.code = cc) (ha : rg a) (hb2 : rg b) (hd : decode cc pc = .ok (.if_icmp .eq off, 3)) (ht : (pc : Int) + off = (tgt : Int)) (kt : a = b → W p l e R s m args below meth c H locs cells slots Q (F0 m tgt ls (rest))) (kf : ¬ a = b → W p l e R s m args below meth c H locs cells slots Q (F0 m (pc + 3) ls (rest))) : W p l e R s m args below meth c H locs cells slots Q (F0 m pc ls (.int (iI b) :: .int (iI a) :: rest)) := by
  refine lv_icmp_eq hx hb hd ht (fun h => kt ?_) (fun h => kf ?_)
  · have h1 := iI_eq ha hb2
    have h2 := iI_le ha hb2
    have h3 := iI_le hb2 ha
    have h4 := iI_lt ha hb2
    have h5 := iI_lt hb2 ha
    first | exact h1.mp h | exact h2.mp h | exact h3.mp h | exact h4.mp h | exact h5.mp h | exact fun z => h (h1.mpr z)
  · have h1 := iI_eq ha hb2
    have h2 := iI_le ha hb2
    have h3 := iI_le hb2 ha
    have h4 := iI_lt ha hb2
    have h5 := iI_lt hb2 ha
    first | exact h1.mp h | exact fun z => h (h1.mpr z) | exact h1.mp (Classical.not_not.mp h) | exact Int.not_lt.mp (fun z => h (h4.mpr z)) | exact Int.not_lt.mp (fun z => h (h5.mpr z)) | exact Int.not_le.mp (fun z => h (h2.mpr z)) | exact Int.not_le.mp (fun z => h (h3.mpr z))
theorem r_icmp_ne {a b : Int} {off : Int} {tgt : Nat} (hx : p.tables.exec = Jvm.exec) (hb : c.code = cc) (ha : rg a) (hb2 : rg b) (hd : decode cc pc = .ok (.if_icmp .ne off, 3)) (ht : (pc : Int) + off = (tgt : Int)) (kt : ¬ a = b → W p l e R s m args below meth c H locs cells slots Q (F0 m tgt ls (rest))) (kf : a = b → W p l e R s m args below meth c H locs cells slots Q (F0 m (pc + 3) ls (rest))) : W p l e R s m args below meth c H locs cells slots Q (F0 m pc ls (.int (iI b) :: .int (iI a) :: rest)) := by
  refine lv_icmp_ne hx hb hd ht (fun h => kt ?_) (fun h => kf ?_)
  · have h1 := iI_eq ha hb2
    have h2 := iI_le ha hb2
    have h3 := iI_le hb2 ha
    have h4 := iI_lt ha hb2
    have h5 := iI_lt hb2 ha
    first | exact h1.mp h | exact h2.mp h | exact h3.mp h | exact h4.mp h | exact h5.mp h | exact fun z => h (h1.mpr z)
  · have h1 := iI_eq ha hb2
    have h2 := iI_le ha hb2
    have h3 := iI_le hb2 ha
    have h4 := iI_lt ha hb2
    have h5 := iI_lt hb2 ha
    first | exact h1.mp h | exact fun z => h (h1.mpr z) | exact h1.mp (Classical.not_not.mp h) | exact Int.not_lt.mp (fun z => h (h4.mpr z)) | exact Int.not_lt.mp (fun z => h (h5.mpr z)) | exact Int.not_le.mp (fun z => h (h2.mpr z)) | exact Int.not_le.mp (fun z => h (h3.mpr z))
theorem r_icmp_lt {a b : Int} {off : Int} {tgt : Nat} (hx : p.tables.exec = Jvm.exec) (hb : c.code = cc) (ha : rg a) (hb2 : rg b) (hd : decode cc pc = .ok (.if_icmp .lt off, 3)) (ht : (pc : Int) + off = (tgt : Int)) (kt : a < b → W p l e R s m args below meth c H locs cells slots Q (F0 m tgt ls (rest))) (kf : b ≤ a → W p l e R s m args below meth c H locs cells slots Q (F0 m (pc + 3) ls (rest))) : W p l e R s m args below meth c H locs cells slots Q (F0 m pc ls (.int (iI b) :: .int (iI a) :: rest)) := by
  refine lv_icmp_lt hx hb hd ht (fun h => kt ?_) (fun h => kf ?_)
  · have h1 := iI_eq ha hb2
    have h2 := iI_le ha hb2
    have h3 := iI_le hb2 ha
    have h4 := iI_lt ha hb2
    have h5 := iI_lt hb2 ha
    first | exact h1.mp h | exact h2.mp h | exact h3.mp h | exact h4.mp h | exact h5.mp h | exact fun z => h (h1.mpr z)
  · have h1 := iI_eq ha hb2
    have h2 := iI_le ha hb2
    have h3 := iI_le hb2 ha
    have h4 := iI_lt ha hb2
    have h5 := iI_lt hb2 ha
    first | exact h1.mp h | exact fun z => h (h1.mpr z) | exact h1.mp (Classical.not_not.mp h) | exact Int.not_lt.mp (fun z => h (h4.mpr z)) | exact Int.not_lt.mp (fun z => h (h5.mpr z)) | exact Int.not_le.mp (fun z => h (h2.mpr z)) | exact Int.not_le.mp (fun z => h (h3.mpr z))
theorem r_icmp_ge {a b : Int} {off : Int} {tgt : Nat} (hx : p.tables.exec = Jvm.exec) (hb : c.code = cc) (ha : rg a) (hb2 : rg b) (hd : decode cc pc = .ok (.if_icmp .ge off, 3)) (ht : (pc : Int) + off = (tgt : Int)) (kt : b ≤ a → W p l e R s m args below meth c H locs cells slots Q (F0 m tgt ls (rest))) (kf : a < b → W p l e R s m args below meth c H locs cells slots Q (F0 m (pc + 3) ls (rest))) : W p l e R s m args below meth c H locs cells slots Q (F0 m pc ls (.int (iI b) :: .int (iI a) :: rest)) := by
  refine lv_icmp_ge hx hb hd ht (fun h => kt ?_) (fun h => kf ?_)
  · have h1 := iI_eq ha hb2
    have h2 := iI_le ha hb2
    have h3 := iI_le hb2 ha
    have h4 := iI_lt ha hb2
    have h5 := iI_lt hb2 ha
    first | exact h1.mp h | exact h2.mp h | exact h3.mp h | exact h4.mp h | exact h5.mp h | exact fun z => h (h1.mpr z)
  · have h1 := iI_eq ha hb2
    have h2 := iI_le ha hb2
    have h3 := iI_le hb2 ha
    have h4 := iI_lt ha hb2
    have h5 := iI_lt hb2 ha
    first | exact h1.mp h | exact fun z => h (h1.mpr z) | exact h1.mp (Classical.not_not.mp h) | exact Int.not_lt.mp (fun z => h (h4.mpr z)) | exact Int.not_lt.mp (fun z => h (h5.mpr z)) | exact Int.not_le.mp (fun z => h (h2.mpr z)) | exact Int.not_le.mp (fun z => h (h3.mpr z))
theorem r_icmp_gt {a b : Int} {off : Int} {tgt : Nat} (hx : p.tables.exec = Jvm.exec) (hb : c.code = cc) (ha : rg a) (hb2 : rg b) (hd : decode cc pc = .ok (.if_icmp .gt off, 3)) (ht : (pc : Int) + off = (tgt : Int)) (kt : b < a → W p l e R s m args below meth c H locs cells slots Q (F0 m tgt ls (rest))) (kf : a ≤ b → W p l e R s m args below meth c H locs cells slots Q (F0 m (pc + 3) ls (rest))) : W p l e R s m args below meth c H locs cells slots Q (F0 m pc ls (.int (iI b) :: .int (iI a) :: rest)) := by
  refine lv_icmp_gt hx hb hd ht (fun h => kt ?_) (fun h => kf ?_)
  · have h1 := iI_eq ha hb2
    have h2 := iI_le ha hb2
    have h3 := iI_le hb2 ha
    have h4 := iI_lt ha hb2
    have h5 := iI_lt hb2 ha
    first | exact h1.mp h | exact h2.mp h | exact h3.mp h | exact h4.mp h | exact h5.mp h | exact fun z => h (h1.mpr z)
  · have h1 := iI_eq ha hb2
    have h2 := iI_le ha hb2
    have h3 := iI_le hb2 ha
    have h4 := iI_lt ha hb2
    have h5 := iI_lt hb2 ha
    first | exact h1.mp h | exact fun z => h (h1.mpr z) | exact h1.mp (Classical.not_not.mp h) | exact Int.not_lt.mp (fun z => h (h4.mpr z)) | exact Int.not_lt.mp (fun z => h (h5.mpr z)) | exact Int.not_le.mp (fun z => h (h2.mpr z)) | exact Int.not_le.mp (fun z => h (h3.mpr z))
theorem r_icmp_le {a b : Int} {off : Int} {tgt : Nat} (hx : p.tables.exec = Jvm.exec) (hb : c.code = cc) (ha : rg a) (hb2 : rg b) (hd : decode cc pc = .ok (.if_icmp .le off, 3)) (ht : (pc : Int) + off = (tgt : Int)) (kt : a ≤ b → W p l e R s m args below meth c H locs cells slots Q (F0 m tgt ls (rest))) (kf : b < a → W p l e R s m args below meth c H locs cells slots Q (F0 m (pc + 3) ls (rest))) : W p l e R s m args below meth c H locs cells slots Q (F0 m pc ls (.int (iI b) :: .int (iI a) :: rest)) := by
  refine lv_icmp_le hx hb hd ht (fun h => kt ?_) (fun h => kf ?_)
  · have h1 := iI_eq ha hb2
    have h2 := iI_le ha hb2
    have h3 := iI_le hb2 ha
    have h4 := iI_lt ha hb2
    have h5 := iI_lt hb2 ha
    first | exact h1.mp h | exact h2.mp h | exact h3.mp h | exact h4.mp h | exact h5.mp h | exact fun z => h (h1.mpr z)
  · have h1 := iI_eq ha hb2
    have h2 := iI_le ha hb2
    have h3 := iI_le hb2 ha
    have h4 := iI_lt ha hb2
    have h5 := iI_lt hb2 ha
    first | exact h1.mp h | exact fun z => h (h1.mpr z) | exact h1.mp (Classical.not_not.mp h) | exact Int.not_lt.mp (fun z => h (h4.mpr z)) | exact Int.not_lt.mp (fun z => h (h5.mpr z)) | exact Int.not_le.mp (fun z => h (h2.mpr z)) | exact Int.not_le.mp (fun z => h (h3.mpr z))
theorem r_if_eq {a : Int} {off : Int} {tgt : Nat} (hx : p.tables.exec = Jvm.exec) (hb : c.code = cc) (ha : rg a) (hd : decode cc pc = .ok (.ifCond .eq off, 3)) (ht : (pc : Int) + off = (tgt : Int)) (kt : a = 0 → W p l e R s m args below meth c H locs cells slots Q (F0 m tgt ls (rest))) (kf : ¬ a = 0 → W p l e R s m args below meth c H locs cells slots Q (F0 m (pc + 3) ls (rest))) : W p l e R s m args below meth c H locs cells slots Q (F0 m pc ls (.int (iI a) :: rest)) := by
  refine lv_if_eq hx hb hd ht (fun h => kt ?_) (fun h => kf ?_)
  · have h1 := iI_eq ha rg_0
    have h2 := iI_le ha rg_0
    have h3 := iI_le rg_0 ha
    have h4 := iI_lt ha rg_0
    have h5 := iI_lt rg_0 ha
    first | exact h1.mp h | exact h2.mp h | exact h3.mp h | exact h4.mp h | exact h5.mp h | exact fun z => h (h1.mpr z)
  · have h1 := iI_eq ha rg_0
    have h2 := iI_le ha rg_0
    have h3 := iI_le rg_0 ha
    have h4 := iI_lt ha rg_0
    have h5 := iI_lt rg_0 ha
    first | exact h1.mp h | exact fun z => h (h1.mpr z) | exact h1.mp (Classical.not_not.mp h) | exact Int.not_lt.mp (fun z => h (h4.mpr z)) | exact Int.not_lt.mp (fun z => h (h5.mpr z)) | exact Int.not_le.mp (fun z => h (h2.mpr z)) | exact Int.not_le.mp (fun z => h (h3.mpr z))
theorem r_if_ne {a : Int} {off : Int} {tgt : Nat} (hx : p.tables.exec = Jvm.exec) (hb : c.code = cc) (ha : rg a) (hd : decode cc pc = .ok (.ifCond .ne off, 3)) (ht : (pc : Int) + off = (tgt : Int)) (kt : ¬ a = 0 → W p l e R s m args below meth c H locs cells slots Q (F0 m tgt ls (rest))) (kf : a = 0 → W p l e R s m args below meth c H locs cells slots Q (F0 m (pc + 3) ls (rest))) : W p l e R s m args below meth c H locs cells slots Q (F0 m pc ls (.int (iI a) :: rest)) := by
  refine lv_if_ne hx hb hd ht (fun h => kt ?_) (fun h => kf ?_)
  · have h1 := iI_eq ha rg_0
    have h2 := iI_le ha rg_0
    have h3 := iI_le rg_0 ha
    have h4 := iI_lt ha rg_0
    have h5 := iI_lt rg_0 ha
    first | exact h1.mp h | exact h2.mp h | exact h3.mp h | exact h4.mp h | exact h5.mp h | exact fun z => h (h1.mpr z)
  · have h1 := iI_eq ha rg_0
    have h2 := iI_le ha rg_0
    have h3 := iI_le rg_0 ha
    have h4 := iI_lt ha rg_0
    have h5 := iI_lt rg_0 ha
    first | exact h1.mp h | exact fun z => h (h1.mpr z) | exact h1.mp (Classical.not_not.mp h) | exact Int.not_lt.mp (fun z => h (h4.mpr z)) | exact Int.not_lt.mp (fun z => h (h5.mpr z)) | exact Int.not_le.mp (fun z => h (h2.mpr z)) | exact Int.not_le.mp (fun z => h (h3.mpr z))
theorem r_if_lt {a : Int} {off : Int} {tgt : Nat} (hx : p.tables.exec = Jvm.exec) (hb : c.code = cc) (ha : rg a) (hd : decode cc pc = .ok (.ifCond .lt off, 3)) (ht : (pc : Int) + off = (tgt : Int)) (kt : a < 0 → W p l e R s m args below meth c H locs cells slots Q (F0 m tgt ls (rest))) (kf : 0 ≤ a → W p l e R s m args below meth c H locs cells slots Q (F0 m (pc + 3) ls (rest))) : W p l e R s m args below meth c H locs cells slots Q (F0 m pc ls (.int (iI a) :: rest)) := by
  refine lv_if_lt hx hb hd ht (fun h => kt ?_) (fun h => kf ?_)
  · have h1 := iI_eq ha rg_0
    have h2 := iI_le ha rg_0
    have h3 := iI_le rg_0 ha
    have h4 := iI_lt ha rg_0
    have h5 := iI_lt rg_0 ha
    first | exact h1.mp h | exact h2.mp h | exact h3.mp h | exact h4.mp h | exact h5.mp h | exact fun z => h (h1.mpr z)
  · have h1 := iI_eq ha rg_0
    have h2 := iI_le ha rg_0
    have h3 := iI_le rg_0 ha
    have h4 := iI_lt ha rg_0
    have h5 := iI_lt rg_0 ha
    first | exact h1.mp h | exact fun z => h (h1.mpr z) | exact h1.mp (Classical.not_not.mp h) | exact Int.not_lt.mp (fun z => h (h4.mpr z)) | exact Int.not_lt.mp (fun z => h (h5.mpr z)) | exact Int.not_le.mp (fun z => h (h2.mpr z)) | exact Int.not_le.mp (fun z => h (h3.mpr z))
theorem r_if_ge {a : Int} {off : Int} {tgt : Nat} (hx : p.tables.exec = Jvm.exec) (hb : c.code = cc) (ha : rg a) (hd : decode cc pc = .ok (.ifCond .ge off, 3)) (ht : (pc : Int) + off = (tgt : Int)) (kt : 0 ≤ a → W p l e R s m args below meth c H locs cells slots Q (F0 m tgt ls (rest))) (kf : a < 0 → W p l e R s m args below meth c H locs cells slots Q (F0 m (pc + 3) ls (rest))) : W p l e R s m args below meth c H locs cells slots Q (F0 m pc ls (.int (iI a) :: rest)) := by
  refine lv_if_ge hx hb hd ht (fun h => kt ?_) (fun h => kf ?_)
  · have h1 := iI_eq ha rg_0
    have h2 := iI_le ha rg_0
    have h3 := iI_le rg_0 ha
    have h4 := iI_lt ha rg_0
    have h5 := iI_lt rg_0 ha
    first | exact h1.mp h | exact h2.mp h | exact h3.mp h | exact h4.mp h | exact h5.mp h | exact fun z => h (h1.mpr z)
  · have h1 := iI_eq ha rg_0
    have h2 := iI_le ha rg_0
    have h3 := iI_le rg_0 ha
    have h4 := iI_lt ha rg_0
    have h5 := iI_lt rg_0 ha
    first | exact h1.mp h | exact fun z => h (h1.mpr z) | exact h1.mp (Classical.not_not.mp h) | exact Int.not_lt.mp (fun z => h (h4.mpr z)) | exact Int.not_lt.mp (fun z => h (h5.mpr z)) | exact Int.not_le.mp (fun z => h (h2.mpr z)) | exact Int.not_le.mp (fun z => h (h3.mpr z))
theorem r_if_gt {a : Int} {off : Int} {tgt : Nat} (hx : p.tables.exec = Jvm.exec) (hb : c.code = cc) (ha : rg a) (hd : decode cc pc = .ok (.ifCond .gt off, 3)) (ht : (pc : Int) + off = (tgt : Int)) (kt : 0 < a → W p l e R s m args below meth c H locs cells slots Q (F0 m tgt ls (rest))) (kf : a ≤ 0 → W p l e R s m args below meth c H locs cells slots Q (F0 m (pc + 3) ls (rest))) : W p l e R s m args below meth c H locs cells slots Q (F0 m pc ls (.int (iI a) :: rest)) := by
  refine lv_if_gt hx hb hd ht (fun h => kt ?_) (fun h => kf ?_)
  · have h1 := iI_eq ha rg_0
    have h2 := iI_le ha rg_0
    have h3 := iI_le rg_0 ha
    have h4 := iI_lt ha rg_0
    have h5 := iI_lt rg_0 ha
    first | exact h1.mp h | exact h2.mp h | exact h3.mp h | exact h4.mp h | exact h5.mp h | exact fun z => h (h1.mpr z)
  · have h1 := iI_eq ha rg_0
    have h2 := iI_le ha rg_0
    have h3 := iI_le rg_0 ha
    have h4 := iI_lt ha rg_0
    have h5 := iI_lt rg_0 ha
    first | exact h1.mp h | exact fun z => h (h1.mpr z) | exact h1.mp (Classical.not_not.mp h) | exact Int.not_lt.mp (fun z => h (h4.mpr z)) | exact Int.not_lt.mp (fun z => h (h5.mpr z)) | exact Int.not_le.mp (fun z => h (h2.mpr z)) | exact Int.not_le.mp (fun z => h (h3.mpr z))
theorem r_if_le {a : Int} {off : Int} {tgt : Nat} (hx : p.tables.exec = Jvm.exec) (hb : c.code = cc) (ha : rg a) (hd : decode cc pc = .ok (.ifCond .le off, 3)) (ht : (pc : Int) + off = (tgt : Int)) (kt : a ≤ 0 → W p l e R s m args below meth c H locs cells slots Q (F0 m tgt ls (rest))) (kf : 0 < a → W p l e R s m args below meth c H locs cells slots Q (F0 m (pc + 3) ls (rest))) : W p l e R s m args below meth c H locs cells slots Q (F0 m pc ls (.int (iI a) :: rest)) := by
  refine lv_if_le hx hb hd ht (fun h => kt ?_) (fun h => kf ?_)
  · have h1 := iI_eq ha rg_0
    have h2 := iI_le ha rg_0
    have h3 := iI_le rg_0 ha
    have h4 := iI_lt ha rg_0
    have h5 := iI_lt rg_0 ha
    first | exact h1.mp h | exact h2.mp h | exact h3.mp h | exact h4.mp h | exact h5.mp h | exact fun z => h (h1.mpr z)
  · have h1 := iI_eq ha rg_0
    have h2 := iI_le ha rg_0
    have h3 := iI_le rg_0 ha
    have h4 := iI_lt ha rg_0
    have h5 := iI_lt rg_0 ha
    first | exact h1.mp h | exact fun z => h (h1.mpr z) | exact h1.mp (Classical.not_not.mp h) | exact Int.not_lt.mp (fun z => h (h4.mpr z)) | exact Int.not_lt.mp (fun z => h (h5.mpr z)) | exact Int.not_le.mp (fun z => h (h2.mpr z)) | exact Int.not_le.mp (fun z => h (h3.mpr z))
theorem r_ifeqB {b : Bool} {off : Int} {tgt : Nat} (hx : p.tables.exec = Jvm.exec) (hb : c.code = cc) (hd : decode cc pc = .ok (.ifCond .eq off, 3)) (ht : (pc : Int) + off = (tgt : Int)) (kt : b = false → W p l e R s m args below meth c H locs cells slots Q (F0 m tgt ls (rest))) (kf : b = true → W p l e R s m args below meth c H locs cells slots Q (F0 m (pc + 3) ls (rest))) : W p l e R s m args below meth c H locs cells slots Q (F0 m pc ls (.int (iI (bI b)) :: rest)) := by
  refine lv_if_eq hx hb hd ht (fun h => kt ((bI_eq0 b).mp h)) (fun h => kf ?_)
  cases b
  · exact absurd rfl h
  · rfl
theorem r_ifneB {b : Bool} {off : Int} {tgt : Nat} (hx : p.tables.exec = Jvm.exec) (hb : c.code = cc) (hd : decode cc pc = .ok (.ifCond .ne off, 3)) (ht : (pc : Int) + off = (tgt : Int)) (kt : b = true → W p l e R s m args below meth c H locs cells slots Q (F0 m tgt ls (rest))) (kf : b = false → W p l e R s m args below meth c H locs cells slots Q (F0 m (pc + 3) ls (rest))) : W p l e R s m args below meth c H locs cells slots Q (F0 m pc ls (.int (iI (bI b)) :: rest)) := by
  refine lv_if_ne hx hb hd ht (fun h => kt ?_) (fun h => kf ?_)
  · cases b
    · exact absurd rfl h
    · rfl
  · cases b
    · rfl
    · first | exact absurd h (by decide) | exact absurd (show iI (bI true) = 0 from Classical.not_not.mp h) (by decide)
theorem r_ialdI {a n j : Nat} {f : Nat → Int32} {z : Int} (X : fp_C G p s m args c cc own nL) (hat : fp_At G H a (eI G n f)) (hz : z = (j : Int)) (hj : j < n) (hn : n ≤ 2147483647) (hd : decode cc pc = .ok (.iaload, 1)) (kk : W p (g_l G) e R s m args below meth c H locs cells slots Q (F0 m (pc + 1) ls (.int (f j) :: rest))) : W p (g_l G) e R s m args below meth c H locs cells slots Q (F0 m pc ls (.int (iI z) :: .ref a :: rest)) := by
  refine r_iald X hat (iI_in hz hj (by omega)) hd ?_
  rw [iI_cl hz (by omega)]
  exact kk
theorem r_zaldI {a n j : Nat} {f : Nat → Int32} {z : Int} (X : fp_C G p s m args c cc own nL) (hat : fp_At G H a (eZ G n f)) (hz : z = (j : Int)) (hj : j < n) (hn : n ≤ 2147483647) (hd : decode cc pc = .ok (.baload, 1)) (kk : W p (g_l G) e R s m args below meth c H locs cells slots Q (F0 m (pc + 1) ls (.int (f j) :: rest))) : W p (g_l G) e R s m args below meth c H locs cells slots Q (F0 m pc ls (.int (iI z) :: .ref a :: rest)) := by
  refine r_zald X hat (iI_in hz hj (by omega)) hd ?_
  rw [iI_cl hz (by omega)]
  exact kk
theorem r_baldI {a n j : Nat} {f : Nat → Int32} {z : Int} (X : fp_C G p s m args c cc own nL) (hat : fp_At G H a (eB G n f)) (hz : z = (j : Int)) (hj : j < n) (hn : n ≤ 2147483647) (hd : decode cc pc = .ok (.baload, 1)) (kk : W p (g_l G) e R s m args below meth c H locs cells slots Q (F0 m (pc + 1) ls (.int (f j) :: rest))) : W p (g_l G) e R s m args below meth c H locs cells slots Q (F0 m pc ls (.int (iI z) :: .ref a :: rest)) := by
  refine r_bald X hat (iI_in hz hj (by omega)) hd ?_
  rw [iI_cl hz (by omega)]
  exact kk
theorem r_laldI {a n j : Nat} {f : Nat → Int64} {z : Int} (X : fp_C G p s m args c cc own nL) (hat : fp_At G H a (eJ G n f)) (hz : z = (j : Int)) (hj : j < n) (hn : n ≤ 2147483647) (hd : decode cc pc = .ok (.laload, 1)) (kk : W p (g_l G) e R s m args below meth c H locs cells slots Q (F0 m (pc + 1) ls (.long (f j) :: rest))) : W p (g_l G) e R s m args below meth c H locs cells slots Q (F0 m pc ls (.int (iI z) :: .ref a :: rest)) := by
  refine r_lald X hat (iI_in hz hj (by omega)) hd ?_
  rw [iI_cl hz (by omega)]
  exact kk
theorem r_aaldI {a n j t : Nat} {C : String} {f : Nat → Option Nat} {z : Int} (X : fp_C G p s m args c cc own nL) (ht : (fp_tys (g_A G))[t]? = some (g_A G t, .object C)) (hat : fp_At G H a (eQ G t n f)) (hz : z = (j : Int)) (hj : j < n) (hn : n ≤ 2147483647) (hd : decode cc pc = .ok (.aaload, 1)) (kk : W p (g_l G) e R s m args below meth c H locs cells slots Q (F0 m (pc + 1) ls (va_rf (f j) :: rest))) : W p (g_l G) e R s m args below meth c H locs cells slots Q (F0 m pc ls (.int (iI z) :: .ref a :: rest)) := by
  refine r_aald X ht hat (iI_in hz hj (by omega)) hd ?_
  rw [iI_cl hz (by omega)]
  exact kk
theorem r_iastI {a n j : Nat} {f : Nat → Int32} {z : Int} {x : Int32} {A : Nat → Prop} (X : fp_C G p s m args c cc own nL) (hat : fp_At G H a (eI G n f)) (hS : va_S A H0 H locs) (hA : A a) (hz : z = (j : Int)) (hj : j < n) (hn : n ≤ 2147483647) (hd : decode cc pc = .ok (.iastore, 1))
    (kk : ∀ (H1 : Heap) (locs1 : List Loc), fp_At G H1 a (eI G n (upd f j x)) → H1.size = H.size → (∀ q : Nat, q ≠ a → H1[q]? = H[q]?) → va_S A H0 H1 locs1 → W p (g_l G) e R s m args below meth c H1 locs1 cells slots Q (F0 m (pc + 1) ls rest)) : W p (g_l G) e R s m args below meth c H locs cells slots Q (F0 m pc ls (.int x :: .int (iI z) :: .ref a :: rest)) := by
  refine r_iast X hat hS hA (iI_in hz hj (by omega)) hd ?_
  rw [iI_cl hz (by omega)]
  exact kk
theorem r_zastI {a n j : Nat} {f : Nat → Int32} {z : Int} {x : Int32} {A : Nat → Prop} (X : fp_C G p s m args c cc own nL) (hat : fp_At G H a (eZ G n f)) (hS : va_S A H0 H locs) (hA : A a) (hz : z = (j : Int)) (hj : j < n) (hn : n ≤ 2147483647) (hd : decode cc pc = .ok (.bastore, 1))
    (kk : ∀ (H1 : Heap) (locs1 : List Loc), fp_At G H1 a (eZ G n (upd f j (vp_nar .boolean x))) → H1.size = H.size → (∀ q : Nat, q ≠ a → H1[q]? = H[q]?) → va_S A H0 H1 locs1 → W p (g_l G) e R s m args below meth c H1 locs1 cells slots Q (F0 m (pc + 1) ls rest)) : W p (g_l G) e R s m args below meth c H locs cells slots Q (F0 m pc ls (.int x :: .int (iI z) :: .ref a :: rest)) := by
  refine r_zast X hat hS hA (iI_in hz hj (by omega)) hd ?_
  rw [iI_cl hz (by omega)]
  exact kk
end FPI
/-- a counting loop at its head: from k on, up to N -/
theorem lp_up {P : Nat → Prop} (N : Nat) (st : ∀ k, k ≤ N → (k < N → P (k + 1)) → P k) : ∀ k, k ≤ N → P k := by
  have h : ∀ d k, k ≤ N → N - k = d → P k := by
    intro d
    induction d with
    | zero => exact fun k hk hd => st k hk (fun h => absurd hd (by omega))
    | succ d ih => exact fun k hk hd => st k hk (fun h => ih (k + 1) h (by omega))
  exact fun k hk => h _ k hk rfl
/-- a loop whose measure falls -/
theorem lp_ms {σ : Type} {P : σ → Prop} (μ : σ → Nat) (st : ∀ x, (∀ y, μ y < μ x → P y) → P x) : ∀ x, P x := by
  have h : ∀ d x, μ x < d → P x := by
    intro d
    induction d with
    | zero => exact fun x hx => absurd hx (Nat.not_lt_zero _)
    | succ d ih => exact fun x hx => st x (fun y hy => ih y (by omega))
  exact fun x => h _ x (Nat.lt_succ_self _)
theorem iI_incN (k n : Nat) : iI ((k : Nat) : Int) + Int32.ofInt ((n : Nat) : Int) = iI ((k + n : Nat) : Int) := iI_add _ _
theorem bI_fit (b : Bool) : fits .boolean (.int (iI (bI b))) = true := by cases b <;> rfl
section FPN
variable {p : Program} {l : Launch} {e : Env} {R : Room} {s : State} {m : MethodId} {args : Array Value} {below : List Frame} {meth : Method} {c : Code} {H : Heap} {locs : List Loc} {cells slots : Nat} {Q : State → Prop}
variable {cc : ByteArray} {pc : Nat} {ls : Array Slot} {rest : List Value}
theorem r_iaddN {a b : Nat} (hx : p.tables.exec = Jvm.exec) (hb : c.code = cc) (hd : decode cc pc = .ok (.iadd, 1)) (k : W p l e R s m args below meth c H locs cells slots Q (F0 m (pc + 1) ls (.int (iI ((a + b : Nat) : Int)) :: rest))) : W p l e R s m args below meth c H locs cells slots Q (F0 m pc ls (.int (iI ((b : Nat) : Int)) :: .int (iI ((a : Nat) : Int)) :: rest)) := r_iadd hx hb hd k
theorem r_imulN {a b : Nat} (hx : p.tables.exec = Jvm.exec) (hb : c.code = cc) (hd : decode cc pc = .ok (.imul, 1)) (k : W p l e R s m args below meth c H locs cells slots Q (F0 m (pc + 1) ls (.int (iI ((a * b : Nat) : Int)) :: rest))) : W p l e R s m args below meth c H locs cells slots Q (F0 m pc ls (.int (iI ((b : Nat) : Int)) :: .int (iI ((a : Nat) : Int)) :: rest)) := r_imul hx hb hd k
theorem r_isubN {a b : Nat} (hx : p.tables.exec = Jvm.exec) (hb : c.code = cc) (hab : b ≤ a) (hd : decode cc pc = .ok (.isub, 1)) (k : W p l e R s m args below meth c H locs cells slots Q (F0 m (pc + 1) ls (.int (iI ((a - b : Nat) : Int)) :: rest))) : W p l e R s m args below meth c H locs cells slots Q (F0 m pc ls (.int (iI ((b : Nat) : Int)) :: .int (iI ((a : Nat) : Int)) :: rest)) := by
  refine r_isub hx hb hd ?_
  rw [← Int.ofNat_sub hab]
  exact k
theorem r_idivN {a b : Nat} (hx : p.tables.exec = Jvm.exec) (hb : c.code = cc) (hr : a < 2147483648 ∧ 0 < b ∧ b < 2147483648) (hd : decode cc pc = .ok (.idiv, 1)) (k : W p l e R s m args below meth c H locs cells slots Q (F0 m (pc + 1) ls (.int (iI ((a / b : Nat) : Int)) :: rest))) : W p l e R s m args below meth c H locs cells slots Q (F0 m pc ls (.int (iI ((b : Nat) : Int)) :: .int (iI ((a : Nat) : Int)) :: rest)) := by
  refine r_idiv hx hb ⟨by omega, by omega, by omega, by omega⟩ hd ?_
  rw [← Int.natCast_ediv]
  exact k
theorem r_iremN {a b : Nat} (hx : p.tables.exec = Jvm.exec) (hb : c.code = cc) (hr : a < 2147483648 ∧ 0 < b ∧ b < 2147483648) (hd : decode cc pc = .ok (.irem, 1)) (k : W p l e R s m args below meth c H locs cells slots Q (F0 m (pc + 1) ls (.int (iI ((a % b : Nat) : Int)) :: rest))) : W p l e R s m args below meth c H locs cells slots Q (F0 m pc ls (.int (iI ((b : Nat) : Int)) :: .int (iI ((a : Nat) : Int)) :: rest)) := by
  refine r_irem hx hb ⟨by omega, by omega, by omega, by omega⟩ hd ?_
  rw [← Int.natCast_emod]
  exact k
theorem r_stk {st st2 : List Value} (h : st = st2) (k : W p l e R s m args below meth c H locs cells slots Q (F0 m pc ls st2)) : W p l e R s m args below meth c H locs cells slots Q (F0 m pc ls st) := h ▸ k
end FPN
section FPD
variable {G : fp_G} {p : Program} {e : Env} {R : Room} {s : State} {m : MethodId} {args : Array Value} {below : List Frame} {meth : Method} {c : Code} {H : Heap} {locs : List Loc} {cells slots : Nat} {Q : State → Prop}
variable {cc : ByteArray} {pc nL : Nat} {ls : Array Slot} {rest : List Value} {own : String} {A0 : Nat → Prop} {mc0 ms0 : Nat} {Post0 : Heap → Option Value → Heap → Prop} {H0 : Heap}
theorem r_dret {v : UInt64} (hx : p.tables.exec = Jvm.exec) (hb : c.code = cc) (hr : meth.sig.returnType = some .double) (hlk : meth.locks = false) (hQ : Q = MQ below (fp_Q A0 s.heap.size Post0) args s mc0 ms0 (fA A0 s.heap.size)) (hS : va_S (fA A0 s.heap.size) s.heap H locs) (hc : cells ≤ mc0) (hs : slots ≤ ms0) (hd : decode cc pc = .ok (.dreturn, 1)) (hp : Post0 s.heap (some (.double v)) H) : W p (g_l G) e R s m args below meth c H locs cells slots Q (F0 m pc ls [.double v]) := by
  subst hQ
  refine W.widen hc hs (W.dret hx hb hr (fun t ht hW => ⟨_, rfl, by rw [ht]; exact hp, hS.F ht⟩) hS.2.2 hd hlk)
theorem r_fret {v : UInt32} (hx : p.tables.exec = Jvm.exec) (hb : c.code = cc) (hr : meth.sig.returnType = some .float) (hlk : meth.locks = false) (hQ : Q = MQ below (fp_Q A0 s.heap.size Post0) args s mc0 ms0 (fA A0 s.heap.size)) (hS : va_S (fA A0 s.heap.size) s.heap H locs) (hc : cells ≤ mc0) (hs : slots ≤ ms0) (hd : decode cc pc = .ok (.freturn, 1)) (hp : Post0 s.heap (some (.float v)) H) : W p (g_l G) e R s m args below meth c H locs cells slots Q (F0 m pc ls [.float v]) := by
  subst hQ
  refine W.widen hc hs (W.fret hx hb hr (fun t ht hW => ⟨_, rfl, by rw [ht]; exact hp, hS.F ht⟩) hS.2.2 hd hlk)
end FPD
