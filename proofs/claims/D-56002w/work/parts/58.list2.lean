/-! LISTS: adding, removing, finding -/
set_option maxRecDepth 100000
theorem iN_shr1 {x : Nat} (hx : x < 2147483648) : iI ((x : Nat) : Int) >>> (iI ((1 : Nat) : Int) &&& 31) = iI ((x / 2 : Nat) : Int) := by
  have e1 : (iI ((x : Nat) : Int) >>> (iI ((1 : Nat) : Int) &&& 31)) = Int32.ofBitVec (BitVec.sshiftRight' (iI ((x : Nat) : Int)).toBitVec ((iI ((1 : Nat) : Int) &&& 31).toBitVec.smod 32)) := rfl
  have e2 : (iI ((x : Nat) : Int)).toBitVec = BitVec.ofNat 32 x := by rw [iN_bv]; rfl
  rw [e1, iN_smod (by decide), e2, iN_bv]
  congr 1
  apply BitVec.eq_of_toNat_eq
  have hm : (BitVec.ofNat 32 x).msb = false := by
    rw [BitVec.msb_eq_decide]
    apply decide_eq_false
    rw [BitVec.toNat_ofNat]
    omega
  rw [BitVec.toNat_sshiftRight'_of_msb_false hm, BitVec.toNat_ofNat, BitVec.toNat_ofNat, BitVec.toNat_ofNat, Nat.mod_eq_of_lt (show x < 2 ^ 32 by omega), Nat.mod_eq_of_lt (show 1 < 2 ^ 32 by decide), Nat.mod_eq_of_lt (show x / 2 < 2 ^ 32 by omega), Nat.shiftRight_eq_div_pow]
def fp_ins (b : Nat → Nat) (i a : Nat) : Nat → Nat := fun k => if k < i then b k else if k = i then a else b (k - 1)
def fp_rem (b : Nat → Nat) (i : Nat) : Nat → Nat := fun k => if k < i then b k else b (k + 1)
theorem fp_ups {f : Nat → Option Nat} {b : Nat → Nat} {n a : Nat} (h : ∀ k, k < n → f k = some (b k)) : ∀ k, k < n + 1 → va_up f n (some a) k = some (va_up b n a k) := fun k hk => by
  unfold va_up
  by_cases e : k = n
  · simp [e]
  · simp [e]
    exact h k (by omega)
theorem fp_inss {f : Nat → Option Nat} {b : Nat → Nat} {n i a : Nat} (h : ∀ k, k < n → f k = some (b k)) (hi : i ≤ n) : ∀ k, k < n + 1 → va_up (va_cpy f f i (i + 1) (n - i)) i (some a) k = some (fp_ins b i a k) := fun k hk => by
  unfold va_up va_cpy fp_ins
  by_cases e : k = i
  · subst e
    simp
  · by_cases e2 : k < i
    · have e3 : ¬ (i + 1 ≤ k ∧ k < i + 1 + (n - i)) := by omega
      simp [e, e2, e3]
      exact h k (by omega)
    · have e3 : i + 1 ≤ k ∧ k < i + 1 + (n - i) := by omega
      simp [e, e2, e3]
      rw [show i + (k - (i + 1)) = k - 1 by omega]
      exact h (k - 1) (by omega)
theorem fp_rems {f : Nat → Option Nat} {b : Nat → Nat} {n i : Nat} (h : ∀ k, k < n → f k = some (b k)) (hi : i < n) : ∀ k, k < n - 1 → va_up (va_cpy f f (i + 1) i (n - 1 - i)) (n - 1) none k = some (fp_rem b i k) := fun k hk => by
  unfold va_up va_cpy fp_rem
  have e : k ≠ n - 1 := by omega
  by_cases e2 : k < i
  · have e3 : ¬ (i ≤ k ∧ k < i + (n - 1 - i)) := by omega
    simp [e, e2, e3]
    exact h k (by omega)
  · have e3 : i ≤ k ∧ k < i + (n - 1 - i) := by omega
    simp [e, e2, e3]
    rw [show i + 1 + (k - i) = k + 1 by omega]
    exact h (k + 1) (by omega)
theorem fp_rems0 {f : Nat → Option Nat} {b : Nat → Nat} {n i : Nat} (h : ∀ k, k < n → f k = some (b k)) (hi : i + 1 = n) : ∀ k, k < n - 1 → va_up f (n - 1) none k = some (fp_rem b i k) := fun k hk => by
  unfold va_up fp_rem
  have e : k ≠ n - 1 := by omega
  have e2 : k < i := by omega
  simp [e, e2]
  exact h k (by omega)
theorem fp_LE.own {G : fp_G} {x ed : Nat} {mc : Int32} {n cap : Nat} {b : Nat → Nat} {H : Heap} (h : fp_LE G x ed mc n cap b H) (hc : 0 < cap) : (n ≤ cap ∧ (g_s G).heap.size ≤ ed ∧ cap ≤ 1000) ∧ ∃ f : Nat → Option Nat, fp_At G H ed (eQ G 4 cap f) ∧ ∀ k, k < n → f k = some (b k) := by
  rcases h.2.1 with h | ⟨h1, h2, h3, h4⟩
  · omega
  · exact ⟨⟨h1, h2.1, h3⟩, h4⟩
theorem fp_LE.mk {G : fp_G} {x ed : Nat} {mc : Int32} {n cap : Nat} {b : Nat → Nat} {f : Nat → Option Nat} {H : Heap} (h : fp_At G H x (eO 8 [.int mc, .ref ed, .int (iI ((n : Nat) : Int))])) (hr : fp_At G H ed (eQ G 4 cap f)) (hb : (n ≤ cap ∧ 0 < cap ∧ cap ≤ 1000) ∧ (g_s G).heap.size ≤ ed ∧ (g_s G).heap.size ≤ x) (hf : ∀ k, k < n → f k = some (b k)) : fp_LE G x ed mc n cap b H := ⟨h, Or.inr ⟨hb.1.1, ⟨hb.2.1, hb.1.2.1⟩, hb.1.2.2, f, hr, hf⟩, hr.lt, hb.2.2⟩
/-- the elements of a row are objects -/
def fp_EF (G : fp_G) (n : Nat) (f : Nat → Option Nat) (H : Heap) : Prop := ∀ k, k < n → ∀ y, f k = some y → fp_el G H y
theorem fp_EF.ext {G : fp_G} {n : Nat} {f : Nat → Option Nat} {H H1 : Heap} (h : fp_EF G n f H) (hx : fp_X H H1) : fp_EF G n f H1 := fun k hk y hy => (h k hk y hy).kept (hx.2 _ (h k hk y hy).lt)
theorem fp_EL.ef {G : fp_G} {n m : Nat} {b : Nat → Nat} {f : Nat → Option Nat} {H : Heap} (h : fp_EL G n b H) (hf : ∀ k, k < n → f k = some (b k)) (hm : m ≤ n) : fp_EF G m f H := fun k hk y hy => by
  rw [hf k (by omega)] at hy
  cases hy
  exact h k (by omega)
/-- one element -/
def fp_EO (G : fp_G) (a : Nat) (H : Heap) : Prop := fp_el G H a
theorem fp_EO.mv {G : fp_G} {a : Nat} {H H1 : Heap} (h : fp_EO G a H) (hq : H1[a]? = H[a]?) : fp_EO G a H1 := fp_el.kept h hq
theorem fp_EO.ext {G : fp_G} {a : Nat} {H H1 : Heap} (h : fp_EO G a H) (hx : fp_X H H1) : fp_EO G a H1 := h.mv (hx.2 _ (fp_el.lt h))
theorem fp_el.neA {G : fp_G} {U : State} (hK : fp_K G U) {H : Heap} {y ed n : Nat} {f : Nat → Option Nat} (h : fp_el G H y) (h2 : fp_At G H ed (eQ G 4 n f)) : y ≠ ed := by
  obtain ⟨ci, fs, h1, h3⟩ := h
  obtain ⟨r, hr, -⟩ := fp_clO_ok ci h1
  exact fp_neOA hK hr (t := 4) rfl h3 h2
theorem fp_EL.ned {G : fp_G} {U : State} (hK : fp_K G U) {x ed : Nat} {mc : Int32} {n cap : Nat} {b : Nat → Nat} {H : Heap} (h : fp_LE G x ed mc n cap b H) (he : fp_EL G n b H) : ∀ k, k < n → b k ≠ ed := fun k hk => by
  obtain ⟨-, -, f, h1, -⟩ := h.row hk
  exact fp_el.neA hK (he k hk) h1
theorem fp_LE.nee {G : fp_G} {U : State} (hK : fp_K G U) {x ed : Nat} {mc : Int32} {n cap : Nat} {b : Nat → Nat} {H : Heap} (h : fp_LE G x ed mc n cap b H) (hd : fp_de G < (g_s G).heap.size) {a : Nat} (ha : fp_el G H a) : (g_s G).heap.size ≤ ed → a ≠ ed := fun h1 => by
  rcases h.2.1 with ⟨-, -, h2⟩ | ⟨-, -, -, f, h2, -⟩
  · omega
  · exact fp_el.neA hK ha h2
section FPL3
variable {G : fp_G} {p : Program} {e : Env} {R : Room} {s : State} {m : MethodId} {args : Array Value} {below : List Frame} {meth : Method} {c : Code} {H : Heap} {locs : List Loc} {cells slots : Nat} {Q : State → Prop}
variable {cc : ByteArray} {pc nL : Nat} {ls : Array Slot} {rest : List Value} {own : String} {A0 : Nat → Prop} {mc0 ms0 : Nat} {H0 : Heap}
theorem r_aastE {a n v i0 : Nat} {z : Int} {f : Nat → Option Nat} {A : Nat → Prop} (X : fp_C G p s m args c cc own nL) (hat : fp_At G H a (eQ G 4 n f)) (hS : va_S A H0 H locs) (hA : A a) (hv : fp_el G H v) (hz : z = (i0 : Int)) (hi : i0 < n) (hn : n ≤ 2147483647) (hd : decode cc pc = .ok (.aastore, 1))
    (kk : ∀ (H1 : Heap) (locs1 : List Loc), fp_At G H1 a (eQ G 4 n (va_up f i0 (some v))) → H1.size = H.size → (∀ q : Nat, q ≠ a → H1[q]? = H[q]?) → va_S A H0 H1 locs1 → W p (g_l G) e R s m args below meth c H1 locs1 cells slots Q (F0 m (pc + 1) ls rest)) : W p (g_l G) e R s m args below meth c H locs cells slots Q (F0 m pc ls (.ref v :: .int (iI z) :: .ref a :: rest)) := by
  obtain ⟨ci, fs, h1, h2⟩ := hv
  obtain ⟨⟨C, T, N⟩, hr, hw⟩ := fp_clO_ok ci h1
  exact r_aast X rfl hat hS hA h2 hr hw hz hi hn hd kk
end FPL3
set_option maxRecDepth 100000
set_option maxHeartbeats 4000000 in
theorem c_J0_init (G : fp_G) (x : Nat) : fp_M G yJ0_init cJ0_init 1 none 2 30 0 0 [.ref (x)] (fun H => True) fp_no (fun H v H1 => v = none ∧ H = H1) := by
  refine fp_M.intro (by decide) (Nat.le_of_ble_eq_true rfl) ?_
  intro pg en s mi ag bl mt cd rR qQ ls X hx hb hr hlk hnm hR hQ hB hM hl
  have hS : va_S (fA fp_no s.heap.size) s.heap s.heap [] := va_S.rf
  generalize ([] : List Loc) = locs at hS ⊢
  have hb0 := hB.1
  have hsz0 := hS.1
  refine lv_aload_n hx hb dJ0_init_0 rfl (lv_at hl 0 rfl) ?_
  refine r_objInit X hR q151 q132 q133 hl.1 (by decide) (Nat.le_of_ble_eq_true rfl) dJ0_init_1 ?_
  refine r_vret hx hb hr hlk hQ hS (Nat.le_of_ble_eq_true rfl) (Nat.le_of_ble_eq_true rfl) dJ0_init_4 ?_
  exact ⟨rfl, rfl⟩
set_option maxHeartbeats 4000000 in
theorem c_J1_init (G : fp_G) (x : Nat) (v1 : Int32) (ed : Value) (v2 : Int32) (hxb : (g_s G).heap.size ≤ x) : fp_M G yJ1_init cJ1_init 1 none 3 50 0 0 [.ref (x)] (fun H => fp_At G H x (eO 8 [.int (v1), ed, .int (v2)])) (fun q => (g_s G).heap.size ≤ q ∧ (q = x)) (fun H v H1 => v = none ∧ fp_At G H1 x (eO 8 [.int (iI ((0 : Nat) : Int)), ed, .int (v2)])) := by
  refine fp_M.intro (by decide) (Nat.le_of_ble_eq_true rfl) ?_
  intro pg en s mi ag bl mt cd rR qQ ls X hx hb hr hlk hnm hR hQ hB hM hl
  have hS : va_S (fA (fun q => (g_s G).heap.size ≤ q ∧ (q = x)) s.heap.size) s.heap s.heap [] := va_S.rf
  generalize ([] : List Loc) = locs at hS ⊢
  have hb0 := hB.1
  have hAb : ∀ q, (fun q => (g_s G).heap.size ≤ q ∧ (q = x)) q → (g_s G).heap.size ≤ q := fun q h => h.1
  have h_o := hM
  have hsz0 := hS.1
  have lt_1 := h_o.lt
  refine lv_aload_n hx hb dJ1_init_0 rfl (lv_at hl 0 rfl) ?_
  refine r_callI (cells1 := 0) (slots1 := 0) X hR (c_J0_init G x) q148 q149 q90 q150 rfl ⟨by decide, by decide, rfl⟩ ⟨Nat.le_of_ble_eq_true rfl, Nat.le_of_ble_eq_true rfl⟩ rfl rfl (Nat.le_of_ble_eq_true rfl) (Nat.le_of_ble_eq_true rfl) rfl (Nat.le_of_ble_eq_true rfl) hl.1 dJ1_init_1 (hB.of hS hAb) trivial hS (fun _ h => h.elim) (fun v H_5 locs hp_2 hz_3 hk_4 hS => ?_)
  obtain ⟨rfl, rfl⟩ := hp_2
  refine r_stk (st2 := []) rfl ?_
  refine lv_aload_n hx hb dJ1_init_4 rfl (lv_at hl 0 rfl) ?_
  refine lv_iconst (v := (iI ((0 : Nat) : Int))) hx hb dJ1_init_5 rfl ?_
  refine r_put X h_o hS (Or.inl ⟨by omega, rfl⟩) rfl in_J2 tyJ2_ok nmJ2 0 (by decide) q158 (Or.inl rfl) rfl rfl rfl (show 0 < 3 by decide) dJ1_init_6 (fun H_9 locs hE_6 hz_7 hq_8 hS => ?_)
  have hz_10 := hS.1
  refine r_vret hx hb hr hlk hQ hS (Nat.le_of_ble_eq_true rfl) (Nat.le_of_ble_eq_true rfl) dJ1_init_9 ?_
  exact ⟨rfl, hE_6⟩
set_option maxHeartbeats 4000000 in
theorem c_J2_init (G : fp_G) (x : Nat) (hxb : (g_s G).heap.size ≤ x) : fp_M G yJ2_init cJ2_init 1 none 4 70 0 0 [.ref (x)] (fun H => fp_At G H x (eO 8 [.int (iI ((0 : Nat) : Int)), .null, .int (iI ((0 : Nat) : Int))])) (fun q => (g_s G).heap.size ≤ q ∧ (q = x)) (fun H v H1 => v = none ∧ fp_LE G x (fp_de G) (iI ((0 : Nat) : Int)) 0 0 (fun _ => 0) H1) := by
  refine fp_M.intro (by decide) (Nat.le_of_ble_eq_true rfl) ?_
  intro pg en s mi ag bl mt cd rR qQ ls X hx hb hr hlk hnm hR hQ hB hM hl
  have hS : va_S (fA (fun q => (g_s G).heap.size ≤ q ∧ (q = x)) s.heap.size) s.heap s.heap [] := va_S.rf
  generalize ([] : List Loc) = locs at hS ⊢
  have hb0 := hB.1
  have hAb : ∀ q, (fun q => (g_s G).heap.size ≤ q ∧ (q = x)) q → (g_s G).heap.size ≤ q := fun q h => h.1
  have h_o := hM
  have hsz0 := hS.1
  have lt_1 := h_o.lt
  refine lv_aload_n hx hb dJ2_init_0 rfl (lv_at hl 0 rfl) ?_
  refine r_callI (cells1 := 0) (slots1 := 0) X hR (c_J1_init G x (iI ((0 : Nat) : Int)) (.null) (iI ((0 : Nat) : Int)) hxb) q145 q146 q91 q147 rfl ⟨by decide, by decide, rfl⟩ ⟨Nat.le_of_ble_eq_true rfl, Nat.le_of_ble_eq_true rfl⟩ rfl rfl (Nat.le_of_ble_eq_true rfl) (Nat.le_of_ble_eq_true rfl) rfl (Nat.le_of_ble_eq_true rfl) hl.1 dJ2_init_1 (hB.of hS hAb) h_o hS (fun q h => by have h2 : (g_s G).heap.size ≤ q ∧ (q = x) := h; show ((g_s G).heap.size ≤ q ∧ (q = x)) ∨ s.heap.size ≤ q; omega) (fun v H_5 locs hp_2 hz_3 hk_4 hS => ?_)
  obtain ⟨rfl, hE_6⟩ := hp_2
  have hz_7 := hS.1
  have lt_8 := hE_6.lt
  refine r_stk (st2 := []) rfl ?_
  refine lv_aload_n hx hb dJ2_init_4 rfl (lv_at hl 0 rfl) ?_
  refine r_gets (v := .ref (fp_de G)) X hB hAb hS q153 (lw_all_tbl q92) (X.2.2.2.2.2.deT (A := fp_no) hB fp_no.base).2.1 q152 rfl dJ2_init_5 ?_
  refine r_put X hE_6 hS (Or.inl ⟨by omega, rfl⟩) rfl in_J2 tyJ2_ok nmJ2 1 (by decide) q154 (Or.inl rfl) rfl rfl rfl (show 1 < 3 by decide) dJ2_init_8 (fun H_12 locs hE_9 hz_10 hq_11 hS => ?_)
  have hz_13 := hS.1
  refine r_vret hx hb hr hlk hQ hS (Nat.le_of_ble_eq_true rfl) (Nat.le_of_ble_eq_true rfl) dJ2_init_11 ?_
  exact ⟨rfl, (⟨hE_9, Or.inl ⟨rfl, rfl, rfl⟩, Nat.lt_of_lt_of_le (X.2.2.2.2.2.deT (A := fp_no) hB fp_no.base).2.2 (by omega), hxb⟩)⟩
set_option maxHeartbeats 4000000 in
theorem c_J16_newLength (G : fp_G) (a : Nat) (b : Nat) (c : Nat) (hb : 0 < b) (h : a + b + c ≤ 1000000) : fp_M G yJ16_newLength cJ16_newLength 4 (some .int) 2 40 0 0 [.int (iI ((a : Nat) : Int)), .int (iI ((b : Nat) : Int)), .int (iI ((c : Nat) : Int))] (fun H => True) fp_no (fun H v H1 => v = some (.int (iI ((a + max b c : Nat) : Int))) ∧ H = H1) := by
  refine fp_M.intro (by decide) (Nat.le_of_ble_eq_true rfl) ?_
  intro pg en s mi ag bl mt cd rR qQ ls X hx hb hr hlk hnm hR hQ hB hM hl
  have hS : va_S (fA fp_no s.heap.size) s.heap s.heap [] := va_S.rf
  generalize ([] : List Loc) = locs at hS ⊢
  have hb0 := hB.1
  have hsz0 := hS.1
  refine lv_iload_n hx hb dJ16_newLength_0 rfl (lv_at hl 0 rfl) ?_
  refine lv_iload_n hx hb dJ16_newLength_1 rfl (lv_at hl 1 rfl) ?_
  refine lv_iload_n hx hb dJ16_newLength_2 rfl (lv_at hl 2 rfl) ?_
  refine r_maxN X hR hl.1 q604 q425 q107 q426 (by decide) (Nat.le_of_ble_eq_true rfl) (Nat.le_of_ble_eq_true rfl) (Nat.le_of_ble_eq_true rfl) (by omega) (by omega) dJ16_newLength_3 ?_
  refine r_iaddN hx hb dJ16_newLength_6 ?_
  refine lv_istore_n (lv' := [(3, .int (iI ((a + (max b c) : Nat) : Int))), (0, .int (iI ((a : Nat) : Int))), (1, .int (iI ((b : Nat) : Int))), (2, .int (iI ((c : Nat) : Int)))]) hx hb dJ16_newLength_7 rfl hl (by decide) rfl (fun ls hl => ?_)
  refine lv_iconst (v := (iI ((0 : Nat) : Int))) hx hb dJ16_newLength_8 rfl ?_
  refine lv_iload_n hx hb dJ16_newLength_9 rfl (lv_at hl 0 rfl) ?_
  refine r_icmp_ge (tgt := 21) hx hb (by decide) ⟨by omega, by omega⟩ dJ16_newLength_10 (by decide) (fun c10 => ?_) (fun c10 => ?_)
  · skip
    exact absurd c10 (by omega)
  · skip
    refine lv_iload_n hx hb dJ16_newLength_13 rfl (lv_at hl 0 rfl) ?_
    refine lv_ldc (v := (iI ((2147483639 : Nat) : Int))) hx hb X.2.2.2.1 (X.2.2.2.2.1 _ q605) dJ16_newLength_14 ?_
    refine r_icmp_gt (tgt := 21) hx hb ⟨by omega, by omega⟩ (by decide) dJ16_newLength_16 (by decide) (fun c16 => ?_) (fun c16 => ?_)
    · skip
      exact absurd c16 (by omega)
    · skip
      refine lv_iload_n hx hb dJ16_newLength_19 rfl (lv_at hl 0 rfl) ?_
      refine r_iret hx hb hr hlk hQ hS (Nat.le_of_ble_eq_true rfl) (Nat.le_of_ble_eq_true rfl) dJ16_newLength_20 ?_
      exact ⟨rfl, rfl⟩
set_option maxHeartbeats 4000000 in
theorem c_J17_copyOf_3 (G : fp_G) (a : Nat) (n : Nat) (f : Nat → Option Nat) (m : Nat) (hnm2 : n ≤ m) (hm2 : m ≤ 10000) : fp_M G yJ17_copyOf_3 cJ17_copyOf_3 4 (some (.array (.object "java/lang/Object"))) 2 60 1 m [.ref (a), .int (iI ((m : Nat) : Int)), .ref (fp_mi G)] (fun H => fp_At G H a (eQ G 4 n f) ∧ fp_EF G n f H) fp_no (fun H v H1 => ∃ (q : Nat), ∃ (f2 : Nat → Option Nat), v = some (.ref (q)) ∧ (H.size ≤ q) ∧ (∀ k, k < n → f2 k = f k) ∧ fp_At G H1 q (eQ G 4 m f2)) := by
  refine fp_M.intro (by decide) (Nat.le_of_ble_eq_true rfl) ?_
  intro pg en s mi ag bl mt cd rR qQ ls X hx hb hr hlk hnm hR hQ hB hM hl
  have hS : va_S (fA fp_no s.heap.size) s.heap s.heap [] := va_S.rf
  generalize ([] : List Loc) = locs at hS ⊢
  have hb0 := hB.1
  obtain ⟨h_row, h_ef⟩ := hM
  have hsz0 := hS.1
  have lt_1 := h_row.lt
  refine lv_aload_n hx hb dJ17_copyOf_3_0 rfl (lv_at hl 2 rfl) ?_
  refine r_ldcM X q865 dJ17_copyOf_3_1 ?_
  refine lv_acmp_ne (rx := (some (fp_mi G))) (ry := (some (fp_mi G))) (tgt := 13) hx hb dJ17_copyOf_3_3 (by decide) (fun c3 => ?_) (fun c3 => ?_)
  · skip
    exact (c3 rfl).elim
  · skip
    refine lv_iload_n hx hb dJ17_copyOf_3_6 rfl (lv_at hl 1 rfl) ?_
    refine r_anew (t := 4) (n := m) X hR hS q866 q198 rfl rfl (by omega) (Nat.le_of_ble_eq_true rfl) (by omega) dJ17_copyOf_3_7 (fun q_2 H_3 hq_7 hE_4 hX_5 hz_6 hS => ?_)
    have hz_8 := hS.1
    have lt_9 := hE_4.lt
    refine lv_goto (tgt := 24) hx hb dJ17_copyOf_3_10 (by decide) ?_
    refine lv_astore_n (lv' := [(3, .ref (q_2)), (0, .ref (a)), (1, .int (iI ((m : Nat) : Int))), (2, .ref (fp_mi G))]) hx hb dJ17_copyOf_3_24 rfl hl (by decide) rfl (fun ls hl => ?_)
    refine lv_aload_n hx hb dJ17_copyOf_3_25 rfl (lv_at hl 1 rfl) ?_
    refine lv_iconst (v := (iI ((0 : Nat) : Int))) hx hb dJ17_copyOf_3_26 rfl ?_
    refine lv_aload_n hx hb dJ17_copyOf_3_27 rfl (lv_at hl 0 rfl) ?_
    refine lv_iconst (v := (iI ((0 : Nat) : Int))) hx hb dJ17_copyOf_3_28 rfl ?_
    refine lv_aload_n hx hb dJ17_copyOf_3_29 rfl (lv_at hl 1 rfl) ?_
    have hE_10 := fp_At.kept h_row (fp_keptS (by omega) hS (fun z => z))
    refine r_alen X (t := 4) rfl hE_10 (v := (iI ((n : Nat) : Int))) rfl dJ17_copyOf_3_30 ?_
    refine lv_iload_n hx hb dJ17_copyOf_3_31 rfl (lv_at hl 2 rfl) ?_
    refine r_minN X hR hl.1 q620 q621 q107 q622 (by decide) (Nat.le_of_ble_eq_true rfl) (Nat.le_of_ble_eq_true rfl) (by omega) ⟨by omega, by omega⟩ ⟨by omega, by omega⟩ dJ17_copyOf_3_32 ?_
    refine r_set (y := .int (iI ((min n m : Nat) : Int))) (congrArg (fun q : Int => Value.int (iI q)) (by omega)) ?_
    have hE_15 := h_ef.ext (fp_X.ofS hS)
    refine r_copyQ (sp := 0) (dp := 0) (n := n) X hR hl.1 hE_10 hE_4 hS (Or.inr (by omega)) q623 q625 q624 q114 (by omega) (by omega) (by omega) (by omega) (by omega) (by omega) (by omega) (fun i hi y hy => hE_15 i hi y (by rw [Nat.zero_add] at hy; exact hy)) (by decide) (Nat.le_of_ble_eq_true rfl) dJ17_copyOf_3_35 (fun H_14 locs hE_11 hz_12 hq_13 hS => ?_)
    have hz_16 := hS.1
    refine lv_aload_n hx hb dJ17_copyOf_3_38 rfl (lv_at hl 0 rfl) ?_
    refine r_aret hx hb hr hlk hQ hS (Nat.le_of_ble_eq_true rfl) (by omega) dJ17_copyOf_3_39 (Or.inr ⟨_, rfl⟩) (Or.inr ⟨_, rfl⟩) ?_
    exact ⟨q_2, _, rfl, (by omega), (fun k hk => by unfold va_cpy; simp [hk]), hE_11⟩
set_option maxHeartbeats 4000000 in
theorem c_J17_copyOf_2 (G : fp_G) (a : Nat) (n : Nat) (f : Nat → Option Nat) (m : Nat) (hnm2 : n ≤ m) (hm2 : m ≤ 10000) : fp_M G yJ17_copyOf_2 cJ17_copyOf_2 2 (some (.array (.object "java/lang/Object"))) 3 83 1 m [.ref (a), .int (iI ((m : Nat) : Int))] (fun H => fp_At G H a (eQ G 4 n f) ∧ fp_EF G n f H) fp_no (fun H v H1 => ∃ (q : Nat), ∃ (f2 : Nat → Option Nat), v = some (.ref (q)) ∧ (H.size ≤ q) ∧ (∀ k, k < n → f2 k = f k) ∧ fp_At G H1 q (eQ G 4 m f2)) := by
  refine fp_M.intro (by decide) (Nat.le_of_ble_eq_true rfl) ?_
  intro pg en s mi ag bl mt cd rR qQ ls X hx hb hr hlk hnm hR hQ hB hM hl
  have hS : va_S (fA fp_no s.heap.size) s.heap s.heap [] := va_S.rf
  generalize ([] : List Loc) = locs at hS ⊢
  have hb0 := hB.1
  obtain ⟨h_row, h_ef⟩ := hM
  have hsz0 := hS.1
  have lt_1 := h_row.lt
  refine lv_aload_n hx hb dJ17_copyOf_2_0 rfl (lv_at hl 0 rfl) ?_
  refine lv_iload_n hx hb dJ17_copyOf_2_1 rfl (lv_at hl 1 rfl) ?_
  refine lv_aload_n hx hb dJ17_copyOf_2_2 rfl (lv_at hl 0 rfl) ?_
  refine r_getC X hR hl.1 h_row q835 q2569 q2568 q836 q861 (by decide) (Nat.le_of_ble_eq_true rfl) dJ17_copyOf_2_3 ?_
  refine r_callS (cells1 := 1) (slots1 := (0 + m)) X hR (c_J17_copyOf_3 G a n f m hnm2 hm2) q862 q863 q113 q864 pd_J17_copyOf_3 ⟨Nat.le_of_ble_eq_true rfl, Nat.le_of_ble_eq_true rfl⟩ rfl rfl (Nat.le_of_ble_eq_true rfl) (by omega) rfl (Nat.le_of_ble_eq_true rfl) hl.1 dJ17_copyOf_2_6 (hB.of hS fp_no.base) ⟨h_row, h_ef⟩ hS (fun _ h => h.elim) (fun v H_5 locs hp_2 hz_3 hk_4 hS => ?_)
  obtain ⟨q_6, f2_7, rfl, hq_8, hf2_9, hE_10⟩ := hp_2
  have hz_11 := hS.1
  have lt_13 := hE_10.lt
  refine r_stk (st2 := [.ref (q_6)]) rfl ?_
  refine r_aret hx hb hr hlk hQ hS (Nat.le_of_ble_eq_true rfl) (by omega) dJ17_copyOf_2_9 (Or.inr ⟨_, rfl⟩) (Or.inr ⟨_, rfl⟩) ?_
  exact ⟨q_6, f2_7, rfl, hq_8, hf2_9, hE_10⟩
set_option maxHeartbeats 4000000 in
theorem c_J2_grow_2 (G : fp_G) (x : Nat) (ed : Nat) (mc : Int32) (n : Nat) (cap : Nat) (b : Nat → Nat) (hne : ∀ k, k < n → b k ≠ x) (hnc : n = cap) (hn : n ≤ 500) : fp_M G yJ2_grow_2 cJ2_grow_2 4 (some (.array (.object "java/lang/Object"))) 4 104 1 (n + n / 2 + 11) [.ref (x), .int (iI ((n + 1 : Nat) : Int))] (fun H => fp_LE G x ed mc n cap b H ∧ fp_EL G n b H) (fun q => (g_s G).heap.size ≤ q ∧ (q = x)) (fun H v H1 => ∃ (ed2 : Nat), ∃ (cap2 : Nat), v = some (.ref (ed2)) ∧ (H.size ≤ ed2) ∧ ((n < cap2 ∧ cap2 ≤ 1000) ∧ (n = 0 → cap2 = 10) ∧ (0 < n → cap2 = n + max 1 (n / 2))) ∧ fp_LE G x ed2 mc n cap2 b H1) := by
  refine fp_M.intro (by decide) (Nat.le_of_ble_eq_true rfl) ?_
  intro pg en s mi ag bl mt cd rR qQ ls X hx hb hr hlk hnm hR hQ hB hM hl
  have hS : va_S (fA (fun q => (g_s G).heap.size ≤ q ∧ (q = x)) s.heap.size) s.heap s.heap [] := va_S.rf
  generalize ([] : List Loc) = locs at hS ⊢
  have hb0 := hB.1
  have hAb : ∀ q, (fun q => (g_s G).heap.size ≤ q ∧ (q = x)) q → (g_s G).heap.size ≤ q := fun q h => h.1
  obtain ⟨h_ls, h_el⟩ := hM
  have hsz0 := hS.1
  have lt_1 := h_ls.1.lt
  have lt_2 := h_ls.2.2
  have helt : ∀ k, k < n → b k < s.heap.size := fun k hk => (h_el k hk).lt
  have hed0 := X.2.2.2.2.2.deT (A := fp_no) hB fp_no.base
  have hxed : x ≠ ed := h_ls.ne X.2.2.2.2.2 hed0.2.2
  have hxb := h_ls.2.2.2
  have helne : ∀ k, k < n → b k ≠ x ∧ b k ≠ ed := fun k hk => ⟨hne k hk, fp_EL.ned X.2.2.2.2.2 h_ls h_el k hk⟩
  have hcap := h_ls.cap
  rcases h_ls.2.1 with ⟨he1, he2, he3⟩ | ⟨hncap, hcap0, hcap1, f, hrow, hf⟩
  · skip
    have hlo := h_ls.1
    have lt_3 := hlo.lt
    refine lv_aload_n hx hb dJ2_grow_2_0 rfl (lv_at hl 0 rfl) ?_
    refine r_get X hlo rfl in_J2 1 (by decide) q154 (Or.inl rfl) (v := .ref (ed)) rfl dJ2_grow_2_1 ?_
    refine r_tlen X (t := ed) (N := 0) (v := iI ((0 : Nat) : Int)) (by have h9 := (X.2.2.2.2.2.deT hB (fA.base hAb hB.1)).1; rw [← he3] at h9; exact h9) hS rfl dJ2_grow_2_4 ?_
    refine lv_istore_n (lv' := [(2, .int (iI ((0 : Nat) : Int))), (0, .ref (x)), (1, .int (iI ((n + 1 : Nat) : Int)))]) hx hb dJ2_grow_2_5 rfl hl (by decide) rfl (fun ls hl => ?_)
    refine lv_iload_n hx hb dJ2_grow_2_6 rfl (lv_at hl 0 rfl) ?_
    refine r_if_gt (tgt := 20) hx hb (by decide) dJ2_grow_2_7 (by decide) (fun c7 => ?_) (fun c7 => ?_)
    · exact absurd c7 (by omega)
    · skip
      refine lv_aload_n hx hb dJ2_grow_2_10 rfl (lv_at hl 1 rfl) ?_
      refine r_get X hlo rfl in_J2 1 (by decide) q154 (Or.inl rfl) (v := .ref (ed)) rfl dJ2_grow_2_11 ?_
      refine r_gets (v := .ref (fp_de G)) X hB hAb hS q153 (lw_all_tbl q92) (X.2.2.2.2.2.deT (A := fp_no) hB fp_no.base).2.1 q152 rfl dJ2_grow_2_14 ?_
      refine lv_acmp_eq (rx := (some ed)) (ry := (some (fp_de G))) (tgt := 45) hx hb dJ2_grow_2_17 (by decide) (fun c17 => ?_) (fun c17 => ?_)
      · skip
        refine lv_aload_n hx hb dJ2_grow_2_45 rfl (lv_at hl 1 rfl) ?_
        refine lv_bipush (v := (iI ((10 : Nat) : Int))) hx hb dJ2_grow_2_46 rfl ?_
        refine lv_iload_n hx hb dJ2_grow_2_48 rfl (lv_at hl 2 rfl) ?_
        refine r_maxN X hR hl.1 q867 q425 q107 q426 (by decide) (Nat.le_of_ble_eq_true rfl) (Nat.le_of_ble_eq_true rfl) (by omega) (by omega) (by omega) dJ2_grow_2_49 ?_
        refine r_anew (t := 4) (n := max 10 (n + 1)) X hR hS q868 q198 rfl rfl (by omega) (Nat.le_of_ble_eq_true rfl) (by omega) dJ2_grow_2_52 (fun q_4 H_5 hq_9 hE_6 hX_7 hz_8 hS => ?_)
        have hz_10 := hS.1
        have lt_11 := hE_6.lt
        refine lv_dup_x1 hx hb dJ2_grow_2_55 rfl rfl ?_
        have hE_13 := fp_At.kept hlo (hX_7.2 _ (by omega))
        refine r_put X hE_13 hS (Or.inl ⟨by omega, rfl⟩) rfl in_J2 tyJ2_ok nmJ2 1 (by decide) q154 (Or.inl rfl) rfl rfl rfl (show 1 < 3 by decide) dJ2_grow_2_56 (fun H_17 locs hE_14 hz_15 hq_16 hS => ?_)
        have hz_18 := hS.1
        refine r_aret hx hb hr hlk hQ hS (Nat.le_of_ble_eq_true rfl) (by omega) dJ2_grow_2_59 (Or.inr ⟨_, rfl⟩) (Or.inr ⟨_, rfl⟩) ?_
        have hE_20 := fp_At.kept hE_6 (hq_16 _ (by omega))
        exact ⟨q_4, max 10 (n + 1), rfl, (by omega), (by omega), (fp_LE.mk hE_14 hE_20 (by omega) (fun k hk => absurd hk (by omega)))⟩
      · skip
        exact absurd (congrArg some he3) c17
  · skip
    have hlo := h_ls.1
    have lt_21 := hlo.lt
    have lt_22 := hrow.lt
    have hef : fp_EF G cap f s.heap := fp_EL.ef h_el hf (by omega)
    refine lv_aload_n hx hb dJ2_grow_2_0 rfl (lv_at hl 0 rfl) ?_
    refine r_get X hlo rfl in_J2 1 (by decide) q154 (Or.inl rfl) (v := .ref (ed)) rfl dJ2_grow_2_1 ?_
    refine r_alen X (t := 4) rfl hrow (v := (iI ((cap : Nat) : Int))) rfl dJ2_grow_2_4 ?_
    refine lv_istore_n (lv' := [(2, .int (iI ((cap : Nat) : Int))), (0, .ref (x)), (1, .int (iI ((n + 1 : Nat) : Int)))]) hx hb dJ2_grow_2_5 rfl hl (by decide) rfl (fun ls hl => ?_)
    refine lv_iload_n hx hb dJ2_grow_2_6 rfl (lv_at hl 0 rfl) ?_
    refine r_if_gt (tgt := 20) hx hb ⟨by omega, by omega⟩ dJ2_grow_2_7 (by decide) (fun c7 => ?_) (fun c7 => ?_)
    · skip
      refine lv_iload_n hx hb dJ2_grow_2_20 rfl (lv_at hl 0 rfl) ?_
      refine lv_iload_n hx hb dJ2_grow_2_21 rfl (lv_at hl 2 rfl) ?_
      refine lv_iload_n hx hb dJ2_grow_2_22 rfl (lv_at hl 0 rfl) ?_
      refine r_isub hx hb dJ2_grow_2_23 ?_
      refine r_set (y := .int (iI ((1 : Nat) : Int))) (congrArg (fun q : Int => Value.int (iI q)) (by omega)) ?_
      refine lv_iload_n hx hb dJ2_grow_2_24 rfl (lv_at hl 0 rfl) ?_
      refine lv_iconst (v := (iI ((1 : Nat) : Int))) hx hb dJ2_grow_2_25 rfl ?_
      refine lv_ishr hx hb dJ2_grow_2_26 ?_
      refine r_set (y := .int (iI ((cap / 2 : Nat) : Int))) (congrArg Value.int (iN_shr1 (by omega))) ?_
      refine r_callS (cells1 := 0) (slots1 := 0) X hR (c_J16_newLength G cap 1 (cap / 2) (by omega) (by omega)) q831 q602 q112 q603 pd_J16_newLength ⟨Nat.le_of_ble_eq_true rfl, Nat.le_of_ble_eq_true rfl⟩ rfl rfl (Nat.le_of_ble_eq_true rfl) (by omega) rfl (Nat.le_of_ble_eq_true rfl) hl.1 dJ2_grow_2_27 (hB.of hS hAb) trivial hS (fun _ h => h.elim) (fun v H_26 locs hp_23 hz_24 hk_25 hS => ?_)
      obtain ⟨rfl, rfl⟩ := hp_23
      refine r_stk (st2 := [.int (iI ((cap + max 1 (cap / 2) : Nat) : Int))]) rfl ?_
      refine lv_istore_n (lv' := [(3, .int (iI ((cap + max 1 (cap / 2) : Nat) : Int))), (2, .int (iI ((cap : Nat) : Int))), (0, .ref (x)), (1, .int (iI ((n + 1 : Nat) : Int)))]) hx hb dJ2_grow_2_30 rfl hl (by decide) rfl (fun ls hl => ?_)
      refine lv_aload_n hx hb dJ2_grow_2_31 rfl (lv_at hl 2 rfl) ?_
      refine lv_aload_n hx hb dJ2_grow_2_32 rfl (lv_at hl 2 rfl) ?_
      refine r_get X hlo rfl in_J2 1 (by decide) q154 (Or.inl rfl) (v := .ref (ed)) rfl dJ2_grow_2_33 ?_
      refine lv_iload_n hx hb dJ2_grow_2_36 rfl (lv_at hl 0 rfl) ?_
      refine r_callS (cells1 := 1) (slots1 := (0 + (cap + max 1 (cap / 2)))) X hR (c_J17_copyOf_2 G ed cap f (cap + max 1 (cap / 2)) (by omega) (by omega)) q832 q833 q113 q834 pd_J17_copyOf_2 ⟨Nat.le_of_ble_eq_true rfl, Nat.le_of_ble_eq_true rfl⟩ rfl rfl (Nat.le_of_ble_eq_true rfl) (by omega) rfl (Nat.le_of_ble_eq_true rfl) hl.1 dJ2_grow_2_37 (hB.of hS hAb) ⟨hrow, hef⟩ hS (fun _ h => h.elim) (fun v H_30 locs hp_27 hz_28 hk_29 hS => ?_)
      obtain ⟨q_31, f2_32, rfl, hq_33, hf2_34, hE_35⟩ := hp_27
      have hz_36 := hS.1
      have lt_38 := hE_35.lt
      refine r_stk (st2 := [.ref (q_31), .ref (x)]) rfl ?_
      refine lv_dup_x1 hx hb dJ2_grow_2_40 rfl rfl ?_
      have hE_40 := fp_At.kept hlo (hk_29 _ (by omega) (fun z => z))
      refine r_put X hE_40 hS (Or.inl ⟨by omega, rfl⟩) rfl in_J2 tyJ2_ok nmJ2 1 (by decide) q154 (Or.inl rfl) rfl rfl rfl (show 1 < 3 by decide) dJ2_grow_2_41 (fun H_44 locs hE_41 hz_42 hq_43 hS => ?_)
      have hz_45 := hS.1
      refine r_aret hx hb hr hlk hQ hS (Nat.le_of_ble_eq_true rfl) (by omega) dJ2_grow_2_44 (Or.inr ⟨_, rfl⟩) (Or.inr ⟨_, rfl⟩) ?_
      have hE_47 := fp_At.kept hE_35 (hq_43 _ (by omega))
      exact ⟨q_31, cap + max 1 (cap / 2), rfl, (by omega), (by omega), (fp_LE.mk hE_41 hE_47 (by omega) (fun k hk => by rw [hf2_34 k (by omega)]; exact hf k hk))⟩
    · skip
      exact absurd c7 (by omega)
set_option maxHeartbeats 4000000 in
theorem c_J2_grow (G : fp_G) (x : Nat) (ed : Nat) (mc : Int32) (n : Nat) (cap : Nat) (b : Nat → Nat) (hne : ∀ k, k < n → b k ≠ x) (hnc : n = cap) (hn : n ≤ 500) : fp_M G yJ2_grow cJ2_grow 1 (some (.array (.object "java/lang/Object"))) 5 127 1 (n + n / 2 + 11) [.ref (x)] (fun H => fp_LE G x ed mc n cap b H ∧ fp_EL G n b H) (fun q => (g_s G).heap.size ≤ q ∧ (q = x)) (fun H v H1 => ∃ (ed2 : Nat), ∃ (cap2 : Nat), v = some (.ref (ed2)) ∧ (H.size ≤ ed2) ∧ ((n < cap2 ∧ cap2 ≤ 1000) ∧ (n = 0 → cap2 = 10) ∧ (0 < n → cap2 = n + max 1 (n / 2))) ∧ fp_LE G x ed2 mc n cap2 b H1) := by
  refine fp_M.intro (by decide) (Nat.le_of_ble_eq_true rfl) ?_
  intro pg en s mi ag bl mt cd rR qQ ls X hx hb hr hlk hnm hR hQ hB hM hl
  have hS : va_S (fA (fun q => (g_s G).heap.size ≤ q ∧ (q = x)) s.heap.size) s.heap s.heap [] := va_S.rf
  generalize ([] : List Loc) = locs at hS ⊢
  have hb0 := hB.1
  have hAb : ∀ q, (fun q => (g_s G).heap.size ≤ q ∧ (q = x)) q → (g_s G).heap.size ≤ q := fun q h => h.1
  obtain ⟨h_ls, h_el⟩ := hM
  have hsz0 := hS.1
  have lt_1 := h_ls.1.lt
  have lt_2 := h_ls.2.2
  have helt : ∀ k, k < n → b k < s.heap.size := fun k hk => (h_el k hk).lt
  have hed0 := X.2.2.2.2.2.deT (A := fp_no) hB fp_no.base
  have hxed : x ≠ ed := h_ls.ne X.2.2.2.2.2 hed0.2.2
  have hxb := h_ls.2.2.2
  have helne : ∀ k, k < n → b k ≠ x ∧ b k ≠ ed := fun k hk => ⟨hne k hk, fp_EL.ned X.2.2.2.2.2 h_ls h_el k hk⟩
  have hcap := h_ls.cap
  refine lv_aload_n hx hb dJ2_grow_0 rfl (lv_at hl 0 rfl) ?_
  refine lv_aload_n hx hb dJ2_grow_1 rfl (lv_at hl 0 rfl) ?_
  refine r_get X h_ls.1 rfl in_J2 2 (by decide) q157 (Or.inl rfl) (v := .int (iI ((n : Nat) : Int))) rfl dJ2_grow_2 ?_
  refine lv_iconst (v := (iI ((1 : Nat) : Int))) hx hb dJ2_grow_5 rfl ?_
  refine r_iaddN hx hb dJ2_grow_6 ?_
  refine r_callV (cells1 := 1) (slots1 := (0 + (n + n / 2 + 11))) X hR (c_J2_grow_2 G x ed mc n cap b hne hnc hn) q827 q829 qs10 q92 q830 ⟨rfl, pd_J2_grow_2⟩ ⟨Nat.le_of_ble_eq_true rfl, Nat.le_of_ble_eq_true rfl⟩ rfl rfl (Nat.le_of_ble_eq_true rfl) (by omega) h_ls.1 rfl rfl (Nat.le_of_ble_eq_true rfl) hl.1 dJ2_grow_7 (hB.of hS hAb) ⟨h_ls, h_el⟩ hS (fun q h => by have h2 : (g_s G).heap.size ≤ q ∧ (q = x) := h; show ((g_s G).heap.size ≤ q ∧ (q = x)) ∨ s.heap.size ≤ q; omega) (fun v H_6 locs hp_3 hz_4 hk_5 hS => ?_)
  obtain ⟨ed2_7, cap2_8, rfl, hed2_9, hcap2_10, hE_11⟩ := hp_3
  have hz_12 := hS.1
  have lt_13 := hE_11.1.lt
  have lt_14 := hE_11.2.2
  refine r_stk (st2 := [.ref (ed2_7)]) rfl ?_
  refine r_aret hx hb hr hlk hQ hS (Nat.le_of_ble_eq_true rfl) (by omega) dJ2_grow_10 (Or.inr ⟨_, rfl⟩) (Or.inr ⟨_, rfl⟩) ?_
  exact ⟨ed2_7, cap2_8, rfl, hed2_9, hcap2_10, hE_11⟩
set_option maxHeartbeats 4000000 in
theorem c_J2_add_3 (G : fp_G) (x : Nat) (ed : Nat) (mc : Int32) (n : Nat) (cap : Nat) (b : Nat → Nat) (a : Nat) (hne : ∀ k, k < n → b k ≠ x) (hax : a ≠ x) (hn : n ≤ 500) : fp_M G yJ2_add_3 cJ2_add_3 4 none 6 147 (1 - (cap - n)) (n + n / 2 + 11 - 10000 * (cap - n)) [.ref (x), .ref (a), .ref (ed), .int (iI ((n : Nat) : Int))] (fun H => fp_LE G x ed mc n cap b H ∧ fp_EL G n b H ∧ fp_EO G a H) (fun q => (g_s G).heap.size ≤ q ∧ (q = x ∨ q = ed)) (fun H v H1 => ∃ (ed2 : Nat), ∃ (mc2 : Int32), ∃ (cap2 : Nat), v = none ∧ (ed2 = ed ∨ H.size ≤ ed2) ∧ ((n < cap → cap2 = cap) ∧ (n = cap → (n = 0 → cap2 = 10) ∧ (0 < n → cap2 = n + max 1 (n / 2)))) ∧ fp_LE G x ed2 mc2 (n + 1) cap2 (va_up b n a) H1) := by
  refine fp_M.intro (by decide) (Nat.le_of_ble_eq_true rfl) ?_
  intro pg en s mi ag bl mt cd rR qQ ls X hx hb hr hlk hnm hR hQ hB hM hl
  have hS : va_S (fA (fun q => (g_s G).heap.size ≤ q ∧ (q = x ∨ q = ed)) s.heap.size) s.heap s.heap [] := va_S.rf
  generalize ([] : List Loc) = locs at hS ⊢
  have hb0 := hB.1
  have hAb : ∀ q, (fun q => (g_s G).heap.size ≤ q ∧ (q = x ∨ q = ed)) q → (g_s G).heap.size ≤ q := fun q h => h.1
  obtain ⟨h_ls, h_el, h_eo⟩ := hM
  have hsz0 := hS.1
  have lt_1 := h_ls.1.lt
  have lt_2 := h_ls.2.2
  have lt_3 := fp_el.lt h_eo
  have helt : ∀ k, k < n → b k < s.heap.size := fun k hk => (h_el k hk).lt
  have hed0 := X.2.2.2.2.2.deT (A := fp_no) hB fp_no.base
  have hxed : x ≠ ed := h_ls.ne X.2.2.2.2.2 hed0.2.2
  have hxb := h_ls.2.2.2
  have helne : ∀ k, k < n → b k ≠ x ∧ b k ≠ ed := fun k hk => ⟨hne k hk, fp_EL.ned X.2.2.2.2.2 h_ls h_el k hk⟩
  have hcap := h_ls.cap
  have haed := h_ls.nee X.2.2.2.2.2 hed0.2.2 h_eo
  rcases h_ls.2.1 with ⟨he1, he2, he3⟩ | ⟨hncap, hcap0, hcap1, f, hrow, hf⟩
  · skip
    refine lv_iload_n hx hb dJ2_add_3_0 rfl (lv_at hl 3 rfl) ?_
    refine lv_aload_n hx hb dJ2_add_3_1 rfl (lv_at hl 2 rfl) ?_
    refine r_tlen X (t := ed) (N := 0) (v := iI ((0 : Nat) : Int)) (by have h9 := (X.2.2.2.2.2.deT hB (fA.base hAb hB.1)).1; rw [← he3] at h9; exact h9) hS rfl dJ2_add_3_2 ?_
    refine r_icmp_ne (tgt := 11) hx hb ⟨by omega, by omega⟩ (by decide) dJ2_add_3_3 (by decide) (fun c3 => ?_) (fun c3 => ?_)
    · skip
      exact absurd c3 (by omega)
    · skip
      refine lv_aload_n hx hb dJ2_add_3_6 rfl (lv_at hl 0 rfl) ?_
      refine r_callV (cells1 := 1) (slots1 := (0 + (n + n / 2 + 11))) X hR (c_J2_grow G x ed mc n cap b hne (by omega) hn) q823 q825 qs9 q92 q826 ⟨rfl, pd_J2_grow⟩ ⟨Nat.le_of_ble_eq_true rfl, Nat.le_of_ble_eq_true rfl⟩ rfl rfl (by omega) (by omega) h_ls.1 rfl rfl (Nat.le_of_ble_eq_true rfl) hl.1 dJ2_add_3_7 (hB.of hS hAb) ⟨h_ls, h_el⟩ hS (fun q h => by have h2 : (g_s G).heap.size ≤ q ∧ (q = x) := h; show ((g_s G).heap.size ≤ q ∧ (q = x ∨ q = ed)) ∨ s.heap.size ≤ q; omega) (fun v H_7 locs hp_4 hz_5 hk_6 hS => ?_)
      obtain ⟨ed2_8, cap2_9, rfl, hed2_10, hcap2_11, hE_12⟩ := hp_4
      have hz_13 := hS.1
      have lt_14 := hE_12.1.lt
      have lt_15 := hE_12.2.2
      refine r_stk (st2 := [.ref (ed2_8)]) rfl ?_
      obtain ⟨hbd_19, f_16, hrow_17, hf_18⟩ := fp_LE.own hE_12 (by omega)
      have hob_20 := hE_12.1
      have hxb_21 := hE_12.2.2.2
      have lt_22 := hob_20.lt
      have lt_23 := hrow_17.lt
      refine lv_astore_n (lv' := [(2, .ref (ed2_8)), (0, .ref (x)), (1, .ref (a)), (3, .int (iI ((n : Nat) : Int)))]) hx hb dJ2_add_3_10 rfl hl (by decide) rfl (fun ls hl => ?_)
      refine lv_aload_n hx hb dJ2_add_3_11 rfl (lv_at hl 0 rfl) ?_
      refine lv_iload_n hx hb dJ2_add_3_12 rfl (lv_at hl 3 rfl) ?_
      refine lv_aload_n hx hb dJ2_add_3_13 rfl (lv_at hl 2 rfl) ?_
      have hE_28 := fp_EO.mv h_eo (fp_keptS (by omega) hS (by omega))
      refine r_aastE X hrow_17 hS (Or.inr (by omega)) (hE_28) (i0 := n) rfl (by omega) (by omega) dJ2_add_3_14 (fun H_27 locs hE_24 hz_25 hq_26 hS => ?_)
      have hz_29 := hS.1
      refine lv_aload_n hx hb dJ2_add_3_15 rfl (lv_at hl 1 rfl) ?_
      refine lv_iload_n hx hb dJ2_add_3_16 rfl (lv_at hl 3 rfl) ?_
      refine lv_iconst (v := (iI ((1 : Nat) : Int))) hx hb dJ2_add_3_17 rfl ?_
      refine r_iaddN hx hb dJ2_add_3_18 ?_
      have hE_31 := fp_At.kept hob_20 (hq_26 _ (by omega))
      refine r_put X hE_31 hS (Or.inl ⟨by omega, Or.inl rfl⟩) rfl in_J2 tyJ2_ok nmJ2 2 (by decide) q157 (Or.inl rfl) rfl rfl rfl (show 2 < 3 by decide) dJ2_add_3_19 (fun H_35 locs hE_32 hz_33 hq_34 hS => ?_)
      have hz_36 := hS.1
      refine r_vret hx hb hr hlk hQ hS (by omega) (by omega) dJ2_add_3_22 ?_
      have hE_38 := fp_At.kept hE_24 (hq_34 _ (by omega))
      exact ⟨ed2_8, mc, cap2_9, rfl, (by omega), (by omega), (fp_LE.mk hE_32 hE_38 (by omega) (fp_ups hf_18))⟩
  · skip
    refine lv_iload_n hx hb dJ2_add_3_0 rfl (lv_at hl 3 rfl) ?_
    refine lv_aload_n hx hb dJ2_add_3_1 rfl (lv_at hl 2 rfl) ?_
    refine r_alen X (t := 4) rfl hrow (v := iI ((cap : Nat) : Int)) rfl dJ2_add_3_2 ?_
    refine r_icmp_ne (tgt := 11) hx hb ⟨by omega, by omega⟩ ⟨by omega, by omega⟩ dJ2_add_3_3 (by decide) (fun c3 => ?_) (fun c3 => ?_)
    · skip
      obtain ⟨hbd_42, f_39, hrow_40, hf_41⟩ := fp_LE.own h_ls (by omega)
      have hob_43 := h_ls.1
      have hxb_44 := h_ls.2.2.2
      have lt_45 := hob_43.lt
      have lt_46 := hrow_40.lt
      refine lv_aload_n hx hb dJ2_add_3_11 rfl (lv_at hl 2 rfl) ?_
      refine lv_iload_n hx hb dJ2_add_3_12 rfl (lv_at hl 3 rfl) ?_
      refine lv_aload_n hx hb dJ2_add_3_13 rfl (lv_at hl 1 rfl) ?_
      refine r_aastE X hrow_40 hS (Or.inl ⟨by omega, Or.inr (rfl)⟩) (h_eo) (i0 := n) rfl (by omega) (by omega) dJ2_add_3_14 (fun H_50 locs hE_47 hz_48 hq_49 hS => ?_)
      have hz_51 := hS.1
      refine lv_aload_n hx hb dJ2_add_3_15 rfl (lv_at hl 0 rfl) ?_
      refine lv_iload_n hx hb dJ2_add_3_16 rfl (lv_at hl 3 rfl) ?_
      refine lv_iconst (v := (iI ((1 : Nat) : Int))) hx hb dJ2_add_3_17 rfl ?_
      refine r_iaddN hx hb dJ2_add_3_18 ?_
      have hE_53 := fp_At.kept hob_43 (hq_49 _ (by omega))
      refine r_put X hE_53 hS (Or.inl ⟨by omega, Or.inl rfl⟩) rfl in_J2 tyJ2_ok nmJ2 2 (by decide) q157 (Or.inl rfl) rfl rfl rfl (show 2 < 3 by decide) dJ2_add_3_19 (fun H_57 locs hE_54 hz_55 hq_56 hS => ?_)
      have hz_58 := hS.1
      refine r_vret hx hb hr hlk hQ hS (by omega) (by omega) dJ2_add_3_22 ?_
      have hE_60 := fp_At.kept hE_47 (hq_56 _ (by omega))
      exact ⟨ed, mc, cap, rfl, (by omega), (by omega), (fp_LE.mk hE_54 hE_60 (by omega) (fp_ups hf_41))⟩
    · skip
      refine lv_aload_n hx hb dJ2_add_3_6 rfl (lv_at hl 0 rfl) ?_
      refine r_callV (cells1 := 1) (slots1 := (0 + (n + n / 2 + 11))) X hR (c_J2_grow G x ed mc n cap b hne (by omega) hn) q823 q825 qs9 q92 q826 ⟨rfl, pd_J2_grow⟩ ⟨Nat.le_of_ble_eq_true rfl, Nat.le_of_ble_eq_true rfl⟩ rfl rfl (by omega) (by omega) h_ls.1 rfl rfl (Nat.le_of_ble_eq_true rfl) hl.1 dJ2_add_3_7 (hB.of hS hAb) ⟨h_ls, h_el⟩ hS (fun q h => by have h2 : (g_s G).heap.size ≤ q ∧ (q = x) := h; show ((g_s G).heap.size ≤ q ∧ (q = x ∨ q = ed)) ∨ s.heap.size ≤ q; omega) (fun v H_64 locs hp_61 hz_62 hk_63 hS => ?_)
      obtain ⟨ed2_65, cap2_66, rfl, hed2_67, hcap2_68, hE_69⟩ := hp_61
      have hz_70 := hS.1
      have lt_71 := hE_69.1.lt
      have lt_72 := hE_69.2.2
      refine r_stk (st2 := [.ref (ed2_65)]) rfl ?_
      obtain ⟨hbd_76, f_73, hrow_74, hf_75⟩ := fp_LE.own hE_69 (by omega)
      have hob_77 := hE_69.1
      have hxb_78 := hE_69.2.2.2
      have lt_79 := hob_77.lt
      have lt_80 := hrow_74.lt
      refine lv_astore_n (lv' := [(2, .ref (ed2_65)), (0, .ref (x)), (1, .ref (a)), (3, .int (iI ((n : Nat) : Int)))]) hx hb dJ2_add_3_10 rfl hl (by decide) rfl (fun ls hl => ?_)
      refine lv_aload_n hx hb dJ2_add_3_11 rfl (lv_at hl 0 rfl) ?_
      refine lv_iload_n hx hb dJ2_add_3_12 rfl (lv_at hl 3 rfl) ?_
      refine lv_aload_n hx hb dJ2_add_3_13 rfl (lv_at hl 2 rfl) ?_
      have hE_85 := fp_EO.mv h_eo (fp_keptS (by omega) hS (by omega))
      refine r_aastE X hrow_74 hS (Or.inr (by omega)) (hE_85) (i0 := n) rfl (by omega) (by omega) dJ2_add_3_14 (fun H_84 locs hE_81 hz_82 hq_83 hS => ?_)
      have hz_86 := hS.1
      refine lv_aload_n hx hb dJ2_add_3_15 rfl (lv_at hl 1 rfl) ?_
      refine lv_iload_n hx hb dJ2_add_3_16 rfl (lv_at hl 3 rfl) ?_
      refine lv_iconst (v := (iI ((1 : Nat) : Int))) hx hb dJ2_add_3_17 rfl ?_
      refine r_iaddN hx hb dJ2_add_3_18 ?_
      have hE_88 := fp_At.kept hob_77 (hq_83 _ (by omega))
      refine r_put X hE_88 hS (Or.inl ⟨by omega, Or.inl rfl⟩) rfl in_J2 tyJ2_ok nmJ2 2 (by decide) q157 (Or.inl rfl) rfl rfl rfl (show 2 < 3 by decide) dJ2_add_3_19 (fun H_92 locs hE_89 hz_90 hq_91 hS => ?_)
      have hz_93 := hS.1
      refine r_vret hx hb hr hlk hQ hS (by omega) (by omega) dJ2_add_3_22 ?_
      have hE_95 := fp_At.kept hE_81 (hq_91 _ (by omega))
      exact ⟨ed2_65, mc, cap2_66, rfl, (by omega), (by omega), (fp_LE.mk hE_89 hE_95 (by omega) (fp_ups hf_75))⟩
set_option maxHeartbeats 4000000 in
theorem c_J2_add_2 (G : fp_G) (x : Nat) (ed : Nat) (mc : Int32) (n : Nat) (cap : Nat) (b : Nat → Nat) (a : Nat) (hne : ∀ k, k < n → b k ≠ x) (hax : a ≠ x) (hn : n ≤ 500) : fp_M G yJ2_add_2 cJ2_add_2 2 (some .boolean) 7 170 (1 - (cap - n)) (n + n / 2 + 11 - 10000 * (cap - n)) [.ref (x), .ref (a)] (fun H => fp_LE G x ed mc n cap b H ∧ fp_EL G n b H ∧ fp_EO G a H) (fun q => (g_s G).heap.size ≤ q ∧ (q = x ∨ q = ed)) (fun H v H1 => ∃ (ed2 : Nat), ∃ (mc2 : Int32), ∃ (cap2 : Nat), v = some (.int (iI ((1 : Nat) : Int))) ∧ (ed2 = ed ∨ H.size ≤ ed2) ∧ ((n < cap → cap2 = cap) ∧ (n = cap → (n = 0 → cap2 = 10) ∧ (0 < n → cap2 = n + max 1 (n / 2)))) ∧ fp_LE G x ed2 mc2 (n + 1) cap2 (va_up b n a) H1) := by
  refine fp_M.intro (by decide) (Nat.le_of_ble_eq_true rfl) ?_
  intro pg en s mi ag bl mt cd rR qQ ls X hx hb hr hlk hnm hR hQ hB hM hl
  have hS : va_S (fA (fun q => (g_s G).heap.size ≤ q ∧ (q = x ∨ q = ed)) s.heap.size) s.heap s.heap [] := va_S.rf
  generalize ([] : List Loc) = locs at hS ⊢
  have hb0 := hB.1
  have hAb : ∀ q, (fun q => (g_s G).heap.size ≤ q ∧ (q = x ∨ q = ed)) q → (g_s G).heap.size ≤ q := fun q h => h.1
  obtain ⟨h_ls, h_el, h_eo⟩ := hM
  have hsz0 := hS.1
  have lt_1 := h_ls.1.lt
  have lt_2 := h_ls.2.2
  have lt_3 := fp_el.lt h_eo
  have helt : ∀ k, k < n → b k < s.heap.size := fun k hk => (h_el k hk).lt
  have hed0 := X.2.2.2.2.2.deT (A := fp_no) hB fp_no.base
  have hxed : x ≠ ed := h_ls.ne X.2.2.2.2.2 hed0.2.2
  have hxb := h_ls.2.2.2
  have helne : ∀ k, k < n → b k ≠ x ∧ b k ≠ ed := fun k hk => ⟨hne k hk, fp_EL.ned X.2.2.2.2.2 h_ls h_el k hk⟩
  have hcap := h_ls.cap
  have haed := h_ls.nee X.2.2.2.2.2 hed0.2.2 h_eo
  have hlo := h_ls.1
  refine lv_aload_n hx hb dJ2_add_2_0 rfl (lv_at hl 0 rfl) ?_
  refine lv_dup hx hb dJ2_add_2_1 rfl ?_
  refine r_get X h_ls.1 rfl in_J2 0 (by decide) q161 (Or.inr q160) (v := .int (mc)) rfl dJ2_add_2_2 ?_
  refine lv_iconst (v := (iI ((1 : Nat) : Int))) hx hb dJ2_add_2_5 rfl ?_
  refine lv_iadd hx hb dJ2_add_2_6 ?_
  refine r_put X hlo hS (Or.inl ⟨by omega, Or.inl rfl⟩) rfl in_J2 tyJ2_ok nmJ2 0 (by decide) q161 (Or.inr q160) rfl rfl rfl (show 0 < 3 by decide) dJ2_add_2_7 (fun H_7 locs hE_4 hz_5 hq_6 hS => ?_)
  have hz_8 := hS.1
  have hls_9 : fp_LE G x ed (mc + (iI ((1 : Nat) : Int))) n cap b H_7 := ⟨hE_4, h_ls.2.1.kept (hq_6 _ (by omega)), fp_ltk h_ls.2.2.1 (hq_6 _ (by omega)), hxb⟩
  have lt_10 := hls_9.1.lt
  have lt_11 := hls_9.2.2
  refine lv_aload_n hx hb dJ2_add_2_10 rfl (lv_at hl 0 rfl) ?_
  refine lv_aload_n hx hb dJ2_add_2_11 rfl (lv_at hl 1 rfl) ?_
  refine lv_aload_n hx hb dJ2_add_2_12 rfl (lv_at hl 0 rfl) ?_
  refine r_get X hls_9.1 rfl in_J2 1 (by decide) q154 (Or.inl rfl) (v := .ref (ed)) rfl dJ2_add_2_13 ?_
  refine lv_aload_n hx hb dJ2_add_2_16 rfl (lv_at hl 0 rfl) ?_
  refine r_get X hls_9.1 rfl in_J2 2 (by decide) q157 (Or.inl rfl) (v := .int (iI ((n : Nat) : Int))) rfl dJ2_add_2_17 ?_
  have hE_12 := fp_EL.mv h_el (fun k hk => fp_keptS (helt k hk) hS (by have := helne k hk; omega))
  have hE_13 := fp_EO.mv h_eo (fp_keptS (by omega) hS (by omega))
  refine r_callV (cells1 := (0 + (1 - (cap - n)))) (slots1 := (0 + (n + n / 2 + 11 - 10000 * (cap - n)))) X hR (c_J2_add_3 G x ed (mc + (iI ((1 : Nat) : Int))) n cap b a hne hax hn) q1105 q1107 qs19 q92 q1108 ⟨rfl, pd_J2_add_3⟩ ⟨Nat.le_of_ble_eq_true rfl, Nat.le_of_ble_eq_true rfl⟩ rfl rfl (by omega) (by omega) hls_9.1 rfl rfl (Nat.le_of_ble_eq_true rfl) hl.1 dJ2_add_2_20 (hB.of hS hAb) ⟨hls_9, hE_12, hE_13⟩ hS (fun q h => by have h2 : (g_s G).heap.size ≤ q ∧ (q = x ∨ q = ed) := h; show ((g_s G).heap.size ≤ q ∧ (q = x ∨ q = ed)) ∨ s.heap.size ≤ q; omega) (fun v H_17 locs hp_14 hz_15 hk_16 hS => ?_)
  obtain ⟨ed2_18, mc2_19, cap2_20, rfl, hed2_21, hcp_22, hE_23⟩ := hp_14
  have hz_24 := hS.1
  have lt_25 := hE_23.1.lt
  have lt_26 := hE_23.2.2
  refine r_stk (st2 := []) rfl ?_
  refine lv_iconst (v := (iI ((1 : Nat) : Int))) hx hb dJ2_add_2_23 rfl ?_
  refine r_zret hx hb hr hlk hQ hS (by omega) (by omega) dJ2_add_2_24 rfl ?_
  exact ⟨ed2_18, mc2_19, cap2_20, rfl, (by omega), hcp_22, hE_23⟩
set_option maxHeartbeats 4000000 in
theorem c_J2_rangeCheckForAdd (G : fp_G) (x : Nat) (ed : Nat) (mc : Int32) (n : Nat) (cap : Nat) (b : Nat → Nat) (i : Nat) (hi : i ≤ n) : fp_M G yJ2_rangeCheckForAdd cJ2_rangeCheckForAdd 2 none 1 12 0 0 [.ref (x), .int (iI ((i : Nat) : Int))] (fun H => fp_LE G x ed mc n cap b H) fp_no (fun H v H1 => v = none ∧ H = H1) := by
  refine fp_M.intro (by decide) (Nat.le_of_ble_eq_true rfl) ?_
  intro pg en s mi ag bl mt cd rR qQ ls X hx hb hr hlk hnm hR hQ hB hM hl
  have hS : va_S (fA fp_no s.heap.size) s.heap s.heap [] := va_S.rf
  generalize ([] : List Loc) = locs at hS ⊢
  have hb0 := hB.1
  have h_ls := hM
  have hsz0 := hS.1
  have lt_1 := h_ls.1.lt
  have lt_2 := h_ls.2.2
  have hcap := h_ls.cap
  refine lv_iload_n hx hb dJ2_rangeCheckForAdd_0 rfl (lv_at hl 1 rfl) ?_
  refine lv_aload_n hx hb dJ2_rangeCheckForAdd_1 rfl (lv_at hl 0 rfl) ?_
  refine r_get X h_ls.1 rfl in_J2 2 (by decide) q157 (Or.inl rfl) (v := .int (iI ((n : Nat) : Int))) rfl dJ2_rangeCheckForAdd_2 ?_
  refine r_icmp_gt (tgt := 12) hx hb ⟨by omega, by omega⟩ ⟨by omega, by omega⟩ dJ2_rangeCheckForAdd_5 (by decide) (fun c5 => ?_) (fun c5 => ?_)
  · skip
    exact absurd c5 (by omega)
  · skip
    refine lv_iload_n hx hb dJ2_rangeCheckForAdd_8 rfl (lv_at hl 1 rfl) ?_
    refine r_if_ge (tgt := 25) hx hb ⟨by omega, by omega⟩ dJ2_rangeCheckForAdd_9 (by decide) (fun c9 => ?_) (fun c9 => ?_)
    · skip
      refine r_vret hx hb hr hlk hQ hS (Nat.le_of_ble_eq_true rfl) (Nat.le_of_ble_eq_true rfl) dJ2_rangeCheckForAdd_25 ?_
      exact ⟨rfl, rfl⟩
    · exact absurd c9 (by omega)
set_option maxHeartbeats 4000000 in
theorem c_J2_add (G : fp_G) (x : Nat) (ed : Nat) (mc : Int32) (n : Nat) (cap : Nat) (b : Nat → Nat) (a : Nat) (i : Nat) (hne : ∀ k, k < n → b k ≠ x) (hax : a ≠ x) (hn : n ≤ 500) (hi : i ≤ n) : fp_M G yJ2_add cJ2_add 5 none 6 147 (1 - (cap - n)) (n + n / 2 + 11 - 10000 * (cap - n)) [.ref (x), .int (iI ((i : Nat) : Int)), .ref (a)] (fun H => fp_LE G x ed mc n cap b H ∧ fp_EL G n b H ∧ fp_EO G a H) (fun q => (g_s G).heap.size ≤ q ∧ (q = x ∨ q = ed)) (fun H v H1 => ∃ (ed2 : Nat), ∃ (mc2 : Int32), ∃ (cap2 : Nat), v = none ∧ (ed2 = ed ∨ H.size ≤ ed2) ∧ ((n < cap → cap2 = cap) ∧ (n = cap → (n = 0 → cap2 = 10) ∧ (0 < n → cap2 = n + max 1 (n / 2)))) ∧ fp_LE G x ed2 mc2 (n + 1) cap2 (fp_ins b i a) H1) := by
  refine fp_M.intro (by decide) (Nat.le_of_ble_eq_true rfl) ?_
  intro pg en s mi ag bl mt cd rR qQ ls X hx hb hr hlk hnm hR hQ hB hM hl
  have hS : va_S (fA (fun q => (g_s G).heap.size ≤ q ∧ (q = x ∨ q = ed)) s.heap.size) s.heap s.heap [] := va_S.rf
  generalize ([] : List Loc) = locs at hS ⊢
  have hb0 := hB.1
  have hAb : ∀ q, (fun q => (g_s G).heap.size ≤ q ∧ (q = x ∨ q = ed)) q → (g_s G).heap.size ≤ q := fun q h => h.1
  obtain ⟨h_ls, h_el, h_eo⟩ := hM
  have hsz0 := hS.1
  have lt_1 := h_ls.1.lt
  have lt_2 := h_ls.2.2
  have lt_3 := fp_el.lt h_eo
  have helt : ∀ k, k < n → b k < s.heap.size := fun k hk => (h_el k hk).lt
  have hed0 := X.2.2.2.2.2.deT (A := fp_no) hB fp_no.base
  have hxed : x ≠ ed := h_ls.ne X.2.2.2.2.2 hed0.2.2
  have hxb := h_ls.2.2.2
  have helne : ∀ k, k < n → b k ≠ x ∧ b k ≠ ed := fun k hk => ⟨hne k hk, fp_EL.ned X.2.2.2.2.2 h_ls h_el k hk⟩
  have hcap := h_ls.cap
  have haed := h_ls.nee X.2.2.2.2.2 hed0.2.2 h_eo
  rcases h_ls.2.1 with ⟨he1, he2, he3⟩ | ⟨hncap, hcap0, hcap1, f, hrow, hf⟩
  · skip
    refine lv_aload_n hx hb dJ2_add_0 rfl (lv_at hl 0 rfl) ?_
    refine lv_iload_n hx hb dJ2_add_1 rfl (lv_at hl 1 rfl) ?_
    refine r_callV (cells1 := 0) (slots1 := 0) X hR (c_J2_rangeCheckForAdd G x ed mc n cap b i hi) q562 q564 qs7 q92 q565 ⟨rfl, pd_J2_rangeCheckForAdd⟩ ⟨Nat.le_of_ble_eq_true rfl, Nat.le_of_ble_eq_true rfl⟩ rfl rfl (by omega) (by omega) h_ls.1 rfl rfl (Nat.le_of_ble_eq_true rfl) hl.1 dJ2_add_2 (hB.of hS hAb) h_ls hS (fun _ h => h.elim) (fun v H_7 locs hp_4 hz_5 hk_6 hS => ?_)
    obtain ⟨rfl, rfl⟩ := hp_4
    refine r_stk (st2 := []) rfl ?_
    have hlo := h_ls.1
    refine lv_aload_n hx hb dJ2_add_5 rfl (lv_at hl 0 rfl) ?_
    refine lv_dup hx hb dJ2_add_6 rfl ?_
    refine r_get X h_ls.1 rfl in_J2 0 (by decide) q161 (Or.inr q160) (v := .int (mc)) rfl dJ2_add_7 ?_
    refine lv_iconst (v := (iI ((1 : Nat) : Int))) hx hb dJ2_add_10 rfl ?_
    refine lv_iadd hx hb dJ2_add_11 ?_
    refine r_put X hlo hS (Or.inl ⟨by omega, Or.inl rfl⟩) rfl in_J2 tyJ2_ok nmJ2 0 (by decide) q161 (Or.inr q160) rfl rfl rfl (show 0 < 3 by decide) dJ2_add_12 (fun H_11 locs hE_8 hz_9 hq_10 hS => ?_)
    have hz_12 := hS.1
    have hls_13 : fp_LE G x ed (mc + (iI ((1 : Nat) : Int))) n cap b H_11 := ⟨hE_8, h_ls.2.1.kept (hq_10 _ (by omega)), fp_ltk h_ls.2.2.1 (hq_10 _ (by omega)), hxb⟩
    have lt_14 := hls_13.1.lt
    have lt_15 := hls_13.2.2
    refine lv_aload_n hx hb dJ2_add_15 rfl (lv_at hl 0 rfl) ?_
    refine r_get X hls_13.1 rfl in_J2 2 (by decide) q157 (Or.inl rfl) (v := .int (iI ((n : Nat) : Int))) rfl dJ2_add_16 ?_
    refine lv_dup hx hb dJ2_add_19 rfl ?_
    refine lv_istore_n (lv' := [(3, .int (iI ((n : Nat) : Int))), (0, .ref (x)), (1, .int (iI ((i : Nat) : Int))), (2, .ref (a))]) hx hb dJ2_add_20 rfl hl (by decide) rfl (fun ls hl => ?_)
    refine lv_aload_n hx hb dJ2_add_21 rfl (lv_at hl 1 rfl) ?_
    refine r_get X hls_13.1 rfl in_J2 1 (by decide) q154 (Or.inl rfl) (v := .ref (ed)) rfl dJ2_add_22 ?_
    refine lv_dup hx hb dJ2_add_25 rfl ?_
    refine lv_astore (lv' := [(4, .ref (ed)), (3, .int (iI ((n : Nat) : Int))), (0, .ref (x)), (1, .int (iI ((i : Nat) : Int))), (2, .ref (a))]) hx hb dJ2_add_26 hl (by decide) rfl (fun ls hl => ?_)
    refine r_tlen X (t := ed) (N := 0) (v := iI ((0 : Nat) : Int)) (by have h9 := (X.2.2.2.2.2.deT hB (fA.base hAb hB.1)).1; rw [← he3] at h9; exact h9) hS rfl dJ2_add_28 ?_
    refine r_icmp_ne (tgt := 38) hx hb ⟨by omega, by omega⟩ (by decide) dJ2_add_29 (by decide) (fun c29 => ?_) (fun c29 => ?_)
    · skip
      exact absurd c29 (by omega)
    · skip
      refine lv_aload_n hx hb dJ2_add_32 rfl (lv_at hl 2 rfl) ?_
      have hE_16 := fp_EL.mv h_el (fun k hk => fp_keptS (helt k hk) hS (by have := helne k hk; omega))
      refine r_callV (cells1 := 1) (slots1 := (0 + (n + n / 2 + 11))) X hR (c_J2_grow G x ed (mc + (iI ((1 : Nat) : Int))) n cap b hne (by omega) hn) q823 q825 qs9 q92 q826 ⟨rfl, pd_J2_grow⟩ ⟨Nat.le_of_ble_eq_true rfl, Nat.le_of_ble_eq_true rfl⟩ rfl rfl (by omega) (by omega) hls_13.1 rfl rfl (Nat.le_of_ble_eq_true rfl) hl.1 dJ2_add_33 (hB.of hS hAb) ⟨hls_13, hE_16⟩ hS (fun q h => by have h2 : (g_s G).heap.size ≤ q ∧ (q = x) := h; show ((g_s G).heap.size ≤ q ∧ (q = x ∨ q = ed)) ∨ s.heap.size ≤ q; omega) (fun v H_20 locs hp_17 hz_18 hk_19 hS => ?_)
      obtain ⟨ed2_21, cap2_22, rfl, hed2_23, hcap2_24, hE_25⟩ := hp_17
      have hz_26 := hS.1
      have lt_27 := hE_25.1.lt
      have lt_28 := hE_25.2.2
      refine r_stk (st2 := [.ref (ed2_21)]) rfl ?_
      obtain ⟨hbd_32, f_29, hrow_30, hf_31⟩ := fp_LE.own hE_25 (by omega)
      have hob_33 := hE_25.1
      have hxb_34 := hE_25.2.2.2
      have lt_35 := hob_33.lt
      have lt_36 := hrow_30.lt
      refine lv_astore (lv' := [(4, .ref (ed2_21)), (3, .int (iI ((n : Nat) : Int))), (0, .ref (x)), (1, .int (iI ((i : Nat) : Int))), (2, .ref (a))]) hx hb dJ2_add_36 hl (by decide) rfl (fun ls hl => ?_)
      refine lv_aload hx hb dJ2_add_38 (lv_at hl 0 rfl) ?_
      refine lv_iload_n hx hb dJ2_add_40 rfl (lv_at hl 3 rfl) ?_
      refine lv_aload hx hb dJ2_add_41 (lv_at hl 0 rfl) ?_
      refine lv_iload_n hx hb dJ2_add_43 rfl (lv_at hl 3 rfl) ?_
      refine lv_iconst (v := (iI ((1 : Nat) : Int))) hx hb dJ2_add_44 rfl ?_
      refine r_iaddN hx hb dJ2_add_45 ?_
      refine lv_iload_n hx hb dJ2_add_46 rfl (lv_at hl 1 rfl) ?_
      refine lv_iload_n hx hb dJ2_add_47 rfl (lv_at hl 3 rfl) ?_
      refine r_isub hx hb dJ2_add_48 ?_
      have hE_41 := fp_EL.mv h_el (fun k hk => fp_keptS (helt k hk) hS (by have := helne k hk; omega))
      refine r_copyQ (sp := i) (dp := i + 1) (n := n - i) X hR hl.1 hrow_30 hrow_30 hS (Or.inr (by omega)) q869 q625 q624 q114 (by omega) (by omega) (by omega) (by omega) (by omega) (by omega) (by omega) (fun j hj y hy => by rw [hf_31 _ (by omega)] at hy; cases hy; exact hE_41 _ (by omega)) (by decide) (Nat.le_of_ble_eq_true rfl) dJ2_add_49 (fun H_40 locs hE_37 hz_38 hq_39 hS => ?_)
      have hz_42 := hS.1
      refine lv_aload hx hb dJ2_add_52 (lv_at hl 0 rfl) ?_
      refine lv_iload_n hx hb dJ2_add_54 rfl (lv_at hl 3 rfl) ?_
      refine lv_aload_n hx hb dJ2_add_55 rfl (lv_at hl 4 rfl) ?_
      have hE_47 := fp_EO.mv h_eo (fp_keptS (by omega) hS (by omega))
      refine r_aastE X hE_37 hS (Or.inr (by omega)) (hE_47) (i0 := i) rfl (by omega) (by omega) dJ2_add_56 (fun H_46 locs hE_43 hz_44 hq_45 hS => ?_)
      have hz_48 := hS.1
      refine lv_aload_n hx hb dJ2_add_57 rfl (lv_at hl 2 rfl) ?_
      refine lv_iload_n hx hb dJ2_add_58 rfl (lv_at hl 1 rfl) ?_
      refine lv_iconst (v := (iI ((1 : Nat) : Int))) hx hb dJ2_add_59 rfl ?_
      refine r_iaddN hx hb dJ2_add_60 ?_
      have hE_50 := fp_At.kept hob_33 (hq_39 _ (by omega))
      have hE_51 := fp_At.kept hE_50 (hq_45 _ (by omega))
      refine r_put X hE_51 hS (Or.inl ⟨by omega, Or.inl rfl⟩) rfl in_J2 tyJ2_ok nmJ2 2 (by decide) q157 (Or.inl rfl) rfl rfl rfl (show 2 < 3 by decide) dJ2_add_61 (fun H_55 locs hE_52 hz_53 hq_54 hS => ?_)
      have hz_56 := hS.1
      refine r_vret hx hb hr hlk hQ hS (by omega) (by omega) dJ2_add_64 ?_
      have hE_58 := fp_At.kept hE_43 (hq_54 _ (by omega))
      exact ⟨ed2_21, mc + (iI ((1 : Nat) : Int)), cap2_22, rfl, (by omega), (by omega), (fp_LE.mk hE_52 hE_58 (by omega) (fp_inss hf_31 hi))⟩
  · skip
    refine lv_aload_n hx hb dJ2_add_0 rfl (lv_at hl 0 rfl) ?_
    refine lv_iload_n hx hb dJ2_add_1 rfl (lv_at hl 1 rfl) ?_
    refine r_callV (cells1 := 0) (slots1 := 0) X hR (c_J2_rangeCheckForAdd G x ed mc n cap b i hi) q562 q564 qs7 q92 q565 ⟨rfl, pd_J2_rangeCheckForAdd⟩ ⟨Nat.le_of_ble_eq_true rfl, Nat.le_of_ble_eq_true rfl⟩ rfl rfl (by omega) (by omega) h_ls.1 rfl rfl (Nat.le_of_ble_eq_true rfl) hl.1 dJ2_add_2 (hB.of hS hAb) h_ls hS (fun _ h => h.elim) (fun v H_62 locs hp_59 hz_60 hk_61 hS => ?_)
    obtain ⟨rfl, rfl⟩ := hp_59
    refine r_stk (st2 := []) rfl ?_
    have hlo := h_ls.1
    refine lv_aload_n hx hb dJ2_add_5 rfl (lv_at hl 0 rfl) ?_
    refine lv_dup hx hb dJ2_add_6 rfl ?_
    refine r_get X h_ls.1 rfl in_J2 0 (by decide) q161 (Or.inr q160) (v := .int (mc)) rfl dJ2_add_7 ?_
    refine lv_iconst (v := (iI ((1 : Nat) : Int))) hx hb dJ2_add_10 rfl ?_
    refine lv_iadd hx hb dJ2_add_11 ?_
    refine r_put X hlo hS (Or.inl ⟨by omega, Or.inl rfl⟩) rfl in_J2 tyJ2_ok nmJ2 0 (by decide) q161 (Or.inr q160) rfl rfl rfl (show 0 < 3 by decide) dJ2_add_12 (fun H_66 locs hE_63 hz_64 hq_65 hS => ?_)
    have hz_67 := hS.1
    have hls_68 : fp_LE G x ed (mc + (iI ((1 : Nat) : Int))) n cap b H_66 := ⟨hE_63, h_ls.2.1.kept (hq_65 _ (by omega)), fp_ltk h_ls.2.2.1 (hq_65 _ (by omega)), hxb⟩
    have lt_69 := hls_68.1.lt
    have lt_70 := hls_68.2.2
    refine lv_aload_n hx hb dJ2_add_15 rfl (lv_at hl 0 rfl) ?_
    refine r_get X hls_68.1 rfl in_J2 2 (by decide) q157 (Or.inl rfl) (v := .int (iI ((n : Nat) : Int))) rfl dJ2_add_16 ?_
    refine lv_dup hx hb dJ2_add_19 rfl ?_
    refine lv_istore_n (lv' := [(3, .int (iI ((n : Nat) : Int))), (0, .ref (x)), (1, .int (iI ((i : Nat) : Int))), (2, .ref (a))]) hx hb dJ2_add_20 rfl hl (by decide) rfl (fun ls hl => ?_)
    refine lv_aload_n hx hb dJ2_add_21 rfl (lv_at hl 1 rfl) ?_
    refine r_get X hls_68.1 rfl in_J2 1 (by decide) q154 (Or.inl rfl) (v := .ref (ed)) rfl dJ2_add_22 ?_
    refine lv_dup hx hb dJ2_add_25 rfl ?_
    refine lv_astore (lv' := [(4, .ref (ed)), (3, .int (iI ((n : Nat) : Int))), (0, .ref (x)), (1, .int (iI ((i : Nat) : Int))), (2, .ref (a))]) hx hb dJ2_add_26 hl (by decide) rfl (fun ls hl => ?_)
    refine r_alen X (t := 4) rfl (hrow.kept (hq_65 _ (by omega))) (v := iI ((cap : Nat) : Int)) rfl dJ2_add_28 ?_
    refine r_icmp_ne (tgt := 38) hx hb ⟨by omega, by omega⟩ ⟨by omega, by omega⟩ dJ2_add_29 (by decide) (fun c29 => ?_) (fun c29 => ?_)
    · skip
      obtain ⟨hbd_74, f_71, hrow_72, hf_73⟩ := fp_LE.own hls_68 (by omega)
      have hob_75 := hls_68.1
      have hxb_76 := hls_68.2.2.2
      have lt_77 := hob_75.lt
      have lt_78 := hrow_72.lt
      refine lv_aload hx hb dJ2_add_38 (lv_at hl 0 rfl) ?_
      refine lv_iload_n hx hb dJ2_add_40 rfl (lv_at hl 3 rfl) ?_
      refine lv_aload hx hb dJ2_add_41 (lv_at hl 0 rfl) ?_
      refine lv_iload_n hx hb dJ2_add_43 rfl (lv_at hl 3 rfl) ?_
      refine lv_iconst (v := (iI ((1 : Nat) : Int))) hx hb dJ2_add_44 rfl ?_
      refine r_iaddN hx hb dJ2_add_45 ?_
      refine lv_iload_n hx hb dJ2_add_46 rfl (lv_at hl 1 rfl) ?_
      refine lv_iload_n hx hb dJ2_add_47 rfl (lv_at hl 3 rfl) ?_
      refine r_isub hx hb dJ2_add_48 ?_
      have hE_83 := fp_EL.mv h_el (fun k hk => fp_keptS (helt k hk) hS (by have := helne k hk; omega))
      refine r_copyQ (sp := i) (dp := i + 1) (n := n - i) X hR hl.1 hrow_72 hrow_72 hS (Or.inl ⟨by omega, Or.inr (rfl)⟩) q869 q625 q624 q114 (by omega) (by omega) (by omega) (by omega) (by omega) (by omega) (by omega) (fun j hj y hy => by rw [hf_73 _ (by omega)] at hy; cases hy; exact hE_83 _ (by omega)) (by decide) (Nat.le_of_ble_eq_true rfl) dJ2_add_49 (fun H_82 locs hE_79 hz_80 hq_81 hS => ?_)
      have hz_84 := hS.1
      refine lv_aload hx hb dJ2_add_52 (lv_at hl 0 rfl) ?_
      refine lv_iload_n hx hb dJ2_add_54 rfl (lv_at hl 3 rfl) ?_
      refine lv_aload_n hx hb dJ2_add_55 rfl (lv_at hl 4 rfl) ?_
      have hE_89 := fp_EO.mv h_eo (fp_keptS (by omega) hS (by omega))
      refine r_aastE X hE_79 hS (Or.inl ⟨by omega, Or.inr (rfl)⟩) (hE_89) (i0 := i) rfl (by omega) (by omega) dJ2_add_56 (fun H_88 locs hE_85 hz_86 hq_87 hS => ?_)
      have hz_90 := hS.1
      refine lv_aload_n hx hb dJ2_add_57 rfl (lv_at hl 2 rfl) ?_
      refine lv_iload_n hx hb dJ2_add_58 rfl (lv_at hl 1 rfl) ?_
      refine lv_iconst (v := (iI ((1 : Nat) : Int))) hx hb dJ2_add_59 rfl ?_
      refine r_iaddN hx hb dJ2_add_60 ?_
      have hE_92 := fp_At.kept hob_75 (hq_81 _ (by omega))
      have hE_93 := fp_At.kept hE_92 (hq_87 _ (by omega))
      refine r_put X hE_93 hS (Or.inl ⟨by omega, Or.inl rfl⟩) rfl in_J2 tyJ2_ok nmJ2 2 (by decide) q157 (Or.inl rfl) rfl rfl rfl (show 2 < 3 by decide) dJ2_add_61 (fun H_97 locs hE_94 hz_95 hq_96 hS => ?_)
      have hz_98 := hS.1
      refine r_vret hx hb hr hlk hQ hS (by omega) (by omega) dJ2_add_64 ?_
      have hE_100 := fp_At.kept hE_85 (hq_96 _ (by omega))
      exact ⟨ed, mc + (iI ((1 : Nat) : Int)), cap, rfl, (by omega), (by omega), (fp_LE.mk hE_94 hE_100 (by omega) (fp_inss hf_73 hi))⟩
    · skip
      refine lv_aload_n hx hb dJ2_add_32 rfl (lv_at hl 2 rfl) ?_
      have hE_101 := fp_EL.mv h_el (fun k hk => fp_keptS (helt k hk) hS (by have := helne k hk; omega))
      refine r_callV (cells1 := 1) (slots1 := (0 + (n + n / 2 + 11))) X hR (c_J2_grow G x ed (mc + (iI ((1 : Nat) : Int))) n cap b hne (by omega) hn) q823 q825 qs9 q92 q826 ⟨rfl, pd_J2_grow⟩ ⟨Nat.le_of_ble_eq_true rfl, Nat.le_of_ble_eq_true rfl⟩ rfl rfl (by omega) (by omega) hls_68.1 rfl rfl (Nat.le_of_ble_eq_true rfl) hl.1 dJ2_add_33 (hB.of hS hAb) ⟨hls_68, hE_101⟩ hS (fun q h => by have h2 : (g_s G).heap.size ≤ q ∧ (q = x) := h; show ((g_s G).heap.size ≤ q ∧ (q = x ∨ q = ed)) ∨ s.heap.size ≤ q; omega) (fun v H_105 locs hp_102 hz_103 hk_104 hS => ?_)
      obtain ⟨ed2_106, cap2_107, rfl, hed2_108, hcap2_109, hE_110⟩ := hp_102
      have hz_111 := hS.1
      have lt_112 := hE_110.1.lt
      have lt_113 := hE_110.2.2
      refine r_stk (st2 := [.ref (ed2_106)]) rfl ?_
      obtain ⟨hbd_117, f_114, hrow_115, hf_116⟩ := fp_LE.own hE_110 (by omega)
      have hob_118 := hE_110.1
      have hxb_119 := hE_110.2.2.2
      have lt_120 := hob_118.lt
      have lt_121 := hrow_115.lt
      refine lv_astore (lv' := [(4, .ref (ed2_106)), (3, .int (iI ((n : Nat) : Int))), (0, .ref (x)), (1, .int (iI ((i : Nat) : Int))), (2, .ref (a))]) hx hb dJ2_add_36 hl (by decide) rfl (fun ls hl => ?_)
      refine lv_aload hx hb dJ2_add_38 (lv_at hl 0 rfl) ?_
      refine lv_iload_n hx hb dJ2_add_40 rfl (lv_at hl 3 rfl) ?_
      refine lv_aload hx hb dJ2_add_41 (lv_at hl 0 rfl) ?_
      refine lv_iload_n hx hb dJ2_add_43 rfl (lv_at hl 3 rfl) ?_
      refine lv_iconst (v := (iI ((1 : Nat) : Int))) hx hb dJ2_add_44 rfl ?_
      refine r_iaddN hx hb dJ2_add_45 ?_
      refine lv_iload_n hx hb dJ2_add_46 rfl (lv_at hl 1 rfl) ?_
      refine lv_iload_n hx hb dJ2_add_47 rfl (lv_at hl 3 rfl) ?_
      refine r_isub hx hb dJ2_add_48 ?_
      have hE_126 := fp_EL.mv h_el (fun k hk => fp_keptS (helt k hk) hS (by have := helne k hk; omega))
      refine r_copyQ (sp := i) (dp := i + 1) (n := n - i) X hR hl.1 hrow_115 hrow_115 hS (Or.inr (by omega)) q869 q625 q624 q114 (by omega) (by omega) (by omega) (by omega) (by omega) (by omega) (by omega) (fun j hj y hy => by rw [hf_116 _ (by omega)] at hy; cases hy; exact hE_126 _ (by omega)) (by decide) (Nat.le_of_ble_eq_true rfl) dJ2_add_49 (fun H_125 locs hE_122 hz_123 hq_124 hS => ?_)
      have hz_127 := hS.1
      refine lv_aload hx hb dJ2_add_52 (lv_at hl 0 rfl) ?_
      refine lv_iload_n hx hb dJ2_add_54 rfl (lv_at hl 3 rfl) ?_
      refine lv_aload_n hx hb dJ2_add_55 rfl (lv_at hl 4 rfl) ?_
      have hE_132 := fp_EO.mv h_eo (fp_keptS (by omega) hS (by omega))
      refine r_aastE X hE_122 hS (Or.inr (by omega)) (hE_132) (i0 := i) rfl (by omega) (by omega) dJ2_add_56 (fun H_131 locs hE_128 hz_129 hq_130 hS => ?_)
      have hz_133 := hS.1
      refine lv_aload_n hx hb dJ2_add_57 rfl (lv_at hl 2 rfl) ?_
      refine lv_iload_n hx hb dJ2_add_58 rfl (lv_at hl 1 rfl) ?_
      refine lv_iconst (v := (iI ((1 : Nat) : Int))) hx hb dJ2_add_59 rfl ?_
      refine r_iaddN hx hb dJ2_add_60 ?_
      have hE_135 := fp_At.kept hob_118 (hq_124 _ (by omega))
      have hE_136 := fp_At.kept hE_135 (hq_130 _ (by omega))
      refine r_put X hE_136 hS (Or.inl ⟨by omega, Or.inl rfl⟩) rfl in_J2 tyJ2_ok nmJ2 2 (by decide) q157 (Or.inl rfl) rfl rfl rfl (show 2 < 3 by decide) dJ2_add_61 (fun H_140 locs hE_137 hz_138 hq_139 hS => ?_)
      have hz_141 := hS.1
      refine r_vret hx hb hr hlk hQ hS (by omega) (by omega) dJ2_add_64 ?_
      have hE_143 := fp_At.kept hE_128 (hq_139 _ (by omega))
      exact ⟨ed2_106, mc + (iI ((1 : Nat) : Int)), cap2_107, rfl, (by omega), (by omega), (fp_LE.mk hE_137 hE_143 (by omega) (fp_inss hf_116 hi))⟩
set_option maxHeartbeats 4000000 in
theorem c_J26_equals (G : fp_G) (a : Nat) (c : Nat) : fp_M G yJ26_equals cJ26_equals 2 (some .boolean) 1 12 0 0 [.ref (a), .ref (c)] (fun H => True) fp_no (fun H v H1 => v = some (.int (iI (bI (decide (a = c))))) ∧ H = H1) := by
  refine fp_M.introF (by decide +kernel) (Nat.le_of_ble_eq_true rfl) ?_
  intro pg en s mi ag bl mt cd rR qQ ls X hx hb hr hlk hnm hR hQ hB hM hl
  have hS : va_S (fA fp_no s.heap.size) s.heap s.heap [] := va_S.rf
  generalize ([] : List Loc) = locs at hS ⊢
  have hb0 := hB.1
  have hsz0 := hS.1
  refine lv_aload_n hx hb dJ26_equals_0 rfl (lv_at hl 0 rfl) ?_
  refine lv_aload_n hx hb dJ26_equals_1 rfl (lv_at hl 1 rfl) ?_
  refine lv_acmp_ne (rx := (some a)) (ry := (some c)) (tgt := 9) hx hb dJ26_equals_2 (by decide) (fun c2 => ?_) (fun c2 => ?_)
  · skip
    refine lv_iconst (v := (iI ((0 : Nat) : Int))) hx hb dJ26_equals_9 rfl ?_
    refine r_zret hx hb hr hlk hQ hS (Nat.le_of_ble_eq_true rfl) (Nat.le_of_ble_eq_true rfl) dJ26_equals_10 rfl ?_
    exact ⟨(congrArg (fun q : Bool => some (Value.int (iI (bI q)))) (Eq.symm (decide_eq_false (fun h => c2 (congrArg some h))))), rfl⟩
  · skip
    refine lv_iconst (v := (iI ((1 : Nat) : Int))) hx hb dJ26_equals_5 rfl ?_
    refine lv_goto (tgt := 10) hx hb dJ26_equals_6 (by decide) ?_
    refine r_zret hx hb hr hlk hQ hS (Nat.le_of_ble_eq_true rfl) (Nat.le_of_ble_eq_true rfl) dJ26_equals_10 rfl ?_
    exact ⟨(congrArg (fun q : Bool => some (Value.int (iI (bI q)))) (Eq.symm (decide_eq_true (Option.some.inj c2)))), rfl⟩
section FPEQ
variable {G : fp_G} {p : Program} {e : Env} {R : Room} {s : State} {m : MethodId} {args : Array Value} {below : List Frame} {meth : Method} {c : Code} {H : Heap} {locs : List Loc} {cells slots : Nat} {Q : State → Prop}
variable {cc : ByteArray} {pc nL : Nat} {ls : Array Slot} {rest : List Value} {own : String} {A0 : Nat → Prop} {a a2 : Nat} {b : Nat → Nat}
theorem b_equals {index fr0 lo0 mc0 ms0 : Nat} (X : fp_C G p s m args c cc own nL) (hR : fp_R R fr0 lo0 mc0 ms0) (hat : fp_At G H a (fp_bE b)) (hb3 : b 1 < 3) (w1 : Cond.methodLink own index ⟨"java/lang/Object", "equals", "(Ljava/lang/Object;)Z"⟩ ∈ lw_all) (hfr : 3 ≤ fr0) (hlo : 60 ≤ lo0) (hcells : cells ≤ mc0) (hslots : slots ≤ ms0) (hrest : (rest.map fun v => v.category).sum ≤ 8) (hls : ls.size = nL) (hd : decode cc pc = .ok (.invokevirtual index, 3)) (hB : fp_B G H) (hS : va_S (fA A0 s.heap.size) s.heap H locs)
    (kk : ∀ locs1 : List Loc, va_S (fA A0 s.heap.size) s.heap H locs1 → W p (g_l G) e R s m args below meth c H locs1 cells slots Q (F0 m (pc + 3) ls (.int (iI (bI (decide (a = a2)))) :: rest))) : W p (g_l G) e R s m args below meth c H locs cells slots Q (F0 m pc ls (.ref a2 :: .ref a :: rest)) := by
  rcases (show b 1 = 0 ∨ b 1 = 1 ∨ b 1 = 2 by omega) with h | h | h
  · have hat2 := hat
    rw [fp_bE_0 h] at hat2
    refine r_callU (As := [.ref a2]) (x := ⟨"java/lang/Object", "equals", "(Ljava/lang/Object;)Z"⟩) (C := "FortPlanner$Foam") (owner := "java/lang/Object") (ci := 3) (cells1 := cells) (slots1 := slots) X hR (c_J26_equals G a a2) w1 q881 (Or.inr ⟨q880, _, _, _, q909⟩) q886 q880 q2533 q909 ⟨by decide, by decide, rfl⟩ ⟨by omega, by omega⟩ rfl rfl hcells hslots hat2 rfl rfl hrest hls hd hB trivial hS (fun _ h => h.elim) (fun v H1 locs hp _ _ hS => ?_)
    obtain ⟨rfl, rfl⟩ := hp
    exact kk locs hS
  · have hat2 := hat
    rw [fp_bE_1 h] at hat2
    refine r_callU (As := [.ref a2]) (x := ⟨"java/lang/Object", "equals", "(Ljava/lang/Object;)Z"⟩) (C := "FortPlanner$Board") (owner := "java/lang/Object") (ci := 4) (cells1 := cells) (slots1 := slots) X hR (c_J26_equals G a a2) w1 q881 (Or.inr ⟨q880, _, _, _, q909⟩) q884 q880 q2533 q909 ⟨by decide, by decide, rfl⟩ ⟨by omega, by omega⟩ rfl rfl hcells hslots hat2 rfl rfl hrest hls hd hB trivial hS (fun _ h => h.elim) (fun v H1 locs hp _ _ hS => ?_)
    obtain ⟨rfl, rfl⟩ := hp
    exact kk locs hS
  · have hat2 := hat
    rw [fp_bE_2 h] at hat2
    refine r_callU (As := [.ref a2]) (x := ⟨"java/lang/Object", "equals", "(Ljava/lang/Object;)Z"⟩) (C := "FortPlanner$Bag") (owner := "java/lang/Object") (ci := 5) (cells1 := cells) (slots1 := slots) X hR (c_J26_equals G a a2) w1 q881 (Or.inr ⟨q880, _, _, _, q909⟩) q883 q880 q2533 q909 ⟨by decide, by decide, rfl⟩ ⟨by omega, by omega⟩ rfl rfl hcells hslots hat2 rfl rfl hrest hls hd hB trivial hS (fun _ h => h.elim) (fun v H1 locs hp _ _ hS => ?_)
    obtain ⟨rfl, rfl⟩ := hp
    exact kk locs hS
end FPEQ
set_option maxHeartbeats 4000000 in
theorem c_J2_indexOfRange (G : fp_G) (x : Nat) (ed : Nat) (mc : Int32) (n : Nat) (cap : Nat) (b : Nat → Nat) (a : Nat) (B : Nat → Nat) (i : Nat) (hB3 : B 1 < 3) (hi : i < n) (hbi : b i = a) (hu : ∀ j, j < i → b j ≠ a) : fp_M G yJ2_indexOfRange cJ2_indexOfRange 6 (some .int) 3 60 0 0 [.ref (x), .ref (a), .int (iI ((0 : Nat) : Int)), .int (iI ((n : Nat) : Int))] (fun H => fp_LE G x ed mc n cap b H ∧ fp_At G H a (fp_bE B)) fp_no (fun H v H1 => v = some (.int (iI ((i : Nat) : Int))) ∧ H = H1) := by
  refine fp_M.intro (by decide) (Nat.le_of_ble_eq_true rfl) ?_
  intro pg en s mi ag bl mt cd rR qQ ls X hx hb hr hlk hnm hR hQ hB hM hl
  have hS : va_S (fA fp_no s.heap.size) s.heap s.heap [] := va_S.rf
  generalize ([] : List Loc) = locs at hS ⊢
  have hb0 := hB.1
  obtain ⟨h_ls, h_bk⟩ := hM
  have hsz0 := hS.1
  have lt_1 := h_ls.1.lt
  have lt_2 := h_ls.2.2
  have lt_3 := h_bk.lt
  have hcap := h_ls.cap
  obtain ⟨hnc, hc1000, f, hrow, hf⟩ := h_ls.row hi
  have lt_4 := hrow.lt
  refine lv_aload_n hx hb dJ2_indexOfRange_0 rfl (lv_at hl 0 rfl) ?_
  refine r_get X h_ls.1 rfl in_J2 1 (by decide) q154 (Or.inl rfl) (v := .ref (ed)) rfl dJ2_indexOfRange_1 ?_
  refine lv_astore (lv' := [(4, .ref (ed)), (0, .ref (x)), (1, .ref (a)), (2, .int (iI ((0 : Nat) : Int))), (3, .int (iI ((n : Nat) : Int)))]) hx hb dJ2_indexOfRange_4 hl (by decide) rfl (fun ls hl => ?_)
  refine lv_aload_n hx hb dJ2_indexOfRange_6 rfl (lv_at hl 2 rfl) ?_
  refine lv_ifnonnull hx hb dJ2_indexOfRange_7 (tgt := 39) (by decide) ?_
  refine lv_iload_n hx hb dJ2_indexOfRange_39 rfl (lv_at hl 3 rfl) ?_
  refine lv_istore (lv' := [(5, .int (iI ((0 : Nat) : Int))), (4, .ref (ed)), (0, .ref (x)), (1, .ref (a)), (2, .int (iI ((0 : Nat) : Int))), (3, .int (iI ((n : Nat) : Int)))]) hx hb dJ2_indexOfRange_40 hl (by decide) rfl (fun ls hl => ?_)
  have L42 : ∀ (k : Nat), k ≤ i → ∀ (locs : List Loc) (ls : Array Slot), lv_has ls 6 [(0, .ref (x)), (1, .ref (a)), (2, .int (iI ((0 : Nat) : Int))), (3, .int (iI ((n : Nat) : Int))), (4, .ref (ed)), (5, .int (iI ((k : Nat) : Int)))] → va_S (fA fp_no s.heap.size) s.heap s.heap locs → W pg (g_l G) en rR s mi ag bl mt cd s.heap locs 0 0 qQ (F0 mi 42 ls []) := by
    refine lp_up i ?_
    intro k hk42 ih42 locs ls hl hS
    refine lv_iload hx hb dJ2_indexOfRange_42 (lv_at hl 5 rfl) ?_
    refine lv_iload_n hx hb dJ2_indexOfRange_44 rfl (lv_at hl 3 rfl) ?_
    refine r_icmp_ge (tgt := 69) hx hb ⟨by omega, by omega⟩ ⟨by omega, by omega⟩ dJ2_indexOfRange_45 (by decide) (fun c45 => ?_) (fun c45 => ?_)
    · skip
      exact absurd c45 (by omega)
    · skip
      refine lv_aload_n hx hb dJ2_indexOfRange_48 rfl (lv_at hl 1 rfl) ?_
      refine lv_aload hx hb dJ2_indexOfRange_49 (lv_at hl 4 rfl) ?_
      refine lv_iload hx hb dJ2_indexOfRange_51 (lv_at hl 5 rfl) ?_
      refine r_aaldI X rfl hrow (j := k) rfl (by omega) (by omega) dJ2_indexOfRange_53 ?_
      refine r_set (y := .ref (b k)) (by rw [hf k (by omega)]; rfl) ?_
      refine b_equals (a2 := (b k)) X hR h_bk hB3 q879 (by decide) (by decide) (Nat.le_of_ble_eq_true rfl) (Nat.le_of_ble_eq_true rfl) (Nat.le_of_ble_eq_true rfl) hl.1 dJ2_indexOfRange_54 (hB.of hS fp_no.base) hS (fun locs hS => ?_)
      refine r_ifeqB (tgt := 63) hx hb dJ2_indexOfRange_57 (by decide) (fun c57 => ?_) (fun c57 => ?_)
      · skip
        have d57 := of_decide_eq_false c57
        have hki : k ≠ i := by intro e; subst e; rw [hbi] at c57; simp at c57
        refine lv_iinc (v := (iI ((k + 1 : Nat) : Int))) (lv' := [(5, .int (iI ((k + 1 : Nat) : Int))), (0, .ref (x)), (1, .ref (a)), (2, .int (iI ((0 : Nat) : Int))), (3, .int (iI ((n : Nat) : Int))), (4, .ref (ed))]) hx hb dJ2_indexOfRange_63 hl (k := 5) rfl (iI_incN _ _) (by decide) rfl (fun ls hl => ?_)
        refine lv_goto (tgt := 42) hx hb dJ2_indexOfRange_66 (by decide) ?_
        exact ih42 (by omega) locs ls (lv_sub hl [1, 2, 3, 4, 5, 0] rfl) hS
      · skip
        have d57 := of_decide_eq_true c57
        have hki : ¬ k < i := fun h => hu k h (Eq.symm (of_decide_eq_true c57))
        refine lv_iload hx hb dJ2_indexOfRange_60 (lv_at hl 5 rfl) ?_
        refine r_iret hx hb hr hlk hQ hS (Nat.le_of_ble_eq_true rfl) (Nat.le_of_ble_eq_true rfl) dJ2_indexOfRange_62 ?_
        exact ⟨(congrArg (fun q : Nat => some (Value.int (iI (q : Int)))) (show k = i by omega)), rfl⟩
  exact L42 0 (by omega) locs ls (lv_sub hl [2, 3, 4, 5, 1, 0] rfl) hS
set_option maxHeartbeats 4000000 in
theorem c_J2_indexOf (G : fp_G) (x : Nat) (ed : Nat) (mc : Int32) (n : Nat) (cap : Nat) (b : Nat → Nat) (a : Nat) (B : Nat → Nat) (i : Nat) (hB3 : B 1 < 3) (hi : i < n) (hbi : b i = a) (hu : ∀ j, j < i → b j ≠ a) : fp_M G yJ2_indexOf cJ2_indexOf 2 (some .int) 4 85 0 0 [.ref (x), .ref (a)] (fun H => fp_LE G x ed mc n cap b H ∧ fp_At G H a (fp_bE B)) fp_no (fun H v H1 => v = some (.int (iI ((i : Nat) : Int))) ∧ H = H1) := by
  refine fp_M.intro (by decide) (Nat.le_of_ble_eq_true rfl) ?_
  intro pg en s mi ag bl mt cd rR qQ ls X hx hb hr hlk hnm hR hQ hB hM hl
  have hS : va_S (fA fp_no s.heap.size) s.heap s.heap [] := va_S.rf
  generalize ([] : List Loc) = locs at hS ⊢
  have hb0 := hB.1
  obtain ⟨h_ls, h_bk⟩ := hM
  have hsz0 := hS.1
  have lt_1 := h_ls.1.lt
  have lt_2 := h_ls.2.2
  have lt_3 := h_bk.lt
  refine lv_aload_n hx hb dJ2_indexOf_0 rfl (lv_at hl 0 rfl) ?_
  refine lv_aload_n hx hb dJ2_indexOf_1 rfl (lv_at hl 1 rfl) ?_
  refine lv_iconst (v := (iI ((0 : Nat) : Int))) hx hb dJ2_indexOf_2 rfl ?_
  refine lv_aload_n hx hb dJ2_indexOf_3 rfl (lv_at hl 0 rfl) ?_
  refine r_get X h_ls.1 rfl in_J2 2 (by decide) q157 (Or.inl rfl) (v := .int (iI ((n : Nat) : Int))) rfl dJ2_indexOf_4 ?_
  refine r_callV (cells1 := 0) (slots1 := 0) X hR (c_J2_indexOfRange G x ed mc n cap b a B i hB3 hi hbi hu) q874 q875 q876 q92 q877 ⟨rfl, pd_J2_indexOfRange⟩ ⟨Nat.le_of_ble_eq_true rfl, Nat.le_of_ble_eq_true rfl⟩ rfl rfl (Nat.le_of_ble_eq_true rfl) (Nat.le_of_ble_eq_true rfl) h_ls.1 rfl rfl (Nat.le_of_ble_eq_true rfl) hl.1 dJ2_indexOf_7 (hB.of hS fp_no.base) ⟨h_ls, h_bk⟩ hS (fun _ h => h.elim) (fun v H_7 locs hp_4 hz_5 hk_6 hS => ?_)
  obtain ⟨rfl, rfl⟩ := hp_4
  refine r_stk (st2 := [.int (iI ((i : Nat) : Int))]) rfl ?_
  refine r_iret hx hb hr hlk hQ hS (Nat.le_of_ble_eq_true rfl) (Nat.le_of_ble_eq_true rfl) dJ2_indexOf_10 ?_
  exact ⟨rfl, rfl⟩
set_option maxHeartbeats 4000000 in
theorem c_J2_fastRemove (G : fp_G) (x : Nat) (ed : Nat) (mc : Int32) (n : Nat) (cap : Nat) (b : Nat → Nat) (i : Nat) (hne : ∀ k, k < n → b k ≠ x) (hi : i < n) : fp_M G yJ2_fastRemove cJ2_fastRemove 4 none 2 60 0 0 [.ref (x), .ref (ed), .int (iI ((i : Nat) : Int))] (fun H => fp_LE G x ed mc n cap b H ∧ fp_EL G n b H) (fun q => (g_s G).heap.size ≤ q ∧ (q = x ∨ q = ed)) (fun H v H1 => ∃ (mc2 : Int32), v = none ∧ fp_LE G x ed mc2 (n - 1) cap (fp_rem b i) H1) := by
  refine fp_M.intro (by decide) (Nat.le_of_ble_eq_true rfl) ?_
  intro pg en s mi ag bl mt cd rR qQ ls X hx hb hr hlk hnm hR hQ hB hM hl
  have hS : va_S (fA (fun q => (g_s G).heap.size ≤ q ∧ (q = x ∨ q = ed)) s.heap.size) s.heap s.heap [] := va_S.rf
  generalize ([] : List Loc) = locs at hS ⊢
  have hb0 := hB.1
  have hAb : ∀ q, (fun q => (g_s G).heap.size ≤ q ∧ (q = x ∨ q = ed)) q → (g_s G).heap.size ≤ q := fun q h => h.1
  obtain ⟨h_ls, h_el⟩ := hM
  have hsz0 := hS.1
  have lt_1 := h_ls.1.lt
  have lt_2 := h_ls.2.2
  have helt : ∀ k, k < n → b k < s.heap.size := fun k hk => (h_el k hk).lt
  have hed0 := X.2.2.2.2.2.deT (A := fp_no) hB fp_no.base
  have hxed : x ≠ ed := h_ls.ne X.2.2.2.2.2 hed0.2.2
  have hxb := h_ls.2.2.2
  have helne : ∀ k, k < n → b k ≠ x ∧ b k ≠ ed := fun k hk => ⟨hne k hk, fp_EL.ned X.2.2.2.2.2 h_ls h_el k hk⟩
  have hcap := h_ls.cap
  obtain ⟨hbd, f, hrow, hf⟩ := fp_LE.own h_ls (by have := h_ls.row hi; omega)
  have hlo := h_ls.1
  refine lv_aload_n hx hb dJ2_fastRemove_0 rfl (lv_at hl 0 rfl) ?_
  refine lv_dup hx hb dJ2_fastRemove_1 rfl ?_
  refine r_get X hlo rfl in_J2 0 (by decide) q161 (Or.inr q160) (v := .int (mc)) rfl dJ2_fastRemove_2 ?_
  refine lv_iconst (v := (iI ((1 : Nat) : Int))) hx hb dJ2_fastRemove_5 rfl ?_
  refine lv_iadd hx hb dJ2_fastRemove_6 ?_
  refine r_put X hlo hS (Or.inl ⟨by omega, Or.inl rfl⟩) rfl in_J2 tyJ2_ok nmJ2 0 (by decide) q161 (Or.inr q160) rfl rfl rfl (show 0 < 3 by decide) dJ2_fastRemove_7 (fun H_6 locs hE_3 hz_4 hq_5 hS => ?_)
  have hz_7 := hS.1
  refine lv_aload_n hx hb dJ2_fastRemove_10 rfl (lv_at hl 0 rfl) ?_
  refine r_get X hE_3 rfl in_J2 2 (by decide) q157 (Or.inl rfl) (v := .int (iI ((n : Nat) : Int))) rfl dJ2_fastRemove_11 ?_
  refine lv_iconst (v := (iI ((1 : Nat) : Int))) hx hb dJ2_fastRemove_14 rfl ?_
  refine r_isub hx hb dJ2_fastRemove_15 ?_
  refine r_set (y := .int (iI ((n - 1 : Nat) : Int))) (congrArg (fun q : Int => Value.int (iI q)) (show ((n : Nat) : Int) - ((1 : Nat) : Int) = ((n - 1 : Nat) : Int) by omega)) ?_
  refine lv_dup hx hb dJ2_fastRemove_16 rfl ?_
  refine lv_istore_n (lv' := [(3, .int (iI ((n - 1 : Nat) : Int))), (0, .ref (x)), (1, .ref (ed)), (2, .int (iI ((i : Nat) : Int)))]) hx hb dJ2_fastRemove_17 rfl hl (by decide) rfl (fun ls hl => ?_)
  refine lv_iload_n hx hb dJ2_fastRemove_18 rfl (lv_at hl 3 rfl) ?_
  refine r_icmp_le (tgt := 34) hx hb ⟨by omega, by omega⟩ ⟨by omega, by omega⟩ dJ2_fastRemove_19 (by decide) (fun c19 => ?_) (fun c19 => ?_)
  · skip
    refine lv_aload_n hx hb dJ2_fastRemove_34 rfl (lv_at hl 2 rfl) ?_
    refine lv_aload_n hx hb dJ2_fastRemove_35 rfl (lv_at hl 1 rfl) ?_
    refine lv_iload_n hx hb dJ2_fastRemove_36 rfl (lv_at hl 0 rfl) ?_
    refine lv_dup_x1 hx hb dJ2_fastRemove_37 rfl rfl ?_
    refine r_put X hE_3 hS (Or.inl ⟨by omega, Or.inl rfl⟩) rfl in_J2 tyJ2_ok nmJ2 2 (by decide) q157 (Or.inl rfl) rfl rfl rfl (show 2 < 3 by decide) dJ2_fastRemove_38 (fun H_11 locs hE_8 hz_9 hq_10 hS => ?_)
    have hz_12 := hS.1
    refine lv_null hx hb dJ2_fastRemove_41 ?_
    have hE_14 := fp_At.kept hrow (hq_5 _ (by omega))
    have hE_15 := fp_At.kept hE_14 (hq_10 _ (by omega))
    refine r_aastN X rfl hE_15 hS (Or.inl ⟨by omega, Or.inr (rfl)⟩) (i0 := n - 1) rfl (by omega) (by omega) dJ2_fastRemove_42 (fun H_19 locs hE_16 hz_17 hq_18 hS => ?_)
    have hz_20 := hS.1
    refine r_vret hx hb hr hlk hQ hS (Nat.le_of_ble_eq_true rfl) (Nat.le_of_ble_eq_true rfl) dJ2_fastRemove_43 ?_
    have hE_22 := fp_At.kept hE_8 (hq_18 _ (by omega))
    exact ⟨mc + (iI ((1 : Nat) : Int)), rfl, (fp_LE.mk hE_22 hE_16 (by omega) (fp_rems0 hf (by omega)))⟩
  · skip
    refine lv_aload_n hx hb dJ2_fastRemove_22 rfl (lv_at hl 2 rfl) ?_
    refine lv_iload_n hx hb dJ2_fastRemove_23 rfl (lv_at hl 3 rfl) ?_
    refine lv_iconst (v := (iI ((1 : Nat) : Int))) hx hb dJ2_fastRemove_24 rfl ?_
    refine r_iaddN hx hb dJ2_fastRemove_25 ?_
    refine lv_aload_n hx hb dJ2_fastRemove_26 rfl (lv_at hl 2 rfl) ?_
    refine lv_iload_n hx hb dJ2_fastRemove_27 rfl (lv_at hl 3 rfl) ?_
    refine lv_iload_n hx hb dJ2_fastRemove_28 rfl (lv_at hl 0 rfl) ?_
    refine lv_iload_n hx hb dJ2_fastRemove_29 rfl (lv_at hl 3 rfl) ?_
    refine r_isub hx hb dJ2_fastRemove_30 ?_
    have hE_24 := fp_At.kept hrow (hq_5 _ (by omega))
    have hE_29 := fp_EL.mv h_el (fun k hk => fp_keptS (helt k hk) hS (by have := helne k hk; omega))
    refine r_copyQ (sp := i + 1) (dp := i) (n := n - 1 - i) X hR hl.1 hE_24 hE_24 hS (Or.inl ⟨by omega, Or.inr (rfl)⟩) q869 q625 q624 q114 (by omega) (by omega) (by omega) (by omega) (by omega) (by omega) (by omega) (fun j hj y hy => by rw [hf _ (by omega)] at hy; cases hy; exact hE_29 _ (by omega)) (by decide) (Nat.le_of_ble_eq_true rfl) dJ2_fastRemove_31 (fun H_28 locs hE_25 hz_26 hq_27 hS => ?_)
    have hz_30 := hS.1
    refine lv_aload_n hx hb dJ2_fastRemove_34 rfl (lv_at hl 2 rfl) ?_
    refine lv_aload_n hx hb dJ2_fastRemove_35 rfl (lv_at hl 1 rfl) ?_
    refine lv_iload_n hx hb dJ2_fastRemove_36 rfl (lv_at hl 0 rfl) ?_
    refine lv_dup_x1 hx hb dJ2_fastRemove_37 rfl rfl ?_
    have hE_32 := fp_At.kept hE_3 (hq_27 _ (by omega))
    refine r_put X hE_32 hS (Or.inl ⟨by omega, Or.inl rfl⟩) rfl in_J2 tyJ2_ok nmJ2 2 (by decide) q157 (Or.inl rfl) rfl rfl rfl (show 2 < 3 by decide) dJ2_fastRemove_38 (fun H_36 locs hE_33 hz_34 hq_35 hS => ?_)
    have hz_37 := hS.1
    refine lv_null hx hb dJ2_fastRemove_41 ?_
    have hE_39 := fp_At.kept hE_25 (hq_35 _ (by omega))
    refine r_aastN X rfl hE_39 hS (Or.inl ⟨by omega, Or.inr (rfl)⟩) (i0 := n - 1) rfl (by omega) (by omega) dJ2_fastRemove_42 (fun H_43 locs hE_40 hz_41 hq_42 hS => ?_)
    have hz_44 := hS.1
    refine r_vret hx hb hr hlk hQ hS (Nat.le_of_ble_eq_true rfl) (Nat.le_of_ble_eq_true rfl) dJ2_fastRemove_43 ?_
    have hE_46 := fp_At.kept hE_33 (hq_42 _ (by omega))
    exact ⟨mc + (iI ((1 : Nat) : Int)), rfl, (fp_LE.mk hE_46 hE_40 (by omega) (fp_rems hf hi))⟩
set_option maxHeartbeats 4000000 in
theorem c_J2_remove (G : fp_G) (x : Nat) (ed : Nat) (mc : Int32) (n : Nat) (cap : Nat) (b : Nat → Nat) (a : Nat) (B : Nat → Nat) (i : Nat) (hB3 : B 1 < 3) (hi : i < n) (hbi : b i = a) (hu : ∀ j, j < i → b j ≠ a) (hne : ∀ k, k < n → b k ≠ x) : fp_M G yJ2_remove cJ2_remove 5 (some .boolean) 3 83 0 0 [.ref (x), .ref (a)] (fun H => fp_LE G x ed mc n cap b H ∧ fp_EL G n b H ∧ fp_At G H a (fp_bE B)) (fun q => (g_s G).heap.size ≤ q ∧ (q = x ∨ q = ed)) (fun H v H1 => ∃ (mc2 : Int32), v = some (.int (iI ((1 : Nat) : Int))) ∧ fp_LE G x ed mc2 (n - 1) cap (fp_rem b i) H1) := by
  refine fp_M.intro (by decide) (Nat.le_of_ble_eq_true rfl) ?_
  intro pg en s mi ag bl mt cd rR qQ ls X hx hb hr hlk hnm hR hQ hB hM hl
  have hS : va_S (fA (fun q => (g_s G).heap.size ≤ q ∧ (q = x ∨ q = ed)) s.heap.size) s.heap s.heap [] := va_S.rf
  generalize ([] : List Loc) = locs at hS ⊢
  have hb0 := hB.1
  have hAb : ∀ q, (fun q => (g_s G).heap.size ≤ q ∧ (q = x ∨ q = ed)) q → (g_s G).heap.size ≤ q := fun q h => h.1
  obtain ⟨h_ls, h_el, h_bk⟩ := hM
  have hsz0 := hS.1
  have lt_1 := h_ls.1.lt
  have lt_2 := h_ls.2.2
  have lt_3 := h_bk.lt
  have helt : ∀ k, k < n → b k < s.heap.size := fun k hk => (h_el k hk).lt
  have hed0 := X.2.2.2.2.2.deT (A := fp_no) hB fp_no.base
  have hxed : x ≠ ed := h_ls.ne X.2.2.2.2.2 hed0.2.2
  have hxb := h_ls.2.2.2
  have helne : ∀ k, k < n → b k ≠ x ∧ b k ≠ ed := fun k hk => ⟨hne k hk, fp_EL.ned X.2.2.2.2.2 h_ls h_el k hk⟩
  have hcap := h_ls.cap
  have hbkl := h_bk.lt
  have haed : a ≠ ed := fp_EL.ned X.2.2.2.2.2 h_ls h_el i hi ∘ (fun h => hbi.trans h)
  have hax : a ≠ x := fun h => hne i hi (hbi.trans h)
  obtain ⟨hbd, f, hrow, hf⟩ := fp_LE.own h_ls (by have := h_ls.row hi; omega)
  refine lv_aload_n hx hb dJ2_remove_0 rfl (lv_at hl 0 rfl) ?_
  refine r_get X h_ls.1 rfl in_J2 1 (by decide) q154 (Or.inl rfl) (v := .ref (ed)) rfl dJ2_remove_1 ?_
  refine lv_astore_n (lv' := [(2, .ref (ed)), (0, .ref (x)), (1, .ref (a))]) hx hb dJ2_remove_4 rfl hl (by decide) rfl (fun ls hl => ?_)
  refine lv_aload_n hx hb dJ2_remove_5 rfl (lv_at hl 1 rfl) ?_
  refine r_get X h_ls.1 rfl in_J2 2 (by decide) q157 (Or.inl rfl) (v := .int (iI ((n : Nat) : Int))) rfl dJ2_remove_6 ?_
  refine lv_istore_n (lv' := [(3, .int (iI ((n : Nat) : Int))), (2, .ref (ed)), (0, .ref (x)), (1, .ref (a))]) hx hb dJ2_remove_9 rfl hl (by decide) rfl (fun ls hl => ?_)
  refine lv_iconst (v := (iI ((0 : Nat) : Int))) hx hb dJ2_remove_10 rfl ?_
  refine lv_istore (lv' := [(4, .int (iI ((0 : Nat) : Int))), (3, .int (iI ((n : Nat) : Int))), (2, .ref (ed)), (0, .ref (x)), (1, .ref (a))]) hx hb dJ2_remove_11 hl (by decide) rfl (fun ls hl => ?_)
  refine lv_aload_n hx hb dJ2_remove_13 rfl (lv_at hl 4 rfl) ?_
  refine lv_ifnonnull hx hb dJ2_remove_14 (tgt := 39) (by decide) ?_
  have L39 : ∀ (k : Nat), k ≤ i → ∀ (H_4 : Heap) (locs : List Loc) (ls : Array Slot), lv_has ls 5 [(0, .ref (x)), (1, .ref (a)), (2, .ref (ed)), (3, .int (iI ((n : Nat) : Int))), (4, .int (iI ((k : Nat) : Int)))] → va_S (fA (fun q => (g_s G).heap.size ≤ q ∧ (q = x ∨ q = ed)) s.heap.size) s.heap H_4 locs → (s.heap.size ≤ H_4.size) → fp_LE G x ed mc n cap b H_4 → fp_At G H_4 ed (eQ G 4 cap f) → W pg (g_l G) en rR s mi ag bl mt cd H_4 locs 0 0 qQ (F0 mi 39 ls []) := by
    refine lp_up i ?_
    intro k hk39 ih39 H_4 locs ls hl hS hz_5 hE_6 hE_7
    have hz_8 := hS.1
    have lt_9 := hE_6.1.lt
    have lt_10 := hE_6.2.2
    have lt_11 := hE_7.lt
    refine lv_iload hx hb dJ2_remove_39 (lv_at hl 4 rfl) ?_
    refine lv_iload_n hx hb dJ2_remove_41 rfl (lv_at hl 3 rfl) ?_
    refine r_icmp_ge (tgt := 65) hx hb ⟨by omega, by omega⟩ ⟨by omega, by omega⟩ dJ2_remove_42 (by decide) (fun c42 => ?_) (fun c42 => ?_)
    · skip
      exact absurd c42 (by omega)
    · skip
      refine lv_aload_n hx hb dJ2_remove_45 rfl (lv_at hl 1 rfl) ?_
      refine lv_aload_n hx hb dJ2_remove_46 rfl (lv_at hl 2 rfl) ?_
      refine lv_iload hx hb dJ2_remove_47 (lv_at hl 4 rfl) ?_
      refine r_aaldI X rfl hE_7 (j := k) rfl (by omega) (by omega) dJ2_remove_49 ?_
      refine r_set (y := .ref (b k)) (by rw [hf k (by omega)]; rfl) ?_
      have hE_12 := fp_At.kept h_bk (fp_keptS (by omega) hS (by omega))
      refine b_equals (a2 := (b k)) X hR hE_12 hB3 q879 (by decide) (by decide) (Nat.le_of_ble_eq_true rfl) (Nat.le_of_ble_eq_true rfl) (Nat.le_of_ble_eq_true rfl) hl.1 dJ2_remove_50 (hB.of hS hAb) hS (fun locs hS => ?_)
      refine r_ifeqB (tgt := 59) hx hb dJ2_remove_53 (by decide) (fun c53 => ?_) (fun c53 => ?_)
      · skip
        have d53 := of_decide_eq_false c53
        have hki : k ≠ i := by intro e; subst e; rw [hbi] at c53; simp at c53
        refine lv_iinc (v := (iI ((k + 1 : Nat) : Int))) (lv' := [(4, .int (iI ((k + 1 : Nat) : Int))), (0, .ref (x)), (1, .ref (a)), (2, .ref (ed)), (3, .int (iI ((n : Nat) : Int)))]) hx hb dJ2_remove_59 hl (k := 4) rfl (iI_incN _ _) (by decide) rfl (fun ls hl => ?_)
        refine lv_goto (tgt := 39) hx hb dJ2_remove_62 (by decide) ?_
        exact ih39 (by omega) H_4 locs ls (lv_sub hl [1, 2, 3, 4, 0] rfl) hS (by omega) hE_6 hE_7
      · skip
        have d53 := of_decide_eq_true c53
        have hki : ¬ k < i := fun h => hu k h (Eq.symm (of_decide_eq_true c53))
        refine lv_goto (tgt := 67) hx hb dJ2_remove_56 (by decide) ?_
        obtain rfl : k = i := by omega
        refine lv_aload_n hx hb dJ2_remove_67 rfl (lv_at hl 0 rfl) ?_
        refine lv_aload_n hx hb dJ2_remove_68 rfl (lv_at hl 2 rfl) ?_
        refine lv_iload hx hb dJ2_remove_69 (lv_at hl 4 rfl) ?_
        have hE_13 := fp_EL.mv h_el (fun k hk => fp_keptS (helt k hk) hS (by have := helne k hk; omega))
        refine r_callV (cells1 := 0) (slots1 := 0) X hR (c_J2_fastRemove G x ed mc n cap b k hne (by omega)) q1230 q1232 qs22 q92 q1233 ⟨rfl, pd_J2_fastRemove⟩ ⟨Nat.le_of_ble_eq_true rfl, Nat.le_of_ble_eq_true rfl⟩ rfl rfl (Nat.le_of_ble_eq_true rfl) (Nat.le_of_ble_eq_true rfl) hE_6.1 rfl rfl (Nat.le_of_ble_eq_true rfl) hl.1 dJ2_remove_71 (hB.of hS hAb) ⟨hE_6, hE_13⟩ hS (fun q h => by have h2 : (g_s G).heap.size ≤ q ∧ (q = x ∨ q = ed) := h; show ((g_s G).heap.size ≤ q ∧ (q = x ∨ q = ed)) ∨ s.heap.size ≤ q; omega) (fun v H_17 locs hp_14 hz_15 hk_16 hS => ?_)
        obtain ⟨mc2_18, rfl, hE_19⟩ := hp_14
        have hz_20 := hS.1
        have lt_21 := hE_19.1.lt
        have lt_22 := hE_19.2.2
        refine r_stk (st2 := []) rfl ?_
        refine lv_iconst (v := (iI ((1 : Nat) : Int))) hx hb dJ2_remove_74 rfl ?_
        refine r_zret hx hb hr hlk hQ hS (Nat.le_of_ble_eq_true rfl) (Nat.le_of_ble_eq_true rfl) dJ2_remove_75 rfl ?_
        exact ⟨mc2_18, rfl, hE_19⟩
  exact L39 0 (by omega) s.heap locs ls (lv_sub hl [3, 4, 2, 1, 0] rfl) hS (Nat.le_refl _) h_ls hrow
