/-! THE STATE: its cells are apart; the trial state -/
set_option maxRecDepth 100000
theorem fp_neOO {G : fp_G} {U : State} (hK : fp_K G U) {H : Heap} {a b i j : Nat} {fs gs : List Value} {r r2 : vw_C} (hi : fp_cl[i]? = some r) (hj : fp_cl[j]? = some r2) (hne : r.1 ≠ r2.1) (h : fp_At G H a (eO i fs)) (h2 : fp_At G H b (eO j gs)) : a ≠ b := by
  rintro rfl
  obtain ⟨r', -, cell, q1, q2, -⟩ := h
  obtain ⟨r2', -, cell2, p1, p2, -⟩ := h2
  have ec : cell = cell2 := Option.some.inj (q1.symm.trans p1)
  have e : (g_D G).1 i = (g_D G).1 j := q2.symm.trans ((congrArg Cell.cls ec).trans p2)
  obtain ⟨k1, hk1, n1⟩ := Vm.findClass_spec (hK.va.1 i _ hi).2.1
  obtain ⟨k2, hk2, n2⟩ := Vm.findClass_spec (hK.va.1 j _ hj).2.1
  rw [e] at hk1
  have ek : k1 = k2 := Option.some.inj (hk1.symm.trans hk2)
  exact hne (n1.symm.trans ((congrArg Class.name ek).trans n2))
theorem fp_neAA {G : fp_G} {U : State} (hK : fp_K G U) {H : Heap} {a b t t2 : Nat} {x y : vp_A} {ty ty2 : FieldType} (ht : (fp_tys (g_A G))[t]? = some (g_A G t, ty)) (ht2 : (fp_tys (g_A G))[t2]? = some (g_A G t2, ty2)) (hne : ty ≠ ty2) (h : fp_At G H a (.inl (g_A G t, x))) (h2 : fp_At G H b (.inl (g_A G t2, y))) : a ≠ b := by
  rintro rfl
  have h3 : H[a]? = some (vp_cell (g_A G t) x) := h
  have h4 : H[a]? = some (vp_cell (g_A G t2) y) := h2
  have h5 := Option.some.inj (h3.symm.trans h4)
  have c1 : ∀ (c : ClassId) (z : vp_A), (vp_cell c z).cls = c := fun c z => by
    obtain ⟨n, f⟩ := z
    rcases f with f | f | f | f | f <;> rfl
  have e : g_A G t = g_A G t2 := (c1 _ _).symm.trans ((congrArg Cell.cls h5).trans (c1 _ _))
  obtain ⟨-, kA, hkA, comp, hkA2⟩ := (hK.va.2 t _ ht).1 0 (fun _ => .null)
  obtain ⟨-, kB, hkB, comp2, hkB2⟩ := (hK.va.2 t2 _ ht2).1 0 (fun _ => .null)
  have hkA' : U.vm.classes[g_A G t]? = some kA := hkA
  have hkB' : U.vm.classes[g_A G t2]? = some kB := hkB
  rw [e] at hkA'
  have ek : kA = kB := Option.some.inj (hkA'.symm.trans hkB')
  rw [ek, hkB2] at hkA2
  cases hkA2
  exact hne rfl
theorem fp_neBO {G : fp_G} {U : State} (hK : fp_K G U) {H : Heap} {a b j : Nat} {B : Nat → Nat} {gs : List Value} {r2 : vw_C} (hj : fp_cl[j]? = some r2) (h6 : RX6 ≠ r2.1) (h7 : RX7 ≠ r2.1) (h8 : RX8 ≠ r2.1) (h : fp_At G H a (fp_bE B)) (h2 : fp_At G H b (eO j gs)) : a ≠ b := by
  unfold fp_bE at h
  split at h
  · exact fp_neOO hK (i := 3) rfl hj h6 h h2
  · split at h
    · exact fp_neOO hK (i := 4) rfl hj h7 h h2
    · exact fp_neOO hK (i := 5) rfl hj h8 h h2
theorem fp_neBA {G : fp_G} {U : State} (hK : fp_K G U) {H : Heap} {a b t : Nat} {B : Nat → Nat} {x : vp_A} {ty : FieldType} (ht : (fp_tys (g_A G))[t]? = some (g_A G t, ty)) (h : fp_At G H a (fp_bE B)) (h2 : fp_At G H b (.inl (g_A G t, x))) : a ≠ b := by
  unfold fp_bE at h
  split at h
  · exact fp_neOA hK (i := 3) rfl ht h h2
  · split at h
    · exact fp_neOA hK (i := 4) rfl ht h h2
    · exact fp_neOA hK (i := 5) rfl ht h h2
theorem fp_LE.neE {G : fp_G} {x ed a : Nat} {mc : Int32} {n cap : Nat} {b : Nat → Nat} {H : Heap} (h : fp_LE G x ed mc n cap b H) (hd : fp_de G < (g_s G).heap.size) (ha : (g_s G).heap.size ≤ a) (h2 : ∀ f : Nat → Option Nat, fp_At G H ed (eQ G 4 cap f) → a ≠ ed) : a ≠ ed := by
  rcases h.2.1 with ⟨-, -, h1⟩ | ⟨-, -, -, f, h1, -⟩
  · omega
  · exact h2 f h1
def fp_dis (x l ed z t : Nat) : Prop := (x ≠ l ∧ x ≠ ed ∧ x ≠ z ∧ x ≠ t) ∧ (l ≠ ed ∧ l ≠ z ∧ l ≠ t) ∧ z ≠ ed ∧ t ≠ ed ∧ z ≠ t
/-- a state's cells are apart -/
theorem fp_SE.dis {G : fp_G} {U : State} (hK : fp_K G U) (hd : fp_de G < (g_s G).heap.size) {x l ed z t : Nat} {mc : Int32} {cap : Nat} {b : Nat → Nat} {S : PS} {H : Heap} (h : fp_SE G x l ed z t mc cap b S H) : fp_dis x l ed z t ∧ ∀ k, k < sN S → b k ≠ x ∧ b k ≠ l ∧ b k ≠ ed ∧ b k ≠ z ∧ b k ≠ t := by
  obtain ⟨h1, h2, h3, h4, h5, hb1, hb2, hb3⟩ := h
  refine ⟨⟨⟨fp_neOO hK (i := 2) (j := 8) rfl rfl (by decide) h1 h2.1, h2.neE hd hb1 (fun f h => fp_neOA hK (i := 2) (t := 4) rfl rfl h1 h), fp_neOA hK (i := 2) (t := 5) rfl rfl h1 h3, fp_neOA hK (i := 2) (t := 1) rfl rfl h1 h4⟩, ⟨h2.ne hK hd, fp_neOA hK (i := 8) (t := 5) rfl rfl h2.1 h3, fp_neOA hK (i := 8) (t := 1) rfl rfl h2.1 h4⟩, h2.neE hd hb2 (fun f h => fp_neAA hK (t := 5) (t2 := 4) rfl rfl (by decide) h3 h), h2.neE hd hb3 (fun f h => fp_neAA hK (t := 1) (t2 := 4) rfl rfl (by decide) h4 h), fp_neAA hK (t := 5) (t2 := 1) rfl rfl (by decide) h3 h4⟩, fun k hk => ?_⟩
  have hb := h5 k hk
  obtain ⟨-, -, f, hr, -⟩ := h2.row hk
  exact ⟨fp_neBO hK (j := 2) rfl (by decide) (by decide) (by decide) hb h1, fp_neBO hK (j := 8) rfl (by decide) (by decide) (by decide) hb h2.1, fp_neBA hK (t := 4) rfl hb hr, fp_neBA hK (t := 5) rfl hb h3, fp_neBA hK (t := 1) rfl hb h4⟩
/-- a state with one block more -/
def fp_tri (S : PS) (B : Nat → Nat) : PS := (sN S + 1, va_up (sB S) (sN S) B, sP S, sZ S, sT S)
theorem fp_lin_c {n p p2 : Nat} {B : Nat → Nat → Nat} {z t z2 t2 : Nat → Nat} (bt : Nat) (L : Nat → Nat) : ∀ k, fp_lin (n, B, p, z, t) bt L k = fp_lin (n, B, p2, z2, t2) bt L k
  | 0 => rfl
  | k + 1 => by
    unfold fp_lin
    rw [fp_lin_c bt L k]
    rfl
theorem fp_lout_c {n p p2 : Nat} {B : Nat → Nat → Nat} {z t z2 t2 : Nat → Nat} : ∀ k, fp_lout (n, B, p, z, t) k = fp_lout (n, B, p2, z2, t2) k
  | 0 => rfl
  | k + 1 => by
    unfold fp_lout
    rw [fp_lout_c k, fp_lin_c (p := p) (p2 := p2)]
theorem fp_ld_c {n p p2 : Nat} {B : Nat → Nat → Nat} {z t z2 t2 : Nat → Nat} : fp_ld (n, B, p, z, t) = fp_ld (n, B, p2, z2, t2) := fp_lout_c 30
theorem fp_bears_c {n p p2 : Nat} {B : Nat → Nat → Nat} {z t z2 t2 : Nat → Nat} : fp_bears (n, B, p, z, t) = fp_bears (n, B, p2, z2, t2) := by
  unfold fp_bears
  rw [fp_ld_c (p2 := p2) (z2 := z2) (t2 := t2)]
theorem fp_tri_add (S : PS) (kd l w wt : Nat) : fp_bears (fp_tri S (fp_blk (sP S) kd l w wt (fp_base S l w))) = fp_bears (fp_add S kd l w wt) := fp_bears_c
/-- may a block be added? -/
def fp_can (S : PS) (B : Nat → Nat) : Bool := decide (¬ (sN S = 24 ∨ 30 < fp_top B)) && fp_zoned S (B 1) (B 2) (B 3) && fp_bears (fp_tri S B)
theorem fp_can_f1 {S : PS} {B : Nat → Nat} (h : sN S = 24 ∨ 30 < fp_top B) : fp_can S B = false := by
  unfold fp_can
  rw [decide_eq_false (fun z => z h)]
  rfl
theorem fp_can_f2 {S : PS} {B : Nat → Nat} (h : fp_zoned S (B 1) (B 2) (B 3) = false) : fp_can S B = false := by
  unfold fp_can
  rw [h, Bool.and_false]
  rfl
theorem fp_can_e {S : PS} {B : Nat → Nat} {r : Bool} (h1 : ¬ (sN S = 24 ∨ 30 < fp_top B)) (h : fp_zoned S (B 1) (B 2) (B 3) = true) (h3 : fp_bears (fp_tri S B) = r) : fp_can S B = r := by
  unfold fp_can
  rw [decide_eq_true h1, h, h3]
  rfl
theorem fp_can_plc {S : PS} {kd l w wt : Nat} (h0 : fp_place l w = true ∧ 1 ≤ (wt : Int) ∧ (wt : Int) ≤ 9) : fp_can S (fp_blk (sP S) kd l w wt (fp_base S l w)) = decide (fp_plc S kd l w wt = 0) := by
  by_cases h1 : sN S = 24
  · rw [fp_can_f1 (Or.inl h1), fp_plc_2 h0 (Or.inr h1)]
    rfl
  · cases hz : fp_zoned S kd l w with
    | false =>
      rw [fp_can_f2 hz, fp_plc_2 h0 (Or.inl hz)]
      rfl
    | true =>
      have e0 : sB (fp_add S kd l w wt) (sN S) = fp_blk (sP S) kd l w wt (fp_base S l w) := va_up_self _ _ _
      have h2 : ¬ (fp_zoned S kd l w = false ∨ sN S = 24) := fun z => by
        rcases z with z | z
        · rw [hz] at z
          cases z
        · exact h1 z
      by_cases h3 : 30 < fp_top (fp_blk (sP S) kd l w wt (fp_base S l w))
      · rw [fp_can_f1 (Or.inr h3), fp_plc_3 h0 h2 (Or.inl (by rw [e0]; exact h3))]
        rfl
      · rw [fp_can_e (fun z => by rcases z with z | z; exact h1 z; exact h3 z) hz (fp_tri_add S kd l w wt)]
        cases hb : fp_bears (fp_add S kd l w wt) with
        | false => rw [fp_plc_3 h0 h2 (Or.inr hb)]; rfl
        | true => rw [fp_plc_0 h0 h2 (fun z => by rcases z with z | z; rw [e0] at z; exact h3 z; rw [hb] at z; cases z)]; rfl
theorem fp_EL.up {G : fp_G} {n a : Nat} {b : Nat → Nat} {H : Heap} (h : fp_EL G n b H) (ha : fp_el G H a) : fp_EL G (n + 1) (va_up b n a) H := fun k hk => by
  by_cases e : k = n
  · subst e
    rw [va_up_self]
    exact ha
  · rw [va_up_ne _ _ e]
    exact h k (by omega)
theorem fp_BL.up {G : fp_G} {n a : Nat} {b : Nat → Nat} {Bs : Nat → Nat → Nat} {B : Nat → Nat} {H : Heap} (h : fp_BL G n b Bs H) (ha : fp_At G H a (fp_bE B)) : fp_BL G (n + 1) (va_up b n a) (va_up Bs n B) H := fun k hk => by
  by_cases e : k = n
  · subst e
    rw [va_up_self, va_up_self]
    exact ha
  · rw [va_up_ne _ _ e, va_up_ne _ _ e]
    exact h k (by omega)
/-- the block's kind sign -/
def fp_sgn (kd : Nat) : Nat := if kd = 0 then 102 else if kd = 1 then 98 else 103
def fp_dsB (q x l ed z t : Nat) : Prop := q ≠ x ∧ q ≠ l ∧ q ≠ ed ∧ q ≠ z ∧ q ≠ t
theorem fp_SE.disB {G : fp_G} {U : State} (hK : fp_K G U) (hd : fp_de G < (g_s G).heap.size) {x l ed z t : Nat} {mc : Int32} {cap : Nat} {b : Nat → Nat} {S : PS} {H : Heap} (h : fp_SE G x l ed z t mc cap b S H) {q : Nat} {B : Nat → Nat} (hq : fp_At G H q (fp_bE B)) (hqB : (g_s G).heap.size ≤ q) : fp_dsB q x l ed z t :=
  ⟨fp_neBO hK (j := 2) rfl (by decide) (by decide) (by decide) hq h.1, fp_neBO hK (j := 8) rfl (by decide) (by decide) (by decide) hq h.2.1.1, h.2.1.neE hd hqB (fun f hf => fp_neBA hK (t := 4) rfl hq hf), fp_neBA hK (t := 5) rfl hq h.2.2.1, fp_neBA hK (t := 1) rfl hq h.2.2.2.1⟩
/-- the blocks' cells are none of the state's -/
def fp_dsb (b : Nat → Nat) (n x l ed z t : Nat) : Prop := ∀ k, k < n → b k ≠ x ∧ b k ≠ l ∧ b k ≠ ed ∧ b k ≠ z ∧ b k ≠ t
theorem fp_ne2 {ed2 ed a n : Nat} (h : ed2 = ed ∨ n ≤ ed2) (h1 : a ≠ ed) (h2 : a < n) : a ≠ ed2 := fun e => by
  rcases h with h | h
  · exact h1 (e.trans h)
  · omega
def fp_dif (a b : Nat) : Prop := a ≠ b
theorem fp_sw_tri {S : PS} {b : Nat → Nat} {q : Nat} {B : Nat → Nat} (h : fp_sw S b) (hB : fp_bk B) (hn : sN S < 24) (hqb : ∀ k, k < sN S → b k ≠ q) : fp_sw (fp_tri S B) (va_up b (sN S) q) := by
  obtain ⟨⟨h1, h2, h3, h4, h5⟩, hi⟩ := h
  refine ⟨⟨by show sN S + 1 ≤ 24; omega, h2, fun k hk => ?_, h4, h5⟩, fun i j hi1 hj1 e => ?_⟩
  · have hk2 : k < sN S + 1 := hk
    show fp_bk (va_up (sB S) (sN S) B k)
    by_cases e : k = sN S
    · subst e
      rw [va_up_self]
      exact hB
    · rw [va_up_ne _ _ e]
      exact h3 k (by omega)
  · have hi2 : i < sN S + 1 := hi1
    have hj2 : j < sN S + 1 := hj1
    by_cases ei : i = sN S
    · by_cases ej : j = sN S
      · omega
      · rw [ei, va_up_self, va_up_ne _ _ ej] at e
        exact absurd e.symm (hqb j (by omega))
    · by_cases ej : j = sN S
      · rw [ej, va_up_self, va_up_ne _ _ ei] at e
        exact absurd e (hqb i (by omega))
      · rw [va_up_ne _ _ ei, va_up_ne _ _ ej] at e
        exact hi i j (by omega) (by omega) e
theorem fp_LE.unup {G : fp_G} {x ed : Nat} {mc : Int32} {n cap q : Nat} {b : Nat → Nat} {H : Heap} (h : fp_LE G x ed mc (n + 1 - 1) cap (fp_rem (va_up b n q) n) H) : fp_LE G x ed mc n cap b H := by
  rw [Nat.add_sub_cancel] at h
  exact h.congr (fun k hk => by unfold fp_rem; rw [if_pos hk, va_up_ne _ _ (by omega)])
/-- a state's beginning -/
def fp_S0 : PS := (0, fun _ _ => 0, 0, fun _ => 0, fun _ => 0)
theorem fp_upift {T : Nat → Nat} {k j : Nat} : va_up (fun j => if j < k then decide (T j = 1) else false) k (decide (T k = 1)) j = (if j < k + 1 then decide (T j = 1) else false) := by
  show (if j = k then decide (T k = 1) else if j < k then decide (T j = 1) else false) = _
  by_cases e : j = k
  · rw [if_pos e, if_pos (by omega), e]
  · rw [if_neg e]
    by_cases h : j < k
    · rw [if_pos h, if_pos (by omega)]
    · rw [if_neg h, if_neg (by omega)]
theorem fp_upifz {F : Nat → Nat} {T : Nat → Nat} {k j : Nat} : va_up (fun j => some (F (if j < k then T j else 0))) k (some (F (T k))) j = some (F (if j < k + 1 then T j else 0)) := by
  show (if j = k then some (F (T k)) else some (F (if j < k then T j else 0))) = _
  by_cases e : j = k
  · rw [if_pos e, if_pos (by omega), e]
  · rw [if_neg e]
    by_cases h : j < k
    · rw [if_pos h, if_pos (by omega)]
    · rw [if_neg h, if_neg (by omega)]
