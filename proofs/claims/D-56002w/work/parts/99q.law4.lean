/-! THE LAW's LEVEL: from call to call -/
set_option maxRecDepth 100000
theorem fp_SI.mono {i j : Nat} {S : PS} (h : fp_SI i S) (hij : i ≤ j) : fp_SI j S := ⟨h.1, h.2.1, Nat.le_trans h.2.2 (Nat.mul_le_mul_left 30 hij)⟩
/-- what holds before the call i, if there is one -/
def fp_TJ (i : Nat) (T : TH) : Prop := i ≤ 23 → fp_TI i T
theorem fp_TI.same {i : Nat} {T : TH} (h : fp_TI i T) : fp_TJ (i + 1) T := fun hi => ⟨h.1.mono (by omega), fun S hS => (h.2.1 S hS).mono (by omega), ⟨h.2.2.1.1, fun j hj => (h.2.2.1.2 j hj).mono (by omega)⟩, ⟨by have := h.2.2.2.1.1; omega, h.2.2.2.1.2⟩, h.2.2.2.2.1, h.2.2.2.2.2.1, h.2.2.2.2.2.2.1, hi⟩
theorem fp_TI.psh {i : Nat} {T : TH} {S2 : PS} (h : fp_TI i T) (hS : fp_SI (i + 1) S2) : fp_TJ (i + 1) (fp_psh T S2) := fun hi => by
  obtain ⟨h1, h2, h3, h4, h5, h6, h7, h8⟩ := h.same hi
  refine ⟨hS, h2, ⟨?_, fun j hj => ?_⟩, h4, h5, h6, h7, h8⟩
  · show fp_hn T.2.2.1.1 ≤ 8
    unfold fp_hn
    have := h3.1
    split <;> omega
  · show fp_SI (i + 1) (fp_hpush T.2.2.1.2 T.2.2.1.1 T.1 j)
    have hj2 : j < fp_hn T.2.2.1.1 := hj
    unfold fp_hn at hj2
    unfold fp_hpush
    by_cases e : T.2.2.1.1 = 8
    · rw [if_pos e] at hj2 ⊢
      by_cases e7 : j = 7
      · show fp_SI (i + 1) (if j = 7 then T.1 else T.2.2.1.2 (j + 1))
        rw [if_pos e7]; exact h1
      · show fp_SI (i + 1) (if j = 7 then T.1 else T.2.2.1.2 (j + 1))
        rw [if_neg e7]; exact h3.2 (j + 1) (by omega)
    · rw [if_neg e] at hj2 ⊢
      by_cases e7 : j = T.2.2.1.1
      · rw [e7, va_up_self]; exact h1
      · rw [va_up_ne _ _ e7]; exact h3.2 j (by omega)
theorem fp_TI.ln {i : Nat} {T : TH} {L : FL} (h : fp_TI i T) (hL : L.2 ≤ 80) : fp_TJ (i + 1) (fp_Tln T L) := fun hi => by
  obtain ⟨h1, h2, h3, h4, h5, h6, h7, h8⟩ := h.same hi
  exact ⟨h1, h2, h3, h4, hL, h6, h7, h8⟩
theorem fp_TI.ap {i : Nat} {T : TH} {z : Int} (h : fp_TI i T) (hz : 32 ≤ z ∧ z ≤ 126) : fp_TJ (i + 1) (fp_Tap T z) := fun hi => by
  obtain ⟨h1, h2, h3, h4, h5, h6, h7, h8⟩ := h.same hi
  refine ⟨h1, h2, h3, ⟨?_, fun j hj => ?_⟩, h5, h6, h7, h8⟩
  · show T.2.2.2.1.1 + 1 ≤ i + 1
    have := h.2.2.2.1.1
    omega
  · show va_up T.2.2.2.1.2 T.2.2.2.1.1 z.toNat j < 128
    have hj2 : j < T.2.2.2.1.1 + 1 := hj
    by_cases e : j = T.2.2.2.1.1
    · rw [e, va_up_self]; omega
    · rw [va_up_ne _ _ e]; exact h4.2 j (by omega)
theorem fp_TI.un {i : Nat} {T : TH} (h : fp_TI i T) (h0 : T.2.2.1.1 ≠ 0) : fp_TJ (i + 1) (fp_Tun T) := fun hi => by
  obtain ⟨h1, h2, h3, h4, h5, h6, h7, h8⟩ := h.same hi
  exact ⟨h3.2 (T.2.2.1.1 - 1) (by omega), h2, ⟨by have := h3.1; show T.2.2.1.1 - 1 ≤ 8; omega, fun j hj => h3.2 j (by have hj2 : j < T.2.2.1.1 - 1 := hj; omega)⟩, h4, h5, h6, h7, h8⟩
theorem fp_TI.sv {i : Nat} {T : TH} (h : fp_TI i T) : fp_TJ (i + 1) (fp_Tsv T) := fun hi => by
  obtain ⟨h1, h2, h3, h4, h5, h6, h7, h8⟩ := h.same hi
  exact ⟨h1, fun S hS => by cases hS; exact h1, h3, h4, h5, h6, h7, h8⟩
theorem fp_TI.re {i : Nat} {T : TH} (h : fp_TI i T) (hV : T.2.1 ≠ none) : fp_TJ (i + 1) (fp_Tre T) := fun hi => by
  obtain ⟨h1, h2, h3, h4, h5, h6, h7, h8⟩ := h.same hi
  refine ⟨?_, h2, ⟨Nat.zero_le _, fun j hj => absurd hj (Nat.not_lt_zero _)⟩, h4, h5, h6, h7, h8⟩
  show fp_SI (i + 1) (T.2.1.getD T.1)
  cases e : T.2.1 with
  | none => exact absurd e hV
  | some V => exact h2 V e
theorem fp_TI.ifc {i k : Nat} {T A : TH} (h : fp_TI i T) (hA : k = 0 → fp_TJ (i + 1) A) : fp_TJ (i + 1) (fp_if k A T) := by
  unfold fp_if
  split
  · exact hA (by assumption)
  · exact h.same
theorem fp_exe_n : ∀ (L : List (Nat × Int × Int × Int)) (S : PS), (fp_exe L S).1 ≤ L.length
  | [], _ => Nat.le_refl _
  | c :: l, S => by
    unfold fp_exe
    split
    · have := fp_exe_n l (fp_do S c.1 c.2.1 c.2.2.1 c.2.2.2).2
      show (fp_exe l _).1 + 1 ≤ l.length + 1
      omega
    · exact Nat.zero_le _
theorem fp_exe_ok : ∀ (L : List (Nat × Int × Int × Int)) (S : PS), fp_ok S → fp_Iv S → sP S + L.length < 999 → (fp_exe L S).2.1 = 0 → fp_ok (fp_exe L S).2.2 ∧ fp_Iv (fp_exe L S).2.2 ∧ sP (fp_exe L S).2.2 ≤ sP S + L.length
  | [], S, h1, h2, _, _ => ⟨h1, h2, Nat.le_refl _⟩
  | c :: l, S, h1, h2, h3, h4 => by
    have h3' : sP S + (l.length + 1) < 999 := h3
    by_cases e : (fp_dc S c).1 = 0
    · rw [fp_exe_0 e] at h4 ⊢
      have a := fp_do_ok h1 h2 (by omega) e
      have b := (fp_dc_30 h2.1 e).2
      have r := fp_exe_ok l (fp_dc S c).2 a.1 a.2 (by omega) h4
      exact ⟨r.1, r.2.1, by have := r.2.2; show sP (fp_exe l (fp_dc S c).2).2.2 ≤ sP S + (l.length + 1); omega⟩
    · rw [fp_exe_1 e] at h4
      exact absurd h4 e
theorem fp_prt_end {tx : Nat → Nat} {n : Nat} (h1 : ∀ i, i < n → tx i < 128) : ∀ f h, h ≤ n → (fp_prt tx n f h).2.2 ≤ n
  | 0, h, hh => hh
  | f + 1, h, hh => by
    unfold fp_prt
    split
    · have hc := fp_cmd_le (h := h + 1) (by omega) h1
      split
      · split
        · exact hc.1
        · exact fp_prt_end h1 f _ hc.1
      · exact hh
    · exact hh
theorem fp_prg_end {tx : Nat → Nat} {n : Nat} (h1 : ∀ i, i < n → tx i < 128) : (fp_prg tx n).2.2 ≤ n := by
  have hc := fp_cmd_le (h := 0) (Nat.zero_le n) h1
  unfold fp_prg
  split
  · exact hc.1
  · exact fp_prt_end h1 n _ hc.1
theorem fp_TI.rn {i : Nat} {T : TH} {P : List (Nat × Int × Int × Int) × Bool × Nat} {R : Nat × Nat × PS} (h : fp_TI i T) (hP : fp_prg T.2.2.2.1.2 T.2.2.2.1.1 = P) (hR : fp_exe P.1 T.1 = R) : fp_TJ (i + 1) (fp_Trn T P R) := fun hi => by
  obtain ⟨h1, h2, h3, h4, h5, h6, h7, h8⟩ := h.same hi
  have hl := fp_prg_len T.2.2.2.1.2 T.2.2.2.1.1
  have he := fp_prg_end h.2.2.2.1.2
  have hn := h.n23
  have hp := h.1.2.2
  have hr := fp_exe_n P.1 T.1
  rw [hP] at hl he
  rw [hR] at hr
  unfold fp_Trn
  split
  · exact ⟨h1, h2, h3, ⟨Nat.zero_le _, fun j hj => absurd hj (Nat.not_lt_zero _)⟩, h5, ⟨by show (-1 : Int) ≤ ((P.2.2 : Nat) : Int); omega, by show ((P.2.2 : Nat) : Int) < 1000; omega⟩, h7, h8⟩
  · split
    · exact ⟨h1, h2, h3, ⟨Nat.zero_le _, fun j hj => absurd hj (Nat.not_lt_zero _)⟩, h5, h6, ⟨by show (-1 : Int) ≤ ((R.1 : Nat) : Int); omega, by show ((R.1 : Nat) : Int) < 1000; omega⟩, h8⟩
    · have ho := fp_exe_ok P.1 T.1 h.1.1 h.1.2.1 (by omega) (by rw [hR]; omega)
      rw [hR] at ho
      have hps := h.psh (T := T) (S2 := R.2.2) ⟨ho.1, ho.2.1, by have := ho.2.2; omega⟩ hi
      obtain ⟨p1, p2, p3, p4, p5, p6, p7, p8⟩ := hps
      exact ⟨p1, p2, p3, ⟨Nat.zero_le _, fun j hj => absurd hj (Nat.not_lt_zero _)⟩, p5, p6, p7, p8⟩
theorem fp_fbl_le {S : PS} (hok : fp_ok S) {k : Nat} (hk : k < sN S) : (fp_fbl S k).2 ≤ 80 := by
  obtain ⟨b0, b1, b2, b3, b4, b5, b6, b7, b8⟩ := hok.2.2.1 k hk
  have a0 := fp_dg9 (n := sB S k 0) (by omega)
  have a2 := fp_dg9 (n := sB S k 2) (by omega)
  have a3 := fp_dg9 (n := sB S k 3) (by omega)
  have a5 := fp_dg9 (n := sB S k 5) (by omega)
  have a4 := fp_dg9 (n := sB S k 4) (by omega)
  have l1 := fp_ld_b hok k
  have al := fp_dg9 (n := fp_ld S k) (by omega)
  have s1 := fp_str_b (hok.2.2.1 k hk)
  have as := fp_dg9 (n := fp_str (sB S k)) (by omega)
  show 0 + 1 + sb_dg (sB S k 0) + 1 + sb_dg (sB S k 2) + 1 + sb_dg (sB S k 3) + 1 + 1 + sb_dg (sB S k 5) + 1 + sb_dg (sB S k 4) + 1 + sb_dg (fp_ld S k) + 1 + sb_dg (fp_str (sB S k)) ≤ 80
  omega
theorem fp_fc_z {S : PS} {z : Int} (h : fp_fc S z = 0) : fp_fnd S z < sN S := fp_fc_i h
/-- a cell of the model's or the law's row -/
def fp_LM (ad : Nat → Nat) (out q : Nat) : Prop := fp_ma ad q ∨ q = out
theorem fp_ME.keep {G : fp_G} {ad : Nat → Nat} {sc : Nat → Int} {ar : Nat → Nat → Int} {H H1 : Heap} {A : Nat → Prop} (h : fp_ME G ad sc ar H) (hk : ∀ q : Nat, q < H.size → ¬ A q → H1[q]? = H[q]?) (hA : ∀ q, fp_ma ad q → ¬ A q) : fp_ME G ad sc ar H1 := ⟨h.1.kept (hk _ h.1.lt (hA _ ⟨0, by decide, Or.inl rfl, rfl⟩)), fun k h1 h2 => (h.2 k h1 h2).kept (hk _ (h.2 k h1 h2).lt (hA _ ⟨k, h2, Or.inr h1, rfl⟩))⟩
theorem fp_MC.keep {G : fp_G} {ad : Nat → Nat} {k : Nat} {T : TH} {H H1 : Heap} {A : Nat → Prop} (h : fp_MC G ad k T H) (hk : ∀ q : Nat, q < H.size → ¬ A q → H1[q]? = H[q]?) (hA : ∀ q, fp_ma ad q → ¬ A q) : fp_MC G ad k T H1 := by
  obtain ⟨sc, ar, h1, h2⟩ := h
  exact ⟨sc, ar, h1.keep hk hA, h2⟩
theorem fp_MC.nb {G : fp_G} {U : State} (hK : fp_K G U) {ad : Nat → Nat} {k : Nat} {T : TH} {H : Heap} (h : fp_MC G ad k T H) : ∀ q, fp_ma ad q → fp_nb G H q := by
  obtain ⟨sc, ar, h1, -⟩ := h
  rintro q ⟨j, h2, h3, rfl⟩
  rcases h3 with rfl | h3
  · exact fp_nb.O hK (j := 0) rfl (by decide) h1.1
  · exact fp_nb.A hK (t := 0) rfl (h1.2 j h3 h2)
theorem fp_MC.ob {G : fp_G} {ad : Nat → Nat} {k : Nat} {T : TH} {H : Heap} (h : fp_MC G ad k T H) : ∃ fs, fp_At G H (ad 0) (eO 0 fs) := by
  obtain ⟨sc, ar, h1, -⟩ := h
  exact ⟨_, h1.1⟩
/-- behind a call of the model -/
theorem fp_PW.mo {G : fp_G} {U : State} (hK : fp_K G U) {x out k : Nat} {ad : Nat → Nat} {T T2 : TH} {H H1 : Heap} (h : fp_PW G x (fp_LM ad out) T H) (hM : fp_MC G ad k T2 H) (hA0 : fp_MA G ad) (hz : H.size ≤ H1.size) (hk : ∀ q : Nat, q < H.size → ¬ fp_ma ad q → H1[q]? = H[q]?) : fp_PW G x (fp_LM ad out) T H1 :=
  h.go (A := fp_ma ad) ⟨hz, hk⟩ (fun q hq => ⟨fp_ma.base hA0 q hq, Or.inl hq, hM.nb hK q hq⟩)
section FPL4
variable {G : fp_G} {p : Program} {e : Env} {R : Room} {s : State} {m : MethodId} {args : Array Value} {below : List Frame} {meth : Method} {c : Code} {H : Heap} {locs : List Loc} {cells slots : Nat} {Q : State → Prop}
variable {cc : ByteArray} {pc nL : Nat} {ls : Array Slot} {rest : List Value} {own : String} {A0 : Nat → Prop}
def fp_xs (xs : Nat → Int32) (j : Nat) : Int := (xs j).toInt
theorem fp_xs_rg (xs : Nat → Int32) (j : Nat) : rg (fp_xs xs j) := ⟨by have := Int32.le_toInt (xs j); unfold fp_xs; omega, by have := Int32.toInt_lt (xs j); unfold fp_xs; omega⟩
theorem fp_xs_i (xs : Nat → Int32) (j : Nat) : iI (fp_xs xs j) = xs j := Int32.ofInt_toInt _
/-- a number of the script is read -/
theorem r_scr {b L j : Nat} {xs : Nat → Int32} (X : fp_C G p s m args c cc own nL) (hX : va_X b L xs s s.heap) (hbl : b < s.heap.size) (hS : va_S (fA fp_no s.heap.size) s.heap H locs) (hj : j < L) (hL : L ≤ 96) (hd : decode cc pc = .ok (.iaload, 1))
    (kk : W p (g_l G) e R s m args below meth c H locs cells slots Q (F0 m (pc + 1) ls (.int (iI (fp_xs xs j)) :: rest))) : W p (g_l G) e R s m args below meth c H locs cells slots Q (F0 m pc ls (.int (iI ((j : Nat) : Int)) :: .ref b :: rest)) := by
  refine va_sld X.1 X.2.1 hX hbl (fun h => ?_) hS (iI_in rfl hj (by omega)) hd ?_
  · rcases h with h | h
    · exact h.elim
    · omega
  · rw [iI_cl rfl (by omega), ← fp_xs_i xs j]
    exact kk
def fp_ch (z : Int) : Int := (((iI z).toUInt32 % 65536).toInt32).toInt
theorem fp_ch_b (z : Int) : 0 ≤ fp_ch z ∧ fp_ch z < 65536 := by
  unfold fp_ch
  have h1 : (iI z).toBitVec.toNat % 65536 < 65536 := Nat.mod_lt _ (by decide)
  rw [pk_char, nI_toInt (by omega)]
  omega
theorem fp_ch_rg (z : Int) : rg (fp_ch z) := by have := fp_ch_b z; exact ⟨by omega, by omega⟩
theorem r_i2c {z : Int} (X : fp_C G p s m args c cc own nL) (hd : decode cc pc = .ok (.i2c, 1)) (kk : W p (g_l G) e R s m args below meth c H locs cells slots Q (F0 m (pc + 1) ls (.int (iI (fp_ch z)) :: rest))) : W p (g_l G) e R s m args below meth c H locs cells slots Q (F0 m pc ls (.int (iI z) :: rest)) :=
  lv_i2c X.1 X.2.1 hd (show _ = iI (fp_ch z) from (Int32.ofInt_toInt _).symm) kk
end FPL4
theorem fp_rm_k {i : Nat} {S : PS} {z : Int} (h : fp_SI i S) (e : fp_rm_c S z = 0) : fp_SI (i + 1) (fp_del S (fp_fnd S z)) := by
  unfold fp_rm_c at e
  by_cases h1 : fp_fc S z = 1
  · rw [if_pos h1] at e; cases e
  · rw [if_neg h1] at e
    by_cases h2 : fp_und S (fp_fnd S z) = true
    · rw [if_pos h2] at e; cases e
    · have h3 : fp_fnd S z < sN S := by
        unfold fp_fc at h1
        by_cases h4 : fp_fnd S z < sN S
        · exact h4
        · rw [if_neg h4] at h1; exact absurd rfl h1
      exact ⟨fp_del_ok h.1, h.2.1.del h3 (by cases h5 : fp_und S (fp_fnd S z) with | false => rfl | true => exact absurd h5 h2), by have := h.2.2; show sP S ≤ 30 * (i + 1); omega⟩
theorem fp_sz_k {i c : Nat} {S : PS} {z : Int} (h : fp_SI i S) : fp_SI (i + 1) (fp_setz S c (fp_zby z).toNat) := ⟨fp_setz_ok h.1 (by have := fp_zby_b z; omega), h.2.1.z, by have := h.2.2; show sP S ≤ 30 * (i + 1); omega⟩
theorem fp_to_k {i c t : Nat} {S : PS} (h : fp_SI i S) (ht : t < 2) : fp_SI (i + 1) (fp_sett S c t) := ⟨fp_sett_ok h.1 ht, h.2.1.t, by have := h.2.2; show sP S ≤ 30 * (i + 1); omega⟩
theorem fp_ap_k {n : Nat} {z : Int} (e : fp_ap_c n z = 0) : 32 ≤ z ∧ z ≤ 126 := by
  unfold fp_ap_c at e
  by_cases h : 32 ≤ z ∧ z ≤ 126
  · exact h
  · rw [if_pos h] at e; cases e
theorem fp_un_k {n : Nat} (e : fp_un_c n = 0) : n ≠ 0 := fun h => by
  unfold fp_un_c at e
  rw [if_pos h] at e; cases e
theorem fp_re_k {V : Option PS} (e : fp_re_c V = 0) : V ≠ none := fun h => by
  unfold fp_re_c at e
  rw [if_pos h] at e; cases e
theorem fp_ls_n {n : Nat} (h : n ≤ 12) : vf_n64 (FP.f2d (fp_div12f n)) := by
  rcases (show n = 0 ∨ n = 1 ∨ n = 2 ∨ n = 3 ∨ n = 4 ∨ n = 5 ∨ n = 6 ∨ n = 7 ∨ n = 8 ∨ n = 9 ∨ n = 10 ∨ n = 11 ∨ n = 12 by omega) with rfl | rfl | rfl | rfl | rfl | rfl | rfl | rfl | rfl | rfl | rfl | rfl | rfl <;> decide +kernel

set_option maxRecDepth 100000
set_option maxHeartbeats 1000000 in
theorem lc_0 {G : fp_G} {pg : Program} {en : Env} {rR : Room} {s : State} {mi : MethodId} {ag : Array Value} {bl : List Frame} {mt : Method} {cd : Code} {H : Heap} {locs : List Loc} {cells slots : Nat} {qQ : State → Prop} {ls : Array Slot} {b L x out i k MC MS : Nat} {xs : Nat → Int32} {ad : Nat → Nat} {T : TH} {g : Nat → Int64} (X : fp_C G pg s mi ag cd cL_law "FortPlannerLaw" 9) (hR : fp_R rR 8192 104096 MC MS) (hB0 : fp_B G s.heap) (hX : va_X b L xs s s.heap) (hbl : b < s.heap.size) (hL : L ≤ 96) (hi : 4 * i + 4 ≤ L) (hA0 : fp_MA G ad) (hob : (g_s G).heap.size ≤ out) (hoa : ¬ fp_ma ad out) (hl : lv_has ls 9 [(0, .ref (b)), (1, .ref (x)), (2, .ref (ad 0)), (3, .ref (out)), (4, .int (iI ((4 * i : Nat) : Int)))]) (hS : va_S (fA fp_no s.heap.size) s.heap H locs) (hsb : s.heap.size = (g_s G).heap.size) (hc : cells + 50006 ≤ MC) (hs : slots + 229018 ≤ MS) (hP : fp_PW G x (fp_LM ad out) T H) (hM : fp_MC G ad k T H) (ho : fp_At G H out (eJ G 1 g)) (hI : fp_TI i T) (kk : ∀ (H1 : Heap) (locs1 : List Loc) (ls1 : Array Slot) (T1 : TH) (k1 : Nat) (g1 : Nat → Int64), lv_has ls1 9 [(0, .ref (b)), (1, .ref (x)), (2, .ref (ad 0)), (3, .ref (out)), (4, .int (iI ((4 * i : Nat) : Int)))] → va_S (fA fp_no s.heap.size) s.heap H1 locs1 → fp_PW G x (fp_LM ad out) T1 H1 → fp_MC G ad k1 T1 H1 → fp_At G H1 out (eJ G 1 g1) → fp_TJ (i + 1) T1 → W pg (g_l G) en rR s mi ag bl mt cd H1 locs1 (cells + 50006) (slots + 229018) qQ (F0 mi 3331 ls1 [])) : W pg (g_l G) en rR s mi ag bl mt cd H locs cells slots qQ (F0 mi 296 ls []) := by
  obtain ⟨hx, hb, -⟩ := id X
  refine lv_aload_n hx hb dL_law_296 rfl (lv_at hl 1 rfl) ?_
  refine lv_aload_n hx hb dL_law_297 rfl (lv_at hl 0 rfl) ?_
  refine lv_iload hx hb dL_law_298 (lv_at hl 4 rfl) ?_
  refine lv_iconst (v := (iI ((1 : Nat) : Int))) hx hb dL_law_300 rfl ?_
  refine r_iaddN hx hb dL_law_301 ?_
  refine r_scr (j := 4 * i + 1) X hX hbl hS (by omega) hL dL_law_302 ?_
  refine lv_aload_n hx hb dL_law_303 rfl (lv_at hl 0 rfl) ?_
  refine lv_iload hx hb dL_law_304 (lv_at hl 4 rfl) ?_
  refine lv_iconst (v := (iI ((2 : Nat) : Int))) hx hb dL_law_306 rfl ?_
  refine r_iaddN hx hb dL_law_307 ?_
  refine r_scr (j := 4 * i + 2) X hX hbl hS (by omega) hL dL_law_308 ?_
  refine lv_aload_n hx hb dL_law_309 rfl (lv_at hl 0 rfl) ?_
  refine lv_iload hx hb dL_law_310 (lv_at hl 4 rfl) ?_
  refine lv_iconst (v := (iI ((3 : Nat) : Int))) hx hb dL_law_312 rfl ?_
  refine r_iaddN hx hb dL_law_313 ?_
  refine r_scr (j := 4 * i + 3) X hX hbl hS (by omega) hL dL_law_314 ?_
  refine lv_aload_n hx hb dL_law_315 rfl (lv_at hl 3 rfl) ?_
  obtain ⟨kc, hkc⟩ : ∃ kc, fp_plc T.1 0 (fp_xs xs (4 * i + 1)) (fp_xs xs (4 * i + 2)) (fp_xs xs (4 * i + 3)) = kc := ⟨_, rfl⟩
  refine x_callSH (cells1 := cells + 165) (slots1 := slots + 3215) X hR (x0_placeFoam G x (fp_LM ad out) T i out g (fp_xs xs (4 * i + 1)) (fp_xs xs (4 * i + 2)) (fp_xs xs (4 * i + 3)) hI (fp_xs_rg _ _) (fp_xs_rg _ _) (fp_xs_rg _ _) (Or.inr rfl) hob) q1109 q1110 q87 q1111 pd_X0_placeFoam ⟨Nat.le_of_ble_eq_true rfl, Nat.le_of_ble_eq_true rfl⟩ rfl rfl (by omega) (by omega) rfl (Nat.le_of_ble_eq_true rfl) hl.1 dL_law_316 (hB0.of hS fp_no.base) ⟨hP, ho⟩ hS (fun q h => Or.inr (by have h9 : (g_s G).heap.size ≤ q := h.1; omega)) (fun v H1 locs hp hz hk hS => ?_) (fun Ex qx cx H1 locs hp hz hk hS hcx hvx hlx => hp.elim)
  obtain ⟨g2, rfl, hg2, hP, ho⟩ := hp
  have hM := hM.keep hk (fun q hq h => h.2.elim (fun z => z (Or.inl hq)) (fun z => hoa (z ▸ hq)))
  refine r_stk (st2 := [.int (iI ((fp_plc T.1 0 (fp_xs xs (4 * i + 1)) (fp_xs xs (4 * i + 2)) (fp_xs xs (4 * i + 3)) : Nat) : Int))]) rfl ?_
  have hkb : kc ≤ 2 := by rw [← hkc]; unfold fp_plc; (repeat' split) <;> omega
  rw [hkc] at hg2 hP ⊢
  refine lv_istore (lv' := [(5, .int (iI ((kc : Nat) : Int))), (0, .ref (b)), (1, .ref (x)), (2, .ref (ad 0)), (3, .ref (out)), (4, .int (iI ((4 * i : Nat) : Int)))]) hx hb dL_law_319 hl (by decide) rfl (fun ls hl => ?_)
  refine lv_aload_n hx hb dL_law_321 rfl (lv_at hl 3 rfl) ?_
  refine lv_aload_n hx hb dL_law_322 rfl (lv_at hl 1 rfl) ?_
  refine lv_iload hx hb dL_law_323 (lv_at hl 5 rfl) ?_
  refine lv_iconst (v := (iI ((1 : Nat) : Int))) hx hb dL_law_325 rfl ?_
  refine r_iaddN hx hb dL_law_326 ?_
  refine r_scr (j := 4 * i + 1) X hX hbl hS (by omega) hL dL_law_327 ?_
  refine lv_aload_n hx hb dL_law_328 rfl (lv_at hl 1 rfl) ?_
  refine lv_iload hx hb dL_law_329 (lv_at hl 5 rfl) ?_
  refine lv_iconst (v := (iI ((2 : Nat) : Int))) hx hb dL_law_331 rfl ?_
  refine r_iaddN hx hb dL_law_332 ?_
  refine r_scr (j := 4 * i + 2) X hX hbl hS (by omega) hL dL_law_333 ?_
  refine lv_aload_n hx hb dL_law_334 rfl (lv_at hl 1 rfl) ?_
  refine lv_iload hx hb dL_law_335 (lv_at hl 5 rfl) ?_
  refine lv_iconst (v := (iI ((3 : Nat) : Int))) hx hb dL_law_337 rfl ?_
  refine r_iaddN hx hb dL_law_338 ?_
  refine r_scr (j := 4 * i + 3) X hX hbl hS (by omega) hL dL_law_339 ?_
  obtain ⟨fs3, hob3⟩ := hM.ob
  refine x_callV (cells1 := (cells + 165)) (slots1 := (slots + 3215)) X hR (mm_placeFoam G ad _ T i (fp_xs xs (4 * i + 1)) (fp_xs xs (4 * i + 2)) (fp_xs xs (4 * i + 3)) hA0 hI (fp_xs_rg _ _) (fp_xs_rg _ _) (fp_xs_rg _ _)) q2083 q2084 q2085 q100 q2086 ⟨rfl, pd_X4_placeFoam⟩ ⟨Nat.le_of_ble_eq_true rfl, Nat.le_of_ble_eq_true rfl⟩ rfl rfl (by omega) (by omega) hob3 rfl rfl (Nat.le_of_ble_eq_true rfl) hl.1 dL_law_340 (hB0.of hS fp_no.base) hM hS (fun q h => Or.inr (by have h9 : (g_s G).heap.size ≤ q := fp_ma.base hA0 q h; omega)) (fun v H1 locs hp hz hk hS => ?_) (fun Ex qx cx H1 locs hp hz hk hS hcx hvx hlx => hp.elim)
  obtain ⟨r, rfl, hr, hM2⟩ := hp
  have hP := hP.mo X.2.2.2.2.2 hM hA0 hz hk
  have ho := ho.kept (hk out ho.lt hoa)
  have hM := hM2
  clear hM2
  rw [hkc] at hr hM
  refine r_stk (st2 := [.int (iI (r))]) rfl ?_
  refine lv_istore (lv' := [(6, .int (iI (r))), (5, .int (iI ((kc : Nat) : Int))), (0, .ref (b)), (1, .ref (x)), (2, .ref (ad 0)), (3, .ref (out)), (4, .int (iI ((4 * i : Nat) : Int)))]) hx hb dL_law_343 hl (by decide) rfl (fun ls hl => ?_)
  refine lv_aload_n hx hb dL_law_345 rfl (lv_at hl 4 rfl) ?_
  obtain ⟨fs4, hob4⟩ := hM.ob
  refine x_callV (cells1 := (cells + 165)) (slots1 := (slots + 3215)) X hR (mm_thrown G ad _ _ hA0) q2079 q2080 q2081 q100 q2082 ⟨rfl, pd_X4_thrown⟩ ⟨Nat.le_of_ble_eq_true rfl, Nat.le_of_ble_eq_true rfl⟩ rfl rfl (by omega) (by omega) hob4 rfl rfl (Nat.le_of_ble_eq_true rfl) hl.1 dL_law_346 (hB0.of hS fp_no.base) hM hS (fun q h => Or.inr (by have h9 : (g_s G).heap.size ≤ q := fp_ma.base hA0 q h; omega)) (fun v H1 locs hp hz hk hS => ?_) (fun Ex qx cx H1 locs hp hz hk hS hcx hvx hlx => hp.elim)
  obtain ⟨rfl, hM2⟩ := hp
  have hP := hP.mo X.2.2.2.2.2 hM hA0 hz hk
  have ho := ho.kept (hk out ho.lt hoa)
  have hM := hM2
  clear hM2
  refine r_stk (st2 := [.int (iI ((kc : Nat) : Int))]) rfl ?_
  refine lv_iload hx hb dL_law_349 (lv_at hl 1 rfl) ?_
  refine lv_icmp_eq (tgt := 356) hx hb dL_law_351 (by decide) (fun _ => ?_) (fun h => absurd rfl h)
  refine lv_iload hx hb dL_law_356 (lv_at hl 1 rfl) ?_
  refine r_if_ne (tgt := 373) hx hb ⟨by omega, by omega⟩ dL_law_358 (by decide) (fun hne => ?_) (fun he => ?_)
  · skip
    refine lv_goto (tgt := 3331) hx hb dL_law_373 (by decide) ?_
    refine W.widen (k := cells + 50006) (n := slots + 229018) (by omega) (by omega) ?_
    exact kk _ _ _ _ _ _ (lv_sub hl [2, 3, 4, 5, 6] rfl) hS hP hM ho (hI.ifc (fun e => hI.psh (by have h9 := fp_plc_k (by decide) hI.1.1 hI.1.2.1 hI.p9 (hkc.trans e); exact ⟨h9.1, h9.2, by have h8 := hI.1.2.2; show sP T.1 + 1 ≤ _; omega⟩)))
  · skip
    have he : kc = 0 := by omega
    refine lv_aload_n hx hb dL_law_361 rfl (lv_at hl 5 rfl) ?_
    refine lv_iconst (v := (iI ((0 : Nat) : Int))) hx hb dL_law_362 rfl ?_
    refine r_laldI (j := 0) X ho rfl (by decide) (by decide) dL_law_363 ?_
    refine lv_iload hx hb dL_law_364 (lv_at hl 0 rfl) ?_
    refine lv_i2l (v := (iI r).toInt64) hx hb dL_law_366 rfl ?_
    refine r_lcmpE X (by rw [hg2 he, hr he]) dL_law_367 ?_
    refine lv_if_eq (tgt := 373) hx hb dL_law_368 (by decide) (fun _ => ?_) (fun h => absurd rfl h)
    refine lv_goto (tgt := 3331) hx hb dL_law_373 (by decide) ?_
    refine W.widen (k := cells + 50006) (n := slots + 229018) (by omega) (by omega) ?_
    exact kk _ _ _ _ _ _ (lv_sub hl [2, 3, 4, 5, 6] rfl) hS hP hM ho (hI.ifc (fun e => hI.psh (by have h9 := fp_plc_k (by decide) hI.1.1 hI.1.2.1 hI.p9 (hkc.trans e); exact ⟨h9.1, h9.2, by have h8 := hI.1.2.2; show sP T.1 + 1 ≤ _; omega⟩)))
set_option maxHeartbeats 1000000 in
theorem lc_1 {G : fp_G} {pg : Program} {en : Env} {rR : Room} {s : State} {mi : MethodId} {ag : Array Value} {bl : List Frame} {mt : Method} {cd : Code} {H : Heap} {locs : List Loc} {cells slots : Nat} {qQ : State → Prop} {ls : Array Slot} {b L x out i k MC MS : Nat} {xs : Nat → Int32} {ad : Nat → Nat} {T : TH} {g : Nat → Int64} (X : fp_C G pg s mi ag cd cL_law "FortPlannerLaw" 9) (hR : fp_R rR 8192 104096 MC MS) (hB0 : fp_B G s.heap) (hX : va_X b L xs s s.heap) (hbl : b < s.heap.size) (hL : L ≤ 96) (hi : 4 * i + 4 ≤ L) (hA0 : fp_MA G ad) (hob : (g_s G).heap.size ≤ out) (hoa : ¬ fp_ma ad out) (hl : lv_has ls 9 [(0, .ref (b)), (1, .ref (x)), (2, .ref (ad 0)), (3, .ref (out)), (4, .int (iI ((4 * i : Nat) : Int)))]) (hS : va_S (fA fp_no s.heap.size) s.heap H locs) (hsb : s.heap.size = (g_s G).heap.size) (hc : cells + 50006 ≤ MC) (hs : slots + 229018 ≤ MS) (hP : fp_PW G x (fp_LM ad out) T H) (hM : fp_MC G ad k T H) (ho : fp_At G H out (eJ G 1 g)) (hI : fp_TI i T) (kk : ∀ (H1 : Heap) (locs1 : List Loc) (ls1 : Array Slot) (T1 : TH) (k1 : Nat) (g1 : Nat → Int64), lv_has ls1 9 [(0, .ref (b)), (1, .ref (x)), (2, .ref (ad 0)), (3, .ref (out)), (4, .int (iI ((4 * i : Nat) : Int)))] → va_S (fA fp_no s.heap.size) s.heap H1 locs1 → fp_PW G x (fp_LM ad out) T1 H1 → fp_MC G ad k1 T1 H1 → fp_At G H1 out (eJ G 1 g1) → fp_TJ (i + 1) T1 → W pg (g_l G) en rR s mi ag bl mt cd H1 locs1 (cells + 50006) (slots + 229018) qQ (F0 mi 3331 ls1 [])) : W pg (g_l G) en rR s mi ag bl mt cd H locs cells slots qQ (F0 mi 376 ls []) := by
  obtain ⟨hx, hb, -⟩ := id X
  refine lv_aload_n hx hb dL_law_376 rfl (lv_at hl 1 rfl) ?_
  refine lv_aload_n hx hb dL_law_377 rfl (lv_at hl 0 rfl) ?_
  refine lv_iload hx hb dL_law_378 (lv_at hl 4 rfl) ?_
  refine lv_iconst (v := (iI ((1 : Nat) : Int))) hx hb dL_law_380 rfl ?_
  refine r_iaddN hx hb dL_law_381 ?_
  refine r_scr (j := 4 * i + 1) X hX hbl hS (by omega) hL dL_law_382 ?_
  refine lv_aload_n hx hb dL_law_383 rfl (lv_at hl 0 rfl) ?_
  refine lv_iload hx hb dL_law_384 (lv_at hl 4 rfl) ?_
  refine lv_iconst (v := (iI ((2 : Nat) : Int))) hx hb dL_law_386 rfl ?_
  refine r_iaddN hx hb dL_law_387 ?_
  refine r_scr (j := 4 * i + 2) X hX hbl hS (by omega) hL dL_law_388 ?_
  refine lv_aload_n hx hb dL_law_389 rfl (lv_at hl 0 rfl) ?_
  refine lv_iload hx hb dL_law_390 (lv_at hl 4 rfl) ?_
  refine lv_iconst (v := (iI ((3 : Nat) : Int))) hx hb dL_law_392 rfl ?_
  refine r_iaddN hx hb dL_law_393 ?_
  refine r_scr (j := 4 * i + 3) X hX hbl hS (by omega) hL dL_law_394 ?_
  refine lv_aload_n hx hb dL_law_395 rfl (lv_at hl 3 rfl) ?_
  obtain ⟨kc, hkc⟩ : ∃ kc, fp_plc T.1 1 (fp_xs xs (4 * i + 1)) (fp_xs xs (4 * i + 2)) (fp_xs xs (4 * i + 3)) = kc := ⟨_, rfl⟩
  refine x_callSH (cells1 := cells + 165) (slots1 := slots + 3215) X hR (x0_placeBoard G x (fp_LM ad out) T i out g (fp_xs xs (4 * i + 1)) (fp_xs xs (4 * i + 2)) (fp_xs xs (4 * i + 3)) hI (fp_xs_rg _ _) (fp_xs_rg _ _) (fp_xs_rg _ _) (Or.inr rfl) hob) q1298 q1299 q87 q1300 pd_X0_placeBoard ⟨Nat.le_of_ble_eq_true rfl, Nat.le_of_ble_eq_true rfl⟩ rfl rfl (by omega) (by omega) rfl (Nat.le_of_ble_eq_true rfl) hl.1 dL_law_396 (hB0.of hS fp_no.base) ⟨hP, ho⟩ hS (fun q h => Or.inr (by have h9 : (g_s G).heap.size ≤ q := h.1; omega)) (fun v H1 locs hp hz hk hS => ?_) (fun Ex qx cx H1 locs hp hz hk hS hcx hvx hlx => hp.elim)
  obtain ⟨g2, rfl, hg2, hP, ho⟩ := hp
  have hM := hM.keep hk (fun q hq h => h.2.elim (fun z => z (Or.inl hq)) (fun z => hoa (z ▸ hq)))
  refine r_stk (st2 := [.int (iI ((fp_plc T.1 1 (fp_xs xs (4 * i + 1)) (fp_xs xs (4 * i + 2)) (fp_xs xs (4 * i + 3)) : Nat) : Int))]) rfl ?_
  have hkb : kc ≤ 2 := by rw [← hkc]; unfold fp_plc; (repeat' split) <;> omega
  rw [hkc] at hg2 hP ⊢
  refine lv_istore (lv' := [(5, .int (iI ((kc : Nat) : Int))), (0, .ref (b)), (1, .ref (x)), (2, .ref (ad 0)), (3, .ref (out)), (4, .int (iI ((4 * i : Nat) : Int)))]) hx hb dL_law_399 hl (by decide) rfl (fun ls hl => ?_)
  refine lv_aload_n hx hb dL_law_401 rfl (lv_at hl 3 rfl) ?_
  refine lv_aload_n hx hb dL_law_402 rfl (lv_at hl 1 rfl) ?_
  refine lv_iload hx hb dL_law_403 (lv_at hl 5 rfl) ?_
  refine lv_iconst (v := (iI ((1 : Nat) : Int))) hx hb dL_law_405 rfl ?_
  refine r_iaddN hx hb dL_law_406 ?_
  refine r_scr (j := 4 * i + 1) X hX hbl hS (by omega) hL dL_law_407 ?_
  refine lv_aload_n hx hb dL_law_408 rfl (lv_at hl 1 rfl) ?_
  refine lv_iload hx hb dL_law_409 (lv_at hl 5 rfl) ?_
  refine lv_iconst (v := (iI ((2 : Nat) : Int))) hx hb dL_law_411 rfl ?_
  refine r_iaddN hx hb dL_law_412 ?_
  refine r_scr (j := 4 * i + 2) X hX hbl hS (by omega) hL dL_law_413 ?_
  refine lv_aload_n hx hb dL_law_414 rfl (lv_at hl 1 rfl) ?_
  refine lv_iload hx hb dL_law_415 (lv_at hl 5 rfl) ?_
  refine lv_iconst (v := (iI ((3 : Nat) : Int))) hx hb dL_law_417 rfl ?_
  refine r_iaddN hx hb dL_law_418 ?_
  refine r_scr (j := 4 * i + 3) X hX hbl hS (by omega) hL dL_law_419 ?_
  obtain ⟨fs3, hob3⟩ := hM.ob
  refine x_callV (cells1 := (cells + 165)) (slots1 := (slots + 3215)) X hR (mm_placeBoard G ad _ T i (fp_xs xs (4 * i + 1)) (fp_xs xs (4 * i + 2)) (fp_xs xs (4 * i + 3)) hA0 hI (fp_xs_rg _ _) (fp_xs_rg _ _) (fp_xs_rg _ _)) q2163 q2164 q2165 q100 q2166 ⟨rfl, pd_X4_placeBoard⟩ ⟨Nat.le_of_ble_eq_true rfl, Nat.le_of_ble_eq_true rfl⟩ rfl rfl (by omega) (by omega) hob3 rfl rfl (Nat.le_of_ble_eq_true rfl) hl.1 dL_law_420 (hB0.of hS fp_no.base) hM hS (fun q h => Or.inr (by have h9 : (g_s G).heap.size ≤ q := fp_ma.base hA0 q h; omega)) (fun v H1 locs hp hz hk hS => ?_) (fun Ex qx cx H1 locs hp hz hk hS hcx hvx hlx => hp.elim)
  obtain ⟨r, rfl, hr, hM2⟩ := hp
  have hP := hP.mo X.2.2.2.2.2 hM hA0 hz hk
  have ho := ho.kept (hk out ho.lt hoa)
  have hM := hM2
  clear hM2
  rw [hkc] at hr hM
  refine r_stk (st2 := [.int (iI (r))]) rfl ?_
  refine lv_istore (lv' := [(6, .int (iI (r))), (5, .int (iI ((kc : Nat) : Int))), (0, .ref (b)), (1, .ref (x)), (2, .ref (ad 0)), (3, .ref (out)), (4, .int (iI ((4 * i : Nat) : Int)))]) hx hb dL_law_423 hl (by decide) rfl (fun ls hl => ?_)
  refine lv_aload_n hx hb dL_law_425 rfl (lv_at hl 4 rfl) ?_
  obtain ⟨fs4, hob4⟩ := hM.ob
  refine x_callV (cells1 := (cells + 165)) (slots1 := (slots + 3215)) X hR (mm_thrown G ad _ _ hA0) q2079 q2080 q2081 q100 q2082 ⟨rfl, pd_X4_thrown⟩ ⟨Nat.le_of_ble_eq_true rfl, Nat.le_of_ble_eq_true rfl⟩ rfl rfl (by omega) (by omega) hob4 rfl rfl (Nat.le_of_ble_eq_true rfl) hl.1 dL_law_426 (hB0.of hS fp_no.base) hM hS (fun q h => Or.inr (by have h9 : (g_s G).heap.size ≤ q := fp_ma.base hA0 q h; omega)) (fun v H1 locs hp hz hk hS => ?_) (fun Ex qx cx H1 locs hp hz hk hS hcx hvx hlx => hp.elim)
  obtain ⟨rfl, hM2⟩ := hp
  have hP := hP.mo X.2.2.2.2.2 hM hA0 hz hk
  have ho := ho.kept (hk out ho.lt hoa)
  have hM := hM2
  clear hM2
  refine r_stk (st2 := [.int (iI ((kc : Nat) : Int))]) rfl ?_
  refine lv_iload hx hb dL_law_429 (lv_at hl 1 rfl) ?_
  refine lv_icmp_eq (tgt := 436) hx hb dL_law_431 (by decide) (fun _ => ?_) (fun h => absurd rfl h)
  refine lv_iload hx hb dL_law_436 (lv_at hl 1 rfl) ?_
  refine r_if_ne (tgt := 453) hx hb ⟨by omega, by omega⟩ dL_law_438 (by decide) (fun hne => ?_) (fun he => ?_)
  · skip
    refine lv_goto (tgt := 3331) hx hb dL_law_453 (by decide) ?_
    refine W.widen (k := cells + 50006) (n := slots + 229018) (by omega) (by omega) ?_
    exact kk _ _ _ _ _ _ (lv_sub hl [2, 3, 4, 5, 6] rfl) hS hP hM ho (hI.ifc (fun e => hI.psh (by have h9 := fp_plc_k (by decide) hI.1.1 hI.1.2.1 hI.p9 (hkc.trans e); exact ⟨h9.1, h9.2, by have h8 := hI.1.2.2; show sP T.1 + 1 ≤ _; omega⟩)))
  · skip
    have he : kc = 0 := by omega
    refine lv_aload_n hx hb dL_law_441 rfl (lv_at hl 5 rfl) ?_
    refine lv_iconst (v := (iI ((0 : Nat) : Int))) hx hb dL_law_442 rfl ?_
    refine r_laldI (j := 0) X ho rfl (by decide) (by decide) dL_law_443 ?_
    refine lv_iload hx hb dL_law_444 (lv_at hl 0 rfl) ?_
    refine lv_i2l (v := (iI r).toInt64) hx hb dL_law_446 rfl ?_
    refine r_lcmpE X (by rw [hg2 he, hr he]) dL_law_447 ?_
    refine lv_if_eq (tgt := 453) hx hb dL_law_448 (by decide) (fun _ => ?_) (fun h => absurd rfl h)
    refine lv_goto (tgt := 3331) hx hb dL_law_453 (by decide) ?_
    refine W.widen (k := cells + 50006) (n := slots + 229018) (by omega) (by omega) ?_
    exact kk _ _ _ _ _ _ (lv_sub hl [2, 3, 4, 5, 6] rfl) hS hP hM ho (hI.ifc (fun e => hI.psh (by have h9 := fp_plc_k (by decide) hI.1.1 hI.1.2.1 hI.p9 (hkc.trans e); exact ⟨h9.1, h9.2, by have h8 := hI.1.2.2; show sP T.1 + 1 ≤ _; omega⟩)))
set_option maxHeartbeats 1000000 in
theorem lc_2 {G : fp_G} {pg : Program} {en : Env} {rR : Room} {s : State} {mi : MethodId} {ag : Array Value} {bl : List Frame} {mt : Method} {cd : Code} {H : Heap} {locs : List Loc} {cells slots : Nat} {qQ : State → Prop} {ls : Array Slot} {b L x out i k MC MS : Nat} {xs : Nat → Int32} {ad : Nat → Nat} {T : TH} {g : Nat → Int64} (X : fp_C G pg s mi ag cd cL_law "FortPlannerLaw" 9) (hR : fp_R rR 8192 104096 MC MS) (hB0 : fp_B G s.heap) (hX : va_X b L xs s s.heap) (hbl : b < s.heap.size) (hL : L ≤ 96) (hi : 4 * i + 4 ≤ L) (hA0 : fp_MA G ad) (hob : (g_s G).heap.size ≤ out) (hoa : ¬ fp_ma ad out) (hl : lv_has ls 9 [(0, .ref (b)), (1, .ref (x)), (2, .ref (ad 0)), (3, .ref (out)), (4, .int (iI ((4 * i : Nat) : Int)))]) (hS : va_S (fA fp_no s.heap.size) s.heap H locs) (hsb : s.heap.size = (g_s G).heap.size) (hc : cells + 50006 ≤ MC) (hs : slots + 229018 ≤ MS) (hP : fp_PW G x (fp_LM ad out) T H) (hM : fp_MC G ad k T H) (ho : fp_At G H out (eJ G 1 g)) (hI : fp_TI i T) (kk : ∀ (H1 : Heap) (locs1 : List Loc) (ls1 : Array Slot) (T1 : TH) (k1 : Nat) (g1 : Nat → Int64), lv_has ls1 9 [(0, .ref (b)), (1, .ref (x)), (2, .ref (ad 0)), (3, .ref (out)), (4, .int (iI ((4 * i : Nat) : Int)))] → va_S (fA fp_no s.heap.size) s.heap H1 locs1 → fp_PW G x (fp_LM ad out) T1 H1 → fp_MC G ad k1 T1 H1 → fp_At G H1 out (eJ G 1 g1) → fp_TJ (i + 1) T1 → W pg (g_l G) en rR s mi ag bl mt cd H1 locs1 (cells + 50006) (slots + 229018) qQ (F0 mi 3331 ls1 [])) : W pg (g_l G) en rR s mi ag bl mt cd H locs cells slots qQ (F0 mi 456 ls []) := by
  obtain ⟨hx, hb, -⟩ := id X
  refine lv_aload_n hx hb dL_law_456 rfl (lv_at hl 1 rfl) ?_
  refine lv_aload_n hx hb dL_law_457 rfl (lv_at hl 0 rfl) ?_
  refine lv_iload hx hb dL_law_458 (lv_at hl 4 rfl) ?_
  refine lv_iconst (v := (iI ((1 : Nat) : Int))) hx hb dL_law_460 rfl ?_
  refine r_iaddN hx hb dL_law_461 ?_
  refine r_scr (j := 4 * i + 1) X hX hbl hS (by omega) hL dL_law_462 ?_
  refine lv_aload_n hx hb dL_law_463 rfl (lv_at hl 0 rfl) ?_
  refine lv_iload hx hb dL_law_464 (lv_at hl 4 rfl) ?_
  refine lv_iconst (v := (iI ((2 : Nat) : Int))) hx hb dL_law_466 rfl ?_
  refine r_iaddN hx hb dL_law_467 ?_
  refine r_scr (j := 4 * i + 2) X hX hbl hS (by omega) hL dL_law_468 ?_
  refine lv_aload_n hx hb dL_law_469 rfl (lv_at hl 0 rfl) ?_
  refine lv_iload hx hb dL_law_470 (lv_at hl 4 rfl) ?_
  refine lv_iconst (v := (iI ((3 : Nat) : Int))) hx hb dL_law_472 rfl ?_
  refine r_iaddN hx hb dL_law_473 ?_
  refine r_scr (j := 4 * i + 3) X hX hbl hS (by omega) hL dL_law_474 ?_
  refine lv_aload_n hx hb dL_law_475 rfl (lv_at hl 3 rfl) ?_
  obtain ⟨kc, hkc⟩ : ∃ kc, fp_plc T.1 2 (fp_xs xs (4 * i + 1)) (fp_xs xs (4 * i + 2)) (fp_xs xs (4 * i + 3)) = kc := ⟨_, rfl⟩
  refine x_callSH (cells1 := cells + 165) (slots1 := slots + 3215) X hR (x0_placeBag G x (fp_LM ad out) T i out g (fp_xs xs (4 * i + 1)) (fp_xs xs (4 * i + 2)) (fp_xs xs (4 * i + 3)) hI (fp_xs_rg _ _) (fp_xs_rg _ _) (fp_xs_rg _ _) (Or.inr rfl) hob) q1305 q1306 q87 q1307 pd_X0_placeBag ⟨Nat.le_of_ble_eq_true rfl, Nat.le_of_ble_eq_true rfl⟩ rfl rfl (by omega) (by omega) rfl (Nat.le_of_ble_eq_true rfl) hl.1 dL_law_476 (hB0.of hS fp_no.base) ⟨hP, ho⟩ hS (fun q h => Or.inr (by have h9 : (g_s G).heap.size ≤ q := h.1; omega)) (fun v H1 locs hp hz hk hS => ?_) (fun Ex qx cx H1 locs hp hz hk hS hcx hvx hlx => hp.elim)
  obtain ⟨g2, rfl, hg2, hP, ho⟩ := hp
  have hM := hM.keep hk (fun q hq h => h.2.elim (fun z => z (Or.inl hq)) (fun z => hoa (z ▸ hq)))
  refine r_stk (st2 := [.int (iI ((fp_plc T.1 2 (fp_xs xs (4 * i + 1)) (fp_xs xs (4 * i + 2)) (fp_xs xs (4 * i + 3)) : Nat) : Int))]) rfl ?_
  have hkb : kc ≤ 2 := by rw [← hkc]; unfold fp_plc; (repeat' split) <;> omega
  rw [hkc] at hg2 hP ⊢
  refine lv_istore (lv' := [(5, .int (iI ((kc : Nat) : Int))), (0, .ref (b)), (1, .ref (x)), (2, .ref (ad 0)), (3, .ref (out)), (4, .int (iI ((4 * i : Nat) : Int)))]) hx hb dL_law_479 hl (by decide) rfl (fun ls hl => ?_)
  refine lv_aload_n hx hb dL_law_481 rfl (lv_at hl 3 rfl) ?_
  refine lv_aload_n hx hb dL_law_482 rfl (lv_at hl 1 rfl) ?_
  refine lv_iload hx hb dL_law_483 (lv_at hl 5 rfl) ?_
  refine lv_iconst (v := (iI ((1 : Nat) : Int))) hx hb dL_law_485 rfl ?_
  refine r_iaddN hx hb dL_law_486 ?_
  refine r_scr (j := 4 * i + 1) X hX hbl hS (by omega) hL dL_law_487 ?_
  refine lv_aload_n hx hb dL_law_488 rfl (lv_at hl 1 rfl) ?_
  refine lv_iload hx hb dL_law_489 (lv_at hl 5 rfl) ?_
  refine lv_iconst (v := (iI ((2 : Nat) : Int))) hx hb dL_law_491 rfl ?_
  refine r_iaddN hx hb dL_law_492 ?_
  refine r_scr (j := 4 * i + 2) X hX hbl hS (by omega) hL dL_law_493 ?_
  refine lv_aload_n hx hb dL_law_494 rfl (lv_at hl 1 rfl) ?_
  refine lv_iload hx hb dL_law_495 (lv_at hl 5 rfl) ?_
  refine lv_iconst (v := (iI ((3 : Nat) : Int))) hx hb dL_law_497 rfl ?_
  refine r_iaddN hx hb dL_law_498 ?_
  refine r_scr (j := 4 * i + 3) X hX hbl hS (by omega) hL dL_law_499 ?_
  obtain ⟨fs3, hob3⟩ := hM.ob
  refine x_callV (cells1 := (cells + 165)) (slots1 := (slots + 3215)) X hR (mm_placeBag G ad _ T i (fp_xs xs (4 * i + 1)) (fp_xs xs (4 * i + 2)) (fp_xs xs (4 * i + 3)) hA0 hI (fp_xs_rg _ _) (fp_xs_rg _ _) (fp_xs_rg _ _)) q2167 q2168 q2169 q100 q2170 ⟨rfl, pd_X4_placeBag⟩ ⟨Nat.le_of_ble_eq_true rfl, Nat.le_of_ble_eq_true rfl⟩ rfl rfl (by omega) (by omega) hob3 rfl rfl (Nat.le_of_ble_eq_true rfl) hl.1 dL_law_500 (hB0.of hS fp_no.base) hM hS (fun q h => Or.inr (by have h9 : (g_s G).heap.size ≤ q := fp_ma.base hA0 q h; omega)) (fun v H1 locs hp hz hk hS => ?_) (fun Ex qx cx H1 locs hp hz hk hS hcx hvx hlx => hp.elim)
  obtain ⟨r, rfl, hr, hM2⟩ := hp
  have hP := hP.mo X.2.2.2.2.2 hM hA0 hz hk
  have ho := ho.kept (hk out ho.lt hoa)
  have hM := hM2
  clear hM2
  rw [hkc] at hr hM
  refine r_stk (st2 := [.int (iI (r))]) rfl ?_
  refine lv_istore (lv' := [(6, .int (iI (r))), (5, .int (iI ((kc : Nat) : Int))), (0, .ref (b)), (1, .ref (x)), (2, .ref (ad 0)), (3, .ref (out)), (4, .int (iI ((4 * i : Nat) : Int)))]) hx hb dL_law_503 hl (by decide) rfl (fun ls hl => ?_)
  refine lv_aload_n hx hb dL_law_505 rfl (lv_at hl 4 rfl) ?_
  obtain ⟨fs4, hob4⟩ := hM.ob
  refine x_callV (cells1 := (cells + 165)) (slots1 := (slots + 3215)) X hR (mm_thrown G ad _ _ hA0) q2079 q2080 q2081 q100 q2082 ⟨rfl, pd_X4_thrown⟩ ⟨Nat.le_of_ble_eq_true rfl, Nat.le_of_ble_eq_true rfl⟩ rfl rfl (by omega) (by omega) hob4 rfl rfl (Nat.le_of_ble_eq_true rfl) hl.1 dL_law_506 (hB0.of hS fp_no.base) hM hS (fun q h => Or.inr (by have h9 : (g_s G).heap.size ≤ q := fp_ma.base hA0 q h; omega)) (fun v H1 locs hp hz hk hS => ?_) (fun Ex qx cx H1 locs hp hz hk hS hcx hvx hlx => hp.elim)
  obtain ⟨rfl, hM2⟩ := hp
  have hP := hP.mo X.2.2.2.2.2 hM hA0 hz hk
  have ho := ho.kept (hk out ho.lt hoa)
  have hM := hM2
  clear hM2
  refine r_stk (st2 := [.int (iI ((kc : Nat) : Int))]) rfl ?_
  refine lv_iload hx hb dL_law_509 (lv_at hl 1 rfl) ?_
  refine lv_icmp_eq (tgt := 516) hx hb dL_law_511 (by decide) (fun _ => ?_) (fun h => absurd rfl h)
  refine lv_iload hx hb dL_law_516 (lv_at hl 1 rfl) ?_
  refine r_if_ne (tgt := 533) hx hb ⟨by omega, by omega⟩ dL_law_518 (by decide) (fun hne => ?_) (fun he => ?_)
  · skip
    refine lv_goto (tgt := 3331) hx hb dL_law_533 (by decide) ?_
    refine W.widen (k := cells + 50006) (n := slots + 229018) (by omega) (by omega) ?_
    exact kk _ _ _ _ _ _ (lv_sub hl [2, 3, 4, 5, 6] rfl) hS hP hM ho (hI.ifc (fun e => hI.psh (by have h9 := fp_plc_k (by decide) hI.1.1 hI.1.2.1 hI.p9 (hkc.trans e); exact ⟨h9.1, h9.2, by have h8 := hI.1.2.2; show sP T.1 + 1 ≤ _; omega⟩)))
  · skip
    have he : kc = 0 := by omega
    refine lv_aload_n hx hb dL_law_521 rfl (lv_at hl 5 rfl) ?_
    refine lv_iconst (v := (iI ((0 : Nat) : Int))) hx hb dL_law_522 rfl ?_
    refine r_laldI (j := 0) X ho rfl (by decide) (by decide) dL_law_523 ?_
    refine lv_iload hx hb dL_law_524 (lv_at hl 0 rfl) ?_
    refine lv_i2l (v := (iI r).toInt64) hx hb dL_law_526 rfl ?_
    refine r_lcmpE X (by rw [hg2 he, hr he]) dL_law_527 ?_
    refine lv_if_eq (tgt := 533) hx hb dL_law_528 (by decide) (fun _ => ?_) (fun h => absurd rfl h)
    refine lv_goto (tgt := 3331) hx hb dL_law_533 (by decide) ?_
    refine W.widen (k := cells + 50006) (n := slots + 229018) (by omega) (by omega) ?_
    exact kk _ _ _ _ _ _ (lv_sub hl [2, 3, 4, 5, 6] rfl) hS hP hM ho (hI.ifc (fun e => hI.psh (by have h9 := fp_plc_k (by decide) hI.1.1 hI.1.2.1 hI.p9 (hkc.trans e); exact ⟨h9.1, h9.2, by have h8 := hI.1.2.2; show sP T.1 + 1 ≤ _; omega⟩)))
set_option maxHeartbeats 1000000 in
theorem lc_3 {G : fp_G} {pg : Program} {en : Env} {rR : Room} {s : State} {mi : MethodId} {ag : Array Value} {bl : List Frame} {mt : Method} {cd : Code} {H : Heap} {locs : List Loc} {cells slots : Nat} {qQ : State → Prop} {ls : Array Slot} {b L x out i k MC MS : Nat} {xs : Nat → Int32} {ad : Nat → Nat} {T : TH} {g : Nat → Int64} (X : fp_C G pg s mi ag cd cL_law "FortPlannerLaw" 9) (hR : fp_R rR 8192 104096 MC MS) (hB0 : fp_B G s.heap) (hX : va_X b L xs s s.heap) (hbl : b < s.heap.size) (hL : L ≤ 96) (hi : 4 * i + 4 ≤ L) (hA0 : fp_MA G ad) (hob : (g_s G).heap.size ≤ out) (hoa : ¬ fp_ma ad out) (hl : lv_has ls 9 [(0, .ref (b)), (1, .ref (x)), (2, .ref (ad 0)), (3, .ref (out)), (4, .int (iI ((4 * i : Nat) : Int)))]) (hS : va_S (fA fp_no s.heap.size) s.heap H locs) (hsb : s.heap.size = (g_s G).heap.size) (hc : cells + 50006 ≤ MC) (hs : slots + 229018 ≤ MS) (hP : fp_PW G x (fp_LM ad out) T H) (hM : fp_MC G ad k T H) (ho : fp_At G H out (eJ G 1 g)) (hI : fp_TI i T) (kk : ∀ (H1 : Heap) (locs1 : List Loc) (ls1 : Array Slot) (T1 : TH) (k1 : Nat) (g1 : Nat → Int64), lv_has ls1 9 [(0, .ref (b)), (1, .ref (x)), (2, .ref (ad 0)), (3, .ref (out)), (4, .int (iI ((4 * i : Nat) : Int)))] → va_S (fA fp_no s.heap.size) s.heap H1 locs1 → fp_PW G x (fp_LM ad out) T1 H1 → fp_MC G ad k1 T1 H1 → fp_At G H1 out (eJ G 1 g1) → fp_TJ (i + 1) T1 → W pg (g_l G) en rR s mi ag bl mt cd H1 locs1 (cells + 50006) (slots + 229018) qQ (F0 mi 3331 ls1 [])) : W pg (g_l G) en rR s mi ag bl mt cd H locs cells slots qQ (F0 mi 536 ls []) := by
  obtain ⟨hx, hb, -⟩ := id X
  refine lv_aload_n hx hb dL_law_536 rfl (lv_at hl 1 rfl) ?_
  refine lv_aload_n hx hb dL_law_537 rfl (lv_at hl 0 rfl) ?_
  refine lv_iload hx hb dL_law_538 (lv_at hl 4 rfl) ?_
  refine lv_iconst (v := (iI ((1 : Nat) : Int))) hx hb dL_law_540 rfl ?_
  refine r_iaddN hx hb dL_law_541 ?_
  refine r_scr (j := 4 * i + 1) X hX hbl hS (by omega) hL dL_law_542 ?_
  refine lv_aload_n hx hb dL_law_543 rfl (lv_at hl 3 rfl) ?_
  obtain ⟨kc, hkc⟩ : ∃ kc, fp_rm_c T.1 (fp_xs xs (4 * i + 1)) = kc := ⟨_, rfl⟩
  refine x_callSH (cells1 := cells + 14) (slots1 := slots + 170) X hR (x0_remove G x (fp_LM ad out) T i out g (fp_xs xs (4 * i + 1)) hI (fp_xs_rg _ _) (Or.inr rfl) hob) q1312 q1313 q87 q1314 pd_X0_remove ⟨Nat.le_of_ble_eq_true rfl, Nat.le_of_ble_eq_true rfl⟩ rfl rfl (by omega) (by omega) rfl (Nat.le_of_ble_eq_true rfl) hl.1 dL_law_544 (hB0.of hS fp_no.base) ⟨hP, ho⟩ hS (fun q h => Or.inr (by have h9 : (g_s G).heap.size ≤ q := h.1; omega)) (fun v H1 locs hp hz hk hS => ?_) (fun Ex qx cx H1 locs hp hz hk hS hcx hvx hlx => hp.elim)
  obtain ⟨g2, rfl, hg2, hP, ho⟩ := hp
  have hM := hM.keep hk (fun q hq h => h.2.elim (fun z => z (Or.inl hq)) (fun z => hoa (z ▸ hq)))
  refine r_stk (st2 := [.int (iI ((fp_rm_c T.1 (fp_xs xs (4 * i + 1)) : Nat) : Int))]) rfl ?_
  have hkb : kc ≤ 2 := by rw [← hkc]; unfold fp_rm_c; (repeat' split) <;> omega
  rw [hkc] at hg2 hP ⊢
  refine lv_istore (lv' := [(5, .int (iI ((kc : Nat) : Int))), (0, .ref (b)), (1, .ref (x)), (2, .ref (ad 0)), (3, .ref (out)), (4, .int (iI ((4 * i : Nat) : Int)))]) hx hb dL_law_547 hl (by decide) rfl (fun ls hl => ?_)
  refine lv_aload_n hx hb dL_law_549 rfl (lv_at hl 3 rfl) ?_
  refine lv_aload_n hx hb dL_law_550 rfl (lv_at hl 1 rfl) ?_
  refine lv_iload hx hb dL_law_551 (lv_at hl 5 rfl) ?_
  refine lv_iconst (v := (iI ((1 : Nat) : Int))) hx hb dL_law_553 rfl ?_
  refine r_iaddN hx hb dL_law_554 ?_
  refine r_scr (j := 4 * i + 1) X hX hbl hS (by omega) hL dL_law_555 ?_
  obtain ⟨fs3, hob3⟩ := hM.ob
  refine x_callV (cells1 := (cells + 14)) (slots1 := (slots + 170)) X hR (mm_remove G ad _ T i (fp_xs xs (4 * i + 1)) hA0 hI (fp_xs_rg _ _)) q2171 q2172 q2173 q100 q2174 ⟨rfl, pd_X4_remove⟩ ⟨Nat.le_of_ble_eq_true rfl, Nat.le_of_ble_eq_true rfl⟩ rfl rfl (by omega) (by omega) hob3 rfl rfl (Nat.le_of_ble_eq_true rfl) hl.1 dL_law_556 (hB0.of hS fp_no.base) hM hS (fun q h => Or.inr (by have h9 : (g_s G).heap.size ≤ q := fp_ma.base hA0 q h; omega)) (fun v H1 locs hp hz hk hS => ?_) (fun Ex qx cx H1 locs hp hz hk hS hcx hvx hlx => hp.elim)
  obtain ⟨r, rfl, hr, hM2⟩ := hp
  have hP := hP.mo X.2.2.2.2.2 hM hA0 hz hk
  have ho := ho.kept (hk out ho.lt hoa)
  have hM := hM2
  clear hM2
  rw [hkc] at hr hM
  refine r_stk (st2 := [.int (iI (r))]) rfl ?_
  refine lv_istore (lv' := [(6, .int (iI (r))), (5, .int (iI ((kc : Nat) : Int))), (0, .ref (b)), (1, .ref (x)), (2, .ref (ad 0)), (3, .ref (out)), (4, .int (iI ((4 * i : Nat) : Int)))]) hx hb dL_law_559 hl (by decide) rfl (fun ls hl => ?_)
  refine lv_aload_n hx hb dL_law_561 rfl (lv_at hl 4 rfl) ?_
  obtain ⟨fs4, hob4⟩ := hM.ob
  refine x_callV (cells1 := (cells + 14)) (slots1 := (slots + 170)) X hR (mm_thrown G ad _ _ hA0) q2079 q2080 q2081 q100 q2082 ⟨rfl, pd_X4_thrown⟩ ⟨Nat.le_of_ble_eq_true rfl, Nat.le_of_ble_eq_true rfl⟩ rfl rfl (by omega) (by omega) hob4 rfl rfl (Nat.le_of_ble_eq_true rfl) hl.1 dL_law_562 (hB0.of hS fp_no.base) hM hS (fun q h => Or.inr (by have h9 : (g_s G).heap.size ≤ q := fp_ma.base hA0 q h; omega)) (fun v H1 locs hp hz hk hS => ?_) (fun Ex qx cx H1 locs hp hz hk hS hcx hvx hlx => hp.elim)
  obtain ⟨rfl, hM2⟩ := hp
  have hP := hP.mo X.2.2.2.2.2 hM hA0 hz hk
  have ho := ho.kept (hk out ho.lt hoa)
  have hM := hM2
  clear hM2
  refine r_stk (st2 := [.int (iI ((kc : Nat) : Int))]) rfl ?_
  refine lv_iload hx hb dL_law_565 (lv_at hl 1 rfl) ?_
  refine lv_icmp_eq (tgt := 572) hx hb dL_law_567 (by decide) (fun _ => ?_) (fun h => absurd rfl h)
  refine lv_iload hx hb dL_law_572 (lv_at hl 1 rfl) ?_
  refine r_if_ne (tgt := 589) hx hb ⟨by omega, by omega⟩ dL_law_574 (by decide) (fun hne => ?_) (fun he => ?_)
  · skip
    refine lv_goto (tgt := 3331) hx hb dL_law_589 (by decide) ?_
    refine W.widen (k := cells + 50006) (n := slots + 229018) (by omega) (by omega) ?_
    exact kk _ _ _ _ _ _ (lv_sub hl [2, 3, 4, 5, 6] rfl) hS hP hM ho (hI.ifc (fun e => hI.psh (fp_rm_k hI.1 (hkc.trans e))))
  · skip
    have he : kc = 0 := by omega
    refine lv_aload_n hx hb dL_law_577 rfl (lv_at hl 5 rfl) ?_
    refine lv_iconst (v := (iI ((0 : Nat) : Int))) hx hb dL_law_578 rfl ?_
    refine r_laldI (j := 0) X ho rfl (by decide) (by decide) dL_law_579 ?_
    refine lv_iload hx hb dL_law_580 (lv_at hl 0 rfl) ?_
    refine lv_i2l (v := (iI r).toInt64) hx hb dL_law_582 rfl ?_
    refine r_lcmpE X (by rw [hg2 he, hr he]) dL_law_583 ?_
    refine lv_if_eq (tgt := 589) hx hb dL_law_584 (by decide) (fun _ => ?_) (fun h => absurd rfl h)
    refine lv_goto (tgt := 3331) hx hb dL_law_589 (by decide) ?_
    refine W.widen (k := cells + 50006) (n := slots + 229018) (by omega) (by omega) ?_
    exact kk _ _ _ _ _ _ (lv_sub hl [2, 3, 4, 5, 6] rfl) hS hP hM ho (hI.ifc (fun e => hI.psh (fp_rm_k hI.1 (hkc.trans e))))
set_option maxHeartbeats 1000000 in
theorem lc_4 {G : fp_G} {pg : Program} {en : Env} {rR : Room} {s : State} {mi : MethodId} {ag : Array Value} {bl : List Frame} {mt : Method} {cd : Code} {H : Heap} {locs : List Loc} {cells slots : Nat} {qQ : State → Prop} {ls : Array Slot} {b L x out i k MC MS : Nat} {xs : Nat → Int32} {ad : Nat → Nat} {T : TH} {g : Nat → Int64} (X : fp_C G pg s mi ag cd cL_law "FortPlannerLaw" 9) (hR : fp_R rR 8192 104096 MC MS) (hB0 : fp_B G s.heap) (hX : va_X b L xs s s.heap) (hbl : b < s.heap.size) (hL : L ≤ 96) (hi : 4 * i + 4 ≤ L) (hA0 : fp_MA G ad) (hob : (g_s G).heap.size ≤ out) (hoa : ¬ fp_ma ad out) (hl : lv_has ls 9 [(0, .ref (b)), (1, .ref (x)), (2, .ref (ad 0)), (3, .ref (out)), (4, .int (iI ((4 * i : Nat) : Int)))]) (hS : va_S (fA fp_no s.heap.size) s.heap H locs) (hsb : s.heap.size = (g_s G).heap.size) (hc : cells + 50006 ≤ MC) (hs : slots + 229018 ≤ MS) (hP : fp_PW G x (fp_LM ad out) T H) (hM : fp_MC G ad k T H) (ho : fp_At G H out (eJ G 1 g)) (hI : fp_TI i T) (kk : ∀ (H1 : Heap) (locs1 : List Loc) (ls1 : Array Slot) (T1 : TH) (k1 : Nat) (g1 : Nat → Int64), lv_has ls1 9 [(0, .ref (b)), (1, .ref (x)), (2, .ref (ad 0)), (3, .ref (out)), (4, .int (iI ((4 * i : Nat) : Int)))] → va_S (fA fp_no s.heap.size) s.heap H1 locs1 → fp_PW G x (fp_LM ad out) T1 H1 → fp_MC G ad k1 T1 H1 → fp_At G H1 out (eJ G 1 g1) → fp_TJ (i + 1) T1 → W pg (g_l G) en rR s mi ag bl mt cd H1 locs1 (cells + 50006) (slots + 229018) qQ (F0 mi 3331 ls1 [])) : W pg (g_l G) en rR s mi ag bl mt cd H locs cells slots qQ (F0 mi 592 ls []) := by
  obtain ⟨hx, hb, -⟩ := id X
  refine lv_aload_n hx hb dL_law_592 rfl (lv_at hl 1 rfl) ?_
  refine lv_aload_n hx hb dL_law_593 rfl (lv_at hl 0 rfl) ?_
  refine lv_iload hx hb dL_law_594 (lv_at hl 4 rfl) ?_
  refine lv_iconst (v := (iI ((1 : Nat) : Int))) hx hb dL_law_596 rfl ?_
  refine r_iaddN hx hb dL_law_597 ?_
  refine r_scr (j := 4 * i + 1) X hX hbl hS (by omega) hL dL_law_598 ?_
  refine lv_aload_n hx hb dL_law_599 rfl (lv_at hl 0 rfl) ?_
  refine lv_iload hx hb dL_law_600 (lv_at hl 4 rfl) ?_
  refine lv_iconst (v := (iI ((2 : Nat) : Int))) hx hb dL_law_602 rfl ?_
  refine r_iaddN hx hb dL_law_603 ?_
  refine r_scr (j := 4 * i + 2) X hX hbl hS (by omega) hL dL_law_604 ?_
  refine r_i2c X dL_law_605 ?_
  refine lv_aload_n hx hb dL_law_606 rfl (lv_at hl 3 rfl) ?_
  obtain ⟨kc, hkc⟩ : ∃ kc, fp_sz_c (fp_xs xs (4 * i + 1)) (fp_ch (fp_xs xs (4 * i + 2))) = kc := ⟨_, rfl⟩
  refine x_callSH (cells1 := cells + 12) (slots1 := slots + 164) X hR (x0_setZone G x (fp_LM ad out) T i out g (fp_xs xs (4 * i + 1)) (fp_ch (fp_xs xs (4 * i + 2))) hI (fp_xs_rg _ _) (fp_ch_rg _) (Or.inr rfl) hob) q1337 q1338 q87 q1339 pd_X0_setZone ⟨Nat.le_of_ble_eq_true rfl, Nat.le_of_ble_eq_true rfl⟩ rfl rfl (by omega) (by omega) rfl (Nat.le_of_ble_eq_true rfl) hl.1 dL_law_607 (hB0.of hS fp_no.base) ⟨hP, ho⟩ hS (fun q h => Or.inr (by have h9 : (g_s G).heap.size ≤ q := h.1; omega)) (fun v H1 locs hp hz hk hS => ?_) (fun Ex qx cx H1 locs hp hz hk hS hcx hvx hlx => hp.elim)
  obtain ⟨g2, rfl, hg2, hP, ho⟩ := hp
  have hM := hM.keep hk (fun q hq h => h.2.elim (fun z => z (Or.inl hq)) (fun z => hoa (z ▸ hq)))
  refine r_stk (st2 := [.int (iI ((fp_sz_c (fp_xs xs (4 * i + 1)) (fp_ch (fp_xs xs (4 * i + 2))) : Nat) : Int))]) rfl ?_
  have hkb : kc ≤ 2 := by rw [← hkc]; unfold fp_sz_c; (repeat' split) <;> omega
  rw [hkc] at hg2 hP ⊢
  refine lv_istore (lv' := [(5, .int (iI ((kc : Nat) : Int))), (0, .ref (b)), (1, .ref (x)), (2, .ref (ad 0)), (3, .ref (out)), (4, .int (iI ((4 * i : Nat) : Int)))]) hx hb dL_law_610 hl (by decide) rfl (fun ls hl => ?_)
  refine lv_aload_n hx hb dL_law_612 rfl (lv_at hl 3 rfl) ?_
  refine lv_aload_n hx hb dL_law_613 rfl (lv_at hl 1 rfl) ?_
  refine lv_iload hx hb dL_law_614 (lv_at hl 5 rfl) ?_
  refine lv_iconst (v := (iI ((1 : Nat) : Int))) hx hb dL_law_616 rfl ?_
  refine r_iaddN hx hb dL_law_617 ?_
  refine r_scr (j := 4 * i + 1) X hX hbl hS (by omega) hL dL_law_618 ?_
  refine lv_aload_n hx hb dL_law_619 rfl (lv_at hl 1 rfl) ?_
  refine lv_iload hx hb dL_law_620 (lv_at hl 5 rfl) ?_
  refine lv_iconst (v := (iI ((2 : Nat) : Int))) hx hb dL_law_622 rfl ?_
  refine r_iaddN hx hb dL_law_623 ?_
  refine r_scr (j := 4 * i + 2) X hX hbl hS (by omega) hL dL_law_624 ?_
  refine r_i2c X dL_law_625 ?_
  obtain ⟨fs3, hob3⟩ := hM.ob
  refine x_callV (cells1 := (cells + 12)) (slots1 := (slots + 164)) X hR (mm_setZone G ad _ T i (fp_xs xs (4 * i + 1)) (fp_ch (fp_xs xs (4 * i + 2))) hA0 hI (fp_xs_rg _ _) (fp_ch_rg _)) q2187 q2188 q2189 q100 q2190 ⟨rfl, pd_X4_setZone⟩ ⟨Nat.le_of_ble_eq_true rfl, Nat.le_of_ble_eq_true rfl⟩ rfl rfl (by omega) (by omega) hob3 rfl rfl (Nat.le_of_ble_eq_true rfl) hl.1 dL_law_626 (hB0.of hS fp_no.base) hM hS (fun q h => Or.inr (by have h9 : (g_s G).heap.size ≤ q := fp_ma.base hA0 q h; omega)) (fun v H1 locs hp hz hk hS => ?_) (fun Ex qx cx H1 locs hp hz hk hS hcx hvx hlx => hp.elim)
  obtain ⟨r, rfl, hr, hM2⟩ := hp
  have hP := hP.mo X.2.2.2.2.2 hM hA0 hz hk
  have ho := ho.kept (hk out ho.lt hoa)
  have hM := hM2
  clear hM2
  rw [hkc] at hr hM
  refine r_stk (st2 := [.int (iI (r))]) rfl ?_
  refine lv_istore (lv' := [(6, .int (iI (r))), (5, .int (iI ((kc : Nat) : Int))), (0, .ref (b)), (1, .ref (x)), (2, .ref (ad 0)), (3, .ref (out)), (4, .int (iI ((4 * i : Nat) : Int)))]) hx hb dL_law_629 hl (by decide) rfl (fun ls hl => ?_)
  refine lv_aload_n hx hb dL_law_631 rfl (lv_at hl 4 rfl) ?_
  obtain ⟨fs4, hob4⟩ := hM.ob
  refine x_callV (cells1 := (cells + 12)) (slots1 := (slots + 164)) X hR (mm_thrown G ad _ _ hA0) q2079 q2080 q2081 q100 q2082 ⟨rfl, pd_X4_thrown⟩ ⟨Nat.le_of_ble_eq_true rfl, Nat.le_of_ble_eq_true rfl⟩ rfl rfl (by omega) (by omega) hob4 rfl rfl (Nat.le_of_ble_eq_true rfl) hl.1 dL_law_632 (hB0.of hS fp_no.base) hM hS (fun q h => Or.inr (by have h9 : (g_s G).heap.size ≤ q := fp_ma.base hA0 q h; omega)) (fun v H1 locs hp hz hk hS => ?_) (fun Ex qx cx H1 locs hp hz hk hS hcx hvx hlx => hp.elim)
  obtain ⟨rfl, hM2⟩ := hp
  have hP := hP.mo X.2.2.2.2.2 hM hA0 hz hk
  have ho := ho.kept (hk out ho.lt hoa)
  have hM := hM2
  clear hM2
  refine r_stk (st2 := [.int (iI ((kc : Nat) : Int))]) rfl ?_
  refine lv_iload hx hb dL_law_635 (lv_at hl 1 rfl) ?_
  refine lv_icmp_eq (tgt := 642) hx hb dL_law_637 (by decide) (fun _ => ?_) (fun h => absurd rfl h)
  refine lv_iload hx hb dL_law_642 (lv_at hl 1 rfl) ?_
  refine r_if_ne (tgt := 659) hx hb ⟨by omega, by omega⟩ dL_law_644 (by decide) (fun hne => ?_) (fun he => ?_)
  · skip
    refine lv_goto (tgt := 3331) hx hb dL_law_659 (by decide) ?_
    refine W.widen (k := cells + 50006) (n := slots + 229018) (by omega) (by omega) ?_
    exact kk _ _ _ _ _ _ (lv_sub hl [2, 3, 4, 5, 6] rfl) hS hP hM ho (hI.ifc (fun e => hI.psh (fp_sz_k hI.1)))
  · skip
    have he : kc = 0 := by omega
    refine lv_aload_n hx hb dL_law_647 rfl (lv_at hl 5 rfl) ?_
    refine lv_iconst (v := (iI ((0 : Nat) : Int))) hx hb dL_law_648 rfl ?_
    refine r_laldI (j := 0) X ho rfl (by decide) (by decide) dL_law_649 ?_
    refine lv_iload hx hb dL_law_650 (lv_at hl 0 rfl) ?_
    refine lv_i2l (v := (iI r).toInt64) hx hb dL_law_652 rfl ?_
    refine r_lcmpE X (by rw [hg2 he, hr he]) dL_law_653 ?_
    refine lv_if_eq (tgt := 659) hx hb dL_law_654 (by decide) (fun _ => ?_) (fun h => absurd rfl h)
    refine lv_goto (tgt := 3331) hx hb dL_law_659 (by decide) ?_
    refine W.widen (k := cells + 50006) (n := slots + 229018) (by omega) (by omega) ?_
    exact kk _ _ _ _ _ _ (lv_sub hl [2, 3, 4, 5, 6] rfl) hS hP hM ho (hI.ifc (fun e => hI.psh (fp_sz_k hI.1)))
set_option maxHeartbeats 1000000 in
theorem lc_5 {G : fp_G} {pg : Program} {en : Env} {rR : Room} {s : State} {mi : MethodId} {ag : Array Value} {bl : List Frame} {mt : Method} {cd : Code} {H : Heap} {locs : List Loc} {cells slots : Nat} {qQ : State → Prop} {ls : Array Slot} {b L x out i k MC MS : Nat} {xs : Nat → Int32} {ad : Nat → Nat} {T : TH} {g : Nat → Int64} (X : fp_C G pg s mi ag cd cL_law "FortPlannerLaw" 9) (hR : fp_R rR 8192 104096 MC MS) (hB0 : fp_B G s.heap) (hX : va_X b L xs s s.heap) (hbl : b < s.heap.size) (hL : L ≤ 96) (hi : 4 * i + 4 ≤ L) (hA0 : fp_MA G ad) (hob : (g_s G).heap.size ≤ out) (hoa : ¬ fp_ma ad out) (hl : lv_has ls 9 [(0, .ref (b)), (1, .ref (x)), (2, .ref (ad 0)), (3, .ref (out)), (4, .int (iI ((4 * i : Nat) : Int)))]) (hS : va_S (fA fp_no s.heap.size) s.heap H locs) (hsb : s.heap.size = (g_s G).heap.size) (hc : cells + 50006 ≤ MC) (hs : slots + 229018 ≤ MS) (hP : fp_PW G x (fp_LM ad out) T H) (hM : fp_MC G ad k T H) (ho : fp_At G H out (eJ G 1 g)) (hI : fp_TI i T) (kk : ∀ (H1 : Heap) (locs1 : List Loc) (ls1 : Array Slot) (T1 : TH) (k1 : Nat) (g1 : Nat → Int64), lv_has ls1 9 [(0, .ref (b)), (1, .ref (x)), (2, .ref (ad 0)), (3, .ref (out)), (4, .int (iI ((4 * i : Nat) : Int)))] → va_S (fA fp_no s.heap.size) s.heap H1 locs1 → fp_PW G x (fp_LM ad out) T1 H1 → fp_MC G ad k1 T1 H1 → fp_At G H1 out (eJ G 1 g1) → fp_TJ (i + 1) T1 → W pg (g_l G) en rR s mi ag bl mt cd H1 locs1 (cells + 50006) (slots + 229018) qQ (F0 mi 3331 ls1 [])) : W pg (g_l G) en rR s mi ag bl mt cd H locs cells slots qQ (F0 mi 662 ls []) := by
  obtain ⟨hx, hb, -⟩ := id X
  refine lv_aload_n hx hb dL_law_662 rfl (lv_at hl 1 rfl) ?_
  refine lv_aload_n hx hb dL_law_663 rfl (lv_at hl 0 rfl) ?_
  refine lv_iload hx hb dL_law_664 (lv_at hl 4 rfl) ?_
  refine lv_iconst (v := (iI ((1 : Nat) : Int))) hx hb dL_law_666 rfl ?_
  refine r_iaddN hx hb dL_law_667 ?_
  refine r_scr (j := 4 * i + 1) X hX hbl hS (by omega) hL dL_law_668 ?_
  refine lv_aload_n hx hb dL_law_669 rfl (lv_at hl 3 rfl) ?_
  obtain ⟨kc, hkc⟩ : ∃ kc, fp_at_c T.1 (fp_xs xs (4 * i + 1)) = kc := ⟨_, rfl⟩
  refine x_callSH (cells1 := cells + 12) (slots1 := slots + 161) X hR (x0_addTorch G x (fp_LM ad out) T i out g (fp_xs xs (4 * i + 1)) hI (fp_xs_rg _ _) (Or.inr rfl) hob) q1371 q1372 q87 q1373 pd_X0_addTorch ⟨Nat.le_of_ble_eq_true rfl, Nat.le_of_ble_eq_true rfl⟩ rfl rfl (by omega) (by omega) rfl (Nat.le_of_ble_eq_true rfl) hl.1 dL_law_670 (hB0.of hS fp_no.base) ⟨hP, ho⟩ hS (fun q h => Or.inr (by have h9 : (g_s G).heap.size ≤ q := h.1; omega)) (fun v H1 locs hp hz hk hS => ?_) (fun Ex qx cx H1 locs hp hz hk hS hcx hvx hlx => hp.elim)
  obtain ⟨g2, rfl, hg2, hP, ho⟩ := hp
  have hM := hM.keep hk (fun q hq h => h.2.elim (fun z => z (Or.inl hq)) (fun z => hoa (z ▸ hq)))
  refine r_stk (st2 := [.int (iI ((fp_at_c T.1 (fp_xs xs (4 * i + 1)) : Nat) : Int))]) rfl ?_
  have hkb : kc ≤ 2 := by rw [← hkc]; unfold fp_at_c; (repeat' split) <;> omega
  rw [hkc] at hg2 hP ⊢
  refine lv_istore (lv' := [(5, .int (iI ((kc : Nat) : Int))), (0, .ref (b)), (1, .ref (x)), (2, .ref (ad 0)), (3, .ref (out)), (4, .int (iI ((4 * i : Nat) : Int)))]) hx hb dL_law_673 hl (by decide) rfl (fun ls hl => ?_)
  refine lv_aload_n hx hb dL_law_675 rfl (lv_at hl 3 rfl) ?_
  refine lv_aload_n hx hb dL_law_676 rfl (lv_at hl 1 rfl) ?_
  refine lv_iload hx hb dL_law_677 (lv_at hl 5 rfl) ?_
  refine lv_iconst (v := (iI ((1 : Nat) : Int))) hx hb dL_law_679 rfl ?_
  refine r_iaddN hx hb dL_law_680 ?_
  refine r_scr (j := 4 * i + 1) X hX hbl hS (by omega) hL dL_law_681 ?_
  obtain ⟨fs3, hob3⟩ := hM.ob
  refine x_callV (cells1 := (cells + 12)) (slots1 := (slots + 161)) X hR (mm_addTorch G ad _ T i (fp_xs xs (4 * i + 1)) hA0 hI (fp_xs_rg _ _)) q2201 q2202 q2203 q100 q2204 ⟨rfl, pd_X4_addTorch⟩ ⟨Nat.le_of_ble_eq_true rfl, Nat.le_of_ble_eq_true rfl⟩ rfl rfl (by omega) (by omega) hob3 rfl rfl (Nat.le_of_ble_eq_true rfl) hl.1 dL_law_682 (hB0.of hS fp_no.base) hM hS (fun q h => Or.inr (by have h9 : (g_s G).heap.size ≤ q := fp_ma.base hA0 q h; omega)) (fun v H1 locs hp hz hk hS => ?_) (fun Ex qx cx H1 locs hp hz hk hS hcx hvx hlx => hp.elim)
  obtain ⟨r, rfl, hr, hM2⟩ := hp
  have hP := hP.mo X.2.2.2.2.2 hM hA0 hz hk
  have ho := ho.kept (hk out ho.lt hoa)
  have hM := hM2
  clear hM2
  rw [hkc] at hr hM
  refine r_stk (st2 := [.int (iI (r))]) rfl ?_
  refine lv_istore (lv' := [(6, .int (iI (r))), (5, .int (iI ((kc : Nat) : Int))), (0, .ref (b)), (1, .ref (x)), (2, .ref (ad 0)), (3, .ref (out)), (4, .int (iI ((4 * i : Nat) : Int)))]) hx hb dL_law_685 hl (by decide) rfl (fun ls hl => ?_)
  refine lv_aload_n hx hb dL_law_687 rfl (lv_at hl 4 rfl) ?_
  obtain ⟨fs4, hob4⟩ := hM.ob
  refine x_callV (cells1 := (cells + 12)) (slots1 := (slots + 161)) X hR (mm_thrown G ad _ _ hA0) q2079 q2080 q2081 q100 q2082 ⟨rfl, pd_X4_thrown⟩ ⟨Nat.le_of_ble_eq_true rfl, Nat.le_of_ble_eq_true rfl⟩ rfl rfl (by omega) (by omega) hob4 rfl rfl (Nat.le_of_ble_eq_true rfl) hl.1 dL_law_688 (hB0.of hS fp_no.base) hM hS (fun q h => Or.inr (by have h9 : (g_s G).heap.size ≤ q := fp_ma.base hA0 q h; omega)) (fun v H1 locs hp hz hk hS => ?_) (fun Ex qx cx H1 locs hp hz hk hS hcx hvx hlx => hp.elim)
  obtain ⟨rfl, hM2⟩ := hp
  have hP := hP.mo X.2.2.2.2.2 hM hA0 hz hk
  have ho := ho.kept (hk out ho.lt hoa)
  have hM := hM2
  clear hM2
  refine r_stk (st2 := [.int (iI ((kc : Nat) : Int))]) rfl ?_
  refine lv_iload hx hb dL_law_691 (lv_at hl 1 rfl) ?_
  refine lv_icmp_eq (tgt := 698) hx hb dL_law_693 (by decide) (fun _ => ?_) (fun h => absurd rfl h)
  refine lv_iload hx hb dL_law_698 (lv_at hl 1 rfl) ?_
  refine r_if_ne (tgt := 715) hx hb ⟨by omega, by omega⟩ dL_law_700 (by decide) (fun hne => ?_) (fun he => ?_)
  · skip
    refine lv_goto (tgt := 3331) hx hb dL_law_715 (by decide) ?_
    refine W.widen (k := cells + 50006) (n := slots + 229018) (by omega) (by omega) ?_
    exact kk _ _ _ _ _ _ (lv_sub hl [2, 3, 4, 5, 6] rfl) hS hP hM ho (hI.ifc (fun e => hI.psh (fp_to_k hI.1 (by decide))))
  · skip
    have he : kc = 0 := by omega
    refine lv_aload_n hx hb dL_law_703 rfl (lv_at hl 5 rfl) ?_
    refine lv_iconst (v := (iI ((0 : Nat) : Int))) hx hb dL_law_704 rfl ?_
    refine r_laldI (j := 0) X ho rfl (by decide) (by decide) dL_law_705 ?_
    refine lv_iload hx hb dL_law_706 (lv_at hl 0 rfl) ?_
    refine lv_i2l (v := (iI r).toInt64) hx hb dL_law_708 rfl ?_
    refine r_lcmpE X (by rw [hg2 he, hr he]) dL_law_709 ?_
    refine lv_if_eq (tgt := 715) hx hb dL_law_710 (by decide) (fun _ => ?_) (fun h => absurd rfl h)
    refine lv_goto (tgt := 3331) hx hb dL_law_715 (by decide) ?_
    refine W.widen (k := cells + 50006) (n := slots + 229018) (by omega) (by omega) ?_
    exact kk _ _ _ _ _ _ (lv_sub hl [2, 3, 4, 5, 6] rfl) hS hP hM ho (hI.ifc (fun e => hI.psh (fp_to_k hI.1 (by decide))))
set_option maxHeartbeats 1000000 in
theorem lc_6 {G : fp_G} {pg : Program} {en : Env} {rR : Room} {s : State} {mi : MethodId} {ag : Array Value} {bl : List Frame} {mt : Method} {cd : Code} {H : Heap} {locs : List Loc} {cells slots : Nat} {qQ : State → Prop} {ls : Array Slot} {b L x out i k MC MS : Nat} {xs : Nat → Int32} {ad : Nat → Nat} {T : TH} {g : Nat → Int64} (X : fp_C G pg s mi ag cd cL_law "FortPlannerLaw" 9) (hR : fp_R rR 8192 104096 MC MS) (hB0 : fp_B G s.heap) (hX : va_X b L xs s s.heap) (hbl : b < s.heap.size) (hL : L ≤ 96) (hi : 4 * i + 4 ≤ L) (hA0 : fp_MA G ad) (hob : (g_s G).heap.size ≤ out) (hoa : ¬ fp_ma ad out) (hl : lv_has ls 9 [(0, .ref (b)), (1, .ref (x)), (2, .ref (ad 0)), (3, .ref (out)), (4, .int (iI ((4 * i : Nat) : Int)))]) (hS : va_S (fA fp_no s.heap.size) s.heap H locs) (hsb : s.heap.size = (g_s G).heap.size) (hc : cells + 50006 ≤ MC) (hs : slots + 229018 ≤ MS) (hP : fp_PW G x (fp_LM ad out) T H) (hM : fp_MC G ad k T H) (ho : fp_At G H out (eJ G 1 g)) (hI : fp_TI i T) (kk : ∀ (H1 : Heap) (locs1 : List Loc) (ls1 : Array Slot) (T1 : TH) (k1 : Nat) (g1 : Nat → Int64), lv_has ls1 9 [(0, .ref (b)), (1, .ref (x)), (2, .ref (ad 0)), (3, .ref (out)), (4, .int (iI ((4 * i : Nat) : Int)))] → va_S (fA fp_no s.heap.size) s.heap H1 locs1 → fp_PW G x (fp_LM ad out) T1 H1 → fp_MC G ad k1 T1 H1 → fp_At G H1 out (eJ G 1 g1) → fp_TJ (i + 1) T1 → W pg (g_l G) en rR s mi ag bl mt cd H1 locs1 (cells + 50006) (slots + 229018) qQ (F0 mi 3331 ls1 [])) : W pg (g_l G) en rR s mi ag bl mt cd H locs cells slots qQ (F0 mi 718 ls []) := by
  obtain ⟨hx, hb, -⟩ := id X
  refine lv_aload_n hx hb dL_law_718 rfl (lv_at hl 1 rfl) ?_
  refine lv_aload_n hx hb dL_law_719 rfl (lv_at hl 0 rfl) ?_
  refine lv_iload hx hb dL_law_720 (lv_at hl 4 rfl) ?_
  refine lv_iconst (v := (iI ((1 : Nat) : Int))) hx hb dL_law_722 rfl ?_
  refine r_iaddN hx hb dL_law_723 ?_
  refine r_scr (j := 4 * i + 1) X hX hbl hS (by omega) hL dL_law_724 ?_
  refine lv_aload_n hx hb dL_law_725 rfl (lv_at hl 3 rfl) ?_
  obtain ⟨kc, hkc⟩ : ∃ kc, fp_rt_c T.1 (fp_xs xs (4 * i + 1)) = kc := ⟨_, rfl⟩
  refine x_callSH (cells1 := cells + 12) (slots1 := slots + 161) X hR (x0_removeTorch G x (fp_LM ad out) T i out g (fp_xs xs (4 * i + 1)) hI (fp_xs_rg _ _) (Or.inr rfl) hob) q1386 q1387 q87 q1388 pd_X0_removeTorch ⟨Nat.le_of_ble_eq_true rfl, Nat.le_of_ble_eq_true rfl⟩ rfl rfl (by omega) (by omega) rfl (Nat.le_of_ble_eq_true rfl) hl.1 dL_law_726 (hB0.of hS fp_no.base) ⟨hP, ho⟩ hS (fun q h => Or.inr (by have h9 : (g_s G).heap.size ≤ q := h.1; omega)) (fun v H1 locs hp hz hk hS => ?_) (fun Ex qx cx H1 locs hp hz hk hS hcx hvx hlx => hp.elim)
  obtain ⟨g2, rfl, hg2, hP, ho⟩ := hp
  have hM := hM.keep hk (fun q hq h => h.2.elim (fun z => z (Or.inl hq)) (fun z => hoa (z ▸ hq)))
  refine r_stk (st2 := [.int (iI ((fp_rt_c T.1 (fp_xs xs (4 * i + 1)) : Nat) : Int))]) rfl ?_
  have hkb : kc ≤ 2 := by rw [← hkc]; unfold fp_rt_c; (repeat' split) <;> omega
  rw [hkc] at hg2 hP ⊢
  refine lv_istore (lv' := [(5, .int (iI ((kc : Nat) : Int))), (0, .ref (b)), (1, .ref (x)), (2, .ref (ad 0)), (3, .ref (out)), (4, .int (iI ((4 * i : Nat) : Int)))]) hx hb dL_law_729 hl (by decide) rfl (fun ls hl => ?_)
  refine lv_aload_n hx hb dL_law_731 rfl (lv_at hl 3 rfl) ?_
  refine lv_aload_n hx hb dL_law_732 rfl (lv_at hl 1 rfl) ?_
  refine lv_iload hx hb dL_law_733 (lv_at hl 5 rfl) ?_
  refine lv_iconst (v := (iI ((1 : Nat) : Int))) hx hb dL_law_735 rfl ?_
  refine r_iaddN hx hb dL_law_736 ?_
  refine r_scr (j := 4 * i + 1) X hX hbl hS (by omega) hL dL_law_737 ?_
  obtain ⟨fs3, hob3⟩ := hM.ob
  refine x_callV (cells1 := (cells + 12)) (slots1 := (slots + 161)) X hR (mm_removeTorch G ad _ T i (fp_xs xs (4 * i + 1)) hA0 hI (fp_xs_rg _ _)) q2213 q2214 q2215 q100 q2216 ⟨rfl, pd_X4_removeTorch⟩ ⟨Nat.le_of_ble_eq_true rfl, Nat.le_of_ble_eq_true rfl⟩ rfl rfl (by omega) (by omega) hob3 rfl rfl (Nat.le_of_ble_eq_true rfl) hl.1 dL_law_738 (hB0.of hS fp_no.base) hM hS (fun q h => Or.inr (by have h9 : (g_s G).heap.size ≤ q := fp_ma.base hA0 q h; omega)) (fun v H1 locs hp hz hk hS => ?_) (fun Ex qx cx H1 locs hp hz hk hS hcx hvx hlx => hp.elim)
  obtain ⟨r, rfl, hr, hM2⟩ := hp
  have hP := hP.mo X.2.2.2.2.2 hM hA0 hz hk
  have ho := ho.kept (hk out ho.lt hoa)
  have hM := hM2
  clear hM2
  rw [hkc] at hr hM
  refine r_stk (st2 := [.int (iI (r))]) rfl ?_
  refine lv_istore (lv' := [(6, .int (iI (r))), (5, .int (iI ((kc : Nat) : Int))), (0, .ref (b)), (1, .ref (x)), (2, .ref (ad 0)), (3, .ref (out)), (4, .int (iI ((4 * i : Nat) : Int)))]) hx hb dL_law_741 hl (by decide) rfl (fun ls hl => ?_)
  refine lv_aload_n hx hb dL_law_743 rfl (lv_at hl 4 rfl) ?_
  obtain ⟨fs4, hob4⟩ := hM.ob
  refine x_callV (cells1 := (cells + 12)) (slots1 := (slots + 161)) X hR (mm_thrown G ad _ _ hA0) q2079 q2080 q2081 q100 q2082 ⟨rfl, pd_X4_thrown⟩ ⟨Nat.le_of_ble_eq_true rfl, Nat.le_of_ble_eq_true rfl⟩ rfl rfl (by omega) (by omega) hob4 rfl rfl (Nat.le_of_ble_eq_true rfl) hl.1 dL_law_744 (hB0.of hS fp_no.base) hM hS (fun q h => Or.inr (by have h9 : (g_s G).heap.size ≤ q := fp_ma.base hA0 q h; omega)) (fun v H1 locs hp hz hk hS => ?_) (fun Ex qx cx H1 locs hp hz hk hS hcx hvx hlx => hp.elim)
  obtain ⟨rfl, hM2⟩ := hp
  have hP := hP.mo X.2.2.2.2.2 hM hA0 hz hk
  have ho := ho.kept (hk out ho.lt hoa)
  have hM := hM2
  clear hM2
  refine r_stk (st2 := [.int (iI ((kc : Nat) : Int))]) rfl ?_
  refine lv_iload hx hb dL_law_747 (lv_at hl 1 rfl) ?_
  refine lv_icmp_eq (tgt := 754) hx hb dL_law_749 (by decide) (fun _ => ?_) (fun h => absurd rfl h)
  refine lv_iload hx hb dL_law_754 (lv_at hl 1 rfl) ?_
  refine r_if_ne (tgt := 771) hx hb ⟨by omega, by omega⟩ dL_law_756 (by decide) (fun hne => ?_) (fun he => ?_)
  · skip
    refine lv_goto (tgt := 3331) hx hb dL_law_771 (by decide) ?_
    refine W.widen (k := cells + 50006) (n := slots + 229018) (by omega) (by omega) ?_
    exact kk _ _ _ _ _ _ (lv_sub hl [2, 3, 4, 5, 6] rfl) hS hP hM ho (hI.ifc (fun e => hI.psh (fp_to_k hI.1 (by decide))))
  · skip
    have he : kc = 0 := by omega
    refine lv_aload_n hx hb dL_law_759 rfl (lv_at hl 5 rfl) ?_
    refine lv_iconst (v := (iI ((0 : Nat) : Int))) hx hb dL_law_760 rfl ?_
    refine r_laldI (j := 0) X ho rfl (by decide) (by decide) dL_law_761 ?_
    refine lv_iload hx hb dL_law_762 (lv_at hl 0 rfl) ?_
    refine lv_i2l (v := (iI r).toInt64) hx hb dL_law_764 rfl ?_
    refine r_lcmpE X (by rw [hg2 he, hr he]) dL_law_765 ?_
    refine lv_if_eq (tgt := 771) hx hb dL_law_766 (by decide) (fun _ => ?_) (fun h => absurd rfl h)
    refine lv_goto (tgt := 3331) hx hb dL_law_771 (by decide) ?_
    refine W.widen (k := cells + 50006) (n := slots + 229018) (by omega) (by omega) ?_
    exact kk _ _ _ _ _ _ (lv_sub hl [2, 3, 4, 5, 6] rfl) hS hP hM ho (hI.ifc (fun e => hI.psh (fp_to_k hI.1 (by decide))))
set_option maxHeartbeats 1000000 in
theorem lc_7 {G : fp_G} {pg : Program} {en : Env} {rR : Room} {s : State} {mi : MethodId} {ag : Array Value} {bl : List Frame} {mt : Method} {cd : Code} {H : Heap} {locs : List Loc} {cells slots : Nat} {qQ : State → Prop} {ls : Array Slot} {b L x out i k MC MS : Nat} {xs : Nat → Int32} {ad : Nat → Nat} {T : TH} {g : Nat → Int64} (X : fp_C G pg s mi ag cd cL_law "FortPlannerLaw" 9) (hR : fp_R rR 8192 104096 MC MS) (hB0 : fp_B G s.heap) (hX : va_X b L xs s s.heap) (hbl : b < s.heap.size) (hL : L ≤ 96) (hi : 4 * i + 4 ≤ L) (hA0 : fp_MA G ad) (hob : (g_s G).heap.size ≤ out) (hoa : ¬ fp_ma ad out) (hl : lv_has ls 9 [(0, .ref (b)), (1, .ref (x)), (2, .ref (ad 0)), (3, .ref (out)), (4, .int (iI ((4 * i : Nat) : Int)))]) (hS : va_S (fA fp_no s.heap.size) s.heap H locs) (hsb : s.heap.size = (g_s G).heap.size) (hc : cells + 50006 ≤ MC) (hs : slots + 229018 ≤ MS) (hP : fp_PW G x (fp_LM ad out) T H) (hM : fp_MC G ad k T H) (ho : fp_At G H out (eJ G 1 g)) (hI : fp_TI i T) (kk : ∀ (H1 : Heap) (locs1 : List Loc) (ls1 : Array Slot) (T1 : TH) (k1 : Nat) (g1 : Nat → Int64), lv_has ls1 9 [(0, .ref (b)), (1, .ref (x)), (2, .ref (ad 0)), (3, .ref (out)), (4, .int (iI ((4 * i : Nat) : Int)))] → va_S (fA fp_no s.heap.size) s.heap H1 locs1 → fp_PW G x (fp_LM ad out) T1 H1 → fp_MC G ad k1 T1 H1 → fp_At G H1 out (eJ G 1 g1) → fp_TJ (i + 1) T1 → W pg (g_l G) en rR s mi ag bl mt cd H1 locs1 (cells + 50006) (slots + 229018) qQ (F0 mi 3331 ls1 [])) : W pg (g_l G) en rR s mi ag bl mt cd H locs cells slots qQ (F0 mi 774 ls []) := by
  obtain ⟨hx, hb, -⟩ := id X
  refine lv_aload_n hx hb dL_law_774 rfl (lv_at hl 1 rfl) ?_
  refine lv_aload_n hx hb dL_law_775 rfl (lv_at hl 0 rfl) ?_
  refine lv_iload hx hb dL_law_776 (lv_at hl 4 rfl) ?_
  refine lv_iconst (v := (iI ((1 : Nat) : Int))) hx hb dL_law_778 rfl ?_
  refine r_iaddN hx hb dL_law_779 ?_
  refine r_scr (j := 4 * i + 1) X hX hbl hS (by omega) hL dL_law_780 ?_
  refine lv_aload_n hx hb dL_law_781 rfl (lv_at hl 0 rfl) ?_
  refine lv_iload hx hb dL_law_782 (lv_at hl 4 rfl) ?_
  refine lv_iconst (v := (iI ((2 : Nat) : Int))) hx hb dL_law_784 rfl ?_
  refine r_iaddN hx hb dL_law_785 ?_
  refine r_scr (j := 4 * i + 2) X hX hbl hS (by omega) hL dL_law_786 ?_
  refine lv_aload_n hx hb dL_law_787 rfl (lv_at hl 0 rfl) ?_
  refine lv_iload hx hb dL_law_788 (lv_at hl 4 rfl) ?_
  refine lv_iconst (v := (iI ((3 : Nat) : Int))) hx hb dL_law_790 rfl ?_
  refine r_iaddN hx hb dL_law_791 ?_
  refine r_scr (j := 4 * i + 3) X hX hbl hS (by omega) hL dL_law_792 ?_
  refine lv_aload_n hx hb dL_law_793 rfl (lv_at hl 3 rfl) ?_
  obtain ⟨kc, hkc⟩ : ∃ kc, fp_cn_c T.1 0 (fp_xs xs (4 * i + 1)) (fp_xs xs (4 * i + 2)) (fp_xs xs (4 * i + 3)) = kc := ⟨_, rfl⟩
  refine x_callSH (cells1 := cells + 154) (slots1 := slots + 3013) X hR (x0_canPlaceFoam G x (fp_LM ad out) T i out g (fp_xs xs (4 * i + 1)) (fp_xs xs (4 * i + 2)) (fp_xs xs (4 * i + 3)) hI (fp_xs_rg _ _) (fp_xs_rg _ _) (fp_xs_rg _ _) (Or.inr rfl) hob) q1393 q1394 q87 q1395 pd_X0_canPlaceFoam ⟨Nat.le_of_ble_eq_true rfl, Nat.le_of_ble_eq_true rfl⟩ rfl rfl (by omega) (by omega) rfl (Nat.le_of_ble_eq_true rfl) hl.1 dL_law_794 (hB0.of hS fp_no.base) ⟨hP, ho⟩ hS (fun q h => Or.inr (by have h9 : (g_s G).heap.size ≤ q := h.1; omega)) (fun v H1 locs hp hz hk hS => ?_) (fun Ex qx cx H1 locs hp hz hk hS hcx hvx hlx => hp.elim)
  obtain ⟨g2, rfl, hg2, hP, ho⟩ := hp
  have hM := hM.keep hk (fun q hq h => h.2.elim (fun z => z (Or.inl hq)) (fun z => hoa (z ▸ hq)))
  refine r_stk (st2 := [.int (iI ((fp_cn_c T.1 0 (fp_xs xs (4 * i + 1)) (fp_xs xs (4 * i + 2)) (fp_xs xs (4 * i + 3)) : Nat) : Int))]) rfl ?_
  have hkb : kc ≤ 2 := by rw [← hkc]; unfold fp_cn_c; (repeat' split) <;> omega
  rw [hkc] at hg2 ⊢
  refine lv_istore (lv' := [(5, .int (iI ((kc : Nat) : Int))), (0, .ref (b)), (1, .ref (x)), (2, .ref (ad 0)), (3, .ref (out)), (4, .int (iI ((4 * i : Nat) : Int)))]) hx hb dL_law_797 hl (by decide) rfl (fun ls hl => ?_)
  refine lv_aload_n hx hb dL_law_799 rfl (lv_at hl 3 rfl) ?_
  refine lv_aload_n hx hb dL_law_800 rfl (lv_at hl 1 rfl) ?_
  refine lv_iload hx hb dL_law_801 (lv_at hl 5 rfl) ?_
  refine lv_iconst (v := (iI ((1 : Nat) : Int))) hx hb dL_law_803 rfl ?_
  refine r_iaddN hx hb dL_law_804 ?_
  refine r_scr (j := 4 * i + 1) X hX hbl hS (by omega) hL dL_law_805 ?_
  refine lv_aload_n hx hb dL_law_806 rfl (lv_at hl 1 rfl) ?_
  refine lv_iload hx hb dL_law_807 (lv_at hl 5 rfl) ?_
  refine lv_iconst (v := (iI ((2 : Nat) : Int))) hx hb dL_law_809 rfl ?_
  refine r_iaddN hx hb dL_law_810 ?_
  refine r_scr (j := 4 * i + 2) X hX hbl hS (by omega) hL dL_law_811 ?_
  refine lv_aload_n hx hb dL_law_812 rfl (lv_at hl 1 rfl) ?_
  refine lv_iload hx hb dL_law_813 (lv_at hl 5 rfl) ?_
  refine lv_iconst (v := (iI ((3 : Nat) : Int))) hx hb dL_law_815 rfl ?_
  refine r_iaddN hx hb dL_law_816 ?_
  refine r_scr (j := 4 * i + 3) X hX hbl hS (by omega) hL dL_law_817 ?_
  obtain ⟨fs3, hob3⟩ := hM.ob
  refine x_callV (cells1 := (cells + 154)) (slots1 := (slots + 3013)) X hR (mm_canPlaceFoam G ad _ T i (fp_xs xs (4 * i + 1)) (fp_xs xs (4 * i + 2)) (fp_xs xs (4 * i + 3)) hA0 hI (fp_xs_rg _ _) (fp_xs_rg _ _) (fp_xs_rg _ _)) q2217 q2218 q2219 q100 q2220 ⟨rfl, pd_X4_canPlaceFoam⟩ ⟨Nat.le_of_ble_eq_true rfl, Nat.le_of_ble_eq_true rfl⟩ rfl rfl (by omega) (by omega) hob3 rfl rfl (Nat.le_of_ble_eq_true rfl) hl.1 dL_law_818 (hB0.of hS fp_no.base) hM hS (fun q h => Or.inr (by have h9 : (g_s G).heap.size ≤ q := fp_ma.base hA0 q h; omega)) (fun v H1 locs hp hz hk hS => ?_) (fun Ex qx cx H1 locs hp hz hk hS hcx hvx hlx => hp.elim)
  obtain ⟨r, rfl, hr, hM2⟩ := hp
  have hP := hP.mo X.2.2.2.2.2 hM hA0 hz hk
  have ho := ho.kept (hk out ho.lt hoa)
  have hM := hM2
  clear hM2
  rw [hkc] at hr hM
  refine r_stk (st2 := [.int (iI (bI (r)))]) rfl ?_
  refine lv_istore (lv' := [(6, .int (iI (bI (r)))), (5, .int (iI ((kc : Nat) : Int))), (0, .ref (b)), (1, .ref (x)), (2, .ref (ad 0)), (3, .ref (out)), (4, .int (iI ((4 * i : Nat) : Int)))]) hx hb dL_law_821 hl (by decide) rfl (fun ls hl => ?_)
  refine lv_aload_n hx hb dL_law_823 rfl (lv_at hl 4 rfl) ?_
  obtain ⟨fs4, hob4⟩ := hM.ob
  refine x_callV (cells1 := (cells + 154)) (slots1 := (slots + 3013)) X hR (mm_thrown G ad _ _ hA0) q2079 q2080 q2081 q100 q2082 ⟨rfl, pd_X4_thrown⟩ ⟨Nat.le_of_ble_eq_true rfl, Nat.le_of_ble_eq_true rfl⟩ rfl rfl (by omega) (by omega) hob4 rfl rfl (Nat.le_of_ble_eq_true rfl) hl.1 dL_law_824 (hB0.of hS fp_no.base) hM hS (fun q h => Or.inr (by have h9 : (g_s G).heap.size ≤ q := fp_ma.base hA0 q h; omega)) (fun v H1 locs hp hz hk hS => ?_) (fun Ex qx cx H1 locs hp hz hk hS hcx hvx hlx => hp.elim)
  obtain ⟨rfl, hM2⟩ := hp
  have hP := hP.mo X.2.2.2.2.2 hM hA0 hz hk
  have ho := ho.kept (hk out ho.lt hoa)
  have hM := hM2
  clear hM2
  refine r_stk (st2 := [.int (iI ((kc : Nat) : Int))]) rfl ?_
  refine lv_iload hx hb dL_law_827 (lv_at hl 1 rfl) ?_
  refine lv_icmp_eq (tgt := 834) hx hb dL_law_829 (by decide) (fun _ => ?_) (fun h => absurd rfl h)
  refine lv_iload hx hb dL_law_834 (lv_at hl 1 rfl) ?_
  refine r_if_ne (tgt := 858) hx hb ⟨by omega, by omega⟩ dL_law_836 (by decide) (fun hne => ?_) (fun he => ?_)
  · skip
    refine lv_goto (tgt := 3331) hx hb dL_law_858 (by decide) ?_
    refine W.widen (k := cells + 50006) (n := slots + 229018) (by omega) (by omega) ?_
    exact kk _ _ _ _ _ _ (lv_sub hl [2, 3, 4, 5, 6] rfl) hS hP hM ho (hI.same)
  · skip
    have he : kc = 0 := by omega
    refine lv_aload_n hx hb dL_law_839 rfl (lv_at hl 5 rfl) ?_
    refine lv_iconst (v := (iI ((0 : Nat) : Int))) hx hb dL_law_840 rfl ?_
    refine r_laldI (j := 0) X ho rfl (by decide) (by decide) dL_law_841 ?_
    refine lv_iload hx hb dL_law_842 (lv_at hl 0 rfl) ?_
    refine r_ifeqB (tgt := 851) hx hb dL_law_844 (by decide) (fun cb => ?_) (fun cb => ?_)
    · skip
      refine lv_lconst (v := 0) hx hb dL_law_851 rfl ?_
      refine r_lcmpE X (by rw [hg2 he, ← hr he, cb]; rfl) dL_law_852 ?_
      refine lv_if_eq (tgt := 858) hx hb dL_law_853 (by decide) (fun _ => ?_) (fun h => absurd rfl h)
      refine lv_goto (tgt := 3331) hx hb dL_law_858 (by decide) ?_
      refine W.widen (k := cells + 50006) (n := slots + 229018) (by omega) (by omega) ?_
      exact kk _ _ _ _ _ _ (lv_sub hl [2, 3, 4, 5, 6] rfl) hS hP hM ho (hI.same)
    · skip
      refine lv_lconst (v := 1) hx hb dL_law_847 rfl ?_
      refine lv_goto (tgt := 852) hx hb dL_law_848 (by decide) ?_
      refine r_lcmpE X (by rw [hg2 he, ← hr he, cb]; rfl) dL_law_852 ?_
      refine lv_if_eq (tgt := 858) hx hb dL_law_853 (by decide) (fun _ => ?_) (fun h => absurd rfl h)
      refine lv_goto (tgt := 3331) hx hb dL_law_858 (by decide) ?_
      refine W.widen (k := cells + 50006) (n := slots + 229018) (by omega) (by omega) ?_
      exact kk _ _ _ _ _ _ (lv_sub hl [2, 3, 4, 5, 6] rfl) hS hP hM ho (hI.same)
set_option maxHeartbeats 1000000 in
theorem lc_8 {G : fp_G} {pg : Program} {en : Env} {rR : Room} {s : State} {mi : MethodId} {ag : Array Value} {bl : List Frame} {mt : Method} {cd : Code} {H : Heap} {locs : List Loc} {cells slots : Nat} {qQ : State → Prop} {ls : Array Slot} {b L x out i k MC MS : Nat} {xs : Nat → Int32} {ad : Nat → Nat} {T : TH} {g : Nat → Int64} (X : fp_C G pg s mi ag cd cL_law "FortPlannerLaw" 9) (hR : fp_R rR 8192 104096 MC MS) (hB0 : fp_B G s.heap) (hX : va_X b L xs s s.heap) (hbl : b < s.heap.size) (hL : L ≤ 96) (hi : 4 * i + 4 ≤ L) (hA0 : fp_MA G ad) (hob : (g_s G).heap.size ≤ out) (hoa : ¬ fp_ma ad out) (hl : lv_has ls 9 [(0, .ref (b)), (1, .ref (x)), (2, .ref (ad 0)), (3, .ref (out)), (4, .int (iI ((4 * i : Nat) : Int)))]) (hS : va_S (fA fp_no s.heap.size) s.heap H locs) (hsb : s.heap.size = (g_s G).heap.size) (hc : cells + 50006 ≤ MC) (hs : slots + 229018 ≤ MS) (hP : fp_PW G x (fp_LM ad out) T H) (hM : fp_MC G ad k T H) (ho : fp_At G H out (eJ G 1 g)) (hI : fp_TI i T) (kk : ∀ (H1 : Heap) (locs1 : List Loc) (ls1 : Array Slot) (T1 : TH) (k1 : Nat) (g1 : Nat → Int64), lv_has ls1 9 [(0, .ref (b)), (1, .ref (x)), (2, .ref (ad 0)), (3, .ref (out)), (4, .int (iI ((4 * i : Nat) : Int)))] → va_S (fA fp_no s.heap.size) s.heap H1 locs1 → fp_PW G x (fp_LM ad out) T1 H1 → fp_MC G ad k1 T1 H1 → fp_At G H1 out (eJ G 1 g1) → fp_TJ (i + 1) T1 → W pg (g_l G) en rR s mi ag bl mt cd H1 locs1 (cells + 50006) (slots + 229018) qQ (F0 mi 3331 ls1 [])) : W pg (g_l G) en rR s mi ag bl mt cd H locs cells slots qQ (F0 mi 861 ls []) := by
  obtain ⟨hx, hb, -⟩ := id X
  refine lv_aload_n hx hb dL_law_861 rfl (lv_at hl 1 rfl) ?_
  refine lv_aload_n hx hb dL_law_862 rfl (lv_at hl 0 rfl) ?_
  refine lv_iload hx hb dL_law_863 (lv_at hl 4 rfl) ?_
  refine lv_iconst (v := (iI ((1 : Nat) : Int))) hx hb dL_law_865 rfl ?_
  refine r_iaddN hx hb dL_law_866 ?_
  refine r_scr (j := 4 * i + 1) X hX hbl hS (by omega) hL dL_law_867 ?_
  refine lv_aload_n hx hb dL_law_868 rfl (lv_at hl 0 rfl) ?_
  refine lv_iload hx hb dL_law_869 (lv_at hl 4 rfl) ?_
  refine lv_iconst (v := (iI ((2 : Nat) : Int))) hx hb dL_law_871 rfl ?_
  refine r_iaddN hx hb dL_law_872 ?_
  refine r_scr (j := 4 * i + 2) X hX hbl hS (by omega) hL dL_law_873 ?_
  refine lv_aload_n hx hb dL_law_874 rfl (lv_at hl 0 rfl) ?_
  refine lv_iload hx hb dL_law_875 (lv_at hl 4 rfl) ?_
  refine lv_iconst (v := (iI ((3 : Nat) : Int))) hx hb dL_law_877 rfl ?_
  refine r_iaddN hx hb dL_law_878 ?_
  refine r_scr (j := 4 * i + 3) X hX hbl hS (by omega) hL dL_law_879 ?_
  refine lv_aload_n hx hb dL_law_880 rfl (lv_at hl 3 rfl) ?_
  obtain ⟨kc, hkc⟩ : ∃ kc, fp_cn_c T.1 1 (fp_xs xs (4 * i + 1)) (fp_xs xs (4 * i + 2)) (fp_xs xs (4 * i + 3)) = kc := ⟨_, rfl⟩
  refine x_callSH (cells1 := cells + 154) (slots1 := slots + 3013) X hR (x0_canPlaceBoard G x (fp_LM ad out) T i out g (fp_xs xs (4 * i + 1)) (fp_xs xs (4 * i + 2)) (fp_xs xs (4 * i + 3)) hI (fp_xs_rg _ _) (fp_xs_rg _ _) (fp_xs_rg _ _) (Or.inr rfl) hob) q1404 q1405 q87 q1406 pd_X0_canPlaceBoard ⟨Nat.le_of_ble_eq_true rfl, Nat.le_of_ble_eq_true rfl⟩ rfl rfl (by omega) (by omega) rfl (Nat.le_of_ble_eq_true rfl) hl.1 dL_law_881 (hB0.of hS fp_no.base) ⟨hP, ho⟩ hS (fun q h => Or.inr (by have h9 : (g_s G).heap.size ≤ q := h.1; omega)) (fun v H1 locs hp hz hk hS => ?_) (fun Ex qx cx H1 locs hp hz hk hS hcx hvx hlx => hp.elim)
  obtain ⟨g2, rfl, hg2, hP, ho⟩ := hp
  have hM := hM.keep hk (fun q hq h => h.2.elim (fun z => z (Or.inl hq)) (fun z => hoa (z ▸ hq)))
  refine r_stk (st2 := [.int (iI ((fp_cn_c T.1 1 (fp_xs xs (4 * i + 1)) (fp_xs xs (4 * i + 2)) (fp_xs xs (4 * i + 3)) : Nat) : Int))]) rfl ?_
  have hkb : kc ≤ 2 := by rw [← hkc]; unfold fp_cn_c; (repeat' split) <;> omega
  rw [hkc] at hg2 ⊢
  refine lv_istore (lv' := [(5, .int (iI ((kc : Nat) : Int))), (0, .ref (b)), (1, .ref (x)), (2, .ref (ad 0)), (3, .ref (out)), (4, .int (iI ((4 * i : Nat) : Int)))]) hx hb dL_law_884 hl (by decide) rfl (fun ls hl => ?_)
  refine lv_aload_n hx hb dL_law_886 rfl (lv_at hl 3 rfl) ?_
  refine lv_aload_n hx hb dL_law_887 rfl (lv_at hl 1 rfl) ?_
  refine lv_iload hx hb dL_law_888 (lv_at hl 5 rfl) ?_
  refine lv_iconst (v := (iI ((1 : Nat) : Int))) hx hb dL_law_890 rfl ?_
  refine r_iaddN hx hb dL_law_891 ?_
  refine r_scr (j := 4 * i + 1) X hX hbl hS (by omega) hL dL_law_892 ?_
  refine lv_aload_n hx hb dL_law_893 rfl (lv_at hl 1 rfl) ?_
  refine lv_iload hx hb dL_law_894 (lv_at hl 5 rfl) ?_
  refine lv_iconst (v := (iI ((2 : Nat) : Int))) hx hb dL_law_896 rfl ?_
  refine r_iaddN hx hb dL_law_897 ?_
  refine r_scr (j := 4 * i + 2) X hX hbl hS (by omega) hL dL_law_898 ?_
  refine lv_aload_n hx hb dL_law_899 rfl (lv_at hl 1 rfl) ?_
  refine lv_iload hx hb dL_law_900 (lv_at hl 5 rfl) ?_
  refine lv_iconst (v := (iI ((3 : Nat) : Int))) hx hb dL_law_902 rfl ?_
  refine r_iaddN hx hb dL_law_903 ?_
  refine r_scr (j := 4 * i + 3) X hX hbl hS (by omega) hL dL_law_904 ?_
  obtain ⟨fs3, hob3⟩ := hM.ob
  refine x_callV (cells1 := (cells + 154)) (slots1 := (slots + 3013)) X hR (mm_canPlaceBoard G ad _ T i (fp_xs xs (4 * i + 1)) (fp_xs xs (4 * i + 2)) (fp_xs xs (4 * i + 3)) hA0 hI (fp_xs_rg _ _) (fp_xs_rg _ _) (fp_xs_rg _ _)) q2225 q2226 q2227 q100 q2228 ⟨rfl, pd_X4_canPlaceBoard⟩ ⟨Nat.le_of_ble_eq_true rfl, Nat.le_of_ble_eq_true rfl⟩ rfl rfl (by omega) (by omega) hob3 rfl rfl (Nat.le_of_ble_eq_true rfl) hl.1 dL_law_905 (hB0.of hS fp_no.base) hM hS (fun q h => Or.inr (by have h9 : (g_s G).heap.size ≤ q := fp_ma.base hA0 q h; omega)) (fun v H1 locs hp hz hk hS => ?_) (fun Ex qx cx H1 locs hp hz hk hS hcx hvx hlx => hp.elim)
  obtain ⟨r, rfl, hr, hM2⟩ := hp
  have hP := hP.mo X.2.2.2.2.2 hM hA0 hz hk
  have ho := ho.kept (hk out ho.lt hoa)
  have hM := hM2
  clear hM2
  rw [hkc] at hr hM
  refine r_stk (st2 := [.int (iI (bI (r)))]) rfl ?_
  refine lv_istore (lv' := [(6, .int (iI (bI (r)))), (5, .int (iI ((kc : Nat) : Int))), (0, .ref (b)), (1, .ref (x)), (2, .ref (ad 0)), (3, .ref (out)), (4, .int (iI ((4 * i : Nat) : Int)))]) hx hb dL_law_908 hl (by decide) rfl (fun ls hl => ?_)
  refine lv_aload_n hx hb dL_law_910 rfl (lv_at hl 4 rfl) ?_
  obtain ⟨fs4, hob4⟩ := hM.ob
  refine x_callV (cells1 := (cells + 154)) (slots1 := (slots + 3013)) X hR (mm_thrown G ad _ _ hA0) q2079 q2080 q2081 q100 q2082 ⟨rfl, pd_X4_thrown⟩ ⟨Nat.le_of_ble_eq_true rfl, Nat.le_of_ble_eq_true rfl⟩ rfl rfl (by omega) (by omega) hob4 rfl rfl (Nat.le_of_ble_eq_true rfl) hl.1 dL_law_911 (hB0.of hS fp_no.base) hM hS (fun q h => Or.inr (by have h9 : (g_s G).heap.size ≤ q := fp_ma.base hA0 q h; omega)) (fun v H1 locs hp hz hk hS => ?_) (fun Ex qx cx H1 locs hp hz hk hS hcx hvx hlx => hp.elim)
  obtain ⟨rfl, hM2⟩ := hp
  have hP := hP.mo X.2.2.2.2.2 hM hA0 hz hk
  have ho := ho.kept (hk out ho.lt hoa)
  have hM := hM2
  clear hM2
  refine r_stk (st2 := [.int (iI ((kc : Nat) : Int))]) rfl ?_
  refine lv_iload hx hb dL_law_914 (lv_at hl 1 rfl) ?_
  refine lv_icmp_eq (tgt := 921) hx hb dL_law_916 (by decide) (fun _ => ?_) (fun h => absurd rfl h)
  refine lv_iload hx hb dL_law_921 (lv_at hl 1 rfl) ?_
  refine r_if_ne (tgt := 945) hx hb ⟨by omega, by omega⟩ dL_law_923 (by decide) (fun hne => ?_) (fun he => ?_)
  · skip
    refine lv_goto (tgt := 3331) hx hb dL_law_945 (by decide) ?_
    refine W.widen (k := cells + 50006) (n := slots + 229018) (by omega) (by omega) ?_
    exact kk _ _ _ _ _ _ (lv_sub hl [2, 3, 4, 5, 6] rfl) hS hP hM ho (hI.same)
  · skip
    have he : kc = 0 := by omega
    refine lv_aload_n hx hb dL_law_926 rfl (lv_at hl 5 rfl) ?_
    refine lv_iconst (v := (iI ((0 : Nat) : Int))) hx hb dL_law_927 rfl ?_
    refine r_laldI (j := 0) X ho rfl (by decide) (by decide) dL_law_928 ?_
    refine lv_iload hx hb dL_law_929 (lv_at hl 0 rfl) ?_
    refine r_ifeqB (tgt := 938) hx hb dL_law_931 (by decide) (fun cb => ?_) (fun cb => ?_)
    · skip
      refine lv_lconst (v := 0) hx hb dL_law_938 rfl ?_
      refine r_lcmpE X (by rw [hg2 he, ← hr he, cb]; rfl) dL_law_939 ?_
      refine lv_if_eq (tgt := 945) hx hb dL_law_940 (by decide) (fun _ => ?_) (fun h => absurd rfl h)
      refine lv_goto (tgt := 3331) hx hb dL_law_945 (by decide) ?_
      refine W.widen (k := cells + 50006) (n := slots + 229018) (by omega) (by omega) ?_
      exact kk _ _ _ _ _ _ (lv_sub hl [2, 3, 4, 5, 6] rfl) hS hP hM ho (hI.same)
    · skip
      refine lv_lconst (v := 1) hx hb dL_law_934 rfl ?_
      refine lv_goto (tgt := 939) hx hb dL_law_935 (by decide) ?_
      refine r_lcmpE X (by rw [hg2 he, ← hr he, cb]; rfl) dL_law_939 ?_
      refine lv_if_eq (tgt := 945) hx hb dL_law_940 (by decide) (fun _ => ?_) (fun h => absurd rfl h)
      refine lv_goto (tgt := 3331) hx hb dL_law_945 (by decide) ?_
      refine W.widen (k := cells + 50006) (n := slots + 229018) (by omega) (by omega) ?_
      exact kk _ _ _ _ _ _ (lv_sub hl [2, 3, 4, 5, 6] rfl) hS hP hM ho (hI.same)
set_option maxHeartbeats 1000000 in
theorem lc_9 {G : fp_G} {pg : Program} {en : Env} {rR : Room} {s : State} {mi : MethodId} {ag : Array Value} {bl : List Frame} {mt : Method} {cd : Code} {H : Heap} {locs : List Loc} {cells slots : Nat} {qQ : State → Prop} {ls : Array Slot} {b L x out i k MC MS : Nat} {xs : Nat → Int32} {ad : Nat → Nat} {T : TH} {g : Nat → Int64} (X : fp_C G pg s mi ag cd cL_law "FortPlannerLaw" 9) (hR : fp_R rR 8192 104096 MC MS) (hB0 : fp_B G s.heap) (hX : va_X b L xs s s.heap) (hbl : b < s.heap.size) (hL : L ≤ 96) (hi : 4 * i + 4 ≤ L) (hA0 : fp_MA G ad) (hob : (g_s G).heap.size ≤ out) (hoa : ¬ fp_ma ad out) (hl : lv_has ls 9 [(0, .ref (b)), (1, .ref (x)), (2, .ref (ad 0)), (3, .ref (out)), (4, .int (iI ((4 * i : Nat) : Int)))]) (hS : va_S (fA fp_no s.heap.size) s.heap H locs) (hsb : s.heap.size = (g_s G).heap.size) (hc : cells + 50006 ≤ MC) (hs : slots + 229018 ≤ MS) (hP : fp_PW G x (fp_LM ad out) T H) (hM : fp_MC G ad k T H) (ho : fp_At G H out (eJ G 1 g)) (hI : fp_TI i T) (kk : ∀ (H1 : Heap) (locs1 : List Loc) (ls1 : Array Slot) (T1 : TH) (k1 : Nat) (g1 : Nat → Int64), lv_has ls1 9 [(0, .ref (b)), (1, .ref (x)), (2, .ref (ad 0)), (3, .ref (out)), (4, .int (iI ((4 * i : Nat) : Int)))] → va_S (fA fp_no s.heap.size) s.heap H1 locs1 → fp_PW G x (fp_LM ad out) T1 H1 → fp_MC G ad k1 T1 H1 → fp_At G H1 out (eJ G 1 g1) → fp_TJ (i + 1) T1 → W pg (g_l G) en rR s mi ag bl mt cd H1 locs1 (cells + 50006) (slots + 229018) qQ (F0 mi 3331 ls1 [])) : W pg (g_l G) en rR s mi ag bl mt cd H locs cells slots qQ (F0 mi 948 ls []) := by
  obtain ⟨hx, hb, -⟩ := id X
  refine lv_aload_n hx hb dL_law_948 rfl (lv_at hl 1 rfl) ?_
  refine lv_aload_n hx hb dL_law_949 rfl (lv_at hl 0 rfl) ?_
  refine lv_iload hx hb dL_law_950 (lv_at hl 4 rfl) ?_
  refine lv_iconst (v := (iI ((1 : Nat) : Int))) hx hb dL_law_952 rfl ?_
  refine r_iaddN hx hb dL_law_953 ?_
  refine r_scr (j := 4 * i + 1) X hX hbl hS (by omega) hL dL_law_954 ?_
  refine lv_aload_n hx hb dL_law_955 rfl (lv_at hl 0 rfl) ?_
  refine lv_iload hx hb dL_law_956 (lv_at hl 4 rfl) ?_
  refine lv_iconst (v := (iI ((2 : Nat) : Int))) hx hb dL_law_958 rfl ?_
  refine r_iaddN hx hb dL_law_959 ?_
  refine r_scr (j := 4 * i + 2) X hX hbl hS (by omega) hL dL_law_960 ?_
  refine lv_aload_n hx hb dL_law_961 rfl (lv_at hl 0 rfl) ?_
  refine lv_iload hx hb dL_law_962 (lv_at hl 4 rfl) ?_
  refine lv_iconst (v := (iI ((3 : Nat) : Int))) hx hb dL_law_964 rfl ?_
  refine r_iaddN hx hb dL_law_965 ?_
  refine r_scr (j := 4 * i + 3) X hX hbl hS (by omega) hL dL_law_966 ?_
  refine lv_aload_n hx hb dL_law_967 rfl (lv_at hl 3 rfl) ?_
  obtain ⟨kc, hkc⟩ : ∃ kc, fp_cn_c T.1 2 (fp_xs xs (4 * i + 1)) (fp_xs xs (4 * i + 2)) (fp_xs xs (4 * i + 3)) = kc := ⟨_, rfl⟩
  refine x_callSH (cells1 := cells + 154) (slots1 := slots + 3013) X hR (x0_canPlaceBag G x (fp_LM ad out) T i out g (fp_xs xs (4 * i + 1)) (fp_xs xs (4 * i + 2)) (fp_xs xs (4 * i + 3)) hI (fp_xs_rg _ _) (fp_xs_rg _ _) (fp_xs_rg _ _) (Or.inr rfl) hob) q1411 q1412 q87 q1413 pd_X0_canPlaceBag ⟨Nat.le_of_ble_eq_true rfl, Nat.le_of_ble_eq_true rfl⟩ rfl rfl (by omega) (by omega) rfl (Nat.le_of_ble_eq_true rfl) hl.1 dL_law_968 (hB0.of hS fp_no.base) ⟨hP, ho⟩ hS (fun q h => Or.inr (by have h9 : (g_s G).heap.size ≤ q := h.1; omega)) (fun v H1 locs hp hz hk hS => ?_) (fun Ex qx cx H1 locs hp hz hk hS hcx hvx hlx => hp.elim)
  obtain ⟨g2, rfl, hg2, hP, ho⟩ := hp
  have hM := hM.keep hk (fun q hq h => h.2.elim (fun z => z (Or.inl hq)) (fun z => hoa (z ▸ hq)))
  refine r_stk (st2 := [.int (iI ((fp_cn_c T.1 2 (fp_xs xs (4 * i + 1)) (fp_xs xs (4 * i + 2)) (fp_xs xs (4 * i + 3)) : Nat) : Int))]) rfl ?_
  have hkb : kc ≤ 2 := by rw [← hkc]; unfold fp_cn_c; (repeat' split) <;> omega
  rw [hkc] at hg2 ⊢
  refine lv_istore (lv' := [(5, .int (iI ((kc : Nat) : Int))), (0, .ref (b)), (1, .ref (x)), (2, .ref (ad 0)), (3, .ref (out)), (4, .int (iI ((4 * i : Nat) : Int)))]) hx hb dL_law_971 hl (by decide) rfl (fun ls hl => ?_)
  refine lv_aload_n hx hb dL_law_973 rfl (lv_at hl 3 rfl) ?_
  refine lv_aload_n hx hb dL_law_974 rfl (lv_at hl 1 rfl) ?_
  refine lv_iload hx hb dL_law_975 (lv_at hl 5 rfl) ?_
  refine lv_iconst (v := (iI ((1 : Nat) : Int))) hx hb dL_law_977 rfl ?_
  refine r_iaddN hx hb dL_law_978 ?_
  refine r_scr (j := 4 * i + 1) X hX hbl hS (by omega) hL dL_law_979 ?_
  refine lv_aload_n hx hb dL_law_980 rfl (lv_at hl 1 rfl) ?_
  refine lv_iload hx hb dL_law_981 (lv_at hl 5 rfl) ?_
  refine lv_iconst (v := (iI ((2 : Nat) : Int))) hx hb dL_law_983 rfl ?_
  refine r_iaddN hx hb dL_law_984 ?_
  refine r_scr (j := 4 * i + 2) X hX hbl hS (by omega) hL dL_law_985 ?_
  refine lv_aload_n hx hb dL_law_986 rfl (lv_at hl 1 rfl) ?_
  refine lv_iload hx hb dL_law_987 (lv_at hl 5 rfl) ?_
  refine lv_iconst (v := (iI ((3 : Nat) : Int))) hx hb dL_law_989 rfl ?_
  refine r_iaddN hx hb dL_law_990 ?_
  refine r_scr (j := 4 * i + 3) X hX hbl hS (by omega) hL dL_law_991 ?_
  obtain ⟨fs3, hob3⟩ := hM.ob
  refine x_callV (cells1 := (cells + 154)) (slots1 := (slots + 3013)) X hR (mm_canPlaceBag G ad _ T i (fp_xs xs (4 * i + 1)) (fp_xs xs (4 * i + 2)) (fp_xs xs (4 * i + 3)) hA0 hI (fp_xs_rg _ _) (fp_xs_rg _ _) (fp_xs_rg _ _)) q2229 q2230 q2231 q100 q2232 ⟨rfl, pd_X4_canPlaceBag⟩ ⟨Nat.le_of_ble_eq_true rfl, Nat.le_of_ble_eq_true rfl⟩ rfl rfl (by omega) (by omega) hob3 rfl rfl (Nat.le_of_ble_eq_true rfl) hl.1 dL_law_992 (hB0.of hS fp_no.base) hM hS (fun q h => Or.inr (by have h9 : (g_s G).heap.size ≤ q := fp_ma.base hA0 q h; omega)) (fun v H1 locs hp hz hk hS => ?_) (fun Ex qx cx H1 locs hp hz hk hS hcx hvx hlx => hp.elim)
  obtain ⟨r, rfl, hr, hM2⟩ := hp
  have hP := hP.mo X.2.2.2.2.2 hM hA0 hz hk
  have ho := ho.kept (hk out ho.lt hoa)
  have hM := hM2
  clear hM2
  rw [hkc] at hr hM
  refine r_stk (st2 := [.int (iI (bI (r)))]) rfl ?_
  refine lv_istore (lv' := [(6, .int (iI (bI (r)))), (5, .int (iI ((kc : Nat) : Int))), (0, .ref (b)), (1, .ref (x)), (2, .ref (ad 0)), (3, .ref (out)), (4, .int (iI ((4 * i : Nat) : Int)))]) hx hb dL_law_995 hl (by decide) rfl (fun ls hl => ?_)
  refine lv_aload_n hx hb dL_law_997 rfl (lv_at hl 4 rfl) ?_
  obtain ⟨fs4, hob4⟩ := hM.ob
  refine x_callV (cells1 := (cells + 154)) (slots1 := (slots + 3013)) X hR (mm_thrown G ad _ _ hA0) q2079 q2080 q2081 q100 q2082 ⟨rfl, pd_X4_thrown⟩ ⟨Nat.le_of_ble_eq_true rfl, Nat.le_of_ble_eq_true rfl⟩ rfl rfl (by omega) (by omega) hob4 rfl rfl (Nat.le_of_ble_eq_true rfl) hl.1 dL_law_998 (hB0.of hS fp_no.base) hM hS (fun q h => Or.inr (by have h9 : (g_s G).heap.size ≤ q := fp_ma.base hA0 q h; omega)) (fun v H1 locs hp hz hk hS => ?_) (fun Ex qx cx H1 locs hp hz hk hS hcx hvx hlx => hp.elim)
  obtain ⟨rfl, hM2⟩ := hp
  have hP := hP.mo X.2.2.2.2.2 hM hA0 hz hk
  have ho := ho.kept (hk out ho.lt hoa)
  have hM := hM2
  clear hM2
  refine r_stk (st2 := [.int (iI ((kc : Nat) : Int))]) rfl ?_
  refine lv_iload hx hb dL_law_1001 (lv_at hl 1 rfl) ?_
  refine lv_icmp_eq (tgt := 1008) hx hb dL_law_1003 (by decide) (fun _ => ?_) (fun h => absurd rfl h)
  refine lv_iload hx hb dL_law_1008 (lv_at hl 1 rfl) ?_
  refine r_if_ne (tgt := 1032) hx hb ⟨by omega, by omega⟩ dL_law_1010 (by decide) (fun hne => ?_) (fun he => ?_)
  · skip
    refine lv_goto (tgt := 3331) hx hb dL_law_1032 (by decide) ?_
    refine W.widen (k := cells + 50006) (n := slots + 229018) (by omega) (by omega) ?_
    exact kk _ _ _ _ _ _ (lv_sub hl [2, 3, 4, 5, 6] rfl) hS hP hM ho (hI.same)
  · skip
    have he : kc = 0 := by omega
    refine lv_aload_n hx hb dL_law_1013 rfl (lv_at hl 5 rfl) ?_
    refine lv_iconst (v := (iI ((0 : Nat) : Int))) hx hb dL_law_1014 rfl ?_
    refine r_laldI (j := 0) X ho rfl (by decide) (by decide) dL_law_1015 ?_
    refine lv_iload hx hb dL_law_1016 (lv_at hl 0 rfl) ?_
    refine r_ifeqB (tgt := 1025) hx hb dL_law_1018 (by decide) (fun cb => ?_) (fun cb => ?_)
    · skip
      refine lv_lconst (v := 0) hx hb dL_law_1025 rfl ?_
      refine r_lcmpE X (by rw [hg2 he, ← hr he, cb]; rfl) dL_law_1026 ?_
      refine lv_if_eq (tgt := 1032) hx hb dL_law_1027 (by decide) (fun _ => ?_) (fun h => absurd rfl h)
      refine lv_goto (tgt := 3331) hx hb dL_law_1032 (by decide) ?_
      refine W.widen (k := cells + 50006) (n := slots + 229018) (by omega) (by omega) ?_
      exact kk _ _ _ _ _ _ (lv_sub hl [2, 3, 4, 5, 6] rfl) hS hP hM ho (hI.same)
    · skip
      refine lv_lconst (v := 1) hx hb dL_law_1021 rfl ?_
      refine lv_goto (tgt := 1026) hx hb dL_law_1022 (by decide) ?_
      refine r_lcmpE X (by rw [hg2 he, ← hr he, cb]; rfl) dL_law_1026 ?_
      refine lv_if_eq (tgt := 1032) hx hb dL_law_1027 (by decide) (fun _ => ?_) (fun h => absurd rfl h)
      refine lv_goto (tgt := 3331) hx hb dL_law_1032 (by decide) ?_
      refine W.widen (k := cells + 50006) (n := slots + 229018) (by omega) (by omega) ?_
      exact kk _ _ _ _ _ _ (lv_sub hl [2, 3, 4, 5, 6] rfl) hS hP hM ho (hI.same)
set_option maxHeartbeats 1000000 in
theorem lc_10 {G : fp_G} {pg : Program} {en : Env} {rR : Room} {s : State} {mi : MethodId} {ag : Array Value} {bl : List Frame} {mt : Method} {cd : Code} {H : Heap} {locs : List Loc} {cells slots : Nat} {qQ : State → Prop} {ls : Array Slot} {b L x out i k MC MS : Nat} {xs : Nat → Int32} {ad : Nat → Nat} {T : TH} {g : Nat → Int64} (X : fp_C G pg s mi ag cd cL_law "FortPlannerLaw" 9) (hR : fp_R rR 8192 104096 MC MS) (hB0 : fp_B G s.heap) (hX : va_X b L xs s s.heap) (hbl : b < s.heap.size) (hL : L ≤ 96) (hi : 4 * i + 4 ≤ L) (hA0 : fp_MA G ad) (hob : (g_s G).heap.size ≤ out) (hoa : ¬ fp_ma ad out) (hl : lv_has ls 9 [(0, .ref (b)), (1, .ref (x)), (2, .ref (ad 0)), (3, .ref (out)), (4, .int (iI ((4 * i : Nat) : Int)))]) (hS : va_S (fA fp_no s.heap.size) s.heap H locs) (hsb : s.heap.size = (g_s G).heap.size) (hc : cells + 50006 ≤ MC) (hs : slots + 229018 ≤ MS) (hP : fp_PW G x (fp_LM ad out) T H) (hM : fp_MC G ad k T H) (ho : fp_At G H out (eJ G 1 g)) (hI : fp_TI i T) (kk : ∀ (H1 : Heap) (locs1 : List Loc) (ls1 : Array Slot) (T1 : TH) (k1 : Nat) (g1 : Nat → Int64), lv_has ls1 9 [(0, .ref (b)), (1, .ref (x)), (2, .ref (ad 0)), (3, .ref (out)), (4, .int (iI ((4 * i : Nat) : Int)))] → va_S (fA fp_no s.heap.size) s.heap H1 locs1 → fp_PW G x (fp_LM ad out) T1 H1 → fp_MC G ad k1 T1 H1 → fp_At G H1 out (eJ G 1 g1) → fp_TJ (i + 1) T1 → W pg (g_l G) en rR s mi ag bl mt cd H1 locs1 (cells + 50006) (slots + 229018) qQ (F0 mi 3331 ls1 [])) : W pg (g_l G) en rR s mi ag bl mt cd H locs cells slots qQ (F0 mi 1035 ls []) := by
  obtain ⟨hx, hb, -⟩ := id X
  refine lv_aload_n hx hb dL_law_1035 rfl (lv_at hl 1 rfl) ?_
  refine lv_aload_n hx hb dL_law_1036 rfl (lv_at hl 0 rfl) ?_
  refine lv_iload hx hb dL_law_1037 (lv_at hl 4 rfl) ?_
  refine lv_iconst (v := (iI ((1 : Nat) : Int))) hx hb dL_law_1039 rfl ?_
  refine r_iaddN hx hb dL_law_1040 ?_
  refine r_scr (j := 4 * i + 1) X hX hbl hS (by omega) hL dL_law_1041 ?_
  refine lv_aload_n hx hb dL_law_1042 rfl (lv_at hl 0 rfl) ?_
  refine lv_iload hx hb dL_law_1043 (lv_at hl 4 rfl) ?_
  refine lv_iconst (v := (iI ((2 : Nat) : Int))) hx hb dL_law_1045 rfl ?_
  refine r_iaddN hx hb dL_law_1046 ?_
  refine r_scr (j := 4 * i + 2) X hX hbl hS (by omega) hL dL_law_1047 ?_
  refine lv_aload_n hx hb dL_law_1048 rfl (lv_at hl 3 rfl) ?_
  obtain ⟨kc, hkc⟩ : ∃ kc, fp_hvc T.1 (fp_xs xs (4 * i + 1)) (fp_xs xs (4 * i + 2)) = kc := ⟨_, rfl⟩
  refine x_callSH (cells1 := cells + 1370) (slots1 := slots + 27021) X hR (x0_heaviestFoam G x (fp_LM ad out) T i out g (fp_xs xs (4 * i + 1)) (fp_xs xs (4 * i + 2)) hI (fp_xs_rg _ _) (fp_xs_rg _ _) (Or.inr rfl) hob) q1418 q1419 q87 q1420 pd_X0_heaviestFoam ⟨Nat.le_of_ble_eq_true rfl, Nat.le_of_ble_eq_true rfl⟩ rfl rfl (by omega) (by omega) rfl (Nat.le_of_ble_eq_true rfl) hl.1 dL_law_1049 (hB0.of hS fp_no.base) ⟨hP, ho⟩ hS (fun q h => Or.inr (by have h9 : (g_s G).heap.size ≤ q := h.1; omega)) (fun v H1 locs hp hz hk hS => ?_) (fun Ex qx cx H1 locs hp hz hk hS hcx hvx hlx => hp.elim)
  obtain ⟨g2, rfl, hg2, hP, ho⟩ := hp
  have hM := hM.keep hk (fun q hq h => h.2.elim (fun z => z (Or.inl hq)) (fun z => hoa (z ▸ hq)))
  refine r_stk (st2 := [.int (iI ((fp_hvc T.1 (fp_xs xs (4 * i + 1)) (fp_xs xs (4 * i + 2)) : Nat) : Int))]) rfl ?_
  have hkb : kc ≤ 2 := by rw [← hkc]; unfold fp_hvc; (repeat' split) <;> omega
  rw [hkc] at hg2 ⊢
  refine lv_istore (lv' := [(5, .int (iI ((kc : Nat) : Int))), (0, .ref (b)), (1, .ref (x)), (2, .ref (ad 0)), (3, .ref (out)), (4, .int (iI ((4 * i : Nat) : Int)))]) hx hb dL_law_1052 hl (by decide) rfl (fun ls hl => ?_)
  refine lv_aload_n hx hb dL_law_1054 rfl (lv_at hl 3 rfl) ?_
  refine lv_aload_n hx hb dL_law_1055 rfl (lv_at hl 1 rfl) ?_
  refine lv_iload hx hb dL_law_1056 (lv_at hl 5 rfl) ?_
  refine lv_iconst (v := (iI ((1 : Nat) : Int))) hx hb dL_law_1058 rfl ?_
  refine r_iaddN hx hb dL_law_1059 ?_
  refine r_scr (j := 4 * i + 1) X hX hbl hS (by omega) hL dL_law_1060 ?_
  refine lv_aload_n hx hb dL_law_1061 rfl (lv_at hl 1 rfl) ?_
  refine lv_iload hx hb dL_law_1062 (lv_at hl 5 rfl) ?_
  refine lv_iconst (v := (iI ((2 : Nat) : Int))) hx hb dL_law_1064 rfl ?_
  refine r_iaddN hx hb dL_law_1065 ?_
  refine r_scr (j := 4 * i + 2) X hX hbl hS (by omega) hL dL_law_1066 ?_
  obtain ⟨fs3, hob3⟩ := hM.ob
  refine x_callV (cells1 := (cells + 1370)) (slots1 := (slots + 27021)) X hR (mm_heaviestFoam G ad _ T i (fp_xs xs (4 * i + 1)) (fp_xs xs (4 * i + 2)) hA0 hI (fp_xs_rg _ _) (fp_xs_rg _ _)) q2233 q2234 q2235 q100 q2236 ⟨rfl, pd_X4_heaviestFoam⟩ ⟨Nat.le_of_ble_eq_true rfl, Nat.le_of_ble_eq_true rfl⟩ rfl rfl (by omega) (by omega) hob3 rfl rfl (Nat.le_of_ble_eq_true rfl) hl.1 dL_law_1067 (hB0.of hS fp_no.base) hM hS (fun q h => Or.inr (by have h9 : (g_s G).heap.size ≤ q := fp_ma.base hA0 q h; omega)) (fun v H1 locs hp hz hk hS => ?_) (fun Ex qx cx H1 locs hp hz hk hS hcx hvx hlx => hp.elim)
  obtain ⟨r, rfl, hr, hM2⟩ := hp
  have hP := hP.mo X.2.2.2.2.2 hM hA0 hz hk
  have ho := ho.kept (hk out ho.lt hoa)
  have hM := hM2
  clear hM2
  rw [hkc] at hr hM
  refine r_stk (st2 := [.int (iI (r))]) rfl ?_
  refine lv_istore (lv' := [(6, .int (iI (r))), (5, .int (iI ((kc : Nat) : Int))), (0, .ref (b)), (1, .ref (x)), (2, .ref (ad 0)), (3, .ref (out)), (4, .int (iI ((4 * i : Nat) : Int)))]) hx hb dL_law_1070 hl (by decide) rfl (fun ls hl => ?_)
  refine lv_aload_n hx hb dL_law_1072 rfl (lv_at hl 4 rfl) ?_
  obtain ⟨fs4, hob4⟩ := hM.ob
  refine x_callV (cells1 := (cells + 1370)) (slots1 := (slots + 27021)) X hR (mm_thrown G ad _ _ hA0) q2079 q2080 q2081 q100 q2082 ⟨rfl, pd_X4_thrown⟩ ⟨Nat.le_of_ble_eq_true rfl, Nat.le_of_ble_eq_true rfl⟩ rfl rfl (by omega) (by omega) hob4 rfl rfl (Nat.le_of_ble_eq_true rfl) hl.1 dL_law_1073 (hB0.of hS fp_no.base) hM hS (fun q h => Or.inr (by have h9 : (g_s G).heap.size ≤ q := fp_ma.base hA0 q h; omega)) (fun v H1 locs hp hz hk hS => ?_) (fun Ex qx cx H1 locs hp hz hk hS hcx hvx hlx => hp.elim)
  obtain ⟨rfl, hM2⟩ := hp
  have hP := hP.mo X.2.2.2.2.2 hM hA0 hz hk
  have ho := ho.kept (hk out ho.lt hoa)
  have hM := hM2
  clear hM2
  refine r_stk (st2 := [.int (iI ((kc : Nat) : Int))]) rfl ?_
  refine lv_iload hx hb dL_law_1076 (lv_at hl 1 rfl) ?_
  refine lv_icmp_eq (tgt := 1083) hx hb dL_law_1078 (by decide) (fun _ => ?_) (fun h => absurd rfl h)
  refine lv_iload hx hb dL_law_1083 (lv_at hl 1 rfl) ?_
  refine r_if_ne (tgt := 1100) hx hb ⟨by omega, by omega⟩ dL_law_1085 (by decide) (fun hne => ?_) (fun he => ?_)
  · skip
    refine lv_goto (tgt := 3331) hx hb dL_law_1100 (by decide) ?_
    refine W.widen (k := cells + 50006) (n := slots + 229018) (by omega) (by omega) ?_
    exact kk _ _ _ _ _ _ (lv_sub hl [2, 3, 4, 5, 6] rfl) hS hP hM ho (hI.same)
  · skip
    have he : kc = 0 := by omega
    refine lv_aload_n hx hb dL_law_1088 rfl (lv_at hl 5 rfl) ?_
    refine lv_iconst (v := (iI ((0 : Nat) : Int))) hx hb dL_law_1089 rfl ?_
    refine r_laldI (j := 0) X ho rfl (by decide) (by decide) dL_law_1090 ?_
    refine lv_iload hx hb dL_law_1091 (lv_at hl 0 rfl) ?_
    refine lv_i2l (v := (iI r).toInt64) hx hb dL_law_1093 rfl ?_
    refine r_lcmpE X (by rw [hg2 he, hr he]) dL_law_1094 ?_
    refine lv_if_eq (tgt := 1100) hx hb dL_law_1095 (by decide) (fun _ => ?_) (fun h => absurd rfl h)
    refine lv_goto (tgt := 3331) hx hb dL_law_1100 (by decide) ?_
    refine W.widen (k := cells + 50006) (n := slots + 229018) (by omega) (by omega) ?_
    exact kk _ _ _ _ _ _ (lv_sub hl [2, 3, 4, 5, 6] rfl) hS hP hM ho (hI.same)
set_option maxHeartbeats 1000000 in
theorem lc_11 {G : fp_G} {pg : Program} {en : Env} {rR : Room} {s : State} {mi : MethodId} {ag : Array Value} {bl : List Frame} {mt : Method} {cd : Code} {H : Heap} {locs : List Loc} {cells slots : Nat} {qQ : State → Prop} {ls : Array Slot} {b L x out i k MC MS : Nat} {xs : Nat → Int32} {ad : Nat → Nat} {T : TH} {g : Nat → Int64} (X : fp_C G pg s mi ag cd cL_law "FortPlannerLaw" 9) (hR : fp_R rR 8192 104096 MC MS) (hB0 : fp_B G s.heap) (hX : va_X b L xs s s.heap) (hbl : b < s.heap.size) (hL : L ≤ 96) (hi : 4 * i + 4 ≤ L) (hA0 : fp_MA G ad) (hob : (g_s G).heap.size ≤ out) (hoa : ¬ fp_ma ad out) (hl : lv_has ls 9 [(0, .ref (b)), (1, .ref (x)), (2, .ref (ad 0)), (3, .ref (out)), (4, .int (iI ((4 * i : Nat) : Int)))]) (hS : va_S (fA fp_no s.heap.size) s.heap H locs) (hsb : s.heap.size = (g_s G).heap.size) (hc : cells + 50006 ≤ MC) (hs : slots + 229018 ≤ MS) (hP : fp_PW G x (fp_LM ad out) T H) (hM : fp_MC G ad k T H) (ho : fp_At G H out (eJ G 1 g)) (hI : fp_TI i T) (kk : ∀ (H1 : Heap) (locs1 : List Loc) (ls1 : Array Slot) (T1 : TH) (k1 : Nat) (g1 : Nat → Int64), lv_has ls1 9 [(0, .ref (b)), (1, .ref (x)), (2, .ref (ad 0)), (3, .ref (out)), (4, .int (iI ((4 * i : Nat) : Int)))] → va_S (fA fp_no s.heap.size) s.heap H1 locs1 → fp_PW G x (fp_LM ad out) T1 H1 → fp_MC G ad k1 T1 H1 → fp_At G H1 out (eJ G 1 g1) → fp_TJ (i + 1) T1 → W pg (g_l G) en rR s mi ag bl mt cd H1 locs1 (cells + 50006) (slots + 229018) qQ (F0 mi 3331 ls1 [])) : W pg (g_l G) en rR s mi ag bl mt cd H locs cells slots qQ (F0 mi 1103 ls []) := by
  obtain ⟨hx, hb, -⟩ := id X
  refine lv_aload_n hx hb dL_law_1103 rfl (lv_at hl 1 rfl) ?_
  obtain ⟨fs2, hob2⟩ := hP.ob
  refine x_callV (cells1 := cells + 0) (slots1 := slots + 0) X hR (w_blockCount G x (fp_LM ad out) T i hI) q456 q457 q458 q88 q459 ⟨rfl, pd_X1_blockCount⟩ ⟨Nat.le_of_ble_eq_true rfl, Nat.le_of_ble_eq_true rfl⟩ rfl rfl (by omega) (by omega) hob2 rfl rfl (Nat.le_of_ble_eq_true rfl) hl.1 dL_law_1104 (hB0.of hS fp_no.base) hP hS (fun q h => Or.inr (by have h9 : (g_s G).heap.size ≤ q := h.1; omega)) (fun v H1 locs hp hz hk hS => ?_) (fun Ex qx cx H1 locs hp hz hk hS hcx hvx hlx => hp.elim)
  obtain ⟨rfl, hP⟩ := hp
  have hM := hM.keep hk (fun q hq h => h.2 (Or.inl hq))
  have ho := ho.kept (hk out ho.lt (fun h => h.2 (Or.inr rfl)))
  refine r_stk (st2 := [.int (iI ((sN (T.1) : Nat) : Int))]) rfl ?_
  refine lv_aload_n hx hb dL_law_1107 rfl (lv_at hl 2 rfl) ?_
  obtain ⟨fs3, hob3⟩ := hM.ob
  refine x_callV (cells1 := (cells + 0)) (slots1 := (slots + 0)) X hR (mm_blockCount G ad _ T i hA0 hI) q2237 q2238 q2239 q100 q2240 ⟨rfl, pd_X4_blockCount⟩ ⟨Nat.le_of_ble_eq_true rfl, Nat.le_of_ble_eq_true rfl⟩ rfl rfl (by omega) (by omega) hob3 rfl rfl (Nat.le_of_ble_eq_true rfl) hl.1 dL_law_1108 (hB0.of hS fp_no.base) hM hS (fun q h => Or.inr (by have h9 : (g_s G).heap.size ≤ q := fp_ma.base hA0 q h; omega)) (fun v H1 locs hp hz hk hS => ?_) (fun Ex qx cx H1 locs hp hz hk hS hcx hvx hlx => hp.elim)
  obtain ⟨rfl, hM2⟩ := hp
  have hP := hP.mo X.2.2.2.2.2 hM hA0 hz hk
  have ho := ho.kept (hk out ho.lt hoa)
  have hM := hM2
  clear hM2
  refine r_stk (st2 := [.int (iI ((sN (T.1) : Nat) : Int)), .int (iI ((sN (T.1) : Nat) : Int))]) rfl ?_
  refine lv_icmp_eq (tgt := 3331) hx hb dL_law_1111 (by decide) (fun _ => ?_) (fun h => absurd rfl h)
  refine W.widen (k := cells + 50006) (n := slots + 229018) (by omega) (by omega) ?_
  exact kk _ _ _ _ _ _ hl hS hP hM ho (hI.same)
set_option maxHeartbeats 1000000 in
theorem lc_12 {G : fp_G} {pg : Program} {en : Env} {rR : Room} {s : State} {mi : MethodId} {ag : Array Value} {bl : List Frame} {mt : Method} {cd : Code} {H : Heap} {locs : List Loc} {cells slots : Nat} {qQ : State → Prop} {ls : Array Slot} {b L x out i k MC MS : Nat} {xs : Nat → Int32} {ad : Nat → Nat} {T : TH} {g : Nat → Int64} (X : fp_C G pg s mi ag cd cL_law "FortPlannerLaw" 9) (hR : fp_R rR 8192 104096 MC MS) (hB0 : fp_B G s.heap) (hX : va_X b L xs s s.heap) (hbl : b < s.heap.size) (hL : L ≤ 96) (hi : 4 * i + 4 ≤ L) (hA0 : fp_MA G ad) (hob : (g_s G).heap.size ≤ out) (hoa : ¬ fp_ma ad out) (hl : lv_has ls 9 [(0, .ref (b)), (1, .ref (x)), (2, .ref (ad 0)), (3, .ref (out)), (4, .int (iI ((4 * i : Nat) : Int)))]) (hS : va_S (fA fp_no s.heap.size) s.heap H locs) (hsb : s.heap.size = (g_s G).heap.size) (hc : cells + 50006 ≤ MC) (hs : slots + 229018 ≤ MS) (hP : fp_PW G x (fp_LM ad out) T H) (hM : fp_MC G ad k T H) (ho : fp_At G H out (eJ G 1 g)) (hI : fp_TI i T) (kk : ∀ (H1 : Heap) (locs1 : List Loc) (ls1 : Array Slot) (T1 : TH) (k1 : Nat) (g1 : Nat → Int64), lv_has ls1 9 [(0, .ref (b)), (1, .ref (x)), (2, .ref (ad 0)), (3, .ref (out)), (4, .int (iI ((4 * i : Nat) : Int)))] → va_S (fA fp_no s.heap.size) s.heap H1 locs1 → fp_PW G x (fp_LM ad out) T1 H1 → fp_MC G ad k1 T1 H1 → fp_At G H1 out (eJ G 1 g1) → fp_TJ (i + 1) T1 → W pg (g_l G) en rR s mi ag bl mt cd H1 locs1 (cells + 50006) (slots + 229018) qQ (F0 mi 3331 ls1 [])) : W pg (g_l G) en rR s mi ag bl mt cd H locs cells slots qQ (F0 mi 1116 ls []) := by
  obtain ⟨hx, hb, -⟩ := id X
  refine lv_aload_n hx hb dL_law_1116 rfl (lv_at hl 1 rfl) ?_
  obtain ⟨fs2, hob2⟩ := hP.ob
  refine x_callV (cells1 := cells + 0) (slots1 := slots + 0) X hR (w_placedCount G x (fp_LM ad out) T i hI) q464 q465 q466 q88 q467 ⟨rfl, pd_X1_placedCount⟩ ⟨Nat.le_of_ble_eq_true rfl, Nat.le_of_ble_eq_true rfl⟩ rfl rfl (by omega) (by omega) hob2 rfl rfl (Nat.le_of_ble_eq_true rfl) hl.1 dL_law_1117 (hB0.of hS fp_no.base) hP hS (fun q h => Or.inr (by have h9 : (g_s G).heap.size ≤ q := h.1; omega)) (fun v H1 locs hp hz hk hS => ?_) (fun Ex qx cx H1 locs hp hz hk hS hcx hvx hlx => hp.elim)
  obtain ⟨rfl, hP⟩ := hp
  have hM := hM.keep hk (fun q hq h => h.2 (Or.inl hq))
  have ho := ho.kept (hk out ho.lt (fun h => h.2 (Or.inr rfl)))
  refine r_stk (st2 := [.int (iI ((sP (T.1) : Nat) : Int))]) rfl ?_
  refine lv_aload_n hx hb dL_law_1120 rfl (lv_at hl 2 rfl) ?_
  obtain ⟨fs3, hob3⟩ := hM.ob
  refine x_callV (cells1 := (cells + 0)) (slots1 := (slots + 0)) X hR (mm_placedCount G ad _ T i hA0 hI) q2241 q2242 q2243 q100 q2244 ⟨rfl, pd_X4_placedCount⟩ ⟨Nat.le_of_ble_eq_true rfl, Nat.le_of_ble_eq_true rfl⟩ rfl rfl (by omega) (by omega) hob3 rfl rfl (Nat.le_of_ble_eq_true rfl) hl.1 dL_law_1121 (hB0.of hS fp_no.base) hM hS (fun q h => Or.inr (by have h9 : (g_s G).heap.size ≤ q := fp_ma.base hA0 q h; omega)) (fun v H1 locs hp hz hk hS => ?_) (fun Ex qx cx H1 locs hp hz hk hS hcx hvx hlx => hp.elim)
  obtain ⟨rfl, hM2⟩ := hp
  have hP := hP.mo X.2.2.2.2.2 hM hA0 hz hk
  have ho := ho.kept (hk out ho.lt hoa)
  have hM := hM2
  clear hM2
  refine r_stk (st2 := [.int (iI ((sP (T.1) : Nat) : Int)), .int (iI ((sP (T.1) : Nat) : Int))]) rfl ?_
  refine lv_icmp_eq (tgt := 3331) hx hb dL_law_1124 (by decide) (fun _ => ?_) (fun h => absurd rfl h)
  refine W.widen (k := cells + 50006) (n := slots + 229018) (by omega) (by omega) ?_
  exact kk _ _ _ _ _ _ hl hS hP hM ho (hI.same)
set_option maxHeartbeats 1000000 in
theorem lc_13 {G : fp_G} {pg : Program} {en : Env} {rR : Room} {s : State} {mi : MethodId} {ag : Array Value} {bl : List Frame} {mt : Method} {cd : Code} {H : Heap} {locs : List Loc} {cells slots : Nat} {qQ : State → Prop} {ls : Array Slot} {b L x out i k MC MS : Nat} {xs : Nat → Int32} {ad : Nat → Nat} {T : TH} {g : Nat → Int64} (X : fp_C G pg s mi ag cd cL_law "FortPlannerLaw" 9) (hR : fp_R rR 8192 104096 MC MS) (hB0 : fp_B G s.heap) (hX : va_X b L xs s s.heap) (hbl : b < s.heap.size) (hL : L ≤ 96) (hi : 4 * i + 4 ≤ L) (hA0 : fp_MA G ad) (hob : (g_s G).heap.size ≤ out) (hoa : ¬ fp_ma ad out) (hl : lv_has ls 9 [(0, .ref (b)), (1, .ref (x)), (2, .ref (ad 0)), (3, .ref (out)), (4, .int (iI ((4 * i : Nat) : Int)))]) (hS : va_S (fA fp_no s.heap.size) s.heap H locs) (hsb : s.heap.size = (g_s G).heap.size) (hc : cells + 50006 ≤ MC) (hs : slots + 229018 ≤ MS) (hP : fp_PW G x (fp_LM ad out) T H) (hM : fp_MC G ad k T H) (ho : fp_At G H out (eJ G 1 g)) (hI : fp_TI i T) (kk : ∀ (H1 : Heap) (locs1 : List Loc) (ls1 : Array Slot) (T1 : TH) (k1 : Nat) (g1 : Nat → Int64), lv_has ls1 9 [(0, .ref (b)), (1, .ref (x)), (2, .ref (ad 0)), (3, .ref (out)), (4, .int (iI ((4 * i : Nat) : Int)))] → va_S (fA fp_no s.heap.size) s.heap H1 locs1 → fp_PW G x (fp_LM ad out) T1 H1 → fp_MC G ad k1 T1 H1 → fp_At G H1 out (eJ G 1 g1) → fp_TJ (i + 1) T1 → W pg (g_l G) en rR s mi ag bl mt cd H1 locs1 (cells + 50006) (slots + 229018) qQ (F0 mi 3331 ls1 [])) : W pg (g_l G) en rR s mi ag bl mt cd H locs cells slots qQ (F0 mi 1129 ls []) := by
  obtain ⟨hx, hb, -⟩ := id X
  refine lv_aload_n hx hb dL_law_1129 rfl (lv_at hl 1 rfl) ?_
  refine lv_aload_n hx hb dL_law_1130 rfl (lv_at hl 0 rfl) ?_
  refine lv_iload hx hb dL_law_1131 (lv_at hl 4 rfl) ?_
  refine lv_iconst (v := (iI ((1 : Nat) : Int))) hx hb dL_law_1133 rfl ?_
  refine r_iaddN hx hb dL_law_1134 ?_
  refine r_scr (j := 4 * i + 1) X hX hbl hS (by omega) hL dL_law_1135 ?_
  obtain ⟨fs2, hob2⟩ := hP.ob
  refine x_callV (cells1 := cells + 1) (slots1 := slots + 4) X hR (w_isPresent G x (fp_LM ad out) T i (fp_xs xs (4 * i + 1)) hI (fp_xs_rg _ _)) q468 q469 q470 q88 q471 ⟨rfl, pd_X1_isPresent⟩ ⟨Nat.le_of_ble_eq_true rfl, Nat.le_of_ble_eq_true rfl⟩ rfl rfl (by omega) (by omega) hob2 rfl rfl (Nat.le_of_ble_eq_true rfl) hl.1 dL_law_1136 (hB0.of hS fp_no.base) hP hS (fun q h => Or.inr (by have h9 : (g_s G).heap.size ≤ q := h.1; omega)) (fun v H1 locs hp hz hk hS => ?_) (fun Ex qx cx H1 locs hp hz hk hS hcx hvx hlx => hp.elim)
  obtain ⟨rfl, hP⟩ := hp
  have hM := hM.keep hk (fun q hq h => h.2 (Or.inl hq))
  have ho := ho.kept (hk out ho.lt (fun h => h.2 (Or.inr rfl)))
  refine r_stk (st2 := [.int (iI (bI (decide (fp_fnd (T.1) (fp_xs xs (4 * i + 1)) < sN (T.1)))))]) rfl ?_
  refine lv_aload_n hx hb dL_law_1139 rfl (lv_at hl 2 rfl) ?_
  refine lv_aload_n hx hb dL_law_1140 rfl (lv_at hl 0 rfl) ?_
  refine lv_iload hx hb dL_law_1141 (lv_at hl 4 rfl) ?_
  refine lv_iconst (v := (iI ((1 : Nat) : Int))) hx hb dL_law_1143 rfl ?_
  refine r_iaddN hx hb dL_law_1144 ?_
  refine r_scr (j := 4 * i + 1) X hX hbl hS (by omega) hL dL_law_1145 ?_
  obtain ⟨fs3, hob3⟩ := hM.ob
  refine x_callV (cells1 := (cells + 1)) (slots1 := (slots + 4)) X hR (mm_isPresent G ad _ T i (fp_xs xs (4 * i + 1)) hA0 hI (fp_xs_rg _ _)) q2245 q2246 q2247 q100 q2248 ⟨rfl, pd_X4_isPresent⟩ ⟨Nat.le_of_ble_eq_true rfl, Nat.le_of_ble_eq_true rfl⟩ rfl rfl (by omega) (by omega) hob3 rfl rfl (Nat.le_of_ble_eq_true rfl) hl.1 dL_law_1146 (hB0.of hS fp_no.base) hM hS (fun q h => Or.inr (by have h9 : (g_s G).heap.size ≤ q := fp_ma.base hA0 q h; omega)) (fun v H1 locs hp hz hk hS => ?_) (fun Ex qx cx H1 locs hp hz hk hS hcx hvx hlx => hp.elim)
  obtain ⟨rfl, hM2⟩ := hp
  have hP := hP.mo X.2.2.2.2.2 hM hA0 hz hk
  have ho := ho.kept (hk out ho.lt hoa)
  have hM := hM2
  clear hM2
  refine r_stk (st2 := [.int (iI (bI (decide (fp_fnd (T.1) (fp_xs xs (4 * i + 1)) < sN (T.1))))), .int (iI (bI (decide (fp_fnd (T.1) (fp_xs xs (4 * i + 1)) < sN (T.1)))))]) rfl ?_
  refine lv_icmp_eq (tgt := 3331) hx hb dL_law_1149 (by decide) (fun _ => ?_) (fun h => absurd rfl h)
  refine W.widen (k := cells + 50006) (n := slots + 229018) (by omega) (by omega) ?_
  exact kk _ _ _ _ _ _ hl hS hP hM ho (hI.same)
set_option maxHeartbeats 1000000 in
theorem lc_14 {G : fp_G} {pg : Program} {en : Env} {rR : Room} {s : State} {mi : MethodId} {ag : Array Value} {bl : List Frame} {mt : Method} {cd : Code} {H : Heap} {locs : List Loc} {cells slots : Nat} {qQ : State → Prop} {ls : Array Slot} {b L x out i k MC MS : Nat} {xs : Nat → Int32} {ad : Nat → Nat} {T : TH} {g : Nat → Int64} (X : fp_C G pg s mi ag cd cL_law "FortPlannerLaw" 9) (hR : fp_R rR 8192 104096 MC MS) (hB0 : fp_B G s.heap) (hX : va_X b L xs s s.heap) (hbl : b < s.heap.size) (hL : L ≤ 96) (hi : 4 * i + 4 ≤ L) (hA0 : fp_MA G ad) (hob : (g_s G).heap.size ≤ out) (hoa : ¬ fp_ma ad out) (hl : lv_has ls 9 [(0, .ref (b)), (1, .ref (x)), (2, .ref (ad 0)), (3, .ref (out)), (4, .int (iI ((4 * i : Nat) : Int)))]) (hS : va_S (fA fp_no s.heap.size) s.heap H locs) (hsb : s.heap.size = (g_s G).heap.size) (hc : cells + 50006 ≤ MC) (hs : slots + 229018 ≤ MS) (hP : fp_PW G x (fp_LM ad out) T H) (hM : fp_MC G ad k T H) (ho : fp_At G H out (eJ G 1 g)) (hI : fp_TI i T) (kk : ∀ (H1 : Heap) (locs1 : List Loc) (ls1 : Array Slot) (T1 : TH) (k1 : Nat) (g1 : Nat → Int64), lv_has ls1 9 [(0, .ref (b)), (1, .ref (x)), (2, .ref (ad 0)), (3, .ref (out)), (4, .int (iI ((4 * i : Nat) : Int)))] → va_S (fA fp_no s.heap.size) s.heap H1 locs1 → fp_PW G x (fp_LM ad out) T1 H1 → fp_MC G ad k1 T1 H1 → fp_At G H1 out (eJ G 1 g1) → fp_TJ (i + 1) T1 → W pg (g_l G) en rR s mi ag bl mt cd H1 locs1 (cells + 50006) (slots + 229018) qQ (F0 mi 3331 ls1 [])) : W pg (g_l G) en rR s mi ag bl mt cd H locs cells slots qQ (F0 mi 1154 ls []) := by
  obtain ⟨hx, hb, -⟩ := id X
  refine lv_aload_n hx hb dL_law_1154 rfl (lv_at hl 1 rfl) ?_
  refine lv_aload_n hx hb dL_law_1155 rfl (lv_at hl 0 rfl) ?_
  refine lv_iload hx hb dL_law_1156 (lv_at hl 4 rfl) ?_
  refine lv_iconst (v := (iI ((1 : Nat) : Int))) hx hb dL_law_1158 rfl ?_
  refine r_iaddN hx hb dL_law_1159 ?_
  refine r_scr (j := 4 * i + 1) X hX hbl hS (by omega) hL dL_law_1160 ?_
  refine lv_aload_n hx hb dL_law_1161 rfl (lv_at hl 3 rfl) ?_
  obtain ⟨kc, hkc⟩ : ∃ kc, fp_atc (T.1) (fp_xs xs (4 * i + 1)) = kc := ⟨_, rfl⟩
  refine x_callSH (cells1 := cells + 1) (slots1 := slots + 6) X hR (x0_blockAt G x (fp_LM ad out) T i out g (fp_xs xs (4 * i + 1)) hI (fp_xs_rg _ _) (Or.inr rfl) hob) q1425 q1426 q87 q1427 pd_X0_blockAt ⟨Nat.le_of_ble_eq_true rfl, Nat.le_of_ble_eq_true rfl⟩ rfl rfl (by omega) (by omega) rfl (Nat.le_of_ble_eq_true rfl) hl.1 dL_law_1162 (hB0.of hS fp_no.base) ⟨hP, ho⟩ hS (fun q h => Or.inr (by have h9 : (g_s G).heap.size ≤ q := h.1; omega)) (fun v H1 locs hp hz hk hS => ?_) (fun Ex qx cx H1 locs hp hz hk hS hcx hvx hlx => hp.elim)
  obtain ⟨g2, rfl, hg2, hP, ho⟩ := hp
  have hM := hM.keep hk (fun q hq h => h.2.elim (fun z => z (Or.inl hq)) (fun z => hoa (z ▸ hq)))
  refine r_stk (st2 := [.int (iI ((fp_atc (T.1) (fp_xs xs (4 * i + 1)) : Nat) : Int))]) rfl ?_
  have hkb : kc ≤ 2 := by rw [← hkc]; unfold fp_atc; (repeat' split) <;> omega
  rw [hkc] at hg2 ⊢
  refine lv_istore (lv' := [(5, .int (iI ((kc : Nat) : Int))), (0, .ref (b)), (1, .ref (x)), (2, .ref (ad 0)), (3, .ref (out)), (4, .int (iI ((4 * i : Nat) : Int)))]) hx hb dL_law_1165 hl (by decide) rfl (fun ls hl => ?_)
  refine lv_aload_n hx hb dL_law_1167 rfl (lv_at hl 3 rfl) ?_
  refine lv_aload_n hx hb dL_law_1168 rfl (lv_at hl 1 rfl) ?_
  refine lv_iload hx hb dL_law_1169 (lv_at hl 5 rfl) ?_
  refine lv_iconst (v := (iI ((1 : Nat) : Int))) hx hb dL_law_1171 rfl ?_
  refine r_iaddN hx hb dL_law_1172 ?_
  refine r_scr (j := 4 * i + 1) X hX hbl hS (by omega) hL dL_law_1173 ?_
  obtain ⟨fs3, hob3⟩ := hM.ob
  refine x_callV (cells1 := (cells + 1)) (slots1 := (slots + 6)) X hR (mm_blockAt G ad _ T i (fp_xs xs (4 * i + 1)) hA0 hI (fp_xs_rg _ _)) q2249 q2250 q2251 q100 q2252 ⟨rfl, pd_X4_blockAt⟩ ⟨Nat.le_of_ble_eq_true rfl, Nat.le_of_ble_eq_true rfl⟩ rfl rfl (by omega) (by omega) hob3 rfl rfl (Nat.le_of_ble_eq_true rfl) hl.1 dL_law_1174 (hB0.of hS fp_no.base) hM hS (fun q h => Or.inr (by have h9 : (g_s G).heap.size ≤ q := fp_ma.base hA0 q h; omega)) (fun v H1 locs hp hz hk hS => ?_) (fun Ex qx cx H1 locs hp hz hk hS hcx hvx hlx => hp.elim)
  obtain ⟨r, rfl, hr, hM2⟩ := hp
  have hP := hP.mo X.2.2.2.2.2 hM hA0 hz hk
  have ho := ho.kept (hk out ho.lt hoa)
  have hM := hM2
  clear hM2
  rw [hkc] at hr hM
  refine r_stk (st2 := [.int (iI (r))]) rfl ?_
  refine lv_istore (lv' := [(6, .int (iI (r))), (5, .int (iI ((kc : Nat) : Int))), (0, .ref (b)), (1, .ref (x)), (2, .ref (ad 0)), (3, .ref (out)), (4, .int (iI ((4 * i : Nat) : Int)))]) hx hb dL_law_1177 hl (by decide) rfl (fun ls hl => ?_)
  refine lv_aload_n hx hb dL_law_1179 rfl (lv_at hl 4 rfl) ?_
  obtain ⟨fs4, hob4⟩ := hM.ob
  refine x_callV (cells1 := (cells + 1)) (slots1 := (slots + 6)) X hR (mm_thrown G ad _ _ hA0) q2079 q2080 q2081 q100 q2082 ⟨rfl, pd_X4_thrown⟩ ⟨Nat.le_of_ble_eq_true rfl, Nat.le_of_ble_eq_true rfl⟩ rfl rfl (by omega) (by omega) hob4 rfl rfl (Nat.le_of_ble_eq_true rfl) hl.1 dL_law_1180 (hB0.of hS fp_no.base) hM hS (fun q h => Or.inr (by have h9 : (g_s G).heap.size ≤ q := fp_ma.base hA0 q h; omega)) (fun v H1 locs hp hz hk hS => ?_) (fun Ex qx cx H1 locs hp hz hk hS hcx hvx hlx => hp.elim)
  obtain ⟨rfl, hM2⟩ := hp
  have hP := hP.mo X.2.2.2.2.2 hM hA0 hz hk
  have ho := ho.kept (hk out ho.lt hoa)
  have hM := hM2
  clear hM2
  refine r_stk (st2 := [.int (iI ((kc : Nat) : Int))]) rfl ?_
  refine lv_iload hx hb dL_law_1183 (lv_at hl 1 rfl) ?_
  refine lv_icmp_eq (tgt := 1190) hx hb dL_law_1185 (by decide) (fun _ => ?_) (fun h => absurd rfl h)
  refine lv_iload hx hb dL_law_1190 (lv_at hl 1 rfl) ?_
  refine r_if_ne (tgt := 1207) hx hb ⟨by omega, by omega⟩ dL_law_1192 (by decide) (fun hne => ?_) (fun he => ?_)
  · skip
    refine lv_goto (tgt := 3331) hx hb dL_law_1207 (by decide) ?_
    refine W.widen (k := cells + 50006) (n := slots + 229018) (by omega) (by omega) ?_
    exact kk _ _ _ _ _ _ (lv_sub hl [2, 3, 4, 5, 6] rfl) hS hP hM ho (hI.same)
  · skip
    have he : kc = 0 := by omega
    refine lv_aload_n hx hb dL_law_1195 rfl (lv_at hl 5 rfl) ?_
    refine lv_iconst (v := (iI ((0 : Nat) : Int))) hx hb dL_law_1196 rfl ?_
    refine r_laldI (j := 0) X ho rfl (by decide) (by decide) dL_law_1197 ?_
    refine lv_iload hx hb dL_law_1198 (lv_at hl 0 rfl) ?_
    refine lv_i2l (v := (iI r).toInt64) hx hb dL_law_1200 rfl ?_
    refine r_lcmpE X (by rw [hg2 he, hr he]) dL_law_1201 ?_
    refine lv_if_eq (tgt := 1207) hx hb dL_law_1202 (by decide) (fun _ => ?_) (fun h => absurd rfl h)
    refine lv_goto (tgt := 3331) hx hb dL_law_1207 (by decide) ?_
    refine W.widen (k := cells + 50006) (n := slots + 229018) (by omega) (by omega) ?_
    exact kk _ _ _ _ _ _ (lv_sub hl [2, 3, 4, 5, 6] rfl) hS hP hM ho (hI.same)
set_option maxHeartbeats 1000000 in
theorem lc_15 {G : fp_G} {pg : Program} {en : Env} {rR : Room} {s : State} {mi : MethodId} {ag : Array Value} {bl : List Frame} {mt : Method} {cd : Code} {H : Heap} {locs : List Loc} {cells slots : Nat} {qQ : State → Prop} {ls : Array Slot} {b L x out i k MC MS : Nat} {xs : Nat → Int32} {ad : Nat → Nat} {T : TH} {g : Nat → Int64} (X : fp_C G pg s mi ag cd cL_law "FortPlannerLaw" 9) (hR : fp_R rR 8192 104096 MC MS) (hB0 : fp_B G s.heap) (hX : va_X b L xs s s.heap) (hbl : b < s.heap.size) (hL : L ≤ 96) (hi : 4 * i + 4 ≤ L) (hA0 : fp_MA G ad) (hob : (g_s G).heap.size ≤ out) (hoa : ¬ fp_ma ad out) (hl : lv_has ls 9 [(0, .ref (b)), (1, .ref (x)), (2, .ref (ad 0)), (3, .ref (out)), (4, .int (iI ((4 * i : Nat) : Int)))]) (hS : va_S (fA fp_no s.heap.size) s.heap H locs) (hsb : s.heap.size = (g_s G).heap.size) (hc : cells + 50006 ≤ MC) (hs : slots + 229018 ≤ MS) (hP : fp_PW G x (fp_LM ad out) T H) (hM : fp_MC G ad k T H) (ho : fp_At G H out (eJ G 1 g)) (hI : fp_TI i T) (kk : ∀ (H1 : Heap) (locs1 : List Loc) (ls1 : Array Slot) (T1 : TH) (k1 : Nat) (g1 : Nat → Int64), lv_has ls1 9 [(0, .ref (b)), (1, .ref (x)), (2, .ref (ad 0)), (3, .ref (out)), (4, .int (iI ((4 * i : Nat) : Int)))] → va_S (fA fp_no s.heap.size) s.heap H1 locs1 → fp_PW G x (fp_LM ad out) T1 H1 → fp_MC G ad k1 T1 H1 → fp_At G H1 out (eJ G 1 g1) → fp_TJ (i + 1) T1 → W pg (g_l G) en rR s mi ag bl mt cd H1 locs1 (cells + 50006) (slots + 229018) qQ (F0 mi 3331 ls1 [])) : W pg (g_l G) en rR s mi ag bl mt cd H locs cells slots qQ (F0 mi 1210 ls []) := by
  obtain ⟨hx, hb, -⟩ := id X
  refine lv_aload_n hx hb dL_law_1210 rfl (lv_at hl 1 rfl) ?_
  refine lv_aload_n hx hb dL_law_1211 rfl (lv_at hl 0 rfl) ?_
  refine lv_iload hx hb dL_law_1212 (lv_at hl 4 rfl) ?_
  refine lv_iconst (v := (iI ((1 : Nat) : Int))) hx hb dL_law_1214 rfl ?_
  refine r_iaddN hx hb dL_law_1215 ?_
  refine r_scr (j := 4 * i + 1) X hX hbl hS (by omega) hL dL_law_1216 ?_
  refine lv_aload_n hx hb dL_law_1217 rfl (lv_at hl 3 rfl) ?_
  obtain ⟨kc, hkc⟩ : ∃ kc, fp_fc (T.1) (fp_xs xs (4 * i + 1)) = kc := ⟨_, rfl⟩
  refine x_callSH (cells1 := cells + 2) (slots1 := slots + 10) X hR (x0_isFoam G x (fp_LM ad out) T i out g (fp_xs xs (4 * i + 1)) hI (fp_xs_rg _ _) (Or.inr rfl) hob) q1434 q1435 q87 q1436 pd_X0_isFoam ⟨Nat.le_of_ble_eq_true rfl, Nat.le_of_ble_eq_true rfl⟩ rfl rfl (by omega) (by omega) rfl (Nat.le_of_ble_eq_true rfl) hl.1 dL_law_1218 (hB0.of hS fp_no.base) ⟨hP, ho⟩ hS (fun q h => Or.inr (by have h9 : (g_s G).heap.size ≤ q := h.1; omega)) (fun v H1 locs hp hz hk hS => ?_) (fun Ex qx cx H1 locs hp hz hk hS hcx hvx hlx => hp.elim)
  obtain ⟨g2, rfl, hg2, hP, ho⟩ := hp
  have hM := hM.keep hk (fun q hq h => h.2.elim (fun z => z (Or.inl hq)) (fun z => hoa (z ▸ hq)))
  refine r_stk (st2 := [.int (iI ((fp_fc (T.1) (fp_xs xs (4 * i + 1)) : Nat) : Int))]) rfl ?_
  have hkb : kc ≤ 2 := by rw [← hkc]; unfold fp_fc; (repeat' split) <;> omega
  rw [hkc] at hg2 ⊢
  refine lv_istore (lv' := [(5, .int (iI ((kc : Nat) : Int))), (0, .ref (b)), (1, .ref (x)), (2, .ref (ad 0)), (3, .ref (out)), (4, .int (iI ((4 * i : Nat) : Int)))]) hx hb dL_law_1221 hl (by decide) rfl (fun ls hl => ?_)
  refine lv_aload_n hx hb dL_law_1223 rfl (lv_at hl 3 rfl) ?_
  refine lv_aload_n hx hb dL_law_1224 rfl (lv_at hl 1 rfl) ?_
  refine lv_iload hx hb dL_law_1225 (lv_at hl 5 rfl) ?_
  refine lv_iconst (v := (iI ((1 : Nat) : Int))) hx hb dL_law_1227 rfl ?_
  refine r_iaddN hx hb dL_law_1228 ?_
  refine r_scr (j := 4 * i + 1) X hX hbl hS (by omega) hL dL_law_1229 ?_
  obtain ⟨fs3, hob3⟩ := hM.ob
  refine x_callV (cells1 := (cells + 2)) (slots1 := (slots + 10)) X hR (mm_isFoam G ad _ T i (fp_xs xs (4 * i + 1)) hA0 hI (fp_xs_rg _ _)) q2253 q2254 q2255 q100 q2256 ⟨rfl, pd_X4_isFoam⟩ ⟨Nat.le_of_ble_eq_true rfl, Nat.le_of_ble_eq_true rfl⟩ rfl rfl (by omega) (by omega) hob3 rfl rfl (Nat.le_of_ble_eq_true rfl) hl.1 dL_law_1230 (hB0.of hS fp_no.base) hM hS (fun q h => Or.inr (by have h9 : (g_s G).heap.size ≤ q := fp_ma.base hA0 q h; omega)) (fun v H1 locs hp hz hk hS => ?_) (fun Ex qx cx H1 locs hp hz hk hS hcx hvx hlx => hp.elim)
  obtain ⟨r, rfl, hr, hM2⟩ := hp
  have hP := hP.mo X.2.2.2.2.2 hM hA0 hz hk
  have ho := ho.kept (hk out ho.lt hoa)
  have hM := hM2
  clear hM2
  rw [hkc] at hr hM
  refine r_stk (st2 := [.int (iI (bI (r)))]) rfl ?_
  refine lv_istore (lv' := [(6, .int (iI (bI (r)))), (5, .int (iI ((kc : Nat) : Int))), (0, .ref (b)), (1, .ref (x)), (2, .ref (ad 0)), (3, .ref (out)), (4, .int (iI ((4 * i : Nat) : Int)))]) hx hb dL_law_1233 hl (by decide) rfl (fun ls hl => ?_)
  refine lv_aload_n hx hb dL_law_1235 rfl (lv_at hl 4 rfl) ?_
  obtain ⟨fs4, hob4⟩ := hM.ob
  refine x_callV (cells1 := (cells + 2)) (slots1 := (slots + 10)) X hR (mm_thrown G ad _ _ hA0) q2079 q2080 q2081 q100 q2082 ⟨rfl, pd_X4_thrown⟩ ⟨Nat.le_of_ble_eq_true rfl, Nat.le_of_ble_eq_true rfl⟩ rfl rfl (by omega) (by omega) hob4 rfl rfl (Nat.le_of_ble_eq_true rfl) hl.1 dL_law_1236 (hB0.of hS fp_no.base) hM hS (fun q h => Or.inr (by have h9 : (g_s G).heap.size ≤ q := fp_ma.base hA0 q h; omega)) (fun v H1 locs hp hz hk hS => ?_) (fun Ex qx cx H1 locs hp hz hk hS hcx hvx hlx => hp.elim)
  obtain ⟨rfl, hM2⟩ := hp
  have hP := hP.mo X.2.2.2.2.2 hM hA0 hz hk
  have ho := ho.kept (hk out ho.lt hoa)
  have hM := hM2
  clear hM2
  refine r_stk (st2 := [.int (iI ((kc : Nat) : Int))]) rfl ?_
  refine lv_iload hx hb dL_law_1239 (lv_at hl 1 rfl) ?_
  refine lv_icmp_eq (tgt := 1246) hx hb dL_law_1241 (by decide) (fun _ => ?_) (fun h => absurd rfl h)
  refine lv_iload hx hb dL_law_1246 (lv_at hl 1 rfl) ?_
  refine r_if_ne (tgt := 1270) hx hb ⟨by omega, by omega⟩ dL_law_1248 (by decide) (fun hne => ?_) (fun he => ?_)
  · skip
    refine lv_goto (tgt := 3331) hx hb dL_law_1270 (by decide) ?_
    refine W.widen (k := cells + 50006) (n := slots + 229018) (by omega) (by omega) ?_
    exact kk _ _ _ _ _ _ (lv_sub hl [2, 3, 4, 5, 6] rfl) hS hP hM ho (hI.same)
  · skip
    have he : kc = 0 := by omega
    refine lv_aload_n hx hb dL_law_1251 rfl (lv_at hl 5 rfl) ?_
    refine lv_iconst (v := (iI ((0 : Nat) : Int))) hx hb dL_law_1252 rfl ?_
    refine r_laldI (j := 0) X ho rfl (by decide) (by decide) dL_law_1253 ?_
    refine lv_iload hx hb dL_law_1254 (lv_at hl 0 rfl) ?_
    refine r_ifeqB (tgt := 1263) hx hb dL_law_1256 (by decide) (fun cb => ?_) (fun cb => ?_)
    · skip
      refine lv_lconst (v := 0) hx hb dL_law_1263 rfl ?_
      refine r_lcmpE X (by rw [hg2 he, ← hr he, cb]; rfl) dL_law_1264 ?_
      refine lv_if_eq (tgt := 1270) hx hb dL_law_1265 (by decide) (fun _ => ?_) (fun h => absurd rfl h)
      refine lv_goto (tgt := 3331) hx hb dL_law_1270 (by decide) ?_
      refine W.widen (k := cells + 50006) (n := slots + 229018) (by omega) (by omega) ?_
      exact kk _ _ _ _ _ _ (lv_sub hl [2, 3, 4, 5, 6] rfl) hS hP hM ho (hI.same)
    · skip
      refine lv_lconst (v := 1) hx hb dL_law_1259 rfl ?_
      refine lv_goto (tgt := 1264) hx hb dL_law_1260 (by decide) ?_
      refine r_lcmpE X (by rw [hg2 he, ← hr he, cb]; rfl) dL_law_1264 ?_
      refine lv_if_eq (tgt := 1270) hx hb dL_law_1265 (by decide) (fun _ => ?_) (fun h => absurd rfl h)
      refine lv_goto (tgt := 3331) hx hb dL_law_1270 (by decide) ?_
      refine W.widen (k := cells + 50006) (n := slots + 229018) (by omega) (by omega) ?_
      exact kk _ _ _ _ _ _ (lv_sub hl [2, 3, 4, 5, 6] rfl) hS hP hM ho (hI.same)
set_option maxHeartbeats 1000000 in
theorem lc_16 {G : fp_G} {pg : Program} {en : Env} {rR : Room} {s : State} {mi : MethodId} {ag : Array Value} {bl : List Frame} {mt : Method} {cd : Code} {H : Heap} {locs : List Loc} {cells slots : Nat} {qQ : State → Prop} {ls : Array Slot} {b L x out i k MC MS : Nat} {xs : Nat → Int32} {ad : Nat → Nat} {T : TH} {g : Nat → Int64} (X : fp_C G pg s mi ag cd cL_law "FortPlannerLaw" 9) (hR : fp_R rR 8192 104096 MC MS) (hB0 : fp_B G s.heap) (hX : va_X b L xs s s.heap) (hbl : b < s.heap.size) (hL : L ≤ 96) (hi : 4 * i + 4 ≤ L) (hA0 : fp_MA G ad) (hob : (g_s G).heap.size ≤ out) (hoa : ¬ fp_ma ad out) (hl : lv_has ls 9 [(0, .ref (b)), (1, .ref (x)), (2, .ref (ad 0)), (3, .ref (out)), (4, .int (iI ((4 * i : Nat) : Int)))]) (hS : va_S (fA fp_no s.heap.size) s.heap H locs) (hsb : s.heap.size = (g_s G).heap.size) (hc : cells + 50006 ≤ MC) (hs : slots + 229018 ≤ MS) (hP : fp_PW G x (fp_LM ad out) T H) (hM : fp_MC G ad k T H) (ho : fp_At G H out (eJ G 1 g)) (hI : fp_TI i T) (kk : ∀ (H1 : Heap) (locs1 : List Loc) (ls1 : Array Slot) (T1 : TH) (k1 : Nat) (g1 : Nat → Int64), lv_has ls1 9 [(0, .ref (b)), (1, .ref (x)), (2, .ref (ad 0)), (3, .ref (out)), (4, .int (iI ((4 * i : Nat) : Int)))] → va_S (fA fp_no s.heap.size) s.heap H1 locs1 → fp_PW G x (fp_LM ad out) T1 H1 → fp_MC G ad k1 T1 H1 → fp_At G H1 out (eJ G 1 g1) → fp_TJ (i + 1) T1 → W pg (g_l G) en rR s mi ag bl mt cd H1 locs1 (cells + 50006) (slots + 229018) qQ (F0 mi 3331 ls1 [])) : W pg (g_l G) en rR s mi ag bl mt cd H locs cells slots qQ (F0 mi 1273 ls []) := by
  obtain ⟨hx, hb, -⟩ := id X
  refine lv_aload_n hx hb dL_law_1273 rfl (lv_at hl 1 rfl) ?_
  refine lv_aload_n hx hb dL_law_1274 rfl (lv_at hl 0 rfl) ?_
  refine lv_iload hx hb dL_law_1275 (lv_at hl 4 rfl) ?_
  refine lv_iconst (v := (iI ((1 : Nat) : Int))) hx hb dL_law_1277 rfl ?_
  refine r_iaddN hx hb dL_law_1278 ?_
  refine r_scr (j := 4 * i + 1) X hX hbl hS (by omega) hL dL_law_1279 ?_
  refine lv_aload_n hx hb dL_law_1280 rfl (lv_at hl 3 rfl) ?_
  obtain ⟨kc, hkc⟩ : ∃ kc, fp_fc (T.1) (fp_xs xs (4 * i + 1)) = kc := ⟨_, rfl⟩
  refine x_callSH (cells1 := cells + 2) (slots1 := slots + 10) X hR (x0_isBoard G x (fp_LM ad out) T i out g (fp_xs xs (4 * i + 1)) hI (fp_xs_rg _ _) (Or.inr rfl) hob) q1441 q1442 q87 q1443 pd_X0_isBoard ⟨Nat.le_of_ble_eq_true rfl, Nat.le_of_ble_eq_true rfl⟩ rfl rfl (by omega) (by omega) rfl (Nat.le_of_ble_eq_true rfl) hl.1 dL_law_1281 (hB0.of hS fp_no.base) ⟨hP, ho⟩ hS (fun q h => Or.inr (by have h9 : (g_s G).heap.size ≤ q := h.1; omega)) (fun v H1 locs hp hz hk hS => ?_) (fun Ex qx cx H1 locs hp hz hk hS hcx hvx hlx => hp.elim)
  obtain ⟨g2, rfl, hg2, hP, ho⟩ := hp
  have hM := hM.keep hk (fun q hq h => h.2.elim (fun z => z (Or.inl hq)) (fun z => hoa (z ▸ hq)))
  refine r_stk (st2 := [.int (iI ((fp_fc (T.1) (fp_xs xs (4 * i + 1)) : Nat) : Int))]) rfl ?_
  have hkb : kc ≤ 2 := by rw [← hkc]; unfold fp_fc; (repeat' split) <;> omega
  rw [hkc] at hg2 ⊢
  refine lv_istore (lv' := [(5, .int (iI ((kc : Nat) : Int))), (0, .ref (b)), (1, .ref (x)), (2, .ref (ad 0)), (3, .ref (out)), (4, .int (iI ((4 * i : Nat) : Int)))]) hx hb dL_law_1284 hl (by decide) rfl (fun ls hl => ?_)
  refine lv_aload_n hx hb dL_law_1286 rfl (lv_at hl 3 rfl) ?_
  refine lv_aload_n hx hb dL_law_1287 rfl (lv_at hl 1 rfl) ?_
  refine lv_iload hx hb dL_law_1288 (lv_at hl 5 rfl) ?_
  refine lv_iconst (v := (iI ((1 : Nat) : Int))) hx hb dL_law_1290 rfl ?_
  refine r_iaddN hx hb dL_law_1291 ?_
  refine r_scr (j := 4 * i + 1) X hX hbl hS (by omega) hL dL_law_1292 ?_
  obtain ⟨fs3, hob3⟩ := hM.ob
  refine x_callV (cells1 := (cells + 2)) (slots1 := (slots + 10)) X hR (mm_isBoard G ad _ T i (fp_xs xs (4 * i + 1)) hA0 hI (fp_xs_rg _ _)) q2261 q2262 q2263 q100 q2264 ⟨rfl, pd_X4_isBoard⟩ ⟨Nat.le_of_ble_eq_true rfl, Nat.le_of_ble_eq_true rfl⟩ rfl rfl (by omega) (by omega) hob3 rfl rfl (Nat.le_of_ble_eq_true rfl) hl.1 dL_law_1293 (hB0.of hS fp_no.base) hM hS (fun q h => Or.inr (by have h9 : (g_s G).heap.size ≤ q := fp_ma.base hA0 q h; omega)) (fun v H1 locs hp hz hk hS => ?_) (fun Ex qx cx H1 locs hp hz hk hS hcx hvx hlx => hp.elim)
  obtain ⟨r, rfl, hr, hM2⟩ := hp
  have hP := hP.mo X.2.2.2.2.2 hM hA0 hz hk
  have ho := ho.kept (hk out ho.lt hoa)
  have hM := hM2
  clear hM2
  rw [hkc] at hr hM
  refine r_stk (st2 := [.int (iI (bI (r)))]) rfl ?_
  refine lv_istore (lv' := [(6, .int (iI (bI (r)))), (5, .int (iI ((kc : Nat) : Int))), (0, .ref (b)), (1, .ref (x)), (2, .ref (ad 0)), (3, .ref (out)), (4, .int (iI ((4 * i : Nat) : Int)))]) hx hb dL_law_1296 hl (by decide) rfl (fun ls hl => ?_)
  refine lv_aload_n hx hb dL_law_1298 rfl (lv_at hl 4 rfl) ?_
  obtain ⟨fs4, hob4⟩ := hM.ob
  refine x_callV (cells1 := (cells + 2)) (slots1 := (slots + 10)) X hR (mm_thrown G ad _ _ hA0) q2079 q2080 q2081 q100 q2082 ⟨rfl, pd_X4_thrown⟩ ⟨Nat.le_of_ble_eq_true rfl, Nat.le_of_ble_eq_true rfl⟩ rfl rfl (by omega) (by omega) hob4 rfl rfl (Nat.le_of_ble_eq_true rfl) hl.1 dL_law_1299 (hB0.of hS fp_no.base) hM hS (fun q h => Or.inr (by have h9 : (g_s G).heap.size ≤ q := fp_ma.base hA0 q h; omega)) (fun v H1 locs hp hz hk hS => ?_) (fun Ex qx cx H1 locs hp hz hk hS hcx hvx hlx => hp.elim)
  obtain ⟨rfl, hM2⟩ := hp
  have hP := hP.mo X.2.2.2.2.2 hM hA0 hz hk
  have ho := ho.kept (hk out ho.lt hoa)
  have hM := hM2
  clear hM2
  refine r_stk (st2 := [.int (iI ((kc : Nat) : Int))]) rfl ?_
  refine lv_iload hx hb dL_law_1302 (lv_at hl 1 rfl) ?_
  refine lv_icmp_eq (tgt := 1309) hx hb dL_law_1304 (by decide) (fun _ => ?_) (fun h => absurd rfl h)
  refine lv_iload hx hb dL_law_1309 (lv_at hl 1 rfl) ?_
  refine r_if_ne (tgt := 1333) hx hb ⟨by omega, by omega⟩ dL_law_1311 (by decide) (fun hne => ?_) (fun he => ?_)
  · skip
    refine lv_goto (tgt := 3331) hx hb dL_law_1333 (by decide) ?_
    refine W.widen (k := cells + 50006) (n := slots + 229018) (by omega) (by omega) ?_
    exact kk _ _ _ _ _ _ (lv_sub hl [2, 3, 4, 5, 6] rfl) hS hP hM ho (hI.same)
  · skip
    have he : kc = 0 := by omega
    refine lv_aload_n hx hb dL_law_1314 rfl (lv_at hl 5 rfl) ?_
    refine lv_iconst (v := (iI ((0 : Nat) : Int))) hx hb dL_law_1315 rfl ?_
    refine r_laldI (j := 0) X ho rfl (by decide) (by decide) dL_law_1316 ?_
    refine lv_iload hx hb dL_law_1317 (lv_at hl 0 rfl) ?_
    refine r_ifeqB (tgt := 1326) hx hb dL_law_1319 (by decide) (fun cb => ?_) (fun cb => ?_)
    · skip
      refine lv_lconst (v := 0) hx hb dL_law_1326 rfl ?_
      refine r_lcmpE X (by rw [hg2 he, ← hr he, cb]; rfl) dL_law_1327 ?_
      refine lv_if_eq (tgt := 1333) hx hb dL_law_1328 (by decide) (fun _ => ?_) (fun h => absurd rfl h)
      refine lv_goto (tgt := 3331) hx hb dL_law_1333 (by decide) ?_
      refine W.widen (k := cells + 50006) (n := slots + 229018) (by omega) (by omega) ?_
      exact kk _ _ _ _ _ _ (lv_sub hl [2, 3, 4, 5, 6] rfl) hS hP hM ho (hI.same)
    · skip
      refine lv_lconst (v := 1) hx hb dL_law_1322 rfl ?_
      refine lv_goto (tgt := 1327) hx hb dL_law_1323 (by decide) ?_
      refine r_lcmpE X (by rw [hg2 he, ← hr he, cb]; rfl) dL_law_1327 ?_
      refine lv_if_eq (tgt := 1333) hx hb dL_law_1328 (by decide) (fun _ => ?_) (fun h => absurd rfl h)
      refine lv_goto (tgt := 3331) hx hb dL_law_1333 (by decide) ?_
      refine W.widen (k := cells + 50006) (n := slots + 229018) (by omega) (by omega) ?_
      exact kk _ _ _ _ _ _ (lv_sub hl [2, 3, 4, 5, 6] rfl) hS hP hM ho (hI.same)
set_option maxHeartbeats 1000000 in
theorem lc_17 {G : fp_G} {pg : Program} {en : Env} {rR : Room} {s : State} {mi : MethodId} {ag : Array Value} {bl : List Frame} {mt : Method} {cd : Code} {H : Heap} {locs : List Loc} {cells slots : Nat} {qQ : State → Prop} {ls : Array Slot} {b L x out i k MC MS : Nat} {xs : Nat → Int32} {ad : Nat → Nat} {T : TH} {g : Nat → Int64} (X : fp_C G pg s mi ag cd cL_law "FortPlannerLaw" 9) (hR : fp_R rR 8192 104096 MC MS) (hB0 : fp_B G s.heap) (hX : va_X b L xs s s.heap) (hbl : b < s.heap.size) (hL : L ≤ 96) (hi : 4 * i + 4 ≤ L) (hA0 : fp_MA G ad) (hob : (g_s G).heap.size ≤ out) (hoa : ¬ fp_ma ad out) (hl : lv_has ls 9 [(0, .ref (b)), (1, .ref (x)), (2, .ref (ad 0)), (3, .ref (out)), (4, .int (iI ((4 * i : Nat) : Int)))]) (hS : va_S (fA fp_no s.heap.size) s.heap H locs) (hsb : s.heap.size = (g_s G).heap.size) (hc : cells + 50006 ≤ MC) (hs : slots + 229018 ≤ MS) (hP : fp_PW G x (fp_LM ad out) T H) (hM : fp_MC G ad k T H) (ho : fp_At G H out (eJ G 1 g)) (hI : fp_TI i T) (kk : ∀ (H1 : Heap) (locs1 : List Loc) (ls1 : Array Slot) (T1 : TH) (k1 : Nat) (g1 : Nat → Int64), lv_has ls1 9 [(0, .ref (b)), (1, .ref (x)), (2, .ref (ad 0)), (3, .ref (out)), (4, .int (iI ((4 * i : Nat) : Int)))] → va_S (fA fp_no s.heap.size) s.heap H1 locs1 → fp_PW G x (fp_LM ad out) T1 H1 → fp_MC G ad k1 T1 H1 → fp_At G H1 out (eJ G 1 g1) → fp_TJ (i + 1) T1 → W pg (g_l G) en rR s mi ag bl mt cd H1 locs1 (cells + 50006) (slots + 229018) qQ (F0 mi 3331 ls1 [])) : W pg (g_l G) en rR s mi ag bl mt cd H locs cells slots qQ (F0 mi 1336 ls []) := by
  obtain ⟨hx, hb, -⟩ := id X
  refine lv_aload_n hx hb dL_law_1336 rfl (lv_at hl 1 rfl) ?_
  refine lv_aload_n hx hb dL_law_1337 rfl (lv_at hl 0 rfl) ?_
  refine lv_iload hx hb dL_law_1338 (lv_at hl 4 rfl) ?_
  refine lv_iconst (v := (iI ((1 : Nat) : Int))) hx hb dL_law_1340 rfl ?_
  refine r_iaddN hx hb dL_law_1341 ?_
  refine r_scr (j := 4 * i + 1) X hX hbl hS (by omega) hL dL_law_1342 ?_
  refine lv_aload_n hx hb dL_law_1343 rfl (lv_at hl 3 rfl) ?_
  obtain ⟨kc, hkc⟩ : ∃ kc, fp_fc (T.1) (fp_xs xs (4 * i + 1)) = kc := ⟨_, rfl⟩
  refine x_callSH (cells1 := cells + 2) (slots1 := slots + 10) X hR (x0_left G x (fp_LM ad out) T i out g (fp_xs xs (4 * i + 1)) hI (fp_xs_rg _ _) (Or.inr rfl) hob) q1448 q1449 q87 q1450 pd_X0_left ⟨Nat.le_of_ble_eq_true rfl, Nat.le_of_ble_eq_true rfl⟩ rfl rfl (by omega) (by omega) rfl (Nat.le_of_ble_eq_true rfl) hl.1 dL_law_1344 (hB0.of hS fp_no.base) ⟨hP, ho⟩ hS (fun q h => Or.inr (by have h9 : (g_s G).heap.size ≤ q := h.1; omega)) (fun v H1 locs hp hz hk hS => ?_) (fun Ex qx cx H1 locs hp hz hk hS hcx hvx hlx => hp.elim)
  obtain ⟨g2, rfl, hg2, hP, ho⟩ := hp
  have hM := hM.keep hk (fun q hq h => h.2.elim (fun z => z (Or.inl hq)) (fun z => hoa (z ▸ hq)))
  refine r_stk (st2 := [.int (iI ((fp_fc (T.1) (fp_xs xs (4 * i + 1)) : Nat) : Int))]) rfl ?_
  have hkb : kc ≤ 2 := by rw [← hkc]; unfold fp_fc; (repeat' split) <;> omega
  rw [hkc] at hg2 ⊢
  refine lv_istore (lv' := [(5, .int (iI ((kc : Nat) : Int))), (0, .ref (b)), (1, .ref (x)), (2, .ref (ad 0)), (3, .ref (out)), (4, .int (iI ((4 * i : Nat) : Int)))]) hx hb dL_law_1347 hl (by decide) rfl (fun ls hl => ?_)
  refine lv_aload_n hx hb dL_law_1349 rfl (lv_at hl 3 rfl) ?_
  refine lv_aload_n hx hb dL_law_1350 rfl (lv_at hl 1 rfl) ?_
  refine lv_iload hx hb dL_law_1351 (lv_at hl 5 rfl) ?_
  refine lv_iconst (v := (iI ((1 : Nat) : Int))) hx hb dL_law_1353 rfl ?_
  refine r_iaddN hx hb dL_law_1354 ?_
  refine r_scr (j := 4 * i + 1) X hX hbl hS (by omega) hL dL_law_1355 ?_
  obtain ⟨fs3, hob3⟩ := hM.ob
  refine x_callV (cells1 := (cells + 2)) (slots1 := (slots + 10)) X hR (mm_left G ad _ T i (fp_xs xs (4 * i + 1)) hA0 hI (fp_xs_rg _ _)) q2265 q2266 q2267 q100 q2268 ⟨rfl, pd_X4_left⟩ ⟨Nat.le_of_ble_eq_true rfl, Nat.le_of_ble_eq_true rfl⟩ rfl rfl (by omega) (by omega) hob3 rfl rfl (Nat.le_of_ble_eq_true rfl) hl.1 dL_law_1356 (hB0.of hS fp_no.base) hM hS (fun q h => Or.inr (by have h9 : (g_s G).heap.size ≤ q := fp_ma.base hA0 q h; omega)) (fun v H1 locs hp hz hk hS => ?_) (fun Ex qx cx H1 locs hp hz hk hS hcx hvx hlx => hp.elim)
  obtain ⟨r, rfl, hr, hM2⟩ := hp
  have hP := hP.mo X.2.2.2.2.2 hM hA0 hz hk
  have ho := ho.kept (hk out ho.lt hoa)
  have hM := hM2
  clear hM2
  rw [hkc] at hr hM
  refine r_stk (st2 := [.int (iI (r))]) rfl ?_
  refine lv_istore (lv' := [(6, .int (iI (r))), (5, .int (iI ((kc : Nat) : Int))), (0, .ref (b)), (1, .ref (x)), (2, .ref (ad 0)), (3, .ref (out)), (4, .int (iI ((4 * i : Nat) : Int)))]) hx hb dL_law_1359 hl (by decide) rfl (fun ls hl => ?_)
  refine lv_aload_n hx hb dL_law_1361 rfl (lv_at hl 4 rfl) ?_
  obtain ⟨fs4, hob4⟩ := hM.ob
  refine x_callV (cells1 := (cells + 2)) (slots1 := (slots + 10)) X hR (mm_thrown G ad _ _ hA0) q2079 q2080 q2081 q100 q2082 ⟨rfl, pd_X4_thrown⟩ ⟨Nat.le_of_ble_eq_true rfl, Nat.le_of_ble_eq_true rfl⟩ rfl rfl (by omega) (by omega) hob4 rfl rfl (Nat.le_of_ble_eq_true rfl) hl.1 dL_law_1362 (hB0.of hS fp_no.base) hM hS (fun q h => Or.inr (by have h9 : (g_s G).heap.size ≤ q := fp_ma.base hA0 q h; omega)) (fun v H1 locs hp hz hk hS => ?_) (fun Ex qx cx H1 locs hp hz hk hS hcx hvx hlx => hp.elim)
  obtain ⟨rfl, hM2⟩ := hp
  have hP := hP.mo X.2.2.2.2.2 hM hA0 hz hk
  have ho := ho.kept (hk out ho.lt hoa)
  have hM := hM2
  clear hM2
  refine r_stk (st2 := [.int (iI ((kc : Nat) : Int))]) rfl ?_
  refine lv_iload hx hb dL_law_1365 (lv_at hl 1 rfl) ?_
  refine lv_icmp_eq (tgt := 1372) hx hb dL_law_1367 (by decide) (fun _ => ?_) (fun h => absurd rfl h)
  refine lv_iload hx hb dL_law_1372 (lv_at hl 1 rfl) ?_
  refine r_if_ne (tgt := 1389) hx hb ⟨by omega, by omega⟩ dL_law_1374 (by decide) (fun hne => ?_) (fun he => ?_)
  · skip
    refine lv_goto (tgt := 3331) hx hb dL_law_1389 (by decide) ?_
    refine W.widen (k := cells + 50006) (n := slots + 229018) (by omega) (by omega) ?_
    exact kk _ _ _ _ _ _ (lv_sub hl [2, 3, 4, 5, 6] rfl) hS hP hM ho (hI.same)
  · skip
    have he : kc = 0 := by omega
    refine lv_aload_n hx hb dL_law_1377 rfl (lv_at hl 5 rfl) ?_
    refine lv_iconst (v := (iI ((0 : Nat) : Int))) hx hb dL_law_1378 rfl ?_
    refine r_laldI (j := 0) X ho rfl (by decide) (by decide) dL_law_1379 ?_
    refine lv_iload hx hb dL_law_1380 (lv_at hl 0 rfl) ?_
    refine lv_i2l (v := (iI r).toInt64) hx hb dL_law_1382 rfl ?_
    refine r_lcmpE X (by rw [hg2 he, hr he]) dL_law_1383 ?_
    refine lv_if_eq (tgt := 1389) hx hb dL_law_1384 (by decide) (fun _ => ?_) (fun h => absurd rfl h)
    refine lv_goto (tgt := 3331) hx hb dL_law_1389 (by decide) ?_
    refine W.widen (k := cells + 50006) (n := slots + 229018) (by omega) (by omega) ?_
    exact kk _ _ _ _ _ _ (lv_sub hl [2, 3, 4, 5, 6] rfl) hS hP hM ho (hI.same)
set_option maxHeartbeats 1000000 in
theorem lc_18 {G : fp_G} {pg : Program} {en : Env} {rR : Room} {s : State} {mi : MethodId} {ag : Array Value} {bl : List Frame} {mt : Method} {cd : Code} {H : Heap} {locs : List Loc} {cells slots : Nat} {qQ : State → Prop} {ls : Array Slot} {b L x out i k MC MS : Nat} {xs : Nat → Int32} {ad : Nat → Nat} {T : TH} {g : Nat → Int64} (X : fp_C G pg s mi ag cd cL_law "FortPlannerLaw" 9) (hR : fp_R rR 8192 104096 MC MS) (hB0 : fp_B G s.heap) (hX : va_X b L xs s s.heap) (hbl : b < s.heap.size) (hL : L ≤ 96) (hi : 4 * i + 4 ≤ L) (hA0 : fp_MA G ad) (hob : (g_s G).heap.size ≤ out) (hoa : ¬ fp_ma ad out) (hl : lv_has ls 9 [(0, .ref (b)), (1, .ref (x)), (2, .ref (ad 0)), (3, .ref (out)), (4, .int (iI ((4 * i : Nat) : Int)))]) (hS : va_S (fA fp_no s.heap.size) s.heap H locs) (hsb : s.heap.size = (g_s G).heap.size) (hc : cells + 50006 ≤ MC) (hs : slots + 229018 ≤ MS) (hP : fp_PW G x (fp_LM ad out) T H) (hM : fp_MC G ad k T H) (ho : fp_At G H out (eJ G 1 g)) (hI : fp_TI i T) (kk : ∀ (H1 : Heap) (locs1 : List Loc) (ls1 : Array Slot) (T1 : TH) (k1 : Nat) (g1 : Nat → Int64), lv_has ls1 9 [(0, .ref (b)), (1, .ref (x)), (2, .ref (ad 0)), (3, .ref (out)), (4, .int (iI ((4 * i : Nat) : Int)))] → va_S (fA fp_no s.heap.size) s.heap H1 locs1 → fp_PW G x (fp_LM ad out) T1 H1 → fp_MC G ad k1 T1 H1 → fp_At G H1 out (eJ G 1 g1) → fp_TJ (i + 1) T1 → W pg (g_l G) en rR s mi ag bl mt cd H1 locs1 (cells + 50006) (slots + 229018) qQ (F0 mi 3331 ls1 [])) : W pg (g_l G) en rR s mi ag bl mt cd H locs cells slots qQ (F0 mi 1392 ls []) := by
  obtain ⟨hx, hb, -⟩ := id X
  refine lv_aload_n hx hb dL_law_1392 rfl (lv_at hl 1 rfl) ?_
  refine lv_aload_n hx hb dL_law_1393 rfl (lv_at hl 0 rfl) ?_
  refine lv_iload hx hb dL_law_1394 (lv_at hl 4 rfl) ?_
  refine lv_iconst (v := (iI ((1 : Nat) : Int))) hx hb dL_law_1396 rfl ?_
  refine r_iaddN hx hb dL_law_1397 ?_
  refine r_scr (j := 4 * i + 1) X hX hbl hS (by omega) hL dL_law_1398 ?_
  refine lv_aload_n hx hb dL_law_1399 rfl (lv_at hl 3 rfl) ?_
  obtain ⟨kc, hkc⟩ : ∃ kc, fp_fc (T.1) (fp_xs xs (4 * i + 1)) = kc := ⟨_, rfl⟩
  refine x_callSH (cells1 := cells + 2) (slots1 := slots + 10) X hR (x0_width G x (fp_LM ad out) T i out g (fp_xs xs (4 * i + 1)) hI (fp_xs_rg _ _) (Or.inr rfl) hob) q1455 q1456 q87 q1457 pd_X0_width ⟨Nat.le_of_ble_eq_true rfl, Nat.le_of_ble_eq_true rfl⟩ rfl rfl (by omega) (by omega) rfl (Nat.le_of_ble_eq_true rfl) hl.1 dL_law_1400 (hB0.of hS fp_no.base) ⟨hP, ho⟩ hS (fun q h => Or.inr (by have h9 : (g_s G).heap.size ≤ q := h.1; omega)) (fun v H1 locs hp hz hk hS => ?_) (fun Ex qx cx H1 locs hp hz hk hS hcx hvx hlx => hp.elim)
  obtain ⟨g2, rfl, hg2, hP, ho⟩ := hp
  have hM := hM.keep hk (fun q hq h => h.2.elim (fun z => z (Or.inl hq)) (fun z => hoa (z ▸ hq)))
  refine r_stk (st2 := [.int (iI ((fp_fc (T.1) (fp_xs xs (4 * i + 1)) : Nat) : Int))]) rfl ?_
  have hkb : kc ≤ 2 := by rw [← hkc]; unfold fp_fc; (repeat' split) <;> omega
  rw [hkc] at hg2 ⊢
  refine lv_istore (lv' := [(5, .int (iI ((kc : Nat) : Int))), (0, .ref (b)), (1, .ref (x)), (2, .ref (ad 0)), (3, .ref (out)), (4, .int (iI ((4 * i : Nat) : Int)))]) hx hb dL_law_1403 hl (by decide) rfl (fun ls hl => ?_)
  refine lv_aload_n hx hb dL_law_1405 rfl (lv_at hl 3 rfl) ?_
  refine lv_aload_n hx hb dL_law_1406 rfl (lv_at hl 1 rfl) ?_
  refine lv_iload hx hb dL_law_1407 (lv_at hl 5 rfl) ?_
  refine lv_iconst (v := (iI ((1 : Nat) : Int))) hx hb dL_law_1409 rfl ?_
  refine r_iaddN hx hb dL_law_1410 ?_
  refine r_scr (j := 4 * i + 1) X hX hbl hS (by omega) hL dL_law_1411 ?_
  obtain ⟨fs3, hob3⟩ := hM.ob
  refine x_callV (cells1 := (cells + 2)) (slots1 := (slots + 10)) X hR (mm_width G ad _ T i (fp_xs xs (4 * i + 1)) hA0 hI (fp_xs_rg _ _)) q2273 q2274 q2275 q100 q2276 ⟨rfl, pd_X4_width⟩ ⟨Nat.le_of_ble_eq_true rfl, Nat.le_of_ble_eq_true rfl⟩ rfl rfl (by omega) (by omega) hob3 rfl rfl (Nat.le_of_ble_eq_true rfl) hl.1 dL_law_1412 (hB0.of hS fp_no.base) hM hS (fun q h => Or.inr (by have h9 : (g_s G).heap.size ≤ q := fp_ma.base hA0 q h; omega)) (fun v H1 locs hp hz hk hS => ?_) (fun Ex qx cx H1 locs hp hz hk hS hcx hvx hlx => hp.elim)
  obtain ⟨r, rfl, hr, hM2⟩ := hp
  have hP := hP.mo X.2.2.2.2.2 hM hA0 hz hk
  have ho := ho.kept (hk out ho.lt hoa)
  have hM := hM2
  clear hM2
  rw [hkc] at hr hM
  refine r_stk (st2 := [.int (iI (r))]) rfl ?_
  refine lv_istore (lv' := [(6, .int (iI (r))), (5, .int (iI ((kc : Nat) : Int))), (0, .ref (b)), (1, .ref (x)), (2, .ref (ad 0)), (3, .ref (out)), (4, .int (iI ((4 * i : Nat) : Int)))]) hx hb dL_law_1415 hl (by decide) rfl (fun ls hl => ?_)
  refine lv_aload_n hx hb dL_law_1417 rfl (lv_at hl 4 rfl) ?_
  obtain ⟨fs4, hob4⟩ := hM.ob
  refine x_callV (cells1 := (cells + 2)) (slots1 := (slots + 10)) X hR (mm_thrown G ad _ _ hA0) q2079 q2080 q2081 q100 q2082 ⟨rfl, pd_X4_thrown⟩ ⟨Nat.le_of_ble_eq_true rfl, Nat.le_of_ble_eq_true rfl⟩ rfl rfl (by omega) (by omega) hob4 rfl rfl (Nat.le_of_ble_eq_true rfl) hl.1 dL_law_1418 (hB0.of hS fp_no.base) hM hS (fun q h => Or.inr (by have h9 : (g_s G).heap.size ≤ q := fp_ma.base hA0 q h; omega)) (fun v H1 locs hp hz hk hS => ?_) (fun Ex qx cx H1 locs hp hz hk hS hcx hvx hlx => hp.elim)
  obtain ⟨rfl, hM2⟩ := hp
  have hP := hP.mo X.2.2.2.2.2 hM hA0 hz hk
  have ho := ho.kept (hk out ho.lt hoa)
  have hM := hM2
  clear hM2
  refine r_stk (st2 := [.int (iI ((kc : Nat) : Int))]) rfl ?_
  refine lv_iload hx hb dL_law_1421 (lv_at hl 1 rfl) ?_
  refine lv_icmp_eq (tgt := 1428) hx hb dL_law_1423 (by decide) (fun _ => ?_) (fun h => absurd rfl h)
  refine lv_iload hx hb dL_law_1428 (lv_at hl 1 rfl) ?_
  refine r_if_ne (tgt := 1445) hx hb ⟨by omega, by omega⟩ dL_law_1430 (by decide) (fun hne => ?_) (fun he => ?_)
  · skip
    refine lv_goto (tgt := 3331) hx hb dL_law_1445 (by decide) ?_
    refine W.widen (k := cells + 50006) (n := slots + 229018) (by omega) (by omega) ?_
    exact kk _ _ _ _ _ _ (lv_sub hl [2, 3, 4, 5, 6] rfl) hS hP hM ho (hI.same)
  · skip
    have he : kc = 0 := by omega
    refine lv_aload_n hx hb dL_law_1433 rfl (lv_at hl 5 rfl) ?_
    refine lv_iconst (v := (iI ((0 : Nat) : Int))) hx hb dL_law_1434 rfl ?_
    refine r_laldI (j := 0) X ho rfl (by decide) (by decide) dL_law_1435 ?_
    refine lv_iload hx hb dL_law_1436 (lv_at hl 0 rfl) ?_
    refine lv_i2l (v := (iI r).toInt64) hx hb dL_law_1438 rfl ?_
    refine r_lcmpE X (by rw [hg2 he, hr he]) dL_law_1439 ?_
    refine lv_if_eq (tgt := 1445) hx hb dL_law_1440 (by decide) (fun _ => ?_) (fun h => absurd rfl h)
    refine lv_goto (tgt := 3331) hx hb dL_law_1445 (by decide) ?_
    refine W.widen (k := cells + 50006) (n := slots + 229018) (by omega) (by omega) ?_
    exact kk _ _ _ _ _ _ (lv_sub hl [2, 3, 4, 5, 6] rfl) hS hP hM ho (hI.same)
set_option maxHeartbeats 1000000 in
theorem lc_19 {G : fp_G} {pg : Program} {en : Env} {rR : Room} {s : State} {mi : MethodId} {ag : Array Value} {bl : List Frame} {mt : Method} {cd : Code} {H : Heap} {locs : List Loc} {cells slots : Nat} {qQ : State → Prop} {ls : Array Slot} {b L x out i k MC MS : Nat} {xs : Nat → Int32} {ad : Nat → Nat} {T : TH} {g : Nat → Int64} (X : fp_C G pg s mi ag cd cL_law "FortPlannerLaw" 9) (hR : fp_R rR 8192 104096 MC MS) (hB0 : fp_B G s.heap) (hX : va_X b L xs s s.heap) (hbl : b < s.heap.size) (hL : L ≤ 96) (hi : 4 * i + 4 ≤ L) (hA0 : fp_MA G ad) (hob : (g_s G).heap.size ≤ out) (hoa : ¬ fp_ma ad out) (hl : lv_has ls 9 [(0, .ref (b)), (1, .ref (x)), (2, .ref (ad 0)), (3, .ref (out)), (4, .int (iI ((4 * i : Nat) : Int)))]) (hS : va_S (fA fp_no s.heap.size) s.heap H locs) (hsb : s.heap.size = (g_s G).heap.size) (hc : cells + 50006 ≤ MC) (hs : slots + 229018 ≤ MS) (hP : fp_PW G x (fp_LM ad out) T H) (hM : fp_MC G ad k T H) (ho : fp_At G H out (eJ G 1 g)) (hI : fp_TI i T) (kk : ∀ (H1 : Heap) (locs1 : List Loc) (ls1 : Array Slot) (T1 : TH) (k1 : Nat) (g1 : Nat → Int64), lv_has ls1 9 [(0, .ref (b)), (1, .ref (x)), (2, .ref (ad 0)), (3, .ref (out)), (4, .int (iI ((4 * i : Nat) : Int)))] → va_S (fA fp_no s.heap.size) s.heap H1 locs1 → fp_PW G x (fp_LM ad out) T1 H1 → fp_MC G ad k1 T1 H1 → fp_At G H1 out (eJ G 1 g1) → fp_TJ (i + 1) T1 → W pg (g_l G) en rR s mi ag bl mt cd H1 locs1 (cells + 50006) (slots + 229018) qQ (F0 mi 3331 ls1 [])) : W pg (g_l G) en rR s mi ag bl mt cd H locs cells slots qQ (F0 mi 1448 ls []) := by
  obtain ⟨hx, hb, -⟩ := id X
  refine lv_aload_n hx hb dL_law_1448 rfl (lv_at hl 1 rfl) ?_
  refine lv_aload_n hx hb dL_law_1449 rfl (lv_at hl 0 rfl) ?_
  refine lv_iload hx hb dL_law_1450 (lv_at hl 4 rfl) ?_
  refine lv_iconst (v := (iI ((1 : Nat) : Int))) hx hb dL_law_1452 rfl ?_
  refine r_iaddN hx hb dL_law_1453 ?_
  refine r_scr (j := 4 * i + 1) X hX hbl hS (by omega) hL dL_law_1454 ?_
  refine lv_aload_n hx hb dL_law_1455 rfl (lv_at hl 3 rfl) ?_
  obtain ⟨kc, hkc⟩ : ∃ kc, fp_fc (T.1) (fp_xs xs (4 * i + 1)) = kc := ⟨_, rfl⟩
  refine x_callSH (cells1 := cells + 2) (slots1 := slots + 10) X hR (x0_weight G x (fp_LM ad out) T i out g (fp_xs xs (4 * i + 1)) hI (fp_xs_rg _ _) (Or.inr rfl) hob) q1462 q1463 q87 q1464 pd_X0_weight ⟨Nat.le_of_ble_eq_true rfl, Nat.le_of_ble_eq_true rfl⟩ rfl rfl (by omega) (by omega) rfl (Nat.le_of_ble_eq_true rfl) hl.1 dL_law_1456 (hB0.of hS fp_no.base) ⟨hP, ho⟩ hS (fun q h => Or.inr (by have h9 : (g_s G).heap.size ≤ q := h.1; omega)) (fun v H1 locs hp hz hk hS => ?_) (fun Ex qx cx H1 locs hp hz hk hS hcx hvx hlx => hp.elim)
  obtain ⟨g2, rfl, hg2, hP, ho⟩ := hp
  have hM := hM.keep hk (fun q hq h => h.2.elim (fun z => z (Or.inl hq)) (fun z => hoa (z ▸ hq)))
  refine r_stk (st2 := [.int (iI ((fp_fc (T.1) (fp_xs xs (4 * i + 1)) : Nat) : Int))]) rfl ?_
  have hkb : kc ≤ 2 := by rw [← hkc]; unfold fp_fc; (repeat' split) <;> omega
  rw [hkc] at hg2 ⊢
  refine lv_istore (lv' := [(5, .int (iI ((kc : Nat) : Int))), (0, .ref (b)), (1, .ref (x)), (2, .ref (ad 0)), (3, .ref (out)), (4, .int (iI ((4 * i : Nat) : Int)))]) hx hb dL_law_1459 hl (by decide) rfl (fun ls hl => ?_)
  refine lv_aload_n hx hb dL_law_1461 rfl (lv_at hl 3 rfl) ?_
  refine lv_aload_n hx hb dL_law_1462 rfl (lv_at hl 1 rfl) ?_
  refine lv_iload hx hb dL_law_1463 (lv_at hl 5 rfl) ?_
  refine lv_iconst (v := (iI ((1 : Nat) : Int))) hx hb dL_law_1465 rfl ?_
  refine r_iaddN hx hb dL_law_1466 ?_
  refine r_scr (j := 4 * i + 1) X hX hbl hS (by omega) hL dL_law_1467 ?_
  obtain ⟨fs3, hob3⟩ := hM.ob
  refine x_callV (cells1 := (cells + 2)) (slots1 := (slots + 10)) X hR (mm_weight G ad _ T i (fp_xs xs (4 * i + 1)) hA0 hI (fp_xs_rg _ _)) q2277 q2278 q2279 q100 q2280 ⟨rfl, pd_X4_weight⟩ ⟨Nat.le_of_ble_eq_true rfl, Nat.le_of_ble_eq_true rfl⟩ rfl rfl (by omega) (by omega) hob3 rfl rfl (Nat.le_of_ble_eq_true rfl) hl.1 dL_law_1468 (hB0.of hS fp_no.base) hM hS (fun q h => Or.inr (by have h9 : (g_s G).heap.size ≤ q := fp_ma.base hA0 q h; omega)) (fun v H1 locs hp hz hk hS => ?_) (fun Ex qx cx H1 locs hp hz hk hS hcx hvx hlx => hp.elim)
  obtain ⟨r, rfl, hr, hM2⟩ := hp
  have hP := hP.mo X.2.2.2.2.2 hM hA0 hz hk
  have ho := ho.kept (hk out ho.lt hoa)
  have hM := hM2
  clear hM2
  rw [hkc] at hr hM
  refine r_stk (st2 := [.int (iI (r))]) rfl ?_
  refine lv_istore (lv' := [(6, .int (iI (r))), (5, .int (iI ((kc : Nat) : Int))), (0, .ref (b)), (1, .ref (x)), (2, .ref (ad 0)), (3, .ref (out)), (4, .int (iI ((4 * i : Nat) : Int)))]) hx hb dL_law_1471 hl (by decide) rfl (fun ls hl => ?_)
  refine lv_aload_n hx hb dL_law_1473 rfl (lv_at hl 4 rfl) ?_
  obtain ⟨fs4, hob4⟩ := hM.ob
  refine x_callV (cells1 := (cells + 2)) (slots1 := (slots + 10)) X hR (mm_thrown G ad _ _ hA0) q2079 q2080 q2081 q100 q2082 ⟨rfl, pd_X4_thrown⟩ ⟨Nat.le_of_ble_eq_true rfl, Nat.le_of_ble_eq_true rfl⟩ rfl rfl (by omega) (by omega) hob4 rfl rfl (Nat.le_of_ble_eq_true rfl) hl.1 dL_law_1474 (hB0.of hS fp_no.base) hM hS (fun q h => Or.inr (by have h9 : (g_s G).heap.size ≤ q := fp_ma.base hA0 q h; omega)) (fun v H1 locs hp hz hk hS => ?_) (fun Ex qx cx H1 locs hp hz hk hS hcx hvx hlx => hp.elim)
  obtain ⟨rfl, hM2⟩ := hp
  have hP := hP.mo X.2.2.2.2.2 hM hA0 hz hk
  have ho := ho.kept (hk out ho.lt hoa)
  have hM := hM2
  clear hM2
  refine r_stk (st2 := [.int (iI ((kc : Nat) : Int))]) rfl ?_
  refine lv_iload hx hb dL_law_1477 (lv_at hl 1 rfl) ?_
  refine lv_icmp_eq (tgt := 1484) hx hb dL_law_1479 (by decide) (fun _ => ?_) (fun h => absurd rfl h)
  refine lv_iload hx hb dL_law_1484 (lv_at hl 1 rfl) ?_
  refine r_if_ne (tgt := 1501) hx hb ⟨by omega, by omega⟩ dL_law_1486 (by decide) (fun hne => ?_) (fun he => ?_)
  · skip
    refine lv_goto (tgt := 3331) hx hb dL_law_1501 (by decide) ?_
    refine W.widen (k := cells + 50006) (n := slots + 229018) (by omega) (by omega) ?_
    exact kk _ _ _ _ _ _ (lv_sub hl [2, 3, 4, 5, 6] rfl) hS hP hM ho (hI.same)
  · skip
    have he : kc = 0 := by omega
    refine lv_aload_n hx hb dL_law_1489 rfl (lv_at hl 5 rfl) ?_
    refine lv_iconst (v := (iI ((0 : Nat) : Int))) hx hb dL_law_1490 rfl ?_
    refine r_laldI (j := 0) X ho rfl (by decide) (by decide) dL_law_1491 ?_
    refine lv_iload hx hb dL_law_1492 (lv_at hl 0 rfl) ?_
    refine lv_i2l (v := (iI r).toInt64) hx hb dL_law_1494 rfl ?_
    refine r_lcmpE X (by rw [hg2 he, hr he]) dL_law_1495 ?_
    refine lv_if_eq (tgt := 1501) hx hb dL_law_1496 (by decide) (fun _ => ?_) (fun h => absurd rfl h)
    refine lv_goto (tgt := 3331) hx hb dL_law_1501 (by decide) ?_
    refine W.widen (k := cells + 50006) (n := slots + 229018) (by omega) (by omega) ?_
    exact kk _ _ _ _ _ _ (lv_sub hl [2, 3, 4, 5, 6] rfl) hS hP hM ho (hI.same)
set_option maxHeartbeats 1000000 in
theorem lc_20 {G : fp_G} {pg : Program} {en : Env} {rR : Room} {s : State} {mi : MethodId} {ag : Array Value} {bl : List Frame} {mt : Method} {cd : Code} {H : Heap} {locs : List Loc} {cells slots : Nat} {qQ : State → Prop} {ls : Array Slot} {b L x out i k MC MS : Nat} {xs : Nat → Int32} {ad : Nat → Nat} {T : TH} {g : Nat → Int64} (X : fp_C G pg s mi ag cd cL_law "FortPlannerLaw" 9) (hR : fp_R rR 8192 104096 MC MS) (hB0 : fp_B G s.heap) (hX : va_X b L xs s s.heap) (hbl : b < s.heap.size) (hL : L ≤ 96) (hi : 4 * i + 4 ≤ L) (hA0 : fp_MA G ad) (hob : (g_s G).heap.size ≤ out) (hoa : ¬ fp_ma ad out) (hl : lv_has ls 9 [(0, .ref (b)), (1, .ref (x)), (2, .ref (ad 0)), (3, .ref (out)), (4, .int (iI ((4 * i : Nat) : Int)))]) (hS : va_S (fA fp_no s.heap.size) s.heap H locs) (hsb : s.heap.size = (g_s G).heap.size) (hc : cells + 50006 ≤ MC) (hs : slots + 229018 ≤ MS) (hP : fp_PW G x (fp_LM ad out) T H) (hM : fp_MC G ad k T H) (ho : fp_At G H out (eJ G 1 g)) (hI : fp_TI i T) (kk : ∀ (H1 : Heap) (locs1 : List Loc) (ls1 : Array Slot) (T1 : TH) (k1 : Nat) (g1 : Nat → Int64), lv_has ls1 9 [(0, .ref (b)), (1, .ref (x)), (2, .ref (ad 0)), (3, .ref (out)), (4, .int (iI ((4 * i : Nat) : Int)))] → va_S (fA fp_no s.heap.size) s.heap H1 locs1 → fp_PW G x (fp_LM ad out) T1 H1 → fp_MC G ad k1 T1 H1 → fp_At G H1 out (eJ G 1 g1) → fp_TJ (i + 1) T1 → W pg (g_l G) en rR s mi ag bl mt cd H1 locs1 (cells + 50006) (slots + 229018) qQ (F0 mi 3331 ls1 [])) : W pg (g_l G) en rR s mi ag bl mt cd H locs cells slots qQ (F0 mi 1504 ls []) := by
  obtain ⟨hx, hb, -⟩ := id X
  refine lv_aload_n hx hb dL_law_1504 rfl (lv_at hl 1 rfl) ?_
  refine lv_aload_n hx hb dL_law_1505 rfl (lv_at hl 0 rfl) ?_
  refine lv_iload hx hb dL_law_1506 (lv_at hl 4 rfl) ?_
  refine lv_iconst (v := (iI ((1 : Nat) : Int))) hx hb dL_law_1508 rfl ?_
  refine r_iaddN hx hb dL_law_1509 ?_
  refine r_scr (j := 4 * i + 1) X hX hbl hS (by omega) hL dL_law_1510 ?_
  refine lv_aload_n hx hb dL_law_1511 rfl (lv_at hl 3 rfl) ?_
  obtain ⟨kc, hkc⟩ : ∃ kc, fp_fc (T.1) (fp_xs xs (4 * i + 1)) = kc := ⟨_, rfl⟩
  refine x_callSH (cells1 := cells + 2) (slots1 := slots + 10) X hR (x0_strength G x (fp_LM ad out) T i out g (fp_xs xs (4 * i + 1)) hI (fp_xs_rg _ _) (Or.inr rfl) hob) q1469 q1470 q87 q1471 pd_X0_strength ⟨Nat.le_of_ble_eq_true rfl, Nat.le_of_ble_eq_true rfl⟩ rfl rfl (by omega) (by omega) rfl (Nat.le_of_ble_eq_true rfl) hl.1 dL_law_1512 (hB0.of hS fp_no.base) ⟨hP, ho⟩ hS (fun q h => Or.inr (by have h9 : (g_s G).heap.size ≤ q := h.1; omega)) (fun v H1 locs hp hz hk hS => ?_) (fun Ex qx cx H1 locs hp hz hk hS hcx hvx hlx => hp.elim)
  obtain ⟨g2, rfl, hg2, hP, ho⟩ := hp
  have hM := hM.keep hk (fun q hq h => h.2.elim (fun z => z (Or.inl hq)) (fun z => hoa (z ▸ hq)))
  refine r_stk (st2 := [.int (iI ((fp_fc (T.1) (fp_xs xs (4 * i + 1)) : Nat) : Int))]) rfl ?_
  have hkb : kc ≤ 2 := by rw [← hkc]; unfold fp_fc; (repeat' split) <;> omega
  rw [hkc] at hg2 ⊢
  refine lv_istore (lv' := [(5, .int (iI ((kc : Nat) : Int))), (0, .ref (b)), (1, .ref (x)), (2, .ref (ad 0)), (3, .ref (out)), (4, .int (iI ((4 * i : Nat) : Int)))]) hx hb dL_law_1515 hl (by decide) rfl (fun ls hl => ?_)
  refine lv_aload_n hx hb dL_law_1517 rfl (lv_at hl 3 rfl) ?_
  refine lv_aload_n hx hb dL_law_1518 rfl (lv_at hl 1 rfl) ?_
  refine lv_iload hx hb dL_law_1519 (lv_at hl 5 rfl) ?_
  refine lv_iconst (v := (iI ((1 : Nat) : Int))) hx hb dL_law_1521 rfl ?_
  refine r_iaddN hx hb dL_law_1522 ?_
  refine r_scr (j := 4 * i + 1) X hX hbl hS (by omega) hL dL_law_1523 ?_
  obtain ⟨fs3, hob3⟩ := hM.ob
  refine x_callV (cells1 := (cells + 2)) (slots1 := (slots + 10)) X hR (mm_strength G ad _ T i (fp_xs xs (4 * i + 1)) hA0 hI (fp_xs_rg _ _)) q2281 q2282 q2283 q100 q2284 ⟨rfl, pd_X4_strength⟩ ⟨Nat.le_of_ble_eq_true rfl, Nat.le_of_ble_eq_true rfl⟩ rfl rfl (by omega) (by omega) hob3 rfl rfl (Nat.le_of_ble_eq_true rfl) hl.1 dL_law_1524 (hB0.of hS fp_no.base) hM hS (fun q h => Or.inr (by have h9 : (g_s G).heap.size ≤ q := fp_ma.base hA0 q h; omega)) (fun v H1 locs hp hz hk hS => ?_) (fun Ex qx cx H1 locs hp hz hk hS hcx hvx hlx => hp.elim)
  obtain ⟨r, rfl, hr, hM2⟩ := hp
  have hP := hP.mo X.2.2.2.2.2 hM hA0 hz hk
  have ho := ho.kept (hk out ho.lt hoa)
  have hM := hM2
  clear hM2
  rw [hkc] at hr hM
  refine r_stk (st2 := [.int (iI (r))]) rfl ?_
  refine lv_istore (lv' := [(6, .int (iI (r))), (5, .int (iI ((kc : Nat) : Int))), (0, .ref (b)), (1, .ref (x)), (2, .ref (ad 0)), (3, .ref (out)), (4, .int (iI ((4 * i : Nat) : Int)))]) hx hb dL_law_1527 hl (by decide) rfl (fun ls hl => ?_)
  refine lv_aload_n hx hb dL_law_1529 rfl (lv_at hl 4 rfl) ?_
  obtain ⟨fs4, hob4⟩ := hM.ob
  refine x_callV (cells1 := (cells + 2)) (slots1 := (slots + 10)) X hR (mm_thrown G ad _ _ hA0) q2079 q2080 q2081 q100 q2082 ⟨rfl, pd_X4_thrown⟩ ⟨Nat.le_of_ble_eq_true rfl, Nat.le_of_ble_eq_true rfl⟩ rfl rfl (by omega) (by omega) hob4 rfl rfl (Nat.le_of_ble_eq_true rfl) hl.1 dL_law_1530 (hB0.of hS fp_no.base) hM hS (fun q h => Or.inr (by have h9 : (g_s G).heap.size ≤ q := fp_ma.base hA0 q h; omega)) (fun v H1 locs hp hz hk hS => ?_) (fun Ex qx cx H1 locs hp hz hk hS hcx hvx hlx => hp.elim)
  obtain ⟨rfl, hM2⟩ := hp
  have hP := hP.mo X.2.2.2.2.2 hM hA0 hz hk
  have ho := ho.kept (hk out ho.lt hoa)
  have hM := hM2
  clear hM2
  refine r_stk (st2 := [.int (iI ((kc : Nat) : Int))]) rfl ?_
  refine lv_iload hx hb dL_law_1533 (lv_at hl 1 rfl) ?_
  refine lv_icmp_eq (tgt := 1540) hx hb dL_law_1535 (by decide) (fun _ => ?_) (fun h => absurd rfl h)
  refine lv_iload hx hb dL_law_1540 (lv_at hl 1 rfl) ?_
  refine r_if_ne (tgt := 1557) hx hb ⟨by omega, by omega⟩ dL_law_1542 (by decide) (fun hne => ?_) (fun he => ?_)
  · skip
    refine lv_goto (tgt := 3331) hx hb dL_law_1557 (by decide) ?_
    refine W.widen (k := cells + 50006) (n := slots + 229018) (by omega) (by omega) ?_
    exact kk _ _ _ _ _ _ (lv_sub hl [2, 3, 4, 5, 6] rfl) hS hP hM ho (hI.same)
  · skip
    have he : kc = 0 := by omega
    refine lv_aload_n hx hb dL_law_1545 rfl (lv_at hl 5 rfl) ?_
    refine lv_iconst (v := (iI ((0 : Nat) : Int))) hx hb dL_law_1546 rfl ?_
    refine r_laldI (j := 0) X ho rfl (by decide) (by decide) dL_law_1547 ?_
    refine lv_iload hx hb dL_law_1548 (lv_at hl 0 rfl) ?_
    refine lv_i2l (v := (iI r).toInt64) hx hb dL_law_1550 rfl ?_
    refine r_lcmpE X (by rw [hg2 he, hr he]) dL_law_1551 ?_
    refine lv_if_eq (tgt := 1557) hx hb dL_law_1552 (by decide) (fun _ => ?_) (fun h => absurd rfl h)
    refine lv_goto (tgt := 3331) hx hb dL_law_1557 (by decide) ?_
    refine W.widen (k := cells + 50006) (n := slots + 229018) (by omega) (by omega) ?_
    exact kk _ _ _ _ _ _ (lv_sub hl [2, 3, 4, 5, 6] rfl) hS hP hM ho (hI.same)
set_option maxHeartbeats 1000000 in
theorem lc_21 {G : fp_G} {pg : Program} {en : Env} {rR : Room} {s : State} {mi : MethodId} {ag : Array Value} {bl : List Frame} {mt : Method} {cd : Code} {H : Heap} {locs : List Loc} {cells slots : Nat} {qQ : State → Prop} {ls : Array Slot} {b L x out i k MC MS : Nat} {xs : Nat → Int32} {ad : Nat → Nat} {T : TH} {g : Nat → Int64} (X : fp_C G pg s mi ag cd cL_law "FortPlannerLaw" 9) (hR : fp_R rR 8192 104096 MC MS) (hB0 : fp_B G s.heap) (hX : va_X b L xs s s.heap) (hbl : b < s.heap.size) (hL : L ≤ 96) (hi : 4 * i + 4 ≤ L) (hA0 : fp_MA G ad) (hob : (g_s G).heap.size ≤ out) (hoa : ¬ fp_ma ad out) (hl : lv_has ls 9 [(0, .ref (b)), (1, .ref (x)), (2, .ref (ad 0)), (3, .ref (out)), (4, .int (iI ((4 * i : Nat) : Int)))]) (hS : va_S (fA fp_no s.heap.size) s.heap H locs) (hsb : s.heap.size = (g_s G).heap.size) (hc : cells + 50006 ≤ MC) (hs : slots + 229018 ≤ MS) (hP : fp_PW G x (fp_LM ad out) T H) (hM : fp_MC G ad k T H) (ho : fp_At G H out (eJ G 1 g)) (hI : fp_TI i T) (kk : ∀ (H1 : Heap) (locs1 : List Loc) (ls1 : Array Slot) (T1 : TH) (k1 : Nat) (g1 : Nat → Int64), lv_has ls1 9 [(0, .ref (b)), (1, .ref (x)), (2, .ref (ad 0)), (3, .ref (out)), (4, .int (iI ((4 * i : Nat) : Int)))] → va_S (fA fp_no s.heap.size) s.heap H1 locs1 → fp_PW G x (fp_LM ad out) T1 H1 → fp_MC G ad k1 T1 H1 → fp_At G H1 out (eJ G 1 g1) → fp_TJ (i + 1) T1 → W pg (g_l G) en rR s mi ag bl mt cd H1 locs1 (cells + 50006) (slots + 229018) qQ (F0 mi 3331 ls1 [])) : W pg (g_l G) en rR s mi ag bl mt cd H locs cells slots qQ (F0 mi 1560 ls []) := by
  obtain ⟨hx, hb, -⟩ := id X
  refine lv_aload_n hx hb dL_law_1560 rfl (lv_at hl 1 rfl) ?_
  refine lv_aload_n hx hb dL_law_1561 rfl (lv_at hl 0 rfl) ?_
  refine lv_iload hx hb dL_law_1562 (lv_at hl 4 rfl) ?_
  refine lv_iconst (v := (iI ((1 : Nat) : Int))) hx hb dL_law_1564 rfl ?_
  refine r_iaddN hx hb dL_law_1565 ?_
  refine r_scr (j := 4 * i + 1) X hX hbl hS (by omega) hL dL_law_1566 ?_
  refine lv_aload_n hx hb dL_law_1567 rfl (lv_at hl 3 rfl) ?_
  obtain ⟨kc, hkc⟩ : ∃ kc, fp_fc (T.1) (fp_xs xs (4 * i + 1)) = kc := ⟨_, rfl⟩
  refine x_callSH (cells1 := cells + 2) (slots1 := slots + 10) X hR (x0_bottom G x (fp_LM ad out) T i out g (fp_xs xs (4 * i + 1)) hI (fp_xs_rg _ _) (Or.inr rfl) hob) q1477 q1478 q87 q1479 pd_X0_bottom ⟨Nat.le_of_ble_eq_true rfl, Nat.le_of_ble_eq_true rfl⟩ rfl rfl (by omega) (by omega) rfl (Nat.le_of_ble_eq_true rfl) hl.1 dL_law_1568 (hB0.of hS fp_no.base) ⟨hP, ho⟩ hS (fun q h => Or.inr (by have h9 : (g_s G).heap.size ≤ q := h.1; omega)) (fun v H1 locs hp hz hk hS => ?_) (fun Ex qx cx H1 locs hp hz hk hS hcx hvx hlx => hp.elim)
  obtain ⟨g2, rfl, hg2, hP, ho⟩ := hp
  have hM := hM.keep hk (fun q hq h => h.2.elim (fun z => z (Or.inl hq)) (fun z => hoa (z ▸ hq)))
  refine r_stk (st2 := [.int (iI ((fp_fc (T.1) (fp_xs xs (4 * i + 1)) : Nat) : Int))]) rfl ?_
  have hkb : kc ≤ 2 := by rw [← hkc]; unfold fp_fc; (repeat' split) <;> omega
  rw [hkc] at hg2 ⊢
  refine lv_istore (lv' := [(5, .int (iI ((kc : Nat) : Int))), (0, .ref (b)), (1, .ref (x)), (2, .ref (ad 0)), (3, .ref (out)), (4, .int (iI ((4 * i : Nat) : Int)))]) hx hb dL_law_1571 hl (by decide) rfl (fun ls hl => ?_)
  refine lv_aload_n hx hb dL_law_1573 rfl (lv_at hl 3 rfl) ?_
  refine lv_aload_n hx hb dL_law_1574 rfl (lv_at hl 1 rfl) ?_
  refine lv_iload hx hb dL_law_1575 (lv_at hl 5 rfl) ?_
  refine lv_iconst (v := (iI ((1 : Nat) : Int))) hx hb dL_law_1577 rfl ?_
  refine r_iaddN hx hb dL_law_1578 ?_
  refine r_scr (j := 4 * i + 1) X hX hbl hS (by omega) hL dL_law_1579 ?_
  obtain ⟨fs3, hob3⟩ := hM.ob
  refine x_callV (cells1 := (cells + 2)) (slots1 := (slots + 10)) X hR (mm_bottom G ad _ T i (fp_xs xs (4 * i + 1)) hA0 hI (fp_xs_rg _ _)) q2285 q2286 q2287 q100 q2288 ⟨rfl, pd_X4_bottom⟩ ⟨Nat.le_of_ble_eq_true rfl, Nat.le_of_ble_eq_true rfl⟩ rfl rfl (by omega) (by omega) hob3 rfl rfl (Nat.le_of_ble_eq_true rfl) hl.1 dL_law_1580 (hB0.of hS fp_no.base) hM hS (fun q h => Or.inr (by have h9 : (g_s G).heap.size ≤ q := fp_ma.base hA0 q h; omega)) (fun v H1 locs hp hz hk hS => ?_) (fun Ex qx cx H1 locs hp hz hk hS hcx hvx hlx => hp.elim)
  obtain ⟨r, rfl, hr, hM2⟩ := hp
  have hP := hP.mo X.2.2.2.2.2 hM hA0 hz hk
  have ho := ho.kept (hk out ho.lt hoa)
  have hM := hM2
  clear hM2
  rw [hkc] at hr hM
  refine r_stk (st2 := [.int (iI (r))]) rfl ?_
  refine lv_istore (lv' := [(6, .int (iI (r))), (5, .int (iI ((kc : Nat) : Int))), (0, .ref (b)), (1, .ref (x)), (2, .ref (ad 0)), (3, .ref (out)), (4, .int (iI ((4 * i : Nat) : Int)))]) hx hb dL_law_1583 hl (by decide) rfl (fun ls hl => ?_)
  refine lv_aload_n hx hb dL_law_1585 rfl (lv_at hl 4 rfl) ?_
  obtain ⟨fs4, hob4⟩ := hM.ob
  refine x_callV (cells1 := (cells + 2)) (slots1 := (slots + 10)) X hR (mm_thrown G ad _ _ hA0) q2079 q2080 q2081 q100 q2082 ⟨rfl, pd_X4_thrown⟩ ⟨Nat.le_of_ble_eq_true rfl, Nat.le_of_ble_eq_true rfl⟩ rfl rfl (by omega) (by omega) hob4 rfl rfl (Nat.le_of_ble_eq_true rfl) hl.1 dL_law_1586 (hB0.of hS fp_no.base) hM hS (fun q h => Or.inr (by have h9 : (g_s G).heap.size ≤ q := fp_ma.base hA0 q h; omega)) (fun v H1 locs hp hz hk hS => ?_) (fun Ex qx cx H1 locs hp hz hk hS hcx hvx hlx => hp.elim)
  obtain ⟨rfl, hM2⟩ := hp
  have hP := hP.mo X.2.2.2.2.2 hM hA0 hz hk
  have ho := ho.kept (hk out ho.lt hoa)
  have hM := hM2
  clear hM2
  refine r_stk (st2 := [.int (iI ((kc : Nat) : Int))]) rfl ?_
  refine lv_iload hx hb dL_law_1589 (lv_at hl 1 rfl) ?_
  refine lv_icmp_eq (tgt := 1596) hx hb dL_law_1591 (by decide) (fun _ => ?_) (fun h => absurd rfl h)
  refine lv_iload hx hb dL_law_1596 (lv_at hl 1 rfl) ?_
  refine r_if_ne (tgt := 1613) hx hb ⟨by omega, by omega⟩ dL_law_1598 (by decide) (fun hne => ?_) (fun he => ?_)
  · skip
    refine lv_goto (tgt := 3331) hx hb dL_law_1613 (by decide) ?_
    refine W.widen (k := cells + 50006) (n := slots + 229018) (by omega) (by omega) ?_
    exact kk _ _ _ _ _ _ (lv_sub hl [2, 3, 4, 5, 6] rfl) hS hP hM ho (hI.same)
  · skip
    have he : kc = 0 := by omega
    refine lv_aload_n hx hb dL_law_1601 rfl (lv_at hl 5 rfl) ?_
    refine lv_iconst (v := (iI ((0 : Nat) : Int))) hx hb dL_law_1602 rfl ?_
    refine r_laldI (j := 0) X ho rfl (by decide) (by decide) dL_law_1603 ?_
    refine lv_iload hx hb dL_law_1604 (lv_at hl 0 rfl) ?_
    refine lv_i2l (v := (iI r).toInt64) hx hb dL_law_1606 rfl ?_
    refine r_lcmpE X (by rw [hg2 he, hr he]) dL_law_1607 ?_
    refine lv_if_eq (tgt := 1613) hx hb dL_law_1608 (by decide) (fun _ => ?_) (fun h => absurd rfl h)
    refine lv_goto (tgt := 3331) hx hb dL_law_1613 (by decide) ?_
    refine W.widen (k := cells + 50006) (n := slots + 229018) (by omega) (by omega) ?_
    exact kk _ _ _ _ _ _ (lv_sub hl [2, 3, 4, 5, 6] rfl) hS hP hM ho (hI.same)
set_option maxHeartbeats 1000000 in
theorem lc_22 {G : fp_G} {pg : Program} {en : Env} {rR : Room} {s : State} {mi : MethodId} {ag : Array Value} {bl : List Frame} {mt : Method} {cd : Code} {H : Heap} {locs : List Loc} {cells slots : Nat} {qQ : State → Prop} {ls : Array Slot} {b L x out i k MC MS : Nat} {xs : Nat → Int32} {ad : Nat → Nat} {T : TH} {g : Nat → Int64} (X : fp_C G pg s mi ag cd cL_law "FortPlannerLaw" 9) (hR : fp_R rR 8192 104096 MC MS) (hB0 : fp_B G s.heap) (hX : va_X b L xs s s.heap) (hbl : b < s.heap.size) (hL : L ≤ 96) (hi : 4 * i + 4 ≤ L) (hA0 : fp_MA G ad) (hob : (g_s G).heap.size ≤ out) (hoa : ¬ fp_ma ad out) (hl : lv_has ls 9 [(0, .ref (b)), (1, .ref (x)), (2, .ref (ad 0)), (3, .ref (out)), (4, .int (iI ((4 * i : Nat) : Int)))]) (hS : va_S (fA fp_no s.heap.size) s.heap H locs) (hsb : s.heap.size = (g_s G).heap.size) (hc : cells + 50006 ≤ MC) (hs : slots + 229018 ≤ MS) (hP : fp_PW G x (fp_LM ad out) T H) (hM : fp_MC G ad k T H) (ho : fp_At G H out (eJ G 1 g)) (hI : fp_TI i T) (kk : ∀ (H1 : Heap) (locs1 : List Loc) (ls1 : Array Slot) (T1 : TH) (k1 : Nat) (g1 : Nat → Int64), lv_has ls1 9 [(0, .ref (b)), (1, .ref (x)), (2, .ref (ad 0)), (3, .ref (out)), (4, .int (iI ((4 * i : Nat) : Int)))] → va_S (fA fp_no s.heap.size) s.heap H1 locs1 → fp_PW G x (fp_LM ad out) T1 H1 → fp_MC G ad k1 T1 H1 → fp_At G H1 out (eJ G 1 g1) → fp_TJ (i + 1) T1 → W pg (g_l G) en rR s mi ag bl mt cd H1 locs1 (cells + 50006) (slots + 229018) qQ (F0 mi 3331 ls1 [])) : W pg (g_l G) en rR s mi ag bl mt cd H locs cells slots qQ (F0 mi 1616 ls []) := by
  obtain ⟨hx, hb, -⟩ := id X
  refine lv_aload_n hx hb dL_law_1616 rfl (lv_at hl 1 rfl) ?_
  refine lv_aload_n hx hb dL_law_1617 rfl (lv_at hl 0 rfl) ?_
  refine lv_iload hx hb dL_law_1618 (lv_at hl 4 rfl) ?_
  refine lv_iconst (v := (iI ((1 : Nat) : Int))) hx hb dL_law_1620 rfl ?_
  refine r_iaddN hx hb dL_law_1621 ?_
  refine r_scr (j := 4 * i + 1) X hX hbl hS (by omega) hL dL_law_1622 ?_
  refine lv_aload_n hx hb dL_law_1623 rfl (lv_at hl 3 rfl) ?_
  obtain ⟨kc, hkc⟩ : ∃ kc, fp_fc (T.1) (fp_xs xs (4 * i + 1)) = kc := ⟨_, rfl⟩
  refine x_callSH (cells1 := cells + 2) (slots1 := slots + 10) X hR (x0_top G x (fp_LM ad out) T i out g (fp_xs xs (4 * i + 1)) hI (fp_xs_rg _ _) (Or.inr rfl) hob) q1484 q1485 q87 q1486 pd_X0_top ⟨Nat.le_of_ble_eq_true rfl, Nat.le_of_ble_eq_true rfl⟩ rfl rfl (by omega) (by omega) rfl (Nat.le_of_ble_eq_true rfl) hl.1 dL_law_1624 (hB0.of hS fp_no.base) ⟨hP, ho⟩ hS (fun q h => Or.inr (by have h9 : (g_s G).heap.size ≤ q := h.1; omega)) (fun v H1 locs hp hz hk hS => ?_) (fun Ex qx cx H1 locs hp hz hk hS hcx hvx hlx => hp.elim)
  obtain ⟨g2, rfl, hg2, hP, ho⟩ := hp
  have hM := hM.keep hk (fun q hq h => h.2.elim (fun z => z (Or.inl hq)) (fun z => hoa (z ▸ hq)))
  refine r_stk (st2 := [.int (iI ((fp_fc (T.1) (fp_xs xs (4 * i + 1)) : Nat) : Int))]) rfl ?_
  have hkb : kc ≤ 2 := by rw [← hkc]; unfold fp_fc; (repeat' split) <;> omega
  rw [hkc] at hg2 ⊢
  refine lv_istore (lv' := [(5, .int (iI ((kc : Nat) : Int))), (0, .ref (b)), (1, .ref (x)), (2, .ref (ad 0)), (3, .ref (out)), (4, .int (iI ((4 * i : Nat) : Int)))]) hx hb dL_law_1627 hl (by decide) rfl (fun ls hl => ?_)
  refine lv_aload_n hx hb dL_law_1629 rfl (lv_at hl 3 rfl) ?_
  refine lv_aload_n hx hb dL_law_1630 rfl (lv_at hl 1 rfl) ?_
  refine lv_iload hx hb dL_law_1631 (lv_at hl 5 rfl) ?_
  refine lv_iconst (v := (iI ((1 : Nat) : Int))) hx hb dL_law_1633 rfl ?_
  refine r_iaddN hx hb dL_law_1634 ?_
  refine r_scr (j := 4 * i + 1) X hX hbl hS (by omega) hL dL_law_1635 ?_
  obtain ⟨fs3, hob3⟩ := hM.ob
  refine x_callV (cells1 := (cells + 2)) (slots1 := (slots + 10)) X hR (mm_top G ad _ T i (fp_xs xs (4 * i + 1)) hA0 hI (fp_xs_rg _ _)) q2289 q2290 q2291 q100 q2292 ⟨rfl, pd_X4_top⟩ ⟨Nat.le_of_ble_eq_true rfl, Nat.le_of_ble_eq_true rfl⟩ rfl rfl (by omega) (by omega) hob3 rfl rfl (Nat.le_of_ble_eq_true rfl) hl.1 dL_law_1636 (hB0.of hS fp_no.base) hM hS (fun q h => Or.inr (by have h9 : (g_s G).heap.size ≤ q := fp_ma.base hA0 q h; omega)) (fun v H1 locs hp hz hk hS => ?_) (fun Ex qx cx H1 locs hp hz hk hS hcx hvx hlx => hp.elim)
  obtain ⟨r, rfl, hr, hM2⟩ := hp
  have hP := hP.mo X.2.2.2.2.2 hM hA0 hz hk
  have ho := ho.kept (hk out ho.lt hoa)
  have hM := hM2
  clear hM2
  rw [hkc] at hr hM
  refine r_stk (st2 := [.int (iI (r))]) rfl ?_
  refine lv_istore (lv' := [(6, .int (iI (r))), (5, .int (iI ((kc : Nat) : Int))), (0, .ref (b)), (1, .ref (x)), (2, .ref (ad 0)), (3, .ref (out)), (4, .int (iI ((4 * i : Nat) : Int)))]) hx hb dL_law_1639 hl (by decide) rfl (fun ls hl => ?_)
  refine lv_aload_n hx hb dL_law_1641 rfl (lv_at hl 4 rfl) ?_
  obtain ⟨fs4, hob4⟩ := hM.ob
  refine x_callV (cells1 := (cells + 2)) (slots1 := (slots + 10)) X hR (mm_thrown G ad _ _ hA0) q2079 q2080 q2081 q100 q2082 ⟨rfl, pd_X4_thrown⟩ ⟨Nat.le_of_ble_eq_true rfl, Nat.le_of_ble_eq_true rfl⟩ rfl rfl (by omega) (by omega) hob4 rfl rfl (Nat.le_of_ble_eq_true rfl) hl.1 dL_law_1642 (hB0.of hS fp_no.base) hM hS (fun q h => Or.inr (by have h9 : (g_s G).heap.size ≤ q := fp_ma.base hA0 q h; omega)) (fun v H1 locs hp hz hk hS => ?_) (fun Ex qx cx H1 locs hp hz hk hS hcx hvx hlx => hp.elim)
  obtain ⟨rfl, hM2⟩ := hp
  have hP := hP.mo X.2.2.2.2.2 hM hA0 hz hk
  have ho := ho.kept (hk out ho.lt hoa)
  have hM := hM2
  clear hM2
  refine r_stk (st2 := [.int (iI ((kc : Nat) : Int))]) rfl ?_
  refine lv_iload hx hb dL_law_1645 (lv_at hl 1 rfl) ?_
  refine lv_icmp_eq (tgt := 1652) hx hb dL_law_1647 (by decide) (fun _ => ?_) (fun h => absurd rfl h)
  refine lv_iload hx hb dL_law_1652 (lv_at hl 1 rfl) ?_
  refine r_if_ne (tgt := 1669) hx hb ⟨by omega, by omega⟩ dL_law_1654 (by decide) (fun hne => ?_) (fun he => ?_)
  · skip
    refine lv_goto (tgt := 3331) hx hb dL_law_1669 (by decide) ?_
    refine W.widen (k := cells + 50006) (n := slots + 229018) (by omega) (by omega) ?_
    exact kk _ _ _ _ _ _ (lv_sub hl [2, 3, 4, 5, 6] rfl) hS hP hM ho (hI.same)
  · skip
    have he : kc = 0 := by omega
    refine lv_aload_n hx hb dL_law_1657 rfl (lv_at hl 5 rfl) ?_
    refine lv_iconst (v := (iI ((0 : Nat) : Int))) hx hb dL_law_1658 rfl ?_
    refine r_laldI (j := 0) X ho rfl (by decide) (by decide) dL_law_1659 ?_
    refine lv_iload hx hb dL_law_1660 (lv_at hl 0 rfl) ?_
    refine lv_i2l (v := (iI r).toInt64) hx hb dL_law_1662 rfl ?_
    refine r_lcmpE X (by rw [hg2 he, hr he]) dL_law_1663 ?_
    refine lv_if_eq (tgt := 1669) hx hb dL_law_1664 (by decide) (fun _ => ?_) (fun h => absurd rfl h)
    refine lv_goto (tgt := 3331) hx hb dL_law_1669 (by decide) ?_
    refine W.widen (k := cells + 50006) (n := slots + 229018) (by omega) (by omega) ?_
    exact kk _ _ _ _ _ _ (lv_sub hl [2, 3, 4, 5, 6] rfl) hS hP hM ho (hI.same)
set_option maxHeartbeats 1000000 in
theorem lc_23 {G : fp_G} {pg : Program} {en : Env} {rR : Room} {s : State} {mi : MethodId} {ag : Array Value} {bl : List Frame} {mt : Method} {cd : Code} {H : Heap} {locs : List Loc} {cells slots : Nat} {qQ : State → Prop} {ls : Array Slot} {b L x out i k MC MS : Nat} {xs : Nat → Int32} {ad : Nat → Nat} {T : TH} {g : Nat → Int64} (X : fp_C G pg s mi ag cd cL_law "FortPlannerLaw" 9) (hR : fp_R rR 8192 104096 MC MS) (hB0 : fp_B G s.heap) (hX : va_X b L xs s s.heap) (hbl : b < s.heap.size) (hL : L ≤ 96) (hi : 4 * i + 4 ≤ L) (hA0 : fp_MA G ad) (hob : (g_s G).heap.size ≤ out) (hoa : ¬ fp_ma ad out) (hl : lv_has ls 9 [(0, .ref (b)), (1, .ref (x)), (2, .ref (ad 0)), (3, .ref (out)), (4, .int (iI ((4 * i : Nat) : Int)))]) (hS : va_S (fA fp_no s.heap.size) s.heap H locs) (hsb : s.heap.size = (g_s G).heap.size) (hc : cells + 50006 ≤ MC) (hs : slots + 229018 ≤ MS) (hP : fp_PW G x (fp_LM ad out) T H) (hM : fp_MC G ad k T H) (ho : fp_At G H out (eJ G 1 g)) (hI : fp_TI i T) (kk : ∀ (H1 : Heap) (locs1 : List Loc) (ls1 : Array Slot) (T1 : TH) (k1 : Nat) (g1 : Nat → Int64), lv_has ls1 9 [(0, .ref (b)), (1, .ref (x)), (2, .ref (ad 0)), (3, .ref (out)), (4, .int (iI ((4 * i : Nat) : Int)))] → va_S (fA fp_no s.heap.size) s.heap H1 locs1 → fp_PW G x (fp_LM ad out) T1 H1 → fp_MC G ad k1 T1 H1 → fp_At G H1 out (eJ G 1 g1) → fp_TJ (i + 1) T1 → W pg (g_l G) en rR s mi ag bl mt cd H1 locs1 (cells + 50006) (slots + 229018) qQ (F0 mi 3331 ls1 [])) : W pg (g_l G) en rR s mi ag bl mt cd H locs cells slots qQ (F0 mi 1672 ls []) := by
  obtain ⟨hx, hb, -⟩ := id X
  refine lv_aload_n hx hb dL_law_1672 rfl (lv_at hl 1 rfl) ?_
  refine lv_aload_n hx hb dL_law_1673 rfl (lv_at hl 0 rfl) ?_
  refine lv_iload hx hb dL_law_1674 (lv_at hl 4 rfl) ?_
  refine lv_iconst (v := (iI ((1 : Nat) : Int))) hx hb dL_law_1676 rfl ?_
  refine r_iaddN hx hb dL_law_1677 ?_
  refine r_scr (j := 4 * i + 1) X hX hbl hS (by omega) hL dL_law_1678 ?_
  refine lv_aload_n hx hb dL_law_1679 rfl (lv_at hl 3 rfl) ?_
  obtain ⟨kc, hkc⟩ : ∃ kc, fp_fc (T.1) (fp_xs xs (4 * i + 1)) = kc := ⟨_, rfl⟩
  refine x_callSH (cells1 := cells + 8) (slots1 := slots + 131) X hR (x0_supporterCount G x (fp_LM ad out) T i out g (fp_xs xs (4 * i + 1)) hI (fp_xs_rg _ _) (Or.inr rfl) hob) q1491 q1492 q87 q1493 pd_X0_supporterCount ⟨Nat.le_of_ble_eq_true rfl, Nat.le_of_ble_eq_true rfl⟩ rfl rfl (by omega) (by omega) rfl (Nat.le_of_ble_eq_true rfl) hl.1 dL_law_1680 (hB0.of hS fp_no.base) ⟨hP, ho⟩ hS (fun q h => Or.inr (by have h9 : (g_s G).heap.size ≤ q := h.1; omega)) (fun v H1 locs hp hz hk hS => ?_) (fun Ex qx cx H1 locs hp hz hk hS hcx hvx hlx => hp.elim)
  obtain ⟨g2, rfl, hg2, hP, ho⟩ := hp
  have hM := hM.keep hk (fun q hq h => h.2.elim (fun z => z (Or.inl hq)) (fun z => hoa (z ▸ hq)))
  refine r_stk (st2 := [.int (iI ((fp_fc (T.1) (fp_xs xs (4 * i + 1)) : Nat) : Int))]) rfl ?_
  have hkb : kc ≤ 2 := by rw [← hkc]; unfold fp_fc; (repeat' split) <;> omega
  rw [hkc] at hg2 ⊢
  refine lv_istore (lv' := [(5, .int (iI ((kc : Nat) : Int))), (0, .ref (b)), (1, .ref (x)), (2, .ref (ad 0)), (3, .ref (out)), (4, .int (iI ((4 * i : Nat) : Int)))]) hx hb dL_law_1683 hl (by decide) rfl (fun ls hl => ?_)
  refine lv_aload_n hx hb dL_law_1685 rfl (lv_at hl 3 rfl) ?_
  refine lv_aload_n hx hb dL_law_1686 rfl (lv_at hl 1 rfl) ?_
  refine lv_iload hx hb dL_law_1687 (lv_at hl 5 rfl) ?_
  refine lv_iconst (v := (iI ((1 : Nat) : Int))) hx hb dL_law_1689 rfl ?_
  refine r_iaddN hx hb dL_law_1690 ?_
  refine r_scr (j := 4 * i + 1) X hX hbl hS (by omega) hL dL_law_1691 ?_
  obtain ⟨fs3, hob3⟩ := hM.ob
  refine x_callV (cells1 := (cells + 8)) (slots1 := (slots + 131)) X hR (mm_supporterCount G ad _ T i (fp_xs xs (4 * i + 1)) hA0 hI (fp_xs_rg _ _)) q2293 q2294 q2295 q100 q2296 ⟨rfl, pd_X4_supporterCount⟩ ⟨Nat.le_of_ble_eq_true rfl, Nat.le_of_ble_eq_true rfl⟩ rfl rfl (by omega) (by omega) hob3 rfl rfl (Nat.le_of_ble_eq_true rfl) hl.1 dL_law_1692 (hB0.of hS fp_no.base) hM hS (fun q h => Or.inr (by have h9 : (g_s G).heap.size ≤ q := fp_ma.base hA0 q h; omega)) (fun v H1 locs hp hz hk hS => ?_) (fun Ex qx cx H1 locs hp hz hk hS hcx hvx hlx => hp.elim)
  obtain ⟨r, rfl, hr, hM2⟩ := hp
  have hP := hP.mo X.2.2.2.2.2 hM hA0 hz hk
  have ho := ho.kept (hk out ho.lt hoa)
  have hM := hM2
  clear hM2
  rw [hkc] at hr hM
  refine r_stk (st2 := [.int (iI (r))]) rfl ?_
  refine lv_istore (lv' := [(6, .int (iI (r))), (5, .int (iI ((kc : Nat) : Int))), (0, .ref (b)), (1, .ref (x)), (2, .ref (ad 0)), (3, .ref (out)), (4, .int (iI ((4 * i : Nat) : Int)))]) hx hb dL_law_1695 hl (by decide) rfl (fun ls hl => ?_)
  refine lv_aload_n hx hb dL_law_1697 rfl (lv_at hl 4 rfl) ?_
  obtain ⟨fs4, hob4⟩ := hM.ob
  refine x_callV (cells1 := (cells + 8)) (slots1 := (slots + 131)) X hR (mm_thrown G ad _ _ hA0) q2079 q2080 q2081 q100 q2082 ⟨rfl, pd_X4_thrown⟩ ⟨Nat.le_of_ble_eq_true rfl, Nat.le_of_ble_eq_true rfl⟩ rfl rfl (by omega) (by omega) hob4 rfl rfl (Nat.le_of_ble_eq_true rfl) hl.1 dL_law_1698 (hB0.of hS fp_no.base) hM hS (fun q h => Or.inr (by have h9 : (g_s G).heap.size ≤ q := fp_ma.base hA0 q h; omega)) (fun v H1 locs hp hz hk hS => ?_) (fun Ex qx cx H1 locs hp hz hk hS hcx hvx hlx => hp.elim)
  obtain ⟨rfl, hM2⟩ := hp
  have hP := hP.mo X.2.2.2.2.2 hM hA0 hz hk
  have ho := ho.kept (hk out ho.lt hoa)
  have hM := hM2
  clear hM2
  refine r_stk (st2 := [.int (iI ((kc : Nat) : Int))]) rfl ?_
  refine lv_iload hx hb dL_law_1701 (lv_at hl 1 rfl) ?_
  refine lv_icmp_eq (tgt := 1708) hx hb dL_law_1703 (by decide) (fun _ => ?_) (fun h => absurd rfl h)
  refine lv_iload hx hb dL_law_1708 (lv_at hl 1 rfl) ?_
  refine r_if_ne (tgt := 1725) hx hb ⟨by omega, by omega⟩ dL_law_1710 (by decide) (fun hne => ?_) (fun he => ?_)
  · skip
    refine lv_goto (tgt := 3331) hx hb dL_law_1725 (by decide) ?_
    refine W.widen (k := cells + 50006) (n := slots + 229018) (by omega) (by omega) ?_
    exact kk _ _ _ _ _ _ (lv_sub hl [2, 3, 4, 5, 6] rfl) hS hP hM ho (hI.same)
  · skip
    have he : kc = 0 := by omega
    refine lv_aload_n hx hb dL_law_1713 rfl (lv_at hl 5 rfl) ?_
    refine lv_iconst (v := (iI ((0 : Nat) : Int))) hx hb dL_law_1714 rfl ?_
    refine r_laldI (j := 0) X ho rfl (by decide) (by decide) dL_law_1715 ?_
    refine lv_iload hx hb dL_law_1716 (lv_at hl 0 rfl) ?_
    refine lv_i2l (v := (iI r).toInt64) hx hb dL_law_1718 rfl ?_
    refine r_lcmpE X (by rw [hg2 he, hr he]) dL_law_1719 ?_
    refine lv_if_eq (tgt := 1725) hx hb dL_law_1720 (by decide) (fun _ => ?_) (fun h => absurd rfl h)
    refine lv_goto (tgt := 3331) hx hb dL_law_1725 (by decide) ?_
    refine W.widen (k := cells + 50006) (n := slots + 229018) (by omega) (by omega) ?_
    exact kk _ _ _ _ _ _ (lv_sub hl [2, 3, 4, 5, 6] rfl) hS hP hM ho (hI.same)
set_option maxHeartbeats 1000000 in
theorem lc_24 {G : fp_G} {pg : Program} {en : Env} {rR : Room} {s : State} {mi : MethodId} {ag : Array Value} {bl : List Frame} {mt : Method} {cd : Code} {H : Heap} {locs : List Loc} {cells slots : Nat} {qQ : State → Prop} {ls : Array Slot} {b L x out i k MC MS : Nat} {xs : Nat → Int32} {ad : Nat → Nat} {T : TH} {g : Nat → Int64} (X : fp_C G pg s mi ag cd cL_law "FortPlannerLaw" 9) (hR : fp_R rR 8192 104096 MC MS) (hB0 : fp_B G s.heap) (hX : va_X b L xs s s.heap) (hbl : b < s.heap.size) (hL : L ≤ 96) (hi : 4 * i + 4 ≤ L) (hA0 : fp_MA G ad) (hob : (g_s G).heap.size ≤ out) (hoa : ¬ fp_ma ad out) (hl : lv_has ls 9 [(0, .ref (b)), (1, .ref (x)), (2, .ref (ad 0)), (3, .ref (out)), (4, .int (iI ((4 * i : Nat) : Int)))]) (hS : va_S (fA fp_no s.heap.size) s.heap H locs) (hsb : s.heap.size = (g_s G).heap.size) (hc : cells + 50006 ≤ MC) (hs : slots + 229018 ≤ MS) (hP : fp_PW G x (fp_LM ad out) T H) (hM : fp_MC G ad k T H) (ho : fp_At G H out (eJ G 1 g)) (hI : fp_TI i T) (kk : ∀ (H1 : Heap) (locs1 : List Loc) (ls1 : Array Slot) (T1 : TH) (k1 : Nat) (g1 : Nat → Int64), lv_has ls1 9 [(0, .ref (b)), (1, .ref (x)), (2, .ref (ad 0)), (3, .ref (out)), (4, .int (iI ((4 * i : Nat) : Int)))] → va_S (fA fp_no s.heap.size) s.heap H1 locs1 → fp_PW G x (fp_LM ad out) T1 H1 → fp_MC G ad k1 T1 H1 → fp_At G H1 out (eJ G 1 g1) → fp_TJ (i + 1) T1 → W pg (g_l G) en rR s mi ag bl mt cd H1 locs1 (cells + 50006) (slots + 229018) qQ (F0 mi 3331 ls1 [])) : W pg (g_l G) en rR s mi ag bl mt cd H locs cells slots qQ (F0 mi 1728 ls []) := by
  obtain ⟨hx, hb, -⟩ := id X
  refine lv_aload_n hx hb dL_law_1728 rfl (lv_at hl 1 rfl) ?_
  refine lv_aload_n hx hb dL_law_1729 rfl (lv_at hl 0 rfl) ?_
  refine lv_iload hx hb dL_law_1730 (lv_at hl 4 rfl) ?_
  refine lv_iconst (v := (iI ((1 : Nat) : Int))) hx hb dL_law_1732 rfl ?_
  refine r_iaddN hx hb dL_law_1733 ?_
  refine r_scr (j := 4 * i + 1) X hX hbl hS (by omega) hL dL_law_1734 ?_
  refine lv_aload_n hx hb dL_law_1735 rfl (lv_at hl 0 rfl) ?_
  refine lv_iload hx hb dL_law_1736 (lv_at hl 4 rfl) ?_
  refine lv_iconst (v := (iI ((2 : Nat) : Int))) hx hb dL_law_1738 rfl ?_
  refine r_iaddN hx hb dL_law_1739 ?_
  refine r_scr (j := 4 * i + 2) X hX hbl hS (by omega) hL dL_law_1740 ?_
  refine lv_aload_n hx hb dL_law_1741 rfl (lv_at hl 3 rfl) ?_
  obtain ⟨kc, hkc⟩ : ∃ kc, fp_satc (T.1) (fp_xs xs (4 * i + 1)) (fp_xs xs (4 * i + 2)) = kc := ⟨_, rfl⟩
  refine x_callSH (cells1 := cells + 9) (slots1 := slots + 140) X hR (x0_supporterAt G x (fp_LM ad out) T i out g (fp_xs xs (4 * i + 1)) (fp_xs xs (4 * i + 2)) hI (fp_xs_rg _ _) (fp_xs_rg _ _) (Or.inr rfl) hob) q1499 q1500 q87 q1501 pd_X0_supporterAt ⟨Nat.le_of_ble_eq_true rfl, Nat.le_of_ble_eq_true rfl⟩ rfl rfl (by omega) (by omega) rfl (Nat.le_of_ble_eq_true rfl) hl.1 dL_law_1742 (hB0.of hS fp_no.base) ⟨hP, ho⟩ hS (fun q h => Or.inr (by have h9 : (g_s G).heap.size ≤ q := h.1; omega)) (fun v H1 locs hp hz hk hS => ?_) (fun Ex qx cx H1 locs hp hz hk hS hcx hvx hlx => hp.elim)
  obtain ⟨g2, rfl, hg2, hP, ho⟩ := hp
  have hM := hM.keep hk (fun q hq h => h.2.elim (fun z => z (Or.inl hq)) (fun z => hoa (z ▸ hq)))
  refine r_stk (st2 := [.int (iI ((fp_satc (T.1) (fp_xs xs (4 * i + 1)) (fp_xs xs (4 * i + 2)) : Nat) : Int))]) rfl ?_
  have hkb : kc ≤ 2 := by rw [← hkc]; unfold fp_satc; (repeat' split) <;> omega
  rw [hkc] at hg2 ⊢
  refine lv_istore (lv' := [(5, .int (iI ((kc : Nat) : Int))), (0, .ref (b)), (1, .ref (x)), (2, .ref (ad 0)), (3, .ref (out)), (4, .int (iI ((4 * i : Nat) : Int)))]) hx hb dL_law_1745 hl (by decide) rfl (fun ls hl => ?_)
  refine lv_aload_n hx hb dL_law_1747 rfl (lv_at hl 3 rfl) ?_
  refine lv_aload_n hx hb dL_law_1748 rfl (lv_at hl 1 rfl) ?_
  refine lv_iload hx hb dL_law_1749 (lv_at hl 5 rfl) ?_
  refine lv_iconst (v := (iI ((1 : Nat) : Int))) hx hb dL_law_1751 rfl ?_
  refine r_iaddN hx hb dL_law_1752 ?_
  refine r_scr (j := 4 * i + 1) X hX hbl hS (by omega) hL dL_law_1753 ?_
  refine lv_aload_n hx hb dL_law_1754 rfl (lv_at hl 1 rfl) ?_
  refine lv_iload hx hb dL_law_1755 (lv_at hl 5 rfl) ?_
  refine lv_iconst (v := (iI ((2 : Nat) : Int))) hx hb dL_law_1757 rfl ?_
  refine r_iaddN hx hb dL_law_1758 ?_
  refine r_scr (j := 4 * i + 2) X hX hbl hS (by omega) hL dL_law_1759 ?_
  obtain ⟨fs3, hob3⟩ := hM.ob
  refine x_callV (cells1 := (cells + 9)) (slots1 := (slots + 140)) X hR (mm_supporterAt G ad _ T i (fp_xs xs (4 * i + 1)) (fp_xs xs (4 * i + 2)) hA0 hI (fp_xs_rg _ _) (fp_xs_rg _ _)) q2297 q2298 q2299 q100 q2300 ⟨rfl, pd_X4_supporterAt⟩ ⟨Nat.le_of_ble_eq_true rfl, Nat.le_of_ble_eq_true rfl⟩ rfl rfl (by omega) (by omega) hob3 rfl rfl (Nat.le_of_ble_eq_true rfl) hl.1 dL_law_1760 (hB0.of hS fp_no.base) hM hS (fun q h => Or.inr (by have h9 : (g_s G).heap.size ≤ q := fp_ma.base hA0 q h; omega)) (fun v H1 locs hp hz hk hS => ?_) (fun Ex qx cx H1 locs hp hz hk hS hcx hvx hlx => hp.elim)
  obtain ⟨r, rfl, hr, hM2⟩ := hp
  have hP := hP.mo X.2.2.2.2.2 hM hA0 hz hk
  have ho := ho.kept (hk out ho.lt hoa)
  have hM := hM2
  clear hM2
  rw [hkc] at hr hM
  refine r_stk (st2 := [.int (iI (r))]) rfl ?_
  refine lv_istore (lv' := [(6, .int (iI (r))), (5, .int (iI ((kc : Nat) : Int))), (0, .ref (b)), (1, .ref (x)), (2, .ref (ad 0)), (3, .ref (out)), (4, .int (iI ((4 * i : Nat) : Int)))]) hx hb dL_law_1763 hl (by decide) rfl (fun ls hl => ?_)
  refine lv_aload_n hx hb dL_law_1765 rfl (lv_at hl 4 rfl) ?_
  obtain ⟨fs4, hob4⟩ := hM.ob
  refine x_callV (cells1 := (cells + 9)) (slots1 := (slots + 140)) X hR (mm_thrown G ad _ _ hA0) q2079 q2080 q2081 q100 q2082 ⟨rfl, pd_X4_thrown⟩ ⟨Nat.le_of_ble_eq_true rfl, Nat.le_of_ble_eq_true rfl⟩ rfl rfl (by omega) (by omega) hob4 rfl rfl (Nat.le_of_ble_eq_true rfl) hl.1 dL_law_1766 (hB0.of hS fp_no.base) hM hS (fun q h => Or.inr (by have h9 : (g_s G).heap.size ≤ q := fp_ma.base hA0 q h; omega)) (fun v H1 locs hp hz hk hS => ?_) (fun Ex qx cx H1 locs hp hz hk hS hcx hvx hlx => hp.elim)
  obtain ⟨rfl, hM2⟩ := hp
  have hP := hP.mo X.2.2.2.2.2 hM hA0 hz hk
  have ho := ho.kept (hk out ho.lt hoa)
  have hM := hM2
  clear hM2
  refine r_stk (st2 := [.int (iI ((kc : Nat) : Int))]) rfl ?_
  refine lv_iload hx hb dL_law_1769 (lv_at hl 1 rfl) ?_
  refine lv_icmp_eq (tgt := 1776) hx hb dL_law_1771 (by decide) (fun _ => ?_) (fun h => absurd rfl h)
  refine lv_iload hx hb dL_law_1776 (lv_at hl 1 rfl) ?_
  refine r_if_ne (tgt := 1793) hx hb ⟨by omega, by omega⟩ dL_law_1778 (by decide) (fun hne => ?_) (fun he => ?_)
  · skip
    refine lv_goto (tgt := 3331) hx hb dL_law_1793 (by decide) ?_
    refine W.widen (k := cells + 50006) (n := slots + 229018) (by omega) (by omega) ?_
    exact kk _ _ _ _ _ _ (lv_sub hl [2, 3, 4, 5, 6] rfl) hS hP hM ho (hI.same)
  · skip
    have he : kc = 0 := by omega
    refine lv_aload_n hx hb dL_law_1781 rfl (lv_at hl 5 rfl) ?_
    refine lv_iconst (v := (iI ((0 : Nat) : Int))) hx hb dL_law_1782 rfl ?_
    refine r_laldI (j := 0) X ho rfl (by decide) (by decide) dL_law_1783 ?_
    refine lv_iload hx hb dL_law_1784 (lv_at hl 0 rfl) ?_
    refine lv_i2l (v := (iI r).toInt64) hx hb dL_law_1786 rfl ?_
    refine r_lcmpE X (by rw [hg2 he, hr he]) dL_law_1787 ?_
    refine lv_if_eq (tgt := 1793) hx hb dL_law_1788 (by decide) (fun _ => ?_) (fun h => absurd rfl h)
    refine lv_goto (tgt := 3331) hx hb dL_law_1793 (by decide) ?_
    refine W.widen (k := cells + 50006) (n := slots + 229018) (by omega) (by omega) ?_
    exact kk _ _ _ _ _ _ (lv_sub hl [2, 3, 4, 5, 6] rfl) hS hP hM ho (hI.same)
set_option maxHeartbeats 1000000 in
theorem lc_25 {G : fp_G} {pg : Program} {en : Env} {rR : Room} {s : State} {mi : MethodId} {ag : Array Value} {bl : List Frame} {mt : Method} {cd : Code} {H : Heap} {locs : List Loc} {cells slots : Nat} {qQ : State → Prop} {ls : Array Slot} {b L x out i k MC MS : Nat} {xs : Nat → Int32} {ad : Nat → Nat} {T : TH} {g : Nat → Int64} (X : fp_C G pg s mi ag cd cL_law "FortPlannerLaw" 9) (hR : fp_R rR 8192 104096 MC MS) (hB0 : fp_B G s.heap) (hX : va_X b L xs s s.heap) (hbl : b < s.heap.size) (hL : L ≤ 96) (hi : 4 * i + 4 ≤ L) (hA0 : fp_MA G ad) (hob : (g_s G).heap.size ≤ out) (hoa : ¬ fp_ma ad out) (hl : lv_has ls 9 [(0, .ref (b)), (1, .ref (x)), (2, .ref (ad 0)), (3, .ref (out)), (4, .int (iI ((4 * i : Nat) : Int)))]) (hS : va_S (fA fp_no s.heap.size) s.heap H locs) (hsb : s.heap.size = (g_s G).heap.size) (hc : cells + 50006 ≤ MC) (hs : slots + 229018 ≤ MS) (hP : fp_PW G x (fp_LM ad out) T H) (hM : fp_MC G ad k T H) (ho : fp_At G H out (eJ G 1 g)) (hI : fp_TI i T) (kk : ∀ (H1 : Heap) (locs1 : List Loc) (ls1 : Array Slot) (T1 : TH) (k1 : Nat) (g1 : Nat → Int64), lv_has ls1 9 [(0, .ref (b)), (1, .ref (x)), (2, .ref (ad 0)), (3, .ref (out)), (4, .int (iI ((4 * i : Nat) : Int)))] → va_S (fA fp_no s.heap.size) s.heap H1 locs1 → fp_PW G x (fp_LM ad out) T1 H1 → fp_MC G ad k1 T1 H1 → fp_At G H1 out (eJ G 1 g1) → fp_TJ (i + 1) T1 → W pg (g_l G) en rR s mi ag bl mt cd H1 locs1 (cells + 50006) (slots + 229018) qQ (F0 mi 3331 ls1 [])) : W pg (g_l G) en rR s mi ag bl mt cd H locs cells slots qQ (F0 mi 1796 ls []) := by
  obtain ⟨hx, hb, -⟩ := id X
  refine lv_aload_n hx hb dL_law_1796 rfl (lv_at hl 1 rfl) ?_
  refine lv_aload_n hx hb dL_law_1797 rfl (lv_at hl 0 rfl) ?_
  refine lv_iload hx hb dL_law_1798 (lv_at hl 4 rfl) ?_
  refine lv_iconst (v := (iI ((1 : Nat) : Int))) hx hb dL_law_1800 rfl ?_
  refine r_iaddN hx hb dL_law_1801 ?_
  refine r_scr (j := 4 * i + 1) X hX hbl hS (by omega) hL dL_law_1802 ?_
  refine lv_aload_n hx hb dL_law_1803 rfl (lv_at hl 3 rfl) ?_
  obtain ⟨kc, hkc⟩ : ∃ kc, fp_fc (T.1) (fp_xs xs (4 * i + 1)) = kc := ⟨_, rfl⟩
  refine x_callSH (cells1 := cells + 4) (slots1 := slots + 15) X hR (x0_isSupporting G x (fp_LM ad out) T i out g (fp_xs xs (4 * i + 1)) hI (fp_xs_rg _ _) (Or.inr rfl) hob) q1506 q1507 q87 q1508 pd_X0_isSupporting ⟨Nat.le_of_ble_eq_true rfl, Nat.le_of_ble_eq_true rfl⟩ rfl rfl (by omega) (by omega) rfl (Nat.le_of_ble_eq_true rfl) hl.1 dL_law_1804 (hB0.of hS fp_no.base) ⟨hP, ho⟩ hS (fun q h => Or.inr (by have h9 : (g_s G).heap.size ≤ q := h.1; omega)) (fun v H1 locs hp hz hk hS => ?_) (fun Ex qx cx H1 locs hp hz hk hS hcx hvx hlx => hp.elim)
  obtain ⟨g2, rfl, hg2, hP, ho⟩ := hp
  have hM := hM.keep hk (fun q hq h => h.2.elim (fun z => z (Or.inl hq)) (fun z => hoa (z ▸ hq)))
  refine r_stk (st2 := [.int (iI ((fp_fc (T.1) (fp_xs xs (4 * i + 1)) : Nat) : Int))]) rfl ?_
  have hkb : kc ≤ 2 := by rw [← hkc]; unfold fp_fc; (repeat' split) <;> omega
  rw [hkc] at hg2 ⊢
  refine lv_istore (lv' := [(5, .int (iI ((kc : Nat) : Int))), (0, .ref (b)), (1, .ref (x)), (2, .ref (ad 0)), (3, .ref (out)), (4, .int (iI ((4 * i : Nat) : Int)))]) hx hb dL_law_1807 hl (by decide) rfl (fun ls hl => ?_)
  refine lv_aload_n hx hb dL_law_1809 rfl (lv_at hl 3 rfl) ?_
  refine lv_aload_n hx hb dL_law_1810 rfl (lv_at hl 1 rfl) ?_
  refine lv_iload hx hb dL_law_1811 (lv_at hl 5 rfl) ?_
  refine lv_iconst (v := (iI ((1 : Nat) : Int))) hx hb dL_law_1813 rfl ?_
  refine r_iaddN hx hb dL_law_1814 ?_
  refine r_scr (j := 4 * i + 1) X hX hbl hS (by omega) hL dL_law_1815 ?_
  obtain ⟨fs3, hob3⟩ := hM.ob
  refine x_callV (cells1 := (cells + 4)) (slots1 := (slots + 15)) X hR (mm_isSupporting G ad _ T i (fp_xs xs (4 * i + 1)) hA0 hI (fp_xs_rg _ _)) q2301 q2302 q2303 q100 q2304 ⟨rfl, pd_X4_isSupporting⟩ ⟨Nat.le_of_ble_eq_true rfl, Nat.le_of_ble_eq_true rfl⟩ rfl rfl (by omega) (by omega) hob3 rfl rfl (Nat.le_of_ble_eq_true rfl) hl.1 dL_law_1816 (hB0.of hS fp_no.base) hM hS (fun q h => Or.inr (by have h9 : (g_s G).heap.size ≤ q := fp_ma.base hA0 q h; omega)) (fun v H1 locs hp hz hk hS => ?_) (fun Ex qx cx H1 locs hp hz hk hS hcx hvx hlx => hp.elim)
  obtain ⟨r, rfl, hr, hM2⟩ := hp
  have hP := hP.mo X.2.2.2.2.2 hM hA0 hz hk
  have ho := ho.kept (hk out ho.lt hoa)
  have hM := hM2
  clear hM2
  rw [hkc] at hr hM
  refine r_stk (st2 := [.int (iI (bI (r)))]) rfl ?_
  refine lv_istore (lv' := [(6, .int (iI (bI (r)))), (5, .int (iI ((kc : Nat) : Int))), (0, .ref (b)), (1, .ref (x)), (2, .ref (ad 0)), (3, .ref (out)), (4, .int (iI ((4 * i : Nat) : Int)))]) hx hb dL_law_1819 hl (by decide) rfl (fun ls hl => ?_)
  refine lv_aload_n hx hb dL_law_1821 rfl (lv_at hl 4 rfl) ?_
  obtain ⟨fs4, hob4⟩ := hM.ob
  refine x_callV (cells1 := (cells + 4)) (slots1 := (slots + 15)) X hR (mm_thrown G ad _ _ hA0) q2079 q2080 q2081 q100 q2082 ⟨rfl, pd_X4_thrown⟩ ⟨Nat.le_of_ble_eq_true rfl, Nat.le_of_ble_eq_true rfl⟩ rfl rfl (by omega) (by omega) hob4 rfl rfl (Nat.le_of_ble_eq_true rfl) hl.1 dL_law_1822 (hB0.of hS fp_no.base) hM hS (fun q h => Or.inr (by have h9 : (g_s G).heap.size ≤ q := fp_ma.base hA0 q h; omega)) (fun v H1 locs hp hz hk hS => ?_) (fun Ex qx cx H1 locs hp hz hk hS hcx hvx hlx => hp.elim)
  obtain ⟨rfl, hM2⟩ := hp
  have hP := hP.mo X.2.2.2.2.2 hM hA0 hz hk
  have ho := ho.kept (hk out ho.lt hoa)
  have hM := hM2
  clear hM2
  refine r_stk (st2 := [.int (iI ((kc : Nat) : Int))]) rfl ?_
  refine lv_iload hx hb dL_law_1825 (lv_at hl 1 rfl) ?_
  refine lv_icmp_eq (tgt := 1832) hx hb dL_law_1827 (by decide) (fun _ => ?_) (fun h => absurd rfl h)
  refine lv_iload hx hb dL_law_1832 (lv_at hl 1 rfl) ?_
  refine r_if_ne (tgt := 1856) hx hb ⟨by omega, by omega⟩ dL_law_1834 (by decide) (fun hne => ?_) (fun he => ?_)
  · skip
    refine lv_goto (tgt := 3331) hx hb dL_law_1856 (by decide) ?_
    refine W.widen (k := cells + 50006) (n := slots + 229018) (by omega) (by omega) ?_
    exact kk _ _ _ _ _ _ (lv_sub hl [2, 3, 4, 5, 6] rfl) hS hP hM ho (hI.same)
  · skip
    have he : kc = 0 := by omega
    refine lv_aload_n hx hb dL_law_1837 rfl (lv_at hl 5 rfl) ?_
    refine lv_iconst (v := (iI ((0 : Nat) : Int))) hx hb dL_law_1838 rfl ?_
    refine r_laldI (j := 0) X ho rfl (by decide) (by decide) dL_law_1839 ?_
    refine lv_iload hx hb dL_law_1840 (lv_at hl 0 rfl) ?_
    refine r_ifeqB (tgt := 1849) hx hb dL_law_1842 (by decide) (fun cb => ?_) (fun cb => ?_)
    · skip
      refine lv_lconst (v := 0) hx hb dL_law_1849 rfl ?_
      refine r_lcmpE X (by rw [hg2 he, ← hr he, cb]; rfl) dL_law_1850 ?_
      refine lv_if_eq (tgt := 1856) hx hb dL_law_1851 (by decide) (fun _ => ?_) (fun h => absurd rfl h)
      refine lv_goto (tgt := 3331) hx hb dL_law_1856 (by decide) ?_
      refine W.widen (k := cells + 50006) (n := slots + 229018) (by omega) (by omega) ?_
      exact kk _ _ _ _ _ _ (lv_sub hl [2, 3, 4, 5, 6] rfl) hS hP hM ho (hI.same)
    · skip
      refine lv_lconst (v := 1) hx hb dL_law_1845 rfl ?_
      refine lv_goto (tgt := 1850) hx hb dL_law_1846 (by decide) ?_
      refine r_lcmpE X (by rw [hg2 he, ← hr he, cb]; rfl) dL_law_1850 ?_
      refine lv_if_eq (tgt := 1856) hx hb dL_law_1851 (by decide) (fun _ => ?_) (fun h => absurd rfl h)
      refine lv_goto (tgt := 3331) hx hb dL_law_1856 (by decide) ?_
      refine W.widen (k := cells + 50006) (n := slots + 229018) (by omega) (by omega) ?_
      exact kk _ _ _ _ _ _ (lv_sub hl [2, 3, 4, 5, 6] rfl) hS hP hM ho (hI.same)
set_option maxHeartbeats 1000000 in
theorem lc_26 {G : fp_G} {pg : Program} {en : Env} {rR : Room} {s : State} {mi : MethodId} {ag : Array Value} {bl : List Frame} {mt : Method} {cd : Code} {H : Heap} {locs : List Loc} {cells slots : Nat} {qQ : State → Prop} {ls : Array Slot} {b L x out i k MC MS : Nat} {xs : Nat → Int32} {ad : Nat → Nat} {T : TH} {g : Nat → Int64} (X : fp_C G pg s mi ag cd cL_law "FortPlannerLaw" 9) (hR : fp_R rR 8192 104096 MC MS) (hB0 : fp_B G s.heap) (hX : va_X b L xs s s.heap) (hbl : b < s.heap.size) (hL : L ≤ 96) (hi : 4 * i + 4 ≤ L) (hA0 : fp_MA G ad) (hob : (g_s G).heap.size ≤ out) (hoa : ¬ fp_ma ad out) (hl : lv_has ls 9 [(0, .ref (b)), (1, .ref (x)), (2, .ref (ad 0)), (3, .ref (out)), (4, .int (iI ((4 * i : Nat) : Int)))]) (hS : va_S (fA fp_no s.heap.size) s.heap H locs) (hsb : s.heap.size = (g_s G).heap.size) (hc : cells + 50006 ≤ MC) (hs : slots + 229018 ≤ MS) (hP : fp_PW G x (fp_LM ad out) T H) (hM : fp_MC G ad k T H) (ho : fp_At G H out (eJ G 1 g)) (hI : fp_TI i T) (kk : ∀ (H1 : Heap) (locs1 : List Loc) (ls1 : Array Slot) (T1 : TH) (k1 : Nat) (g1 : Nat → Int64), lv_has ls1 9 [(0, .ref (b)), (1, .ref (x)), (2, .ref (ad 0)), (3, .ref (out)), (4, .int (iI ((4 * i : Nat) : Int)))] → va_S (fA fp_no s.heap.size) s.heap H1 locs1 → fp_PW G x (fp_LM ad out) T1 H1 → fp_MC G ad k1 T1 H1 → fp_At G H1 out (eJ G 1 g1) → fp_TJ (i + 1) T1 → W pg (g_l G) en rR s mi ag bl mt cd H1 locs1 (cells + 50006) (slots + 229018) qQ (F0 mi 3331 ls1 [])) : W pg (g_l G) en rR s mi ag bl mt cd H locs cells slots qQ (F0 mi 1859 ls []) := by
  obtain ⟨hx, hb, -⟩ := id X
  refine lv_aload_n hx hb dL_law_1859 rfl (lv_at hl 1 rfl) ?_
  refine lv_aload_n hx hb dL_law_1860 rfl (lv_at hl 0 rfl) ?_
  refine lv_iload hx hb dL_law_1861 (lv_at hl 4 rfl) ?_
  refine lv_iconst (v := (iI ((1 : Nat) : Int))) hx hb dL_law_1863 rfl ?_
  refine r_iaddN hx hb dL_law_1864 ?_
  refine r_scr (j := 4 * i + 1) X hX hbl hS (by omega) hL dL_law_1865 ?_
  refine lv_aload_n hx hb dL_law_1866 rfl (lv_at hl 3 rfl) ?_
  obtain ⟨kc, hkc⟩ : ∃ kc, fp_fc (T.1) (fp_xs xs (4 * i + 1)) = kc := ⟨_, rfl⟩
  refine x_callSH (cells1 := cells + 147) (slots1 := slots + 2938) X hR (x0_load G x (fp_LM ad out) T i out g (fp_xs xs (4 * i + 1)) hI (fp_xs_rg _ _) (Or.inr rfl) hob) q1513 q1514 q87 q1515 pd_X0_load ⟨Nat.le_of_ble_eq_true rfl, Nat.le_of_ble_eq_true rfl⟩ rfl rfl (by omega) (by omega) rfl (Nat.le_of_ble_eq_true rfl) hl.1 dL_law_1867 (hB0.of hS fp_no.base) ⟨hP, ho⟩ hS (fun q h => Or.inr (by have h9 : (g_s G).heap.size ≤ q := h.1; omega)) (fun v H1 locs hp hz hk hS => ?_) (fun Ex qx cx H1 locs hp hz hk hS hcx hvx hlx => hp.elim)
  obtain ⟨g2, rfl, hg2, hP, ho⟩ := hp
  have hM := hM.keep hk (fun q hq h => h.2.elim (fun z => z (Or.inl hq)) (fun z => hoa (z ▸ hq)))
  refine r_stk (st2 := [.int (iI ((fp_fc (T.1) (fp_xs xs (4 * i + 1)) : Nat) : Int))]) rfl ?_
  have hkb : kc ≤ 2 := by rw [← hkc]; unfold fp_fc; (repeat' split) <;> omega
  rw [hkc] at hg2 ⊢
  refine lv_istore (lv' := [(5, .int (iI ((kc : Nat) : Int))), (0, .ref (b)), (1, .ref (x)), (2, .ref (ad 0)), (3, .ref (out)), (4, .int (iI ((4 * i : Nat) : Int)))]) hx hb dL_law_1870 hl (by decide) rfl (fun ls hl => ?_)
  refine lv_aload_n hx hb dL_law_1872 rfl (lv_at hl 3 rfl) ?_
  refine lv_aload_n hx hb dL_law_1873 rfl (lv_at hl 1 rfl) ?_
  refine lv_iload hx hb dL_law_1874 (lv_at hl 5 rfl) ?_
  refine lv_iconst (v := (iI ((1 : Nat) : Int))) hx hb dL_law_1876 rfl ?_
  refine r_iaddN hx hb dL_law_1877 ?_
  refine r_scr (j := 4 * i + 1) X hX hbl hS (by omega) hL dL_law_1878 ?_
  obtain ⟨fs3, hob3⟩ := hM.ob
  refine x_callV (cells1 := (cells + 147)) (slots1 := (slots + 2938)) X hR (mm_load G ad _ T i (fp_xs xs (4 * i + 1)) hA0 hI (fp_xs_rg _ _)) q2305 q2306 q2307 q100 q2308 ⟨rfl, pd_X4_load⟩ ⟨Nat.le_of_ble_eq_true rfl, Nat.le_of_ble_eq_true rfl⟩ rfl rfl (by omega) (by omega) hob3 rfl rfl (Nat.le_of_ble_eq_true rfl) hl.1 dL_law_1879 (hB0.of hS fp_no.base) hM hS (fun q h => Or.inr (by have h9 : (g_s G).heap.size ≤ q := fp_ma.base hA0 q h; omega)) (fun v H1 locs hp hz hk hS => ?_) (fun Ex qx cx H1 locs hp hz hk hS hcx hvx hlx => hp.elim)
  obtain ⟨r, rfl, hr, hM2⟩ := hp
  have hP := hP.mo X.2.2.2.2.2 hM hA0 hz hk
  have ho := ho.kept (hk out ho.lt hoa)
  have hM := hM2
  clear hM2
  rw [hkc] at hr hM
  refine r_stk (st2 := [.int (iI (r))]) rfl ?_
  refine lv_istore (lv' := [(6, .int (iI (r))), (5, .int (iI ((kc : Nat) : Int))), (0, .ref (b)), (1, .ref (x)), (2, .ref (ad 0)), (3, .ref (out)), (4, .int (iI ((4 * i : Nat) : Int)))]) hx hb dL_law_1882 hl (by decide) rfl (fun ls hl => ?_)
  refine lv_aload_n hx hb dL_law_1884 rfl (lv_at hl 4 rfl) ?_
  obtain ⟨fs4, hob4⟩ := hM.ob
  refine x_callV (cells1 := (cells + 147)) (slots1 := (slots + 2938)) X hR (mm_thrown G ad _ _ hA0) q2079 q2080 q2081 q100 q2082 ⟨rfl, pd_X4_thrown⟩ ⟨Nat.le_of_ble_eq_true rfl, Nat.le_of_ble_eq_true rfl⟩ rfl rfl (by omega) (by omega) hob4 rfl rfl (Nat.le_of_ble_eq_true rfl) hl.1 dL_law_1885 (hB0.of hS fp_no.base) hM hS (fun q h => Or.inr (by have h9 : (g_s G).heap.size ≤ q := fp_ma.base hA0 q h; omega)) (fun v H1 locs hp hz hk hS => ?_) (fun Ex qx cx H1 locs hp hz hk hS hcx hvx hlx => hp.elim)
  obtain ⟨rfl, hM2⟩ := hp
  have hP := hP.mo X.2.2.2.2.2 hM hA0 hz hk
  have ho := ho.kept (hk out ho.lt hoa)
  have hM := hM2
  clear hM2
  refine r_stk (st2 := [.int (iI ((kc : Nat) : Int))]) rfl ?_
  refine lv_iload hx hb dL_law_1888 (lv_at hl 1 rfl) ?_
  refine lv_icmp_eq (tgt := 1895) hx hb dL_law_1890 (by decide) (fun _ => ?_) (fun h => absurd rfl h)
  refine lv_iload hx hb dL_law_1895 (lv_at hl 1 rfl) ?_
  refine r_if_ne (tgt := 1912) hx hb ⟨by omega, by omega⟩ dL_law_1897 (by decide) (fun hne => ?_) (fun he => ?_)
  · skip
    refine lv_goto (tgt := 3331) hx hb dL_law_1912 (by decide) ?_
    refine W.widen (k := cells + 50006) (n := slots + 229018) (by omega) (by omega) ?_
    exact kk _ _ _ _ _ _ (lv_sub hl [2, 3, 4, 5, 6] rfl) hS hP hM ho (hI.same)
  · skip
    have he : kc = 0 := by omega
    refine lv_aload_n hx hb dL_law_1900 rfl (lv_at hl 5 rfl) ?_
    refine lv_iconst (v := (iI ((0 : Nat) : Int))) hx hb dL_law_1901 rfl ?_
    refine r_laldI (j := 0) X ho rfl (by decide) (by decide) dL_law_1902 ?_
    refine lv_iload hx hb dL_law_1903 (lv_at hl 0 rfl) ?_
    refine lv_i2l (v := (iI r).toInt64) hx hb dL_law_1905 rfl ?_
    refine r_lcmpE X (by rw [hg2 he, hr he]) dL_law_1906 ?_
    refine lv_if_eq (tgt := 1912) hx hb dL_law_1907 (by decide) (fun _ => ?_) (fun h => absurd rfl h)
    refine lv_goto (tgt := 3331) hx hb dL_law_1912 (by decide) ?_
    refine W.widen (k := cells + 50006) (n := slots + 229018) (by omega) (by omega) ?_
    exact kk _ _ _ _ _ _ (lv_sub hl [2, 3, 4, 5, 6] rfl) hS hP hM ho (hI.same)
set_option maxHeartbeats 1000000 in
theorem lc_27 {G : fp_G} {pg : Program} {en : Env} {rR : Room} {s : State} {mi : MethodId} {ag : Array Value} {bl : List Frame} {mt : Method} {cd : Code} {H : Heap} {locs : List Loc} {cells slots : Nat} {qQ : State → Prop} {ls : Array Slot} {b L x out i k MC MS : Nat} {xs : Nat → Int32} {ad : Nat → Nat} {T : TH} {g : Nat → Int64} (X : fp_C G pg s mi ag cd cL_law "FortPlannerLaw" 9) (hR : fp_R rR 8192 104096 MC MS) (hB0 : fp_B G s.heap) (hX : va_X b L xs s s.heap) (hbl : b < s.heap.size) (hL : L ≤ 96) (hi : 4 * i + 4 ≤ L) (hA0 : fp_MA G ad) (hob : (g_s G).heap.size ≤ out) (hoa : ¬ fp_ma ad out) (hl : lv_has ls 9 [(0, .ref (b)), (1, .ref (x)), (2, .ref (ad 0)), (3, .ref (out)), (4, .int (iI ((4 * i : Nat) : Int)))]) (hS : va_S (fA fp_no s.heap.size) s.heap H locs) (hsb : s.heap.size = (g_s G).heap.size) (hc : cells + 50006 ≤ MC) (hs : slots + 229018 ≤ MS) (hP : fp_PW G x (fp_LM ad out) T H) (hM : fp_MC G ad k T H) (ho : fp_At G H out (eJ G 1 g)) (hI : fp_TI i T) (kk : ∀ (H1 : Heap) (locs1 : List Loc) (ls1 : Array Slot) (T1 : TH) (k1 : Nat) (g1 : Nat → Int64), lv_has ls1 9 [(0, .ref (b)), (1, .ref (x)), (2, .ref (ad 0)), (3, .ref (out)), (4, .int (iI ((4 * i : Nat) : Int)))] → va_S (fA fp_no s.heap.size) s.heap H1 locs1 → fp_PW G x (fp_LM ad out) T1 H1 → fp_MC G ad k1 T1 H1 → fp_At G H1 out (eJ G 1 g1) → fp_TJ (i + 1) T1 → W pg (g_l G) en rR s mi ag bl mt cd H1 locs1 (cells + 50006) (slots + 229018) qQ (F0 mi 3331 ls1 [])) : W pg (g_l G) en rR s mi ag bl mt cd H locs cells slots qQ (F0 mi 1915 ls []) := by
  obtain ⟨hx, hb, -⟩ := id X
  refine lv_aload_n hx hb dL_law_1915 rfl (lv_at hl 1 rfl) ?_
  refine lv_aload_n hx hb dL_law_1916 rfl (lv_at hl 0 rfl) ?_
  refine lv_iload hx hb dL_law_1917 (lv_at hl 4 rfl) ?_
  refine lv_iconst (v := (iI ((1 : Nat) : Int))) hx hb dL_law_1919 rfl ?_
  refine r_iaddN hx hb dL_law_1920 ?_
  refine r_scr (j := 4 * i + 1) X hX hbl hS (by omega) hL dL_law_1921 ?_
  refine lv_aload_n hx hb dL_law_1922 rfl (lv_at hl 3 rfl) ?_
  obtain ⟨kc, hkc⟩ : ∃ kc, fp_fc (T.1) (fp_xs xs (4 * i + 1)) = kc := ⟨_, rfl⟩
  refine x_callSH (cells1 := cells + 3459) (slots1 := slots + 69730) X hR (x0_loadByRecursion G x (fp_LM ad out) T i out g (fp_xs xs (4 * i + 1)) hI (fp_xs_rg _ _) (Or.inr rfl) hob) q1524 q1525 q87 q1526 pd_X0_loadByRecursion ⟨Nat.le_of_ble_eq_true rfl, Nat.le_of_ble_eq_true rfl⟩ rfl rfl (by omega) (by omega) rfl (Nat.le_of_ble_eq_true rfl) hl.1 dL_law_1923 (hB0.of hS fp_no.base) ⟨hP, ho⟩ hS (fun q h => Or.inr (by have h9 : (g_s G).heap.size ≤ q := h.1; omega)) (fun v H1 locs hp hz hk hS => ?_) (fun Ex qx cx H1 locs hp hz hk hS hcx hvx hlx => hp.elim)
  obtain ⟨g2, rfl, hg2, hP, ho⟩ := hp
  have hM := hM.keep hk (fun q hq h => h.2.elim (fun z => z (Or.inl hq)) (fun z => hoa (z ▸ hq)))
  refine r_stk (st2 := [.int (iI ((fp_fc (T.1) (fp_xs xs (4 * i + 1)) : Nat) : Int))]) rfl ?_
  have hkb : kc ≤ 2 := by rw [← hkc]; unfold fp_fc; (repeat' split) <;> omega
  rw [hkc] at hg2 ⊢
  refine lv_istore (lv' := [(5, .int (iI ((kc : Nat) : Int))), (0, .ref (b)), (1, .ref (x)), (2, .ref (ad 0)), (3, .ref (out)), (4, .int (iI ((4 * i : Nat) : Int)))]) hx hb dL_law_1926 hl (by decide) rfl (fun ls hl => ?_)
  refine lv_aload_n hx hb dL_law_1928 rfl (lv_at hl 3 rfl) ?_
  refine lv_aload_n hx hb dL_law_1929 rfl (lv_at hl 1 rfl) ?_
  refine lv_iload hx hb dL_law_1930 (lv_at hl 5 rfl) ?_
  refine lv_iconst (v := (iI ((1 : Nat) : Int))) hx hb dL_law_1932 rfl ?_
  refine r_iaddN hx hb dL_law_1933 ?_
  refine r_scr (j := 4 * i + 1) X hX hbl hS (by omega) hL dL_law_1934 ?_
  obtain ⟨fs3, hob3⟩ := hM.ob
  refine x_callV (cells1 := (cells + 3459)) (slots1 := (slots + 69730)) X hR (mm_loadByRecursion G ad _ T i (fp_xs xs (4 * i + 1)) hA0 hI (fp_xs_rg _ _)) q2309 q2310 q2311 q100 q2312 ⟨rfl, pd_X4_loadByRecursion⟩ ⟨Nat.le_of_ble_eq_true rfl, Nat.le_of_ble_eq_true rfl⟩ rfl rfl (by omega) (by omega) hob3 rfl rfl (Nat.le_of_ble_eq_true rfl) hl.1 dL_law_1935 (hB0.of hS fp_no.base) hM hS (fun q h => Or.inr (by have h9 : (g_s G).heap.size ≤ q := fp_ma.base hA0 q h; omega)) (fun v H1 locs hp hz hk hS => ?_) (fun Ex qx cx H1 locs hp hz hk hS hcx hvx hlx => hp.elim)
  obtain ⟨r, rfl, hr, hM2⟩ := hp
  have hP := hP.mo X.2.2.2.2.2 hM hA0 hz hk
  have ho := ho.kept (hk out ho.lt hoa)
  have hM := hM2
  clear hM2
  rw [hkc] at hr hM
  refine r_stk (st2 := [.int (iI (r))]) rfl ?_
  refine lv_istore (lv' := [(6, .int (iI (r))), (5, .int (iI ((kc : Nat) : Int))), (0, .ref (b)), (1, .ref (x)), (2, .ref (ad 0)), (3, .ref (out)), (4, .int (iI ((4 * i : Nat) : Int)))]) hx hb dL_law_1938 hl (by decide) rfl (fun ls hl => ?_)
  refine lv_aload_n hx hb dL_law_1940 rfl (lv_at hl 4 rfl) ?_
  obtain ⟨fs4, hob4⟩ := hM.ob
  refine x_callV (cells1 := (cells + 3459)) (slots1 := (slots + 69730)) X hR (mm_thrown G ad _ _ hA0) q2079 q2080 q2081 q100 q2082 ⟨rfl, pd_X4_thrown⟩ ⟨Nat.le_of_ble_eq_true rfl, Nat.le_of_ble_eq_true rfl⟩ rfl rfl (by omega) (by omega) hob4 rfl rfl (Nat.le_of_ble_eq_true rfl) hl.1 dL_law_1941 (hB0.of hS fp_no.base) hM hS (fun q h => Or.inr (by have h9 : (g_s G).heap.size ≤ q := fp_ma.base hA0 q h; omega)) (fun v H1 locs hp hz hk hS => ?_) (fun Ex qx cx H1 locs hp hz hk hS hcx hvx hlx => hp.elim)
  obtain ⟨rfl, hM2⟩ := hp
  have hP := hP.mo X.2.2.2.2.2 hM hA0 hz hk
  have ho := ho.kept (hk out ho.lt hoa)
  have hM := hM2
  clear hM2
  refine r_stk (st2 := [.int (iI ((kc : Nat) : Int))]) rfl ?_
  refine lv_iload hx hb dL_law_1944 (lv_at hl 1 rfl) ?_
  refine lv_icmp_eq (tgt := 1951) hx hb dL_law_1946 (by decide) (fun _ => ?_) (fun h => absurd rfl h)
  refine lv_iload hx hb dL_law_1951 (lv_at hl 1 rfl) ?_
  refine r_if_ne (tgt := 1968) hx hb ⟨by omega, by omega⟩ dL_law_1953 (by decide) (fun hne => ?_) (fun he => ?_)
  · skip
    refine lv_goto (tgt := 3331) hx hb dL_law_1968 (by decide) ?_
    refine W.widen (k := cells + 50006) (n := slots + 229018) (by omega) (by omega) ?_
    exact kk _ _ _ _ _ _ (lv_sub hl [2, 3, 4, 5, 6] rfl) hS hP hM ho (hI.same)
  · skip
    have he : kc = 0 := by omega
    refine lv_aload_n hx hb dL_law_1956 rfl (lv_at hl 5 rfl) ?_
    refine lv_iconst (v := (iI ((0 : Nat) : Int))) hx hb dL_law_1957 rfl ?_
    refine r_laldI (j := 0) X ho rfl (by decide) (by decide) dL_law_1958 ?_
    refine lv_iload hx hb dL_law_1959 (lv_at hl 0 rfl) ?_
    refine lv_i2l (v := (iI r).toInt64) hx hb dL_law_1961 rfl ?_
    refine r_lcmpE X (by rw [hg2 he, hr he]) dL_law_1962 ?_
    refine lv_if_eq (tgt := 1968) hx hb dL_law_1963 (by decide) (fun _ => ?_) (fun h => absurd rfl h)
    refine lv_goto (tgt := 3331) hx hb dL_law_1968 (by decide) ?_
    refine W.widen (k := cells + 50006) (n := slots + 229018) (by omega) (by omega) ?_
    exact kk _ _ _ _ _ _ (lv_sub hl [2, 3, 4, 5, 6] rfl) hS hP hM ho (hI.same)
set_option maxHeartbeats 1000000 in
theorem lc_28 {G : fp_G} {pg : Program} {en : Env} {rR : Room} {s : State} {mi : MethodId} {ag : Array Value} {bl : List Frame} {mt : Method} {cd : Code} {H : Heap} {locs : List Loc} {cells slots : Nat} {qQ : State → Prop} {ls : Array Slot} {b L x out i k MC MS : Nat} {xs : Nat → Int32} {ad : Nat → Nat} {T : TH} {g : Nat → Int64} (X : fp_C G pg s mi ag cd cL_law "FortPlannerLaw" 9) (hR : fp_R rR 8192 104096 MC MS) (hB0 : fp_B G s.heap) (hX : va_X b L xs s s.heap) (hbl : b < s.heap.size) (hL : L ≤ 96) (hi : 4 * i + 4 ≤ L) (hA0 : fp_MA G ad) (hob : (g_s G).heap.size ≤ out) (hoa : ¬ fp_ma ad out) (hl : lv_has ls 9 [(0, .ref (b)), (1, .ref (x)), (2, .ref (ad 0)), (3, .ref (out)), (4, .int (iI ((4 * i : Nat) : Int)))]) (hS : va_S (fA fp_no s.heap.size) s.heap H locs) (hsb : s.heap.size = (g_s G).heap.size) (hc : cells + 50006 ≤ MC) (hs : slots + 229018 ≤ MS) (hP : fp_PW G x (fp_LM ad out) T H) (hM : fp_MC G ad k T H) (ho : fp_At G H out (eJ G 1 g)) (hI : fp_TI i T) (kk : ∀ (H1 : Heap) (locs1 : List Loc) (ls1 : Array Slot) (T1 : TH) (k1 : Nat) (g1 : Nat → Int64), lv_has ls1 9 [(0, .ref (b)), (1, .ref (x)), (2, .ref (ad 0)), (3, .ref (out)), (4, .int (iI ((4 * i : Nat) : Int)))] → va_S (fA fp_no s.heap.size) s.heap H1 locs1 → fp_PW G x (fp_LM ad out) T1 H1 → fp_MC G ad k1 T1 H1 → fp_At G H1 out (eJ G 1 g1) → fp_TJ (i + 1) T1 → W pg (g_l G) en rR s mi ag bl mt cd H1 locs1 (cells + 50006) (slots + 229018) qQ (F0 mi 3331 ls1 [])) : W pg (g_l G) en rR s mi ag bl mt cd H locs cells slots qQ (F0 mi 1971 ls []) := by
  obtain ⟨hx, hb, -⟩ := id X
  refine lv_aload_n hx hb dL_law_1971 rfl (lv_at hl 1 rfl) ?_
  refine lv_aload_n hx hb dL_law_1972 rfl (lv_at hl 0 rfl) ?_
  refine lv_iload hx hb dL_law_1973 (lv_at hl 4 rfl) ?_
  refine lv_iconst (v := (iI ((1 : Nat) : Int))) hx hb dL_law_1975 rfl ?_
  refine r_iaddN hx hb dL_law_1976 ?_
  refine r_scr (j := 4 * i + 1) X hX hbl hS (by omega) hL dL_law_1977 ?_
  refine lv_aload_n hx hb dL_law_1978 rfl (lv_at hl 3 rfl) ?_
  obtain ⟨kc, hkc⟩ : ∃ kc, fp_fc (T.1) (fp_xs xs (4 * i + 1)) = kc := ⟨_, rfl⟩
  refine x_callSH (cells1 := cells + 147) (slots1 := slots + 2938) X hR (x0_slack G x (fp_LM ad out) T i out g (fp_xs xs (4 * i + 1)) hI (fp_xs_rg _ _) (Or.inr rfl) hob) q1536 q1537 q87 q1538 pd_X0_slack ⟨Nat.le_of_ble_eq_true rfl, Nat.le_of_ble_eq_true rfl⟩ rfl rfl (by omega) (by omega) rfl (Nat.le_of_ble_eq_true rfl) hl.1 dL_law_1979 (hB0.of hS fp_no.base) ⟨hP, ho⟩ hS (fun q h => Or.inr (by have h9 : (g_s G).heap.size ≤ q := h.1; omega)) (fun v H1 locs hp hz hk hS => ?_) (fun Ex qx cx H1 locs hp hz hk hS hcx hvx hlx => hp.elim)
  obtain ⟨g2, rfl, hg2, hP, ho⟩ := hp
  have hM := hM.keep hk (fun q hq h => h.2.elim (fun z => z (Or.inl hq)) (fun z => hoa (z ▸ hq)))
  refine r_stk (st2 := [.int (iI ((fp_fc (T.1) (fp_xs xs (4 * i + 1)) : Nat) : Int))]) rfl ?_
  have hkb : kc ≤ 2 := by rw [← hkc]; unfold fp_fc; (repeat' split) <;> omega
  rw [hkc] at hg2 ⊢
  refine lv_istore (lv' := [(5, .int (iI ((kc : Nat) : Int))), (0, .ref (b)), (1, .ref (x)), (2, .ref (ad 0)), (3, .ref (out)), (4, .int (iI ((4 * i : Nat) : Int)))]) hx hb dL_law_1982 hl (by decide) rfl (fun ls hl => ?_)
  refine lv_aload_n hx hb dL_law_1984 rfl (lv_at hl 3 rfl) ?_
  refine lv_aload_n hx hb dL_law_1985 rfl (lv_at hl 1 rfl) ?_
  refine lv_iload hx hb dL_law_1986 (lv_at hl 5 rfl) ?_
  refine lv_iconst (v := (iI ((1 : Nat) : Int))) hx hb dL_law_1988 rfl ?_
  refine r_iaddN hx hb dL_law_1989 ?_
  refine r_scr (j := 4 * i + 1) X hX hbl hS (by omega) hL dL_law_1990 ?_
  obtain ⟨fs3, hob3⟩ := hM.ob
  refine x_callV (cells1 := (cells + 147)) (slots1 := (slots + 2938)) X hR (mm_slack G ad _ T i (fp_xs xs (4 * i + 1)) hA0 hI (fp_xs_rg _ _)) q2314 q2315 q2316 q100 q2317 ⟨rfl, pd_X4_slack⟩ ⟨Nat.le_of_ble_eq_true rfl, Nat.le_of_ble_eq_true rfl⟩ rfl rfl (by omega) (by omega) hob3 rfl rfl (Nat.le_of_ble_eq_true rfl) hl.1 dL_law_1991 (hB0.of hS fp_no.base) hM hS (fun q h => Or.inr (by have h9 : (g_s G).heap.size ≤ q := fp_ma.base hA0 q h; omega)) (fun v H1 locs hp hz hk hS => ?_) (fun Ex qx cx H1 locs hp hz hk hS hcx hvx hlx => hp.elim)
  obtain ⟨r, rfl, hr, hM2⟩ := hp
  have hP := hP.mo X.2.2.2.2.2 hM hA0 hz hk
  have ho := ho.kept (hk out ho.lt hoa)
  have hM := hM2
  clear hM2
  rw [hkc] at hr hM
  refine r_stk (st2 := [.int (iI (r))]) rfl ?_
  refine lv_istore (lv' := [(6, .int (iI (r))), (5, .int (iI ((kc : Nat) : Int))), (0, .ref (b)), (1, .ref (x)), (2, .ref (ad 0)), (3, .ref (out)), (4, .int (iI ((4 * i : Nat) : Int)))]) hx hb dL_law_1994 hl (by decide) rfl (fun ls hl => ?_)
  refine lv_aload_n hx hb dL_law_1996 rfl (lv_at hl 4 rfl) ?_
  obtain ⟨fs4, hob4⟩ := hM.ob
  refine x_callV (cells1 := (cells + 147)) (slots1 := (slots + 2938)) X hR (mm_thrown G ad _ _ hA0) q2079 q2080 q2081 q100 q2082 ⟨rfl, pd_X4_thrown⟩ ⟨Nat.le_of_ble_eq_true rfl, Nat.le_of_ble_eq_true rfl⟩ rfl rfl (by omega) (by omega) hob4 rfl rfl (Nat.le_of_ble_eq_true rfl) hl.1 dL_law_1997 (hB0.of hS fp_no.base) hM hS (fun q h => Or.inr (by have h9 : (g_s G).heap.size ≤ q := fp_ma.base hA0 q h; omega)) (fun v H1 locs hp hz hk hS => ?_) (fun Ex qx cx H1 locs hp hz hk hS hcx hvx hlx => hp.elim)
  obtain ⟨rfl, hM2⟩ := hp
  have hP := hP.mo X.2.2.2.2.2 hM hA0 hz hk
  have ho := ho.kept (hk out ho.lt hoa)
  have hM := hM2
  clear hM2
  refine r_stk (st2 := [.int (iI ((kc : Nat) : Int))]) rfl ?_
  refine lv_iload hx hb dL_law_2000 (lv_at hl 1 rfl) ?_
  refine lv_icmp_eq (tgt := 2007) hx hb dL_law_2002 (by decide) (fun _ => ?_) (fun h => absurd rfl h)
  refine lv_iload hx hb dL_law_2007 (lv_at hl 1 rfl) ?_
  refine r_if_ne (tgt := 2024) hx hb ⟨by omega, by omega⟩ dL_law_2009 (by decide) (fun hne => ?_) (fun he => ?_)
  · skip
    refine lv_goto (tgt := 3331) hx hb dL_law_2024 (by decide) ?_
    refine W.widen (k := cells + 50006) (n := slots + 229018) (by omega) (by omega) ?_
    exact kk _ _ _ _ _ _ (lv_sub hl [2, 3, 4, 5, 6] rfl) hS hP hM ho (hI.same)
  · skip
    have he : kc = 0 := by omega
    refine lv_aload_n hx hb dL_law_2012 rfl (lv_at hl 5 rfl) ?_
    refine lv_iconst (v := (iI ((0 : Nat) : Int))) hx hb dL_law_2013 rfl ?_
    refine r_laldI (j := 0) X ho rfl (by decide) (by decide) dL_law_2014 ?_
    refine lv_iload hx hb dL_law_2015 (lv_at hl 0 rfl) ?_
    refine lv_i2l (v := (iI r).toInt64) hx hb dL_law_2017 rfl ?_
    refine r_lcmpE X (by rw [hg2 he, hr he]) dL_law_2018 ?_
    refine lv_if_eq (tgt := 2024) hx hb dL_law_2019 (by decide) (fun _ => ?_) (fun h => absurd rfl h)
    refine lv_goto (tgt := 3331) hx hb dL_law_2024 (by decide) ?_
    refine W.widen (k := cells + 50006) (n := slots + 229018) (by omega) (by omega) ?_
    exact kk _ _ _ _ _ _ (lv_sub hl [2, 3, 4, 5, 6] rfl) hS hP hM ho (hI.same)
set_option maxHeartbeats 1000000 in
theorem lc_29 {G : fp_G} {pg : Program} {en : Env} {rR : Room} {s : State} {mi : MethodId} {ag : Array Value} {bl : List Frame} {mt : Method} {cd : Code} {H : Heap} {locs : List Loc} {cells slots : Nat} {qQ : State → Prop} {ls : Array Slot} {b L x out i k MC MS : Nat} {xs : Nat → Int32} {ad : Nat → Nat} {T : TH} {g : Nat → Int64} (X : fp_C G pg s mi ag cd cL_law "FortPlannerLaw" 9) (hR : fp_R rR 8192 104096 MC MS) (hB0 : fp_B G s.heap) (hX : va_X b L xs s s.heap) (hbl : b < s.heap.size) (hL : L ≤ 96) (hi : 4 * i + 4 ≤ L) (hA0 : fp_MA G ad) (hob : (g_s G).heap.size ≤ out) (hoa : ¬ fp_ma ad out) (hl : lv_has ls 9 [(0, .ref (b)), (1, .ref (x)), (2, .ref (ad 0)), (3, .ref (out)), (4, .int (iI ((4 * i : Nat) : Int)))]) (hS : va_S (fA fp_no s.heap.size) s.heap H locs) (hsb : s.heap.size = (g_s G).heap.size) (hc : cells + 50006 ≤ MC) (hs : slots + 229018 ≤ MS) (hP : fp_PW G x (fp_LM ad out) T H) (hM : fp_MC G ad k T H) (ho : fp_At G H out (eJ G 1 g)) (hI : fp_TI i T) (kk : ∀ (H1 : Heap) (locs1 : List Loc) (ls1 : Array Slot) (T1 : TH) (k1 : Nat) (g1 : Nat → Int64), lv_has ls1 9 [(0, .ref (b)), (1, .ref (x)), (2, .ref (ad 0)), (3, .ref (out)), (4, .int (iI ((4 * i : Nat) : Int)))] → va_S (fA fp_no s.heap.size) s.heap H1 locs1 → fp_PW G x (fp_LM ad out) T1 H1 → fp_MC G ad k1 T1 H1 → fp_At G H1 out (eJ G 1 g1) → fp_TJ (i + 1) T1 → W pg (g_l G) en rR s mi ag bl mt cd H1 locs1 (cells + 50006) (slots + 229018) qQ (F0 mi 3331 ls1 [])) : W pg (g_l G) en rR s mi ag bl mt cd H locs cells slots qQ (F0 mi 2027 ls []) := by
  obtain ⟨hx, hb, -⟩ := id X
  refine lv_aload_n hx hb dL_law_2027 rfl (lv_at hl 1 rfl) ?_
  refine lv_aload_n hx hb dL_law_2028 rfl (lv_at hl 3 rfl) ?_
  obtain ⟨kc, hkc⟩ : ∃ kc, fp_wkc (T.1) = kc := ⟨_, rfl⟩
  refine x_callSH (cells1 := cells + 148) (slots1 := slots + 2986) X hR (x0_weakest G x (fp_LM ad out) T i out g hI (Or.inr rfl) hob) q1543 q1544 q87 q1545 pd_X0_weakest ⟨Nat.le_of_ble_eq_true rfl, Nat.le_of_ble_eq_true rfl⟩ rfl rfl (by omega) (by omega) rfl (Nat.le_of_ble_eq_true rfl) hl.1 dL_law_2029 (hB0.of hS fp_no.base) ⟨hP, ho⟩ hS (fun q h => Or.inr (by have h9 : (g_s G).heap.size ≤ q := h.1; omega)) (fun v H1 locs hp hz hk hS => ?_) (fun Ex qx cx H1 locs hp hz hk hS hcx hvx hlx => hp.elim)
  obtain ⟨g2, rfl, hg2, hP, ho⟩ := hp
  have hM := hM.keep hk (fun q hq h => h.2.elim (fun z => z (Or.inl hq)) (fun z => hoa (z ▸ hq)))
  refine r_stk (st2 := [.int (iI ((fp_wkc (T.1) : Nat) : Int))]) rfl ?_
  have hkb : kc ≤ 2 := by rw [← hkc]; unfold fp_wkc; (repeat' split) <;> omega
  rw [hkc] at hg2 ⊢
  refine lv_istore (lv' := [(5, .int (iI ((kc : Nat) : Int))), (0, .ref (b)), (1, .ref (x)), (2, .ref (ad 0)), (3, .ref (out)), (4, .int (iI ((4 * i : Nat) : Int)))]) hx hb dL_law_2032 hl (by decide) rfl (fun ls hl => ?_)
  refine lv_aload_n hx hb dL_law_2034 rfl (lv_at hl 3 rfl) ?_
  obtain ⟨fs3, hob3⟩ := hM.ob
  refine x_callV (cells1 := (cells + 148)) (slots1 := (slots + 2986)) X hR (mm_weakest G ad _ T i hA0 hI) q2318 q2319 q2320 q100 q2321 ⟨rfl, pd_X4_weakest⟩ ⟨Nat.le_of_ble_eq_true rfl, Nat.le_of_ble_eq_true rfl⟩ rfl rfl (by omega) (by omega) hob3 rfl rfl (Nat.le_of_ble_eq_true rfl) hl.1 dL_law_2035 (hB0.of hS fp_no.base) hM hS (fun q h => Or.inr (by have h9 : (g_s G).heap.size ≤ q := fp_ma.base hA0 q h; omega)) (fun v H1 locs hp hz hk hS => ?_) (fun Ex qx cx H1 locs hp hz hk hS hcx hvx hlx => hp.elim)
  obtain ⟨r, rfl, hr, hM2⟩ := hp
  have hP := hP.mo X.2.2.2.2.2 hM hA0 hz hk
  have ho := ho.kept (hk out ho.lt hoa)
  have hM := hM2
  clear hM2
  rw [hkc] at hr hM
  refine r_stk (st2 := [.int (iI (r))]) rfl ?_
  refine lv_istore (lv' := [(6, .int (iI (r))), (5, .int (iI ((kc : Nat) : Int))), (0, .ref (b)), (1, .ref (x)), (2, .ref (ad 0)), (3, .ref (out)), (4, .int (iI ((4 * i : Nat) : Int)))]) hx hb dL_law_2038 hl (by decide) rfl (fun ls hl => ?_)
  refine lv_aload_n hx hb dL_law_2040 rfl (lv_at hl 4 rfl) ?_
  obtain ⟨fs4, hob4⟩ := hM.ob
  refine x_callV (cells1 := (cells + 148)) (slots1 := (slots + 2986)) X hR (mm_thrown G ad _ _ hA0) q2079 q2080 q2081 q100 q2082 ⟨rfl, pd_X4_thrown⟩ ⟨Nat.le_of_ble_eq_true rfl, Nat.le_of_ble_eq_true rfl⟩ rfl rfl (by omega) (by omega) hob4 rfl rfl (Nat.le_of_ble_eq_true rfl) hl.1 dL_law_2041 (hB0.of hS fp_no.base) hM hS (fun q h => Or.inr (by have h9 : (g_s G).heap.size ≤ q := fp_ma.base hA0 q h; omega)) (fun v H1 locs hp hz hk hS => ?_) (fun Ex qx cx H1 locs hp hz hk hS hcx hvx hlx => hp.elim)
  obtain ⟨rfl, hM2⟩ := hp
  have hP := hP.mo X.2.2.2.2.2 hM hA0 hz hk
  have ho := ho.kept (hk out ho.lt hoa)
  have hM := hM2
  clear hM2
  refine r_stk (st2 := [.int (iI ((kc : Nat) : Int))]) rfl ?_
  refine lv_iload hx hb dL_law_2044 (lv_at hl 1 rfl) ?_
  refine lv_icmp_eq (tgt := 2051) hx hb dL_law_2046 (by decide) (fun _ => ?_) (fun h => absurd rfl h)
  refine lv_iload hx hb dL_law_2051 (lv_at hl 1 rfl) ?_
  refine r_if_ne (tgt := 2068) hx hb ⟨by omega, by omega⟩ dL_law_2053 (by decide) (fun hne => ?_) (fun he => ?_)
  · skip
    refine lv_goto (tgt := 3331) hx hb dL_law_2068 (by decide) ?_
    refine W.widen (k := cells + 50006) (n := slots + 229018) (by omega) (by omega) ?_
    exact kk _ _ _ _ _ _ (lv_sub hl [2, 3, 4, 5, 6] rfl) hS hP hM ho (hI.same)
  · skip
    have he : kc = 0 := by omega
    refine lv_aload_n hx hb dL_law_2056 rfl (lv_at hl 5 rfl) ?_
    refine lv_iconst (v := (iI ((0 : Nat) : Int))) hx hb dL_law_2057 rfl ?_
    refine r_laldI (j := 0) X ho rfl (by decide) (by decide) dL_law_2058 ?_
    refine lv_iload hx hb dL_law_2059 (lv_at hl 0 rfl) ?_
    refine lv_i2l (v := (iI r).toInt64) hx hb dL_law_2061 rfl ?_
    refine r_lcmpE X (by rw [hg2 he, hr he]) dL_law_2062 ?_
    refine lv_if_eq (tgt := 2068) hx hb dL_law_2063 (by decide) (fun _ => ?_) (fun h => absurd rfl h)
    refine lv_goto (tgt := 3331) hx hb dL_law_2068 (by decide) ?_
    refine W.widen (k := cells + 50006) (n := slots + 229018) (by omega) (by omega) ?_
    exact kk _ _ _ _ _ _ (lv_sub hl [2, 3, 4, 5, 6] rfl) hS hP hM ho (hI.same)
