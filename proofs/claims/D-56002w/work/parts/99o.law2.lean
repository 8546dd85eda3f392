/-! THE LAW's LEVEL: what the model's methods answer -/
set_option maxRecDepth 100000
/-- the model's numbers hold what the planner knows -/
def fp_mw (T : TH) (sc : Nat → Int) (ar : Nat → Nat → Int) : Prop := fp_VR T.1 (ar 5) ∧ (sc 1 = ((T.2.2.1.1 : Nat) : Int) ∧ fp_HR T.2.2.1.2 T.2.2.1.1 (ar 9)) ∧ ((T.2.1 = none ∧ sc 4 = ((0 : Nat) : Int)) ∨ ∃ V, T.2.1 = some V ∧ sc 4 = ((1 : Nat) : Int) ∧ fp_VR V (ar 7)) ∧ (sc 17 = ((T.2.2.2.1.1 : Nat) : Int) ∧ ∀ j, j < T.2.2.2.1.1 → ar 12 j = ((T.2.2.2.1.2 j : Nat) : Int)) ∧ (sc 20 = ((T.2.2.2.2.1.1 : Nat) : Int) ∧ ∀ j, j < T.2.2.2.2.1.1 → ar 13 j = ((T.2.2.2.2.1.2 j : Nat) : Int) ∧ T.2.2.2.2.1.2 j < 256) ∧ (sc 2 = T.2.2.2.2.2.1 ∧ sc 3 = T.2.2.2.2.2.2) ∧ (∀ j, j < 39 → ar 15 j = (fp_wd j : Int)) ∧ ∀ j, j < 8 → ar 16 j = (fp_wa j : Int)
/-- the model's world; the last call's code is k -/
def fp_MC (G : fp_G) (ad : Nat → Nat) (k : Nat) (T : TH) (H : Heap) : Prop := ∃ (sc : Nat → Int) (ar : Nat → Nat → Int), fp_ME G ad sc ar H ∧ fp_mw T sc ar ∧ sc 0 = ((k : Nat) : Int)
theorem fp_mw.ar {T : TH} {sc : Nat → Int} {ar ar2 : Nat → Nat → Int} (h : fp_mw T sc ar) (e : ∀ k, k = 5 ∨ k = 7 ∨ k = 9 ∨ k = 12 ∨ k = 13 ∨ k = 15 ∨ k = 16 → ar2 k = ar k) : fp_mw T sc ar2 := by
  obtain ⟨h1, h2, h3, h4, h5, h6, h7, h8⟩ := h
  unfold fp_mw
  rw [e 5 (by decide), e 7 (by decide), e 9 (by decide), e 12 (by decide), e 13 (by decide), e 15 (by decide), e 16 (by decide)]
  exact ⟨h1, h2, h3, h4, h5, h6, h7, h8⟩
theorem fp_mw.sc {T : TH} {sc sc2 : Nat → Int} {ar : Nat → Nat → Int} (h : fp_mw T sc ar) (e : ∀ k, k = 1 ∨ k = 2 ∨ k = 3 ∨ k = 4 ∨ k = 17 ∨ k = 20 → sc2 k = sc k) : fp_mw T sc2 ar := by
  obtain ⟨h1, h2, h3, h4, h5, h6, h7, h8⟩ := h
  unfold fp_mw
  rw [e 1 (by decide), e 2 (by decide), e 3 (by decide), e 4 (by decide), e 17 (by decide), e 20 (by decide)]
  exact ⟨h1, h2, h3, h4, h5, h6, h7, h8⟩
theorem fp_sm0.e {ar ar2 : Nat → Nat → Int} (h : fp_sm0 ar ar2) : ∀ k, k = 5 ∨ k = 7 ∨ k = 9 ∨ k = 12 ∨ k = 13 ∨ k = 15 ∨ k = 16 → ar2 k = ar k := fun k hk => h k (by rcases hk with rfl | rfl | rfl | rfl | rfl | rfl | rfl <;> rfl)
theorem fp_mw.s0 {T : TH} {sc : Nat → Int} {ar ar2 : Nat → Nat → Int} {z : Int} (h : fp_mw T sc ar) (e : fp_sm0 ar ar2) : fp_mw T (va_up sc 0 z) ar2 := (h.ar e.e).sc (fun k hk => va_up_ne _ _ (by omega))
theorem fp_mw.sa {T : TH} {sc : Nat → Int} {ar : Nat → Nat → Int} {z : Int} (h : fp_mw T sc ar) : fp_mw T (va_up sc 0 z) ar := h.s0 (fun _ _ => rfl)
theorem fp_sm0.c {ar : Nat → Nat → Int} {g f : Nat → Int} : fp_sm0 ar (va_up (va_up ar 8 g) 10 f) := fun k hk => by
  rw [va_up_ne _ _ (fun e => by rw [e] at hk; cases hk), va_up_ne _ _ (fun e => by rw [e] at hk; cases hk)]
theorem fp_sm0.c2 {ar ar2 : Nat → Nat → Int} (h : ∀ k, k ≠ 8 → k ≠ 10 → ar2 k = ar k) : fp_sm0 ar ar2 := fun k hk => h k (fun e => by rw [e] at hk; cases hk) (fun e => by rw [e] at hk; cases hk)
theorem fp_MC.s0 {G : fp_G} {ad : Nat → Nat} {k : Nat} {T : TH} {H1 : Heap} {sc : Nat → Int} {ar ar2 : Nat → Nat → Int} (hE : fp_ME G ad (va_up sc 0 ((k : Nat) : Int)) ar2 H1) (h : fp_mw T sc ar) (e : fp_sm0 ar ar2) : fp_MC G ad k T H1 := ⟨_, _, hE, h.s0 e, va_up_self _ _ _⟩
theorem fp_MC.sa {G : fp_G} {ad : Nat → Nat} {k : Nat} {T : TH} {H1 : Heap} {sc : Nat → Int} {ar : Nat → Nat → Int} (hE : fp_ME G ad (va_up sc 0 ((k : Nat) : Int)) ar H1) (h : fp_mw T sc ar) : fp_MC G ad k T H1 := fp_MC.s0 hE h (fun _ _ => rfl)
theorem fp_mw.psh {T : TH} {sc sc2 : Nat → Int} {ar ar2 : Nat → Nat → Int} {S2 : PS} (h : fp_mw T sc ar) (h1 : fp_VR S2 (ar2 5)) (h2 : fp_HR (fp_hpush T.2.2.1.2 T.2.2.1.1 T.1) (fp_hn T.2.2.1.1) (ar2 9)) (e : fp_sm1 ar ar2) (e1 : sc2 1 = ((fp_hn T.2.2.1.1 : Nat) : Int)) (es : ∀ k, k = 2 ∨ k = 3 ∨ k = 4 ∨ k = 17 ∨ k = 20 → sc2 k = sc k) : fp_mw (fp_psh T S2) sc2 ar2 := by
  obtain ⟨-, -, h3, h4, h5, h6, h7, h8⟩ := h
  have e7 := e 7 rfl (by decide) (by decide)
  have e12 := e 12 rfl (by decide) (by decide)
  have e13 := e 13 rfl (by decide) (by decide)
  have e15 := e 15 rfl (by decide) (by decide)
  have e16 := e 16 rfl (by decide) (by decide)
  refine ⟨h1, ⟨e1, h2⟩, ?_, ?_, ?_, ?_, ?_, ?_⟩
  · rw [e7, es 4 (by decide)]; exact h3
  · rw [e12, es 17 (by decide)]; exact h4
  · rw [e13, es 20 (by decide)]; exact h5
  · rw [es 2 (by decide), es 3 (by decide)]; exact h6
  · rw [e15]; exact h7
  · rw [e16]; exact h8
theorem fp_MC.psh {G : fp_G} {ad : Nat → Nat} {T : TH} {S2 : PS} {H1 : Heap} {sc : Nat → Int} {ar ar2 : Nat → Nat → Int} (hE : fp_ME G ad (va_up (va_up sc 0 ((0 : Nat) : Int)) 1 ((fp_hn T.2.2.1.1 : Nat) : Int)) ar2 H1) (h : fp_mw T sc ar) (h1 : fp_VR S2 (ar2 5)) (h2 : fp_HR (fp_hpush T.2.2.1.2 T.2.2.1.1 T.1) (fp_hn T.2.2.1.1) (ar2 9)) (e : fp_sm1 ar ar2) : fp_MC G ad 0 (fp_psh T S2) H1 :=
  ⟨_, _, hE, h.psh h1 h2 e (va_up_self _ _ _) (fun k hk => by rw [va_up_ne _ _ (by omega), va_up_ne _ _ (by omega)]), by rw [va_up_ne _ _ (by decide), va_up_self]⟩
theorem fp_MC.if0 {G : fp_G} {ad : Nat → Nat} {k : Nat} {A B : TH} {H1 : Heap} (h : fp_MC G ad 0 A H1) (e : k = 0) : fp_MC G ad k (fp_if k A B) H1 := by rw [fp_if0 e, e]; exact h
theorem fp_MC.if1 {G : fp_G} {ad : Nat → Nat} {k j : Nat} {A B : TH} {H1 : Heap} (h : fp_MC G ad j B H1) (e : k = j) (hj : j ≠ 0) : fp_MC G ad k (fp_if k A B) H1 := by rw [fp_if1 (by omega), e]; exact h
theorem fp_mw.ln {T : TH} {L : FL} {sc : Nat → Int} {ar ar2 : Nat → Nat → Int} {z : Int} (h : fp_mw T sc ar) (hL : fp_LX L (ar2 13)) (e : fp_sm2 ar ar2) : fp_mw (fp_Tln T L) (va_up (va_up sc 0 z) 20 ((L.2 : Nat) : Int)) ar2 := by
  obtain ⟨h1, h2, h3, h4, h5, h6, h7, h8⟩ := h
  have ee : ∀ k, k = 5 ∨ k = 7 ∨ k = 9 ∨ k = 12 ∨ k = 15 ∨ k = 16 → ar2 k = ar k := fun k hk => e k (by rcases hk with rfl | rfl | rfl | rfl | rfl | rfl <;> rfl) (by omega)
  have es : ∀ k, k ≠ 0 → k ≠ 20 → va_up (va_up sc 0 z) 20 ((L.2 : Nat) : Int) k = sc k := fun k a b => by rw [va_up_ne _ _ b, va_up_ne _ _ a]
  unfold fp_mw
  rw [ee 5 (by decide), ee 7 (by decide), ee 9 (by decide), ee 12 (by decide), ee 15 (by decide), ee 16 (by decide), es 1 (by decide) (by decide), es 2 (by decide) (by decide), es 3 (by decide) (by decide), es 4 (by decide) (by decide), es 17 (by decide) (by decide)]
  exact ⟨h1, h2, h3, h4, ⟨va_up_self _ _ _, hL⟩, h6, h7, h8⟩
theorem fp_mw.ap {T : TH} {sc : Nat → Int} {ar : Nat → Nat → Int} {z y : Int} (h : fp_mw T sc ar) (hz : 0 ≤ z) : fp_mw (fp_Tap T z) (va_up (va_up sc 0 y) 17 ((T.2.2.2.1.1 + 1 : Nat) : Int)) (fp_ua ar 12 T.2.2.2.1.1 z) := by
  obtain ⟨h1, h2, h3, ⟨-, h4⟩, h5, h6, h7, h8⟩ := h
  have ee : ∀ k, k ≠ 12 → fp_ua ar 12 T.2.2.2.1.1 z k = ar k := fun k hk => va_up_ne _ _ hk
  have es : ∀ k, k ≠ 0 → k ≠ 17 → va_up (va_up sc 0 y) 17 ((T.2.2.2.1.1 + 1 : Nat) : Int) k = sc k := fun k a b => by rw [va_up_ne _ _ b, va_up_ne _ _ a]
  unfold fp_mw
  rw [ee 5 (by decide), ee 7 (by decide), ee 9 (by decide), ee 13 (by decide), ee 15 (by decide), ee 16 (by decide), es 1 (by decide) (by decide), es 2 (by decide) (by decide), es 3 (by decide) (by decide), es 4 (by decide) (by decide), es 20 (by decide) (by decide)]
  refine ⟨h1, h2, h3, ⟨va_up_self _ _ _, fun j hj => ?_⟩, h5, h6, h7, h8⟩
  have e12 : fp_ua ar 12 T.2.2.2.1.1 z 12 = va_up (ar 12) T.2.2.2.1.1 z := va_up_self _ _ _
  rw [e12]
  show va_up (ar 12) T.2.2.2.1.1 z j = ((va_up T.2.2.2.1.2 T.2.2.2.1.1 z.toNat j : Nat) : Int)
  have hj2 : j < T.2.2.2.1.1 + 1 := hj
  by_cases e : j = T.2.2.2.1.1
  · rw [e, va_up_self, va_up_self]; omega
  · rw [va_up_ne _ _ e, va_up_ne _ _ e]; exact h4 j (by omega)
theorem fp_mw.un {T : TH} {sc : Nat → Int} {ar : Nat → Nat → Int} {y : Int} {v : Nat → Int} (h : fp_mw T sc ar) (h0 : T.2.2.1.1 ≠ 0) (hv : fp_VR (T.2.2.1.2 (T.2.2.1.1 - 1)) v) : fp_mw (fp_Tun T) (va_up (va_up sc 0 y) 1 ((T.2.2.1.1 - 1 : Nat) : Int)) (va_up ar 5 v) := by
  obtain ⟨-, ⟨-, h2⟩, h3, h4, h5, h6, h7, h8⟩ := h
  have ee : ∀ k, k ≠ 5 → va_up ar 5 v k = ar k := fun k hk => va_up_ne _ _ hk
  have es : ∀ k, k ≠ 0 → k ≠ 1 → va_up (va_up sc 0 y) 1 ((T.2.2.1.1 - 1 : Nat) : Int) k = sc k := fun k a b => by rw [va_up_ne _ _ b, va_up_ne _ _ a]
  unfold fp_mw
  rw [ee 7 (by decide), ee 9 (by decide), ee 12 (by decide), ee 13 (by decide), ee 15 (by decide), ee 16 (by decide), es 2 (by decide) (by decide), es 3 (by decide) (by decide), es 4 (by decide) (by decide), es 17 (by decide) (by decide), es 20 (by decide) (by decide), va_up_self, va_up_self]
  exact ⟨hv, ⟨rfl, fun i hi => h2 i (by have hi2 : i < T.2.2.1.1 - 1 := hi; omega)⟩, h3, h4, h5, h6, h7, h8⟩
theorem fp_mw.sv {T : TH} {sc : Nat → Int} {ar : Nat → Nat → Int} {y : Int} (h : fp_mw T sc ar) : fp_mw (fp_Tsv T) (va_up (va_up sc 0 y) 4 ((1 : Nat) : Int)) (va_up ar 7 (ar 5)) := by
  obtain ⟨h1, h2, -, h4, h5, h6, h7, h8⟩ := h
  have ee : ∀ k, k ≠ 7 → va_up ar 7 (ar 5) k = ar k := fun k hk => va_up_ne _ _ hk
  have es : ∀ k, k ≠ 0 → k ≠ 4 → va_up (va_up sc 0 y) 4 ((1 : Nat) : Int) k = sc k := fun k a b => by rw [va_up_ne _ _ b, va_up_ne _ _ a]
  unfold fp_mw
  rw [ee 5 (by decide), ee 9 (by decide), ee 12 (by decide), ee 13 (by decide), ee 15 (by decide), ee 16 (by decide), es 1 (by decide) (by decide), es 2 (by decide) (by decide), es 3 (by decide) (by decide), es 17 (by decide) (by decide), es 20 (by decide) (by decide), va_up_self, va_up_self]
  exact ⟨h1, h2, Or.inr ⟨T.1, rfl, rfl, h1⟩, h4, h5, h6, h7, h8⟩
theorem fp_mw.re {T : TH} {sc : Nat → Int} {ar : Nat → Nat → Int} {y : Int} {V : PS} (h : fp_mw T sc ar) (hV : T.2.1 = some V) (hv : fp_VR V (ar 7)) : fp_mw (fp_Tre T) (va_up (va_up sc 0 y) 1 ((0 : Nat) : Int)) (va_up ar 5 (ar 7)) := by
  obtain ⟨-, -, h3, h4, h5, h6, h7, h8⟩ := h
  have ee : ∀ k, k ≠ 5 → va_up ar 5 (ar 7) k = ar k := fun k hk => va_up_ne _ _ hk
  have es : ∀ k, k ≠ 0 → k ≠ 1 → va_up (va_up sc 0 y) 1 ((0 : Nat) : Int) k = sc k := fun k a b => by rw [va_up_ne _ _ b, va_up_ne _ _ a]
  have hT : T.2.1.getD T.1 = V := by rw [hV]; rfl
  unfold fp_mw
  rw [ee 7 (by decide), ee 9 (by decide), ee 12 (by decide), ee 13 (by decide), ee 15 (by decide), ee 16 (by decide), es 2 (by decide) (by decide), es 3 (by decide) (by decide), es 4 (by decide) (by decide), es 17 (by decide) (by decide), es 20 (by decide) (by decide), va_up_self, va_up_self]
  refine ⟨?_, ⟨rfl, fun i hi => absurd hi (Nat.not_lt_zero _)⟩, h3, h4, h5, h6, h7, h8⟩
  show fp_VR (T.2.1.getD T.1) (ar 7)
  rw [hT]
  exact hv
theorem fp_mw.t0 {T : TH} {sc : Nat → Int} {ar : Nat → Nat → Int} (h : fp_mw T sc ar) : fp_mw (fp_T0 T) (va_up sc 17 ((0 : Nat) : Int)) ar := by
  obtain ⟨h1, h2, h3, h4, h5, h6, h7, h8⟩ := h
  have es : ∀ k, k ≠ 17 → va_up sc 17 ((0 : Nat) : Int) k = sc k := fun k a => va_up_ne _ _ a
  unfold fp_mw
  rw [es 1 (by decide), es 2 (by decide), es 3 (by decide), es 4 (by decide), es 20 (by decide), va_up_self]
  exact ⟨h1, h2, h3, ⟨rfl, fun j hj => absurd hj (Nat.not_lt_zero _)⟩, h5, h6, h7, h8⟩
theorem fp_mw.er {T : TH} {sc : Nat → Int} {ar : Nat → Nat → Int} {e : Int} (h : fp_mw T sc ar) : fp_mw (fp_Ter T e) (va_up sc 2 e) ar := by
  obtain ⟨h1, h2, h3, h4, h5, h6, h7, h8⟩ := h
  have es : ∀ k, k ≠ 2 → va_up sc 2 e k = sc k := fun k a => va_up_ne _ _ a
  unfold fp_mw
  rw [es 1 (by decide), es 3 (by decide), es 4 (by decide), es 17 (by decide), es 20 (by decide), va_up_self]
  exact ⟨h1, h2, h3, h4, h5, ⟨rfl, h6.2⟩, h7, h8⟩
theorem fp_mw.fa {T : TH} {sc : Nat → Int} {ar : Nat → Nat → Int} {e : Int} (h : fp_mw T sc ar) : fp_mw (fp_Tfa T e) (va_up sc 3 e) ar := by
  obtain ⟨h1, h2, h3, h4, h5, h6, h7, h8⟩ := h
  have es : ∀ k, k ≠ 3 → va_up sc 3 e k = sc k := fun k a => va_up_ne _ _ a
  unfold fp_mw
  rw [es 1 (by decide), es 2 (by decide), es 4 (by decide), es 17 (by decide), es 20 (by decide), va_up_self]
  exact ⟨h1, h2, h3, h4, h5, ⟨h6.1, rfl⟩, h7, h8⟩
theorem fp_fc_c {S : PS} {z : Int} (h : fp_fnd S z < sN S) : fp_fc S z = 0 := if_pos h
theorem fp_cc_c {c : Nat} (h : c < 12) : fp_cc ((c : Nat) : Int) = 0 := if_pos (by omega)

set_option maxRecDepth 100000
set_option maxHeartbeats 1000000 in
theorem mm_left (G : fp_G) (ad : Nat → Nat) (k : Nat) (T : TH) (i : Nat) (a0 : Int) (hA0 : fp_MA G ad) (hI : fp_TI i T) (g0 : rg a0) : fp_MX G yX4_left cX4_left 2 (some .int) 4 79 0 0 [.ref (ad 0), .int (iI a0)] (fp_MC G ad k T) (fp_ma ad) (fun H v H1 => ∃ r : Int, v = some (.int (iI r)) ∧ (fp_fc (T.1) a0 = 0 → r = ((sB (T.1) (fp_fnd (T.1) a0) 2 : Nat) : Int)) ∧ fp_MC G ad (fp_fc (T.1) a0) T H1) (fun _ _ _ => False) := fp_MX.pick fun U hK hB hP => by
  obtain ⟨sc, ar, hE, hm, hk0⟩ := hP
  refine ⟨_, _, _, _, (c_X4_left G ad sc ar T.1 hA0 hm.1 a0 g0).toX, hE, fun q h => h, fun v H1 hp _ => ?_, fun E H1 hp _ => hp⟩
  obtain ⟨r, ar2, hv, hE2, hc, hsm⟩ := hp
  exact ⟨r, hv, hc, fp_MC.s0 hE2 hm hsm⟩
set_option maxHeartbeats 1000000 in
theorem mm_width (G : fp_G) (ad : Nat → Nat) (k : Nat) (T : TH) (i : Nat) (a0 : Int) (hA0 : fp_MA G ad) (hI : fp_TI i T) (g0 : rg a0) : fp_MX G yX4_width cX4_width 2 (some .int) 4 79 0 0 [.ref (ad 0), .int (iI a0)] (fp_MC G ad k T) (fp_ma ad) (fun H v H1 => ∃ r : Int, v = some (.int (iI r)) ∧ (fp_fc (T.1) a0 = 0 → r = ((sB (T.1) (fp_fnd (T.1) a0) 3 : Nat) : Int)) ∧ fp_MC G ad (fp_fc (T.1) a0) T H1) (fun _ _ _ => False) := fp_MX.pick fun U hK hB hP => by
  obtain ⟨sc, ar, hE, hm, hk0⟩ := hP
  refine ⟨_, _, _, _, (c_X4_width G ad sc ar T.1 hA0 hm.1 a0 g0).toX, hE, fun q h => h, fun v H1 hp _ => ?_, fun E H1 hp _ => hp⟩
  obtain ⟨r, ar2, hv, hE2, hc, hsm⟩ := hp
  exact ⟨r, hv, hc, fp_MC.s0 hE2 hm hsm⟩
set_option maxHeartbeats 1000000 in
theorem mm_weight (G : fp_G) (ad : Nat → Nat) (k : Nat) (T : TH) (i : Nat) (a0 : Int) (hA0 : fp_MA G ad) (hI : fp_TI i T) (g0 : rg a0) : fp_MX G yX4_weight cX4_weight 2 (some .int) 4 79 0 0 [.ref (ad 0), .int (iI a0)] (fp_MC G ad k T) (fp_ma ad) (fun H v H1 => ∃ r : Int, v = some (.int (iI r)) ∧ (fp_fc (T.1) a0 = 0 → r = ((sB (T.1) (fp_fnd (T.1) a0) 4 : Nat) : Int)) ∧ fp_MC G ad (fp_fc (T.1) a0) T H1) (fun _ _ _ => False) := fp_MX.pick fun U hK hB hP => by
  obtain ⟨sc, ar, hE, hm, hk0⟩ := hP
  refine ⟨_, _, _, _, (c_X4_weight G ad sc ar T.1 hA0 hm.1 a0 g0).toX, hE, fun q h => h, fun v H1 hp _ => ?_, fun E H1 hp _ => hp⟩
  obtain ⟨r, ar2, hv, hE2, hc, hsm⟩ := hp
  exact ⟨r, hv, hc, fp_MC.s0 hE2 hm hsm⟩
set_option maxHeartbeats 1000000 in
theorem mm_bottom (G : fp_G) (ad : Nat → Nat) (k : Nat) (T : TH) (i : Nat) (a0 : Int) (hA0 : fp_MA G ad) (hI : fp_TI i T) (g0 : rg a0) : fp_MX G yX4_bottom cX4_bottom 2 (some .int) 4 79 0 0 [.ref (ad 0), .int (iI a0)] (fp_MC G ad k T) (fp_ma ad) (fun H v H1 => ∃ r : Int, v = some (.int (iI r)) ∧ (fp_fc (T.1) a0 = 0 → r = ((sB (T.1) (fp_fnd (T.1) a0) 5 : Nat) : Int)) ∧ fp_MC G ad (fp_fc (T.1) a0) T H1) (fun _ _ _ => False) := fp_MX.pick fun U hK hB hP => by
  obtain ⟨sc, ar, hE, hm, hk0⟩ := hP
  refine ⟨_, _, _, _, (c_X4_bottom G ad sc ar T.1 hA0 hm.1 a0 g0).toX, hE, fun q h => h, fun v H1 hp _ => ?_, fun E H1 hp _ => hp⟩
  obtain ⟨r, ar2, hv, hE2, hc, hsm⟩ := hp
  exact ⟨r, hv, hc, fp_MC.s0 hE2 hm hsm⟩
set_option maxHeartbeats 1000000 in
theorem mm_isFoam (G : fp_G) (ad : Nat → Nat) (k : Nat) (T : TH) (i : Nat) (a0 : Int) (hA0 : fp_MA G ad) (hI : fp_TI i T) (g0 : rg a0) : fp_MX G yX4_isFoam cX4_isFoam 2 (some .boolean) 4 79 0 0 [.ref (ad 0), .int (iI a0)] (fp_MC G ad k T) (fp_ma ad) (fun H v H1 => ∃ r : Bool, v = some (.int (iI (bI r))) ∧ (fp_fc (T.1) a0 = 0 → r = decide (sB (T.1) (fp_fnd (T.1) a0) 1 = 0)) ∧ fp_MC G ad (fp_fc (T.1) a0) T H1) (fun _ _ _ => False) := fp_MX.pick fun U hK hB hP => by
  obtain ⟨sc, ar, hE, hm, hk0⟩ := hP
  refine ⟨_, _, _, _, (c_X4_isFoam G ad sc ar T.1 hA0 hm.1 a0 g0).toX, hE, fun q h => h, fun v H1 hp _ => ?_, fun E H1 hp _ => hp⟩
  obtain ⟨r, ar2, hv, hE2, hc, hsm⟩ := hp
  exact ⟨r, hv, hc, fp_MC.s0 hE2 hm hsm⟩
set_option maxHeartbeats 1000000 in
theorem mm_isBoard (G : fp_G) (ad : Nat → Nat) (k : Nat) (T : TH) (i : Nat) (a0 : Int) (hA0 : fp_MA G ad) (hI : fp_TI i T) (g0 : rg a0) : fp_MX G yX4_isBoard cX4_isBoard 2 (some .boolean) 4 79 0 0 [.ref (ad 0), .int (iI a0)] (fp_MC G ad k T) (fp_ma ad) (fun H v H1 => ∃ r : Bool, v = some (.int (iI (bI r))) ∧ (fp_fc (T.1) a0 = 0 → r = decide (sB (T.1) (fp_fnd (T.1) a0) 1 = 1)) ∧ fp_MC G ad (fp_fc (T.1) a0) T H1) (fun _ _ _ => False) := fp_MX.pick fun U hK hB hP => by
  obtain ⟨sc, ar, hE, hm, hk0⟩ := hP
  refine ⟨_, _, _, _, (c_X4_isBoard G ad sc ar T.1 hA0 hm.1 a0 g0).toX, hE, fun q h => h, fun v H1 hp _ => ?_, fun E H1 hp _ => hp⟩
  obtain ⟨r, ar2, hv, hE2, hc, hsm⟩ := hp
  exact ⟨r, hv, hc, fp_MC.s0 hE2 hm hsm⟩
set_option maxHeartbeats 1000000 in
theorem mm_strength (G : fp_G) (ad : Nat → Nat) (k : Nat) (T : TH) (i : Nat) (a0 : Int) (hA0 : fp_MA G ad) (hI : fp_TI i T) (g0 : rg a0) : fp_MX G yX4_strength cX4_strength 3 (some .int) 3 56 0 0 [.ref (ad 0), .int (iI a0)] (fp_MC G ad k T) (fp_ma ad) (fun H v H1 => ∃ r : Int, v = some (.int (iI r)) ∧ (fp_fc (T.1) a0 = 0 → r = ((fp_str (sB (T.1) (fp_fnd (T.1) a0)) : Nat) : Int)) ∧ fp_MC G ad (fp_fc (T.1) a0) T H1) (fun _ _ _ => False) := fp_MX.pick fun U hK hB hP => by
  obtain ⟨sc, ar, hE, hm, hk0⟩ := hP
  refine ⟨_, _, _, _, (c_X4_strength G ad sc ar T.1 hA0 hm.1 a0 g0).toX, hE, fun q h => h, fun v H1 hp _ => ?_, fun E H1 hp _ => hp⟩
  obtain ⟨r, ar2, hv, hE2, hc, hsm⟩ := hp
  exact ⟨r, hv, hc, fp_MC.s0 hE2 hm hsm⟩
set_option maxHeartbeats 1000000 in
theorem mm_top (G : fp_G) (ad : Nat → Nat) (k : Nat) (T : TH) (i : Nat) (a0 : Int) (hA0 : fp_MA G ad) (hI : fp_TI i T) (g0 : rg a0) : fp_MX G yX4_top cX4_top 3 (some .int) 3 56 0 0 [.ref (ad 0), .int (iI a0)] (fp_MC G ad k T) (fp_ma ad) (fun H v H1 => ∃ r : Int, v = some (.int (iI r)) ∧ (fp_fc (T.1) a0 = 0 → r = ((fp_top (sB (T.1) (fp_fnd (T.1) a0)) : Nat) : Int)) ∧ fp_MC G ad (fp_fc (T.1) a0) T H1) (fun _ _ _ => False) := fp_MX.pick fun U hK hB hP => by
  obtain ⟨sc, ar, hE, hm, hk0⟩ := hP
  refine ⟨_, _, _, _, (c_X4_top G ad sc ar T.1 hA0 hm.1 a0 g0).toX, hE, fun q h => h, fun v H1 hp _ => ?_, fun E H1 hp _ => hp⟩
  obtain ⟨r, ar2, hv, hE2, hc, hsm⟩ := hp
  exact ⟨r, hv, hc, fp_MC.s0 hE2 hm hsm⟩
set_option maxHeartbeats 1000000 in
theorem mm_supporterCount (G : fp_G) (ad : Nat → Nat) (k : Nat) (T : TH) (i : Nat) (a0 : Int) (hA0 : fp_MA G ad) (hI : fp_TI i T) (g0 : rg a0) : fp_MX G yX4_supporterCount cX4_supporterCount 3 (some .int) 5 101 0 0 [.ref (ad 0), .int (iI a0)] (fp_MC G ad k T) (fp_ma ad) (fun H v H1 => ∃ r : Int, v = some (.int (iI r)) ∧ (fp_fc (T.1) a0 = 0 → r = ((fp_nsup (T.1) (fp_fnd (T.1) a0) : Nat) : Int)) ∧ fp_MC G ad (fp_fc (T.1) a0) T H1) (fun _ _ _ => False) := fp_MX.pick fun U hK hB hP => by
  obtain ⟨sc, ar, hE, hm, hk0⟩ := hP
  refine ⟨_, _, _, _, (c_X4_supporterCount G ad sc ar T.1 hA0 hm.1 a0 g0).toX, hE, fun q h => h, fun v H1 hp _ => ?_, fun E H1 hp _ => hp⟩
  obtain ⟨r, ar2, hv, hE2, hc, hsm⟩ := hp
  exact ⟨r, hv, hc, fp_MC.s0 hE2 hm hsm⟩
set_option maxHeartbeats 1000000 in
theorem mm_supporterAt (G : fp_G) (ad : Nat → Nat) (k : Nat) (T : TH) (i : Nat) (a0 : Int) (a1 : Int) (hA0 : fp_MA G ad) (hI : fp_TI i T) (g0 : rg a0) (g1 : rg a1) : fp_MX G yX4_supporterAt cX4_supporterAt 5 (some .int) 5 102 0 0 [.ref (ad 0), .int (iI a0), .int (iI a1)] (fp_MC G ad k T) (fp_ma ad) (fun H v H1 => ∃ r : Int, v = some (.int (iI r)) ∧ (fp_satc (T.1) a0 a1 = 0 → r = ((sB (T.1) (fp_sat (T.1) (fp_fnd (T.1) a0) a1) 0 : Nat) : Int)) ∧ fp_MC G ad (fp_satc (T.1) a0 a1) T H1) (fun _ _ _ => False) := fp_MX.pick fun U hK hB hP => by
  obtain ⟨sc, ar, hE, hm, hk0⟩ := hP
  refine ⟨_, _, _, _, (c_X4_supporterAt G ad sc ar T.1 hA0 hm.1 a0 a1 g0 g1).toX, hE, fun q h => h, fun v H1 hp _ => ?_, fun E H1 hp _ => hp⟩
  obtain ⟨r, ar2, hv, hE2, hc, hsm⟩ := hp
  exact ⟨r, hv, hc, fp_MC.s0 hE2 hm hsm⟩
set_option maxHeartbeats 1000000 in
theorem mm_isSupporting (G : fp_G) (ad : Nat → Nat) (k : Nat) (T : TH) (i : Nat) (a0 : Int) (hA0 : fp_MA G ad) (hI : fp_TI i T) (g0 : rg a0) : fp_MX G yX4_isSupporting cX4_isSupporting 3 (some .boolean) 5 100 0 0 [.ref (ad 0), .int (iI a0)] (fp_MC G ad k T) (fp_ma ad) (fun H v H1 => ∃ r : Bool, v = some (.int (iI (bI r))) ∧ (fp_fc (T.1) a0 = 0 → r = fp_und (T.1) (fp_fnd (T.1) a0)) ∧ fp_MC G ad (fp_fc (T.1) a0) T H1) (fun _ _ _ => False) := fp_MX.pick fun U hK hB hP => by
  obtain ⟨sc, ar, hE, hm, hk0⟩ := hP
  refine ⟨_, _, _, _, (c_X4_isSupporting G ad sc ar T.1 hA0 hm.1 a0 g0).toX, hE, fun q h => h, fun v H1 hp _ => ?_, fun E H1 hp _ => hp⟩
  obtain ⟨r, ar2, hv, hE2, hc, hsm⟩ := hp
  exact ⟨r, hv, hc, fp_MC.s0 hE2 hm hsm⟩
set_option maxHeartbeats 1000000 in
theorem mm_load (G : fp_G) (ad : Nat → Nat) (k : Nat) (T : TH) (i : Nat) (a0 : Int) (hA0 : fp_MA G ad) (hI : fp_TI i T) (g0 : rg a0) : fp_MX G yX4_load cX4_load 3 (some .int) 7 148 0 0 [.ref (ad 0), .int (iI a0)] (fp_MC G ad k T) (fp_ma ad) (fun H v H1 => ∃ r : Int, v = some (.int (iI r)) ∧ (fp_fc (T.1) a0 = 0 → r = ((fp_ld (T.1) (fp_fnd (T.1) a0) : Nat) : Int)) ∧ fp_MC G ad (fp_fc (T.1) a0) T H1) (fun _ _ _ => False) := fp_MX.pick fun U hK hB hP => by
  obtain ⟨sc, ar, hE, hm, hk0⟩ := hP
  refine ⟨_, _, _, _, (c_X4_load G ad sc ar T.1 hA0 hm.1 a0 g0).toX, hE, fun q h => h, fun v H1 hp _ => ?_, fun E H1 hp _ => hp⟩
  obtain ⟨r, ar2, hv, hE2, hc, hsm⟩ := hp
  exact ⟨r, hv, hc, fp_MC.s0 hE2 hm hsm⟩
set_option maxHeartbeats 1000000 in
theorem mm_loadByRecursion (G : fp_G) (ad : Nat → Nat) (k : Nat) (T : TH) (i : Nat) (a0 : Int) (hA0 : fp_MA G ad) (hI : fp_TI i T) (g0 : rg a0) : fp_MX G yX4_loadByRecursion cX4_loadByRecursion 2 (some .int) 8 170 0 0 [.ref (ad 0), .int (iI a0)] (fp_MC G ad k T) (fp_ma ad) (fun H v H1 => ∃ r : Int, v = some (.int (iI r)) ∧ (fp_fc (T.1) a0 = 0 → r = ((fp_ld (T.1) (fp_fnd (T.1) a0) : Nat) : Int)) ∧ fp_MC G ad (fp_fc (T.1) a0) T H1) (fun _ _ _ => False) := fp_MX.pick fun U hK hB hP => by
  obtain ⟨sc, ar, hE, hm, hk0⟩ := hP
  refine ⟨_, _, _, _, (c_X4_loadByRecursion G ad sc ar T.1 hA0 hm.1 a0 g0).toX, hE, fun q h => h, fun v H1 hp _ => ?_, fun E H1 hp _ => hp⟩
  obtain ⟨r, ar2, hv, hE2, hc, hsm⟩ := hp
  exact ⟨r, hv, hc, fp_MC.s0 hE2 hm hsm⟩
set_option maxHeartbeats 1000000 in
theorem mm_slack (G : fp_G) (ad : Nat → Nat) (k : Nat) (T : TH) (i : Nat) (a0 : Int) (hA0 : fp_MA G ad) (hI : fp_TI i T) (g0 : rg a0) : fp_MX G yX4_slack cX4_slack 3 (some .int) 7 148 0 0 [.ref (ad 0), .int (iI a0)] (fp_MC G ad k T) (fp_ma ad) (fun H v H1 => ∃ r : Int, v = some (.int (iI r)) ∧ (fp_fc (T.1) a0 = 0 → r = (fp_slk (T.1) (fp_fnd (T.1) a0))) ∧ fp_MC G ad (fp_fc (T.1) a0) T H1) (fun _ _ _ => False) := fp_MX.pick fun U hK hB hP => by
  obtain ⟨sc, ar, hE, hm, hk0⟩ := hP
  refine ⟨_, _, _, _, (c_X4_slack G ad sc ar T.1 hA0 hm.1 a0 g0).toX, hE, fun q h => h, fun v H1 hp _ => ?_, fun E H1 hp _ => hp⟩
  obtain ⟨r, ar2, hv, hE2, hc, hsm⟩ := hp
  exact ⟨r, hv, hc, fp_MC.s0 hE2 hm hsm⟩
set_option maxHeartbeats 1000000 in
theorem mm_weakest (G : fp_G) (ad : Nat → Nat) (k : Nat) (T : TH) (i : Nat) (hA0 : fp_MA G ad) (hI : fp_TI i T) : fp_MX G yX4_weakest cX4_weakest 3 (some .int) 7 148 0 0 [.ref (ad 0)] (fp_MC G ad k T) (fp_ma ad) (fun H v H1 => ∃ r : Int, v = some (.int (iI r)) ∧ (fp_wkc (T.1) = 0 → r = ((sB (T.1) (fp_best (fp_slk (T.1)) (sN (T.1))) 0 : Nat) : Int)) ∧ fp_MC G ad (fp_wkc (T.1)) T H1) (fun _ _ _ => False) := fp_MX.pick fun U hK hB hP => by
  obtain ⟨sc, ar, hE, hm, hk0⟩ := hP
  refine ⟨_, _, _, _, (c_X4_weakest G ad sc ar T.1 hA0 hm.1).toX, hE, fun q h => h, fun v H1 hp _ => ?_, fun E H1 hp _ => hp⟩
  obtain ⟨r, ar2, hv, hE2, hc, hsm⟩ := hp
  exact ⟨r, hv, hc, fp_MC.s0 hE2 hm hsm⟩
set_option maxHeartbeats 1000000 in
theorem mm_blockBySlack (G : fp_G) (ad : Nat → Nat) (k : Nat) (T : TH) (i : Nat) (a0 : Int) (hA0 : fp_MA G ad) (hI : fp_TI i T) (g0 : rg a0) : fp_MX G yX4_blockBySlack cX4_blockBySlack 6 (some .int) 7 148 0 0 [.ref (ad 0), .int (iI a0)] (fp_MC G ad k T) (fp_ma ad) (fun H v H1 => ∃ r : Int, v = some (.int (iI r)) ∧ (fp_bslc (T.1) a0 = 0 → r = ((sB (T.1) (fp_bsl (T.1) a0) 0 : Nat) : Int)) ∧ fp_MC G ad (fp_bslc (T.1) a0) T H1) (fun _ _ _ => False) := fp_MX.pick fun U hK hB hP => by
  obtain ⟨sc, ar, hE, hm, hk0⟩ := hP
  refine ⟨_, _, _, _, (c_X4_blockBySlack G ad sc ar T.1 hA0 hm.1 a0 g0).toX, hE, fun q h => h, fun v H1 hp _ => ?_, fun E H1 hp _ => hp⟩
  obtain ⟨r, ar2, hv, hE2, hc, hsm⟩ := hp
  exact ⟨r, hv, hc, fp_MC.s0 hE2 hm hsm⟩
set_option maxHeartbeats 1000000 in
theorem mm_level (G : fp_G) (ad : Nat → Nat) (k : Nat) (T : TH) (i : Nat) (a0 : Int) (hA0 : fp_MA G ad) (hI : fp_TI i T) (g0 : rg a0) : fp_MX G yX4_level cX4_level 3 (some .int) 5 101 0 0 [.ref (ad 0), .int (iI a0)] (fp_MC G ad k T) (fp_ma ad) (fun H v H1 => ∃ r : Int, v = some (.int (iI r)) ∧ (fp_fc (T.1) a0 = 0 → r = ((fp_lv (T.1) (fp_fnd (T.1) a0) : Nat) : Int)) ∧ fp_MC G ad (fp_fc (T.1) a0) T H1) (fun _ _ _ => False) := fp_MX.pick fun U hK hB hP => by
  obtain ⟨sc, ar, hE, hm, hk0⟩ := hP
  refine ⟨_, _, _, _, (c_X4_level G ad sc ar T.1 hA0 hm.1 a0 g0 hI.1.2.1.1).toX, hE, fun q h => h, fun v H1 hp _ => ?_, fun E H1 hp _ => hp⟩
  obtain ⟨r, ar2, hv, hE2, hc, hsm⟩ := hp
  exact ⟨r, hv, hc, fp_MC.s0 hE2 hm hsm⟩
set_option maxHeartbeats 1000000 in
theorem mm_isAbove (G : fp_G) (ad : Nat → Nat) (k : Nat) (T : TH) (i : Nat) (a0 : Int) (a1 : Int) (hA0 : fp_MA G ad) (hI : fp_TI i T) (g0 : rg a0) (g1 : rg a1) : fp_MX G yX4_isAbove cX4_isAbove 5 (some .boolean) 5 103 0 0 [.ref (ad 0), .int (iI a0), .int (iI a1)] (fp_MC G ad k T) (fp_ma ad) (fun H v H1 => ∃ r : Bool, v = some (.int (iI (bI r))) ∧ (fp_fc2 (T.1) a0 a1 = 0 → r = fp_ab (T.1) (fp_fnd (T.1) a1) (fp_fnd (T.1) a0)) ∧ fp_MC G ad (fp_fc2 (T.1) a0 a1) T H1) (fun _ _ _ => False) := fp_MX.pick fun U hK hB hP => by
  obtain ⟨sc, ar, hE, hm, hk0⟩ := hP
  refine ⟨_, _, _, _, (c_X4_isAbove G ad sc ar T.1 hA0 hm.1 a0 a1 g0 g1).toX, hE, fun q h => h, fun v H1 hp _ => ?_, fun E H1 hp _ => hp⟩
  obtain ⟨r, ar2, hv, hE2, hc, hsm⟩ := hp
  exact ⟨r, hv, hc, fp_MC.s0 hE2 hm hsm⟩
set_option maxHeartbeats 1000000 in
theorem mm_countAbove (G : fp_G) (ad : Nat → Nat) (k : Nat) (T : TH) (i : Nat) (a0 : Int) (hA0 : fp_MA G ad) (hI : fp_TI i T) (g0 : rg a0) : fp_MX G yX4_countAbove cX4_countAbove 5 (some .int) 5 103 0 0 [.ref (ad 0), .int (iI a0)] (fp_MC G ad k T) (fp_ma ad) (fun H v H1 => ∃ r : Int, v = some (.int (iI r)) ∧ (fp_fc (T.1) a0 = 0 → r = ((fp_ct (fp_ab (T.1) (fp_fnd (T.1) a0)) (sN (T.1)) : Nat) : Int)) ∧ fp_MC G ad (fp_fc (T.1) a0) T H1) (fun _ _ _ => False) := fp_MX.pick fun U hK hB hP => by
  obtain ⟨sc, ar, hE, hm, hk0⟩ := hP
  refine ⟨_, _, _, _, (c_X4_countAbove G ad sc ar T.1 hA0 hm.1 a0 g0).toX, hE, fun q h => h, fun v H1 hp _ => ?_, fun E H1 hp _ => hp⟩
  obtain ⟨r, ar2, hv, hE2, hc, hsm⟩ := hp
  exact ⟨r, hv, hc, fp_MC.s0 hE2 hm hsm⟩
set_option maxHeartbeats 1000000 in
theorem mm_height (G : fp_G) (ad : Nat → Nat) (k : Nat) (T : TH) (i : Nat) (a0 : Int) (hA0 : fp_MA G ad) (hI : fp_TI i T) (g0 : rg a0) : fp_MX G yX4_height cX4_height 2 (some .int) 4 79 0 0 [.ref (ad 0), .int (iI a0)] (fp_MC G ad k T) (fp_ma ad) (fun H v H1 => ∃ r : Int, v = some (.int (iI r)) ∧ (fp_cc a0 = 0 → r = ((fp_hi (T.1) a0.toNat : Nat) : Int)) ∧ fp_MC G ad (fp_cc a0) T H1) (fun _ _ _ => False) := fp_MX.pick fun U hK hB hP => by
  obtain ⟨sc, ar, hE, hm, hk0⟩ := hP
  refine ⟨_, _, _, _, (c_X4_height G ad sc ar T.1 hA0 hm.1 a0 g0).toX, hE, fun q h => h, fun v H1 hp _ => ?_, fun E H1 hp _ => hp⟩
  obtain ⟨r, ar2, hv, hE2, hc, hsm⟩ := hp
  exact ⟨r, hv, hc, fp_MC.s0 hE2 hm hsm⟩
set_option maxHeartbeats 1000000 in
theorem mm_holes (G : fp_G) (ad : Nat → Nat) (k : Nat) (T : TH) (i : Nat) (a0 : Int) (hA0 : fp_MA G ad) (hI : fp_TI i T) (g0 : rg a0) : fp_MX G yX4_holes cX4_holes 4 (some .int) 4 79 0 0 [.ref (ad 0), .int (iI a0)] (fp_MC G ad k T) (fp_ma ad) (fun H v H1 => ∃ r : Int, v = some (.int (iI r)) ∧ (fp_cc a0 = 0 → r = (fp_hol (T.1) a0.toNat)) ∧ fp_MC G ad (fp_cc a0) T H1) (fun _ _ _ => False) := fp_MX.pick fun U hK hB hP => by
  obtain ⟨sc, ar, hE, hm, hk0⟩ := hP
  refine ⟨_, _, _, _, (c_X4_holes G ad sc ar T.1 hA0 hm.1 a0 g0).toX, hE, fun q h => h, fun v H1 hp _ => ?_, fun E H1 hp _ => hp⟩
  obtain ⟨r, ar2, hv, hE2, hc, hsm⟩ := hp
  exact ⟨r, hv, hc, fp_MC.s0 hE2 hm hsm⟩
set_option maxHeartbeats 1000000 in
theorem mm_holesByHeights (G : fp_G) (ad : Nat → Nat) (k : Nat) (T : TH) (i : Nat) (a0 : Int) (hA0 : fp_MA G ad) (hI : fp_TI i T) (g0 : rg a0) : fp_MX G yX4_holesByHeights cX4_holesByHeights 2 (some .int) 5 102 0 0 [.ref (ad 0), .int (iI a0)] (fp_MC G ad k T) (fp_ma ad) (fun H v H1 => ∃ r : Int, v = some (.int (iI r)) ∧ (fp_cc a0 = 0 → r = (fp_hol (T.1) a0.toNat)) ∧ fp_MC G ad (fp_cc a0) T H1) (fun _ _ _ => False) := fp_MX.pick fun U hK hB hP => by
  obtain ⟨sc, ar, hE, hm, hk0⟩ := hP
  refine ⟨_, _, _, _, (c_X4_holesByHeights G ad sc ar T.1 hA0 hm.1 a0 g0).toX, hE, fun q h => h, fun v H1 hp _ => ?_, fun E H1 hp _ => hp⟩
  obtain ⟨r, ar2, hv, hE2, hc, hsm⟩ := hp
  exact ⟨r, hv, hc, fp_MC.s0 hE2 hm hsm⟩
set_option maxHeartbeats 1000000 in
theorem mm_zone (G : fp_G) (ad : Nat → Nat) (k : Nat) (T : TH) (i : Nat) (a0 : Int) (hA0 : fp_MA G ad) (hI : fp_TI i T) (g0 : rg a0) : fp_MX G yX4_zone cX4_zone 2 (some .char) 3 54 0 0 [.ref (ad 0), .int (iI a0)] (fp_MC G ad k T) (fp_ma ad) (fun H v H1 => ∃ r : Int, v = some (.int (iI r)) ∧ (fp_cc a0 = 0 → r = ((fp_zlet (sZ (T.1) a0.toNat) : Nat) : Int)) ∧ fp_MC G ad (fp_cc a0) T H1) (fun _ _ _ => False) := fp_MX.pick fun U hK hB hP => by
  obtain ⟨sc, ar, hE, hm, hk0⟩ := hP
  refine ⟨_, _, _, _, (c_X4_zone G ad sc ar T.1 hA0 hm.1 a0 g0).toX, hE, fun q h => h, fun v H1 hp _ => ?_, fun E H1 hp _ => hp⟩
  obtain ⟨r, ar2, hv, hE2, hc, hsm⟩ := hp
  exact ⟨r, hv, hc, fp_MC.s0 hE2 hm hsm⟩
set_option maxHeartbeats 1000000 in
theorem mm_hasTorch (G : fp_G) (ad : Nat → Nat) (k : Nat) (T : TH) (i : Nat) (a0 : Int) (hA0 : fp_MA G ad) (hI : fp_TI i T) (g0 : rg a0) : fp_MX G yX4_hasTorch cX4_hasTorch 2 (some .boolean) 3 54 0 0 [.ref (ad 0), .int (iI a0)] (fp_MC G ad k T) (fp_ma ad) (fun H v H1 => ∃ r : Bool, v = some (.int (iI (bI r))) ∧ (fp_cc a0 = 0 → r = decide (sT (T.1) a0.toNat = 1)) ∧ fp_MC G ad (fp_cc a0) T H1) (fun _ _ _ => False) := fp_MX.pick fun U hK hB hP => by
  obtain ⟨sc, ar, hE, hm, hk0⟩ := hP
  refine ⟨_, _, _, _, (c_X4_hasTorch G ad sc ar T.1 hA0 hm.1 a0 g0).toX, hE, fun q h => h, fun v H1 hp _ => ?_, fun E H1 hp _ => hp⟩
  obtain ⟨r, ar2, hv, hE2, hc, hsm⟩ := hp
  exact ⟨r, hv, hc, fp_MC.s0 hE2 hm hsm⟩
set_option maxHeartbeats 1000000 in
theorem mm_isLit (G : fp_G) (ad : Nat → Nat) (k : Nat) (T : TH) (i : Nat) (a0 : Int) (hA0 : fp_MA G ad) (hI : fp_TI i T) (g0 : rg a0) : fp_MX G yX4_isLit cX4_isLit 2 (some .boolean) 6 127 0 0 [.ref (ad 0), .int (iI a0)] (fp_MC G ad k T) (fp_ma ad) (fun H v H1 => ∃ r : Bool, v = some (.int (iI (bI r))) ∧ (fp_cc a0 = 0 → r = fp_lit (T.1) a0.toNat) ∧ fp_MC G ad (fp_cc a0) T H1) (fun _ _ _ => False) := fp_MX.pick fun U hK hB hP => by
  obtain ⟨sc, ar, hE, hm, hk0⟩ := hP
  refine ⟨_, _, _, _, (c_X4_isLit G ad sc ar T.1 hA0 hm.1 a0 g0).toX, hE, fun q h => h, fun v H1 hp _ => ?_, fun E H1 hp _ => hp⟩
  obtain ⟨r, ar2, hv, hE2, hc, hsm⟩ := hp
  exact ⟨r, hv, hc, fp_MC.s0 hE2 hm hsm⟩
set_option maxHeartbeats 1000000 in
theorem mm_isLitByMaxima (G : fp_G) (ad : Nat → Nat) (k : Nat) (T : TH) (i : Nat) (a0 : Int) (hA0 : fp_MA G ad) (hI : fp_TI i T) (g0 : rg a0) : fp_MX G yX4_isLitByMaxima cX4_isLitByMaxima 2 (some .boolean) 7 148 0 0 [.ref (ad 0), .int (iI a0)] (fp_MC G ad k T) (fp_ma ad) (fun H v H1 => ∃ r : Bool, v = some (.int (iI (bI r))) ∧ (fp_cc a0 = 0 → r = fp_lit (T.1) a0.toNat) ∧ fp_MC G ad (fp_cc a0) T H1) (fun _ _ _ => False) := fp_MX.pick fun U hK hB hP => by
  obtain ⟨sc, ar, hE, hm, hk0⟩ := hP
  refine ⟨_, _, _, _, (c_X4_isLitByMaxima G ad sc ar T.1 hA0 hm.1 a0 g0).toX, hE, fun q h => h, fun v H1 hp _ => ?_, fun E H1 hp _ => hp⟩
  obtain ⟨r, ar2, hv, hE2, hc, hsm⟩ := hp
  exact ⟨r, hv, hc, fp_MC.s0 hE2 hm hsm⟩
set_option maxHeartbeats 1000000 in
theorem mm_blockAt (G : fp_G) (ad : Nat → Nat) (k : Nat) (T : TH) (i : Nat) (a0 : Int) (hA0 : fp_MA G ad) (hI : fp_TI i T) (g0 : rg a0) : fp_MX G yX4_blockAt cX4_blockAt 2 (some .int) 2 34 0 0 [.ref (ad 0), .int (iI a0)] (fp_MC G ad k T) (fp_ma ad) (fun H v H1 => ∃ r : Int, v = some (.int (iI r)) ∧ (fp_atc (T.1) a0 = 0 → r = ((sB (T.1) a0.toNat 0 : Nat) : Int)) ∧ fp_MC G ad (fp_atc (T.1) a0) T H1) (fun _ _ _ => False) := fp_MX.pick fun U hK hB hP => by
  obtain ⟨sc, ar, hE, hm, hk0⟩ := hP
  refine ⟨_, _, _, _, (c_X4_blockAt G ad sc ar T.1 hA0 hm.1 a0 g0).toX, hE, fun q h => h, fun v H1 hp _ => ?_, fun E H1 hp _ => hp⟩
  obtain ⟨r, ar2, hv, hE2, hc, hsm⟩ := hp
  exact ⟨r, hv, hc, fp_MC.s0 hE2 hm hsm⟩
set_option maxHeartbeats 1000000 in
theorem mm_errorPosition (G : fp_G) (ad : Nat → Nat) (k : Nat) (T : TH) (i : Nat) (hA0 : fp_MA G ad) (hI : fp_TI i T) : fp_MX G yX4_errorPosition cX4_errorPosition 1 (some .int) 1 12 0 0 [.ref (ad 0)] (fp_MC G ad k T) (fp_ma ad) (fun H v H1 => ∃ r : Int, v = some (.int (iI r)) ∧ (fp_er_c T.2.2.2.2.2.1 = 0 → r = ((T.2.2.2.2.2.1))) ∧ fp_MC G ad (fp_er_c T.2.2.2.2.2.1) T H1) (fun _ _ _ => False) := fp_MX.pick fun U hK hB hP => by
  obtain ⟨sc, ar, hE, hm, hk0⟩ := hP
  refine ⟨_, _, _, _, (c_X4_errorPosition G ad sc ar hA0 (by rw [hm.2.2.2.2.2.1.1]; have := hI.2.2.2.2.2.1; exact ⟨by omega, by omega⟩)).toX, hE, fun q h => h, fun v H1 hp _ => ?_, fun E H1 hp _ => hp⟩
  rcases hp with ⟨hv, hE2, hc⟩ | ⟨hv, hE2, hc⟩
  · have hc1 : fp_er_c T.2.2.2.2.2.1 = 1 := if_neg (by rw [← hm.2.2.2.2.2.1.1]; omega)
    exact ⟨_, hv, fun z => by rw [hc1] at z; cases z, by rw [hc1]; exact fp_MC.sa hE2 hm⟩
  · have hc0 : fp_er_c T.2.2.2.2.2.1 = 0 := if_pos (by rw [← hm.2.2.2.2.2.1.1]; exact hc)
    exact ⟨_, hv, fun _ => hm.2.2.2.2.2.1.1, by rw [hc0]; exact fp_MC.sa hE2 hm⟩
set_option maxHeartbeats 1000000 in
theorem mm_failedCommand (G : fp_G) (ad : Nat → Nat) (k : Nat) (T : TH) (i : Nat) (hA0 : fp_MA G ad) (hI : fp_TI i T) : fp_MX G yX4_failedCommand cX4_failedCommand 1 (some .int) 1 12 0 0 [.ref (ad 0)] (fp_MC G ad k T) (fp_ma ad) (fun H v H1 => ∃ r : Int, v = some (.int (iI r)) ∧ (fp_er_c T.2.2.2.2.2.2 = 0 → r = ((T.2.2.2.2.2.2))) ∧ fp_MC G ad (fp_er_c T.2.2.2.2.2.2) T H1) (fun _ _ _ => False) := fp_MX.pick fun U hK hB hP => by
  obtain ⟨sc, ar, hE, hm, hk0⟩ := hP
  refine ⟨_, _, _, _, (c_X4_failedCommand G ad sc ar hA0 (by rw [hm.2.2.2.2.2.1.2]; have := hI.2.2.2.2.2.2.1; exact ⟨by omega, by omega⟩)).toX, hE, fun q h => h, fun v H1 hp _ => ?_, fun E H1 hp _ => hp⟩
  rcases hp with ⟨hv, hE2, hc⟩ | ⟨hv, hE2, hc⟩
  · have hc1 : fp_er_c T.2.2.2.2.2.2 = 1 := if_neg (by rw [← hm.2.2.2.2.2.1.2]; omega)
    exact ⟨_, hv, fun z => by rw [hc1] at z; cases z, by rw [hc1]; exact fp_MC.sa hE2 hm⟩
  · have hc0 : fp_er_c T.2.2.2.2.2.2 = 0 := if_pos (by rw [← hm.2.2.2.2.2.1.2]; exact hc)
    exact ⟨_, hv, fun _ => hm.2.2.2.2.2.1.2, by rw [hc0]; exact fp_MC.sa hE2 hm⟩
set_option maxHeartbeats 1000000 in
theorem mm_lineChar (G : fp_G) (ad : Nat → Nat) (k : Nat) (T : TH) (i : Nat) (a0 : Int) (hA0 : fp_MA G ad) (hI : fp_TI i T) (g0 : rg a0) : fp_MX G yX4_lineChar cX4_lineChar 2 (some .char) 2 34 0 0 [.ref (ad 0), .int (iI a0)] (fp_MC G ad k T) (fp_ma ad) (fun H v H1 => ∃ r : Int, v = some (.int (iI r)) ∧ (fp_ln_c T.2.2.2.2.1.1 a0 = 0 → r = (((T.2.2.2.2.1.2) a0.toNat : Nat) : Int)) ∧ fp_MC G ad (fp_ln_c T.2.2.2.2.1.1 a0) T H1) (fun _ _ _ => False) := fp_MX.pick fun U hK hB hP => by
  obtain ⟨sc, ar, hE, hm, hk0⟩ := hP
  refine ⟨_, _, _, _, (c_X4_lineChar G ad sc ar hA0 T.2.2.2.2.1.2 T.2.2.2.2.1.1 hm.2.2.2.2.1.1 hI.2.2.2.2.1 hm.2.2.2.2.1.2 a0 g0).toX, hE, fun q h => h, fun v H1 hp _ => ?_, fun E H1 hp _ => hp⟩
  rcases hp with ⟨hv, hE2, hc⟩ | ⟨n, hv, hE2, hz, hn⟩
  · have hc1 : fp_ln_c T.2.2.2.2.1.1 a0 = 1 := if_neg hc
    exact ⟨_, hv, fun z => by rw [hc1] at z; cases z, by rw [hc1]; exact fp_MC.sa hE2 hm⟩
  · have hc0 : fp_ln_c T.2.2.2.2.1.1 a0 = 0 := if_pos (by omega)
    exact ⟨_, hv, fun _ => by rw [hz, Int.toNat_natCast], by rw [hc0]; exact fp_MC.sa hE2 hm⟩
set_option maxHeartbeats 1000000 in
theorem mm_blockCount (G : fp_G) (ad : Nat → Nat) (k : Nat) (T : TH) (i : Nat) (hA0 : fp_MA G ad) (hI : fp_TI i T) : fp_MX G yX4_blockCount cX4_blockCount 1 (some .int) 1 12 0 0 [.ref (ad 0)] (fp_MC G ad k T) (fp_ma ad) (fun H v H1 => v = some (.int (iI ((sN (T.1) : Nat) : Int))) ∧ fp_MC G ad 0 T H1) (fun _ _ _ => False) := fp_MX.pick fun U hK hB hP => by
  obtain ⟨sc, ar, hE, hm, hk0⟩ := hP
  refine ⟨_, _, _, _, (c_X4_blockCount G ad sc ar T.1 hA0 hm.1).toX, hE, fun q h => h, fun v H1 hp _ => ?_, fun E H1 hp _ => hp⟩
  obtain ⟨r, ar2, hv, hE2, hc, hsm⟩ := hp
  exact ⟨by rw [hv, hc rfl], fp_MC.s0 hE2 hm hsm⟩
set_option maxHeartbeats 1000000 in
theorem mm_placedCount (G : fp_G) (ad : Nat → Nat) (k : Nat) (T : TH) (i : Nat) (hA0 : fp_MA G ad) (hI : fp_TI i T) : fp_MX G yX4_placedCount cX4_placedCount 1 (some .int) 1 12 0 0 [.ref (ad 0)] (fp_MC G ad k T) (fp_ma ad) (fun H v H1 => v = some (.int (iI ((sP (T.1) : Nat) : Int))) ∧ fp_MC G ad 0 T H1) (fun _ _ _ => False) := fp_MX.pick fun U hK hB hP => by
  obtain ⟨sc, ar, hE, hm, hk0⟩ := hP
  refine ⟨_, _, _, _, (c_X4_placedCount G ad sc ar T.1 hA0 hm.1).toX, hE, fun q h => h, fun v H1 hp _ => ?_, fun E H1 hp _ => hp⟩
  obtain ⟨r, ar2, hv, hE2, hc, hsm⟩ := hp
  exact ⟨by rw [hv, hc rfl], fp_MC.s0 hE2 hm hsm⟩
set_option maxHeartbeats 1000000 in
theorem mm_isPresent (G : fp_G) (ad : Nat → Nat) (k : Nat) (T : TH) (i : Nat) (a0 : Int) (hA0 : fp_MA G ad) (hI : fp_TI i T) (g0 : rg a0) : fp_MX G yX4_isPresent cX4_isPresent 3 (some .boolean) 3 56 0 0 [.ref (ad 0), .int (iI a0)] (fp_MC G ad k T) (fp_ma ad) (fun H v H1 => v = some (.int (iI (bI (decide (fp_fnd (T.1) a0 < sN (T.1)))))) ∧ fp_MC G ad 0 T H1) (fun _ _ _ => False) := fp_MX.pick fun U hK hB hP => by
  obtain ⟨sc, ar, hE, hm, hk0⟩ := hP
  refine ⟨_, _, _, _, (c_X4_isPresent G ad sc ar T.1 hA0 hm.1 a0 g0).toX, hE, fun q h => h, fun v H1 hp _ => ?_, fun E H1 hp _ => hp⟩
  obtain ⟨r, ar2, hv, hE2, hc, hsm⟩ := hp
  exact ⟨by rw [hv, hc rfl], fp_MC.s0 hE2 hm hsm⟩
set_option maxHeartbeats 1000000 in
theorem mm_levelCount (G : fp_G) (ad : Nat → Nat) (k : Nat) (T : TH) (i : Nat) (hA0 : fp_MA G ad) (hI : fp_TI i T) : fp_MX G yX4_levelCount cX4_levelCount 4 (some .int) 5 101 0 0 [.ref (ad 0)] (fp_MC G ad k T) (fp_ma ad) (fun H v H1 => v = some (.int (iI ((fp_nlv (T.1) : Nat) : Int))) ∧ fp_MC G ad 0 T H1) (fun _ _ _ => False) := fp_MX.pick fun U hK hB hP => by
  obtain ⟨sc, ar, hE, hm, hk0⟩ := hP
  refine ⟨_, _, _, _, (c_X4_levelCount G ad sc ar T.1 hA0 hm.1 hI.1.2.1.1).toX, hE, fun q h => h, fun v H1 hp _ => ?_, fun E H1 hp _ => hp⟩
  obtain ⟨r, ar2, hv, hE2, hc, hsm⟩ := hp
  exact ⟨by rw [hv, hc rfl], fp_MC.s0 hE2 hm hsm⟩
set_option maxHeartbeats 1000000 in
theorem mm_steps (G : fp_G) (ad : Nat → Nat) (k : Nat) (T : TH) (i : Nat) (hA0 : fp_MA G ad) (hI : fp_TI i T) : fp_MX G yX4_steps cX4_steps 3 (some .int) 4 79 0 0 [.ref (ad 0)] (fp_MC G ad k T) (fp_ma ad) (fun H v H1 => v = some (.int (iI ((fp_steps (T.1) : Nat) : Int))) ∧ fp_MC G ad 0 T H1) (fun _ _ _ => False) := fp_MX.pick fun U hK hB hP => by
  obtain ⟨sc, ar, hE, hm, hk0⟩ := hP
  refine ⟨_, _, _, _, (c_X4_steps G ad sc ar T.1 hA0 hm.1).toX, hE, fun q h => h, fun v H1 hp _ => ?_, fun E H1 hp _ => hp⟩
  obtain ⟨r, ar2, hv, hE2, hc, hsm⟩ := hp
  exact ⟨by rw [hv, hc rfl], fp_MC.s0 hE2 hm hsm⟩
set_option maxHeartbeats 1000000 in
theorem mm_highestColumn (G : fp_G) (ad : Nat → Nat) (k : Nat) (T : TH) (i : Nat) (hA0 : fp_MA G ad) (hI : fp_TI i T) : fp_MX G yX4_highestColumn cX4_highestColumn 3 (some .int) 4 79 0 0 [.ref (ad 0)] (fp_MC G ad k T) (fp_ma ad) (fun H v H1 => v = some (.int (iI ((fp_hic (T.1) : Nat) : Int))) ∧ fp_MC G ad 0 T H1) (fun _ _ _ => False) := fp_MX.pick fun U hK hB hP => by
  obtain ⟨sc, ar, hE, hm, hk0⟩ := hP
  refine ⟨_, _, _, _, (c_X4_highestColumn G ad sc ar T.1 hA0 hm.1).toX, hE, fun q h => h, fun v H1 hp _ => ?_, fun E H1 hp _ => hp⟩
  obtain ⟨r, ar2, hv, hE2, hc, hsm⟩ := hp
  exact ⟨by rw [hv, hc rfl], fp_MC.s0 hE2 hm hsm⟩
set_option maxHeartbeats 1000000 in
theorem mm_litCount (G : fp_G) (ad : Nat → Nat) (k : Nat) (T : TH) (i : Nat) (hA0 : fp_MA G ad) (hI : fp_TI i T) : fp_MX G yX4_litCount cX4_litCount 1 (some .int) 7 149 0 0 [.ref (ad 0)] (fp_MC G ad k T) (fp_ma ad) (fun H v H1 => v = some (.int (iI ((fp_nlit (T.1) : Nat) : Int))) ∧ fp_MC G ad 0 T H1) (fun _ _ _ => False) := fp_MX.pick fun U hK hB hP => by
  obtain ⟨sc, ar, hE, hm, hk0⟩ := hP
  refine ⟨_, _, _, _, (c_X4_litCount G ad sc ar T.1 hA0 hm.1).toX, hE, fun q h => h, fun v H1 hp _ => ?_, fun E H1 hp _ => hp⟩
  obtain ⟨r, ar2, hv, hE2, hc, hsm⟩ := hp
  exact ⟨by rw [hv, hc rfl], fp_MC.s0 hE2 hm hsm⟩
set_option maxHeartbeats 1000000 in
theorem mm_totalWeight (G : fp_G) (ad : Nat → Nat) (k : Nat) (T : TH) (i : Nat) (hA0 : fp_MA G ad) (hI : fp_TI i T) : fp_MX G yX4_totalWeight cX4_totalWeight 3 (some .int) 2 34 0 0 [.ref (ad 0)] (fp_MC G ad k T) (fp_ma ad) (fun H v H1 => v = some (.int (iI ((fp_tw (T.1) : Nat) : Int))) ∧ fp_MC G ad 0 T H1) (fun _ _ _ => False) := fp_MX.pick fun U hK hB hP => by
  obtain ⟨sc, ar, hE, hm, hk0⟩ := hP
  refine ⟨_, _, _, _, (c_X4_totalWeight G ad sc ar T.1 hA0 hm.1).toX, hE, fun q h => h, fun v H1 hp _ => ?_, fun E H1 hp _ => hp⟩
  obtain ⟨r, ar2, hv, hE2, hc, hsm⟩ := hp
  exact ⟨by rw [hv, hc rfl], fp_MC.s0 hE2 hm hsm⟩
set_option maxHeartbeats 1000000 in
theorem mm_floorPressure (G : fp_G) (ad : Nat → Nat) (k : Nat) (T : TH) (i : Nat) (hA0 : fp_MA G ad) (hI : fp_TI i T) : fp_MX G yX4_floorPressure cX4_floorPressure 3 (some .int) 7 148 0 0 [.ref (ad 0)] (fp_MC G ad k T) (fp_ma ad) (fun H v H1 => v = some (.int (iI ((fp_fp (T.1) : Nat) : Int))) ∧ fp_MC G ad 0 T H1) (fun _ _ _ => False) := fp_MX.pick fun U hK hB hP => by
  obtain ⟨sc, ar, hE, hm, hk0⟩ := hP
  refine ⟨_, _, _, _, (c_X4_floorPressure G ad sc ar T.1 hA0 hm.1).toX, hE, fun q h => h, fun v H1 hp _ => ?_, fun E H1 hp _ => hp⟩
  obtain ⟨r, ar2, hv, hE2, hc, hsm⟩ := hp
  exact ⟨by rw [hv, hc rfl], fp_MC.s0 hE2 hm hsm⟩
set_option maxHeartbeats 1000000 in
theorem mm_meanHeight (G : fp_G) (ad : Nat → Nat) (k : Nat) (T : TH) (i : Nat) (hA0 : fp_MA G ad) (hI : fp_TI i T) : fp_MX G yX4_meanHeight cX4_meanHeight 3 (some .double) 4 79 0 0 [.ref (ad 0)] (fp_MC G ad k T) (fp_ma ad) (fun H v H1 => v = some (.double (fp_div12d (fp_sumh (T.1)))) ∧ fp_MC G ad 0 T H1) (fun _ _ _ => False) := fp_MX.pick fun U hK hB hP => by
  obtain ⟨sc, ar, hE, hm, hk0⟩ := hP
  refine ⟨_, _, _, _, (c_X4_meanHeight G ad sc ar T.1 hA0 hm.1).toX, hE, fun q h => h, fun v H1 hp _ => ?_, fun E H1 hp _ => hp⟩
  obtain ⟨ar2, hv, hE2, hsm⟩ := hp
  exact ⟨hv, fp_MC.s0 hE2 hm hsm⟩
set_option maxHeartbeats 1000000 in
theorem mm_litShare (G : fp_G) (ad : Nat → Nat) (k : Nat) (T : TH) (i : Nat) (hA0 : fp_MA G ad) (hI : fp_TI i T) : fp_MX G yX4_litShare cX4_litShare 1 (some .float) 7 149 0 0 [.ref (ad 0)] (fp_MC G ad k T) (fp_ma ad) (fun H v H1 => v = some (.float (fp_div12f (fp_nlit (T.1)))) ∧ fp_MC G ad 0 T H1) (fun _ _ _ => False) := fp_MX.pick fun U hK hB hP => by
  obtain ⟨sc, ar, hE, hm, hk0⟩ := hP
  refine ⟨_, _, _, _, (c_X4_litShare G ad sc ar T.1 hA0 hm.1).toX, hE, fun q h => h, fun v H1 hp _ => ?_, fun E H1 hp _ => hp⟩
  obtain ⟨ar2, hv, hE2, hsm⟩ := hp
  exact ⟨hv, fp_MC.s0 hE2 hm hsm⟩
set_option maxHeartbeats 1000000 in
theorem mm_isConsistent (G : fp_G) (ad : Nat → Nat) (k : Nat) (T : TH) (i : Nat) (hA0 : fp_MA G ad) (hI : fp_TI i T) : fp_MX G yX4_isConsistent cX4_isConsistent 2 (some .boolean) 8 169 0 0 [.ref (ad 0)] (fp_MC G ad k T) (fp_ma ad) (fun H v H1 => v = some (.int (iI (bI (fp_bears (T.1))))) ∧ fp_MC G ad 0 T H1) (fun _ _ _ => False) := fp_MX.pick fun U hK hB hP => by
  obtain ⟨sc, ar, hE, hm, hk0⟩ := hP
  refine ⟨_, _, _, _, (c_X4_isConsistent G ad sc ar T.1 hA0 hm.1).toX, hE, fun q h => h, fun v H1 hp _ => ?_, fun E H1 hp _ => hp⟩
  obtain ⟨r, ar2, hv, hE2, hc, hsm⟩ := hp
  exact ⟨by rw [hv, hc rfl], fp_MC.s0 hE2 hm hsm⟩
set_option maxHeartbeats 1000000 in
theorem mm_undoableCount (G : fp_G) (ad : Nat → Nat) (k : Nat) (T : TH) (i : Nat) (hA0 : fp_MA G ad) (hI : fp_TI i T) : fp_MX G yX4_undoableCount cX4_undoableCount 1 (some .int) 1 12 0 0 [.ref (ad 0)] (fp_MC G ad k T) (fp_ma ad) (fun H v H1 => v = some (.int (iI (((T.2.2.1.1) : Nat) : Int))) ∧ fp_MC G ad 0 T H1) (fun _ _ _ => False) := fp_MX.pick fun U hK hB hP => by
  obtain ⟨sc, ar, hE, hm, hk0⟩ := hP
  refine ⟨_, _, _, _, (c_X4_undoableCount G ad sc ar hA0 T.2.2.1.1 hm.2.1.1).toX, hE, fun q h => h, fun v H1 hp _ => ?_, fun E H1 hp _ => hp⟩
  exact ⟨hp.1, fp_MC.sa hp.2 hm⟩
set_option maxHeartbeats 1000000 in
theorem mm_canPlaceFoam (G : fp_G) (ad : Nat → Nat) (k : Nat) (T : TH) (i : Nat) (a0 : Int) (a1 : Int) (a2 : Int) (hA0 : fp_MA G ad) (hI : fp_TI i T) (g0 : rg a0) (g1 : rg a1) (g2 : rg a2) : fp_MX G yX4_canPlaceFoam cX4_canPlaceFoam 4 (some .boolean) 10 222 0 0 [.ref (ad 0), .int (iI a0), .int (iI a1), .int (iI a2)] (fp_MC G ad k T) (fp_ma ad) (fun H v H1 => ∃ r : Bool, v = some (.int (iI (bI r))) ∧ (fp_cn_c T.1 0 a0 a1 a2 = 0 → r = decide (fp_plc (T.1) 0 a0 a1 a2 = 0)) ∧ fp_MC G ad (fp_cn_c T.1 0 a0 a1 a2) T H1) (fun _ _ _ => False) := fp_MX.pick fun U hK hB hP => by
  obtain ⟨sc, ar, hE, hm, hk0⟩ := hP
  refine ⟨_, _, _, _, (c_X4_canPlaceFoam G ad sc ar T.1 hA0 hm.1 a0 a1 a2 g0 g1 g2 hI.p9 hI.1.2.1.1).toX, hE, fun q h => h, fun v H1 hp _ => ?_, fun E H1 hp _ => hp⟩
  rcases hp with ⟨g, hv, hE2, hc⟩ | ⟨g, hv, hE2, hc⟩ | ⟨g, hv, hE2, hc⟩
  · have hc0 : fp_cn_c T.1 0 a0 a1 a2 = 0 := if_neg (by omega)
    exact ⟨_, hv, fun _ => (decide_eq_true hc).symm, by rw [hc0]; exact fp_MC.s0 hE2 hm fp_sm0.c⟩
  · have hc1 : fp_cn_c T.1 0 a0 a1 a2 = 1 := if_pos hc
    exact ⟨_, hv, fun z => by rw [hc1] at z; cases z, by rw [hc1]; exact fp_MC.s0 hE2 hm fp_sm0.c⟩
  · have hc0 : fp_cn_c T.1 0 a0 a1 a2 = 0 := if_neg (by omega)
    exact ⟨_, hv, fun _ => (decide_eq_false (by omega)).symm, by rw [hc0]; exact fp_MC.s0 hE2 hm fp_sm0.c⟩
set_option maxHeartbeats 1000000 in
theorem mm_canPlaceBoard (G : fp_G) (ad : Nat → Nat) (k : Nat) (T : TH) (i : Nat) (a0 : Int) (a1 : Int) (a2 : Int) (hA0 : fp_MA G ad) (hI : fp_TI i T) (g0 : rg a0) (g1 : rg a1) (g2 : rg a2) : fp_MX G yX4_canPlaceBoard cX4_canPlaceBoard 4 (some .boolean) 10 222 0 0 [.ref (ad 0), .int (iI a0), .int (iI a1), .int (iI a2)] (fp_MC G ad k T) (fp_ma ad) (fun H v H1 => ∃ r : Bool, v = some (.int (iI (bI r))) ∧ (fp_cn_c T.1 1 a0 a1 a2 = 0 → r = decide (fp_plc (T.1) 1 a0 a1 a2 = 0)) ∧ fp_MC G ad (fp_cn_c T.1 1 a0 a1 a2) T H1) (fun _ _ _ => False) := fp_MX.pick fun U hK hB hP => by
  obtain ⟨sc, ar, hE, hm, hk0⟩ := hP
  refine ⟨_, _, _, _, (c_X4_canPlaceBoard G ad sc ar T.1 hA0 hm.1 a0 a1 a2 g0 g1 g2 hI.p9 hI.1.2.1.1).toX, hE, fun q h => h, fun v H1 hp _ => ?_, fun E H1 hp _ => hp⟩
  rcases hp with ⟨g, hv, hE2, hc⟩ | ⟨g, hv, hE2, hc⟩ | ⟨g, hv, hE2, hc⟩
  · have hc0 : fp_cn_c T.1 1 a0 a1 a2 = 0 := if_neg (by omega)
    exact ⟨_, hv, fun _ => (decide_eq_true hc).symm, by rw [hc0]; exact fp_MC.s0 hE2 hm fp_sm0.c⟩
  · have hc1 : fp_cn_c T.1 1 a0 a1 a2 = 1 := if_pos hc
    exact ⟨_, hv, fun z => by rw [hc1] at z; cases z, by rw [hc1]; exact fp_MC.s0 hE2 hm fp_sm0.c⟩
  · have hc0 : fp_cn_c T.1 1 a0 a1 a2 = 0 := if_neg (by omega)
    exact ⟨_, hv, fun _ => (decide_eq_false (by omega)).symm, by rw [hc0]; exact fp_MC.s0 hE2 hm fp_sm0.c⟩
set_option maxHeartbeats 1000000 in
theorem mm_canPlaceBag (G : fp_G) (ad : Nat → Nat) (k : Nat) (T : TH) (i : Nat) (a0 : Int) (a1 : Int) (a2 : Int) (hA0 : fp_MA G ad) (hI : fp_TI i T) (g0 : rg a0) (g1 : rg a1) (g2 : rg a2) : fp_MX G yX4_canPlaceBag cX4_canPlaceBag 4 (some .boolean) 10 222 0 0 [.ref (ad 0), .int (iI a0), .int (iI a1), .int (iI a2)] (fp_MC G ad k T) (fp_ma ad) (fun H v H1 => ∃ r : Bool, v = some (.int (iI (bI r))) ∧ (fp_cn_c T.1 2 a0 a1 a2 = 0 → r = decide (fp_plc (T.1) 2 a0 a1 a2 = 0)) ∧ fp_MC G ad (fp_cn_c T.1 2 a0 a1 a2) T H1) (fun _ _ _ => False) := fp_MX.pick fun U hK hB hP => by
  obtain ⟨sc, ar, hE, hm, hk0⟩ := hP
  refine ⟨_, _, _, _, (c_X4_canPlaceBag G ad sc ar T.1 hA0 hm.1 a0 a1 a2 g0 g1 g2 hI.p9 hI.1.2.1.1).toX, hE, fun q h => h, fun v H1 hp _ => ?_, fun E H1 hp _ => hp⟩
  rcases hp with ⟨g, hv, hE2, hc⟩ | ⟨g, hv, hE2, hc⟩ | ⟨g, hv, hE2, hc⟩
  · have hc0 : fp_cn_c T.1 2 a0 a1 a2 = 0 := if_neg (by omega)
    exact ⟨_, hv, fun _ => (decide_eq_true hc).symm, by rw [hc0]; exact fp_MC.s0 hE2 hm fp_sm0.c⟩
  · have hc1 : fp_cn_c T.1 2 a0 a1 a2 = 1 := if_pos hc
    exact ⟨_, hv, fun z => by rw [hc1] at z; cases z, by rw [hc1]; exact fp_MC.s0 hE2 hm fp_sm0.c⟩
  · have hc0 : fp_cn_c T.1 2 a0 a1 a2 = 0 := if_neg (by omega)
    exact ⟨_, hv, fun _ => (decide_eq_false (by omega)).symm, by rw [hc0]; exact fp_MC.s0 hE2 hm fp_sm0.c⟩
set_option maxHeartbeats 1000000 in
theorem mm_heaviestFoam (G : fp_G) (ad : Nat → Nat) (k : Nat) (T : TH) (i : Nat) (a0 : Int) (a1 : Int) (hA0 : fp_MA G ad) (hI : fp_TI i T) (g0 : rg a0) (g1 : rg a1) : fp_MX G yX4_heaviestFoam cX4_heaviestFoam 4 (some .int) 10 222 0 0 [.ref (ad 0), .int (iI a0), .int (iI a1)] (fp_MC G ad k T) (fp_ma ad) (fun H v H1 => ∃ r : Int, v = some (.int (iI r)) ∧ (fp_hvc T.1 a0 a1 = 0 → r = ((fp_hv (T.1) a0 a1 : Nat) : Int)) ∧ fp_MC G ad (fp_hvc T.1 a0 a1) T H1) (fun _ _ _ => False) := fp_MX.pick fun U hK hB hP => by
  obtain ⟨sc, ar, hE, hm, hk0⟩ := hP
  refine ⟨_, _, _, _, (c_X4_heaviestFoam G ad sc ar T.1 hA0 hm.1 a0 a1 g0 g1 hI.p9 hI.1.2.1.1).toX, hE, fun q h => h, fun v H1 hp _ => ?_, fun E H1 hp _ => hp⟩
  obtain ⟨r, ar2, hv, hE2, hc, hsm⟩ := hp
  exact ⟨r, hv, hc, fp_MC.s0 hE2 hm (fp_sm0.c2 hsm)⟩
set_option maxHeartbeats 1000000 in
theorem mm_placeFoam (G : fp_G) (ad : Nat → Nat) (k : Nat) (T : TH) (i : Nat) (a0 : Int) (a1 : Int) (a2 : Int) (hA0 : fp_MA G ad) (hI : fp_TI i T) (g0 : rg a0) (g1 : rg a1) (g2 : rg a2) : fp_MX G yX4_placeFoam cX4_placeFoam 4 (some .int) 9 196 0 0 [.ref (ad 0), .int (iI a0), .int (iI a1), .int (iI a2)] (fp_MC G ad k T) (fp_ma ad) (fun H v H1 => ∃ r : Int, v = some (.int (iI r)) ∧ (fp_plc T.1 0 a0 a1 a2 = 0 → r = ((sP (T.1) : Nat) : Int)) ∧ fp_MC G ad (fp_plc T.1 0 a0 a1 a2) (fp_if (fp_plc T.1 0 a0 a1 a2) (fp_psh T (fp_add T.1 0 a0.toNat a1.toNat a2.toNat)) T) H1) (fun _ _ _ => False) := fp_MX.pick fun U hK hB hP => by
  obtain ⟨sc, ar, hE, hm, hk0⟩ := hP
  refine ⟨_, _, _, _, (c_X4_placeFoam G ad sc ar T.1 hA0 hm.1 T.2.2.1.2 T.2.2.1.1 hm.2.1.1 hI.h8 hm.2.1.2 a0 a1 a2 g0 g1 g2 hI.p9 hI.1.2.1.1).toX, hE, fun q h => h, fun v H1 hp _ => ?_, fun E H1 hp _ => hp⟩
  rcases hp with ⟨ar2, hv, hE2, -, hsm, hc⟩ | ⟨ar2, hv, hE2, -, hsm, hc⟩ | ⟨ar2, hv, hE2, hVR, hHR, hsm, hc⟩
  · have hc1 : fp_plc T.1 0 a0 a1 a2 = 1 := hc
    exact ⟨_, hv, fun z => by rw [hc1] at z; cases z, fp_MC.if1 (fp_MC.s0 hE2 hm hsm) hc1 (by decide)⟩
  · have hc2 : fp_plc T.1 0 a0 a1 a2 = 2 := hc
    exact ⟨_, hv, fun z => by rw [hc2] at z; cases z, fp_MC.if1 (fp_MC.s0 hE2 hm hsm) hc2 (by decide)⟩
  · have hc0 : fp_plc T.1 0 a0 a1 a2 = 0 := hc
    exact ⟨_, hv, fun _ => rfl, fp_MC.if0 (fp_MC.psh hE2 hm hVR hHR hsm) hc0⟩
set_option maxHeartbeats 1000000 in
theorem mm_placeBoard (G : fp_G) (ad : Nat → Nat) (k : Nat) (T : TH) (i : Nat) (a0 : Int) (a1 : Int) (a2 : Int) (hA0 : fp_MA G ad) (hI : fp_TI i T) (g0 : rg a0) (g1 : rg a1) (g2 : rg a2) : fp_MX G yX4_placeBoard cX4_placeBoard 4 (some .int) 9 196 0 0 [.ref (ad 0), .int (iI a0), .int (iI a1), .int (iI a2)] (fp_MC G ad k T) (fp_ma ad) (fun H v H1 => ∃ r : Int, v = some (.int (iI r)) ∧ (fp_plc T.1 1 a0 a1 a2 = 0 → r = ((sP (T.1) : Nat) : Int)) ∧ fp_MC G ad (fp_plc T.1 1 a0 a1 a2) (fp_if (fp_plc T.1 1 a0 a1 a2) (fp_psh T (fp_add T.1 1 a0.toNat a1.toNat a2.toNat)) T) H1) (fun _ _ _ => False) := fp_MX.pick fun U hK hB hP => by
  obtain ⟨sc, ar, hE, hm, hk0⟩ := hP
  refine ⟨_, _, _, _, (c_X4_placeBoard G ad sc ar T.1 hA0 hm.1 T.2.2.1.2 T.2.2.1.1 hm.2.1.1 hI.h8 hm.2.1.2 a0 a1 a2 g0 g1 g2 hI.p9 hI.1.2.1.1).toX, hE, fun q h => h, fun v H1 hp _ => ?_, fun E H1 hp _ => hp⟩
  rcases hp with ⟨ar2, hv, hE2, -, hsm, hc⟩ | ⟨ar2, hv, hE2, -, hsm, hc⟩ | ⟨ar2, hv, hE2, hVR, hHR, hsm, hc⟩
  · have hc1 : fp_plc T.1 1 a0 a1 a2 = 1 := hc
    exact ⟨_, hv, fun z => by rw [hc1] at z; cases z, fp_MC.if1 (fp_MC.s0 hE2 hm hsm) hc1 (by decide)⟩
  · have hc2 : fp_plc T.1 1 a0 a1 a2 = 2 := hc
    exact ⟨_, hv, fun z => by rw [hc2] at z; cases z, fp_MC.if1 (fp_MC.s0 hE2 hm hsm) hc2 (by decide)⟩
  · have hc0 : fp_plc T.1 1 a0 a1 a2 = 0 := hc
    exact ⟨_, hv, fun _ => rfl, fp_MC.if0 (fp_MC.psh hE2 hm hVR hHR hsm) hc0⟩
set_option maxHeartbeats 1000000 in
theorem mm_placeBag (G : fp_G) (ad : Nat → Nat) (k : Nat) (T : TH) (i : Nat) (a0 : Int) (a1 : Int) (a2 : Int) (hA0 : fp_MA G ad) (hI : fp_TI i T) (g0 : rg a0) (g1 : rg a1) (g2 : rg a2) : fp_MX G yX4_placeBag cX4_placeBag 4 (some .int) 9 196 0 0 [.ref (ad 0), .int (iI a0), .int (iI a1), .int (iI a2)] (fp_MC G ad k T) (fp_ma ad) (fun H v H1 => ∃ r : Int, v = some (.int (iI r)) ∧ (fp_plc T.1 2 a0 a1 a2 = 0 → r = ((sP (T.1) : Nat) : Int)) ∧ fp_MC G ad (fp_plc T.1 2 a0 a1 a2) (fp_if (fp_plc T.1 2 a0 a1 a2) (fp_psh T (fp_add T.1 2 a0.toNat a1.toNat a2.toNat)) T) H1) (fun _ _ _ => False) := fp_MX.pick fun U hK hB hP => by
  obtain ⟨sc, ar, hE, hm, hk0⟩ := hP
  refine ⟨_, _, _, _, (c_X4_placeBag G ad sc ar T.1 hA0 hm.1 T.2.2.1.2 T.2.2.1.1 hm.2.1.1 hI.h8 hm.2.1.2 a0 a1 a2 g0 g1 g2 hI.p9 hI.1.2.1.1).toX, hE, fun q h => h, fun v H1 hp _ => ?_, fun E H1 hp _ => hp⟩
  rcases hp with ⟨ar2, hv, hE2, -, hsm, hc⟩ | ⟨ar2, hv, hE2, -, hsm, hc⟩ | ⟨ar2, hv, hE2, hVR, hHR, hsm, hc⟩
  · have hc1 : fp_plc T.1 2 a0 a1 a2 = 1 := hc
    exact ⟨_, hv, fun z => by rw [hc1] at z; cases z, fp_MC.if1 (fp_MC.s0 hE2 hm hsm) hc1 (by decide)⟩
  · have hc2 : fp_plc T.1 2 a0 a1 a2 = 2 := hc
    exact ⟨_, hv, fun z => by rw [hc2] at z; cases z, fp_MC.if1 (fp_MC.s0 hE2 hm hsm) hc2 (by decide)⟩
  · have hc0 : fp_plc T.1 2 a0 a1 a2 = 0 := hc
    exact ⟨_, hv, fun _ => rfl, fp_MC.if0 (fp_MC.psh hE2 hm hVR hHR hsm) hc0⟩
set_option maxHeartbeats 1000000 in
theorem mm_remove (G : fp_G) (ad : Nat → Nat) (k : Nat) (T : TH) (i : Nat) (a0 : Int) (hA0 : fp_MA G ad) (hI : fp_TI i T) (g0 : rg a0) : fp_MX G yX4_remove cX4_remove 2 (some .int) 6 123 0 0 [.ref (ad 0), .int (iI a0)] (fp_MC G ad k T) (fp_ma ad) (fun H v H1 => ∃ r : Int, v = some (.int (iI r)) ∧ (fp_rm_c T.1 a0 = 0 → r = ((sN (T.1) - 1 : Nat) : Int)) ∧ fp_MC G ad (fp_rm_c T.1 a0) (fp_if (fp_rm_c T.1 a0) (fp_psh T (fp_del T.1 (fp_fnd T.1 a0))) T) H1) (fun _ _ _ => False) := fp_MX.pick fun U hK hB hP => by
  obtain ⟨sc, ar, hE, hm, hk0⟩ := hP
  refine ⟨_, _, _, _, (c_X4_remove G ad sc ar T.1 hA0 hm.1 T.2.2.1.2 T.2.2.1.1 hm.2.1.1 hI.h8 hm.2.1.2 a0 g0).toX, hE, fun q h => h, fun v H1 hp _ => ?_, fun E H1 hp _ => hp⟩
  rcases hp with ⟨ar2, hv, hE2, -, hsm, hc⟩ | ⟨ar2, hv, hE2, -, hsm, hc, hu⟩ | ⟨ar2, hv, hE2, hVR, hHR, hsm, hc, hu⟩
  · have hc1 : fp_rm_c T.1 a0 = 1 := if_pos (fp_fc_1 hc)
    exact ⟨_, hv, fun z => by rw [hc1] at z; cases z, fp_MC.if1 (fp_MC.s0 hE2 hm hsm) hc1 (by decide)⟩
  · have hc2 : fp_rm_c T.1 a0 = 2 := (if_neg (by rw [fp_fc_c hc]; decide)).trans (if_pos hu)
    exact ⟨_, hv, fun z => by rw [hc2] at z; cases z, fp_MC.if1 (fp_MC.s0 hE2 hm hsm) hc2 (by decide)⟩
  · have hc0 : fp_rm_c T.1 a0 = 0 := (if_neg (by rw [fp_fc_c hc]; decide)).trans (if_neg (by rw [hu]; decide))
    exact ⟨_, hv, fun _ => rfl, fp_MC.if0 (fp_MC.psh hE2 hm hVR hHR hsm) hc0⟩
set_option maxHeartbeats 1000000 in
theorem mm_addTorch (G : fp_G) (ad : Nat → Nat) (k : Nat) (T : TH) (i : Nat) (a0 : Int) (hA0 : fp_MA G ad) (hI : fp_TI i T) (g0 : rg a0) : fp_MX G yX4_addTorch cX4_addTorch 2 (some .int) 4 76 0 0 [.ref (ad 0), .int (iI a0)] (fp_MC G ad k T) (fp_ma ad) (fun H v H1 => ∃ r : Int, v = some (.int (iI r)) ∧ (fp_at_c T.1 a0 = 0 → r = ((fp_tor (fp_sett (T.1) a0.toNat 1) : Nat) : Int)) ∧ fp_MC G ad (fp_at_c T.1 a0) (fp_if (fp_at_c T.1 a0) (fp_psh T (fp_sett T.1 a0.toNat 1)) T) H1) (fun _ _ _ => False) := fp_MX.pick fun U hK hB hP => by
  obtain ⟨sc, ar, hE, hm, hk0⟩ := hP
  refine ⟨_, _, _, _, (c_X4_addTorch G ad sc ar T.1 hA0 hm.1 T.2.2.1.2 T.2.2.1.1 hm.2.1.1 hI.h8 hm.2.1.2 a0 g0).toX, hE, fun q h => h, fun v H1 hp _ => ?_, fun E H1 hp _ => hp⟩
  rcases hp with ⟨ar2, hv, hE2, -, hsm, hc⟩ | ⟨c9, ar2, hv, hE2, -, hsm, hcc, hu⟩ | ⟨c9, ar2, hv, hE2, hVR, hHR, hsm, hcc, hu⟩
  · have hc1 : fp_at_c T.1 a0 = 1 := if_pos (fp_cc_1 hc)
    exact ⟨_, hv, fun z => by rw [hc1] at z; cases z, fp_MC.if1 (fp_MC.s0 hE2 hm hsm) hc1 (by decide)⟩
  · obtain ⟨rfl, hc12⟩ := hcc
    have hc2 : fp_at_c T.1 a0 = 2 := (if_neg (by rw [fp_cc_c hc12]; decide)).trans (if_pos (by rw [Int.toNat_natCast]; exact hu))
    exact ⟨_, hv, fun z => by rw [hc2] at z; cases z, fp_MC.if1 (fp_MC.s0 hE2 hm hsm) hc2 (by decide)⟩
  · obtain ⟨rfl, hc12⟩ := hcc
    have hc0 : fp_at_c T.1 a0 = 0 := (if_neg (by rw [fp_cc_c hc12]; decide)).trans (if_neg (by rw [Int.toNat_natCast]; exact hu))
    exact ⟨_, hv, fun _ => by rw [Int.toNat_natCast], fp_MC.if0 (fp_MC.psh hE2 hm hVR hHR hsm) hc0⟩
set_option maxHeartbeats 1000000 in
theorem mm_removeTorch (G : fp_G) (ad : Nat → Nat) (k : Nat) (T : TH) (i : Nat) (a0 : Int) (hA0 : fp_MA G ad) (hI : fp_TI i T) (g0 : rg a0) : fp_MX G yX4_removeTorch cX4_removeTorch 2 (some .int) 4 76 0 0 [.ref (ad 0), .int (iI a0)] (fp_MC G ad k T) (fp_ma ad) (fun H v H1 => ∃ r : Int, v = some (.int (iI r)) ∧ (fp_rt_c T.1 a0 = 0 → r = ((fp_tor (fp_sett (T.1) a0.toNat 0) : Nat) : Int)) ∧ fp_MC G ad (fp_rt_c T.1 a0) (fp_if (fp_rt_c T.1 a0) (fp_psh T (fp_sett T.1 a0.toNat 0)) T) H1) (fun _ _ _ => False) := fp_MX.pick fun U hK hB hP => by
  obtain ⟨sc, ar, hE, hm, hk0⟩ := hP
  refine ⟨_, _, _, _, (c_X4_removeTorch G ad sc ar T.1 hA0 hm.1 T.2.2.1.2 T.2.2.1.1 hm.2.1.1 hI.h8 hm.2.1.2 a0 g0).toX, hE, fun q h => h, fun v H1 hp _ => ?_, fun E H1 hp _ => hp⟩
  rcases hp with ⟨ar2, hv, hE2, -, hsm, hc⟩ | ⟨c9, ar2, hv, hE2, -, hsm, hcc, hu⟩ | ⟨c9, ar2, hv, hE2, hVR, hHR, hsm, hcc, hu⟩
  · have hc1 : fp_rt_c T.1 a0 = 1 := if_pos (fp_cc_1 hc)
    exact ⟨_, hv, fun z => by rw [hc1] at z; cases z, fp_MC.if1 (fp_MC.s0 hE2 hm hsm) hc1 (by decide)⟩
  · obtain ⟨rfl, hc12⟩ := hcc
    have hc2 : fp_rt_c T.1 a0 = 2 := (if_neg (by rw [fp_cc_c hc12]; decide)).trans (if_neg (by rw [Int.toNat_natCast]; omega))
    exact ⟨_, hv, fun z => by rw [hc2] at z; cases z, fp_MC.if1 (fp_MC.s0 hE2 hm hsm) hc2 (by decide)⟩
  · obtain ⟨rfl, hc12⟩ := hcc
    have hc0 : fp_rt_c T.1 a0 = 0 := (if_neg (by rw [fp_cc_c hc12]; decide)).trans (if_pos (by rw [Int.toNat_natCast]; have := hI.1.1.2.2.2.2 c9 hc12; omega))
    exact ⟨_, hv, fun _ => by rw [Int.toNat_natCast], fp_MC.if0 (fp_MC.psh hE2 hm hVR hHR hsm) hc0⟩
set_option maxHeartbeats 1000000 in
theorem mm_setZone (G : fp_G) (ad : Nat → Nat) (k : Nat) (T : TH) (i : Nat) (a0 : Int) (a1 : Int) (hA0 : fp_MA G ad) (hI : fp_TI i T) (g0 : rg a0) (g1 : rg a1) : fp_MX G yX4_setZone cX4_setZone 4 (some .char) 4 77 0 0 [.ref (ad 0), .int (iI a0), .int (iI a1)] (fp_MC G ad k T) (fp_ma ad) (fun H v H1 => ∃ r : Int, v = some (.int (iI r)) ∧ (fp_sz_c a0 a1 = 0 → r = ((fp_zlet (sZ (T.1) a0.toNat) : Nat) : Int)) ∧ fp_MC G ad (fp_sz_c a0 a1) (fp_if (fp_sz_c a0 a1) (fp_psh T (fp_setz T.1 a0.toNat (fp_zby a1).toNat)) T) H1) (fun _ _ _ => False) := fp_MX.pick fun U hK hB hP => by
  obtain ⟨sc, ar, hE, hm, hk0⟩ := hP
  refine ⟨_, _, _, _, (c_X4_setZone G ad sc ar T.1 hA0 hm.1 T.2.2.1.2 T.2.2.1.1 hm.2.1.1 hI.h8 hm.2.1.2 a0 a1 g0 g1).toX, hE, fun q h => h, fun v H1 hp _ => ?_, fun E H1 hp _ => hp⟩
  rcases hp with ⟨ar2, hv, hE2, -, hsm, hc⟩ | ⟨ar2, hv, hE2, -, hsm, hc, hu⟩ | ⟨c9, ar2, hv, hE2, hVR, hHR, hsm, hcc, hu⟩
  · have hc1 : fp_sz_c a0 a1 = 1 := if_pos (fp_cc_1 hc)
    exact ⟨_, hv, fun z => by rw [hc1] at z; cases z, fp_MC.if1 (fp_MC.s0 hE2 hm hsm) hc1 (by decide)⟩
  · have hc2 : fp_sz_c a0 a1 = 2 := (if_neg (by rw [show fp_cc a0 = 0 from if_pos hc]; decide)).trans (if_pos hu)
    exact ⟨_, hv, fun z => by rw [hc2] at z; cases z, fp_MC.if1 (fp_MC.s0 hE2 hm hsm) hc2 (by decide)⟩
  · obtain ⟨rfl, hc12⟩ := hcc
    have hc0 : fp_sz_c a0 a1 = 0 := (if_neg (by rw [fp_cc_c hc12]; decide)).trans (if_neg (by omega))
    exact ⟨_, hv, fun _ => by rw [Int.toNat_natCast], fp_MC.if0 (fp_MC.psh hE2 hm hVR hHR hsm) hc0⟩
set_option maxHeartbeats 1000000 in
theorem mm_formatBlock (G : fp_G) (ad : Nat → Nat) (k : Nat) (T : TH) (i : Nat) (a0 : Int) (hA0 : fp_MA G ad) (hI : fp_TI i T) (g0 : rg a0) : fp_MX G yX4_formatBlock cX4_formatBlock 3 (some .int) 7 148 0 0 [.ref (ad 0), .int (iI a0)] (fp_MC G ad k T) (fp_ma ad) (fun H v H1 => ∃ r : Int, v = some (.int (iI r)) ∧ (fp_fc T.1 a0 = 0 → r = (((fp_fbl (T.1) (fp_fnd (T.1) a0)).2 : Nat) : Int)) ∧ fp_MC G ad (fp_fc T.1 a0) (fp_if (fp_fc T.1 a0) (fp_Tln T (fp_fbl T.1 (fp_fnd T.1 a0))) T) H1) (fun _ _ _ => False) := fp_MX.pick fun U hK hB hP => by
  obtain ⟨sc, ar, hE, hm, hk0⟩ := hP
  refine ⟨_, _, _, _, (c_X4_formatBlock G ad sc ar T.1 hA0 hm.1 a0 g0).toX, hE, fun q h => h, fun v H1 hp _ => ?_, fun E H1 hp _ => hp⟩
  rcases hp with ⟨hv, hE2, hc⟩ | ⟨ar2, hv, hE2, hc, hL, hsm⟩
  · exact ⟨_, hv, fun z => by rw [fp_fc_1 hc] at z; cases z, fp_MC.if1 (fp_MC.sa hE2 hm) (fp_fc_1 hc) (by decide)⟩
  · exact ⟨_, hv, fun _ => rfl, fp_MC.if0 ⟨_, _, hE2, hm.ln hL hsm, by rw [va_up_ne _ _ (by decide), va_up_self]⟩ (fp_fc_c hc)⟩
set_option maxHeartbeats 1000000 in
theorem mm_formatHeights (G : fp_G) (ad : Nat → Nat) (k : Nat) (T : TH) (i : Nat) (hA0 : fp_MA G ad) (hI : fp_TI i T) : fp_MX G yX4_formatHeights cX4_formatHeights 2 (some .int) 4 79 0 0 [.ref (ad 0)] (fp_MC G ad k T) (fp_ma ad) (fun H v H1 => v = some (.int (iI (((fp_fhl (T.1) 12).2 : Nat) : Int))) ∧ fp_MC G ad 0 (fp_Tln T (fp_fhl T.1 12)) H1) (fun _ _ _ => False) := fp_MX.pick fun U hK hB hP => by
  obtain ⟨sc, ar, hE, hm, hk0⟩ := hP
  refine ⟨_, _, _, _, (c_X4_formatHeights G ad sc ar T.1 hA0 hm.1).toX, hE, fun q h => h, fun v H1 hp _ => ?_, fun E H1 hp _ => hp⟩
  obtain ⟨ar2, hv, hE2, hL, hsm⟩ := hp
  exact ⟨hv, ⟨_, _, hE2, hm.ln hL hsm, by rw [va_up_ne _ _ (by decide), va_up_self]⟩⟩
set_option maxHeartbeats 1000000 in
theorem mm_append (G : fp_G) (ad : Nat → Nat) (k : Nat) (T : TH) (i : Nat) (a0 : Int) (hA0 : fp_MA G ad) (hI : fp_TI i T) (g0 : 0 ≤ a0 ∧ a0 < 65536) : fp_MX G yX4_append cX4_append 2 (some .int) 2 34 0 0 [.ref (ad 0), .int (iI a0)] (fp_MC G ad k T) (fp_ma ad) (fun H v H1 => ∃ r : Int, v = some (.int (iI r)) ∧ (fp_ap_c T.2.2.2.1.1 a0 = 0 → r = (((T.2.2.2.1.1) + 1 : Nat) : Int)) ∧ fp_MC G ad (fp_ap_c T.2.2.2.1.1 a0) (fp_if (fp_ap_c T.2.2.2.1.1 a0) (fp_Tap T a0) T) H1) (fun _ _ _ => False) := fp_MX.pick fun U hK hB hP => by
  obtain ⟨sc, ar, hE, hm, hk0⟩ := hP
  refine ⟨_, _, _, _, (c_X4_append G ad sc ar hA0 T.2.2.2.1.1 hm.2.2.2.1.1 (by have := hI.n23; omega) a0 g0).toX, hE, fun q h => h, fun v H1 hp _ => ?_, fun E H1 hp _ => hp⟩
  rcases hp with ⟨hv, hE2, hc⟩ | ⟨hv, hE2, hc, hc2⟩ | ⟨hv, hE2, hc, hc2⟩
  · have hc1 : fp_ap_c T.2.2.2.1.1 a0 = 1 := if_pos hc
    exact ⟨_, hv, fun z => by rw [hc1] at z; cases z, fp_MC.if1 (fp_MC.sa hE2 hm) hc1 (by decide)⟩
  · have hc1 : fp_ap_c T.2.2.2.1.1 a0 = 2 := (if_neg (by omega)).trans (if_pos hc2)
    exact ⟨_, hv, fun z => by rw [hc1] at z; cases z, fp_MC.if1 (fp_MC.sa hE2 hm) hc1 (by decide)⟩
  · have hc0 : fp_ap_c T.2.2.2.1.1 a0 = 0 := (if_neg (by omega)).trans (if_neg (by omega))
    exact ⟨_, hv, fun _ => rfl, fp_MC.if0 ⟨_, _, hE2, hm.ap g0.1, by rw [va_up_ne _ _ (by decide), va_up_self]⟩ hc0⟩
set_option maxHeartbeats 1000000 in
theorem mm_undo (G : fp_G) (ad : Nat → Nat) (k : Nat) (T : TH) (i : Nat) (hA0 : fp_MA G ad) (hI : fp_TI i T) : fp_MX G yX4_undo cX4_undo 2 (some .int) 1 12 0 0 [.ref (ad 0)] (fp_MC G ad k T) (fp_ma ad) (fun H v H1 => ∃ r : Int, v = some (.int (iI r)) ∧ (fp_un_c T.2.2.1.1 = 0 → r = (((T.2.2.1.1) - 1 : Nat) : Int)) ∧ fp_MC G ad (fp_un_c T.2.2.1.1) (fp_if (fp_un_c T.2.2.1.1) (fp_Tun T) T) H1) (fun _ _ _ => False) := fp_MX.pick fun U hK hB hP => by
  obtain ⟨sc, ar, hE, hm, hk0⟩ := hP
  refine ⟨_, _, _, _, (c_X4_undo G ad sc ar hA0 T.2.2.1.2 T.2.2.1.1 hm.2.1.1 hI.h8 hm.2.1.2).toX, hE, fun q h => h, fun v H1 hp _ => ?_, fun E H1 hp _ => hp⟩
  rcases hp with ⟨hv, hE2, hc⟩ | ⟨v2, hv, hE2, hc, hVR⟩
  · have hc1 : fp_un_c T.2.2.1.1 = 1 := if_pos hc
    exact ⟨_, hv, fun z => by rw [hc1] at z; cases z, fp_MC.if1 (fp_MC.sa hE2 hm) hc1 (by decide)⟩
  · have hc0 : fp_un_c T.2.2.1.1 = 0 := if_neg hc
    exact ⟨_, hv, fun _ => rfl, fp_MC.if0 ⟨_, _, hE2, hm.un hc hVR, by rw [va_up_ne _ _ (by decide), va_up_self]⟩ hc0⟩
set_option maxHeartbeats 1000000 in
theorem mm_save (G : fp_G) (ad : Nat → Nat) (k : Nat) (T : TH) (i : Nat) (hA0 : fp_MA G ad) (hI : fp_TI i T) : fp_MX G yX4_save cX4_save 1 (some .int) 2 34 0 0 [.ref (ad 0)] (fp_MC G ad k T) (fp_ma ad) (fun H v H1 => v = some (.int (iI ((sN (T.1) : Nat) : Int))) ∧ fp_MC G ad 0 (fp_Tsv T) H1) (fun _ _ _ => False) := fp_MX.pick fun U hK hB hP => by
  obtain ⟨sc, ar, hE, hm, hk0⟩ := hP
  refine ⟨_, _, _, _, (c_X4_save G ad sc ar T.1 hA0 hm.1).toX, hE, fun q h => h, fun v H1 hp _ => ?_, fun E H1 hp _ => hp⟩
  exact ⟨hp.1, ⟨_, _, hp.2, hm.sv, by rw [va_up_ne _ _ (by decide), va_up_self]⟩⟩
set_option maxHeartbeats 1000000 in
theorem mm_restore (G : fp_G) (ad : Nat → Nat) (k : Nat) (T : TH) (i : Nat) (hA0 : fp_MA G ad) (hI : fp_TI i T) : fp_MX G yX4_restore cX4_restore 1 (some .int) 2 34 0 0 [.ref (ad 0)] (fp_MC G ad k T) (fp_ma ad) (fun H v H1 => ∃ r : Int, v = some (.int (iI r)) ∧ (fp_re_c T.2.1 = 0 → r = ((sN (T.2.1.getD T.1) : Nat) : Int)) ∧ fp_MC G ad (fp_re_c T.2.1) (fp_if (fp_re_c T.2.1) (fp_Tre T) T) H1) (fun _ _ _ => False) := fp_MX.pick fun U hK hB hP => by
  obtain ⟨sc, ar, hE, hm, hk0⟩ := hP
  rcases id hm.2.2.1 with ⟨hV, hs4⟩ | ⟨V, hV, hs4, hVR⟩
  · have hc1 : fp_re_c T.2.1 = 1 := if_pos hV
    refine ⟨_, _, _, _, (c_X4_restore G ad sc ar hA0 T.1 0 hs4 (by decide) (fun h => nomatch h)).toX, hE, fun q h => h, fun v H1 hp _ => ?_, fun E H1 hp _ => hp⟩
    rcases hp with ⟨hv, hE2, -⟩ | ⟨-, -, h⟩
    · exact ⟨_, hv, fun z => by rw [hc1] at z; cases z, fp_MC.if1 (fp_MC.sa hE2 hm) hc1 (by decide)⟩
    · cases h
  · have hc0 : fp_re_c T.2.1 = 0 := if_neg (by rw [hV]; exact fun h => nomatch h)
    refine ⟨_, _, _, _, (c_X4_restore G ad sc ar hA0 V 1 hs4 (by decide) (fun _ => hVR)).toX, hE, fun q h => h, fun v H1 hp _ => ?_, fun E H1 hp _ => hp⟩
    rcases hp with ⟨-, -, h⟩ | ⟨hv, hE2, -⟩
    · cases h
    · exact ⟨_, hv, fun _ => by rw [hV]; rfl, fp_MC.if0 ⟨_, _, hE2, hm.re hV hVR, by rw [va_up_ne _ _ (by decide), va_up_self]⟩ hc0⟩
set_option maxHeartbeats 1000000 in
theorem mm_run (G : fp_G) (ad : Nat → Nat) (k : Nat) (T : TH) (i : Nat) (P : List (Nat × Int × Int × Int) × Bool × Nat) (R : Nat × Nat × PS) (hA0 : fp_MA G ad) (hI : fp_TI i T) (hPp : fp_prg T.2.2.2.1.2 T.2.2.2.1.1 = P) (hRr : fp_exe P.1 T.1 = R) : fp_MX G yX4_run cX4_run 2 (some .int) 12 266 0 0 [.ref (ad 0)] (fp_MC G ad k T) (fp_ma ad) (fun H v H1 => ∃ r : Int, v = some (.int (iI r)) ∧ (fp_rn_c P R = 0 → r = ((R.1 : Nat) : Int)) ∧ fp_MC G ad (fp_rn_c P R) (fp_Trn T P R) H1) (fun _ _ _ => False) := fp_MX.pick fun U hK hB hP => by
  obtain ⟨sc, ar, hE, hm, hk0⟩ := hP
  refine ⟨_, _, _, _, (c_X4_run G ad sc ar T.1 hA0 hm.1 T.2.2.1.2 T.2.2.1.1 hm.2.1.1 hI.h8 hm.2.1.2 T.2.2.2.1.2 T.2.2.2.1.1 hm.2.2.2.1.1 (by have := hI.n23; omega) hm.2.2.2.1.2 (fun j hj => by have := hI.2.2.2.1.2 j hj; omega) hm.2.2.2.2.2.2.1 hm.2.2.2.2.2.2.2 P hPp R hRr (by have a := hI.1.2.2; have b9 := hI.n23; have c9 := hI.2.2.2.2.2.2.2; omega) hI.1.2.1.1).toX, hE, fun q h => h, fun v H1 hp _ => ?_, fun E H1 hp _ => hp⟩
  rcases hp with ⟨e, ar2, hv, hE2, -, hsm, hc⟩ | ⟨e, ar2, hv, hE2, -, hsm, hPf, hR2⟩ | ⟨n, S2, e, ar2, hv, hE2, hVR, hHR, hsm, hPf, hR9⟩
  · have hPt : P.2.1 = true := congrArg Prod.fst hc
    have hc1 : fp_rn_c P R = 1 := if_pos hPt
    have hT : fp_Trn T P R = fp_Ter (fp_T0 T) (P.2.2 : Nat) := if_pos hPt
    have hPe : P.2.2 = e := congrArg Prod.snd hc
    refine ⟨_, hv, fun z => by rw [hc1] at z; cases z, ?_⟩
    rw [hc1, hT, hPe]
    refine ⟨_, _, hE2, ((hm.ar hsm.e).t0.er (e := ((e : Nat) : Int))).sc (fun k hk => ?_), by rw [va_up_ne _ _ (by decide), va_up_self]⟩
    rcases hk with rfl | rfl | rfl | rfl | rfl | rfl <;> rfl
  · have hc1 : fp_rn_c P R = 2 := (if_neg (by rw [hPf]; decide)).trans (if_pos hR2)
    have hT : fp_Trn T P R = fp_Tfa (fp_T0 T) (R.1 : Nat) := (if_neg (by rw [hPf]; decide)).trans (if_pos hR2)
    refine ⟨_, hv, fun z => by rw [hc1] at z; cases z, ?_⟩
    rw [hc1, hT]
    refine ⟨_, _, hE2, ((hm.ar hsm.e).t0.fa (e := ((R.1 : Nat) : Int))).sc (fun k hk => ?_), by rw [va_up_ne _ _ (by decide), va_up_self]⟩
    rcases hk with rfl | rfl | rfl | rfl | rfl | rfl <;> rfl
  · subst hR9
    have hc0 : fp_rn_c P (n, 0, S2) = 0 := (if_neg (by rw [hPf]; decide)).trans (if_neg (fun h => h rfl))
    have hT : fp_Trn T P (n, 0, S2) = fp_psh (fp_T0 T) S2 := (if_neg (by rw [hPf]; decide)).trans (if_neg (fun h => h rfl))
    refine ⟨_, hv, fun _ => rfl, ?_⟩
    rw [hc0, hT]
    refine ⟨_, _, hE2, hm.t0.psh (T := fp_T0 T) hVR hHR hsm rfl (fun k hk => ?_), by rw [va_up_ne _ _ (by decide), va_up_self]⟩
    rcases hk with rfl | rfl | rfl | rfl | rfl <;> rfl
set_option maxHeartbeats 1000000 in
theorem mm_thrown (G : fp_G) (ad : Nat → Nat) (k : Nat) (T : TH) (hA0 : fp_MA G ad) : fp_MX G yX4_thrown cX4_thrown 1 (some .int) 1 12 0 0 [.ref (ad 0)] (fp_MC G ad k T) (fp_ma ad) (fun H v H1 => v = some (.int (iI ((sN (T.1) : Nat) : Int))) ∧ fp_MC G ad 0 T H1) (fun _ _ _ => False) := fp_MX.pick fun U hK hB hP => by
  obtain ⟨sc, ar, hE, hm, hk0⟩ := hP
  refine ⟨_, _, _, _, (c_X4_thrown G ad sc ar hA0).toX, hE, fun q h => h, fun v H1 hp _ => ?_, fun E H1 hp _ => hp⟩
  exact ⟨by rw [hp.1, hk0], ⟨sc, ar, hp.2, hm, hk0⟩⟩
