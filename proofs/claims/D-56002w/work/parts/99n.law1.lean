/-! THE LAW's LEVEL: what the planner's methods answer, in the planner's world -/
set_option maxRecDepth 100000
/-- a state after i calls -/
def fp_SI (i : Nat) (S : PS) : Prop := fp_ok S ∧ fp_Iv S ∧ sP S ≤ 30 * i
def fp_TI (i : Nat) (T : TH) : Prop := fp_SI i T.1 ∧ (∀ S, T.2.1 = some S → fp_SI i S) ∧ (T.2.2.1.1 ≤ 8 ∧ ∀ j, j < T.2.2.1.1 → fp_SI i (T.2.2.1.2 j)) ∧ (T.2.2.2.1.1 ≤ i ∧ ∀ j, j < T.2.2.2.1.1 → T.2.2.2.1.2 j < 128) ∧ T.2.2.2.2.1.1 ≤ 80 ∧ (-1 ≤ T.2.2.2.2.2.1 ∧ T.2.2.2.2.2.1 < 1000) ∧ (-1 ≤ T.2.2.2.2.2.2 ∧ T.2.2.2.2.2.2 < 1000) ∧ i ≤ 23
theorem fp_TI.p9 {i : Nat} {T : TH} (h : fp_TI i T) : sP T.1 < 999 := by have a := h.1.2.2; have b := h.2.2.2.2.2.2.2; omega
theorem fp_TI.dl {i : Nat} {T : TH} (h : fp_TI i T) : fp_dl T.1 := h.1.2.1.2.1.dl h.1.1
theorem fp_TI.h8 {i : Nat} {T : TH} (h : fp_TI i T) : T.2.2.1.1 ≤ 8 := h.2.2.1.1
theorem fp_TI.n23 {i : Nat} {T : TH} (h : fp_TI i T) : T.2.2.2.1.1 ≤ 23 := Nat.le_trans h.2.2.2.1.1 h.2.2.2.2.2.2.2
theorem fp_hde {G : fp_G} {o : Nat → Nat} {ed el : Nat} (h : (g_s G).heap.size ≤ ed → o ed = 2) (h2 : o el = 4) (h3 : (g_s G).heap.size ≤ el) : fp_dif ed el := fun e => by
  subst e
  have := h h3
  omega
theorem fp_hde9 {G : fp_G} {o : Nat → Nat} {ed el k : Nat} (h : (g_s G).heap.size ≤ ed → o ed = 10 + k) (h2 : o el = 4) (h3 : (g_s G).heap.size ≤ el) : fp_dif ed el := fun e => by
  subst e
  have := h h3
  omega
theorem fp_hde3 {G : fp_G} {o : Nat → Nat} {ed el : Nat} (h : (g_s G).heap.size ≤ ed → o ed = 3) (h2 : o el = 4) (h3 : (g_s G).heap.size ≤ el) : fp_dif ed el := fun e => by
  subst e
  have := h h3
  omega
/-- the planner's own cells are no blocks' -/
theorem fp_nb.roots {G : fp_G} {U : State} (hK : fp_K G U) {x hi ip ln el hd n iv ic n2 im lv lc n3 lm : Nat} {q : Nat → Nat} {t2 t3 : Nat → Nat} {fs : List Value} {H : Heap} (hx : fp_At G H x (eO 1 fs)) (hq : fp_DQ G hi el hd n q H) (h1 : fp_SB G ip iv ic n2 im t2 H) (h2 : fp_SB G ln lv lc n3 lm t3 H) : fp_nb G H x ∧ fp_nb G H hi ∧ fp_nb G H el ∧ fp_nb G H ip ∧ fp_nb G H iv ∧ fp_nb G H ln ∧ fp_nb G H lv := by
  obtain ⟨a1, ⟨f1, a2, -⟩, -⟩ := hq
  obtain ⟨b1, ⟨f2, b2, -⟩, -⟩ := h1
  obtain ⟨c1, ⟨f3, c2, -⟩, -⟩ := h2
  exact ⟨fp_nb.O hK (j := 1) rfl (by decide) hx, fp_nb.O hK (j := 10) rfl (by decide) a1, fp_nb.A hK (t := 4) rfl a2, fp_nb.O hK (j := 11) rfl (by decide) b1, fp_nb.A hK (t := 2) rfl b2, fp_nb.O hK (j := 11) rfl (by decide) c1, fp_nb.A hK (t := 2) rfl c2⟩
theorem fp_nb.SE {G : fp_G} {U : State} (hK : fp_K G U) {u l ed z t cap : Nat} {mc : Int32} {b : Nat → Nat} {S : PS} {H : Heap} (h : fp_SE G u l ed z t mc cap b S H) (hde : fp_de G < (g_s G).heap.size) : fp_nb G H u ∧ fp_nb G H l ∧ ((g_s G).heap.size ≤ ed → fp_nb G H ed) ∧ fp_nb G H z ∧ fp_nb G H t := by
  obtain ⟨h1, h2, h3, h4, -⟩ := h
  refine ⟨fp_nb.O hK (j := 2) rfl (by decide) h1, fp_nb.O hK (j := 8) rfl (by decide) h2.1, fun hb => ?_, fp_nb.A hK (t := 5) rfl h3, fp_nb.A hK (t := 1) rfl h4⟩
  rcases h2.2.1 with ⟨e, -⟩ | ⟨-, -, -, f, h5, -⟩
  · omega
  · exact fp_nb.A hK (t := 4) rfl h5
def fp_er_c (z : Int) : Nat := if 0 ≤ z then 0 else 1
def fp_ln_c (n : Nat) (z : Int) : Nat := if 0 ≤ z ∧ z < (n : Int) then 0 else 1
def fp_cn_c (S : PS) (kd : Nat) (l w t : Int) : Nat := if fp_plc S kd l w t = 1 then 1 else 0
def fp_rm_c (S : PS) (z : Int) : Nat := if fp_fc S z = 1 then 1 else if fp_und S (fp_fnd S z) = true then 2 else 0
def fp_sz_c (c z : Int) : Nat := if fp_cc c = 1 then 1 else if fp_zby z < 0 then 2 else 0
def fp_at_c (S : PS) (c : Int) : Nat := if fp_cc c = 1 then 1 else if sT S c.toNat = 1 then 2 else 0
def fp_rt_c (S : PS) (c : Int) : Nat := if fp_cc c = 1 then 1 else if sT S c.toNat = 1 then 0 else 2
def fp_ap_c (n : Nat) (z : Int) : Nat := if ¬ (32 ≤ z ∧ z ≤ 126) then 1 else if n = 60 then 2 else 0
def fp_un_c (n : Nat) : Nat := if n = 0 then 1 else 0
def fp_re_c (V : Option PS) : Nat := if V = none then 1 else 0
def fp_rn_c (P : List (Nat × Int × Int × Int) × Bool × Nat) (R : Nat × Nat × PS) : Nat := if P.2.1 = true then 1 else if R.2.1 ≠ 0 then 2 else 0
theorem fp_nat_ne {a b c : Nat} (h : a = b) (h2 : b ≠ c) : a ≠ c := h ▸ h2
abbrev fp_psh (T : TH) (S2 : PS) : TH := (S2, T.2.1, (fp_hn T.2.2.1.1, fp_hpush T.2.2.1.2 T.2.2.1.1 T.1), T.2.2.2.1, T.2.2.2.2.1, T.2.2.2.2.2.1, T.2.2.2.2.2.2)
abbrev fp_Tln (T : TH) (L : FL) : TH := (T.1, T.2.1, T.2.2.1, T.2.2.2.1, (L.2, L.1), T.2.2.2.2.2.1, T.2.2.2.2.2.2)
abbrev fp_Tap (T : TH) (z : Int) : TH := (T.1, T.2.1, T.2.2.1, (T.2.2.2.1.1 + 1, va_up T.2.2.2.1.2 T.2.2.2.1.1 z.toNat), T.2.2.2.2.1, T.2.2.2.2.2.1, T.2.2.2.2.2.2)
abbrev fp_Tun (T : TH) : TH := (T.2.2.1.2 (T.2.2.1.1 - 1), T.2.1, (T.2.2.1.1 - 1, T.2.2.1.2), T.2.2.2.1, T.2.2.2.2.1, T.2.2.2.2.2.1, T.2.2.2.2.2.2)
abbrev fp_Tsv (T : TH) : TH := (T.1, some T.1, T.2.2.1, T.2.2.2.1, T.2.2.2.2.1, T.2.2.2.2.2.1, T.2.2.2.2.2.2)
abbrev fp_Tre (T : TH) : TH := (T.2.1.getD T.1, T.2.1, (0, T.2.2.1.2), T.2.2.2.1, T.2.2.2.2.1, T.2.2.2.2.2.1, T.2.2.2.2.2.2)
abbrev fp_T0 (T : TH) : TH := (T.1, T.2.1, T.2.2.1, (0, T.2.2.2.1.2), T.2.2.2.2.1, T.2.2.2.2.2.1, T.2.2.2.2.2.2)
abbrev fp_Ter (T : TH) (e : Int) : TH := (T.1, T.2.1, T.2.2.1, T.2.2.2.1, T.2.2.2.2.1, e, T.2.2.2.2.2.2)
abbrev fp_Tfa (T : TH) (f : Int) : TH := (T.1, T.2.1, T.2.2.1, T.2.2.2.1, T.2.2.2.2.1, T.2.2.2.2.2.1, f)
def fp_Trn (T : TH) (P : List (Nat × Int × Int × Int) × Bool × Nat) (R : Nat × Nat × PS) : TH := if P.2.1 = true then fp_Ter (fp_T0 T) (P.2.2 : Nat) else if R.2.1 ≠ 0 then fp_Tfa (fp_T0 T) (R.1 : Nat) else fp_psh (fp_T0 T) R.2.2
def fp_if (k : Nat) (A B : TH) : TH := if k = 0 then A else B
theorem fp_if0 {k : Nat} {A B : TH} (h : k = 0) : fp_if k A B = A := if_pos h
theorem fp_if1 {k : Nat} {A B : TH} (h : k ≠ 0) : fp_if k A B = B := if_neg h

set_option maxRecDepth 100000
set_option maxHeartbeats 1000000 in
theorem w_left (G : fp_G) (x : Nat) (M : Nat → Prop) (T : TH) (i : Nat) (a0 : Int) (hI : fp_TI i T) (g0 : rg a0) : fp_MX G yX1_left cX1_left 2 (some .int) 8 123 2 10 [.ref x, .int (iI a0)] (fp_PW G x M T) (fp_PA G M) (fun H v H1 => v = some (.int (iI ((sB (T.1) (fp_fnd (T.1) a0) 2 : Nat) : Int))) ∧ fp_fc (T.1) a0 = 0 ∧ fp_PW G x M T H1) (fun H E H1 => (E = "java/util/NoSuchElementException" ∧ fp_fc (T.1) a0 = 1 ∧ fp_PW G x M T H1)) := fp_MX.pick fun U hK hB hP => by
  obtain ⟨o, u, sv, hi, ip, ln, el, hd, q, iv, ic, im, lv, lc, lm, hpx⟩ := id hP
  obtain ⟨hx, ⟨l, ed, z, t, mc, cap, b, hse, hj, ou, ol, oe, oz, ot⟩, hsv, hdq, hhs, hip, hln, ⟨ox, ohi, oel, oip, oiv, oln, olv⟩, hMM, hxb⟩ := id hpx
  have hed0 := (hK.deT (A := fp_no) hB fp_no.base).2.2
  exact ⟨_, _, _, _, (c_X1_left G x u sv hi ip ln false T.2.2.2.2.2.1 T.2.2.2.2.2.2 l ed z t mc cap b T.1 a0 (⟨hI.1.1, hj⟩) g0), ⟨hx, hse⟩, fun q h => h.elim, fun v H1 hp hf => ⟨hp.1, hp.2, hP.ext hf.no⟩, fun E H1 hp hf => ⟨hp.1, hp.2.2, hP.ext hf.no⟩⟩
set_option maxHeartbeats 1000000 in
theorem w_width (G : fp_G) (x : Nat) (M : Nat → Prop) (T : TH) (i : Nat) (a0 : Int) (hI : fp_TI i T) (g0 : rg a0) : fp_MX G yX1_width cX1_width 2 (some .int) 8 123 2 10 [.ref x, .int (iI a0)] (fp_PW G x M T) (fp_PA G M) (fun H v H1 => v = some (.int (iI ((sB (T.1) (fp_fnd (T.1) a0) 3 : Nat) : Int))) ∧ fp_fc (T.1) a0 = 0 ∧ fp_PW G x M T H1) (fun H E H1 => (E = "java/util/NoSuchElementException" ∧ fp_fc (T.1) a0 = 1 ∧ fp_PW G x M T H1)) := fp_MX.pick fun U hK hB hP => by
  obtain ⟨o, u, sv, hi, ip, ln, el, hd, q, iv, ic, im, lv, lc, lm, hpx⟩ := id hP
  obtain ⟨hx, ⟨l, ed, z, t, mc, cap, b, hse, hj, ou, ol, oe, oz, ot⟩, hsv, hdq, hhs, hip, hln, ⟨ox, ohi, oel, oip, oiv, oln, olv⟩, hMM, hxb⟩ := id hpx
  have hed0 := (hK.deT (A := fp_no) hB fp_no.base).2.2
  exact ⟨_, _, _, _, (c_X1_width G x u sv hi ip ln false T.2.2.2.2.2.1 T.2.2.2.2.2.2 l ed z t mc cap b T.1 a0 (⟨hI.1.1, hj⟩) g0), ⟨hx, hse⟩, fun q h => h.elim, fun v H1 hp hf => ⟨hp.1, hp.2, hP.ext hf.no⟩, fun E H1 hp hf => ⟨hp.1, hp.2.2, hP.ext hf.no⟩⟩
set_option maxHeartbeats 1000000 in
theorem w_weight (G : fp_G) (x : Nat) (M : Nat → Prop) (T : TH) (i : Nat) (a0 : Int) (hI : fp_TI i T) (g0 : rg a0) : fp_MX G yX1_weight cX1_weight 2 (some .int) 8 123 2 10 [.ref x, .int (iI a0)] (fp_PW G x M T) (fp_PA G M) (fun H v H1 => v = some (.int (iI ((sB (T.1) (fp_fnd (T.1) a0) 4 : Nat) : Int))) ∧ fp_fc (T.1) a0 = 0 ∧ fp_PW G x M T H1) (fun H E H1 => (E = "java/util/NoSuchElementException" ∧ fp_fc (T.1) a0 = 1 ∧ fp_PW G x M T H1)) := fp_MX.pick fun U hK hB hP => by
  obtain ⟨o, u, sv, hi, ip, ln, el, hd, q, iv, ic, im, lv, lc, lm, hpx⟩ := id hP
  obtain ⟨hx, ⟨l, ed, z, t, mc, cap, b, hse, hj, ou, ol, oe, oz, ot⟩, hsv, hdq, hhs, hip, hln, ⟨ox, ohi, oel, oip, oiv, oln, olv⟩, hMM, hxb⟩ := id hpx
  have hed0 := (hK.deT (A := fp_no) hB fp_no.base).2.2
  exact ⟨_, _, _, _, (c_X1_weight G x u sv hi ip ln false T.2.2.2.2.2.1 T.2.2.2.2.2.2 l ed z t mc cap b T.1 a0 (⟨hI.1.1, hj⟩) g0), ⟨hx, hse⟩, fun q h => h.elim, fun v H1 hp hf => ⟨hp.1, hp.2, hP.ext hf.no⟩, fun E H1 hp hf => ⟨hp.1, hp.2.2, hP.ext hf.no⟩⟩
set_option maxHeartbeats 1000000 in
theorem w_bottom (G : fp_G) (x : Nat) (M : Nat → Prop) (T : TH) (i : Nat) (a0 : Int) (hI : fp_TI i T) (g0 : rg a0) : fp_MX G yX1_bottom cX1_bottom 2 (some .int) 8 123 2 10 [.ref x, .int (iI a0)] (fp_PW G x M T) (fp_PA G M) (fun H v H1 => v = some (.int (iI ((sB (T.1) (fp_fnd (T.1) a0) 5 : Nat) : Int))) ∧ fp_fc (T.1) a0 = 0 ∧ fp_PW G x M T H1) (fun H E H1 => (E = "java/util/NoSuchElementException" ∧ fp_fc (T.1) a0 = 1 ∧ fp_PW G x M T H1)) := fp_MX.pick fun U hK hB hP => by
  obtain ⟨o, u, sv, hi, ip, ln, el, hd, q, iv, ic, im, lv, lc, lm, hpx⟩ := id hP
  obtain ⟨hx, ⟨l, ed, z, t, mc, cap, b, hse, hj, ou, ol, oe, oz, ot⟩, hsv, hdq, hhs, hip, hln, ⟨ox, ohi, oel, oip, oiv, oln, olv⟩, hMM, hxb⟩ := id hpx
  have hed0 := (hK.deT (A := fp_no) hB fp_no.base).2.2
  exact ⟨_, _, _, _, (c_X1_bottom G x u sv hi ip ln false T.2.2.2.2.2.1 T.2.2.2.2.2.2 l ed z t mc cap b T.1 a0 (⟨hI.1.1, hj⟩) g0), ⟨hx, hse⟩, fun q h => h.elim, fun v H1 hp hf => ⟨hp.1, hp.2, hP.ext hf.no⟩, fun E H1 hp hf => ⟨hp.1, hp.2.2, hP.ext hf.no⟩⟩
set_option maxHeartbeats 1000000 in
theorem w_isFoam (G : fp_G) (x : Nat) (M : Nat → Prop) (T : TH) (i : Nat) (a0 : Int) (hI : fp_TI i T) (g0 : rg a0) : fp_MX G yX1_isFoam cX1_isFoam 2 (some .boolean) 8 123 2 10 [.ref x, .int (iI a0)] (fp_PW G x M T) (fp_PA G M) (fun H v H1 => v = some (.int (iI (bI (decide (sB (T.1) (fp_fnd (T.1) a0) 1 = 0))))) ∧ fp_fc (T.1) a0 = 0 ∧ fp_PW G x M T H1) (fun H E H1 => (E = "java/util/NoSuchElementException" ∧ fp_fc (T.1) a0 = 1 ∧ fp_PW G x M T H1)) := fp_MX.pick fun U hK hB hP => by
  obtain ⟨o, u, sv, hi, ip, ln, el, hd, q, iv, ic, im, lv, lc, lm, hpx⟩ := id hP
  obtain ⟨hx, ⟨l, ed, z, t, mc, cap, b, hse, hj, ou, ol, oe, oz, ot⟩, hsv, hdq, hhs, hip, hln, ⟨ox, ohi, oel, oip, oiv, oln, olv⟩, hMM, hxb⟩ := id hpx
  have hed0 := (hK.deT (A := fp_no) hB fp_no.base).2.2
  exact ⟨_, _, _, _, (c_X1_isFoam G x u sv hi ip ln false T.2.2.2.2.2.1 T.2.2.2.2.2.2 l ed z t mc cap b T.1 a0 (⟨hI.1.1, hj⟩) g0), ⟨hx, hse⟩, fun q h => h.elim, fun v H1 hp hf => ⟨hp.1, hp.2, hP.ext hf.no⟩, fun E H1 hp hf => ⟨hp.1, hp.2.2, hP.ext hf.no⟩⟩
set_option maxHeartbeats 1000000 in
theorem w_isBoard (G : fp_G) (x : Nat) (M : Nat → Prop) (T : TH) (i : Nat) (a0 : Int) (hI : fp_TI i T) (g0 : rg a0) : fp_MX G yX1_isBoard cX1_isBoard 2 (some .boolean) 8 123 2 10 [.ref x, .int (iI a0)] (fp_PW G x M T) (fp_PA G M) (fun H v H1 => v = some (.int (iI (bI (decide (sB (T.1) (fp_fnd (T.1) a0) 1 = 1))))) ∧ fp_fc (T.1) a0 = 0 ∧ fp_PW G x M T H1) (fun H E H1 => (E = "java/util/NoSuchElementException" ∧ fp_fc (T.1) a0 = 1 ∧ fp_PW G x M T H1)) := fp_MX.pick fun U hK hB hP => by
  obtain ⟨o, u, sv, hi, ip, ln, el, hd, q, iv, ic, im, lv, lc, lm, hpx⟩ := id hP
  obtain ⟨hx, ⟨l, ed, z, t, mc, cap, b, hse, hj, ou, ol, oe, oz, ot⟩, hsv, hdq, hhs, hip, hln, ⟨ox, ohi, oel, oip, oiv, oln, olv⟩, hMM, hxb⟩ := id hpx
  have hed0 := (hK.deT (A := fp_no) hB fp_no.base).2.2
  exact ⟨_, _, _, _, (c_X1_isBoard G x u sv hi ip ln false T.2.2.2.2.2.1 T.2.2.2.2.2.2 l ed z t mc cap b T.1 a0 (⟨hI.1.1, hj⟩) g0), ⟨hx, hse⟩, fun q h => h.elim, fun v H1 hp hf => ⟨hp.1, hp.2, hP.ext hf.no⟩, fun E H1 hp hf => ⟨hp.1, hp.2.2, hP.ext hf.no⟩⟩
set_option maxHeartbeats 1000000 in
theorem w_strength (G : fp_G) (x : Nat) (M : Nat → Prop) (T : TH) (i : Nat) (a0 : Int) (hI : fp_TI i T) (g0 : rg a0) : fp_MX G yX1_strength cX1_strength 2 (some .int) 8 123 2 10 [.ref x, .int (iI a0)] (fp_PW G x M T) (fp_PA G M) (fun H v H1 => v = some (.int (iI ((fp_str (sB (T.1) (fp_fnd (T.1) a0)) : Nat) : Int))) ∧ fp_fc (T.1) a0 = 0 ∧ fp_PW G x M T H1) (fun H E H1 => (E = "java/util/NoSuchElementException" ∧ fp_fc (T.1) a0 = 1 ∧ fp_PW G x M T H1)) := fp_MX.pick fun U hK hB hP => by
  obtain ⟨o, u, sv, hi, ip, ln, el, hd, q, iv, ic, im, lv, lc, lm, hpx⟩ := id hP
  obtain ⟨hx, ⟨l, ed, z, t, mc, cap, b, hse, hj, ou, ol, oe, oz, ot⟩, hsv, hdq, hhs, hip, hln, ⟨ox, ohi, oel, oip, oiv, oln, olv⟩, hMM, hxb⟩ := id hpx
  have hed0 := (hK.deT (A := fp_no) hB fp_no.base).2.2
  exact ⟨_, _, _, _, (c_X1_strength G x u sv hi ip ln false T.2.2.2.2.2.1 T.2.2.2.2.2.2 l ed z t mc cap b T.1 a0 (⟨hI.1.1, hj⟩) g0), ⟨hx, hse⟩, fun q h => h.elim, fun v H1 hp hf => ⟨hp.1, hp.2, hP.ext hf.no⟩, fun E H1 hp hf => ⟨hp.1, hp.2.2, hP.ext hf.no⟩⟩
set_option maxHeartbeats 1000000 in
theorem w_top (G : fp_G) (x : Nat) (M : Nat → Prop) (T : TH) (i : Nat) (a0 : Int) (hI : fp_TI i T) (g0 : rg a0) : fp_MX G yX1_top cX1_top 2 (some .int) 8 123 2 10 [.ref x, .int (iI a0)] (fp_PW G x M T) (fp_PA G M) (fun H v H1 => v = some (.int (iI ((fp_top (sB (T.1) (fp_fnd (T.1) a0)) : Nat) : Int))) ∧ fp_fc (T.1) a0 = 0 ∧ fp_PW G x M T H1) (fun H E H1 => (E = "java/util/NoSuchElementException" ∧ fp_fc (T.1) a0 = 1 ∧ fp_PW G x M T H1)) := fp_MX.pick fun U hK hB hP => by
  obtain ⟨o, u, sv, hi, ip, ln, el, hd, q, iv, ic, im, lv, lc, lm, hpx⟩ := id hP
  obtain ⟨hx, ⟨l, ed, z, t, mc, cap, b, hse, hj, ou, ol, oe, oz, ot⟩, hsv, hdq, hhs, hip, hln, ⟨ox, ohi, oel, oip, oiv, oln, olv⟩, hMM, hxb⟩ := id hpx
  have hed0 := (hK.deT (A := fp_no) hB fp_no.base).2.2
  exact ⟨_, _, _, _, (c_X1_top G x u sv hi ip ln false T.2.2.2.2.2.1 T.2.2.2.2.2.2 l ed z t mc cap b T.1 a0 (⟨hI.1.1, hj⟩) g0), ⟨hx, hse⟩, fun q h => h.elim, fun v H1 hp hf => ⟨hp.1, hp.2, hP.ext hf.no⟩, fun E H1 hp hf => ⟨hp.1, hp.2.2, hP.ext hf.no⟩⟩
set_option maxHeartbeats 1000000 in
theorem w_supporterCount (G : fp_G) (x : Nat) (M : Nat → Prop) (T : TH) (i : Nat) (a0 : Int) (hI : fp_TI i T) (g0 : rg a0) : fp_MX G yX1_supporterCount cX1_supporterCount 2 (some .int) 8 196 8 131 [.ref x, .int (iI a0)] (fp_PW G x M T) (fp_PA G M) (fun H v H1 => v = some (.int (iI ((fp_nsup (T.1) (fp_fnd (T.1) a0) : Nat) : Int))) ∧ fp_fc (T.1) a0 = 0 ∧ fp_PW G x M T H1) (fun H E H1 => (E = "java/util/NoSuchElementException" ∧ fp_fc (T.1) a0 = 1 ∧ fp_PW G x M T H1)) := fp_MX.pick fun U hK hB hP => by
  obtain ⟨o, u, sv, hi, ip, ln, el, hd, q, iv, ic, im, lv, lc, lm, hpx⟩ := id hP
  obtain ⟨hx, ⟨l, ed, z, t, mc, cap, b, hse, hj, ou, ol, oe, oz, ot⟩, hsv, hdq, hhs, hip, hln, ⟨ox, ohi, oel, oip, oiv, oln, olv⟩, hMM, hxb⟩ := id hpx
  have hed0 := (hK.deT (A := fp_no) hB fp_no.base).2.2
  exact ⟨_, _, _, _, (c_X1_supporterCount G x u sv hi ip ln false T.2.2.2.2.2.1 T.2.2.2.2.2.2 l ed z t mc cap b T.1 a0 (⟨hI.1.1, hj⟩) g0 (hI.dl)), ⟨hx, hse⟩, fun q h => h.elim, fun v H1 hp hf => ⟨hp.1, hp.2, hP.ext hf.no⟩, fun E H1 hp hf => ⟨hp.1, hp.2.2, hP.ext hf.no⟩⟩
set_option maxHeartbeats 1000000 in
theorem w_supporterAt (G : fp_G) (x : Nat) (M : Nat → Prop) (T : TH) (i : Nat) (a0 : Int) (a1 : Int) (hI : fp_TI i T) (g0 : rg a0) (g1 : rg a1) : fp_MX G yX1_supporterAt cX1_supporterAt 4 (some .int) 8 196 9 140 [.ref x, .int (iI a0), .int (iI a1)] (fp_PW G x M T) (fp_PA G M) (fun H v H1 => v = some (.int (iI ((sB (T.1) (fp_sat (T.1) (fp_fnd (T.1) a0) a1) 0 : Nat) : Int))) ∧ fp_satc (T.1) a0 a1 = 0 ∧ fp_PW G x M T H1) (fun H E H1 => (E = "java/util/NoSuchElementException" ∧ fp_satc (T.1) a0 a1 = 1 ∧ fp_PW G x M T H1)) := fp_MX.pick fun U hK hB hP => by
  obtain ⟨o, u, sv, hi, ip, ln, el, hd, q, iv, ic, im, lv, lc, lm, hpx⟩ := id hP
  obtain ⟨hx, ⟨l, ed, z, t, mc, cap, b, hse, hj, ou, ol, oe, oz, ot⟩, hsv, hdq, hhs, hip, hln, ⟨ox, ohi, oel, oip, oiv, oln, olv⟩, hMM, hxb⟩ := id hpx
  have hed0 := (hK.deT (A := fp_no) hB fp_no.base).2.2
  exact ⟨_, _, _, _, (c_X1_supporterAt G x u sv hi ip ln false T.2.2.2.2.2.1 T.2.2.2.2.2.2 l ed z t mc cap b T.1 a0 a1 (⟨hI.1.1, hj⟩) g0 g1 (hI.dl)), ⟨hx, hse⟩, fun q h => h.elim, fun v H1 hp hf => ⟨hp.1, hp.2, hP.ext hf.no⟩, fun E H1 hp hf => ⟨hp.1, hp.2.2, hP.ext hf.no⟩⟩
set_option maxHeartbeats 1000000 in
theorem w_isSupporting (G : fp_G) (x : Nat) (M : Nat → Prop) (T : TH) (i : Nat) (a0 : Int) (hI : fp_TI i T) (g0 : rg a0) : fp_MX G yX1_isSupporting cX1_isSupporting 2 (some .boolean) 303 8066 4 15 [.ref x, .int (iI a0)] (fp_PW G x M T) (fp_PA G M) (fun H v H1 => v = some (.int (iI (bI (fp_und (T.1) (fp_fnd (T.1) a0))))) ∧ fp_fc (T.1) a0 = 0 ∧ fp_PW G x M T H1) (fun H E H1 => (E = "java/util/NoSuchElementException" ∧ fp_fc (T.1) a0 = 1 ∧ fp_PW G x M T H1)) := fp_MX.pick fun U hK hB hP => by
  obtain ⟨o, u, sv, hi, ip, ln, el, hd, q, iv, ic, im, lv, lc, lm, hpx⟩ := id hP
  obtain ⟨hx, ⟨l, ed, z, t, mc, cap, b, hse, hj, ou, ol, oe, oz, ot⟩, hsv, hdq, hhs, hip, hln, ⟨ox, ohi, oel, oip, oiv, oln, olv⟩, hMM, hxb⟩ := id hpx
  have hed0 := (hK.deT (A := fp_no) hB fp_no.base).2.2
  exact ⟨_, _, _, _, (c_X1_isSupporting G x u sv hi ip ln false T.2.2.2.2.2.1 T.2.2.2.2.2.2 l ed z t mc cap b T.1 a0 (⟨hI.1.1, hj⟩) g0), ⟨hx, hse⟩, fun q h => h.elim, fun v H1 hp hf => ⟨hp.1, hp.2, hP.ext hf.no⟩, fun E H1 hp hf => ⟨hp.1, hp.2.2, hP.ext hf.no⟩⟩
set_option maxHeartbeats 1000000 in
theorem w_load (G : fp_G) (x : Nat) (M : Nat → Prop) (T : TH) (i : Nat) (a0 : Int) (hI : fp_TI i T) (g0 : rg a0) : fp_MX G yX1_load cX1_load 2 (some .int) 11 266 147 2938 [.ref x, .int (iI a0)] (fp_PW G x M T) (fp_PA G M) (fun H v H1 => v = some (.int (iI ((fp_ld (T.1) (fp_fnd (T.1) a0) : Nat) : Int))) ∧ fp_fc (T.1) a0 = 0 ∧ fp_PW G x M T H1) (fun H E H1 => (E = "java/util/NoSuchElementException" ∧ fp_fc (T.1) a0 = 1 ∧ fp_PW G x M T H1)) := fp_MX.pick fun U hK hB hP => by
  obtain ⟨o, u, sv, hi, ip, ln, el, hd, q, iv, ic, im, lv, lc, lm, hpx⟩ := id hP
  obtain ⟨hx, ⟨l, ed, z, t, mc, cap, b, hse, hj, ou, ol, oe, oz, ot⟩, hsv, hdq, hhs, hip, hln, ⟨ox, ohi, oel, oip, oiv, oln, olv⟩, hMM, hxb⟩ := id hpx
  have hed0 := (hK.deT (A := fp_no) hB fp_no.base).2.2
  exact ⟨_, _, _, _, (c_X1_load G x u sv hi ip ln false T.2.2.2.2.2.1 T.2.2.2.2.2.2 l ed z t mc cap b T.1 a0 (⟨hI.1.1, hj⟩) g0 (hI.dl)), ⟨hx, hse⟩, fun q h => h.elim, fun v H1 hp hf => ⟨hp.1, hp.2, hP.ext hf.no⟩, fun E H1 hp hf => ⟨hp.1, hp.2.2, hP.ext hf.no⟩⟩
set_option maxHeartbeats 1000000 in
theorem w_loadByRecursion (G : fp_G) (x : Nat) (M : Nat → Prop) (T : TH) (i : Nat) (a0 : Int) (hI : fp_TI i T) (g0 : rg a0) : fp_MX G yX1_loadByRecursion cX1_loadByRecursion 2 (some .int) 330 8084 3459 69730 [.ref x, .int (iI a0)] (fp_PW G x M T) (fp_PA G M) (fun H v H1 => v = some (.int (iI ((fp_ld (T.1) (fp_fnd (T.1) a0) : Nat) : Int))) ∧ fp_fc (T.1) a0 = 0 ∧ fp_PW G x M T H1) (fun H E H1 => (E = "java/util/NoSuchElementException" ∧ fp_fc (T.1) a0 = 1 ∧ fp_PW G x M T H1)) := fp_MX.pick fun U hK hB hP => by
  obtain ⟨o, u, sv, hi, ip, ln, el, hd, q, iv, ic, im, lv, lc, lm, hpx⟩ := id hP
  obtain ⟨hx, ⟨l, ed, z, t, mc, cap, b, hse, hj, ou, ol, oe, oz, ot⟩, hsv, hdq, hhs, hip, hln, ⟨ox, ohi, oel, oip, oiv, oln, olv⟩, hMM, hxb⟩ := id hpx
  have hed0 := (hK.deT (A := fp_no) hB fp_no.base).2.2
  exact ⟨_, _, _, _, (c_X1_loadByRecursion G x u sv hi ip ln false T.2.2.2.2.2.1 T.2.2.2.2.2.2 l ed z t mc cap b T.1 a0 (⟨hI.1.1, hj⟩) g0 (hI.dl) (hI.1.2.1.h30)), ⟨hx, hse⟩, fun q h => h.elim, fun v H1 hp hf => ⟨hp.1, hp.2, hP.ext hf.no⟩, fun E H1 hp hf => ⟨hp.1, hp.2.2, hP.ext hf.no⟩⟩
set_option maxHeartbeats 1000000 in
theorem w_slack (G : fp_G) (x : Nat) (M : Nat → Prop) (T : TH) (i : Nat) (a0 : Int) (hI : fp_TI i T) (g0 : rg a0) : fp_MX G yX1_slack cX1_slack 3 (some .int) 11 266 147 2938 [.ref x, .int (iI a0)] (fp_PW G x M T) (fp_PA G M) (fun H v H1 => v = some (.int (iI (fp_slk (T.1) (fp_fnd (T.1) a0)))) ∧ fp_fc (T.1) a0 = 0 ∧ fp_PW G x M T H1) (fun H E H1 => (E = "java/util/NoSuchElementException" ∧ fp_fc (T.1) a0 = 1 ∧ fp_PW G x M T H1)) := fp_MX.pick fun U hK hB hP => by
  obtain ⟨o, u, sv, hi, ip, ln, el, hd, q, iv, ic, im, lv, lc, lm, hpx⟩ := id hP
  obtain ⟨hx, ⟨l, ed, z, t, mc, cap, b, hse, hj, ou, ol, oe, oz, ot⟩, hsv, hdq, hhs, hip, hln, ⟨ox, ohi, oel, oip, oiv, oln, olv⟩, hMM, hxb⟩ := id hpx
  have hed0 := (hK.deT (A := fp_no) hB fp_no.base).2.2
  exact ⟨_, _, _, _, (c_X1_slack G x u sv hi ip ln false T.2.2.2.2.2.1 T.2.2.2.2.2.2 l ed z t mc cap b T.1 a0 (⟨hI.1.1, hj⟩) g0 (hI.dl)), ⟨hx, hse⟩, fun q h => h.elim, fun v H1 hp hf => ⟨hp.1, hp.2, hP.ext hf.no⟩, fun E H1 hp hf => ⟨hp.1, hp.2.2, hP.ext hf.no⟩⟩
set_option maxHeartbeats 1000000 in
theorem w_weakest (G : fp_G) (x : Nat) (M : Nat → Prop) (T : TH) (i : Nat) (hI : fp_TI i T) : fp_MX G yX1_weakest cX1_weakest 1 (some .int) 12 292 148 2986 [.ref x] (fp_PW G x M T) (fp_PA G M) (fun H v H1 => v = some (.int (iI ((sB (T.1) (fp_best (fp_slk (T.1)) (sN (T.1))) 0 : Nat) : Int))) ∧ fp_wkc (T.1) = 0 ∧ fp_PW G x M T H1) (fun H E H1 => (E = "java/util/NoSuchElementException" ∧ fp_wkc (T.1) = 1 ∧ fp_PW G x M T H1)) := fp_MX.pick fun U hK hB hP => by
  obtain ⟨o, u, sv, hi, ip, ln, el, hd, q, iv, ic, im, lv, lc, lm, hpx⟩ := id hP
  obtain ⟨hx, ⟨l, ed, z, t, mc, cap, b, hse, hj, ou, ol, oe, oz, ot⟩, hsv, hdq, hhs, hip, hln, ⟨ox, ohi, oel, oip, oiv, oln, olv⟩, hMM, hxb⟩ := id hpx
  have hed0 := (hK.deT (A := fp_no) hB fp_no.base).2.2
  exact ⟨_, _, _, _, (c_X1_weakest G x u sv hi ip ln false T.2.2.2.2.2.1 T.2.2.2.2.2.2 l ed z t mc cap b T.1 (⟨hI.1.1, hj⟩) (hI.dl)), ⟨hx, hse⟩, fun q h => h.elim, fun v H1 hp hf => ⟨hp.1, hp.2, hP.ext hf.no⟩, fun E H1 hp hf => ⟨hp.1, hp.2.2, hP.ext hf.no⟩⟩
set_option maxHeartbeats 1000000 in
theorem w_blockBySlack (G : fp_G) (x : Nat) (M : Nat → Prop) (T : TH) (i : Nat) (a0 : Int) (hI : fp_TI i T) (g0 : rg a0) : fp_MX G yX1_blockBySlack cX1_blockBySlack 2 (some .int) 12 292 148 2986 [.ref x, .int (iI a0)] (fp_PW G x M T) (fp_PA G M) (fun H v H1 => v = some (.int (iI ((sB (T.1) (fp_bsl (T.1) a0) 0 : Nat) : Int))) ∧ fp_bslc (T.1) a0 = 0 ∧ fp_PW G x M T H1) (fun H E H1 => (E = "java/util/NoSuchElementException" ∧ fp_bslc (T.1) a0 = 1 ∧ fp_PW G x M T H1)) := fp_MX.pick fun U hK hB hP => by
  obtain ⟨o, u, sv, hi, ip, ln, el, hd, q, iv, ic, im, lv, lc, lm, hpx⟩ := id hP
  obtain ⟨hx, ⟨l, ed, z, t, mc, cap, b, hse, hj, ou, ol, oe, oz, ot⟩, hsv, hdq, hhs, hip, hln, ⟨ox, ohi, oel, oip, oiv, oln, olv⟩, hMM, hxb⟩ := id hpx
  have hed0 := (hK.deT (A := fp_no) hB fp_no.base).2.2
  exact ⟨_, _, _, _, (c_X1_blockBySlack G x u sv hi ip ln false T.2.2.2.2.2.1 T.2.2.2.2.2.2 l ed z t mc cap b T.1 a0 (⟨hI.1.1, hj⟩) g0 (hI.dl)), ⟨hx, hse⟩, fun q h => h.elim, fun v H1 hp hf => ⟨hp.1, hp.2, hP.ext hf.no⟩, fun E H1 hp hf => ⟨hp.1, hp.2.2, hP.ext hf.no⟩⟩
set_option maxHeartbeats 1000000 in
theorem w_level (G : fp_G) (x : Nat) (M : Nat → Prop) (T : TH) (i : Nat) (a0 : Int) (hI : fp_TI i T) (g0 : rg a0) : fp_MX G yX1_level cX1_level 2 (some .int) 248 5826 3 34 [.ref x, .int (iI a0)] (fp_PW G x M T) (fp_PA G M) (fun H v H1 => v = some (.int (iI ((fp_lv (T.1) (fp_fnd (T.1) a0) : Nat) : Int))) ∧ fp_fc (T.1) a0 = 0 ∧ fp_PW G x M T H1) (fun H E H1 => (E = "java/util/NoSuchElementException" ∧ fp_fc (T.1) a0 = 1 ∧ fp_PW G x M T H1)) := fp_MX.pick fun U hK hB hP => by
  obtain ⟨o, u, sv, hi, ip, ln, el, hd, q, iv, ic, im, lv, lc, lm, hpx⟩ := id hP
  obtain ⟨hx, ⟨l, ed, z, t, mc, cap, b, hse, hj, ou, ol, oe, oz, ot⟩, hsv, hdq, hhs, hip, hln, ⟨ox, ohi, oel, oip, oiv, oln, olv⟩, hMM, hxb⟩ := id hpx
  have hed0 := (hK.deT (A := fp_no) hB fp_no.base).2.2
  exact ⟨_, _, _, _, (c_X1_level G x u sv hi ip ln false T.2.2.2.2.2.1 T.2.2.2.2.2.2 l ed z t mc cap b T.1 a0 (⟨hI.1.1, hj⟩) g0), ⟨hx, hse⟩, fun q h => h.elim, fun v H1 hp hf => ⟨hp.1, hp.2, hP.ext hf.no⟩, fun E H1 hp hf => ⟨hp.1, hp.2.2, hP.ext hf.no⟩⟩
set_option maxHeartbeats 1000000 in
theorem w_isAbove (G : fp_G) (x : Nat) (M : Nat → Prop) (T : TH) (i : Nat) (a0 : Int) (a1 : Int) (hI : fp_TI i T) (g0 : rg a0) (g1 : rg a1) : fp_MX G yX1_isAbove cX1_isAbove 4 (some .boolean) 248 5827 5 44 [.ref x, .int (iI a0), .int (iI a1)] (fp_PW G x M T) (fp_PA G M) (fun H v H1 => v = some (.int (iI (bI (fp_ab (T.1) (fp_fnd (T.1) a1) (fp_fnd (T.1) a0))))) ∧ fp_fc2 (T.1) a0 a1 = 0 ∧ fp_PW G x M T H1) (fun H E H1 => (E = "java/util/NoSuchElementException" ∧ fp_fc2 (T.1) a0 a1 = 1 ∧ fp_PW G x M T H1)) := fp_MX.pick fun U hK hB hP => by
  obtain ⟨o, u, sv, hi, ip, ln, el, hd, q, iv, ic, im, lv, lc, lm, hpx⟩ := id hP
  obtain ⟨hx, ⟨l, ed, z, t, mc, cap, b, hse, hj, ou, ol, oe, oz, ot⟩, hsv, hdq, hhs, hip, hln, ⟨ox, ohi, oel, oip, oiv, oln, olv⟩, hMM, hxb⟩ := id hpx
  have hed0 := (hK.deT (A := fp_no) hB fp_no.base).2.2
  exact ⟨_, _, _, _, (c_X1_isAbove G x u sv hi ip ln false T.2.2.2.2.2.1 T.2.2.2.2.2.2 l ed z t mc cap b T.1 a0 a1 (⟨hI.1.1, hj⟩) g0 g1), ⟨hx, hse⟩, fun q h => h.elim, fun v H1 hp hf => ⟨hp.1, hp.2, hP.ext hf.no⟩, fun E H1 hp hf => ⟨hp.1, hp.2.2, hP.ext hf.no⟩⟩
set_option maxHeartbeats 1000000 in
theorem w_countAbove (G : fp_G) (x : Nat) (M : Nat → Prop) (T : TH) (i : Nat) (a0 : Int) (hI : fp_TI i T) (g0 : rg a0) : fp_MX G yX1_countAbove cX1_countAbove 3 (some .int) 302 8045 28 592 [.ref x, .int (iI a0)] (fp_PW G x M T) (fp_PA G M) (fun H v H1 => v = some (.int (iI ((fp_ct (fp_ab (T.1) (fp_fnd (T.1) a0)) (sN (T.1)) : Nat) : Int))) ∧ fp_fc (T.1) a0 = 0 ∧ fp_PW G x M T H1) (fun H E H1 => (E = "java/util/NoSuchElementException" ∧ fp_fc (T.1) a0 = 1 ∧ fp_PW G x M T H1)) := fp_MX.pick fun U hK hB hP => by
  obtain ⟨o, u, sv, hi, ip, ln, el, hd, q, iv, ic, im, lv, lc, lm, hpx⟩ := id hP
  obtain ⟨hx, ⟨l, ed, z, t, mc, cap, b, hse, hj, ou, ol, oe, oz, ot⟩, hsv, hdq, hhs, hip, hln, ⟨ox, ohi, oel, oip, oiv, oln, olv⟩, hMM, hxb⟩ := id hpx
  have hed0 := (hK.deT (A := fp_no) hB fp_no.base).2.2
  exact ⟨_, _, _, _, (c_X1_countAbove G x u sv hi ip ln false T.2.2.2.2.2.1 T.2.2.2.2.2.2 l ed z t mc cap b T.1 a0 (⟨hI.1.1, hj⟩) g0), ⟨hx, hse⟩, fun q h => h.elim, fun v H1 hp hf => ⟨hp.1, hp.2, hP.ext hf.no⟩, fun E H1 hp hf => ⟨hp.1, hp.2.2, hP.ext hf.no⟩⟩
set_option maxHeartbeats 1000000 in
theorem w_height (G : fp_G) (x : Nat) (M : Nat → Prop) (T : TH) (i : Nat) (a0 : Int) (hI : fp_TI i T) (g0 : rg a0) : fp_MX G yX1_height cX1_height 2 (some .int) 8 125 2 10 [.ref x, .int (iI a0)] (fp_PW G x M T) (fp_PA G M) (fun H v H1 => v = some (.int (iI ((fp_hi (T.1) a0.toNat : Nat) : Int))) ∧ fp_cc a0 = 0 ∧ fp_PW G x M T H1) (fun H E H1 => (E = "java/lang/IndexOutOfBoundsException" ∧ fp_cc a0 = 1 ∧ fp_PW G x M T H1)) := fp_MX.pick fun U hK hB hP => by
  obtain ⟨o, u, sv, hi, ip, ln, el, hd, q, iv, ic, im, lv, lc, lm, hpx⟩ := id hP
  obtain ⟨hx, ⟨l, ed, z, t, mc, cap, b, hse, hj, ou, ol, oe, oz, ot⟩, hsv, hdq, hhs, hip, hln, ⟨ox, ohi, oel, oip, oiv, oln, olv⟩, hMM, hxb⟩ := id hpx
  have hed0 := (hK.deT (A := fp_no) hB fp_no.base).2.2
  exact ⟨_, _, _, _, (c_X1_height G x u sv hi ip ln false T.2.2.2.2.2.1 T.2.2.2.2.2.2 l ed z t mc cap b T.1 a0 (⟨hI.1.1, hj⟩) g0), ⟨hx, hse⟩, fun q h => h.elim, fun v H1 hp hf => ⟨hp.1, hp.2, hP.ext hf.no⟩, fun E H1 hp hf => ⟨hp.1, hp.2.2, hP.ext hf.no⟩⟩
set_option maxHeartbeats 1000000 in
theorem w_holes (G : fp_G) (x : Nat) (M : Nat → Prop) (T : TH) (i : Nat) (a0 : Int) (hI : fp_TI i T) (g0 : rg a0) : fp_MX G yX1_holes cX1_holes 2 (some .int) 304 8090 133 448 [.ref x, .int (iI a0)] (fp_PW G x M T) (fp_PA G M) (fun H v H1 => v = some (.int (iI (fp_hol (T.1) a0.toNat))) ∧ fp_cc a0 = 0 ∧ fp_PW G x M T H1) (fun H E H1 => (E = "java/lang/IndexOutOfBoundsException" ∧ fp_cc a0 = 1 ∧ fp_PW G x M T H1)) := fp_MX.pick fun U hK hB hP => by
  obtain ⟨o, u, sv, hi, ip, ln, el, hd, q, iv, ic, im, lv, lc, lm, hpx⟩ := id hP
  obtain ⟨hx, ⟨l, ed, z, t, mc, cap, b, hse, hj, ou, ol, oe, oz, ot⟩, hsv, hdq, hhs, hip, hln, ⟨ox, ohi, oel, oip, oiv, oln, olv⟩, hMM, hxb⟩ := id hpx
  have hed0 := (hK.deT (A := fp_no) hB fp_no.base).2.2
  exact ⟨_, _, _, _, (c_X1_holes G x u sv hi ip ln false T.2.2.2.2.2.1 T.2.2.2.2.2.2 l ed z t mc cap b T.1 a0 (⟨hI.1.1, hj⟩) g0 (hI.1.2.1.hol)), ⟨hx, hse⟩, fun q h => h.elim, fun v H1 hp hf => ⟨hp.1, hp.2, hP.ext hf.no⟩, fun E H1 hp hf => ⟨hp.1, hp.2.2, hP.ext hf.no⟩⟩
set_option maxHeartbeats 1000000 in
theorem w_holesByHeights (G : fp_G) (x : Nat) (M : Nat → Prop) (T : TH) (i : Nat) (a0 : Int) (hI : fp_TI i T) (g0 : rg a0) : fp_MX G yX1_holesByHeights cX1_holesByHeights 2 (some .int) 303 8067 4 15 [.ref x, .int (iI a0)] (fp_PW G x M T) (fp_PA G M) (fun H v H1 => v = some (.int (iI (fp_hol (T.1) a0.toNat))) ∧ fp_cc a0 = 0 ∧ fp_PW G x M T H1) (fun H E H1 => (E = "java/lang/IndexOutOfBoundsException" ∧ fp_cc a0 = 1 ∧ fp_PW G x M T H1)) := fp_MX.pick fun U hK hB hP => by
  obtain ⟨o, u, sv, hi, ip, ln, el, hd, q, iv, ic, im, lv, lc, lm, hpx⟩ := id hP
  obtain ⟨hx, ⟨l, ed, z, t, mc, cap, b, hse, hj, ou, ol, oe, oz, ot⟩, hsv, hdq, hhs, hip, hln, ⟨ox, ohi, oel, oip, oiv, oln, olv⟩, hMM, hxb⟩ := id hpx
  have hed0 := (hK.deT (A := fp_no) hB fp_no.base).2.2
  exact ⟨_, _, _, _, (c_X1_holesByHeights G x u sv hi ip ln false T.2.2.2.2.2.1 T.2.2.2.2.2.2 l ed z t mc cap b T.1 a0 (⟨hI.1.1, hj⟩) g0), ⟨hx, hse⟩, fun q h => h.elim, fun v H1 hp hf => ⟨hp.1, hp.2, hP.ext hf.no⟩, fun E H1 hp hf => ⟨hp.1, hp.2.2, hP.ext hf.no⟩⟩
set_option maxHeartbeats 1000000 in
theorem w_zone (G : fp_G) (x : Nat) (M : Nat → Prop) (T : TH) (i : Nat) (a0 : Int) (hI : fp_TI i T) (g0 : rg a0) : fp_MX G yX1_zone cX1_zone 2 (some .char) 8 121 1 6 [.ref x, .int (iI a0)] (fp_PW G x M T) (fp_PA G M) (fun H v H1 => v = some (.int (iI ((fp_zlet (sZ (T.1) a0.toNat) : Nat) : Int))) ∧ fp_cc a0 = 0 ∧ fp_PW G x M T H1) (fun H E H1 => (E = "java/lang/IndexOutOfBoundsException" ∧ fp_cc a0 = 1 ∧ fp_PW G x M T H1)) := fp_MX.pick fun U hK hB hP => by
  obtain ⟨o, u, sv, hi, ip, ln, el, hd, q, iv, ic, im, lv, lc, lm, hpx⟩ := id hP
  obtain ⟨hx, ⟨l, ed, z, t, mc, cap, b, hse, hj, ou, ol, oe, oz, ot⟩, hsv, hdq, hhs, hip, hln, ⟨ox, ohi, oel, oip, oiv, oln, olv⟩, hMM, hxb⟩ := id hpx
  have hed0 := (hK.deT (A := fp_no) hB fp_no.base).2.2
  exact ⟨_, _, _, _, (c_X1_zone G x u sv hi ip ln false T.2.2.2.2.2.1 T.2.2.2.2.2.2 l ed z t mc cap b T.1 a0 (⟨hI.1.1, hj⟩) g0), ⟨hx, hse⟩, fun q h => h.elim, fun v H1 hp hf => ⟨hp.1, hp.2, hP.ext hf.no⟩, fun E H1 hp hf => ⟨hp.1, hp.2.2, hP.ext hf.no⟩⟩
set_option maxHeartbeats 1000000 in
theorem w_hasTorch (G : fp_G) (x : Nat) (M : Nat → Prop) (T : TH) (i : Nat) (a0 : Int) (hI : fp_TI i T) (g0 : rg a0) : fp_MX G yX1_hasTorch cX1_hasTorch 2 (some .boolean) 8 121 1 6 [.ref x, .int (iI a0)] (fp_PW G x M T) (fp_PA G M) (fun H v H1 => v = some (.int (iI (bI (decide (sT (T.1) a0.toNat = 1))))) ∧ fp_cc a0 = 0 ∧ fp_PW G x M T H1) (fun H E H1 => (E = "java/lang/IndexOutOfBoundsException" ∧ fp_cc a0 = 1 ∧ fp_PW G x M T H1)) := fp_MX.pick fun U hK hB hP => by
  obtain ⟨o, u, sv, hi, ip, ln, el, hd, q, iv, ic, im, lv, lc, lm, hpx⟩ := id hP
  obtain ⟨hx, ⟨l, ed, z, t, mc, cap, b, hse, hj, ou, ol, oe, oz, ot⟩, hsv, hdq, hhs, hip, hln, ⟨ox, ohi, oel, oip, oiv, oln, olv⟩, hMM, hxb⟩ := id hpx
  have hed0 := (hK.deT (A := fp_no) hB fp_no.base).2.2
  exact ⟨_, _, _, _, (c_X1_hasTorch G x u sv hi ip ln false T.2.2.2.2.2.1 T.2.2.2.2.2.2 l ed z t mc cap b T.1 a0 (⟨hI.1.1, hj⟩) g0), ⟨hx, hse⟩, fun q h => h.elim, fun v H1 hp hf => ⟨hp.1, hp.2, hP.ext hf.no⟩, fun E H1 hp hf => ⟨hp.1, hp.2.2, hP.ext hf.no⟩⟩
set_option maxHeartbeats 1000000 in
theorem w_isLit (G : fp_G) (x : Nat) (M : Nat → Prop) (T : TH) (i : Nat) (a0 : Int) (hI : fp_TI i T) (g0 : rg a0) : fp_MX G yX1_isLit cX1_isLit 2 (some .boolean) 9 191 401 1606 [.ref x, .int (iI a0)] (fp_PW G x M T) (fp_PA G M) (fun H v H1 => v = some (.int (iI (bI (fp_lit (T.1) a0.toNat)))) ∧ fp_cc a0 = 0 ∧ fp_PW G x M T H1) (fun H E H1 => (E = "java/lang/IndexOutOfBoundsException" ∧ fp_cc a0 = 1 ∧ fp_PW G x M T H1)) := fp_MX.pick fun U hK hB hP => by
  obtain ⟨o, u, sv, hi, ip, ln, el, hd, q, iv, ic, im, lv, lc, lm, hpx⟩ := id hP
  obtain ⟨hx, ⟨l, ed, z, t, mc, cap, b, hse, hj, ou, ol, oe, oz, ot⟩, hsv, hdq, hhs, hip, hln, ⟨ox, ohi, oel, oip, oiv, oln, olv⟩, hMM, hxb⟩ := id hpx
  have hed0 := (hK.deT (A := fp_no) hB fp_no.base).2.2
  exact ⟨_, _, _, _, (c_X1_isLit G x u sv hi ip ln false T.2.2.2.2.2.1 T.2.2.2.2.2.2 l ed z t mc cap b T.1 a0 (⟨hI.1.1, hj⟩) g0), ⟨hx, hse⟩, fun q h => h.elim, fun v H1 hp hf => ⟨hp.1, hp.2, hP.ext hf.no⟩, fun E H1 hp hf => ⟨hp.1, hp.2.2, hP.ext hf.no⟩⟩
set_option maxHeartbeats 1000000 in
theorem w_isLitByMaxima (G : fp_G) (x : Nat) (M : Nat → Prop) (T : TH) (i : Nat) (a0 : Int) (hI : fp_TI i T) (g0 : rg a0) : fp_MX G yX1_isLitByMaxima cX1_isLitByMaxima 2 (some .boolean) 9 194 194 786 [.ref x, .int (iI a0)] (fp_PW G x M T) (fp_PA G M) (fun H v H1 => v = some (.int (iI (bI (fp_lit (T.1) a0.toNat)))) ∧ fp_cc a0 = 0 ∧ fp_PW G x M T H1) (fun H E H1 => (E = "java/lang/IndexOutOfBoundsException" ∧ fp_cc a0 = 1 ∧ fp_PW G x M T H1)) := fp_MX.pick fun U hK hB hP => by
  obtain ⟨o, u, sv, hi, ip, ln, el, hd, q, iv, ic, im, lv, lc, lm, hpx⟩ := id hP
  obtain ⟨hx, ⟨l, ed, z, t, mc, cap, b, hse, hj, ou, ol, oe, oz, ot⟩, hsv, hdq, hhs, hip, hln, ⟨ox, ohi, oel, oip, oiv, oln, olv⟩, hMM, hxb⟩ := id hpx
  have hed0 := (hK.deT (A := fp_no) hB fp_no.base).2.2
  exact ⟨_, _, _, _, (c_X1_isLitByMaxima G x u sv hi ip ln false T.2.2.2.2.2.1 T.2.2.2.2.2.2 l ed z t mc cap b T.1 a0 (⟨hI.1.1, hj⟩) g0), ⟨hx, hse⟩, fun q h => h.elim, fun v H1 hp hf => ⟨hp.1, hp.2, hP.ext hf.no⟩, fun E H1 hp hf => ⟨hp.1, hp.2.2, hP.ext hf.no⟩⟩
set_option maxHeartbeats 1000000 in
theorem w_blockAt (G : fp_G) (x : Nat) (M : Nat → Prop) (T : TH) (i : Nat) (a0 : Int) (hI : fp_TI i T) (g0 : rg a0) : fp_MX G yX1_blockAt cX1_blockAt 2 (some .int) 7 101 1 6 [.ref x, .int (iI a0)] (fp_PW G x M T) (fp_PA G M) (fun H v H1 => v = some (.int (iI ((sB (T.1) a0.toNat 0 : Nat) : Int))) ∧ fp_atc (T.1) a0 = 0 ∧ fp_PW G x M T H1) (fun H E H1 => (E = "java/lang/IndexOutOfBoundsException" ∧ fp_atc (T.1) a0 = 1 ∧ fp_PW G x M T H1)) := fp_MX.pick fun U hK hB hP => by
  obtain ⟨o, u, sv, hi, ip, ln, el, hd, q, iv, ic, im, lv, lc, lm, hpx⟩ := id hP
  obtain ⟨hx, ⟨l, ed, z, t, mc, cap, b, hse, hj, ou, ol, oe, oz, ot⟩, hsv, hdq, hhs, hip, hln, ⟨ox, ohi, oel, oip, oiv, oln, olv⟩, hMM, hxb⟩ := id hpx
  have hed0 := (hK.deT (A := fp_no) hB fp_no.base).2.2
  exact ⟨_, _, _, _, (c_X1_blockAt G x u sv hi ip ln false T.2.2.2.2.2.1 T.2.2.2.2.2.2 l ed z t mc cap b T.1 a0 (⟨hI.1.1, hj⟩) g0), ⟨hx, hse⟩, fun q h => h.elim, fun v H1 hp hf => ⟨hp.1, hp.2, hP.ext hf.no⟩, fun E H1 hp hf => ⟨hp.1, hp.2.2, hP.ext hf.no⟩⟩
set_option maxHeartbeats 1000000 in
theorem w_errorPosition (G : fp_G) (x : Nat) (M : Nat → Prop) (T : TH) (i : Nat) (hI : fp_TI i T) : fp_MX G yX1_errorPosition cX1_errorPosition 1 (some .int) 7 101 1 6 [.ref x] (fp_PW G x M T) (fp_PA G M) (fun H v H1 => v = some (.int (iI ((T.2.2.2.2.2.1)))) ∧ fp_er_c T.2.2.2.2.2.1 = 0 ∧ fp_PW G x M T H1) (fun H E H1 => (E = "java/util/NoSuchElementException" ∧ fp_er_c T.2.2.2.2.2.1 = 1 ∧ fp_PW G x M T H1)) := fp_MX.pick fun U hK hB hP => by
  obtain ⟨o, u, sv, hi, ip, ln, el, hd, q, iv, ic, im, lv, lc, lm, hpx⟩ := id hP
  obtain ⟨hx, ⟨l, ed, z, t, mc, cap, b, hse, hj, ou, ol, oe, oz, ot⟩, hsv, hdq, hhs, hip, hln, ⟨ox, ohi, oel, oip, oiv, oln, olv⟩, hMM, hxb⟩ := id hpx
  have hed0 := (hK.deT (A := fp_no) hB fp_no.base).2.2
  exact ⟨_, _, _, _, (c_X1_errorPosition G x u sv hi ip ln false T.2.2.2.2.2.1 T.2.2.2.2.2.2 l ed z t mc cap b T.1 (hI.2.2.2.2.2.1)), ⟨hx, hse⟩, fun q h => h.elim, fun v H1 hp hf => ⟨hp.1, if_pos hp.2, hP.ext hf.no⟩, fun E H1 hp hf => ⟨hp.1, if_neg (by have := hp.2.2; omega), hP.ext hf.no⟩⟩
set_option maxHeartbeats 1000000 in
theorem w_failedCommand (G : fp_G) (x : Nat) (M : Nat → Prop) (T : TH) (i : Nat) (hI : fp_TI i T) : fp_MX G yX1_failedCommand cX1_failedCommand 1 (some .int) 7 101 1 6 [.ref x] (fp_PW G x M T) (fp_PA G M) (fun H v H1 => v = some (.int (iI ((T.2.2.2.2.2.2)))) ∧ fp_er_c T.2.2.2.2.2.2 = 0 ∧ fp_PW G x M T H1) (fun H E H1 => (E = "java/util/NoSuchElementException" ∧ fp_er_c T.2.2.2.2.2.2 = 1 ∧ fp_PW G x M T H1)) := fp_MX.pick fun U hK hB hP => by
  obtain ⟨o, u, sv, hi, ip, ln, el, hd, q, iv, ic, im, lv, lc, lm, hpx⟩ := id hP
  obtain ⟨hx, ⟨l, ed, z, t, mc, cap, b, hse, hj, ou, ol, oe, oz, ot⟩, hsv, hdq, hhs, hip, hln, ⟨ox, ohi, oel, oip, oiv, oln, olv⟩, hMM, hxb⟩ := id hpx
  have hed0 := (hK.deT (A := fp_no) hB fp_no.base).2.2
  exact ⟨_, _, _, _, (c_X1_failedCommand G x u sv hi ip ln false T.2.2.2.2.2.1 T.2.2.2.2.2.2 l ed z t mc cap b T.1 (hI.2.2.2.2.2.2.1)), ⟨hx, hse⟩, fun q h => h.elim, fun v H1 hp hf => ⟨hp.1, if_pos hp.2, hP.ext hf.no⟩, fun E H1 hp hf => ⟨hp.1, if_neg (by have := hp.2.2; omega), hP.ext hf.no⟩⟩
set_option maxHeartbeats 1000000 in
theorem w_lineChar (G : fp_G) (x : Nat) (M : Nat → Prop) (T : TH) (i : Nat) (a0 : Int) (hI : fp_TI i T) (g0 : rg a0) : fp_MX G yX1_lineChar cX1_lineChar 2 (some .char) 7 101 1 6 [.ref x, .int (iI a0)] (fp_PW G x M T) (fp_PA G M) (fun H v H1 => v = some (.int (iI (((T.2.2.2.2.1.2) a0.toNat : Nat) : Int))) ∧ fp_ln_c T.2.2.2.2.1.1 a0 = 0 ∧ fp_PW G x M T H1) (fun H E H1 => (E = "java/lang/IndexOutOfBoundsException" ∧ fp_ln_c T.2.2.2.2.1.1 a0 = 1 ∧ fp_PW G x M T H1)) := fp_MX.pick fun U hK hB hP => by
  obtain ⟨o, u, sv, hi, ip, ln, el, hd, q, iv, ic, im, lv, lc, lm, hpx⟩ := id hP
  obtain ⟨hx, ⟨l, ed, z, t, mc, cap, b, hse, hj, ou, ol, oe, oz, ot⟩, hsv, hdq, hhs, hip, hln, ⟨ox, ohi, oel, oip, oiv, oln, olv⟩, hMM, hxb⟩ := id hpx
  have hed0 := (hK.deT (A := fp_no) hB fp_no.base).2.2
  exact ⟨_, _, _, _, (c_X1_lineChar G x u sv hi ip ln false T.2.2.2.2.2.1 T.2.2.2.2.2.2 l ed z t mc cap b T.1 lv lc T.2.2.2.2.1.1 lm T.2.2.2.2.1.2 a0 (⟨hI.1.1, hj⟩) g0), ⟨hx, hse, hln⟩, fun q h => h.elim, fun v H1 hp hf => ⟨hp.1, if_pos hp.2, hP.ext hf.no⟩, fun E H1 hp hf => ⟨hp.1, if_neg hp.2.2, hP.ext hf.no⟩⟩
set_option maxHeartbeats 1000000 in
theorem w_blockCount (G : fp_G) (x : Nat) (M : Nat → Prop) (T : TH) (i : Nat) (hI : fp_TI i T) : fp_MX G yX1_blockCount cX1_blockCount 1 (some .int) 2 32 0 0 [.ref x] (fp_PW G x M T) (fp_PA G M) (fun H v H1 => v = some (.int (iI ((sN (T.1) : Nat) : Int))) ∧ fp_PW G x M T H1) (fun H E H1 => False) := fp_MX.pick fun U hK hB hP => by
  obtain ⟨o, u, sv, hi, ip, ln, el, hd, q, iv, ic, im, lv, lc, lm, hpx⟩ := id hP
  obtain ⟨hx, ⟨l, ed, z, t, mc, cap, b, hse, hj, ou, ol, oe, oz, ot⟩, hsv, hdq, hhs, hip, hln, ⟨ox, ohi, oel, oip, oiv, oln, olv⟩, hMM, hxb⟩ := id hpx
  have hed0 := (hK.deT (A := fp_no) hB fp_no.base).2.2
  exact ⟨_, _, _, _, ((c_X1_blockCount G x u sv hi ip ln false T.2.2.2.2.2.1 T.2.2.2.2.2.2 l ed z t mc cap b T.1 (⟨hI.1.1, hj⟩))).toX, ⟨hx, hse⟩, fun q h => h.elim, fun v H1 hp hf => ⟨hp.1, hP.ext hf.no⟩, fun E H1 hp hf => hp⟩
set_option maxHeartbeats 1000000 in
theorem w_placedCount (G : fp_G) (x : Nat) (M : Nat → Prop) (T : TH) (i : Nat) (hI : fp_TI i T) : fp_MX G yX1_placedCount cX1_placedCount 1 (some .int) 1 12 0 0 [.ref x] (fp_PW G x M T) (fp_PA G M) (fun H v H1 => v = some (.int (iI ((sP (T.1) : Nat) : Int))) ∧ fp_PW G x M T H1) (fun H E H1 => False) := fp_MX.pick fun U hK hB hP => by
  obtain ⟨o, u, sv, hi, ip, ln, el, hd, q, iv, ic, im, lv, lc, lm, hpx⟩ := id hP
  obtain ⟨hx, ⟨l, ed, z, t, mc, cap, b, hse, hj, ou, ol, oe, oz, ot⟩, hsv, hdq, hhs, hip, hln, ⟨ox, ohi, oel, oip, oiv, oln, olv⟩, hMM, hxb⟩ := id hpx
  have hed0 := (hK.deT (A := fp_no) hB fp_no.base).2.2
  exact ⟨_, _, _, _, ((c_X1_placedCount G x u sv hi ip ln false T.2.2.2.2.2.1 T.2.2.2.2.2.2 l ed z t mc cap b T.1 (⟨hI.1.1, hj⟩))).toX, ⟨hx, hse⟩, fun q h => h.elim, fun v H1 hp hf => ⟨hp.1, hP.ext hf.no⟩, fun E H1 hp hf => hp⟩
set_option maxHeartbeats 1000000 in
theorem w_isPresent (G : fp_G) (x : Nat) (M : Nat → Prop) (T : TH) (i : Nat) (a0 : Int) (hI : fp_TI i T) (g0 : rg a0) : fp_MX G yX1_isPresent cX1_isPresent 2 (some .boolean) 5 94 1 4 [.ref x, .int (iI a0)] (fp_PW G x M T) (fp_PA G M) (fun H v H1 => v = some (.int (iI (bI (decide (fp_fnd (T.1) a0 < sN (T.1)))))) ∧ fp_PW G x M T H1) (fun H E H1 => False) := fp_MX.pick fun U hK hB hP => by
  obtain ⟨o, u, sv, hi, ip, ln, el, hd, q, iv, ic, im, lv, lc, lm, hpx⟩ := id hP
  obtain ⟨hx, ⟨l, ed, z, t, mc, cap, b, hse, hj, ou, ol, oe, oz, ot⟩, hsv, hdq, hhs, hip, hln, ⟨ox, ohi, oel, oip, oiv, oln, olv⟩, hMM, hxb⟩ := id hpx
  have hed0 := (hK.deT (A := fp_no) hB fp_no.base).2.2
  exact ⟨_, _, _, _, ((c_X1_isPresent G x u sv hi ip ln false T.2.2.2.2.2.1 T.2.2.2.2.2.2 l ed z t mc cap b T.1 a0 (⟨hI.1.1, hj⟩) g0)).toX, ⟨hx, hse⟩, fun q h => h.elim, fun v H1 hp hf => ⟨hp, hP.ext hf.no⟩, fun E H1 hp hf => hp⟩
set_option maxHeartbeats 1000000 in
theorem w_levelCount (G : fp_G) (x : Nat) (M : Nat → Prop) (T : TH) (i : Nat) (hI : fp_TI i T) : fp_MX G yX1_levelCount cX1_levelCount 4 (some .int) 247 5805 1 24 [.ref x] (fp_PW G x M T) (fp_PA G M) (fun H v H1 => v = some (.int (iI ((fp_nlv (T.1) : Nat) : Int))) ∧ fp_PW G x M T H1) (fun H E H1 => False) := fp_MX.pick fun U hK hB hP => by
  obtain ⟨o, u, sv, hi, ip, ln, el, hd, q, iv, ic, im, lv, lc, lm, hpx⟩ := id hP
  obtain ⟨hx, ⟨l, ed, z, t, mc, cap, b, hse, hj, ou, ol, oe, oz, ot⟩, hsv, hdq, hhs, hip, hln, ⟨ox, ohi, oel, oip, oiv, oln, olv⟩, hMM, hxb⟩ := id hpx
  have hed0 := (hK.deT (A := fp_no) hB fp_no.base).2.2
  exact ⟨_, _, _, _, ((c_X1_levelCount G x u sv hi ip ln false T.2.2.2.2.2.1 T.2.2.2.2.2.2 l ed z t mc cap b T.1 (⟨hI.1.1, hj⟩) (hI.1.2.1.h30))).toX, ⟨hx, hse⟩, fun q h => h.elim, fun v H1 hp hf => ⟨hp, hP.ext hf.no⟩, fun E H1 hp hf => hp⟩
set_option maxHeartbeats 1000000 in
theorem w_steps (G : fp_G) (x : Nat) (M : Nat → Prop) (T : TH) (i : Nat) (hI : fp_TI i T) : fp_MX G yX1_steps cX1_steps 4 (some .int) 6 125 22 88 [.ref x] (fp_PW G x M T) (fp_PA G M) (fun H v H1 => v = some (.int (iI ((fp_steps (T.1) : Nat) : Int))) ∧ fp_PW G x M T H1) (fun H E H1 => False) := fp_MX.pick fun U hK hB hP => by
  obtain ⟨o, u, sv, hi, ip, ln, el, hd, q, iv, ic, im, lv, lc, lm, hpx⟩ := id hP
  obtain ⟨hx, ⟨l, ed, z, t, mc, cap, b, hse, hj, ou, ol, oe, oz, ot⟩, hsv, hdq, hhs, hip, hln, ⟨ox, ohi, oel, oip, oiv, oln, olv⟩, hMM, hxb⟩ := id hpx
  have hed0 := (hK.deT (A := fp_no) hB fp_no.base).2.2
  exact ⟨_, _, _, _, ((c_X1_steps G x u sv hi ip ln false T.2.2.2.2.2.1 T.2.2.2.2.2.2 l ed z t mc cap b T.1 (⟨hI.1.1, hj⟩))).toX, ⟨hx, hse⟩, fun q h => h.elim, fun v H1 hp hf => ⟨hp, hP.ext hf.no⟩, fun E H1 hp hf => hp⟩
set_option maxHeartbeats 1000000 in
theorem w_highestColumn (G : fp_G) (x : Nat) (M : Nat → Prop) (T : TH) (i : Nat) (hI : fp_TI i T) : fp_MX G yX1_highestColumn cX1_highestColumn 3 (some .int) 6 125 22 88 [.ref x] (fp_PW G x M T) (fp_PA G M) (fun H v H1 => v = some (.int (iI ((fp_hic (T.1) : Nat) : Int))) ∧ fp_PW G x M T H1) (fun H E H1 => False) := fp_MX.pick fun U hK hB hP => by
  obtain ⟨o, u, sv, hi, ip, ln, el, hd, q, iv, ic, im, lv, lc, lm, hpx⟩ := id hP
  obtain ⟨hx, ⟨l, ed, z, t, mc, cap, b, hse, hj, ou, ol, oe, oz, ot⟩, hsv, hdq, hhs, hip, hln, ⟨ox, ohi, oel, oip, oiv, oln, olv⟩, hMM, hxb⟩ := id hpx
  have hed0 := (hK.deT (A := fp_no) hB fp_no.base).2.2
  exact ⟨_, _, _, _, ((c_X1_highestColumn G x u sv hi ip ln false T.2.2.2.2.2.1 T.2.2.2.2.2.2 l ed z t mc cap b T.1 (⟨hI.1.1, hj⟩))).toX, ⟨hx, hse⟩, fun q h => h.elim, fun v H1 hp hf => ⟨hp, hP.ext hf.no⟩, fun E H1 hp hf => hp⟩
set_option maxHeartbeats 1000000 in
theorem w_litCount (G : fp_G) (x : Nat) (M : Nat → Prop) (T : TH) (i : Nat) (hI : fp_TI i T) : fp_MX G yX1_litCount cX1_litCount 1 (some .int) 10 219 193 780 [.ref x] (fp_PW G x M T) (fp_PA G M) (fun H v H1 => v = some (.int (iI ((fp_nlit (T.1) : Nat) : Int))) ∧ fp_PW G x M T H1) (fun H E H1 => False) := fp_MX.pick fun U hK hB hP => by
  obtain ⟨o, u, sv, hi, ip, ln, el, hd, q, iv, ic, im, lv, lc, lm, hpx⟩ := id hP
  obtain ⟨hx, ⟨l, ed, z, t, mc, cap, b, hse, hj, ou, ol, oe, oz, ot⟩, hsv, hdq, hhs, hip, hln, ⟨ox, ohi, oel, oip, oiv, oln, olv⟩, hMM, hxb⟩ := id hpx
  have hed0 := (hK.deT (A := fp_no) hB fp_no.base).2.2
  exact ⟨_, _, _, _, ((c_X1_litCount G x u sv hi ip ln false T.2.2.2.2.2.1 T.2.2.2.2.2.2 l ed z t mc cap b T.1 (⟨hI.1.1, hj⟩))).toX, ⟨hx, hse⟩, fun q h => h.elim, fun v H1 hp hf => ⟨hp, hP.ext hf.no⟩, fun E H1 hp hf => hp⟩
set_option maxHeartbeats 1000000 in
theorem w_totalWeight (G : fp_G) (x : Nat) (M : Nat → Prop) (T : TH) (i : Nat) (hI : fp_TI i T) : fp_MX G yX1_totalWeight cX1_totalWeight 1 (some .int) 303 8066 1 4 [.ref x] (fp_PW G x M T) (fp_PA G M) (fun H v H1 => v = some (.int (iI ((fp_tw (T.1) : Nat) : Int))) ∧ fp_PW G x M T H1) (fun H E H1 => False) := fp_MX.pick fun U hK hB hP => by
  obtain ⟨o, u, sv, hi, ip, ln, el, hd, q, iv, ic, im, lv, lc, lm, hpx⟩ := id hP
  obtain ⟨hx, ⟨l, ed, z, t, mc, cap, b, hse, hj, ou, ol, oe, oz, ot⟩, hsv, hdq, hhs, hip, hln, ⟨ox, ohi, oel, oip, oiv, oln, olv⟩, hMM, hxb⟩ := id hpx
  have hed0 := (hK.deT (A := fp_no) hB fp_no.base).2.2
  exact ⟨_, _, _, _, ((c_X1_totalWeight G x u sv hi ip ln false T.2.2.2.2.2.1 T.2.2.2.2.2.2 l ed z t mc cap b T.1 (⟨hI.1.1, hj⟩))).toX, ⟨hx, hse⟩, fun q h => h.elim, fun v H1 hp hf => ⟨hp, hP.ext hf.no⟩, fun E H1 hp hf => hp⟩
set_option maxHeartbeats 1000000 in
theorem w_floorPressure (G : fp_G) (x : Nat) (M : Nat → Prop) (T : TH) (i : Nat) (hI : fp_TI i T) : fp_MX G yX1_floorPressure cX1_floorPressure 1 (some .int) 303 8067 147 2934 [.ref x] (fp_PW G x M T) (fp_PA G M) (fun H v H1 => v = some (.int (iI ((fp_fp (T.1) : Nat) : Int))) ∧ fp_PW G x M T H1) (fun H E H1 => False) := fp_MX.pick fun U hK hB hP => by
  obtain ⟨o, u, sv, hi, ip, ln, el, hd, q, iv, ic, im, lv, lc, lm, hpx⟩ := id hP
  obtain ⟨hx, ⟨l, ed, z, t, mc, cap, b, hse, hj, ou, ol, oe, oz, ot⟩, hsv, hdq, hhs, hip, hln, ⟨ox, ohi, oel, oip, oiv, oln, olv⟩, hMM, hxb⟩ := id hpx
  have hed0 := (hK.deT (A := fp_no) hB fp_no.base).2.2
  exact ⟨_, _, _, _, ((c_X1_floorPressure G x u sv hi ip ln false T.2.2.2.2.2.1 T.2.2.2.2.2.2 l ed z t mc cap b T.1 (⟨hI.1.1, hj⟩) (hI.dl))).toX, ⟨hx, hse⟩, fun q h => h.elim, fun v H1 hp hf => ⟨hp, hP.ext hf.no⟩, fun E H1 hp hf => hp⟩
set_option maxHeartbeats 1000000 in
theorem w_meanHeight (G : fp_G) (x : Nat) (M : Nat → Prop) (T : TH) (i : Nat) (hI : fp_TI i T) : fp_MX G yX1_meanHeight cX1_meanHeight 3 (some .double) 6 125 12 48 [.ref x] (fp_PW G x M T) (fp_PA G M) (fun H v H1 => v = some (.double (fp_div12d (fp_sumh (T.1)))) ∧ fp_PW G x M T H1) (fun H E H1 => False) := fp_MX.pick fun U hK hB hP => by
  obtain ⟨o, u, sv, hi, ip, ln, el, hd, q, iv, ic, im, lv, lc, lm, hpx⟩ := id hP
  obtain ⟨hx, ⟨l, ed, z, t, mc, cap, b, hse, hj, ou, ol, oe, oz, ot⟩, hsv, hdq, hhs, hip, hln, ⟨ox, ohi, oel, oip, oiv, oln, olv⟩, hMM, hxb⟩ := id hpx
  have hed0 := (hK.deT (A := fp_no) hB fp_no.base).2.2
  exact ⟨_, _, _, _, ((c_X1_meanHeight G x u sv hi ip ln false T.2.2.2.2.2.1 T.2.2.2.2.2.2 l ed z t mc cap b T.1 (⟨hI.1.1, hj⟩))).toX, ⟨hx, hse⟩, fun q h => h.elim, fun v H1 hp hf => ⟨hp, hP.ext hf.no⟩, fun E H1 hp hf => hp⟩
set_option maxHeartbeats 1000000 in
theorem w_litShare (G : fp_G) (x : Nat) (M : Nat → Prop) (T : TH) (i : Nat) (hI : fp_TI i T) : fp_MX G yX1_litShare cX1_litShare 1 (some .float) 10 219 193 780 [.ref x] (fp_PW G x M T) (fp_PA G M) (fun H v H1 => v = some (.float (fp_div12f (fp_nlit (T.1)))) ∧ fp_PW G x M T H1) (fun H E H1 => False) := fp_MX.pick fun U hK hB hP => by
  obtain ⟨o, u, sv, hi, ip, ln, el, hd, q, iv, ic, im, lv, lc, lm, hpx⟩ := id hP
  obtain ⟨hx, ⟨l, ed, z, t, mc, cap, b, hse, hj, ou, ol, oe, oz, ot⟩, hsv, hdq, hhs, hip, hln, ⟨ox, ohi, oel, oip, oiv, oln, olv⟩, hMM, hxb⟩ := id hpx
  have hed0 := (hK.deT (A := fp_no) hB fp_no.base).2.2
  exact ⟨_, _, _, _, ((c_X1_litShare G x u sv hi ip ln false T.2.2.2.2.2.1 T.2.2.2.2.2.2 l ed z t mc cap b T.1 (⟨hI.1.1, hj⟩))).toX, ⟨hx, hse⟩, fun q h => h.elim, fun v H1 hp hf => ⟨hp, hP.ext hf.no⟩, fun E H1 hp hf => hp⟩
set_option maxHeartbeats 1000000 in
theorem w_isConsistent (G : fp_G) (x : Nat) (M : Nat → Prop) (T : TH) (i : Nat) (hI : fp_TI i T) : fp_MX G yX1_isConsistent cX1_isConsistent 2 (some .boolean) 330 8111 10484 103910 [.ref x] (fp_PW G x M T) (fp_PA G M) (fun H v H1 => v = some (.int (iI (bI (fp_bears (T.1))))) ∧ fp_PW G x M T H1) (fun H E H1 => False) := fp_MX.pick fun U hK hB hP => by
  obtain ⟨o, u, sv, hi, ip, ln, el, hd, q, iv, ic, im, lv, lc, lm, hpx⟩ := id hP
  obtain ⟨hx, ⟨l, ed, z, t, mc, cap, b, hse, hj, ou, ol, oe, oz, ot⟩, hsv, hdq, hhs, hip, hln, ⟨ox, ohi, oel, oip, oiv, oln, olv⟩, hMM, hxb⟩ := id hpx
  have hed0 := (hK.deT (A := fp_no) hB fp_no.base).2.2
  exact ⟨_, _, _, _, ((c_X1_isConsistent G x u sv hi ip ln false T.2.2.2.2.2.1 T.2.2.2.2.2.2 l ed z t mc cap b T.1 (⟨hI.1.1, hj⟩) (hI.dl) (hI.1.2.1.h30) (hI.1.2.1.hol) (hI.1.2.1.press hI.1.1))).toX, ⟨hx, hse⟩, fun q h => h.elim, fun v H1 hp hf => ⟨hp, hP.ext hf.no⟩, fun E H1 hp hf => hp⟩
set_option maxHeartbeats 1000000 in
theorem w_undoableCount (G : fp_G) (x : Nat) (M : Nat → Prop) (T : TH) (i : Nat) (hI : fp_TI i T) : fp_MX G yX1_undoableCount cX1_undoableCount 1 (some .int) 3 54 0 0 [.ref x] (fp_PW G x M T) (fp_PA G M) (fun H v H1 => v = some (.int (iI (((T.2.2.1.1) : Nat) : Int))) ∧ fp_PW G x M T H1) (fun H E H1 => False) := fp_MX.pick fun U hK hB hP => by
  obtain ⟨o, u, sv, hi, ip, ln, el, hd, q, iv, ic, im, lv, lc, lm, hpx⟩ := id hP
  obtain ⟨hx, ⟨l, ed, z, t, mc, cap, b, hse, hj, ou, ol, oe, oz, ot⟩, hsv, hdq, hhs, hip, hln, ⟨ox, ohi, oel, oip, oiv, oln, olv⟩, hMM, hxb⟩ := id hpx
  have hed0 := (hK.deT (A := fp_no) hB fp_no.base).2.2
  exact ⟨_, _, _, _, ((c_X1_undoableCount G x u sv hi ip ln false T.2.2.2.2.2.1 T.2.2.2.2.2.2 el hd T.2.2.1.1 q )).toX, ⟨hx, hdq⟩, fun q h => h.elim, fun v H1 hp hf => ⟨hp.1, hP.ext hf.no⟩, fun E H1 hp hf => hp⟩
set_option maxHeartbeats 1000000 in
theorem w_canPlaceFoam (G : fp_G) (x : Nat) (M : Nat → Prop) (T : TH) (i : Nat) (a0 : Int) (a1 : Int) (a2 : Int) (hI : fp_TI i T) (g0 : rg a0) (g1 : rg a1) (g2 : rg a2) : fp_MX G yX1_canPlaceFoam cX1_canPlaceFoam 4 (some .boolean) 13 313 154 3013 [.ref x, .int (iI a0), .int (iI a1), .int (iI a2)] (fp_PW G x M T) (fp_PA G M) (fun H v H1 => v = some (.int (iI (bI (decide (fp_plc (T.1) 0 a0 a1 a2 = 0))))) ∧ fp_cn_c T.1 0 a0 a1 a2 = 0 ∧ fp_PW G x M T H1) (fun H E H1 => (E = "java/lang/IllegalArgumentException" ∧ fp_cn_c T.1 0 a0 a1 a2 = 1 ∧ fp_PW G x M T H1)) := fp_MX.pick fun U hK hB hP => by
  obtain ⟨o, u, sv, hi, ip, ln, el, hd, q, iv, ic, im, lv, lc, lm, hpx⟩ := id hP
  obtain ⟨hx, ⟨l, ed, z, t, mc, cap, b, hse, hj, ou, ol, oe, oz, ot⟩, hsv, hdq, hhs, hip, hln, ⟨ox, ohi, oel, oip, oiv, oln, olv⟩, hMM, hxb⟩ := id hpx
  have hed0 := (hK.deT (A := fp_no) hB fp_no.base).2.2
  obtain ⟨nx, nh, ne, ni, nv, nl, nw⟩ := fp_nb.roots hK hx hdq hip hln
  obtain ⟨mu, ml, me, mz, mt⟩ := fp_nb.SE hK hse hed0
  have hA : ∀ r, (fun q => (g_s G).heap.size ≤ q ∧ (q = l ∨ q = ed)) r → (g_s G).heap.size ≤ r ∧ (o r = 2) ∧ fp_nb G U.heap r := by
    rintro r ⟨hb, rfl | rfl⟩
    · exact ⟨hb, ol, ml⟩
    · exact ⟨hb, oe hb, me hb⟩
  have hPA : ∀ r, (fun q => (g_s G).heap.size ≤ q ∧ (q = l ∨ q = ed)) r → fp_PA G M r := fun r hr => ⟨(hA r hr).1, fun hm => by have a := (hA r hr).2.1; have c := (hMM r hm).2; omega⟩
  refine ⟨_, _, _, _, (c_X1_canPlaceFoam G x u sv hi ip ln false T.2.2.2.2.2.1 T.2.2.2.2.2.2 l ed z t mc cap b T.1 a0 a1 a2 (⟨hI.1.1, hj⟩) hxb g0 g1 g2 (hI.1.2.1) (hI.p9)), ⟨hx, hse⟩, hPA, fun v H1 hp hf => ?_, fun E H1 hp hf => ?_⟩
  · obtain ⟨ed2, mc2, cap2, hv, hc, hed2, hs2⟩ := hp
    refine ⟨hv, if_neg hc, ?_⟩
    exact hpx.tried hf (fun r hr => ⟨(hA r hr).1, Or.inl (hA r hr).2.1, (hA r hr).2.2⟩) (hdq.go ohi oel hf (fun r hr => by have := (hA r hr).2.1; omega)) hs2 hj (fun r hr hb hl => by
      simp only [List.mem_cons, List.not_mem_nil, or_false] at hr
      rcases hr with rfl | rfl | rfl | rfl | rfl
      · exact ou
      · exact ol
      · rcases hed2 with e | e
        · rw [e] at hb ⊢; exact oe hb
        · omega
      · exact oz
      · exact ot)
  · obtain ⟨hv, hc, hs2⟩ := hp
    refine ⟨hv, if_pos hc, ?_⟩
    have hed2 : ed = ed ∨ U.heap.size ≤ ed := Or.inl rfl
    exact hpx.tried hf (fun r hr => ⟨(hA r hr).1, Or.inl (hA r hr).2.1, (hA r hr).2.2⟩) (hdq.go ohi oel hf (fun r hr => by have := (hA r hr).2.1; omega)) hs2 hj (fun r hr hb hl => by
      simp only [List.mem_cons, List.not_mem_nil, or_false] at hr
      rcases hr with rfl | rfl | rfl | rfl | rfl
      · exact ou
      · exact ol
      · rcases hed2 with e | e
        · rw [e] at hb ⊢; exact oe hb
        · omega
      · exact oz
      · exact ot)
set_option maxHeartbeats 1000000 in
theorem w_canPlaceBoard (G : fp_G) (x : Nat) (M : Nat → Prop) (T : TH) (i : Nat) (a0 : Int) (a1 : Int) (a2 : Int) (hI : fp_TI i T) (g0 : rg a0) (g1 : rg a1) (g2 : rg a2) : fp_MX G yX1_canPlaceBoard cX1_canPlaceBoard 4 (some .boolean) 13 313 154 3013 [.ref x, .int (iI a0), .int (iI a1), .int (iI a2)] (fp_PW G x M T) (fp_PA G M) (fun H v H1 => v = some (.int (iI (bI (decide (fp_plc (T.1) 1 a0 a1 a2 = 0))))) ∧ fp_cn_c T.1 1 a0 a1 a2 = 0 ∧ fp_PW G x M T H1) (fun H E H1 => (E = "java/lang/IllegalArgumentException" ∧ fp_cn_c T.1 1 a0 a1 a2 = 1 ∧ fp_PW G x M T H1)) := fp_MX.pick fun U hK hB hP => by
  obtain ⟨o, u, sv, hi, ip, ln, el, hd, q, iv, ic, im, lv, lc, lm, hpx⟩ := id hP
  obtain ⟨hx, ⟨l, ed, z, t, mc, cap, b, hse, hj, ou, ol, oe, oz, ot⟩, hsv, hdq, hhs, hip, hln, ⟨ox, ohi, oel, oip, oiv, oln, olv⟩, hMM, hxb⟩ := id hpx
  have hed0 := (hK.deT (A := fp_no) hB fp_no.base).2.2
  obtain ⟨nx, nh, ne, ni, nv, nl, nw⟩ := fp_nb.roots hK hx hdq hip hln
  obtain ⟨mu, ml, me, mz, mt⟩ := fp_nb.SE hK hse hed0
  have hA : ∀ r, (fun q => (g_s G).heap.size ≤ q ∧ (q = l ∨ q = ed)) r → (g_s G).heap.size ≤ r ∧ (o r = 2) ∧ fp_nb G U.heap r := by
    rintro r ⟨hb, rfl | rfl⟩
    · exact ⟨hb, ol, ml⟩
    · exact ⟨hb, oe hb, me hb⟩
  have hPA : ∀ r, (fun q => (g_s G).heap.size ≤ q ∧ (q = l ∨ q = ed)) r → fp_PA G M r := fun r hr => ⟨(hA r hr).1, fun hm => by have a := (hA r hr).2.1; have c := (hMM r hm).2; omega⟩
  refine ⟨_, _, _, _, (c_X1_canPlaceBoard G x u sv hi ip ln false T.2.2.2.2.2.1 T.2.2.2.2.2.2 l ed z t mc cap b T.1 a0 a1 a2 (⟨hI.1.1, hj⟩) hxb g0 g1 g2 (hI.1.2.1) (hI.p9)), ⟨hx, hse⟩, hPA, fun v H1 hp hf => ?_, fun E H1 hp hf => ?_⟩
  · obtain ⟨ed2, mc2, cap2, hv, hc, hed2, hs2⟩ := hp
    refine ⟨hv, if_neg hc, ?_⟩
    exact hpx.tried hf (fun r hr => ⟨(hA r hr).1, Or.inl (hA r hr).2.1, (hA r hr).2.2⟩) (hdq.go ohi oel hf (fun r hr => by have := (hA r hr).2.1; omega)) hs2 hj (fun r hr hb hl => by
      simp only [List.mem_cons, List.not_mem_nil, or_false] at hr
      rcases hr with rfl | rfl | rfl | rfl | rfl
      · exact ou
      · exact ol
      · rcases hed2 with e | e
        · rw [e] at hb ⊢; exact oe hb
        · omega
      · exact oz
      · exact ot)
  · obtain ⟨hv, hc, hs2⟩ := hp
    refine ⟨hv, if_pos hc, ?_⟩
    have hed2 : ed = ed ∨ U.heap.size ≤ ed := Or.inl rfl
    exact hpx.tried hf (fun r hr => ⟨(hA r hr).1, Or.inl (hA r hr).2.1, (hA r hr).2.2⟩) (hdq.go ohi oel hf (fun r hr => by have := (hA r hr).2.1; omega)) hs2 hj (fun r hr hb hl => by
      simp only [List.mem_cons, List.not_mem_nil, or_false] at hr
      rcases hr with rfl | rfl | rfl | rfl | rfl
      · exact ou
      · exact ol
      · rcases hed2 with e | e
        · rw [e] at hb ⊢; exact oe hb
        · omega
      · exact oz
      · exact ot)
set_option maxHeartbeats 1000000 in
theorem w_canPlaceBag (G : fp_G) (x : Nat) (M : Nat → Prop) (T : TH) (i : Nat) (a0 : Int) (a1 : Int) (a2 : Int) (hI : fp_TI i T) (g0 : rg a0) (g1 : rg a1) (g2 : rg a2) : fp_MX G yX1_canPlaceBag cX1_canPlaceBag 4 (some .boolean) 13 313 154 3013 [.ref x, .int (iI a0), .int (iI a1), .int (iI a2)] (fp_PW G x M T) (fp_PA G M) (fun H v H1 => v = some (.int (iI (bI (decide (fp_plc (T.1) 2 a0 a1 a2 = 0))))) ∧ fp_cn_c T.1 2 a0 a1 a2 = 0 ∧ fp_PW G x M T H1) (fun H E H1 => (E = "java/lang/IllegalArgumentException" ∧ fp_cn_c T.1 2 a0 a1 a2 = 1 ∧ fp_PW G x M T H1)) := fp_MX.pick fun U hK hB hP => by
  obtain ⟨o, u, sv, hi, ip, ln, el, hd, q, iv, ic, im, lv, lc, lm, hpx⟩ := id hP
  obtain ⟨hx, ⟨l, ed, z, t, mc, cap, b, hse, hj, ou, ol, oe, oz, ot⟩, hsv, hdq, hhs, hip, hln, ⟨ox, ohi, oel, oip, oiv, oln, olv⟩, hMM, hxb⟩ := id hpx
  have hed0 := (hK.deT (A := fp_no) hB fp_no.base).2.2
  obtain ⟨nx, nh, ne, ni, nv, nl, nw⟩ := fp_nb.roots hK hx hdq hip hln
  obtain ⟨mu, ml, me, mz, mt⟩ := fp_nb.SE hK hse hed0
  have hA : ∀ r, (fun q => (g_s G).heap.size ≤ q ∧ (q = l ∨ q = ed)) r → (g_s G).heap.size ≤ r ∧ (o r = 2) ∧ fp_nb G U.heap r := by
    rintro r ⟨hb, rfl | rfl⟩
    · exact ⟨hb, ol, ml⟩
    · exact ⟨hb, oe hb, me hb⟩
  have hPA : ∀ r, (fun q => (g_s G).heap.size ≤ q ∧ (q = l ∨ q = ed)) r → fp_PA G M r := fun r hr => ⟨(hA r hr).1, fun hm => by have a := (hA r hr).2.1; have c := (hMM r hm).2; omega⟩
  refine ⟨_, _, _, _, (c_X1_canPlaceBag G x u sv hi ip ln false T.2.2.2.2.2.1 T.2.2.2.2.2.2 l ed z t mc cap b T.1 a0 a1 a2 (⟨hI.1.1, hj⟩) hxb g0 g1 g2 (hI.1.2.1) (hI.p9)), ⟨hx, hse⟩, hPA, fun v H1 hp hf => ?_, fun E H1 hp hf => ?_⟩
  · obtain ⟨ed2, mc2, cap2, hv, hc, hed2, hs2⟩ := hp
    refine ⟨hv, if_neg hc, ?_⟩
    exact hpx.tried hf (fun r hr => ⟨(hA r hr).1, Or.inl (hA r hr).2.1, (hA r hr).2.2⟩) (hdq.go ohi oel hf (fun r hr => by have := (hA r hr).2.1; omega)) hs2 hj (fun r hr hb hl => by
      simp only [List.mem_cons, List.not_mem_nil, or_false] at hr
      rcases hr with rfl | rfl | rfl | rfl | rfl
      · exact ou
      · exact ol
      · rcases hed2 with e | e
        · rw [e] at hb ⊢; exact oe hb
        · omega
      · exact oz
      · exact ot)
  · obtain ⟨hv, hc, hs2⟩ := hp
    refine ⟨hv, if_pos hc, ?_⟩
    have hed2 : ed = ed ∨ U.heap.size ≤ ed := Or.inl rfl
    exact hpx.tried hf (fun r hr => ⟨(hA r hr).1, Or.inl (hA r hr).2.1, (hA r hr).2.2⟩) (hdq.go ohi oel hf (fun r hr => by have := (hA r hr).2.1; omega)) hs2 hj (fun r hr hb hl => by
      simp only [List.mem_cons, List.not_mem_nil, or_false] at hr
      rcases hr with rfl | rfl | rfl | rfl | rfl
      · exact ou
      · exact ol
      · rcases hed2 with e | e
        · rw [e] at hb ⊢; exact oe hb
        · omega
      · exact oz
      · exact ot)
set_option maxHeartbeats 1000000 in
theorem w_heaviestFoam (G : fp_G) (x : Nat) (M : Nat → Prop) (T : TH) (i : Nat) (a0 : Int) (a1 : Int) (hI : fp_TI i T) (g0 : rg a0) (g1 : rg a1) : fp_MX G yX1_heaviestFoam cX1_heaviestFoam 4 (some .int) 12 289 1370 27021 [.ref x, .int (iI a0), .int (iI a1)] (fp_PW G x M T) (fp_PA G M) (fun H v H1 => v = some (.int (iI ((fp_hv (T.1) a0 a1 : Nat) : Int))) ∧ fp_hvc T.1 a0 a1 = 0 ∧ fp_PW G x M T H1) (fun H E H1 => (E = "java/lang/IllegalArgumentException" ∧ fp_hvc T.1 a0 a1 = 1 ∧ fp_PW G x M T H1) ∨ (E = "java/util/NoSuchElementException" ∧ fp_hvc T.1 a0 a1 = 2 ∧ fp_PW G x M T H1)) := fp_MX.pick fun U hK hB hP => by
  obtain ⟨o, u, sv, hi, ip, ln, el, hd, q, iv, ic, im, lv, lc, lm, hpx⟩ := id hP
  obtain ⟨hx, ⟨l, ed, z, t, mc, cap, b, hse, hj, ou, ol, oe, oz, ot⟩, hsv, hdq, hhs, hip, hln, ⟨ox, ohi, oel, oip, oiv, oln, olv⟩, hMM, hxb⟩ := id hpx
  have hed0 := (hK.deT (A := fp_no) hB fp_no.base).2.2
  obtain ⟨nx, nh, ne, ni, nv, nl, nw⟩ := fp_nb.roots hK hx hdq hip hln
  obtain ⟨mu, ml, me, mz, mt⟩ := fp_nb.SE hK hse hed0
  have hA : ∀ r, (fun q => (g_s G).heap.size ≤ q ∧ (q = l ∨ q = ed)) r → (g_s G).heap.size ≤ r ∧ (o r = 2) ∧ fp_nb G U.heap r := by
    rintro r ⟨hb, rfl | rfl⟩
    · exact ⟨hb, ol, ml⟩
    · exact ⟨hb, oe hb, me hb⟩
  have hPA : ∀ r, (fun q => (g_s G).heap.size ≤ q ∧ (q = l ∨ q = ed)) r → fp_PA G M r := fun r hr => ⟨(hA r hr).1, fun hm => by have a := (hA r hr).2.1; have c := (hMM r hm).2; omega⟩
  refine ⟨_, _, _, _, (c_X1_heaviestFoam G x u sv hi ip ln false T.2.2.2.2.2.1 T.2.2.2.2.2.2 l ed z t mc cap b T.1 a0 a1 (⟨hI.1.1, hj⟩) hxb g0 g1 (hI.1.2.1) (hI.p9)), ⟨hx, hse⟩, hPA, fun v H1 hp hf => ?_, fun E H1 hp hf => ?_⟩
  · obtain ⟨ed2, mc2, cap2, hv, hc, hed2, hs2⟩ := hp
    refine ⟨hv, hc, ?_⟩
    exact hpx.tried hf (fun r hr => ⟨(hA r hr).1, Or.inl (hA r hr).2.1, (hA r hr).2.2⟩) (hdq.go ohi oel hf (fun r hr => by have := (hA r hr).2.1; omega)) hs2 hj (fun r hr hb hl => by
      simp only [List.mem_cons, List.not_mem_nil, or_false] at hr
      rcases hr with rfl | rfl | rfl | rfl | rfl
      · exact ou
      · exact ol
      · rcases hed2 with e | e
        · rw [e] at hb ⊢; exact oe hb
        · omega
      · exact oz
      · exact ot)
  · rcases hp with ⟨hv, hc, hs2⟩ | ⟨hv, ed2, mc2, cap2, hed2, hc, hs2⟩
    · refine Or.inl ⟨hv, hc, ?_⟩
      have hed2 : ed = ed ∨ U.heap.size ≤ ed := Or.inl rfl
      exact hpx.tried hf (fun r hr => ⟨(hA r hr).1, Or.inl (hA r hr).2.1, (hA r hr).2.2⟩) (hdq.go ohi oel hf (fun r hr => by have := (hA r hr).2.1; omega)) hs2 hj (fun r hr hb hl => by
      simp only [List.mem_cons, List.not_mem_nil, or_false] at hr
      rcases hr with rfl | rfl | rfl | rfl | rfl
      · exact ou
      · exact ol
      · rcases hed2 with e | e
        · rw [e] at hb ⊢; exact oe hb
        · omega
      · exact oz
      · exact ot)
    · refine Or.inr ⟨hv, hc, ?_⟩
      exact hpx.tried hf (fun r hr => ⟨(hA r hr).1, Or.inl (hA r hr).2.1, (hA r hr).2.2⟩) (hdq.go ohi oel hf (fun r hr => by have := (hA r hr).2.1; omega)) hs2 hj (fun r hr hb hl => by
      simp only [List.mem_cons, List.not_mem_nil, or_false] at hr
      rcases hr with rfl | rfl | rfl | rfl | rfl
      · exact ou
      · exact ol
      · rcases hed2 with e | e
        · rw [e] at hb ⊢; exact oe hb
        · omega
      · exact oz
      · exact ot)
set_option maxHeartbeats 1000000 in
theorem w_placeFoam (G : fp_G) (x : Nat) (M : Nat → Prop) (T : TH) (i : Nat) (a0 : Int) (a1 : Int) (a2 : Int) (hI : fp_TI i T) (g0 : rg a0) (g1 : rg a1) (g2 : rg a2) : fp_MX G yX1_placeFoam cX1_placeFoam 4 (some .int) 13 314 165 3215 [.ref x, .int (iI a0), .int (iI a1), .int (iI a2)] (fp_PW G x M T) (fp_PA G M) (fun H v H1 => v = some (.int (iI ((sP (T.1) : Nat) : Int))) ∧ fp_plc T.1 0 a0 a1 a2 = 0 ∧ fp_PW G x M (fp_psh T (fp_add T.1 0 a0.toNat a1.toNat a2.toNat)) H1) (fun H E H1 => (E = "java/lang/IllegalArgumentException" ∧ fp_plc T.1 0 a0 a1 a2 = 1 ∧ fp_PW G x M T H1) ∨ (E = "java/lang/IllegalStateException" ∧ fp_plc T.1 0 a0 a1 a2 = 2 ∧ fp_PW G x M T H1)) := fp_MX.pick fun U hK hB hP => by
  obtain ⟨o, u, sv, hi, ip, ln, el, hd, q, iv, ic, im, lv, lc, lm, hpx⟩ := id hP
  obtain ⟨hx, ⟨l, ed, z, t, mc, cap, b, hse, hj, ou, ol, oe, oz, ot⟩, hsv, hdq, hhs, hip, hln, ⟨ox, ohi, oel, oip, oiv, oln, olv⟩, hMM, hxb⟩ := id hpx
  have hed0 := (hK.deT (A := fp_no) hB fp_no.base).2.2
  obtain ⟨nx, nh, ne, ni, nv, nl, nw⟩ := fp_nb.roots hK hx hdq hip hln
  obtain ⟨mu, ml, me, mz, mt⟩ := fp_nb.SE hK hse hed0
  have hA : ∀ r, (fun q => (g_s G).heap.size ≤ q ∧ (q = u ∨ q = l ∨ q = ed ∨ q = hi ∨ q = el)) r → (g_s G).heap.size ≤ r ∧ (o r = 2 ∨ o r = 4) ∧ fp_nb G U.heap r := by
    rintro r ⟨hb, rfl | rfl | rfl | rfl | rfl⟩
    · exact ⟨hb, Or.inl ou, mu⟩
    · exact ⟨hb, Or.inl ol, ml⟩
    · exact ⟨hb, Or.inl (oe hb), me hb⟩
    · exact ⟨hb, Or.inr (ohi), nh⟩
    · exact ⟨hb, Or.inr (oel), ne⟩
  have hPA : ∀ r, (fun q => (g_s G).heap.size ≤ q ∧ (q = u ∨ q = l ∨ q = ed ∨ q = hi ∨ q = el)) r → fp_PA G M r := fun r hr => ⟨(hA r hr).1, fun hm => by have a := (hA r hr).2.1; have c := (hMM r hm).2; omega⟩
  refine ⟨_, _, _, _, (c_X1_placeFoam G x u sv hi ip ln T.2.2.2.2.2.1 T.2.2.2.2.2.2 l ed z t mc cap b T.1 el hd T.2.2.1.1 q a0 a1 a2 (⟨hI.1.1, hj⟩) hxb g0 g1 g2 (hI.1.2.1) (hI.p9) (hI.h8) (fp_hde oe oel hdq.2.2.2.2)), ⟨hx, hse, hdq⟩, hPA, fun v H1 hp hf => ?_, fun E H1 hp hf => ?_⟩
  · obtain ⟨ed2, mc2, cap2, nb, hd2, y9, l9, e9, z9, t9, m9, c9, hv, hc, hed2, hnb, hcf, hce, hee, hs2, hq2, hcp⟩ := hp
    refine ⟨hv, hc, ?_⟩
    have lu := hse.1.lt
    have ll := hse.2.1.1.lt
    have le := hse.2.1.2.2.1
    have lz := hse.2.2.1.lt
    have lt := hse.2.2.2.1.lt
    exact hpx.push hK hed0 hf (fun r hr => ⟨(hA r hr).1, by have := (hA r hr).2.1; omega, (hA r hr).2.2⟩) hI.h8 (hx.go ox hf (fun r hr => by have := (hA r hr).2.1; omega)) hs2 (fp_inj.up hj (fun k hk => by have := (hse.2.2.2.2.1 k hk).lt; omega)) (fun r hr hb hl => by
      simp only [List.mem_cons, List.not_mem_nil, or_false] at hr
      rcases hr with rfl | rfl | rfl | rfl | rfl
      · exact ou
      · exact ol
      · rcases hed2 with e | e
        · rw [e] at hb ⊢; exact oe hb
        · omega
      · exact oz
      · exact ot) hq2 (hip.go oip oiv hf (fun r hr => by have := (hA r hr).2.1; omega)) (Or.inl rfl) hcp hj hcf hce ⟨by omega, by omega, fun hb => by rcases hee with e | e; exact absurd hb (by omega); exact e, by omega, by omega⟩
  · rcases hp with ⟨hv, hc, hs2, hq2⟩ | ⟨hv, ed2, mc2, cap2, hed2, hc, hs2, hq2⟩
    · refine Or.inl ⟨hv, hc, ?_⟩
      have hed2 : ed = ed ∨ U.heap.size ≤ ed := Or.inl rfl
      exact hpx.tried hf (fun r hr => ⟨(hA r hr).1, (hA r hr).2.1, (hA r hr).2.2⟩) hq2 hs2 hj (fun r hr hb hl => by
      simp only [List.mem_cons, List.not_mem_nil, or_false] at hr
      rcases hr with rfl | rfl | rfl | rfl | rfl
      · exact ou
      · exact ol
      · rcases hed2 with e | e
        · rw [e] at hb ⊢; exact oe hb
        · omega
      · exact oz
      · exact ot)
    · refine Or.inr ⟨hv, hc, ?_⟩
      exact hpx.tried hf (fun r hr => ⟨(hA r hr).1, (hA r hr).2.1, (hA r hr).2.2⟩) hq2 hs2 hj (fun r hr hb hl => by
      simp only [List.mem_cons, List.not_mem_nil, or_false] at hr
      rcases hr with rfl | rfl | rfl | rfl | rfl
      · exact ou
      · exact ol
      · rcases hed2 with e | e
        · rw [e] at hb ⊢; exact oe hb
        · omega
      · exact oz
      · exact ot)
set_option maxHeartbeats 1000000 in
theorem w_placeBoard (G : fp_G) (x : Nat) (M : Nat → Prop) (T : TH) (i : Nat) (a0 : Int) (a1 : Int) (a2 : Int) (hI : fp_TI i T) (g0 : rg a0) (g1 : rg a1) (g2 : rg a2) : fp_MX G yX1_placeBoard cX1_placeBoard 4 (some .int) 13 314 165 3215 [.ref x, .int (iI a0), .int (iI a1), .int (iI a2)] (fp_PW G x M T) (fp_PA G M) (fun H v H1 => v = some (.int (iI ((sP (T.1) : Nat) : Int))) ∧ fp_plc T.1 1 a0 a1 a2 = 0 ∧ fp_PW G x M (fp_psh T (fp_add T.1 1 a0.toNat a1.toNat a2.toNat)) H1) (fun H E H1 => (E = "java/lang/IllegalArgumentException" ∧ fp_plc T.1 1 a0 a1 a2 = 1 ∧ fp_PW G x M T H1) ∨ (E = "java/lang/IllegalStateException" ∧ fp_plc T.1 1 a0 a1 a2 = 2 ∧ fp_PW G x M T H1)) := fp_MX.pick fun U hK hB hP => by
  obtain ⟨o, u, sv, hi, ip, ln, el, hd, q, iv, ic, im, lv, lc, lm, hpx⟩ := id hP
  obtain ⟨hx, ⟨l, ed, z, t, mc, cap, b, hse, hj, ou, ol, oe, oz, ot⟩, hsv, hdq, hhs, hip, hln, ⟨ox, ohi, oel, oip, oiv, oln, olv⟩, hMM, hxb⟩ := id hpx
  have hed0 := (hK.deT (A := fp_no) hB fp_no.base).2.2
  obtain ⟨nx, nh, ne, ni, nv, nl, nw⟩ := fp_nb.roots hK hx hdq hip hln
  obtain ⟨mu, ml, me, mz, mt⟩ := fp_nb.SE hK hse hed0
  have hA : ∀ r, (fun q => (g_s G).heap.size ≤ q ∧ (q = u ∨ q = l ∨ q = ed ∨ q = hi ∨ q = el)) r → (g_s G).heap.size ≤ r ∧ (o r = 2 ∨ o r = 4) ∧ fp_nb G U.heap r := by
    rintro r ⟨hb, rfl | rfl | rfl | rfl | rfl⟩
    · exact ⟨hb, Or.inl ou, mu⟩
    · exact ⟨hb, Or.inl ol, ml⟩
    · exact ⟨hb, Or.inl (oe hb), me hb⟩
    · exact ⟨hb, Or.inr (ohi), nh⟩
    · exact ⟨hb, Or.inr (oel), ne⟩
  have hPA : ∀ r, (fun q => (g_s G).heap.size ≤ q ∧ (q = u ∨ q = l ∨ q = ed ∨ q = hi ∨ q = el)) r → fp_PA G M r := fun r hr => ⟨(hA r hr).1, fun hm => by have a := (hA r hr).2.1; have c := (hMM r hm).2; omega⟩
  refine ⟨_, _, _, _, (c_X1_placeBoard G x u sv hi ip ln T.2.2.2.2.2.1 T.2.2.2.2.2.2 l ed z t mc cap b T.1 el hd T.2.2.1.1 q a0 a1 a2 (⟨hI.1.1, hj⟩) hxb g0 g1 g2 (hI.1.2.1) (hI.p9) (hI.h8) (fp_hde oe oel hdq.2.2.2.2)), ⟨hx, hse, hdq⟩, hPA, fun v H1 hp hf => ?_, fun E H1 hp hf => ?_⟩
  · obtain ⟨ed2, mc2, cap2, nb, hd2, y9, l9, e9, z9, t9, m9, c9, hv, hc, hed2, hnb, hcf, hce, hee, hs2, hq2, hcp⟩ := hp
    refine ⟨hv, hc, ?_⟩
    have lu := hse.1.lt
    have ll := hse.2.1.1.lt
    have le := hse.2.1.2.2.1
    have lz := hse.2.2.1.lt
    have lt := hse.2.2.2.1.lt
    exact hpx.push hK hed0 hf (fun r hr => ⟨(hA r hr).1, by have := (hA r hr).2.1; omega, (hA r hr).2.2⟩) hI.h8 (hx.go ox hf (fun r hr => by have := (hA r hr).2.1; omega)) hs2 (fp_inj.up hj (fun k hk => by have := (hse.2.2.2.2.1 k hk).lt; omega)) (fun r hr hb hl => by
      simp only [List.mem_cons, List.not_mem_nil, or_false] at hr
      rcases hr with rfl | rfl | rfl | rfl | rfl
      · exact ou
      · exact ol
      · rcases hed2 with e | e
        · rw [e] at hb ⊢; exact oe hb
        · omega
      · exact oz
      · exact ot) hq2 (hip.go oip oiv hf (fun r hr => by have := (hA r hr).2.1; omega)) (Or.inl rfl) hcp hj hcf hce ⟨by omega, by omega, fun hb => by rcases hee with e | e; exact absurd hb (by omega); exact e, by omega, by omega⟩
  · rcases hp with ⟨hv, hc, hs2, hq2⟩ | ⟨hv, ed2, mc2, cap2, hed2, hc, hs2, hq2⟩
    · refine Or.inl ⟨hv, hc, ?_⟩
      have hed2 : ed = ed ∨ U.heap.size ≤ ed := Or.inl rfl
      exact hpx.tried hf (fun r hr => ⟨(hA r hr).1, (hA r hr).2.1, (hA r hr).2.2⟩) hq2 hs2 hj (fun r hr hb hl => by
      simp only [List.mem_cons, List.not_mem_nil, or_false] at hr
      rcases hr with rfl | rfl | rfl | rfl | rfl
      · exact ou
      · exact ol
      · rcases hed2 with e | e
        · rw [e] at hb ⊢; exact oe hb
        · omega
      · exact oz
      · exact ot)
    · refine Or.inr ⟨hv, hc, ?_⟩
      exact hpx.tried hf (fun r hr => ⟨(hA r hr).1, (hA r hr).2.1, (hA r hr).2.2⟩) hq2 hs2 hj (fun r hr hb hl => by
      simp only [List.mem_cons, List.not_mem_nil, or_false] at hr
      rcases hr with rfl | rfl | rfl | rfl | rfl
      · exact ou
      · exact ol
      · rcases hed2 with e | e
        · rw [e] at hb ⊢; exact oe hb
        · omega
      · exact oz
      · exact ot)
set_option maxHeartbeats 1000000 in
theorem w_placeBag (G : fp_G) (x : Nat) (M : Nat → Prop) (T : TH) (i : Nat) (a0 : Int) (a1 : Int) (a2 : Int) (hI : fp_TI i T) (g0 : rg a0) (g1 : rg a1) (g2 : rg a2) : fp_MX G yX1_placeBag cX1_placeBag 4 (some .int) 13 314 165 3215 [.ref x, .int (iI a0), .int (iI a1), .int (iI a2)] (fp_PW G x M T) (fp_PA G M) (fun H v H1 => v = some (.int (iI ((sP (T.1) : Nat) : Int))) ∧ fp_plc T.1 2 a0 a1 a2 = 0 ∧ fp_PW G x M (fp_psh T (fp_add T.1 2 a0.toNat a1.toNat a2.toNat)) H1) (fun H E H1 => (E = "java/lang/IllegalArgumentException" ∧ fp_plc T.1 2 a0 a1 a2 = 1 ∧ fp_PW G x M T H1) ∨ (E = "java/lang/IllegalStateException" ∧ fp_plc T.1 2 a0 a1 a2 = 2 ∧ fp_PW G x M T H1)) := fp_MX.pick fun U hK hB hP => by
  obtain ⟨o, u, sv, hi, ip, ln, el, hd, q, iv, ic, im, lv, lc, lm, hpx⟩ := id hP
  obtain ⟨hx, ⟨l, ed, z, t, mc, cap, b, hse, hj, ou, ol, oe, oz, ot⟩, hsv, hdq, hhs, hip, hln, ⟨ox, ohi, oel, oip, oiv, oln, olv⟩, hMM, hxb⟩ := id hpx
  have hed0 := (hK.deT (A := fp_no) hB fp_no.base).2.2
  obtain ⟨nx, nh, ne, ni, nv, nl, nw⟩ := fp_nb.roots hK hx hdq hip hln
  obtain ⟨mu, ml, me, mz, mt⟩ := fp_nb.SE hK hse hed0
  have hA : ∀ r, (fun q => (g_s G).heap.size ≤ q ∧ (q = u ∨ q = l ∨ q = ed ∨ q = hi ∨ q = el)) r → (g_s G).heap.size ≤ r ∧ (o r = 2 ∨ o r = 4) ∧ fp_nb G U.heap r := by
    rintro r ⟨hb, rfl | rfl | rfl | rfl | rfl⟩
    · exact ⟨hb, Or.inl ou, mu⟩
    · exact ⟨hb, Or.inl ol, ml⟩
    · exact ⟨hb, Or.inl (oe hb), me hb⟩
    · exact ⟨hb, Or.inr (ohi), nh⟩
    · exact ⟨hb, Or.inr (oel), ne⟩
  have hPA : ∀ r, (fun q => (g_s G).heap.size ≤ q ∧ (q = u ∨ q = l ∨ q = ed ∨ q = hi ∨ q = el)) r → fp_PA G M r := fun r hr => ⟨(hA r hr).1, fun hm => by have a := (hA r hr).2.1; have c := (hMM r hm).2; omega⟩
  refine ⟨_, _, _, _, (c_X1_placeBag G x u sv hi ip ln T.2.2.2.2.2.1 T.2.2.2.2.2.2 l ed z t mc cap b T.1 el hd T.2.2.1.1 q a0 a1 a2 (⟨hI.1.1, hj⟩) hxb g0 g1 g2 (hI.1.2.1) (hI.p9) (hI.h8) (fp_hde oe oel hdq.2.2.2.2)), ⟨hx, hse, hdq⟩, hPA, fun v H1 hp hf => ?_, fun E H1 hp hf => ?_⟩
  · obtain ⟨ed2, mc2, cap2, nb, hd2, y9, l9, e9, z9, t9, m9, c9, hv, hc, hed2, hnb, hcf, hce, hee, hs2, hq2, hcp⟩ := hp
    refine ⟨hv, hc, ?_⟩
    have lu := hse.1.lt
    have ll := hse.2.1.1.lt
    have le := hse.2.1.2.2.1
    have lz := hse.2.2.1.lt
    have lt := hse.2.2.2.1.lt
    exact hpx.push hK hed0 hf (fun r hr => ⟨(hA r hr).1, by have := (hA r hr).2.1; omega, (hA r hr).2.2⟩) hI.h8 (hx.go ox hf (fun r hr => by have := (hA r hr).2.1; omega)) hs2 (fp_inj.up hj (fun k hk => by have := (hse.2.2.2.2.1 k hk).lt; omega)) (fun r hr hb hl => by
      simp only [List.mem_cons, List.not_mem_nil, or_false] at hr
      rcases hr with rfl | rfl | rfl | rfl | rfl
      · exact ou
      · exact ol
      · rcases hed2 with e | e
        · rw [e] at hb ⊢; exact oe hb
        · omega
      · exact oz
      · exact ot) hq2 (hip.go oip oiv hf (fun r hr => by have := (hA r hr).2.1; omega)) (Or.inl rfl) hcp hj hcf hce ⟨by omega, by omega, fun hb => by rcases hee with e | e; exact absurd hb (by omega); exact e, by omega, by omega⟩
  · rcases hp with ⟨hv, hc, hs2, hq2⟩ | ⟨hv, ed2, mc2, cap2, hed2, hc, hs2, hq2⟩
    · refine Or.inl ⟨hv, hc, ?_⟩
      have hed2 : ed = ed ∨ U.heap.size ≤ ed := Or.inl rfl
      exact hpx.tried hf (fun r hr => ⟨(hA r hr).1, (hA r hr).2.1, (hA r hr).2.2⟩) hq2 hs2 hj (fun r hr hb hl => by
      simp only [List.mem_cons, List.not_mem_nil, or_false] at hr
      rcases hr with rfl | rfl | rfl | rfl | rfl
      · exact ou
      · exact ol
      · rcases hed2 with e | e
        · rw [e] at hb ⊢; exact oe hb
        · omega
      · exact oz
      · exact ot)
    · refine Or.inr ⟨hv, hc, ?_⟩
      exact hpx.tried hf (fun r hr => ⟨(hA r hr).1, (hA r hr).2.1, (hA r hr).2.2⟩) hq2 hs2 hj (fun r hr hb hl => by
      simp only [List.mem_cons, List.not_mem_nil, or_false] at hr
      rcases hr with rfl | rfl | rfl | rfl | rfl
      · exact ou
      · exact ol
      · rcases hed2 with e | e
        · rw [e] at hb ⊢; exact oe hb
        · omega
      · exact oz
      · exact ot)
set_option maxHeartbeats 1000000 in
theorem w_remove (G : fp_G) (x : Nat) (M : Nat → Prop) (T : TH) (i : Nat) (a0 : Int) (hI : fp_TI i T) (g0 : rg a0) : fp_MX G yX1_remove cX1_remove 3 (some .int) 303 8066 14 170 [.ref x, .int (iI a0)] (fp_PW G x M T) (fp_PA G M) (fun H v H1 => v = some (.int (iI ((sN (T.1) - 1 : Nat) : Int))) ∧ fp_rm_c T.1 a0 = 0 ∧ fp_PW G x M (fp_psh T (fp_del T.1 (fp_fnd T.1 a0))) H1) (fun H E H1 => (E = "java/util/NoSuchElementException" ∧ fp_rm_c T.1 a0 = 1 ∧ fp_PW G x M T H1) ∨ (E = "java/lang/IllegalStateException" ∧ fp_rm_c T.1 a0 = 2 ∧ fp_PW G x M T H1)) := fp_MX.pick fun U hK hB hP => by
  obtain ⟨o, u, sv, hi, ip, ln, el, hd, q, iv, ic, im, lv, lc, lm, hpx⟩ := id hP
  obtain ⟨hx, ⟨l, ed, z, t, mc, cap, b, hse, hj, ou, ol, oe, oz, ot⟩, hsv, hdq, hhs, hip, hln, ⟨ox, ohi, oel, oip, oiv, oln, olv⟩, hMM, hxb⟩ := id hpx
  have hed0 := (hK.deT (A := fp_no) hB fp_no.base).2.2
  obtain ⟨nx, nh, ne, ni, nv, nl, nw⟩ := fp_nb.roots hK hx hdq hip hln
  obtain ⟨mu, ml, me, mz, mt⟩ := fp_nb.SE hK hse hed0
  have hA : ∀ r, (fun q => (g_s G).heap.size ≤ q ∧ (q = l ∨ q = ed ∨ q = hi ∨ q = el)) r → (g_s G).heap.size ≤ r ∧ (o r = 2 ∨ o r = 4) ∧ fp_nb G U.heap r := by
    rintro r ⟨hb, rfl | rfl | rfl | rfl⟩
    · exact ⟨hb, Or.inl ol, ml⟩
    · exact ⟨hb, Or.inl (oe hb), me hb⟩
    · exact ⟨hb, Or.inr (ohi), nh⟩
    · exact ⟨hb, Or.inr (oel), ne⟩
  have hPA : ∀ r, (fun q => (g_s G).heap.size ≤ q ∧ (q = l ∨ q = ed ∨ q = hi ∨ q = el)) r → fp_PA G M r := fun r hr => ⟨(hA r hr).1, fun hm => by have a := (hA r hr).2.1; have c := (hMM r hm).2; omega⟩
  refine ⟨_, _, _, _, (c_X1_remove G x u sv hi ip ln T.2.2.2.2.2.1 T.2.2.2.2.2.2 l ed z t mc cap b T.1 el hd T.2.2.1.1 q a0 (⟨hI.1.1, hj⟩) hxb g0 (hI.h8) (fp_hde oe oel hdq.2.2.2.2)), ⟨hx, hse, hdq⟩, hPA, fun v H1 hp hf => ?_, fun E H1 hp hf => ?_⟩
  · obtain ⟨mc2, hd2, y9, l9, e9, z9, t9, m9, c9, hv, hc, hu, hcf, hce, hs2, hq2, hcp⟩ := hp
    refine ⟨hv, (if_neg (by omega)).trans (if_neg (by rw [hu]; decide)), ?_⟩
    have lu := hse.1.lt
    have ll := hse.2.1.1.lt
    have le := hse.2.1.2.2.1
    have lz := hse.2.2.1.lt
    have lt := hse.2.2.2.1.lt
    exact hpx.push hK hed0 hf (fun r hr => ⟨(hA r hr).1, by have := (hA r hr).2.1; omega, (hA r hr).2.2⟩) hI.h8 (hx.go ox hf (fun r hr => by have := (hA r hr).2.1; omega)) hs2 (fp_inj.rem hj) (fun r hr hb hl => by
      simp only [List.mem_cons, List.not_mem_nil, or_false] at hr
      rcases hr with rfl | rfl | rfl | rfl | rfl
      · exact ou
      · exact ol
      · exact oe hb
      · exact oz
      · exact ot) hq2 (hip.go oip oiv hf (fun r hr => by have := (hA r hr).2.1; omega)) (Or.inl rfl) hcp hj hcf hce ⟨by omega, by omega, fun hb => by omega, by omega, by omega⟩
  · have hed2 : ed = ed ∨ U.heap.size ≤ ed := Or.inl rfl
    rcases hp with ⟨hv, hc, hs2, hq2⟩ | ⟨hv, hc, hu, hs2, hq2⟩
    · refine Or.inl ⟨hv, if_pos hc, ?_⟩
      exact hpx.tried hf (fun r hr => ⟨(hA r hr).1, (hA r hr).2.1, (hA r hr).2.2⟩) hq2 hs2 hj (fun r hr hb hl => by
      simp only [List.mem_cons, List.not_mem_nil, or_false] at hr
      rcases hr with rfl | rfl | rfl | rfl | rfl
      · exact ou
      · exact ol
      · rcases hed2 with e | e
        · rw [e] at hb ⊢; exact oe hb
        · omega
      · exact oz
      · exact ot)
    · refine Or.inr ⟨hv, (if_neg (by omega)).trans (if_pos hu), ?_⟩
      exact hpx.tried hf (fun r hr => ⟨(hA r hr).1, (hA r hr).2.1, (hA r hr).2.2⟩) hq2 hs2 hj (fun r hr hb hl => by
      simp only [List.mem_cons, List.not_mem_nil, or_false] at hr
      rcases hr with rfl | rfl | rfl | rfl | rfl
      · exact ou
      · exact ol
      · rcases hed2 with e | e
        · rw [e] at hb ⊢; exact oe hb
        · omega
      · exact oz
      · exact ot)
set_option maxHeartbeats 1000000 in
theorem w_setZone (G : fp_G) (x : Nat) (M : Nat → Prop) (T : TH) (i : Nat) (a0 : Int) (a1 : Int) (hI : fp_TI i T) (g0 : rg a0) (g1 : rg a1) : fp_MX G yX1_setZone cX1_setZone 5 (some .char) 10 234 12 164 [.ref x, .int (iI a0), .int (iI a1)] (fp_PW G x M T) (fp_PA G M) (fun H v H1 => v = some (.int (iI ((fp_zlet (sZ (T.1) a0.toNat) : Nat) : Int))) ∧ fp_sz_c a0 a1 = 0 ∧ fp_PW G x M (fp_psh T (fp_setz T.1 a0.toNat (fp_zby a1).toNat)) H1) (fun H E H1 => (E = "java/lang/IndexOutOfBoundsException" ∧ fp_sz_c a0 a1 = 1 ∧ fp_PW G x M T H1) ∨ (E = "java/lang/IllegalArgumentException" ∧ fp_sz_c a0 a1 = 2 ∧ fp_PW G x M T H1)) := fp_MX.pick fun U hK hB hP => by
  obtain ⟨o, u, sv, hi, ip, ln, el, hd, q, iv, ic, im, lv, lc, lm, hpx⟩ := id hP
  obtain ⟨hx, ⟨l, ed, z, t, mc, cap, b, hse, hj, ou, ol, oe, oz, ot⟩, hsv, hdq, hhs, hip, hln, ⟨ox, ohi, oel, oip, oiv, oln, olv⟩, hMM, hxb⟩ := id hpx
  have hed0 := (hK.deT (A := fp_no) hB fp_no.base).2.2
  obtain ⟨nx, nh, ne, ni, nv, nl, nw⟩ := fp_nb.roots hK hx hdq hip hln
  obtain ⟨mu, ml, me, mz, mt⟩ := fp_nb.SE hK hse hed0
  have hA : ∀ r, (fun q => (g_s G).heap.size ≤ q ∧ (q = z ∨ q = hi ∨ q = el)) r → (g_s G).heap.size ≤ r ∧ (o r = 2 ∨ o r = 4) ∧ fp_nb G U.heap r := by
    rintro r ⟨hb, rfl | rfl | rfl⟩
    · exact ⟨hb, Or.inl oz, mz⟩
    · exact ⟨hb, Or.inr (ohi), nh⟩
    · exact ⟨hb, Or.inr (oel), ne⟩
  have hPA : ∀ r, (fun q => (g_s G).heap.size ≤ q ∧ (q = z ∨ q = hi ∨ q = el)) r → fp_PA G M r := fun r hr => ⟨(hA r hr).1, fun hm => by have a := (hA r hr).2.1; have c := (hMM r hm).2; omega⟩
  refine ⟨_, _, _, _, (c_X1_setZone G x u sv hi ip ln T.2.2.2.2.2.1 T.2.2.2.2.2.2 l ed z t mc cap b T.1 el hd T.2.2.1.1 q a0 a1 (⟨hI.1.1, hj⟩) hxb g0 g1 (hI.h8) (fp_hde oe oel hdq.2.2.2.2)), ⟨hx, hse, hdq⟩, hPA, fun v H1 hp hf => ?_, fun E H1 hp hf => ?_⟩
  · obtain ⟨hd2, y9, l9, e9, z9, t9, m9, c9, hv, hc, hu, hcf, hce, hs2, hq2, hcp⟩ := hp
    refine ⟨hv, (if_neg (by omega)).trans (if_neg (by omega)), ?_⟩
    have lu := hse.1.lt
    have ll := hse.2.1.1.lt
    have le := hse.2.1.2.2.1
    have lz := hse.2.2.1.lt
    have lt := hse.2.2.2.1.lt
    exact hpx.push hK hed0 hf (fun r hr => ⟨(hA r hr).1, by have := (hA r hr).2.1; omega, (hA r hr).2.2⟩) hI.h8 (hx.go ox hf (fun r hr => by have := (hA r hr).2.1; omega)) hs2 (hj) (fun r hr hb hl => by
      simp only [List.mem_cons, List.not_mem_nil, or_false] at hr
      rcases hr with rfl | rfl | rfl | rfl | rfl
      · exact ou
      · exact ol
      · exact oe hb
      · exact oz
      · exact ot) hq2 (hip.go oip oiv hf (fun r hr => by have := (hA r hr).2.1; omega)) (Or.inl rfl) hcp hj hcf hce ⟨by omega, by omega, fun hb => by omega, by omega, by omega⟩
  · have hed2 : ed = ed ∨ U.heap.size ≤ ed := Or.inl rfl
    rcases hp with ⟨hv, hc, hs2, hq2⟩ | ⟨hv, hc, hu, hs2, hq2⟩
    · refine Or.inl ⟨hv, if_pos hc, ?_⟩
      exact hpx.tried hf (fun r hr => ⟨(hA r hr).1, (hA r hr).2.1, (hA r hr).2.2⟩) hq2 hs2 hj (fun r hr hb hl => by
      simp only [List.mem_cons, List.not_mem_nil, or_false] at hr
      rcases hr with rfl | rfl | rfl | rfl | rfl
      · exact ou
      · exact ol
      · rcases hed2 with e | e
        · rw [e] at hb ⊢; exact oe hb
        · omega
      · exact oz
      · exact ot)
    · refine Or.inr ⟨hv, (if_neg (by omega)).trans (if_pos hu), ?_⟩
      exact hpx.tried hf (fun r hr => ⟨(hA r hr).1, (hA r hr).2.1, (hA r hr).2.2⟩) hq2 hs2 hj (fun r hr hb hl => by
      simp only [List.mem_cons, List.not_mem_nil, or_false] at hr
      rcases hr with rfl | rfl | rfl | rfl | rfl
      · exact ou
      · exact ol
      · rcases hed2 with e | e
        · rw [e] at hb ⊢; exact oe hb
        · omega
      · exact oz
      · exact ot)
set_option maxHeartbeats 1000000 in
theorem w_addTorch (G : fp_G) (x : Nat) (M : Nat → Prop) (T : TH) (i : Nat) (a0 : Int) (hI : fp_TI i T) (g0 : rg a0) : fp_MX G yX1_addTorch cX1_addTorch 2 (some .int) 11 256 12 161 [.ref x, .int (iI a0)] (fp_PW G x M T) (fp_PA G M) (fun H v H1 => v = some (.int (iI ((fp_tor (fp_sett (T.1) a0.toNat 1) : Nat) : Int))) ∧ fp_at_c T.1 a0 = 0 ∧ fp_PW G x M (fp_psh T (fp_sett T.1 a0.toNat 1)) H1) (fun H E H1 => (E = "java/lang/IndexOutOfBoundsException" ∧ fp_at_c T.1 a0 = 1 ∧ fp_PW G x M T H1) ∨ (E = "java/lang/IllegalStateException" ∧ fp_at_c T.1 a0 = 2 ∧ fp_PW G x M T H1)) := fp_MX.pick fun U hK hB hP => by
  obtain ⟨o, u, sv, hi, ip, ln, el, hd, q, iv, ic, im, lv, lc, lm, hpx⟩ := id hP
  obtain ⟨hx, ⟨l, ed, z, t, mc, cap, b, hse, hj, ou, ol, oe, oz, ot⟩, hsv, hdq, hhs, hip, hln, ⟨ox, ohi, oel, oip, oiv, oln, olv⟩, hMM, hxb⟩ := id hpx
  have hed0 := (hK.deT (A := fp_no) hB fp_no.base).2.2
  obtain ⟨nx, nh, ne, ni, nv, nl, nw⟩ := fp_nb.roots hK hx hdq hip hln
  obtain ⟨mu, ml, me, mz, mt⟩ := fp_nb.SE hK hse hed0
  have hA : ∀ r, (fun q => (g_s G).heap.size ≤ q ∧ (q = t ∨ q = hi ∨ q = el)) r → (g_s G).heap.size ≤ r ∧ (o r = 2 ∨ o r = 4) ∧ fp_nb G U.heap r := by
    rintro r ⟨hb, rfl | rfl | rfl⟩
    · exact ⟨hb, Or.inl ot, mt⟩
    · exact ⟨hb, Or.inr (ohi), nh⟩
    · exact ⟨hb, Or.inr (oel), ne⟩
  have hPA : ∀ r, (fun q => (g_s G).heap.size ≤ q ∧ (q = t ∨ q = hi ∨ q = el)) r → fp_PA G M r := fun r hr => ⟨(hA r hr).1, fun hm => by have a := (hA r hr).2.1; have c := (hMM r hm).2; omega⟩
  refine ⟨_, _, _, _, (c_X1_addTorch G x u sv hi ip ln T.2.2.2.2.2.1 T.2.2.2.2.2.2 l ed z t mc cap b T.1 el hd T.2.2.1.1 q a0 (⟨hI.1.1, hj⟩) hxb g0 (hI.h8) (fp_hde oe oel hdq.2.2.2.2)), ⟨hx, hse, hdq⟩, hPA, fun v H1 hp hf => ?_, fun E H1 hp hf => ?_⟩
  · obtain ⟨hd2, y9, l9, e9, z9, t9, m9, c9, hv, hc, hu, hcf, hce, hs2, hq2, hcp⟩ := hp
    refine ⟨hv, (if_neg (by omega)).trans (if_neg hu), ?_⟩
    have lu := hse.1.lt
    have ll := hse.2.1.1.lt
    have le := hse.2.1.2.2.1
    have lz := hse.2.2.1.lt
    have lt := hse.2.2.2.1.lt
    exact hpx.push hK hed0 hf (fun r hr => ⟨(hA r hr).1, by have := (hA r hr).2.1; omega, (hA r hr).2.2⟩) hI.h8 (hx.go ox hf (fun r hr => by have := (hA r hr).2.1; omega)) hs2 (hj) (fun r hr hb hl => by
      simp only [List.mem_cons, List.not_mem_nil, or_false] at hr
      rcases hr with rfl | rfl | rfl | rfl | rfl
      · exact ou
      · exact ol
      · exact oe hb
      · exact oz
      · exact ot) hq2 (hip.go oip oiv hf (fun r hr => by have := (hA r hr).2.1; omega)) (Or.inl rfl) hcp hj hcf hce ⟨by omega, by omega, fun hb => by omega, by omega, by omega⟩
  · have hed2 : ed = ed ∨ U.heap.size ≤ ed := Or.inl rfl
    rcases hp with ⟨hv, hc, hs2, hq2⟩ | ⟨hv, hc, hu, hs2, hq2⟩
    · refine Or.inl ⟨hv, if_pos hc, ?_⟩
      exact hpx.tried hf (fun r hr => ⟨(hA r hr).1, (hA r hr).2.1, (hA r hr).2.2⟩) hq2 hs2 hj (fun r hr hb hl => by
      simp only [List.mem_cons, List.not_mem_nil, or_false] at hr
      rcases hr with rfl | rfl | rfl | rfl | rfl
      · exact ou
      · exact ol
      · rcases hed2 with e | e
        · rw [e] at hb ⊢; exact oe hb
        · omega
      · exact oz
      · exact ot)
    · refine Or.inr ⟨hv, (if_neg (by omega)).trans (if_pos hu), ?_⟩
      exact hpx.tried hf (fun r hr => ⟨(hA r hr).1, (hA r hr).2.1, (hA r hr).2.2⟩) hq2 hs2 hj (fun r hr hb hl => by
      simp only [List.mem_cons, List.not_mem_nil, or_false] at hr
      rcases hr with rfl | rfl | rfl | rfl | rfl
      · exact ou
      · exact ol
      · rcases hed2 with e | e
        · rw [e] at hb ⊢; exact oe hb
        · omega
      · exact oz
      · exact ot)
set_option maxHeartbeats 1000000 in
theorem w_removeTorch (G : fp_G) (x : Nat) (M : Nat → Prop) (T : TH) (i : Nat) (a0 : Int) (hI : fp_TI i T) (g0 : rg a0) : fp_MX G yX1_removeTorch cX1_removeTorch 2 (some .int) 11 256 12 161 [.ref x, .int (iI a0)] (fp_PW G x M T) (fp_PA G M) (fun H v H1 => v = some (.int (iI ((fp_tor (fp_sett (T.1) a0.toNat 0) : Nat) : Int))) ∧ fp_rt_c T.1 a0 = 0 ∧ fp_PW G x M (fp_psh T (fp_sett T.1 a0.toNat 0)) H1) (fun H E H1 => (E = "java/lang/IndexOutOfBoundsException" ∧ fp_rt_c T.1 a0 = 1 ∧ fp_PW G x M T H1) ∨ (E = "java/lang/IllegalStateException" ∧ fp_rt_c T.1 a0 = 2 ∧ fp_PW G x M T H1)) := fp_MX.pick fun U hK hB hP => by
  obtain ⟨o, u, sv, hi, ip, ln, el, hd, q, iv, ic, im, lv, lc, lm, hpx⟩ := id hP
  obtain ⟨hx, ⟨l, ed, z, t, mc, cap, b, hse, hj, ou, ol, oe, oz, ot⟩, hsv, hdq, hhs, hip, hln, ⟨ox, ohi, oel, oip, oiv, oln, olv⟩, hMM, hxb⟩ := id hpx
  have hed0 := (hK.deT (A := fp_no) hB fp_no.base).2.2
  obtain ⟨nx, nh, ne, ni, nv, nl, nw⟩ := fp_nb.roots hK hx hdq hip hln
  obtain ⟨mu, ml, me, mz, mt⟩ := fp_nb.SE hK hse hed0
  have hA : ∀ r, (fun q => (g_s G).heap.size ≤ q ∧ (q = t ∨ q = hi ∨ q = el)) r → (g_s G).heap.size ≤ r ∧ (o r = 2 ∨ o r = 4) ∧ fp_nb G U.heap r := by
    rintro r ⟨hb, rfl | rfl | rfl⟩
    · exact ⟨hb, Or.inl ot, mt⟩
    · exact ⟨hb, Or.inr (ohi), nh⟩
    · exact ⟨hb, Or.inr (oel), ne⟩
  have hPA : ∀ r, (fun q => (g_s G).heap.size ≤ q ∧ (q = t ∨ q = hi ∨ q = el)) r → fp_PA G M r := fun r hr => ⟨(hA r hr).1, fun hm => by have a := (hA r hr).2.1; have c := (hMM r hm).2; omega⟩
  refine ⟨_, _, _, _, (c_X1_removeTorch G x u sv hi ip ln T.2.2.2.2.2.1 T.2.2.2.2.2.2 l ed z t mc cap b T.1 el hd T.2.2.1.1 q a0 (⟨hI.1.1, hj⟩) hxb g0 (hI.h8) (fp_hde oe oel hdq.2.2.2.2)), ⟨hx, hse, hdq⟩, hPA, fun v H1 hp hf => ?_, fun E H1 hp hf => ?_⟩
  · obtain ⟨hd2, y9, l9, e9, z9, t9, m9, c9, hv, hc, hu, hcf, hce, hs2, hq2, hcp⟩ := hp
    refine ⟨hv, (if_neg (by omega)).trans (if_pos hu), ?_⟩
    have lu := hse.1.lt
    have ll := hse.2.1.1.lt
    have le := hse.2.1.2.2.1
    have lz := hse.2.2.1.lt
    have lt := hse.2.2.2.1.lt
    exact hpx.push hK hed0 hf (fun r hr => ⟨(hA r hr).1, by have := (hA r hr).2.1; omega, (hA r hr).2.2⟩) hI.h8 (hx.go ox hf (fun r hr => by have := (hA r hr).2.1; omega)) hs2 (hj) (fun r hr hb hl => by
      simp only [List.mem_cons, List.not_mem_nil, or_false] at hr
      rcases hr with rfl | rfl | rfl | rfl | rfl
      · exact ou
      · exact ol
      · exact oe hb
      · exact oz
      · exact ot) hq2 (hip.go oip oiv hf (fun r hr => by have := (hA r hr).2.1; omega)) (Or.inl rfl) hcp hj hcf hce ⟨by omega, by omega, fun hb => by omega, by omega, by omega⟩
  · have hed2 : ed = ed ∨ U.heap.size ≤ ed := Or.inl rfl
    rcases hp with ⟨hv, hc, hs2, hq2⟩ | ⟨hv, hc, hu, hs2, hq2⟩
    · refine Or.inl ⟨hv, if_pos hc, ?_⟩
      exact hpx.tried hf (fun r hr => ⟨(hA r hr).1, (hA r hr).2.1, (hA r hr).2.2⟩) hq2 hs2 hj (fun r hr hb hl => by
      simp only [List.mem_cons, List.not_mem_nil, or_false] at hr
      rcases hr with rfl | rfl | rfl | rfl | rfl
      · exact ou
      · exact ol
      · rcases hed2 with e | e
        · rw [e] at hb ⊢; exact oe hb
        · omega
      · exact oz
      · exact ot)
    · refine Or.inr ⟨hv, (if_neg (by omega)).trans (if_neg hu), ?_⟩
      exact hpx.tried hf (fun r hr => ⟨(hA r hr).1, (hA r hr).2.1, (hA r hr).2.2⟩) hq2 hs2 hj (fun r hr hb hl => by
      simp only [List.mem_cons, List.not_mem_nil, or_false] at hr
      rcases hr with rfl | rfl | rfl | rfl | rfl
      · exact ou
      · exact ol
      · rcases hed2 with e | e
        · rw [e] at hb ⊢; exact oe hb
        · omega
      · exact oz
      · exact ot)
set_option maxHeartbeats 1000000 in
theorem w_formatBlock (G : fp_G) (x : Nat) (M : Nat → Prop) (T : TH) (i : Nat) (a0 : Int) (hI : fp_TI i T) (g0 : rg a0) : fp_MX G yX1_formatBlock cX1_formatBlock 3 (some .int) 11 266 162 5968 [.ref x, .int (iI a0)] (fp_PW G x M T) (fp_PA G M) (fun H v H1 => v = some (.int (iI (((fp_fbl (T.1) (fp_fnd (T.1) a0)).2 : Nat) : Int))) ∧ fp_fc T.1 a0 = 0 ∧ fp_PW G x M (fp_Tln T (fp_fbl T.1 (fp_fnd T.1 a0))) H1) (fun H E H1 => (E = "java/util/NoSuchElementException" ∧ fp_fc T.1 a0 = 1 ∧ fp_PW G x M T H1)) := fp_MX.pick fun U hK hB hP => by
  obtain ⟨o, u, sv, hi, ip, ln, el, hd, q, iv, ic, im, lv, lc, lm, hpx⟩ := id hP
  obtain ⟨hx, ⟨l, ed, z, t, mc, cap, b, hse, hj, ou, ol, oe, oz, ot⟩, hsv, hdq, hhs, hip, hln, ⟨ox, ohi, oel, oip, oiv, oln, olv⟩, hMM, hxb⟩ := id hpx
  have hed0 := (hK.deT (A := fp_no) hB fp_no.base).2.2
  obtain ⟨nx, nh, ne, ni, nv, nl, nw⟩ := fp_nb.roots hK hx hdq hip hln
  obtain ⟨mu, ml, me, mz, mt⟩ := fp_nb.SE hK hse hed0
  have hA : ∀ r, (fun q => (g_s G).heap.size ≤ q ∧ (q = ln ∨ q = lv)) r → (g_s G).heap.size ≤ r ∧ (o r = 6) ∧ fp_nb G U.heap r := by
    rintro r ⟨hb, rfl | rfl⟩
    · exact ⟨hb, oln, nl⟩
    · exact ⟨hb, olv, nw⟩
  have hPA : ∀ r, (fun q => (g_s G).heap.size ≤ q ∧ (q = ln ∨ q = lv)) r → fp_PA G M r := fun r hr => ⟨(hA r hr).1, fun hm => by have a := (hA r hr).2.1; have c := (hMM r hm).2; omega⟩
  refine ⟨_, _, _, _, (c_X1_formatBlock G x u sv hi ip ln false T.2.2.2.2.2.1 T.2.2.2.2.2.2 l ed z t mc cap b T.1 lv lc T.2.2.2.2.1.1 lm T.2.2.2.2.1.2 a0 (⟨hI.1.1, hj⟩) g0 (hI.dl)), ⟨hx, hse, hln⟩, hPA, fun v H1 hp hf => ?_, fun E H1 hp hf => ?_⟩
  · obtain ⟨lv2, lc2, ml2, hv, hc, hv2, hl2⟩ := hp
    exact ⟨hv, hc, hpx.line hf hA hl2 hv2⟩
  · obtain ⟨hv, hc, hl2⟩ := hp
    exact ⟨hv, hc, hpx.line hf hA hl2 (Or.inl rfl)⟩
set_option maxHeartbeats 1000000 in
theorem w_formatHeights (G : fp_G) (x : Nat) (M : Nat → Prop) (T : TH) (i : Nat) (hI : fp_TI i T) : fp_MX G yX1_formatHeights cX1_formatHeights 2 (some .int) 7 154 49 7522 [.ref x] (fp_PW G x M T) (fp_PA G M) (fun H v H1 => v = some (.int (iI (((fp_fhl (T.1) 12).2 : Nat) : Int))) ∧ fp_PW G x M (fp_Tln T (fp_fhl T.1 12)) H1) (fun H E H1 => False) := fp_MX.pick fun U hK hB hP => by
  obtain ⟨o, u, sv, hi, ip, ln, el, hd, q, iv, ic, im, lv, lc, lm, hpx⟩ := id hP
  obtain ⟨hx, ⟨l, ed, z, t, mc, cap, b, hse, hj, ou, ol, oe, oz, ot⟩, hsv, hdq, hhs, hip, hln, ⟨ox, ohi, oel, oip, oiv, oln, olv⟩, hMM, hxb⟩ := id hpx
  have hed0 := (hK.deT (A := fp_no) hB fp_no.base).2.2
  obtain ⟨nx, nh, ne, ni, nv, nl, nw⟩ := fp_nb.roots hK hx hdq hip hln
  obtain ⟨mu, ml, me, mz, mt⟩ := fp_nb.SE hK hse hed0
  have hA : ∀ r, (fun q => (g_s G).heap.size ≤ q ∧ (q = ln ∨ q = lv)) r → (g_s G).heap.size ≤ r ∧ (o r = 6) ∧ fp_nb G U.heap r := by
    rintro r ⟨hb, rfl | rfl⟩
    · exact ⟨hb, oln, nl⟩
    · exact ⟨hb, olv, nw⟩
  have hPA : ∀ r, (fun q => (g_s G).heap.size ≤ q ∧ (q = ln ∨ q = lv)) r → fp_PA G M r := fun r hr => ⟨(hA r hr).1, fun hm => by have a := (hA r hr).2.1; have c := (hMM r hm).2; omega⟩
  refine ⟨_, _, _, _, (c_X1_formatHeights G x u sv hi ip ln false T.2.2.2.2.2.1 T.2.2.2.2.2.2 l ed z t mc cap b T.1 lv lc T.2.2.2.2.1.1 lm T.2.2.2.2.1.2 (⟨hI.1.1, hj⟩)).toX, ⟨hx, hse, hln⟩, hPA, fun v H1 hp hf => ?_, fun E H1 hp hf => ?_⟩
  · obtain ⟨lv2, lc2, ml2, hv, hv2, hl2⟩ := hp
    exact ⟨hv, hpx.line hf hA hl2 hv2⟩
  · exact hp
set_option maxHeartbeats 1000000 in
theorem w_append (G : fp_G) (x : Nat) (M : Nat → Prop) (T : TH) (i : Nat) (a0 : Int) (hI : fp_TI i T) (g0 : 0 ≤ a0 ∧ a0 < 65536) : fp_MX G yX1_append cX1_append 2 (some .int) 7 152 3 214 [.ref x, .int (iI a0)] (fp_PW G x M T) (fp_PA G M) (fun H v H1 => v = some (.int (iI (((T.2.2.2.1.1) + 1 : Nat) : Int))) ∧ fp_ap_c T.2.2.2.1.1 a0 = 0 ∧ fp_PW G x M (fp_Tap T a0) H1) (fun H E H1 => (E = "java/lang/IllegalArgumentException" ∧ fp_ap_c T.2.2.2.1.1 a0 = 1 ∧ fp_PW G x M T H1) ∨ (E = "java/lang/IllegalStateException" ∧ fp_ap_c T.2.2.2.1.1 a0 = 2 ∧ fp_PW G x M T H1)) := fp_MX.pick fun U hK hB hP => by
  obtain ⟨o, u, sv, hi, ip, ln, el, hd, q, iv, ic, im, lv, lc, lm, hpx⟩ := id hP
  obtain ⟨hx, ⟨l, ed, z, t, mc, cap, b, hse, hj, ou, ol, oe, oz, ot⟩, hsv, hdq, hhs, hip, hln, ⟨ox, ohi, oel, oip, oiv, oln, olv⟩, hMM, hxb⟩ := id hpx
  have hed0 := (hK.deT (A := fp_no) hB fp_no.base).2.2
  obtain ⟨nx, nh, ne, ni, nv, nl, nw⟩ := fp_nb.roots hK hx hdq hip hln
  obtain ⟨mu, ml, me, mz, mt⟩ := fp_nb.SE hK hse hed0
  have hA : ∀ r, (fun q => (g_s G).heap.size ≤ q ∧ (q = ip ∨ q = iv)) r → (g_s G).heap.size ≤ r ∧ (o r = 5) ∧ fp_nb G U.heap r := by
    rintro r ⟨hb, rfl | rfl⟩
    · exact ⟨hb, oip, ni⟩
    · exact ⟨hb, oiv, nv⟩
  have hPA : ∀ r, (fun q => (g_s G).heap.size ≤ q ∧ (q = ip ∨ q = iv)) r → fp_PA G M r := fun r hr => ⟨(hA r hr).1, fun hm => by have a := (hA r hr).2.1; have c := (hMM r hm).2; omega⟩
  refine ⟨_, _, _, _, (c_X1_append G x u sv hi ip ln false T.2.2.2.2.2.1 T.2.2.2.2.2.2 iv ic T.2.2.2.1.1 im T.2.2.2.1.2 a0 g0 (by have := hI.n23; omega)), ⟨hx, hip⟩, hPA, fun v H1 hp hf => ?_, fun E H1 hp hf => ?_⟩
  · obtain ⟨iv2, ic2, hv, hc, hv2, hl2⟩ := hp
    exact ⟨hv, (if_neg (by omega)).trans (if_neg (by omega)), hpx.text hf (fun r hr => ⟨(hA r hr).1, by have := (hA r hr).2.1; omega, (hA r hr).2.2⟩) (hx.go ox hf (fun r hr => by have := (hA r hr).2.1; omega)) (hdq.go ohi oel hf (fun r hr => by have := (hA r hr).2.1; omega)) hl2 hv2⟩
  · rcases hp with ⟨hv, hc, hl2⟩ | ⟨hv, hc, hc2, hl2⟩
    · exact Or.inl ⟨hv, if_pos hc, hpx.text hf (fun r hr => ⟨(hA r hr).1, by have := (hA r hr).2.1; omega, (hA r hr).2.2⟩) (hx.go ox hf (fun r hr => by have := (hA r hr).2.1; omega)) (hdq.go ohi oel hf (fun r hr => by have := (hA r hr).2.1; omega)) hl2 (Or.inl rfl)⟩
    · exact Or.inr ⟨hv, (if_neg (by omega)).trans (if_pos hc2), hpx.text hf (fun r hr => ⟨(hA r hr).1, by have := (hA r hr).2.1; omega, (hA r hr).2.2⟩) (hx.go ox hf (fun r hr => by have := (hA r hr).2.1; omega)) (hdq.go ohi oel hf (fun r hr => by have := (hA r hr).2.1; omega)) hl2 (Or.inl rfl)⟩
set_option maxHeartbeats 1000000 in
theorem w_save (G : fp_G) (x : Nat) (M : Nat → Prop) (T : TH) (i : Nat) (hI : fp_TI i T) : fp_MX G yX1_save cX1_save 1 (some .int) 9 214 9 149 [.ref x] (fp_PW G x M T) (fp_PA G M) (fun H v H1 => v = some (.int (iI ((sN (T.1) : Nat) : Int))) ∧ fp_PW G x M (fp_Tsv T) H1) (fun H E H1 => False) := fp_MX.pick fun U hK hB hP => by
  obtain ⟨o, u, sv, hi, ip, ln, el, hd, q, iv, ic, im, lv, lc, lm, hpx⟩ := id hP
  obtain ⟨hx, ⟨l, ed, z, t, mc, cap, b, hse, hj, ou, ol, oe, oz, ot⟩, hsv, hdq, hhs, hip, hln, ⟨ox, ohi, oel, oip, oiv, oln, olv⟩, hMM, hxb⟩ := id hpx
  have hed0 := (hK.deT (A := fp_no) hB fp_no.base).2.2
  obtain ⟨nx, nh, ne, ni, nv, nl, nw⟩ := fp_nb.roots hK hx hdq hip hln
  obtain ⟨mu, ml, me, mz, mt⟩ := fp_nb.SE hK hse hed0
  have hA : ∀ r, (fun q => (g_s G).heap.size ≤ q ∧ (q = x)) r → (g_s G).heap.size ≤ r ∧ (o r = 1) ∧ fp_nb G U.heap r := by
    rintro r ⟨hb, rfl⟩
    exact ⟨hb, ox, nx⟩
  have hPA : ∀ r, (fun q => (g_s G).heap.size ≤ q ∧ (q = x)) r → fp_PA G M r := fun r hr => ⟨(hA r hr).1, fun hm => by have a := (hA r hr).2.1; have c := (hMM r hm).2; omega⟩
  refine ⟨_, _, _, _, (c_X1_save G x u sv hi ip ln false T.2.2.2.2.2.1 T.2.2.2.2.2.2 l ed z t mc cap b T.1 (⟨hI.1.1, hj⟩) hxb).toX, ⟨hx, hse⟩, hPA, fun v H1 hp hf => ?_, fun E H1 hp hf => hp⟩
  obtain ⟨y9, l9, e9, z9, t9, m9, c9, hv, hcf, hce, hx2, hcp⟩ := hp
  exact ⟨hv, hpx.save hf hA hx2 hcp hj hcf hce hed0⟩
set_option maxHeartbeats 1000000 in
theorem w_undo (G : fp_G) (x : Nat) (M : Nat → Prop) (T : TH) (i : Nat) (hI : fp_TI i T) : fp_MX G yX1_undo cX1_undo 1 (some .int) 7 101 1 6 [.ref x] (fp_PW G x M T) (fp_PA G M) (fun H v H1 => v = some (.int (iI (((T.2.2.1.1) - 1 : Nat) : Int))) ∧ fp_un_c T.2.2.1.1 = 0 ∧ fp_PW G x M (fp_Tun T) H1) (fun H E H1 => (E = "java/lang/IllegalStateException" ∧ fp_un_c T.2.2.1.1 = 1 ∧ fp_PW G x M T H1)) := fp_MX.pick fun U hK hB hP => by
  obtain ⟨o, u, sv, hi, ip, ln, el, hd, q, iv, ic, im, lv, lc, lm, hpx⟩ := id hP
  obtain ⟨hx, ⟨l, ed, z, t, mc, cap, b, hse, hj, ou, ol, oe, oz, ot⟩, hsv, hdq, hhs, hip, hln, ⟨ox, ohi, oel, oip, oiv, oln, olv⟩, hMM, hxb⟩ := id hpx
  have hed0 := (hK.deT (A := fp_no) hB fp_no.base).2.2
  obtain ⟨nx, nh, ne, ni, nv, nl, nw⟩ := fp_nb.roots hK hx hdq hip hln
  obtain ⟨mu, ml, me, mz, mt⟩ := fp_nb.SE hK hse hed0
  by_cases h0 : 0 < T.2.2.1.1
  · obtain ⟨l2, ed2, z2, t2, mc2, cap2, b2, hse2, hj2, ou2, ol2, oe2, oz2, ot2⟩ := hhs (T.2.2.1.1 - 1) (by omega)
    have hA : ∀ r, (fun q => (g_s G).heap.size ≤ q ∧ (q = x ∨ q = hi ∨ q = el)) r → (g_s G).heap.size ≤ r ∧ (o r = 1 ∨ o r = 4) ∧ fp_nb G U.heap r := by
      rintro r ⟨hb, rfl | rfl | rfl⟩
      · exact ⟨hb, Or.inl ox, nx⟩
      · exact ⟨hb, Or.inr (ohi), nh⟩
      · exact ⟨hb, Or.inr (oel), ne⟩
    have hPA : ∀ r, (fun q => (g_s G).heap.size ≤ q ∧ (q = x ∨ q = hi ∨ q = el)) r → fp_PA G M r := fun r hr => ⟨(hA r hr).1, fun hm => by have a := (hA r hr).2.1; have c := (hMM r hm).2; omega⟩
    refine ⟨_, _, _, _, (c_X1_undo G x u sv hi ip ln false T.2.2.2.2.2.1 T.2.2.2.2.2.2 el hd T.2.2.1.1 q l2 ed2 z2 t2 mc2 cap2 b2 (T.2.2.1.2 (T.2.2.1.1 - 1)) hxb h0 (fp_hde9 oe2 oel hdq.2.2.2.2)), ⟨hx, hdq, hse2⟩, hPA, fun v H1 hp hf => ?_, fun E H1 hp hf => ?_⟩
    · obtain ⟨hv, hx2, hq2, -⟩ := hp
      exact ⟨hv, if_neg (by omega), hpx.undo hf hA h0 hx2 hq2⟩
    · obtain ⟨-, h⟩ := hp
      exact h.elim
  · have e0 : T.2.2.1.1 = 0 := by omega
    refine ⟨_, _, _, _, (c_X1_undo_0 G x u sv hi ip ln false T.2.2.2.2.2.1 T.2.2.2.2.2.2 el hd q), ⟨hx, by rw [← e0]; exact hdq⟩, fun q h => h.elim, fun v H1 hp hf => hp.2.elim, fun E H1 hp hf => ⟨hp.1, if_pos e0, hP.ext hf.no⟩⟩
set_option maxHeartbeats 1000000 in
theorem w_restore (G : fp_G) (x : Nat) (M : Nat → Prop) (T : TH) (i : Nat) (hI : fp_TI i T) : fp_MX G yX1_restore cX1_restore 1 (some .int) 9 214 10 155 [.ref x] (fp_PW G x M T) (fp_PA G M) (fun H v H1 => v = some (.int (iI ((sN (T.2.1.getD T.1) : Nat) : Int))) ∧ fp_re_c T.2.1 = 0 ∧ fp_PW G x M (fp_Tre T) H1) (fun H E H1 => (E = "java/lang/IllegalStateException" ∧ fp_re_c T.2.1 = 1 ∧ fp_PW G x M T H1)) := fp_MX.pick fun U hK hB hP => by
  obtain ⟨o, u, sv, hi, ip, ln, el, hd, q, iv, ic, im, lv, lc, lm, hpx⟩ := id hP
  obtain ⟨hx, ⟨l, ed, z, t, mc, cap, b, hse, hj, ou, ol, oe, oz, ot⟩, hsv, hdq, hhs, hip, hln, ⟨ox, ohi, oel, oip, oiv, oln, olv⟩, hMM, hxb⟩ := id hpx
  have hed0 := (hK.deT (A := fp_no) hB fp_no.base).2.2
  obtain ⟨nx, nh, ne, ni, nv, nl, nw⟩ := fp_nb.roots hK hx hdq hip hln
  obtain ⟨mu, ml, me, mz, mt⟩ := fp_nb.SE hK hse hed0
  rcases hsv with ⟨hV, rfl⟩ | ⟨V, s2, hV, rfl, l2, ed2, z2, t2, mc2, cap2, b2, hse2, hj2, ou2, ol2, oe2, oz2, ot2⟩
  · refine ⟨_, _, _, _, (c_X1_restore_0 G x u hi ip ln false T.2.2.2.2.2.1 T.2.2.2.2.2.2), hx, fun q h => h.elim, fun v H1 hp hf => hp.2.elim, fun E H1 hp hf => ⟨hp.1, if_pos hV, hP.ext hf.no⟩⟩
  · have hVT : T.2.1.getD T.1 = V := by rw [hV]; rfl
    have hA : ∀ r, (fun q => (g_s G).heap.size ≤ q ∧ (q = x ∨ q = hi ∨ q = el)) r → (g_s G).heap.size ≤ r ∧ (o r = 1 ∨ o r = 4) ∧ fp_nb G U.heap r := by
      rintro r ⟨hb, rfl | rfl | rfl⟩
      · exact ⟨hb, Or.inl ox, nx⟩
      · exact ⟨hb, Or.inr (ohi), nh⟩
      · exact ⟨hb, Or.inr (oel), ne⟩
    have hPA : ∀ r, (fun q => (g_s G).heap.size ≤ q ∧ (q = x ∨ q = hi ∨ q = el)) r → fp_PA G M r := fun r hr => ⟨(hA r hr).1, fun hm => by have a := (hA r hr).2.1; have c := (hMM r hm).2; omega⟩
    refine ⟨_, _, _, _, (c_X1_restore G x u hi ip ln false T.2.2.2.2.2.1 T.2.2.2.2.2.2 s2 el hd T.2.2.1.1 q l2 ed2 z2 t2 mc2 cap2 b2 V hxb (⟨(hI.2.1 V hV).1, hj2⟩) (fp_hde3 oe2 oel hdq.2.2.2.2)), ⟨hx, hdq, hse2⟩, hPA, fun v H1 hp hf => ?_, fun E H1 hp hf => ?_⟩
    · obtain ⟨y9, l9, e9, z9, t9, m9, c9, hv, hcf, hce, hx2, hq2, hcp⟩ := hp
      refine ⟨by rw [hVT]; exact hv, if_neg (by rw [hV]; exact fun h => nomatch h), ?_⟩
      unfold fp_Tre
      rw [hVT]
      exact hpx.restore hf hA rfl hx2 hq2 hcp hj2 hcf hce hed0
    · obtain ⟨-, h⟩ := hp
      exact h.elim
set_option maxHeartbeats 1000000 in
theorem w_run (G : fp_G) (x : Nat) (M : Nat → Prop) (T : TH) (i : Nat) (P : List (Nat × Int × Int × Int) × Bool × Nat) (R : Nat × Nat × PS) (hI : fp_TI i T) (hPp : fp_prg T.2.2.2.1.2 T.2.2.2.1.1 = P) (hRr : fp_exe P.1 T.1 = R) : fp_MX G yX1_run cX1_run 2 (some .int) 306 8140 5600 101200 [.ref x] (fp_PW G x M T) (fp_PA G M) (fun H v H1 => v = some (.int (iI ((R.1 : Nat) : Int))) ∧ fp_rn_c P R = 0 ∧ fp_PW G x M (fp_Trn T P R) H1) (fun H E H1 => (E = "java/lang/IllegalArgumentException" ∧ fp_rn_c P R = 1 ∧ fp_PW G x M (fp_Trn T P R) H1) ∨ (E = "java/lang/IllegalStateException" ∧ fp_rn_c P R = 2 ∧ fp_PW G x M (fp_Trn T P R) H1)) := fp_MX.pick fun U hK hB hP => by
  obtain ⟨o, u, sv, hi, ip, ln, el, hd, q, iv, ic, im, lv, lc, lm, hpx⟩ := id hP
  obtain ⟨hx, ⟨l, ed, z, t, mc, cap, b, hse, hj, ou, ol, oe, oz, ot⟩, hsv, hdq, hhs, hip, hln, ⟨ox, ohi, oel, oip, oiv, oln, olv⟩, hMM, hxb⟩ := id hpx
  have hed0 := (hK.deT (A := fp_no) hB fp_no.base).2.2
  obtain ⟨nx, nh, ne, ni, nv, nl, nw⟩ := fp_nb.roots hK hx hdq hip hln
  obtain ⟨mu, ml, me, mz, mt⟩ := fp_nb.SE hK hse hed0
  have hA : ∀ r, (fun q => (g_s G).heap.size ≤ q ∧ (q = x ∨ q = ip ∨ q = hi ∨ q = el)) r → (g_s G).heap.size ≤ r ∧ (o r = 1 ∨ o r = 4 ∨ o r = 5) ∧ fp_nb G U.heap r := by
    rintro r ⟨hb, rfl | rfl | rfl | rfl⟩
    · exact ⟨hb, Or.inl ox, nx⟩
    · exact ⟨hb, Or.inr (Or.inr (oip)), ni⟩
    · exact ⟨hb, Or.inr (Or.inl ohi), nh⟩
    · exact ⟨hb, Or.inr (Or.inl oel), ne⟩
  have hPA : ∀ r, (fun q => (g_s G).heap.size ≤ q ∧ (q = x ∨ q = ip ∨ q = hi ∨ q = el)) r → fp_PA G M r := fun r hr => ⟨(hA r hr).1, fun hm => by have a := (hA r hr).2.1; have c := (hMM r hm).2; omega⟩
  refine ⟨_, _, _, _, (c_X1_run G x u sv hi ip ln T.2.2.2.2.2.1 T.2.2.2.2.2.2 l ed z t mc cap b T.1 el hd T.2.2.1.1 q iv ic T.2.2.2.1.1 im T.2.2.2.1.2 P R (⟨hI.1.1, hj⟩) hxb (hI.h8) (fp_hde oe oel hdq.2.2.2.2) (hI.1.2.1) (by have a := hI.1.2.2; have b9 := hI.n23; have c9 := hI.2.2.2.2.2.2.2; omega) (by have := hI.n23; omega) hPp hRr), ⟨hx, hse, hdq, hip⟩, hPA, fun v H1 hp hf => ?_, fun E H1 hp hf => ?_⟩
  · obtain ⟨y8, l8, e8, z8, t8, m8, c8, b8, y9, l9, e9, z9, t9, m9, c9, m7, iv2, ic2, ml2, hd2, hv, hR2, hxw8, hj8, hcf8, hce8, hm7, hcf, hce, hv2, hPf, hx2, hq2, hs8, hcp, hl2⟩ := hp
    refine ⟨hv, (if_neg (by rw [hPf]; decide)).trans (if_neg (fun h => h hR2)), ?_⟩
    have hT : fp_Trn T P R = fp_psh (fp_T0 T) R.2.2 := (if_neg (by rw [hPf]; decide)).trans (if_neg (fun h => h hR2))
    rw [hT]
    have lu := hse.1.lt
    have ll := hse.2.1.1.lt
    have le := hse.2.1.2.2.1
    have lz := hse.2.2.1.lt
    have lt := hse.2.2.2.1.lt
    refine hpx.push hK hed0 hf (fun r hr => ⟨(hA r hr).1, by have := (hA r hr).2.1; omega, (hA r hr).2.2⟩) hI.h8 hx2 hs8 hj8 (fun r hr hb hl => ?_) hq2 hl2 ?_ hcp hj hcf hce ⟨by omega, by omega, fun hb => by omega, by omega, by omega⟩
    · exfalso
      simp only [List.mem_cons, List.not_mem_nil, or_false] at hr
      omega
    · rcases hv2 with e | e
      · exact Or.inl e
      · obtain ⟨-, ⟨f9, hr9, -⟩, -⟩ := id hl2
        exact Or.inr ⟨e, (fp_SE.nB hK hed0 hs8 hr9 (by have := hB.1; omega)).nm, (fp_SE.nB hK hed0 hcp hr9 (by have := hB.1; omega)).nm⟩
  · rcases hp with ⟨hv, iv2, ic2, ml2, hv2, hPt, hx2, hl2, hq2⟩ | ⟨hv, iv2, ic2, ml2, hv2, hPf, hR2, hx2, hl2, hq2⟩
    · have hT : fp_Trn T P R = fp_Ter (fp_T0 T) (P.2.2 : Nat) := if_pos hPt
      refine Or.inl ⟨hv, if_pos hPt, ?_⟩
      rw [hT]
      exact hpx.text hf (fun r hr => ⟨(hA r hr).1, by have := (hA r hr).2.1; omega, (hA r hr).2.2⟩) hx2 hq2 hl2 hv2
    · have hT : fp_Trn T P R = fp_Tfa (fp_T0 T) (R.1 : Nat) := (if_neg (by rw [hPf]; decide)).trans (if_pos hR2)
      refine Or.inr ⟨hv, (if_neg (by rw [hPf]; decide)).trans (if_pos hR2), ?_⟩
      rw [hT]
      exact hpx.text hf (fun r hr => ⟨(hA r hr).1, by have := (hA r hr).2.1; omega, (hA r hr).2.2⟩) hx2 hq2 hl2 hv2
