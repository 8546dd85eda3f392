/-! THE LAW's LEVEL: the planner's world, whatever its addresses are -/
set_option maxRecDepth 100000
/-- a contract chosen by the heap that it meets -/
theorem fp_MX.pick {G : fp_G} {y : MethodName} {cc : ByteArray} {maxL : Nat} {ret : Option FieldType} {fr lo mc ms : Nat} {av : List Value} {Pre2 : Heap → Prop} {A2 : Nat → Prop} {Post2 : Heap → Option Value → Heap → Prop} {XPost2 : Heap → String → Heap → Prop}
    (h : ∀ U : State, fp_K G U → fp_B G U.heap → Pre2 U.heap → ∃ (Pre : Heap → Prop) (A : Nat → Prop) (Post : Heap → Option Value → Heap → Prop) (XPost : Heap → String → Heap → Prop), fp_MX G y cc maxL ret fr lo mc ms av Pre A Post XPost ∧ Pre U.heap ∧ (∀ q, A q → A2 q) ∧ (∀ v H1, Post U.heap v H1 → fp_fr A U.heap H1 → Post2 U.heap v H1) ∧ (∀ E H1, XPost U.heap E H1 → fp_fr A U.heap H1 → XPost2 U.heap E H1)) : fp_MX G y cc maxL ret fr lo mc ms av Pre2 A2 Post2 XPost2 := by
  intro sz p e adm cas clk s m args below hf hs hP hK
  obtain ⟨hv, hsz, hK1, hB, hPre⟩ := hP
  obtain ⟨Pre, A, Post, XPost, h1, h2, h3, h4, h5⟩ := h s hK1 hB hPre
  exact (h1.conseq (Pre2 := fun H => H = s.heap) (fun H e => by rw [e]; exact h2) h3 (fun H v H1 e hp hf => by subst e; exact h4 v H1 hp hf) (fun H E H1 e hp hf => by subst e; exact h5 E H1 hp hf)) sz p e adm cas clk s m args below hf hs ⟨hv, hsz, hK1, hB, rfl⟩ hK
theorem fp_fr.X {A : Nat → Prop} {H H1 : Heap} (h : fp_fr A H H1) (hA : ∀ q, ¬ A q) : fp_X H H1 := ⟨h.1, fun q hq => h.2 q hq (hA q)⟩
/-- a cell that is no block's -/
def fp_nb (G : fp_G) (H : Heap) (a : Nat) : Prop := ∀ (q : Nat) (B : Nat → Nat), fp_At G H q (fp_bE B) → q ≠ a
theorem fp_nb.O {G : fp_G} {U : State} (hK : fp_K G U) {H : Heap} {a j : Nat} {gs : List Value} {r2 : vw_C} (hj : fp_cl[j]? = some r2) (hn : RX6 ≠ r2.1 ∧ RX7 ≠ r2.1 ∧ RX8 ≠ r2.1) (h : fp_At G H a (eO j gs)) : fp_nb G H a := fun q B hq => fp_neBO hK hj hn.1 hn.2.1 hn.2.2 hq h
theorem fp_nb.A {G : fp_G} {U : State} (hK : fp_K G U) {H : Heap} {a t : Nat} {x : vp_A} {ty : FieldType} (ht : (fp_tys (g_A G))[t]? = some (g_A G t, ty)) (h : fp_At G H a (.inl (g_A G t, x))) : fp_nb G H a := fun q B hq => fp_neBA hK ht hq h
/-- a state of the colour c -/
def fp_ST (G : fp_G) (o : Nat → Nat) (c u : Nat) (T : PS) (H : Heap) : Prop := ∃ (l ed z t : Nat) (mc : Int32) (cap : Nat) (b : Nat → Nat), fp_SE G u l ed z t mc cap b T H ∧ fp_inj (sN T) b ∧ o u = c ∧ o l = c ∧ ((g_s G).heap.size ≤ ed → o ed = c) ∧ o z = c ∧ o t = c
theorem fp_ST.go {G : fp_G} {o o' : Nat → Nat} {c c' u : Nat} {T : PS} {H H1 : Heap} {A : Nat → Prop} (h : fp_ST G o c u T H) (hf : fp_fr A H H1) (hA : ∀ q, A q → (g_s G).heap.size ≤ q ∧ o q ≠ c ∧ fp_nb G H q) (ho : ∀ q, q < H.size → o q = c → o' q = c') : fp_ST G o' c' u T H1 := by
  obtain ⟨l, ed, z, t, mc, cap, b, h1, h2, h3, h4, h5, h6, h7⟩ := h
  refine ⟨l, ed, z, t, mc, cap, b, h1.mvA (fun q hq hs => hf.2 q hq (fun hq2 => ?_)), h2, ho _ h1.1.lt h3, ho _ h1.2.1.1.lt h4, fun hb => ho _ h1.2.1.2.2.1 (h5 hb), ho _ h1.2.2.1.lt h6, ho _ h1.2.2.2.1.lt h7⟩
  obtain ⟨hb, hc, hn⟩ := hA q hq2
  rcases hs with rfl | rfl | rfl | rfl | rfl | ⟨k, hk, rfl⟩
  · exact hc h3
  · exact hc h4
  · exact hc (h5 hb)
  · exact hc h6
  · exact hc h7
  · exact hn _ _ (h1.2.2.2.2.1 k hk) rfl
/-- the saved state, if there is one -/
def fp_SV (G : fp_G) (o : Nat → Nat) (sv : Value) (V : Option PS) (H : Heap) : Prop := (V = none ∧ sv = .null) ∨ ∃ (T : PS) (s : Nat), V = some T ∧ sv = .ref s ∧ fp_ST G o 3 s T H
theorem fp_SV.go {G : fp_G} {o o' : Nat → Nat} {sv : Value} {V : Option PS} {H H1 : Heap} {A : Nat → Prop} (h : fp_SV G o sv V H) (hf : fp_fr A H H1) (hA : ∀ q, A q → (g_s G).heap.size ≤ q ∧ o q ≠ 3 ∧ fp_nb G H q) (ho : ∀ q, q < H.size → o q = 3 → o' q = 3) : fp_SV G o' sv V H1 := by
  rcases h with h | ⟨T, s, h1, h2, h3⟩
  · exact Or.inl h
  · exact Or.inr ⟨T, s, h1, h2, h3.go hf hA ho⟩
theorem fp_SB.go {G : fp_G} {o : Nat → Nat} {c x vl cap n ml : Nat} {tx : Nat → Nat} {H H1 : Heap} {A : Nat → Prop} (h : fp_SB G x vl cap n ml tx H) (hx : o x = c) (hv : o vl = c) (hf : fp_fr A H H1) (hA : ∀ q, A q → o q ≠ c) : fp_SB G x vl cap n ml tx H1 := h.mv (hf.2 _ h.1.lt (fun z => hA _ z hx)) (hf.2 _ h.2.2.1.1 (fun z => hA _ z hv))
theorem fp_DQ.go {G : fp_G} {o : Nat → Nat} {c x el hd n : Nat} {q : Nat → Nat} {H H1 : Heap} {A : Nat → Prop} (h : fp_DQ G x el hd n q H) (hx : o x = c) (hv : o el = c) (hf : fp_fr A H H1) (hA : ∀ q, A q → o q ≠ c) : fp_DQ G x el hd n q H1 := h.mv (hf.2 _ h.1.lt (fun z => hA _ z hx)) (hf.2 _ h.2.2.1.1 (fun z => hA _ z hv))
theorem fp_At.go {G : fp_G} {o : Nat → Nat} {c x : Nat} {e : va_E} {H H1 : Heap} {A : Nat → Prop} (h : fp_At G H x e) (hx : o x = c) (hf : fp_fr A H H1) (hA : ∀ q, A q → o q ≠ c) : fp_At G H1 x e := h.kept (hf.2 _ h.lt (fun z => hA _ z hx))
/-- what the planner knows: state, saved state, history, program text, line, the two numbers -/
abbrev TH : Type := PS × Option PS × (Nat × (Nat → PS)) × (Nat × (Nat → Nat)) × (Nat × (Nat → Nat)) × Int × Int
/-- the planner's world, its addresses told -/
def fp_PX (G : fp_G) (x : Nat) (M : Nat → Prop) (T : TH) (o : Nat → Nat) (u : Nat) (sv : Value) (hi ip ln el hd : Nat) (q : Nat → Nat) (iv ic im lv lc lm : Nat) (H : Heap) : Prop :=
  fp_At G H x (eO 1 [.ref u, sv, .ref hi, .ref ip, .ref ln, .int (iI (bI false)), .int (iI T.2.2.2.2.2.1), .int (iI T.2.2.2.2.2.2)]) ∧ fp_ST G o 2 u T.1 H ∧ fp_SV G o sv T.2.1 H ∧ fp_DQ G hi el hd T.2.2.1.1 q H ∧ (∀ i, i < T.2.2.1.1 → fp_ST G o (10 + i) (q i) (T.2.2.1.2 i) H) ∧ fp_SB G ip iv ic T.2.2.2.1.1 im T.2.2.2.1.2 H ∧ fp_SB G ln lv lc T.2.2.2.2.1.1 lm T.2.2.2.2.1.2 H ∧ (o x = 1 ∧ o hi = 4 ∧ o el = 4 ∧ o ip = 5 ∧ o iv = 5 ∧ o ln = 6 ∧ o lv = 6) ∧ (∀ r, M r → r < H.size ∧ o r = 0) ∧ (g_s G).heap.size ≤ x
def fp_PW (G : fp_G) (x : Nat) (M : Nat → Prop) (T : TH) (H : Heap) : Prop := ∃ (o : Nat → Nat) (u : Nat) (sv : Value) (hi ip ln el hd : Nat) (q : Nat → Nat) (iv ic im lv lc lm : Nat), fp_PX G x M T o u sv hi ip ln el hd q iv ic im lv lc lm H
/-- what the planner may change -/
def fp_PA (G : fp_G) (M : Nat → Prop) (q : Nat) : Prop := (g_s G).heap.size ≤ q ∧ ¬ M q
/-- only what is not the planner's changes -/
theorem fp_PW.go {G : fp_G} {x : Nat} {M : Nat → Prop} {T : TH} {H H1 : Heap} {A : Nat → Prop} (h : fp_PW G x M T H) (hf : fp_fr A H H1) (hA : ∀ q, A q → (g_s G).heap.size ≤ q ∧ M q ∧ fp_nb G H q) : fp_PW G x M T H1 := by
  obtain ⟨o, u, sv, hi, ip, ln, el, hd, q, iv, ic, im, lv, lc, lm, h1, h2, h3, h4, h5, h6, h7, ⟨o1, o2, o3, o4, o5, o6, o7⟩, h9, h10⟩ := h
  have hA2 : ∀ c, c ≠ 0 → ∀ q, A q → (g_s G).heap.size ≤ q ∧ o q ≠ c ∧ fp_nb G H q := fun c hc q hq => ⟨(hA q hq).1, by rw [(h9 q (hA q hq).2.1).2]; exact Ne.symm hc, (hA q hq).2.2⟩
  have hA3 : ∀ c, c ≠ 0 → ∀ q, A q → o q ≠ c := fun c hc q hq => (hA2 c hc q hq).2.1
  exact ⟨o, u, sv, hi, ip, ln, el, hd, q, iv, ic, im, lv, lc, lm, h1.go o1 hf (hA3 1 (by decide)), h2.go hf (hA2 2 (by decide)) (fun _ _ h => h), h3.go hf (hA2 3 (by decide)) (fun _ _ h => h), h4.go o2 o3 hf (hA3 4 (by decide)), fun i hi => (h5 i hi).go hf (hA2 _ (by omega)) (fun _ _ h => h), h6.go o4 o5 hf (hA3 5 (by decide)), h7.go o6 o7 hf (hA3 6 (by decide)), ⟨o1, o2, o3, o4, o5, o6, o7⟩, fun r hr => ⟨Nat.lt_of_lt_of_le (h9 r hr).1 hf.1, (h9 r hr).2⟩, h10⟩
theorem fp_PW.ext {G : fp_G} {x : Nat} {M : Nat → Prop} {T : TH} {H H1 : Heap} (h : fp_PW G x M T H) (hx : fp_X H H1) : fp_PW G x M T H1 := h.go (A := fp_no) ⟨hx.1, fun q hq _ => hx.2 q hq⟩ (fun q h => h.elim)
theorem fp_fr.no {H H1 : Heap} (h : fp_fr fp_no H H1) : fp_X H H1 := h.X (fun _ h => h)
/-- colours after a call: old cells by r, new ones by three lists -/
theorem fp_col (o ro : Nat → Nat) (n : Nat) (l2 lc lz : List Nat) (cn cz : Nat) : ∃ o' : Nat → Nat, (∀ r, r < n → o' r = ro (o r)) ∧ (∀ r, n ≤ r → r ∈ l2 → o' r = 2) ∧ (∀ r, n ≤ r → r ∈ lc → r ∉ l2 → o' r = cn) ∧ (∀ r, n ≤ r → r ∈ lz → r ∉ l2 → r ∉ lc → o' r = cz) := by
  refine ⟨fun r => if r < n then ro (o r) else if r ∈ l2 then 2 else if r ∈ lc then cn else if r ∈ lz then cz else 8, fun r h => if_pos h, fun r h h2 => ?_, fun r h h2 h3 => ?_, fun r h h2 h3 h4 => ?_⟩
  · show (if r < n then _ else if r ∈ l2 then 2 else _) = 2
    rw [if_neg (by omega), if_pos h2]
  · show (if r < n then _ else if r ∈ l2 then 2 else if r ∈ lc then cn else _) = cn
    rw [if_neg (by omega), if_neg h3, if_pos h2]
  · show (if r < n then _ else if r ∈ l2 then 2 else if r ∈ lc then cn else if r ∈ lz then cz else _) = cz
    rw [if_neg (by omega), if_neg h3, if_neg h4, if_pos h2]
/-- the colours of old history states when one more comes -/
def fp_ro (hn c : Nat) : Nat := if hn = 8 then (if c = 10 then 9 else if 11 ≤ c then c - 1 else c) else c
theorem fp_ro.lo {hn c : Nat} (h : c < 9) : fp_ro hn c = c := by
  unfold fp_ro
  split
  · rw [if_neg (by omega), if_neg (by omega)]
  · rfl
theorem fp_hist_push {G : fp_G} {o' : Nat → Nat} {hn y : Nat} {q : Nat → Nat} {hs : Nat → PS} {S : PS} {H1 : Heap} (h8 : hn ≤ 8) (hh : ∀ i, i < hn → fp_ST G o' (fp_ro hn (10 + i)) (q i) (hs i) H1) (hnew : fp_ST G o' (9 + fp_hn hn) y S H1) : ∀ i, i < fp_hn hn → fp_ST G o' (10 + i) (fp_qpush q hn y i) (fp_hpush hs hn S i) H1 := by
  intro i hi
  unfold fp_hn at hi hnew
  unfold fp_qpush fp_hpush
  by_cases e8 : hn = 8
  · subst e8
    rw [if_pos rfl] at hi hnew
    rw [if_pos rfl, if_pos rfl]
    by_cases e7 : i = 7
    · subst e7
      show fp_ST G o' 17 (va_up q 8 y 8) (if (7 : Nat) = 7 then S else hs 8) H1
      rw [va_up_self, if_pos rfl]
      exact hnew
    · show fp_ST G o' (10 + i) (va_up q 8 y (i + 1)) (if i = 7 then S else hs (i + 1)) H1
      rw [va_up_ne _ _ (by omega), if_neg e7]
      have h9 := hh (i + 1) (by omega)
      have e9 : fp_ro 8 (10 + (i + 1)) = 10 + i := by unfold fp_ro; rw [if_pos rfl, if_neg (by omega), if_pos (by omega)]; omega
      rw [e9] at h9
      exact h9
  · rw [if_neg e8] at hi hnew
    rw [if_neg e8, if_neg e8]
    by_cases e7 : i = hn
    · subst e7
      rw [va_up_self, va_up_self]
      rw [show 9 + (i + 1) = 10 + i by omega] at hnew
      exact hnew
    · rw [va_up_ne _ _ e7, va_up_ne _ _ e7]
      have h9 := hh i (by omega)
      unfold fp_ro at h9
      rw [if_neg e8] at h9
      exact h9
/-- a root that is old and of the colour c, or new and of the list -/
def fp_rt (G : fp_G) (o : Nat → Nat) (n c r : Nat) : Prop := ((g_s G).heap.size ≤ r → r < n → o r = c)
theorem fp_fr.le {A : Nat → Prop} {H H1 : Heap} (h : fp_fr A H H1) : H.size ≤ H1.size := h.1
/-- a state is new or has changed: told again under new colours -/
theorem fp_ST.new {G : fp_G} {o' : Nat → Nat} {c n u l ed z t cap : Nat} {mc : Int32} {b : Nat → Nat} {T : PS} {H1 : Heap} (h : fp_SE G u l ed z t mc cap b T H1) (hj : fp_inj (sN T) b) (hlo : ∀ r, r ∈ [u, l, ed, z, t] → (g_s G).heap.size ≤ r → r < n → o' r = c) (hup : ∀ r, r ∈ [u, l, ed, z, t] → n ≤ r → o' r = c) : fp_ST G o' c u T H1 := by
  have hc : ∀ r, r ∈ [u, l, ed, z, t] → (g_s G).heap.size ≤ r → o' r = c := fun r h1 h2 => by
    by_cases h3 : r < n
    · exact hlo r h1 h2 h3
    · exact hup r h1 (by omega)
  exact ⟨l, ed, z, t, mc, cap, b, h, hj, hc u (by simp) h.2.2.2.2.2.1, hc l (by simp) h.2.1.2.2.2, hc ed (by simp), hc z (by simp) h.2.2.2.2.2.2.1, hc t (by simp) h.2.2.2.2.2.2.2⟩
/-- two states whose like cells differ have no cell in common -/
theorem fp_SE.ap {G : fp_G} {U : State} (hK : fp_K G U) (hde : fp_de G < (g_s G).heap.size) {u l ed z t cap y l2 e2 z2 t2 cap2 : Nat} {mc mc2 : Int32} {b b2 : Nat → Nat} {S S2 : PS} {H : Heap} (h : fp_SE G u l ed z t mc cap b S H) (h2 : fp_SE G y l2 e2 z2 t2 mc2 cap2 b2 S2 H) (h5 : y ≠ u ∧ l2 ≠ l ∧ ((g_s G).heap.size ≤ e2 → e2 ≠ ed) ∧ z2 ≠ z ∧ t2 ≠ t) : ∀ r, r ∈ [y, l2, e2, z2, t2] → (g_s G).heap.size ≤ r → r ∉ [u, l, ed, z, t] := by
  obtain ⟨k1, k2, k3, k4, -⟩ := h
  obtain ⟨j1, j2, j3, j4, -⟩ := h2
  have E1 : ∀ a, (g_s G).heap.size ≤ a → (∀ f : Nat → Option Nat, fp_At G H ed (eQ G 4 cap f) → a ≠ ed) → a ≠ ed := fun a ha hf => k2.neE hde ha hf
  have E2 : ∀ a, (g_s G).heap.size ≤ a → (∀ f : Nat → Option Nat, fp_At G H e2 (eQ G 4 cap2 f) → a ≠ e2) → e2 ≠ a := fun a ha hf => Ne.symm (j2.neE hde ha hf)
  intro r hr hb hm
  simp only [List.mem_cons, List.not_mem_nil, or_false] at hr hm
  rcases hr with e | e | e | e | e <;> rw [e] at hm hb <;> rcases hm with f | f | f | f | f
  · exact h5.1 f
  · exact fp_neOO hK (i := 2) (j := 8) rfl rfl (by decide) j1 k2.1 f
  · exact E1 _ hb (fun g hg => fp_neOA hK (i := 2) (t := 4) rfl rfl j1 hg) f
  · exact fp_neOA hK (i := 2) (t := 5) rfl rfl j1 k3 f
  · exact fp_neOA hK (i := 2) (t := 1) rfl rfl j1 k4 f
  · exact fp_neOO hK (i := 8) (j := 2) rfl rfl (by decide) j2.1 k1 f
  · exact h5.2.1 f
  · exact E1 _ hb (fun g hg => fp_neOA hK (i := 8) (t := 4) rfl rfl j2.1 hg) f
  · exact fp_neOA hK (i := 8) (t := 5) rfl rfl j2.1 k3 f
  · exact fp_neOA hK (i := 8) (t := 1) rfl rfl j2.1 k4 f
  · exact E2 u (by omega) (fun g hg => fp_neOA hK (i := 2) (t := 4) rfl rfl k1 hg) f
  · exact E2 l (by omega) (fun g hg => fp_neOA hK (i := 8) (t := 4) rfl rfl k2.1 hg) f
  · exact h5.2.2.1 hb f
  · exact E2 z (by omega) (fun g hg => fp_neAA hK (t := 5) (t2 := 4) rfl rfl (by decide) k3 hg) f
  · exact E2 t (by omega) (fun g hg => fp_neAA hK (t := 1) (t2 := 4) rfl rfl (by decide) k4 hg) f
  · exact Ne.symm (fp_neOA hK (i := 2) (t := 5) rfl rfl k1 j3) f
  · exact Ne.symm (fp_neOA hK (i := 8) (t := 5) rfl rfl k2.1 j3) f
  · exact E1 _ hb (fun g hg => fp_neAA hK (t := 5) (t2 := 4) rfl rfl (by decide) j3 hg) f
  · exact h5.2.2.2.1 f
  · exact fp_neAA hK (t := 5) (t2 := 1) rfl rfl (by decide) j3 k4 f
  · exact Ne.symm (fp_neOA hK (i := 2) (t := 1) rfl rfl k1 j4) f
  · exact Ne.symm (fp_neOA hK (i := 8) (t := 1) rfl rfl k2.1 j4) f
  · exact E1 _ hb (fun g hg => fp_neAA hK (t := 1) (t2 := 4) rfl rfl (by decide) j4 hg) f
  · exact fp_neAA hK (t := 1) (t2 := 5) rfl rfl (by decide) j4 k3 f
  · exact h5.2.2.2.2 f
theorem fp_nS.nm {x l ed z t n a : Nat} {b : Nat → Nat} (h : fp_nS x l ed z t b n a) : a ∉ [x, l, ed, z, t] := fun hm => by
  simp only [List.mem_cons, List.not_mem_nil, or_false] at hm
  rcases hm with e | e | e | e | e
  · exact h x (Or.inl rfl) e.symm
  · exact h l (Or.inr (Or.inl rfl)) e.symm
  · exact h ed (Or.inr (Or.inr (Or.inl rfl))) e.symm
  · exact h z (Or.inr (Or.inr (Or.inr (Or.inl rfl)))) e.symm
  · exact h t (Or.inr (Or.inr (Or.inr (Or.inr (Or.inl rfl))))) e.symm
section FPPW
variable {G : fp_G} {U : State} {x : Nat} {M : Nat → Prop} {T : TH} {o : Nat → Nat} {u : Nat} {sv : Value} {hi ip ln el hd : Nat} {q : Nat → Nat} {iv ic im lv lc lm : Nat} {H H1 : Heap} {A : Nat → Prop}
theorem fp_PX.W (h : fp_PX G x M T o u sv hi ip ln el hd q iv ic im lv lc lm H) : fp_PW G x M T H := ⟨o, u, sv, hi, ip, ln, el, hd, q, iv, ic, im, lv, lc, lm, h⟩
/-- a change with a copy of the state that was -/
theorem fp_PX.push (hK : fp_K G U) (hde : fp_de G < (g_s G).heap.size) {u2 l2 e2 z2 t2 cap2 y l9 e9 z9 t9 c9 hd2 iv2 ic2 n2 im2 : Nat} {mc2 m9 : Int32} {b2 b9 tx2 : Nat → Nat} {S2 : PS} (h : fp_PX G x M T o u sv hi ip ln el hd q iv ic im lv lc lm H) (hf : fp_fr A H H1)
    (hA : ∀ r, A r → (g_s G).heap.size ≤ r ∧ (o r = 1 ∨ o r = 2 ∨ o r = 4 ∨ o r = 5) ∧ fp_nb G H r) (h8 : T.2.2.1.1 ≤ 8)
    (hx : fp_At G H1 x (eO 1 [.ref u2, sv, .ref hi, .ref ip, .ref ln, .int (iI (bI false)), .int (iI T.2.2.2.2.2.1), .int (iI T.2.2.2.2.2.2)])) (hs : fp_SE G u2 l2 e2 z2 t2 mc2 cap2 b2 S2 H1) (hj : fp_inj (sN S2) b2) (hold : ∀ r, r ∈ [u2, l2, e2, z2, t2] → (g_s G).heap.size ≤ r → r < H.size → o r = 2)
    (hq : fp_DQ G hi el hd2 (fp_hn T.2.2.1.1) (fp_qpush q T.2.2.1.1 y) H1) (hip : fp_SB G ip iv2 ic2 n2 im2 tx2 H1) (hiv : iv2 = iv ∨ (H.size ≤ iv2 ∧ iv2 ∉ [u2, l2, e2, z2, t2] ∧ iv2 ∉ [y, l9, e9, z9, t9]))
    (hc : fp_SE G y l9 e9 z9 t9 m9 c9 b9 T.1 H1) (hcj : fp_inj (sN T.1) b9) (hn : H.size ≤ y ∧ H.size ≤ l9 ∧ H.size ≤ z9 ∧ H.size ≤ t9) (he : e9 = fp_de G ∨ H.size ≤ e9) (hd5 : y ≠ u2 ∧ l9 ≠ l2 ∧ ((g_s G).heap.size ≤ e9 → e9 ≠ e2) ∧ z9 ≠ z2 ∧ t9 ≠ t2) : fp_PW G x M (S2, T.2.1, (fp_hn T.2.2.1.1, fp_hpush T.2.2.1.2 T.2.2.1.1 T.1), (n2, tx2), T.2.2.2.2.1, T.2.2.2.2.2.1, T.2.2.2.2.2.2) H1 := by
  obtain ⟨h1, h2, h3, h4, h5, h6, h7, ⟨o1, o2, o3, o4, o5, o6, o7⟩, h9, h10⟩ := h
  have hap := fp_SE.ap hK hde hs hc hd5
  obtain ⟨o', r0, r2, rc, rz⟩ := fp_col o (fp_ro T.2.2.1.1) H.size [u2, l2, e2, z2, t2] [y, l9, e9, z9, t9] [iv2] (9 + fp_hn T.2.2.1.1) 5
  have hA2 : ∀ c, c ≠ 1 ∧ c ≠ 2 ∧ c ≠ 4 ∧ c ≠ 5 → ∀ r, A r → (g_s G).heap.size ≤ r ∧ o r ≠ c ∧ fp_nb G H r := fun c hc r hr => ⟨(hA r hr).1, by have := (hA r hr).2.1; omega, (hA r hr).2.2⟩
  have lo : ∀ c, c < 9 → ∀ r, r < H.size → o r = c → o' r = c := fun c hc r hr e => by rw [r0 r hr, e, fp_ro.lo hc]
  have hsz : (g_s G).heap.size ≤ H.size := Nat.le_trans h10 (Nat.le_of_lt h1.lt)
  have ol : ∀ {r c}, o r = c → c < 9 → r < H.size → o' r = c := fun {r c} e hc hr => lo c hc r hr e
  refine ⟨o', u2, sv, hi, ip, ln, el, hd2, _, iv2, ic2, im2, lv, lc, lm, hx, ?_, h3.go hf (hA2 3 (by decide)) (lo 3 (by decide)), hq, ?_, hip, h7.go o6 o7 hf (fun r hr => (hA2 6 (by decide) r hr).2.1), ⟨ol o1 (by decide) h1.lt, ol o2 (by decide) h4.1.lt, ol o3 (by decide) h4.2.2.1.1, ol o4 (by decide) h6.1.lt, ?_, ol o6 (by decide) h7.1.lt, ol o7 (by decide) h7.2.2.1.1⟩, fun r hr => ⟨Nat.lt_of_lt_of_le (h9 r hr).1 hf.1, ol (h9 r hr).2 (by decide) (h9 r hr).1⟩, h10⟩
  · exact fp_ST.new (n := H.size) hs hj (fun r hr hb hl => ol (hold r hr hb hl) (by decide) hl) (fun r hr hl => r2 r hl hr)
  · refine fp_hist_push h8 (fun i hi => (h5 i hi).go hf (hA2 _ (by omega)) (fun r hr e => by rw [r0 r hr, e])) (fp_ST.new (n := H.size) hc hcj (fun r hr hb hl => ?_) (fun r hr hl => rc r hl hr (hap r hr (Nat.le_trans hsz hl))))
    exfalso
    simp only [List.mem_cons, List.not_mem_nil, or_false] at hr
    omega
  · rcases hiv with e | ⟨e, f, g⟩
    · rw [e]; exact ol o5 (by decide) h6.2.2.1.1
    · exact rz _ e (by simp) f g
/-- the newest copy comes back -/
theorem fp_PX.undo (h : fp_PX G x M T o u sv hi ip ln el hd q iv ic im lv lc lm H) (hf : fp_fr A H H1) (hA : ∀ r, A r → (g_s G).heap.size ≤ r ∧ (o r = 1 ∨ o r = 4) ∧ fp_nb G H r) (h0 : 0 < T.2.2.1.1)
    (hx : fp_At G H1 x (eO 1 [.ref (q (T.2.2.1.1 - 1)), sv, .ref hi, .ref ip, .ref ln, .int (iI (bI false)), .int (iI T.2.2.2.2.2.1), .int (iI T.2.2.2.2.2.2)])) (hq : fp_DQ G hi el hd (T.2.2.1.1 - 1) q H1) : fp_PW G x M (T.2.2.1.2 (T.2.2.1.1 - 1), T.2.1, (T.2.2.1.1 - 1, T.2.2.1.2), T.2.2.2.1, T.2.2.2.2.1, T.2.2.2.2.2.1, T.2.2.2.2.2.2) H1 := by
  obtain ⟨h1, h2, h3, h4, h5, h6, h7, ⟨o1, o2, o3, o4, o5, o6, o7⟩, h9, h10⟩ := h
  have hA2 : ∀ c, c ≠ 1 ∧ c ≠ 4 → ∀ r, A r → (g_s G).heap.size ≤ r ∧ o r ≠ c ∧ fp_nb G H r := fun c hc r hr => ⟨(hA r hr).1, by have := (hA r hr).2.1; omega, (hA r hr).2.2⟩
  obtain ⟨m, hm⟩ : ∃ m, m = T.2.2.1.1 - 1 := ⟨_, rfl⟩
  rw [← hm] at hx hq ⊢
  have lo : ∀ c, c ≠ 10 + m → ∀ r, o r = c → (fun r => if o r = 10 + m then 2 else o r) r = c := fun c hc r e => by
    show (if o r = 10 + m then 2 else o r) = c
    rw [if_neg (by omega), e]
  refine ⟨fun r => if o r = 10 + m then 2 else o r, q m, sv, hi, ip, ln, el, hd, q, iv, ic, im, lv, lc, lm, hx, (h5 m (by omega)).go hf (hA2 _ (by omega)) (fun r _ e => if_pos e), h3.go hf (hA2 3 (by decide)) (fun r _ e => lo 3 (by omega) r e), hq, fun i hi => (h5 i (by omega)).go hf (hA2 _ (by omega)) (fun r _ e => lo _ (by omega) r e), h6.go o4 o5 hf (fun r hr => (hA2 5 (by decide) r hr).2.1), h7.go o6 o7 hf (fun r hr => (hA2 6 (by decide) r hr).2.1), ⟨lo _ (by omega) _ o1, lo _ (by omega) _ o2, lo _ (by omega) _ o3, lo _ (by omega) _ o4, lo _ (by omega) _ o5, lo _ (by omega) _ o6, lo _ (by omega) _ o7⟩, fun r hr => ⟨Nat.lt_of_lt_of_le (h9 r hr).1 hf.1, lo _ (by omega) _ (h9 r hr).2⟩, h10⟩
/-- a copy is saved, or what was saved is the state again, and no history -/
theorem fp_PX.save {y l9 e9 z9 t9 c9 : Nat} {m9 : Int32} {b9 : Nat → Nat} (h : fp_PX G x M T o u sv hi ip ln el hd q iv ic im lv lc lm H) (hf : fp_fr A H H1) (hA : ∀ r, A r → (g_s G).heap.size ≤ r ∧ (o r = 1) ∧ fp_nb G H r)
    (hx : fp_At G H1 x (eO 1 [.ref u, .ref y, .ref hi, .ref ip, .ref ln, .int (iI (bI false)), .int (iI T.2.2.2.2.2.1), .int (iI T.2.2.2.2.2.2)])) (hc : fp_SE G y l9 e9 z9 t9 m9 c9 b9 T.1 H1) (hcj : fp_inj (sN T.1) b9) (hn : H.size ≤ y ∧ H.size ≤ l9 ∧ H.size ≤ z9 ∧ H.size ≤ t9) (he : e9 = fp_de G ∨ H.size ≤ e9) (hde : fp_de G < (g_s G).heap.size) : fp_PW G x M (T.1, some T.1, T.2.2.1, T.2.2.2.1, T.2.2.2.2.1, T.2.2.2.2.2.1, T.2.2.2.2.2.2) H1 := by
  obtain ⟨h1, h2, h3, h4, h5, h6, h7, ⟨o1, o2, o3, o4, o5, o6, o7⟩, h9, h10⟩ := h
  obtain ⟨o', r0, r2, rc, rz⟩ := fp_col o (fun c => c) H.size [] [y, l9, e9, z9, t9] [] 3 0
  have hA2 : ∀ c, c ≠ 1 → ∀ r, A r → (g_s G).heap.size ≤ r ∧ o r ≠ c ∧ fp_nb G H r := fun c hc r hr => ⟨(hA r hr).1, by have := (hA r hr).2.1; omega, (hA r hr).2.2⟩
  have ol : ∀ {r c}, o r = c → r < H.size → o' r = c := fun {r c} e hr => by rw [r0 r hr, e]
  refine ⟨o', u, .ref y, hi, ip, ln, el, hd, q, iv, ic, im, lv, lc, lm, hx, h2.go hf (hA2 2 (by decide)) (fun r hr e => ol e hr), Or.inr ⟨_, y, rfl, rfl, fp_ST.new (n := H.size) hc hcj (fun r hr hb hl => ?_) (fun r hr hl => rc r hl hr (by simp))⟩, h4.go o2 o3 hf (fun r hr => (hA2 4 (by decide) r hr).2.1), fun i hi => (h5 i hi).go hf (hA2 _ (by omega)) (fun r hr e => ol e hr), h6.go o4 o5 hf (fun r hr => (hA2 5 (by decide) r hr).2.1), h7.go o6 o7 hf (fun r hr => (hA2 6 (by decide) r hr).2.1), ⟨ol o1 h1.lt, ol o2 h4.1.lt, ol o3 h4.2.2.1.1, ol o4 h6.1.lt, ol o5 h6.2.2.1.1, ol o6 h7.1.lt, ol o7 h7.2.2.1.1⟩, fun r hr => ⟨Nat.lt_of_lt_of_le (h9 r hr).1 hf.1, ol (h9 r hr).2 (h9 r hr).1⟩, h10⟩
  exfalso
  simp only [List.mem_cons, List.not_mem_nil, or_false] at hr
  omega
theorem fp_PX.restore {y l9 e9 z9 t9 c9 s2 hd2 : Nat} {m9 : Int32} {b9 q2 : Nat → Nat} {S2 : PS} (h : fp_PX G x M T o u sv hi ip ln el hd q iv ic im lv lc lm H) (hf : fp_fr A H H1) (hA : ∀ r, A r → (g_s G).heap.size ≤ r ∧ (o r = 1 ∨ o r = 4) ∧ fp_nb G H r) (hs : sv = .ref s2)
    (hx : fp_At G H1 x (eO 1 [.ref y, .ref s2, .ref hi, .ref ip, .ref ln, .int (iI (bI false)), .int (iI T.2.2.2.2.2.1), .int (iI T.2.2.2.2.2.2)])) (hq : fp_DQ G hi el hd2 0 q2 H1) (hc : fp_SE G y l9 e9 z9 t9 m9 c9 b9 S2 H1) (hcj : fp_inj (sN S2) b9) (hn : H.size ≤ y ∧ H.size ≤ l9 ∧ H.size ≤ z9 ∧ H.size ≤ t9) (he : e9 = fp_de G ∨ H.size ≤ e9) (hde : fp_de G < (g_s G).heap.size) : fp_PW G x M (S2, T.2.1, (0, T.2.2.1.2), T.2.2.2.1, T.2.2.2.2.1, T.2.2.2.2.2.1, T.2.2.2.2.2.2) H1 := by
  obtain ⟨h1, h2, h3, h4, h5, h6, h7, ⟨o1, o2, o3, o4, o5, o6, o7⟩, h9, h10⟩ := h
  obtain ⟨o', r0, r2, rc, rz⟩ := fp_col o (fun c => c) H.size [] [y, l9, e9, z9, t9] [] 2 0
  have hA2 : ∀ c, c ≠ 1 ∧ c ≠ 4 → ∀ r, A r → (g_s G).heap.size ≤ r ∧ o r ≠ c ∧ fp_nb G H r := fun c hc r hr => ⟨(hA r hr).1, by have := (hA r hr).2.1; omega, (hA r hr).2.2⟩
  have ol : ∀ {r c}, o r = c → r < H.size → o' r = c := fun {r c} e hr => by rw [r0 r hr, e]
  refine ⟨o', y, sv, hi, ip, ln, el, hd2, q2, iv, ic, im, lv, lc, lm, by rw [hs]; exact hx, fp_ST.new (n := H.size) hc hcj (fun r hr hb hl => ?_) (fun r hr hl => rc r hl hr (by simp)), h3.go hf (hA2 3 (by decide)) (fun r hr e => ol e hr), hq, fun i hi => absurd hi (Nat.not_lt_zero _), h6.go o4 o5 hf (fun r hr => (hA2 5 (by decide) r hr).2.1), h7.go o6 o7 hf (fun r hr => (hA2 6 (by decide) r hr).2.1), ⟨ol o1 h1.lt, ol o2 h4.1.lt, ol o3 h4.2.2.1.1, ol o4 h6.1.lt, ol o5 h6.2.2.1.1, ol o6 h7.1.lt, ol o7 h7.2.2.1.1⟩, fun r hr => ⟨Nat.lt_of_lt_of_le (h9 r hr).1 hf.1, ol (h9 r hr).2 (h9 r hr).1⟩, h10⟩
  exfalso
  simp only [List.mem_cons, List.not_mem_nil, or_false] at hr
  omega
/-- the line, or the program's text, is written; a number of the planner is set -/
theorem fp_PX.line {lv2 lc2 n2 lm2 : Nat} {tx2 : Nat → Nat} (h : fp_PX G x M T o u sv hi ip ln el hd q iv ic im lv lc lm H) (hf : fp_fr A H H1) (hA : ∀ r, A r → (g_s G).heap.size ≤ r ∧ (o r = 6) ∧ fp_nb G H r) (hl : fp_SB G ln lv2 lc2 n2 lm2 tx2 H1) (hv : lv2 = lv ∨ H.size ≤ lv2) : fp_PW G x M (T.1, T.2.1, T.2.2.1, T.2.2.2.1, (n2, tx2), T.2.2.2.2.2.1, T.2.2.2.2.2.2) H1 := by
  obtain ⟨h1, h2, h3, h4, h5, h6, h7, ⟨o1, o2, o3, o4, o5, o6, o7⟩, h9, h10⟩ := h
  obtain ⟨o', r0, r2, rc, rz⟩ := fp_col o (fun c => c) H.size [] [] [lv2] 0 6
  have hA2 : ∀ c, c ≠ 6 → ∀ r, A r → (g_s G).heap.size ≤ r ∧ o r ≠ c ∧ fp_nb G H r := fun c hc r hr => ⟨(hA r hr).1, by have := (hA r hr).2.1; omega, (hA r hr).2.2⟩
  have ol : ∀ {r c}, o r = c → r < H.size → o' r = c := fun {r c} e hr => by rw [r0 r hr, e]
  refine ⟨o', u, sv, hi, ip, ln, el, hd, q, iv, ic, im, lv2, lc2, lm2, h1.go o1 hf (fun r hr => (hA2 1 (by decide) r hr).2.1), h2.go hf (hA2 2 (by decide)) (fun r hr e => ol e hr), h3.go hf (hA2 3 (by decide)) (fun r hr e => ol e hr), h4.go o2 o3 hf (fun r hr => (hA2 4 (by decide) r hr).2.1), fun i hi => (h5 i hi).go hf (hA2 _ (by omega)) (fun r hr e => ol e hr), h6.go o4 o5 hf (fun r hr => (hA2 5 (by decide) r hr).2.1), hl, ⟨ol o1 h1.lt, ol o2 h4.1.lt, ol o3 h4.2.2.1.1, ol o4 h6.1.lt, ol o5 h6.2.2.1.1, ol o6 h7.1.lt, ?_⟩, fun r hr => ⟨Nat.lt_of_lt_of_le (h9 r hr).1 hf.1, ol (h9 r hr).2 (h9 r hr).1⟩, h10⟩
  rcases hv with e | e
  · rw [e]; exact ol o7 h7.2.2.1.1
  · exact rz _ e (by simp) (by simp) (by simp)
theorem fp_PX.text {iv2 ic2 n2 im2 hd2 : Nat} {tx2 : Nat → Nat} {er fa : Int} (h : fp_PX G x M T o u sv hi ip ln el hd q iv ic im lv lc lm H) (hf : fp_fr A H H1) (hA : ∀ r, A r → (g_s G).heap.size ≤ r ∧ (o r = 1 ∨ o r = 4 ∨ o r = 5) ∧ fp_nb G H r) (hx : fp_At G H1 x (eO 1 [.ref u, sv, .ref hi, .ref ip, .ref ln, .int (iI (bI false)), .int (iI er), .int (iI fa)])) (hq : fp_DQ G hi el hd2 T.2.2.1.1 q H1) (hl : fp_SB G ip iv2 ic2 n2 im2 tx2 H1) (hv : iv2 = iv ∨ H.size ≤ iv2) : fp_PW G x M (T.1, T.2.1, T.2.2.1, (n2, tx2), T.2.2.2.2.1, er, fa) H1 := by
  obtain ⟨h1, h2, h3, h4, h5, h6, h7, ⟨o1, o2, o3, o4, o5, o6, o7⟩, h9, h10⟩ := h
  obtain ⟨o', r0, r2, rc, rz⟩ := fp_col o (fun c => c) H.size [] [] [iv2] 0 5
  have hA2 : ∀ c, c ≠ 1 ∧ c ≠ 4 ∧ c ≠ 5 → ∀ r, A r → (g_s G).heap.size ≤ r ∧ o r ≠ c ∧ fp_nb G H r := fun c hc r hr => ⟨(hA r hr).1, by have := (hA r hr).2.1; omega, (hA r hr).2.2⟩
  have ol : ∀ {r c}, o r = c → r < H.size → o' r = c := fun {r c} e hr => by rw [r0 r hr, e]
  refine ⟨o', u, sv, hi, ip, ln, el, hd2, q, iv2, ic2, im2, lv, lc, lm, hx, h2.go hf (hA2 2 (by decide)) (fun r hr e => ol e hr), h3.go hf (hA2 3 (by decide)) (fun r hr e => ol e hr), hq, fun i hi => (h5 i hi).go hf (hA2 _ (by omega)) (fun r hr e => ol e hr), hl, h7.go o6 o7 hf (fun r hr => (hA2 6 (by decide) r hr).2.1), ⟨ol o1 h1.lt, ol o2 h4.1.lt, ol o3 h4.2.2.1.1, ol o4 h6.1.lt, ?_, ol o6 h7.1.lt, ol o7 h7.2.2.1.1⟩, fun r hr => ⟨Nat.lt_of_lt_of_le (h9 r hr).1 hf.1, ol (h9 r hr).2 (h9 r hr).1⟩, h10⟩
  rcases hv with e | e
  · rw [e]; exact ol o5 h6.2.2.1.1
  · exact rz _ e (by simp) (by simp) (by simp)
/-- the state's list has been used -/
theorem fp_PX.tried {l2 e2 z2 t2 cap2 hd2 : Nat} {mc2 : Int32} {b2 : Nat → Nat} (h : fp_PX G x M T o u sv hi ip ln el hd q iv ic im lv lc lm H) (hf : fp_fr A H H1) (hA : ∀ r, A r → (g_s G).heap.size ≤ r ∧ (o r = 2 ∨ o r = 4) ∧ fp_nb G H r) (hq : fp_DQ G hi el hd2 T.2.2.1.1 q H1) (hs : fp_SE G u l2 e2 z2 t2 mc2 cap2 b2 T.1 H1) (hj : fp_inj (sN T.1) b2) (hold : ∀ r, r ∈ [u, l2, e2, z2, t2] → (g_s G).heap.size ≤ r → r < H.size → o r = 2) : fp_PW G x M T H1 := by
  obtain ⟨h1, h2, h3, h4, h5, h6, h7, ⟨o1, o2, o3, o4, o5, o6, o7⟩, h9, h10⟩ := h
  obtain ⟨o', r0, r2, rc, rz⟩ := fp_col o (fun c => c) H.size [u, l2, e2, z2, t2] [] [] 0 0
  have hA2 : ∀ c, c ≠ 2 ∧ c ≠ 4 → ∀ r, A r → (g_s G).heap.size ≤ r ∧ o r ≠ c ∧ fp_nb G H r := fun c hc r hr => ⟨(hA r hr).1, by have := (hA r hr).2.1; omega, (hA r hr).2.2⟩
  have ol : ∀ {r c}, o r = c → r < H.size → o' r = c := fun {r c} e hr => by rw [r0 r hr, e]
  exact ⟨o', u, sv, hi, ip, ln, el, hd2, q, iv, ic, im, lv, lc, lm, h1.go o1 hf (fun r hr => (hA2 1 (by decide) r hr).2.1), fp_ST.new (n := H.size) hs hj (fun r hr hb hl => ol (hold r hr hb hl) hl) (fun r hr hl => r2 r hl hr), h3.go hf (hA2 3 (by decide)) (fun r hr e => ol e hr), hq, fun i hi => (h5 i hi).go hf (hA2 _ (by omega)) (fun r hr e => ol e hr), h6.go o4 o5 hf (fun r hr => (hA2 5 (by decide) r hr).2.1), h7.go o6 o7 hf (fun r hr => (hA2 6 (by decide) r hr).2.1), ⟨ol o1 h1.lt, ol o2 h4.1.lt, ol o3 h4.2.2.1.1, ol o4 h6.1.lt, ol o5 h6.2.2.1.1, ol o6 h7.1.lt, ol o7 h7.2.2.1.1⟩, fun r hr => ⟨Nat.lt_of_lt_of_le (h9 r hr).1 hf.1, ol (h9 r hr).2 (h9 r hr).1⟩, h10⟩
end FPPW
