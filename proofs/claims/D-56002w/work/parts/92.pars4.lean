/-! THE PARSER: a whole program -/
set_option maxRecDepth 100000
/-- behind k commands: has it failed, where, what was read -/
def fp_pi (tx : Nat → Nat) (n : Nat) (P : List (Nat × Int × Int × Int) × Bool × Nat) (f : Bool) (k h : Nat) (L : List (Nat × Int × Int × Int)) : Prop := h ≤ n ∧ ((f = false ∧ (1 ≤ k ∧ k ≤ h + 1) ∧ L.length = k ∧ P.1 = L ++ (fp_prt tx n (n + 1 - k) h).1 ∧ P.2 = (fp_prt tx n (n + 1 - k) h).2) ∨ (f = true ∧ P.2 = (true, h)))
/-- a command that is right ends behind where it began, and none ends behind the program -/
theorem fp_cmd_le {tx : Nat → Nat} {n h : Nat} (hh : h ≤ n) (h1 : ∀ i, i < n → tx i < 128) : (fp_cmd tx n h).2.1 ≤ n ∧ ((fp_cmd tx n h).1 = false → h < (fp_cmd tx n h).2.1) := by
  by_cases e : fp_wf tx n h = 7
  · have e2 : fp_cmd tx n h = (true, h + fp_wq tx n h, 0, 0, 0, 0) := if_pos e
    rw [e2]
    refine ⟨?_, fun z => by cases z⟩
    show h + fp_wq tx n h ≤ n
    -- the longest piece that begins a word
    have hq : fp_wq tx n h = 0 ∨ ∃ w, w < 7 ∧ fp_wm tx n h w (fp_wq tx n h) = true := by
      by_cases e3 : ∃ q, (q = 0 ∨ ∃ w, w < 7 ∧ fp_wm tx n h w q = true) ∧ ∀ w, w < 7 → fp_wm tx n h w (q + 1) = false
      · obtain ⟨q, h3, h4⟩ := e3
        rw [fp_wq_eq h3 h4]
        exact h3
      · exfalso
        have g : ∀ q : Nat, q = 0 ∨ ∃ w, w < 7 ∧ fp_wm tx n h w q = true := by
          intro q
          induction q with
          | zero => exact Or.inl rfl
          | succ q ih =>
            refine Or.inr (Classical.byContradiction (fun h5 => e3 ⟨q, ih, fun w hw => ?_⟩))
            cases h6 : fp_wm tx n h w (q + 1) with
            | false => rfl
            | true => exact absurd ⟨w, hw, h6⟩ h5
        rcases g 100 with h7 | ⟨w, hw, h7⟩
        · omega
        · have a := fp_wm_le h7 hw
          have b := fp_wa_b hw
          omega
    rcases hq with h3 | ⟨w, hw, h3⟩
    · omega
    · exact fp_wm_tn h3 hw hh
  · obtain ⟨hw, hm, -⟩ : fp_wf tx n h < 7 ∧ fp_wm tx n h (fp_wf tx n h) (fp_wl (fp_wf tx n h)) = true ∧ True := by
      rcases fp_fi_s (q := fun w => fp_wm tx n h w (fp_wl w)) (n := 7) with h2 | h2
      · exact ⟨h2.1, h2.2.1, trivial⟩
      · exact absurd h2.1 e
    have hb := fp_wk_b hw
    have hm2 := fp_wm_mono hm (show fp_wk (fp_wf tx n h) ≤ fp_wl (fp_wf tx n h) by omega)
    have hn := fp_wm_tn hm2 hw hh
    have hc := fp_xa_cmd hw hm2
    have hp := fp_xa_b (w := fp_wf tx n h) hn h1
    rw [hc.2.1]
    exact ⟨hp.2, fun _ => by omega⟩
theorem fp_pi.b {tx : Nat → Nat} {n : Nat} {P : List (Nat × Int × Int × Int) × Bool × Nat} {f : Bool} {k h : Nat} {L : List (Nat × Int × Int × Int)} (s : fp_pi tx n P f k h L) : h ≤ n ∧ (f = false → 1 ≤ k ∧ k ≤ h + 1 ∧ L.length = k) := ⟨s.1, fun hf => by
  rcases s.2 with ⟨-, h1, h2, -⟩ | ⟨h1, -⟩
  · exact ⟨h1.1, h1.2, h2⟩
  · rw [hf] at h1; cases h1⟩
theorem fp_pi.first {tx : Nat → Nat} {n : Nat} {P : List (Nat × Int × Int × Int) × Bool × Nat} {f : Bool} {h : Nat} {L : List (Nat × Int × Int × Int)} {c : FC} (hP : fp_prg tx n = P) (h1 : ∀ i, i < n → tx i < 128) (hc : fp_cmd tx n 0 = c) (hf : f = c.1) (hh : h = c.2.1) (hL : f = false → L = [] ++ [c.2.2]) : fp_pi tx n P f 1 h L := by
  have hb := fp_cmd_le (tx := tx) (Nat.zero_le n) h1
  rw [hc] at hb
  refine ⟨by rw [hh]; exact hb.1, ?_⟩
  cases e : f with
  | false =>
    have hL2 := hL e
    rw [e] at hf
    have e2 := fp_prg_2 hc hf.symm
    refine Or.inl ⟨rfl, ⟨Nat.le_refl _, by omega⟩, by rw [hL2]; rfl, ?_, ?_⟩
    · rw [← hP, e2, hL2, hh, Nat.add_sub_cancel]
      rfl
    · rw [← hP, e2, hh, Nat.add_sub_cancel]
  | true =>
    rw [e] at hf
    exact Or.inr ⟨rfl, by rw [← hP, fp_prg_1 hc hf.symm, hh]⟩
theorem fp_pi.next {tx : Nat → Nat} {n : Nat} {P : List (Nat × Int × Int × Int) × Bool × Nat} {f : Bool} {k h h2 : Nat} {L L2 : List (Nat × Int × Int × Int)} {c : FC} (s : fp_pi tx n P false k h L) (h1 : ∀ i, i < n → tx i < 128) (hs : fp_sg tx n h = 59) (hn : h < n) (hc : fp_cmd tx n (h + 1) = c) (hf : f = c.1) (hh : h2 = c.2.1) (hL : f = false → L2 = L ++ [c.2.2]) : fp_pi tx n P f (k + 1) h2 L2 := by
  have hb := fp_cmd_le (tx := tx) (n := n) (h := h + 1) (by omega) h1
  rw [hc] at hb
  refine ⟨by rw [hh]; exact hb.1, ?_⟩
  rcases s.2 with ⟨-, ⟨k1, k2⟩, k3, k4, k5⟩ | ⟨z, -⟩
  · have ef : n + 1 - k = (n + 1 - (k + 1)) + 1 := by omega
    cases e : f with
    | false =>
      rw [e] at hf
      have e2 := fp_prt_3 (f := n + 1 - (k + 1)) hc hn hs hf.symm
      rw [ef, e2] at k4 k5
      have hL2 := hL e
      have hb2 := hb.2 hf.symm
      refine Or.inl ⟨rfl, ⟨by omega, by omega⟩, by rw [hL2, List.length_append, List.length_singleton]; omega, ?_, ?_⟩
      · rw [k4, hL2, hh, List.append_assoc]
        rfl
      · rw [k5, hh]
    | true =>
      rw [e] at hf
      have e2 := fp_prt_2 (f := n + 1 - k) hc (by omega) hn hs hf.symm
      rw [e2] at k5
      exact Or.inr ⟨rfl, by rw [k5, hh]⟩
  · cases z
theorem fp_pi.fail {tx : Nat → Nat} {n : Nat} {P : List (Nat × Int × Int × Int) × Bool × Nat} {k h : Nat} {L : List (Nat × Int × Int × Int)} (s : fp_pi tx n P true k h L) : P.2 = (true, h) := by
  rcases s.2 with ⟨z, -⟩ | ⟨-, h1⟩
  · cases z
  · exact h1
theorem fp_pi.bad {tx : Nat → Nat} {n : Nat} {P : List (Nat × Int × Int × Int) × Bool × Nat} {k h : Nat} {L : List (Nat × Int × Int × Int)} (s : fp_pi tx n P false k h L) (hs : ¬ fp_sg tx n h = 59) (hn : h < n) : P.2 = (true, h) := by
  rcases s.2 with ⟨-, ⟨k1, k2⟩, k3, k4, k5⟩ | ⟨z, -⟩
  · rw [fp_prt_1 (by omega) hn hs] at k5
    exact k5
  · cases z
theorem fp_pi.fin {tx : Nat → Nat} {n : Nat} {P : List (Nat × Int × Int × Int) × Bool × Nat} {k h : Nat} {L : List (Nat × Int × Int × Int)} (s : fp_pi tx n P false k h L) (hn : n ≤ h) : P.2 = (false, h) := by
  rcases s.2 with ⟨-, ⟨k1, k2⟩, k3, k4, k5⟩ | ⟨z, -⟩
  · rw [fp_prt_4 hn] at k5
    exact k5
  · cases z
theorem fp_pi.list {tx : Nat → Nat} {n : Nat} {P : List (Nat × Int × Int × Int) × Bool × Nat} {k h : Nat} {L : List (Nat × Int × Int × Int)} (s : fp_pi tx n P false k h L) (hn : n ≤ h) : P.1 = L := by
  rcases s.2 with ⟨-, ⟨k1, k2⟩, k3, k4, k5⟩ | ⟨z, -⟩
  · rw [fp_prt_4 hn, List.append_nil] at k4
    exact k4
  · cases z
theorem fp_pi.len {tx : Nat → Nat} {n : Nat} {P : List (Nat × Int × Int × Int) × Bool × Nat} {k h : Nat} {L : List (Nat × Int × Int × Int)} (s : fp_pi tx n P false k h L) : L.length = k := (s.b.2 rfl).2.2

set_option maxRecDepth 100000
set_option maxHeartbeats 4000000 in
theorem c_X9_parse (G : fp_G) (x : Nat) (kw : Nat) (p : Nat) (pv : Nat) (l : Nat) (n : Nat) (tx : Nat → Nat) (lo : Nat) (P : List (Nat × Int × Int × Int) × Bool × Nat) (hP : fp_prg tx n = P) (hn24 : n ≤ 24) (hlo : p < lo ∧ (g_s G).heap.size ≤ lo) (hxb : (g_s G).heap.size ≤ x) (hkb : (g_s G).heap.size ≤ kw) : fp_M G yX9_parse cX9_parse 1 (some .boolean) 11 227 1375 20000 [.ref (x)] (fun H => fp_At G H x (eO 6 [.ref (kw), .ref (p), .ref (l), .int (iI ((0 : Nat) : Int)), .int (iI (bI (false)))]) ∧ fp_HS G p pv n tx H ∧ fp_At G H kw (eQ G 6 7 (fun i => some (fp_kq G i))) ∧ fp_LE G l (fp_de G) (iI ((0 : Nat) : Int)) 0 0 (fun _ => 0) H ∧ fp_CMF G lo false (fun _ => 0) ([]) H) (fun q => (g_s G).heap.size ≤ q ∧ (q = x ∨ q = l ∨ q = p)) (fun H v H1 => ∃ (ed2 : Nat), ∃ (mc2 : Int32), ∃ (m : Nat), ∃ (cap2 : Nat), ∃ (b2 : Nat → Nat), v = some (.int (iI (bI (!P.2.1)))) ∧ (P.2.1 = false → P.1.length = m ∧ fp_CMF G lo false b2 P.1 H1) ∧ (ed2 = fp_de G ∨ H.size ≤ ed2) ∧ fp_At G H1 x (eO 6 [.ref (kw), .ref (p), .ref (l), .int (iI ((P.2.2 : Nat) : Int)), .int (iI (bI (P.2.1)))]) ∧ fp_LE G l ed2 mc2 m cap2 b2 H1) := by
  refine fp_M.intro (by decide) (Nat.le_of_ble_eq_true rfl) ?_
  intro pg en s mi ag bl mt cd rR qQ ls X hx hb hr hlk hnm hR hQ hB hM hl
  have hS : va_S (fA (fun q => (g_s G).heap.size ≤ q ∧ (q = x ∨ q = l ∨ q = p)) s.heap.size) s.heap s.heap [] := va_S.rf
  generalize ([] : List Loc) = locs at hS ⊢
  have hb0 := hB.1
  have hAb : ∀ q, (fun q => (g_s G).heap.size ≤ q ∧ (q = x ∨ q = l ∨ q = p)) q → (g_s G).heap.size ≤ q := fun q h => h.1
  obtain ⟨h_o, h_pg, h_kr, h_ls, h_cl⟩ := hM
  have hsz0 := hS.1
  have lt_1 := h_o.lt
  have lt_2 := h_pg.lt
  have lt_3 := h_pg.2.1.lt
  have lt_4 := h_kr.lt
  have lt_5 := h_ls.1.lt
  have lt_6 := h_ls.2.2
  have hpg := h_pg.2.2.1
  have hed0 := (X.2.2.2.2.2.deT (A := fp_no) hB fp_no.base).2.2
  have hlo2 := h_cl.1
  obtain ⟨⟨hp1, hp2, hpo, hpp⟩, hprow, -⟩ := id h_pg
  have hne_7 : fp_dif x p := fp_neOO X.2.2.2.2.2 (i := 6) (j := 12) rfl rfl (by decide) h_o hpo
  have hne_8 : fp_dif x pv := fp_neOA X.2.2.2.2.2 (i := 6) (t := 2) rfl rfl h_o hprow
  have hne_9 : fp_dif x kw := fp_neOA X.2.2.2.2.2 (i := 6) (t := 6) rfl rfl h_o h_kr
  have hne_10 : fp_dif x l := fp_neOO X.2.2.2.2.2 (i := 6) (j := 8) rfl rfl (by decide) h_o h_ls.1
  have hne_11 : fp_dif p pv := fp_neOA X.2.2.2.2.2 (i := 12) (t := 2) rfl rfl hpo hprow
  have hne_12 : fp_dif p kw := fp_neOA X.2.2.2.2.2 (i := 12) (t := 6) rfl rfl hpo h_kr
  have hne_13 : fp_dif p l := fp_neOO X.2.2.2.2.2 (i := 12) (j := 8) rfl rfl (by decide) hpo h_ls.1
  have hne_14 : fp_dif pv kw := fp_neAA X.2.2.2.2.2 (t := 2) (t2 := 6) rfl rfl (by decide) hprow h_kr
  have hne_15 : fp_dif pv l := Ne.symm (fp_neOA X.2.2.2.2.2 (i := 8) (t := 2) rfl rfl h_ls.1 hprow)
  have hne_16 : fp_dif kw l := Ne.symm (fp_neOA X.2.2.2.2.2 (i := 8) (t := 6) rfl rfl h_ls.1 h_kr)
  refine lv_aload_n hx hb dX9_parse_0 rfl (lv_at hl 0 rfl) ?_
  refine r_callV (cells1 := 55) (slots1 := 800) X hR (c_X9_parseCommand G x kw p pv l n tx 0 false lo (fp_de G) (iI ((0 : Nat) : Int)) 0 0 (fun _ => 0) ([]) (by omega) rfl hn24 hlo hxb rfl (by omega) hkb) q1761 q1763 qs33 q124 q1764 ⟨rfl, pd_X9_parseCommand⟩ ⟨Nat.le_of_ble_eq_true rfl, Nat.le_of_ble_eq_true rfl⟩ rfl rfl (Nat.le_of_ble_eq_true rfl) (Nat.le_of_ble_eq_true rfl) h_o rfl rfl (Nat.le_of_ble_eq_true rfl) hl.1 dX9_parse_1 (hB.of hS hAb) ⟨h_o, h_pg, h_kr, h_ls, h_cl⟩ hS (fun q h => by have h2 : (g_s G).heap.size ≤ q ∧ (q = x ∨ q = l ∨ q = (fp_de G) ∨ q = p) := h; show ((g_s G).heap.size ≤ q ∧ (q = x ∨ q = l ∨ q = p)) ∨ s.heap.size ≤ q; omega) (fun v H_20 locs hp_17 hz_18 hk_19 hS => ?_)
  obtain ⟨fl2_21, pos2_22, ed2_23, mc2_24, cap2_25, b2_26, L2_27, c_28, rfl, hcm_29, hf2_30, hp2_31, hc2_32, hed2_33, hE_34, hE_35, hE_36⟩ := hp_17
  have hz_37 := hS.1
  have lt_38 := hE_34.lt
  have lt_39 := hE_35.1.lt
  have lt_40 := hE_35.2.2
  have lt_41 := hE_36.lt
  have lt_42 := hE_36.2.1.lt
  refine r_stk (st2 := []) rfl ?_
  have hcl_43 : fp_CMF G lo fl2_21 b2_26 L2_27 H_20 := ⟨by omega, fun h9 => (hc2_32 h9).2.2 rfl⟩
  have L4 : ∀ (k : Nat), k ≤ n + 1 → ∀ (f : Bool) (h : Nat) (ed2 : Nat) (mc2 : Int32) (cap2 : Nat) (b2 : Nat → Nat) (L : List (Nat × Int × Int × Int)) (H_44 : Heap) (locs : List Loc) (ls : Array Slot), lv_has ls 1 [(0, .ref (x))] → va_S (fA (fun q => (g_s G).heap.size ≤ q ∧ (q = x ∨ q = l ∨ q = p)) s.heap.size) s.heap H_44 locs → (fp_pi tx n P f k h L) → (ed2 = fp_de G ∨ s.heap.size ≤ ed2) → (H_20.size ≤ H_44.size) → fp_At G H_44 x (eO 6 [.ref (kw), .ref (p), .ref (l), .int (iI ((h : Nat) : Int)), .int (iI (bI (f)))]) → fp_HS G p pv n tx H_44 → fp_LE G l ed2 mc2 k cap2 b2 H_44 → fp_CMF G lo f b2 L H_44 → W pg (g_l G) en rR s mi ag bl mt cd H_44 locs (55 * k) (800 * k) qQ (F0 mi 4 ls []) := by
    refine lp_up (n + 1) ?_
    intro k hk4 ih4 f h ed2 mc2 cap2 b2 L H_44 locs ls hl hS hinv hed hz_45 hE_46 hE_47 hE_48 hE_49
    have hz_50 := hS.1
    have lt_51 := hE_46.lt
    have lt_52 := hE_47.lt
    have lt_53 := hE_47.2.1.lt
    have lt_54 := hE_48.1.lt
    have lt_55 := hE_48.2.2
    have hlS := hE_48
    have hoS := hE_46
    have hpgS := hE_47
    obtain ⟨⟨hP1, hP2, hPo, hPp⟩, hProw, hPz, hPb⟩ := id hpgS
    have hE_56 := fp_At.kept h_kr (fp_keptS (by omega) hS (fun h => (fun h => h.elim (Ne.symm (hne_9)) (fun h => h.elim (hne_16) (Ne.symm (hne_12)))) h.2))
    have hkS := hE_56
    have hne_57 : fp_dif x ed2 := fp_LE.neE hlS hed0 (by omega) (fun f9 h9 => fp_neOA X.2.2.2.2.2 (i := 6) (t := 4) rfl rfl hoS h9)
    have hne_58 : fp_dif p ed2 := fp_LE.neE hlS hed0 (by omega) (fun f9 h9 => fp_neOA X.2.2.2.2.2 (i := 12) (t := 4) rfl rfl hPo h9)
    have hne_59 : fp_dif pv ed2 := fp_LE.neE hlS hed0 (by omega) (fun f9 h9 => fp_neAA X.2.2.2.2.2 (t := 2) (t2 := 4) rfl rfl (by decide) hProw h9)
    have hne_60 : fp_dif kw ed2 := fp_LE.neE hlS hed0 (by omega) (fun f9 h9 => fp_neAA X.2.2.2.2.2 (t := 6) (t2 := 4) rfl rfl (by decide) hkS h9)
    have hne_61 : fp_dif l ed2 := fp_LE.neE hlS hed0 (by omega) (fun f9 h9 => fp_neOA X.2.2.2.2.2 (i := 8) (t := 4) rfl rfl hlS.1 h9)
    have hib := fp_pi.b hinv
    refine lv_aload_n hx hb dX9_parse_4 rfl (lv_at hl 0 rfl) ?_
    refine r_get X hE_46 rfl in_X9 4 (by decide) q1745 (Or.inl rfl) (v := .int (iI (bI (f)))) rfl dX9_parse_5 ?_
    refine r_ifneB (tgt := 37) hx hb dX9_parse_8 (by decide) (fun c8 => ?_) (fun c8 => ?_)
    · skip
      obtain rfl : f = true := c8
      refine lv_aload_n hx hb dX9_parse_37 rfl (lv_at hl 0 rfl) ?_
      refine lv_dup hx hb dX9_parse_38 rfl ?_
      refine r_get X hE_46 rfl in_X9 4 (by decide) q1745 (Or.inl rfl) (v := .int (iI (bI (true)))) rfl dX9_parse_39 ?_
      refine lv_aload_n hx hb dX9_parse_42 rfl (lv_at hl 0 rfl) ?_
      refine r_callV (cells1 := (55 * k)) (slots1 := (800 * k)) X hR (c_X9_isAtEnd G x kw p pv l n tx h true (by omega)) q1771 q1773 qs35 q124 q1774 ⟨rfl, pd_X9_isAtEnd⟩ ⟨Nat.le_of_ble_eq_true rfl, Nat.le_of_ble_eq_true rfl⟩ rfl rfl (by omega) (by omega) hE_46 rfl rfl (Nat.le_of_ble_eq_true rfl) hl.1 dX9_parse_43 (hB.of hS hAb) ⟨hE_46, hE_47⟩ hS (fun _ h => h.elim) (fun v H_65 locs hp_62 hz_63 hk_64 hS => ?_)
      obtain ⟨rfl, rfl⟩ := hp_62
      refine r_stk (st2 := [.int (iI (bI (decide (h = n)))), .int (iI (bI (true))), .ref (x)]) rfl ?_
      refine r_ifneB (tgt := 53) hx hb dX9_parse_46 (by decide) (fun c46 => ?_) (fun c46 => ?_)
      · skip
        have d46 := of_decide_eq_true c46
        refine lv_iconst (v := (iI ((0 : Nat) : Int))) hx hb dX9_parse_53 rfl ?_
        refine r_iorB (a := true) (b := false) hx hb dX9_parse_54 ?_
        refine r_set (y := .int (iI ((1 : Nat) : Int))) rfl ?_
        refine r_put X hE_46 hS (Or.inl ⟨by omega, Or.inl rfl⟩) rfl in_X9 tyX9_ok nmX9 4 (by decide) q1745 (Or.inl rfl) rfl rfl rfl (show 4 < 5 by decide) dX9_parse_55 (fun H_69 locs hE_66 hz_67 hq_68 hS => ?_)
        have hz_70 := hS.1
        refine lv_aload_n hx hb dX9_parse_58 rfl (lv_at hl 0 rfl) ?_
        refine r_get X hE_66 rfl in_X9 4 (by decide) q1745 (Or.inl rfl) (v := .int (iI ((1 : Nat) : Int))) rfl dX9_parse_59 ?_
        refine r_if_ne (tgt := 69) hx hb (by decide) dX9_parse_62 (by decide) (fun c62 => ?_) (fun c62 => ?_)
        · skip
          refine lv_iconst (v := (iI ((0 : Nat) : Int))) hx hb dX9_parse_69 rfl ?_
          refine r_zret hx hb hr hlk hQ hS (by omega) (by omega) dX9_parse_70 rfl ?_
          have hE_72 := fp_LE.mv hE_48 (hq_68 _ (Ne.symm (hne_10))) (hq_68 _ (Ne.symm (hne_57)))
          exact ⟨ed2, mc2, k, cap2, b2, (congrArg (fun q : Bool => some (Value.int (iI (bI q)))) (show (false : Bool) = !P.2.1 from by rw [hinv.fail]; rfl)), (fun h9 => by rw [hinv.fail] at h9; cases h9), hed, (by rw [hinv.fail]; exact hE_66), hE_72⟩
        · exact absurd c62 (by omega)
      · skip
        have d46 := of_decide_eq_false c46
        refine lv_iconst (v := (iI ((1 : Nat) : Int))) hx hb dX9_parse_49 rfl ?_
        refine lv_goto (tgt := 54) hx hb dX9_parse_50 (by decide) ?_
        refine r_iorB (a := true) (b := true) hx hb dX9_parse_54 ?_
        refine r_set (y := .int (iI ((1 : Nat) : Int))) rfl ?_
        refine r_put X hE_46 hS (Or.inl ⟨by omega, Or.inl rfl⟩) rfl in_X9 tyX9_ok nmX9 4 (by decide) q1745 (Or.inl rfl) rfl rfl rfl (show 4 < 5 by decide) dX9_parse_55 (fun H_76 locs hE_73 hz_74 hq_75 hS => ?_)
        have hz_77 := hS.1
        refine lv_aload_n hx hb dX9_parse_58 rfl (lv_at hl 0 rfl) ?_
        refine r_get X hE_73 rfl in_X9 4 (by decide) q1745 (Or.inl rfl) (v := .int (iI ((1 : Nat) : Int))) rfl dX9_parse_59 ?_
        refine r_if_ne (tgt := 69) hx hb (by decide) dX9_parse_62 (by decide) (fun c62 => ?_) (fun c62 => ?_)
        · skip
          refine lv_iconst (v := (iI ((0 : Nat) : Int))) hx hb dX9_parse_69 rfl ?_
          refine r_zret hx hb hr hlk hQ hS (by omega) (by omega) dX9_parse_70 rfl ?_
          have hE_79 := fp_LE.mv hE_48 (hq_75 _ (Ne.symm (hne_10))) (hq_75 _ (Ne.symm (hne_57)))
          exact ⟨ed2, mc2, k, cap2, b2, (congrArg (fun q : Bool => some (Value.int (iI (bI q)))) (show (false : Bool) = !P.2.1 from by rw [hinv.fail]; rfl)), (fun h9 => by rw [hinv.fail] at h9; cases h9), hed, (by rw [hinv.fail]; exact hE_73), hE_79⟩
        · exact absurd c62 (by omega)
    · skip
      obtain rfl : f = false := c8
      have hkb2 := hib.2 rfl
      refine lv_aload_n hx hb dX9_parse_11 rfl (lv_at hl 0 rfl) ?_
      refine lv_bipush (v := (iI ((59 : Nat) : Int))) hx hb dX9_parse_12 rfl ?_
      refine r_callV (cells1 := (55 * k)) (slots1 := (800 * k)) X hR (c_X9_isNext G x kw p pv l n tx h false 59 (by omega) (by omega)) q1855 q1857 qs40 q124 q1858 ⟨rfl, pd_X9_isNext⟩ ⟨Nat.le_of_ble_eq_true rfl, Nat.le_of_ble_eq_true rfl⟩ rfl rfl (by omega) (by omega) hE_46 rfl rfl (Nat.le_of_ble_eq_true rfl) hl.1 dX9_parse_14 (hB.of hS hAb) ⟨hE_46, hE_47⟩ hS (fun _ h => h.elim) (fun v H_83 locs hp_80 hz_81 hk_82 hS => ?_)
      obtain ⟨rfl, rfl⟩ := hp_80
      refine r_stk (st2 := [.int (iI (bI (decide (fp_sg tx n h = ((59 : Nat) : Int)))))]) rfl ?_
      refine r_ifeqB (tgt := 37) hx hb dX9_parse_17 (by decide) (fun c17 => ?_) (fun c17 => ?_)
      · skip
        have h59 : ¬ fp_sg tx n h = 59 := of_decide_eq_false c17
        refine lv_aload_n hx hb dX9_parse_37 rfl (lv_at hl 0 rfl) ?_
        refine lv_dup hx hb dX9_parse_38 rfl ?_
        refine r_get X hE_46 rfl in_X9 4 (by decide) q1745 (Or.inl rfl) (v := .int (iI (bI (false)))) rfl dX9_parse_39 ?_
        refine lv_aload_n hx hb dX9_parse_42 rfl (lv_at hl 0 rfl) ?_
        refine r_callV (cells1 := (55 * k)) (slots1 := (800 * k)) X hR (c_X9_isAtEnd G x kw p pv l n tx h false (by omega)) q1771 q1773 qs35 q124 q1774 ⟨rfl, pd_X9_isAtEnd⟩ ⟨Nat.le_of_ble_eq_true rfl, Nat.le_of_ble_eq_true rfl⟩ rfl rfl (by omega) (by omega) hE_46 rfl rfl (Nat.le_of_ble_eq_true rfl) hl.1 dX9_parse_43 (hB.of hS hAb) ⟨hE_46, hE_47⟩ hS (fun _ h => h.elim) (fun v H_87 locs hp_84 hz_85 hk_86 hS => ?_)
        obtain ⟨rfl, rfl⟩ := hp_84
        refine r_stk (st2 := [.int (iI (bI (decide (h = n)))), .int (iI (bI (false))), .ref (x)]) rfl ?_
        refine r_ifneB (tgt := 53) hx hb dX9_parse_46 (by decide) (fun c46 => ?_) (fun c46 => ?_)
        · skip
          have d46 := of_decide_eq_true c46
          refine lv_iconst (v := (iI ((0 : Nat) : Int))) hx hb dX9_parse_53 rfl ?_
          refine r_iorB (a := false) (b := false) hx hb dX9_parse_54 ?_
          refine r_set (y := .int (iI ((0 : Nat) : Int))) rfl ?_
          refine r_put X hE_46 hS (Or.inl ⟨by omega, Or.inl rfl⟩) rfl in_X9 tyX9_ok nmX9 4 (by decide) q1745 (Or.inl rfl) rfl rfl rfl (show 4 < 5 by decide) dX9_parse_55 (fun H_91 locs hE_88 hz_89 hq_90 hS => ?_)
          have hz_92 := hS.1
          refine lv_aload_n hx hb dX9_parse_58 rfl (lv_at hl 0 rfl) ?_
          refine r_get X hE_88 rfl in_X9 4 (by decide) q1745 (Or.inl rfl) (v := .int (iI ((0 : Nat) : Int))) rfl dX9_parse_59 ?_
          refine r_if_ne (tgt := 69) hx hb (by decide) dX9_parse_62 (by decide) (fun c62 => ?_) (fun c62 => ?_)
          · exact absurd c62 (by omega)
          · skip
            refine lv_iconst (v := (iI ((1 : Nat) : Int))) hx hb dX9_parse_65 rfl ?_
            refine lv_goto (tgt := 70) hx hb dX9_parse_66 (by decide) ?_
            refine r_zret hx hb hr hlk hQ hS (by omega) (by omega) dX9_parse_70 rfl ?_
            have hE_94 := fp_LE.mv hE_48 (hq_90 _ (Ne.symm (hne_10))) (hq_90 _ (Ne.symm (hne_57)))
            have hE_96 := fp_CMF.keep1 X.2.2.2.2.2 hE_49 (Nat.le_of_eq hz_89.symm) hq_90 (Or.inr (Or.inl ⟨6, _, Or.inl rfl, hoS⟩))
            exact ⟨ed2, mc2, k, cap2, b2, (congrArg (fun q : Bool => some (Value.int (iI (bI q)))) (show (true : Bool) = !P.2.1 from by rw [hinv.fin (by omega)]; rfl)), (fun _ => ⟨by rw [hinv.list (by omega)]; exact hinv.len, by rw [hinv.list (by omega)]; exact hE_96⟩), hed, (by rw [hinv.fin (by omega)]; exact hE_88), hE_94⟩
        · skip
          have d46 := of_decide_eq_false c46
          refine lv_iconst (v := (iI ((1 : Nat) : Int))) hx hb dX9_parse_49 rfl ?_
          refine lv_goto (tgt := 54) hx hb dX9_parse_50 (by decide) ?_
          refine r_iorB (a := false) (b := true) hx hb dX9_parse_54 ?_
          refine r_set (y := .int (iI ((1 : Nat) : Int))) rfl ?_
          refine r_put X hE_46 hS (Or.inl ⟨by omega, Or.inl rfl⟩) rfl in_X9 tyX9_ok nmX9 4 (by decide) q1745 (Or.inl rfl) rfl rfl rfl (show 4 < 5 by decide) dX9_parse_55 (fun H_100 locs hE_97 hz_98 hq_99 hS => ?_)
          have hz_101 := hS.1
          refine lv_aload_n hx hb dX9_parse_58 rfl (lv_at hl 0 rfl) ?_
          refine r_get X hE_97 rfl in_X9 4 (by decide) q1745 (Or.inl rfl) (v := .int (iI ((1 : Nat) : Int))) rfl dX9_parse_59 ?_
          refine r_if_ne (tgt := 69) hx hb (by decide) dX9_parse_62 (by decide) (fun c62 => ?_) (fun c62 => ?_)
          · skip
            refine lv_iconst (v := (iI ((0 : Nat) : Int))) hx hb dX9_parse_69 rfl ?_
            refine r_zret hx hb hr hlk hQ hS (by omega) (by omega) dX9_parse_70 rfl ?_
            have hE_103 := fp_LE.mv hE_48 (hq_99 _ (Ne.symm (hne_10))) (hq_99 _ (Ne.symm (hne_57)))
            exact ⟨ed2, mc2, k, cap2, b2, (congrArg (fun q : Bool => some (Value.int (iI (bI q)))) (show (false : Bool) = !P.2.1 from by rw [hinv.bad h59 (by omega)]; rfl)), (fun h9 => by rw [hinv.bad h59 (by omega)] at h9; cases h9), hed, (by rw [hinv.bad h59 (by omega)]; exact hE_97), hE_103⟩
          · exact absurd c62 (by omega)
      · skip
        have h59 : fp_sg tx n h = 59 := of_decide_eq_true c17
        have hlt := fp_sg_lt h59 (by omega)
        refine lv_aload_n hx hb dX9_parse_20 rfl (lv_at hl 0 rfl) ?_
        refine lv_dup hx hb dX9_parse_21 rfl ?_
        refine r_get X hE_46 rfl in_X9 3 (by decide) q1743 (Or.inl rfl) (v := .int (iI ((h : Nat) : Int))) rfl dX9_parse_22 ?_
        refine lv_iconst (v := (iI ((1 : Nat) : Int))) hx hb dX9_parse_25 rfl ?_
        refine r_iaddN hx hb dX9_parse_26 ?_
        refine r_put X hE_46 hS (Or.inl ⟨by omega, Or.inl rfl⟩) rfl in_X9 tyX9_ok nmX9 3 (by decide) q1743 (Or.inl rfl) rfl rfl rfl (show 3 < 5 by decide) dX9_parse_27 (fun H_107 locs hE_104 hz_105 hq_106 hS => ?_)
        have hz_108 := hS.1
        refine lv_aload_n hx hb dX9_parse_30 rfl (lv_at hl 0 rfl) ?_
        have hE_110 := fp_HS.mv hE_47 (hq_106 _ (Ne.symm (hne_7))) (hq_106 _ (Ne.symm (hne_8)))
        have hE_111 := fp_At.kept h_kr (fp_keptS (by omega) hS (fun h => (fun h => h.elim (Ne.symm (hne_9)) (fun h => h.elim (hne_16) (Ne.symm (hne_12)))) h.2))
        have hE_113 := fp_LE.mv hE_48 (hq_106 _ (Ne.symm (hne_10))) (hq_106 _ (Ne.symm (hne_57)))
        have hE_115 := fp_CMF.keep1 X.2.2.2.2.2 hE_49 (Nat.le_of_eq hz_105.symm) hq_106 (Or.inr (Or.inl ⟨6, _, Or.inl rfl, hoS⟩))
        refine r_callV (cells1 := (55 * k + 55)) (slots1 := (800 * k + 800)) X hR (c_X9_parseCommand G x kw p pv l n tx (h + 1) false lo ed2 mc2 k cap2 b2 L (by omega) rfl hn24 hlo hxb (hinv.len) (by omega) hkb) q1761 q1763 qs33 q124 q1764 ⟨rfl, pd_X9_parseCommand⟩ ⟨Nat.le_of_ble_eq_true rfl, Nat.le_of_ble_eq_true rfl⟩ rfl rfl (by omega) (by omega) hE_104 rfl rfl (Nat.le_of_ble_eq_true rfl) hl.1 dX9_parse_31 (hB.of hS hAb) ⟨hE_104, hE_110, hE_111, hE_113, hE_115⟩ hS (fun q h => by have h2 : (g_s G).heap.size ≤ q ∧ (q = x ∨ q = l ∨ q = ed2 ∨ q = p) := h; show ((g_s G).heap.size ≤ q ∧ (q = x ∨ q = l ∨ q = p)) ∨ s.heap.size ≤ q; omega) (fun v H_119 locs hp_116 hz_117 hk_118 hS => ?_)
        obtain ⟨fl2_120, pos2_121, ed2_122, mc2_123, cap2_124, b2_125, L2_126, c_127, rfl, hcm_128, hf2_129, hp2_130, hc2_131, hed2_132, hE_133, hE_134, hE_135⟩ := hp_116
        have hz_136 := hS.1
        have lt_137 := hE_133.lt
        have lt_138 := hE_134.1.lt
        have lt_139 := hE_134.2.2
        have lt_140 := hE_135.lt
        have lt_141 := hE_135.2.1.lt
        refine r_stk (st2 := []) rfl ?_
        have hcl_142 : fp_CMF G lo fl2_120 b2_125 L2_126 H_119 := ⟨by omega, fun h9 => (hc2_131 h9).2.2 rfl⟩
        refine lv_goto (tgt := 4) hx hb dX9_parse_34 (by decide) ?_
        refine W.widen (k := 55 * (k + 1)) (n := 800 * (k + 1)) (by omega) (by omega) ?_
        exact ih4 (by omega) fl2_120 pos2_121 ed2_122 mc2_123 cap2_124 b2_125 L2_126 H_119 locs ls (lv_sub hl [0] rfl) hS (hinv.next hpg.1 h59 hlt hcm_128 hf2_129 hp2_130 (fun h9 => (hc2_131 h9).1)) (by have := hed2_132; omega) (by omega) hE_133 hE_135 hE_134 hcl_142
  refine W.widen (k := 55 * 1) (n := 800 * 1) (by omega) (by omega) ?_
  exact L4 1 (by omega) fl2_21 pos2_22 ed2_23 mc2_24 cap2_25 b2_26 L2_27 H_20 locs ls (lv_sub hl [0] rfl) hS (fp_pi.first hP hpg.1 hcm_29 hf2_30 hp2_31 (fun h9 => (hc2_32 h9).1)) (by have := hed2_33; omega) (Nat.le_refl _) hE_34 hE_36 hE_35 hcl_43
set_option maxHeartbeats 4000000 in
theorem c_X9_init (G : fp_G) (x : Nat) (p : Nat) (hxb : (g_s G).heap.size ≤ x) : fp_M G yX9_init cX9_init 2 none 5 90 2 10 [.ref (x), .ref (p)] (fun H => fp_At G H x (eO 6 [.null, .null, .null, .int (iI ((0 : Nat) : Int)), .int (iI ((0 : Nat) : Int))])) (fun q => (g_s G).heap.size ≤ q ∧ (q = x)) (fun H v H1 => ∃ (kw : Nat), ∃ (l : Nat), v = none ∧ (H.size ≤ kw ∧ H.size ≤ l) ∧ fp_At G H1 x (eO 6 [.ref (kw), .ref (p), .ref (l), .int (iI ((0 : Nat) : Int)), .int (iI (bI (false)))]) ∧ fp_At G H1 kw (eQ G 6 7 (fun i => some (fp_kq G i))) ∧ fp_LE G l (fp_de G) (iI ((0 : Nat) : Int)) 0 0 (fun _ => 0) H1) := by
  refine fp_M.intro (by decide) (Nat.le_of_ble_eq_true rfl) ?_
  intro pg en s mi ag bl mt cd rR qQ ls X hx hb hr hlk hnm hR hQ hB hM hl
  have hS : va_S (fA (fun q => (g_s G).heap.size ≤ q ∧ (q = x)) s.heap.size) s.heap s.heap [] := va_S.rf
  generalize ([] : List Loc) = locs at hS ⊢
  have hb0 := hB.1
  have hAb : ∀ q, (fun q => (g_s G).heap.size ≤ q ∧ (q = x)) q → (g_s G).heap.size ≤ q := fun q h => h.1
  have h_o := hM
  have hsz0 := hS.1
  have lt_1 := h_o.lt
  have hed0 := (X.2.2.2.2.2.deT (A := fp_no) hB fp_no.base).2.2
  refine lv_aload_n hx hb dX9_init_0 rfl (lv_at hl 0 rfl) ?_
  refine r_objInit X hR q1727 q132 q133 hl.1 (by decide) (Nat.le_of_ble_eq_true rfl) dX9_init_1 ?_
  refine lv_aload_n hx hb dX9_init_4 rfl (lv_at hl 0 rfl) ?_
  refine lv_bipush (v := (iI ((7 : Nat) : Int))) hx hb dX9_init_5 rfl ?_
  refine r_anew (t := 6) (n := 7) X hR hS q1728 q1729 rfl rfl (by decide) (Nat.le_of_ble_eq_true rfl) (Nat.le_of_ble_eq_true rfl) dX9_init_7 (fun kwn H_2 hq_6 hE_3 hX_4 hz_5 hS => ?_)
  have hz_7 := hS.1
  have lt_8 := hE_3.lt
  refine lv_dup hx hb dX9_init_10 rfl ?_
  refine lv_iconst (v := (iI ((0 : Nat) : Int))) hx hb dX9_init_11 rfl ?_
  refine r_ldcS X q1730 (X.2.2.2.2.2.kst hB fp_kP0).2.1 dX9_init_12 ?_
  have hk_9 := (X.2.2.2.2.2.kst (hB.of hS hAb) fp_kP0).1
  have lt_10 := hk_9.1.2
  have lt_11 := hk_9.2.2.1
  refine r_aastY X rfl hE_3 hS (Or.inr (by omega)) (fp_SO.any X (hk_9.1) hB hAb hS) (i0 := 0) rfl (by decide) (by decide) dX9_init_14 (fun H_15 locs hE_12 hz_13 hq_14 hS => ?_)
  have hz_16 := hS.1
  refine lv_dup hx hb dX9_init_15 rfl ?_
  refine lv_iconst (v := (iI ((1 : Nat) : Int))) hx hb dX9_init_16 rfl ?_
  refine r_ldcS X q1731 (X.2.2.2.2.2.kst hB fp_kP1).2.1 dX9_init_17 ?_
  have hk_17 := (X.2.2.2.2.2.kst (hB.of hS hAb) fp_kP1).1
  have lt_18 := hk_17.1.2
  have lt_19 := hk_17.2.2.1
  refine r_aastY X rfl hE_12 hS (Or.inr (by omega)) (fp_SO.any X (hk_17.1) hB hAb hS) (i0 := 1) rfl (by decide) (by decide) dX9_init_19 (fun H_23 locs hE_20 hz_21 hq_22 hS => ?_)
  have hz_24 := hS.1
  refine lv_dup hx hb dX9_init_20 rfl ?_
  refine lv_iconst (v := (iI ((2 : Nat) : Int))) hx hb dX9_init_21 rfl ?_
  refine r_ldcS X q1732 (X.2.2.2.2.2.kst hB fp_kP2).2.1 dX9_init_22 ?_
  have hk_25 := (X.2.2.2.2.2.kst (hB.of hS hAb) fp_kP2).1
  have lt_26 := hk_25.1.2
  have lt_27 := hk_25.2.2.1
  refine r_aastY X rfl hE_20 hS (Or.inr (by omega)) (fp_SO.any X (hk_25.1) hB hAb hS) (i0 := 2) rfl (by decide) (by decide) dX9_init_24 (fun H_31 locs hE_28 hz_29 hq_30 hS => ?_)
  have hz_32 := hS.1
  refine lv_dup hx hb dX9_init_25 rfl ?_
  refine lv_iconst (v := (iI ((3 : Nat) : Int))) hx hb dX9_init_26 rfl ?_
  refine r_ldcS X q1733 (X.2.2.2.2.2.kst hB fp_kP3).2.1 dX9_init_27 ?_
  have hk_33 := (X.2.2.2.2.2.kst (hB.of hS hAb) fp_kP3).1
  have lt_34 := hk_33.1.2
  have lt_35 := hk_33.2.2.1
  refine r_aastY X rfl hE_28 hS (Or.inr (by omega)) (fp_SO.any X (hk_33.1) hB hAb hS) (i0 := 3) rfl (by decide) (by decide) dX9_init_29 (fun H_39 locs hE_36 hz_37 hq_38 hS => ?_)
  have hz_40 := hS.1
  refine lv_dup hx hb dX9_init_30 rfl ?_
  refine lv_iconst (v := (iI ((4 : Nat) : Int))) hx hb dX9_init_31 rfl ?_
  refine r_ldcS X q1734 (X.2.2.2.2.2.kst hB fp_kP4).2.1 dX9_init_32 ?_
  have hk_41 := (X.2.2.2.2.2.kst (hB.of hS hAb) fp_kP4).1
  have lt_42 := hk_41.1.2
  have lt_43 := hk_41.2.2.1
  refine r_aastY X rfl hE_36 hS (Or.inr (by omega)) (fp_SO.any X (hk_41.1) hB hAb hS) (i0 := 4) rfl (by decide) (by decide) dX9_init_34 (fun H_47 locs hE_44 hz_45 hq_46 hS => ?_)
  have hz_48 := hS.1
  refine lv_dup hx hb dX9_init_35 rfl ?_
  refine lv_iconst (v := (iI ((5 : Nat) : Int))) hx hb dX9_init_36 rfl ?_
  refine r_ldcS X q1735 (X.2.2.2.2.2.kst hB fp_kP5).2.1 dX9_init_37 ?_
  have hk_49 := (X.2.2.2.2.2.kst (hB.of hS hAb) fp_kP5).1
  have lt_50 := hk_49.1.2
  have lt_51 := hk_49.2.2.1
  refine r_aastY X rfl hE_44 hS (Or.inr (by omega)) (fp_SO.any X (hk_49.1) hB hAb hS) (i0 := 5) rfl (by decide) (by decide) dX9_init_39 (fun H_55 locs hE_52 hz_53 hq_54 hS => ?_)
  have hz_56 := hS.1
  refine lv_dup hx hb dX9_init_40 rfl ?_
  refine lv_bipush (v := (iI ((6 : Nat) : Int))) hx hb dX9_init_41 rfl ?_
  refine r_ldcS X q1736 (X.2.2.2.2.2.kst hB fp_kP6).2.1 dX9_init_43 ?_
  have hk_57 := (X.2.2.2.2.2.kst (hB.of hS hAb) fp_kP6).1
  have lt_58 := hk_57.1.2
  have lt_59 := hk_57.2.2.1
  refine r_aastY X rfl hE_52 hS (Or.inr (by omega)) (fp_SO.any X (hk_57.1) hB hAb hS) (i0 := 6) rfl (by decide) (by decide) dX9_init_45 (fun H_63 locs hE_60 hz_61 hq_62 hS => ?_)
  have hz_64 := hS.1
  have hE_66 := fp_At.kept h_o (hX_4.2 _ (by omega))
  have hE_67 := fp_At.kept hE_66 (hq_14 _ (by omega))
  have hE_68 := fp_At.kept hE_67 (hq_22 _ (by omega))
  have hE_69 := fp_At.kept hE_68 (hq_30 _ (by omega))
  have hE_70 := fp_At.kept hE_69 (hq_38 _ (by omega))
  have hE_71 := fp_At.kept hE_70 (hq_46 _ (by omega))
  have hE_72 := fp_At.kept hE_71 (hq_54 _ (by omega))
  have hE_73 := fp_At.kept hE_72 (hq_62 _ (by omega))
  refine r_putF X hE_73 hS (Or.inl ⟨by omega, rfl⟩) rfl in_X9 tyX9_ok nmX9 0 (by decide) q1739 (Or.inl rfl) rfl hnm rfl rfl rfl (show 0 < 5 by decide) dX9_init_46 (fun H_77 locs hE_74 hz_75 hq_76 hS => ?_)
  have hz_78 := hS.1
  refine lv_aload_n hx hb dX9_init_49 rfl (lv_at hl 0 rfl) ?_
  refine r_new (ci := 8) (fs := [.int (iI ((0 : Nat) : Int)), .null, .int (iI ((0 : Nat) : Int))]) X hR hS rfl in_J2 tyJ2_ok q1737 q141 q92 (by intro j hj; rcases (show j = 0 ∨ j = 1 ∨ j = 2 by omega) with rfl | rfl | rfl <;> rfl) (Nat.le_of_ble_eq_true rfl) (Nat.le_of_ble_eq_true rfl) dX9_init_50 (fun ln H_79 hq_83 hE_80 hX_81 hz_82 hS => ?_)
  have hz_84 := hS.1
  have lt_85 := hE_80.lt
  refine lv_dup hx hb dX9_init_53 rfl ?_
  refine r_callI (cells1 := 2) (slots1 := 10) X hR (c_J2_init G ln (by omega)) q1738 q143 q92 q144 rfl ⟨by decide, by decide, rfl⟩ ⟨Nat.le_of_ble_eq_true rfl, Nat.le_of_ble_eq_true rfl⟩ rfl rfl (Nat.le_of_ble_eq_true rfl) (Nat.le_of_ble_eq_true rfl) rfl (Nat.le_of_ble_eq_true rfl) hl.1 dX9_init_54 (hB.of hS hAb) hE_80 hS (fun q h => by have h2 : (g_s G).heap.size ≤ q ∧ (q = ln) := h; show ((g_s G).heap.size ≤ q ∧ (q = x)) ∨ s.heap.size ≤ q; omega) (fun v H_89 locs hp_86 hz_87 hk_88 hS => ?_)
  obtain ⟨rfl, hE_90⟩ := hp_86
  have hz_91 := hS.1
  have lt_92 := hE_90.1.lt
  have lt_93 := hE_90.2.2
  refine r_stk (st2 := [.ref (ln), .ref (x)]) rfl ?_
  have hE_95 := fp_At.kept hE_74 (hX_81.2 _ (by omega))
  have hE_96 := fp_At.kept hE_95 (hk_88 _ (by omega) (by omega))
  refine r_putF X hE_96 hS (Or.inl ⟨by omega, rfl⟩) rfl in_X9 tyX9_ok nmX9 2 (by decide) q1741 (Or.inl rfl) rfl hnm rfl rfl rfl (show 2 < 5 by decide) dX9_init_57 (fun H_100 locs hE_97 hz_98 hq_99 hS => ?_)
  have hz_101 := hS.1
  refine lv_aload_n hx hb dX9_init_60 rfl (lv_at hl 0 rfl) ?_
  refine lv_aload_n hx hb dX9_init_61 rfl (lv_at hl 1 rfl) ?_
  refine r_putF X hE_97 hS (Or.inl ⟨by omega, rfl⟩) rfl in_X9 tyX9_ok nmX9 1 (by decide) q1740 (Or.inl rfl) rfl hnm rfl rfl rfl (show 1 < 5 by decide) dX9_init_62 (fun H_105 locs hE_102 hz_103 hq_104 hS => ?_)
  have hz_106 := hS.1
  refine r_vret hx hb hr hlk hQ hS (Nat.le_of_ble_eq_true rfl) (Nat.le_of_ble_eq_true rfl) dX9_init_65 ?_
  have hE_108 := fp_At.kept hE_60 (hq_76 _ (by omega))
  have hE_109 := fp_At.kept hE_108 (hX_81.2 _ (by omega))
  have hE_110 := fp_At.kept hE_109 (hk_88 _ (by omega) (by omega))
  have hE_111 := fp_At.kept hE_110 (hq_99 _ (by omega))
  have hE_112 := fp_At.kept hE_111 (hq_104 _ (by omega))
  have hE_114 := fp_LE.mv hE_90 (hq_99 _ (by omega)) (hq_99 _ (by omega))
  have hE_115 := fp_LE.mv hE_114 (hq_104 _ (by omega)) (hq_104 _ (by omega))
  exact ⟨kwn, ln, rfl, (by omega), hE_102, (fp_At.cQ hE_112 (fun j hj => by rcases (show j = 0 ∨ j = 1 ∨ j = 2 ∨ j = 3 ∨ j = 4 ∨ j = 5 ∨ j = 6 by omega) with rfl | rfl | rfl | rfl | rfl | rfl | rfl <;> rfl)), hE_115⟩
