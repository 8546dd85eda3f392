/-! THE MODEL: a word -/
set_option maxHeartbeats 4000000 in
theorem c_X4_word (G : fp_G) (ad : Nat → Nat) (sc : Nat → Int) (ar : Nat → Nat → Int) (hA0 : fp_MA G ad) (tx : Nat → Nat) (tn : Nat) (h : Nat) (hh : sc 18 = ((h : Nat) : Int)) (ht : sc 19 = ((tn : Nat) : Int)) (h60 : tn ≤ 60) (hle : h ≤ tn) (htx : ∀ i, i < tn → ar 12 i = (tx i : Int)) (htb : ∀ i, i < tn → tx i < 256) (hwd : ∀ i, i < 39 → ar 15 i = (fp_wd i : Int)) (hwa : ∀ i, i < 8 → ar 16 i = (fp_wa i : Int)) (hw0 : sc 21 = 0) : fp_M G yX4_word cX4_word 5 (some .int) 2 32 0 0 [.ref (ad 0)] (fp_ME G ad sc ar) (fp_ma ad) (fun _ v H => (∃ (w : Nat), ∃ (f : Nat → Int), v = some (.int (iI ((w : Nat) : Int))) ∧ fp_ME G ad (va_up (va_up sc 18 (((h + fp_wl w : Nat) : Int))) 21 (((0 : Nat) : Int))) (va_up ar 14 f) H ∧ (w < 7) ∧ (fp_wm tx tn h w (fp_wl w) = true) ∧ (h + fp_wl w ≤ tn)) ∨ (∃ (q : Nat), ∃ (f : Nat → Int), v = some (.int (iI (-1))) ∧ fp_ME G ad (va_up (va_up sc 18 (((h + q : Nat) : Int))) 21 (((1 : Nat) : Int))) (va_up ar 14 f) H ∧ (q = 0 ∨ ∃ w, w < 7 ∧ fp_wm tx tn h w q = true) ∧ (∀ w, w < 7 → fp_wm tx tn h w (q + 1) = false) ∧ (∀ w, w < 7 → fp_wm tx tn h w (fp_wl w) = false) ∧ (h + q ≤ tn))) := by
  refine fp_M.intro (by decide) (Nat.le_of_ble_eq_true rfl) ?_
  intro pg en s mi ag bl mt cd rR qQ ls X hx hb hr hlk hnm hR hQ hB hM hl
  have hS : va_S (fA (fp_ma ad) s.heap.size) s.heap s.heap [] := va_S.rf
  generalize ([] : List Loc) = locs at hS ⊢
  refine lv_iconst (v := (iI ((0 : Nat) : Int))) hx hb dX4_word_0 rfl ?_
  refine lv_istore_n (lv' := [(1, .int (iI ((0 : Nat) : Int))), (0, .ref (ad 0))]) hx hb dX4_word_1 rfl hl (by decide) rfl (fun ls hl => ?_)
  have L2 : ∀ (k : Nat), k ≤ 7 → ∀ (f : Nat → Int) (H : Heap) (locs : List Loc) (ls : Array Slot),(∀ j, j < k → f j = 1) → lv_has ls 5 [(0, .ref (ad 0)), (1, .int (iI ((k : Nat) : Int)))] → va_S (fA (fp_ma ad) s.heap.size) s.heap H locs → fp_ME G ad sc (va_up ar 14 f) H → W pg (g_l G) en rR s mi ag bl mt cd H locs 0 0 qQ (F0 mi 2 ls []) := by
    refine lp_up 7 ?_
    intro k hk2 ih2 f H locs ls hf1 hl hS hM
    refine lv_iload_n hx hb dX4_word_2 rfl (lv_at hl 1 rfl) ?_
    refine lv_bipush (v := (iI ((7 : Nat) : Int))) hx hb dX4_word_3 rfl ?_
    refine r_icmp_ge (tgt := 21) hx hb ⟨by omega, by omega⟩ (by decide) dX4_word_5 (by decide) (fun c5 => ?_) (fun c5 => ?_)
    · skip
      have hf : ∀ j, j < 7 → f j = bI (fp_wm tx tn h j 0) := fun j hj => hf1 j (by omega)
      refine lv_iconst (v := (iI ((0 : Nat) : Int))) hx hb dX4_word_21 rfl ?_
      refine lv_istore_n (lv' := [(1, .int (iI ((0 : Nat) : Int))), (0, .ref (ad 0))]) hx hb dX4_word_22 rfl hl (by decide) rfl (fun ls hl => ?_)
      refine lv_iconst (v := (iI (-1))) hx hb dX4_word_23 rfl ?_
      refine lv_istore_n (lv' := [(2, .int (iI (-1))), (1, .int (iI ((0 : Nat) : Int))), (0, .ref (ad 0))]) hx hb dX4_word_24 rfl hl (by decide) rfl (fun ls hl => ?_)
      have L25 : ∀ (m : Nat), m ≤ 8 → ∀ (f : Nat → Int) (is : Int) (wz : Int) (hp : Nat) (H : Heap) (locs : List Loc) (ls : Array Slot),(∀ j, j < 7 → f j = bI (fp_wm tx tn h j m)) → (fp_wst tx tn h m is wz hp) → lv_has ls 5 [(0, .ref (ad 0)), (1, .int (iI ((m : Nat) : Int))), (2, .int (iI (is)))] → va_S (fA (fp_ma ad) s.heap.size) s.heap H locs → fp_ME G ad (va_up (va_up sc 18 (((hp : Nat) : Int))) 21 ((wz))) (va_up ar 14 f) H → W pg (g_l G) en rR s mi ag bl mt cd H locs 0 0 qQ (F0 mi 25 ls []) := by
        refine lp_up 8 ?_
        intro m hk25 ih25 f is wz hp H locs ls hfm hws hl hS hM
        have hbd := hws.bd hle
        have hpl := hbd.2.2.2.2
        refine lv_iload_n hx hb dX4_word_25 rfl (lv_at hl 2 rfl) ?_
        refine r_if_ge (tgt := 222) hx hb ⟨by omega, by omega⟩ dX4_word_26 (by decide) (fun c26 => ?_) (fun c26 => ?_)
        · skip
          refine lv_iload_n hx hb dX4_word_222 rfl (lv_at hl 2 rfl) ?_
          refine r_iret hx hb hr hlk hQ hS (Nat.le_of_ble_eq_true rfl) (Nat.le_of_ble_eq_true rfl) dX4_word_223 ?_
          rcases hws with ⟨z1, -⟩ | ⟨w, z1, z2, z3, z4, z5, z6⟩ | ⟨z1, -⟩
          · omega
          · subst z2 z3 z4 z5
            exact Or.inl ⟨w, f, rfl, hM, z1, z6, hpl⟩
          · omega
        · skip
          refine lv_aload_n hx hb dX4_word_29 rfl (lv_at hl 0 rfl) ?_
          refine r_get X hM.1 rfl in_X4 21 (by decide) q2030 (Or.inl rfl) (v := .int (iI (wz))) rfl dX4_word_30 ?_
          refine r_if_ne (tgt := 222) hx hb ⟨by omega, by omega⟩ dX4_word_33 (by decide) (fun c33 => ?_) (fun c33 => ?_)
          · skip
            refine lv_iload_n hx hb dX4_word_222 rfl (lv_at hl 2 rfl) ?_
            refine r_iret hx hb hr hlk hQ hS (Nat.le_of_ble_eq_true rfl) (Nat.le_of_ble_eq_true rfl) dX4_word_223 ?_
            rcases hws with ⟨z1, z2, -⟩ | ⟨w, z1, z2, -⟩ | ⟨z1, z2, z3, z4, z5, z6, z7⟩
            · omega
            · omega
            · subst z1 z2 z4
              exact Or.inr ⟨m - 1, f, rfl, hM, z5, fun w hw => by rw [show m - 1 + 1 = m by omega]; exact z6 w hw, z7, hpl⟩
          · skip
            have hz0 : wz = 0 := by omega
            obtain ⟨hm7, rfl, hex, hnl⟩ := hws.run (by omega) hz0
            subst hz0
            refine lv_iconst (v := (iI ((0 : Nat) : Int))) hx hb dX4_word_36 rfl ?_
            refine lv_istore_n (lv' := [(3, .int (iI ((0 : Nat) : Int))), (0, .ref (ad 0)), (1, .int (iI ((m : Nat) : Int))), (2, .int (iI (is)))]) hx hb dX4_word_37 rfl hl (by decide) rfl (fun ls hl => ?_)
            refine lv_iconst (v := (iI ((0 : Nat) : Int))) hx hb dX4_word_38 rfl ?_
            refine lv_istore (lv' := [(4, .int (iI ((0 : Nat) : Int))), (3, .int (iI ((0 : Nat) : Int))), (0, .ref (ad 0)), (1, .int (iI ((m : Nat) : Int))), (2, .int (iI (is)))]) hx hb dX4_word_39 hl (by decide) rfl (fun ls hl => ?_)
            have L41 : ∀ (w : Nat), w ≤ 7 → ∀ (f : Nat → Int) (H : Heap) (locs : List Loc) (ls : Array Slot),(∀ j, j < 7 → f j = bI (if j < w then fp_wm tx tn h j (m + 1) else fp_wm tx tn h j m)) → lv_has ls 5 [(0, .ref (ad 0)), (1, .int (iI ((m : Nat) : Int))), (2, .int (iI (is))), (3, .int (iI (bI (fp_any (fun w => fp_wm tx tn h w (m + 1)) w)))), (4, .int (iI ((w : Nat) : Int)))] → va_S (fA (fp_ma ad) s.heap.size) s.heap H locs → fp_ME G ad (va_up (va_up sc 18 (((h + m : Nat) : Int))) 21 (((0 : Nat) : Int))) (va_up ar 14 f) H → W pg (g_l G) en rR s mi ag bl mt cd H locs 0 0 qQ (F0 mi 41 ls []) := by
              refine lp_up 7 ?_
              intro w hk41 ih41 f H locs ls hf hl hS hM
              have hwb : w < 7 → fp_wa w < fp_wa (w + 1) ∧ fp_wa (w + 1) ≤ 39 := fun hw => ⟨(fp_wa_b hw).1, (fp_wa_b hw).2.1⟩
              refine lv_iload hx hb dX4_word_41 (lv_at hl 4 rfl) ?_
              refine lv_bipush (v := (iI ((7 : Nat) : Int))) hx hb dX4_word_43 rfl ?_
              refine r_icmp_ge (tgt := 130) hx hb ⟨by omega, by omega⟩ (by decide) dX4_word_45 (by decide) (fun c45 => ?_) (fun c45 => ?_)
              · skip
                obtain rfl : w = 7 := by omega
                refine lv_aload_n hx hb dX4_word_130 rfl (lv_at hl 0 rfl) ?_
                refine lv_iload_n hx hb dX4_word_131 rfl (lv_at hl 3 rfl) ?_
                refine r_ifneB (tgt := 139) hx hb dX4_word_132 (by decide) (fun c132 => ?_) (fun c132 => ?_)
                · skip
                  refine lv_iconst (v := (iI ((0 : Nat) : Int))) hx hb dX4_word_139 rfl ?_
                  refine m_put X hM hS hA0 (k := 21) (sc2 := (va_up (va_up sc 18 (((h + m : Nat) : Int))) 21 (((0 : Nat) : Int)))) rfl (by decide) q2030 rfl rfl rfl dX4_word_140 rfl (fun H locs hM_1 hS => ?_)
                  refine lv_aload_n hx hb dX4_word_143 rfl (lv_at hl 0 rfl) ?_
                  refine lv_dup hx hb dX4_word_144 rfl ?_
                  refine r_get X hM_1.1 rfl in_X4 18 (by decide) q2027 (Or.inl rfl) (v := .int (iI ((h + m : Nat) : Int))) rfl dX4_word_145 ?_
                  refine lv_iload_n hx hb dX4_word_148 rfl (lv_at hl 3 rfl) ?_
                  refine r_ifeqB (tgt := 156) hx hb dX4_word_149 (by decide) (fun c149 => ?_) (fun c149 => ?_)
                  · skip
                    exact absurd (c132.symm.trans c149) (by decide)
                  · skip
                    refine lv_iconst (v := (iI ((1 : Nat) : Int))) hx hb dX4_word_152 rfl ?_
                    refine lv_goto (tgt := 157) hx hb dX4_word_153 (by decide) ?_
                    refine r_iaddN hx hb dX4_word_157 ?_
                    refine m_put X hM_1 hS hA0 (k := 18) (sc2 := (va_up (va_up sc 21 (((0 : Nat) : Int))) 18 ((((h + m) + 1 : Nat) : Int)))) rfl (by decide) q2027 rfl rfl rfl dX4_word_158 rfl (fun H locs hM_2 hS => ?_)
                    refine lv_iinc (v := (iI ((m + 1 : Nat) : Int))) (lv' := [(1, .int (iI ((m + 1 : Nat) : Int))), (0, .ref (ad 0)), (2, .int (iI (is))), (3, .int (iI (bI (fp_any (fun w => fp_wm tx tn h w (m + 1)) 7)))), (4, .int (iI ((7 : Nat) : Int)))]) hx hb dX4_word_161 hl (k := 1) rfl (iI_incN _ _) (by decide) rfl (fun ls hl => ?_)
                    refine lv_iconst (v := (iI ((0 : Nat) : Int))) hx hb dX4_word_164 rfl ?_
                    refine lv_istore (lv' := [(4, .int (iI ((0 : Nat) : Int))), (1, .int (iI ((m + 1 : Nat) : Int))), (0, .ref (ad 0)), (2, .int (iI (is))), (3, .int (iI (bI (fp_any (fun w => fp_wm tx tn h w (m + 1)) 7))))]) hx hb dX4_word_165 hl (by decide) rfl (fun ls hl => ?_)
                    have L167 : ∀ (w : Nat), w ≤ 7 → ∀ (locs : List Loc) (ls : Array Slot), lv_has ls 5 [(0, .ref (ad 0)), (1, .int (iI ((m + 1 : Nat) : Int))), (2, .int (iI (fp_wsl tx tn h (m + 1) w))), (3, .int (iI (bI (fp_any (fun w => fp_wm tx tn h w (m + 1)) 7)))), (4, .int (iI ((w : Nat) : Int)))] → va_S (fA (fp_ma ad) s.heap.size) s.heap H locs → W pg (g_l G) en rR s mi ag bl mt cd H locs 0 0 qQ (F0 mi 167 ls []) := by
                      refine lp_up 7 ?_
                      intro w hk167 ih167 locs ls hl hS
                      refine lv_iload hx hb dX4_word_167 (lv_at hl 4 rfl) ?_
                      refine lv_bipush (v := (iI ((7 : Nat) : Int))) hx hb dX4_word_169 rfl ?_
                      refine r_icmp_ge (tgt := 219) hx hb ⟨by omega, by omega⟩ (by decide) dX4_word_171 (by decide) (fun c171 => ?_) (fun c171 => ?_)
                      · skip
                        obtain rfl : w = 7 := by omega
                        refine lv_goto (tgt := 25) hx hb dX4_word_219 (by decide) ?_
                        exact ih25 (by omega) f (fp_wsl tx tn h (m + 1) 7) ((0 : Nat) : Int) ((h + m) + 1) H locs ls (fun j hj => (hf j hj).trans (by rw [if_pos (by omega)])) ((hws.step (by omega) rfl).1 c132) (lv_sub hl [0, 1, 2] rfl) hS hM_2
                      · skip
                        refine lv_aload_n hx hb dX4_word_174 rfl (lv_at hl 0 rfl) ?_
                        refine r_get X hM_2.1 rfl in_X4 14 (by decide) q2023 (Or.inl rfl) (v := .ref (ad 14)) rfl dX4_word_175 ?_
                        refine lv_iload hx hb dX4_word_178 (lv_at hl 4 rfl) ?_
                        refine r_ialdI X (hM_2.2 14 (by decide) (by decide)) (j := w) (n := 7) rfl (by omega) (by decide) dX4_word_180 ?_
                        refine r_set (y := .int (iI (bI (fp_wm tx tn h w (m + 1))))) (congrArg (fun q : Int => Value.int (iI q)) (show f w = _ from (hf w (by omega)).trans (by rw [if_pos (by omega)]))) ?_
                        refine lv_iconst (v := (iI ((1 : Nat) : Int))) hx hb dX4_word_181 rfl ?_
                        refine r_icmp_ne (tgt := 211) hx hb (bI_rg _) (by decide) dX4_word_182 (by decide) (fun c182 => ?_) (fun c182 => ?_)
                        · skip
                          have hwm : fp_wm tx tn h w (m + 1) = false := by cases e : fp_wm tx tn h w (m + 1); rfl; exact absurd (by rw [e]; rfl) c182
                          have hwb := fp_wa_b (w := w) (by omega)
                          refine lv_iload_n hx hb dX4_word_211 rfl (lv_at hl 2 rfl) ?_
                          refine lv_istore_n (lv' := [(2, .int (iI (fp_wsl tx tn h (m + 1) w))), (0, .ref (ad 0)), (1, .int (iI ((m + 1 : Nat) : Int))), (3, .int (iI (bI (fp_any (fun w => fp_wm tx tn h w (m + 1)) 7)))), (4, .int (iI ((w : Nat) : Int)))]) hx hb dX4_word_212 rfl hl (by decide) rfl (fun ls hl => ?_)
                          refine lv_iinc (v := (iI ((w + 1 : Nat) : Int))) (lv' := [(4, .int (iI ((w + 1 : Nat) : Int))), (2, .int (iI (fp_wsl tx tn h (m + 1) w))), (0, .ref (ad 0)), (1, .int (iI ((m + 1 : Nat) : Int))), (3, .int (iI (bI (fp_any (fun w => fp_wm tx tn h w (m + 1)) 7))))]) hx hb dX4_word_213 hl (k := 4) rfl (iI_incN _ _) (by decide) rfl (fun ls hl => ?_)
                          refine lv_goto (tgt := 167) hx hb dX4_word_216 (by decide) ?_
                          exact ih167 (by omega) locs ls (by rw [show Value.int (iI (fp_wsl tx tn h (m + 1) (w + 1))) = Value.int (iI (fp_wsl tx tn h (m + 1) w)) from congrArg (fun q : Int => Value.int (iI q)) (show (if _ then (w : Int) else _) = _ from if_neg (fun z => by rw [hwm] at z; cases z.1))]; exact lv_sub hl [2, 3, 1, 4, 0] rfl) hS
                        · skip
                          have hwm : fp_wm tx tn h w (m + 1) = true := by cases e : fp_wm tx tn h w (m + 1); rw [e] at c182; exact absurd c182 (by decide); rfl
                          have hwb := fp_wa_b (w := w) (by omega)
                          refine lv_aload_n hx hb dX4_word_185 rfl (lv_at hl 0 rfl) ?_
                          refine r_get X hM_2.1 rfl in_X4 16 (by decide) q2025 (Or.inl rfl) (v := .ref (ad 16)) rfl dX4_word_186 ?_
                          refine lv_iload hx hb dX4_word_189 (lv_at hl 4 rfl) ?_
                          refine r_ialdI X (hM_2.2 16 (by decide) (by decide)) (j := w) (n := 8) rfl (by omega) (by decide) dX4_word_191 ?_
                          refine r_set (y := .int (iI ((fp_wa w : Nat) : Int))) (congrArg (fun q : Int => Value.int (iI q)) (hwa w (by omega))) ?_
                          refine lv_iload_n hx hb dX4_word_192 rfl (lv_at hl 1 rfl) ?_
                          refine r_iaddN hx hb dX4_word_193 ?_
                          refine lv_aload_n hx hb dX4_word_194 rfl (lv_at hl 0 rfl) ?_
                          refine r_get X hM_2.1 rfl in_X4 16 (by decide) q2025 (Or.inl rfl) (v := .ref (ad 16)) rfl dX4_word_195 ?_
                          refine lv_iload hx hb dX4_word_198 (lv_at hl 4 rfl) ?_
                          refine lv_iconst (v := (iI ((1 : Nat) : Int))) hx hb dX4_word_200 rfl ?_
                          refine r_iaddN hx hb dX4_word_201 ?_
                          refine r_ialdI X (hM_2.2 16 (by decide) (by decide)) (j := w + 1) (n := 8) rfl (by omega) (by decide) dX4_word_202 ?_
                          refine r_set (y := .int (iI ((fp_wa (w + 1) : Nat) : Int))) (congrArg (fun q : Int => Value.int (iI q)) (hwa (w + 1) (by omega))) ?_
                          refine r_icmp_ne (tgt := 211) hx hb ⟨by omega, by omega⟩ ⟨by omega, by omega⟩ dX4_word_203 (by decide) (fun c203 => ?_) (fun c203 => ?_)
                          · skip
                            refine lv_iload_n hx hb dX4_word_211 rfl (lv_at hl 2 rfl) ?_
                            refine lv_istore_n (lv' := [(2, .int (iI (fp_wsl tx tn h (m + 1) w))), (0, .ref (ad 0)), (1, .int (iI ((m + 1 : Nat) : Int))), (3, .int (iI (bI (fp_any (fun w => fp_wm tx tn h w (m + 1)) 7)))), (4, .int (iI ((w : Nat) : Int)))]) hx hb dX4_word_212 rfl hl (by decide) rfl (fun ls hl => ?_)
                            refine lv_iinc (v := (iI ((w + 1 : Nat) : Int))) (lv' := [(4, .int (iI ((w + 1 : Nat) : Int))), (2, .int (iI (fp_wsl tx tn h (m + 1) w))), (0, .ref (ad 0)), (1, .int (iI ((m + 1 : Nat) : Int))), (3, .int (iI (bI (fp_any (fun w => fp_wm tx tn h w (m + 1)) 7))))]) hx hb dX4_word_213 hl (k := 4) rfl (iI_incN _ _) (by decide) rfl (fun ls hl => ?_)
                            refine lv_goto (tgt := 167) hx hb dX4_word_216 (by decide) ?_
                            exact ih167 (by omega) locs ls (by rw [show Value.int (iI (fp_wsl tx tn h (m + 1) (w + 1))) = Value.int (iI (fp_wsl tx tn h (m + 1) w)) from congrArg (fun q : Int => Value.int (iI q)) (show (if _ then (w : Int) else _) = _ from if_neg (by rw [hwm]; omega))]; exact lv_sub hl [2, 3, 1, 4, 0] rfl) hS
                          · skip
                            refine lv_iload hx hb dX4_word_206 (lv_at hl 4 rfl) ?_
                            refine lv_goto (tgt := 212) hx hb dX4_word_208 (by decide) ?_
                            refine lv_istore_n (lv' := [(2, .int (iI ((w : Nat) : Int))), (0, .ref (ad 0)), (1, .int (iI ((m + 1 : Nat) : Int))), (3, .int (iI (bI (fp_any (fun w => fp_wm tx tn h w (m + 1)) 7)))), (4, .int (iI ((w : Nat) : Int)))]) hx hb dX4_word_212 rfl hl (by decide) rfl (fun ls hl => ?_)
                            refine lv_iinc (v := (iI ((w + 1 : Nat) : Int))) (lv' := [(4, .int (iI ((w + 1 : Nat) : Int))), (2, .int (iI ((w : Nat) : Int))), (0, .ref (ad 0)), (1, .int (iI ((m + 1 : Nat) : Int))), (3, .int (iI (bI (fp_any (fun w => fp_wm tx tn h w (m + 1)) 7))))]) hx hb dX4_word_213 hl (k := 4) rfl (iI_incN _ _) (by decide) rfl (fun ls hl => ?_)
                            refine lv_goto (tgt := 167) hx hb dX4_word_216 (by decide) ?_
                            exact ih167 (by omega) locs ls (by rw [show Value.int (iI (fp_wsl tx tn h (m + 1) (w + 1))) = Value.int (iI ((w : Nat) : Int)) from congrArg (fun q : Int => Value.int (iI q)) (show (if _ then (w : Int) else _) = _ from if_pos ⟨hwm, by omega⟩)]; exact lv_sub hl [2, 3, 1, 4, 0] rfl) hS
                    exact L167 0 (by omega) locs ls (by rw [show Value.int (iI (fp_wsl tx tn h (m + 1) 0)) = Value.int (iI (is)) from congrArg (fun q : Int => Value.int (iI q)) (by show (-1 : Int) = _; omega)]; exact lv_sub hl [2, 1, 3, 4, 0] rfl) hS
                · skip
                  refine lv_iconst (v := (iI ((1 : Nat) : Int))) hx hb dX4_word_135 rfl ?_
                  refine lv_goto (tgt := 140) hx hb dX4_word_136 (by decide) ?_
                  refine m_put X hM hS hA0 (k := 21) (sc2 := (va_up (va_up sc 18 (((h + m : Nat) : Int))) 21 (((1 : Nat) : Int)))) rfl (by decide) q2030 rfl rfl rfl dX4_word_140 rfl (fun H locs hM_3 hS => ?_)
                  refine lv_aload_n hx hb dX4_word_143 rfl (lv_at hl 0 rfl) ?_
                  refine lv_dup hx hb dX4_word_144 rfl ?_
                  refine r_get X hM_3.1 rfl in_X4 18 (by decide) q2027 (Or.inl rfl) (v := .int (iI ((h + m : Nat) : Int))) rfl dX4_word_145 ?_
                  refine lv_iload_n hx hb dX4_word_148 rfl (lv_at hl 3 rfl) ?_
                  refine r_ifeqB (tgt := 156) hx hb dX4_word_149 (by decide) (fun c149 => ?_) (fun c149 => ?_)
                  · skip
                    refine lv_iconst (v := (iI ((0 : Nat) : Int))) hx hb dX4_word_156 rfl ?_
                    refine r_iaddN hx hb dX4_word_157 ?_
                    refine m_put X hM_3 hS hA0 (k := 18) (sc2 := (va_up (va_up sc 21 (((1 : Nat) : Int))) 18 ((((h + m) + 0 : Nat) : Int)))) rfl (by decide) q2027 rfl rfl rfl dX4_word_158 rfl (fun H locs hM_4 hS => ?_)
                    refine lv_iinc (v := (iI ((m + 1 : Nat) : Int))) (lv' := [(1, .int (iI ((m + 1 : Nat) : Int))), (0, .ref (ad 0)), (2, .int (iI (is))), (3, .int (iI (bI (fp_any (fun w => fp_wm tx tn h w (m + 1)) 7)))), (4, .int (iI ((7 : Nat) : Int)))]) hx hb dX4_word_161 hl (k := 1) rfl (iI_incN _ _) (by decide) rfl (fun ls hl => ?_)
                    refine lv_iconst (v := (iI ((0 : Nat) : Int))) hx hb dX4_word_164 rfl ?_
                    refine lv_istore (lv' := [(4, .int (iI ((0 : Nat) : Int))), (1, .int (iI ((m + 1 : Nat) : Int))), (0, .ref (ad 0)), (2, .int (iI (is))), (3, .int (iI (bI (fp_any (fun w => fp_wm tx tn h w (m + 1)) 7))))]) hx hb dX4_word_165 hl (by decide) rfl (fun ls hl => ?_)
                    have L167 : ∀ (w : Nat), w ≤ 7 → ∀ (locs : List Loc) (ls : Array Slot), lv_has ls 5 [(0, .ref (ad 0)), (1, .int (iI ((m + 1 : Nat) : Int))), (2, .int (iI (fp_wsl tx tn h (m + 1) w))), (3, .int (iI (bI (fp_any (fun w => fp_wm tx tn h w (m + 1)) 7)))), (4, .int (iI ((w : Nat) : Int)))] → va_S (fA (fp_ma ad) s.heap.size) s.heap H locs → W pg (g_l G) en rR s mi ag bl mt cd H locs 0 0 qQ (F0 mi 167 ls []) := by
                      refine lp_up 7 ?_
                      intro w hk167 ih167 locs ls hl hS
                      refine lv_iload hx hb dX4_word_167 (lv_at hl 4 rfl) ?_
                      refine lv_bipush (v := (iI ((7 : Nat) : Int))) hx hb dX4_word_169 rfl ?_
                      refine r_icmp_ge (tgt := 219) hx hb ⟨by omega, by omega⟩ (by decide) dX4_word_171 (by decide) (fun c171 => ?_) (fun c171 => ?_)
                      · skip
                        obtain rfl : w = 7 := by omega
                        refine lv_goto (tgt := 25) hx hb dX4_word_219 (by decide) ?_
                        exact ih25 (by omega) f (fp_wsl tx tn h (m + 1) 7) ((1 : Nat) : Int) ((h + m) + 0) H locs ls (fun j hj => (hf j hj).trans (by rw [if_pos (by omega)])) ((hws.step (by omega) rfl).2 c132) (lv_sub hl [0, 1, 2] rfl) hS hM_4
                      · skip
                        refine lv_aload_n hx hb dX4_word_174 rfl (lv_at hl 0 rfl) ?_
                        refine r_get X hM_4.1 rfl in_X4 14 (by decide) q2023 (Or.inl rfl) (v := .ref (ad 14)) rfl dX4_word_175 ?_
                        refine lv_iload hx hb dX4_word_178 (lv_at hl 4 rfl) ?_
                        refine r_ialdI X (hM_4.2 14 (by decide) (by decide)) (j := w) (n := 7) rfl (by omega) (by decide) dX4_word_180 ?_
                        refine r_set (y := .int (iI (bI (fp_wm tx tn h w (m + 1))))) (congrArg (fun q : Int => Value.int (iI q)) (show f w = _ from (hf w (by omega)).trans (by rw [if_pos (by omega)]))) ?_
                        refine lv_iconst (v := (iI ((1 : Nat) : Int))) hx hb dX4_word_181 rfl ?_
                        refine r_icmp_ne (tgt := 211) hx hb (bI_rg _) (by decide) dX4_word_182 (by decide) (fun c182 => ?_) (fun c182 => ?_)
                        · skip
                          have hwm : fp_wm tx tn h w (m + 1) = false := by cases e : fp_wm tx tn h w (m + 1); rfl; exact absurd (by rw [e]; rfl) c182
                          have hwb := fp_wa_b (w := w) (by omega)
                          refine lv_iload_n hx hb dX4_word_211 rfl (lv_at hl 2 rfl) ?_
                          refine lv_istore_n (lv' := [(2, .int (iI (fp_wsl tx tn h (m + 1) w))), (0, .ref (ad 0)), (1, .int (iI ((m + 1 : Nat) : Int))), (3, .int (iI (bI (fp_any (fun w => fp_wm tx tn h w (m + 1)) 7)))), (4, .int (iI ((w : Nat) : Int)))]) hx hb dX4_word_212 rfl hl (by decide) rfl (fun ls hl => ?_)
                          refine lv_iinc (v := (iI ((w + 1 : Nat) : Int))) (lv' := [(4, .int (iI ((w + 1 : Nat) : Int))), (2, .int (iI (fp_wsl tx tn h (m + 1) w))), (0, .ref (ad 0)), (1, .int (iI ((m + 1 : Nat) : Int))), (3, .int (iI (bI (fp_any (fun w => fp_wm tx tn h w (m + 1)) 7))))]) hx hb dX4_word_213 hl (k := 4) rfl (iI_incN _ _) (by decide) rfl (fun ls hl => ?_)
                          refine lv_goto (tgt := 167) hx hb dX4_word_216 (by decide) ?_
                          exact ih167 (by omega) locs ls (by rw [show Value.int (iI (fp_wsl tx tn h (m + 1) (w + 1))) = Value.int (iI (fp_wsl tx tn h (m + 1) w)) from congrArg (fun q : Int => Value.int (iI q)) (show (if _ then (w : Int) else _) = _ from if_neg (fun z => by rw [hwm] at z; cases z.1))]; exact lv_sub hl [2, 3, 1, 4, 0] rfl) hS
                        · skip
                          have hwm : fp_wm tx tn h w (m + 1) = true := by cases e : fp_wm tx tn h w (m + 1); rw [e] at c182; exact absurd c182 (by decide); rfl
                          have hwb := fp_wa_b (w := w) (by omega)
                          refine lv_aload_n hx hb dX4_word_185 rfl (lv_at hl 0 rfl) ?_
                          refine r_get X hM_4.1 rfl in_X4 16 (by decide) q2025 (Or.inl rfl) (v := .ref (ad 16)) rfl dX4_word_186 ?_
                          refine lv_iload hx hb dX4_word_189 (lv_at hl 4 rfl) ?_
                          refine r_ialdI X (hM_4.2 16 (by decide) (by decide)) (j := w) (n := 8) rfl (by omega) (by decide) dX4_word_191 ?_
                          refine r_set (y := .int (iI ((fp_wa w : Nat) : Int))) (congrArg (fun q : Int => Value.int (iI q)) (hwa w (by omega))) ?_
                          refine lv_iload_n hx hb dX4_word_192 rfl (lv_at hl 1 rfl) ?_
                          refine r_iaddN hx hb dX4_word_193 ?_
                          refine lv_aload_n hx hb dX4_word_194 rfl (lv_at hl 0 rfl) ?_
                          refine r_get X hM_4.1 rfl in_X4 16 (by decide) q2025 (Or.inl rfl) (v := .ref (ad 16)) rfl dX4_word_195 ?_
                          refine lv_iload hx hb dX4_word_198 (lv_at hl 4 rfl) ?_
                          refine lv_iconst (v := (iI ((1 : Nat) : Int))) hx hb dX4_word_200 rfl ?_
                          refine r_iaddN hx hb dX4_word_201 ?_
                          refine r_ialdI X (hM_4.2 16 (by decide) (by decide)) (j := w + 1) (n := 8) rfl (by omega) (by decide) dX4_word_202 ?_
                          refine r_set (y := .int (iI ((fp_wa (w + 1) : Nat) : Int))) (congrArg (fun q : Int => Value.int (iI q)) (hwa (w + 1) (by omega))) ?_
                          refine r_icmp_ne (tgt := 211) hx hb ⟨by omega, by omega⟩ ⟨by omega, by omega⟩ dX4_word_203 (by decide) (fun c203 => ?_) (fun c203 => ?_)
                          · skip
                            refine lv_iload_n hx hb dX4_word_211 rfl (lv_at hl 2 rfl) ?_
                            refine lv_istore_n (lv' := [(2, .int (iI (fp_wsl tx tn h (m + 1) w))), (0, .ref (ad 0)), (1, .int (iI ((m + 1 : Nat) : Int))), (3, .int (iI (bI (fp_any (fun w => fp_wm tx tn h w (m + 1)) 7)))), (4, .int (iI ((w : Nat) : Int)))]) hx hb dX4_word_212 rfl hl (by decide) rfl (fun ls hl => ?_)
                            refine lv_iinc (v := (iI ((w + 1 : Nat) : Int))) (lv' := [(4, .int (iI ((w + 1 : Nat) : Int))), (2, .int (iI (fp_wsl tx tn h (m + 1) w))), (0, .ref (ad 0)), (1, .int (iI ((m + 1 : Nat) : Int))), (3, .int (iI (bI (fp_any (fun w => fp_wm tx tn h w (m + 1)) 7))))]) hx hb dX4_word_213 hl (k := 4) rfl (iI_incN _ _) (by decide) rfl (fun ls hl => ?_)
                            refine lv_goto (tgt := 167) hx hb dX4_word_216 (by decide) ?_
                            exact ih167 (by omega) locs ls (by rw [show Value.int (iI (fp_wsl tx tn h (m + 1) (w + 1))) = Value.int (iI (fp_wsl tx tn h (m + 1) w)) from congrArg (fun q : Int => Value.int (iI q)) (show (if _ then (w : Int) else _) = _ from if_neg (by rw [hwm]; omega))]; exact lv_sub hl [2, 3, 1, 4, 0] rfl) hS
                          · skip
                            refine lv_iload hx hb dX4_word_206 (lv_at hl 4 rfl) ?_
                            refine lv_goto (tgt := 212) hx hb dX4_word_208 (by decide) ?_
                            refine lv_istore_n (lv' := [(2, .int (iI ((w : Nat) : Int))), (0, .ref (ad 0)), (1, .int (iI ((m + 1 : Nat) : Int))), (3, .int (iI (bI (fp_any (fun w => fp_wm tx tn h w (m + 1)) 7)))), (4, .int (iI ((w : Nat) : Int)))]) hx hb dX4_word_212 rfl hl (by decide) rfl (fun ls hl => ?_)
                            refine lv_iinc (v := (iI ((w + 1 : Nat) : Int))) (lv' := [(4, .int (iI ((w + 1 : Nat) : Int))), (2, .int (iI ((w : Nat) : Int))), (0, .ref (ad 0)), (1, .int (iI ((m + 1 : Nat) : Int))), (3, .int (iI (bI (fp_any (fun w => fp_wm tx tn h w (m + 1)) 7))))]) hx hb dX4_word_213 hl (k := 4) rfl (iI_incN _ _) (by decide) rfl (fun ls hl => ?_)
                            refine lv_goto (tgt := 167) hx hb dX4_word_216 (by decide) ?_
                            exact ih167 (by omega) locs ls (by rw [show Value.int (iI (fp_wsl tx tn h (m + 1) (w + 1))) = Value.int (iI ((w : Nat) : Int)) from congrArg (fun q : Int => Value.int (iI q)) (show (if _ then (w : Int) else _) = _ from if_pos ⟨hwm, by omega⟩)]; exact lv_sub hl [2, 3, 1, 4, 0] rfl) hS
                    exact L167 0 (by omega) locs ls (by rw [show Value.int (iI (fp_wsl tx tn h (m + 1) 0)) = Value.int (iI (is)) from congrArg (fun q : Int => Value.int (iI q)) (by show (-1 : Int) = _; omega)]; exact lv_sub hl [2, 1, 3, 4, 0] rfl) hS
                  · skip
                    exact absurd (c132.symm.trans c149) (by decide)
              · skip
                refine lv_aload_n hx hb dX4_word_48 rfl (lv_at hl 0 rfl) ?_
                refine r_get X hM.1 rfl in_X4 14 (by decide) q2023 (Or.inl rfl) (v := .ref (ad 14)) rfl dX4_word_49 ?_
                refine lv_iload hx hb dX4_word_52 (lv_at hl 4 rfl) ?_
                refine lv_dup2_11 hx hb dX4_word_54 rfl rfl ?_
                refine r_ialdI X (hM.2 14 (by decide) (by decide)) (j := w) (n := 7) rfl (by omega) (by decide) dX4_word_55 ?_
                refine r_set (y := .int (iI (bI (fp_wm tx tn h w m)))) (congrArg (fun q : Int => Value.int (iI q)) (show f w = _ from (hf w (by omega)).trans (by rw [if_neg (Nat.lt_irrefl _)]))) ?_
                refine lv_aload_n hx hb dX4_word_56 rfl (lv_at hl 0 rfl) ?_
                refine r_get X hM.1 rfl in_X4 16 (by decide) q2025 (Or.inl rfl) (v := .ref (ad 16)) rfl dX4_word_57 ?_
                refine lv_iload hx hb dX4_word_60 (lv_at hl 4 rfl) ?_
                refine r_ialdI X (hM.2 16 (by decide) (by decide)) (j := w) (n := 8) rfl (by omega) (by decide) dX4_word_62 ?_
                refine r_set (y := .int (iI ((fp_wa w : Nat) : Int))) (congrArg (fun q : Int => Value.int (iI q)) (hwa w (by omega))) ?_
                refine lv_iload_n hx hb dX4_word_63 rfl (lv_at hl 1 rfl) ?_
                have hwb2 := hwb (by omega)
                refine r_iaddN hx hb dX4_word_64 ?_
                refine lv_aload_n hx hb dX4_word_65 rfl (lv_at hl 0 rfl) ?_
                refine r_get X hM.1 rfl in_X4 16 (by decide) q2025 (Or.inl rfl) (v := .ref (ad 16)) rfl dX4_word_66 ?_
                refine lv_iload hx hb dX4_word_69 (lv_at hl 4 rfl) ?_
                refine lv_iconst (v := (iI ((1 : Nat) : Int))) hx hb dX4_word_71 rfl ?_
                refine r_iaddN hx hb dX4_word_72 ?_
                refine r_ialdI X (hM.2 16 (by decide) (by decide)) (j := w + 1) (n := 8) rfl (by omega) (by decide) dX4_word_73 ?_
                refine r_set (y := .int (iI ((fp_wa (w + 1) : Nat) : Int))) (congrArg (fun q : Int => Value.int (iI q)) (hwa (w + 1) (by omega))) ?_
                refine r_icmp_ge (tgt := 102) hx hb ⟨by omega, by omega⟩ ⟨by omega, by omega⟩ dX4_word_74 (by decide) (fun c74 => ?_) (fun c74 => ?_)
                · skip
                  refine lv_iconst (v := (iI ((0 : Nat) : Int))) hx hb dX4_word_102 rfl ?_
                  refine r_iandB (a := fp_wm tx tn h w m) (b := false) hx hb dX4_word_103 ?_
                  refine m_ast X hM hS hA0 (k := 14) (j := w) (z := (bI ((fp_wm tx tn h w m) && false))) (by decide) rfl (n := 7) rfl (by omega) dX4_word_104 (fun H locs hM_5 hS => ?_)
                  refine lv_iload_n hx hb dX4_word_105 rfl (lv_at hl 3 rfl) ?_
                  refine lv_aload_n hx hb dX4_word_106 rfl (lv_at hl 0 rfl) ?_
                  refine r_get X hM_5.1 rfl in_X4 14 (by decide) q2023 (Or.inl rfl) (v := .ref (ad 14)) rfl dX4_word_107 ?_
                  refine lv_iload hx hb dX4_word_110 (lv_at hl 4 rfl) ?_
                  refine r_ialdI X (hM_5.2 14 (by decide) (by decide)) (j := w) (n := 7) rfl (by omega) (by decide) dX4_word_112 ?_
                  refine r_set (y := .int (iI (bI (fp_wm tx tn h w (m + 1))))) (congrArg (fun q : Int => Value.int (iI q)) (show va_up f w (bI ((fp_wm tx tn h w m) && false)) w = _ from by rw [va_up_self]; exact congrArg bI (show _ = fp_wm tx tn h w (m + 1) from by show (_ && false) = (_ && decide _); rw [decide_eq_false (by omega)]))) ?_
                  refine lv_iconst (v := (iI ((1 : Nat) : Int))) hx hb dX4_word_113 rfl ?_
                  refine r_icmp_ne (tgt := 121) hx hb (bI_rg _) (by decide) dX4_word_114 (by decide) (fun c114 => ?_) (fun c114 => ?_)
                  · skip
                    have hwm : fp_wm tx tn h w (m + 1) = false := by cases e : fp_wm tx tn h w (m + 1); rfl; exact absurd (by rw [e]; rfl) c114
                    refine lv_iconst (v := (iI ((0 : Nat) : Int))) hx hb dX4_word_121 rfl ?_
                    refine r_iorB (a := fp_any (fun w => fp_wm tx tn h w (m + 1)) w) (b := false) hx hb dX4_word_122 ?_
                    refine lv_istore_n (lv' := [(3, .int (iI (bI ((fp_any (fun w => fp_wm tx tn h w (m + 1)) w) || false)))), (0, .ref (ad 0)), (1, .int (iI ((m : Nat) : Int))), (2, .int (iI (is))), (4, .int (iI ((w : Nat) : Int)))]) hx hb dX4_word_123 rfl hl (by decide) rfl (fun ls hl => ?_)
                    refine lv_iinc (v := (iI ((w + 1 : Nat) : Int))) (lv' := [(4, .int (iI ((w + 1 : Nat) : Int))), (3, .int (iI (bI ((fp_any (fun w => fp_wm tx tn h w (m + 1)) w) || false)))), (0, .ref (ad 0)), (1, .int (iI ((m : Nat) : Int))), (2, .int (iI (is)))]) hx hb dX4_word_124 hl (k := 4) rfl (iI_incN _ _) (by decide) rfl (fun ls hl => ?_)
                    refine lv_goto (tgt := 41) hx hb dX4_word_127 (by decide) ?_
                    exact ih41 (by omega) (va_up f w ((bI ((fp_wm tx tn h w m) && false)))) H locs ls (fp_wf_s hf (show (bI ((fp_wm tx tn h w m) && false)) = bI (fp_wm tx tn h w (m + 1)) from congrArg bI (by show (_ && false) = (_ && decide _); rw [decide_eq_false (by omega)]))) (by rw [show Value.int (iI (bI (fp_any (fun w => fp_wm tx tn h w (m + 1)) (w + 1)))) = Value.int (iI (bI ((fp_any (fun w => fp_wm tx tn h w (m + 1)) w) || false))) from congrArg (fun q : Bool => Value.int (iI (bI q))) (show (_ || fp_wm tx tn h w (m + 1)) = _ by rw [hwm])]; exact lv_sub hl [2, 3, 4, 1, 0] rfl) hS (fp_ME.st1 hM_5 (fun _ _ => rfl))
                  · skip
                    have hwm : fp_wm tx tn h w (m + 1) = true := by cases e : fp_wm tx tn h w (m + 1); rw [e] at c114; exact absurd c114 (by decide); rfl
                    refine lv_iconst (v := (iI ((1 : Nat) : Int))) hx hb dX4_word_117 rfl ?_
                    refine lv_goto (tgt := 122) hx hb dX4_word_118 (by decide) ?_
                    refine r_iorB (a := fp_any (fun w => fp_wm tx tn h w (m + 1)) w) (b := true) hx hb dX4_word_122 ?_
                    refine lv_istore_n (lv' := [(3, .int (iI (bI ((fp_any (fun w => fp_wm tx tn h w (m + 1)) w) || true)))), (0, .ref (ad 0)), (1, .int (iI ((m : Nat) : Int))), (2, .int (iI (is))), (4, .int (iI ((w : Nat) : Int)))]) hx hb dX4_word_123 rfl hl (by decide) rfl (fun ls hl => ?_)
                    refine lv_iinc (v := (iI ((w + 1 : Nat) : Int))) (lv' := [(4, .int (iI ((w + 1 : Nat) : Int))), (3, .int (iI (bI ((fp_any (fun w => fp_wm tx tn h w (m + 1)) w) || true)))), (0, .ref (ad 0)), (1, .int (iI ((m : Nat) : Int))), (2, .int (iI (is)))]) hx hb dX4_word_124 hl (k := 4) rfl (iI_incN _ _) (by decide) rfl (fun ls hl => ?_)
                    refine lv_goto (tgt := 41) hx hb dX4_word_127 (by decide) ?_
                    exact ih41 (by omega) (va_up f w ((bI ((fp_wm tx tn h w m) && false)))) H locs ls (fp_wf_s hf (show (bI ((fp_wm tx tn h w m) && false)) = bI (fp_wm tx tn h w (m + 1)) from congrArg bI (by show (_ && false) = (_ && decide _); rw [decide_eq_false (by omega)]))) (by rw [show Value.int (iI (bI (fp_any (fun w => fp_wm tx tn h w (m + 1)) (w + 1)))) = Value.int (iI (bI ((fp_any (fun w => fp_wm tx tn h w (m + 1)) w) || true))) from congrArg (fun q : Bool => Value.int (iI (bI q))) (show (_ || fp_wm tx tn h w (m + 1)) = _ by rw [hwm])]; exact lv_sub hl [2, 3, 4, 1, 0] rfl) hS (fp_ME.st1 hM_5 (fun _ _ => rfl))
                · skip
                  refine lv_aload_n hx hb dX4_word_77 rfl (lv_at hl 0 rfl) ?_
                  refine r_get X hM.1 rfl in_X4 15 (by decide) q2024 (Or.inl rfl) (v := .ref (ad 15)) rfl dX4_word_78 ?_
                  refine lv_aload_n hx hb dX4_word_81 rfl (lv_at hl 0 rfl) ?_
                  refine r_get X hM.1 rfl in_X4 16 (by decide) q2025 (Or.inl rfl) (v := .ref (ad 16)) rfl dX4_word_82 ?_
                  refine lv_iload hx hb dX4_word_85 (lv_at hl 4 rfl) ?_
                  refine r_ialdI X (hM.2 16 (by decide) (by decide)) (j := w) (n := 8) rfl (by omega) (by decide) dX4_word_87 ?_
                  refine r_set (y := .int (iI ((fp_wa w : Nat) : Int))) (congrArg (fun q : Int => Value.int (iI q)) (hwa w (by omega))) ?_
                  refine lv_iload_n hx hb dX4_word_88 rfl (lv_at hl 1 rfl) ?_
                  refine r_iaddN hx hb dX4_word_89 ?_
                  refine r_ialdI X (hM.2 15 (by decide) (by decide)) (j := (fp_wa w) + m) (n := 39) rfl (by omega) (by decide) dX4_word_90 ?_
                  refine r_set (y := .int (iI ((fp_wd (fp_wa w + m) : Nat) : Int))) (congrArg (fun q : Int => Value.int (iI q)) (hwd (fp_wa w + m) (by omega))) ?_
                  have hwc := fp_wd_b (i := fp_wa w + m) (by omega)
                  refine lv_aload_n hx hb dX4_word_91 rfl (lv_at hl 0 rfl) ?_
                  refine r_callV (cells1 := 0) (slots1 := 0) X hR (c_X4_sign G ad (va_up (va_up sc 18 (((h + m : Nat) : Int))) 21 (((0 : Nat) : Int))) (va_up ar 14 f) hA0 tx tn (h + m) rfl ht h60 hpl htx htb  ) q2470 q2472 qs81 q100 q2473 ⟨rfl, pd_X4_sign⟩ (by decide) rfl rfl (by decide) (by decide) hM.1 rfl rfl (Nat.le_of_ble_eq_true rfl) hl.1 dX4_word_92 (hB.of hS (fp_ma.base hA0)) hM hS (fun _ h => h.elim) (fun v H1 locs hp_6 hzC hkC hS => ?_)
                  obtain ⟨rfl, rfl⟩ := hp_6
                  refine r_stk (st2 := [.int (iI (fp_sg tx tn (h + m))), .int (iI ((fp_wd (fp_wa w + m) : Nat) : Int)), .int (iI (bI (fp_wm tx tn h w m))), .int (iI ((w : Nat) : Int)), .ref (ad 14)]) rfl ?_
                  have hsb95 := fp_sg_b htb (h + m)
                  refine r_icmp_ne (tgt := 102) hx hb ⟨by omega, by omega⟩ ⟨by omega, by omega⟩ dX4_word_95 (by decide) (fun c95 => ?_) (fun c95 => ?_)
                  · skip
                    refine lv_iconst (v := (iI ((0 : Nat) : Int))) hx hb dX4_word_102 rfl ?_
                    refine r_iandB (a := fp_wm tx tn h w m) (b := false) hx hb dX4_word_103 ?_
                    refine m_ast X hM hS hA0 (k := 14) (j := w) (z := (bI ((fp_wm tx tn h w m) && false))) (by decide) rfl (n := 7) rfl (by omega) dX4_word_104 (fun H locs hM_7 hS => ?_)
                    refine lv_iload_n hx hb dX4_word_105 rfl (lv_at hl 3 rfl) ?_
                    refine lv_aload_n hx hb dX4_word_106 rfl (lv_at hl 0 rfl) ?_
                    refine r_get X hM_7.1 rfl in_X4 14 (by decide) q2023 (Or.inl rfl) (v := .ref (ad 14)) rfl dX4_word_107 ?_
                    refine lv_iload hx hb dX4_word_110 (lv_at hl 4 rfl) ?_
                    refine r_ialdI X (hM_7.2 14 (by decide) (by decide)) (j := w) (n := 7) rfl (by omega) (by decide) dX4_word_112 ?_
                    refine r_set (y := .int (iI (bI (fp_wm tx tn h w (m + 1))))) (congrArg (fun q : Int => Value.int (iI q)) (show va_up f w (bI ((fp_wm tx tn h w m) && false)) w = _ from by rw [va_up_self]; exact congrArg bI (show _ = fp_wm tx tn h w (m + 1) from by show (_ && false) = (_ && decide _); rw [decide_eq_false (by omega)]))) ?_
                    refine lv_iconst (v := (iI ((1 : Nat) : Int))) hx hb dX4_word_113 rfl ?_
                    refine r_icmp_ne (tgt := 121) hx hb (bI_rg _) (by decide) dX4_word_114 (by decide) (fun c114 => ?_) (fun c114 => ?_)
                    · skip
                      have hwm : fp_wm tx tn h w (m + 1) = false := by cases e : fp_wm tx tn h w (m + 1); rfl; exact absurd (by rw [e]; rfl) c114
                      refine lv_iconst (v := (iI ((0 : Nat) : Int))) hx hb dX4_word_121 rfl ?_
                      refine r_iorB (a := fp_any (fun w => fp_wm tx tn h w (m + 1)) w) (b := false) hx hb dX4_word_122 ?_
                      refine lv_istore_n (lv' := [(3, .int (iI (bI ((fp_any (fun w => fp_wm tx tn h w (m + 1)) w) || false)))), (0, .ref (ad 0)), (1, .int (iI ((m : Nat) : Int))), (2, .int (iI (is))), (4, .int (iI ((w : Nat) : Int)))]) hx hb dX4_word_123 rfl hl (by decide) rfl (fun ls hl => ?_)
                      refine lv_iinc (v := (iI ((w + 1 : Nat) : Int))) (lv' := [(4, .int (iI ((w + 1 : Nat) : Int))), (3, .int (iI (bI ((fp_any (fun w => fp_wm tx tn h w (m + 1)) w) || false)))), (0, .ref (ad 0)), (1, .int (iI ((m : Nat) : Int))), (2, .int (iI (is)))]) hx hb dX4_word_124 hl (k := 4) rfl (iI_incN _ _) (by decide) rfl (fun ls hl => ?_)
                      refine lv_goto (tgt := 41) hx hb dX4_word_127 (by decide) ?_
                      exact ih41 (by omega) (va_up f w ((bI ((fp_wm tx tn h w m) && false)))) H locs ls (fp_wf_s hf (show (bI ((fp_wm tx tn h w m) && false)) = bI (fp_wm tx tn h w (m + 1)) from congrArg bI (by show (_ && false) = (_ && decide _); rw [decide_eq_false (by omega)]))) (by rw [show Value.int (iI (bI (fp_any (fun w => fp_wm tx tn h w (m + 1)) (w + 1)))) = Value.int (iI (bI ((fp_any (fun w => fp_wm tx tn h w (m + 1)) w) || false))) from congrArg (fun q : Bool => Value.int (iI (bI q))) (show (_ || fp_wm tx tn h w (m + 1)) = _ by rw [hwm])]; exact lv_sub hl [2, 3, 4, 1, 0] rfl) hS (fp_ME.st1 hM_7 (fun _ _ => rfl))
                    · skip
                      have hwm : fp_wm tx tn h w (m + 1) = true := by cases e : fp_wm tx tn h w (m + 1); rw [e] at c114; exact absurd c114 (by decide); rfl
                      refine lv_iconst (v := (iI ((1 : Nat) : Int))) hx hb dX4_word_117 rfl ?_
                      refine lv_goto (tgt := 122) hx hb dX4_word_118 (by decide) ?_
                      refine r_iorB (a := fp_any (fun w => fp_wm tx tn h w (m + 1)) w) (b := true) hx hb dX4_word_122 ?_
                      refine lv_istore_n (lv' := [(3, .int (iI (bI ((fp_any (fun w => fp_wm tx tn h w (m + 1)) w) || true)))), (0, .ref (ad 0)), (1, .int (iI ((m : Nat) : Int))), (2, .int (iI (is))), (4, .int (iI ((w : Nat) : Int)))]) hx hb dX4_word_123 rfl hl (by decide) rfl (fun ls hl => ?_)
                      refine lv_iinc (v := (iI ((w + 1 : Nat) : Int))) (lv' := [(4, .int (iI ((w + 1 : Nat) : Int))), (3, .int (iI (bI ((fp_any (fun w => fp_wm tx tn h w (m + 1)) w) || true)))), (0, .ref (ad 0)), (1, .int (iI ((m : Nat) : Int))), (2, .int (iI (is)))]) hx hb dX4_word_124 hl (k := 4) rfl (iI_incN _ _) (by decide) rfl (fun ls hl => ?_)
                      refine lv_goto (tgt := 41) hx hb dX4_word_127 (by decide) ?_
                      exact ih41 (by omega) (va_up f w ((bI ((fp_wm tx tn h w m) && false)))) H locs ls (fp_wf_s hf (show (bI ((fp_wm tx tn h w m) && false)) = bI (fp_wm tx tn h w (m + 1)) from congrArg bI (by show (_ && false) = (_ && decide _); rw [decide_eq_false (by omega)]))) (by rw [show Value.int (iI (bI (fp_any (fun w => fp_wm tx tn h w (m + 1)) (w + 1)))) = Value.int (iI (bI ((fp_any (fun w => fp_wm tx tn h w (m + 1)) w) || true))) from congrArg (fun q : Bool => Value.int (iI (bI q))) (show (_ || fp_wm tx tn h w (m + 1)) = _ by rw [hwm])]; exact lv_sub hl [2, 3, 4, 1, 0] rfl) hS (fp_ME.st1 hM_7 (fun _ _ => rfl))
                  · skip
                    refine lv_iconst (v := (iI ((1 : Nat) : Int))) hx hb dX4_word_98 rfl ?_
                    refine lv_goto (tgt := 103) hx hb dX4_word_99 (by decide) ?_
                    refine r_iandB (a := fp_wm tx tn h w m) (b := true) hx hb dX4_word_103 ?_
                    refine m_ast X hM hS hA0 (k := 14) (j := w) (z := (bI ((fp_wm tx tn h w m) && true))) (by decide) rfl (n := 7) rfl (by omega) dX4_word_104 (fun H locs hM_8 hS => ?_)
                    refine lv_iload_n hx hb dX4_word_105 rfl (lv_at hl 3 rfl) ?_
                    refine lv_aload_n hx hb dX4_word_106 rfl (lv_at hl 0 rfl) ?_
                    refine r_get X hM_8.1 rfl in_X4 14 (by decide) q2023 (Or.inl rfl) (v := .ref (ad 14)) rfl dX4_word_107 ?_
                    refine lv_iload hx hb dX4_word_110 (lv_at hl 4 rfl) ?_
                    refine r_ialdI X (hM_8.2 14 (by decide) (by decide)) (j := w) (n := 7) rfl (by omega) (by decide) dX4_word_112 ?_
                    refine r_set (y := .int (iI (bI (fp_wm tx tn h w (m + 1))))) (congrArg (fun q : Int => Value.int (iI q)) (show va_up f w (bI ((fp_wm tx tn h w m) && true)) w = _ from by rw [va_up_self]; exact congrArg bI (show _ = fp_wm tx tn h w (m + 1) from by show (_ && true) = (_ && decide _); rw [decide_eq_true (by omega)]))) ?_
                    refine lv_iconst (v := (iI ((1 : Nat) : Int))) hx hb dX4_word_113 rfl ?_
                    refine r_icmp_ne (tgt := 121) hx hb (bI_rg _) (by decide) dX4_word_114 (by decide) (fun c114 => ?_) (fun c114 => ?_)
                    · skip
                      have hwm : fp_wm tx tn h w (m + 1) = false := by cases e : fp_wm tx tn h w (m + 1); rfl; exact absurd (by rw [e]; rfl) c114
                      refine lv_iconst (v := (iI ((0 : Nat) : Int))) hx hb dX4_word_121 rfl ?_
                      refine r_iorB (a := fp_any (fun w => fp_wm tx tn h w (m + 1)) w) (b := false) hx hb dX4_word_122 ?_
                      refine lv_istore_n (lv' := [(3, .int (iI (bI ((fp_any (fun w => fp_wm tx tn h w (m + 1)) w) || false)))), (0, .ref (ad 0)), (1, .int (iI ((m : Nat) : Int))), (2, .int (iI (is))), (4, .int (iI ((w : Nat) : Int)))]) hx hb dX4_word_123 rfl hl (by decide) rfl (fun ls hl => ?_)
                      refine lv_iinc (v := (iI ((w + 1 : Nat) : Int))) (lv' := [(4, .int (iI ((w + 1 : Nat) : Int))), (3, .int (iI (bI ((fp_any (fun w => fp_wm tx tn h w (m + 1)) w) || false)))), (0, .ref (ad 0)), (1, .int (iI ((m : Nat) : Int))), (2, .int (iI (is)))]) hx hb dX4_word_124 hl (k := 4) rfl (iI_incN _ _) (by decide) rfl (fun ls hl => ?_)
                      refine lv_goto (tgt := 41) hx hb dX4_word_127 (by decide) ?_
                      exact ih41 (by omega) (va_up f w ((bI ((fp_wm tx tn h w m) && true)))) H locs ls (fp_wf_s hf (show (bI ((fp_wm tx tn h w m) && true)) = bI (fp_wm tx tn h w (m + 1)) from congrArg bI (by show (_ && true) = (_ && decide _); rw [decide_eq_true (by omega)]))) (by rw [show Value.int (iI (bI (fp_any (fun w => fp_wm tx tn h w (m + 1)) (w + 1)))) = Value.int (iI (bI ((fp_any (fun w => fp_wm tx tn h w (m + 1)) w) || false))) from congrArg (fun q : Bool => Value.int (iI (bI q))) (show (_ || fp_wm tx tn h w (m + 1)) = _ by rw [hwm])]; exact lv_sub hl [2, 3, 4, 1, 0] rfl) hS (fp_ME.st1 hM_8 (fun _ _ => rfl))
                    · skip
                      have hwm : fp_wm tx tn h w (m + 1) = true := by cases e : fp_wm tx tn h w (m + 1); rw [e] at c114; exact absurd c114 (by decide); rfl
                      refine lv_iconst (v := (iI ((1 : Nat) : Int))) hx hb dX4_word_117 rfl ?_
                      refine lv_goto (tgt := 122) hx hb dX4_word_118 (by decide) ?_
                      refine r_iorB (a := fp_any (fun w => fp_wm tx tn h w (m + 1)) w) (b := true) hx hb dX4_word_122 ?_
                      refine lv_istore_n (lv' := [(3, .int (iI (bI ((fp_any (fun w => fp_wm tx tn h w (m + 1)) w) || true)))), (0, .ref (ad 0)), (1, .int (iI ((m : Nat) : Int))), (2, .int (iI (is))), (4, .int (iI ((w : Nat) : Int)))]) hx hb dX4_word_123 rfl hl (by decide) rfl (fun ls hl => ?_)
                      refine lv_iinc (v := (iI ((w + 1 : Nat) : Int))) (lv' := [(4, .int (iI ((w + 1 : Nat) : Int))), (3, .int (iI (bI ((fp_any (fun w => fp_wm tx tn h w (m + 1)) w) || true)))), (0, .ref (ad 0)), (1, .int (iI ((m : Nat) : Int))), (2, .int (iI (is)))]) hx hb dX4_word_124 hl (k := 4) rfl (iI_incN _ _) (by decide) rfl (fun ls hl => ?_)
                      refine lv_goto (tgt := 41) hx hb dX4_word_127 (by decide) ?_
                      exact ih41 (by omega) (va_up f w ((bI ((fp_wm tx tn h w m) && true)))) H locs ls (fp_wf_s hf (show (bI ((fp_wm tx tn h w m) && true)) = bI (fp_wm tx tn h w (m + 1)) from congrArg bI (by show (_ && true) = (_ && decide _); rw [decide_eq_true (by omega)]))) (by rw [show Value.int (iI (bI (fp_any (fun w => fp_wm tx tn h w (m + 1)) (w + 1)))) = Value.int (iI (bI ((fp_any (fun w => fp_wm tx tn h w (m + 1)) w) || true))) from congrArg (fun q : Bool => Value.int (iI (bI q))) (show (_ || fp_wm tx tn h w (m + 1)) = _ by rw [hwm])]; exact lv_sub hl [2, 3, 4, 1, 0] rfl) hS (fp_ME.st1 hM_8 (fun _ _ => rfl))
            exact L41 0 (by omega) f H locs ls (fun j hj => by rw [if_neg (Nat.not_lt_zero _)]; exact hfm j hj) (lv_sub hl [2, 3, 4, 1, 0] rfl) hS hM
      exact L25 0 (by omega) f (-1) 0 h H locs ls (fun j hj => (hf j hj)) (fp_wst.zero tx tn h) (lv_sub hl [2, 1, 0] rfl) hS (fp_ME.upe (fp_ME.upe hM hh) hw0)
    · skip
      refine lv_aload_n hx hb dX4_word_8 rfl (lv_at hl 0 rfl) ?_
      refine r_get X hM.1 rfl in_X4 14 (by decide) q2023 (Or.inl rfl) (v := .ref (ad 14)) rfl dX4_word_9 ?_
      refine lv_iload_n hx hb dX4_word_12 rfl (lv_at hl 1 rfl) ?_
      refine lv_iconst (v := (iI ((1 : Nat) : Int))) hx hb dX4_word_13 rfl ?_
      refine m_ast X hM hS hA0 (k := 14) (j := k) (z := ((1 : Nat) : Int)) (by decide) rfl (n := 7) rfl (by omega) dX4_word_14 (fun H locs hM_9 hS => ?_)
      refine lv_iinc (v := (iI ((k + 1 : Nat) : Int))) (lv' := [(1, .int (iI ((k + 1 : Nat) : Int))), (0, .ref (ad 0))]) hx hb dX4_word_15 hl (k := 1) rfl (iI_incN _ _) (by decide) rfl (fun ls hl => ?_)
      refine lv_goto (tgt := 2) hx hb dX4_word_18 (by decide) ?_
      exact ih2 (by omega) (va_up f k (((1 : Nat) : Int))) H locs ls (lt_s (fun a ha => by rw [va_up_ne _ _ (by omega)]; exact hf1 a ha) (va_up_self _ _ _)) (lv_sub hl [1, 0] rfl) hS (fp_ME.st1 hM_9 (fun _ _ => rfl))
  exact L2 0 (by omega) (ar 14) (s.heap) locs ls lt_0 (lv_sub hl [1, 0] rfl) hS (fp_ME.st0 hM 14 (fun _ _ => rfl))
