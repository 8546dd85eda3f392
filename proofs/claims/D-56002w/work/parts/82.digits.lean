/-! INTEGER: the tables of digits -/
set_option maxRecDepth 100000
def fp_tO : Term := .static "java/lang/Integer" "DigitOnes" "[B"
def fp_tT : Term := .static "java/lang/Integer" "DigitTens" "[B"
def fp_oW (j : Nat) : Cond := .eq (.elem fp_tO (.int (Int32.ofNat j))) (.int (Int32.ofNat (48 + j % 10)))
def fp_tW (j : Nat) : Cond := .eq (.elem fp_tT (.int (Int32.ofNat j))) (.int (Int32.ofNat (48 + j / 10)))
theorem fp_tOw : ∀ j, j < 100 → fp_oW j ∈ flatC (Jvm.Cond.and given_1 narrow_1) := va_run (p := 21) (by decide +kernel)
theorem fp_tTw : ∀ j, j < 100 → fp_tW j ∈ flatC (Jvm.Cond.and given_1 narrow_1) := va_run (p := 124) (by decide +kernel)
theorem fp_K.dO {G : fp_G} {U : State} (hK : fp_K G U) {H : Heap} (hB : fp_B G H) {A : Nat → Prop} (hA : ∀ q, A q → (g_s G).heap.size ≤ q) : va_T .byte (fp_st G fp_tO) 100 (fun j => .int (iI ((48 + j % 10 : Nat) : Int))) A U H ∧ fp_tO.eval #[Value.ref G.1.2.2] (g_s G) none [] (g_s G) = some (.ref (fp_st G fp_tO)) ∧ fp_st G fp_tO < (g_s G).heap.size :=
  fp_stT hK hB hA (by decide) (hK.flat _ (by decide +kernel)) (hK.flat _ (by decide +kernel)) (fun j hj => va_eqt (hK.flat _ (fp_tOw j hj)))
theorem fp_K.dT {G : fp_G} {U : State} (hK : fp_K G U) {H : Heap} (hB : fp_B G H) {A : Nat → Prop} (hA : ∀ q, A q → (g_s G).heap.size ≤ q) : va_T .byte (fp_st G fp_tT) 100 (fun j => .int (iI ((48 + j / 10 : Nat) : Int))) A U H ∧ fp_tT.eval #[Value.ref G.1.2.2] (g_s G) none [] (g_s G) = some (.ref (fp_st G fp_tT)) ∧ fp_st G fp_tT < (g_s G).heap.size :=
  fp_stT hK hB hA (by decide) (hK.flat _ (by decide +kernel)) (hK.flat _ (by decide +kernel)) (fun j hj => va_eqt (hK.flat _ (fp_tTw j hj)))
section FPDG
variable {G : fp_G} {p : Program} {e : Env} {R : Room} {s : State} {m : MethodId} {args : Array Value} {below : List Frame} {meth : Method} {c : Code} {H : Heap} {locs : List Loc} {cells slots : Nat} {Q : State → Prop}
variable {cc : ByteArray} {pc nL : Nat} {ls : Array Slot} {rest : List Value} {own : String}
/-- a byte of a table that nobody writes -/
theorem r_tbld {t N j : Nat} {z : Int} {f : Nat → Value} {v : Value} {A : Nat → Prop} (X : fp_C G p s m args c cc own nL) (hT : va_T .byte t N f A s s.heap) (hS : va_S A s.heap H locs) (hz : z = (j : Int)) (hj : j < N) (hN : N ≤ 1000000) (hv : f j = v) (hd : decode cc pc = .ok (.baload, 1))
    (kk : W p (g_l G) e R s m args below meth c H locs cells slots Q (F0 m (pc + 1) ls (v :: rest))) : W p (g_l G) e R s m args below meth c H locs cells slots Q (F0 m pc ls (.int (iI z) :: .ref t :: rest)) :=
  va_tb X.1 X.2.1 hT hS (iI_in hz hj (by omega)) (by rw [iI_cl hz (by omega)]; exact hv) hd kk
end FPDG
