/-! THE CLASS READS A TEXT: sorts, books -/
theorem b0i : (nI 0).toInt8.toInt32 = nI 0 := rfl
theorem let_a : ∀ k, k < 5 → (((nI (letS k &&& 255)).toUInt32 % 65536).toInt32 = nI (letS k)) ∧ (((nI (letS k)).toUInt32 % 65536).toInt32 = nI (letS k)) ∧ letS k < 256 ∧ kB (letS k) = k + 1 := by decide +kernel
theorem cJ_len (Q : Po) {h : Hp} {sa sb : Nat} (e1 : gF h 1006 0 = .int (nI 1)) (e2 : gK h sa = 60) (e3 : gF h 165 sa = .ref sb) (e4 : gF h 166 sa = .int (nI 0)) (e5 : gK h sb = 61) (e6 : gL h sb = 5) : Ex mJ8_length Q 0 [.ref sa] [] h = Q (.inl (some (.int (nI 5)))) h := by
  simp (disch := omega) only [↓rJ8_length_0, ↓rJ8_length_0n, ↓rJ8_length_1, ↓rJ8_length_4, ↓rJ8_length_5, ↓rJ8_length_5n, ↓rJ8_length_6, ↓rJ8_length_9, ↓rJ8_length_10, ↓rJ8_length_t, ↓rJ8_coder_0, ↓rJ8_coder_3, ↓rJ8_coder_6, ↓rJ8_coder_6n, ↓rJ8_coder_7, ↓rJ8_coder_10, ↓rJ8_coder_13, ↓rJ8_coder_14, ↓rJ8_coder_t, ↓rmI_in, ↓shrI_in, ↓shlI_in, ↓okI_in, ↓bI_01, bI_z, bI_o, nn_neg, Int.cast_ofNat_Int, zlit, n_leT, n_leF, n_ltT, n_ltF, n_eqT, n_eqF, z_leT, z_leF, z_ltT, z_ltF, z_eqT, z_eqF, nn_add, nn_mul, nn_clamp, nn_lt, nn_le, nn_eq, nn_div, rmI_nn, okI_nn, nn_and, nn_or, nn_xor, shlI_1, shrI_nn, Cont_v, Cont_0, List.mem_cons, List.not_mem_nil, or_false, or_true, true_or, true_and, and_true, ite_not, if_true, if_false, not_true_eq_false, not_false_eq_true, false_or, false_and, and_false, eq_self, ↓reduceIte, reduceCtorEq, e1, e2, e3, e4, e5, e6, b0i, Nat.pow_zero, Nat.div_one]
theorem rJ8_ci5v (Q : Po) (h : Hp) (ls : List Value) (a0 a1 : Int32) (u : Option Nat) : Ex mJ8_checkIndex Q 5 ls (va_rf u :: .int a1 :: .int a0 :: []) h = Ex mJ10_checkIndex (Cont mJ8_checkIndex Q 5 ls 8 []) 0 [.int a0, .int a1, va_rf u] [] h := by
  cases u with
  | none => exact Ex_cl (n := 3) (as := [.int a0, .int a1, .null]) rfl rfl
  | some x => exact rJ8_checkIndex_5 Q h ls a0 a1 x
theorem cJ_charAt (Q : Po) {h : Hp} {sa sb k : Nat} {v7 : Option Nat} (e1 : gF h 1006 0 = .int (nI 1)) (e2 : gK h sa = 60) (e3 : gF h 165 sa = .ref sb) (e4 : gF h 166 sa = .int (nI 0)) (e5 : gK h sb = 61) (e6 : gL h sb = 5) (e7 : gF h 1007 0 = va_rf v7) (hk : k < 5) (e8 : gI h sb k = nI (letS k)) : Ex mJ8_charAt Q 0 [.ref sa, .int (nI k)] [] h = Q (.inl (some (.int (nI (letS k))))) h := by
  obtain ⟨l1, l2, l3, l4⟩ := let_a k hk
  simp (disch := omega) only [↓rJ8_charAt_0, ↓rJ8_charAt_0n, ↓rJ8_charAt_1, ↓rJ8_charAt_4, ↓rJ8_charAt_7, ↓rJ8_charAt_7n, ↓rJ8_charAt_8, ↓rJ8_charAt_11, ↓rJ8_charAt_12, ↓rJ8_charAt_15, ↓rJ8_charAt_16, ↓rJ8_charAt_16n, ↓rJ8_charAt_17, ↓rJ8_charAt_20, ↓rJ8_charAt_24, ↓rJ8_charAt_t, ↓rJ8_isLatin1_0, ↓rJ8_isLatin1_3, ↓rJ8_isLatin1_6, ↓rJ8_isLatin1_6n, ↓rJ8_isLatin1_7, ↓rJ8_isLatin1_10, ↓rJ8_isLatin1_13, ↓rJ8_isLatin1_14, ↓rJ8_isLatin1_17, ↓rJ8_isLatin1_18, ↓rJ8_isLatin1_t, ↓rJ9_charAt_0, ↓rJ9_charAt_1, ↓rJ9_charAt_1n, ↓rJ9_charAt_2, ↓rJ9_charAt_3, ↓rJ9_charAt_6, ↓rJ9_charAt_6n, ↓rJ9_charAt_7, ↓rJ9_charAt_8, ↓rJ9_charAt_9, ↓rJ9_charAt_12, ↓rJ9_charAt_13, ↓rJ9_charAt_14, ↓rJ9_charAt_t, ↓rJ8_checkIndex_0, ↓rJ8_checkIndex_1, ↓rJ8_checkIndex_2, ↓rJ8_checkIndex_5, ↓rJ8_checkIndex_8, ↓rJ8_checkIndex_9, ↓rJ8_checkIndex_t, ↓rJ8_ci5v, ↓rJ10_checkIndex_0, ↓rJ10_checkIndex_1, ↓rJ10_checkIndex_4, ↓rJ10_checkIndex_5, ↓rJ10_checkIndex_6, ↓rJ10_checkIndex_9, ↓rJ10_checkIndex_9n, ↓rJ10_checkIndex_10, ↓rJ10_checkIndex_11, ↓rJ10_checkIndex_16, ↓rJ10_checkIndex_17, ↓rJ10_checkIndex_t, ↓rmI_in, ↓shrI_in, ↓shlI_in, ↓okI_in, ↓bI_01, bI_z, bI_o, nn_neg, Int.cast_ofNat_Int, zlit, n_leT, n_leF, n_ltT, n_ltF, n_eqT, n_eqF, z_leT, z_leF, z_ltT, z_ltF, z_eqT, z_eqF, nn_add, nn_mul, nn_clamp, nn_lt, nn_le, nn_eq, nn_div, rmI_nn, okI_nn, nn_and, nn_or, nn_xor, shlI_1, shrI_nn, Cont_v, Cont_0, List.mem_cons, List.not_mem_nil, or_false, or_true, true_or, true_and, and_true, ite_not, if_true, if_false, not_true_eq_false, not_false_eq_true, false_or, false_and, and_false, eq_self, ↓reduceIte, reduceCtorEq, e1, e2, e3, e4, e5, e6, e7, e8, l1, l2]
theorem c12_sortIn (Q : Po) {h : Hp} {c tc : Nat} {v : Int32} (S : StS h c) (htc : tc ≤ 5) {sa : Nat} (hsa : gF h 1009 0 = .ref sa) : (¬ tc = 1 → Ex mX12_sortIn Q 0 [.ref sa, .int (nI tc), .int v, .retAddr 0] [] h = Q (.inl (some (.int (zI (-1000000))))) h) ∧ ∀ ch, tc = 1 → ch < 256 → v = nI ch → Ex mX12_sortIn Q 0 [.ref sa, .int (nI tc), .int v, .retAddr 0] [] h = Q (.inl (some (.int (if 0 < kB ch then nI (kB ch - 1) else zI (-1000000))))) h := by
  obtain ⟨u, sa', sb, v7, -, e1, e7, hsa', ⟨e2, -, e3, e4⟩, ⟨e5, -, e6⟩, e8⟩ := S
  rw [hsa] at hsa'
  injection hsa' with hsa'
  subst hsa'
  have ln := fun Q => cJ_len Q e1 e2 e3 e4 e5 e6
  refine ⟨fun hne => ?_, fun ch h1 hch hv => ?_⟩
  · have key : ∀ q k, k + q = 5 → Ex mX12_sortIn Q 2 [.ref sa, .int (nI tc), .int v, .int (nI k)] [] h = Q (.inl (some (.int (zI (-1000000))))) h := by
      intro q
      induction q with
      | zero =>
        intro k hk
        rw [rX12_sortIn_2]
        simp (disch := omega) only [↓rX12_sortIn_0, ↓rX12_sortIn_1, ↓rX12_sortIn_3, ↓rX12_sortIn_4, ↓rX12_sortIn_7, ↓rX12_sortIn_10, ↓rX12_sortIn_11, ↓rX12_sortIn_12, ↓rX12_sortIn_15, ↓rX12_sortIn_16, ↓rX12_sortIn_17, ↓rX12_sortIn_20, ↓rX12_sortIn_21, ↓rX12_sortIn_24, ↓rX12_sortIn_27, ↓rX12_sortIn_30, ↓rX12_sortIn_31, ↓rX12_sortIn_32, ↓rX12_sortIn_35, ↓rX12_sortIn_38, ↓rX12_sortIn_39, ↓rX12_sortIn_42, ↓rX12_sortIn_44, ↓rX12_sortIn_t, ↓rmI_in, ↓shrI_in, ↓shlI_in, ↓okI_in, ↓bI_01, bI_z, bI_o, nn_neg, Int.cast_ofNat_Int, zlit, n_leT, n_leF, n_ltT, n_ltF, n_eqT, n_eqF, z_leT, z_leF, z_ltT, z_ltF, z_eqT, z_eqF, nn_add, nn_mul, nn_clamp, nn_lt, nn_le, nn_eq, nn_div, rmI_nn, okI_nn, nn_and, nn_or, nn_xor, shlI_1, shrI_nn, Cont_v, Cont_0, List.mem_cons, List.not_mem_nil, or_false, or_true, true_or, true_and, and_true, ite_not, if_true, if_false, not_true_eq_false, not_false_eq_true, false_or, false_and, and_false, eq_self, ↓reduceIte, reduceCtorEq, e2, ↓ln]
      | succ q ih =>
        intro k hk
        rw [← ih (k + 1) (by omega), rX12_sortIn_2]
        simp (disch := omega) only [↓rX12_sortIn_0, ↓rX12_sortIn_1, ↓rX12_sortIn_3, ↓rX12_sortIn_4, ↓rX12_sortIn_7, ↓rX12_sortIn_10, ↓rX12_sortIn_11, ↓rX12_sortIn_12, ↓rX12_sortIn_15, ↓rX12_sortIn_16, ↓rX12_sortIn_17, ↓rX12_sortIn_20, ↓rX12_sortIn_21, ↓rX12_sortIn_24, ↓rX12_sortIn_27, ↓rX12_sortIn_30, ↓rX12_sortIn_31, ↓rX12_sortIn_32, ↓rX12_sortIn_35, ↓rX12_sortIn_38, ↓rX12_sortIn_39, ↓rX12_sortIn_42, ↓rX12_sortIn_44, ↓rX12_sortIn_t, ↓rmI_in, ↓shrI_in, ↓shlI_in, ↓okI_in, ↓bI_01, bI_z, bI_o, nn_neg, Int.cast_ofNat_Int, zlit, n_leT, n_leF, n_ltT, n_ltF, n_eqT, n_eqF, z_leT, z_leF, z_ltT, z_ltF, z_eqT, z_eqF, nn_add, nn_mul, nn_clamp, nn_lt, nn_le, nn_eq, nn_div, rmI_nn, okI_nn, nn_and, nn_or, nn_xor, shlI_1, shrI_nn, Cont_v, Cont_0, List.mem_cons, List.not_mem_nil, or_false, or_true, true_or, true_and, and_true, ite_not, if_true, if_false, not_true_eq_false, not_false_eq_true, false_or, false_and, and_false, eq_self, ↓reduceIte, reduceCtorEq, e2, ↓ln, hne]
    simp (disch := omega) only [↓rX12_sortIn_0, ↓rX12_sortIn_1, ↓rX12_sortIn_3, ↓rX12_sortIn_4, ↓rX12_sortIn_7, ↓rX12_sortIn_10, ↓rX12_sortIn_11, ↓rX12_sortIn_12, ↓rX12_sortIn_15, ↓rX12_sortIn_16, ↓rX12_sortIn_17, ↓rX12_sortIn_20, ↓rX12_sortIn_21, ↓rX12_sortIn_24, ↓rX12_sortIn_27, ↓rX12_sortIn_30, ↓rX12_sortIn_31, ↓rX12_sortIn_32, ↓rX12_sortIn_35, ↓rX12_sortIn_38, ↓rX12_sortIn_39, ↓rX12_sortIn_42, ↓rX12_sortIn_44, ↓rX12_sortIn_t, ↓rmI_in, ↓shrI_in, ↓shlI_in, ↓okI_in, ↓bI_01, bI_z, bI_o, nn_neg, Int.cast_ofNat_Int, zlit, n_leT, n_leF, n_ltT, n_ltF, n_eqT, n_eqF, z_leT, z_leF, z_ltT, z_ltF, z_eqT, z_eqF, nn_add, nn_mul, nn_clamp, nn_lt, nn_le, nn_eq, nn_div, rmI_nn, okI_nn, nn_and, nn_or, nn_xor, shlI_1, shrI_nn, Cont_v, Cont_0, List.mem_cons, List.not_mem_nil, or_false, or_true, true_or, true_and, and_true, ite_not, if_true, if_false, not_true_eq_false, not_false_eq_true, false_or, false_and, and_false, eq_self, ↓reduceIte, reduceCtorEq]
    exact key 5 0 (by omega)
  · subst h1
    subst hv
    have key : ∀ q k, k + q = 5 → (∀ j, j < k → letS j ≠ ch) → Ex mX12_sortIn Q 2 [.ref sa, .int (nI 1), .int (nI ch), .int (nI k)] [] h = Q (.inl (some (.int (if 0 < kB ch then nI (kB ch - 1) else zI (-1000000))))) h := by
      intro q
      induction q with
      | zero =>
        intro k hk hj
        have hz : kB ch = 0 := by
          have q0 : (114 : Nat) ≠ ch := hj 0 (by omega)
          have q1 : (112 : Nat) ≠ ch := hj 1 (by omega)
          have q2 : (99 : Nat) ≠ ch := hj 2 (by omega)
          have q3 : (119 : Nat) ≠ ch := hj 3 (by omega)
          have q4 : (115 : Nat) ≠ ch := hj 4 (by omega)
          unfold kB
          rw [if_neg (by omega), if_neg (by omega), if_neg (by omega), if_neg (by omega), if_neg (by omega)]
        rw [hz, if_neg (by omega), rX12_sortIn_2]
        simp (disch := omega) only [↓rX12_sortIn_0, ↓rX12_sortIn_1, ↓rX12_sortIn_3, ↓rX12_sortIn_4, ↓rX12_sortIn_7, ↓rX12_sortIn_10, ↓rX12_sortIn_11, ↓rX12_sortIn_12, ↓rX12_sortIn_15, ↓rX12_sortIn_16, ↓rX12_sortIn_17, ↓rX12_sortIn_20, ↓rX12_sortIn_21, ↓rX12_sortIn_24, ↓rX12_sortIn_27, ↓rX12_sortIn_30, ↓rX12_sortIn_31, ↓rX12_sortIn_32, ↓rX12_sortIn_35, ↓rX12_sortIn_38, ↓rX12_sortIn_39, ↓rX12_sortIn_42, ↓rX12_sortIn_44, ↓rX12_sortIn_t, ↓rmI_in, ↓shrI_in, ↓shlI_in, ↓okI_in, ↓bI_01, bI_z, bI_o, nn_neg, Int.cast_ofNat_Int, zlit, n_leT, n_leF, n_ltT, n_ltF, n_eqT, n_eqF, z_leT, z_leF, z_ltT, z_ltF, z_eqT, z_eqF, nn_add, nn_mul, nn_clamp, nn_lt, nn_le, nn_eq, nn_div, rmI_nn, okI_nn, nn_and, nn_or, nn_xor, shlI_1, shrI_nn, Cont_v, Cont_0, List.mem_cons, List.not_mem_nil, or_false, or_true, true_or, true_and, and_true, ite_not, if_true, if_false, not_true_eq_false, not_false_eq_true, false_or, false_and, and_false, eq_self, ↓reduceIte, reduceCtorEq, e2, ↓ln]
      | succ q ih =>
        intro k hk hj
        obtain ⟨-, -, l3, l4⟩ := let_a k (by omega)
        have ca := fun Q => cJ_charAt Q e1 e2 e3 e4 e5 e6 e7 (show k < 5 by omega) (e8 k (by omega))
        by_cases hc : letS k = ch
        · rw [← hc, l4, if_pos (by omega), rX12_sortIn_2, Nat.add_sub_cancel]
          simp (disch := omega) only [↓rX12_sortIn_0, ↓rX12_sortIn_1, ↓rX12_sortIn_3, ↓rX12_sortIn_4, ↓rX12_sortIn_7, ↓rX12_sortIn_10, ↓rX12_sortIn_11, ↓rX12_sortIn_12, ↓rX12_sortIn_15, ↓rX12_sortIn_16, ↓rX12_sortIn_17, ↓rX12_sortIn_20, ↓rX12_sortIn_21, ↓rX12_sortIn_24, ↓rX12_sortIn_27, ↓rX12_sortIn_30, ↓rX12_sortIn_31, ↓rX12_sortIn_32, ↓rX12_sortIn_35, ↓rX12_sortIn_38, ↓rX12_sortIn_39, ↓rX12_sortIn_42, ↓rX12_sortIn_44, ↓rX12_sortIn_t, ↓rmI_in, ↓shrI_in, ↓shlI_in, ↓okI_in, ↓bI_01, bI_z, bI_o, nn_neg, Int.cast_ofNat_Int, zlit, n_leT, n_leF, n_ltT, n_ltF, n_eqT, n_eqF, z_leT, z_leF, z_ltT, z_ltF, z_eqT, z_eqF, nn_add, nn_mul, nn_clamp, nn_lt, nn_le, nn_eq, nn_div, rmI_nn, okI_nn, nn_and, nn_or, nn_xor, shlI_1, shrI_nn, Cont_v, Cont_0, List.mem_cons, List.not_mem_nil, or_false, or_true, true_or, true_and, and_true, ite_not, if_true, if_false, not_true_eq_false, not_false_eq_true, false_or, false_and, and_false, eq_self, ↓reduceIte, reduceCtorEq, e2, ↓ln, ↓ca]
        · rw [← ih (k + 1) (by omega) (fun j hj' => by
            by_cases e : j = k
            · rw [e]; exact hc
            · exact hj j (by omega)), rX12_sortIn_2]
          simp (disch := omega) only [↓rX12_sortIn_0, ↓rX12_sortIn_1, ↓rX12_sortIn_3, ↓rX12_sortIn_4, ↓rX12_sortIn_7, ↓rX12_sortIn_10, ↓rX12_sortIn_11, ↓rX12_sortIn_12, ↓rX12_sortIn_15, ↓rX12_sortIn_16, ↓rX12_sortIn_17, ↓rX12_sortIn_20, ↓rX12_sortIn_21, ↓rX12_sortIn_24, ↓rX12_sortIn_27, ↓rX12_sortIn_30, ↓rX12_sortIn_31, ↓rX12_sortIn_32, ↓rX12_sortIn_35, ↓rX12_sortIn_38, ↓rX12_sortIn_39, ↓rX12_sortIn_42, ↓rX12_sortIn_44, ↓rX12_sortIn_t, ↓rmI_in, ↓shrI_in, ↓shlI_in, ↓okI_in, ↓bI_01, bI_z, bI_o, nn_neg, Int.cast_ofNat_Int, zlit, n_leT, n_leF, n_ltT, n_ltF, n_eqT, n_eqF, z_leT, z_leF, z_ltT, z_ltF, z_eqT, z_eqF, nn_add, nn_mul, nn_clamp, nn_lt, nn_le, nn_eq, nn_div, rmI_nn, okI_nn, nn_and, nn_or, nn_xor, shlI_1, shrI_nn, Cont_v, Cont_0, List.mem_cons, List.not_mem_nil, or_false, or_true, true_or, true_and, and_true, ite_not, if_true, if_false, not_true_eq_false, not_false_eq_true, false_or, false_and, and_false, eq_self, ↓reduceIte, reduceCtorEq, e2, ↓ln, ↓ca, hc]
    simp (disch := omega) only [↓rX12_sortIn_0, ↓rX12_sortIn_1, ↓rX12_sortIn_3, ↓rX12_sortIn_4, ↓rX12_sortIn_7, ↓rX12_sortIn_10, ↓rX12_sortIn_11, ↓rX12_sortIn_12, ↓rX12_sortIn_15, ↓rX12_sortIn_16, ↓rX12_sortIn_17, ↓rX12_sortIn_20, ↓rX12_sortIn_21, ↓rX12_sortIn_24, ↓rX12_sortIn_27, ↓rX12_sortIn_30, ↓rX12_sortIn_31, ↓rX12_sortIn_32, ↓rX12_sortIn_35, ↓rX12_sortIn_38, ↓rX12_sortIn_39, ↓rX12_sortIn_42, ↓rX12_sortIn_44, ↓rX12_sortIn_t, ↓rmI_in, ↓shrI_in, ↓shlI_in, ↓okI_in, ↓bI_01, bI_z, bI_o, nn_neg, Int.cast_ofNat_Int, zlit, n_leT, n_leF, n_ltT, n_ltF, n_eqT, n_eqF, z_leT, z_leF, z_ltT, z_ltF, z_eqT, z_eqF, nn_add, nn_mul, nn_clamp, nn_lt, nn_le, nn_eq, nn_div, rmI_nn, okI_nn, nn_and, nn_or, nn_xor, shlI_1, shrI_nn, Cont_v, Cont_0, List.mem_cons, List.not_mem_nil, or_false, or_true, true_or, true_and, and_true, ite_not, if_true, if_false, not_true_eq_false, not_false_eq_true, false_or, false_and, and_false, eq_self, ↓reduceIte, reduceCtorEq]
    exact key 5 0 (by omega) (fun j hj => by omega)
section RD3
variable {g0 g : Hp} {c r : Nat} {t : Nat → Nat} {n f : Nat} {s : St} {m : Nat → Nat}
theorem RB.sts (R : RB g0 g c r t n f) (x4 x6 x8 x0 : Int32) : StS (LB (RDo g r x4 x6 x8 x0) (r + 1) s m (r + 6) (zI (-1000000)) .null) c := by
  obtain ⟨-, -, -, ⟨a8, a9, a10⟩, ⟨-, a11⟩, -⟩ := R
  exact a11.keep a8 (fun x hx => (rd_sm g r _ _ _ _ (by omega)).trans (LB_sm _ _ _ _ _ _ _ (by omega)))
theorem c12_sortOf (R : RB g0 g c r t n f) (Q : Po) {p sa : Nat} (hsa : gF g 1009 0 = .ref sa) : Ex mX12_sortOf Q 0 [.ref r, .ref sa] [] (LB (RDo g r (nI (tkN t n p)) (nI (tkC t n p)) (nI p) (tkW t n p)) (r + 1) s m (r + 6) (zI (-1000000)) .null) = Q (.inl (some (.int (if tkC t n p = 1 ∧ 0 < kB (t p) then nI (kB (t p) - 1) else zI (-1000000))))) (LB (RDo g r (nI (tkN t n p)) (nI (tkC t n p)) (nI p) (tkW t n p)) (r + 1) s m (r + 6) (zI (-1000000)) .null) := by
  have hcl := tkC_lt (t := t) (n := n) (p := p)
  have S := R.sts (s := s) (m := m) (nI (tkN t n p)) (nI (tkC t n p)) (nI p) (tkW t n p)
  obtain ⟨⟨a1, a2, a3, a4⟩, -, -, ⟨a8, a9, a10⟩, -, -, -, hn, ht⟩ := R
  have hsa' : gF (LB (RDo g r (nI (tkN t n p)) (nI (tkC t n p)) (nI p) (tkW t n p)) (r + 1) s m (r + 6) (zI (-1000000)) .null) 1009 0 = .ref sa := by
    rw [lo_F _ _ _ _ _ _ _ _ (by omega), rd_F, if_neg (by omega), if_neg (by omega), if_neg (by omega), if_neg (by omega)]; exact hsa
  have si := fun Q => c12_sortIn Q (v := tkW t n p) S hcl hsa'
  by_cases h1 : tkC t n p = 1
  · have hs := fun Q => (si Q).2 (t p) h1 (ht p) (tkW_1 h1)
    have e1 : (if tkC t n p = 1 ∧ 0 < kB (t p) then nI (kB (t p) - 1) else zI (-1000000)) = (if 0 < kB (t p) then nI (kB (t p) - 1) else zI (-1000000)) := by
      by_cases h2 : 0 < kB (t p)
      · rw [if_pos ⟨h1, h2⟩, if_pos h2]
      · rw [if_neg (fun q => h2 q.2), if_neg h2]
    rw [e1]
    simp (disch := omega) only [↓rX12_sortOf_0, ↓rX12_sortOf_1, ↓rX12_sortOf_2, ↓rX12_sortOf_5, ↓rX12_sortOf_6, ↓rX12_sortOf_9, ↓rX12_sortOf_12, ↓rX12_sortOf_t, lG_32, lG_34, lG_36, lG_46, lG_48, lG_56, lG_58, lG_39, lG_41, lG_43, lG_45, lG_53, lG_55, lG_51, lG_60, lG_63, lI_1, lI_2, lI_4, lI_6, lI_7, lI_3, lP_32, lP_34, lP_36, lP_46, lP_48, lP_56, lP_58, lP_51, lP_60, lP_63, lW_1, lW_2, lW_4, lW_6, lW_7, lW_3, lo_K, lo_L, lo_R, lo_N, lo_C, lo_S, lo_F, lo_I, ↓rmI_in, ↓shrI_in, ↓shlI_in, ↓okI_in, ↓bI_01, bI_z, bI_o, nn_neg, Int.cast_ofNat_Int, zlit, n_leT, n_leF, n_ltT, n_ltF, n_eqT, n_eqF, z_leT, z_leF, z_ltT, z_ltF, z_eqT, z_eqF, nn_add, nn_mul, nn_clamp, nn_lt, nn_le, nn_eq, nn_div, rmI_nn, okI_nn, nn_and, nn_or, nn_xor, shlI_1, shrI_nn, Cont_v, Cont_0, List.mem_cons, List.not_mem_nil, or_false, or_true, true_or, true_and, and_true, ite_not, if_true, if_false, not_true_eq_false, not_false_eq_true, false_or, false_and, and_false, eq_self, ↓reduceIte, reduceCtorEq, rd_K, rd_F, a1, ↓hs]
  · have hs := fun Q => (si Q).1 h1
    rw [if_neg (fun q => h1 q.1)]
    simp (disch := omega) only [↓rX12_sortOf_0, ↓rX12_sortOf_1, ↓rX12_sortOf_2, ↓rX12_sortOf_5, ↓rX12_sortOf_6, ↓rX12_sortOf_9, ↓rX12_sortOf_12, ↓rX12_sortOf_t, lG_32, lG_34, lG_36, lG_46, lG_48, lG_56, lG_58, lG_39, lG_41, lG_43, lG_45, lG_53, lG_55, lG_51, lG_60, lG_63, lI_1, lI_2, lI_4, lI_6, lI_7, lI_3, lP_32, lP_34, lP_36, lP_46, lP_48, lP_56, lP_58, lP_51, lP_60, lP_63, lW_1, lW_2, lW_4, lW_6, lW_7, lW_3, lo_K, lo_L, lo_R, lo_N, lo_C, lo_S, lo_F, lo_I, ↓rmI_in, ↓shrI_in, ↓shlI_in, ↓okI_in, ↓bI_01, bI_z, bI_o, nn_neg, Int.cast_ofNat_Int, zlit, n_leT, n_leF, n_ltT, n_ltF, n_eqT, n_eqF, z_leT, z_leF, z_ltT, z_ltF, z_eqT, z_eqF, nn_add, nn_mul, nn_clamp, nn_lt, nn_le, nn_eq, nn_div, rmI_nn, okI_nn, nn_and, nn_or, nn_xor, shlI_1, shrI_nn, Cont_v, Cont_0, List.mem_cons, List.not_mem_nil, or_false, or_true, true_or, true_and, and_true, ite_not, if_true, if_false, not_true_eq_false, not_false_eq_true, false_or, false_and, and_false, eq_self, ↓reduceIte, reduceCtorEq, rd_K, rd_F, a1, ↓hs]
theorem wr_comm {s : St} {i j a b : Nat} (h : i ≠ j) : wr (wr s i a) j b = wr (wr s j b) i a := by
  funext k
  unfold wr
  by_cases h1 : k = j
  · rw [if_pos h1, if_neg (by omega), if_pos h1]
  · rw [if_neg h1]
    by_cases h2 : k = i
    · rw [if_pos h2, if_pos h2]
    · rw [if_neg h2, if_neg h2, if_neg h1]
theorem c12_book (R : RB g0 g c r t n f) {p : Nat} (hp : p ≤ n) (h0 : (s 0 : Nat) ≤ 6) (h1 : (s 1 : Nat) = 0) : match pBook t n (p, s) with
    | .inl q => FltO g0 r q.1 q.2 (fun Q => Ex mX12_book Q 0 [.ref r, .retAddr 0] [] (LB (RDo g r (nI (tkN t n p)) (nI (tkC t n p)) (nI p) (tkW t n p)) (r + 1) s m (r + 6) (zI (-1000000)) .null))
    | .inr y => y.1 ≤ n ∧ ∀ Q : Po, Ex mX12_book Q 0 [.ref r, .retAddr 0] [] (LB (RDo g r (nI (tkN t n p)) (nI (tkC t n p)) (nI p) (tkW t n p)) (r + 1) s m (r + 6) (zI (-1000000)) .null) = Q (.inl none) (LB (RDo g r (nI (tkN t n y.1)) (nI (tkC t n y.1)) (nI y.1) (tkW t n y.1)) (r + 1) y.2 (upN m (s 0 : Nat) (s 0 : Nat)) (r + 6) (zI (-1000000)) .null) := by
  have R' := R
  obtain ⟨⟨a1, a2, a3, a4⟩, K, -, ⟨a8, a9, a10⟩, -, -, -, hn, ht⟩ := R'
  obtain ⟨k0, ⟨k1, k2, k3, k4, k6, k7⟩, l1, l2, l3, l4, l6, l7⟩ := K
  have K : ∀ x4 x6 x8 x0, LK (RDo g r x4 x6 x8 x0) (r + 1) := fun _ _ _ _ => ⟨k0, ⟨k1, k2, k3, k4, k6, k7⟩, l1, l2, l3, l4, l6, l7⟩
  have p1 := tkN_le (t := t) hp
  have p2 := tkN_le (t := t) p1
  have p3 := tkN_le (t := t) p2
  have p4 := tkN_le (t := t) p3
  have p5 := tkN_le (t := t) p4
  have sg := fun q => (tk_sg (t := t) (n := n) (p := q))
  by_cases h6 : (s 0 : Nat) = 6
  · have e : pBook t n (p, s) = .inl (3, p) := by unfold pBook; rw [if_pos (Or.inr h6), if_neg (by simp only; omega)]
    rw [e]
    obtain ⟨hh, a, b1, b2, b3, b4⟩ := c12_beginF (s := s) (m := m) R (p := p) (k := 6) (w := 6) (by omega) (by omega)
    refine ⟨hh, a, b1, b2, b3, fun Q => ?_⟩
    simp (disch := omega) only [↓rX12_book_0, ↓rX12_book_1, ↓rX12_book_4, ↓rX12_book_7, ↓rX12_book_8, ↓rX12_book_9, ↓rX12_book_10, ↓rX12_book_12, ↓rX12_book_15, ↓rX12_book_16, ↓rX12_book_19, ↓rX12_book_22, ↓rX12_book_23, ↓rX12_book_24, ↓rX12_book_25, ↓rX12_book_27, ↓rX12_book_30, ↓rX12_book_31, ↓rX12_book_32, ↓rX12_book_35, ↓rX12_book_38, ↓rX12_book_39, ↓rX12_book_40, ↓rX12_book_41, ↓rX12_book_43, ↓rX12_book_46, ↓rX12_book_47, ↓rX12_book_48, ↓rX12_book_51, ↓rX12_book_52, ↓rX12_book_53, ↓rX12_book_56, ↓rX12_book_57, ↓rX12_book_60, ↓rX12_book_61, ↓rX12_book_64, ↓rX12_book_65, ↓rX12_book_66, ↓rX12_book_69, ↓rX12_book_70, ↓rX12_book_71, ↓rX12_book_74, ↓rX12_book_t, lG_32, lG_34, lG_36, lG_46, lG_48, lG_56, lG_58, lG_39, lG_41, lG_43, lG_45, lG_53, lG_55, lG_51, lG_60, lG_63, lI_1, lI_2, lI_4, lI_6, lI_7, lI_3, lP_32, lP_34, lP_36, lP_46, lP_48, lP_56, lP_58, lP_51, lP_60, lP_63, lW_1, lW_2, lW_4, lW_6, lW_7, lW_3, lo_K, lo_L, lo_R, lo_N, lo_C, lo_S, lo_F, lo_I, ↓rmI_in, ↓shrI_in, ↓shlI_in, ↓okI_in, ↓bI_01, bI_z, bI_o, nn_neg, Int.cast_ofNat_Int, zlit, n_leT, n_leF, n_ltT, n_ltF, n_eqT, n_eqF, z_leT, z_leF, z_ltT, z_ltF, z_eqT, z_eqF, nn_add, nn_mul, nn_clamp, nn_lt, nn_le, nn_eq, nn_div, rmI_nn, okI_nn, nn_and, nn_or, nn_xor, shlI_1, shrI_nn, Cont_v, Cont_0, List.mem_cons, List.not_mem_nil, or_false, or_true, true_or, true_and, and_true, ite_not, if_true, if_false, not_true_eq_false, not_false_eq_true, false_or, false_and, and_false, eq_self, ↓reduceIte, reduceCtorEq, rd_K, rd_F, a1, a4, k0, k1, k2, k3, k4, k6, k7, l1, l2, l3, l4, l6, l7, h6, ↓b4]
  · have eB : pBook t n (p, s) = pB (pNum t n 0 99 (8 + (s 0 : Nat)) 44 (tkN t n p, wr (wr s (20 + (s 0 : Nat)) (s 0)) 0 ((s 0 : Nat) + 1))) (pNum t n 0 9 (14 + (s 0 : Nat)) 59) := by unfold pBook; rw [if_neg (by simp only; omega)]
    rw [eB]
    have bg := fun Q => c12_beginT (s := s) (m := m) R Q (p := p) (k := (s 0 : Nat)) (w := 6) hp (by omega) (by omega)
    by_cases c1 : tkC t n (tkN t n p) = 2 ∧ 0 ≤ tkV t n (tkN t n p) ∧ tkV t n (tkN t n p) ≤ 99
    · have f1 := fun Q => c12_figureT (s := s) (m := m) R Q (p := tkN t n p) (lo := 0) (hi := 99) p1 (by omega) c1.1 c1.2
      have eN1 : pNum t n 0 99 (8 + (s 0 : Nat)) 44 (tkN t n p, wr (wr s (20 + (s 0 : Nat)) (s 0)) 0 ((s 0 : Nat) + 1)) = pTk t n 44 (tkN t n (tkN t n p), wr (wr (wr s (20 + (s 0 : Nat)) (s 0)) 0 ((s 0 : Nat) + 1)) (8 + (s 0 : Nat)) (tkV t n (tkN t n p))) := if_pos ⟨tk_C2.mp c1.1, c1.2⟩
      rw [eN1]
      by_cases c2 : tkC t n (tkN t n (tkN t n p)) = 3
      · have eT1 : pTk t n 44 (tkN t n (tkN t n p), wr (wr (wr s (20 + (s 0 : Nat)) (s 0)) 0 ((s 0 : Nat) + 1)) (8 + (s 0 : Nat)) (tkV t n (tkN t n p))) = .inr (tkN t n (tkN t n (tkN t n p)), wr (wr (wr s (20 + (s 0 : Nat)) (s 0)) 0 ((s 0 : Nat) + 1)) (8 + (s 0 : Nat)) (tkV t n (tkN t n p))) := if_pos ((sg _).1.mp c2)
        rw [eT1]
        simp only [pB]
        by_cases c3 : tkC t n (tkN t n (tkN t n (tkN t n p))) = 2 ∧ 0 ≤ tkV t n (tkN t n (tkN t n (tkN t n p))) ∧ tkV t n (tkN t n (tkN t n (tkN t n p))) ≤ 9
        · have f2 := fun Q => c12_moreT (s := wr s (8 + (s 0 : Nat)) (tkV t n (tkN t n p))) (m := m) R Q (p := tkN t n (tkN t n p)) (lo := 0) (hi := 9) p2 (by omega) c2 c3.1 c3.2
          have eN2 : pNum t n 0 9 (14 + (s 0 : Nat)) 59 (tkN t n (tkN t n (tkN t n p)), wr (wr (wr s (20 + (s 0 : Nat)) (s 0)) 0 ((s 0 : Nat) + 1)) (8 + (s 0 : Nat)) (tkV t n (tkN t n p))) = pTk t n 59 (tkN t n (tkN t n (tkN t n (tkN t n p))), wr (wr (wr (wr s (20 + (s 0 : Nat)) (s 0)) 0 ((s 0 : Nat) + 1)) (8 + (s 0 : Nat)) (tkV t n (tkN t n p))) (14 + (s 0 : Nat)) (tkV t n (tkN t n (tkN t n (tkN t n p))))) := if_pos ⟨tk_C2.mp c3.1, c3.2⟩
          rw [eN2]
          have eS : wr (wr (wr (wr s (8 + (s 0 : Nat)) (tkV t n (tkN t n p))) (14 + (s 0 : Nat)) (tkV t n (tkN t n (tkN t n (tkN t n p))))) (20 + (s 0 : Nat)) (s 0)) 0 ((s 0 : Nat) + 1) = wr (wr (wr (wr s (20 + (s 0 : Nat)) (s 0)) 0 ((s 0 : Nat) + 1)) (8 + (s 0 : Nat)) (tkV t n (tkN t n p))) (14 + (s 0 : Nat)) (tkV t n (tkN t n (tkN t n (tkN t n p)))) := by
            rw [wr_comm (i := 14 + (s 0 : Nat)) (j := 20 + (s 0 : Nat)) (by omega), wr_comm (i := 8 + (s 0 : Nat)) (j := 20 + (s 0 : Nat)) (by omega), wr_comm (i := 14 + (s 0 : Nat)) (j := 0) (by omega), wr_comm (i := 8 + (s 0 : Nat)) (j := 0) (by omega)]
          have e0 : (wr (wr (wr s (8 + (s 0 : Nat)) (tkV t n (tkN t n p))) (14 + (s 0 : Nat)) (tkV t n (tkN t n (tkN t n (tkN t n p))))) (20 + (s 0 : Nat)) (s 0) 0 : Nat) = (s 0 : Nat) := by rw [wr_ne (by omega), wr_ne (by omega), wr_ne (by omega)]
          have hv1 := c1.2.2
          have hv2 := c3.2.2
          by_cases c4 : tkC t n (tkN t n (tkN t n (tkN t n (tkN t n p)))) = 4
          · have eT2 : pTk t n 59 (tkN t n (tkN t n (tkN t n (tkN t n p))), wr (wr (wr (wr s (20 + (s 0 : Nat)) (s 0)) 0 ((s 0 : Nat) + 1)) (8 + (s 0 : Nat)) (tkV t n (tkN t n p))) (14 + (s 0 : Nat)) (tkV t n (tkN t n (tkN t n (tkN t n p))))) = .inr (tkN t n (tkN t n (tkN t n (tkN t n (tkN t n p)))), wr (wr (wr (wr s (20 + (s 0 : Nat)) (s 0)) 0 ((s 0 : Nat) + 1)) (8 + (s 0 : Nat)) (tkV t n (tkN t n p))) (14 + (s 0 : Nat)) (tkV t n (tkN t n (tkN t n (tkN t n p))))) := if_pos ((sg _).2.1.mp c4)
            rw [eT2]
            refine ⟨p5, fun Q => ?_⟩
            have f3 := fun Q s' m' => c12_signT (s := s') (m := m') R Q (p := tkN t n (tkN t n (tkN t n (tkN t n p)))) (w := 4) p4 c4
            simp (disch := omega) only [↓rX12_book_0, ↓rX12_book_1, ↓rX12_book_4, ↓rX12_book_7, ↓rX12_book_8, ↓rX12_book_9, ↓rX12_book_10, ↓rX12_book_12, ↓rX12_book_15, ↓rX12_book_16, ↓rX12_book_19, ↓rX12_book_22, ↓rX12_book_23, ↓rX12_book_24, ↓rX12_book_25, ↓rX12_book_27, ↓rX12_book_30, ↓rX12_book_31, ↓rX12_book_32, ↓rX12_book_35, ↓rX12_book_38, ↓rX12_book_39, ↓rX12_book_40, ↓rX12_book_41, ↓rX12_book_43, ↓rX12_book_46, ↓rX12_book_47, ↓rX12_book_48, ↓rX12_book_51, ↓rX12_book_52, ↓rX12_book_53, ↓rX12_book_56, ↓rX12_book_57, ↓rX12_book_60, ↓rX12_book_61, ↓rX12_book_64, ↓rX12_book_65, ↓rX12_book_66, ↓rX12_book_69, ↓rX12_book_70, ↓rX12_book_71, ↓rX12_book_74, ↓rX12_book_t, lG_32, lG_34, lG_36, lG_46, lG_48, lG_56, lG_58, lG_39, lG_41, lG_43, lG_45, lG_53, lG_55, lG_51, lG_60, lG_63, lI_1, lI_2, lI_4, lI_6, lI_7, lI_3, lP_32, lP_34, lP_36, lP_46, lP_48, lP_56, lP_58, lP_51, lP_60, lP_63, lW_1, lW_2, lW_4, lW_6, lW_7, lW_3, lo_K, lo_L, lo_R, lo_N, lo_C, lo_S, lo_F, lo_I, ↓rmI_in, ↓shrI_in, ↓shlI_in, ↓okI_in, ↓bI_01, bI_z, bI_o, nn_neg, Int.cast_ofNat_Int, zlit, n_leT, n_leF, n_ltT, n_ltF, n_eqT, n_eqF, z_leT, z_leF, z_ltT, z_ltF, z_eqT, z_eqF, nn_add, nn_mul, nn_clamp, nn_lt, nn_le, nn_eq, nn_div, rmI_nn, okI_nn, nn_and, nn_or, nn_xor, shlI_1, shrI_nn, Cont_v, Cont_0, List.mem_cons, List.not_mem_nil, or_false, or_true, true_or, true_and, and_true, ite_not, if_true, if_false, not_true_eq_false, not_false_eq_true, false_or, false_and, and_false, eq_self, ↓reduceIte, reduceCtorEq, rd_K, rd_L, rd_F, a1, a4, k0, k1, k2, k3, k4, k6, k7, l1, l2, l3, l4, l6, l7, ↓bg, ↓f1, ↓f2, ↓c1_puts _ _ _ _ _ _ _ _ (K _ _ _ _), e0, eS, ↓f3]
          · have eT2 : pTk t n 59 (tkN t n (tkN t n (tkN t n (tkN t n p))), wr (wr (wr (wr s (20 + (s 0 : Nat)) (s 0)) 0 ((s 0 : Nat) + 1)) (8 + (s 0 : Nat)) (tkV t n (tkN t n p))) (14 + (s 0 : Nat)) (tkV t n (tkN t n (tkN t n (tkN t n p))))) = .inl (1, tkN t n (tkN t n (tkN t n (tkN t n p)))) := if_neg (fun q => c4 ((sg _).2.1.mpr q))
            rw [eT2]
            obtain ⟨hh, a, b1, b2, b3, b4⟩ := c12_signF (s := wr (wr (wr (wr s (20 + (s 0 : Nat)) (s 0)) 0 ((s 0 : Nat) + 1)) (8 + (s 0 : Nat)) (tkV t n (tkN t n p))) (14 + (s 0 : Nat)) (tkV t n (tkN t n (tkN t n (tkN t n p))))) (m := upN m (s 0 : Nat) (s 0 : Nat)) R (p := tkN t n (tkN t n (tkN t n (tkN t n p)))) (w := 4) (by omega) c4
            refine ⟨hh, a, b1, b2, b3, fun Q => ?_⟩
            simp (disch := omega) only [↓rX12_book_0, ↓rX12_book_1, ↓rX12_book_4, ↓rX12_book_7, ↓rX12_book_8, ↓rX12_book_9, ↓rX12_book_10, ↓rX12_book_12, ↓rX12_book_15, ↓rX12_book_16, ↓rX12_book_19, ↓rX12_book_22, ↓rX12_book_23, ↓rX12_book_24, ↓rX12_book_25, ↓rX12_book_27, ↓rX12_book_30, ↓rX12_book_31, ↓rX12_book_32, ↓rX12_book_35, ↓rX12_book_38, ↓rX12_book_39, ↓rX12_book_40, ↓rX12_book_41, ↓rX12_book_43, ↓rX12_book_46, ↓rX12_book_47, ↓rX12_book_48, ↓rX12_book_51, ↓rX12_book_52, ↓rX12_book_53, ↓rX12_book_56, ↓rX12_book_57, ↓rX12_book_60, ↓rX12_book_61, ↓rX12_book_64, ↓rX12_book_65, ↓rX12_book_66, ↓rX12_book_69, ↓rX12_book_70, ↓rX12_book_71, ↓rX12_book_74, ↓rX12_book_t, lG_32, lG_34, lG_36, lG_46, lG_48, lG_56, lG_58, lG_39, lG_41, lG_43, lG_45, lG_53, lG_55, lG_51, lG_60, lG_63, lI_1, lI_2, lI_4, lI_6, lI_7, lI_3, lP_32, lP_34, lP_36, lP_46, lP_48, lP_56, lP_58, lP_51, lP_60, lP_63, lW_1, lW_2, lW_4, lW_6, lW_7, lW_3, lo_K, lo_L, lo_R, lo_N, lo_C, lo_S, lo_F, lo_I, ↓rmI_in, ↓shrI_in, ↓shlI_in, ↓okI_in, ↓bI_01, bI_z, bI_o, nn_neg, Int.cast_ofNat_Int, zlit, n_leT, n_leF, n_ltT, n_ltF, n_eqT, n_eqF, z_leT, z_leF, z_ltT, z_ltF, z_eqT, z_eqF, nn_add, nn_mul, nn_clamp, nn_lt, nn_le, nn_eq, nn_div, rmI_nn, okI_nn, nn_and, nn_or, nn_xor, shlI_1, shrI_nn, Cont_v, Cont_0, List.mem_cons, List.not_mem_nil, or_false, or_true, true_or, true_and, and_true, ite_not, if_true, if_false, not_true_eq_false, not_false_eq_true, false_or, false_and, and_false, eq_self, ↓reduceIte, reduceCtorEq, rd_K, rd_L, rd_F, a1, a4, k0, k1, k2, k3, k4, k6, k7, l1, l2, l3, l4, l6, l7, ↓bg, ↓f1, ↓f2, ↓c1_puts _ _ _ _ _ _ _ _ (K _ _ _ _), e0, eS, ↓b4]
        · have eN2 : pNum t n 0 9 (14 + (s 0 : Nat)) 59 (tkN t n (tkN t n (tkN t n p)), wr (wr (wr s (20 + (s 0 : Nat)) (s 0)) 0 ((s 0 : Nat) + 1)) (8 + (s 0 : Nat)) (tkV t n (tkN t n p))) = .inl (if tkC t n (tkN t n (tkN t n (tkN t n p))) = 2 then 2 else 1, tkN t n (tkN t n (tkN t n p))) := by
            unfold pNum
            rw [if_neg (fun q => c3 ⟨tk_C2.mpr q.1, q.2⟩)]
            simp only [tk_C2]
          rw [eN2]
          obtain ⟨hh, a, b1, b2, b3, b4⟩ := c12_moreF (s := wr s (8 + (s 0 : Nat)) (tkV t n (tkN t n p))) (m := m) R (p := tkN t n (tkN t n p)) (lo := 0) (hi := 9) p2 (by omega) (fun q => c3 q.2)
          rw [if_pos c2] at b1
          rw [if_pos c2] at b1
          have hv1 := c1.2.2
          refine ⟨hh, a, b1, b2, b3, fun Q => ?_⟩
          simp (disch := omega) only [↓rX12_book_0, ↓rX12_book_1, ↓rX12_book_4, ↓rX12_book_7, ↓rX12_book_8, ↓rX12_book_9, ↓rX12_book_10, ↓rX12_book_12, ↓rX12_book_15, ↓rX12_book_16, ↓rX12_book_19, ↓rX12_book_22, ↓rX12_book_23, ↓rX12_book_24, ↓rX12_book_25, ↓rX12_book_27, ↓rX12_book_30, ↓rX12_book_31, ↓rX12_book_32, ↓rX12_book_35, ↓rX12_book_38, ↓rX12_book_39, ↓rX12_book_40, ↓rX12_book_41, ↓rX12_book_43, ↓rX12_book_46, ↓rX12_book_47, ↓rX12_book_48, ↓rX12_book_51, ↓rX12_book_52, ↓rX12_book_53, ↓rX12_book_56, ↓rX12_book_57, ↓rX12_book_60, ↓rX12_book_61, ↓rX12_book_64, ↓rX12_book_65, ↓rX12_book_66, ↓rX12_book_69, ↓rX12_book_70, ↓rX12_book_71, ↓rX12_book_74, ↓rX12_book_t, lG_32, lG_34, lG_36, lG_46, lG_48, lG_56, lG_58, lG_39, lG_41, lG_43, lG_45, lG_53, lG_55, lG_51, lG_60, lG_63, lI_1, lI_2, lI_4, lI_6, lI_7, lI_3, lP_32, lP_34, lP_36, lP_46, lP_48, lP_56, lP_58, lP_51, lP_60, lP_63, lW_1, lW_2, lW_4, lW_6, lW_7, lW_3, lo_K, lo_L, lo_R, lo_N, lo_C, lo_S, lo_F, lo_I, ↓rmI_in, ↓shrI_in, ↓shlI_in, ↓okI_in, ↓bI_01, bI_z, bI_o, nn_neg, Int.cast_ofNat_Int, zlit, n_leT, n_leF, n_ltT, n_ltF, n_eqT, n_eqF, z_leT, z_leF, z_ltT, z_ltF, z_eqT, z_eqF, nn_add, nn_mul, nn_clamp, nn_lt, nn_le, nn_eq, nn_div, rmI_nn, okI_nn, nn_and, nn_or, nn_xor, shlI_1, shrI_nn, Cont_v, Cont_0, List.mem_cons, List.not_mem_nil, or_false, or_true, true_or, true_and, and_true, ite_not, if_true, if_false, not_true_eq_false, not_false_eq_true, false_or, false_and, and_false, eq_self, ↓reduceIte, reduceCtorEq, rd_K, rd_L, rd_F, a1, a4, k0, k1, k2, k3, k4, k6, k7, l1, l2, l3, l4, l6, l7, ↓bg, ↓f1, ↓b4]
      · have eT1 : pTk t n 44 (tkN t n (tkN t n p), wr (wr (wr s (20 + (s 0 : Nat)) (s 0)) 0 ((s 0 : Nat) + 1)) (8 + (s 0 : Nat)) (tkV t n (tkN t n p))) = .inl (1, tkN t n (tkN t n p)) := if_neg (fun q => c2 ((sg _).1.mpr q))
        rw [eT1]
        simp only [pB]
        obtain ⟨hh, a, b1, b2, b3, b4⟩ := c12_moreF (s := wr s (8 + (s 0 : Nat)) (tkV t n (tkN t n p))) (m := m) R (p := tkN t n (tkN t n p)) (lo := 0) (hi := 9) p2 (by omega) (fun q => c2 q.1)
        rw [if_neg c2] at b1
        rw [if_neg c2] at b1
        have hv1 := c1.2.2
        refine ⟨hh, a, b1, b2, b3, fun Q => ?_⟩
        simp (disch := omega) only [↓rX12_book_0, ↓rX12_book_1, ↓rX12_book_4, ↓rX12_book_7, ↓rX12_book_8, ↓rX12_book_9, ↓rX12_book_10, ↓rX12_book_12, ↓rX12_book_15, ↓rX12_book_16, ↓rX12_book_19, ↓rX12_book_22, ↓rX12_book_23, ↓rX12_book_24, ↓rX12_book_25, ↓rX12_book_27, ↓rX12_book_30, ↓rX12_book_31, ↓rX12_book_32, ↓rX12_book_35, ↓rX12_book_38, ↓rX12_book_39, ↓rX12_book_40, ↓rX12_book_41, ↓rX12_book_43, ↓rX12_book_46, ↓rX12_book_47, ↓rX12_book_48, ↓rX12_book_51, ↓rX12_book_52, ↓rX12_book_53, ↓rX12_book_56, ↓rX12_book_57, ↓rX12_book_60, ↓rX12_book_61, ↓rX12_book_64, ↓rX12_book_65, ↓rX12_book_66, ↓rX12_book_69, ↓rX12_book_70, ↓rX12_book_71, ↓rX12_book_74, ↓rX12_book_t, lG_32, lG_34, lG_36, lG_46, lG_48, lG_56, lG_58, lG_39, lG_41, lG_43, lG_45, lG_53, lG_55, lG_51, lG_60, lG_63, lI_1, lI_2, lI_4, lI_6, lI_7, lI_3, lP_32, lP_34, lP_36, lP_46, lP_48, lP_56, lP_58, lP_51, lP_60, lP_63, lW_1, lW_2, lW_4, lW_6, lW_7, lW_3, lo_K, lo_L, lo_R, lo_N, lo_C, lo_S, lo_F, lo_I, ↓rmI_in, ↓shrI_in, ↓shlI_in, ↓okI_in, ↓bI_01, bI_z, bI_o, nn_neg, Int.cast_ofNat_Int, zlit, n_leT, n_leF, n_ltT, n_ltF, n_eqT, n_eqF, z_leT, z_leF, z_ltT, z_ltF, z_eqT, z_eqF, nn_add, nn_mul, nn_clamp, nn_lt, nn_le, nn_eq, nn_div, rmI_nn, okI_nn, nn_and, nn_or, nn_xor, shlI_1, shrI_nn, Cont_v, Cont_0, List.mem_cons, List.not_mem_nil, or_false, or_true, true_or, true_and, and_true, ite_not, if_true, if_false, not_true_eq_false, not_false_eq_true, false_or, false_and, and_false, eq_self, ↓reduceIte, reduceCtorEq, rd_K, rd_L, rd_F, a1, a4, k0, k1, k2, k3, k4, k6, k7, l1, l2, l3, l4, l6, l7, ↓bg, ↓f1, ↓b4]
    · have eN1 : pNum t n 0 99 (8 + (s 0 : Nat)) 44 (tkN t n p, wr (wr s (20 + (s 0 : Nat)) (s 0)) 0 ((s 0 : Nat) + 1)) = .inl (if tkC t n (tkN t n p) = 2 then 2 else 1, tkN t n p) := by
        unfold pNum
        rw [if_neg (fun q => c1 ⟨tk_C2.mpr q.1, q.2⟩)]
        simp only [tk_C2]
      rw [eN1]
      simp only [pB]
      obtain ⟨hh, a, b1, b2, b3, b4⟩ := c12_figureF (s := s) (m := m) R (p := tkN t n p) (lo := 0) (hi := 99) p1 (by omega) c1
      refine ⟨hh, a, b1, b2, b3, fun Q => ?_⟩
      simp (disch := omega) only [↓rX12_book_0, ↓rX12_book_1, ↓rX12_book_4, ↓rX12_book_7, ↓rX12_book_8, ↓rX12_book_9, ↓rX12_book_10, ↓rX12_book_12, ↓rX12_book_15, ↓rX12_book_16, ↓rX12_book_19, ↓rX12_book_22, ↓rX12_book_23, ↓rX12_book_24, ↓rX12_book_25, ↓rX12_book_27, ↓rX12_book_30, ↓rX12_book_31, ↓rX12_book_32, ↓rX12_book_35, ↓rX12_book_38, ↓rX12_book_39, ↓rX12_book_40, ↓rX12_book_41, ↓rX12_book_43, ↓rX12_book_46, ↓rX12_book_47, ↓rX12_book_48, ↓rX12_book_51, ↓rX12_book_52, ↓rX12_book_53, ↓rX12_book_56, ↓rX12_book_57, ↓rX12_book_60, ↓rX12_book_61, ↓rX12_book_64, ↓rX12_book_65, ↓rX12_book_66, ↓rX12_book_69, ↓rX12_book_70, ↓rX12_book_71, ↓rX12_book_74, ↓rX12_book_t, lG_32, lG_34, lG_36, lG_46, lG_48, lG_56, lG_58, lG_39, lG_41, lG_43, lG_45, lG_53, lG_55, lG_51, lG_60, lG_63, lI_1, lI_2, lI_4, lI_6, lI_7, lI_3, lP_32, lP_34, lP_36, lP_46, lP_48, lP_56, lP_58, lP_51, lP_60, lP_63, lW_1, lW_2, lW_4, lW_6, lW_7, lW_3, lo_K, lo_L, lo_R, lo_N, lo_C, lo_S, lo_F, lo_I, ↓rmI_in, ↓shrI_in, ↓shlI_in, ↓okI_in, ↓bI_01, bI_z, bI_o, nn_neg, Int.cast_ofNat_Int, zlit, n_leT, n_leF, n_ltT, n_ltF, n_eqT, n_eqF, z_leT, z_leF, z_ltT, z_ltF, z_eqT, z_eqF, nn_add, nn_mul, nn_clamp, nn_lt, nn_le, nn_eq, nn_div, rmI_nn, okI_nn, nn_and, nn_or, nn_xor, shlI_1, shrI_nn, Cont_v, Cont_0, List.mem_cons, List.not_mem_nil, or_false, or_true, true_or, true_and, and_true, ite_not, if_true, if_false, not_true_eq_false, not_false_eq_true, false_or, false_and, and_false, eq_self, ↓reduceIte, reduceCtorEq, rd_K, rd_L, rd_F, a1, a4, k0, k1, k2, k3, k4, k6, k7, l1, l2, l3, l4, l6, l7, ↓bg, ↓b4]
end RD3
