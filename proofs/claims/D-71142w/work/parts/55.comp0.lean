/-! THE CLASS: small static methods, exceptions -/
theorem c0_isIn (Q : Po) (h : Hp) (v lo hi : Int64) : Ex mX0_isIn Q 0 [.long v, .retAddr 1, .long lo, .retAddr 1, .long hi, .retAddr 1] [] h = Q (.inl (some (.int (bI (lo.toInt ≤ v.toInt ∧ v.toInt ≤ hi.toInt))))) h := by
  simp only [↓rX0_isIn_0, ↓rX0_isIn_1, ↓rX0_isIn_2, ↓rX0_isIn_3, ↓rX0_isIn_6, ↓rX0_isIn_7, ↓rX0_isIn_9, ↓rX0_isIn_10, ↓rX0_isIn_13, ↓rX0_isIn_14, ↓rX0_isIn_17, ↓rX0_isIn_18, ↓rX0_isIn_t, lgc_lt, lgc_gt]
  by_cases h1 : v.toInt < lo.toInt
  · rw [bI_f (by omega)]; simp [h1]; rfl
  · by_cases h2 : hi.toInt < v.toInt
    · rw [bI_f (by omega)]; simp [h1, h2]; rfl
    · rw [bI_t (by omega)]; simp [h1, h2]; rfl
theorem c0_isRow (Q : Po) (h : Hp) (r : Int32) : Ex mX0_isRow Q 0 [.int r] [] h = Q (.inl (some (.int (bI (0 ≤ r.toInt ∧ r.toInt ≤ 7))))) h := by
  simp only [↓rX0_isRow_0, ↓rX0_isRow_1, ↓rX0_isRow_2, ↓rX0_isRow_3, ↓rX0_isRow_6, ↓rX0_isRow_9, ↓rX0_isRow_t, ↓c0_isIn, Cont_v, ↓bI_01, true_and, l_toInt]
  rfl
theorem c0_isHalf (Q : Po) (h : Hp) (r : Int32) : Ex mX0_isHalf Q 0 [.int r] [] h = Q (.inl (some (.int (bI (0 ≤ r.toInt ∧ r.toInt ≤ 1))))) h := by
  simp only [↓rX0_isHalf_0, ↓rX0_isHalf_1, ↓rX0_isHalf_2, ↓rX0_isHalf_3, ↓rX0_isHalf_4, ↓rX0_isHalf_7, ↓rX0_isHalf_t, ↓c0_isIn, Cont_v, ↓bI_01, true_and, l_toInt]
  rfl
theorem c0_isFar (Q : Po) (h : Hp) (r : Int32) : Ex mX0_isFar Q 0 [.int r] [] h = Q (.inl (some (.int (bI (0 ≤ r.toInt ∧ r.toInt ≤ 60))))) h := by
  simp only [↓rX0_isFar_0, ↓rX0_isFar_1, ↓rX0_isFar_2, ↓rX0_isFar_3, ↓rX0_isFar_6, ↓rX0_isFar_9, ↓rX0_isFar_t, ↓c0_isIn, Cont_v, ↓bI_01, true_and, l_toInt]
  rfl
theorem c0_isLong (Q : Po) (h : Hp) (r : Int32) : Ex mX0_isLong Q 0 [.int r] [] h = Q (.inl (some (.int (bI (1 ≤ r.toInt ∧ r.toInt ≤ 60))))) h := by
  simp only [↓rX0_isLong_0, ↓rX0_isLong_1, ↓rX0_isLong_2, ↓rX0_isLong_3, ↓rX0_isLong_6, ↓rX0_isLong_9, ↓rX0_isLong_t, ↓c0_isIn, Cont_v, ↓bI_01, true_and, l_toInt]
  rfl
theorem c0_isShort (Q : Po) (h : Hp) (r : Int32) : Ex mX0_isShort Q 0 [.int r] [] h = Q (.inl (some (.int (bI (1 ≤ r.toInt ∧ r.toInt ≤ 12))))) h := by
  simp only [↓rX0_isShort_0, ↓rX0_isShort_1, ↓rX0_isShort_2, ↓rX0_isShort_3, ↓rX0_isShort_6, ↓rX0_isShort_9, ↓rX0_isShort_t, ↓c0_isIn, Cont_v, ↓bI_01, true_and, l_toInt]
  rfl
theorem c0_has (Q : Po) (h : Hp) {x k : Nat} (hx : x < 2147483648 ∧ k < 32) : Ex mX0_has Q 0 [.int (nI x), .int (nI k)] [] h = Q (.inl (some (.int (bI (hb x k = true))))) h := by
  simp (disch := omega) only [↓rX0_has_0, ↓rX0_has_1, ↓rX0_has_2, ↓rX0_has_3, ↓rX0_has_4, ↓rX0_has_5, ↓rX0_has_6, ↓rX0_has_9, ↓rX0_has_10, ↓rX0_has_13, ↓rX0_has_14, ↓rX0_has_t, ↓rmI_in, ↓shrI_in, ↓shlI_in, ↓okI_in, ↓bI_01, bI_z, bI_o, nn_neg, Int.cast_ofNat_Int, zlit, n_leT, n_leF, n_ltT, n_ltF, n_eqT, n_eqF, z_leT, z_leF, z_ltT, z_ltF, z_eqT, z_eqF, nn_add, nn_mul, nn_clamp, nn_lt, nn_le, nn_eq, nn_div, rmI_nn, okI_nn, nn_and, nn_or, nn_xor, shlI_1, shrI_nn, Cont_v, Cont_0, List.mem_cons, List.not_mem_nil, or_false, or_true, true_or, true_and, and_true, ite_not, if_true, if_false, not_true_eq_false, not_false_eq_true, false_or, false_and, and_false, eq_self, ↓reduceIte, reduceCtorEq, Nat.and_one_is_mod]
  exact hbQ _ _ _ _
/-- cells that come new; nothing else changes -/
def SmX (h h' : Hp) (x : Nat) : Prop := gK h' x = gK h x ∧ gL h' x = gL h x ∧ (∀ f, gF h' f x = gF h f x) ∧ (∀ i, gI h' x i = gI h x i) ∧ (∀ i, gR h' x i = gR h x i)
def Xt (h h' : Hp) (m sl : Nat) : Prop := gN h' = gN h + m ∧ gC h' = gC h - m ∧ gS h' = gS h - sl ∧ ∀ x, x < gN h ∨ gN h + m ≤ x → SmX h h' x
/-- the statics are references, two of them may be null -/
def StR (h : Hp) : Prop := (∃ u, gF h 1001 0 = .ref u) ∧ (∃ u, gF h 1003 0 = va_rf u) ∧ (∃ u, gF h 1005 0 = va_rf u) ∧ 0 < gN h
theorem rJ3_13v (Q : Po) (h : Hp) (ls st : List Value) (u : Option Nat) (a : Nat) : Ex mJ3_init_2 Q 13 ls (va_rf u :: .ref a :: st) h = (gK h a ∈ ([10, 13, 15, 16] : List Nat) ∧ Ex mJ3_init_2 Q 16 ls st (pF h 125 a (va_rf u))) := by
  cases u with
  | none => exact rJ3_init_2_13n Q h ls st a
  | some x => exact rJ3_init_2_13 Q h ls st x a
theorem rJ3_20v (Q : Po) (h : Hp) (ls st : List Value) (u : Option Nat) (a : Nat) : Ex mJ3_init_2 Q 20 ls (va_rf u :: .ref a :: st) h = (gK h a ∈ ([10, 13, 15, 16] : List Nat) ∧ Ex mJ3_init_2 Q 23 ls st (pF h 127 a (va_rf u))) := by
  cases u with
  | none => exact rJ3_init_2_20n Q h ls st a
  | some x => exact rJ3_init_2_20 Q h ls st x a
theorem rJ4_init_6n (Q : Po) (h : Hp) (ls : List Value) (a2 a3 : Int32) (b : Nat) : Ex mJ4_init Q 6 ls (.int a3 :: .int a2 :: .null :: .null :: .ref b :: []) h = Ex mJ3_init_2 (Cont mJ4_init Q 6 ls 9 []) 0 [.ref b, .null, .null, .int a2, .int a3] [] h := Ex_cl (n := 5) (as := [.ref b, .null, .null, .int a2, .int a3]) rfl rfl
theorem c0_must1 (Q : Po) (h : Hp) (k : Int32) : Ex mX0_must Q 0 [.int (nI 1), .int k] [] h = Q (.inl none) h := by
  simp (disch := omega) only [↓rX0_must_0, ↓rX0_must_1, ↓rX0_must_4, ↓rX0_must_7, ↓rX0_must_8, ↓rX0_must_9, ↓rX0_must_12, ↓rX0_must_13, ↓rX0_must_t, ↓rmI_in, ↓shrI_in, ↓shlI_in, ↓okI_in, ↓bI_01, bI_z, bI_o, nn_neg, Int.cast_ofNat_Int, zlit, n_leT, n_leF, n_ltT, n_ltF, n_eqT, n_eqF, z_leT, z_leF, z_ltT, z_ltF, z_eqT, z_eqF, nn_add, nn_mul, nn_clamp, nn_lt, nn_le, nn_eq, nn_div, rmI_nn, okI_nn, nn_and, nn_or, nn_xor, shlI_1, shrI_nn, Cont_v, Cont_0, List.mem_cons, List.not_mem_nil, or_false, or_true, true_or, true_and, and_true, ite_not, if_true, if_false, not_true_eq_false, not_false_eq_true, false_or, false_and, and_false, eq_self, ↓reduceIte, reduceCtorEq]
theorem c0_must0 (h : Hp) (k : Int32) (hs : StR h) (hc : 1 ≤ gC h ∧ 7 ≤ gS h) : ∃ h', Xt h h' 1 7 ∧ gK h' (gN h) = 10 ∧ gF h' 134 (gN h) = .int k ∧ ∀ Q : Po, Ex mX0_must Q 0 [.int (nI 0), .int k] [] h = Q (.inr (gN h)) h' := by
  obtain ⟨-, ⟨u1, e1⟩, ⟨u2, e2⟩, hN⟩ := hs
  have ne0 : ¬ (0 : Nat) = gN h := by omega
  refine ⟨pF (pF (pF (pF (pF (pF (pF (pF (nO h 10 7) 123 (gN h) (.ref (gN h))) 125 (gN h) (va_rf u1)) 127 (gN h) (va_rf u2)) 125 (gN h) .null) 129 (gN h) .null) 123 (gN h) .null) 127 (gN h) .null) 134 (gN h) (.int k), ?_, ?_, ?_, fun Q => ?_⟩
  · refine ⟨rfl, rfl, rfl, fun x hx => ?_⟩
    have hne : ¬ x = gN h := by omega
    refine ⟨?_, rfl, fun f => ?_, fun i => rfl, fun i => rfl⟩
    · simp only [gK_pF, gK_nO, if_neg hne]
    · simp only [gF_pF, gF_nO, hne, and_false, if_false]
  · simp only [gK_pF, gK_nO, if_true]
  · simp only [gF_pF, and_self, if_true]
  · simp (disch := omega) only [↓rX0_must_0, ↓rX0_must_1, ↓rX0_must_4, ↓rX0_must_7, ↓rX0_must_8, ↓rX0_must_9, ↓rX0_must_12, ↓rX0_must_13, ↓rX0_must_t, ↓rX10_init_0, ↓rX10_init_1, ↓rX10_init_2, ↓rX10_init_3, ↓rX10_init_4, ↓rX10_init_5, ↓rX10_init_8, ↓rX10_init_9, ↓rX10_init_10, ↓rX10_init_13, ↓rX10_init_t, ↓rJ4_init_0, ↓rJ4_init_0n, ↓rJ4_init_1, ↓rJ4_init_1n, ↓rJ4_init_2, ↓rJ4_init_2n, ↓rJ4_init_3, ↓rJ4_init_4, ↓rJ4_init_6, ↓rJ4_init_9, ↓rJ4_init_t, ↓rJ4_init_6n, ↓rJ3_init_2_0, ↓rJ3_init_2_0n, ↓rJ3_init_2_1, ↓rJ3_init_2_4, ↓rJ3_init_2_4n, ↓rJ3_init_2_5, ↓rJ3_init_2_5n, ↓rJ3_init_2_6, ↓rJ3_init_2_6n, ↓rJ3_init_2_9, ↓rJ3_init_2_9n, ↓rJ3_init_2_10, ↓rJ3_init_2_13, ↓rJ3_init_2_13n, ↓rJ3_init_2_16, ↓rJ3_init_2_16n, ↓rJ3_init_2_17, ↓rJ3_init_2_20, ↓rJ3_init_2_20n, ↓rJ3_init_2_23, ↓rJ3_init_2_25, ↓rJ3_init_2_28, ↓rJ3_init_2_28n, ↓rJ3_init_2_32, ↓rJ3_init_2_33, ↓rJ3_init_2_36, ↓rJ3_init_2_36n, ↓rJ3_init_2_37, ↓rJ3_init_2_38, ↓rJ3_init_2_38n, ↓rJ3_init_2_41, ↓rJ3_init_2_41n, ↓rJ3_init_2_42, ↓rJ3_init_2_42n, ↓rJ3_init_2_43, ↓rJ3_init_2_43n, ↓rJ3_init_2_46, ↓rJ3_init_2_46n, ↓rJ3_init_2_47, ↓rJ3_init_2_47n, ↓rJ3_init_2_48, ↓rJ3_init_2_48n, ↓rJ3_init_2_51, ↓rJ3_init_2_52, ↓rJ3_init_2_55, ↓rJ3_init_2_55n, ↓rJ3_init_2_56, ↓rJ3_init_2_57, ↓rJ3_init_2_57n, ↓rJ3_init_2_60, ↓rJ3_init_2_t, ↓rJ3_13v, ↓rJ3_20v, ↓rmI_in, ↓shrI_in, ↓shlI_in, ↓okI_in, ↓bI_01, bI_z, bI_o, nn_neg, Int.cast_ofNat_Int, zlit, n_leT, n_leF, n_ltT, n_ltF, n_eqT, n_eqF, z_leT, z_leF, z_ltT, z_ltF, z_eqT, z_eqF, nn_add, nn_mul, nn_clamp, nn_lt, nn_le, nn_eq, nn_div, rmI_nn, okI_nn, nn_and, nn_or, nn_xor, shlI_1, shrI_nn, Cont_v, Cont_0, List.mem_cons, List.not_mem_nil, or_false, or_true, true_or, true_and, and_true, ite_not, if_true, if_false, not_true_eq_false, not_false_eq_true, false_or, false_and, and_false, eq_self, ↓reduceIte, reduceCtorEq, gK_pF, gK_nO, gF_pF, gF_nO, e1, e2, ne0, hc]
