/-! A LIBRARY'S NIGHT -/
theorem eatS_0 {s : St} {f : Nat} (h : much s f = 0) (hd : (s (36 + f) : Nat) ≤ 999) : eatS s f = s := by
  unfold eatS
  rw [h, Nat.sub_zero, wr_id rfl, Nat.add_zero, Nat.min_eq_right hd, wr_id rfl]
def fishT (f : Nat) (s : St) : St := if hb (s 7) f = true then s else eatS (goS s f) f
theorem fishL_T (n k : Nat) (s : St) (g : Nat → Nat) : (lf fishS n k (s, g)).1 = lf fishT n k s := by
  induction n with
  | zero => rfl
  | succ n ih =>
    rw [lf_end, lf_end, ← ih]
    unfold fishS fishT
    split <;> rfl
theorem night_T (s : St) : night s = night2 (lf fishT (s 1) 0 s) := by
  unfold night nightG
  simp only
  rw [fishL_T]
theorem shutB_op {s : St} {k : Nat} (h : opB s k = true) : shutB s k = false ∧ 0 < (s (8 + k) : Nat) := by
  unfold opB at h
  cases hs : shutB s k with
  | true => rw [hs] at h; simp at h
  | false => rw [hs] at h; exact ⟨rfl, by simpa using h⟩
theorem much_op {s : St} {f : Nat} (h : ¬ opB s (bookAt s (s (31 + f))) = true) : much s f = 0 := by
  unfold much
  cases hs : shutB s (bookAt s (s (31 + f))) with
  | true => rw [if_pos rfl]
  | false =>
    rw [if_neg (by decide)]
    have : ¬ 0 < (s (8 + bookAt s (s (31 + f))) : Nat) := fun q => h (opB_t hs q)
    omega
section L2
variable (Q : Po) (b : Hp) (a : Nat) (s : St) (n : Nat → Nat) (p : Nat) (tf : Int32) (tk : Value)
theorem c4_goes (hK : LK b a) {t fr x : Nat} (hM : (s 0 : Nat) ≤ 6) (hn : ∀ j, j < (s 0 : Nat) → n j = bookAt s j ∧ bookAt s j < 6) (hfr : fr < 4096) (hx : (gK b x = 4 ∧ t = 1) ∨ (gK b x = 5 ∧ t = 2) ∨ (gK b x = 6 ∧ t = 1)) : Ex mX4_goes Q 0 [.ref x, .int (nI fr), .ref a] [] (LB b a s n p tf tk) = Q (.inl (some (.int (nI (near fr (lkd s t fr)))))) (LB b a s n p tf tk) := by
  have hK' := hK
  obtain ⟨k0, ⟨k1, k2, k3, k4, k6, k7⟩, l1, l2, l3, l4, l6, l7⟩ := hK
  have hq : ∀ t q, lkd s t fr = some q → q.1 < 4096 := fun t q hq => by have := lkd_lt hq; omega
  rcases hx with ⟨kx, ht⟩ | ⟨kx, ht⟩ | ⟨kx, ht⟩
  · have kx' : gK (LB b a s n p tf tk) x = 4 := kx
    subst ht
    simp (disch := first | exact kx' | omega) only [↓rX4_goes_0, ↓rX4_goes_1, ↓rX4_goes_2, ↓rX4_goes_3, ↓rX4_goes_4, ↓rX4_goes_5k4, ↓rX4_goes_5k5, ↓rX4_goes_5k6, ↓rX4_goes_8, ↓rX4_goes_11, ↓rX4_goes_14, ↓rX4_goes_t, ↓rX4_taste_0, ↓rX4_taste_1, ↓rX4_taste_t, lG_32, lG_34, lG_36, lG_46, lG_48, lG_56, lG_58, lG_39, lG_41, lG_43, lG_45, lG_53, lG_55, lG_51, lG_60, lG_63, lI_1, lI_2, lI_4, lI_6, lI_7, lI_3, lP_32, lP_34, lP_36, lP_46, lP_48, lP_56, lP_58, lP_51, lP_60, lP_63, lW_1, lW_2, lW_4, lW_6, lW_7, lW_3, lo_K, lo_L, lo_R, lo_N, lo_C, lo_S, lo_F, lo_I, ↓rmI_in, ↓shrI_in, ↓shlI_in, ↓okI_in, ↓bI_01, bI_z, bI_o, nn_neg, Int.cast_ofNat_Int, zlit, n_leT, n_leF, n_ltT, n_ltF, n_eqT, n_eqF, z_leT, z_leF, z_ltT, z_ltF, z_eqT, z_eqF, nn_add, nn_mul, nn_clamp, nn_lt, nn_le, nn_eq, nn_div, rmI_nn, okI_nn, nn_and, nn_or, nn_xor, shlI_1, shrI_nn, Cont_v, Cont_0, List.mem_cons, List.not_mem_nil, or_false, or_true, true_or, true_and, and_true, ite_not, if_true, if_false, not_true_eq_false, not_false_eq_true, false_or, false_and, and_false, eq_self, ↓reduceIte, reduceCtorEq, k0, k1, k2, k3, k4, k6, k7, l1, l2, l3, l4, l6, l7, ↓c1_liked _ _ _ _ _ _ _ _ hK' hM hn, ↓c1_nearer _ _ _ _ _ _ _ _ hfr (hq _)]
  · have kx' : gK (LB b a s n p tf tk) x = 5 := kx
    subst ht
    simp (disch := first | exact kx' | omega) only [↓rX4_goes_0, ↓rX4_goes_1, ↓rX4_goes_2, ↓rX4_goes_3, ↓rX4_goes_4, ↓rX4_goes_5k4, ↓rX4_goes_5k5, ↓rX4_goes_5k6, ↓rX4_goes_8, ↓rX4_goes_11, ↓rX4_goes_14, ↓rX4_goes_t, ↓rX4_taste_0, ↓rX4_taste_1, ↓rX4_taste_t, ↓rX5_taste_0, ↓rX5_taste_1, ↓rX5_taste_2, ↓rX5_taste_5, ↓rX5_taste_6, ↓rX5_taste_t, lG_32, lG_34, lG_36, lG_46, lG_48, lG_56, lG_58, lG_39, lG_41, lG_43, lG_45, lG_53, lG_55, lG_51, lG_60, lG_63, lI_1, lI_2, lI_4, lI_6, lI_7, lI_3, lP_32, lP_34, lP_36, lP_46, lP_48, lP_56, lP_58, lP_51, lP_60, lP_63, lW_1, lW_2, lW_4, lW_6, lW_7, lW_3, lo_K, lo_L, lo_R, lo_N, lo_C, lo_S, lo_F, lo_I, ↓rmI_in, ↓shrI_in, ↓shlI_in, ↓okI_in, ↓bI_01, bI_z, bI_o, nn_neg, Int.cast_ofNat_Int, zlit, n_leT, n_leF, n_ltT, n_ltF, n_eqT, n_eqF, z_leT, z_leF, z_ltT, z_ltF, z_eqT, z_eqF, nn_add, nn_mul, nn_clamp, nn_lt, nn_le, nn_eq, nn_div, rmI_nn, okI_nn, nn_and, nn_or, nn_xor, shlI_1, shrI_nn, Cont_v, Cont_0, List.mem_cons, List.not_mem_nil, or_false, or_true, true_or, true_and, and_true, ite_not, if_true, if_false, not_true_eq_false, not_false_eq_true, false_or, false_and, and_false, eq_self, ↓reduceIte, reduceCtorEq, k0, k1, k2, k3, k4, k6, k7, l1, l2, l3, l4, l6, l7, kx, ↓c1_liked _ _ _ _ _ _ _ _ hK' hM hn, ↓c1_nearer _ _ _ _ _ _ _ _ hfr (hq _)]
  · have kx' : gK (LB b a s n p tf tk) x = 6 := kx
    subst ht
    simp (disch := first | exact kx' | omega) only [↓rX4_goes_0, ↓rX4_goes_1, ↓rX4_goes_2, ↓rX4_goes_3, ↓rX4_goes_4, ↓rX4_goes_5k4, ↓rX4_goes_5k5, ↓rX4_goes_5k6, ↓rX4_goes_8, ↓rX4_goes_11, ↓rX4_goes_14, ↓rX4_goes_t, ↓rX4_taste_0, ↓rX4_taste_1, ↓rX4_taste_t, lG_32, lG_34, lG_36, lG_46, lG_48, lG_56, lG_58, lG_39, lG_41, lG_43, lG_45, lG_53, lG_55, lG_51, lG_60, lG_63, lI_1, lI_2, lI_4, lI_6, lI_7, lI_3, lP_32, lP_34, lP_36, lP_46, lP_48, lP_56, lP_58, lP_51, lP_60, lP_63, lW_1, lW_2, lW_4, lW_6, lW_7, lW_3, lo_K, lo_L, lo_R, lo_N, lo_C, lo_S, lo_F, lo_I, ↓rmI_in, ↓shrI_in, ↓shlI_in, ↓okI_in, ↓bI_01, bI_z, bI_o, nn_neg, Int.cast_ofNat_Int, zlit, n_leT, n_leF, n_ltT, n_ltF, n_eqT, n_eqF, z_leT, z_leF, z_ltT, z_ltF, z_eqT, z_eqF, nn_add, nn_mul, nn_clamp, nn_lt, nn_le, nn_eq, nn_div, rmI_nn, okI_nn, nn_and, nn_or, nn_xor, shlI_1, shrI_nn, Cont_v, Cont_0, List.mem_cons, List.not_mem_nil, or_false, or_true, true_or, true_and, and_true, ite_not, if_true, if_false, not_true_eq_false, not_false_eq_true, false_or, false_and, and_false, eq_self, ↓reduceIte, reduceCtorEq, k0, k1, k2, k3, k4, k6, k7, l1, l2, l3, l4, l6, l7, ↓c1_liked _ _ _ _ _ _ _ _ hK' hM hn, ↓c1_nearer _ _ _ _ _ _ _ _ hfr (hq _)]
theorem c6_goes (hK : LK b a) {fr x : Nat} (hM : (s 0 : Nat) ≤ 6) (hn : ∀ j, j < (s 0 : Nat) → n j = bookAt s j ∧ bookAt s j < 6) (hfr : fr < (s 0 : Nat)) (kx : gK b x = 6) : Ex mX6_goes Q 0 [.ref x, .int (nI fr), .ref a] [] (LB b a s n p tf tk) = Q (.inl (some (.int (nI (if hb (s 5) (bookAt s fr) = true then (fr + 2) % (s 0 : Nat) else near fr (lkd s 1 fr)))))) (LB b a s n p tf tk) := by
  have hK' := hK
  obtain ⟨k0, ⟨k1, k2, k3, k4, k6, k7⟩, l1, l2, l3, l4, l6, l7⟩ := hK
  obtain ⟨n1, n2⟩ := hn fr hfr
  cases hl : hb (s 5) (bookAt s fr) with
  | true =>
    rw [if_pos rfl]
    simp (disch := omega) only [↓rX6_goes_0, ↓rX6_goes_1, ↓rX6_goes_2, ↓rX6_goes_5, ↓rX6_goes_6, ↓rX6_goes_7, ↓rX6_goes_10, ↓rX6_goes_13, ↓rX6_goes_14, ↓rX6_goes_15, ↓rX6_goes_16, ↓rX6_goes_17, ↓rX6_goes_20, ↓rX6_goes_21, ↓rX6_goes_24, ↓rX6_goes_25, ↓rX6_goes_26, ↓rX6_goes_27, ↓rX6_goes_30, ↓rX6_goes_t, lG_32, lG_34, lG_36, lG_46, lG_48, lG_56, lG_58, lG_39, lG_41, lG_43, lG_45, lG_53, lG_55, lG_51, lG_60, lG_63, lI_1, lI_2, lI_4, lI_6, lI_7, lI_3, lP_32, lP_34, lP_36, lP_46, lP_48, lP_56, lP_58, lP_51, lP_60, lP_63, lW_1, lW_2, lW_4, lW_6, lW_7, lW_3, lo_K, lo_L, lo_R, lo_N, lo_C, lo_S, lo_F, lo_I, ↓rmI_in, ↓shrI_in, ↓shlI_in, ↓okI_in, ↓bI_01, bI_z, bI_o, nn_neg, Int.cast_ofNat_Int, zlit, n_leT, n_leF, n_ltT, n_ltF, n_eqT, n_eqF, z_leT, z_leF, z_ltT, z_ltF, z_eqT, z_eqF, nn_add, nn_mul, nn_clamp, nn_lt, nn_le, nn_eq, nn_div, rmI_nn, okI_nn, nn_and, nn_or, nn_xor, shlI_1, shrI_nn, Cont_v, Cont_0, List.mem_cons, List.not_mem_nil, or_false, or_true, true_or, true_and, and_true, ite_not, if_true, if_false, not_true_eq_false, not_false_eq_true, false_or, false_and, and_false, eq_self, ↓reduceIte, reduceCtorEq, k0, k1, k2, k3, k4, k6, k7, l1, l2, l3, l4, l6, l7, n1, ↓c1_isLit _ _ _ _ _ _ _ _ hK', hl]
  | false =>
    rw [if_neg (by decide)]
    simp (disch := omega) only [↓rX6_goes_0, ↓rX6_goes_1, ↓rX6_goes_2, ↓rX6_goes_5, ↓rX6_goes_6, ↓rX6_goes_7, ↓rX6_goes_10, ↓rX6_goes_13, ↓rX6_goes_14, ↓rX6_goes_15, ↓rX6_goes_16, ↓rX6_goes_17, ↓rX6_goes_20, ↓rX6_goes_21, ↓rX6_goes_24, ↓rX6_goes_25, ↓rX6_goes_26, ↓rX6_goes_27, ↓rX6_goes_30, ↓rX6_goes_t, lG_32, lG_34, lG_36, lG_46, lG_48, lG_56, lG_58, lG_39, lG_41, lG_43, lG_45, lG_53, lG_55, lG_51, lG_60, lG_63, lI_1, lI_2, lI_4, lI_6, lI_7, lI_3, lP_32, lP_34, lP_36, lP_46, lP_48, lP_56, lP_58, lP_51, lP_60, lP_63, lW_1, lW_2, lW_4, lW_6, lW_7, lW_3, lo_K, lo_L, lo_R, lo_N, lo_C, lo_S, lo_F, lo_I, ↓rmI_in, ↓shrI_in, ↓shlI_in, ↓okI_in, ↓bI_01, bI_z, bI_o, nn_neg, Int.cast_ofNat_Int, zlit, n_leT, n_leF, n_ltT, n_ltF, n_eqT, n_eqF, z_leT, z_leF, z_ltT, z_ltF, z_eqT, z_eqF, nn_add, nn_mul, nn_clamp, nn_lt, nn_le, nn_eq, nn_div, rmI_nn, okI_nn, nn_and, nn_or, nn_xor, shlI_1, shrI_nn, Cont_v, Cont_0, List.mem_cons, List.not_mem_nil, or_false, or_true, true_or, true_and, and_true, ite_not, if_true, if_false, not_true_eq_false, not_false_eq_true, false_or, false_and, and_false, eq_self, ↓reduceIte, reduceCtorEq, k0, k1, k2, k3, k4, k6, k7, l1, l2, l3, l4, l6, l7, n1, ↓c1_isLit _ _ _ _ _ _ _ _ hK', hl, kx, ↓c4_goes _ _ _ _ _ _ _ _ hK' hM hn (show fr < 4096 by omega) (Or.inr (Or.inr ⟨kx, rfl⟩))]
theorem c7_goes (hK : LK b a) {fr x : Nat} (hM : (s 0 : Nat) ≤ 6) (hfr : fr < (s 0 : Nat)) : Ex mX7_goes Q 0 [.ref x, .int (nI fr), .ref a] [] (LB b a s n p tf tk) = Q (.inl (some (.int (nI ((fr + 1) % (s 0 : Nat)))))) (LB b a s n p tf tk) := by
  obtain ⟨k0, ⟨k1, k2, k3, k4, k6, k7⟩, l1, l2, l3, l4, l6, l7⟩ := hK
  simp (disch := omega) only [↓rX7_goes_0, ↓rX7_goes_1, ↓rX7_goes_2, ↓rX7_goes_3, ↓rX7_goes_4, ↓rX7_goes_7, ↓rX7_goes_8, ↓rX7_goes_t, lG_32, lG_34, lG_36, lG_46, lG_48, lG_56, lG_58, lG_39, lG_41, lG_43, lG_45, lG_53, lG_55, lG_51, lG_60, lG_63, lI_1, lI_2, lI_4, lI_6, lI_7, lI_3, lP_32, lP_34, lP_36, lP_46, lP_48, lP_56, lP_58, lP_51, lP_60, lP_63, lW_1, lW_2, lW_4, lW_6, lW_7, lW_3, lo_K, lo_L, lo_R, lo_N, lo_C, lo_S, lo_F, lo_I, ↓rmI_in, ↓shrI_in, ↓shlI_in, ↓okI_in, ↓bI_01, bI_z, bI_o, nn_neg, Int.cast_ofNat_Int, zlit, n_leT, n_leF, n_ltT, n_ltF, n_eqT, n_eqF, z_leT, z_leF, z_ltT, z_ltF, z_eqT, z_eqF, nn_add, nn_mul, nn_clamp, nn_lt, nn_le, nn_eq, nn_div, rmI_nn, okI_nn, nn_and, nn_or, nn_xor, shlI_1, shrI_nn, Cont_v, Cont_0, List.mem_cons, List.not_mem_nil, or_false, or_true, true_or, true_and, and_true, ite_not, if_true, if_false, not_true_eq_false, not_false_eq_true, false_or, false_and, and_false, eq_self, ↓reduceIte, reduceCtorEq, k0, k1, k2, k3, k4, k6, k7, l1, l2, l3, l4, l6, l7]
theorem c8_goes (hK : LK b a) {fr x : Nat} (hM : (s 0 : Nat) ≤ 6) (hn : ∀ j, j < (s 0 : Nat) → n j = bookAt s j ∧ bookAt s j < 6) (hfr : fr < (s 0 : Nat)) (kx : gK b x = 8) : Ex mX8_goes Q 0 [.ref x, .int (nI fr), .ref a] [] (LB b a s n p tf tk) = Q (.inl (some (.int (nI (if opB s (bookAt s fr) = false then (fr + 1) % (s 0 : Nat) else fr))))) (LB b a s n p tf tk) := by
  have hK' := hK
  obtain ⟨k0, ⟨k1, k2, k3, k4, k6, k7⟩, l1, l2, l3, l4, l6, l7⟩ := hK
  obtain ⟨n1, n2⟩ := hn fr hfr
  cases hl : opB s (bookAt s fr) with
  | true =>
    rw [if_neg (by decide)]
    simp (disch := omega) only [↓rX8_goes_0, ↓rX8_goes_1, ↓rX8_goes_2, ↓rX8_goes_5, ↓rX8_goes_6, ↓rX8_goes_7, ↓rX8_goes_10, ↓rX8_goes_13, ↓rX8_goes_14, ↓rX8_goes_17, ↓rX8_goes_18, ↓rX8_goes_19, ↓rX8_goes_20, ↓rX8_goes_23, ↓rX8_goes_t, lG_32, lG_34, lG_36, lG_46, lG_48, lG_56, lG_58, lG_39, lG_41, lG_43, lG_45, lG_53, lG_55, lG_51, lG_60, lG_63, lI_1, lI_2, lI_4, lI_6, lI_7, lI_3, lP_32, lP_34, lP_36, lP_46, lP_48, lP_56, lP_58, lP_51, lP_60, lP_63, lW_1, lW_2, lW_4, lW_6, lW_7, lW_3, lo_K, lo_L, lo_R, lo_N, lo_C, lo_S, lo_F, lo_I, ↓rmI_in, ↓shrI_in, ↓shlI_in, ↓okI_in, ↓bI_01, bI_z, bI_o, nn_neg, Int.cast_ofNat_Int, zlit, n_leT, n_leF, n_ltT, n_ltF, n_eqT, n_eqF, z_leT, z_leF, z_ltT, z_ltF, z_eqT, z_eqF, nn_add, nn_mul, nn_clamp, nn_lt, nn_le, nn_eq, nn_div, rmI_nn, okI_nn, nn_and, nn_or, nn_xor, shlI_1, shrI_nn, Cont_v, Cont_0, List.mem_cons, List.not_mem_nil, or_false, or_true, true_or, true_and, and_true, ite_not, if_true, if_false, not_true_eq_false, not_false_eq_true, false_or, false_and, and_false, eq_self, ↓reduceIte, reduceCtorEq, k0, k1, k2, k3, k4, k6, k7, l1, l2, l3, l4, l6, l7, n1, ↓c1_isOpen _ _ _ _ _ _ _ _ hK', hl]
  | false =>
    rw [if_pos rfl]
    simp (disch := omega) only [↓rX8_goes_0, ↓rX8_goes_1, ↓rX8_goes_2, ↓rX8_goes_5, ↓rX8_goes_6, ↓rX8_goes_7, ↓rX8_goes_10, ↓rX8_goes_13, ↓rX8_goes_14, ↓rX8_goes_17, ↓rX8_goes_18, ↓rX8_goes_19, ↓rX8_goes_20, ↓rX8_goes_23, ↓rX8_goes_t, lG_32, lG_34, lG_36, lG_46, lG_48, lG_56, lG_58, lG_39, lG_41, lG_43, lG_45, lG_53, lG_55, lG_51, lG_60, lG_63, lI_1, lI_2, lI_4, lI_6, lI_7, lI_3, lP_32, lP_34, lP_36, lP_46, lP_48, lP_56, lP_58, lP_51, lP_60, lP_63, lW_1, lW_2, lW_4, lW_6, lW_7, lW_3, lo_K, lo_L, lo_R, lo_N, lo_C, lo_S, lo_F, lo_I, ↓rmI_in, ↓shrI_in, ↓shlI_in, ↓okI_in, ↓bI_01, bI_z, bI_o, nn_neg, Int.cast_ofNat_Int, zlit, n_leT, n_leF, n_ltT, n_ltF, n_eqT, n_eqF, z_leT, z_leF, z_ltT, z_ltF, z_eqT, z_eqF, nn_add, nn_mul, nn_clamp, nn_lt, nn_le, nn_eq, nn_div, rmI_nn, okI_nn, nn_and, nn_or, nn_xor, shlI_1, shrI_nn, Cont_v, Cont_0, List.mem_cons, List.not_mem_nil, or_false, or_true, true_or, true_and, and_true, ite_not, if_true, if_false, not_true_eq_false, not_false_eq_true, false_or, false_and, and_false, eq_self, ↓reduceIte, reduceCtorEq, k0, k1, k2, k3, k4, k6, k7, l1, l2, l3, l4, l6, l7, n1, ↓c1_isOpen _ _ _ _ _ _ _ _ hK', hl, kx, ↓c7_goes _ _ _ _ _ _ _ _ hK' hM hfr]
theorem WF_n {s : St} {n : Nat → Nat} (hW : WF s) (hn : ∀ j, j < (s 0 : Nat) → n j = bookAt s j) : ∀ j, j < (s 0 : Nat) → n j = bookAt s j ∧ bookAt s j < 6 := by
  intro j hj
  have := (hW.2.1 j hj).1
  have := hW.1.1
  exact ⟨hn j hj, by omega⟩
theorem c1_eats (hK : LK b a) {f : Nat} (hW : WF s) (hn : ∀ j, j < (s 0 : Nat) → n j = bookAt s j) (hf : f < (s 1 : Nat)) : Ex mX1_eats Q 0 [.ref a, .int (nI f), .retAddr 0, .retAddr 0] [] (LB b a s n p tf tk) = Q (.inl none) (LB b a (eatS s f) n p tf tk) := by
  have hK' := hK
  obtain ⟨k0, ⟨k1, k2, k3, k4, k6, k7⟩, l1, l2, l3, l4, l6, l7⟩ := hK
  have h6 := WF_at hW hf
  obtain ⟨⟨hM, hN⟩, hB, hP, hG, hF, hH, -⟩ := hW
  obtain ⟨-, hat, hd⟩ := hF f hf
  have n1 := hn _ hat
  obtain ⟨p1, p2⟩ := hG _ (hB _ hat).1
  by_cases ho : opB s (bookAt s (s (31 + f))) = true
  · obtain ⟨o1, o2⟩ := shutB_op ho
    have e : much s f = min (s 2 : Nat) (s (8 + bookAt s (s (31 + f))) : Nat) := by
      unfold much; rw [o1, if_neg (by decide)]; exact Nat.min_comm _ _
    unfold eatS
    rw [e]
    simp (disch := omega) only [↓rX1_eats_0, ↓rX1_eats_1, ↓rX1_eats_4, ↓rX1_eats_5, ↓rX1_eats_8, ↓rX1_eats_9, ↓rX1_eats_10, ↓rX1_eats_11, ↓rX1_eats_12, ↓rX1_eats_13, ↓rX1_eats_14, ↓rX1_eats_17, ↓rX1_eats_20, ↓rX1_eats_21, ↓rX1_eats_22, ↓rX1_eats_25, ↓rX1_eats_26, ↓rX1_eats_29, ↓rX1_eats_30, ↓rX1_eats_31, ↓rX1_eats_34, ↓rX1_eats_35, ↓rX1_eats_36, ↓rX1_eats_39, ↓rX1_eats_40, ↓rX1_eats_41, ↓rX1_eats_42, ↓rX1_eats_43, ↓rX1_eats_44, ↓rX1_eats_45, ↓rX1_eats_46, ↓rX1_eats_49, ↓rX1_eats_50, ↓rX1_eats_53, ↓rX1_eats_54, ↓rX1_eats_57, ↓rX1_eats_58, ↓rX1_eats_59, ↓rX1_eats_60, ↓rX1_eats_61, ↓rX1_eats_64, ↓rX1_eats_65, ↓rX1_eats_t, lG_32, lG_34, lG_36, lG_46, lG_48, lG_56, lG_58, lG_39, lG_41, lG_43, lG_45, lG_53, lG_55, lG_51, lG_60, lG_63, lI_1, lI_2, lI_4, lI_6, lI_7, lI_3, lP_32, lP_34, lP_36, lP_46, lP_48, lP_56, lP_58, lP_51, lP_60, lP_63, lW_1, lW_2, lW_4, lW_6, lW_7, lW_3, lo_K, lo_L, lo_R, lo_N, lo_C, lo_S, lo_F, lo_I, ↓rmI_in, ↓shrI_in, ↓shlI_in, ↓okI_in, ↓bI_01, bI_z, bI_o, nn_neg, Int.cast_ofNat_Int, zlit, n_leT, n_leF, n_ltT, n_ltF, n_eqT, n_eqF, z_leT, z_leF, z_ltT, z_ltF, z_eqT, z_eqF, nn_add, nn_mul, nn_clamp, nn_lt, nn_le, nn_eq, nn_div, rmI_nn, okI_nn, nn_and, nn_or, nn_xor, shlI_1, shrI_nn, Cont_v, Cont_0, List.mem_cons, List.not_mem_nil, or_false, or_true, true_or, true_and, and_true, ite_not, if_true, if_false, not_true_eq_false, not_false_eq_true, false_or, false_and, and_false, eq_self, ↓reduceIte, reduceCtorEq, k0, k1, k2, k3, k4, k6, k7, l1, l2, l3, l4, l6, l7, n1, ↓c1_isOpen _ _ _ _ _ _ _ _ hK', ho, ↓cJ_min, nn_sub, wr_at]
  · rw [eatS_0 (much_op ho) hd]
    simp (disch := omega) only [↓rX1_eats_0, ↓rX1_eats_1, ↓rX1_eats_4, ↓rX1_eats_5, ↓rX1_eats_8, ↓rX1_eats_9, ↓rX1_eats_10, ↓rX1_eats_11, ↓rX1_eats_12, ↓rX1_eats_13, ↓rX1_eats_14, ↓rX1_eats_17, ↓rX1_eats_20, ↓rX1_eats_21, ↓rX1_eats_22, ↓rX1_eats_25, ↓rX1_eats_26, ↓rX1_eats_29, ↓rX1_eats_30, ↓rX1_eats_31, ↓rX1_eats_34, ↓rX1_eats_35, ↓rX1_eats_36, ↓rX1_eats_39, ↓rX1_eats_40, ↓rX1_eats_41, ↓rX1_eats_42, ↓rX1_eats_43, ↓rX1_eats_44, ↓rX1_eats_45, ↓rX1_eats_46, ↓rX1_eats_49, ↓rX1_eats_50, ↓rX1_eats_53, ↓rX1_eats_54, ↓rX1_eats_57, ↓rX1_eats_58, ↓rX1_eats_59, ↓rX1_eats_60, ↓rX1_eats_61, ↓rX1_eats_64, ↓rX1_eats_65, ↓rX1_eats_t, lG_32, lG_34, lG_36, lG_46, lG_48, lG_56, lG_58, lG_39, lG_41, lG_43, lG_45, lG_53, lG_55, lG_51, lG_60, lG_63, lI_1, lI_2, lI_4, lI_6, lI_7, lI_3, lP_32, lP_34, lP_36, lP_46, lP_48, lP_56, lP_58, lP_51, lP_60, lP_63, lW_1, lW_2, lW_4, lW_6, lW_7, lW_3, lo_K, lo_L, lo_R, lo_N, lo_C, lo_S, lo_F, lo_I, ↓rmI_in, ↓shrI_in, ↓shlI_in, ↓okI_in, ↓bI_01, bI_z, bI_o, nn_neg, Int.cast_ofNat_Int, zlit, n_leT, n_leF, n_ltT, n_ltF, n_eqT, n_eqF, z_leT, z_leF, z_ltT, z_ltF, z_eqT, z_eqF, nn_add, nn_mul, nn_clamp, nn_lt, nn_le, nn_eq, nn_div, rmI_nn, okI_nn, nn_and, nn_or, nn_xor, shlI_1, shrI_nn, Cont_v, Cont_0, List.mem_cons, List.not_mem_nil, or_false, or_true, true_or, true_and, and_true, ite_not, if_true, if_false, not_true_eq_false, not_false_eq_true, false_or, false_and, and_false, eq_self, ↓reduceIte, reduceCtorEq, k0, k1, k2, k3, k4, k6, k7, l1, l2, l3, l4, l6, l7, n1, ↓c1_isOpen _ _ _ _ _ _ _ _ hK', ho]
theorem c1_pass {e : Nat} {fa : Nat → Nat} (hK : LK b a) (hl : FLi b p e (s 1) fa) (hp : p < a ∨ a < p) (hW : WF s) (hn : ∀ j, j < (s 0 : Nat) → n j = bookAt s j) (h4 : (s 4 : Nat) + 1 < 4096) (hx : ∀ f, f < (s 1 : Nat) → ∃ x, FiA b e (s 1) fa tf tk f x ∧ gK b x = 3 + (s (26 + f) : Nat)) : Ex mX1_pass Q 0 [.ref a, .retAddr 0] [] (LB b a s n p tf tk) = Q (.inl (some (.ref a))) (LB b a (night s) n p tf tk) := by
  have hK' := hK
  obtain ⟨k0, ⟨k1, k2, k3, k4, k6, k7⟩, l1, l2, l3, l4, l6, l7⟩ := hK
  have hM : (s 0 : Nat) ≤ 6 := hW.1.1
  have hN : (s 1 : Nat) ≤ 5 := hW.1.2
  have key1 : ∀ m k s', k + m = (s 1 : Nat) → WF s' → (∀ j, j < 8 → s' j = s j) → (∀ j, 14 ≤ j → j < 31 → s' j = s j) → Ex mX1_pass Q 2 [.ref a, .int (nI k)] [] (LB b a s' n p tf tk) = Ex mX1_pass Q 53 [.ref a, .int (nI (s 1))] [] (LB b a (lf fishT m k s') n p tf tk) := by
    intro m
    induction m with
    | zero =>
      intro k s' hk hW' e1 e2
      rw [rX1_pass_2]
      have hk' : k = (s 1 : Nat) := by omega
      simp (disch := omega) only [↓rX1_pass_3, ↓rX1_pass_4, ↓rX1_pass_7, ↓rX1_pass_10, ↓rX1_pass_11, ↓rX1_pass_12, ↓rX1_pass_15, ↓rX1_pass_18, ↓rX1_pass_21, ↓rX1_pass_22, ↓rX1_pass_25, ↓rX1_pass_26, ↓rX1_pass_27, ↓rX1_pass_28, ↓rX1_pass_31, ↓rX1_pass_32, ↓rX1_pass_35, ↓rX1_pass_36, ↓rX1_pass_37, ↓rX1_pass_38k4, ↓rX1_pass_38k5, ↓rX1_pass_38k6, ↓rX1_pass_38k7, ↓rX1_pass_38k8, ↓rX1_pass_41, ↓rX1_pass_42, ↓rX1_pass_43, ↓rX1_pass_44, ↓rX1_pass_47, ↓rX1_pass_50, ↓rX1_pass_t, lG_32, lG_34, lG_36, lG_46, lG_48, lG_56, lG_58, lG_39, lG_41, lG_43, lG_45, lG_53, lG_55, lG_51, lG_60, lG_63, lI_1, lI_2, lI_4, lI_6, lI_7, lI_3, lP_32, lP_34, lP_36, lP_46, lP_48, lP_56, lP_58, lP_51, lP_60, lP_63, lW_1, lW_2, lW_4, lW_6, lW_7, lW_3, lo_K, lo_L, lo_R, lo_N, lo_C, lo_S, lo_F, lo_I, ↓rmI_in, ↓shrI_in, ↓shlI_in, ↓okI_in, ↓bI_01, bI_z, bI_o, nn_neg, Int.cast_ofNat_Int, zlit, n_leT, n_leF, n_ltT, n_ltF, n_eqT, n_eqF, z_leT, z_leF, z_ltT, z_ltF, z_eqT, z_eqF, nn_add, nn_mul, nn_clamp, nn_lt, nn_le, nn_eq, nn_div, rmI_nn, okI_nn, nn_and, nn_or, nn_xor, shlI_1, shrI_nn, Cont_v, Cont_0, List.mem_cons, List.not_mem_nil, or_false, or_true, true_or, true_and, and_true, ite_not, if_true, if_false, not_true_eq_false, not_false_eq_true, false_or, false_and, and_false, eq_self, ↓reduceIte, reduceCtorEq, k0, k1, k2, k3, k4, k6, k7, l1, l2, l3, l4, l6, l7, ↓c1_many _ _ _ _ _ _ _ _ hK' hl hp, lf]
      rw [hk']
    | succ m ih =>
      intro k s' hk hW' e1 e2
      have e1' : (s' 1 : Nat) = (s 1 : Nat) := congrArg Fin.val (e1 1 (by omega))
      have e0' : (s' 0 : Nat) = (s 0 : Nat) := congrArg Fin.val (e1 0 (by omega))
      have hk1 : k < (s' 1 : Nat) := by omega
      have hn' : ∀ j, j < (s' 0 : Nat) → n j = bookAt s' j := fun j hj => by
        rw [bookAt_cg (fun i hi => e2 (20 + i) (by omega) (by omega))]; exact hn j (by omega)
      have hn'' := WF_n hW' hn'
      rw [rX1_pass_2]
      cases hc : hb (s' 7) k with
      | true =>
        have e : fishT k s' = s' := if_pos hc
        simp (disch := omega) only [↓rX1_pass_3, ↓rX1_pass_4, ↓rX1_pass_7, ↓rX1_pass_10, ↓rX1_pass_11, ↓rX1_pass_12, ↓rX1_pass_15, ↓rX1_pass_18, ↓rX1_pass_21, ↓rX1_pass_22, ↓rX1_pass_25, ↓rX1_pass_26, ↓rX1_pass_27, ↓rX1_pass_28, ↓rX1_pass_31, ↓rX1_pass_32, ↓rX1_pass_35, ↓rX1_pass_36, ↓rX1_pass_37, ↓rX1_pass_38k4, ↓rX1_pass_38k5, ↓rX1_pass_38k6, ↓rX1_pass_38k7, ↓rX1_pass_38k8, ↓rX1_pass_41, ↓rX1_pass_42, ↓rX1_pass_43, ↓rX1_pass_44, ↓rX1_pass_47, ↓rX1_pass_50, ↓rX1_pass_t, lG_32, lG_34, lG_36, lG_46, lG_48, lG_56, lG_58, lG_39, lG_41, lG_43, lG_45, lG_53, lG_55, lG_51, lG_60, lG_63, lI_1, lI_2, lI_4, lI_6, lI_7, lI_3, lP_32, lP_34, lP_36, lP_46, lP_48, lP_56, lP_58, lP_51, lP_60, lP_63, lW_1, lW_2, lW_4, lW_6, lW_7, lW_3, lo_K, lo_L, lo_R, lo_N, lo_C, lo_S, lo_F, lo_I, ↓rmI_in, ↓shrI_in, ↓shlI_in, ↓okI_in, ↓bI_01, bI_z, bI_o, nn_neg, Int.cast_ofNat_Int, zlit, n_leT, n_leF, n_ltT, n_ltF, n_eqT, n_eqF, z_leT, z_leF, z_ltT, z_ltF, z_eqT, z_eqF, nn_add, nn_mul, nn_clamp, nn_lt, nn_le, nn_eq, nn_div, rmI_nn, okI_nn, nn_and, nn_or, nn_xor, shlI_1, shrI_nn, Cont_v, Cont_0, List.mem_cons, List.not_mem_nil, or_false, or_true, true_or, true_and, and_true, ite_not, if_true, if_false, not_true_eq_false, not_false_eq_true, false_or, false_and, and_false, eq_self, ↓reduceIte, reduceCtorEq, k0, k1, k2, k3, k4, k6, k7, l1, l2, l3, l4, l6, l7, ↓c1_many _ _ _ _ _ _ _ _ hK' hl hp, ↓c1_isCaught _ _ _ _ _ _ _ _ hK', hc]
        rw [ih (k + 1) s' (by omega) hW' e1 e2]
        simp only [lf, e]
      | false =>
        have hW1 : WF (wr s' (31 + k) (goesTo s' k)) := WF_goS hW' hk1
        have hg := goesTo_lt hW' hk1
        have h0 : (s' 0 : Nat) ≤ 6 := hW'.1.1
        have hat : (s' (31 + k) : Nat) < (s' 0 : Nat) := (hW'.2.2.2.2.1 k hk1).2.1
        have hkd := (hW'.2.2.2.2.1 k hk1).1
        have hk2 : k < (wr s' (31 + k) (goesTo s' k) 1 : Nat) := by rw [wr_ne (by omega)]; exact hk1
        have e : fishT k s' = eatS (wr s' (31 + k) (goesTo s' k)) k := if_neg (by rw [hc]; decide)
        have h6 := WF_at hW1 hk2
        have hn1 : ∀ j, j < (wr s' (31 + k) (goesTo s' k) 0 : Nat) → n j = bookAt (wr s' (31 + k) (goesTo s' k)) j := fun j hj => by
          rw [wr_ne (by omega)] at hj
          rw [bookAt_cg (s := s') (fun i hi => wr_ne (by omega))]; exact hn' j hj
        obtain ⟨x, x1, x2⟩ := hx k (by omega)
        have e26 : (s' (26 + k) : Nat) = (s (26 + k) : Nat) := congrArg Fin.val (e2 (26 + k) (by omega) (by omega))
        have kx : gK b x = 4 ∨ gK b x = 5 ∨ gK b x = 6 ∨ gK b x = 7 ∨ gK b x = 8 := by omega
        have hgo : ∀ Q', Ex mX1_pass Q' 38 [.ref a, .int (nI k)] [.ref a, .int (nI (s' (31 + k))), .ref x, .int (nI k), .ref (a + 6)] (LB b a s' n p tf tk) = Ex mX1_pass Q' 41 [.ref a, .int (nI k)] [.int (nI (goesTo s' k)), .int (nI k), .ref (a + 6)] (LB b a s' n p tf tk) := by
          intro Q'
          unfold goesTo
          rcases kx with kx | kx | kx | kx | kx
          · have hk : (s' (26 + k) : Nat) = 1 := by omega
            rw [rX1_pass_38k4 _ _ _ _ _ _ _ _ (show gK (LB b a s' n p tf tk) x = 4 from kx), c4_goes _ _ _ _ _ _ _ _ hK' h0 hn'' (by omega) (Or.inl ⟨kx, rfl⟩), Cont_v, hk, if_neg (by omega), if_pos (by omega)]
            rfl
          · have hk : (s' (26 + k) : Nat) = 2 := by omega
            rw [rX1_pass_38k5 _ _ _ _ _ _ _ _ (show gK (LB b a s' n p tf tk) x = 5 from kx), c4_goes _ _ _ _ _ _ _ _ hK' h0 hn'' (by omega) (Or.inr (Or.inl ⟨kx, rfl⟩)), Cont_v, hk, if_neg (by omega), if_pos (by omega)]
            rfl
          · have hk : (s' (26 + k) : Nat) = 3 := by omega
            rw [rX1_pass_38k6 _ _ _ _ _ _ _ _ (show gK (LB b a s' n p tf tk) x = 6 from kx), c6_goes _ _ _ _ _ _ _ _ hK' h0 hn'' hat kx, Cont_v, hk]
            cases hl : hb (s' 5) (bookAt s' (s' (31 + k))) with
            | true => rw [if_pos rfl, if_pos ⟨rfl, rfl⟩]
            | false => rw [if_neg (by decide), if_neg (by simp), if_pos (by omega)]; rfl
          · have hk : (s' (26 + k) : Nat) = 4 := by omega
            rw [rX1_pass_38k7 _ _ _ _ _ _ _ _ (show gK (LB b a s' n p tf tk) x = 7 from kx), c7_goes _ _ _ _ _ _ _ _ hK' h0 hat, Cont_v, hk, if_neg (by omega), if_neg (by omega), if_pos (Or.inl rfl)]
          · have hk : (s' (26 + k) : Nat) = 5 := by omega
            rw [rX1_pass_38k8 _ _ _ _ _ _ _ _ (show gK (LB b a s' n p tf tk) x = 8 from kx), c8_goes _ _ _ _ _ _ _ _ hK' h0 hn'' hat kx, Cont_v]
            rw [if_neg (show ¬ ((s' (26 + k) : Nat) = 3 ∧ hb (s' 5) (bookAt s' (s' (31 + k))) = true) from fun q => by have := q.1; omega), if_neg (show ¬ (s' (26 + k) : Nat) < 4 by omega)]
            by_cases ho : opB s' (bookAt s' (s' (31 + k))) = false
            · rw [if_pos ho, if_pos (Or.inr ho)]
            · rw [if_neg ho, if_neg (show ¬ ((s' (26 + k) : Nat) = 4 ∨ opB s' (bookAt s' (s' (31 + k))) = false) from fun q => q.elim (fun q => by omega) ho)]
        simp (disch := omega) only [↓rX1_pass_3, ↓rX1_pass_4, ↓rX1_pass_7, ↓rX1_pass_10, ↓rX1_pass_11, ↓rX1_pass_12, ↓rX1_pass_15, ↓rX1_pass_18, ↓rX1_pass_21, ↓rX1_pass_22, ↓rX1_pass_25, ↓rX1_pass_26, ↓rX1_pass_27, ↓rX1_pass_28, ↓rX1_pass_31, ↓rX1_pass_32, ↓rX1_pass_35, ↓rX1_pass_36, ↓rX1_pass_37, ↓rX1_pass_t, ↓rX1_pass_41, ↓rX1_pass_42, ↓rX1_pass_43, ↓rX1_pass_44, ↓rX1_pass_47, ↓rX1_pass_50, ↓rX1_pass_t, lG_32, lG_34, lG_36, lG_46, lG_48, lG_56, lG_58, lG_39, lG_41, lG_43, lG_45, lG_53, lG_55, lG_51, lG_60, lG_63, lI_1, lI_2, lI_4, lI_6, lI_7, lI_3, lP_32, lP_34, lP_36, lP_46, lP_48, lP_56, lP_58, lP_51, lP_60, lP_63, lW_1, lW_2, lW_4, lW_6, lW_7, lW_3, lo_K, lo_L, lo_R, lo_N, lo_C, lo_S, lo_F, lo_I, ↓rmI_in, ↓shrI_in, ↓shlI_in, ↓okI_in, ↓bI_01, bI_z, bI_o, nn_neg, Int.cast_ofNat_Int, zlit, n_leT, n_leF, n_ltT, n_ltF, n_eqT, n_eqF, z_leT, z_leF, z_ltT, z_ltF, z_eqT, z_eqF, nn_add, nn_mul, nn_clamp, nn_lt, nn_le, nn_eq, nn_div, rmI_nn, okI_nn, nn_and, nn_or, nn_xor, shlI_1, shrI_nn, Cont_v, Cont_0, List.mem_cons, List.not_mem_nil, or_false, or_true, true_or, true_and, and_true, ite_not, if_true, if_false, not_true_eq_false, not_false_eq_true, false_or, false_and, and_false, eq_self, ↓reduceIte, reduceCtorEq, k0, k1, k2, k3, k4, k6, k7, l1, l2, l3, l4, l6, l7, ↓c1_many _ _ _ _ _ _ _ _ hK' hl hp, ↓c1_isCaught _ _ _ _ _ _ _ _ hK', hc, ↓c1_fish _ _ _ _ _ _ _ _ hK' hl hp (show (s 1 : Nat) ≤ 10 by omega) x1 kx, ↓hgo, ↓c1_eats _ _ _ _ _ _ _ _ hK' hW1 hn1 hk2]
        rw [ih (k + 1) _ (by omega) (WF_eatS hW1 hk2) (fun j hj => ?_) (fun j hj hj2 => ?_)]
        · simp only [lf, e]
        · rw [eatS_ne (by omega) (by omega) h6, wr_ne (by omega)]; exact e1 j hj
        · rw [eatS_ne (by omega) (by omega) h6, wr_ne (by omega)]; exact e2 j hj hj2
  have key2 : ∀ m k s', k + m = (s' 0 : Nat) → WF s' → (s' 4 : Nat) = (s 4 : Nat) → Ex mX1_pass Q 55 [.ref a, .int (nI k)] [] (LB b a s' n p tf tk) = Ex mX1_pass Q 106 [.ref a, .int (nI (s' 0))] [] (LB b a (if (s 4 : Nat) % 4 = 3 then lf pasteS m k s' else s') n p tf tk) := by
    intro m
    induction m with
    | zero =>
      intro k s' hk hW' e4
      have h0 : (s' 0 : Nat) ≤ 6 := hW'.1.1
      have hk' : k = (s' 0 : Nat) := by omega
      rw [rX1_pass_55]
      simp (disch := omega) only [↓rX1_pass_56, ↓rX1_pass_57, ↓rX1_pass_60, ↓rX1_pass_63, ↓rX1_pass_64, ↓rX1_pass_67, ↓rX1_pass_68, ↓rX1_pass_69, ↓rX1_pass_70, ↓rX1_pass_73, ↓rX1_pass_74, ↓rX1_pass_75, ↓rX1_pass_78, ↓rX1_pass_81, ↓rX1_pass_82, ↓rX1_pass_85, ↓rX1_pass_86, ↓rX1_pass_88, ↓rX1_pass_89, ↓rX1_pass_92, ↓rX1_pass_93, ↓rX1_pass_94, ↓rX1_pass_95, ↓rX1_pass_96, ↓rX1_pass_99, ↓rX1_pass_100, ↓rX1_pass_103, ↓rX1_pass_t, lG_32, lG_34, lG_36, lG_46, lG_48, lG_56, lG_58, lG_39, lG_41, lG_43, lG_45, lG_53, lG_55, lG_51, lG_60, lG_63, lI_1, lI_2, lI_4, lI_6, lI_7, lI_3, lP_32, lP_34, lP_36, lP_46, lP_48, lP_56, lP_58, lP_51, lP_60, lP_63, lW_1, lW_2, lW_4, lW_6, lW_7, lW_3, lo_K, lo_L, lo_R, lo_N, lo_C, lo_S, lo_F, lo_I, ↓rmI_in, ↓shrI_in, ↓shlI_in, ↓okI_in, ↓bI_01, bI_z, bI_o, nn_neg, Int.cast_ofNat_Int, zlit, n_leT, n_leF, n_ltT, n_ltF, n_eqT, n_eqF, z_leT, z_leF, z_ltT, z_ltF, z_eqT, z_eqF, nn_add, nn_mul, nn_clamp, nn_lt, nn_le, nn_eq, nn_div, rmI_nn, okI_nn, nn_and, nn_or, nn_xor, shlI_1, shrI_nn, Cont_v, Cont_0, List.mem_cons, List.not_mem_nil, or_false, or_true, true_or, true_and, and_true, ite_not, if_true, if_false, not_true_eq_false, not_false_eq_true, false_or, false_and, and_false, eq_self, ↓reduceIte, reduceCtorEq, k0, k1, k2, k3, k4, k6, k7, l1, l2, l3, l4, l6, l7, lf]
      rw [hk', ite_self]
    | succ m ih =>
      intro k s' hk hW' e4
      have h0 : (s' 0 : Nat) ≤ 6 := hW'.1.1
      by_cases h3 : (s 4 : Nat) % 4 = 3
      · rw [if_pos h3]
        obtain ⟨q1, q2⟩ := pasteS_ok (s := s') (k := k) hW' (by omega)
        have e0 : (pasteS k s' 0 : Nat) = (s' 0 : Nat) := by rw [q2 0 (by omega)]
        have hend : Ex mX1_pass Q 55 [.ref a, .int (nI (k + 1))] [] (LB b a (pasteS k s') n p tf tk) = Ex mX1_pass Q 106 [.ref a, .int (nI (s' 0))] [] (LB b a (lf pasteS (m + 1) k s') n p tf tk) := by
          rw [ih (k + 1) _ (by omega) q1 (by rw [q2 4 (by omega)]; exact e4), e0, if_pos h3]
          rfl
        have h9 : (s' (14 + k) : Nat) ≤ 9 := (hW'.2.2.2.1 k (by omega)).2
        rw [rX1_pass_55]
        cases hc : hb (s' 6) k with
        | true =>
          have e : pasteS k s' = s' := if_neg (by rw [hc]; simp)
          rw [e] at hend
          simp (disch := omega) only [↓rX1_pass_56, ↓rX1_pass_57, ↓rX1_pass_60, ↓rX1_pass_63, ↓rX1_pass_64, ↓rX1_pass_67, ↓rX1_pass_68, ↓rX1_pass_69, ↓rX1_pass_70, ↓rX1_pass_73, ↓rX1_pass_74, ↓rX1_pass_75, ↓rX1_pass_78, ↓rX1_pass_81, ↓rX1_pass_82, ↓rX1_pass_85, ↓rX1_pass_86, ↓rX1_pass_88, ↓rX1_pass_89, ↓rX1_pass_92, ↓rX1_pass_93, ↓rX1_pass_94, ↓rX1_pass_95, ↓rX1_pass_96, ↓rX1_pass_99, ↓rX1_pass_100, ↓rX1_pass_103, ↓rX1_pass_t, lG_32, lG_34, lG_36, lG_46, lG_48, lG_56, lG_58, lG_39, lG_41, lG_43, lG_45, lG_53, lG_55, lG_51, lG_60, lG_63, lI_1, lI_2, lI_4, lI_6, lI_7, lI_3, lP_32, lP_34, lP_36, lP_46, lP_48, lP_56, lP_58, lP_51, lP_60, lP_63, lW_1, lW_2, lW_4, lW_6, lW_7, lW_3, lo_K, lo_L, lo_R, lo_N, lo_C, lo_S, lo_F, lo_I, ↓rmI_in, ↓shrI_in, ↓shlI_in, ↓okI_in, ↓bI_01, bI_z, bI_o, nn_neg, Int.cast_ofNat_Int, zlit, n_leT, n_leF, n_ltT, n_ltF, n_eqT, n_eqF, z_leT, z_leF, z_ltT, z_ltF, z_eqT, z_eqF, nn_add, nn_mul, nn_clamp, nn_lt, nn_le, nn_eq, nn_div, rmI_nn, okI_nn, nn_and, nn_or, nn_xor, shlI_1, shrI_nn, Cont_v, Cont_0, List.mem_cons, List.not_mem_nil, or_false, or_true, true_or, true_and, and_true, ite_not, if_true, if_false, not_true_eq_false, not_false_eq_true, false_or, false_and, and_false, eq_self, ↓reduceIte, reduceCtorEq, k0, k1, k2, k3, k4, k6, k7, l1, l2, l3, l4, l6, l7, ↓c1_isKept _ _ _ _ _ _ _ _ hK', hc, e4]
          exact hend
        | false =>
          have e : pasteS k s' = wr s' (14 + k) (min 9 ((s' (14 + k) : Nat) + 1)) := by
            unfold pasteS
            by_cases hp : (s' (14 + k) : Nat) < 9
            · rw [if_pos ⟨hc, hp⟩, Nat.min_eq_right (by omega)]
            · rw [if_neg (fun q => hp q.2), Nat.min_eq_left (by omega), wr_id (by omega)]
          rw [e] at hend
          simp (disch := omega) only [↓rX1_pass_56, ↓rX1_pass_57, ↓rX1_pass_60, ↓rX1_pass_63, ↓rX1_pass_64, ↓rX1_pass_67, ↓rX1_pass_68, ↓rX1_pass_69, ↓rX1_pass_70, ↓rX1_pass_73, ↓rX1_pass_74, ↓rX1_pass_75, ↓rX1_pass_78, ↓rX1_pass_81, ↓rX1_pass_82, ↓rX1_pass_85, ↓rX1_pass_86, ↓rX1_pass_88, ↓rX1_pass_89, ↓rX1_pass_92, ↓rX1_pass_93, ↓rX1_pass_94, ↓rX1_pass_95, ↓rX1_pass_96, ↓rX1_pass_99, ↓rX1_pass_100, ↓rX1_pass_103, ↓rX1_pass_t, lG_32, lG_34, lG_36, lG_46, lG_48, lG_56, lG_58, lG_39, lG_41, lG_43, lG_45, lG_53, lG_55, lG_51, lG_60, lG_63, lI_1, lI_2, lI_4, lI_6, lI_7, lI_3, lP_32, lP_34, lP_36, lP_46, lP_48, lP_56, lP_58, lP_51, lP_60, lP_63, lW_1, lW_2, lW_4, lW_6, lW_7, lW_3, lo_K, lo_L, lo_R, lo_N, lo_C, lo_S, lo_F, lo_I, ↓rmI_in, ↓shrI_in, ↓shlI_in, ↓okI_in, ↓bI_01, bI_z, bI_o, nn_neg, Int.cast_ofNat_Int, zlit, n_leT, n_leF, n_ltT, n_ltF, n_eqT, n_eqF, z_leT, z_leF, z_ltT, z_ltF, z_eqT, z_eqF, nn_add, nn_mul, nn_clamp, nn_lt, nn_le, nn_eq, nn_div, rmI_nn, okI_nn, nn_and, nn_or, nn_xor, shlI_1, shrI_nn, Cont_v, Cont_0, List.mem_cons, List.not_mem_nil, or_false, or_true, true_or, true_and, and_true, ite_not, if_true, if_false, not_true_eq_false, not_false_eq_true, false_or, false_and, and_false, eq_self, ↓reduceIte, reduceCtorEq, k0, k1, k2, k3, k4, k6, k7, l1, l2, l3, l4, l6, l7, ↓c1_isKept _ _ _ _ _ _ _ _ hK', hc, e4, ↓cJ_min]
          exact hend
      · rw [if_neg h3]
        rw [rX1_pass_55]
        simp (disch := omega) only [↓rX1_pass_56, ↓rX1_pass_57, ↓rX1_pass_60, ↓rX1_pass_63, ↓rX1_pass_64, ↓rX1_pass_67, ↓rX1_pass_68, ↓rX1_pass_69, ↓rX1_pass_70, ↓rX1_pass_73, ↓rX1_pass_74, ↓rX1_pass_75, ↓rX1_pass_78, ↓rX1_pass_81, ↓rX1_pass_82, ↓rX1_pass_85, ↓rX1_pass_86, ↓rX1_pass_88, ↓rX1_pass_89, ↓rX1_pass_92, ↓rX1_pass_93, ↓rX1_pass_94, ↓rX1_pass_95, ↓rX1_pass_96, ↓rX1_pass_99, ↓rX1_pass_100, ↓rX1_pass_103, ↓rX1_pass_t, lG_32, lG_34, lG_36, lG_46, lG_48, lG_56, lG_58, lG_39, lG_41, lG_43, lG_45, lG_53, lG_55, lG_51, lG_60, lG_63, lI_1, lI_2, lI_4, lI_6, lI_7, lI_3, lP_32, lP_34, lP_36, lP_46, lP_48, lP_56, lP_58, lP_51, lP_60, lP_63, lW_1, lW_2, lW_4, lW_6, lW_7, lW_3, lo_K, lo_L, lo_R, lo_N, lo_C, lo_S, lo_F, lo_I, ↓rmI_in, ↓shrI_in, ↓shlI_in, ↓okI_in, ↓bI_01, bI_z, bI_o, nn_neg, Int.cast_ofNat_Int, zlit, n_leT, n_leF, n_ltT, n_ltF, n_eqT, n_eqF, z_leT, z_leF, z_ltT, z_ltF, z_eqT, z_eqF, nn_add, nn_mul, nn_clamp, nn_lt, nn_le, nn_eq, nn_div, rmI_nn, okI_nn, nn_and, nn_or, nn_xor, shlI_1, shrI_nn, Cont_v, Cont_0, List.mem_cons, List.not_mem_nil, or_false, or_true, true_or, true_and, and_true, ite_not, if_true, if_false, not_true_eq_false, not_false_eq_true, false_or, false_and, and_false, eq_self, ↓reduceIte, reduceCtorEq, k0, k1, k2, k3, k4, k6, k7, l1, l2, l3, l4, l6, l7, e4]
        rw [ih (k + 1) s' (by omega) hW' e4, if_neg h3]
  obtain ⟨f1, f2, f3⟩ := fishL_ok (x := (s, fun _ => 0)) hW (Nat.le_refl _)
  rw [fishL_T] at f1 f2 f3
  have e0 : (lf fishT (s 1) 0 s 0 : Nat) = (s 0 : Nat) := congrArg Fin.val (f2 0 (by omega))
  have e4 : (lf fishT (s 1) 0 s 4 : Nat) = (s 4 : Nat) := congrArg Fin.val (f2 4 (by omega))
  rw [night_T]
  simp (disch := omega) only [↓rX1_pass_0, ↓rX1_pass_1, ↓rX1_pass_t, ↓rmI_in, ↓shrI_in, ↓shlI_in, ↓okI_in, ↓bI_01, bI_z, bI_o, nn_neg, Int.cast_ofNat_Int, zlit, n_leT, n_leF, n_ltT, n_ltF, n_eqT, n_eqF, z_leT, z_leF, z_ltT, z_ltF, z_eqT, z_eqF, nn_add, nn_mul, nn_clamp, nn_lt, nn_le, nn_eq, nn_div, rmI_nn, okI_nn, nn_and, nn_or, nn_xor, shlI_1, shrI_nn, Cont_v, Cont_0, List.mem_cons, List.not_mem_nil, or_false, or_true, true_or, true_and, and_true, ite_not, if_true, if_false, not_true_eq_false, not_false_eq_true, false_or, false_and, and_false, eq_self, ↓reduceIte, reduceCtorEq]
  rw [key1 (s 1) 0 s (by omega) hW (fun _ _ => rfl) (fun _ _ _ => rfl)]
  generalize lf fishT (s 1) 0 s = s1 at f1 f2 f3 e0 e4
  unfold night2
  simp (disch := omega) only [↓rX1_pass_53, ↓rX1_pass_54, ↓rX1_pass_t, ↓rmI_in, ↓shrI_in, ↓shlI_in, ↓okI_in, ↓bI_01, bI_z, bI_o, nn_neg, Int.cast_ofNat_Int, zlit, n_leT, n_leF, n_ltT, n_ltF, n_eqT, n_eqF, z_leT, z_leF, z_ltT, z_ltF, z_eqT, z_eqF, nn_add, nn_mul, nn_clamp, nn_lt, nn_le, nn_eq, nn_div, rmI_nn, okI_nn, nn_and, nn_or, nn_xor, shlI_1, shrI_nn, Cont_v, Cont_0, List.mem_cons, List.not_mem_nil, or_false, or_true, true_or, true_and, and_true, ite_not, if_true, if_false, not_true_eq_false, not_false_eq_true, false_or, false_and, and_false, eq_self, ↓reduceIte, reduceCtorEq]
  rw [key2 (s1 0) 0 s1 (by omega) f1 e4, e4]
  have e5 : ((if (s 4 : Nat) % 4 = 3 then lf pasteS (s1 0) 0 s1 else s1) 4 : Nat) = (s 4 : Nat) := by
    split
    · rw [(pasteL_ok f1 (Nat.le_refl _)).2 4 (by omega)]; exact e4
    · exact e4
  simp (disch := omega) only [↓rX1_pass_106, ↓rX1_pass_107, ↓rX1_pass_108, ↓rX1_pass_111, ↓rX1_pass_112, ↓rX1_pass_113, ↓rX1_pass_116, ↓rX1_pass_117, ↓rX1_pass_t, lG_32, lG_34, lG_36, lG_46, lG_48, lG_56, lG_58, lG_39, lG_41, lG_43, lG_45, lG_53, lG_55, lG_51, lG_60, lG_63, lI_1, lI_2, lI_4, lI_6, lI_7, lI_3, lP_32, lP_34, lP_36, lP_46, lP_48, lP_56, lP_58, lP_51, lP_60, lP_63, lW_1, lW_2, lW_4, lW_6, lW_7, lW_3, lo_K, lo_L, lo_R, lo_N, lo_C, lo_S, lo_F, lo_I, ↓rmI_in, ↓shrI_in, ↓shlI_in, ↓okI_in, ↓bI_01, bI_z, bI_o, nn_neg, Int.cast_ofNat_Int, zlit, n_leT, n_leF, n_ltT, n_ltF, n_eqT, n_eqF, z_leT, z_leF, z_ltT, z_ltF, z_eqT, z_eqF, nn_add, nn_mul, nn_clamp, nn_lt, nn_le, nn_eq, nn_div, rmI_nn, okI_nn, nn_and, nn_or, nn_xor, shlI_1, shrI_nn, Cont_v, Cont_0, List.mem_cons, List.not_mem_nil, or_false, or_true, true_or, true_and, and_true, ite_not, if_true, if_false, not_true_eq_false, not_false_eq_true, false_or, false_and, and_false, eq_self, ↓reduceIte, reduceCtorEq, k0, k1, k2, k3, k4, k6, k7, l1, l2, l3, l4, l6, l7, e5]
end L2
