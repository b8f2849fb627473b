/-! THE CLASS READS A TEXT: fish -/
theorem LB_cgK (b : Hp) (a : Nat) {s s' : St} (n : Nat → Nat) (p : Nat) (tf : Int32) (tk : Value) (h : ∀ j, j ≠ 1 → ¬ (26 ≤ j ∧ j < 31) → s j = s' j) : LB b a s n p tf tk = LB b a s' n p tf tk := by
  refine LB_o b a (fun e _ => ?_) (fun k i _ _ _ => ?_)
  · unfold lF
    rw [h 2 (by omega) (by omega), h 3 (by omega) (by omega), h 0 (by omega) (by omega), h 5 (by omega) (by omega), h 6 (by omega) (by omega), h 7 (by omega) (by omega), h 4 (by omega) (by omega)]
  · unfold lCc
    rw [fB_cg (s := s) (s' := s') (e := 8) (fun j hj => h _ (by omega) (by omega)), fB_cg (s := s) (s' := s') (e := 14) (fun j hj => h _ (by omega) (by omega)), fB_cg (s := s) (s' := s') (e := 20) (fun j hj => h _ (by omega) (by omega)), fB_cg (s := s) (s' := s') (e := 31) (fun j hj => h _ (by omega) (by omega)), fB_cg (s := s) (s' := s') (e := 36) (fun j hj => h _ (by omega) (by omega))]
section CMT
variable (b : Hp) (a : Nat) (s : St) (n : Nat → Nat) (p : Nat) (tf : Int32) (tk : Value) (g : Hp) (r : Nat) (x4 x6 x8 x0 : Int32)
theorem LB_pFn {f x : Nat} {v : Value} (hx : x ≠ a) : pF (LB b a s n p tf tk) f x v = LB (pF b f x v) a s n p tf tk := by
  refine hp_eq rfl rfl (fun e y => ?_) (fun y i => rfl) rfl
  rw [gF_pF, LB_F, LB_F, gF_pF]
  by_cases hy : y = x
  · rw [if_neg (show ¬ (y = a ∧ lFn e = true) by omega), if_neg (show ¬ (y = a ∧ lFn e = true) by omega)]
  · rw [if_neg (show ¬ (e = f ∧ y = x) by omega), if_neg (show ¬ (e = f ∧ y = x) by omega)]
theorem LB_pR (x i : Nat) (v : Option Nat) : pR (LB b a s n p tf tk) x i v = LB (pR b x i v) a s n p tf tk := rfl
theorem LB_nR (k l : Nat) : nR (LB b a s n p tf tk) k l = LB (nR b k l) a s n p tf tk := rfl
theorem LB_nO {k l : Nat} (ha : a ≠ gN b) : nO (LB b a s n p tf tk) k l = LB (nO b k l) a s n p tf tk := by
  refine hp_eq rfl rfl (fun e y => ?_) (fun y i => rfl) rfl
  rw [gF_nO, LB_F, LB_F, gF_nO, lo_N]
  by_cases hy : y = gN b
  · rw [if_neg (show ¬ (y = a ∧ lFn e = true) by omega), if_neg (show ¬ (y = a ∧ lFn e = true) by omega)]
  · rw [if_neg hy, if_neg hy]
theorem RD_pF {f x : Nat} {v : Value} (hx : x ≠ r) : pF (RDo g r x4 x6 x8 x0) f x v = RDo (pF g f x v) r x4 x6 x8 x0 := by
  refine hp_eq rfl rfl (fun e y => ?_) (fun y i => rfl) rfl
  rw [gF_pF, rd_F, rd_F, gF_pF]
  by_cases hy : y = r
  · rw [if_neg (show ¬ (e = f ∧ y = x) by omega), if_neg (show ¬ (e = f ∧ y = x) by omega)]
  · simp only [hy, and_false, if_false]
theorem RD_pR (x i : Nat) (v : Option Nat) : pR (RDo g r x4 x6 x8 x0) x i v = RDo (pR g x i v) r x4 x6 x8 x0 := rfl
theorem RD_nR (k l : Nat) : nR (RDo g r x4 x6 x8 x0) k l = RDo (nR g k l) r x4 x6 x8 x0 := rfl
theorem RD_nO {k l : Nat} (ha : r ≠ gN g) : nO (RDo g r x4 x6 x8 x0) k l = RDo (nO g k l) r x4 x6 x8 x0 := by
  refine hp_eq rfl rfl (fun e y => ?_) (fun y i => rfl) rfl
  rw [gF_nO, rd_F, rd_F, gF_nO, rd_N]
  by_cases hy : y = r
  · rw [if_neg (show ¬ y = gN g by omega), if_neg (show ¬ y = gN g by omega)]
  · simp only [hy, and_false, if_false]
end CMT
theorem c0_fishBy (Q : Po) (h : Hp) {so f : Nat} (hso : so ≤ 4) (hC : 1 ≤ gC h) (hS : 1 ≤ gS h) : Ex mX0_fishBy Q 0 [.int (nI so), .int (nI f)] [] h = Q (.inl (some (.ref (gN h)))) (pF (nO h (4 + so) 1) 68 (gN h) (.int (nI f))) := by
  have hd : (nI 4).toInt < 0 ∨ (0 : Int) + 4 ≤ (nI 4).toInt := by decide
  obtain rfl | rfl | rfl | rfl | rfl : so = 0 ∨ so = 1 ∨ so = 2 ∨ so = 3 ∨ so = 4 := by omega
  · simp (disch := omega) only [↓rX0_fishBy_0, ↓rX0_fishBy_1, ↓rX0_fishBy_32, ↓rX0_fishBy_35, ↓rX0_fishBy_36, ↓rX0_fishBy_37, ↓rX0_fishBy_40, ↓rX0_fishBy_41, ↓rX0_fishBy_44, ↓rX0_fishBy_45, ↓rX0_fishBy_46, ↓rX0_fishBy_49, ↓rX0_fishBy_50, ↓rX0_fishBy_53, ↓rX0_fishBy_54, ↓rX0_fishBy_55, ↓rX0_fishBy_58, ↓rX0_fishBy_59, ↓rX0_fishBy_62, ↓rX0_fishBy_63, ↓rX0_fishBy_64, ↓rX0_fishBy_67, ↓rX0_fishBy_68, ↓rX0_fishBy_71, ↓rX0_fishBy_72, ↓rX0_fishBy_73, ↓rX0_fishBy_76, ↓rX0_fishBy_t, ↓rX4_init_0, ↓rX4_init_1, ↓rX4_init_2, ↓rX4_init_5, ↓rX4_init_t, ↓rX3_init_0, ↓rX3_init_1, ↓rX3_init_4, ↓rX3_init_5, ↓rX3_init_6, ↓rX3_init_9, ↓rX3_init_t, show tswT 0 [32, 41, 50, 59] 68 (nI 0) = 32 from rfl, show tswT 0 [32, 41, 50, 59] 68 (nI 1) = 41 from rfl, show tswT 0 [32, 41, 50, 59] 68 (nI 2) = 50 from rfl, show tswT 0 [32, 41, 50, 59] 68 (nI 3) = 59 from rfl, ↓rmI_in, ↓shrI_in, ↓shlI_in, ↓okI_in, ↓bI_01, bI_z, bI_o, nn_neg, Int.cast_ofNat_Int, zlit, n_leT, n_leF, n_ltT, n_ltF, n_eqT, n_eqF, z_leT, z_leF, z_ltT, z_ltF, z_eqT, z_eqF, nn_add, nn_mul, nn_clamp, nn_lt, nn_le, nn_eq, nn_div, rmI_nn, okI_nn, nn_and, nn_or, nn_xor, shlI_1, shrI_nn, Cont_v, Cont_0, List.mem_cons, List.not_mem_nil, or_false, or_true, true_or, true_and, and_true, ite_not, if_true, if_false, not_true_eq_false, not_false_eq_true, false_or, false_and, and_false, eq_self, ↓reduceIte, reduceCtorEq, gK_nO, hC, hS, Nat.reduceAdd]
  · simp (disch := omega) only [↓rX0_fishBy_0, ↓rX0_fishBy_1, ↓rX0_fishBy_32, ↓rX0_fishBy_35, ↓rX0_fishBy_36, ↓rX0_fishBy_37, ↓rX0_fishBy_40, ↓rX0_fishBy_41, ↓rX0_fishBy_44, ↓rX0_fishBy_45, ↓rX0_fishBy_46, ↓rX0_fishBy_49, ↓rX0_fishBy_50, ↓rX0_fishBy_53, ↓rX0_fishBy_54, ↓rX0_fishBy_55, ↓rX0_fishBy_58, ↓rX0_fishBy_59, ↓rX0_fishBy_62, ↓rX0_fishBy_63, ↓rX0_fishBy_64, ↓rX0_fishBy_67, ↓rX0_fishBy_68, ↓rX0_fishBy_71, ↓rX0_fishBy_72, ↓rX0_fishBy_73, ↓rX0_fishBy_76, ↓rX0_fishBy_t, ↓rX5_init_0, ↓rX5_init_1, ↓rX5_init_2, ↓rX5_init_5, ↓rX5_init_t, ↓rX4_init_0, ↓rX4_init_1, ↓rX4_init_2, ↓rX4_init_5, ↓rX4_init_t, ↓rX3_init_0, ↓rX3_init_1, ↓rX3_init_4, ↓rX3_init_5, ↓rX3_init_6, ↓rX3_init_9, ↓rX3_init_t, show tswT 0 [32, 41, 50, 59] 68 (nI 0) = 32 from rfl, show tswT 0 [32, 41, 50, 59] 68 (nI 1) = 41 from rfl, show tswT 0 [32, 41, 50, 59] 68 (nI 2) = 50 from rfl, show tswT 0 [32, 41, 50, 59] 68 (nI 3) = 59 from rfl, ↓rmI_in, ↓shrI_in, ↓shlI_in, ↓okI_in, ↓bI_01, bI_z, bI_o, nn_neg, Int.cast_ofNat_Int, zlit, n_leT, n_leF, n_ltT, n_ltF, n_eqT, n_eqF, z_leT, z_leF, z_ltT, z_ltF, z_eqT, z_eqF, nn_add, nn_mul, nn_clamp, nn_lt, nn_le, nn_eq, nn_div, rmI_nn, okI_nn, nn_and, nn_or, nn_xor, shlI_1, shrI_nn, Cont_v, Cont_0, List.mem_cons, List.not_mem_nil, or_false, or_true, true_or, true_and, and_true, ite_not, if_true, if_false, not_true_eq_false, not_false_eq_true, false_or, false_and, and_false, eq_self, ↓reduceIte, reduceCtorEq, gK_nO, hC, hS, Nat.reduceAdd]
  · simp (disch := omega) only [↓rX0_fishBy_0, ↓rX0_fishBy_1, ↓rX0_fishBy_32, ↓rX0_fishBy_35, ↓rX0_fishBy_36, ↓rX0_fishBy_37, ↓rX0_fishBy_40, ↓rX0_fishBy_41, ↓rX0_fishBy_44, ↓rX0_fishBy_45, ↓rX0_fishBy_46, ↓rX0_fishBy_49, ↓rX0_fishBy_50, ↓rX0_fishBy_53, ↓rX0_fishBy_54, ↓rX0_fishBy_55, ↓rX0_fishBy_58, ↓rX0_fishBy_59, ↓rX0_fishBy_62, ↓rX0_fishBy_63, ↓rX0_fishBy_64, ↓rX0_fishBy_67, ↓rX0_fishBy_68, ↓rX0_fishBy_71, ↓rX0_fishBy_72, ↓rX0_fishBy_73, ↓rX0_fishBy_76, ↓rX0_fishBy_t, ↓rX6_init_0, ↓rX6_init_1, ↓rX6_init_2, ↓rX6_init_5, ↓rX6_init_t, ↓rX4_init_0, ↓rX4_init_1, ↓rX4_init_2, ↓rX4_init_5, ↓rX4_init_t, ↓rX3_init_0, ↓rX3_init_1, ↓rX3_init_4, ↓rX3_init_5, ↓rX3_init_6, ↓rX3_init_9, ↓rX3_init_t, show tswT 0 [32, 41, 50, 59] 68 (nI 0) = 32 from rfl, show tswT 0 [32, 41, 50, 59] 68 (nI 1) = 41 from rfl, show tswT 0 [32, 41, 50, 59] 68 (nI 2) = 50 from rfl, show tswT 0 [32, 41, 50, 59] 68 (nI 3) = 59 from rfl, ↓rmI_in, ↓shrI_in, ↓shlI_in, ↓okI_in, ↓bI_01, bI_z, bI_o, nn_neg, Int.cast_ofNat_Int, zlit, n_leT, n_leF, n_ltT, n_ltF, n_eqT, n_eqF, z_leT, z_leF, z_ltT, z_ltF, z_eqT, z_eqF, nn_add, nn_mul, nn_clamp, nn_lt, nn_le, nn_eq, nn_div, rmI_nn, okI_nn, nn_and, nn_or, nn_xor, shlI_1, shrI_nn, Cont_v, Cont_0, List.mem_cons, List.not_mem_nil, or_false, or_true, true_or, true_and, and_true, ite_not, if_true, if_false, not_true_eq_false, not_false_eq_true, false_or, false_and, and_false, eq_self, ↓reduceIte, reduceCtorEq, gK_nO, hC, hS, Nat.reduceAdd]
  · simp (disch := omega) only [↓rX0_fishBy_0, ↓rX0_fishBy_1, ↓rX0_fishBy_32, ↓rX0_fishBy_35, ↓rX0_fishBy_36, ↓rX0_fishBy_37, ↓rX0_fishBy_40, ↓rX0_fishBy_41, ↓rX0_fishBy_44, ↓rX0_fishBy_45, ↓rX0_fishBy_46, ↓rX0_fishBy_49, ↓rX0_fishBy_50, ↓rX0_fishBy_53, ↓rX0_fishBy_54, ↓rX0_fishBy_55, ↓rX0_fishBy_58, ↓rX0_fishBy_59, ↓rX0_fishBy_62, ↓rX0_fishBy_63, ↓rX0_fishBy_64, ↓rX0_fishBy_67, ↓rX0_fishBy_68, ↓rX0_fishBy_71, ↓rX0_fishBy_72, ↓rX0_fishBy_73, ↓rX0_fishBy_76, ↓rX0_fishBy_t, ↓rX7_init_0, ↓rX7_init_1, ↓rX7_init_2, ↓rX7_init_5, ↓rX7_init_t, ↓rX3_init_0, ↓rX3_init_1, ↓rX3_init_4, ↓rX3_init_5, ↓rX3_init_6, ↓rX3_init_9, ↓rX3_init_t, show tswT 0 [32, 41, 50, 59] 68 (nI 0) = 32 from rfl, show tswT 0 [32, 41, 50, 59] 68 (nI 1) = 41 from rfl, show tswT 0 [32, 41, 50, 59] 68 (nI 2) = 50 from rfl, show tswT 0 [32, 41, 50, 59] 68 (nI 3) = 59 from rfl, ↓rmI_in, ↓shrI_in, ↓shlI_in, ↓okI_in, ↓bI_01, bI_z, bI_o, nn_neg, Int.cast_ofNat_Int, zlit, n_leT, n_leF, n_ltT, n_ltF, n_eqT, n_eqF, z_leT, z_leF, z_ltT, z_ltF, z_eqT, z_eqF, nn_add, nn_mul, nn_clamp, nn_lt, nn_le, nn_eq, nn_div, rmI_nn, okI_nn, nn_and, nn_or, nn_xor, shlI_1, shrI_nn, Cont_v, Cont_0, List.mem_cons, List.not_mem_nil, or_false, or_true, true_or, true_and, and_true, ite_not, if_true, if_false, not_true_eq_false, not_false_eq_true, false_or, false_and, and_false, eq_self, ↓reduceIte, reduceCtorEq, gK_nO, hC, hS, Nat.reduceAdd]
  · simp (disch := omega) only [↓rX0_fishBy_0, ↓rX0_fishBy_1, ↓rX0_fishBy_32, ↓rX0_fishBy_35, ↓rX0_fishBy_36, ↓rX0_fishBy_37, ↓rX0_fishBy_40, ↓rX0_fishBy_41, ↓rX0_fishBy_44, ↓rX0_fishBy_45, ↓rX0_fishBy_46, ↓rX0_fishBy_49, ↓rX0_fishBy_50, ↓rX0_fishBy_53, ↓rX0_fishBy_54, ↓rX0_fishBy_55, ↓rX0_fishBy_58, ↓rX0_fishBy_59, ↓rX0_fishBy_62, ↓rX0_fishBy_63, ↓rX0_fishBy_64, ↓rX0_fishBy_67, ↓rX0_fishBy_68, ↓rX0_fishBy_71, ↓rX0_fishBy_72, ↓rX0_fishBy_73, ↓rX0_fishBy_76, ↓rX0_fishBy_t, ↓rX8_init_0, ↓rX8_init_1, ↓rX8_init_2, ↓rX8_init_5, ↓rX8_init_t, ↓rX7_init_0, ↓rX7_init_1, ↓rX7_init_2, ↓rX7_init_5, ↓rX7_init_t, ↓rX3_init_0, ↓rX3_init_1, ↓rX3_init_4, ↓rX3_init_5, ↓rX3_init_6, ↓rX3_init_9, ↓rX3_init_t, tsw_d (ts := [_, _, _, _]) hd, ↓rmI_in, ↓shrI_in, ↓shlI_in, ↓okI_in, ↓bI_01, bI_z, bI_o, nn_neg, Int.cast_ofNat_Int, zlit, n_leT, n_leF, n_ltT, n_ltF, n_eqT, n_eqF, z_leT, z_leF, z_ltT, z_ltF, z_eqT, z_eqF, nn_add, nn_mul, nn_clamp, nn_lt, nn_le, nn_eq, nn_div, rmI_nn, okI_nn, nn_and, nn_or, nn_xor, shlI_1, shrI_nn, Cont_v, Cont_0, List.mem_cons, List.not_mem_nil, or_false, or_true, true_or, true_and, and_true, ite_not, if_true, if_false, not_true_eq_false, not_false_eq_true, false_or, false_and, and_false, eq_self, ↓reduceIte, reduceCtorEq, gK_nO, hC, hS, Nat.reduceAdd]
theorem cJ_max (Q : Po) (h : Hp) : Ex mJ13_max Q 0 [.int (nI 10), .int (nI 1)] [] h = Q (.inl (some (.int (nI 10)))) h := by
  simp (disch := omega) only [↓rJ13_max_0, ↓rJ13_max_1, ↓rJ13_max_2, ↓rJ13_max_5, ↓rJ13_max_6, ↓rJ13_max_9, ↓rJ13_max_10, ↓rJ13_max_t, ↓rmI_in, ↓shrI_in, ↓shlI_in, ↓okI_in, ↓bI_01, bI_z, bI_o, nn_neg, Int.cast_ofNat_Int, zlit, n_leT, n_leF, n_ltT, n_ltF, n_eqT, n_eqF, z_leT, z_leF, z_ltT, z_ltF, z_eqT, z_eqF, nn_add, nn_mul, nn_clamp, nn_lt, nn_le, nn_eq, nn_div, rmI_nn, okI_nn, nn_and, nn_or, nn_xor, shlI_1, shrI_nn, Cont_v, Cont_0, List.mem_cons, List.not_mem_nil, or_false, or_true, true_or, true_and, and_true, ite_not, if_true, if_false, not_true_eq_false, not_false_eq_true, false_or, false_and, and_false, eq_self, ↓reduceIte, reduceCtorEq]
theorem cJ_add0 (Q : Po) {h : Hp} {p e a : Nat} {mc : Int32} (kp : gK h p = 14) (f158 : gF h 158 p = .int mc) (f161 : gF h 161 p = .ref e) (f162 : gF h 162 p = .int (nI 0)) (hs : gF h 1001 0 = .ref e) (ke : gK h e = 59) (le : gL h e = 0) (ka : gK h a = 4 ∨ gK h a = 5 ∨ gK h a = 6 ∨ gK h a = 7 ∨ gK h a = 8) (han : a < gN h) (hpn : p < gN h ∧ 0 < p ∧ e < gN h) (hC : 1 ≤ gC h) (hS : 10 ≤ gS h) : Ex mJ2_add Q 0 [.ref p, .ref a] [] h = Q (.inl (some (.int (nI 1)))) (pF (pR (pF (nR (pF h 158 p (.int (mc + nI 1))) 57 10) 161 p (.ref (gN h))) (gN h) 0 (some a)) 162 p (.int (nI 1))) := by
  have ka' : gK h a ∈ ([4, 5, 6, 7, 8] : List Nat) := by simp only [List.mem_cons, List.not_mem_nil, or_false]; exact ka
  have n1 : ¬ p = gN h := by omega
  have n2 : ¬ a = gN h := by omega
  have n3 : ¬ e = gN h := by omega
  have n4 : ¬ (0 : Nat) = p := by omega
  simp (disch := omega) only [↓rJ2_add_0, ↓rJ2_add_0n, ↓rJ2_add_1, ↓rJ2_add_2, ↓rJ2_add_5, ↓rJ2_add_6, ↓rJ2_add_7, ↓rJ2_add_10, ↓rJ2_add_10n, ↓rJ2_add_11, ↓rJ2_add_11n, ↓rJ2_add_12, ↓rJ2_add_12n, ↓rJ2_add_13, ↓rJ2_add_16, ↓rJ2_add_16n, ↓rJ2_add_17, ↓rJ2_add_20, ↓rJ2_add_23, ↓rJ2_add_24, ↓rJ2_add_t, ↓rJ2_add_2_0, ↓rJ2_add_2_1, ↓rJ2_add_2_1n, ↓rJ2_add_2_2, ↓rJ2_add_2_3, ↓rJ2_add_2_6, ↓rJ2_add_2_6n, ↓rJ2_add_2_7, ↓rJ2_add_2_10, ↓rJ2_add_2_11, ↓rJ2_add_2_11n, ↓rJ2_add_2_12, ↓rJ2_add_2_13, ↓rJ2_add_2_13n, ↓rJ2_add_2_14, ↓rJ2_add_2_14n, ↓rJ2_add_2_15, ↓rJ2_add_2_15n, ↓rJ2_add_2_16, ↓rJ2_add_2_17, ↓rJ2_add_2_18, ↓rJ2_add_2_19, ↓rJ2_add_2_22, ↓rJ2_add_2_t, ↓rJ2_grow_0, ↓rJ2_grow_0n, ↓rJ2_grow_1, ↓rJ2_grow_1n, ↓rJ2_grow_2, ↓rJ2_grow_5, ↓rJ2_grow_6, ↓rJ2_grow_7, ↓rJ2_grow_10, ↓rJ2_grow_t, ↓rJ2_grow_2_0, ↓rJ2_grow_2_0n, ↓rJ2_grow_2_1, ↓rJ2_grow_2_4, ↓rJ2_grow_2_5, ↓rJ2_grow_2_6, ↓rJ2_grow_2_7, ↓rJ2_grow_2_10, ↓rJ2_grow_2_10n, ↓rJ2_grow_2_11, ↓rJ2_grow_2_14, ↓rJ2_grow_2_17, ↓rJ2_grow_2_20, ↓rJ2_grow_2_21, ↓rJ2_grow_2_22, ↓rJ2_grow_2_23, ↓rJ2_grow_2_24, ↓rJ2_grow_2_25, ↓rJ2_grow_2_26, ↓rJ2_grow_2_30, ↓rJ2_grow_2_31, ↓rJ2_grow_2_31n, ↓rJ2_grow_2_32, ↓rJ2_grow_2_32n, ↓rJ2_grow_2_33, ↓rJ2_grow_2_36, ↓rJ2_grow_2_40, ↓rJ2_grow_2_41, ↓rJ2_grow_2_41n, ↓rJ2_grow_2_44, ↓rJ2_grow_2_45, ↓rJ2_grow_2_45n, ↓rJ2_grow_2_46, ↓rJ2_grow_2_48, ↓rJ2_grow_2_49, ↓rJ2_grow_2_52, ↓rJ2_grow_2_55, ↓rJ2_grow_2_56, ↓rJ2_grow_2_56n, ↓rJ2_grow_2_59, ↓rJ2_grow_2_t, ↓rmI_in, ↓shrI_in, ↓shlI_in, ↓okI_in, ↓bI_01, bI_z, bI_o, nn_neg, Int.cast_ofNat_Int, zlit, n_leT, n_leF, n_ltT, n_ltF, n_eqT, n_eqF, z_leT, z_leF, z_ltT, z_ltF, z_eqT, z_eqF, nn_add, nn_mul, nn_clamp, nn_lt, nn_le, nn_eq, nn_div, rmI_nn, okI_nn, nn_and, nn_or, nn_xor, shlI_1, shrI_nn, Cont_v, Cont_0, List.mem_cons, List.not_mem_nil, or_false, or_true, true_or, true_and, and_true, ite_not, if_true, if_false, not_true_eq_false, not_false_eq_true, false_or, false_and, and_false, eq_self, ↓reduceIte, reduceCtorEq, Nat.zero_add, ↓cJ_max, gK_pF, gK_nR, gK_pR, gL_pF, gL_nR, gL_pR, gF_pF, gF_nR, gF_pR, gN_pF, gN_nR, gC_pF, gS_pF, kp, f158, f161, f162, hs, ke, le, ka, n1, n2, n3, n4]
theorem cJ_addS (Q : Po) {h : Hp} {p e a f : Nat} {mc : Int32} (kp : gK h p = 14) (f158 : gF h 158 p = .int mc) (f161 : gF h 161 p = .ref e) (f162 : gF h 162 p = .int (nI f)) (ke : gK h e = 57) (le : gL h e = 10) (hf : f < 10) (ka : gK h a = 4 ∨ gK h a = 5 ∨ gK h a = 6 ∨ gK h a = 7 ∨ gK h a = 8) : Ex mJ2_add Q 0 [.ref p, .ref a] [] h = Q (.inl (some (.int (nI 1)))) (pF (pR (pF h 158 p (.int (mc + nI 1))) e f (some a)) 162 p (.int (nI (f + 1)))) := by
  simp (disch := omega) only [↓rJ2_add_0, ↓rJ2_add_0n, ↓rJ2_add_1, ↓rJ2_add_2, ↓rJ2_add_5, ↓rJ2_add_6, ↓rJ2_add_7, ↓rJ2_add_10, ↓rJ2_add_10n, ↓rJ2_add_11, ↓rJ2_add_11n, ↓rJ2_add_12, ↓rJ2_add_12n, ↓rJ2_add_13, ↓rJ2_add_16, ↓rJ2_add_16n, ↓rJ2_add_17, ↓rJ2_add_20, ↓rJ2_add_23, ↓rJ2_add_24, ↓rJ2_add_t, ↓rJ2_add_2_0, ↓rJ2_add_2_1, ↓rJ2_add_2_1n, ↓rJ2_add_2_2, ↓rJ2_add_2_3, ↓rJ2_add_2_6, ↓rJ2_add_2_6n, ↓rJ2_add_2_7, ↓rJ2_add_2_10, ↓rJ2_add_2_11, ↓rJ2_add_2_11n, ↓rJ2_add_2_12, ↓rJ2_add_2_13, ↓rJ2_add_2_13n, ↓rJ2_add_2_14, ↓rJ2_add_2_14n, ↓rJ2_add_2_15, ↓rJ2_add_2_15n, ↓rJ2_add_2_16, ↓rJ2_add_2_17, ↓rJ2_add_2_18, ↓rJ2_add_2_19, ↓rJ2_add_2_22, ↓rJ2_add_2_t, ↓rmI_in, ↓shrI_in, ↓shlI_in, ↓okI_in, ↓bI_01, bI_z, bI_o, nn_neg, Int.cast_ofNat_Int, zlit, n_leT, n_leF, n_ltT, n_ltF, n_eqT, n_eqF, z_leT, z_leF, z_ltT, z_ltF, z_eqT, z_eqF, nn_add, nn_mul, nn_clamp, nn_lt, nn_le, nn_eq, nn_div, rmI_nn, okI_nn, nn_and, nn_or, nn_xor, shlI_1, shrI_nn, Cont_v, Cont_0, List.mem_cons, List.not_mem_nil, or_false, or_true, true_or, true_and, and_true, ite_not, if_true, if_false, not_true_eq_false, not_false_eq_true, false_or, false_and, and_false, eq_self, ↓reduceIte, reduceCtorEq, gK_pF, gK_pR, gL_pF, gL_pR, gF_pF, gF_pR, kp, f158, f161, f162, ke, le, ka]
/-- the list of the fish that are read -/
def RLi (g : Hp) (r : Nat) (s : St) : Prop := ∃ (e : Nat) (fa : Nat → Nat) (mc : Int32), gK g (r + 6) = 14 ∧ gF g 158 (r + 6) = .int mc ∧ gF g 161 (r + 6) = .ref e ∧ gF g 162 (r + 6) = .int (nI (s 1)) ∧ ((s 1 : Nat) = 0 → gF g 1001 0 = .ref e ∧ gK g e = 59 ∧ gL g e = 0 ∧ e < gN g) ∧ (0 < (s 1 : Nat) → gK g e = 57 ∧ gL g e = 10 ∧ r + 9 ≤ e ∧ e < gN g) ∧ ∀ i, i < (s 1 : Nat) → gR g e i = some (fa i) ∧ gK g (fa i) = 3 + (s (26 + i) : Nat) ∧ gF g 68 (fa i) = .int (nI i) ∧ r + 9 ≤ fa i ∧ fa i < gN g
theorem RB.next {g0 g g' : Hp} {c r : Nat} {t : Nat → Nat} {n f : Nat} (R : RB g0 g c r t n f) (hf : f < 5) (hS : ∀ x, x < r + 9 → x ≠ r + 6 → SmX g g' x) (hN : gN g ≤ gN g') (hC : gC g ≤ gC g' + 2) (hSl : gS g ≤ gS g' + 11) : RB g0 g' c r t n (f + 1) := by
  obtain ⟨⟨a1, a2, a3, a4⟩, K, ⟨a5, a6, a7⟩, ⟨a8, a9, a10⟩, ⟨⟨⟨v1, w1⟩, ⟨v2, w2⟩, ⟨v3, w3⟩, w4⟩, a11⟩, ⟨b1, b2, b3, b4⟩, ⟨b5, b6, b7⟩, hn, ht⟩ := R
  have sr := hS r (by omega) (by omega)
  have s0 := hS 0 (by omega) (by omega)
  have s2 := hS (c + 2) (by omega) (by omega)
  have sk : ∀ k, k ≤ 7 → k ≠ 5 → SmX g g' (r + 1 + k) := fun k hk h5 => hS _ (by omega) (by omega)
  refine ⟨⟨sr.1.trans a1, (sr.2.2.1 _).trans a2, (sr.2.2.1 _).trans a3, (sr.2.2.1 _).trans a4⟩, ?_, ⟨s2.1.trans a5, s2.2.1.trans a6, fun i hi => (s2.2.2.2.1 i).trans (a7 i hi)⟩, ⟨a8, a9, by omega⟩, ⟨⟨⟨v1, (s0.2.2.1 _).trans w1⟩, ⟨v2, (s0.2.2.1 _).trans w2⟩, ⟨v3, (s0.2.2.1 _).trans w3⟩, by omega⟩, a11.keep a8 (fun x hx => hS x (by omega) (by omega))⟩, ⟨fun x hx => (b1 x hx).trans (hS x (by omega) (by omega)), by omega, by omega, by omega⟩, ⟨b5, b6, by omega⟩, hn, ht⟩
  obtain ⟨k0, ⟨k1, k2, k3, k4, k6, k7⟩, l1, l2, l3, l4, l6, l7⟩ := K
  exact ⟨(sk 0 (by omega) (by omega)).1.trans k0, ⟨(sk 1 (by omega) (by omega)).1.trans k1, (sk 2 (by omega) (by omega)).1.trans k2, (sk 3 (by omega) (by omega)).1.trans k3, (sk 4 (by omega) (by omega)).1.trans k4, (sk 6 (by omega) (by omega)).1.trans k6, (sk 7 (by omega) (by omega)).1.trans k7⟩, (sk 1 (by omega) (by omega)).2.1.trans l1, (sk 2 (by omega) (by omega)).2.1.trans l2, (sk 3 (by omega) (by omega)).2.1.trans l3, (sk 4 (by omega) (by omega)).2.1.trans l4, (sk 6 (by omega) (by omega)).2.1.trans l6, (sk 7 (by omega) (by omega)).2.1.trans l7⟩
/-- a fish is put behind the others -/
theorem c12_put {g0 g : Hp} {c r : Nat} {t : Nat → Nat} {n : Nat} {s : St} {m : Nat → Nat} (R : RB g0 g c r t n (s 1)) (Li : RLi g r s) (x4 x6 x8 x0 : Int32) {so : Nat} (hso : so ≤ 4) (h5 : (s 1 : Nat) < 5) {s' : St} (e1 : (s' 1 : Nat) = (s 1 : Nat) + 1) (e2 : ∀ i, i < (s 1 : Nat) → s' (26 + i) = s (26 + i)) (e3 : (s' (26 + (s 1 : Nat)) : Nat) = so + 1) (s2 : St) : ∃ g', RB g0 g' c r t n ((s 1 : Nat) + 1) ∧ RLi g' r s' ∧ gN g < gN g' ∧ ∀ Q : Po, Ex mJ2_add Q 0 [.ref (r + 6), .ref (gN g)] [] (pF (nO (LB (RDo g r x4 x6 x8 x0) (r + 1) s2 m (r + 6) (zI (-1000000)) .null) (4 + so) 1) 68 (gN g) (.int (nI (s 1)))) = Q (.inl (some (.int (nI 1)))) (LB (RDo g' r x4 x6 x8 x0) (r + 1) s2 m (r + 6) (zI (-1000000)) .null) := by
  have R' := R
  obtain ⟨-, -, -, ⟨a8, a9, a10⟩, -, ⟨b1, b2, b3, b4⟩, ⟨b5, b6, b7⟩, -⟩ := R'
  obtain ⟨e, fa, mc, c1, c2, c3, c4, c5, c6, c7⟩ := Li
  -- the heap with the new fish
  have eH : pF (nO (LB (RDo g r x4 x6 x8 x0) (r + 1) s2 m (r + 6) (zI (-1000000)) .null) (4 + so) 1) 68 (gN g) (.int (nI (s 1))) = LB (RDo (pF (nO g (4 + so) 1) 68 (gN g) (.int (nI (s 1)))) r x4 x6 x8 x0) (r + 1) s2 m (r + 6) (zI (-1000000)) .null := by
    rw [LB_nO _ _ _ _ _ _ _ (show r + 1 ≠ gN (RDo g r x4 x6 x8 x0) by rw [rd_N]; omega), LB_pFn _ _ _ _ _ _ _ (show gN g ≠ r + 1 by omega), RD_nO _ _ _ _ _ _ (show r ≠ gN g by omega), RD_pF _ _ _ _ _ _ (show gN g ≠ r by omega)]
  have k1 : gK (pF (nO g (4 + so) 1) 68 (gN g) (.int (nI (s 1)))) (gN g) = 4 + so := if_pos rfl
  have sm1 : ∀ x, x ≠ gN g → SmX g (pF (nO g (4 + so) 1) 68 (gN g) (.int (nI (s 1)))) x := fun x hx => (nO_sm hx).trans (pF_sm hx)
  have f68 : gF (pF (nO g (4 + so) 1) 68 (gN g) (.int (nI (s 1)))) 68 (gN g) = .int (nI (s 1)) := pF_eq
  have n1 : gN (pF (nO g (4 + so) 1) 68 (gN g) (.int (nI (s 1)))) = gN g + 1 := rfl
  have n2 : gC (pF (nO g (4 + so) 1) 68 (gN g) (.int (nI (s 1)))) = gC g - 1 := rfl
  have n3 : gS (pF (nO g (4 + so) 1) 68 (gN g) (.int (nI (s 1)))) = gS g - 1 := rfl
  rw [eH]
  generalize pF (nO g (4 + so) 1) 68 (gN g) (.int (nI (s 1))) = g1 at k1 sm1 f68 n1 n2 n3
  have sp := sm1 (r + 6) (by omega)
  have rH : ∀ f x, x ≠ r → x ≠ r + 1 → gF (LB (RDo g1 r x4 x6 x8 x0) (r + 1) s2 m (r + 6) (zI (-1000000)) .null) f x = gF g1 f x := fun f x h1 h2 => by
    rw [lo_F _ _ _ _ _ _ _ _ (by omega), rd_F, if_neg (by omega), if_neg (by omega), if_neg (by omega), if_neg (by omega)]
  have d1 : gF (LB (RDo g1 r x4 x6 x8 x0) (r + 1) s2 m (r + 6) (zI (-1000000)) .null) 158 (r + 6) = .int mc := (rH _ _ (by omega) (by omega)).trans ((sp.2.2.1 _).trans c2)
  have d2 : gF (LB (RDo g1 r x4 x6 x8 x0) (r + 1) s2 m (r + 6) (zI (-1000000)) .null) 161 (r + 6) = .ref e := (rH _ _ (by omega) (by omega)).trans ((sp.2.2.1 _).trans c3)
  have d3 : gF (LB (RDo g1 r x4 x6 x8 x0) (r + 1) s2 m (r + 6) (zI (-1000000)) .null) 162 (r + 6) = .int (nI (s 1)) := (rH _ _ (by omega) (by omega)).trans ((sp.2.2.1 _).trans c4)
  have kp : gK g1 (r + 6) = 14 := sp.1.trans c1
  have ka : gK g1 (gN g) = 4 ∨ gK g1 (gN g) = 5 ∨ gK g1 (gN g) = 6 ∨ gK g1 (gN g) = 7 ∨ gK g1 (gN g) = 8 := by omega
  by_cases h0 : (s 1 : Nat) = 0
  · obtain ⟨w1, w2, w3, w4⟩ := c5 h0
    have se := sm1 e (by omega)
    have s0 := sm1 0 (by omega)
    have d4 : gF (LB (RDo g1 r x4 x6 x8 x0) (r + 1) s2 m (r + 6) (zI (-1000000)) .null) 1001 0 = .ref e := (rH _ _ (by omega) (by omega)).trans ((s0.2.2.1 _).trans w1)
    rw [h0] at d3
    have ad := fun Q => cJ_add0 Q (h := LB (RDo g1 r x4 x6 x8 x0) (r + 1) s2 m (r + 6) (zI (-1000000)) .null) (a := gN g) kp d1 d2 d3 d4 (se.1.trans w2) (se.2.1.trans w3) ka (by rw [lo_N, rd_N]; omega) (by rw [lo_N, rd_N]; omega) (by rw [lo_C, rd_C]; omega) (by rw [lo_S, rd_S]; omega)
    have eN : gN (LB (RDo g1 r x4 x6 x8 x0) (r + 1) s2 m (r + 6) (zI (-1000000)) .null) = gN g + 1 := by rw [lo_N, rd_N, n1]
    rw [eN] at ad
    have eF : pF (pR (pF (nR (pF (LB (RDo g1 r x4 x6 x8 x0) (r + 1) s2 m (r + 6) (zI (-1000000)) .null) 158 (r + 6) (.int (mc + nI 1))) 57 10) 161 (r + 6) (.ref (gN g + 1))) (gN g + 1) 0 (some (gN g))) 162 (r + 6) (.int (nI 1)) = LB (RDo (pF (pR (pF (nR (pF g1 158 (r + 6) (.int (mc + nI 1))) 57 10) 161 (r + 6) (.ref (gN g + 1))) (gN g + 1) 0 (some (gN g))) 162 (r + 6) (.int (nI 1))) r x4 x6 x8 x0) (r + 1) s2 m (r + 6) (zI (-1000000)) .null := by
      rw [LB_pFn _ _ _ _ _ _ _ (show r + 6 ≠ r + 1 by omega), LB_nR, LB_pFn _ _ _ _ _ _ _ (show r + 6 ≠ r + 1 by omega), LB_pR, LB_pFn _ _ _ _ _ _ _ (show r + 6 ≠ r + 1 by omega), RD_pF _ _ _ _ _ _ (show r + 6 ≠ r by omega), RD_nR, RD_pF _ _ _ _ _ _ (show r + 6 ≠ r by omega), RD_pR, RD_pF _ _ _ _ _ _ (show r + 6 ≠ r by omega)]
    have smF : ∀ x, x < gN g → x ≠ r + 6 → SmX g (pF (pR (pF (nR (pF g1 158 (r + 6) (.int (mc + nI 1))) 57 10) 161 (r + 6) (.ref (gN g + 1))) (gN g + 1) 0 (some (gN g))) 162 (r + 6) (.int (nI 1))) x := fun x hx h6 => by
      have sn : SmX (pF g1 158 (r + 6) (.int (mc + nI 1))) (nR (pF g1 158 (r + 6) (.int (mc + nI 1))) 57 10) x := by
        have hne : ¬ x = gN (pF g1 158 (r + 6) (.int (mc + nI 1))) := by rw [gN_pF, n1]; omega
        exact ⟨if_neg hne, if_neg hne, fun _ => rfl, fun _ => rfl, fun _ => if_neg hne⟩
      exact (((((sm1 x (by omega)).trans (pF_sm h6)).trans sn).trans (pF_sm h6)).trans (pR_sm (by omega))).trans (pF_sm h6)
    have nF : gN (pF (pR (pF (nR (pF g1 158 (r + 6) (.int (mc + nI 1))) 57 10) 161 (r + 6) (.ref (gN g + 1))) (gN g + 1) 0 (some (gN g))) 162 (r + 6) (.int (nI 1))) = gN g + 2 := by
      rw [gN_pF, gN_pR, gN_pF, gN_nR, gN_pF, n1]
    have cF : gC (pF (pR (pF (nR (pF g1 158 (r + 6) (.int (mc + nI 1))) 57 10) 161 (r + 6) (.ref (gN g + 1))) (gN g + 1) 0 (some (gN g))) 162 (r + 6) (.int (nI 1))) = gC g - 2 := by
      rw [gC_pF, gC_pR, gC_pF, gC_nR, gC_pF, n2]; omega
    have lF' : gS (pF (pR (pF (nR (pF g1 158 (r + 6) (.int (mc + nI 1))) 57 10) 161 (r + 6) (.ref (gN g + 1))) (gN g + 1) 0 (some (gN g))) 162 (r + 6) (.int (nI 1))) = gS g - 11 := by
      rw [gS_pF, gS_pR, gS_pF, gS_nR, gS_pF, n3]; omega
    refine ⟨_, R.next h5 (fun x hx h6 => smF x (by omega) h6) (by omega) (by omega) (by omega), ?_, by omega, fun Q => (ad Q).trans (by rw [eF])⟩
    refine ⟨gN g + 1, fun _ => gN g, mc + nI 1, ?_, ?_, ?_, ?_, fun q => by omega, fun _ => ⟨?_, ?_, by omega, by omega⟩, fun i hi => ?_⟩
    · simp (disch := omega) only [gK_pF, gK_pR, gK_nR, gN_pF, n1, n_eqF, if_false]; exact kp
    · simp (disch := omega) only [gF_pF, gF_pR, gF_nR, n_eqF, false_and, if_false, and_self, if_true]
    · simp (disch := omega) only [gF_pF, gF_pR, gF_nR, n_eqF, false_and, if_false, and_self, if_true]
    · rw [pF_eq, e1, h0]
    · simp (disch := omega) only [gK_pF, gK_pR, gK_nR, gN_pF, n1, if_true]
    · simp (disch := omega) only [gL_pF, gL_pR, gL_nR, gN_pF, n1, if_true]
    · have hi0 : i = 0 := by omega
      subst hi0
      refine ⟨?_, ?_, ?_, by simp only; omega, by simp only; omega⟩
      · simp (disch := omega) only [gR_pF, gR_pR, and_self, if_true]
      · simp (disch := omega) only [gK_pF, gK_pR, gK_nR, gN_pF, n1, n_eqF, if_false]
        rw [k1]
        have := e3
        rw [h0] at this
        omega
      · simp (disch := omega) only [gF_pF, gF_pR, gF_nR, n_eqF, false_and, if_false]
        rw [f68, h0]
  · obtain ⟨w2, w3, w4, w5⟩ := c6 (by omega)
    have se := sm1 e (by omega)
    have ad := fun Q => cJ_addS Q (h := LB (RDo g1 r x4 x6 x8 x0) (r + 1) s2 m (r + 6) (zI (-1000000)) .null) (a := gN g) kp d1 d2 d3 (se.1.trans w2) (se.2.1.trans w3) (by omega) ka
    have eF : pF (pR (pF (LB (RDo g1 r x4 x6 x8 x0) (r + 1) s2 m (r + 6) (zI (-1000000)) .null) 158 (r + 6) (.int (mc + nI 1))) e (s 1) (some (gN g))) 162 (r + 6) (.int (nI ((s 1 : Nat) + 1))) = LB (RDo (pF (pR (pF g1 158 (r + 6) (.int (mc + nI 1))) e (s 1) (some (gN g))) 162 (r + 6) (.int (nI ((s 1 : Nat) + 1)))) r x4 x6 x8 x0) (r + 1) s2 m (r + 6) (zI (-1000000)) .null := by
      rw [LB_pFn _ _ _ _ _ _ _ (show r + 6 ≠ r + 1 by omega), LB_pR, LB_pFn _ _ _ _ _ _ _ (show r + 6 ≠ r + 1 by omega), RD_pF _ _ _ _ _ _ (show r + 6 ≠ r by omega), RD_pR, RD_pF _ _ _ _ _ _ (show r + 6 ≠ r by omega)]
    have smF : ∀ x, x < gN g → x ≠ r + 6 → x ≠ e → SmX g (pF (pR (pF g1 158 (r + 6) (.int (mc + nI 1))) e (s 1) (some (gN g))) 162 (r + 6) (.int (nI ((s 1 : Nat) + 1)))) x := fun x hx h6 he => (((sm1 x (by omega)).trans (pF_sm h6)).trans (pR_sm he)).trans (pF_sm h6)
    refine ⟨_, R.next h5 (fun x hx h6 => smF x (by omega) h6 (by omega)) (by rw [gN_pF, gN_pR, gN_pF, n1]; omega) (by rw [gC_pF, gC_pR, gC_pF, n2]; omega) (by rw [gS_pF, gS_pR, gS_pF, n3]; omega), ?_, by rw [gN_pF, gN_pR, gN_pF, n1]; omega, fun Q => (ad Q).trans (by rw [eF])⟩
    refine ⟨e, upN fa (s 1) (gN g), mc + nI 1, ?_, ?_, ?_, ?_, fun q => by omega, fun _ => ⟨?_, ?_, w4, by rw [gN_pF, gN_pR, gN_pF, n1]; omega⟩, fun i hi => ?_⟩
    · exact kp
    · simp (disch := omega) only [gF_pF, gF_pR, n_eqF, false_and, if_false, and_self, if_true]
    · simp (disch := omega) only [gF_pF, gF_pR, n_eqF, false_and, if_false]; exact (sp.2.2.1 _).trans c3
    · rw [pF_eq, e1]
    · exact se.1.trans w2
    · exact se.2.1.trans w3
    · rw [gN_pF, gN_pR, gN_pF, n1]
      unfold upN
      by_cases ei : i = (s 1 : Nat)
      · subst ei
        rw [if_pos rfl]
        refine ⟨?_, ?_, ?_, by omega, by omega⟩
        · simp (disch := omega) only [gR_pF, gR_pR, and_self, if_true]
        · rw [gK_pF, gK_pR, gK_pF, k1, e3]; omega
        · simp (disch := omega) only [gF_pF, gF_pR, n_eqF, false_and, if_false]
          exact f68
      · rw [if_neg ei]
        obtain ⟨q1, q2, q3, q4, q5⟩ := c7 i (by omega)
        have sf := sm1 (fa i) (by omega)
        refine ⟨?_, ?_, ?_, q4, by omega⟩
        · simp (disch := omega) only [gR_pF, gR_pR, ei, and_false, if_false]
          exact (se.2.2.2.2 i).trans q1
        · rw [gK_pF, gK_pR, gK_pF, e2 i (by omega)]; exact sf.1.trans q2
        · simp (disch := omega) only [gF_pF, gF_pR, n_eqF, false_and, if_false]
          exact (sf.2.2.1 _).trans q3
