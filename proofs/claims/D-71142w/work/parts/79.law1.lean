/-! THE LAW: its loop -/
def K_copy : Prop := ∀ (c : Nat) (X : XS), XOK X → ∀ x i y j n : Int32, COpS mX0_copy [.int x, .int i, .int y, .int j, .int n, .retAddr 0, .retAddr 0, .retAddr 0] c X (.int (mu_copy X x i y j n).1) (mu_copy X x i y j n).2
def K_as : Prop := ∀ (c : Nat) (X : XS), XOK X → ∀ x v : Int32, COpS mX0_as [.int x, .int v, .retAddr 0, .retAddr 0] c X (.int (mu_as X x v).1) (mu_as X x v).2
section LAW
variable {h : Hp} {c sc n : Nat} {f : Nat → Int32} {X : XS}
/-- one round -/
def LRnd (h : Hp) (c sc n : Nat) (f : Nat → Int32) (i pc : Nat) : Prop := ∃ h2 X2, LInv h2 c X2 sc n f ∧ (gC h ≤ gC h2 + 256 ∧ gS h ≤ gS h2 + 2048) ∧ ∀ Q : Po, Ex mL_law Q pc [.ref sc, .ref c, .ref (c + 31), .int (nI i)] [] h = Ex mL_law Q 1514 [.ref sc, .ref c, .ref (c + 31), .int (nI i)] [] h2
theorem lw_row (L : LInv h c X sc n f) {i : Nat} (hi : i + 7 ≤ n) (hn : n ≤ 448) (hC : 256 ≤ gC h) (hS : 2048 ≤ gS h) : LRnd h c sc n f i 204 := by
  have hX := L.2.1
  have kc : gK h c = 1 := L.1.1.k0
  obtain ⟨h1, h2, L2, R2, ⟨s1, s2, s3⟩, k9, q1, q2⟩ := L.op ((k_row c X hX (f (i + 1)) (f (i + 2)) (f (i + 3))).s) (o_row (o := c + 31) (X := X) hX (f (i + 1)) (f (i + 2)) (f (i + 3))) (x_row hX (f (i + 1)) (f (i + 2)) (f (i + 3))) hC hS
  obtain ⟨-, -, -, -, -, ⟨t1, t2, t3⟩⟩ := L
  have a1 := t3 (i + 1) (by omega)
  have b1 := s3 (i + 1) (by omega)
  have a2 := t3 (i + 2) (by omega)
  have b2 := s3 (i + 2) (by omega)
  have a3 := t3 (i + 3) (by omega)
  have b3 := s3 (i + 3) (by omega)
  refine ⟨h2, _, L2, R2, fun Q => ?_⟩
  simp (disch := omega) only [↓rL_law_204, ↓rL_law_205, ↓rL_law_206, ↓rL_law_207, ↓rL_law_208, ↓rL_law_209, ↓rL_law_210, ↓rL_law_211, ↓rL_law_212, ↓rL_law_213, ↓rL_law_214, ↓rL_law_215, ↓rL_law_216, ↓rL_law_217, ↓rL_law_218, ↓rL_law_219, ↓rL_law_220, ↓rL_law_223, ↓rL_law_224, ↓rL_law_225, ↓rL_law_226, ↓rL_law_227, ↓rL_law_228, ↓rL_law_229, ↓rL_law_230, ↓rL_law_231, ↓rL_law_232, ↓rL_law_233, ↓rL_law_234, ↓rL_law_235, ↓rL_law_236, ↓rL_law_237, ↓rL_law_238, ↓rL_law_239, ↓rL_law_242, ↓rL_law_245, ↓rL_law_246, ↓rL_law_t, ↓rmI_in, ↓shrI_in, ↓shlI_in, ↓okI_in, ↓bI_01, bI_z, bI_o, nn_neg, Int.cast_ofNat_Int, zlit, n_leT, n_leF, n_ltT, n_ltF, n_eqT, n_eqF, z_leT, z_leF, z_ltT, z_ltF, z_eqT, z_eqF, nn_add, nn_mul, nn_clamp, nn_lt, nn_le, nn_eq, nn_div, rmI_nn, okI_nn, nn_and, nn_or, nn_xor, shlI_1, shrI_nn, Cont_v, Cont_0, List.mem_cons, List.not_mem_nil, or_false, or_true, true_or, true_and, and_true, ite_not, if_true, if_false, not_true_eq_false, not_false_eq_true, false_or, false_and, and_false, eq_self, ↓reduceIte, reduceCtorEq, ↓rmL_in, ll_lit, ll_add, ll_mul, ll_toInt, ll_eq, ll_div, rmL_ll, ll_i2l, ll_l2i, lgc_e, kc, k9, t1, t2, s1, s2, a1, b1, a2, b2, a3, b3, ↓q1, ↓q2]
theorem lw_set (L : LInv h c X sc n f) {i : Nat} (hi : i + 7 ≤ n) (hn : n ≤ 448) (hC : 256 ≤ gC h) (hS : 2048 ≤ gS h) : LRnd h c sc n f i 247 := by
  have hX := L.2.1
  have kc : gK h c = 1 := L.1.1.k0
  obtain ⟨h1, h2, L2, R2, ⟨s1, s2, s3⟩, k9, q1, q2⟩ := L.op ((k_set c X hX (f (i + 1)) (f (i + 2)) (f (i + 3))).s) (o_set (o := c + 31) (X := X) hX (f (i + 1)) (f (i + 2)) (f (i + 3))) (x_set hX (f (i + 1)) (f (i + 2)) (f (i + 3))) hC hS
  obtain ⟨-, -, -, -, -, ⟨t1, t2, t3⟩⟩ := L
  have a1 := t3 (i + 1) (by omega)
  have b1 := s3 (i + 1) (by omega)
  have a2 := t3 (i + 2) (by omega)
  have b2 := s3 (i + 2) (by omega)
  have a3 := t3 (i + 3) (by omega)
  have b3 := s3 (i + 3) (by omega)
  refine ⟨h2, _, L2, R2, fun Q => ?_⟩
  simp (disch := omega) only [↓rL_law_247, ↓rL_law_248, ↓rL_law_249, ↓rL_law_250, ↓rL_law_251, ↓rL_law_252, ↓rL_law_253, ↓rL_law_254, ↓rL_law_255, ↓rL_law_256, ↓rL_law_257, ↓rL_law_258, ↓rL_law_259, ↓rL_law_260, ↓rL_law_261, ↓rL_law_262, ↓rL_law_263, ↓rL_law_266, ↓rL_law_267, ↓rL_law_268, ↓rL_law_269, ↓rL_law_270, ↓rL_law_271, ↓rL_law_272, ↓rL_law_273, ↓rL_law_274, ↓rL_law_275, ↓rL_law_276, ↓rL_law_277, ↓rL_law_278, ↓rL_law_279, ↓rL_law_280, ↓rL_law_281, ↓rL_law_282, ↓rL_law_285, ↓rL_law_288, ↓rL_law_289, ↓rL_law_t, ↓rmI_in, ↓shrI_in, ↓shlI_in, ↓okI_in, ↓bI_01, bI_z, bI_o, nn_neg, Int.cast_ofNat_Int, zlit, n_leT, n_leF, n_ltT, n_ltF, n_eqT, n_eqF, z_leT, z_leF, z_ltT, z_ltF, z_eqT, z_eqF, nn_add, nn_mul, nn_clamp, nn_lt, nn_le, nn_eq, nn_div, rmI_nn, okI_nn, nn_and, nn_or, nn_xor, shlI_1, shrI_nn, Cont_v, Cont_0, List.mem_cons, List.not_mem_nil, or_false, or_true, true_or, true_and, and_true, ite_not, if_true, if_false, not_true_eq_false, not_false_eq_true, false_or, false_and, and_false, eq_self, ↓reduceIte, reduceCtorEq, ↓rmL_in, ll_lit, ll_add, ll_mul, ll_toInt, ll_eq, ll_div, rmL_ll, ll_i2l, ll_l2i, lgc_e, kc, k9, t1, t2, s1, s2, a1, b1, a2, b2, a3, b3, ↓q1, ↓q2]
theorem lw_copy (hK : K_copy) (L : LInv h c X sc n f) {i : Nat} (hi : i + 7 ≤ n) (hn : n ≤ 448) (hC : 256 ≤ gC h) (hS : 2048 ≤ gS h) : LRnd h c sc n f i 290 := by
  have hX := L.2.1
  have kc : gK h c = 1 := L.1.1.k0
  obtain ⟨h1, h2, L2, R2, ⟨s1, s2, s3⟩, k9, q1, q2⟩ := L.op (hK c X hX (f (i + 1)) (f (i + 2)) (f (i + 3)) (f (i + 4)) (f (i + 5))) (o_copy (o := c + 31) (X := X) hX (f (i + 1)) (f (i + 2)) (f (i + 3)) (f (i + 4)) (f (i + 5))) (x_copy hX (f (i + 1)) (f (i + 2)) (f (i + 3)) (f (i + 4)) (f (i + 5))) hC hS
  obtain ⟨-, -, -, -, -, ⟨t1, t2, t3⟩⟩ := L
  have a1 := t3 (i + 1) (by omega)
  have b1 := s3 (i + 1) (by omega)
  have a2 := t3 (i + 2) (by omega)
  have b2 := s3 (i + 2) (by omega)
  have a3 := t3 (i + 3) (by omega)
  have b3 := s3 (i + 3) (by omega)
  have a4 := t3 (i + 4) (by omega)
  have b4 := s3 (i + 4) (by omega)
  have a5 := t3 (i + 5) (by omega)
  have b5 := s3 (i + 5) (by omega)
  refine ⟨h2, _, L2, R2, fun Q => ?_⟩
  simp (disch := omega) only [↓rL_law_290, ↓rL_law_291, ↓rL_law_292, ↓rL_law_293, ↓rL_law_294, ↓rL_law_295, ↓rL_law_296, ↓rL_law_297, ↓rL_law_298, ↓rL_law_299, ↓rL_law_300, ↓rL_law_301, ↓rL_law_302, ↓rL_law_303, ↓rL_law_304, ↓rL_law_305, ↓rL_law_306, ↓rL_law_307, ↓rL_law_308, ↓rL_law_309, ↓rL_law_310, ↓rL_law_311, ↓rL_law_312, ↓rL_law_313, ↓rL_law_314, ↓rL_law_315, ↓rL_law_316, ↓rL_law_319, ↓rL_law_320, ↓rL_law_321, ↓rL_law_322, ↓rL_law_323, ↓rL_law_324, ↓rL_law_325, ↓rL_law_326, ↓rL_law_327, ↓rL_law_328, ↓rL_law_329, ↓rL_law_330, ↓rL_law_331, ↓rL_law_332, ↓rL_law_333, ↓rL_law_334, ↓rL_law_335, ↓rL_law_336, ↓rL_law_337, ↓rL_law_338, ↓rL_law_339, ↓rL_law_340, ↓rL_law_341, ↓rL_law_342, ↓rL_law_343, ↓rL_law_344, ↓rL_law_345, ↓rL_law_348, ↓rL_law_351, ↓rL_law_352, ↓rL_law_t, ↓rmI_in, ↓shrI_in, ↓shlI_in, ↓okI_in, ↓bI_01, bI_z, bI_o, nn_neg, Int.cast_ofNat_Int, zlit, n_leT, n_leF, n_ltT, n_ltF, n_eqT, n_eqF, z_leT, z_leF, z_ltT, z_ltF, z_eqT, z_eqF, nn_add, nn_mul, nn_clamp, nn_lt, nn_le, nn_eq, nn_div, rmI_nn, okI_nn, nn_and, nn_or, nn_xor, shlI_1, shrI_nn, Cont_v, Cont_0, List.mem_cons, List.not_mem_nil, or_false, or_true, true_or, true_and, and_true, ite_not, if_true, if_false, not_true_eq_false, not_false_eq_true, false_or, false_and, and_false, eq_self, ↓reduceIte, reduceCtorEq, ↓rmL_in, ll_lit, ll_add, ll_mul, ll_toInt, ll_eq, ll_div, rmL_ll, ll_i2l, ll_l2i, lgc_e, kc, k9, t1, t2, s1, s2, a1, b1, a2, b2, a3, b3, a4, b4, a5, b5, ↓q1, ↓q2]
theorem lw_drop (L : LInv h c X sc n f) {i : Nat} (hi : i + 7 ≤ n) (hn : n ≤ 448) (hC : 256 ≤ gC h) (hS : 2048 ≤ gS h) : LRnd h c sc n f i 353 := by
  have hX := L.2.1
  have kc : gK h c = 1 := L.1.1.k0
  obtain ⟨h1, h2, L2, R2, ⟨s1, s2, s3⟩, k9, q1, q2⟩ := L.op ((k_drop c X hX (f (i + 1))).s) (o_drop (o := c + 31) (X := X) hX (f (i + 1))) (x_drop hX (f (i + 1))) hC hS
  obtain ⟨-, -, -, -, -, ⟨t1, t2, t3⟩⟩ := L
  have a1 := t3 (i + 1) (by omega)
  have b1 := s3 (i + 1) (by omega)
  refine ⟨h2, _, L2, R2, fun Q => ?_⟩
  simp (disch := omega) only [↓rL_law_353, ↓rL_law_354, ↓rL_law_355, ↓rL_law_356, ↓rL_law_357, ↓rL_law_358, ↓rL_law_359, ↓rL_law_362, ↓rL_law_363, ↓rL_law_364, ↓rL_law_365, ↓rL_law_366, ↓rL_law_367, ↓rL_law_368, ↓rL_law_371, ↓rL_law_374, ↓rL_law_375, ↓rL_law_t, ↓rmI_in, ↓shrI_in, ↓shlI_in, ↓okI_in, ↓bI_01, bI_z, bI_o, nn_neg, Int.cast_ofNat_Int, zlit, n_leT, n_leF, n_ltT, n_ltF, n_eqT, n_eqF, z_leT, z_leF, z_ltT, z_ltF, z_eqT, z_eqF, nn_add, nn_mul, nn_clamp, nn_lt, nn_le, nn_eq, nn_div, rmI_nn, okI_nn, nn_and, nn_or, nn_xor, shlI_1, shrI_nn, Cont_v, Cont_0, List.mem_cons, List.not_mem_nil, or_false, or_true, true_or, true_and, and_true, ite_not, if_true, if_false, not_true_eq_false, not_false_eq_true, false_or, false_and, and_false, eq_self, ↓reduceIte, reduceCtorEq, ↓rmL_in, ll_lit, ll_add, ll_mul, ll_toInt, ll_eq, ll_div, rmL_ll, ll_i2l, ll_l2i, lgc_e, kc, k9, t1, t2, s1, s2, a1, b1, ↓q1, ↓q2]
theorem lw_feed (L : LInv h c X sc n f) {i : Nat} (hi : i + 7 ≤ n) (hn : n ≤ 448) (hC : 256 ≤ gC h) (hS : 2048 ≤ gS h) : LRnd h c sc n f i 376 := by
  have hX := L.2.1
  have kc : gK h c = 1 := L.1.1.k0
  obtain ⟨h1, h2, L2, R2, ⟨s1, s2, s3⟩, k9, q1, q2⟩ := L.op ((k_feed c X hX (f (i + 1))).s) (o_feed (o := c + 31) (X := X) hX (f (i + 1))) (x_feed hX (f (i + 1))) hC hS
  obtain ⟨-, -, -, -, -, ⟨t1, t2, t3⟩⟩ := L
  have a1 := t3 (i + 1) (by omega)
  have b1 := s3 (i + 1) (by omega)
  refine ⟨h2, _, L2, R2, fun Q => ?_⟩
  simp (disch := omega) only [↓rL_law_376, ↓rL_law_377, ↓rL_law_378, ↓rL_law_379, ↓rL_law_380, ↓rL_law_381, ↓rL_law_382, ↓rL_law_385, ↓rL_law_386, ↓rL_law_387, ↓rL_law_388, ↓rL_law_389, ↓rL_law_390, ↓rL_law_391, ↓rL_law_394, ↓rL_law_397, ↓rL_law_398, ↓rL_law_t, ↓rmI_in, ↓shrI_in, ↓shlI_in, ↓okI_in, ↓bI_01, bI_z, bI_o, nn_neg, Int.cast_ofNat_Int, zlit, n_leT, n_leF, n_ltT, n_ltF, n_eqT, n_eqF, z_leT, z_leF, z_ltT, z_ltF, z_eqT, z_eqF, nn_add, nn_mul, nn_clamp, nn_lt, nn_le, nn_eq, nn_div, rmI_nn, okI_nn, nn_and, nn_or, nn_xor, shlI_1, shrI_nn, Cont_v, Cont_0, List.mem_cons, List.not_mem_nil, or_false, or_true, true_or, true_and, and_true, ite_not, if_true, if_false, not_true_eq_false, not_false_eq_true, false_or, false_and, and_false, eq_self, ↓reduceIte, reduceCtorEq, ↓rmL_in, ll_lit, ll_add, ll_mul, ll_toInt, ll_eq, ll_div, rmL_ll, ll_i2l, ll_l2i, lgc_e, kc, k9, t1, t2, s1, s2, a1, b1, ↓q1, ↓q2]
theorem lw_library (L : LInv h c X sc n f) {i : Nat} (hi : i + 7 ≤ n) (hn : n ≤ 448) (hC : 256 ≤ gC h) (hS : 2048 ≤ gS h) : LRnd h c sc n f i 399 := by
  have hX := L.2.1
  have kc : gK h c = 1 := L.1.1.k0
  obtain ⟨h1, h2, L2, R2, ⟨s1, s2, s3⟩, k9, q1, q2⟩ := L.op (k_library c X hX) (o_library (o := c + 31) (X := X) hX ) (x_library hX ) hC hS
  obtain ⟨-, -, -, -, -, ⟨t1, t2, t3⟩⟩ := L
  refine ⟨h2, _, L2, R2, fun Q => ?_⟩
  simp (disch := omega) only [↓rL_law_399, ↓rL_law_400, ↓rL_law_403, ↓rL_law_404, ↓rL_law_407, ↓rL_law_410, ↓rL_law_411, ↓rL_law_t, ↓rmI_in, ↓shrI_in, ↓shlI_in, ↓okI_in, ↓bI_01, bI_z, bI_o, nn_neg, Int.cast_ofNat_Int, zlit, n_leT, n_leF, n_ltT, n_ltF, n_eqT, n_eqF, z_leT, z_leF, z_ltT, z_ltF, z_eqT, z_eqF, nn_add, nn_mul, nn_clamp, nn_lt, nn_le, nn_eq, nn_div, rmI_nn, okI_nn, nn_and, nn_or, nn_xor, shlI_1, shrI_nn, Cont_v, Cont_0, List.mem_cons, List.not_mem_nil, or_false, or_true, true_or, true_and, and_true, ite_not, if_true, if_false, not_true_eq_false, not_false_eq_true, false_or, false_and, and_false, eq_self, ↓reduceIte, reduceCtorEq, ↓rmL_in, ll_lit, ll_add, ll_mul, ll_toInt, ll_eq, ll_div, rmL_ll, ll_i2l, ll_l2i, lgc_e, kc, k9, t1, t2, s1, s2, ↓q1, ↓q2]
theorem lw_fault (L : LInv h c X sc n f) {i : Nat} (hi : i + 7 ≤ n) (hn : n ≤ 448) (hC : 256 ≤ gC h) (hS : 2048 ≤ gS h) : LRnd h c sc n f i 412 := by
  have hX := L.2.1
  have kc : gK h c = 1 := L.1.1.k0
  obtain ⟨h1, h2, L2, R2, ⟨s1, s2, s3⟩, k9, q1, q2⟩ := L.op ((k_fault c X).s) (o_fault (o := c + 31) (X := X)) (hX) hC hS
  obtain ⟨-, -, -, -, -, ⟨t1, t2, t3⟩⟩ := L
  refine ⟨h2, _, L2, R2, fun Q => ?_⟩
  simp (disch := omega) only [↓rL_law_412, ↓rL_law_413, ↓rL_law_416, ↓rL_law_417, ↓rL_law_420, ↓rL_law_423, ↓rL_law_424, ↓rL_law_t, ↓rmI_in, ↓shrI_in, ↓shlI_in, ↓okI_in, ↓bI_01, bI_z, bI_o, nn_neg, Int.cast_ofNat_Int, zlit, n_leT, n_leF, n_ltT, n_ltF, n_eqT, n_eqF, z_leT, z_leF, z_ltT, z_ltF, z_eqT, z_eqF, nn_add, nn_mul, nn_clamp, nn_lt, nn_le, nn_eq, nn_div, rmI_nn, okI_nn, nn_and, nn_or, nn_xor, shlI_1, shrI_nn, Cont_v, Cont_0, List.mem_cons, List.not_mem_nil, or_false, or_true, true_or, true_and, and_true, ite_not, if_true, if_false, not_true_eq_false, not_false_eq_true, false_or, false_and, and_false, eq_self, ↓reduceIte, reduceCtorEq, ↓rmL_in, ll_lit, ll_add, ll_mul, ll_toInt, ll_eq, ll_div, rmL_ll, ll_i2l, ll_l2i, lgc_e, kc, k9, t1, t2, s1, s2, ↓q1, ↓q2]
theorem lw_undo (L : LInv h c X sc n f) {i : Nat} (hi : i + 7 ≤ n) (hn : n ≤ 448) (hC : 256 ≤ gC h) (hS : 2048 ≤ gS h) : LRnd h c sc n f i 425 := by
  have hX := L.2.1
  have kc : gK h c = 1 := L.1.1.k0
  obtain ⟨h1, h2, L2, R2, ⟨s1, s2, s3⟩, k9, q1, q2⟩ := L.op ((k_undo c X hX ).s) (o_undo (o := c + 31) (X := X) hX ) (x_undo hX ) hC hS
  obtain ⟨-, -, -, -, -, ⟨t1, t2, t3⟩⟩ := L
  refine ⟨h2, _, L2, R2, fun Q => ?_⟩
  simp (disch := omega) only [↓rL_law_425, ↓rL_law_426, ↓rL_law_429, ↓rL_law_430, ↓rL_law_433, ↓rL_law_436, ↓rL_law_437, ↓rL_law_t, ↓rmI_in, ↓shrI_in, ↓shlI_in, ↓okI_in, ↓bI_01, bI_z, bI_o, nn_neg, Int.cast_ofNat_Int, zlit, n_leT, n_leF, n_ltT, n_ltF, n_eqT, n_eqF, z_leT, z_leF, z_ltT, z_ltF, z_eqT, z_eqF, nn_add, nn_mul, nn_clamp, nn_lt, nn_le, nn_eq, nn_div, rmI_nn, okI_nn, nn_and, nn_or, nn_xor, shlI_1, shrI_nn, Cont_v, Cont_0, List.mem_cons, List.not_mem_nil, or_false, or_true, true_or, true_and, and_true, ite_not, if_true, if_false, not_true_eq_false, not_false_eq_true, false_or, false_and, and_false, eq_self, ↓reduceIte, reduceCtorEq, ↓rmL_in, ll_lit, ll_add, ll_mul, ll_toInt, ll_eq, ll_div, rmL_ll, ll_i2l, ll_l2i, lgc_e, kc, k9, t1, t2, s1, s2, ↓q1, ↓q2]
theorem lw_nights (L : LInv h c X sc n f) {i : Nat} (hi : i + 7 ≤ n) (hn : n ≤ 448) (hC : 256 ≤ gC h) (hS : 2048 ≤ gS h) : LRnd h c sc n f i 438 := by
  have hX := L.2.1
  have kc : gK h c = 1 := L.1.1.k0
  obtain ⟨h1, h2, L2, R2, ⟨s1, s2, s3⟩, k9, q1, q2⟩ := L.op ((k_nights c X hX (f (i + 1))).s) (o_nights (o := c + 31) (X := X) hX (f (i + 1))) (x_nights hX (f (i + 1))) hC hS
  obtain ⟨-, -, -, -, -, ⟨t1, t2, t3⟩⟩ := L
  have a1 := t3 (i + 1) (by omega)
  have b1 := s3 (i + 1) (by omega)
  refine ⟨h2, _, L2, R2, fun Q => ?_⟩
  simp (disch := omega) only [↓rL_law_438, ↓rL_law_439, ↓rL_law_440, ↓rL_law_441, ↓rL_law_442, ↓rL_law_443, ↓rL_law_444, ↓rL_law_447, ↓rL_law_448, ↓rL_law_449, ↓rL_law_450, ↓rL_law_451, ↓rL_law_452, ↓rL_law_453, ↓rL_law_456, ↓rL_law_459, ↓rL_law_460, ↓rL_law_t, ↓rmI_in, ↓shrI_in, ↓shlI_in, ↓okI_in, ↓bI_01, bI_z, bI_o, nn_neg, Int.cast_ofNat_Int, zlit, n_leT, n_leF, n_ltT, n_ltF, n_eqT, n_eqF, z_leT, z_leF, z_ltT, z_ltF, z_eqT, z_eqF, nn_add, nn_mul, nn_clamp, nn_lt, nn_le, nn_eq, nn_div, rmI_nn, okI_nn, nn_and, nn_or, nn_xor, shlI_1, shrI_nn, Cont_v, Cont_0, List.mem_cons, List.not_mem_nil, or_false, or_true, true_or, true_and, and_true, ite_not, if_true, if_false, not_true_eq_false, not_false_eq_true, false_or, false_and, and_false, eq_self, ↓reduceIte, reduceCtorEq, ↓rmL_in, ll_lit, ll_add, ll_mul, ll_toInt, ll_eq, ll_div, rmL_ll, ll_i2l, ll_l2i, lgc_e, kc, k9, t1, t2, s1, s2, a1, b1, ↓q1, ↓q2]
theorem lw_light (L : LInv h c X sc n f) {i : Nat} (hi : i + 7 ≤ n) (hn : n ≤ 448) (hC : 256 ≤ gC h) (hS : 2048 ≤ gS h) : LRnd h c sc n f i 461 := by
  have hX := L.2.1
  have kc : gK h c = 1 := L.1.1.k0
  obtain ⟨h1, h2, L2, R2, ⟨s1, s2, s3⟩, k9, q1, q2⟩ := L.op ((k_light c X hX (f (i + 1)) (f (i + 2))).s) (o_light (o := c + 31) (X := X) hX (f (i + 1)) (f (i + 2))) (x_light hX (f (i + 1)) (f (i + 2))) hC hS
  obtain ⟨-, -, -, -, -, ⟨t1, t2, t3⟩⟩ := L
  have a1 := t3 (i + 1) (by omega)
  have b1 := s3 (i + 1) (by omega)
  have a2 := t3 (i + 2) (by omega)
  have b2 := s3 (i + 2) (by omega)
  refine ⟨h2, _, L2, R2, fun Q => ?_⟩
  simp (disch := omega) only [↓rL_law_461, ↓rL_law_462, ↓rL_law_463, ↓rL_law_464, ↓rL_law_465, ↓rL_law_466, ↓rL_law_467, ↓rL_law_468, ↓rL_law_469, ↓rL_law_470, ↓rL_law_471, ↓rL_law_472, ↓rL_law_475, ↓rL_law_476, ↓rL_law_477, ↓rL_law_478, ↓rL_law_479, ↓rL_law_480, ↓rL_law_481, ↓rL_law_482, ↓rL_law_483, ↓rL_law_484, ↓rL_law_485, ↓rL_law_486, ↓rL_law_489, ↓rL_law_492, ↓rL_law_493, ↓rL_law_t, ↓rmI_in, ↓shrI_in, ↓shlI_in, ↓okI_in, ↓bI_01, bI_z, bI_o, nn_neg, Int.cast_ofNat_Int, zlit, n_leT, n_leF, n_ltT, n_ltF, n_eqT, n_eqF, z_leT, z_leF, z_ltT, z_ltF, z_eqT, z_eqF, nn_add, nn_mul, nn_clamp, nn_lt, nn_le, nn_eq, nn_div, rmI_nn, okI_nn, nn_and, nn_or, nn_xor, shlI_1, shrI_nn, Cont_v, Cont_0, List.mem_cons, List.not_mem_nil, or_false, or_true, true_or, true_and, and_true, ite_not, if_true, if_false, not_true_eq_false, not_false_eq_true, false_or, false_and, and_false, eq_self, ↓reduceIte, reduceCtorEq, ↓rmL_in, ll_lit, ll_add, ll_mul, ll_toInt, ll_eq, ll_div, rmL_ll, ll_i2l, ll_l2i, lgc_e, kc, k9, t1, t2, s1, s2, a1, b1, a2, b2, ↓q1, ↓q2]
theorem lw_keepIt (L : LInv h c X sc n f) {i : Nat} (hi : i + 7 ≤ n) (hn : n ≤ 448) (hC : 256 ≤ gC h) (hS : 2048 ≤ gS h) : LRnd h c sc n f i 494 := by
  have hX := L.2.1
  have kc : gK h c = 1 := L.1.1.k0
  obtain ⟨h1, h2, L2, R2, ⟨s1, s2, s3⟩, k9, q1, q2⟩ := L.op ((k_keepIt c X hX (f (i + 1)) (f (i + 2))).s) (o_keepIt (o := c + 31) (X := X) hX (f (i + 1)) (f (i + 2))) (x_keepIt hX (f (i + 1)) (f (i + 2))) hC hS
  obtain ⟨-, -, -, -, -, ⟨t1, t2, t3⟩⟩ := L
  have a1 := t3 (i + 1) (by omega)
  have b1 := s3 (i + 1) (by omega)
  have a2 := t3 (i + 2) (by omega)
  have b2 := s3 (i + 2) (by omega)
  refine ⟨h2, _, L2, R2, fun Q => ?_⟩
  simp (disch := omega) only [↓rL_law_494, ↓rL_law_495, ↓rL_law_496, ↓rL_law_497, ↓rL_law_498, ↓rL_law_499, ↓rL_law_500, ↓rL_law_501, ↓rL_law_502, ↓rL_law_503, ↓rL_law_504, ↓rL_law_505, ↓rL_law_508, ↓rL_law_509, ↓rL_law_510, ↓rL_law_511, ↓rL_law_512, ↓rL_law_513, ↓rL_law_514, ↓rL_law_515, ↓rL_law_516, ↓rL_law_517, ↓rL_law_518, ↓rL_law_519, ↓rL_law_522, ↓rL_law_525, ↓rL_law_526, ↓rL_law_t, ↓rmI_in, ↓shrI_in, ↓shlI_in, ↓okI_in, ↓bI_01, bI_z, bI_o, nn_neg, Int.cast_ofNat_Int, zlit, n_leT, n_leF, n_ltT, n_ltF, n_eqT, n_eqF, z_leT, z_leF, z_ltT, z_ltF, z_eqT, z_eqF, nn_add, nn_mul, nn_clamp, nn_lt, nn_le, nn_eq, nn_div, rmI_nn, okI_nn, nn_and, nn_or, nn_xor, shlI_1, shrI_nn, Cont_v, Cont_0, List.mem_cons, List.not_mem_nil, or_false, or_true, true_or, true_and, and_true, ite_not, if_true, if_false, not_true_eq_false, not_false_eq_true, false_or, false_and, and_false, eq_self, ↓reduceIte, reduceCtorEq, ↓rmL_in, ll_lit, ll_add, ll_mul, ll_toInt, ll_eq, ll_div, rmL_ll, ll_i2l, ll_l2i, lgc_e, kc, k9, t1, t2, s1, s2, a1, b1, a2, b2, ↓q1, ↓q2]
theorem lw_change (L : LInv h c X sc n f) {i : Nat} (hi : i + 7 ≤ n) (hn : n ≤ 448) (hC : 256 ≤ gC h) (hS : 2048 ≤ gS h) : LRnd h c sc n f i 527 := by
  have hX := L.2.1
  have kc : gK h c = 1 := L.1.1.k0
  obtain ⟨h1, h2, L2, R2, ⟨s1, s2, s3⟩, k9, q1, q2⟩ := L.op ((k_change c X hX (f (i + 1)) (f (i + 2))).s) (o_change (o := c + 31) (X := X) hX (f (i + 1)) (f (i + 2))) (x_change hX (f (i + 1)) (f (i + 2))) hC hS
  obtain ⟨-, -, -, -, -, ⟨t1, t2, t3⟩⟩ := L
  have a1 := t3 (i + 1) (by omega)
  have b1 := s3 (i + 1) (by omega)
  have a2 := t3 (i + 2) (by omega)
  have b2 := s3 (i + 2) (by omega)
  refine ⟨h2, _, L2, R2, fun Q => ?_⟩
  simp (disch := omega) only [↓rL_law_527, ↓rL_law_528, ↓rL_law_529, ↓rL_law_530, ↓rL_law_531, ↓rL_law_532, ↓rL_law_533, ↓rL_law_534, ↓rL_law_535, ↓rL_law_536, ↓rL_law_537, ↓rL_law_538, ↓rL_law_541, ↓rL_law_542, ↓rL_law_543, ↓rL_law_544, ↓rL_law_545, ↓rL_law_546, ↓rL_law_547, ↓rL_law_548, ↓rL_law_549, ↓rL_law_550, ↓rL_law_551, ↓rL_law_552, ↓rL_law_555, ↓rL_law_558, ↓rL_law_559, ↓rL_law_t, ↓rmI_in, ↓shrI_in, ↓shlI_in, ↓okI_in, ↓bI_01, bI_z, bI_o, nn_neg, Int.cast_ofNat_Int, zlit, n_leT, n_leF, n_ltT, n_ltF, n_eqT, n_eqF, z_leT, z_leF, z_ltT, z_ltF, z_eqT, z_eqF, nn_add, nn_mul, nn_clamp, nn_lt, nn_le, nn_eq, nn_div, rmI_nn, okI_nn, nn_and, nn_or, nn_xor, shlI_1, shrI_nn, Cont_v, Cont_0, List.mem_cons, List.not_mem_nil, or_false, or_true, true_or, true_and, and_true, ite_not, if_true, if_false, not_true_eq_false, not_false_eq_true, false_or, false_and, and_false, eq_self, ↓reduceIte, reduceCtorEq, ↓rmL_in, ll_lit, ll_add, ll_mul, ll_toInt, ll_eq, ll_div, rmL_ll, ll_i2l, ll_l2i, lgc_e, kc, k9, t1, t2, s1, s2, a1, b1, a2, b2, ↓q1, ↓q2]
theorem lw_move (L : LInv h c X sc n f) {i : Nat} (hi : i + 7 ≤ n) (hn : n ≤ 448) (hC : 256 ≤ gC h) (hS : 2048 ≤ gS h) : LRnd h c sc n f i 560 := by
  have hX := L.2.1
  have kc : gK h c = 1 := L.1.1.k0
  obtain ⟨h1, h2, L2, R2, ⟨s1, s2, s3⟩, k9, q1, q2⟩ := L.op ((k_move c X hX (f (i + 1)) (f (i + 2))).s) (o_move (o := c + 31) (X := X) hX (f (i + 1)) (f (i + 2))) (x_move hX (f (i + 1)) (f (i + 2))) hC hS
  obtain ⟨-, -, -, -, -, ⟨t1, t2, t3⟩⟩ := L
  have a1 := t3 (i + 1) (by omega)
  have b1 := s3 (i + 1) (by omega)
  have a2 := t3 (i + 2) (by omega)
  have b2 := s3 (i + 2) (by omega)
  refine ⟨h2, _, L2, R2, fun Q => ?_⟩
  simp (disch := omega) only [↓rL_law_560, ↓rL_law_561, ↓rL_law_562, ↓rL_law_563, ↓rL_law_564, ↓rL_law_565, ↓rL_law_566, ↓rL_law_567, ↓rL_law_568, ↓rL_law_569, ↓rL_law_570, ↓rL_law_571, ↓rL_law_574, ↓rL_law_575, ↓rL_law_576, ↓rL_law_577, ↓rL_law_578, ↓rL_law_579, ↓rL_law_580, ↓rL_law_581, ↓rL_law_582, ↓rL_law_583, ↓rL_law_584, ↓rL_law_585, ↓rL_law_588, ↓rL_law_591, ↓rL_law_592, ↓rL_law_t, ↓rmI_in, ↓shrI_in, ↓shlI_in, ↓okI_in, ↓bI_01, bI_z, bI_o, nn_neg, Int.cast_ofNat_Int, zlit, n_leT, n_leF, n_ltT, n_ltF, n_eqT, n_eqF, z_leT, z_leF, z_ltT, z_ltF, z_eqT, z_eqF, nn_add, nn_mul, nn_clamp, nn_lt, nn_le, nn_eq, nn_div, rmI_nn, okI_nn, nn_and, nn_or, nn_xor, shlI_1, shrI_nn, Cont_v, Cont_0, List.mem_cons, List.not_mem_nil, or_false, or_true, true_or, true_and, and_true, ite_not, if_true, if_false, not_true_eq_false, not_false_eq_true, false_or, false_and, and_false, eq_self, ↓reduceIte, reduceCtorEq, ↓rmL_in, ll_lit, ll_add, ll_mul, ll_toInt, ll_eq, ll_div, rmL_ll, ll_i2l, ll_l2i, lgc_e, kc, k9, t1, t2, s1, s2, a1, b1, a2, b2, ↓q1, ↓q2]
theorem lw_catchIt (L : LInv h c X sc n f) {i : Nat} (hi : i + 7 ≤ n) (hn : n ≤ 448) (hC : 256 ≤ gC h) (hS : 2048 ≤ gS h) : LRnd h c sc n f i 593 := by
  have hX := L.2.1
  have kc : gK h c = 1 := L.1.1.k0
  obtain ⟨h1, h2, L2, R2, ⟨s1, s2, s3⟩, k9, q1, q2⟩ := L.op ((k_catchIt c X hX (f (i + 1))).s) (o_catchIt (o := c + 31) (X := X) hX (f (i + 1))) (x_catchIt hX (f (i + 1))) hC hS
  obtain ⟨-, -, -, -, -, ⟨t1, t2, t3⟩⟩ := L
  have a1 := t3 (i + 1) (by omega)
  have b1 := s3 (i + 1) (by omega)
  refine ⟨h2, _, L2, R2, fun Q => ?_⟩
  simp (disch := omega) only [↓rL_law_593, ↓rL_law_594, ↓rL_law_595, ↓rL_law_596, ↓rL_law_597, ↓rL_law_598, ↓rL_law_599, ↓rL_law_602, ↓rL_law_603, ↓rL_law_604, ↓rL_law_605, ↓rL_law_606, ↓rL_law_607, ↓rL_law_608, ↓rL_law_611, ↓rL_law_614, ↓rL_law_615, ↓rL_law_t, ↓rmI_in, ↓shrI_in, ↓shlI_in, ↓okI_in, ↓bI_01, bI_z, bI_o, nn_neg, Int.cast_ofNat_Int, zlit, n_leT, n_leF, n_ltT, n_ltF, n_eqT, n_eqF, z_leT, z_leF, z_ltT, z_ltF, z_eqT, z_eqF, nn_add, nn_mul, nn_clamp, nn_lt, nn_le, nn_eq, nn_div, rmI_nn, okI_nn, nn_and, nn_or, nn_xor, shlI_1, shrI_nn, Cont_v, Cont_0, List.mem_cons, List.not_mem_nil, or_false, or_true, true_or, true_and, and_true, ite_not, if_true, if_false, not_true_eq_false, not_false_eq_true, false_or, false_and, and_false, eq_self, ↓reduceIte, reduceCtorEq, ↓rmL_in, ll_lit, ll_add, ll_mul, ll_toInt, ll_eq, ll_div, rmL_ll, ll_i2l, ll_l2i, lgc_e, kc, k9, t1, t2, s1, s2, a1, b1, ↓q1, ↓q2]
theorem lw_book (L : LInv h c X sc n f) {i : Nat} (hi : i + 7 ≤ n) (hn : n ≤ 448) (hC : 256 ≤ gC h) (hS : 2048 ≤ gS h) : LRnd h c sc n f i 616 := by
  have hX := L.2.1
  have kc : gK h c = 1 := L.1.1.k0
  obtain ⟨h1, h2, L2, R2, ⟨s1, s2, s3⟩, k9, q1, q2⟩ := L.op ((k_book c X hX (f (i + 1)) (f (i + 2))).s) (o_book (o := c + 31) (X := X) hX (f (i + 1)) (f (i + 2))) (hX) hC hS
  obtain ⟨-, -, -, -, -, ⟨t1, t2, t3⟩⟩ := L
  have a1 := t3 (i + 1) (by omega)
  have b1 := s3 (i + 1) (by omega)
  have a2 := t3 (i + 2) (by omega)
  have b2 := s3 (i + 2) (by omega)
  refine ⟨h2, _, L2, R2, fun Q => ?_⟩
  simp (disch := omega) only [↓rL_law_616, ↓rL_law_617, ↓rL_law_618, ↓rL_law_619, ↓rL_law_620, ↓rL_law_621, ↓rL_law_622, ↓rL_law_623, ↓rL_law_624, ↓rL_law_625, ↓rL_law_626, ↓rL_law_627, ↓rL_law_630, ↓rL_law_631, ↓rL_law_632, ↓rL_law_633, ↓rL_law_634, ↓rL_law_635, ↓rL_law_636, ↓rL_law_637, ↓rL_law_638, ↓rL_law_639, ↓rL_law_640, ↓rL_law_641, ↓rL_law_644, ↓rL_law_647, ↓rL_law_648, ↓rL_law_t, ↓rmI_in, ↓shrI_in, ↓shlI_in, ↓okI_in, ↓bI_01, bI_z, bI_o, nn_neg, Int.cast_ofNat_Int, zlit, n_leT, n_leF, n_ltT, n_ltF, n_eqT, n_eqF, z_leT, z_leF, z_ltT, z_ltF, z_eqT, z_eqF, nn_add, nn_mul, nn_clamp, nn_lt, nn_le, nn_eq, nn_div, rmI_nn, okI_nn, nn_and, nn_or, nn_xor, shlI_1, shrI_nn, Cont_v, Cont_0, List.mem_cons, List.not_mem_nil, or_false, or_true, true_or, true_and, and_true, ite_not, if_true, if_false, not_true_eq_false, not_false_eq_true, false_or, false_and, and_false, eq_self, ↓reduceIte, reduceCtorEq, ↓rmL_in, ll_lit, ll_add, ll_mul, ll_toInt, ll_eq, ll_div, rmL_ll, ll_i2l, ll_l2i, lgc_e, kc, k9, t1, t2, s1, s2, a1, b1, a2, b2, ↓q1, ↓q2]
theorem lw_fish (L : LInv h c X sc n f) {i : Nat} (hi : i + 7 ≤ n) (hn : n ≤ 448) (hC : 256 ≤ gC h) (hS : 2048 ≤ gS h) : LRnd h c sc n f i 649 := by
  have hX := L.2.1
  have kc : gK h c = 1 := L.1.1.k0
  obtain ⟨h1, h2, L2, R2, ⟨s1, s2, s3⟩, k9, q1, q2⟩ := L.op ((k_fish c X hX (f (i + 1)) (f (i + 2))).s) (o_fish (o := c + 31) (X := X) hX (f (i + 1)) (f (i + 2))) (hX) hC hS
  obtain ⟨-, -, -, -, -, ⟨t1, t2, t3⟩⟩ := L
  have a1 := t3 (i + 1) (by omega)
  have b1 := s3 (i + 1) (by omega)
  have a2 := t3 (i + 2) (by omega)
  have b2 := s3 (i + 2) (by omega)
  refine ⟨h2, _, L2, R2, fun Q => ?_⟩
  simp (disch := omega) only [↓rL_law_649, ↓rL_law_650, ↓rL_law_651, ↓rL_law_652, ↓rL_law_653, ↓rL_law_654, ↓rL_law_655, ↓rL_law_656, ↓rL_law_657, ↓rL_law_658, ↓rL_law_659, ↓rL_law_660, ↓rL_law_663, ↓rL_law_664, ↓rL_law_665, ↓rL_law_666, ↓rL_law_667, ↓rL_law_668, ↓rL_law_669, ↓rL_law_670, ↓rL_law_671, ↓rL_law_672, ↓rL_law_673, ↓rL_law_674, ↓rL_law_677, ↓rL_law_680, ↓rL_law_681, ↓rL_law_t, ↓rmI_in, ↓shrI_in, ↓shlI_in, ↓okI_in, ↓bI_01, bI_z, bI_o, nn_neg, Int.cast_ofNat_Int, zlit, n_leT, n_leF, n_ltT, n_ltF, n_eqT, n_eqF, z_leT, z_leF, z_ltT, z_ltF, z_eqT, z_eqF, nn_add, nn_mul, nn_clamp, nn_lt, nn_le, nn_eq, nn_div, rmI_nn, okI_nn, nn_and, nn_or, nn_xor, shlI_1, shrI_nn, Cont_v, Cont_0, List.mem_cons, List.not_mem_nil, or_false, or_true, true_or, true_and, and_true, ite_not, if_true, if_false, not_true_eq_false, not_false_eq_true, false_or, false_and, and_false, eq_self, ↓reduceIte, reduceCtorEq, ↓rmL_in, ll_lit, ll_add, ll_mul, ll_toInt, ll_eq, ll_div, rmL_ll, ll_i2l, ll_l2i, lgc_e, kc, k9, t1, t2, s1, s2, a1, b1, a2, b2, ↓q1, ↓q2]
theorem lw_stand (L : LInv h c X sc n f) {i : Nat} (hi : i + 7 ≤ n) (hn : n ≤ 448) (hC : 256 ≤ gC h) (hS : 2048 ≤ gS h) : LRnd h c sc n f i 682 := by
  have hX := L.2.1
  have kc : gK h c = 1 := L.1.1.k0
  obtain ⟨h1, h2, L2, R2, ⟨s1, s2, s3⟩, k9, q1, q2⟩ := L.op ((k_stand c X hX (f (i + 1))).s) (o_stand (o := c + 31) (X := X) hX (f (i + 1))) (hX) hC hS
  obtain ⟨-, -, -, -, -, ⟨t1, t2, t3⟩⟩ := L
  have a1 := t3 (i + 1) (by omega)
  have b1 := s3 (i + 1) (by omega)
  refine ⟨h2, _, L2, R2, fun Q => ?_⟩
  simp (disch := omega) only [↓rL_law_682, ↓rL_law_683, ↓rL_law_684, ↓rL_law_685, ↓rL_law_686, ↓rL_law_687, ↓rL_law_688, ↓rL_law_691, ↓rL_law_692, ↓rL_law_693, ↓rL_law_694, ↓rL_law_695, ↓rL_law_696, ↓rL_law_697, ↓rL_law_700, ↓rL_law_703, ↓rL_law_704, ↓rL_law_t, ↓rmI_in, ↓shrI_in, ↓shlI_in, ↓okI_in, ↓bI_01, bI_z, bI_o, nn_neg, Int.cast_ofNat_Int, zlit, n_leT, n_leF, n_ltT, n_ltF, n_eqT, n_eqF, z_leT, z_leF, z_ltT, z_ltF, z_eqT, z_eqF, nn_add, nn_mul, nn_clamp, nn_lt, nn_le, nn_eq, nn_div, rmI_nn, okI_nn, nn_and, nn_or, nn_xor, shlI_1, shrI_nn, Cont_v, Cont_0, List.mem_cons, List.not_mem_nil, or_false, or_true, true_or, true_and, and_true, ite_not, if_true, if_false, not_true_eq_false, not_false_eq_true, false_or, false_and, and_false, eq_self, ↓reduceIte, reduceCtorEq, ↓rmL_in, ll_lit, ll_add, ll_mul, ll_toInt, ll_eq, ll_div, rmL_ll, ll_i2l, ll_l2i, lgc_e, kc, k9, t1, t2, s1, s2, a1, b1, ↓q1, ↓q2]
theorem lw_ahead (L : LInv h c X sc n f) {i : Nat} (hi : i + 7 ≤ n) (hn : n ≤ 448) (hC : 256 ≤ gC h) (hS : 2048 ≤ gS h) : LRnd h c sc n f i 705 := by
  have hX := L.2.1
  have kc : gK h c = 1 := L.1.1.k0
  obtain ⟨h1, h2, L2, R2, ⟨s1, s2, s3⟩, k9, q1, q2⟩ := L.op ((k_ahead c X hX (f (i + 1)) (f (i + 2)) (f (i + 3))).s) (o_ahead (o := c + 31) (X := X) hX (f (i + 1)) (f (i + 2)) (f (i + 3))) (hX) hC hS
  obtain ⟨-, -, -, -, -, ⟨t1, t2, t3⟩⟩ := L
  have a1 := t3 (i + 1) (by omega)
  have b1 := s3 (i + 1) (by omega)
  have a2 := t3 (i + 2) (by omega)
  have b2 := s3 (i + 2) (by omega)
  have a3 := t3 (i + 3) (by omega)
  have b3 := s3 (i + 3) (by omega)
  refine ⟨h2, _, L2, R2, fun Q => ?_⟩
  simp (disch := omega) only [↓rL_law_705, ↓rL_law_706, ↓rL_law_707, ↓rL_law_708, ↓rL_law_709, ↓rL_law_710, ↓rL_law_711, ↓rL_law_712, ↓rL_law_713, ↓rL_law_714, ↓rL_law_715, ↓rL_law_716, ↓rL_law_717, ↓rL_law_718, ↓rL_law_719, ↓rL_law_720, ↓rL_law_721, ↓rL_law_724, ↓rL_law_725, ↓rL_law_726, ↓rL_law_727, ↓rL_law_728, ↓rL_law_729, ↓rL_law_730, ↓rL_law_731, ↓rL_law_732, ↓rL_law_733, ↓rL_law_734, ↓rL_law_735, ↓rL_law_736, ↓rL_law_737, ↓rL_law_738, ↓rL_law_739, ↓rL_law_740, ↓rL_law_743, ↓rL_law_746, ↓rL_law_747, ↓rL_law_t, ↓rmI_in, ↓shrI_in, ↓shlI_in, ↓okI_in, ↓bI_01, bI_z, bI_o, nn_neg, Int.cast_ofNat_Int, zlit, n_leT, n_leF, n_ltT, n_ltF, n_eqT, n_eqF, z_leT, z_leF, z_ltT, z_ltF, z_eqT, z_eqF, nn_add, nn_mul, nn_clamp, nn_lt, nn_le, nn_eq, nn_div, rmI_nn, okI_nn, nn_and, nn_or, nn_xor, shlI_1, shrI_nn, Cont_v, Cont_0, List.mem_cons, List.not_mem_nil, or_false, or_true, true_or, true_and, and_true, ite_not, if_true, if_false, not_true_eq_false, not_false_eq_true, false_or, false_and, and_false, eq_self, ↓reduceIte, reduceCtorEq, ↓rmL_in, ll_lit, ll_add, ll_mul, ll_toInt, ll_eq, ll_div, rmL_ll, ll_i2l, ll_l2i, lgc_e, kc, k9, t1, t2, s1, s2, a1, b1, a2, b2, a3, b3, ↓q1, ↓q2]
theorem lw_later (L : LInv h c X sc n f) {i : Nat} (hi : i + 7 ≤ n) (hn : n ≤ 448) (hC : 256 ≤ gC h) (hS : 2048 ≤ gS h) : LRnd h c sc n f i 748 := by
  have hX := L.2.1
  have kc : gK h c = 1 := L.1.1.k0
  obtain ⟨h1, h2, L2, R2, ⟨s1, s2, s3⟩, k9, q1, q2⟩ := L.op ((k_later c X hX (f (i + 1)) (f (i + 2)) (f (i + 3))).s) (o_later (o := c + 31) (X := X) hX (f (i + 1)) (f (i + 2)) (f (i + 3))) (hX) hC hS
  obtain ⟨-, -, -, -, -, ⟨t1, t2, t3⟩⟩ := L
  have a1 := t3 (i + 1) (by omega)
  have b1 := s3 (i + 1) (by omega)
  have a2 := t3 (i + 2) (by omega)
  have b2 := s3 (i + 2) (by omega)
  have a3 := t3 (i + 3) (by omega)
  have b3 := s3 (i + 3) (by omega)
  refine ⟨h2, _, L2, R2, fun Q => ?_⟩
  simp (disch := omega) only [↓rL_law_748, ↓rL_law_749, ↓rL_law_750, ↓rL_law_751, ↓rL_law_752, ↓rL_law_753, ↓rL_law_754, ↓rL_law_755, ↓rL_law_756, ↓rL_law_757, ↓rL_law_758, ↓rL_law_759, ↓rL_law_760, ↓rL_law_761, ↓rL_law_762, ↓rL_law_763, ↓rL_law_764, ↓rL_law_767, ↓rL_law_768, ↓rL_law_769, ↓rL_law_770, ↓rL_law_771, ↓rL_law_772, ↓rL_law_773, ↓rL_law_774, ↓rL_law_775, ↓rL_law_776, ↓rL_law_777, ↓rL_law_778, ↓rL_law_779, ↓rL_law_780, ↓rL_law_781, ↓rL_law_782, ↓rL_law_783, ↓rL_law_786, ↓rL_law_789, ↓rL_law_790, ↓rL_law_t, ↓rmI_in, ↓shrI_in, ↓shlI_in, ↓okI_in, ↓bI_01, bI_z, bI_o, nn_neg, Int.cast_ofNat_Int, zlit, n_leT, n_leF, n_ltT, n_ltF, n_eqT, n_eqF, z_leT, z_leF, z_ltT, z_ltF, z_eqT, z_eqF, nn_add, nn_mul, nn_clamp, nn_lt, nn_le, nn_eq, nn_div, rmI_nn, okI_nn, nn_and, nn_or, nn_xor, shlI_1, shrI_nn, Cont_v, Cont_0, List.mem_cons, List.not_mem_nil, or_false, or_true, true_or, true_and, and_true, ite_not, if_true, if_false, not_true_eq_false, not_false_eq_true, false_or, false_and, and_false, eq_self, ↓reduceIte, reduceCtorEq, ↓rmL_in, ll_lit, ll_add, ll_mul, ll_toInt, ll_eq, ll_div, rmL_ll, ll_i2l, ll_l2i, lgc_e, kc, k9, t1, t2, s1, s2, a1, b1, a2, b2, a3, b3, ↓q1, ↓q2]
theorem lw_when (L : LInv h c X sc n f) {i : Nat} (hi : i + 7 ≤ n) (hn : n ≤ 448) (hC : 256 ≤ gC h) (hS : 2048 ≤ gS h) : LRnd h c sc n f i 791 := by
  have hX := L.2.1
  have kc : gK h c = 1 := L.1.1.k0
  obtain ⟨h1, h2, L2, R2, ⟨s1, s2, s3⟩, k9, q1, q2⟩ := L.op ((k_when c X hX (f (i + 1))).s) (o_when (o := c + 31) (X := X) hX (f (i + 1))) (hX) hC hS
  obtain ⟨-, -, -, -, -, ⟨t1, t2, t3⟩⟩ := L
  have a1 := t3 (i + 1) (by omega)
  have b1 := s3 (i + 1) (by omega)
  refine ⟨h2, _, L2, R2, fun Q => ?_⟩
  simp (disch := omega) only [↓rL_law_791, ↓rL_law_792, ↓rL_law_793, ↓rL_law_794, ↓rL_law_795, ↓rL_law_796, ↓rL_law_797, ↓rL_law_800, ↓rL_law_801, ↓rL_law_802, ↓rL_law_803, ↓rL_law_804, ↓rL_law_805, ↓rL_law_806, ↓rL_law_809, ↓rL_law_812, ↓rL_law_813, ↓rL_law_t, ↓rmI_in, ↓shrI_in, ↓shlI_in, ↓okI_in, ↓bI_01, bI_z, bI_o, nn_neg, Int.cast_ofNat_Int, zlit, n_leT, n_leF, n_ltT, n_ltF, n_eqT, n_eqF, z_leT, z_leF, z_ltT, z_ltF, z_eqT, z_eqF, nn_add, nn_mul, nn_clamp, nn_lt, nn_le, nn_eq, nn_div, rmI_nn, okI_nn, nn_and, nn_or, nn_xor, shlI_1, shrI_nn, Cont_v, Cont_0, List.mem_cons, List.not_mem_nil, or_false, or_true, true_or, true_and, and_true, ite_not, if_true, if_false, not_true_eq_false, not_false_eq_true, false_or, false_and, and_false, eq_self, ↓reduceIte, reduceCtorEq, ↓rmL_in, ll_lit, ll_add, ll_mul, ll_toInt, ll_eq, ll_div, rmL_ll, ll_i2l, ll_l2i, lgc_e, kc, k9, t1, t2, s1, s2, a1, b1, ↓q1, ↓q2]
theorem lw_first (L : LInv h c X sc n f) {i : Nat} (hi : i + 7 ≤ n) (hn : n ≤ 448) (hC : 256 ≤ gC h) (hS : 2048 ≤ gS h) : LRnd h c sc n f i 814 := by
  have hX := L.2.1
  have kc : gK h c = 1 := L.1.1.k0
  obtain ⟨h1, h2, L2, R2, ⟨s1, s2, s3⟩, k9, q1, q2⟩ := L.op ((k_first c X hX (f (i + 1))).s) (o_first (o := c + 31) (X := X) hX (f (i + 1))) (hX) hC hS
  obtain ⟨-, -, -, -, -, ⟨t1, t2, t3⟩⟩ := L
  have a1 := t3 (i + 1) (by omega)
  have b1 := s3 (i + 1) (by omega)
  refine ⟨h2, _, L2, R2, fun Q => ?_⟩
  simp (disch := omega) only [↓rL_law_814, ↓rL_law_815, ↓rL_law_816, ↓rL_law_817, ↓rL_law_818, ↓rL_law_819, ↓rL_law_820, ↓rL_law_823, ↓rL_law_824, ↓rL_law_825, ↓rL_law_826, ↓rL_law_827, ↓rL_law_828, ↓rL_law_829, ↓rL_law_832, ↓rL_law_835, ↓rL_law_836, ↓rL_law_t, ↓rmI_in, ↓shrI_in, ↓shlI_in, ↓okI_in, ↓bI_01, bI_z, bI_o, nn_neg, Int.cast_ofNat_Int, zlit, n_leT, n_leF, n_ltT, n_ltF, n_eqT, n_eqF, z_leT, z_leF, z_ltT, z_ltF, z_eqT, z_eqF, nn_add, nn_mul, nn_clamp, nn_lt, nn_le, nn_eq, nn_div, rmI_nn, okI_nn, nn_and, nn_or, nn_xor, shlI_1, shrI_nn, Cont_v, Cont_0, List.mem_cons, List.not_mem_nil, or_false, or_true, true_or, true_and, and_true, ite_not, if_true, if_false, not_true_eq_false, not_false_eq_true, false_or, false_and, and_false, eq_self, ↓reduceIte, reduceCtorEq, ↓rmL_in, ll_lit, ll_add, ll_mul, ll_toInt, ll_eq, ll_div, rmL_ll, ll_i2l, ll_l2i, lgc_e, kc, k9, t1, t2, s1, s2, a1, b1, ↓q1, ↓q2]
theorem lw_hole (L : LInv h c X sc n f) {i : Nat} (hi : i + 7 ≤ n) (hn : n ≤ 448) (hC : 256 ≤ gC h) (hS : 2048 ≤ gS h) : LRnd h c sc n f i 837 := by
  have hX := L.2.1
  have kc : gK h c = 1 := L.1.1.k0
  obtain ⟨h1, h2, L2, R2, ⟨s1, s2, s3⟩, k9, q1, q2⟩ := L.op ((k_hole c X hX (f (i + 1)) (f (i + 2))).s) (o_hole (o := c + 31) (X := X) hX (f (i + 1)) (f (i + 2))) (hX) hC hS
  obtain ⟨-, -, -, -, -, ⟨t1, t2, t3⟩⟩ := L
  have a1 := t3 (i + 1) (by omega)
  have b1 := s3 (i + 1) (by omega)
  have a2 := t3 (i + 2) (by omega)
  have b2 := s3 (i + 2) (by omega)
  refine ⟨h2, _, L2, R2, fun Q => ?_⟩
  simp (disch := omega) only [↓rL_law_837, ↓rL_law_838, ↓rL_law_839, ↓rL_law_840, ↓rL_law_841, ↓rL_law_842, ↓rL_law_843, ↓rL_law_844, ↓rL_law_845, ↓rL_law_846, ↓rL_law_847, ↓rL_law_848, ↓rL_law_851, ↓rL_law_852, ↓rL_law_853, ↓rL_law_854, ↓rL_law_855, ↓rL_law_856, ↓rL_law_857, ↓rL_law_858, ↓rL_law_859, ↓rL_law_860, ↓rL_law_861, ↓rL_law_862, ↓rL_law_865, ↓rL_law_868, ↓rL_law_869, ↓rL_law_t, ↓rmI_in, ↓shrI_in, ↓shlI_in, ↓okI_in, ↓bI_01, bI_z, bI_o, nn_neg, Int.cast_ofNat_Int, zlit, n_leT, n_leF, n_ltT, n_ltF, n_eqT, n_eqF, z_leT, z_leF, z_ltT, z_ltF, z_eqT, z_eqF, nn_add, nn_mul, nn_clamp, nn_lt, nn_le, nn_eq, nn_div, rmI_nn, okI_nn, nn_and, nn_or, nn_xor, shlI_1, shrI_nn, Cont_v, Cont_0, List.mem_cons, List.not_mem_nil, or_false, or_true, true_or, true_and, and_true, ite_not, if_true, if_false, not_true_eq_false, not_false_eq_true, false_or, false_and, and_false, eq_self, ↓reduceIte, reduceCtorEq, ↓rmL_in, ll_lit, ll_add, ll_mul, ll_toInt, ll_eq, ll_div, rmL_ll, ll_i2l, ll_l2i, lgc_e, kc, k9, t1, t2, s1, s2, a1, b1, a2, b2, ↓q1, ↓q2]
theorem lw_order (L : LInv h c X sc n f) {i : Nat} (hi : i + 7 ≤ n) (hn : n ≤ 448) (hC : 256 ≤ gC h) (hS : 2048 ≤ gS h) : LRnd h c sc n f i 870 := by
  have hX := L.2.1
  have kc : gK h c = 1 := L.1.1.k0
  obtain ⟨h1, h2, L2, R2, ⟨s1, s2, s3⟩, k9, q1, q2⟩ := L.op ((k_order c X hX (f (i + 1)) (f (i + 2)) (f (i + 3))).s) (o_order (o := c + 31) (X := X) hX (f (i + 1)) (f (i + 2)) (f (i + 3))) (hX) hC hS
  obtain ⟨-, -, -, -, -, ⟨t1, t2, t3⟩⟩ := L
  have a1 := t3 (i + 1) (by omega)
  have b1 := s3 (i + 1) (by omega)
  have a2 := t3 (i + 2) (by omega)
  have b2 := s3 (i + 2) (by omega)
  have a3 := t3 (i + 3) (by omega)
  have b3 := s3 (i + 3) (by omega)
  refine ⟨h2, _, L2, R2, fun Q => ?_⟩
  simp (disch := omega) only [↓rL_law_870, ↓rL_law_871, ↓rL_law_872, ↓rL_law_873, ↓rL_law_874, ↓rL_law_875, ↓rL_law_876, ↓rL_law_877, ↓rL_law_878, ↓rL_law_879, ↓rL_law_880, ↓rL_law_881, ↓rL_law_882, ↓rL_law_883, ↓rL_law_884, ↓rL_law_885, ↓rL_law_886, ↓rL_law_889, ↓rL_law_890, ↓rL_law_891, ↓rL_law_892, ↓rL_law_893, ↓rL_law_894, ↓rL_law_895, ↓rL_law_896, ↓rL_law_897, ↓rL_law_898, ↓rL_law_899, ↓rL_law_900, ↓rL_law_901, ↓rL_law_902, ↓rL_law_903, ↓rL_law_904, ↓rL_law_905, ↓rL_law_908, ↓rL_law_911, ↓rL_law_912, ↓rL_law_t, ↓rmI_in, ↓shrI_in, ↓shlI_in, ↓okI_in, ↓bI_01, bI_z, bI_o, nn_neg, Int.cast_ofNat_Int, zlit, n_leT, n_leF, n_ltT, n_ltF, n_eqT, n_eqF, z_leT, z_leF, z_ltT, z_ltF, z_eqT, z_eqF, nn_add, nn_mul, nn_clamp, nn_lt, nn_le, nn_eq, nn_div, rmI_nn, okI_nn, nn_and, nn_or, nn_xor, shlI_1, shrI_nn, Cont_v, Cont_0, List.mem_cons, List.not_mem_nil, or_false, or_true, true_or, true_and, and_true, ite_not, if_true, if_false, not_true_eq_false, not_false_eq_true, false_or, false_and, and_false, eq_self, ↓reduceIte, reduceCtorEq, ↓rmL_in, ll_lit, ll_add, ll_mul, ll_toInt, ll_eq, ll_div, rmL_ll, ll_i2l, ll_l2i, lgc_e, kc, k9, t1, t2, s1, s2, a1, b1, a2, b2, a3, b3, ↓q1, ↓q2]
theorem lw_lamp (L : LInv h c X sc n f) {i : Nat} (hi : i + 7 ≤ n) (hn : n ≤ 448) (hC : 256 ≤ gC h) (hS : 2048 ≤ gS h) : LRnd h c sc n f i 913 := by
  have hX := L.2.1
  have kc : gK h c = 1 := L.1.1.k0
  obtain ⟨h1, h2, L2, R2, ⟨s1, s2, s3⟩, k9, q1, q2⟩ := L.op ((k_lamp c X hX (f (i + 1)) (f (i + 2)) (f (i + 3))).s) (o_lamp (o := c + 31) (X := X) hX (f (i + 1)) (f (i + 2)) (f (i + 3))) (hX) hC hS
  obtain ⟨-, -, -, -, -, ⟨t1, t2, t3⟩⟩ := L
  have a1 := t3 (i + 1) (by omega)
  have b1 := s3 (i + 1) (by omega)
  have a2 := t3 (i + 2) (by omega)
  have b2 := s3 (i + 2) (by omega)
  have a3 := t3 (i + 3) (by omega)
  have b3 := s3 (i + 3) (by omega)
  refine ⟨h2, _, L2, R2, fun Q => ?_⟩
  simp (disch := omega) only [↓rL_law_913, ↓rL_law_914, ↓rL_law_915, ↓rL_law_916, ↓rL_law_917, ↓rL_law_918, ↓rL_law_919, ↓rL_law_920, ↓rL_law_921, ↓rL_law_922, ↓rL_law_923, ↓rL_law_924, ↓rL_law_925, ↓rL_law_926, ↓rL_law_927, ↓rL_law_928, ↓rL_law_929, ↓rL_law_932, ↓rL_law_933, ↓rL_law_934, ↓rL_law_935, ↓rL_law_936, ↓rL_law_937, ↓rL_law_938, ↓rL_law_939, ↓rL_law_940, ↓rL_law_941, ↓rL_law_942, ↓rL_law_943, ↓rL_law_944, ↓rL_law_945, ↓rL_law_946, ↓rL_law_947, ↓rL_law_948, ↓rL_law_951, ↓rL_law_954, ↓rL_law_955, ↓rL_law_t, ↓rmI_in, ↓shrI_in, ↓shlI_in, ↓okI_in, ↓bI_01, bI_z, bI_o, nn_neg, Int.cast_ofNat_Int, zlit, n_leT, n_leF, n_ltT, n_ltF, n_eqT, n_eqF, z_leT, z_leF, z_ltT, z_ltF, z_eqT, z_eqF, nn_add, nn_mul, nn_clamp, nn_lt, nn_le, nn_eq, nn_div, rmI_nn, okI_nn, nn_and, nn_or, nn_xor, shlI_1, shrI_nn, Cont_v, Cont_0, List.mem_cons, List.not_mem_nil, or_false, or_true, true_or, true_and, and_true, ite_not, if_true, if_false, not_true_eq_false, not_false_eq_true, false_or, false_and, and_false, eq_self, ↓reduceIte, reduceCtorEq, ↓rmL_in, ll_lit, ll_add, ll_mul, ll_toInt, ll_eq, ll_div, rmL_ll, ll_i2l, ll_l2i, lgc_e, kc, k9, t1, t2, s1, s2, a1, b1, a2, b2, a3, b3, ↓q1, ↓q2]
theorem lw_caught (L : LInv h c X sc n f) {i : Nat} (hi : i + 7 ≤ n) (hn : n ≤ 448) (hC : 256 ≤ gC h) (hS : 2048 ≤ gS h) : LRnd h c sc n f i 956 := by
  have hX := L.2.1
  have kc : gK h c = 1 := L.1.1.k0
  obtain ⟨h1, h2, L2, R2, ⟨s1, s2, s3⟩, k9, q1, q2⟩ := L.op ((k_caught c X hX (f (i + 1)) (f (i + 2)) (f (i + 3))).s) (o_caught (o := c + 31) (X := X) hX (f (i + 1)) (f (i + 2)) (f (i + 3))) (hX) hC hS
  obtain ⟨-, -, -, -, -, ⟨t1, t2, t3⟩⟩ := L
  have a1 := t3 (i + 1) (by omega)
  have b1 := s3 (i + 1) (by omega)
  have a2 := t3 (i + 2) (by omega)
  have b2 := s3 (i + 2) (by omega)
  have a3 := t3 (i + 3) (by omega)
  have b3 := s3 (i + 3) (by omega)
  refine ⟨h2, _, L2, R2, fun Q => ?_⟩
  simp (disch := omega) only [↓rL_law_956, ↓rL_law_957, ↓rL_law_958, ↓rL_law_959, ↓rL_law_960, ↓rL_law_961, ↓rL_law_962, ↓rL_law_963, ↓rL_law_964, ↓rL_law_965, ↓rL_law_966, ↓rL_law_967, ↓rL_law_968, ↓rL_law_969, ↓rL_law_970, ↓rL_law_971, ↓rL_law_972, ↓rL_law_975, ↓rL_law_976, ↓rL_law_977, ↓rL_law_978, ↓rL_law_979, ↓rL_law_980, ↓rL_law_981, ↓rL_law_982, ↓rL_law_983, ↓rL_law_984, ↓rL_law_985, ↓rL_law_986, ↓rL_law_987, ↓rL_law_988, ↓rL_law_989, ↓rL_law_990, ↓rL_law_991, ↓rL_law_994, ↓rL_law_997, ↓rL_law_998, ↓rL_law_t, ↓rmI_in, ↓shrI_in, ↓shlI_in, ↓okI_in, ↓bI_01, bI_z, bI_o, nn_neg, Int.cast_ofNat_Int, zlit, n_leT, n_leF, n_ltT, n_ltF, n_eqT, n_eqF, z_leT, z_leF, z_ltT, z_ltF, z_eqT, z_eqF, nn_add, nn_mul, nn_clamp, nn_lt, nn_le, nn_eq, nn_div, rmI_nn, okI_nn, nn_and, nn_or, nn_xor, shlI_1, shrI_nn, Cont_v, Cont_0, List.mem_cons, List.not_mem_nil, or_false, or_true, true_or, true_and, and_true, ite_not, if_true, if_false, not_true_eq_false, not_false_eq_true, false_or, false_and, and_false, eq_self, ↓reduceIte, reduceCtorEq, ↓rmL_in, ll_lit, ll_add, ll_mul, ll_toInt, ll_eq, ll_div, rmL_ll, ll_i2l, ll_l2i, lgc_e, kc, k9, t1, t2, s1, s2, a1, b1, a2, b2, a3, b3, ↓q1, ↓q2]
theorem lw_grams (L : LInv h c X sc n f) {i : Nat} (hi : i + 7 ≤ n) (hn : n ≤ 448) (hC : 256 ≤ gC h) (hS : 2048 ≤ gS h) : LRnd h c sc n f i 999 := by
  have hX := L.2.1
  have kc : gK h c = 1 := L.1.1.k0
  obtain ⟨h1, h2, L2, R2, ⟨s1, s2, s3⟩, k9, q1, q2⟩ := L.op ((k_grams c X hX (f (i + 1)) (f (i + 2))).s) (o_grams (o := c + 31) (X := X) hX (f (i + 1)) (f (i + 2))) (hX) hC hS
  obtain ⟨-, -, -, -, -, ⟨t1, t2, t3⟩⟩ := L
  have a1 := t3 (i + 1) (by omega)
  have b1 := s3 (i + 1) (by omega)
  have a2 := t3 (i + 2) (by omega)
  have b2 := s3 (i + 2) (by omega)
  refine ⟨h2, _, L2, R2, fun Q => ?_⟩
  simp (disch := omega) only [↓rL_law_999, ↓rL_law_1000, ↓rL_law_1001, ↓rL_law_1002, ↓rL_law_1003, ↓rL_law_1004, ↓rL_law_1005, ↓rL_law_1006, ↓rL_law_1007, ↓rL_law_1008, ↓rL_law_1009, ↓rL_law_1010, ↓rL_law_1013, ↓rL_law_1014, ↓rL_law_1015, ↓rL_law_1016, ↓rL_law_1017, ↓rL_law_1018, ↓rL_law_1019, ↓rL_law_1020, ↓rL_law_1021, ↓rL_law_1022, ↓rL_law_1023, ↓rL_law_1024, ↓rL_law_1027, ↓rL_law_1030, ↓rL_law_1031, ↓rL_law_t, ↓rmI_in, ↓shrI_in, ↓shlI_in, ↓okI_in, ↓bI_01, bI_z, bI_o, nn_neg, Int.cast_ofNat_Int, zlit, n_leT, n_leF, n_ltT, n_ltF, n_eqT, n_eqF, z_leT, z_leF, z_ltT, z_ltF, z_eqT, z_eqF, nn_add, nn_mul, nn_clamp, nn_lt, nn_le, nn_eq, nn_div, rmI_nn, okI_nn, nn_and, nn_or, nn_xor, shlI_1, shrI_nn, Cont_v, Cont_0, List.mem_cons, List.not_mem_nil, or_false, or_true, true_or, true_and, and_true, ite_not, if_true, if_false, not_true_eq_false, not_false_eq_true, false_or, false_and, and_false, eq_self, ↓reduceIte, reduceCtorEq, ↓rmL_in, ll_lit, ll_add, ll_mul, ll_toInt, ll_eq, ll_div, rmL_ll, ll_i2l, ll_l2i, lgc_e, kc, k9, t1, t2, s1, s2, a1, b1, a2, b2, ↓q1, ↓q2]
theorem lw_who (L : LInv h c X sc n f) {i : Nat} (hi : i + 7 ≤ n) (hn : n ≤ 448) (hC : 256 ≤ gC h) (hS : 2048 ≤ gS h) : LRnd h c sc n f i 1032 := by
  have hX := L.2.1
  have kc : gK h c = 1 := L.1.1.k0
  obtain ⟨h1, h2, L2, R2, ⟨s1, s2, s3⟩, k9, q1, q2⟩ := L.op ((k_who c X hX (f (i + 1)) (f (i + 2)) (f (i + 3)) (f (i + 4)) (f (i + 5)) (f (i + 6))).s) (o_who (o := c + 31) (X := X) hX (f (i + 1)) (f (i + 2)) (f (i + 3)) (f (i + 4)) (f (i + 5)) (f (i + 6))) (x_who hX (f (i + 1)) (f (i + 2)) (f (i + 3)) (f (i + 4)) (f (i + 5)) (f (i + 6))) hC hS
  obtain ⟨-, -, -, -, -, ⟨t1, t2, t3⟩⟩ := L
  have a1 := t3 (i + 1) (by omega)
  have b1 := s3 (i + 1) (by omega)
  have a2 := t3 (i + 2) (by omega)
  have b2 := s3 (i + 2) (by omega)
  have a3 := t3 (i + 3) (by omega)
  have b3 := s3 (i + 3) (by omega)
  have a4 := t3 (i + 4) (by omega)
  have b4 := s3 (i + 4) (by omega)
  have a5 := t3 (i + 5) (by omega)
  have b5 := s3 (i + 5) (by omega)
  have a6 := t3 (i + 6) (by omega)
  have b6 := s3 (i + 6) (by omega)
  refine ⟨h2, _, L2, R2, fun Q => ?_⟩
  simp (disch := omega) only [↓rL_law_1032, ↓rL_law_1033, ↓rL_law_1034, ↓rL_law_1035, ↓rL_law_1036, ↓rL_law_1037, ↓rL_law_1038, ↓rL_law_1039, ↓rL_law_1040, ↓rL_law_1041, ↓rL_law_1042, ↓rL_law_1043, ↓rL_law_1044, ↓rL_law_1045, ↓rL_law_1046, ↓rL_law_1047, ↓rL_law_1048, ↓rL_law_1049, ↓rL_law_1050, ↓rL_law_1051, ↓rL_law_1052, ↓rL_law_1053, ↓rL_law_1054, ↓rL_law_1055, ↓rL_law_1056, ↓rL_law_1057, ↓rL_law_1058, ↓rL_law_1059, ↓rL_law_1060, ↓rL_law_1062, ↓rL_law_1063, ↓rL_law_1064, ↓rL_law_1067, ↓rL_law_1068, ↓rL_law_1069, ↓rL_law_1070, ↓rL_law_1071, ↓rL_law_1072, ↓rL_law_1073, ↓rL_law_1074, ↓rL_law_1075, ↓rL_law_1076, ↓rL_law_1077, ↓rL_law_1078, ↓rL_law_1079, ↓rL_law_1080, ↓rL_law_1081, ↓rL_law_1082, ↓rL_law_1083, ↓rL_law_1084, ↓rL_law_1085, ↓rL_law_1086, ↓rL_law_1087, ↓rL_law_1088, ↓rL_law_1089, ↓rL_law_1090, ↓rL_law_1091, ↓rL_law_1092, ↓rL_law_1093, ↓rL_law_1094, ↓rL_law_1095, ↓rL_law_1097, ↓rL_law_1098, ↓rL_law_1099, ↓rL_law_1102, ↓rL_law_1105, ↓rL_law_1106, ↓rL_law_t, ↓rmI_in, ↓shrI_in, ↓shlI_in, ↓okI_in, ↓bI_01, bI_z, bI_o, nn_neg, Int.cast_ofNat_Int, zlit, n_leT, n_leF, n_ltT, n_ltF, n_eqT, n_eqF, z_leT, z_leF, z_ltT, z_ltF, z_eqT, z_eqF, nn_add, nn_mul, nn_clamp, nn_lt, nn_le, nn_eq, nn_div, rmI_nn, okI_nn, nn_and, nn_or, nn_xor, shlI_1, shrI_nn, Cont_v, Cont_0, List.mem_cons, List.not_mem_nil, or_false, or_true, true_or, true_and, and_true, ite_not, if_true, if_false, not_true_eq_false, not_false_eq_true, false_or, false_and, and_false, eq_self, ↓reduceIte, reduceCtorEq, ↓rmL_in, ll_lit, ll_add, ll_mul, ll_toInt, ll_eq, ll_div, rmL_ll, ll_i2l, ll_l2i, lgc_e, kc, k9, t1, t2, s1, s2, a1, b1, a2, b2, a3, b3, a4, b4, a5, b5, a6, b6, ↓q1, ↓q2]
theorem lw_paste (L : LInv h c X sc n f) {i : Nat} (hi : i + 7 ≤ n) (hn : n ≤ 448) (hC : 256 ≤ gC h) (hS : 2048 ≤ gS h) : LRnd h c sc n f i 1107 := by
  have hX := L.2.1
  have kc : gK h c = 1 := L.1.1.k0
  obtain ⟨h1, h2, L2, R2, ⟨s1, s2, s3⟩, k9, q1, q2⟩ := L.op ((k_paste c X hX (f (i + 1)) (f (i + 2)) (f (i + 3)) (f (i + 4)) (f (i + 5))).s) (o_paste (o := c + 31) (X := X) hX (f (i + 1)) (f (i + 2)) (f (i + 3)) (f (i + 4)) (f (i + 5))) (x_paste hX (f (i + 1)) (f (i + 2)) (f (i + 3)) (f (i + 4)) (f (i + 5))) hC hS
  obtain ⟨-, -, -, -, -, ⟨t1, t2, t3⟩⟩ := L
  have a1 := t3 (i + 1) (by omega)
  have b1 := s3 (i + 1) (by omega)
  have a2 := t3 (i + 2) (by omega)
  have b2 := s3 (i + 2) (by omega)
  have a3 := t3 (i + 3) (by omega)
  have b3 := s3 (i + 3) (by omega)
  have a4 := t3 (i + 4) (by omega)
  have b4 := s3 (i + 4) (by omega)
  have a5 := t3 (i + 5) (by omega)
  have b5 := s3 (i + 5) (by omega)
  refine ⟨h2, _, L2, R2, fun Q => ?_⟩
  simp (disch := omega) only [↓rL_law_1107, ↓rL_law_1108, ↓rL_law_1109, ↓rL_law_1110, ↓rL_law_1111, ↓rL_law_1112, ↓rL_law_1113, ↓rL_law_1114, ↓rL_law_1115, ↓rL_law_1116, ↓rL_law_1117, ↓rL_law_1118, ↓rL_law_1119, ↓rL_law_1120, ↓rL_law_1121, ↓rL_law_1122, ↓rL_law_1123, ↓rL_law_1124, ↓rL_law_1125, ↓rL_law_1126, ↓rL_law_1127, ↓rL_law_1128, ↓rL_law_1129, ↓rL_law_1130, ↓rL_law_1131, ↓rL_law_1132, ↓rL_law_1133, ↓rL_law_1136, ↓rL_law_1137, ↓rL_law_1138, ↓rL_law_1139, ↓rL_law_1140, ↓rL_law_1141, ↓rL_law_1142, ↓rL_law_1143, ↓rL_law_1144, ↓rL_law_1145, ↓rL_law_1146, ↓rL_law_1147, ↓rL_law_1148, ↓rL_law_1149, ↓rL_law_1150, ↓rL_law_1151, ↓rL_law_1152, ↓rL_law_1153, ↓rL_law_1154, ↓rL_law_1155, ↓rL_law_1156, ↓rL_law_1157, ↓rL_law_1158, ↓rL_law_1159, ↓rL_law_1160, ↓rL_law_1161, ↓rL_law_1162, ↓rL_law_1165, ↓rL_law_1168, ↓rL_law_1169, ↓rL_law_t, ↓rmI_in, ↓shrI_in, ↓shlI_in, ↓okI_in, ↓bI_01, bI_z, bI_o, nn_neg, Int.cast_ofNat_Int, zlit, n_leT, n_leF, n_ltT, n_ltF, n_eqT, n_eqF, z_leT, z_leF, z_ltT, z_ltF, z_eqT, z_eqF, nn_add, nn_mul, nn_clamp, nn_lt, nn_le, nn_eq, nn_div, rmI_nn, okI_nn, nn_and, nn_or, nn_xor, shlI_1, shrI_nn, Cont_v, Cont_0, List.mem_cons, List.not_mem_nil, or_false, or_true, true_or, true_and, and_true, ite_not, if_true, if_false, not_true_eq_false, not_false_eq_true, false_or, false_and, and_false, eq_self, ↓reduceIte, reduceCtorEq, ↓rmL_in, ll_lit, ll_add, ll_mul, ll_toInt, ll_eq, ll_div, rmL_ll, ll_i2l, ll_l2i, lgc_e, kc, k9, t1, t2, s1, s2, a1, b1, a2, b2, a3, b3, a4, b4, a5, b5, ↓q1, ↓q2]
theorem lw_hungers (L : LInv h c X sc n f) {i : Nat} (hi : i + 7 ≤ n) (hn : n ≤ 448) (hC : 256 ≤ gC h) (hS : 2048 ≤ gS h) : LRnd h c sc n f i 1170 := by
  have hX := L.2.1
  have kc : gK h c = 1 := L.1.1.k0
  obtain ⟨h1, h2, L2, R2, ⟨s1, s2, s3⟩, k9, q1, q2⟩ := L.op ((k_hungers c X hX (f (i + 1)) (f (i + 2)) (f (i + 3)) (f (i + 4))).s) (o_hungers (o := c + 31) (X := X) hX (f (i + 1)) (f (i + 2)) (f (i + 3)) (f (i + 4))) (x_hungers hX (f (i + 1)) (f (i + 2)) (f (i + 3)) (f (i + 4))) hC hS
  obtain ⟨-, -, -, -, -, ⟨t1, t2, t3⟩⟩ := L
  have a1 := t3 (i + 1) (by omega)
  have b1 := s3 (i + 1) (by omega)
  have a2 := t3 (i + 2) (by omega)
  have b2 := s3 (i + 2) (by omega)
  have a3 := t3 (i + 3) (by omega)
  have b3 := s3 (i + 3) (by omega)
  have a4 := t3 (i + 4) (by omega)
  have b4 := s3 (i + 4) (by omega)
  refine ⟨h2, _, L2, R2, fun Q => ?_⟩
  simp (disch := omega) only [↓rL_law_1170, ↓rL_law_1171, ↓rL_law_1172, ↓rL_law_1173, ↓rL_law_1174, ↓rL_law_1175, ↓rL_law_1176, ↓rL_law_1177, ↓rL_law_1178, ↓rL_law_1179, ↓rL_law_1180, ↓rL_law_1181, ↓rL_law_1182, ↓rL_law_1183, ↓rL_law_1184, ↓rL_law_1185, ↓rL_law_1186, ↓rL_law_1187, ↓rL_law_1188, ↓rL_law_1189, ↓rL_law_1190, ↓rL_law_1191, ↓rL_law_1194, ↓rL_law_1195, ↓rL_law_1196, ↓rL_law_1197, ↓rL_law_1198, ↓rL_law_1199, ↓rL_law_1200, ↓rL_law_1201, ↓rL_law_1202, ↓rL_law_1203, ↓rL_law_1204, ↓rL_law_1205, ↓rL_law_1206, ↓rL_law_1207, ↓rL_law_1208, ↓rL_law_1209, ↓rL_law_1210, ↓rL_law_1211, ↓rL_law_1212, ↓rL_law_1213, ↓rL_law_1214, ↓rL_law_1215, ↓rL_law_1218, ↓rL_law_1221, ↓rL_law_1222, ↓rL_law_t, ↓rmI_in, ↓shrI_in, ↓shlI_in, ↓okI_in, ↓bI_01, bI_z, bI_o, nn_neg, Int.cast_ofNat_Int, zlit, n_leT, n_leF, n_ltT, n_ltF, n_eqT, n_eqF, z_leT, z_leF, z_ltT, z_ltF, z_eqT, z_eqF, nn_add, nn_mul, nn_clamp, nn_lt, nn_le, nn_eq, nn_div, rmI_nn, okI_nn, nn_and, nn_or, nn_xor, shlI_1, shrI_nn, Cont_v, Cont_0, List.mem_cons, List.not_mem_nil, or_false, or_true, true_or, true_and, and_true, ite_not, if_true, if_false, not_true_eq_false, not_false_eq_true, false_or, false_and, and_false, eq_self, ↓reduceIte, reduceCtorEq, ↓rmL_in, ll_lit, ll_add, ll_mul, ll_toInt, ll_eq, ll_div, rmL_ll, ll_i2l, ll_l2i, lgc_e, kc, k9, t1, t2, s1, s2, a1, b1, a2, b2, a3, b3, a4, b4, ↓q1, ↓q2]
theorem lw_dark (L : LInv h c X sc n f) {i : Nat} (hi : i + 7 ≤ n) (hn : n ≤ 448) (hC : 256 ≤ gC h) (hS : 2048 ≤ gS h) : LRnd h c sc n f i 1223 := by
  have hX := L.2.1
  have kc : gK h c = 1 := L.1.1.k0
  obtain ⟨h1, h2, L2, R2, ⟨s1, s2, s3⟩, k9, q1, q2⟩ := L.op ((k_dark c X hX (f (i + 1)) (f (i + 2)) (f (i + 3)) (f (i + 4))).s) (o_dark (o := c + 31) (X := X) hX (f (i + 1)) (f (i + 2)) (f (i + 3)) (f (i + 4))) (hX) hC hS
  obtain ⟨-, -, -, -, -, ⟨t1, t2, t3⟩⟩ := L
  have a1 := t3 (i + 1) (by omega)
  have b1 := s3 (i + 1) (by omega)
  have a2 := t3 (i + 2) (by omega)
  have b2 := s3 (i + 2) (by omega)
  have a3 := t3 (i + 3) (by omega)
  have b3 := s3 (i + 3) (by omega)
  have a4 := t3 (i + 4) (by omega)
  have b4 := s3 (i + 4) (by omega)
  refine ⟨h2, _, L2, R2, fun Q => ?_⟩
  simp (disch := omega) only [↓rL_law_1223, ↓rL_law_1224, ↓rL_law_1225, ↓rL_law_1226, ↓rL_law_1227, ↓rL_law_1228, ↓rL_law_1229, ↓rL_law_1230, ↓rL_law_1231, ↓rL_law_1232, ↓rL_law_1233, ↓rL_law_1234, ↓rL_law_1235, ↓rL_law_1236, ↓rL_law_1237, ↓rL_law_1238, ↓rL_law_1239, ↓rL_law_1240, ↓rL_law_1241, ↓rL_law_1242, ↓rL_law_1243, ↓rL_law_1244, ↓rL_law_1247, ↓rL_law_1248, ↓rL_law_1249, ↓rL_law_1250, ↓rL_law_1251, ↓rL_law_1252, ↓rL_law_1253, ↓rL_law_1254, ↓rL_law_1255, ↓rL_law_1256, ↓rL_law_1257, ↓rL_law_1258, ↓rL_law_1259, ↓rL_law_1260, ↓rL_law_1261, ↓rL_law_1262, ↓rL_law_1263, ↓rL_law_1264, ↓rL_law_1265, ↓rL_law_1266, ↓rL_law_1267, ↓rL_law_1268, ↓rL_law_1271, ↓rL_law_1272, ↓rL_law_1275, ↓rL_law_1276, ↓rL_law_t, ↓rmI_in, ↓shrI_in, ↓shlI_in, ↓okI_in, ↓bI_01, bI_z, bI_o, nn_neg, Int.cast_ofNat_Int, zlit, n_leT, n_leF, n_ltT, n_ltF, n_eqT, n_eqF, z_leT, z_leF, z_ltT, z_ltF, z_eqT, z_eqF, nn_add, nn_mul, nn_clamp, nn_lt, nn_le, nn_eq, nn_div, rmI_nn, okI_nn, nn_and, nn_or, nn_xor, shlI_1, shrI_nn, Cont_v, Cont_0, List.mem_cons, List.not_mem_nil, or_false, or_true, true_or, true_and, and_true, ite_not, if_true, if_false, not_true_eq_false, not_false_eq_true, false_or, false_and, and_false, eq_self, ↓reduceIte, reduceCtorEq, ↓rmL_in, ll_lit, ll_add, ll_mul, ll_toInt, ll_eq, ll_div, rmL_ll, ll_i2l, ll_l2i, lgc_e, kc, k9, t1, t2, s1, s2, a1, b1, a2, b2, a3, b3, a4, b4, ↓q1, ↓q2]
theorem lw_drawn (L : LInv h c X sc n f) {i : Nat} (hi : i + 7 ≤ n) (hn : n ≤ 448) (hC : 256 ≤ gC h) (hS : 2048 ≤ gS h) : LRnd h c sc n f i 1277 := by
  have hX := L.2.1
  have kc : gK h c = 1 := L.1.1.k0
  obtain ⟨h1, h2, L2, R2, ⟨s1, s2, s3⟩, k9, q1, q2⟩ := L.op ((k_drawn c X hX (f (i + 1)) (f (i + 2)) (f (i + 3))).s) (o_drawn (o := c + 31) (X := X) hX (f (i + 1)) (f (i + 2)) (f (i + 3))) (hX) hC hS
  obtain ⟨-, -, -, -, -, ⟨t1, t2, t3⟩⟩ := L
  have a1 := t3 (i + 1) (by omega)
  have b1 := s3 (i + 1) (by omega)
  have a2 := t3 (i + 2) (by omega)
  have b2 := s3 (i + 2) (by omega)
  have a3 := t3 (i + 3) (by omega)
  have b3 := s3 (i + 3) (by omega)
  refine ⟨h2, _, L2, R2, fun Q => ?_⟩
  simp (disch := omega) only [↓rL_law_1277, ↓rL_law_1278, ↓rL_law_1279, ↓rL_law_1280, ↓rL_law_1281, ↓rL_law_1282, ↓rL_law_1283, ↓rL_law_1284, ↓rL_law_1285, ↓rL_law_1286, ↓rL_law_1287, ↓rL_law_1288, ↓rL_law_1289, ↓rL_law_1290, ↓rL_law_1291, ↓rL_law_1292, ↓rL_law_1293, ↓rL_law_1296, ↓rL_law_1297, ↓rL_law_1298, ↓rL_law_1299, ↓rL_law_1300, ↓rL_law_1301, ↓rL_law_1302, ↓rL_law_1303, ↓rL_law_1304, ↓rL_law_1305, ↓rL_law_1306, ↓rL_law_1307, ↓rL_law_1308, ↓rL_law_1309, ↓rL_law_1310, ↓rL_law_1311, ↓rL_law_1312, ↓rL_law_1315, ↓rL_law_1318, ↓rL_law_1319, ↓rL_law_t, ↓rmI_in, ↓shrI_in, ↓shlI_in, ↓okI_in, ↓bI_01, bI_z, bI_o, nn_neg, Int.cast_ofNat_Int, zlit, n_leT, n_leF, n_ltT, n_ltF, n_eqT, n_eqF, z_leT, z_leF, z_ltT, z_ltF, z_eqT, z_eqF, nn_add, nn_mul, nn_clamp, nn_lt, nn_le, nn_eq, nn_div, rmI_nn, okI_nn, nn_and, nn_or, nn_xor, shlI_1, shrI_nn, Cont_v, Cont_0, List.mem_cons, List.not_mem_nil, or_false, or_true, true_or, true_and, and_true, ite_not, if_true, if_false, not_true_eq_false, not_false_eq_true, false_or, false_and, and_false, eq_self, ↓reduceIte, reduceCtorEq, ↓rmL_in, ll_lit, ll_add, ll_mul, ll_toInt, ll_eq, ll_div, rmL_ll, ll_i2l, ll_l2i, lgc_e, kc, k9, t1, t2, s1, s2, a1, b1, a2, b2, a3, b3, ↓q1, ↓q2]
theorem lw_image (L : LInv h c X sc n f) {i : Nat} (hi : i + 7 ≤ n) (hn : n ≤ 448) (hC : 256 ≤ gC h) (hS : 2048 ≤ gS h) : LRnd h c sc n f i 1320 := by
  have hX := L.2.1
  have kc : gK h c = 1 := L.1.1.k0
  obtain ⟨h1, h2, L2, R2, ⟨s1, s2, s3⟩, k9, q1, q2⟩ := L.op ((k_image c X hX (f (i + 1))).s) (o_image (o := c + 31) (X := X) hX (f (i + 1))) (x_image hX (f (i + 1))) hC hS
  obtain ⟨-, -, -, -, -, ⟨t1, t2, t3⟩⟩ := L
  have a1 := t3 (i + 1) (by omega)
  have b1 := s3 (i + 1) (by omega)
  refine ⟨h2, _, L2, R2, fun Q => ?_⟩
  simp (disch := omega) only [↓rL_law_1320, ↓rL_law_1321, ↓rL_law_1322, ↓rL_law_1323, ↓rL_law_1324, ↓rL_law_1325, ↓rL_law_1326, ↓rL_law_1329, ↓rL_law_1330, ↓rL_law_1331, ↓rL_law_1332, ↓rL_law_1333, ↓rL_law_1334, ↓rL_law_1335, ↓rL_law_1338, ↓rL_law_1341, ↓rL_law_1342, ↓rL_law_t, ↓rmI_in, ↓shrI_in, ↓shlI_in, ↓okI_in, ↓bI_01, bI_z, bI_o, nn_neg, Int.cast_ofNat_Int, zlit, n_leT, n_leF, n_ltT, n_ltF, n_eqT, n_eqF, z_leT, z_leF, z_ltT, z_ltF, z_eqT, z_eqF, nn_add, nn_mul, nn_clamp, nn_lt, nn_le, nn_eq, nn_div, rmI_nn, okI_nn, nn_and, nn_or, nn_xor, shlI_1, shrI_nn, Cont_v, Cont_0, List.mem_cons, List.not_mem_nil, or_false, or_true, true_or, true_and, and_true, ite_not, if_true, if_false, not_true_eq_false, not_false_eq_true, false_or, false_and, and_false, eq_self, ↓reduceIte, reduceCtorEq, ↓rmL_in, ll_lit, ll_add, ll_mul, ll_toInt, ll_eq, ll_div, rmL_ll, ll_i2l, ll_l2i, lgc_e, kc, k9, t1, t2, s1, s2, a1, b1, ↓q1, ↓q2]
theorem lw_restore (L : LInv h c X sc n f) {i : Nat} (hi : i + 7 ≤ n) (hn : n ≤ 448) (hC : 256 ≤ gC h) (hS : 2048 ≤ gS h) : LRnd h c sc n f i 1343 := by
  have hX := L.2.1
  have kc : gK h c = 1 := L.1.1.k0
  obtain ⟨h1, h2, L2, R2, ⟨s1, s2, s3⟩, k9, q1, q2⟩ := L.op ((k_restore c X hX (f (i + 1))).s) (o_restore (o := c + 31) (X := X) hX (f (i + 1))) (x_restore hX (f (i + 1))) hC hS
  obtain ⟨-, -, -, -, -, ⟨t1, t2, t3⟩⟩ := L
  have a1 := t3 (i + 1) (by omega)
  have b1 := s3 (i + 1) (by omega)
  refine ⟨h2, _, L2, R2, fun Q => ?_⟩
  simp (disch := omega) only [↓rL_law_1343, ↓rL_law_1344, ↓rL_law_1345, ↓rL_law_1346, ↓rL_law_1347, ↓rL_law_1348, ↓rL_law_1349, ↓rL_law_1352, ↓rL_law_1353, ↓rL_law_1354, ↓rL_law_1355, ↓rL_law_1356, ↓rL_law_1357, ↓rL_law_1358, ↓rL_law_1361, ↓rL_law_1364, ↓rL_law_1365, ↓rL_law_t, ↓rmI_in, ↓shrI_in, ↓shlI_in, ↓okI_in, ↓bI_01, bI_z, bI_o, nn_neg, Int.cast_ofNat_Int, zlit, n_leT, n_leF, n_ltT, n_ltF, n_eqT, n_eqF, z_leT, z_leF, z_ltT, z_ltF, z_eqT, z_eqF, nn_add, nn_mul, nn_clamp, nn_lt, nn_le, nn_eq, nn_div, rmI_nn, okI_nn, nn_and, nn_or, nn_xor, shlI_1, shrI_nn, Cont_v, Cont_0, List.mem_cons, List.not_mem_nil, or_false, or_true, true_or, true_and, and_true, ite_not, if_true, if_false, not_true_eq_false, not_false_eq_true, false_or, false_and, and_false, eq_self, ↓reduceIte, reduceCtorEq, ↓rmL_in, ll_lit, ll_add, ll_mul, ll_toInt, ll_eq, ll_div, rmL_ll, ll_i2l, ll_l2i, lgc_e, kc, k9, t1, t2, s1, s2, a1, b1, ↓q1, ↓q2]
theorem lw_kind (L : LInv h c X sc n f) {i : Nat} (hi : i + 7 ≤ n) (hn : n ≤ 448) (hC : 256 ≤ gC h) (hS : 2048 ≤ gS h) : LRnd h c sc n f i 1366 := by
  have hX := L.2.1
  have kc : gK h c = 1 := L.1.1.k0
  obtain ⟨h1, h2, L2, R2, ⟨s1, s2, s3⟩, k9, q1, q2⟩ := L.op ((k_kind c X hX (f (i + 1))).s) (o_kind (o := c + 31) (X := X) hX (f (i + 1))) (hX) hC hS
  obtain ⟨-, -, -, -, -, ⟨t1, t2, t3⟩⟩ := L
  have a1 := t3 (i + 1) (by omega)
  have b1 := s3 (i + 1) (by omega)
  refine ⟨h2, _, L2, R2, fun Q => ?_⟩
  simp (disch := omega) only [↓rL_law_1366, ↓rL_law_1367, ↓rL_law_1368, ↓rL_law_1369, ↓rL_law_1370, ↓rL_law_1371, ↓rL_law_1372, ↓rL_law_1375, ↓rL_law_1376, ↓rL_law_1377, ↓rL_law_1378, ↓rL_law_1379, ↓rL_law_1380, ↓rL_law_1381, ↓rL_law_1384, ↓rL_law_1387, ↓rL_law_1388, ↓rL_law_t, ↓rmI_in, ↓shrI_in, ↓shlI_in, ↓okI_in, ↓bI_01, bI_z, bI_o, nn_neg, Int.cast_ofNat_Int, zlit, n_leT, n_leF, n_ltT, n_ltF, n_eqT, n_eqF, z_leT, z_leF, z_ltT, z_ltF, z_eqT, z_eqF, nn_add, nn_mul, nn_clamp, nn_lt, nn_le, nn_eq, nn_div, rmI_nn, okI_nn, nn_and, nn_or, nn_xor, shlI_1, shrI_nn, Cont_v, Cont_0, List.mem_cons, List.not_mem_nil, or_false, or_true, true_or, true_and, and_true, ite_not, if_true, if_false, not_true_eq_false, not_false_eq_true, false_or, false_and, and_false, eq_self, ↓reduceIte, reduceCtorEq, ↓rmL_in, ll_lit, ll_add, ll_mul, ll_toInt, ll_eq, ll_div, rmL_ll, ll_i2l, ll_l2i, lgc_e, kc, k9, t1, t2, s1, s2, a1, b1, ↓q1, ↓q2]
theorem lw_as (hK : K_as) (L : LInv h c X sc n f) {i : Nat} (hi : i + 7 ≤ n) (hn : n ≤ 448) (hC : 256 ≤ gC h) (hS : 2048 ≤ gS h) : LRnd h c sc n f i 1389 := by
  have hX := L.2.1
  have kc : gK h c = 1 := L.1.1.k0
  obtain ⟨h1, h2, L2, R2, ⟨s1, s2, s3⟩, k9, q1, q2⟩ := L.op (hK c X hX (f (i + 1)) (f (i + 2))) (o_as (o := c + 31) (X := X) hX (f (i + 1)) (f (i + 2))) (x_as hX (f (i + 1)) (f (i + 2))) hC hS
  obtain ⟨-, -, -, -, -, ⟨t1, t2, t3⟩⟩ := L
  have a1 := t3 (i + 1) (by omega)
  have b1 := s3 (i + 1) (by omega)
  have a2 := t3 (i + 2) (by omega)
  have b2 := s3 (i + 2) (by omega)
  refine ⟨h2, _, L2, R2, fun Q => ?_⟩
  simp (disch := omega) only [↓rL_law_1389, ↓rL_law_1390, ↓rL_law_1391, ↓rL_law_1392, ↓rL_law_1393, ↓rL_law_1394, ↓rL_law_1395, ↓rL_law_1396, ↓rL_law_1397, ↓rL_law_1398, ↓rL_law_1399, ↓rL_law_1400, ↓rL_law_1403, ↓rL_law_1404, ↓rL_law_1405, ↓rL_law_1406, ↓rL_law_1407, ↓rL_law_1408, ↓rL_law_1409, ↓rL_law_1410, ↓rL_law_1411, ↓rL_law_1412, ↓rL_law_1413, ↓rL_law_1414, ↓rL_law_1417, ↓rL_law_1420, ↓rL_law_1421, ↓rL_law_t, ↓rmI_in, ↓shrI_in, ↓shlI_in, ↓okI_in, ↓bI_01, bI_z, bI_o, nn_neg, Int.cast_ofNat_Int, zlit, n_leT, n_leF, n_ltT, n_ltF, n_eqT, n_eqF, z_leT, z_leF, z_ltT, z_ltF, z_eqT, z_eqF, nn_add, nn_mul, nn_clamp, nn_lt, nn_le, nn_eq, nn_div, rmI_nn, okI_nn, nn_and, nn_or, nn_xor, shlI_1, shrI_nn, Cont_v, Cont_0, List.mem_cons, List.not_mem_nil, or_false, or_true, true_or, true_and, and_true, ite_not, if_true, if_false, not_true_eq_false, not_false_eq_true, false_or, false_and, and_false, eq_self, ↓reduceIte, reduceCtorEq, ↓rmL_in, ll_lit, ll_add, ll_mul, ll_toInt, ll_eq, ll_div, rmL_ll, ll_i2l, ll_l2i, lgc_e, kc, k9, t1, t2, s1, s2, a1, b1, a2, b2, ↓q1, ↓q2]
theorem lw_ask (L : LInv h c X sc n f) {i : Nat} (hi : i + 7 ≤ n) (hn : n ≤ 448) (hC : 256 ≤ gC h) (hS : 2048 ≤ gS h) : LRnd h c sc n f i 1422 := by
  have hX := L.2.1
  have kc : gK h c = 1 := L.1.1.k0
  obtain ⟨h1, h2, L2, R2, ⟨s1, s2, s3⟩, k9, q1, q2⟩ := L.op ((k_ask c X hX (f (i + 1)) (f (i + 2))).s) (o_ask (o := c + 31) (X := X) hX (f (i + 1)) (f (i + 2))) (x_ask hX (f (i + 1)) (f (i + 2))) hC hS
  obtain ⟨-, -, -, -, -, ⟨t1, t2, t3⟩⟩ := L
  have a1 := t3 (i + 1) (by omega)
  have b1 := s3 (i + 1) (by omega)
  have a2 := t3 (i + 2) (by omega)
  have b2 := s3 (i + 2) (by omega)
  refine ⟨h2, _, L2, R2, fun Q => ?_⟩
  simp (disch := omega) only [↓rL_law_1422, ↓rL_law_1423, ↓rL_law_1424, ↓rL_law_1425, ↓rL_law_1426, ↓rL_law_1427, ↓rL_law_1428, ↓rL_law_1429, ↓rL_law_1430, ↓rL_law_1431, ↓rL_law_1432, ↓rL_law_1433, ↓rL_law_1436, ↓rL_law_1437, ↓rL_law_1438, ↓rL_law_1439, ↓rL_law_1440, ↓rL_law_1441, ↓rL_law_1442, ↓rL_law_1443, ↓rL_law_1444, ↓rL_law_1445, ↓rL_law_1446, ↓rL_law_1447, ↓rL_law_1450, ↓rL_law_1453, ↓rL_law_1454, ↓rL_law_t, ↓rmI_in, ↓shrI_in, ↓shlI_in, ↓okI_in, ↓bI_01, bI_z, bI_o, nn_neg, Int.cast_ofNat_Int, zlit, n_leT, n_leF, n_ltT, n_ltF, n_eqT, n_eqF, z_leT, z_leF, z_ltT, z_ltF, z_eqT, z_eqF, nn_add, nn_mul, nn_clamp, nn_lt, nn_le, nn_eq, nn_div, rmI_nn, okI_nn, nn_and, nn_or, nn_xor, shlI_1, shrI_nn, Cont_v, Cont_0, List.mem_cons, List.not_mem_nil, or_false, or_true, true_or, true_and, and_true, ite_not, if_true, if_false, not_true_eq_false, not_false_eq_true, false_or, false_and, and_false, eq_self, ↓reduceIte, reduceCtorEq, ↓rmL_in, ll_lit, ll_add, ll_mul, ll_toInt, ll_eq, ll_div, rmL_ll, ll_i2l, ll_l2i, lgc_e, kc, k9, t1, t2, s1, s2, a1, b1, a2, b2, ↓q1, ↓q2]
theorem lw_trace (L : LInv h c X sc n f) {i : Nat} (hi : i + 7 ≤ n) (hn : n ≤ 448) (hC : 256 ≤ gC h) (hS : 2048 ≤ gS h) : LRnd h c sc n f i 1455 := by
  have hX := L.2.1
  have kc : gK h c = 1 := L.1.1.k0
  obtain ⟨h1, h2, L2, R2, ⟨s1, s2, s3⟩, k9, q1, q2⟩ := L.op ((k_trace c X hX (f (i + 1))).s) (o_trace (o := c + 31) (X := X) hX (f (i + 1))) (hX) hC hS
  obtain ⟨-, -, -, -, -, ⟨t1, t2, t3⟩⟩ := L
  have a1 := t3 (i + 1) (by omega)
  have b1 := s3 (i + 1) (by omega)
  refine ⟨h2, _, L2, R2, fun Q => ?_⟩
  simp (disch := omega) only [↓rL_law_1455, ↓rL_law_1456, ↓rL_law_1457, ↓rL_law_1458, ↓rL_law_1459, ↓rL_law_1460, ↓rL_law_1461, ↓rL_law_1464, ↓rL_law_1465, ↓rL_law_1466, ↓rL_law_1467, ↓rL_law_1468, ↓rL_law_1469, ↓rL_law_1470, ↓rL_law_1473, ↓rL_law_1476, ↓rL_law_1477, ↓rL_law_t, ↓rmI_in, ↓shrI_in, ↓shlI_in, ↓okI_in, ↓bI_01, bI_z, bI_o, nn_neg, Int.cast_ofNat_Int, zlit, n_leT, n_leF, n_ltT, n_ltF, n_eqT, n_eqF, z_leT, z_leF, z_ltT, z_ltF, z_eqT, z_eqF, nn_add, nn_mul, nn_clamp, nn_lt, nn_le, nn_eq, nn_div, rmI_nn, okI_nn, nn_and, nn_or, nn_xor, shlI_1, shrI_nn, Cont_v, Cont_0, List.mem_cons, List.not_mem_nil, or_false, or_true, true_or, true_and, and_true, ite_not, if_true, if_false, not_true_eq_false, not_false_eq_true, false_or, false_and, and_false, eq_self, ↓reduceIte, reduceCtorEq, ↓rmL_in, ll_lit, ll_add, ll_mul, ll_toInt, ll_eq, ll_div, rmL_ll, ll_i2l, ll_l2i, lgc_e, kc, k9, t1, t2, s1, s2, a1, b1, ↓q1, ↓q2]
theorem lw_count (L : LInv h c X sc n f) {i : Nat} (hi : i + 7 ≤ n) (hn : n ≤ 448) (hC : 256 ≤ gC h) (hS : 2048 ≤ gS h) : LRnd h c sc n f i 1478 := by
  have hX := L.2.1
  have kc : gK h c = 1 := L.1.1.k0
  obtain ⟨h1, h2, L2, R2, ⟨s1, s2, s3⟩, k9, q1, q2⟩ := L.op ((k_count c X hX (f (i + 1))).s) (o_count (o := c + 31) (X := X) hX (f (i + 1))) (hX) hC hS
  obtain ⟨-, -, -, -, -, ⟨t1, t2, t3⟩⟩ := L
  have a1 := t3 (i + 1) (by omega)
  have b1 := s3 (i + 1) (by omega)
  refine ⟨h2, _, L2, R2, fun Q => ?_⟩
  simp (disch := omega) only [↓rL_law_1478, ↓rL_law_1479, ↓rL_law_1480, ↓rL_law_1481, ↓rL_law_1482, ↓rL_law_1483, ↓rL_law_1484, ↓rL_law_1487, ↓rL_law_1488, ↓rL_law_1489, ↓rL_law_1490, ↓rL_law_1491, ↓rL_law_1492, ↓rL_law_1493, ↓rL_law_1496, ↓rL_law_1499, ↓rL_law_1500, ↓rL_law_t, ↓rmI_in, ↓shrI_in, ↓shlI_in, ↓okI_in, ↓bI_01, bI_z, bI_o, nn_neg, Int.cast_ofNat_Int, zlit, n_leT, n_leF, n_ltT, n_ltF, n_eqT, n_eqF, z_leT, z_leF, z_ltT, z_ltF, z_eqT, z_eqF, nn_add, nn_mul, nn_clamp, nn_lt, nn_le, nn_eq, nn_div, rmI_nn, okI_nn, nn_and, nn_or, nn_xor, shlI_1, shrI_nn, Cont_v, Cont_0, List.mem_cons, List.not_mem_nil, or_false, or_true, true_or, true_and, and_true, ite_not, if_true, if_false, not_true_eq_false, not_false_eq_true, false_or, false_and, and_false, eq_self, ↓reduceIte, reduceCtorEq, ↓rmL_in, ll_lit, ll_add, ll_mul, ll_toInt, ll_eq, ll_div, rmL_ll, ll_i2l, ll_l2i, lgc_e, kc, k9, t1, t2, s1, s2, a1, b1, ↓q1, ↓q2]
theorem lw_status (L : LInv h c X sc n f) {i : Nat} (hi : i + 7 ≤ n) (hn : n ≤ 448) (hC : 256 ≤ gC h) (hS : 2048 ≤ gS h) : LRnd h c sc n f i 1501 := by
  have hX := L.2.1
  have kc : gK h c = 1 := L.1.1.k0
  obtain ⟨h1, h2, L2, R2, ⟨s1, s2, s3⟩, k9, q1, q2⟩ := L.op ((k_status c X).s) (o_status (o := c + 31) (X := X)) (hX) hC hS
  obtain ⟨-, -, -, -, -, ⟨t1, t2, t3⟩⟩ := L
  refine ⟨h2, _, L2, R2, fun Q => ?_⟩
  simp (disch := omega) only [↓rL_law_1501, ↓rL_law_1502, ↓rL_law_1505, ↓rL_law_1506, ↓rL_law_1509, ↓rL_law_1512, ↓rL_law_1513, ↓rL_law_t, ↓rmI_in, ↓shrI_in, ↓shlI_in, ↓okI_in, ↓bI_01, bI_z, bI_o, nn_neg, Int.cast_ofNat_Int, zlit, n_leT, n_leF, n_ltT, n_ltF, n_eqT, n_eqF, z_leT, z_leF, z_ltT, z_ltF, z_eqT, z_eqF, nn_add, nn_mul, nn_clamp, nn_lt, nn_le, nn_eq, nn_div, rmI_nn, okI_nn, nn_and, nn_or, nn_xor, shlI_1, shrI_nn, Cont_v, Cont_0, List.mem_cons, List.not_mem_nil, or_false, or_true, true_or, true_and, and_true, ite_not, if_true, if_false, not_true_eq_false, not_false_eq_true, false_or, false_and, and_false, eq_self, ↓reduceIte, reduceCtorEq, ↓rmL_in, ll_lit, ll_add, ll_mul, ll_toInt, ll_eq, ll_div, rmL_ll, ll_i2l, ll_l2i, lgc_e, kc, k9, t1, t2, s1, s2, ↓q1, ↓q2]
end LAW
theorem and63 (x : Int32) : ∃ k : Nat, k < 64 ∧ x &&& nI 63 = nI k := by
  refine ⟨(x &&& nI 63).toBitVec.toNat, ?_, ?_⟩
  · have e : (x &&& nI 63).toBitVec = x.toBitVec &&& 63#32 := rfl
    rw [e, BitVec.toNat_and]
    exact Nat.lt_of_le_of_lt Nat.and_le_right (by decide)
  · apply Int32.toBitVec_inj.mp
    show _ = BitVec.ofNat 32 _
    rw [BitVec.ofNat_toNat, BitVec.setWidth_eq]
theorem law_ok (hK : K_copy) (hA : K_as) {c sc n : Nat} {f : Nat → Int32} (hn : n ≤ 448) : ∀ q i h X, LInv h c X sc n f → n < i + 7 * q + 7 → i ≤ n → 256 * q ≤ gC h → 2048 * q ≤ gS h → ∃ h2, ∀ Q : Po, Ex mL_law Q 18 [.ref sc, .ref c, .ref (c + 31), .int (nI i)] [] h = Q (.inl (some (.int (nI 1)))) h2 := by
  intro q
  induction q with
  | zero =>
    intro i h X L h1 h2 hC hS
    have t1 := L.2.2.2.2.2.1
    have t2 := L.2.2.2.2.2.2.1
    refine ⟨h, fun Q => ?_⟩
    rw [rL_law_18]
    simp (disch := omega) only [↓rL_law_19, ↓rL_law_20, ↓rL_law_21, ↓rL_law_23, ↓rL_law_24, ↓rL_law_t, ↓rL_law_1520, ↓rL_law_1521, ↓rL_law_t, ↓rmI_in, ↓shrI_in, ↓shlI_in, ↓okI_in, ↓bI_01, bI_z, bI_o, nn_neg, Int.cast_ofNat_Int, zlit, n_leT, n_leF, n_ltT, n_ltF, n_eqT, n_eqF, z_leT, z_leF, z_ltT, z_ltF, z_eqT, z_eqF, nn_add, nn_mul, nn_clamp, nn_lt, nn_le, nn_eq, nn_div, rmI_nn, okI_nn, nn_and, nn_or, nn_xor, shlI_1, shrI_nn, Cont_v, Cont_0, List.mem_cons, List.not_mem_nil, or_false, or_true, true_or, true_and, and_true, ite_not, if_true, if_false, not_true_eq_false, not_false_eq_true, false_or, false_and, and_false, eq_self, ↓reduceIte, reduceCtorEq, zI_add, zI_sub, zI_mul, zI_neg, nn_neg, zI_lt, zI_le, zI_eq, zn_lt, nz_lt, zn_le, nz_le, zn_eq, nz_eq, zn_add, nz_add, zn_sub, nz_sub, nn_subz, t1, t2]
  | succ q ih =>
    intro i h X L h1 h2 hC hS
    have t1 := L.2.2.2.2.2.1
    have t2 := L.2.2.2.2.2.2.1
    by_cases hi : i + 7 ≤ n
    · have t3 := L.2.2.2.2.2.2.2 i (by omega)
      obtain ⟨k, hk, ek⟩ := and63 (f i)
      have st : ∀ Q : Po, Ex mL_law Q 18 [.ref sc, .ref c, .ref (c + 31), .int (nI i)] [] h = Ex mL_law Q (tswT 0 [204, 247, 290, 353, 376, 399, 412, 425, 438, 461, 494, 527, 560, 593, 616, 649, 682, 705, 748, 791, 814, 837, 870, 913, 956, 999, 1032, 1107, 1170, 1223, 1277, 1320, 1343, 1366, 1389, 1422, 1455, 1478, 1501] 1514 (nI k)) [.ref sc, .ref c, .ref (c + 31), .int (nI i)] [] h := by
        intro Q
        rw [rL_law_18]
        simp (disch := omega) only [↓rL_law_19, ↓rL_law_20, ↓rL_law_21, ↓rL_law_23, ↓rL_law_24, ↓rL_law_27, ↓rL_law_28, ↓rL_law_29, ↓rL_law_30, ↓rL_law_32, ↓rL_law_33, ↓rL_law_t, ↓rmI_in, ↓shrI_in, ↓shlI_in, ↓okI_in, ↓bI_01, bI_z, bI_o, nn_neg, Int.cast_ofNat_Int, zlit, n_leT, n_leF, n_ltT, n_ltF, n_eqT, n_eqF, z_leT, z_leF, z_ltT, z_ltF, z_eqT, z_eqF, nn_add, nn_mul, nn_clamp, nn_lt, nn_le, nn_eq, nn_div, rmI_nn, okI_nn, nn_and, nn_or, nn_xor, shlI_1, shrI_nn, Cont_v, Cont_0, List.mem_cons, List.not_mem_nil, or_false, or_true, true_or, true_and, and_true, ite_not, if_true, if_false, not_true_eq_false, not_false_eq_true, false_or, false_and, and_false, eq_self, ↓reduceIte, reduceCtorEq, zI_add, zI_sub, zI_mul, zI_neg, nn_neg, zI_lt, zI_le, zI_eq, zn_lt, nz_lt, zn_le, nz_le, zn_eq, nz_eq, zn_add, nz_add, zn_sub, nz_sub, nn_subz, t1, t2, t3, ek]
      have rnd : LRnd h c sc n f i (tswT 0 [204, 247, 290, 353, 376, 399, 412, 425, 438, 461, 494, 527, 560, 593, 616, 649, 682, 705, 748, 791, 814, 837, 870, 913, 956, 999, 1032, 1107, 1170, 1223, 1277, 1320, 1343, 1366, 1389, 1422, 1455, 1478, 1501] 1514 (nI k)) := by
        by_cases h39 : 39 ≤ k
        · have hd : (nI k).toInt < 0 ∨ (0 : Int) + 39 ≤ (nI k).toInt := by rw [nn_toInt (by omega)]; omega
          rw [tsw_d (ts := [_, _, _, _, _, _, _, _, _, _, _, _, _, _, _, _, _, _, _, _, _, _, _, _, _, _, _, _, _, _, _, _, _, _, _, _, _, _, _]) hd]
          exact ⟨h, X, L, ⟨by omega, by omega⟩, fun Q => rfl⟩
        · obtain rfl | rfl | rfl | rfl | rfl | rfl | rfl | rfl | rfl | rfl | rfl | rfl | rfl | rfl | rfl | rfl | rfl | rfl | rfl | rfl | rfl | rfl | rfl | rfl | rfl | rfl | rfl | rfl | rfl | rfl | rfl | rfl | rfl | rfl | rfl | rfl | rfl | rfl | rfl : k = 0 ∨ k = 1 ∨ k = 2 ∨ k = 3 ∨ k = 4 ∨ k = 5 ∨ k = 6 ∨ k = 7 ∨ k = 8 ∨ k = 9 ∨ k = 10 ∨ k = 11 ∨ k = 12 ∨ k = 13 ∨ k = 14 ∨ k = 15 ∨ k = 16 ∨ k = 17 ∨ k = 18 ∨ k = 19 ∨ k = 20 ∨ k = 21 ∨ k = 22 ∨ k = 23 ∨ k = 24 ∨ k = 25 ∨ k = 26 ∨ k = 27 ∨ k = 28 ∨ k = 29 ∨ k = 30 ∨ k = 31 ∨ k = 32 ∨ k = 33 ∨ k = 34 ∨ k = 35 ∨ k = 36 ∨ k = 37 ∨ k = 38 := by omega
          · exact lw_row L hi hn (by omega) (by omega)
          · exact lw_set L hi hn (by omega) (by omega)
          · exact lw_copy hK L hi hn (by omega) (by omega)
          · exact lw_drop L hi hn (by omega) (by omega)
          · exact lw_feed L hi hn (by omega) (by omega)
          · exact lw_library L hi hn (by omega) (by omega)
          · exact lw_fault L hi hn (by omega) (by omega)
          · exact lw_undo L hi hn (by omega) (by omega)
          · exact lw_nights L hi hn (by omega) (by omega)
          · exact lw_light L hi hn (by omega) (by omega)
          · exact lw_keepIt L hi hn (by omega) (by omega)
          · exact lw_change L hi hn (by omega) (by omega)
          · exact lw_move L hi hn (by omega) (by omega)
          · exact lw_catchIt L hi hn (by omega) (by omega)
          · exact lw_book L hi hn (by omega) (by omega)
          · exact lw_fish L hi hn (by omega) (by omega)
          · exact lw_stand L hi hn (by omega) (by omega)
          · exact lw_ahead L hi hn (by omega) (by omega)
          · exact lw_later L hi hn (by omega) (by omega)
          · exact lw_when L hi hn (by omega) (by omega)
          · exact lw_first L hi hn (by omega) (by omega)
          · exact lw_hole L hi hn (by omega) (by omega)
          · exact lw_order L hi hn (by omega) (by omega)
          · exact lw_lamp L hi hn (by omega) (by omega)
          · exact lw_caught L hi hn (by omega) (by omega)
          · exact lw_grams L hi hn (by omega) (by omega)
          · exact lw_who L hi hn (by omega) (by omega)
          · exact lw_paste L hi hn (by omega) (by omega)
          · exact lw_hungers L hi hn (by omega) (by omega)
          · exact lw_dark L hi hn (by omega) (by omega)
          · exact lw_drawn L hi hn (by omega) (by omega)
          · exact lw_image L hi hn (by omega) (by omega)
          · exact lw_restore L hi hn (by omega) (by omega)
          · exact lw_kind L hi hn (by omega) (by omega)
          · exact lw_as hA L hi hn (by omega) (by omega)
          · exact lw_ask L hi hn (by omega) (by omega)
          · exact lw_trace L hi hn (by omega) (by omega)
          · exact lw_count L hi hn (by omega) (by omega)
          · exact lw_status L hi hn (by omega) (by omega)
      obtain ⟨hb, X2, L2, ⟨r1, r2⟩, r3⟩ := rnd
      obtain ⟨h3, hq⟩ := ih (i + 7) hb X2 L2 (by omega) (by omega) (by omega) (by omega)
      refine ⟨h3, fun Q => (st Q).trans ((r3 Q).trans (Eq.trans ?_ (hq Q)))⟩
      simp (disch := omega) only [↓rL_law_1514, ↓rL_law_1517, ↓rL_law_t, ↓rmI_in, ↓shrI_in, ↓shlI_in, ↓okI_in, ↓bI_01, bI_z, bI_o, nn_neg, Int.cast_ofNat_Int, zlit, n_leT, n_leF, n_ltT, n_ltF, n_eqT, n_eqF, z_leT, z_leF, z_ltT, z_ltF, z_eqT, z_eqF, nn_add, nn_mul, nn_clamp, nn_lt, nn_le, nn_eq, nn_div, rmI_nn, okI_nn, nn_and, nn_or, nn_xor, shlI_1, shrI_nn, Cont_v, Cont_0, List.mem_cons, List.not_mem_nil, or_false, or_true, true_or, true_and, and_true, ite_not, if_true, if_false, not_true_eq_false, not_false_eq_true, false_or, false_and, and_false, eq_self, ↓reduceIte, reduceCtorEq]
    · refine ⟨h, fun Q => ?_⟩
      rw [rL_law_18]
      simp (disch := omega) only [↓rL_law_19, ↓rL_law_20, ↓rL_law_21, ↓rL_law_23, ↓rL_law_24, ↓rL_law_t, ↓rL_law_1520, ↓rL_law_1521, ↓rL_law_t, ↓rmI_in, ↓shrI_in, ↓shlI_in, ↓okI_in, ↓bI_01, bI_z, bI_o, nn_neg, Int.cast_ofNat_Int, zlit, n_leT, n_leF, n_ltT, n_ltF, n_eqT, n_eqF, z_leT, z_leF, z_ltT, z_ltF, z_eqT, z_eqF, nn_add, nn_mul, nn_clamp, nn_lt, nn_le, nn_eq, nn_div, rmI_nn, okI_nn, nn_and, nn_or, nn_xor, shlI_1, shrI_nn, Cont_v, Cont_0, List.mem_cons, List.not_mem_nil, or_false, or_true, true_or, true_and, and_true, ite_not, if_true, if_false, not_true_eq_false, not_false_eq_true, false_or, false_and, and_false, eq_self, ↓reduceIte, reduceCtorEq, zI_add, zI_sub, zI_mul, zI_neg, nn_neg, zI_lt, zI_le, zI_eq, zn_lt, nz_lt, zn_le, nz_le, zn_eq, nz_eq, zn_add, nz_add, zn_sub, nz_sub, nn_subz, t1, t2]
