/-! THE CLASS: drawn -/
section CQ8
variable (c : Nat) (X : XS)
theorem k_fault : COp mX0_fault [] c X (.int (nI (xl X))) X := by
  intro h H hC hS
  have M := H.1
  have g2 := H.2.2.2.1.2.1
  refine ⟨h, H, Kp.rfl' h c, fun Q => ?_⟩
  simp (disch := omega) only [↓rX0_fault_0, ↓rX0_fault_1, ↓rX0_fault_4, ↓rX0_fault_t, ↓rmI_in, ↓shrI_in, ↓shlI_in, ↓okI_in, ↓bI_01, bI_z, bI_o, nn_neg, Int.cast_ofNat_Int, zlit, n_leT, n_leF, n_ltT, n_ltF, n_eqT, n_eqF, z_leT, z_leF, z_ltT, z_ltF, z_eqT, z_eqF, nn_add, nn_mul, nn_clamp, nn_lt, nn_le, nn_eq, nn_div, rmI_nn, okI_nn, nn_and, nn_or, nn_xor, shlI_1, shrI_nn, Cont_v, Cont_0, List.mem_cons, List.not_mem_nil, or_false, or_true, true_or, true_and, and_true, ite_not, if_true, if_false, not_true_eq_false, not_false_eq_true, false_or, false_and, and_false, eq_self, ↓reduceIte, reduceCtorEq, CM.k0 M, CM.k1 M, CM.l1 M, CM.k2 M, CM.l2 M, CM.k19 M, CM.l19 M, CM.k20 M, CM.l20 M, CM.k23 M, CM.l23 M, CM.k24 M, CM.l24 M, CM.k25 M, CM.l25 M, CM.f3 M, CM.f5 M, CM.f11 M, CM.f13 M, CM.f15 M, CM.f19 M, CM.f25 M, CM.f27 M, CM.f31 M, g2]
theorem k_status : COp mX0_status [] c X (.int (nI (xu X))) X := by
  intro h H hC hS
  have M := H.1
  have g2 := H.2.2.2.1.2.2.2
  refine ⟨h, H, Kp.rfl' h c, fun Q => ?_⟩
  simp (disch := omega) only [↓rX0_status_0, ↓rX0_status_1, ↓rX0_status_4, ↓rX0_status_t, ↓rmI_in, ↓shrI_in, ↓shlI_in, ↓okI_in, ↓bI_01, bI_z, bI_o, nn_neg, Int.cast_ofNat_Int, zlit, n_leT, n_leF, n_ltT, n_ltF, n_eqT, n_eqF, z_leT, z_leF, z_ltT, z_ltF, z_eqT, z_eqF, nn_add, nn_mul, nn_clamp, nn_lt, nn_le, nn_eq, nn_div, rmI_nn, okI_nn, nn_and, nn_or, nn_xor, shlI_1, shrI_nn, Cont_v, Cont_0, List.mem_cons, List.not_mem_nil, or_false, or_true, true_or, true_and, and_true, ite_not, if_true, if_false, not_true_eq_false, not_false_eq_true, false_or, false_and, and_false, eq_self, ↓reduceIte, reduceCtorEq, CM.k0 M, CM.k1 M, CM.l1 M, CM.k2 M, CM.l2 M, CM.k19 M, CM.l19 M, CM.k20 M, CM.l20 M, CM.k23 M, CM.l23 M, CM.k24 M, CM.l24 M, CM.k25 M, CM.l25 M, CM.f3 M, CM.f5 M, CM.f11 M, CM.f13 M, CM.f15 M, CM.f19 M, CM.f25 M, CM.f27 M, CM.f31 M, g2]
theorem k_trace (hX : XOK X) (x : Int32) : COp mX0_trace [.int x] c X (.int (sp_trace X x)) X := by
  intro h H hC hS
  have M := H.1
  have H' := H
  obtain ⟨-, -, -, -, -, -, -, ow, q, mx, u, w, tr, -, -, -, ⟨t1, t2, t3, ⟨t4, t5, t6⟩, ⟨t7, t8, t9⟩, -⟩, -⟩ := H'
  have hlen := hX.2.2.2.2.2.1.1
  refine ⟨h, H, Kp.rfl' h c, fun Q => ?_⟩
  unfold sp_trace
  by_cases hx : inR x 0 (((xy X).length : Int) - 1)
  · rw [if_pos hx]
    obtain ⟨k, rfl, k1, k2, k3⟩ := inR_nn hx (by omega)
    rw [nt_nn k3]
    have h9 := t9 k (by omega)
    simp (disch := omega) only [↓rX0_trace_0, ↓rX0_trace_1, ↓rX0_trace_2, ↓rX0_trace_3, ↓rX0_trace_4, ↓rX0_trace_7, ↓rX0_trace_10, ↓rX0_trace_11, ↓rX0_trace_12, ↓rX0_trace_13, ↓rX0_trace_16, ↓rX0_trace_19, ↓rX0_trace_20, ↓rX0_trace_23, ↓rX0_trace_26, ↓rX0_trace_27, ↓rX0_trace_28, ↓rX0_trace_31, ↓rX0_trace_34, ↓rX0_trace_t, ↓rmI_in, ↓shrI_in, ↓shlI_in, ↓okI_in, ↓bI_01, bI_z, bI_o, nn_neg, Int.cast_ofNat_Int, zlit, n_leT, n_leF, n_ltT, n_ltF, n_eqT, n_eqF, z_leT, z_leF, z_ltT, z_ltF, z_eqT, z_eqF, nn_add, nn_mul, nn_clamp, nn_lt, nn_le, nn_eq, nn_div, rmI_nn, okI_nn, nn_and, nn_or, nn_xor, shlI_1, shrI_nn, Cont_v, Cont_0, List.mem_cons, List.not_mem_nil, or_false, or_true, true_or, true_and, and_true, ite_not, if_true, if_false, not_true_eq_false, not_false_eq_true, false_or, false_and, and_false, eq_self, ↓reduceIte, reduceCtorEq, l_toInt, sub_toInt, l64_0, l64_1, l64_2, l64_3, l64_5, l64_7, l64_9, l64_10, l64_12, l64_24, l64_48, l64_57, l64_60, l64_97, l64_122, l64_255, l64_999, l64_999999, l64_m, ↓c0_isIn, nn_toInt, CM.k0 M, CM.k1 M, CM.l1 M, CM.k2 M, CM.l2 M, CM.k19 M, CM.l19 M, CM.k20 M, CM.l20 M, CM.k23 M, CM.l23 M, CM.k24 M, CM.l24 M, CM.k25 M, CM.l25 M, CM.f3 M, CM.f5 M, CM.f11 M, CM.f13 M, CM.f15 M, CM.f19 M, CM.f25 M, CM.f27 M, CM.f31 M, t1, t4, t5, t6, t7, t8, h9]
  · rw [if_neg hx]
    simp (disch := omega) only [↓rX0_trace_0, ↓rX0_trace_1, ↓rX0_trace_2, ↓rX0_trace_3, ↓rX0_trace_4, ↓rX0_trace_7, ↓rX0_trace_10, ↓rX0_trace_11, ↓rX0_trace_12, ↓rX0_trace_13, ↓rX0_trace_16, ↓rX0_trace_19, ↓rX0_trace_20, ↓rX0_trace_23, ↓rX0_trace_26, ↓rX0_trace_27, ↓rX0_trace_28, ↓rX0_trace_31, ↓rX0_trace_34, ↓rX0_trace_t, ↓rmI_in, ↓shrI_in, ↓shlI_in, ↓okI_in, ↓bI_01, bI_z, bI_o, nn_neg, Int.cast_ofNat_Int, zlit, n_leT, n_leF, n_ltT, n_ltF, n_eqT, n_eqF, z_leT, z_leF, z_ltT, z_ltF, z_eqT, z_eqF, nn_add, nn_mul, nn_clamp, nn_lt, nn_le, nn_eq, nn_div, rmI_nn, okI_nn, nn_and, nn_or, nn_xor, shlI_1, shrI_nn, Cont_v, Cont_0, List.mem_cons, List.not_mem_nil, or_false, or_true, true_or, true_and, and_true, ite_not, if_true, if_false, not_true_eq_false, not_false_eq_true, false_or, false_and, and_false, eq_self, ↓reduceIte, reduceCtorEq, l_toInt, sub_toInt, l64_0, l64_1, l64_2, l64_3, l64_5, l64_7, l64_9, l64_10, l64_12, l64_24, l64_48, l64_57, l64_60, l64_97, l64_122, l64_255, l64_999, l64_999999, l64_m, ↓c0_isIn, nn_toInt, CM.k0 M, CM.k1 M, CM.l1 M, CM.k2 M, CM.l2 M, CM.k19 M, CM.l19 M, CM.k20 M, CM.l20 M, CM.k23 M, CM.l23 M, CM.k24 M, CM.l24 M, CM.k25 M, CM.l25 M, CM.f3 M, CM.f5 M, CM.f11 M, CM.f13 M, CM.f15 M, CM.f19 M, CM.f25 M, CM.f27 M, CM.f31 M, t1, t4, t5, t6, t7, t8, hx, cN]
end CQ8
