/-! THE CLASS: undo, restore -/
theorem XOK.um {X : XS} {m : Nat} (hX : XOK X) (hm : m ≤ xm X) : XOK (um X m) := by
  obtain ⟨x1, ⟨x2, x3⟩, x4⟩ := hX
  exact ⟨x1, ⟨show m ≤ 24 by omega, fun k hk => x3 k (show k < xm X by have : k < m := hk; omega)⟩, x4⟩
theorem XOK.us {X : XS} {t : St} (hX : XOK X) (hW : WF t) (h4 : (t 4 : Nat) ≤ 999) (h2 : 0 < (t 2 : Nat)) : XOK (us X t) := by
  obtain ⟨x1, ⟨x2, x3⟩, x4, x5⟩ := hX
  exact ⟨⟨hW, h4⟩, ⟨x2, fun k hk => ⟨(x3 k hk).1, (x3 k hk).2.1, (x3 k hk).2.2.1, h2⟩⟩, fun k hk hx => ⟨(x4 k hk hx).1, (x4 k hk hx).2.1, (x4 k hk hx).2.2.1, h2⟩, x5⟩
section CA1
variable (c : Nat) (X : XS)
theorem k_undo (hX : XOK X) : COp mX0_undo [] c X (.int (mu_undo X).1) (mu_undo X).2 := by
  intro h H hC hS
  have M := H.1
  have g16 := H.2.2.2.1.2.2.1
  have hm24 : xm X ≤ 24 := hX.2.1.1
  have hc := H.2.2.1
  unfold mu_undo
  by_cases h0 : xm X = 0
  · rw [if_pos h0]
    refine ⟨h, H, Kp.rfl' h c, fun Q => ?_⟩
    simp (disch := omega) only [↓rX0_undo_0, ↓rX0_undo_1, ↓rX0_undo_4, ↓rX0_undo_7, ↓rX0_undo_9, ↓rX0_undo_10, ↓rX0_undo_11, ↓rX0_undo_12, ↓rX0_undo_15, ↓rX0_undo_16, ↓rX0_undo_17, ↓rX0_undo_20, ↓rX0_undo_21, ↓rX0_undo_24, ↓rX0_undo_25, ↓rX0_undo_28, ↓rX0_undo_29, ↓rX0_undo_32, ↓rX0_undo_33, ↓rX0_undo_36, ↓rX0_undo_37, ↓rX0_undo_38, ↓rX0_undo_41, ↓rX0_undo_t, ↓rmI_in, ↓shrI_in, ↓shlI_in, ↓okI_in, ↓bI_01, bI_z, bI_o, nn_neg, Int.cast_ofNat_Int, zlit, n_leT, n_leF, n_ltT, n_ltF, n_eqT, n_eqF, z_leT, z_leF, z_ltT, z_ltF, z_eqT, z_eqF, nn_add, nn_mul, nn_clamp, nn_lt, nn_le, nn_eq, nn_div, rmI_nn, okI_nn, nn_and, nn_or, nn_xor, shlI_1, shrI_nn, Cont_v, Cont_0, List.mem_cons, List.not_mem_nil, or_false, or_true, true_or, true_and, and_true, ite_not, if_true, if_false, not_true_eq_false, not_false_eq_true, false_or, false_and, and_false, eq_self, ↓reduceIte, reduceCtorEq, CM.k0 M, CM.k1 M, CM.l1 M, CM.k2 M, CM.l2 M, CM.k19 M, CM.l19 M, CM.k20 M, CM.l20 M, CM.k23 M, CM.l23 M, CM.k24 M, CM.l24 M, CM.k25 M, CM.l25 M, CM.f3 M, CM.f5 M, CM.f11 M, CM.f13 M, CM.f15 M, CM.f19 M, CM.f25 M, CM.f27 M, CM.f31 M, g16, h0, cS]
  · rw [if_neg h0]
    obtain ⟨B1, B2⟩ := H.acts (m := xm X - 1) hX (by omega)
    have H' := H
    obtain ⟨-, -, -, -, -, ⟨n, p, tf, tk, L, hn, hLL, etf⟩, -, ow, q, mx, u, w, tr, hPa, -⟩ := H'
    obtain ⟨p1, p2, p3, p4, p5⟩ := hPa
    obtain ⟨n2, pq, tf2, tk2, L2, hn2, hLL2, etf2⟩ := p4 (xm X - 1) (by omega)
    obtain ⟨⟨a1, a2⟩, -⟩ := p3 (xm X - 1) (by omega)
    have hq := p2 (xm X - 1) (by omega)
    rw [if_pos (by omega)] at hq
    have hW2 := (hX.2.1.2 (xm X - 1) (by omega)).1
    have L1 : HL (pF h 16 c (.int (nI (xm X - 1)))) (c + 3) (xs X) n p tf tk := L.sm (fun k hk => pF_sm (by omega))
    have L3 : HL (pF h 16 c (.int (nI (xm X - 1)))) (q (xm X - 1)) (xA X (xm X - 1)) n2 pq tf2 tk2 := L2.sm (fun k hk => pF_sm (by omega))
    have hP : PrL h (pF h 16 c (.int (nI (xm X - 1)))) := ⟨Nat.le_refl _, fun x _ hk => pF_sm (fun e => by rw [e, M.k0] at hk; omega)⟩
    obtain ⟨C1, C2⟩ := B1.lib (n' := cpN n n2) (tk' := tk) (hX.um (by omega)) hW2 (cpN_b hW2.1.1 hn2) (hLL2.keep hW2 hP) rfl
    refine ⟨_, C1, (B2.trans C2).kp (by omega) (by omega), fun Q => ?_⟩
    have hb : ∀ Q : Po, Ex mX1_become Q 0 [.ref (c + 3), .ref (q (xm X - 1))] [] (pF h 16 c (.int (nI (xm X - 1)))) = Q (.inl (some (.ref (c + 3)))) (LB (pF h 16 c (.int (nI (xm X - 1)))) (c + 3) (xA X (xm X - 1)) (cpN n n2) pq (zI (-1000000)) tk) := by
      intro Q
      have := c1_become Q (pF h 16 c (.int (nI (xm X - 1)))) (c + 3) (xs X) n p tf tk L1.2.2 L3 (by omega)
      rwa [L1.eq] at this
    have k3 := L.k0
    have kq := L2.k0
    simp (disch := omega) only [↓rX0_undo_0, ↓rX0_undo_1, ↓rX0_undo_4, ↓rX0_undo_7, ↓rX0_undo_9, ↓rX0_undo_10, ↓rX0_undo_11, ↓rX0_undo_12, ↓rX0_undo_15, ↓rX0_undo_16, ↓rX0_undo_17, ↓rX0_undo_20, ↓rX0_undo_21, ↓rX0_undo_24, ↓rX0_undo_25, ↓rX0_undo_28, ↓rX0_undo_29, ↓rX0_undo_32, ↓rX0_undo_33, ↓rX0_undo_36, ↓rX0_undo_37, ↓rX0_undo_38, ↓rX0_undo_41, ↓rX0_undo_t, lG_32, lG_34, lG_36, lG_46, lG_48, lG_56, lG_58, lG_39, lG_41, lG_43, lG_45, lG_53, lG_55, lG_51, lG_60, lG_63, lI_1, lI_2, lI_4, lI_6, lI_7, lI_3, lP_32, lP_34, lP_36, lP_46, lP_48, lP_56, lP_58, lP_51, lP_60, lP_63, lW_1, lW_2, lW_4, lW_6, lW_7, lW_3, lo_K, lo_L, lo_R, lo_N, lo_C, lo_S, lo_F, lo_I, ↓rmI_in, ↓shrI_in, ↓shlI_in, ↓okI_in, ↓bI_01, bI_z, bI_o, nn_neg, Int.cast_ofNat_Int, zlit, n_leT, n_leF, n_ltT, n_ltF, n_eqT, n_eqF, z_leT, z_leF, z_ltT, z_ltF, z_eqT, z_eqF, nn_add, nn_mul, nn_clamp, nn_lt, nn_le, nn_eq, nn_div, rmI_nn, okI_nn, nn_and, nn_or, nn_xor, shlI_1, shrI_nn, Cont_v, Cont_0, List.mem_cons, List.not_mem_nil, or_false, or_true, true_or, true_and, and_true, ite_not, if_true, if_false, not_true_eq_false, not_false_eq_true, false_or, false_and, and_false, eq_self, ↓reduceIte, reduceCtorEq, CM.k0 M, CM.k1 M, CM.l1 M, CM.k2 M, CM.l2 M, CM.k19 M, CM.l19 M, CM.k20 M, CM.l20 M, CM.k23 M, CM.l23 M, CM.k24 M, CM.l24 M, CM.k25 M, CM.l25 M, CM.f3 M, CM.f5 M, CM.f11 M, CM.f13 M, CM.f15 M, CM.f19 M, CM.f25 M, CM.f27 M, CM.f31 M, g16, h0, nn_sub, gF_pF, gK_pF, gL_pF, gR_pF, hq, rf_some, k3, kq, ↓hb]
theorem k_restore (hX : XOK X) (x : Int32) : COp mX0_restore [.int x] c X (.int (mu_restore X x).1) (mu_restore X x).2 := by
  intro h H hC hS
  have M := H.1
  have hc := H.2.2.1
  unfold mu_restore
  by_cases hx : inR x 0 1
  · rw [if_pos hx]
    obtain ⟨k, rfl, q1, q2, q3⟩ := inR_nn hx (by omega)
    rw [nt_nn q3]
    have H' := H
    obtain ⟨-, -, -, -, -, ⟨n, p, tf, tk, L, hn, hLL, etf⟩, -, ow, q, mx, u, w, tr, -, hIm, -⟩ := H'
    obtain ⟨p1, p2, p3⟩ := hIm
    have hr := p1 k (by omega)
    cases hk : xk X k with
    | false =>
      rw [if_pos rfl]
      rw [hk, if_neg (by decide)] at hr
      refine ⟨h, H, Kp.rfl' h c, fun Q => ?_⟩
      simp (disch := omega) only [↓rX0_restore_0, ↓rX0_restore_1, ↓rX0_restore_2, ↓rX0_restore_3, ↓rX0_restore_4, ↓rX0_restore_7, ↓rX0_restore_10, ↓rX0_restore_12, ↓rX0_restore_13, ↓rX0_restore_14, ↓rX0_restore_17, ↓rX0_restore_18, ↓rX0_restore_19n, ↓rX0_restore_19, ↓rX0_restore_22, ↓rX0_restore_24, ↓rX0_restore_25, ↓rX0_restore_26, ↓rX0_restore_29, ↓rX0_restore_30, ↓rX0_restore_33, ↓rX0_restore_34, ↓rX0_restore_35, ↓rX0_restore_38, ↓rX0_restore_39, ↓rX0_restore_40, ↓rX0_restore_41, ↓rX0_restore_44, ↓rX0_restore_45, ↓rX0_restore_t, ↓rmI_in, ↓shrI_in, ↓shlI_in, ↓okI_in, ↓bI_01, bI_z, bI_o, nn_neg, Int.cast_ofNat_Int, zlit, n_leT, n_leF, n_ltT, n_ltF, n_eqT, n_eqF, z_leT, z_leF, z_ltT, z_ltF, z_eqT, z_eqF, nn_add, nn_mul, nn_clamp, nn_lt, nn_le, nn_eq, nn_div, rmI_nn, okI_nn, nn_and, nn_or, nn_xor, shlI_1, shrI_nn, Cont_v, Cont_0, List.mem_cons, List.not_mem_nil, or_false, or_true, true_or, true_and, and_true, ite_not, if_true, if_false, not_true_eq_false, not_false_eq_true, false_or, false_and, and_false, eq_self, ↓reduceIte, reduceCtorEq, l_toInt, sub_toInt, l64_0, l64_1, l64_2, l64_3, l64_5, l64_7, l64_9, l64_10, l64_12, l64_24, l64_48, l64_57, l64_60, l64_97, l64_122, l64_255, l64_999, l64_999999, l64_m, ↓c0_isIn, nn_toInt, CM.k0 M, CM.k1 M, CM.l1 M, CM.k2 M, CM.l2 M, CM.k19 M, CM.l19 M, CM.k20 M, CM.l20 M, CM.k23 M, CM.l23 M, CM.k24 M, CM.l24 M, CM.k25 M, CM.l25 M, CM.f3 M, CM.f5 M, CM.f11 M, CM.f13 M, CM.f15 M, CM.f19 M, CM.f25 M, CM.f27 M, CM.f31 M, hr, rf_none, cS]
    | true =>
      rw [if_neg (by decide)]
      rw [hk, if_pos rfl] at hr
      obtain ⟨⟨a1, a2⟩, ⟨n2, pq, tf2, tk2, L2, hn2, hLL2, etf2⟩, -⟩ := p2 k (by omega) hk
      have hx2 := hX.2.2.1 k (by omega) hk
      have hW2 := hx2.1
      obtain ⟨C1, C2⟩ := H.lib (n' := cpN n n2) (tk' := tk) hX hW2 (cpN_b hW2.1.1 hn2) hLL2 rfl
      obtain ⟨B1, B2⟩ := C1.acts (m := 0) (hX.us hW2 hx2.2.1 hx2.2.2.1) (by omega)
      refine ⟨_, B1, (C2.trans B2).kp (by omega) (by omega), fun Q => ?_⟩
      have hb : ∀ Q : Po, Ex mX1_become Q 0 [.ref (c + 3), .ref (u k)] [] h = Q (.inl (some (.ref (c + 3)))) (LB h (c + 3) (xB X k) (cpN n n2) pq (zI (-1000000)) tk) := by
        intro Q
        have := c1_become Q h (c + 3) (xs X) n p tf tk L.2.2 L2 (by omega)
        rwa [L.eq] at this
      have k3 := L.k0
      have kq := L2.k0
      simp (disch := omega) only [↓rX0_restore_0, ↓rX0_restore_1, ↓rX0_restore_2, ↓rX0_restore_3, ↓rX0_restore_4, ↓rX0_restore_7, ↓rX0_restore_10, ↓rX0_restore_12, ↓rX0_restore_13, ↓rX0_restore_14, ↓rX0_restore_17, ↓rX0_restore_18, ↓rX0_restore_19n, ↓rX0_restore_19, ↓rX0_restore_22, ↓rX0_restore_24, ↓rX0_restore_25, ↓rX0_restore_26, ↓rX0_restore_29, ↓rX0_restore_30, ↓rX0_restore_33, ↓rX0_restore_34, ↓rX0_restore_35, ↓rX0_restore_38, ↓rX0_restore_39, ↓rX0_restore_40, ↓rX0_restore_41, ↓rX0_restore_44, ↓rX0_restore_45, ↓rX0_restore_t, lG_32, lG_34, lG_36, lG_46, lG_48, lG_56, lG_58, lG_39, lG_41, lG_43, lG_45, lG_53, lG_55, lG_51, lG_60, lG_63, lI_1, lI_2, lI_4, lI_6, lI_7, lI_3, lP_32, lP_34, lP_36, lP_46, lP_48, lP_56, lP_58, lP_51, lP_60, lP_63, lW_1, lW_2, lW_4, lW_6, lW_7, lW_3, lo_K, lo_L, lo_R, lo_N, lo_C, lo_S, lo_F, lo_I, ↓rmI_in, ↓shrI_in, ↓shlI_in, ↓okI_in, ↓bI_01, bI_z, bI_o, nn_neg, Int.cast_ofNat_Int, zlit, n_leT, n_leF, n_ltT, n_ltF, n_eqT, n_eqF, z_leT, z_leF, z_ltT, z_ltF, z_eqT, z_eqF, nn_add, nn_mul, nn_clamp, nn_lt, nn_le, nn_eq, nn_div, rmI_nn, okI_nn, nn_and, nn_or, nn_xor, shlI_1, shrI_nn, Cont_v, Cont_0, List.mem_cons, List.not_mem_nil, or_false, or_true, true_or, true_and, and_true, ite_not, if_true, if_false, not_true_eq_false, not_false_eq_true, false_or, false_and, and_false, eq_self, ↓reduceIte, reduceCtorEq, l_toInt, sub_toInt, l64_0, l64_1, l64_2, l64_3, l64_5, l64_7, l64_9, l64_10, l64_12, l64_24, l64_48, l64_57, l64_60, l64_97, l64_122, l64_255, l64_999, l64_999999, l64_m, ↓c0_isIn, nn_toInt, CM.k0 M, CM.k1 M, CM.l1 M, CM.k2 M, CM.l2 M, CM.k19 M, CM.l19 M, CM.k20 M, CM.l20 M, CM.k23 M, CM.l23 M, CM.k24 M, CM.l24 M, CM.k25 M, CM.l25 M, CM.f3 M, CM.f5 M, CM.f11 M, CM.f13 M, CM.f15 M, CM.f19 M, CM.f25 M, CM.f27 M, CM.f31 M, hr, rf_some, k3, kq, ↓hb]
  · rw [if_neg hx]
    refine ⟨h, H, Kp.rfl' h c, fun Q => ?_⟩
    simp (disch := omega) only [↓rX0_restore_0, ↓rX0_restore_1, ↓rX0_restore_2, ↓rX0_restore_3, ↓rX0_restore_4, ↓rX0_restore_7, ↓rX0_restore_10, ↓rX0_restore_12, ↓rX0_restore_13, ↓rX0_restore_14, ↓rX0_restore_17, ↓rX0_restore_18, ↓rX0_restore_19n, ↓rX0_restore_19, ↓rX0_restore_22, ↓rX0_restore_24, ↓rX0_restore_25, ↓rX0_restore_26, ↓rX0_restore_29, ↓rX0_restore_30, ↓rX0_restore_33, ↓rX0_restore_34, ↓rX0_restore_35, ↓rX0_restore_38, ↓rX0_restore_39, ↓rX0_restore_40, ↓rX0_restore_41, ↓rX0_restore_44, ↓rX0_restore_45, ↓rX0_restore_t, ↓rmI_in, ↓shrI_in, ↓shlI_in, ↓okI_in, ↓bI_01, bI_z, bI_o, nn_neg, Int.cast_ofNat_Int, zlit, n_leT, n_leF, n_ltT, n_ltF, n_eqT, n_eqF, z_leT, z_leF, z_ltT, z_ltF, z_eqT, z_eqF, nn_add, nn_mul, nn_clamp, nn_lt, nn_le, nn_eq, nn_div, rmI_nn, okI_nn, nn_and, nn_or, nn_xor, shlI_1, shrI_nn, Cont_v, Cont_0, List.mem_cons, List.not_mem_nil, or_false, or_true, true_or, true_and, and_true, ite_not, if_true, if_false, not_true_eq_false, not_false_eq_true, false_or, false_and, and_false, eq_self, ↓reduceIte, reduceCtorEq, l_toInt, sub_toInt, l64_0, l64_1, l64_2, l64_3, l64_5, l64_7, l64_9, l64_10, l64_12, l64_24, l64_48, l64_57, l64_60, l64_97, l64_122, l64_255, l64_999, l64_999999, l64_m, ↓c0_isIn, hx, cB]
end CA1
/-! A NEW LIBRARY -/
def LI1 (g : Hp) (a : Nat) : Hp := pF (nA (pF (nA (pF (nA (pF (nA g 51 6) 39 a (.ref (a + 1))) 51 6) 41 a (.ref (a + 2))) 51 6) 43 a (.ref (a + 3))) 51 6) 45 a (.ref (a + 4))
def LI2 (g : Hp) (a u : Nat) : Hp := pF (pF (pF (nO (LI1 g a) 14 3) 158 (a + 5) (.int (nI 0))) 161 (a + 5) (.ref u)) 51 a (.ref (a + 5))
def LI (g : Hp) (a u : Nat) : Hp := pF (pF (nA (pF (nA (LI2 g a u) 51 5) 53 a (.ref (a + 6))) 51 5) 55 a (.ref (a + 7))) 60 a (.int (zI (-1000000)))
theorem c1_init {g : Hp} {a u : Nat} (ka : gK g a = 2) (hN : gN g = a + 1) (hu : gF g 1001 0 = .ref u) (ha : 0 < a) (hC : 7 ≤ gC g) (hS : 37 ≤ gS g) (Q : Po) : Ex mX1_init Q 0 [.ref a] [] g = Q (.inl none) (LI g a u) := by
  have ne0 : ¬ (0 : Nat) = a := by omega
  unfold LI LI2 LI1
  simp (disch := omega) only [↓rX1_init_0, ↓rX1_init_1, ↓rX1_init_4, ↓rX1_init_5, ↓rX1_init_7, ↓rX1_init_9, ↓rX1_init_9n, ↓rX1_init_12, ↓rX1_init_13, ↓rX1_init_15, ↓rX1_init_17, ↓rX1_init_17n, ↓rX1_init_20, ↓rX1_init_21, ↓rX1_init_23, ↓rX1_init_25, ↓rX1_init_25n, ↓rX1_init_28, ↓rX1_init_29, ↓rX1_init_31, ↓rX1_init_33, ↓rX1_init_33n, ↓rX1_init_36, ↓rX1_init_37, ↓rX1_init_40, ↓rX1_init_41, ↓rX1_init_44, ↓rX1_init_44n, ↓rX1_init_47, ↓rX1_init_48, ↓rX1_init_49, ↓rX1_init_51, ↓rX1_init_51n, ↓rX1_init_54, ↓rX1_init_55, ↓rX1_init_56, ↓rX1_init_58, ↓rX1_init_58n, ↓rX1_init_61, ↓rX1_init_62, ↓rX1_init_64, ↓rX1_init_67, ↓rX1_init_t, ↓rJ2_init_0, ↓rJ2_init_0n, ↓rJ2_init_1, ↓rJ2_init_4, ↓rJ2_init_4n, ↓rJ2_init_5, ↓rJ2_init_8, ↓rJ2_init_8n, ↓rJ2_init_11, ↓rJ2_init_t, ↓rJ1_init_0, ↓rJ1_init_0n, ↓rJ1_init_1, ↓rJ1_init_4, ↓rJ1_init_4n, ↓rJ1_init_5, ↓rJ1_init_6, ↓rJ1_init_9, ↓rJ1_init_t, ↓rJ0_init_0, ↓rJ0_init_0n, ↓rJ0_init_1, ↓rJ0_init_4, ↓rJ0_init_t, ↓rmI_in, ↓shrI_in, ↓shlI_in, ↓okI_in, ↓bI_01, bI_z, bI_o, nn_neg, Int.cast_ofNat_Int, zlit, n_leT, n_leF, n_ltT, n_ltF, n_eqT, n_eqF, z_leT, z_leF, z_ltT, z_ltF, z_eqT, z_eqF, nn_add, nn_mul, nn_clamp, nn_lt, nn_le, nn_eq, nn_div, rmI_nn, okI_nn, nn_and, nn_or, nn_xor, shlI_1, shrI_nn, Cont_v, Cont_0, List.mem_cons, List.not_mem_nil, or_false, or_true, true_or, true_and, and_true, ite_not, if_true, if_false, not_true_eq_false, not_false_eq_true, false_or, false_and, and_false, eq_self, ↓reduceIte, reduceCtorEq, gK_pF, gK_nA, gK_nO, gF_pF, gF_nA, gF_nO, gN_pF, gN_nA, gN_nO, gC_pF, gC_nA, gC_nO, gS_pF, gS_nA, gS_nO, hN, ka, hu, ne0, Nat.add_assoc, Nat.reduceAdd]
theorem LI_room (g : Hp) (a u : Nat) : gN (LI g a u) = gN g + 7 ∧ gC (LI g a u) = gC g - 7 ∧ gS (LI g a u) = gS g - 37 := by
  refine ⟨rfl, ?_, ?_⟩
  · show gC g - 1 - 1 - 1 - 1 - 1 - 1 - 1 = gC g - 7; omega
  · show gS g - 6 - 6 - 6 - 6 - 3 - 5 - 5 = gS g - 37; omega
theorem LI_sm {g : Hp} {a u x : Nat} (hN : gN g = a + 1) (hx : x < a ∨ a + 8 ≤ x) : SmX g (LI g a u) x := by
  unfold LI LI2 LI1
  refine ⟨?_, ?_, fun f => ?_, fun i => ?_, fun i => ?_⟩
  · simp (disch := omega) only [gK_pF, gK_nA, gK_nO, gN_pF, gN_nA, gN_nO, hN, n_eqF, if_false]
  · simp (disch := omega) only [gL_pF, gL_nA, gL_nO, gN_pF, gN_nA, gN_nO, hN, n_eqF, if_false]
  · simp (disch := omega) only [gF_pF, gF_nA, gF_nO, gN_pF, gN_nA, gN_nO, hN, n_eqF, if_false, and_false]
  · simp (disch := omega) only [gI_pF, gI_nA, gI_nO, gN_pF, gN_nA, gN_nO, hN, n_eqF, if_false]
  · rfl
theorem LI_F (g : Hp) (a u f x : Nat) : gF (LI g a u) f x = if f = 60 ∧ x = a then .int (zI (-1000000)) else if f = 55 ∧ x = a then .ref (a + 7) else if f = 53 ∧ x = a then .ref (a + 6) else if f = 51 ∧ x = a then .ref (a + 5) else if f = 161 ∧ x = a + 5 then .ref u else if f = 158 ∧ x = a + 5 then .int (nI 0) else if x = gN g + 1 + 1 + 1 + 1 then fDef f else if f = 45 ∧ x = a then .ref (a + 4) else if f = 43 ∧ x = a then .ref (a + 3) else if f = 41 ∧ x = a then .ref (a + 2) else if f = 39 ∧ x = a then .ref (a + 1) else gF g f x := rfl
theorem LI_I (g : Hp) (a u x i : Nat) : gI (LI g a u) x i = if x = gN g + 1 + 1 + 1 + 1 + 1 + 1 then 0 else if x = gN g + 1 + 1 + 1 + 1 + 1 then 0 else if x = gN g + 1 + 1 + 1 then 0 else if x = gN g + 1 + 1 then 0 else if x = gN g + 1 then 0 else if x = gN g then 0 else gI g x i := rfl
theorem LI_K (g : Hp) (a u x : Nat) : gK (LI g a u) x = if x = gN g + 1 + 1 + 1 + 1 + 1 + 1 then 51 else if x = gN g + 1 + 1 + 1 + 1 + 1 then 51 else if x = gN g + 1 + 1 + 1 + 1 then 14 else if x = gN g + 1 + 1 + 1 then 51 else if x = gN g + 1 + 1 then 51 else if x = gN g + 1 then 51 else if x = gN g then 51 else gK g x := rfl
theorem LI_L (g : Hp) (a u x : Nat) : gL (LI g a u) x = if x = gN g + 1 + 1 + 1 + 1 + 1 + 1 then 5 else if x = gN g + 1 + 1 + 1 + 1 + 1 then 5 else if x = gN g + 1 + 1 + 1 then 6 else if x = gN g + 1 + 1 then 6 else if x = gN g + 1 then 6 else if x = gN g then 6 else gL g x := rfl
theorem LI_hl {g : Hp} {a u : Nat} (ka : gK g a = 2) (hN : gN g = a + 1) (hf : ∀ f, gF g f a = fDef f) : HL (LI g a u) a zS (fun _ => 0) (a + 5) (zI (-1000000)) .null ∧ gK (LI g a u) (a + 5) = 14 ∧ gF (LI g a u) 161 (a + 5) = .ref u ∧ gF (LI g a u) 162 (a + 5) = .int (nI 0) := by
  have e0 : ∀ k j, lCc zS (fun _ => 0) k j = 0 := fun k j => by
    unfold lCc fB zS
    repeat' split
    all_goals rfl
  refine ⟨⟨fun f hf' => ?_, fun k i h1 h2 h3 => ?_, ?_⟩, ?_, ?_, ?_⟩
  · have hm : f ∈ ([32, 34, 36, 39, 41, 43, 45, 46, 48, 51, 53, 55, 56, 58, 60, 63] : List Nat) := List.contains_iff_mem.mp hf'
    simp only [List.mem_cons, List.not_mem_nil, or_false] at hm
    rw [LI_F, hN, hf]
    rcases hm with e | e | e | e | e | e | e | e | e | e | e | e | e | e | e | e
    all_goals
      subst e
      simp (disch := omega) only [n_eqF, if_false, and_false, false_and, and_true, and_self, if_true, eq_self]
      rfl
  · rw [e0, LI_I, hN]
    obtain e | e | e | e | e | e : k = 1 ∨ k = 2 ∨ k = 3 ∨ k = 4 ∨ k = 6 ∨ k = 7 := by omega
    all_goals
      subst e
      simp (disch := omega) only [n_eqF, n_eqT, if_false, if_true]
  · unfold LK
    simp (disch := omega) only [LI_K, LI_L, hN, ka, n_eqF, n_eqT, if_false, if_true, and_self]
  · simp (disch := omega) only [LI_K, hN, n_eqF, n_eqT, if_false, if_true]
  · simp (disch := omega) only [LI_F, hN, n_eqF, n_eqT, if_false, if_true, false_and, and_false, and_self]
  · simp (disch := omega) only [LI_F, hN, n_eqF, n_eqT, if_false, if_true, false_and, and_false, and_self]
    rfl
