/-! WHAT IS MADE AT FIRST: the twin -/
def X00 : XS := (zS, fun _ => zS, 0, fun _ => zS, fun _ => false, fun _ => none, fun _ => 0, 0, 0, [], 0)
theorem zS_0 (k : Nat) : (zS k : Nat) = 0 := rfl
theorem WF_zS : WF zS := by
  refine ⟨⟨by rw [zS_0]; omega, by rw [zS_0]; omega⟩, fun w hw => by rw [zS_0] at hw; omega, fun b hb => by rw [zS_0] at hb; omega, fun b hb => by rw [zS_0] at hb; omega, fun f hf => by rw [zS_0] at hf; omega, ⟨by rw [zS_0]; omega, by rw [zS_0]; omega, ?_, ?_, ?_⟩, fun h => by rw [zS_0] at h; omega, fun _ => ⟨zS_0 0, zS_0 1⟩⟩
  · rw [zS_0, zS_0]; decide
  · rw [zS_0, zS_0]; decide
  · rw [zS_0, zS_0]; decide
theorem XOK_0 : XOK X00 := ⟨⟨WF_zS, by show (zS 4 : Nat) ≤ 999; rw [zS_0]; omega⟩, ⟨Nat.zero_le _, fun k hk => absurd hk (Nat.not_lt_zero k)⟩, fun k _ hx => (by cases hx), fun r _ q hq => (by cases hq), ⟨fun _ => (by show 0 < 256; omega), Nat.zero_le _⟩, ⟨Nat.zero_le _, fun y hy => (by cases hy)⟩, Nat.zero_le _, Nat.zero_le _⟩
theorem tC_0 (k i : Nat) : tC zS (fun _ => 0) zS zS (fun _ => zS) (fun _ => zS) (fun _ => 0) (fun _ => 0) (fun _ => 0) (fun _ _ => 0) k i = 0 := by
  unfold tC fS fA
  (repeat' split) <;> rfl
theorem c9_init {g : Hp} {o : Nat} (kc0 : gK g o = 9) (n0 : gN g = o + 1) (hf : ∀ f, gF g f o = fDef f) (h0 : 0 < o) (hC : 300 ≤ gC g) (hS : 3000 ≤ gS g) : ∃ H, Twn H o X00 ∧ (gN H = o + 16 ∧ gC g ≤ gC H + 15 ∧ gS g ≤ gS H + 1800) ∧ (∀ x, x < o → SmX g H x) ∧ ∀ Q : Po, Ex mX9_init Q 0 [.ref o, .retAddr 0] [] g = Q (.inl none) H := by
  have cl0 : o < gN g := by omega
  have w0 : ∀ Q : Po, Ex mX9_init Q 0 [.ref o, .retAddr 0] [] g = Ex mX9_init Q 12 [.ref o, .retAddr 0] [] (pF (nA g 51 8) 71 o (.ref (o + 1))) := by
    intro Q
    simp (disch := omega) only [↓rX9_init_0, ↓rX9_init_1, ↓rX9_init_4, ↓rX9_init_5, ↓rX9_init_7, ↓rX9_init_9, ↓rX9_init_9n, ↓rX9_init_t, ↓rmI_in, ↓shrI_in, ↓shlI_in, ↓okI_in, ↓bI_01, bI_z, bI_o, nn_neg, Int.cast_ofNat_Int, zlit, n_leT, n_leF, n_ltT, n_ltF, n_eqT, n_eqF, z_leT, z_leF, z_ltT, z_ltF, z_eqT, z_eqF, nn_add, nn_mul, nn_clamp, nn_lt, nn_le, nn_eq, nn_div, rmI_nn, okI_nn, nn_and, nn_or, nn_xor, shlI_1, shrI_nn, Cont_v, Cont_0, List.mem_cons, List.not_mem_nil, or_false, or_true, true_or, true_and, and_true, ite_not, if_true, if_false, not_true_eq_false, not_false_eq_true, false_or, false_and, and_false, eq_self, ↓reduceIte, reduceCtorEq, gK_nA, kc0, n0]
  have A0 : Ax g (pF (nA g 51 8) 71 o (.ref (o + 1))) o 71 (.ref (o + 1)) 1 8 := Ax_nA cl0
  have x1 : gK (pF (nA g 51 8) 71 o (.ref (o + 1))) (o + 1) = 51 := by rw [gK_pF, gK_nA, if_pos (by omega)]
  have y1 : gL (pF (nA g 51 8) 71 o (.ref (o + 1))) (o + 1) = 8 := by rw [gL_pF, gL_nA, if_pos (by omega)]
  have z1 : ∀ j, gI (pF (nA g 51 8) 71 o (.ref (o + 1))) (o + 1) j = 0 := fun j => by rw [gI_pF, gI_nA, if_pos (by omega)]
  generalize pF (nA g 51 8) 71 o (.ref (o + 1)) = g1 at w0 A0 x1 y1 z1
  obtain ⟨nn1, cc1, ss1, sm1, kk1, ff1, fv1⟩ := A0
  have n1 : gN g1 = o + 2 := by omega
  have kc1 : gK g1 o = 9 := kk1.trans kc0
  have C1 : gC g ≤ gC g1 + 1 := by omega
  have S1 : gS g ≤ gS g1 + 8 := by omega
  have cl1 : o < gN g1 := by omega
  have w1 : ∀ Q : Po, Ex mX9_init Q 12 [.ref o, .retAddr 0] [] g1 = Ex mX9_init Q 20 [.ref o, .retAddr 0] [] (pF (nA g1 51 8) 73 o (.ref (o + 2))) := by
    intro Q
    simp (disch := omega) only [↓rX9_init_12, ↓rX9_init_13, ↓rX9_init_15, ↓rX9_init_17, ↓rX9_init_17n, ↓rX9_init_t, ↓rmI_in, ↓shrI_in, ↓shlI_in, ↓okI_in, ↓bI_01, bI_z, bI_o, nn_neg, Int.cast_ofNat_Int, zlit, n_leT, n_leF, n_ltT, n_ltF, n_eqT, n_eqF, z_leT, z_leF, z_ltT, z_ltF, z_eqT, z_eqF, nn_add, nn_mul, nn_clamp, nn_lt, nn_le, nn_eq, nn_div, rmI_nn, okI_nn, nn_and, nn_or, nn_xor, shlI_1, shrI_nn, Cont_v, Cont_0, List.mem_cons, List.not_mem_nil, or_false, or_true, true_or, true_and, and_true, ite_not, if_true, if_false, not_true_eq_false, not_false_eq_true, false_or, false_and, and_false, eq_self, ↓reduceIte, reduceCtorEq, gK_nA, kc1, n1]
  have A1 : Ax g1 (pF (nA g1 51 8) 73 o (.ref (o + 2))) o 73 (.ref (o + 2)) 1 8 := Ax_nA cl1
  have x2 : gK (pF (nA g1 51 8) 73 o (.ref (o + 2))) (o + 2) = 51 := by rw [gK_pF, gK_nA, if_pos (by omega)]
  have y2 : gL (pF (nA g1 51 8) 73 o (.ref (o + 2))) (o + 2) = 8 := by rw [gL_pF, gL_nA, if_pos (by omega)]
  have z2 : ∀ j, gI (pF (nA g1 51 8) 73 o (.ref (o + 2))) (o + 2) j = 0 := fun j => by rw [gI_pF, gI_nA, if_pos (by omega)]
  generalize pF (nA g1 51 8) 73 o (.ref (o + 2)) = g2 at w1 A1 x2 y2 z2
  obtain ⟨nn2, cc2, ss2, sm2, kk2, ff2, fv2⟩ := A1
  have n2 : gN g2 = o + 3 := by omega
  have kc2 : gK g2 o = 9 := kk2.trans kc1
  have C2 : gC g ≤ gC g2 + 2 := by omega
  have S2 : gS g ≤ gS g2 + 16 := by omega
  have cl2 : o < gN g2 := by omega
  have w2 : ∀ Q : Po, Ex mX9_init Q 20 [.ref o, .retAddr 0] [] g2 = Ex mX9_init Q 29 [.ref o, .retAddr 0] [] (pF (nA g2 51 320) 75 o (.ref (o + 3))) := by
    intro Q
    simp (disch := omega) only [↓rX9_init_20, ↓rX9_init_21, ↓rX9_init_24, ↓rX9_init_26, ↓rX9_init_26n, ↓rX9_init_t, ↓rmI_in, ↓shrI_in, ↓shlI_in, ↓okI_in, ↓bI_01, bI_z, bI_o, nn_neg, Int.cast_ofNat_Int, zlit, n_leT, n_leF, n_ltT, n_ltF, n_eqT, n_eqF, z_leT, z_leF, z_ltT, z_ltF, z_eqT, z_eqF, nn_add, nn_mul, nn_clamp, nn_lt, nn_le, nn_eq, nn_div, rmI_nn, okI_nn, nn_and, nn_or, nn_xor, shlI_1, shrI_nn, Cont_v, Cont_0, List.mem_cons, List.not_mem_nil, or_false, or_true, true_or, true_and, and_true, ite_not, if_true, if_false, not_true_eq_false, not_false_eq_true, false_or, false_and, and_false, eq_self, ↓reduceIte, reduceCtorEq, gK_nA, kc2, n2]
  have A2 : Ax g2 (pF (nA g2 51 320) 75 o (.ref (o + 3))) o 75 (.ref (o + 3)) 1 320 := Ax_nA cl2
  have x3 : gK (pF (nA g2 51 320) 75 o (.ref (o + 3))) (o + 3) = 51 := by rw [gK_pF, gK_nA, if_pos (by omega)]
  have y3 : gL (pF (nA g2 51 320) 75 o (.ref (o + 3))) (o + 3) = 320 := by rw [gL_pF, gL_nA, if_pos (by omega)]
  have z3 : ∀ j, gI (pF (nA g2 51 320) 75 o (.ref (o + 3))) (o + 3) j = 0 := fun j => by rw [gI_pF, gI_nA, if_pos (by omega)]
  generalize pF (nA g2 51 320) 75 o (.ref (o + 3)) = g3 at w2 A2 x3 y3 z3
  obtain ⟨nn3, cc3, ss3, sm3, kk3, ff3, fv3⟩ := A2
  have n3 : gN g3 = o + 4 := by omega
  have kc3 : gK g3 o = 9 := kk3.trans kc2
  have C3 : gC g ≤ gC g3 + 3 := by omega
  have S3 : gS g ≤ gS g3 + 336 := by omega
  have cl3 : o < gN g3 := by omega
  have w3 : ∀ Q : Po, Ex mX9_init Q 29 [.ref o, .retAddr 0] [] g3 = Ex mX9_init Q 37 [.ref o, .retAddr 0] [] (pF (nA g3 51 41) 81 o (.ref (o + 4))) := by
    intro Q
    simp (disch := omega) only [↓rX9_init_29, ↓rX9_init_30, ↓rX9_init_32, ↓rX9_init_34, ↓rX9_init_34n, ↓rX9_init_t, ↓rmI_in, ↓shrI_in, ↓shlI_in, ↓okI_in, ↓bI_01, bI_z, bI_o, nn_neg, Int.cast_ofNat_Int, zlit, n_leT, n_leF, n_ltT, n_ltF, n_eqT, n_eqF, z_leT, z_leF, z_ltT, z_ltF, z_eqT, z_eqF, nn_add, nn_mul, nn_clamp, nn_lt, nn_le, nn_eq, nn_div, rmI_nn, okI_nn, nn_and, nn_or, nn_xor, shlI_1, shrI_nn, Cont_v, Cont_0, List.mem_cons, List.not_mem_nil, or_false, or_true, true_or, true_and, and_true, ite_not, if_true, if_false, not_true_eq_false, not_false_eq_true, false_or, false_and, and_false, eq_self, ↓reduceIte, reduceCtorEq, gK_nA, kc3, n3]
  have A3 : Ax g3 (pF (nA g3 51 41) 81 o (.ref (o + 4))) o 81 (.ref (o + 4)) 1 41 := Ax_nA cl3
  have x4 : gK (pF (nA g3 51 41) 81 o (.ref (o + 4))) (o + 4) = 51 := by rw [gK_pF, gK_nA, if_pos (by omega)]
  have y4 : gL (pF (nA g3 51 41) 81 o (.ref (o + 4))) (o + 4) = 41 := by rw [gL_pF, gL_nA, if_pos (by omega)]
  have z4 : ∀ j, gI (pF (nA g3 51 41) 81 o (.ref (o + 4))) (o + 4) j = 0 := fun j => by rw [gI_pF, gI_nA, if_pos (by omega)]
  generalize pF (nA g3 51 41) 81 o (.ref (o + 4)) = g4 at w3 A3 x4 y4 z4
  obtain ⟨nn4, cc4, ss4, sm4, kk4, ff4, fv4⟩ := A3
  have n4 : gN g4 = o + 5 := by omega
  have kc4 : gK g4 o = 9 := kk4.trans kc3
  have C4 : gC g ≤ gC g4 + 4 := by omega
  have S4 : gS g ≤ gS g4 + 377 := by omega
  have cl4 : o < gN g4 := by omega
  have w4 : ∀ Q : Po, Ex mX9_init Q 37 [.ref o, .retAddr 0] [] g4 = Ex mX9_init Q 45 [.ref o, .retAddr 0] [] (pF (nA g4 51 40) 83 o (.ref (o + 5))) := by
    intro Q
    simp (disch := omega) only [↓rX9_init_37, ↓rX9_init_38, ↓rX9_init_40, ↓rX9_init_42, ↓rX9_init_42n, ↓rX9_init_t, ↓rmI_in, ↓shrI_in, ↓shlI_in, ↓okI_in, ↓bI_01, bI_z, bI_o, nn_neg, Int.cast_ofNat_Int, zlit, n_leT, n_leF, n_ltT, n_ltF, n_eqT, n_eqF, z_leT, z_leF, z_ltT, z_ltF, z_eqT, z_eqF, nn_add, nn_mul, nn_clamp, nn_lt, nn_le, nn_eq, nn_div, rmI_nn, okI_nn, nn_and, nn_or, nn_xor, shlI_1, shrI_nn, Cont_v, Cont_0, List.mem_cons, List.not_mem_nil, or_false, or_true, true_or, true_and, and_true, ite_not, if_true, if_false, not_true_eq_false, not_false_eq_true, false_or, false_and, and_false, eq_self, ↓reduceIte, reduceCtorEq, gK_nA, kc4, n4]
  have A4 : Ax g4 (pF (nA g4 51 40) 83 o (.ref (o + 5))) o 83 (.ref (o + 5)) 1 40 := Ax_nA cl4
  have x5 : gK (pF (nA g4 51 40) 83 o (.ref (o + 5))) (o + 5) = 51 := by rw [gK_pF, gK_nA, if_pos (by omega)]
  have y5 : gL (pF (nA g4 51 40) 83 o (.ref (o + 5))) (o + 5) = 40 := by rw [gL_pF, gL_nA, if_pos (by omega)]
  have z5 : ∀ j, gI (pF (nA g4 51 40) 83 o (.ref (o + 5))) (o + 5) j = 0 := fun j => by rw [gI_pF, gI_nA, if_pos (by omega)]
  generalize pF (nA g4 51 40) 83 o (.ref (o + 5)) = g5 at w4 A4 x5 y5 z5
  obtain ⟨nn5, cc5, ss5, sm5, kk5, ff5, fv5⟩ := A4
  have n5 : gN g5 = o + 6 := by omega
  have kc5 : gK g5 o = 9 := kk5.trans kc4
  have C5 : gC g ≤ gC g5 + 5 := by omega
  have S5 : gS g ≤ gS g5 + 417 := by omega
  have cl5 : o < gN g5 := by omega
  have w5 : ∀ Q : Po, Ex mX9_init Q 45 [.ref o, .retAddr 0] [] g5 = Ex mX9_init Q 53 [.ref o, .retAddr 0] [] (pF (nA g5 51 120) 85 o (.ref (o + 6))) := by
    intro Q
    simp (disch := omega) only [↓rX9_init_45, ↓rX9_init_46, ↓rX9_init_48, ↓rX9_init_50, ↓rX9_init_50n, ↓rX9_init_t, ↓rmI_in, ↓shrI_in, ↓shlI_in, ↓okI_in, ↓bI_01, bI_z, bI_o, nn_neg, Int.cast_ofNat_Int, zlit, n_leT, n_leF, n_ltT, n_ltF, n_eqT, n_eqF, z_leT, z_leF, z_ltT, z_ltF, z_eqT, z_eqF, nn_add, nn_mul, nn_clamp, nn_lt, nn_le, nn_eq, nn_div, rmI_nn, okI_nn, nn_and, nn_or, nn_xor, shlI_1, shrI_nn, Cont_v, Cont_0, List.mem_cons, List.not_mem_nil, or_false, or_true, true_or, true_and, and_true, ite_not, if_true, if_false, not_true_eq_false, not_false_eq_true, false_or, false_and, and_false, eq_self, ↓reduceIte, reduceCtorEq, gK_nA, kc5, n5]
  have A5 : Ax g5 (pF (nA g5 51 120) 85 o (.ref (o + 6))) o 85 (.ref (o + 6)) 1 120 := Ax_nA cl5
  have x6 : gK (pF (nA g5 51 120) 85 o (.ref (o + 6))) (o + 6) = 51 := by rw [gK_pF, gK_nA, if_pos (by omega)]
  have y6 : gL (pF (nA g5 51 120) 85 o (.ref (o + 6))) (o + 6) = 120 := by rw [gL_pF, gL_nA, if_pos (by omega)]
  have z6 : ∀ j, gI (pF (nA g5 51 120) 85 o (.ref (o + 6))) (o + 6) j = 0 := fun j => by rw [gI_pF, gI_nA, if_pos (by omega)]
  generalize pF (nA g5 51 120) 85 o (.ref (o + 6)) = g6 at w5 A5 x6 y6 z6
  obtain ⟨nn6, cc6, ss6, sm6, kk6, ff6, fv6⟩ := A5
  have n6 : gN g6 = o + 7 := by omega
  have kc6 : gK g6 o = 9 := kk6.trans kc5
  have C6 : gC g ≤ gC g6 + 6 := by omega
  have S6 : gS g ≤ gS g6 + 537 := by omega
  have cl6 : o < gN g6 := by omega
  have w6 : ∀ Q : Po, Ex mX9_init Q 53 [.ref o, .retAddr 0] [] g6 = Ex mX9_init Q 61 [.ref o, .retAddr 0] [] (pF (nA g6 51 41) 101 o (.ref (o + 7))) := by
    intro Q
    simp (disch := omega) only [↓rX9_init_53, ↓rX9_init_54, ↓rX9_init_56, ↓rX9_init_58, ↓rX9_init_58n, ↓rX9_init_t, ↓rmI_in, ↓shrI_in, ↓shlI_in, ↓okI_in, ↓bI_01, bI_z, bI_o, nn_neg, Int.cast_ofNat_Int, zlit, n_leT, n_leF, n_ltT, n_ltF, n_eqT, n_eqF, z_leT, z_leF, z_ltT, z_ltF, z_eqT, z_eqF, nn_add, nn_mul, nn_clamp, nn_lt, nn_le, nn_eq, nn_div, rmI_nn, okI_nn, nn_and, nn_or, nn_xor, shlI_1, shrI_nn, Cont_v, Cont_0, List.mem_cons, List.not_mem_nil, or_false, or_true, true_or, true_and, and_true, ite_not, if_true, if_false, not_true_eq_false, not_false_eq_true, false_or, false_and, and_false, eq_self, ↓reduceIte, reduceCtorEq, gK_nA, kc6, n6]
  have A6 : Ax g6 (pF (nA g6 51 41) 101 o (.ref (o + 7))) o 101 (.ref (o + 7)) 1 41 := Ax_nA cl6
  have x7 : gK (pF (nA g6 51 41) 101 o (.ref (o + 7))) (o + 7) = 51 := by rw [gK_pF, gK_nA, if_pos (by omega)]
  have y7 : gL (pF (nA g6 51 41) 101 o (.ref (o + 7))) (o + 7) = 41 := by rw [gL_pF, gL_nA, if_pos (by omega)]
  have z7 : ∀ j, gI (pF (nA g6 51 41) 101 o (.ref (o + 7))) (o + 7) j = 0 := fun j => by rw [gI_pF, gI_nA, if_pos (by omega)]
  generalize pF (nA g6 51 41) 101 o (.ref (o + 7)) = g7 at w6 A6 x7 y7 z7
  obtain ⟨nn7, cc7, ss7, sm7, kk7, ff7, fv7⟩ := A6
  have n7 : gN g7 = o + 8 := by omega
  have kc7 : gK g7 o = 9 := kk7.trans kc6
  have C7 : gC g ≤ gC g7 + 7 := by omega
  have S7 : gS g ≤ gS g7 + 578 := by omega
  have cl7 : o < gN g7 := by omega
  have w7 : ∀ Q : Po, Ex mX9_init Q 61 [.ref o, .retAddr 0] [] g7 = Ex mX9_init Q 68 [.ref o, .retAddr 0] [] (pF (nA g7 51 5) 103 o (.ref (o + 8))) := by
    intro Q
    simp (disch := omega) only [↓rX9_init_61, ↓rX9_init_62, ↓rX9_init_63, ↓rX9_init_65, ↓rX9_init_65n, ↓rX9_init_t, ↓rmI_in, ↓shrI_in, ↓shlI_in, ↓okI_in, ↓bI_01, bI_z, bI_o, nn_neg, Int.cast_ofNat_Int, zlit, n_leT, n_leF, n_ltT, n_ltF, n_eqT, n_eqF, z_leT, z_leF, z_ltT, z_ltF, z_eqT, z_eqF, nn_add, nn_mul, nn_clamp, nn_lt, nn_le, nn_eq, nn_div, rmI_nn, okI_nn, nn_and, nn_or, nn_xor, shlI_1, shrI_nn, Cont_v, Cont_0, List.mem_cons, List.not_mem_nil, or_false, or_true, true_or, true_and, and_true, ite_not, if_true, if_false, not_true_eq_false, not_false_eq_true, false_or, false_and, and_false, eq_self, ↓reduceIte, reduceCtorEq, gK_nA, kc7, n7]
  have A7 : Ax g7 (pF (nA g7 51 5) 103 o (.ref (o + 8))) o 103 (.ref (o + 8)) 1 5 := Ax_nA cl7
  have x8 : gK (pF (nA g7 51 5) 103 o (.ref (o + 8))) (o + 8) = 51 := by rw [gK_pF, gK_nA, if_pos (by omega)]
  have y8 : gL (pF (nA g7 51 5) 103 o (.ref (o + 8))) (o + 8) = 5 := by rw [gL_pF, gL_nA, if_pos (by omega)]
  have z8 : ∀ j, gI (pF (nA g7 51 5) 103 o (.ref (o + 8))) (o + 8) j = 0 := fun j => by rw [gI_pF, gI_nA, if_pos (by omega)]
  generalize pF (nA g7 51 5) 103 o (.ref (o + 8)) = g8 at w7 A7 x8 y8 z8
  obtain ⟨nn8, cc8, ss8, sm8, kk8, ff8, fv8⟩ := A7
  have n8 : gN g8 = o + 9 := by omega
  have kc8 : gK g8 o = 9 := kk8.trans kc7
  have C8 : gC g ≤ gC g8 + 8 := by omega
  have S8 : gS g ≤ gS g8 + 583 := by omega
  have cl8 : o < gN g8 := by omega
  have w8 : ∀ Q : Po, Ex mX9_init Q 68 [.ref o, .retAddr 0] [] g8 = Ex mX9_init Q 77 [.ref o, .retAddr 0] [] (pF (nA g8 51 984) 105 o (.ref (o + 9))) := by
    intro Q
    simp (disch := omega) only [↓rX9_init_68, ↓rX9_init_69, ↓rX9_init_72, ↓rX9_init_74, ↓rX9_init_74n, ↓rX9_init_t, ↓rmI_in, ↓shrI_in, ↓shlI_in, ↓okI_in, ↓bI_01, bI_z, bI_o, nn_neg, Int.cast_ofNat_Int, zlit, n_leT, n_leF, n_ltT, n_ltF, n_eqT, n_eqF, z_leT, z_leF, z_ltT, z_ltF, z_eqT, z_eqF, nn_add, nn_mul, nn_clamp, nn_lt, nn_le, nn_eq, nn_div, rmI_nn, okI_nn, nn_and, nn_or, nn_xor, shlI_1, shrI_nn, Cont_v, Cont_0, List.mem_cons, List.not_mem_nil, or_false, or_true, true_or, true_and, and_true, ite_not, if_true, if_false, not_true_eq_false, not_false_eq_true, false_or, false_and, and_false, eq_self, ↓reduceIte, reduceCtorEq, gK_nA, kc8, n8]
  have A8 : Ax g8 (pF (nA g8 51 984) 105 o (.ref (o + 9))) o 105 (.ref (o + 9)) 1 984 := Ax_nA cl8
  have x9 : gK (pF (nA g8 51 984) 105 o (.ref (o + 9))) (o + 9) = 51 := by rw [gK_pF, gK_nA, if_pos (by omega)]
  have y9 : gL (pF (nA g8 51 984) 105 o (.ref (o + 9))) (o + 9) = 984 := by rw [gL_pF, gL_nA, if_pos (by omega)]
  have z9 : ∀ j, gI (pF (nA g8 51 984) 105 o (.ref (o + 9))) (o + 9) j = 0 := fun j => by rw [gI_pF, gI_nA, if_pos (by omega)]
  generalize pF (nA g8 51 984) 105 o (.ref (o + 9)) = g9 at w8 A8 x9 y9 z9
  obtain ⟨nn9, cc9, ss9, sm9, kk9, ff9, fv9⟩ := A8
  have n9 : gN g9 = o + 10 := by omega
  have kc9 : gK g9 o = 9 := kk9.trans kc8
  have C9 : gC g ≤ gC g9 + 9 := by omega
  have S9 : gS g ≤ gS g9 + 1567 := by omega
  have cl9 : o < gN g9 := by omega
  have w9 : ∀ Q : Po, Ex mX9_init Q 77 [.ref o, .retAddr 0] [] g9 = Ex mX9_init Q 85 [.ref o, .retAddr 0] [] (pF (nA g9 51 41) 109 o (.ref (o + 10))) := by
    intro Q
    simp (disch := omega) only [↓rX9_init_77, ↓rX9_init_78, ↓rX9_init_80, ↓rX9_init_82, ↓rX9_init_82n, ↓rX9_init_t, ↓rmI_in, ↓shrI_in, ↓shlI_in, ↓okI_in, ↓bI_01, bI_z, bI_o, nn_neg, Int.cast_ofNat_Int, zlit, n_leT, n_leF, n_ltT, n_ltF, n_eqT, n_eqF, z_leT, z_leF, z_ltT, z_ltF, z_eqT, z_eqF, nn_add, nn_mul, nn_clamp, nn_lt, nn_le, nn_eq, nn_div, rmI_nn, okI_nn, nn_and, nn_or, nn_xor, shlI_1, shrI_nn, Cont_v, Cont_0, List.mem_cons, List.not_mem_nil, or_false, or_true, true_or, true_and, and_true, ite_not, if_true, if_false, not_true_eq_false, not_false_eq_true, false_or, false_and, and_false, eq_self, ↓reduceIte, reduceCtorEq, gK_nA, kc9, n9]
  have A9 : Ax g9 (pF (nA g9 51 41) 109 o (.ref (o + 10))) o 109 (.ref (o + 10)) 1 41 := Ax_nA cl9
  have x10 : gK (pF (nA g9 51 41) 109 o (.ref (o + 10))) (o + 10) = 51 := by rw [gK_pF, gK_nA, if_pos (by omega)]
  have y10 : gL (pF (nA g9 51 41) 109 o (.ref (o + 10))) (o + 10) = 41 := by rw [gL_pF, gL_nA, if_pos (by omega)]
  have z10 : ∀ j, gI (pF (nA g9 51 41) 109 o (.ref (o + 10))) (o + 10) j = 0 := fun j => by rw [gI_pF, gI_nA, if_pos (by omega)]
  generalize pF (nA g9 51 41) 109 o (.ref (o + 10)) = g10 at w9 A9 x10 y10 z10
  obtain ⟨nn10, cc10, ss10, sm10, kk10, ff10, fv10⟩ := A9
  have n10 : gN g10 = o + 11 := by omega
  have kc10 : gK g10 o = 9 := kk10.trans kc9
  have C10 : gC g ≤ gC g10 + 10 := by omega
  have S10 : gS g ≤ gS g10 + 1608 := by omega
  have cl10 : o < gN g10 := by omega
  have w10 : ∀ Q : Po, Ex mX9_init Q 85 [.ref o, .retAddr 0] [] g10 = Ex mX9_init Q 93 [.ref o, .retAddr 0] [] (pF (nA g10 51 6) 111 o (.ref (o + 11))) := by
    intro Q
    simp (disch := omega) only [↓rX9_init_85, ↓rX9_init_86, ↓rX9_init_88, ↓rX9_init_90, ↓rX9_init_90n, ↓rX9_init_t, ↓rmI_in, ↓shrI_in, ↓shlI_in, ↓okI_in, ↓bI_01, bI_z, bI_o, nn_neg, Int.cast_ofNat_Int, zlit, n_leT, n_leF, n_ltT, n_ltF, n_eqT, n_eqF, z_leT, z_leF, z_ltT, z_ltF, z_eqT, z_eqF, nn_add, nn_mul, nn_clamp, nn_lt, nn_le, nn_eq, nn_div, rmI_nn, okI_nn, nn_and, nn_or, nn_xor, shlI_1, shrI_nn, Cont_v, Cont_0, List.mem_cons, List.not_mem_nil, or_false, or_true, true_or, true_and, and_true, ite_not, if_true, if_false, not_true_eq_false, not_false_eq_true, false_or, false_and, and_false, eq_self, ↓reduceIte, reduceCtorEq, gK_nA, kc10, n10]
  have A10 : Ax g10 (pF (nA g10 51 6) 111 o (.ref (o + 11))) o 111 (.ref (o + 11)) 1 6 := Ax_nA cl10
  have x11 : gK (pF (nA g10 51 6) 111 o (.ref (o + 11))) (o + 11) = 51 := by rw [gK_pF, gK_nA, if_pos (by omega)]
  have y11 : gL (pF (nA g10 51 6) 111 o (.ref (o + 11))) (o + 11) = 6 := by rw [gL_pF, gL_nA, if_pos (by omega)]
  have z11 : ∀ j, gI (pF (nA g10 51 6) 111 o (.ref (o + 11))) (o + 11) j = 0 := fun j => by rw [gI_pF, gI_nA, if_pos (by omega)]
  generalize pF (nA g10 51 6) 111 o (.ref (o + 11)) = g11 at w10 A10 x11 y11 z11
  obtain ⟨nn11, cc11, ss11, sm11, kk11, ff11, fv11⟩ := A10
  have n11 : gN g11 = o + 12 := by omega
  have kc11 : gK g11 o = 9 := kk11.trans kc10
  have C11 : gC g ≤ gC g11 + 11 := by omega
  have S11 : gS g ≤ gS g11 + 1614 := by omega
  have cl11 : o < gN g11 := by omega
  have w11 : ∀ Q : Po, Ex mX9_init Q 93 [.ref o, .retAddr 0] [] g11 = Ex mX9_init Q 101 [.ref o, .retAddr 0] [] (pF (nA g11 51 6) 113 o (.ref (o + 12))) := by
    intro Q
    simp (disch := omega) only [↓rX9_init_93, ↓rX9_init_94, ↓rX9_init_96, ↓rX9_init_98, ↓rX9_init_98n, ↓rX9_init_t, ↓rmI_in, ↓shrI_in, ↓shlI_in, ↓okI_in, ↓bI_01, bI_z, bI_o, nn_neg, Int.cast_ofNat_Int, zlit, n_leT, n_leF, n_ltT, n_ltF, n_eqT, n_eqF, z_leT, z_leF, z_ltT, z_ltF, z_eqT, z_eqF, nn_add, nn_mul, nn_clamp, nn_lt, nn_le, nn_eq, nn_div, rmI_nn, okI_nn, nn_and, nn_or, nn_xor, shlI_1, shrI_nn, Cont_v, Cont_0, List.mem_cons, List.not_mem_nil, or_false, or_true, true_or, true_and, and_true, ite_not, if_true, if_false, not_true_eq_false, not_false_eq_true, false_or, false_and, and_false, eq_self, ↓reduceIte, reduceCtorEq, gK_nA, kc11, n11]
  have A11 : Ax g11 (pF (nA g11 51 6) 113 o (.ref (o + 12))) o 113 (.ref (o + 12)) 1 6 := Ax_nA cl11
  have x12 : gK (pF (nA g11 51 6) 113 o (.ref (o + 12))) (o + 12) = 51 := by rw [gK_pF, gK_nA, if_pos (by omega)]
  have y12 : gL (pF (nA g11 51 6) 113 o (.ref (o + 12))) (o + 12) = 6 := by rw [gL_pF, gL_nA, if_pos (by omega)]
  have z12 : ∀ j, gI (pF (nA g11 51 6) 113 o (.ref (o + 12))) (o + 12) j = 0 := fun j => by rw [gI_pF, gI_nA, if_pos (by omega)]
  generalize pF (nA g11 51 6) 113 o (.ref (o + 12)) = g12 at w11 A11 x12 y12 z12
  obtain ⟨nn12, cc12, ss12, sm12, kk12, ff12, fv12⟩ := A11
  have n12 : gN g12 = o + 13 := by omega
  have kc12 : gK g12 o = 9 := kk12.trans kc11
  have C12 : gC g ≤ gC g12 + 12 := by omega
  have S12 : gS g ≤ gS g12 + 1620 := by omega
  have cl12 : o < gN g12 := by omega
  have w12 : ∀ Q : Po, Ex mX9_init Q 101 [.ref o, .retAddr 0] [] g12 = Ex mX9_init Q 108 [.ref o, .retAddr 0] [] (pF (nA g12 53 2) 115 o (.ref (o + 13))) := by
    intro Q
    simp (disch := omega) only [↓rX9_init_101, ↓rX9_init_102, ↓rX9_init_103, ↓rX9_init_105, ↓rX9_init_105n, ↓rX9_init_t, ↓rmI_in, ↓shrI_in, ↓shlI_in, ↓okI_in, ↓bI_01, bI_z, bI_o, nn_neg, Int.cast_ofNat_Int, zlit, n_leT, n_leF, n_ltT, n_ltF, n_eqT, n_eqF, z_leT, z_leF, z_ltT, z_ltF, z_eqT, z_eqF, nn_add, nn_mul, nn_clamp, nn_lt, nn_le, nn_eq, nn_div, rmI_nn, okI_nn, nn_and, nn_or, nn_xor, shlI_1, shrI_nn, Cont_v, Cont_0, List.mem_cons, List.not_mem_nil, or_false, or_true, true_or, true_and, and_true, ite_not, if_true, if_false, not_true_eq_false, not_false_eq_true, false_or, false_and, and_false, eq_self, ↓reduceIte, reduceCtorEq, gK_nA, kc12, n12]
  have A12 : Ax g12 (pF (nA g12 53 2) 115 o (.ref (o + 13))) o 115 (.ref (o + 13)) 1 2 := Ax_nA cl12
  have x13 : gK (pF (nA g12 53 2) 115 o (.ref (o + 13))) (o + 13) = 53 := by rw [gK_pF, gK_nA, if_pos (by omega)]
  have y13 : gL (pF (nA g12 53 2) 115 o (.ref (o + 13))) (o + 13) = 2 := by rw [gL_pF, gL_nA, if_pos (by omega)]
  have z13 : ∀ j, gI (pF (nA g12 53 2) 115 o (.ref (o + 13))) (o + 13) j = 0 := fun j => by rw [gI_pF, gI_nA, if_pos (by omega)]
  generalize pF (nA g12 53 2) 115 o (.ref (o + 13)) = g13 at w12 A12 x13 y13 z13
  obtain ⟨nn13, cc13, ss13, sm13, kk13, ff13, fv13⟩ := A12
  have n13 : gN g13 = o + 14 := by omega
  have kc13 : gK g13 o = 9 := kk13.trans kc12
  have C13 : gC g ≤ gC g13 + 13 := by omega
  have S13 : gS g ≤ gS g13 + 1622 := by omega
  have cl13 : o < gN g13 := by omega
  have w13 : ∀ Q : Po, Ex mX9_init Q 108 [.ref o, .retAddr 0] [] g13 = Ex mX9_init Q 116 [.ref o, .retAddr 0] [] (pF (nA g13 51 82) 117 o (.ref (o + 14))) := by
    intro Q
    simp (disch := omega) only [↓rX9_init_108, ↓rX9_init_109, ↓rX9_init_111, ↓rX9_init_113, ↓rX9_init_113n, ↓rX9_init_t, ↓rmI_in, ↓shrI_in, ↓shlI_in, ↓okI_in, ↓bI_01, bI_z, bI_o, nn_neg, Int.cast_ofNat_Int, zlit, n_leT, n_leF, n_ltT, n_ltF, n_eqT, n_eqF, z_leT, z_leF, z_ltT, z_ltF, z_eqT, z_eqF, nn_add, nn_mul, nn_clamp, nn_lt, nn_le, nn_eq, nn_div, rmI_nn, okI_nn, nn_and, nn_or, nn_xor, shlI_1, shrI_nn, Cont_v, Cont_0, List.mem_cons, List.not_mem_nil, or_false, or_true, true_or, true_and, and_true, ite_not, if_true, if_false, not_true_eq_false, not_false_eq_true, false_or, false_and, and_false, eq_self, ↓reduceIte, reduceCtorEq, gK_nA, kc13, n13]
  have A13 : Ax g13 (pF (nA g13 51 82) 117 o (.ref (o + 14))) o 117 (.ref (o + 14)) 1 82 := Ax_nA cl13
  have x14 : gK (pF (nA g13 51 82) 117 o (.ref (o + 14))) (o + 14) = 51 := by rw [gK_pF, gK_nA, if_pos (by omega)]
  have y14 : gL (pF (nA g13 51 82) 117 o (.ref (o + 14))) (o + 14) = 82 := by rw [gL_pF, gL_nA, if_pos (by omega)]
  have z14 : ∀ j, gI (pF (nA g13 51 82) 117 o (.ref (o + 14))) (o + 14) j = 0 := fun j => by rw [gI_pF, gI_nA, if_pos (by omega)]
  generalize pF (nA g13 51 82) 117 o (.ref (o + 14)) = g14 at w13 A13 x14 y14 z14
  obtain ⟨nn14, cc14, ss14, sm14, kk14, ff14, fv14⟩ := A13
  have n14 : gN g14 = o + 15 := by omega
  have kc14 : gK g14 o = 9 := kk14.trans kc13
  have C14 : gC g ≤ gC g14 + 14 := by omega
  have S14 : gS g ≤ gS g14 + 1704 := by omega
  have cl14 : o < gN g14 := by omega
  have w14 : ∀ Q : Po, Ex mX9_init Q 116 [.ref o, .retAddr 0] [] g14 = Ex mX9_init Q 124 [.ref o, .retAddr 0] [] (pF (nA g14 51 16) 119 o (.ref (o + 15))) := by
    intro Q
    simp (disch := omega) only [↓rX9_init_116, ↓rX9_init_117, ↓rX9_init_119, ↓rX9_init_121, ↓rX9_init_121n, ↓rX9_init_t, ↓rmI_in, ↓shrI_in, ↓shlI_in, ↓okI_in, ↓bI_01, bI_z, bI_o, nn_neg, Int.cast_ofNat_Int, zlit, n_leT, n_leF, n_ltT, n_ltF, n_eqT, n_eqF, z_leT, z_leF, z_ltT, z_ltF, z_eqT, z_eqF, nn_add, nn_mul, nn_clamp, nn_lt, nn_le, nn_eq, nn_div, rmI_nn, okI_nn, nn_and, nn_or, nn_xor, shlI_1, shrI_nn, Cont_v, Cont_0, List.mem_cons, List.not_mem_nil, or_false, or_true, true_or, true_and, and_true, ite_not, if_true, if_false, not_true_eq_false, not_false_eq_true, false_or, false_and, and_false, eq_self, ↓reduceIte, reduceCtorEq, gK_nA, kc14, n14]
  have A14 : Ax g14 (pF (nA g14 51 16) 119 o (.ref (o + 15))) o 119 (.ref (o + 15)) 1 16 := Ax_nA cl14
  have x15 : gK (pF (nA g14 51 16) 119 o (.ref (o + 15))) (o + 15) = 51 := by rw [gK_pF, gK_nA, if_pos (by omega)]
  have y15 : gL (pF (nA g14 51 16) 119 o (.ref (o + 15))) (o + 15) = 16 := by rw [gL_pF, gL_nA, if_pos (by omega)]
  have z15 : ∀ j, gI (pF (nA g14 51 16) 119 o (.ref (o + 15))) (o + 15) j = 0 := fun j => by rw [gI_pF, gI_nA, if_pos (by omega)]
  generalize pF (nA g14 51 16) 119 o (.ref (o + 15)) = g15 at w14 A14 x15 y15 z15
  obtain ⟨nn15, cc15, ss15, sm15, kk15, ff15, fv15⟩ := A14
  have n15 : gN g15 = o + 16 := by omega
  have kc15 : gK g15 o = 9 := kk15.trans kc14
  have C15 : gC g ≤ gC g15 + 15 := by omega
  have S15 : gS g ≤ gS g15 + 1720 := by omega
  have T15 : ∀ x, x < gN g15 → x ≠ o → SmX g15 g15 x := fun x _ _ => SmX.rfl' _ x
  have T14 : ∀ x, x < gN g14 → x ≠ o → SmX g14 g15 x := fun x hx hc => (sm15 x hx hc).trans (T15 x (by omega) hc)
  have T13 : ∀ x, x < gN g13 → x ≠ o → SmX g13 g15 x := fun x hx hc => (sm14 x hx hc).trans (T14 x (by omega) hc)
  have T12 : ∀ x, x < gN g12 → x ≠ o → SmX g12 g15 x := fun x hx hc => (sm13 x hx hc).trans (T13 x (by omega) hc)
  have T11 : ∀ x, x < gN g11 → x ≠ o → SmX g11 g15 x := fun x hx hc => (sm12 x hx hc).trans (T12 x (by omega) hc)
  have T10 : ∀ x, x < gN g10 → x ≠ o → SmX g10 g15 x := fun x hx hc => (sm11 x hx hc).trans (T11 x (by omega) hc)
  have T9 : ∀ x, x < gN g9 → x ≠ o → SmX g9 g15 x := fun x hx hc => (sm10 x hx hc).trans (T10 x (by omega) hc)
  have T8 : ∀ x, x < gN g8 → x ≠ o → SmX g8 g15 x := fun x hx hc => (sm9 x hx hc).trans (T9 x (by omega) hc)
  have T7 : ∀ x, x < gN g7 → x ≠ o → SmX g7 g15 x := fun x hx hc => (sm8 x hx hc).trans (T8 x (by omega) hc)
  have T6 : ∀ x, x < gN g6 → x ≠ o → SmX g6 g15 x := fun x hx hc => (sm7 x hx hc).trans (T7 x (by omega) hc)
  have T5 : ∀ x, x < gN g5 → x ≠ o → SmX g5 g15 x := fun x hx hc => (sm6 x hx hc).trans (T6 x (by omega) hc)
  have T4 : ∀ x, x < gN g4 → x ≠ o → SmX g4 g15 x := fun x hx hc => (sm5 x hx hc).trans (T5 x (by omega) hc)
  have T3 : ∀ x, x < gN g3 → x ≠ o → SmX g3 g15 x := fun x hx hc => (sm4 x hx hc).trans (T4 x (by omega) hc)
  have T2 : ∀ x, x < gN g2 → x ≠ o → SmX g2 g15 x := fun x hx hc => (sm3 x hx hc).trans (T3 x (by omega) hc)
  have T1 : ∀ x, x < gN g1 → x ≠ o → SmX g1 g15 x := fun x hx hc => (sm2 x hx hc).trans (T2 x (by omega) hc)
  have T0 : ∀ x, x < gN g → x ≠ o → SmX g g15 x := fun x hx hc => (sm1 x hx hc).trans (T1 x (by omega) hc)
  have F0 : ∀ e, e ≠ 71 → e ≠ 73 → e ≠ 75 → e ≠ 81 → e ≠ 83 → e ≠ 85 → e ≠ 101 → e ≠ 103 → e ≠ 105 → e ≠ 109 → e ≠ 111 → e ≠ 113 → e ≠ 115 → e ≠ 117 → e ≠ 119 → gF g15 e o = fDef e := fun e h71 h73 h75 h81 h83 h85 h101 h103 h105 h109 h111 h113 h115 h117 h119 => (ff15 e h119).trans ((ff14 e h117).trans ((ff13 e h115).trans ((ff12 e h113).trans ((ff11 e h111).trans ((ff10 e h109).trans ((ff9 e h105).trans ((ff8 e h103).trans ((ff7 e h101).trans ((ff6 e h85).trans ((ff5 e h83).trans ((ff4 e h81).trans ((ff3 e h75).trans ((ff2 e h73).trans ((ff1 e h71).trans (hf e)))))))))))))))
  have E71 : gF g15 71 o = .ref (o + 1) := (ff15 71 (by decide)).trans ((ff14 71 (by decide)).trans ((ff13 71 (by decide)).trans ((ff12 71 (by decide)).trans ((ff11 71 (by decide)).trans ((ff10 71 (by decide)).trans ((ff9 71 (by decide)).trans ((ff8 71 (by decide)).trans ((ff7 71 (by decide)).trans ((ff6 71 (by decide)).trans ((ff5 71 (by decide)).trans ((ff4 71 (by decide)).trans ((ff3 71 (by decide)).trans ((ff2 71 (by decide)).trans (fv1))))))))))))))
  have E73 : gF g15 73 o = .ref (o + 2) := (ff15 73 (by decide)).trans ((ff14 73 (by decide)).trans ((ff13 73 (by decide)).trans ((ff12 73 (by decide)).trans ((ff11 73 (by decide)).trans ((ff10 73 (by decide)).trans ((ff9 73 (by decide)).trans ((ff8 73 (by decide)).trans ((ff7 73 (by decide)).trans ((ff6 73 (by decide)).trans ((ff5 73 (by decide)).trans ((ff4 73 (by decide)).trans ((ff3 73 (by decide)).trans (fv2)))))))))))))
  have E75 : gF g15 75 o = .ref (o + 3) := (ff15 75 (by decide)).trans ((ff14 75 (by decide)).trans ((ff13 75 (by decide)).trans ((ff12 75 (by decide)).trans ((ff11 75 (by decide)).trans ((ff10 75 (by decide)).trans ((ff9 75 (by decide)).trans ((ff8 75 (by decide)).trans ((ff7 75 (by decide)).trans ((ff6 75 (by decide)).trans ((ff5 75 (by decide)).trans ((ff4 75 (by decide)).trans (fv3))))))))))))
  have E81 : gF g15 81 o = .ref (o + 4) := (ff15 81 (by decide)).trans ((ff14 81 (by decide)).trans ((ff13 81 (by decide)).trans ((ff12 81 (by decide)).trans ((ff11 81 (by decide)).trans ((ff10 81 (by decide)).trans ((ff9 81 (by decide)).trans ((ff8 81 (by decide)).trans ((ff7 81 (by decide)).trans ((ff6 81 (by decide)).trans ((ff5 81 (by decide)).trans (fv4)))))))))))
  have E83 : gF g15 83 o = .ref (o + 5) := (ff15 83 (by decide)).trans ((ff14 83 (by decide)).trans ((ff13 83 (by decide)).trans ((ff12 83 (by decide)).trans ((ff11 83 (by decide)).trans ((ff10 83 (by decide)).trans ((ff9 83 (by decide)).trans ((ff8 83 (by decide)).trans ((ff7 83 (by decide)).trans ((ff6 83 (by decide)).trans (fv5))))))))))
  have E85 : gF g15 85 o = .ref (o + 6) := (ff15 85 (by decide)).trans ((ff14 85 (by decide)).trans ((ff13 85 (by decide)).trans ((ff12 85 (by decide)).trans ((ff11 85 (by decide)).trans ((ff10 85 (by decide)).trans ((ff9 85 (by decide)).trans ((ff8 85 (by decide)).trans ((ff7 85 (by decide)).trans (fv6)))))))))
  have E101 : gF g15 101 o = .ref (o + 7) := (ff15 101 (by decide)).trans ((ff14 101 (by decide)).trans ((ff13 101 (by decide)).trans ((ff12 101 (by decide)).trans ((ff11 101 (by decide)).trans ((ff10 101 (by decide)).trans ((ff9 101 (by decide)).trans ((ff8 101 (by decide)).trans (fv7))))))))
  have E103 : gF g15 103 o = .ref (o + 8) := (ff15 103 (by decide)).trans ((ff14 103 (by decide)).trans ((ff13 103 (by decide)).trans ((ff12 103 (by decide)).trans ((ff11 103 (by decide)).trans ((ff10 103 (by decide)).trans ((ff9 103 (by decide)).trans (fv8)))))))
  have E105 : gF g15 105 o = .ref (o + 9) := (ff15 105 (by decide)).trans ((ff14 105 (by decide)).trans ((ff13 105 (by decide)).trans ((ff12 105 (by decide)).trans ((ff11 105 (by decide)).trans ((ff10 105 (by decide)).trans (fv9))))))
  have E109 : gF g15 109 o = .ref (o + 10) := (ff15 109 (by decide)).trans ((ff14 109 (by decide)).trans ((ff13 109 (by decide)).trans ((ff12 109 (by decide)).trans ((ff11 109 (by decide)).trans (fv10)))))
  have E111 : gF g15 111 o = .ref (o + 11) := (ff15 111 (by decide)).trans ((ff14 111 (by decide)).trans ((ff13 111 (by decide)).trans ((ff12 111 (by decide)).trans (fv11))))
  have E113 : gF g15 113 o = .ref (o + 12) := (ff15 113 (by decide)).trans ((ff14 113 (by decide)).trans ((ff13 113 (by decide)).trans (fv12)))
  have E115 : gF g15 115 o = .ref (o + 13) := (ff15 115 (by decide)).trans ((ff14 115 (by decide)).trans (fv13))
  have E117 : gF g15 117 o = .ref (o + 14) := (ff15 117 (by decide)).trans (fv14)
  have E119 : gF g15 119 o = .ref (o + 15) := fv15
  have eH : TH g15 o zS (fun _ => 0) zS zS (fun _ => zS) (fun _ => zS) (fun _ => 0) (fun _ => 0) (fun _ => 0) (fun _ _ => 0) (fun _ => 0) = g15 := by
    refine hp_eq2 (fun x => ?_) (fun x => ?_) (fun f x => ?_) (fun x i => ?_) rfl
    · rw [th_K]
      by_cases e : x = o
      · rw [if_pos e, e]; exact kc15.symm
      · rw [if_neg e]
        by_cases e2 : o < x ∧ x ≤ o + 15
        · rw [if_pos e2]
          obtain rfl | rfl | rfl | rfl | rfl | rfl | rfl | rfl | rfl | rfl | rfl | rfl | rfl | rfl | rfl : x = o + 1 ∨ x = o + 2 ∨ x = o + 3 ∨ x = o + 4 ∨ x = o + 5 ∨ x = o + 6 ∨ x = o + 7 ∨ x = o + 8 ∨ x = o + 9 ∨ x = o + 10 ∨ x = o + 11 ∨ x = o + 12 ∨ x = o + 13 ∨ x = o + 14 ∨ x = o + 15 := by omega
          · rw [Nat.add_sub_cancel_left]; exact ((T1 _ (by omega) (by omega)).1.trans x1).symm
          · rw [Nat.add_sub_cancel_left]; exact ((T2 _ (by omega) (by omega)).1.trans x2).symm
          · rw [Nat.add_sub_cancel_left]; exact ((T3 _ (by omega) (by omega)).1.trans x3).symm
          · rw [Nat.add_sub_cancel_left]; exact ((T4 _ (by omega) (by omega)).1.trans x4).symm
          · rw [Nat.add_sub_cancel_left]; exact ((T5 _ (by omega) (by omega)).1.trans x5).symm
          · rw [Nat.add_sub_cancel_left]; exact ((T6 _ (by omega) (by omega)).1.trans x6).symm
          · rw [Nat.add_sub_cancel_left]; exact ((T7 _ (by omega) (by omega)).1.trans x7).symm
          · rw [Nat.add_sub_cancel_left]; exact ((T8 _ (by omega) (by omega)).1.trans x8).symm
          · rw [Nat.add_sub_cancel_left]; exact ((T9 _ (by omega) (by omega)).1.trans x9).symm
          · rw [Nat.add_sub_cancel_left]; exact ((T10 _ (by omega) (by omega)).1.trans x10).symm
          · rw [Nat.add_sub_cancel_left]; exact ((T11 _ (by omega) (by omega)).1.trans x11).symm
          · rw [Nat.add_sub_cancel_left]; exact ((T12 _ (by omega) (by omega)).1.trans x12).symm
          · rw [Nat.add_sub_cancel_left]; exact ((T13 _ (by omega) (by omega)).1.trans x13).symm
          · rw [Nat.add_sub_cancel_left]; exact ((T14 _ (by omega) (by omega)).1.trans x14).symm
          · rw [Nat.add_sub_cancel_left]; exact ((T15 _ (by omega) (by omega)).1.trans x15).symm
        · rw [if_neg e2]
    · rw [th_L]
      by_cases e2 : o < x ∧ x ≤ o + 15
      · rw [if_pos e2]
        obtain rfl | rfl | rfl | rfl | rfl | rfl | rfl | rfl | rfl | rfl | rfl | rfl | rfl | rfl | rfl : x = o + 1 ∨ x = o + 2 ∨ x = o + 3 ∨ x = o + 4 ∨ x = o + 5 ∨ x = o + 6 ∨ x = o + 7 ∨ x = o + 8 ∨ x = o + 9 ∨ x = o + 10 ∨ x = o + 11 ∨ x = o + 12 ∨ x = o + 13 ∨ x = o + 14 ∨ x = o + 15 := by omega
        · rw [Nat.add_sub_cancel_left]; exact ((T1 _ (by omega) (by omega)).2.1.trans y1).symm
        · rw [Nat.add_sub_cancel_left]; exact ((T2 _ (by omega) (by omega)).2.1.trans y2).symm
        · rw [Nat.add_sub_cancel_left]; exact ((T3 _ (by omega) (by omega)).2.1.trans y3).symm
        · rw [Nat.add_sub_cancel_left]; exact ((T4 _ (by omega) (by omega)).2.1.trans y4).symm
        · rw [Nat.add_sub_cancel_left]; exact ((T5 _ (by omega) (by omega)).2.1.trans y5).symm
        · rw [Nat.add_sub_cancel_left]; exact ((T6 _ (by omega) (by omega)).2.1.trans y6).symm
        · rw [Nat.add_sub_cancel_left]; exact ((T7 _ (by omega) (by omega)).2.1.trans y7).symm
        · rw [Nat.add_sub_cancel_left]; exact ((T8 _ (by omega) (by omega)).2.1.trans y8).symm
        · rw [Nat.add_sub_cancel_left]; exact ((T9 _ (by omega) (by omega)).2.1.trans y9).symm
        · rw [Nat.add_sub_cancel_left]; exact ((T10 _ (by omega) (by omega)).2.1.trans y10).symm
        · rw [Nat.add_sub_cancel_left]; exact ((T11 _ (by omega) (by omega)).2.1.trans y11).symm
        · rw [Nat.add_sub_cancel_left]; exact ((T12 _ (by omega) (by omega)).2.1.trans y12).symm
        · rw [Nat.add_sub_cancel_left]; exact ((T13 _ (by omega) (by omega)).2.1.trans y13).symm
        · rw [Nat.add_sub_cancel_left]; exact ((T14 _ (by omega) (by omega)).2.1.trans y14).symm
        · rw [Nat.add_sub_cancel_left]; exact ((T15 _ (by omega) (by omega)).2.1.trans y15).symm
      · rw [if_neg e2]
    · rw [th_F]
      by_cases e : x = o
      · rw [if_pos e, e]
        by_cases h71 : f = 71
        · rw [h71]; exact E71.symm
        by_cases h73 : f = 73
        · rw [h73]; exact E73.symm
        by_cases h75 : f = 75
        · rw [h75]; exact E75.symm
        by_cases h81 : f = 81
        · rw [h81]; exact E81.symm
        by_cases h83 : f = 83
        · rw [h83]; exact E83.symm
        by_cases h85 : f = 85
        · rw [h85]; exact E85.symm
        by_cases h101 : f = 101
        · rw [h101]; exact E101.symm
        by_cases h103 : f = 103
        · rw [h103]; exact E103.symm
        by_cases h105 : f = 105
        · rw [h105]; exact E105.symm
        by_cases h109 : f = 109
        · rw [h109]; exact E109.symm
        by_cases h111 : f = 111
        · rw [h111]; exact E111.symm
        by_cases h113 : f = 113
        · rw [h113]; exact E113.symm
        by_cases h115 : f = 115
        · rw [h115]; exact E115.symm
        by_cases h117 : f = 117
        · rw [h117]; exact E117.symm
        by_cases h119 : f = 119
        · rw [h119]; exact E119.symm
        have er : tRf f = 0 := by
          unfold tRf
          rw [if_neg h71, if_neg h73, if_neg h75, if_neg h81, if_neg h83, if_neg h85, if_neg h101, if_neg h103, if_neg h105, if_neg h109, if_neg h111, if_neg h113, if_neg h115, if_neg h117, if_neg h119]
        rw [if_pos er, F0 f h71 h73 h75 h81 h83 h85 h101 h103 h105 h109 h111 h113 h115 h117 h119]
        rfl
      · rw [if_neg e]
    · rw [th_I]
      by_cases e2 : o < x ∧ x ≤ o + 15
      · rw [if_pos e2, tC_0]
        obtain rfl | rfl | rfl | rfl | rfl | rfl | rfl | rfl | rfl | rfl | rfl | rfl | rfl | rfl | rfl : x = o + 1 ∨ x = o + 2 ∨ x = o + 3 ∨ x = o + 4 ∨ x = o + 5 ∨ x = o + 6 ∨ x = o + 7 ∨ x = o + 8 ∨ x = o + 9 ∨ x = o + 10 ∨ x = o + 11 ∨ x = o + 12 ∨ x = o + 13 ∨ x = o + 14 ∨ x = o + 15 := by omega
        · exact (((T1 _ (by omega) (by omega)).2.2.2.1 i).trans (z1 i)).symm
        · exact (((T2 _ (by omega) (by omega)).2.2.2.1 i).trans (z2 i)).symm
        · exact (((T3 _ (by omega) (by omega)).2.2.2.1 i).trans (z3 i)).symm
        · exact (((T4 _ (by omega) (by omega)).2.2.2.1 i).trans (z4 i)).symm
        · exact (((T5 _ (by omega) (by omega)).2.2.2.1 i).trans (z5 i)).symm
        · exact (((T6 _ (by omega) (by omega)).2.2.2.1 i).trans (z6 i)).symm
        · exact (((T7 _ (by omega) (by omega)).2.2.2.1 i).trans (z7 i)).symm
        · exact (((T8 _ (by omega) (by omega)).2.2.2.1 i).trans (z8 i)).symm
        · exact (((T9 _ (by omega) (by omega)).2.2.2.1 i).trans (z9 i)).symm
        · exact (((T10 _ (by omega) (by omega)).2.2.2.1 i).trans (z10 i)).symm
        · exact (((T11 _ (by omega) (by omega)).2.2.2.1 i).trans (z11 i)).symm
        · exact (((T12 _ (by omega) (by omega)).2.2.2.1 i).trans (z12 i)).symm
        · exact (((T13 _ (by omega) (by omega)).2.2.2.1 i).trans (z13 i)).symm
        · exact (((T14 _ (by omega) (by omega)).2.2.2.1 i).trans (z14 i)).symm
        · exact (((T15 _ (by omega) (by omega)).2.2.2.1 i).trans (z15 i)).symm
      · rw [if_neg e2]
  have key : ∀ (Q : Po) q k (I : Nat → Nat → Int32), k + q = 8 → Ex mX9_init Q 126 [.ref o, .int (nI k)] [] (TH g15 o zS (fun _ => 0) zS zS (fun _ => zS) (fun _ => zS) (fun _ => 0) (fun _ => 0) (fun _ => 0) I (fun _ => 0)) = Q (.inl none) (TH g15 o zS (fun _ => 0) zS zS (fun _ => zS) (fun _ => zS) (fun _ => 0) (fun _ => 0) (fun _ => 0) (fun a i => if a = 2 ∧ k ≤ i ∧ i < 8 then zI (-1) else I a i) (fun _ => 0)) := by
    intro Q q
    induction q with
    | zero =>
      intro k I hk
      have e : (fun a i => if a = 2 ∧ k ≤ i ∧ i < 8 then zI (-1) else I a i) = I := by
        funext a i; rw [if_neg (by omega)]
      rw [e, rX9_init_126]
      simp (disch := omega) only [↓rX9_init_0, ↓rX9_init_1, ↓rX9_init_4, ↓rX9_init_5, ↓rX9_init_7, ↓rX9_init_9, ↓rX9_init_9n, ↓rX9_init_12, ↓rX9_init_13, ↓rX9_init_15, ↓rX9_init_17, ↓rX9_init_17n, ↓rX9_init_20, ↓rX9_init_21, ↓rX9_init_24, ↓rX9_init_26, ↓rX9_init_26n, ↓rX9_init_29, ↓rX9_init_30, ↓rX9_init_32, ↓rX9_init_34, ↓rX9_init_34n, ↓rX9_init_37, ↓rX9_init_38, ↓rX9_init_40, ↓rX9_init_42, ↓rX9_init_42n, ↓rX9_init_45, ↓rX9_init_46, ↓rX9_init_48, ↓rX9_init_50, ↓rX9_init_50n, ↓rX9_init_53, ↓rX9_init_54, ↓rX9_init_56, ↓rX9_init_58, ↓rX9_init_58n, ↓rX9_init_61, ↓rX9_init_62, ↓rX9_init_63, ↓rX9_init_65, ↓rX9_init_65n, ↓rX9_init_68, ↓rX9_init_69, ↓rX9_init_72, ↓rX9_init_74, ↓rX9_init_74n, ↓rX9_init_77, ↓rX9_init_78, ↓rX9_init_80, ↓rX9_init_82, ↓rX9_init_82n, ↓rX9_init_85, ↓rX9_init_86, ↓rX9_init_88, ↓rX9_init_90, ↓rX9_init_90n, ↓rX9_init_93, ↓rX9_init_94, ↓rX9_init_96, ↓rX9_init_98, ↓rX9_init_98n, ↓rX9_init_101, ↓rX9_init_102, ↓rX9_init_103, ↓rX9_init_105, ↓rX9_init_105n, ↓rX9_init_108, ↓rX9_init_109, ↓rX9_init_111, ↓rX9_init_113, ↓rX9_init_113n, ↓rX9_init_116, ↓rX9_init_117, ↓rX9_init_119, ↓rX9_init_121, ↓rX9_init_121n, ↓rX9_init_124, ↓rX9_init_125, ↓rX9_init_127, ↓rX9_init_129, ↓rX9_init_132, ↓rX9_init_133, ↓rX9_init_136, ↓rX9_init_137, ↓rX9_init_138, ↓rX9_init_139, ↓rX9_init_142, ↓rX9_init_145, ↓rX9_init_t, tK_0, tK_1, tL_1, tK_2, tL_2, tK_3, tL_3, tK_4, tL_4, tK_5, tL_5, tK_6, tL_6, tK_7, tL_7, tK_8, tL_8, tK_9, tL_9, tK_10, tL_10, tK_11, tL_11, tK_12, tL_12, tK_13, tL_13, tK_14, tL_14, tK_15, tL_15, tF_71, tF_73, tF_75, tF_81, tF_83, tF_85, tF_101, tF_103, tF_105, tF_109, tF_111, tF_113, tF_115, tF_117, tF_119, tG_76, tG_78, tG_86, tG_88, tG_90, tG_92, tG_94, tG_96, tG_98, tG_106, tG_120, tI_1, tI_2, tI_3, tI_4, tI_5, tI_6, tI_7, tI_8, tI_9, tI_10, tI_11, tI_12, tI_13, tI_14, tI_15, tP_76, tP_78, tP_86, tP_88, tP_90, tP_92, tP_94, tP_96, tP_98, tP_106, tP_120, tW_1, tW_2, tW_3, tW_4, tW_5, tW_6, tW_7, tW_8, tW_9, tW_10, tW_11, tW_12, tW_13, tW_14, tW_15, ↓rmI_in, ↓shrI_in, ↓shlI_in, ↓okI_in, ↓bI_01, bI_z, bI_o, nn_neg, Int.cast_ofNat_Int, zlit, n_leT, n_leF, n_ltT, n_ltF, n_eqT, n_eqF, z_leT, z_leF, z_ltT, z_ltF, z_eqT, z_eqF, nn_add, nn_mul, nn_clamp, nn_lt, nn_le, nn_eq, nn_div, rmI_nn, okI_nn, nn_and, nn_or, nn_xor, shlI_1, shrI_nn, Cont_v, Cont_0, List.mem_cons, List.not_mem_nil, or_false, or_true, true_or, true_and, and_true, ite_not, if_true, if_false, not_true_eq_false, not_false_eq_true, false_or, false_and, and_false, eq_self, ↓reduceIte, reduceCtorEq, ↓c9_in, ↓c9_isBook, ↓c9_isFish, ↓c9_isWhat, ↓c9_isCaught, ↓c9_putAside, ↓c9_takeBack, l_toInt, sub_toInt, l64_0, l64_1, l64_2, l64_3, l64_5, l64_7, l64_9, l64_10, l64_12, l64_24, l64_48, l64_57, l64_60, l64_97, l64_122, l64_255, l64_999, l64_999999, l64_m]
    | succ q ih =>
      intro k I hk
      have e : (fun a i => if a = 2 ∧ k + 1 ≤ i ∧ i < 8 then zI (-1) else up2 I 2 k (zI (-1)) a i) = (fun a i => if a = 2 ∧ k ≤ i ∧ i < 8 then zI (-1) else I a i) := by
        funext a i
        rw [up2_at]
        by_cases h1 : a = 2 ∧ k + 1 ≤ i ∧ i < 8
        · rw [if_pos h1, if_pos (by omega)]
        · rw [if_neg h1]
          by_cases h2 : a = 2 ∧ i = k
          · rw [if_pos h2, if_pos (by omega)]
          · rw [if_neg h2, if_neg (by omega)]
      rw [← e, ← ih (k + 1) (up2 I 2 k (zI (-1))) (by omega), rX9_init_126]
      simp (disch := omega) only [↓rX9_init_0, ↓rX9_init_1, ↓rX9_init_4, ↓rX9_init_5, ↓rX9_init_7, ↓rX9_init_9, ↓rX9_init_9n, ↓rX9_init_12, ↓rX9_init_13, ↓rX9_init_15, ↓rX9_init_17, ↓rX9_init_17n, ↓rX9_init_20, ↓rX9_init_21, ↓rX9_init_24, ↓rX9_init_26, ↓rX9_init_26n, ↓rX9_init_29, ↓rX9_init_30, ↓rX9_init_32, ↓rX9_init_34, ↓rX9_init_34n, ↓rX9_init_37, ↓rX9_init_38, ↓rX9_init_40, ↓rX9_init_42, ↓rX9_init_42n, ↓rX9_init_45, ↓rX9_init_46, ↓rX9_init_48, ↓rX9_init_50, ↓rX9_init_50n, ↓rX9_init_53, ↓rX9_init_54, ↓rX9_init_56, ↓rX9_init_58, ↓rX9_init_58n, ↓rX9_init_61, ↓rX9_init_62, ↓rX9_init_63, ↓rX9_init_65, ↓rX9_init_65n, ↓rX9_init_68, ↓rX9_init_69, ↓rX9_init_72, ↓rX9_init_74, ↓rX9_init_74n, ↓rX9_init_77, ↓rX9_init_78, ↓rX9_init_80, ↓rX9_init_82, ↓rX9_init_82n, ↓rX9_init_85, ↓rX9_init_86, ↓rX9_init_88, ↓rX9_init_90, ↓rX9_init_90n, ↓rX9_init_93, ↓rX9_init_94, ↓rX9_init_96, ↓rX9_init_98, ↓rX9_init_98n, ↓rX9_init_101, ↓rX9_init_102, ↓rX9_init_103, ↓rX9_init_105, ↓rX9_init_105n, ↓rX9_init_108, ↓rX9_init_109, ↓rX9_init_111, ↓rX9_init_113, ↓rX9_init_113n, ↓rX9_init_116, ↓rX9_init_117, ↓rX9_init_119, ↓rX9_init_121, ↓rX9_init_121n, ↓rX9_init_124, ↓rX9_init_125, ↓rX9_init_127, ↓rX9_init_129, ↓rX9_init_132, ↓rX9_init_133, ↓rX9_init_136, ↓rX9_init_137, ↓rX9_init_138, ↓rX9_init_139, ↓rX9_init_142, ↓rX9_init_145, ↓rX9_init_t, tK_0, tK_1, tL_1, tK_2, tL_2, tK_3, tL_3, tK_4, tL_4, tK_5, tL_5, tK_6, tL_6, tK_7, tL_7, tK_8, tL_8, tK_9, tL_9, tK_10, tL_10, tK_11, tL_11, tK_12, tL_12, tK_13, tL_13, tK_14, tL_14, tK_15, tL_15, tF_71, tF_73, tF_75, tF_81, tF_83, tF_85, tF_101, tF_103, tF_105, tF_109, tF_111, tF_113, tF_115, tF_117, tF_119, tG_76, tG_78, tG_86, tG_88, tG_90, tG_92, tG_94, tG_96, tG_98, tG_106, tG_120, tI_1, tI_2, tI_3, tI_4, tI_5, tI_6, tI_7, tI_8, tI_9, tI_10, tI_11, tI_12, tI_13, tI_14, tI_15, tP_76, tP_78, tP_86, tP_88, tP_90, tP_92, tP_94, tP_96, tP_98, tP_106, tP_120, tW_1, tW_2, tW_3, tW_4, tW_5, tW_6, tW_7, tW_8, tW_9, tW_10, tW_11, tW_12, tW_13, tW_14, tW_15, ↓rmI_in, ↓shrI_in, ↓shlI_in, ↓okI_in, ↓bI_01, bI_z, bI_o, nn_neg, Int.cast_ofNat_Int, zlit, n_leT, n_leF, n_ltT, n_ltF, n_eqT, n_eqF, z_leT, z_leF, z_ltT, z_ltF, z_eqT, z_eqF, nn_add, nn_mul, nn_clamp, nn_lt, nn_le, nn_eq, nn_div, rmI_nn, okI_nn, nn_and, nn_or, nn_xor, shlI_1, shrI_nn, Cont_v, Cont_0, List.mem_cons, List.not_mem_nil, or_false, or_true, true_or, true_and, and_true, ite_not, if_true, if_false, not_true_eq_false, not_false_eq_true, false_or, false_and, and_false, eq_self, ↓reduceIte, reduceCtorEq, ↓c9_in, ↓c9_isBook, ↓c9_isFish, ↓c9_isWhat, ↓c9_isCaught, ↓c9_putAside, ↓c9_takeBack, l_toInt, sub_toInt, l64_0, l64_1, l64_2, l64_3, l64_5, l64_7, l64_9, l64_10, l64_12, l64_24, l64_48, l64_57, l64_60, l64_97, l64_122, l64_255, l64_999, l64_999999, l64_m]
  refine ⟨TH g15 o zS (fun _ => 0) zS zS (fun _ => zS) (fun _ => zS) (fun _ => 0) (fun _ => 0) (fun _ => 0) (fun a i => if a = 2 ∧ 0 ≤ i ∧ i < 8 then zI (-1) else (0 : Int32)) (fun _ => 0), ⟨fun _ => 0, zS, zS, fun _ => 0, fun _ => 0, fun a i => if a = 2 ∧ 0 ≤ i ∧ i < 8 then zI (-1) else (0 : Int32), fun _ => 0, ?_, th_twice _ _ _ _ _ _ _ _ _ _ _ _ _⟩, ⟨n15, by show gC g ≤ gC g15 + 15; omega, by show gS g ≤ gS g15 + 1800; omega⟩, fun x hx => (T0 x (by omega) (by omega)).trans (th_sm _ _ _ _ _ _ _ _ _ _ _ _ _ (by omega)), fun Q => ?_⟩
  · refine ⟨fun r hr => ⟨fun q hq => (by cases hq), fun _ => if_pos ⟨rfl, Nat.zero_le _, hr⟩⟩, fun k hk => ?_, fun i hi => absurd hi (Nat.not_lt_zero i), rfl, ?_, rfl, rfl, rfl, rfl⟩
    · show (if 13 = 2 ∧ 0 ≤ k ∧ k < 8 then zI (-1) else (0 : Int32)) = bI (false = true)
      rw [if_neg (by omega), bI_f (by decide)]; rfl
    · show (0 : Int32) = bI (0 < (zS 2 : Nat))
      rw [bI_f (by rw [zS_0]; omega)]; rfl
  · rw [w0 Q, w1 Q, w2 Q, w3 Q, w4 Q, w5 Q, w6 Q, w7 Q, w8 Q, w9 Q, w10 Q, w11 Q, w12 Q, w13 Q, w14 Q]
    have k0 := key Q 8 0 (fun _ _ => 0) (by omega)
    rw [← k0, eH]
    simp (disch := omega) only [↓rX9_init_124, ↓rX9_init_125, ↓rX9_init_t, ↓rmI_in, ↓shrI_in, ↓shlI_in, ↓okI_in, ↓bI_01, bI_z, bI_o, nn_neg, Int.cast_ofNat_Int, zlit, n_leT, n_leF, n_ltT, n_ltF, n_eqT, n_eqF, z_leT, z_leF, z_ltT, z_ltF, z_eqT, z_eqF, nn_add, nn_mul, nn_clamp, nn_lt, nn_le, nn_eq, nn_div, rmI_nn, okI_nn, nn_and, nn_or, nn_xor, shlI_1, shrI_nn, Cont_v, Cont_0, List.mem_cons, List.not_mem_nil, or_false, or_true, true_or, true_and, and_true, ite_not, if_true, if_false, not_true_eq_false, not_false_eq_true, false_or, false_and, and_false, eq_self, ↓reduceIte, reduceCtorEq]
/-! BOTH ARE MADE -/
theorem made {G H : Hp} {c u : Nat} (hG : GI G c u) (nG : gN G = c + 31) (h0 : 0 < c) (hS : ∀ x, x < c + 31 → SmX G H x) (nH : gN H = c + 47) (St : StR H) : CInv H c X00 := by
  obtain ⟨M, ⟨f6, f8, f16, f22⟩, f21, ⟨L3, k8, e1, e2⟩, L11, ⟨r1, r19, r20⟩, k21, f65, f66, k22, l22⟩ := hG
  have sc := hS c (by omega)
  have s8 := hS (c + 8) (by omega)
  have s21 := hS (c + 21) (by omega)
  have s22 := hS (c + 22) (by omega)
  refine ⟨M.keep (fun k hk => ⟨(hS (c + k) (by omega)).1, (hS (c + k) (by omega)).2.1⟩) (fun f _ _ _ _ _ _ => sc.2.2.1 f) (hS (c + 25) (by omega)).2.2.2.2, St, ⟨h0, by omega⟩, ⟨(sc.2.2.1 6).trans f6, (sc.2.2.1 8).trans f8, (sc.2.2.1 16).trans f16, (sc.2.2.1 22).trans f22⟩, fun i hi => absurd hi (Nat.not_lt_zero i), ⟨fun _ => 0, c + 8, zI (-1000000), .null, L3.sm (fun k hk => hS _ (by omega)), fun j hj => ?_, ⟨u, fun _ => 0, ⟨s8.1.trans k8, (s8.2.2.1 _).trans e1, ?_, fun f hf => ?_⟩, fun f hf => ?_, by omega⟩, rfl⟩, ⟨zS, fun _ => 0, c + 16, zI (-1000000), .null, L11.sm (fun k hk => hS _ (by omega))⟩, fun x => if x = c + 22 then c + 21 else x, fun _ => 0, 0, fun _ => 0, fun _ => 0, c + 21, ?_, ?_, ?_, ?_, fun j k hj => absurd hj (Nat.not_lt_zero j)⟩
  · have hj' : j < (zS 0 : Nat) := hj
    rw [zS_0] at hj'; omega
  · show gF H 162 (c + 8) = .int (nI (zS 1 : Nat))
    rw [zS_0]; exact (s8.2.2.1 _).trans e2
  · have hf' : f < (zS 1 : Nat) := hf
    rw [zS_0] at hf'; omega
  · have hf' : f < (zS 1 : Nat) := hf
    rw [zS_0] at hf'; omega
  · refine ⟨⟨Nat.zero_le _, by omega⟩, fun k hk => ?_, fun k hk => absurd hk (Nat.not_lt_zero k), fun k hk => absurd hk (Nat.not_lt_zero k), fun j k hj => absurd hj (Nat.not_lt_zero j)⟩
    rw [if_neg (Nat.not_lt_zero k)]
    exact ((hS (c + 19) (by omega)).2.2.2.2 k).trans (r19 k)
  · refine ⟨fun k hk => ?_, fun k hk hx => (by cases hx), fun hx => by cases hx⟩
    rw [if_neg (fun q => by cases q)]
    exact ((hS (c + 20) (by omega)).2.2.2.2 k).trans (r20 k)
  · exact ⟨fun r hr _ => ((hS (c + 1) (by omega)).2.2.2.2 r).trans (r1 r), fun r hr q hq => (by cases hq), fun j k _ _ hx => by cases hx⟩
  · refine ⟨(sc.2.2.1 21).trans f21, Or.inl rfl, by omega, ⟨s21.1.trans k21, (s21.2.2.1 _).trans f65, (s21.2.2.1 _).trans f66⟩, ⟨s22.1.trans k22, s22.2.1.trans l22, fun i hi => absurd hi (Nat.not_lt_zero i)⟩, ?_, ?_⟩
    · show (if c + 21 = c + 22 then c + 21 else c + 21) = _
      rw [if_neg (by omega)]
    · exact if_pos rfl
/-- the law from its start -/
theorem law_all (hK : K_copy) (hA : K_as) {h : Hp} {sc n : Nat} {f : Nat → Int32} (hn : n ≤ 448) (St : StR h) (Ss : StS h (gN h)) (hsc : sc < gN h) (S : Scr h sc n f) (h0 : 0 < gN h) (hC : 20000 ≤ gC h) (hS : 200000 ≤ gS h) : ∃ h2, ∀ Q : Po, Ex mL_law Q 0 [.ref sc, .retAddr 0, .retAddr 0, .retAddr 0] [] h = Q (.inl (some (.int (nI 1)))) h2 := by
  have Ss' := Ss
  obtain ⟨u, sa, sb, v7, ⟨e1, e2, e3, e4⟩, -⟩ := Ss'
  have s1 : ∀ x, x < gN h → SmX h (nO h 1 15) x := fun x hx => nO_sm (by omega)
  obtain ⟨G, hG, ⟨nG, cG, lG⟩, sG, wG⟩ := c0_init (g := nO h 1 15) (c := gN h) (u := u) (if_pos rfl) rfl (fun f => if_pos rfl) (by rw [gF_nO, if_neg (by omega)]; exact e1) h0 (by rw [gC_nO]; omega) (by rw [gS_nO]; omega)
  rw [gC_nO] at cG
  rw [gS_nO] at lG
  obtain ⟨H, tH, ⟨nH, cH, lH⟩, sH, wH⟩ := c9_init (g := nO G 9 26) (o := gN h + 31) (by rw [gK_nO, nG, if_pos rfl]) (by rw [gN_nO, nG]) (fun f => by rw [gF_nO, nG, if_pos rfl]) (by omega) (by rw [gC_nO]; omega) (by rw [gS_nO]; omega)
  rw [gC_nO] at cH
  rw [gS_nO] at lH
  have s2 : ∀ x, x < gN h + 31 → SmX G H x := fun x hx => (nO_sm (by omega)).trans (sH x hx)
  have s3 : ∀ x, x < gN h → SmX h H x := fun x hx => ((s1 x hx).trans (sG x hx)).trans (s2 x (by omega))
  obtain ⟨⟨v1, z1⟩, ⟨v2, z2⟩, ⟨v3, z3⟩, -⟩ := St
  have s0 := s3 0 h0
  have StH : StR H := ⟨⟨v1, (s0.2.2.1 _).trans z1⟩, ⟨v2, (s0.2.2.1 _).trans z2⟩, ⟨v3, (s0.2.2.1 _).trans z3⟩, by omega⟩
  have CI := made hG nG h0 s2 (by omega) StH
  have L : LInv H (gN h) X00 sc n f := ⟨CI, XOK_0, Ss.keep h0 s3, tH, hsc, S.keep (s3 sc hsc)⟩
  obtain ⟨h2, hq⟩ := law_ok hK hA hn 64 0 H X00 L (by omega) (by omega) (by omega) (by omega)
  refine ⟨h2, fun Q => Eq.trans ?_ (hq Q)⟩
  simp (disch := omega) only [↓rL_law_0, ↓rL_law_3, ↓rL_law_4, ↓rL_law_7, ↓rL_law_8, ↓rL_law_11, ↓rL_law_12, ↓rL_law_15, ↓rL_law_16, ↓rL_law_17, ↓rL_law_t, ↓rmI_in, ↓shrI_in, ↓shlI_in, ↓okI_in, ↓bI_01, bI_z, bI_o, nn_neg, Int.cast_ofNat_Int, zlit, n_leT, n_leF, n_ltT, n_ltF, n_eqT, n_eqF, z_leT, z_leF, z_ltT, z_ltF, z_eqT, z_eqF, nn_add, nn_mul, nn_clamp, nn_lt, nn_le, nn_eq, nn_div, rmI_nn, okI_nn, nn_and, nn_or, nn_xor, shlI_1, shrI_nn, Cont_v, Cont_0, List.mem_cons, List.not_mem_nil, or_false, or_true, true_or, true_and, and_true, ite_not, if_true, if_false, not_true_eq_false, not_false_eq_true, false_or, false_and, and_false, eq_self, ↓reduceIte, reduceCtorEq, ↓wG, nG, ↓wH]

