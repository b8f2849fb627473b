/-! WHAT IS MADE AT FIRST: the class's constructor -/
def GI (G : Hp) (c u : Nat) : Prop := CM G c ∧ (gF G 6 c = .int (nI 0) ∧ gF G 8 c = .int (nI 0) ∧ gF G 16 c = .int (nI 0) ∧ gF G 22 c = .int (nI 0)) ∧ gF G 21 c = .ref (c + 21) ∧ (HL G (c + 3) zS (fun _ => 0) (c + 8) (zI (-1000000)) .null ∧ gK G (c + 8) = 14 ∧ gF G 161 (c + 8) = .ref u ∧ gF G 162 (c + 8) = .int (nI 0)) ∧ HL G (c + 11) zS (fun _ => 0) (c + 16) (zI (-1000000)) .null ∧ ((∀ i, gR G (c + 1) i = none) ∧ (∀ i, gR G (c + 19) i = none) ∧ ∀ i, gR G (c + 20) i = none) ∧ (gK G (c + 21) = 3 ∧ gF G 65 (c + 21) = .ref (c + 22) ∧ gF G 66 (c + 21) = .int (nI 0) ∧ gK G (c + 22) = 51 ∧ gL G (c + 22) = 16)
theorem NFs_walk {g : Hp} {c : Nat} (kc : gK g c = 1) (hN : gN g = c + 25) (hC : 6 ≤ gC g) (hS : 10 ≤ gS g) (Q : Po) : Ex mX0_init Q 87 [.ref c] [] g = Ex mX0_init Q 150 [.ref c] [] (pF (NFs g) 31 c (.ref (c + 25))) := by
  have n0 : gN (nR g 56 5) = c + 26 := by rw [gN_nR, hN]
  have k0 : gK (nR g 56 5) (c + 25) = 56 := by rw [gK_nR, if_pos (by omega)]
  have l0 : gL (nR g 56 5) (c + 25) = 5 := by rw [gL_nR, if_pos (by omega)]
  have kc0 : gK (nR g 56 5) c = 1 := by rw [gK_nR, if_neg (by omega)]; exact kc
  have c0 : gC (nR g 56 5) = gC g - 1 := rfl
  have t0 : gS (nR g 56 5) = gS g - 5 := rfl
  have w0 : Ex mX0_init Q 87 [.ref c] [] g = Ex mX0_init Q 92 [.ref c] [.ref (c + 25), .ref c] (nR g 56 5) := by
    simp (disch := omega) only [↓rX0_init_87, ↓rX0_init_88, ↓rX0_init_89, ↓rX0_init_t, ↓rmI_in, ↓shrI_in, ↓shlI_in, ↓okI_in, ↓bI_01, bI_z, bI_o, nn_neg, Int.cast_ofNat_Int, zlit, n_leT, n_leF, n_ltT, n_ltF, n_eqT, n_eqF, z_leT, z_leF, z_ltT, z_ltF, z_eqT, z_eqF, nn_add, nn_mul, nn_clamp, nn_lt, nn_le, nn_eq, nn_div, rmI_nn, okI_nn, nn_and, nn_or, nn_xor, shlI_1, shrI_nn, Cont_v, Cont_0, List.mem_cons, List.not_mem_nil, or_false, or_true, true_or, true_and, and_true, ite_not, if_true, if_false, not_true_eq_false, not_false_eq_true, false_or, false_and, and_false, eq_self, ↓reduceIte, reduceCtorEq, hN]
  rw [w0]
  unfold NFs
  rw [hN]
  generalize nR g 56 5 = G0 at n0 k0 l0 kc0 c0 t0
  obtain ⟨a1, a2, a3, a4, a5, ⟨a6, a7⟩, -⟩ := NF_ok G0 (t := c + 25) (k := 0) (by omega)
  have i1 := fun Q => (NF_walk G0 Q (k := 0) (by omega)).1 rfl
  have w1 : Ex mX0_init Q 92 [.ref c] [.ref (c + 25), .ref c] G0 = Ex mX0_init Q 103 [.ref c] [.ref (c + 25), .ref c] (NF G0 (c + 25) 0) := by
    have kx : gK (pF (nO G0 4 1) 68 (gN G0) (.int (nI 0))) (c + 25) = 56 := by rw [gK_pF, gK_nO, if_neg (by omega)]; exact k0
    have lx : gL (pF (nO G0 4 1) 68 (gN G0) (.int (nI 0))) (c + 25) = 5 := by rw [gL_pF, gL_nO]; exact l0
    have ky : gK (pF (nO G0 4 1) 68 (gN G0) (.int (nI 0))) (gN G0) = 4 := by rw [gK_pF, gK_nO, if_pos rfl]
    unfold NF
    simp (disch := omega) only [↓rX0_init_92, ↓rX0_init_93, ↓rX0_init_94, ↓rX0_init_97, ↓rX0_init_98, ↓rX0_init_99, ↓rX0_init_102, ↓rX0_init_102n, ↓rX0_init_t, ↓rmI_in, ↓shrI_in, ↓shlI_in, ↓okI_in, ↓bI_01, bI_z, bI_o, nn_neg, Int.cast_ofNat_Int, zlit, n_leT, n_leF, n_ltT, n_ltF, n_eqT, n_eqF, z_leT, z_leF, z_ltT, z_ltF, z_eqT, z_eqF, nn_add, nn_mul, nn_clamp, nn_lt, nn_le, nn_eq, nn_div, rmI_nn, okI_nn, nn_and, nn_or, nn_xor, shlI_1, shrI_nn, Cont_v, Cont_0, List.mem_cons, List.not_mem_nil, or_false, or_true, true_or, true_and, and_true, ite_not, if_true, if_false, not_true_eq_false, not_false_eq_true, false_or, false_and, and_false, eq_self, ↓reduceIte, reduceCtorEq, ↓i1, kx, lx, ky, Nat.reduceAdd]
  rw [w1]
  have n1 : gN (NF G0 (c + 25) 0) = c + 27 := by omega
  have k1 : gK (NF G0 (c + 25) 0) (c + 25) = 56 := a6.trans k0
  have l1 : gL (NF G0 (c + 25) 0) (c + 25) = 5 := a7.trans l0
  have kc1 : gK (NF G0 (c + 25) 0) c = 1 := (a4 c (by omega) (by omega)).1.trans kc0
  have c1 : gC (NF G0 (c + 25) 0) = gC g - 2 := by omega
  have t1 : gS (NF G0 (c + 25) 0) = gS g - 6 := by omega
  clear a1 a2 a3 a4 a5 a6 a7 i1 w1
  generalize NF G0 (c + 25) 0 = G1 at n1 k1 l1 kc1 c1 t1
  obtain ⟨a1, a2, a3, a4, a5, ⟨a6, a7⟩, -⟩ := NF_ok G1 (t := c + 25) (k := 1) (by omega)
  have i2 := fun Q => (NF_walk G1 Q (k := 1) (by omega)).2.1 rfl
  have w2 : Ex mX0_init Q 103 [.ref c] [.ref (c + 25), .ref c] G1 = Ex mX0_init Q 114 [.ref c] [.ref (c + 25), .ref c] (NF G1 (c + 25) 1) := by
    have kx : gK (pF (nO G1 5 1) 68 (gN G1) (.int (nI 0))) (c + 25) = 56 := by rw [gK_pF, gK_nO, if_neg (by omega)]; exact k1
    have lx : gL (pF (nO G1 5 1) 68 (gN G1) (.int (nI 0))) (c + 25) = 5 := by rw [gL_pF, gL_nO]; exact l1
    have ky : gK (pF (nO G1 5 1) 68 (gN G1) (.int (nI 0))) (gN G1) = 5 := by rw [gK_pF, gK_nO, if_pos rfl]
    unfold NF
    simp (disch := omega) only [↓rX0_init_103, ↓rX0_init_104, ↓rX0_init_105, ↓rX0_init_108, ↓rX0_init_109, ↓rX0_init_110, ↓rX0_init_113, ↓rX0_init_113n, ↓rX0_init_t, ↓rmI_in, ↓shrI_in, ↓shlI_in, ↓okI_in, ↓bI_01, bI_z, bI_o, nn_neg, Int.cast_ofNat_Int, zlit, n_leT, n_leF, n_ltT, n_ltF, n_eqT, n_eqF, z_leT, z_leF, z_ltT, z_ltF, z_eqT, z_eqF, nn_add, nn_mul, nn_clamp, nn_lt, nn_le, nn_eq, nn_div, rmI_nn, okI_nn, nn_and, nn_or, nn_xor, shlI_1, shrI_nn, Cont_v, Cont_0, List.mem_cons, List.not_mem_nil, or_false, or_true, true_or, true_and, and_true, ite_not, if_true, if_false, not_true_eq_false, not_false_eq_true, false_or, false_and, and_false, eq_self, ↓reduceIte, reduceCtorEq, ↓i2, kx, lx, ky, Nat.reduceAdd]
  rw [w2]
  have n2 : gN (NF G1 (c + 25) 1) = c + 28 := by omega
  have k2 : gK (NF G1 (c + 25) 1) (c + 25) = 56 := a6.trans k1
  have l2 : gL (NF G1 (c + 25) 1) (c + 25) = 5 := a7.trans l1
  have kc2 : gK (NF G1 (c + 25) 1) c = 1 := (a4 c (by omega) (by omega)).1.trans kc1
  have c2 : gC (NF G1 (c + 25) 1) = gC g - 3 := by omega
  have t2 : gS (NF G1 (c + 25) 1) = gS g - 7 := by omega
  clear a1 a2 a3 a4 a5 a6 a7 i2 w2
  generalize NF G1 (c + 25) 1 = G2 at n2 k2 l2 kc2 c2 t2
  obtain ⟨a1, a2, a3, a4, a5, ⟨a6, a7⟩, -⟩ := NF_ok G2 (t := c + 25) (k := 2) (by omega)
  have i3 := fun Q => (NF_walk G2 Q (k := 2) (by omega)).2.2.1 rfl
  have w3 : Ex mX0_init Q 114 [.ref c] [.ref (c + 25), .ref c] G2 = Ex mX0_init Q 125 [.ref c] [.ref (c + 25), .ref c] (NF G2 (c + 25) 2) := by
    have kx : gK (pF (nO G2 6 1) 68 (gN G2) (.int (nI 0))) (c + 25) = 56 := by rw [gK_pF, gK_nO, if_neg (by omega)]; exact k2
    have lx : gL (pF (nO G2 6 1) 68 (gN G2) (.int (nI 0))) (c + 25) = 5 := by rw [gL_pF, gL_nO]; exact l2
    have ky : gK (pF (nO G2 6 1) 68 (gN G2) (.int (nI 0))) (gN G2) = 6 := by rw [gK_pF, gK_nO, if_pos rfl]
    unfold NF
    simp (disch := omega) only [↓rX0_init_114, ↓rX0_init_115, ↓rX0_init_116, ↓rX0_init_119, ↓rX0_init_120, ↓rX0_init_121, ↓rX0_init_124, ↓rX0_init_124n, ↓rX0_init_t, ↓rmI_in, ↓shrI_in, ↓shlI_in, ↓okI_in, ↓bI_01, bI_z, bI_o, nn_neg, Int.cast_ofNat_Int, zlit, n_leT, n_leF, n_ltT, n_ltF, n_eqT, n_eqF, z_leT, z_leF, z_ltT, z_ltF, z_eqT, z_eqF, nn_add, nn_mul, nn_clamp, nn_lt, nn_le, nn_eq, nn_div, rmI_nn, okI_nn, nn_and, nn_or, nn_xor, shlI_1, shrI_nn, Cont_v, Cont_0, List.mem_cons, List.not_mem_nil, or_false, or_true, true_or, true_and, and_true, ite_not, if_true, if_false, not_true_eq_false, not_false_eq_true, false_or, false_and, and_false, eq_self, ↓reduceIte, reduceCtorEq, ↓i3, kx, lx, ky, Nat.reduceAdd]
  rw [w3]
  have n3 : gN (NF G2 (c + 25) 2) = c + 29 := by omega
  have k3 : gK (NF G2 (c + 25) 2) (c + 25) = 56 := a6.trans k2
  have l3 : gL (NF G2 (c + 25) 2) (c + 25) = 5 := a7.trans l2
  have kc3 : gK (NF G2 (c + 25) 2) c = 1 := (a4 c (by omega) (by omega)).1.trans kc2
  have c3 : gC (NF G2 (c + 25) 2) = gC g - 4 := by omega
  have t3 : gS (NF G2 (c + 25) 2) = gS g - 8 := by omega
  clear a1 a2 a3 a4 a5 a6 a7 i3 w3
  generalize NF G2 (c + 25) 2 = G3 at n3 k3 l3 kc3 c3 t3
  obtain ⟨a1, a2, a3, a4, a5, ⟨a6, a7⟩, -⟩ := NF_ok G3 (t := c + 25) (k := 3) (by omega)
  have i4 := fun Q => (NF_walk G3 Q (k := 3) (by omega)).2.2.2.1 rfl
  have w4 : Ex mX0_init Q 125 [.ref c] [.ref (c + 25), .ref c] G3 = Ex mX0_init Q 136 [.ref c] [.ref (c + 25), .ref c] (NF G3 (c + 25) 3) := by
    have kx : gK (pF (nO G3 7 1) 68 (gN G3) (.int (nI 0))) (c + 25) = 56 := by rw [gK_pF, gK_nO, if_neg (by omega)]; exact k3
    have lx : gL (pF (nO G3 7 1) 68 (gN G3) (.int (nI 0))) (c + 25) = 5 := by rw [gL_pF, gL_nO]; exact l3
    have ky : gK (pF (nO G3 7 1) 68 (gN G3) (.int (nI 0))) (gN G3) = 7 := by rw [gK_pF, gK_nO, if_pos rfl]
    unfold NF
    simp (disch := omega) only [↓rX0_init_125, ↓rX0_init_126, ↓rX0_init_127, ↓rX0_init_130, ↓rX0_init_131, ↓rX0_init_132, ↓rX0_init_135, ↓rX0_init_135n, ↓rX0_init_t, ↓rmI_in, ↓shrI_in, ↓shlI_in, ↓okI_in, ↓bI_01, bI_z, bI_o, nn_neg, Int.cast_ofNat_Int, zlit, n_leT, n_leF, n_ltT, n_ltF, n_eqT, n_eqF, z_leT, z_leF, z_ltT, z_ltF, z_eqT, z_eqF, nn_add, nn_mul, nn_clamp, nn_lt, nn_le, nn_eq, nn_div, rmI_nn, okI_nn, nn_and, nn_or, nn_xor, shlI_1, shrI_nn, Cont_v, Cont_0, List.mem_cons, List.not_mem_nil, or_false, or_true, true_or, true_and, and_true, ite_not, if_true, if_false, not_true_eq_false, not_false_eq_true, false_or, false_and, and_false, eq_self, ↓reduceIte, reduceCtorEq, ↓i4, kx, lx, ky, Nat.reduceAdd]
  rw [w4]
  have n4 : gN (NF G3 (c + 25) 3) = c + 30 := by omega
  have k4 : gK (NF G3 (c + 25) 3) (c + 25) = 56 := a6.trans k3
  have l4 : gL (NF G3 (c + 25) 3) (c + 25) = 5 := a7.trans l3
  have kc4 : gK (NF G3 (c + 25) 3) c = 1 := (a4 c (by omega) (by omega)).1.trans kc3
  have c4 : gC (NF G3 (c + 25) 3) = gC g - 5 := by omega
  have t4 : gS (NF G3 (c + 25) 3) = gS g - 9 := by omega
  clear a1 a2 a3 a4 a5 a6 a7 i4 w4
  generalize NF G3 (c + 25) 3 = G4 at n4 k4 l4 kc4 c4 t4
  obtain ⟨a1, a2, a3, a4, a5, ⟨a6, a7⟩, -⟩ := NF_ok G4 (t := c + 25) (k := 4) (by omega)
  have i5 := fun Q => (NF_walk G4 Q (k := 4) (by omega)).2.2.2.2 rfl
  have w5 : Ex mX0_init Q 136 [.ref c] [.ref (c + 25), .ref c] G4 = Ex mX0_init Q 147 [.ref c] [.ref (c + 25), .ref c] (NF G4 (c + 25) 4) := by
    have kx : gK (pF (nO G4 8 1) 68 (gN G4) (.int (nI 0))) (c + 25) = 56 := by rw [gK_pF, gK_nO, if_neg (by omega)]; exact k4
    have lx : gL (pF (nO G4 8 1) 68 (gN G4) (.int (nI 0))) (c + 25) = 5 := by rw [gL_pF, gL_nO]; exact l4
    have ky : gK (pF (nO G4 8 1) 68 (gN G4) (.int (nI 0))) (gN G4) = 8 := by rw [gK_pF, gK_nO, if_pos rfl]
    unfold NF
    simp (disch := omega) only [↓rX0_init_136, ↓rX0_init_137, ↓rX0_init_138, ↓rX0_init_141, ↓rX0_init_142, ↓rX0_init_143, ↓rX0_init_146, ↓rX0_init_146n, ↓rX0_init_t, ↓rmI_in, ↓shrI_in, ↓shlI_in, ↓okI_in, ↓bI_01, bI_z, bI_o, nn_neg, Int.cast_ofNat_Int, zlit, n_leT, n_leF, n_ltT, n_ltF, n_eqT, n_eqF, z_leT, z_leF, z_ltT, z_ltF, z_eqT, z_eqF, nn_add, nn_mul, nn_clamp, nn_lt, nn_le, nn_eq, nn_div, rmI_nn, okI_nn, nn_and, nn_or, nn_xor, shlI_1, shrI_nn, Cont_v, Cont_0, List.mem_cons, List.not_mem_nil, or_false, or_true, true_or, true_and, and_true, ite_not, if_true, if_false, not_true_eq_false, not_false_eq_true, false_or, false_and, and_false, eq_self, ↓reduceIte, reduceCtorEq, ↓i5, kx, lx, ky, Nat.reduceAdd]
  rw [w5]
  have n5 : gN (NF G4 (c + 25) 4) = c + 31 := by omega
  have k5 : gK (NF G4 (c + 25) 4) (c + 25) = 56 := a6.trans k4
  have l5 : gL (NF G4 (c + 25) 4) (c + 25) = 5 := a7.trans l4
  have kc5 : gK (NF G4 (c + 25) 4) c = 1 := (a4 c (by omega) (by omega)).1.trans kc4
  have c5 : gC (NF G4 (c + 25) 4) = gC g - 6 := by omega
  have t5 : gS (NF G4 (c + 25) 4) = gS g - 10 := by omega
  clear a1 a2 a3 a4 a5 a6 a7 i5 w5
  generalize NF G4 (c + 25) 4 = G5 at n5 k5 l5 kc5 c5 t5
  simp (disch := omega) only [↓rX0_init_147, ↓rX0_init_147n, ↓rX0_init_t, ↓rmI_in, ↓shrI_in, ↓shlI_in, ↓okI_in, ↓bI_01, bI_z, bI_o, nn_neg, Int.cast_ofNat_Int, zlit, n_leT, n_leF, n_ltT, n_ltF, n_eqT, n_eqF, z_leT, z_leF, z_ltT, z_ltF, z_eqT, z_eqF, nn_add, nn_mul, nn_clamp, nn_lt, nn_le, nn_eq, nn_div, rmI_nn, okI_nn, nn_and, nn_or, nn_xor, shlI_1, shrI_nn, Cont_v, Cont_0, List.mem_cons, List.not_mem_nil, or_false, or_true, true_or, true_and, and_true, ite_not, if_true, if_false, not_true_eq_false, not_false_eq_true, false_or, false_and, and_false, eq_self, ↓reduceIte, reduceCtorEq, kc5]
theorem c0_init {g : Hp} {c u : Nat} (kc0 : gK g c = 1) (n0 : gN g = c + 1) (hf : ∀ f, gF g f c = fDef f) (hu0 : gF g 1001 0 = .ref u) (h0 : 0 < c) (hC : 300 ≤ gC g) (hS : 3000 ≤ gS g) : ∃ G, GI G c u ∧ (gN G = c + 31 ∧ gC g ≤ gC G + 31 ∧ gS g ≤ gS G + 400) ∧ (∀ x, x < c → SmX g G x) ∧ ∀ Q : Po, Ex mX0_init Q 0 [.ref c] [] g = Q (.inl none) G := by
  have g0e : g = g := rfl
  have cs0 : gC g = gC g - 0 := rfl
  have ss0 : gS g = gS g - 0 := rfl
  have cl0 : c < gN g := by omega
  have w0 : ∀ Q : Po, Ex mX0_init Q 0 [.ref c] [] g = Ex mX0_init Q 13 [.ref c] [] (pF (nR g 54 8) 3 c (.ref (c + 1))) := by
    intro Q
    simp (disch := omega) only [↓rX0_init_0, ↓rX0_init_1, ↓rX0_init_4, ↓rX0_init_5, ↓rX0_init_7, ↓rX0_init_10, ↓rX0_init_10n, ↓rX0_init_t, ↓rmI_in, ↓shrI_in, ↓shlI_in, ↓okI_in, ↓bI_01, bI_z, bI_o, nn_neg, Int.cast_ofNat_Int, zlit, n_leT, n_leF, n_ltT, n_ltF, n_eqT, n_eqF, z_leT, z_leF, z_ltT, z_ltF, z_eqT, z_eqF, nn_add, nn_mul, nn_clamp, nn_lt, nn_le, nn_eq, nn_div, rmI_nn, okI_nn, nn_and, nn_or, nn_xor, shlI_1, shrI_nn, Cont_v, Cont_0, List.mem_cons, List.not_mem_nil, or_false, or_true, true_or, true_and, and_true, ite_not, if_true, if_false, not_true_eq_false, not_false_eq_true, false_or, false_and, and_false, eq_self, ↓reduceIte, reduceCtorEq, kc0, gK_nR, gK_nA, n0]
  have A0 : Ax g (pF (nR g 54 8) 3 c (.ref (c + 1))) c 3 (.ref (c + 1)) 1 8 := Ax_nR cl0
  have kr : gK (pF (nR g 54 8) 3 c (.ref (c + 1))) (c + 1) = 54 := by rw [gK_pF, gK_nR, if_pos (by omega)]
  have lr : gL (pF (nR g 54 8) 3 c (.ref (c + 1))) (c + 1) = 8 := by rw [gL_pF, gL_nR, if_pos (by omega)]
  have rr : ∀ i, gR (pF (nR g 54 8) 3 c (.ref (c + 1))) (c + 1) i = none := fun i => by rw [gR_pF, gR_nR, if_pos (by omega)]
  generalize pF (nR g 54 8) 3 c (.ref (c + 1)) = g1 at w0 A0 kr lr rr
  obtain ⟨nn1, cc1, ss1, sm1, kk1, ff1, fv1⟩ := A0
  have n1 : gN g1 = c + 2 := by omega
  have kc1 : gK g1 c = 1 := kk1.trans kc0
  have hu1 : gF g1 1001 0 = .ref u := ((sm1 0 (by omega) (by omega)).2.2.1 _).trans hu0
  have C1 : gC g ≤ gC g1 + 1 := by omega
  have S1 : gS g ≤ gS g1 + 8 := by omega
  have cl1 : c < gN g1 := by omega
  have w1 : ∀ Q : Po, Ex mX0_init Q 13 [.ref c] [] g1 = Ex mX0_init Q 21 [.ref c] [] (pF (nA g1 52 120) 5 c (.ref (c + 2))) := by
    intro Q
    simp (disch := omega) only [↓rX0_init_13, ↓rX0_init_14, ↓rX0_init_16, ↓rX0_init_18, ↓rX0_init_18n, ↓rX0_init_t, ↓rmI_in, ↓shrI_in, ↓shlI_in, ↓okI_in, ↓bI_01, bI_z, bI_o, nn_neg, Int.cast_ofNat_Int, zlit, n_leT, n_leF, n_ltT, n_ltF, n_eqT, n_eqF, z_leT, z_leF, z_ltT, z_ltF, z_eqT, z_eqF, nn_add, nn_mul, nn_clamp, nn_lt, nn_le, nn_eq, nn_div, rmI_nn, okI_nn, nn_and, nn_or, nn_xor, shlI_1, shrI_nn, Cont_v, Cont_0, List.mem_cons, List.not_mem_nil, or_false, or_true, true_or, true_and, and_true, ite_not, if_true, if_false, not_true_eq_false, not_false_eq_true, false_or, false_and, and_false, eq_self, ↓reduceIte, reduceCtorEq, kc1, gK_nR, gK_nA, n1]
  have A1 : Ax g1 (pF (nA g1 52 120) 5 c (.ref (c + 2))) c 5 (.ref (c + 2)) 1 120 := Ax_nA cl1
  have kt : gK (pF (nA g1 52 120) 5 c (.ref (c + 2))) (c + 2) = 52 := by rw [gK_pF, gK_nA, if_pos (by omega)]
  have lt : gL (pF (nA g1 52 120) 5 c (.ref (c + 2))) (c + 2) = 120 := by rw [gL_pF, gL_nA, if_pos (by omega)]
  generalize pF (nA g1 52 120) 5 c (.ref (c + 2)) = g2 at w1 A1 kt lt
  obtain ⟨nn2, cc2, ss2, sm2, kk2, ff2, fv2⟩ := A1
  have n2 : gN g2 = c + 3 := by omega
  have kc2 : gK g2 c = 1 := kk2.trans kc1
  have hu2 : gF g2 1001 0 = .ref u := ((sm2 0 (by omega) (by omega)).2.2.1 _).trans hu1
  have C2 : gC g ≤ gC g2 + 2 := by omega
  have S2 : gS g ≤ gS g2 + 128 := by omega
  have cl2 : c < gN g2 := by omega
  have hi2 := fun Q => NL_walk (h := g2) (u := u) hu2 (by omega) (by omega) (by omega) Q
  rw [n2] at hi2
  have kn2 : gK (NL g2 u) c = 1 := (NL_sm (h := g2) (Or.inl cl2)).1.trans kc2
  have w2 : ∀ Q : Po, Ex mX0_init Q 21 [.ref c] [] g2 = Ex mX0_init Q 32 [.ref c] [] (pF (NL g2 u) 11 c (.ref (c + 3))) := by
    intro Q
    simp (disch := omega) only [↓rX0_init_21, ↓rX0_init_22, ↓rX0_init_25, ↓rX0_init_26, ↓rX0_init_29, ↓rX0_init_29n, ↓rX0_init_t, ↓rmI_in, ↓shrI_in, ↓shlI_in, ↓okI_in, ↓bI_01, bI_z, bI_o, nn_neg, Int.cast_ofNat_Int, zlit, n_leT, n_leF, n_ltT, n_ltF, n_eqT, n_eqF, z_leT, z_leF, z_ltT, z_ltF, z_eqT, z_eqF, nn_add, nn_mul, nn_clamp, nn_lt, nn_le, nn_eq, nn_div, rmI_nn, okI_nn, nn_and, nn_or, nn_xor, shlI_1, shrI_nn, Cont_v, Cont_0, List.mem_cons, List.not_mem_nil, or_false, or_true, true_or, true_and, and_true, ite_not, if_true, if_false, not_true_eq_false, not_false_eq_true, false_or, false_and, and_false, eq_self, ↓reduceIte, reduceCtorEq, kc2, gK_nO, ↓hi2, kn2, n2]
  have A2 : Ax g2 (pF (NL g2 u) 11 c (.ref (c + 3))) c 11 (.ref (c + 3)) 8 53 := Ax_NL cl2
  have hl3 : HL (pF (NL g2 u) 11 c (.ref (c + 3))) (c + 3) zS (fun _ => 0) (c + 8) (zI (-1000000)) .null := by have := (NL_hl (h := g2) (u := u)).1.sm (h' := pF (NL g2 u) 11 c (.ref (c + 3))) (fun k hk => pF_sm (by omega)); rw [n2] at this; exact this
  have k8 : gK (pF (NL g2 u) 11 c (.ref (c + 3))) (c + 8) = 14 := by have := (NL_hl (h := g2) (u := u)).2.1; rw [n2] at this; exact this
  have f8a : gF (pF (NL g2 u) 11 c (.ref (c + 3))) 161 (c + 8) = .ref u := by have := (NL_hl (h := g2) (u := u)).2.2.1; rw [n2] at this; rw [pF_ne (by omega)]; exact this
  have f8b : gF (pF (NL g2 u) 11 c (.ref (c + 3))) 162 (c + 8) = .int (nI 0) := by have := (NL_hl (h := g2) (u := u)).2.2.2; rw [n2] at this; rw [pF_ne (by omega)]; exact this
  generalize pF (NL g2 u) 11 c (.ref (c + 3)) = g3 at w2 A2 hl3 k8 f8a f8b
  obtain ⟨nn3, cc3, ss3, sm3, kk3, ff3, fv3⟩ := A2
  have n3 : gN g3 = c + 11 := by omega
  have kc3 : gK g3 c = 1 := kk3.trans kc2
  have hu3 : gF g3 1001 0 = .ref u := ((sm3 0 (by omega) (by omega)).2.2.1 _).trans hu2
  have C3 : gC g ≤ gC g3 + 10 := by omega
  have S3 : gS g ≤ gS g3 + 181 := by omega
  have cl3 : c < gN g3 := by omega
  have hi3 := fun Q => NL_walk (h := g3) (u := u) hu3 (by omega) (by omega) (by omega) Q
  rw [n3] at hi3
  have kn3 : gK (NL g3 u) c = 1 := (NL_sm (h := g3) (Or.inl cl3)).1.trans kc3
  have w3 : ∀ Q : Po, Ex mX0_init Q 32 [.ref c] [] g3 = Ex mX0_init Q 43 [.ref c] [] (pF (NL g3 u) 13 c (.ref (c + 11))) := by
    intro Q
    simp (disch := omega) only [↓rX0_init_32, ↓rX0_init_33, ↓rX0_init_36, ↓rX0_init_37, ↓rX0_init_40, ↓rX0_init_40n, ↓rX0_init_t, ↓rmI_in, ↓shrI_in, ↓shlI_in, ↓okI_in, ↓bI_01, bI_z, bI_o, nn_neg, Int.cast_ofNat_Int, zlit, n_leT, n_leF, n_ltT, n_ltF, n_eqT, n_eqF, z_leT, z_leF, z_ltT, z_ltF, z_eqT, z_eqF, nn_add, nn_mul, nn_clamp, nn_lt, nn_le, nn_eq, nn_div, rmI_nn, okI_nn, nn_and, nn_or, nn_xor, shlI_1, shrI_nn, Cont_v, Cont_0, List.mem_cons, List.not_mem_nil, or_false, or_true, true_or, true_and, and_true, ite_not, if_true, if_false, not_true_eq_false, not_false_eq_true, false_or, false_and, and_false, eq_self, ↓reduceIte, reduceCtorEq, kc3, gK_nO, ↓hi3, kn3, n3]
  have A3 : Ax g3 (pF (NL g3 u) 13 c (.ref (c + 11))) c 13 (.ref (c + 11)) 8 53 := Ax_NL cl3
  have hl11 : HL (pF (NL g3 u) 13 c (.ref (c + 11))) (c + 11) zS (fun _ => 0) (c + 16) (zI (-1000000)) .null := by have := (NL_hl (h := g3) (u := u)).1.sm (h' := pF (NL g3 u) 13 c (.ref (c + 11))) (fun k hk => pF_sm (by omega)); rw [n3] at this; exact this
  generalize pF (NL g3 u) 13 c (.ref (c + 11)) = g4 at w3 A3 hl11
  obtain ⟨nn4, cc4, ss4, sm4, kk4, ff4, fv4⟩ := A3
  have n4 : gN g4 = c + 19 := by omega
  have kc4 : gK g4 c = 1 := kk4.trans kc3
  have hu4 : gF g4 1001 0 = .ref u := ((sm4 0 (by omega) (by omega)).2.2.1 _).trans hu3
  have C4 : gC g ≤ gC g4 + 18 := by omega
  have S4 : gS g ≤ gS g4 + 234 := by omega
  have cl4 : c < gN g4 := by omega
  have w4 : ∀ Q : Po, Ex mX0_init Q 43 [.ref c] [] g4 = Ex mX0_init Q 52 [.ref c] [] (pF (nR g4 55 24) 15 c (.ref (c + 19))) := by
    intro Q
    simp (disch := omega) only [↓rX0_init_43, ↓rX0_init_44, ↓rX0_init_46, ↓rX0_init_49, ↓rX0_init_49n, ↓rX0_init_t, ↓rmI_in, ↓shrI_in, ↓shlI_in, ↓okI_in, ↓bI_01, bI_z, bI_o, nn_neg, Int.cast_ofNat_Int, zlit, n_leT, n_leF, n_ltT, n_ltF, n_eqT, n_eqF, z_leT, z_leF, z_ltT, z_ltF, z_eqT, z_eqF, nn_add, nn_mul, nn_clamp, nn_lt, nn_le, nn_eq, nn_div, rmI_nn, okI_nn, nn_and, nn_or, nn_xor, shlI_1, shrI_nn, Cont_v, Cont_0, List.mem_cons, List.not_mem_nil, or_false, or_true, true_or, true_and, and_true, ite_not, if_true, if_false, not_true_eq_false, not_false_eq_true, false_or, false_and, and_false, eq_self, ↓reduceIte, reduceCtorEq, kc4, gK_nR, gK_nA, n4]
  have A4 : Ax g4 (pF (nR g4 55 24) 15 c (.ref (c + 19))) c 15 (.ref (c + 19)) 1 24 := Ax_nR cl4
  have kp : gK (pF (nR g4 55 24) 15 c (.ref (c + 19))) (c + 19) = 55 := by rw [gK_pF, gK_nR, if_pos (by omega)]
  have lp : gL (pF (nR g4 55 24) 15 c (.ref (c + 19))) (c + 19) = 24 := by rw [gL_pF, gL_nR, if_pos (by omega)]
  have rp : ∀ i, gR (pF (nR g4 55 24) 15 c (.ref (c + 19))) (c + 19) i = none := fun i => by rw [gR_pF, gR_nR, if_pos (by omega)]
  generalize pF (nR g4 55 24) 15 c (.ref (c + 19)) = g5 at w4 A4 kp lp rp
  obtain ⟨nn5, cc5, ss5, sm5, kk5, ff5, fv5⟩ := A4
  have n5 : gN g5 = c + 20 := by omega
  have kc5 : gK g5 c = 1 := kk5.trans kc4
  have hu5 : gF g5 1001 0 = .ref u := ((sm5 0 (by omega) (by omega)).2.2.1 _).trans hu4
  have C5 : gC g ≤ gC g5 + 19 := by omega
  have S5 : gS g ≤ gS g5 + 258 := by omega
  have cl5 : c < gN g5 := by omega
  have w5 : ∀ Q : Po, Ex mX0_init Q 52 [.ref c] [] g5 = Ex mX0_init Q 60 [.ref c] [] (pF (nR g5 55 2) 19 c (.ref (c + 20))) := by
    intro Q
    simp (disch := omega) only [↓rX0_init_52, ↓rX0_init_53, ↓rX0_init_54, ↓rX0_init_57, ↓rX0_init_57n, ↓rX0_init_t, ↓rmI_in, ↓shrI_in, ↓shlI_in, ↓okI_in, ↓bI_01, bI_z, bI_o, nn_neg, Int.cast_ofNat_Int, zlit, n_leT, n_leF, n_ltT, n_ltF, n_eqT, n_eqF, z_leT, z_leF, z_ltT, z_ltF, z_eqT, z_eqF, nn_add, nn_mul, nn_clamp, nn_lt, nn_le, nn_eq, nn_div, rmI_nn, okI_nn, nn_and, nn_or, nn_xor, shlI_1, shrI_nn, Cont_v, Cont_0, List.mem_cons, List.not_mem_nil, or_false, or_true, true_or, true_and, and_true, ite_not, if_true, if_false, not_true_eq_false, not_false_eq_true, false_or, false_and, and_false, eq_self, ↓reduceIte, reduceCtorEq, kc5, gK_nR, gK_nA, n5]
  have A5 : Ax g5 (pF (nR g5 55 2) 19 c (.ref (c + 20))) c 19 (.ref (c + 20)) 1 2 := Ax_nR cl5
  have ki : gK (pF (nR g5 55 2) 19 c (.ref (c + 20))) (c + 20) = 55 := by rw [gK_pF, gK_nR, if_pos (by omega)]
  have li : gL (pF (nR g5 55 2) 19 c (.ref (c + 20))) (c + 20) = 2 := by rw [gL_pF, gL_nR, if_pos (by omega)]
  have ri : ∀ i, gR (pF (nR g5 55 2) 19 c (.ref (c + 20))) (c + 20) i = none := fun i => by rw [gR_pF, gR_nR, if_pos (by omega)]
  generalize pF (nR g5 55 2) 19 c (.ref (c + 20)) = g6 at w5 A5 ki li ri
  obtain ⟨nn6, cc6, ss6, sm6, kk6, ff6, fv6⟩ := A5
  have n6 : gN g6 = c + 21 := by omega
  have kc6 : gK g6 c = 1 := kk6.trans kc5
  have hu6 : gF g6 1001 0 = .ref u := ((sm6 0 (by omega) (by omega)).2.2.1 _).trans hu5
  have C6 : gC g ≤ gC g6 + 20 := by omega
  have S6 : gS g ≤ gS g6 + 260 := by omega
  have cl6 : c < gN g6 := by omega
  have hi6 := fun Q => c2_init Q (g := nO g6 3 2) (t := c + 21) (by rw [gK_nO, n6, if_pos rfl]) (by rw [gN_nO, n6]) (by rw [gC_nO]; omega) (by rw [gS_nO]; omega)
  have kn6 : gK (pF (nA (nO g6 3 2) 51 16) 65 (c + 21) (.ref (c + 21 + 1))) c = 1 := by rw [gK_pF, gK_nA, gN_nO, if_neg (by omega), gK_nO, if_neg (by omega)]; exact kc6
  have w6 : ∀ Q : Po, Ex mX0_init Q 60 [.ref c] [] g6 = Ex mX0_init Q 71 [.ref c] [] (pF (NT g6) 21 c (.ref (c + 21))) := by
    intro Q
    unfold NT
    simp (disch := omega) only [↓rX0_init_60, ↓rX0_init_61, ↓rX0_init_64, ↓rX0_init_65, ↓rX0_init_68, ↓rX0_init_68n, ↓rX0_init_t, ↓rmI_in, ↓shrI_in, ↓shlI_in, ↓okI_in, ↓bI_01, bI_z, bI_o, nn_neg, Int.cast_ofNat_Int, zlit, n_leT, n_leF, n_ltT, n_ltF, n_eqT, n_eqF, z_leT, z_leF, z_ltT, z_ltF, z_eqT, z_eqF, nn_add, nn_mul, nn_clamp, nn_lt, nn_le, nn_eq, nn_div, rmI_nn, okI_nn, nn_and, nn_or, nn_xor, shlI_1, shrI_nn, Cont_v, Cont_0, List.mem_cons, List.not_mem_nil, or_false, or_true, true_or, true_and, and_true, ite_not, if_true, if_false, not_true_eq_false, not_false_eq_true, false_or, false_and, and_false, eq_self, ↓reduceIte, reduceCtorEq, kc6, ↓hi6, kn6, n6]
  have A6 : Ax g6 (pF (NT g6) 21 c (.ref (c + 21))) c 21 (.ref (c + 21)) 2 18 := Ax_of (NT_ok g6).1 (NT_ok g6).2.1 (NT_ok g6).2.2.1 (NT_ok g6).2.2.2.1 cl6
  have kq : gK (pF (NT g6) 21 c (.ref (c + 21))) (c + 21) = 3 := by have := (NT_ok g6).2.2.2.2.1; rw [n6] at this; exact this
  have fq1 : gF (pF (NT g6) 21 c (.ref (c + 21))) 65 (c + 21) = .ref (c + 22) := by have := (NT_ok g6).2.2.2.2.2.1; rw [n6] at this; rw [pF_ne (by omega)]; exact this
  have fq2 : gF (pF (NT g6) 21 c (.ref (c + 21))) 66 (c + 21) = .int (nI 0) := by have := (NT_ok g6).2.2.2.2.2.2.1; rw [n6] at this; rw [pF_ne (by omega)]; exact this
  have kq2 : gK (pF (NT g6) 21 c (.ref (c + 21))) (c + 22) = 51 := by have := (NT_ok g6).2.2.2.2.2.2.2.1; rw [n6] at this; exact this
  have lq2 : gL (pF (NT g6) 21 c (.ref (c + 21))) (c + 22) = 16 := by have := (NT_ok g6).2.2.2.2.2.2.2.2; rw [n6] at this; exact this
  generalize pF (NT g6) 21 c (.ref (c + 21)) = g7 at w6 A6 kq fq1 fq2 kq2 lq2
  obtain ⟨nn7, cc7, ss7, sm7, kk7, ff7, fv7⟩ := A6
  have n7 : gN g7 = c + 23 := by omega
  have kc7 : gK g7 c = 1 := kk7.trans kc6
  have hu7 : gF g7 1001 0 = .ref u := ((sm7 0 (by omega) (by omega)).2.2.1 _).trans hu6
  have C7 : gC g ≤ gC g7 + 22 := by omega
  have S7 : gS g ≤ gS g7 + 278 := by omega
  have cl7 : c < gN g7 := by omega
  have w7 : ∀ Q : Po, Ex mX0_init Q 71 [.ref c] [] g7 = Ex mX0_init Q 79 [.ref c] [] (pF (nA g7 51 6) 25 c (.ref (c + 23))) := by
    intro Q
    simp (disch := omega) only [↓rX0_init_71, ↓rX0_init_72, ↓rX0_init_74, ↓rX0_init_76, ↓rX0_init_76n, ↓rX0_init_t, ↓rmI_in, ↓shrI_in, ↓shlI_in, ↓okI_in, ↓bI_01, bI_z, bI_o, nn_neg, Int.cast_ofNat_Int, zlit, n_leT, n_leF, n_ltT, n_ltF, n_eqT, n_eqF, z_leT, z_leF, z_ltT, z_ltF, z_eqT, z_eqF, nn_add, nn_mul, nn_clamp, nn_lt, nn_le, nn_eq, nn_div, rmI_nn, okI_nn, nn_and, nn_or, nn_xor, shlI_1, shrI_nn, Cont_v, Cont_0, List.mem_cons, List.not_mem_nil, or_false, or_true, true_or, true_and, and_true, ite_not, if_true, if_false, not_true_eq_false, not_false_eq_true, false_or, false_and, and_false, eq_self, ↓reduceIte, reduceCtorEq, kc7, gK_nR, gK_nA, n7]
  have A7 : Ax g7 (pF (nA g7 51 6) 25 c (.ref (c + 23))) c 25 (.ref (c + 23)) 1 6 := Ax_nA cl7
  have kl : gK (pF (nA g7 51 6) 25 c (.ref (c + 23))) (c + 23) = 51 := by rw [gK_pF, gK_nA, if_pos (by omega)]
  have ll : gL (pF (nA g7 51 6) 25 c (.ref (c + 23))) (c + 23) = 6 := by rw [gL_pF, gL_nA, if_pos (by omega)]
  generalize pF (nA g7 51 6) 25 c (.ref (c + 23)) = g8 at w7 A7 kl ll
  obtain ⟨nn8, cc8, ss8, sm8, kk8, ff8, fv8⟩ := A7
  have n8 : gN g8 = c + 24 := by omega
  have kc8 : gK g8 c = 1 := kk8.trans kc7
  have hu8 : gF g8 1001 0 = .ref u := ((sm8 0 (by omega) (by omega)).2.2.1 _).trans hu7
  have C8 : gC g ≤ gC g8 + 23 := by omega
  have S8 : gS g ≤ gS g8 + 284 := by omega
  have cl8 : c < gN g8 := by omega
  have w8 : ∀ Q : Po, Ex mX0_init Q 79 [.ref c] [] g8 = Ex mX0_init Q 87 [.ref c] [] (pF (nA g8 51 6) 27 c (.ref (c + 24))) := by
    intro Q
    simp (disch := omega) only [↓rX0_init_79, ↓rX0_init_80, ↓rX0_init_82, ↓rX0_init_84, ↓rX0_init_84n, ↓rX0_init_t, ↓rmI_in, ↓shrI_in, ↓shlI_in, ↓okI_in, ↓bI_01, bI_z, bI_o, nn_neg, Int.cast_ofNat_Int, zlit, n_leT, n_leF, n_ltT, n_ltF, n_eqT, n_eqF, z_leT, z_leF, z_ltT, z_ltF, z_eqT, z_eqF, nn_add, nn_mul, nn_clamp, nn_lt, nn_le, nn_eq, nn_div, rmI_nn, okI_nn, nn_and, nn_or, nn_xor, shlI_1, shrI_nn, Cont_v, Cont_0, List.mem_cons, List.not_mem_nil, or_false, or_true, true_or, true_and, and_true, ite_not, if_true, if_false, not_true_eq_false, not_false_eq_true, false_or, false_and, and_false, eq_self, ↓reduceIte, reduceCtorEq, kc8, gK_nR, gK_nA, n8]
  have A8 : Ax g8 (pF (nA g8 51 6) 27 c (.ref (c + 24))) c 27 (.ref (c + 24)) 1 6 := Ax_nA cl8
  have kb : gK (pF (nA g8 51 6) 27 c (.ref (c + 24))) (c + 24) = 51 := by rw [gK_pF, gK_nA, if_pos (by omega)]
  have lb : gL (pF (nA g8 51 6) 27 c (.ref (c + 24))) (c + 24) = 6 := by rw [gL_pF, gL_nA, if_pos (by omega)]
  generalize pF (nA g8 51 6) 27 c (.ref (c + 24)) = g9 at w8 A8 kb lb
  obtain ⟨nn9, cc9, ss9, sm9, kk9, ff9, fv9⟩ := A8
  have n9 : gN g9 = c + 25 := by omega
  have kc9 : gK g9 c = 1 := kk9.trans kc8
  have hu9 : gF g9 1001 0 = .ref u := ((sm9 0 (by omega) (by omega)).2.2.1 _).trans hu8
  have C9 : gC g ≤ gC g9 + 24 := by omega
  have S9 : gS g ≤ gS g9 + 290 := by omega
  have cl9 : c < gN g9 := by omega
  have w9 := fun Q => NFs_walk (c := c) (g := g9) kc9 n9 (by omega) (by omega) Q
  have A9 : Ax g9 (pF (NFs g9) 31 c (.ref (c + 25))) c 31 (.ref (c + 25)) 6 10 := Ax_of (NFs_ok g9).1 (NFs_ok g9).2.1 (NFs_ok g9).2.2.1 (NFs_ok g9).2.2.2.1 cl9
  have k5 : gK (pF (NFs g9) 31 c (.ref (c + 25))) (c + 25) = 56 ∧ gL (pF (NFs g9) 31 c (.ref (c + 25))) (c + 25) = 5 := by have := (NFs_ok g9).2.2.2.2.1; rw [n9] at this; exact this
  have kf : ∀ k, k < 5 → gK (pF (NFs g9) 31 c (.ref (c + 25))) (c + 26 + k) = 4 + k := by have := (NFs_ok g9).2.2.2.2.2.1; rw [n9] at this; exact this
  have rf5 : ∀ k, k < 5 → gR (pF (NFs g9) 31 c (.ref (c + 25))) (c + 25) k = some (c + 26 + k) := by have := (NFs_ok g9).2.2.2.2.2.2; rw [n9] at this; exact this
  generalize pF (NFs g9) 31 c (.ref (c + 25)) = g10 at w9 A9 k5 kf rf5
  obtain ⟨nn10, cc10, ss10, sm10, kk10, ff10, fv10⟩ := A9
  have n10 : gN g10 = c + 31 := by omega
  have kc10 : gK g10 c = 1 := kk10.trans kc9
  have hu10 : gF g10 1001 0 = .ref u := ((sm10 0 (by omega) (by omega)).2.2.1 _).trans hu9
  have C10 : gC g ≤ gC g10 + 30 := by omega
  have S10 : gS g ≤ gS g10 + 300 := by omega
  have T10 : ∀ x, x < gN g10 → x ≠ c → SmX g10 g10 x := fun x _ _ => SmX.rfl' _ x
  have T9 : ∀ x, x < gN g9 → x ≠ c → SmX g9 g10 x := fun x hx hc => (sm10 x hx hc).trans (T10 x (by omega) hc)
  have T8 : ∀ x, x < gN g8 → x ≠ c → SmX g8 g10 x := fun x hx hc => (sm9 x hx hc).trans (T9 x (by omega) hc)
  have T7 : ∀ x, x < gN g7 → x ≠ c → SmX g7 g10 x := fun x hx hc => (sm8 x hx hc).trans (T8 x (by omega) hc)
  have T6 : ∀ x, x < gN g6 → x ≠ c → SmX g6 g10 x := fun x hx hc => (sm7 x hx hc).trans (T7 x (by omega) hc)
  have T5 : ∀ x, x < gN g5 → x ≠ c → SmX g5 g10 x := fun x hx hc => (sm6 x hx hc).trans (T6 x (by omega) hc)
  have T4 : ∀ x, x < gN g4 → x ≠ c → SmX g4 g10 x := fun x hx hc => (sm5 x hx hc).trans (T5 x (by omega) hc)
  have T3 : ∀ x, x < gN g3 → x ≠ c → SmX g3 g10 x := fun x hx hc => (sm4 x hx hc).trans (T4 x (by omega) hc)
  have T2 : ∀ x, x < gN g2 → x ≠ c → SmX g2 g10 x := fun x hx hc => (sm3 x hx hc).trans (T3 x (by omega) hc)
  have T1 : ∀ x, x < gN g1 → x ≠ c → SmX g1 g10 x := fun x hx hc => (sm2 x hx hc).trans (T2 x (by omega) hc)
  have T0 : ∀ x, x < gN g → x ≠ c → SmX g g10 x := fun x hx hc => (sm1 x hx hc).trans (T1 x (by omega) hc)
  have F0 : ∀ e, e ≠ 3 → e ≠ 5 → e ≠ 11 → e ≠ 13 → e ≠ 15 → e ≠ 19 → e ≠ 21 → e ≠ 25 → e ≠ 27 → e ≠ 31 → gF g10 e c = fDef e := fun e h3 h5 h11 h13 h15 h19 h21 h25 h27 h31 => (ff10 e h31).trans ((ff9 e h27).trans ((ff8 e h25).trans ((ff7 e h21).trans ((ff6 e h19).trans ((ff5 e h15).trans ((ff4 e h13).trans ((ff3 e h11).trans ((ff2 e h5).trans ((ff1 e h3).trans (hf e))))))))))
  have E3 : gF g10 3 c = .ref (c + 1) := (ff10 3 (by decide)).trans ((ff9 3 (by decide)).trans ((ff8 3 (by decide)).trans ((ff7 3 (by decide)).trans ((ff6 3 (by decide)).trans ((ff5 3 (by decide)).trans ((ff4 3 (by decide)).trans ((ff3 3 (by decide)).trans ((ff2 3 (by decide)).trans (fv1)))))))))
  have E5 : gF g10 5 c = .ref (c + 2) := (ff10 5 (by decide)).trans ((ff9 5 (by decide)).trans ((ff8 5 (by decide)).trans ((ff7 5 (by decide)).trans ((ff6 5 (by decide)).trans ((ff5 5 (by decide)).trans ((ff4 5 (by decide)).trans ((ff3 5 (by decide)).trans (fv2))))))))
  have E11 : gF g10 11 c = .ref (c + 3) := (ff10 11 (by decide)).trans ((ff9 11 (by decide)).trans ((ff8 11 (by decide)).trans ((ff7 11 (by decide)).trans ((ff6 11 (by decide)).trans ((ff5 11 (by decide)).trans ((ff4 11 (by decide)).trans (fv3)))))))
  have E13 : gF g10 13 c = .ref (c + 11) := (ff10 13 (by decide)).trans ((ff9 13 (by decide)).trans ((ff8 13 (by decide)).trans ((ff7 13 (by decide)).trans ((ff6 13 (by decide)).trans ((ff5 13 (by decide)).trans (fv4))))))
  have E15 : gF g10 15 c = .ref (c + 19) := (ff10 15 (by decide)).trans ((ff9 15 (by decide)).trans ((ff8 15 (by decide)).trans ((ff7 15 (by decide)).trans ((ff6 15 (by decide)).trans (fv5)))))
  have E19 : gF g10 19 c = .ref (c + 20) := (ff10 19 (by decide)).trans ((ff9 19 (by decide)).trans ((ff8 19 (by decide)).trans ((ff7 19 (by decide)).trans (fv6))))
  have E21 : gF g10 21 c = .ref (c + 21) := (ff10 21 (by decide)).trans ((ff9 21 (by decide)).trans ((ff8 21 (by decide)).trans (fv7)))
  have E25 : gF g10 25 c = .ref (c + 23) := (ff10 25 (by decide)).trans ((ff9 25 (by decide)).trans (fv8))
  have E27 : gF g10 27 c = .ref (c + 24) := (ff10 27 (by decide)).trans (fv9)
  have E31 : gF g10 31 c = .ref (c + 25) := fv10
  have cell : ∀ x, x ≠ c → True := fun _ _ => trivial
  have c8 : HL g10 (c + 11) zS (fun _ => 0) (c + 16) (zI (-1000000)) .null := hl11.sm (fun k hk => T4 _ (by omega) (by omega))
  have c3 : HL g10 (c + 3) zS (fun _ => 0) (c + 8) (zI (-1000000)) .null := hl3.sm (fun k hk => T3 _ (by omega) (by omega))
  refine ⟨g10, ⟨?_, ⟨?_, ?_, ?_, ?_⟩, E21, ⟨c3, ?_, ?_, ?_⟩, c8, ⟨?_, ?_, ?_⟩, ⟨?_, ?_, ?_, ?_, ?_⟩⟩, ⟨n10, by omega, by omega⟩, fun x hx => T0 x (by omega) (by omega), fun Q => ?_⟩
  · refine ⟨kc10, (T1 _ (by omega) (by omega)).1.trans kr, (T1 _ (by omega) (by omega)).2.1.trans lr, (T2 _ (by omega) (by omega)).1.trans kt, (T2 _ (by omega) (by omega)).2.1.trans lt, (T5 _ (by omega) (by omega)).1.trans kp, (T5 _ (by omega) (by omega)).2.1.trans lp, (T6 _ (by omega) (by omega)).1.trans ki, (T6 _ (by omega) (by omega)).2.1.trans li, (T8 _ (by omega) (by omega)).1.trans kl, (T8 _ (by omega) (by omega)).2.1.trans ll, (T9 _ (by omega) (by omega)).1.trans kb, (T9 _ (by omega) (by omega)).2.1.trans lb, k5.1, k5.2, E3, E5, E11, E13, E15, E19, E25, E27, E31, kf, rf5⟩
  · exact F0 6 (by decide) (by decide) (by decide) (by decide) (by decide) (by decide) (by decide) (by decide) (by decide) (by decide)
  · exact F0 8 (by decide) (by decide) (by decide) (by decide) (by decide) (by decide) (by decide) (by decide) (by decide) (by decide)
  · exact F0 16 (by decide) (by decide) (by decide) (by decide) (by decide) (by decide) (by decide) (by decide) (by decide) (by decide)
  · exact F0 22 (by decide) (by decide) (by decide) (by decide) (by decide) (by decide) (by decide) (by decide) (by decide) (by decide)
  · exact (T3 _ (by omega) (by omega)).1.trans k8
  · exact ((T3 _ (by omega) (by omega)).2.2.1 _).trans f8a
  · exact ((T3 _ (by omega) (by omega)).2.2.1 _).trans f8b
  · exact fun i => ((T1 _ (by omega) (by omega)).2.2.2.2 i).trans (rr i)
  · exact fun i => ((T5 _ (by omega) (by omega)).2.2.2.2 i).trans (rp i)
  · exact fun i => ((T6 _ (by omega) (by omega)).2.2.2.2 i).trans (ri i)
  · exact (T7 _ (by omega) (by omega)).1.trans kq
  · exact ((T7 _ (by omega) (by omega)).2.2.1 _).trans fq1
  · exact ((T7 _ (by omega) (by omega)).2.2.1 _).trans fq2
  · exact (T7 _ (by omega) (by omega)).1.trans kq2
  · exact (T7 _ (by omega) (by omega)).2.1.trans lq2
  · rw [w0 Q, w1 Q, w2 Q, w3 Q, w4 Q, w5 Q, w6 Q, w7 Q, w8 Q, w9 Q]
    simp (disch := omega) only [↓rX0_init_150, ↓rX0_init_t, ↓rmI_in, ↓shrI_in, ↓shlI_in, ↓okI_in, ↓bI_01, bI_z, bI_o, nn_neg, Int.cast_ofNat_Int, zlit, n_leT, n_leF, n_ltT, n_ltF, n_eqT, n_eqF, z_leT, z_leF, z_ltT, z_ltF, z_eqT, z_eqF, nn_add, nn_mul, nn_clamp, nn_lt, nn_le, nn_eq, nn_div, rmI_nn, okI_nn, nn_and, nn_or, nn_xor, shlI_1, shrI_nn, Cont_v, Cont_0, List.mem_cons, List.not_mem_nil, or_false, or_true, true_or, true_and, and_true, ite_not, if_true, if_false, not_true_eq_false, not_false_eq_true, false_or, false_and, and_false, eq_self, ↓reduceIte, reduceCtorEq]
