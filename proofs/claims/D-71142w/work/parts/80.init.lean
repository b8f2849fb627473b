/-! WHAT IS MADE AT FIRST: the class -/
/-- some cells come new, a field of c is set -/
def Ax (g g' : Hp) (c f : Nat) (v : Value) (m sl : Nat) : Prop := gN g' = gN g + m ∧ gC g' = gC g - m ∧ gS g' = gS g - sl ∧ (∀ x, x < gN g → x ≠ c → SmX g g' x) ∧ gK g' c = gK g c ∧ (∀ e, e ≠ f → gF g' e c = gF g e c) ∧ gF g' f c = v
theorem nR_sm {g : Hp} {k n x : Nat} (hx : x ≠ gN g) : SmX g (nR g k n) x := ⟨if_neg hx, if_neg hx, fun _ => rfl, fun _ => rfl, fun _ => if_neg hx⟩
theorem nA_sm {g : Hp} {k n x : Nat} (hx : x ≠ gN g) : SmX g (nA g k n) x := ⟨if_neg hx, if_neg hx, fun _ => rfl, fun _ => if_neg hx, fun _ => rfl⟩
theorem Ax_of {g g1 : Hp} {c f m sl : Nat} {v : Value} (h1 : gN g1 = gN g + m) (h2 : gC g1 = gC g - m) (h3 : gS g1 = gS g - sl) (hs : ∀ x, x < gN g → SmX g g1 x) (hc : c < gN g) : Ax g (pF g1 f c v) c f v m sl :=
  ⟨h1, h2, h3, fun x hx hne => (hs x hx).trans (pF_sm hne), (hs c hc).1, fun e he => (pF_ne he).trans ((hs c hc).2.2.1 e), pF_eq⟩
theorem Ax_nR {g : Hp} {c f k n : Nat} {v : Value} (hc : c < gN g) : Ax g (pF (nR g k n) f c v) c f v 1 n := Ax_of rfl rfl rfl (fun x hx => nR_sm (by omega)) hc
theorem Ax_nA {g : Hp} {c f k n : Nat} {v : Value} (hc : c < gN g) : Ax g (pF (nA g k n) f c v) c f v 1 n := Ax_of rfl rfl rfl (fun x hx => nA_sm (by omega)) hc
theorem Ax_NL {g : Hp} {c f u : Nat} {v : Value} (hc : c < gN g) : Ax g (pF (NL g u) f c v) c f v 8 53 := by
  obtain ⟨q1, q2, q3⟩ := NL_room (h := g) (u := u)
  exact Ax_of q1 q2 q3 (fun x hx => NL_sm (Or.inl hx)) hc
/-- a trail's two cells -/
def NT (g : Hp) : Hp := pF (nA (nO g 3 2) 51 16) 65 (gN g) (.ref (gN g + 1))
theorem NT_ok (g : Hp) : gN (NT g) = gN g + 2 ∧ gC (NT g) = gC g - 2 ∧ gS (NT g) = gS g - 18 ∧ (∀ x, x < gN g → SmX g (NT g) x) ∧ gK (NT g) (gN g) = 3 ∧ gF (NT g) 65 (gN g) = .ref (gN g + 1) ∧ gF (NT g) 66 (gN g) = .int (nI 0) ∧ gK (NT g) (gN g + 1) = 51 ∧ gL (NT g) (gN g + 1) = 16 := by
  unfold NT
  refine ⟨rfl, ?_, ?_, fun x hx => ?_, ?_, pF_eq, ?_, ?_, ?_⟩
  · rw [gC_pF, gC_nA, gC_nO]; omega
  · rw [gS_pF, gS_nA, gS_nO]; omega
  · exact ((nO_sm (by omega)).trans (nA_sm (by rw [gN_nO]; omega))).trans (pF_sm (by omega))
  · rw [gK_pF, gK_nA, gN_nO, if_neg (by omega), gK_nO, if_pos rfl]
  · rw [pF_ne (by omega), gF_nA, gF_nO, if_pos rfl]; rfl
  · rw [gK_pF, gK_nA, gN_nO, if_pos rfl]
  · rw [gL_pF, gL_nA, gN_nO, if_pos rfl]
/-- one fish that may be taken -/
def NF (g : Hp) (t k : Nat) : Hp := pR (pF (nO g (4 + k) 1) 68 (gN g) (.int (nI 0))) t k (some (gN g))
theorem NF_ok (g : Hp) {t k : Nat} (ht : t < gN g) : gN (NF g t k) = gN g + 1 ∧ gC (NF g t k) = gC g - 1 ∧ gS (NF g t k) = gS g - 1 ∧ (∀ x, x < gN g → x ≠ t → SmX g (NF g t k) x) ∧ gK (NF g t k) (gN g) = 4 + k ∧ (gK (NF g t k) t = gK g t ∧ gL (NF g t k) t = gL g t) ∧ (∀ i, gR (NF g t k) t i = if i = k then some (gN g) else gR g t i) := by
  unfold NF
  refine ⟨rfl, rfl, rfl, fun x hx h1 => ((nO_sm (by omega)).trans (pF_sm (by omega))).trans (pR_sm h1), ?_, ⟨?_, rfl⟩, fun i => ?_⟩
  · rw [gK_pR, gK_pF, gK_nO, if_pos rfl]
  · rw [gK_pR, gK_pF, gK_nO, if_neg (by omega)]
  · rw [gR_pR, gR_pF, gR_nO]
    by_cases e : i = k
    · rw [if_pos ⟨rfl, e⟩, if_pos e]
    · rw [if_neg (fun q => e q.2), if_neg e]
theorem c2_init (Q : Po) {g : Hp} {t : Nat} (kt : gK g t = 3) (hN : gN g = t + 1) (hC : 1 ≤ gC g) (hS : 16 ≤ gS g) : Ex mX2_init Q 0 [.ref t] [] g = Q (.inl none) (pF (nA g 51 16) 65 t (.ref (t + 1))) := by
  simp (disch := omega) only [↓rX2_init_0, ↓rX2_init_1, ↓rX2_init_4, ↓rX2_init_5, ↓rX2_init_7, ↓rX2_init_9, ↓rX2_init_9n, ↓rX2_init_12, ↓rX2_init_t, ↓rmI_in, ↓shrI_in, ↓shlI_in, ↓okI_in, ↓bI_01, bI_z, bI_o, nn_neg, Int.cast_ofNat_Int, zlit, n_leT, n_leF, n_ltT, n_ltF, n_eqT, n_eqF, z_leT, z_leF, z_ltT, z_ltF, z_eqT, z_eqF, nn_add, nn_mul, nn_clamp, nn_lt, nn_le, nn_eq, nn_div, rmI_nn, okI_nn, nn_and, nn_or, nn_xor, shlI_1, shrI_nn, Cont_v, Cont_0, List.mem_cons, List.not_mem_nil, or_false, or_true, true_or, true_and, and_true, ite_not, if_true, if_false, not_true_eq_false, not_false_eq_true, false_or, false_and, and_false, eq_self, ↓reduceIte, reduceCtorEq, gK_nA, kt, hN, hC, hS]
/-- the five that may be taken -/
def NFs (g : Hp) : Hp := NF (NF (NF (NF (NF (nR g 56 5) (gN g) 0) (gN g) 1) (gN g) 2) (gN g) 3) (gN g) 4
theorem NFs_ok (g : Hp) : gN (NFs g) = gN g + 6 ∧ gC (NFs g) = gC g - 6 ∧ gS (NFs g) = gS g - 10 ∧ (∀ x, x < gN g → SmX g (NFs g) x) ∧ (gK (NFs g) (gN g) = 56 ∧ gL (NFs g) (gN g) = 5) ∧ (∀ k, k < 5 → gK (NFs g) (gN g + 1 + k) = 4 + k) ∧ ∀ k, k < 5 → gR (NFs g) (gN g) k = some (gN g + 1 + k) := by
  have n0 : gN (nR g 56 5) = gN g + 1 := rfl
  have s0 : ∀ x, x < gN g → SmX g (nR g 56 5) x := fun x hx => nR_sm (by omega)
  have k0 : gK (nR g 56 5) (gN g) = 56 := if_pos rfl
  have l0 : gL (nR g 56 5) (gN g) = 5 := if_pos rfl
  have c0 : gC (nR g 56 5) = gC g - 1 := rfl
  have t0 : gS (nR g 56 5) = gS g - 5 := rfl
  unfold NFs
  generalize nR g 56 5 = G0 at n0 s0 k0 l0 c0 t0
  obtain ⟨a1, a2, a3, a4, a5, ⟨a6, a7⟩, a8⟩ := NF_ok G0 (t := gN g) (k := 0) (by omega)
  generalize NF G0 (gN g) 0 = G1 at a1 a2 a3 a4 a5 a6 a7 a8
  obtain ⟨b1, b2, b3, b4, b5, ⟨b6, b7⟩, b8⟩ := NF_ok G1 (t := gN g) (k := 1) (by omega)
  generalize NF G1 (gN g) 1 = G2 at b1 b2 b3 b4 b5 b6 b7 b8
  obtain ⟨d1, d2, d3, d4, d5, ⟨d6, d7⟩, d8⟩ := NF_ok G2 (t := gN g) (k := 2) (by omega)
  generalize NF G2 (gN g) 2 = G3 at d1 d2 d3 d4 d5 d6 d7 d8
  obtain ⟨e1, e2, e3, e4, e5, ⟨e6, e7⟩, e8⟩ := NF_ok G3 (t := gN g) (k := 3) (by omega)
  generalize NF G3 (gN g) 3 = G4 at e1 e2 e3 e4 e5 e6 e7 e8
  obtain ⟨f1, f2, f3, f4, f5, ⟨f6, f7⟩, f8⟩ := NF_ok G4 (t := gN g) (k := 4) (by omega)
  generalize NF G4 (gN g) 4 = G5 at f1 f2 f3 f4 f5 f6 f7 f8
  refine ⟨by omega, by omega, by omega, fun x hx => ?_, ⟨by omega, by omega⟩, fun k hk => ?_, fun k hk => ?_⟩
  · exact (((((s0 x hx).trans (a4 x (by omega) (by omega))).trans (b4 x (by omega) (by omega))).trans (d4 x (by omega) (by omega))).trans (e4 x (by omega) (by omega))).trans (f4 x (by omega) (by omega))
  · obtain rfl | rfl | rfl | rfl | rfl : k = 0 ∨ k = 1 ∨ k = 2 ∨ k = 3 ∨ k = 4 := by omega
    · rw [show gN g + 1 + 0 = gN G0 by omega, (f4 _ (by omega) (by omega)).1, (e4 _ (by omega) (by omega)).1, (d4 _ (by omega) (by omega)).1, (b4 _ (by omega) (by omega)).1, a5]
    · rw [show gN g + 1 + 1 = gN G1 by omega, (f4 _ (by omega) (by omega)).1, (e4 _ (by omega) (by omega)).1, (d4 _ (by omega) (by omega)).1, b5]
    · rw [show gN g + 1 + 2 = gN G2 by omega, (f4 _ (by omega) (by omega)).1, (e4 _ (by omega) (by omega)).1, d5]
    · rw [show gN g + 1 + 3 = gN G3 by omega, (f4 _ (by omega) (by omega)).1, e5]
    · rw [show gN g + 1 + 4 = gN G4 by omega, f5]
  · rw [f8]
    by_cases h4 : k = 4
    · rw [if_pos h4]; congr 1; omega
    · rw [if_neg h4, e8]
      by_cases h3 : k = 3
      · rw [if_pos h3]; congr 1; omega
      · rw [if_neg h3, d8]
        by_cases h2 : k = 2
        · rw [if_pos h2]; congr 1; omega
        · rw [if_neg h2, b8]
          by_cases h1 : k = 1
          · rw [if_pos h1]; congr 1; omega
          · rw [if_neg h1, a8, if_pos (by omega)]; congr 1; omega
theorem NF_walk (h : Hp) (Q : Po) {k : Nat} (hk : k ≤ 4) : (k = 0 → Ex mX4_init Q 0 [.ref (gN h), .int (nI 0)] [] (nO h 4 1) = Q (.inl none) (pF (nO h 4 1) 68 (gN h) (.int (nI 0)))) ∧ (k = 1 → Ex mX5_init Q 0 [.ref (gN h), .int (nI 0)] [] (nO h 5 1) = Q (.inl none) (pF (nO h 5 1) 68 (gN h) (.int (nI 0)))) ∧ (k = 2 → Ex mX6_init Q 0 [.ref (gN h), .int (nI 0)] [] (nO h 6 1) = Q (.inl none) (pF (nO h 6 1) 68 (gN h) (.int (nI 0)))) ∧ (k = 3 → Ex mX7_init Q 0 [.ref (gN h), .int (nI 0)] [] (nO h 7 1) = Q (.inl none) (pF (nO h 7 1) 68 (gN h) (.int (nI 0)))) ∧ (k = 4 → Ex mX8_init Q 0 [.ref (gN h), .int (nI 0)] [] (nO h 8 1) = Q (.inl none) (pF (nO h 8 1) 68 (gN h) (.int (nI 0)))) := by
  refine ⟨fun _ => ?_, fun _ => ?_, fun _ => ?_, fun _ => ?_, fun _ => ?_⟩
  · simp (disch := omega) only [↓rX4_init_0, ↓rX4_init_1, ↓rX4_init_2, ↓rX4_init_5, ↓rX4_init_t, ↓rX3_init_0, ↓rX3_init_1, ↓rX3_init_4, ↓rX3_init_5, ↓rX3_init_6, ↓rX3_init_9, ↓rX3_init_t, ↓rmI_in, ↓shrI_in, ↓shlI_in, ↓okI_in, ↓bI_01, bI_z, bI_o, nn_neg, Int.cast_ofNat_Int, zlit, n_leT, n_leF, n_ltT, n_ltF, n_eqT, n_eqF, z_leT, z_leF, z_ltT, z_ltF, z_eqT, z_eqF, nn_add, nn_mul, nn_clamp, nn_lt, nn_le, nn_eq, nn_div, rmI_nn, okI_nn, nn_and, nn_or, nn_xor, shlI_1, shrI_nn, Cont_v, Cont_0, List.mem_cons, List.not_mem_nil, or_false, or_true, true_or, true_and, and_true, ite_not, if_true, if_false, not_true_eq_false, not_false_eq_true, false_or, false_and, and_false, eq_self, ↓reduceIte, reduceCtorEq, gK_nO]
  · simp (disch := omega) only [↓rX5_init_0, ↓rX5_init_1, ↓rX5_init_2, ↓rX5_init_5, ↓rX5_init_t, ↓rX4_init_0, ↓rX4_init_1, ↓rX4_init_2, ↓rX4_init_5, ↓rX4_init_t, ↓rX3_init_0, ↓rX3_init_1, ↓rX3_init_4, ↓rX3_init_5, ↓rX3_init_6, ↓rX3_init_9, ↓rX3_init_t, ↓rmI_in, ↓shrI_in, ↓shlI_in, ↓okI_in, ↓bI_01, bI_z, bI_o, nn_neg, Int.cast_ofNat_Int, zlit, n_leT, n_leF, n_ltT, n_ltF, n_eqT, n_eqF, z_leT, z_leF, z_ltT, z_ltF, z_eqT, z_eqF, nn_add, nn_mul, nn_clamp, nn_lt, nn_le, nn_eq, nn_div, rmI_nn, okI_nn, nn_and, nn_or, nn_xor, shlI_1, shrI_nn, Cont_v, Cont_0, List.mem_cons, List.not_mem_nil, or_false, or_true, true_or, true_and, and_true, ite_not, if_true, if_false, not_true_eq_false, not_false_eq_true, false_or, false_and, and_false, eq_self, ↓reduceIte, reduceCtorEq, gK_nO]
  · simp (disch := omega) only [↓rX6_init_0, ↓rX6_init_1, ↓rX6_init_2, ↓rX6_init_5, ↓rX6_init_t, ↓rX4_init_0, ↓rX4_init_1, ↓rX4_init_2, ↓rX4_init_5, ↓rX4_init_t, ↓rX3_init_0, ↓rX3_init_1, ↓rX3_init_4, ↓rX3_init_5, ↓rX3_init_6, ↓rX3_init_9, ↓rX3_init_t, ↓rmI_in, ↓shrI_in, ↓shlI_in, ↓okI_in, ↓bI_01, bI_z, bI_o, nn_neg, Int.cast_ofNat_Int, zlit, n_leT, n_leF, n_ltT, n_ltF, n_eqT, n_eqF, z_leT, z_leF, z_ltT, z_ltF, z_eqT, z_eqF, nn_add, nn_mul, nn_clamp, nn_lt, nn_le, nn_eq, nn_div, rmI_nn, okI_nn, nn_and, nn_or, nn_xor, shlI_1, shrI_nn, Cont_v, Cont_0, List.mem_cons, List.not_mem_nil, or_false, or_true, true_or, true_and, and_true, ite_not, if_true, if_false, not_true_eq_false, not_false_eq_true, false_or, false_and, and_false, eq_self, ↓reduceIte, reduceCtorEq, gK_nO]
  · simp (disch := omega) only [↓rX7_init_0, ↓rX7_init_1, ↓rX7_init_2, ↓rX7_init_5, ↓rX7_init_t, ↓rX3_init_0, ↓rX3_init_1, ↓rX3_init_4, ↓rX3_init_5, ↓rX3_init_6, ↓rX3_init_9, ↓rX3_init_t, ↓rmI_in, ↓shrI_in, ↓shlI_in, ↓okI_in, ↓bI_01, bI_z, bI_o, nn_neg, Int.cast_ofNat_Int, zlit, n_leT, n_leF, n_ltT, n_ltF, n_eqT, n_eqF, z_leT, z_leF, z_ltT, z_ltF, z_eqT, z_eqF, nn_add, nn_mul, nn_clamp, nn_lt, nn_le, nn_eq, nn_div, rmI_nn, okI_nn, nn_and, nn_or, nn_xor, shlI_1, shrI_nn, Cont_v, Cont_0, List.mem_cons, List.not_mem_nil, or_false, or_true, true_or, true_and, and_true, ite_not, if_true, if_false, not_true_eq_false, not_false_eq_true, false_or, false_and, and_false, eq_self, ↓reduceIte, reduceCtorEq, gK_nO]
  · simp (disch := omega) only [↓rX8_init_0, ↓rX8_init_1, ↓rX8_init_2, ↓rX8_init_5, ↓rX8_init_t, ↓rX7_init_0, ↓rX7_init_1, ↓rX7_init_2, ↓rX7_init_5, ↓rX7_init_t, ↓rX3_init_0, ↓rX3_init_1, ↓rX3_init_4, ↓rX3_init_5, ↓rX3_init_6, ↓rX3_init_9, ↓rX3_init_t, ↓rmI_in, ↓shrI_in, ↓shlI_in, ↓okI_in, ↓bI_01, bI_z, bI_o, nn_neg, Int.cast_ofNat_Int, zlit, n_leT, n_leF, n_ltT, n_ltF, n_eqT, n_eqF, z_leT, z_leF, z_ltT, z_ltF, z_eqT, z_eqF, nn_add, nn_mul, nn_clamp, nn_lt, nn_le, nn_eq, nn_div, rmI_nn, okI_nn, nn_and, nn_or, nn_xor, shlI_1, shrI_nn, Cont_v, Cont_0, List.mem_cons, List.not_mem_nil, or_false, or_true, true_or, true_and, and_true, ite_not, if_true, if_false, not_true_eq_false, not_false_eq_true, false_or, false_and, and_false, eq_self, ↓reduceIte, reduceCtorEq, gK_nO]
