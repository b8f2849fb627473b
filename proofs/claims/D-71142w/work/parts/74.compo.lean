/-! THE CLASS READS A TEXT: all of it -/
theorem kB_rng {v : Nat} (h : 0 < kB v) : 97 ≤ v ∧ v ≤ 122 ∧ v ≠ 98 := by
  unfold kB at h
  (repeat' split at h) <;> omega
section RD4
variable {g0 g : Hp} {c r : Nat} {t : Nat → Nat} {n : Nat} {s : St} {m : Nat → Nat} {sa : Nat}
theorem RB.s1009 {f : Nat} (R : RB g0 g c r t n f) (hsa : gF g0 1009 0 = .ref sa) : gF g 1009 0 = .ref sa := by
  obtain ⟨-, -, -, ⟨a8, a9, a10⟩, -, ⟨b1, -⟩, -⟩ := R
  exact ((b1 0 (by omega)).2.2.1 _).trans hsa
theorem c12_fish (R : RB g0 g c r t n (s 1)) (Li : RLi g r s) (hsa : gF g0 1009 0 = .ref sa) {p : Nat} (hp : p ≤ n) (h0 : 0 < (s 0 : Nat) ∧ (s 0 : Nat) ≤ 6) (h1 : (s 1 : Nat) ≤ 5) (hk : tkC t n p = 1 ∧ 0 < kB (t p)) : match pFish t n (kB (t p)) (p, s) with
    | .inl q => FltO g0 r q.1 q.2 (fun Q => Ex mX12_fish Q 0 [.ref r, .retAddr 0, .retAddr 0] [] (LB (RDo g r (nI (tkN t n p)) (nI (tkC t n p)) (nI p) (tkW t n p)) (r + 1) s m (r + 6) (zI (-1000000)) .null))
    | .inr y => y.1 ≤ n ∧ ∃ g', RB g0 g' c r t n (y.2 1) ∧ RLi g' r y.2 ∧ ∀ Q : Po, Ex mX12_fish Q 0 [.ref r, .retAddr 0, .retAddr 0] [] (LB (RDo g r (nI (tkN t n p)) (nI (tkC t n p)) (nI p) (tkW t n p)) (r + 1) s m (r + 6) (zI (-1000000)) .null) = Q (.inl none) (LB (RDo g' r (nI (tkN t n y.1)) (nI (tkC t n y.1)) (nI y.1) (tkW t n y.1)) (r + 1) y.2 m (r + 6) (zI (-1000000)) .null) := by
  have R' := R
  have hsg := R.s1009 hsa
  obtain ⟨⟨a1, a2, a3, a4⟩, K, -, ⟨a8, a9, a10⟩, -, ⟨b1, b2, b3, b4⟩, ⟨b5, b6, b7⟩, hn, ht⟩ := R'
  obtain ⟨k0, ⟨k1, k2, k3, k4, k6, k7⟩, l1, l2, l3, l4, l6, l7⟩ := K
  have K : ∀ x4 x6 x8 x0, LK (RDo g r x4 x6 x8 x0) (r + 1) := fun _ _ _ _ => ⟨k0, ⟨k1, k2, k3, k4, k6, k7⟩, l1, l2, l3, l4, l6, l7⟩
  have p1 := tkN_le (t := t) hp
  have p2 := tkN_le (t := t) p1
  have p3 := tkN_le (t := t) p2
  have sg := fun q => (tk_sg (t := t) (n := n) (p := q))
  have hkb := kB_le (t p)
  have so := fun Q => c12_sortOf (s := s) (m := m) R Q (p := p) hsg
  rw [if_pos hk] at so
  have Li' := Li
  obtain ⟨e, fa, mc, c1, c2, c3, c4, c5, c6, c7⟩ := Li'
  have hfl : ∀ x4 x6 x8 x0, FLi (RDo g r x4 x6 x8 x0) (r + 6) e (s 1) fa := fun x4 x6 x8 x0 => by
    refine ⟨c1, ?_, ?_, fun i hi => ?_⟩
    · rw [rd_F, if_neg (by omega), if_neg (by omega), if_neg (by omega), if_neg (by omega)]; exact c3
    · rw [rd_F, if_neg (by omega), if_neg (by omega), if_neg (by omega), if_neg (by omega)]; exact c4
    · obtain ⟨w2, w3, -⟩ := c6 (by omega)
      exact ⟨⟨w2, by show (s 1 : Nat) ≤ gL g e; omega⟩, (c7 i hi).1⟩
  have hmany := fun Q x4 x6 x8 x0 s' => c1_many Q (RDo g r x4 x6 x8 x0) (r + 1) s' m (r + 6) (zI (-1000000)) .null (K x4 x6 x8 x0) (hfl x4 x6 x8 x0) (show r + 6 < r + 1 ∨ r + 1 < r + 6 by omega)
  by_cases h5 : (s 1 : Nat) = 5
  · have eP : pFish t n (kB (t p)) (p, s) = .inl (3, p) := by unfold pFish; rw [if_pos (Or.inr h5), if_neg (by simp only; omega)]
    rw [eP]
    obtain ⟨hh, a, d1, d2, d3, d4⟩ := c12_beginF (s := s) (m := m) R (p := p) (k := 5) (w := 5) (by omega) (by omega)
    refine ⟨hh, a, d1, d2, d3, fun Q => ?_⟩
    rw [h5] at hmany
    simp (disch := omega) only [↓rX12_fish_0, ↓rX12_fish_1, ↓rX12_fish_3, ↓rX12_fish_6, ↓rX12_fish_7, ↓rX12_fish_8, ↓rX12_fish_11, ↓rX12_fish_14, ↓rX12_fish_15, ↓rX12_fish_16, ↓rX12_fish_17, ↓rX12_fish_18, ↓rX12_fish_21, ↓rX12_fish_22, ↓rX12_fish_25, ↓rX12_fish_28, ↓rX12_fish_29, ↓rX12_fish_30, ↓rX12_fish_31, ↓rX12_fish_32, ↓rX12_fish_35, ↓rX12_fish_38, ↓rX12_fish_39, ↓rX12_fish_40, ↓rX12_fish_43, ↓rX12_fish_44, ↓rX12_fish_45, ↓rX12_fish_48, ↓rX12_fish_51, ↓rX12_fish_52, ↓rX12_fish_53, ↓rX12_fish_56, ↓rX12_fish_61, ↓rX12_fish_62, ↓rX12_fish_63, ↓rX12_fish_64, ↓rX12_fish_67, ↓rX12_fish_t, lG_32, lG_34, lG_36, lG_46, lG_48, lG_56, lG_58, lG_39, lG_41, lG_43, lG_45, lG_53, lG_55, lG_51, lG_60, lG_63, lI_1, lI_2, lI_4, lI_6, lI_7, lI_3, lP_32, lP_34, lP_36, lP_46, lP_48, lP_56, lP_58, lP_51, lP_60, lP_63, lW_1, lW_2, lW_4, lW_6, lW_7, lW_3, lo_K, lo_L, lo_R, lo_N, lo_C, lo_S, lo_F, lo_I, ↓rmI_in, ↓shrI_in, ↓shlI_in, ↓okI_in, ↓bI_01, bI_z, bI_o, nn_neg, Int.cast_ofNat_Int, zlit, n_leT, n_leF, n_ltT, n_ltF, n_eqT, n_eqF, z_leT, z_leF, z_ltT, z_ltF, z_eqT, z_eqF, nn_add, nn_mul, nn_clamp, nn_lt, nn_le, nn_eq, nn_div, rmI_nn, okI_nn, nn_and, nn_or, nn_xor, shlI_1, shrI_nn, Cont_v, Cont_0, List.mem_cons, List.not_mem_nil, or_false, or_true, true_or, true_and, and_true, ite_not, if_true, if_false, not_true_eq_false, not_false_eq_true, false_or, false_and, and_false, eq_self, ↓reduceIte, reduceCtorEq, rd_K, rd_L, rd_F, a1, a4, k0, k1, k2, k3, k4, k6, k7, l1, l2, l3, l4, l6, l7, hsg, ↓so, ↓hmany, ↓d4]
  · have eP : pFish t n (kB (t p)) (p, s) = pNum t n 0 ((s 0 : Nat) - 1) (31 + (s 1 : Nat)) 59 (tkN t n p, wr (wr s (26 + (s 1 : Nat)) (kB (t p))) 1 ((s 1 : Nat) + 1)) := by unfold pFish; rw [if_neg (by simp only; omega)]
    rw [eP]
    have bg := fun Q => c12_beginT (s := s) (m := m) R Q (p := p) (k := (s 1 : Nat)) (w := 5) hp (by omega) (by omega)
    by_cases d1 : tkC t n (tkN t n p) = 2 ∧ 0 ≤ tkV t n (tkN t n p) ∧ tkV t n (tkN t n p) ≤ (s 0 : Nat) - 1
    · have f1 := fun Q => c12_figureT (s := s) (m := m) R Q (p := tkN t n p) (lo := 0) (hi := (s 0 : Nat) - 1) p1 (by omega) d1.1 d1.2
      have eN1 : pNum t n 0 ((s 0 : Nat) - 1) (31 + (s 1 : Nat)) 59 (tkN t n p, wr (wr s (26 + (s 1 : Nat)) (kB (t p))) 1 ((s 1 : Nat) + 1)) = pTk t n 59 (tkN t n (tkN t n p), wr (wr (wr s (26 + (s 1 : Nat)) (kB (t p))) 1 ((s 1 : Nat) + 1)) (31 + (s 1 : Nat)) (tkV t n (tkN t n p))) := if_pos ⟨tk_C2.mp d1.1, d1.2⟩
      rw [eN1]
      have hv := d1.2.2
      have e1 : (wr (wr (wr s (26 + (s 1 : Nat)) (kB (t p))) 1 ((s 1 : Nat) + 1)) (31 + (s 1 : Nat)) (tkV t n (tkN t n p)) 1 : Nat) = (s 1 : Nat) + 1 := by rw [wr_ne (by omega), wr_eq, Nat.mod_eq_of_lt (by omega)]
      obtain ⟨g', R2, L2, hN2, hput⟩ := c12_put (m := m) R Li (nI (tkN t n (tkN t n p))) (nI (tkC t n (tkN t n p))) (nI (tkN t n p)) (tkW t n (tkN t n p)) (so := kB (t p) - 1) (by omega) (by omega) (s' := wr (wr (wr s (26 + (s 1 : Nat)) (kB (t p))) 1 ((s 1 : Nat) + 1)) (31 + (s 1 : Nat)) (tkV t n (tkN t n p))) e1 (fun i hi => by rw [wr_ne (by omega), wr_ne (by omega), wr_ne (by omega)]) (by rw [wr_ne (by omega), wr_ne (by omega), wr_eq, Nat.mod_eq_of_lt (by omega)]; omega) (wr s (31 + (s 1 : Nat)) (tkV t n (tkN t n p)))
      clear R2 L2 hN2 hput
      obtain ⟨g', R2, L2, hN2, hput⟩ := c12_put (m := m) R Li (nI (tkN t n (tkN t n (tkN t n p)))) (nI (tkC t n (tkN t n (tkN t n p)))) (nI (tkN t n (tkN t n p))) (tkW t n (tkN t n (tkN t n p))) (so := kB (t p) - 1) (by omega) (by omega) (s' := wr (wr (wr s (26 + (s 1 : Nat)) (kB (t p))) 1 ((s 1 : Nat) + 1)) (31 + (s 1 : Nat)) (tkV t n (tkN t n p))) e1 (fun i hi => by rw [wr_ne (by omega), wr_ne (by omega), wr_ne (by omega)]) (by rw [wr_ne (by omega), wr_ne (by omega), wr_eq, Nat.mod_eq_of_lt (by omega)]; omega) (wr s (31 + (s 1 : Nat)) (tkV t n (tkN t n p)))
      have eL : ∀ b, LB b (r + 1) (wr s (31 + (s 1 : Nat)) (tkV t n (tkN t n p))) m (r + 6) (zI (-1000000)) .null = LB b (r + 1) (wr (wr (wr s (26 + (s 1 : Nat)) (kB (t p))) 1 ((s 1 : Nat) + 1)) (31 + (s 1 : Nat)) (tkV t n (tkN t n p))) m (r + 6) (zI (-1000000)) .null := fun b => LB_cgK b _ _ _ _ _ (fun j hj1 hj2 => by
        by_cases ej : j = 31 + (s 1 : Nat)
        · rw [ej, wr_comm (i := 1) (j := 31 + (s 1 : Nat)) (by omega), wr_comm (i := 26 + (s 1 : Nat)) (j := 31 + (s 1 : Nat)) (by omega), wr_ne (s := wr (wr s (31 + (s 1 : Nat)) (tkV t n (tkN t n p))) (26 + (s 1 : Nat)) (kB (t p))) (by omega), wr_ne (s := wr s (31 + (s 1 : Nat)) (tkV t n (tkN t n p))) (by omega)]
        · rw [wr_ne ej, wr_ne ej, wr_ne hj1, wr_ne (by omega)])
      have fb := fun Q => c0_fishBy Q (LB (RDo g r (nI (tkN t n (tkN t n (tkN t n p)))) (nI (tkC t n (tkN t n (tkN t n p)))) (nI (tkN t n (tkN t n p))) (tkW t n (tkN t n (tkN t n p)))) (r + 1) (wr s (31 + (s 1 : Nat)) (tkV t n (tkN t n p))) m (r + 6) (zI (-1000000)) .null) (so := kB (t p) - 1) (f := (s 1 : Nat)) (by omega) (by rw [lo_C, rd_C]; omega) (by rw [lo_S, rd_S]; omega)
      have eNN : gN (LB (RDo g r (nI (tkN t n (tkN t n (tkN t n p)))) (nI (tkC t n (tkN t n (tkN t n p)))) (nI (tkN t n (tkN t n p))) (tkW t n (tkN t n (tkN t n p)))) (r + 1) (wr s (31 + (s 1 : Nat)) (tkV t n (tkN t n p))) m (r + 6) (zI (-1000000)) .null) = gN g := by rw [lo_N, rd_N]
      rw [eNN] at fb
      have kl : gK (pF (nO (LB (RDo g r (nI (tkN t n (tkN t n (tkN t n p)))) (nI (tkC t n (tkN t n (tkN t n p)))) (nI (tkN t n (tkN t n p))) (tkW t n (tkN t n (tkN t n p)))) (r + 1) (wr s (31 + (s 1 : Nat)) (tkV t n (tkN t n p))) m (r + 6) (zI (-1000000)) .null) (4 + (kB (t p) - 1)) 1) 68 (gN g) (.int (nI (s 1)))) (r + 6) = 14 := by
        rw [gK_pF, gK_nO, eNN, if_neg (by omega)]; exact c1
      have kr : gK g' r = 12 := R2.1.1
      have kp6 : gK g (r + 6) = 14 := c1
      have e12 : (wr (wr (wr s (26 + (s 1 : Nat)) (kB (t p))) 1 ((s 1 : Nat) + 1)) (31 + (s 1 : Nat)) (tkV t n (tkN t n p)) 1 : Nat) = (s 1 : Nat) + 1 := e1
      by_cases d4 : tkC t n (tkN t n (tkN t n p)) = 4
      · have eT : pTk t n 59 (tkN t n (tkN t n p), wr (wr (wr s (26 + (s 1 : Nat)) (kB (t p))) 1 ((s 1 : Nat) + 1)) (31 + (s 1 : Nat)) (tkV t n (tkN t n p))) = .inr (tkN t n (tkN t n (tkN t n p)), wr (wr (wr s (26 + (s 1 : Nat)) (kB (t p))) 1 ((s 1 : Nat) + 1)) (31 + (s 1 : Nat)) (tkV t n (tkN t n p))) := if_pos ((sg _).2.1.mp d4)
        rw [eT]
        refine ⟨p3, g', by simp only [e12]; exact R2, L2, fun Q => ?_⟩
        have f3 := fun Q => c12_signT (s := wr s (31 + (s 1 : Nat)) (tkV t n (tkN t n p))) (m := m) R2 Q (p := tkN t n (tkN t n p)) (w := 4) p2 d4
        rw [d4] at f3 fb hput kl eNN
        rw [← eL]
        simp (disch := omega) only [↓rX12_fish_0, ↓rX12_fish_1, ↓rX12_fish_3, ↓rX12_fish_6, ↓rX12_fish_7, ↓rX12_fish_8, ↓rX12_fish_11, ↓rX12_fish_14, ↓rX12_fish_15, ↓rX12_fish_16, ↓rX12_fish_17, ↓rX12_fish_18, ↓rX12_fish_21, ↓rX12_fish_22, ↓rX12_fish_25, ↓rX12_fish_28, ↓rX12_fish_29, ↓rX12_fish_30, ↓rX12_fish_31, ↓rX12_fish_32, ↓rX12_fish_35, ↓rX12_fish_38, ↓rX12_fish_39, ↓rX12_fish_40, ↓rX12_fish_43, ↓rX12_fish_44, ↓rX12_fish_45, ↓rX12_fish_48, ↓rX12_fish_51, ↓rX12_fish_52, ↓rX12_fish_53, ↓rX12_fish_56, ↓rX12_fish_61, ↓rX12_fish_62, ↓rX12_fish_63, ↓rX12_fish_64, ↓rX12_fish_67, ↓rX12_fish_t, lG_32, lG_34, lG_36, lG_46, lG_48, lG_56, lG_58, lG_39, lG_41, lG_43, lG_45, lG_53, lG_55, lG_51, lG_60, lG_63, lI_1, lI_2, lI_4, lI_6, lI_7, lI_3, lP_32, lP_34, lP_36, lP_46, lP_48, lP_56, lP_58, lP_51, lP_60, lP_63, lW_1, lW_2, lW_4, lW_6, lW_7, lW_3, lo_K, lo_L, lo_R, lo_N, lo_C, lo_S, lo_F, lo_I, ↓rmI_in, ↓shrI_in, ↓shlI_in, ↓okI_in, ↓bI_01, bI_z, bI_o, nn_neg, Int.cast_ofNat_Int, zlit, n_leT, n_leF, n_ltT, n_ltF, n_eqT, n_eqF, z_leT, z_leF, z_ltT, z_ltF, z_eqT, z_eqF, nn_add, nn_mul, nn_clamp, nn_lt, nn_le, nn_eq, nn_div, rmI_nn, okI_nn, nn_and, nn_or, nn_xor, shlI_1, shrI_nn, Cont_v, Cont_0, List.mem_cons, List.not_mem_nil, or_false, or_true, true_or, true_and, and_true, ite_not, if_true, if_false, not_true_eq_false, not_false_eq_true, false_or, false_and, and_false, eq_self, ↓reduceIte, reduceCtorEq, rd_K, rd_L, rd_F, a1, a4, k0, k1, k2, k3, k4, k6, k7, l1, l2, l3, l4, l6, l7, hsg, d4, nn_sub, ↓so, ↓hmany, ↓bg, ↓f1, ↓fb, kl, ↓hput, kr, ↓f3]
      · have eT : pTk t n 59 (tkN t n (tkN t n p), wr (wr (wr s (26 + (s 1 : Nat)) (kB (t p))) 1 ((s 1 : Nat) + 1)) (31 + (s 1 : Nat)) (tkV t n (tkN t n p))) = .inl (1, tkN t n (tkN t n p)) := if_neg (fun q => d4 ((sg _).2.1.mpr q))
        rw [eT]
        obtain ⟨hh, a, w1, w2, w3, w4⟩ := c12_signF (s := wr s (31 + (s 1 : Nat)) (tkV t n (tkN t n p))) (m := m) R2 (p := tkN t n (tkN t n p)) (w := 4) (by omega) d4
        refine ⟨hh, a, w1, w2, w3, fun Q => ?_⟩
        simp (disch := omega) only [↓rX12_fish_0, ↓rX12_fish_1, ↓rX12_fish_3, ↓rX12_fish_6, ↓rX12_fish_7, ↓rX12_fish_8, ↓rX12_fish_11, ↓rX12_fish_14, ↓rX12_fish_15, ↓rX12_fish_16, ↓rX12_fish_17, ↓rX12_fish_18, ↓rX12_fish_21, ↓rX12_fish_22, ↓rX12_fish_25, ↓rX12_fish_28, ↓rX12_fish_29, ↓rX12_fish_30, ↓rX12_fish_31, ↓rX12_fish_32, ↓rX12_fish_35, ↓rX12_fish_38, ↓rX12_fish_39, ↓rX12_fish_40, ↓rX12_fish_43, ↓rX12_fish_44, ↓rX12_fish_45, ↓rX12_fish_48, ↓rX12_fish_51, ↓rX12_fish_52, ↓rX12_fish_53, ↓rX12_fish_56, ↓rX12_fish_61, ↓rX12_fish_62, ↓rX12_fish_63, ↓rX12_fish_64, ↓rX12_fish_67, ↓rX12_fish_t, lG_32, lG_34, lG_36, lG_46, lG_48, lG_56, lG_58, lG_39, lG_41, lG_43, lG_45, lG_53, lG_55, lG_51, lG_60, lG_63, lI_1, lI_2, lI_4, lI_6, lI_7, lI_3, lP_32, lP_34, lP_36, lP_46, lP_48, lP_56, lP_58, lP_51, lP_60, lP_63, lW_1, lW_2, lW_4, lW_6, lW_7, lW_3, lo_K, lo_L, lo_R, lo_N, lo_C, lo_S, lo_F, lo_I, ↓rmI_in, ↓shrI_in, ↓shlI_in, ↓okI_in, ↓bI_01, bI_z, bI_o, nn_neg, Int.cast_ofNat_Int, zlit, n_leT, n_leF, n_ltT, n_ltF, n_eqT, n_eqF, z_leT, z_leF, z_ltT, z_ltF, z_eqT, z_eqF, nn_add, nn_mul, nn_clamp, nn_lt, nn_le, nn_eq, nn_div, rmI_nn, okI_nn, nn_and, nn_or, nn_xor, shlI_1, shrI_nn, Cont_v, Cont_0, List.mem_cons, List.not_mem_nil, or_false, or_true, true_or, true_and, and_true, ite_not, if_true, if_false, not_true_eq_false, not_false_eq_true, false_or, false_and, and_false, eq_self, ↓reduceIte, reduceCtorEq, rd_K, rd_L, rd_F, a1, a4, k0, k1, k2, k3, k4, k6, k7, l1, l2, l3, l4, l6, l7, hsg, nn_sub, ↓so, ↓hmany, ↓bg, ↓f1, ↓fb, kl, ↓hput, kr, ↓w4]
    · have eN1 : pNum t n 0 ((s 0 : Nat) - 1) (31 + (s 1 : Nat)) 59 (tkN t n p, wr (wr s (26 + (s 1 : Nat)) (kB (t p))) 1 ((s 1 : Nat) + 1)) = .inl (if tkC t n (tkN t n p) = 2 then 2 else 1, tkN t n p) := by
        unfold pNum
        rw [if_neg (fun q => d1 ⟨tk_C2.mpr q.1, q.2⟩)]
        simp only [tk_C2]
      rw [eN1]
      obtain ⟨hh, a, w1, w2, w3, w4⟩ := c12_figureF (s := s) (m := m) R (p := tkN t n p) (lo := 0) (hi := (s 0 : Nat) - 1) p1 (by omega) d1
      refine ⟨hh, a, w1, w2, w3, fun Q => ?_⟩
      simp (disch := omega) only [↓rX12_fish_0, ↓rX12_fish_1, ↓rX12_fish_3, ↓rX12_fish_6, ↓rX12_fish_7, ↓rX12_fish_8, ↓rX12_fish_11, ↓rX12_fish_14, ↓rX12_fish_15, ↓rX12_fish_16, ↓rX12_fish_17, ↓rX12_fish_18, ↓rX12_fish_21, ↓rX12_fish_22, ↓rX12_fish_25, ↓rX12_fish_28, ↓rX12_fish_29, ↓rX12_fish_30, ↓rX12_fish_31, ↓rX12_fish_32, ↓rX12_fish_35, ↓rX12_fish_38, ↓rX12_fish_39, ↓rX12_fish_40, ↓rX12_fish_43, ↓rX12_fish_44, ↓rX12_fish_45, ↓rX12_fish_48, ↓rX12_fish_51, ↓rX12_fish_52, ↓rX12_fish_53, ↓rX12_fish_56, ↓rX12_fish_61, ↓rX12_fish_62, ↓rX12_fish_63, ↓rX12_fish_64, ↓rX12_fish_67, ↓rX12_fish_t, lG_32, lG_34, lG_36, lG_46, lG_48, lG_56, lG_58, lG_39, lG_41, lG_43, lG_45, lG_53, lG_55, lG_51, lG_60, lG_63, lI_1, lI_2, lI_4, lI_6, lI_7, lI_3, lP_32, lP_34, lP_36, lP_46, lP_48, lP_56, lP_58, lP_51, lP_60, lP_63, lW_1, lW_2, lW_4, lW_6, lW_7, lW_3, lo_K, lo_L, lo_R, lo_N, lo_C, lo_S, lo_F, lo_I, ↓rmI_in, ↓shrI_in, ↓shlI_in, ↓okI_in, ↓bI_01, bI_z, bI_o, nn_neg, Int.cast_ofNat_Int, zlit, n_leT, n_leF, n_ltT, n_ltF, n_eqT, n_eqF, z_leT, z_leF, z_ltT, z_ltF, z_eqT, z_eqF, nn_add, nn_mul, nn_clamp, nn_lt, nn_le, nn_eq, nn_div, rmI_nn, okI_nn, nn_and, nn_or, nn_xor, shlI_1, shrI_nn, Cont_v, Cont_0, List.mem_cons, List.not_mem_nil, or_false, or_true, true_or, true_and, and_true, ite_not, if_true, if_false, not_true_eq_false, not_false_eq_true, false_or, false_and, and_false, eq_self, ↓reduceIte, reduceCtorEq, rd_K, rd_L, rd_F, a1, a4, k0, k1, k2, k3, k4, k6, k7, l1, l2, l3, l4, l6, l7, hsg, nn_sub, ↓so, ↓hmany, ↓bg, ↓w4]
end RD4
