/-! THE CLASS READS A TEXT: all -/
theorem RLi.cg {g : Hp} {r : Nat} {s s' : St} (L : RLi g r s) (e1 : s' 1 = s 1) (e2 : ∀ i, i < (s 1 : Nat) → s' (26 + i) = s (26 + i)) : RLi g r s' := by
  obtain ⟨e, fa, mc, c1, c2, c3, c4, c5, c6, c7⟩ := L
  refine ⟨e, fa, mc, c1, c2, c3, by rw [e1]; exact c4, by rw [e1]; exact c5, by rw [e1]; exact c6, fun i hi => ?_⟩
  rw [e1] at hi
  rw [e2 i hi]
  exact c7 i hi
/-- what is neither a book nor a fish -/
theorem pOne_f {t : Nat → Nat} {n p : Nat} {s : St} (h1 : ¬ (tkC t n p = 1 ∧ 0 < kB (t p))) (h2 : ¬ (tkC t n p = 1 ∧ t p = 98) ∨ 0 < (s 1 : Nat)) : pOne t n (p, s) = .inl (1, p) := by
  have sg := tk_sg (t := t) (n := n) (p := p)
  unfold pOne
  have n1 : ¬ (tkK t n p = 1 ∧ 0 < kB (tkV t n p)) := fun q => by
    obtain ⟨k1, k2, k3⟩ := kB_rng q.2
    have := (sg.2.2 (tkV t n p) k1 k2).mpr ⟨q.1, rfl⟩
    exact h1 ⟨this.1, by rw [this.2]; exact q.2⟩
  rw [if_neg n1]
  by_cases hb : tkK t n p = 1 ∧ tkV t n p = 98
  · rw [if_pos hb]
    have hb' := (sg.2.2 98 (by omega) (by omega)).mpr hb
    have h3 : 0 < (s 1 : Nat) := h2.resolve_left (fun q => q hb')
    unfold pBook
    rw [if_pos (Or.inl h3), if_pos h3]
  · rw [if_neg hb]
section RD5
variable {g0 : Hp} {c r : Nat} {t : Nat → Nat} {n : Nat} {sa : Nat}
theorem all_fish (hsa : gF g0 1009 0 = .ref sa) (x1 : Value) (m : Nat → Nat) : ∀ fu p (g : Hp) (s : St), p ≤ n → n + 1 ≤ p + fu → RB g0 g c r t n (s 1) → RLi g r s → PI s → 0 < (s 0 : Nat) → (0 < (s 1 : Nat) ∨ (tkC t n p = 1 ∧ 0 < kB (t p))) → match pLp t n fu (p, s) with
    | .inl q => FltO g0 r q.1 q.2 (fun Q => Ex mX12_all Q 102 [.ref r, x1] [] (LB (RDo g r (nI (tkN t n p)) (nI (tkC t n p)) (nI p) (tkW t n p)) (r + 1) s m (r + 6) (zI (-1000000)) .null))
    | .inr y => ∃ g', y.1 ≤ n ∧ RB g0 g' c r t n (y.2 1) ∧ RLi g' r y.2 ∧ y.2 0 = s 0 ∧ ∀ Q : Po, Ex mX12_all Q 102 [.ref r, x1] [] (LB (RDo g r (nI (tkN t n p)) (nI (tkC t n p)) (nI p) (tkW t n p)) (r + 1) s m (r + 6) (zI (-1000000)) .null) = Q (.inl none) (LB (RDo g' r (nI (tkN t n y.1)) (nI (tkC t n y.1)) (nI y.1) (tkW t n y.1)) (r + 1) y.2 m (r + 6) (zI (-1000000)) .null) := by
  intro fu
  induction fu with
  | zero => intro p g s hp hf; omega
  | succ fu ih =>
    intro p g s hp hf R Li hI h0 hor
    have hcl := tkC_lt (t := t) (n := n) (p := p)
    have hsg := R.s1009 hsa
    have so := fun Q => c12_sortOf (s := s) (m := m) R Q (p := p) hsg
    have a1 : gK g r = 12 := R.1.1
    have ar : 0 < c ∧ c + 47 ≤ r := ⟨R.2.2.2.1.1, R.2.2.2.1.2.1⟩
    by_cases h3 : tkK t n p = 3 ∧ 0 < (s 1 : Nat)
    · have e : pLp t n (fu + 1) (p, s) = .inr (p, s) := if_pos h3
      have hc0 := tk_C0.mpr h3.1
      rw [e]
      rw [if_neg (fun q => by rw [hc0] at q; omega)] at so
      refine ⟨g, hp, R, Li, rfl, fun Q => ?_⟩
      rw [hc0] at so
      rw [rX12_all_102]
      simp (disch := omega) only [↓rX12_all_0, ↓rX12_all_1, ↓rX12_all_4, ↓rX12_all_5, ↓rX12_all_6, ↓rX12_all_8, ↓rX12_all_11, ↓rX12_all_12, ↓rX12_all_15, ↓rX12_all_16, ↓rX12_all_19, ↓rX12_all_20, ↓rX12_all_21, ↓rX12_all_23, ↓rX12_all_26, ↓rX12_all_27, ↓rX12_all_28, ↓rX12_all_31, ↓rX12_all_32, ↓rX12_all_33, ↓rX12_all_35, ↓rX12_all_38, ↓rX12_all_41, ↓rX12_all_42, ↓rX12_all_43, ↓rX12_all_46, ↓rX12_all_47, ↓rX12_all_50, ↓rX12_all_51, ↓rX12_all_54, ↓rX12_all_55, ↓rX12_all_56, ↓rX12_all_58, ↓rX12_all_61, ↓rX12_all_62, ↓rX12_all_66, ↓rX12_all_68, ↓rX12_all_71, ↓rX12_all_74, ↓rX12_all_75, ↓rX12_all_78, ↓rX12_all_81, ↓rX12_all_82, ↓rX12_all_83, ↓rX12_all_85, ↓rX12_all_88, ↓rX12_all_90, ↓rX12_all_93, ↓rX12_all_94, ↓rX12_all_97, ↓rX12_all_98, ↓rX12_all_99, ↓rX12_all_103, ↓rX12_all_105, ↓rX12_all_108, ↓rX12_all_110, ↓rX12_all_113, ↓rX12_all_114, ↓rX12_all_117, ↓rX12_all_120, ↓rX12_all_121, ↓rX12_all_122, ↓rX12_all_125, ↓rX12_all_128, ↓rX12_all_129, ↓rX12_all_132, ↓rX12_all_133, ↓rX12_all_134, ↓rX12_all_137, ↓rX12_all_t, lG_32, lG_34, lG_36, lG_46, lG_48, lG_56, lG_58, lG_39, lG_41, lG_43, lG_45, lG_53, lG_55, lG_51, lG_60, lG_63, lI_1, lI_2, lI_4, lI_6, lI_7, lI_3, lP_32, lP_34, lP_36, lP_46, lP_48, lP_56, lP_58, lP_51, lP_60, lP_63, lW_1, lW_2, lW_4, lW_6, lW_7, lW_3, lo_K, lo_L, lo_R, lo_N, lo_C, lo_S, lo_F, lo_I, ↓rmI_in, ↓shrI_in, ↓shlI_in, ↓okI_in, ↓bI_01, bI_z, bI_o, nn_neg, Int.cast_ofNat_Int, zlit, n_leT, n_leF, n_ltT, n_ltF, n_eqT, n_eqF, z_leT, z_leF, z_ltT, z_ltF, z_eqT, z_eqF, nn_add, nn_mul, nn_clamp, nn_lt, nn_le, nn_eq, nn_div, rmI_nn, okI_nn, nn_and, nn_or, nn_xor, shlI_1, shrI_nn, Cont_v, Cont_0, List.mem_cons, List.not_mem_nil, or_false, or_true, true_or, true_and, and_true, ite_not, if_true, if_false, not_true_eq_false, not_false_eq_true, false_or, false_and, and_false, eq_self, ↓reduceIte, reduceCtorEq, rd_K, rd_F, a1, hsg, hc0, ↓so, ↓c12_must1]
    · have e : pLp t n (fu + 1) (p, s) = pB (pOne t n (p, s)) (pLp t n fu) := if_neg h3
      rw [e]
      by_cases hk : tkC t n p = 1 ∧ 0 < kB (t p)
      · obtain ⟨q1, q2, q3⟩ := kB_rng hk.2
        have hK := (tk_sg.2.2 (t p) q1 q2).mp ⟨hk.1, rfl⟩
        have eO : pOne t n (p, s) = pFish t n (kB (t p)) (p, s) := by
          unfold pOne
          rw [hK.2, if_pos ⟨hK.1, hk.2⟩]
        rw [if_pos hk] at so
        have hkb := kB_le (t p)
        have hF := c12_fish (m := m) R Li hsa hp ⟨h0, hI.1.1⟩ hI.1.2 hk
        cases hP : pFish t n (kB (t p)) (p, s) with
        | inl q =>
          rw [hP] at hF eO
          rw [eO]
          simp only [pB]
          obtain ⟨hh, a, w1, w2, w3, w4⟩ := hF
          refine ⟨hh, a, w1, w2, w3, fun Q => ?_⟩
          show Ex mX12_all Q 102 [.ref r, x1] [] _ = _
          rw [rX12_all_102]
          simp (disch := omega) only [↓rX12_all_0, ↓rX12_all_1, ↓rX12_all_4, ↓rX12_all_5, ↓rX12_all_6, ↓rX12_all_8, ↓rX12_all_11, ↓rX12_all_12, ↓rX12_all_15, ↓rX12_all_16, ↓rX12_all_19, ↓rX12_all_20, ↓rX12_all_21, ↓rX12_all_23, ↓rX12_all_26, ↓rX12_all_27, ↓rX12_all_28, ↓rX12_all_31, ↓rX12_all_32, ↓rX12_all_33, ↓rX12_all_35, ↓rX12_all_38, ↓rX12_all_41, ↓rX12_all_42, ↓rX12_all_43, ↓rX12_all_46, ↓rX12_all_47, ↓rX12_all_50, ↓rX12_all_51, ↓rX12_all_54, ↓rX12_all_55, ↓rX12_all_56, ↓rX12_all_58, ↓rX12_all_61, ↓rX12_all_62, ↓rX12_all_66, ↓rX12_all_68, ↓rX12_all_71, ↓rX12_all_74, ↓rX12_all_75, ↓rX12_all_78, ↓rX12_all_81, ↓rX12_all_82, ↓rX12_all_83, ↓rX12_all_85, ↓rX12_all_88, ↓rX12_all_90, ↓rX12_all_93, ↓rX12_all_94, ↓rX12_all_97, ↓rX12_all_98, ↓rX12_all_99, ↓rX12_all_103, ↓rX12_all_105, ↓rX12_all_108, ↓rX12_all_110, ↓rX12_all_113, ↓rX12_all_114, ↓rX12_all_117, ↓rX12_all_120, ↓rX12_all_121, ↓rX12_all_122, ↓rX12_all_125, ↓rX12_all_128, ↓rX12_all_129, ↓rX12_all_132, ↓rX12_all_133, ↓rX12_all_134, ↓rX12_all_137, ↓rX12_all_t, lG_32, lG_34, lG_36, lG_46, lG_48, lG_56, lG_58, lG_39, lG_41, lG_43, lG_45, lG_53, lG_55, lG_51, lG_60, lG_63, lI_1, lI_2, lI_4, lI_6, lI_7, lI_3, lP_32, lP_34, lP_36, lP_46, lP_48, lP_56, lP_58, lP_51, lP_60, lP_63, lW_1, lW_2, lW_4, lW_6, lW_7, lW_3, lo_K, lo_L, lo_R, lo_N, lo_C, lo_S, lo_F, lo_I, ↓rmI_in, ↓shrI_in, ↓shlI_in, ↓okI_in, ↓bI_01, bI_z, bI_o, nn_neg, Int.cast_ofNat_Int, zlit, n_leT, n_leF, n_ltT, n_ltF, n_eqT, n_eqF, z_leT, z_leF, z_ltT, z_ltF, z_eqT, z_eqF, nn_add, nn_mul, nn_clamp, nn_lt, nn_le, nn_eq, nn_div, rmI_nn, okI_nn, nn_and, nn_or, nn_xor, shlI_1, shrI_nn, Cont_v, Cont_0, List.mem_cons, List.not_mem_nil, or_false, or_true, true_or, true_and, and_true, ite_not, if_true, if_false, not_true_eq_false, not_false_eq_true, false_or, false_and, and_false, eq_self, ↓reduceIte, reduceCtorEq, zI_add, zI_sub, zI_mul, zI_neg, nn_neg, zI_lt, zI_le, zI_eq, zn_lt, nz_lt, zn_le, nz_le, zn_eq, nz_eq, zn_add, nz_add, zn_sub, nz_sub, rd_K, rd_F, a1, hsg, ↓so, ↓w4]
        | inr y =>
          rw [hP] at hF eO
          obtain ⟨y1, g', R2, L2, hq⟩ := hF
          obtain ⟨I2, y2⟩ := pOne_r hI eO
          have ey0 : y.2 0 = s 0 := by
            unfold pFish at hP
            split at hP
            · cases hP
            · obtain ⟨⟨v, -, -, ev⟩, -⟩ := pNum_r hP
              rw [ev, wr_ne (by omega)]
              show wr (wr s (26 + (s 1 : Nat)) (kB (t p))) 1 ((s 1 : Nat) + 1) 0 = s 0
              rw [wr_ne (by omega), wr_ne (by omega)]
          have ey1 : 0 < (y.2 1 : Nat) := by
            unfold pFish at hP
            split at hP
            · cases hP
            · rename_i hcn
              obtain ⟨⟨v, -, -, ev⟩, -⟩ := pNum_r hP
              rw [ev, wr_ne (by omega)]
              show 0 < (wr (wr s (26 + (s 1 : Nat)) (kB (t p))) 1 ((s 1 : Nat) + 1) 1 : Nat)
              rw [wr_eq, Nat.mod_eq_of_lt (by have := hI.1.2; omega)]
              omega
          rw [eO]
          simp only [pB]
          have h' := ih y.1 g' y.2 y1 (by simp only at y2; omega) R2 L2 I2 (by rw [ey0]; exact h0) (Or.inl ey1)
          have st : ∀ Q : Po, Ex mX12_all Q 102 [.ref r, x1] [] (LB (RDo g r (nI (tkN t n p)) (nI (tkC t n p)) (nI p) (tkW t n p)) (r + 1) s m (r + 6) (zI (-1000000)) .null) = Ex mX12_all Q 102 [.ref r, x1] [] (LB (RDo g' r (nI (tkN t n y.1)) (nI (tkC t n y.1)) (nI y.1) (tkW t n y.1)) (r + 1) y.2 m (r + 6) (zI (-1000000)) .null) := by
            intro Q
            rw [rX12_all_102]
            simp (disch := omega) only [↓rX12_all_0, ↓rX12_all_1, ↓rX12_all_4, ↓rX12_all_5, ↓rX12_all_6, ↓rX12_all_8, ↓rX12_all_11, ↓rX12_all_12, ↓rX12_all_15, ↓rX12_all_16, ↓rX12_all_19, ↓rX12_all_20, ↓rX12_all_21, ↓rX12_all_23, ↓rX12_all_26, ↓rX12_all_27, ↓rX12_all_28, ↓rX12_all_31, ↓rX12_all_32, ↓rX12_all_33, ↓rX12_all_35, ↓rX12_all_38, ↓rX12_all_41, ↓rX12_all_42, ↓rX12_all_43, ↓rX12_all_46, ↓rX12_all_47, ↓rX12_all_50, ↓rX12_all_51, ↓rX12_all_54, ↓rX12_all_55, ↓rX12_all_56, ↓rX12_all_58, ↓rX12_all_61, ↓rX12_all_62, ↓rX12_all_66, ↓rX12_all_68, ↓rX12_all_71, ↓rX12_all_74, ↓rX12_all_75, ↓rX12_all_78, ↓rX12_all_81, ↓rX12_all_82, ↓rX12_all_83, ↓rX12_all_85, ↓rX12_all_88, ↓rX12_all_90, ↓rX12_all_93, ↓rX12_all_94, ↓rX12_all_97, ↓rX12_all_98, ↓rX12_all_99, ↓rX12_all_103, ↓rX12_all_105, ↓rX12_all_108, ↓rX12_all_110, ↓rX12_all_113, ↓rX12_all_114, ↓rX12_all_117, ↓rX12_all_120, ↓rX12_all_121, ↓rX12_all_122, ↓rX12_all_125, ↓rX12_all_128, ↓rX12_all_129, ↓rX12_all_132, ↓rX12_all_133, ↓rX12_all_134, ↓rX12_all_137, ↓rX12_all_t, lG_32, lG_34, lG_36, lG_46, lG_48, lG_56, lG_58, lG_39, lG_41, lG_43, lG_45, lG_53, lG_55, lG_51, lG_60, lG_63, lI_1, lI_2, lI_4, lI_6, lI_7, lI_3, lP_32, lP_34, lP_36, lP_46, lP_48, lP_56, lP_58, lP_51, lP_60, lP_63, lW_1, lW_2, lW_4, lW_6, lW_7, lW_3, lo_K, lo_L, lo_R, lo_N, lo_C, lo_S, lo_F, lo_I, ↓rmI_in, ↓shrI_in, ↓shlI_in, ↓okI_in, ↓bI_01, bI_z, bI_o, nn_neg, Int.cast_ofNat_Int, zlit, n_leT, n_leF, n_ltT, n_ltF, n_eqT, n_eqF, z_leT, z_leF, z_ltT, z_ltF, z_eqT, z_eqF, nn_add, nn_mul, nn_clamp, nn_lt, nn_le, nn_eq, nn_div, rmI_nn, okI_nn, nn_and, nn_or, nn_xor, shlI_1, shrI_nn, Cont_v, Cont_0, List.mem_cons, List.not_mem_nil, or_false, or_true, true_or, true_and, and_true, ite_not, if_true, if_false, not_true_eq_false, not_false_eq_true, false_or, false_and, and_false, eq_self, ↓reduceIte, reduceCtorEq, zI_add, zI_sub, zI_mul, zI_neg, nn_neg, zI_lt, zI_le, zI_eq, zn_lt, nz_lt, zn_le, nz_le, zn_eq, nz_eq, zn_add, nz_add, zn_sub, nz_sub, rd_K, rd_F, a1, hsg, ↓so, ↓hq]
          cases hL : pLp t n fu y with
          | inl q =>
            rw [show (y.1, y.2) = y from rfl, hL] at h'
            obtain ⟨hh, a, w1, w2, w3, w4⟩ := h'
            exact ⟨hh, a, w1, w2, w3, fun Q => (st Q).trans (w4 Q)⟩
          | inr z =>
            rw [show (y.1, y.2) = y from rfl, hL] at h'
            obtain ⟨g2, z1, R3, L3, e0, hz⟩ := h'
            exact ⟨g2, z1, R3, L3, e0.trans ey0, fun Q => (st Q).trans (hz Q)⟩
      · have hs1 : 0 < (s 1 : Nat) := hor.resolve_right hk
        rw [pOne_f hk (Or.inr hs1)]
        simp only [pB]
        rw [if_neg hk] at so
        have hc0 : ¬ tkC t n p = 0 := fun q => h3 ⟨tk_C0.mp q, hs1⟩
        obtain ⟨hh, a, w1, w2, w3, w4⟩ := c12_must0 (s := s) (m := m) R p 1
        refine ⟨hh, a, w1, w2, w3, fun Q => ?_⟩
        show Ex mX12_all Q 102 [.ref r, x1] [] _ = _
        rw [rX12_all_102]
        simp (disch := omega) only [↓rX12_all_0, ↓rX12_all_1, ↓rX12_all_4, ↓rX12_all_5, ↓rX12_all_6, ↓rX12_all_8, ↓rX12_all_11, ↓rX12_all_12, ↓rX12_all_15, ↓rX12_all_16, ↓rX12_all_19, ↓rX12_all_20, ↓rX12_all_21, ↓rX12_all_23, ↓rX12_all_26, ↓rX12_all_27, ↓rX12_all_28, ↓rX12_all_31, ↓rX12_all_32, ↓rX12_all_33, ↓rX12_all_35, ↓rX12_all_38, ↓rX12_all_41, ↓rX12_all_42, ↓rX12_all_43, ↓rX12_all_46, ↓rX12_all_47, ↓rX12_all_50, ↓rX12_all_51, ↓rX12_all_54, ↓rX12_all_55, ↓rX12_all_56, ↓rX12_all_58, ↓rX12_all_61, ↓rX12_all_62, ↓rX12_all_66, ↓rX12_all_68, ↓rX12_all_71, ↓rX12_all_74, ↓rX12_all_75, ↓rX12_all_78, ↓rX12_all_81, ↓rX12_all_82, ↓rX12_all_83, ↓rX12_all_85, ↓rX12_all_88, ↓rX12_all_90, ↓rX12_all_93, ↓rX12_all_94, ↓rX12_all_97, ↓rX12_all_98, ↓rX12_all_99, ↓rX12_all_103, ↓rX12_all_105, ↓rX12_all_108, ↓rX12_all_110, ↓rX12_all_113, ↓rX12_all_114, ↓rX12_all_117, ↓rX12_all_120, ↓rX12_all_121, ↓rX12_all_122, ↓rX12_all_125, ↓rX12_all_128, ↓rX12_all_129, ↓rX12_all_132, ↓rX12_all_133, ↓rX12_all_134, ↓rX12_all_137, ↓rX12_all_t, lG_32, lG_34, lG_36, lG_46, lG_48, lG_56, lG_58, lG_39, lG_41, lG_43, lG_45, lG_53, lG_55, lG_51, lG_60, lG_63, lI_1, lI_2, lI_4, lI_6, lI_7, lI_3, lP_32, lP_34, lP_36, lP_46, lP_48, lP_56, lP_58, lP_51, lP_60, lP_63, lW_1, lW_2, lW_4, lW_6, lW_7, lW_3, lo_K, lo_L, lo_R, lo_N, lo_C, lo_S, lo_F, lo_I, ↓rmI_in, ↓shrI_in, ↓shlI_in, ↓okI_in, ↓bI_01, bI_z, bI_o, nn_neg, Int.cast_ofNat_Int, zlit, n_leT, n_leF, n_ltT, n_ltF, n_eqT, n_eqF, z_leT, z_leF, z_ltT, z_ltF, z_eqT, z_eqF, nn_add, nn_mul, nn_clamp, nn_lt, nn_le, nn_eq, nn_div, rmI_nn, okI_nn, nn_and, nn_or, nn_xor, shlI_1, shrI_nn, Cont_v, Cont_0, List.mem_cons, List.not_mem_nil, or_false, or_true, true_or, true_and, and_true, ite_not, if_true, if_false, not_true_eq_false, not_false_eq_true, false_or, false_and, and_false, eq_self, ↓reduceIte, reduceCtorEq, rd_K, rd_F, a1, hsg, hc0, ↓so, ↓w4]
theorem all_book (hsa : gF g0 1009 0 = .ref sa) (x1 : Value) {g : Hp} (R : RB g0 g c r t n 0) : ∀ fu p (s : St) (m : Nat → Nat), p ≤ n → n + 1 ≤ p + fu → RLi g r s → PI s → (s 1 : Nat) = 0 → (∀ j, j < (s 0 : Nat) → m j = j) → (0 < (s 0 : Nat) ∨ (tkC t n p = 1 ∧ t p = 98)) → match pLp t n fu (p, s) with
    | .inl q => FltO g0 r q.1 q.2 (fun Q => Ex mX12_all Q 65 [.ref r, x1] [] (LB (RDo g r (nI (tkN t n p)) (nI (tkC t n p)) (nI p) (tkW t n p)) (r + 1) s m (r + 6) (zI (-1000000)) .null))
    | .inr y => ∃ g' m', y.1 ≤ n ∧ RB g0 g' c r t n (y.2 1) ∧ RLi g' r y.2 ∧ (∀ j, j < (y.2 0 : Nat) → m' j = j) ∧ ∀ Q : Po, Ex mX12_all Q 65 [.ref r, x1] [] (LB (RDo g r (nI (tkN t n p)) (nI (tkC t n p)) (nI p) (tkW t n p)) (r + 1) s m (r + 6) (zI (-1000000)) .null) = Q (.inl none) (LB (RDo g' r (nI (tkN t n y.1)) (nI (tkC t n y.1)) (nI y.1) (tkW t n y.1)) (r + 1) y.2 m' (r + 6) (zI (-1000000)) .null) := by
  intro fu
  induction fu with
  | zero => intro p s m hp hf; omega
  | succ fu ih =>
    intro p s m hp hf Li hI h1 hm hor
    have R1 : RB g0 g c r t n (s 1) := by rw [h1]; exact R
    have hcl := tkC_lt (t := t) (n := n) (p := p)
    have hsg := R.s1009 hsa
    have so := fun Q => c12_sortOf (s := s) (m := m) R Q (p := p) hsg
    have il := fun Q => c12_isLetter (s := s) (m := m) R Q (p := p) (ch := 98) (by omega)
    have a1 : gK g r = 12 := R.1.1
    have ar : 0 < c ∧ c + 47 ≤ r := ⟨R.2.2.2.1.1, R.2.2.2.1.2.1⟩
    have e : pLp t n (fu + 1) (p, s) = pB (pOne t n (p, s)) (pLp t n fu) := if_neg (fun q => by simp only at q; omega)
    by_cases hb : tkC t n p = 1 ∧ t p = 98
    · rw [e]
      rw [bI_t hb] at il
      have hK := (tk_sg.2.2 98 (by omega) (by omega)).mp hb
      have eO : pOne t n (p, s) = pBook t n (p, s) := by
        unfold pOne
        rw [hK.2, kB_98, if_neg (by omega), if_pos ⟨hK.1, rfl⟩]
      have hB := c12_book (m := m) R hp hI.1.1 h1
      cases hP : pBook t n (p, s) with
      | inl q =>
        rw [hP] at hB eO
        rw [eO]
        simp only [pB]
        obtain ⟨hh, a, w1, w2, w3, w4⟩ := hB
        refine ⟨hh, a, w1, w2, w3, fun Q => ?_⟩
        show Ex mX12_all Q 65 [.ref r, x1] [] _ = _
        rw [rX12_all_65]
        simp (disch := omega) only [↓rX12_all_0, ↓rX12_all_1, ↓rX12_all_4, ↓rX12_all_5, ↓rX12_all_6, ↓rX12_all_8, ↓rX12_all_11, ↓rX12_all_12, ↓rX12_all_15, ↓rX12_all_16, ↓rX12_all_19, ↓rX12_all_20, ↓rX12_all_21, ↓rX12_all_23, ↓rX12_all_26, ↓rX12_all_27, ↓rX12_all_28, ↓rX12_all_31, ↓rX12_all_32, ↓rX12_all_33, ↓rX12_all_35, ↓rX12_all_38, ↓rX12_all_41, ↓rX12_all_42, ↓rX12_all_43, ↓rX12_all_46, ↓rX12_all_47, ↓rX12_all_50, ↓rX12_all_51, ↓rX12_all_54, ↓rX12_all_55, ↓rX12_all_56, ↓rX12_all_58, ↓rX12_all_61, ↓rX12_all_62, ↓rX12_all_66, ↓rX12_all_68, ↓rX12_all_71, ↓rX12_all_74, ↓rX12_all_75, ↓rX12_all_78, ↓rX12_all_81, ↓rX12_all_82, ↓rX12_all_83, ↓rX12_all_85, ↓rX12_all_88, ↓rX12_all_90, ↓rX12_all_93, ↓rX12_all_94, ↓rX12_all_97, ↓rX12_all_98, ↓rX12_all_99, ↓rX12_all_103, ↓rX12_all_105, ↓rX12_all_108, ↓rX12_all_110, ↓rX12_all_113, ↓rX12_all_114, ↓rX12_all_117, ↓rX12_all_120, ↓rX12_all_121, ↓rX12_all_122, ↓rX12_all_125, ↓rX12_all_128, ↓rX12_all_129, ↓rX12_all_132, ↓rX12_all_133, ↓rX12_all_134, ↓rX12_all_137, ↓rX12_all_t, lG_32, lG_34, lG_36, lG_46, lG_48, lG_56, lG_58, lG_39, lG_41, lG_43, lG_45, lG_53, lG_55, lG_51, lG_60, lG_63, lI_1, lI_2, lI_4, lI_6, lI_7, lI_3, lP_32, lP_34, lP_36, lP_46, lP_48, lP_56, lP_58, lP_51, lP_60, lP_63, lW_1, lW_2, lW_4, lW_6, lW_7, lW_3, lo_K, lo_L, lo_R, lo_N, lo_C, lo_S, lo_F, lo_I, ↓rmI_in, ↓shrI_in, ↓shlI_in, ↓okI_in, ↓bI_01, bI_z, bI_o, nn_neg, Int.cast_ofNat_Int, zlit, n_leT, n_leF, n_ltT, n_ltF, n_eqT, n_eqF, z_leT, z_leF, z_ltT, z_ltF, z_eqT, z_eqF, nn_add, nn_mul, nn_clamp, nn_lt, nn_le, nn_eq, nn_div, rmI_nn, okI_nn, nn_and, nn_or, nn_xor, shlI_1, shrI_nn, Cont_v, Cont_0, List.mem_cons, List.not_mem_nil, or_false, or_true, true_or, true_and, and_true, ite_not, if_true, if_false, not_true_eq_false, not_false_eq_true, false_or, false_and, and_false, eq_self, ↓reduceIte, reduceCtorEq, rd_K, a1, ↓il, ↓w4]
      | inr y =>
        rw [hP] at hB eO
        obtain ⟨y1, hq⟩ := hB
        obtain ⟨I2, y2⟩ := pOne_r hI eO
        obtain ⟨z0, z1, z2⟩ : y.2 0 = wr s 0 ((s 0 : Nat) + 1) 0 ∧ y.2 1 = s 1 ∧ (s 0 : Nat) < 6 := by
          unfold pBook at hP
          split at hP
          · cases hP
          · rename_i hcn
            cases hN : pNum t n 0 99 (8 + (s 0 : Nat)) 44 (tkN t n p, wr (wr s (20 + (s 0 : Nat)) (s 0)) 0 ((s 0 : Nat) + 1)) with
            | inl q => simp only [hN, pB] at hP; cases hP
            | inr x =>
              simp only [hN, pB] at hP
              obtain ⟨⟨v, -, -, ev⟩, -⟩ := pNum_r hN
              obtain ⟨⟨v2, -, -, ev2⟩, -⟩ := pNum_r hP
              have h6 := hI.1.1
              refine ⟨?_, ?_, by simp only at hcn; omega⟩
              · rw [ev2, wr_ne (by omega), ev, wr_ne (by omega)]
                show wr (wr s (20 + (s 0 : Nat)) (s 0)) 0 ((s 0 : Nat) + 1) 0 = _
                unfold wr
                rw [if_pos rfl, if_pos rfl]
              · rw [ev2, wr_ne (by omega), ev, wr_ne (by omega)]
                show wr (wr s (20 + (s 0 : Nat)) (s 0)) 0 ((s 0 : Nat) + 1) 1 = _
                rw [wr_ne (by omega), wr_ne (by omega)]
        have z0' : (y.2 0 : Nat) = (s 0 : Nat) + 1 := by rw [z0, wr_eq, Nat.mod_eq_of_lt (by omega)]
        rw [eO]
        simp only [pB]
        have h' := ih y.1 y.2 (upN m (s 0 : Nat) (s 0 : Nat)) y1 (by simp only at y2; omega) (Li.cg z1 (fun i hi => by omega)) I2 (by rw [z1]; exact h1) (fun j hj => by
          unfold upN
          by_cases ej : j = (s 0 : Nat)
          · rw [if_pos ej, ej]
          · rw [if_neg ej]; exact hm j (by omega)) (Or.inl (by omega))
        have st : ∀ Q : Po, Ex mX12_all Q 65 [.ref r, x1] [] (LB (RDo g r (nI (tkN t n p)) (nI (tkC t n p)) (nI p) (tkW t n p)) (r + 1) s m (r + 6) (zI (-1000000)) .null) = Ex mX12_all Q 65 [.ref r, x1] [] (LB (RDo g r (nI (tkN t n y.1)) (nI (tkC t n y.1)) (nI y.1) (tkW t n y.1)) (r + 1) y.2 (upN m (s 0 : Nat) (s 0 : Nat)) (r + 6) (zI (-1000000)) .null) := by
          intro Q
          rw [rX12_all_65]
          simp (disch := omega) only [↓rX12_all_0, ↓rX12_all_1, ↓rX12_all_4, ↓rX12_all_5, ↓rX12_all_6, ↓rX12_all_8, ↓rX12_all_11, ↓rX12_all_12, ↓rX12_all_15, ↓rX12_all_16, ↓rX12_all_19, ↓rX12_all_20, ↓rX12_all_21, ↓rX12_all_23, ↓rX12_all_26, ↓rX12_all_27, ↓rX12_all_28, ↓rX12_all_31, ↓rX12_all_32, ↓rX12_all_33, ↓rX12_all_35, ↓rX12_all_38, ↓rX12_all_41, ↓rX12_all_42, ↓rX12_all_43, ↓rX12_all_46, ↓rX12_all_47, ↓rX12_all_50, ↓rX12_all_51, ↓rX12_all_54, ↓rX12_all_55, ↓rX12_all_56, ↓rX12_all_58, ↓rX12_all_61, ↓rX12_all_62, ↓rX12_all_66, ↓rX12_all_68, ↓rX12_all_71, ↓rX12_all_74, ↓rX12_all_75, ↓rX12_all_78, ↓rX12_all_81, ↓rX12_all_82, ↓rX12_all_83, ↓rX12_all_85, ↓rX12_all_88, ↓rX12_all_90, ↓rX12_all_93, ↓rX12_all_94, ↓rX12_all_97, ↓rX12_all_98, ↓rX12_all_99, ↓rX12_all_103, ↓rX12_all_105, ↓rX12_all_108, ↓rX12_all_110, ↓rX12_all_113, ↓rX12_all_114, ↓rX12_all_117, ↓rX12_all_120, ↓rX12_all_121, ↓rX12_all_122, ↓rX12_all_125, ↓rX12_all_128, ↓rX12_all_129, ↓rX12_all_132, ↓rX12_all_133, ↓rX12_all_134, ↓rX12_all_137, ↓rX12_all_t, lG_32, lG_34, lG_36, lG_46, lG_48, lG_56, lG_58, lG_39, lG_41, lG_43, lG_45, lG_53, lG_55, lG_51, lG_60, lG_63, lI_1, lI_2, lI_4, lI_6, lI_7, lI_3, lP_32, lP_34, lP_36, lP_46, lP_48, lP_56, lP_58, lP_51, lP_60, lP_63, lW_1, lW_2, lW_4, lW_6, lW_7, lW_3, lo_K, lo_L, lo_R, lo_N, lo_C, lo_S, lo_F, lo_I, ↓rmI_in, ↓shrI_in, ↓shlI_in, ↓okI_in, ↓bI_01, bI_z, bI_o, nn_neg, Int.cast_ofNat_Int, zlit, n_leT, n_leF, n_ltT, n_ltF, n_eqT, n_eqF, z_leT, z_leF, z_ltT, z_ltF, z_eqT, z_eqF, nn_add, nn_mul, nn_clamp, nn_lt, nn_le, nn_eq, nn_div, rmI_nn, okI_nn, nn_and, nn_or, nn_xor, shlI_1, shrI_nn, Cont_v, Cont_0, List.mem_cons, List.not_mem_nil, or_false, or_true, true_or, true_and, and_true, ite_not, if_true, if_false, not_true_eq_false, not_false_eq_true, false_or, false_and, and_false, eq_self, ↓reduceIte, reduceCtorEq, rd_K, a1, ↓il, ↓hq]
        cases hL : pLp t n fu y with
        | inl q =>
          rw [show (y.1, y.2) = y from rfl, hL] at h'
          obtain ⟨hh, a, w1, w2, w3, w4⟩ := h'
          exact ⟨hh, a, w1, w2, w3, fun Q => (st Q).trans (w4 Q)⟩
        | inr z =>
          rw [show (y.1, y.2) = y from rfl, hL] at h'
          obtain ⟨g2, m2, v1, R3, L3, e0, hz⟩ := h'
          exact ⟨g2, m2, v1, R3, L3, e0, fun Q => (st Q).trans (hz Q)⟩
    · rw [bI_f hb] at il
      have h0 : 0 < (s 0 : Nat) := hor.resolve_right hb
      by_cases hk : tkC t n p = 1 ∧ 0 < kB (t p)
      · rw [if_pos hk] at so
        have hkb := kB_le (t p)
        have st : ∀ Q : Po, Ex mX12_all Q 65 [.ref r, x1] [] (LB (RDo g r (nI (tkN t n p)) (nI (tkC t n p)) (nI p) (tkW t n p)) (r + 1) s m (r + 6) (zI (-1000000)) .null) = Ex mX12_all Q 102 [.ref r, x1] [] (LB (RDo g r (nI (tkN t n p)) (nI (tkC t n p)) (nI p) (tkW t n p)) (r + 1) s m (r + 6) (zI (-1000000)) .null) := by
          intro Q
          rw [rX12_all_65]
          simp (disch := omega) only [↓rX12_all_0, ↓rX12_all_1, ↓rX12_all_4, ↓rX12_all_5, ↓rX12_all_6, ↓rX12_all_8, ↓rX12_all_11, ↓rX12_all_12, ↓rX12_all_15, ↓rX12_all_16, ↓rX12_all_19, ↓rX12_all_20, ↓rX12_all_21, ↓rX12_all_23, ↓rX12_all_26, ↓rX12_all_27, ↓rX12_all_28, ↓rX12_all_31, ↓rX12_all_32, ↓rX12_all_33, ↓rX12_all_35, ↓rX12_all_38, ↓rX12_all_41, ↓rX12_all_42, ↓rX12_all_43, ↓rX12_all_46, ↓rX12_all_47, ↓rX12_all_50, ↓rX12_all_51, ↓rX12_all_54, ↓rX12_all_55, ↓rX12_all_56, ↓rX12_all_58, ↓rX12_all_61, ↓rX12_all_62, ↓rX12_all_66, ↓rX12_all_68, ↓rX12_all_71, ↓rX12_all_74, ↓rX12_all_75, ↓rX12_all_78, ↓rX12_all_81, ↓rX12_all_82, ↓rX12_all_83, ↓rX12_all_85, ↓rX12_all_88, ↓rX12_all_90, ↓rX12_all_93, ↓rX12_all_94, ↓rX12_all_97, ↓rX12_all_98, ↓rX12_all_99, ↓rX12_all_103, ↓rX12_all_105, ↓rX12_all_108, ↓rX12_all_110, ↓rX12_all_113, ↓rX12_all_114, ↓rX12_all_117, ↓rX12_all_120, ↓rX12_all_121, ↓rX12_all_122, ↓rX12_all_125, ↓rX12_all_128, ↓rX12_all_129, ↓rX12_all_132, ↓rX12_all_133, ↓rX12_all_134, ↓rX12_all_137, ↓rX12_all_t, lG_32, lG_34, lG_36, lG_46, lG_48, lG_56, lG_58, lG_39, lG_41, lG_43, lG_45, lG_53, lG_55, lG_51, lG_60, lG_63, lI_1, lI_2, lI_4, lI_6, lI_7, lI_3, lP_32, lP_34, lP_36, lP_46, lP_48, lP_56, lP_58, lP_51, lP_60, lP_63, lW_1, lW_2, lW_4, lW_6, lW_7, lW_3, lo_K, lo_L, lo_R, lo_N, lo_C, lo_S, lo_F, lo_I, ↓rmI_in, ↓shrI_in, ↓shlI_in, ↓okI_in, ↓bI_01, bI_z, bI_o, nn_neg, Int.cast_ofNat_Int, zlit, n_leT, n_leF, n_ltT, n_ltF, n_eqT, n_eqF, z_leT, z_leF, z_ltT, z_ltF, z_eqT, z_eqF, nn_add, nn_mul, nn_clamp, nn_lt, nn_le, nn_eq, nn_div, rmI_nn, okI_nn, nn_and, nn_or, nn_xor, shlI_1, shrI_nn, Cont_v, Cont_0, List.mem_cons, List.not_mem_nil, or_false, or_true, true_or, true_and, and_true, ite_not, if_true, if_false, not_true_eq_false, not_false_eq_true, false_or, false_and, and_false, eq_self, ↓reduceIte, reduceCtorEq, zI_add, zI_sub, zI_mul, zI_neg, nn_neg, zI_lt, zI_le, zI_eq, zn_lt, nz_lt, zn_le, nz_le, zn_eq, nz_eq, zn_add, nz_add, zn_sub, nz_sub, rd_K, rd_F, a1, hsg, ↓il, ↓so, ↓c12_must1]
        have h' := all_fish hsa x1 m (fu + 1) p g s hp hf R1 Li hI h0 (Or.inr hk)
        cases hL : pLp t n (fu + 1) (p, s) with
        | inl q =>
          rw [hL] at h'
          obtain ⟨hh, a, w1, w2, w3, w4⟩ := h'
          exact ⟨hh, a, w1, w2, w3, fun Q => (st Q).trans (w4 Q)⟩
        | inr z =>
          rw [hL] at h'
          obtain ⟨g2, v1, R3, L3, e0, hz⟩ := h'
          exact ⟨g2, m, v1, R3, L3, fun j hj => hm j (by rw [e0] at hj; exact hj), fun Q => (st Q).trans (hz Q)⟩
      · rw [e, pOne_f hk (Or.inl hb)]
        simp only [pB]
        rw [if_neg hk] at so
        obtain ⟨hh, a, w1, w2, w3, w4⟩ := c12_must0 (s := s) (m := m) R p 1
        refine ⟨hh, a, w1, w2, w3, fun Q => ?_⟩
        show Ex mX12_all Q 65 [.ref r, x1] [] _ = _
        rw [rX12_all_65]
        simp (disch := omega) only [↓rX12_all_0, ↓rX12_all_1, ↓rX12_all_4, ↓rX12_all_5, ↓rX12_all_6, ↓rX12_all_8, ↓rX12_all_11, ↓rX12_all_12, ↓rX12_all_15, ↓rX12_all_16, ↓rX12_all_19, ↓rX12_all_20, ↓rX12_all_21, ↓rX12_all_23, ↓rX12_all_26, ↓rX12_all_27, ↓rX12_all_28, ↓rX12_all_31, ↓rX12_all_32, ↓rX12_all_33, ↓rX12_all_35, ↓rX12_all_38, ↓rX12_all_41, ↓rX12_all_42, ↓rX12_all_43, ↓rX12_all_46, ↓rX12_all_47, ↓rX12_all_50, ↓rX12_all_51, ↓rX12_all_54, ↓rX12_all_55, ↓rX12_all_56, ↓rX12_all_58, ↓rX12_all_61, ↓rX12_all_62, ↓rX12_all_66, ↓rX12_all_68, ↓rX12_all_71, ↓rX12_all_74, ↓rX12_all_75, ↓rX12_all_78, ↓rX12_all_81, ↓rX12_all_82, ↓rX12_all_83, ↓rX12_all_85, ↓rX12_all_88, ↓rX12_all_90, ↓rX12_all_93, ↓rX12_all_94, ↓rX12_all_97, ↓rX12_all_98, ↓rX12_all_99, ↓rX12_all_103, ↓rX12_all_105, ↓rX12_all_108, ↓rX12_all_110, ↓rX12_all_113, ↓rX12_all_114, ↓rX12_all_117, ↓rX12_all_120, ↓rX12_all_121, ↓rX12_all_122, ↓rX12_all_125, ↓rX12_all_128, ↓rX12_all_129, ↓rX12_all_132, ↓rX12_all_133, ↓rX12_all_134, ↓rX12_all_137, ↓rX12_all_t, lG_32, lG_34, lG_36, lG_46, lG_48, lG_56, lG_58, lG_39, lG_41, lG_43, lG_45, lG_53, lG_55, lG_51, lG_60, lG_63, lI_1, lI_2, lI_4, lI_6, lI_7, lI_3, lP_32, lP_34, lP_36, lP_46, lP_48, lP_56, lP_58, lP_51, lP_60, lP_63, lW_1, lW_2, lW_4, lW_6, lW_7, lW_3, lo_K, lo_L, lo_R, lo_N, lo_C, lo_S, lo_F, lo_I, ↓rmI_in, ↓shrI_in, ↓shlI_in, ↓okI_in, ↓bI_01, bI_z, bI_o, nn_neg, Int.cast_ofNat_Int, zlit, n_leT, n_leF, n_ltT, n_ltF, n_eqT, n_eqF, z_leT, z_leF, z_ltT, z_ltF, z_eqT, z_eqF, nn_add, nn_mul, nn_clamp, nn_lt, nn_le, nn_eq, nn_div, rmI_nn, okI_nn, nn_and, nn_or, nn_xor, shlI_1, shrI_nn, Cont_v, Cont_0, List.mem_cons, List.not_mem_nil, or_false, or_true, true_or, true_and, and_true, ite_not, if_true, if_false, not_true_eq_false, not_false_eq_true, false_or, false_and, and_false, eq_self, ↓reduceIte, reduceCtorEq, rd_K, rd_F, a1, hsg, ↓il, ↓so, ↓w4]
theorem c12_all (hsa : gF g0 1009 0 = .ref sa) {g : Hp} (R : RB g0 g c r t n 0) (Li : RLi g r zS) (x6 x8 x0 : Int32) : match pLib t n with
    | .inl q => FltO g0 r q.1 q.2 (fun Q => Ex mX12_all Q 0 [.ref r, .retAddr 0] [] (LB (RDo g r (nI 0) x6 x8 x0) (r + 1) zS (fun _ => 0) (r + 6) (zI (-1000000)) .null))
    | .inr y => ∃ g' m', RB g0 g' c r t n (y.2 1) ∧ RLi g' r y.2 ∧ (∀ j, j < (y.2 0 : Nat) → m' j = j) ∧ ∀ Q : Po, Ex mX12_all Q 0 [.ref r, .retAddr 0] [] (LB (RDo g r (nI 0) x6 x8 x0) (r + 1) zS (fun _ => 0) (r + 6) (zI (-1000000)) .null) = Q (.inl none) (LB (RDo g' r (nI (tkN t n y.1)) (nI (tkC t n y.1)) (nI y.1) (tkW t n y.1)) (r + 1) y.2 m' (r + 6) (zI (-1000000)) .null) := by
  have hsg := R.s1009 hsa
  have R' := R
  obtain ⟨⟨a1, a2, a3, a4⟩, K, -, ⟨a8, a9, a10⟩, -, -, -, hn, ht⟩ := R'
  obtain ⟨k0, ⟨k1, k2, k3, k4, k6, k7⟩, l1, l2, l3, l4, l6, l7⟩ := K
  have sg := fun q => (tk_sg (t := t) (n := n) (p := q))
  have nx := fun Q => c12_next (s := zS) (m := fun _ => 0) R Q (p := 0) (x6 := x6) (x8 := x8) (x0 := x0) (by omega)
  have il := fun Q => c12_isLetter (s := zS) (m := fun _ => 0) R Q (p := 0) (ch := 108) (by omega)
  unfold pLib
  by_cases c1 : tkC t n 0 = 1 ∧ t 0 = 108
  · have eT : pTk t n 108 (0, zS) = .inr (tkN t n 0, zS) := if_pos (((sg 0).2.2 108 (by omega) (by omega)).mp c1)
    rw [eT]
    simp only [pB]
    rw [bI_t c1] at il
    have p1 := tkN_le (t := t) (n := n) (p := 0) (by omega)
    have p2 := tkN_le (t := t) p1
    have p3 := tkN_le (t := t) p2
    have p4 := tkN_le (t := t) p3
    have p5 := tkN_le (t := t) p4
    have nx2 := fun Q x6 x8 x0 => c12_next (s := zS) (m := fun _ => 0) R Q (p := tkN t n 0) (x6 := x6) (x8 := x8) (x0 := x0) p1
    by_cases c2 : tkC t n (tkN t n 0) = 2 ∧ 1 ≤ tkV t n (tkN t n 0) ∧ tkV t n (tkN t n 0) ≤ 9
    · have f1 := fun Q => c12_figureT (s := zS) (m := fun _ => 0) R Q (p := tkN t n 0) (lo := 1) (hi := 9) p1 (by omega) c2.1 c2.2
      have eN1 : pNum t n 1 9 2 44 (tkN t n 0, zS) = pTk t n 44 (tkN t n (tkN t n 0), wr zS 2 (tkV t n (tkN t n 0))) := if_pos ⟨tk_C2.mp c2.1, c2.2⟩
      rw [eN1]
      by_cases c3 : tkC t n (tkN t n (tkN t n 0)) = 3
      · have eT1 : pTk t n 44 (tkN t n (tkN t n 0), wr zS 2 (tkV t n (tkN t n 0))) = .inr (tkN t n (tkN t n (tkN t n 0)), wr zS 2 (tkV t n (tkN t n 0))) := if_pos ((sg _).1.mp c3)
        rw [eT1]
        simp only
        by_cases c4 : tkC t n (tkN t n (tkN t n (tkN t n 0))) = 2 ∧ 0 ≤ tkV t n (tkN t n (tkN t n (tkN t n 0))) ∧ tkV t n (tkN t n (tkN t n (tkN t n 0))) ≤ 8
        · have f2 := fun Q => c12_moreT (s := zS) (m := fun _ => 0) R Q (p := tkN t n (tkN t n 0)) (lo := 0) (hi := 8) p2 (by omega) c3 c4.1 c4.2
          have eN2 : pNum t n 0 8 3 59 (tkN t n (tkN t n (tkN t n 0)), wr zS 2 (tkV t n (tkN t n 0))) = pTk t n 59 (tkN t n (tkN t n (tkN t n (tkN t n 0))), wr (wr zS 2 (tkV t n (tkN t n 0))) 3 (tkV t n (tkN t n (tkN t n (tkN t n 0))))) := if_pos ⟨tk_C2.mp c4.1, c4.2⟩
          rw [eN2]
          have hv1 := c2.2
          have hv2 := c4.2
          have eS : wr (wr zS 3 (tkV t n (tkN t n (tkN t n (tkN t n 0))))) 2 (tkV t n (tkN t n 0)) = wr (wr zS 2 (tkV t n (tkN t n 0))) 3 (tkV t n (tkN t n (tkN t n (tkN t n 0)))) := wr_comm (by omega)
          by_cases c5 : tkC t n (tkN t n (tkN t n (tkN t n (tkN t n 0)))) = 4
          · have eT2 : pTk t n 59 (tkN t n (tkN t n (tkN t n (tkN t n 0))), wr (wr zS 2 (tkV t n (tkN t n 0))) 3 (tkV t n (tkN t n (tkN t n (tkN t n 0))))) = .inr (tkN t n (tkN t n (tkN t n (tkN t n (tkN t n 0)))), wr (wr zS 2 (tkV t n (tkN t n 0))) 3 (tkV t n (tkN t n (tkN t n (tkN t n 0))))) := if_pos ((sg _).2.1.mp c5)
            rw [eT2]
            simp only
            have f3 := fun Q s' => c12_signT (s := s') (m := fun _ => 0) R Q (p := tkN t n (tkN t n (tkN t n (tkN t n 0)))) (w := 4) p4 c5
            have st0 : ∀ Q : Po, Ex mX12_all Q 0 [.ref r, .retAddr 0] [] (LB (RDo g r (nI 0) x6 x8 x0) (r + 1) zS (fun _ => 0) (r + 6) (zI (-1000000)) .null) = Ex mX12_all Q 54 [.ref r, .int (nI (tkV t n (tkN t n 0)))] [] (LB (RDo g r (nI (tkN t n (tkN t n (tkN t n (tkN t n (tkN t n (tkN t n 0))))))) (nI (tkC t n (tkN t n (tkN t n (tkN t n (tkN t n (tkN t n 0))))))) (nI (tkN t n (tkN t n (tkN t n (tkN t n (tkN t n 0)))))) (tkW t n (tkN t n (tkN t n (tkN t n (tkN t n (tkN t n 0))))))) (r + 1) (wr (wr zS 2 (tkV t n (tkN t n 0))) 3 (tkV t n (tkN t n (tkN t n (tkN t n 0))))) (fun _ => 0) (r + 6) (zI (-1000000)) .null) := by
              intro Q
              simp (disch := omega) only [↓rX12_all_0, ↓rX12_all_1, ↓rX12_all_4, ↓rX12_all_5, ↓rX12_all_6, ↓rX12_all_8, ↓rX12_all_11, ↓rX12_all_12, ↓rX12_all_15, ↓rX12_all_16, ↓rX12_all_19, ↓rX12_all_20, ↓rX12_all_21, ↓rX12_all_23, ↓rX12_all_26, ↓rX12_all_27, ↓rX12_all_28, ↓rX12_all_31, ↓rX12_all_32, ↓rX12_all_33, ↓rX12_all_35, ↓rX12_all_38, ↓rX12_all_41, ↓rX12_all_42, ↓rX12_all_43, ↓rX12_all_46, ↓rX12_all_47, ↓rX12_all_50, ↓rX12_all_51, ↓rX12_all_t, lG_32, lG_34, lG_36, lG_46, lG_48, lG_56, lG_58, lG_39, lG_41, lG_43, lG_45, lG_53, lG_55, lG_51, lG_60, lG_63, lI_1, lI_2, lI_4, lI_6, lI_7, lI_3, lP_32, lP_34, lP_36, lP_46, lP_48, lP_56, lP_58, lP_51, lP_60, lP_63, lW_1, lW_2, lW_4, lW_6, lW_7, lW_3, lo_K, lo_L, lo_R, lo_N, lo_C, lo_S, lo_F, lo_I, ↓rmI_in, ↓shrI_in, ↓shlI_in, ↓okI_in, ↓bI_01, bI_z, bI_o, nn_neg, Int.cast_ofNat_Int, zlit, n_leT, n_leF, n_ltT, n_ltF, n_eqT, n_eqF, z_leT, z_leF, z_ltT, z_ltF, z_eqT, z_eqF, nn_add, nn_mul, nn_clamp, nn_lt, nn_le, nn_eq, nn_div, rmI_nn, okI_nn, nn_and, nn_or, nn_xor, shlI_1, shrI_nn, Cont_v, Cont_0, List.mem_cons, List.not_mem_nil, or_false, or_true, true_or, true_and, and_true, ite_not, if_true, if_false, not_true_eq_false, not_false_eq_true, false_or, false_and, and_false, eq_self, ↓reduceIte, reduceCtorEq, rd_K, rd_F, a1, a4, k0, k1, k2, k3, k4, k6, k7, l1, l2, l3, l4, l6, l7, ↓nx, ↓nx2, ↓il, ↓f1, ↓f2, ↓f3, eS, ↓c12_must1]
            generalize hp5 : tkN t n (tkN t n (tkN t n (tkN t n (tkN t n 0)))) = p at st0 p5
            generalize hs5 : wr (wr zS 2 (tkV t n (tkN t n 0))) 3 (tkV t n (tkN t n (tkN t n (tkN t n 0)))) = s at st0
            have il2 := fun Q => c12_isLetter (s := s) (m := fun _ => 0) R Q (p := p) (ch := 98) (by omega)
            have hI : PI s := by
              rw [← hs5]
              have e2 : ∀ k, k ≠ 2 → k ≠ 3 → (wr (wr zS 2 (tkV t n (tkN t n 0))) 3 (tkV t n (tkN t n (tkN t n (tkN t n 0)))) k : Nat) = 0 := fun k h2 h3 => by rw [wr_ne h3, wr_ne h2]; rfl
              have e22 : (wr (wr zS 2 (tkV t n (tkN t n 0))) 3 (tkV t n (tkN t n (tkN t n (tkN t n 0)))) 2 : Nat) = tkV t n (tkN t n 0) := by rw [wr_ne (by omega), wr_eq, Nat.mod_eq_of_lt (by omega)]
              have e33 : (wr (wr zS 2 (tkV t n (tkN t n 0))) 3 (tkV t n (tkN t n (tkN t n (tkN t n 0)))) 3 : Nat) = tkV t n (tkN t n (tkN t n (tkN t n 0))) := by rw [wr_eq, Nat.mod_eq_of_lt (by omega)]
              unfold PI
              rw [e2 0 (by omega) (by omega), e2 1 (by omega) (by omega), e2 4 (by omega) (by omega), e2 5 (by omega) (by omega), e2 6 (by omega) (by omega), e2 7 (by omega) (by omega), e22, e33]
              refine ⟨⟨by omega, by omega⟩, fun b hb => by omega, fun f hf => by omega, ⟨⟨by omega, by omega⟩, by omega, rfl, rfl, rfl, rfl⟩, fun f hf => by rw [e2 _ (by omega) (by omega)]⟩
            have hs1 : (s 1 : Nat) = 0 := by rw [← hs5, wr_ne (by omega), wr_ne (by omega)]; rfl
            have hs0 : (s 0 : Nat) = 0 := by rw [← hs5, wr_ne (by omega), wr_ne (by omega)]; rfl
            have Li2 : RLi g r s := Li.cg (by rw [← hs5, wr_ne (by omega), wr_ne (by omega)]) (fun i hi => by rw [← hs5, wr_ne (by omega), wr_ne (by omega)])
            by_cases hb : tkC t n p = 1 ∧ t p = 98
            · rw [bI_t hb] at il2
              have st : ∀ Q : Po, Ex mX12_all Q 0 [.ref r, .retAddr 0] [] (LB (RDo g r (nI 0) x6 x8 x0) (r + 1) zS (fun _ => 0) (r + 6) (zI (-1000000)) .null) = Ex mX12_all Q 65 [.ref r, .int (nI (tkV t n (tkN t n 0)))] [] (LB (RDo g r (nI (tkN t n p)) (nI (tkC t n p)) (nI p) (tkW t n p)) (r + 1) s (fun _ => 0) (r + 6) (zI (-1000000)) .null) := by
                intro Q
                rw [st0 Q]
                simp (disch := omega) only [↓rX12_all_0, ↓rX12_all_1, ↓rX12_all_4, ↓rX12_all_5, ↓rX12_all_6, ↓rX12_all_8, ↓rX12_all_11, ↓rX12_all_12, ↓rX12_all_15, ↓rX12_all_16, ↓rX12_all_19, ↓rX12_all_20, ↓rX12_all_21, ↓rX12_all_23, ↓rX12_all_26, ↓rX12_all_27, ↓rX12_all_28, ↓rX12_all_31, ↓rX12_all_32, ↓rX12_all_33, ↓rX12_all_35, ↓rX12_all_38, ↓rX12_all_41, ↓rX12_all_42, ↓rX12_all_43, ↓rX12_all_46, ↓rX12_all_47, ↓rX12_all_50, ↓rX12_all_51, ↓rX12_all_54, ↓rX12_all_55, ↓rX12_all_56, ↓rX12_all_58, ↓rX12_all_61, ↓rX12_all_62, ↓rX12_all_66, ↓rX12_all_68, ↓rX12_all_71, ↓rX12_all_74, ↓rX12_all_75, ↓rX12_all_78, ↓rX12_all_81, ↓rX12_all_82, ↓rX12_all_83, ↓rX12_all_85, ↓rX12_all_88, ↓rX12_all_90, ↓rX12_all_93, ↓rX12_all_94, ↓rX12_all_97, ↓rX12_all_98, ↓rX12_all_99, ↓rX12_all_103, ↓rX12_all_105, ↓rX12_all_108, ↓rX12_all_110, ↓rX12_all_113, ↓rX12_all_114, ↓rX12_all_117, ↓rX12_all_120, ↓rX12_all_121, ↓rX12_all_122, ↓rX12_all_125, ↓rX12_all_128, ↓rX12_all_129, ↓rX12_all_132, ↓rX12_all_133, ↓rX12_all_134, ↓rX12_all_137, ↓rX12_all_t, lG_32, lG_34, lG_36, lG_46, lG_48, lG_56, lG_58, lG_39, lG_41, lG_43, lG_45, lG_53, lG_55, lG_51, lG_60, lG_63, lI_1, lI_2, lI_4, lI_6, lI_7, lI_3, lP_32, lP_34, lP_36, lP_46, lP_48, lP_56, lP_58, lP_51, lP_60, lP_63, lW_1, lW_2, lW_4, lW_6, lW_7, lW_3, lo_K, lo_L, lo_R, lo_N, lo_C, lo_S, lo_F, lo_I, ↓rmI_in, ↓shrI_in, ↓shlI_in, ↓okI_in, ↓bI_01, bI_z, bI_o, nn_neg, Int.cast_ofNat_Int, zlit, n_leT, n_leF, n_ltT, n_ltF, n_eqT, n_eqF, z_leT, z_leF, z_ltT, z_ltF, z_eqT, z_eqF, nn_add, nn_mul, nn_clamp, nn_lt, nn_le, nn_eq, nn_div, rmI_nn, okI_nn, nn_and, nn_or, nn_xor, shlI_1, shrI_nn, Cont_v, Cont_0, List.mem_cons, List.not_mem_nil, or_false, or_true, true_or, true_and, and_true, ite_not, if_true, if_false, not_true_eq_false, not_false_eq_true, false_or, false_and, and_false, eq_self, ↓reduceIte, reduceCtorEq, rd_K, rd_F, a1, a4, k0, k1, k2, k3, k4, k6, k7, l1, l2, l3, l4, l6, l7, ↓il2, ↓c12_must1]
              have h' := all_book hsa (.int (nI (tkV t n (tkN t n 0)))) R (n + 1) p s (fun _ => 0) p5 (by omega) Li2 hI hs1 (fun j hj => by omega) (Or.inr hb)
              cases hL : pLp t n (n + 1) (p, s) with
              | inl q =>
                rw [hL] at h'
                obtain ⟨hh, a, w1, w2, w3, w4⟩ := h'
                exact ⟨hh, a, w1, w2, w3, fun Q => (st Q).trans (w4 Q)⟩
              | inr z =>
                rw [hL] at h'
                obtain ⟨g2, m2, v1, R3, L3, e0, hz⟩ := h'
                exact ⟨g2, m2, R3, L3, e0, fun Q => (st Q).trans (hz Q)⟩
            · rw [bI_f hb] at il2
              have eP : pLp t n (n + 1) (p, s) = .inl (1, p) := by
                show (if tkK t n p = 3 ∧ 0 < (s 1 : Nat) then (.inr (p, s) : PR) else pB (pOne t n (p, s)) (pLp t n n)) = _
                rw [if_neg (by omega)]
                by_cases hk : tkC t n p = 1 ∧ 0 < kB (t p)
                · obtain ⟨q1, q2, q3⟩ := kB_rng hk.2
                  have hK := (tk_sg.2.2 (t p) q1 q2).mp ⟨hk.1, rfl⟩
                  have eO : pOne t n (p, s) = .inl (1, p) := by
                    unfold pOne
                    rw [hK.2, if_pos ⟨hK.1, hk.2⟩]
                    unfold pFish
                    rw [if_pos (Or.inl hs0), if_pos hs0]
                  rw [eO]; rfl
                · rw [pOne_f hk (Or.inl hb)]; rfl
              rw [eP]
              obtain ⟨hh, a, w1, w2, w3, w4⟩ := c12_must0 (s := s) (m := fun _ => 0) R p 1
              refine ⟨hh, a, w1, w2, w3, fun Q => ?_⟩
              refine (st0 Q).trans ?_
              simp (disch := omega) only [↓rX12_all_0, ↓rX12_all_1, ↓rX12_all_4, ↓rX12_all_5, ↓rX12_all_6, ↓rX12_all_8, ↓rX12_all_11, ↓rX12_all_12, ↓rX12_all_15, ↓rX12_all_16, ↓rX12_all_19, ↓rX12_all_20, ↓rX12_all_21, ↓rX12_all_23, ↓rX12_all_26, ↓rX12_all_27, ↓rX12_all_28, ↓rX12_all_31, ↓rX12_all_32, ↓rX12_all_33, ↓rX12_all_35, ↓rX12_all_38, ↓rX12_all_41, ↓rX12_all_42, ↓rX12_all_43, ↓rX12_all_46, ↓rX12_all_47, ↓rX12_all_50, ↓rX12_all_51, ↓rX12_all_54, ↓rX12_all_55, ↓rX12_all_56, ↓rX12_all_58, ↓rX12_all_61, ↓rX12_all_62, ↓rX12_all_66, ↓rX12_all_68, ↓rX12_all_71, ↓rX12_all_74, ↓rX12_all_75, ↓rX12_all_78, ↓rX12_all_81, ↓rX12_all_82, ↓rX12_all_83, ↓rX12_all_85, ↓rX12_all_88, ↓rX12_all_90, ↓rX12_all_93, ↓rX12_all_94, ↓rX12_all_97, ↓rX12_all_98, ↓rX12_all_99, ↓rX12_all_103, ↓rX12_all_105, ↓rX12_all_108, ↓rX12_all_110, ↓rX12_all_113, ↓rX12_all_114, ↓rX12_all_117, ↓rX12_all_120, ↓rX12_all_121, ↓rX12_all_122, ↓rX12_all_125, ↓rX12_all_128, ↓rX12_all_129, ↓rX12_all_132, ↓rX12_all_133, ↓rX12_all_134, ↓rX12_all_137, ↓rX12_all_t, lG_32, lG_34, lG_36, lG_46, lG_48, lG_56, lG_58, lG_39, lG_41, lG_43, lG_45, lG_53, lG_55, lG_51, lG_60, lG_63, lI_1, lI_2, lI_4, lI_6, lI_7, lI_3, lP_32, lP_34, lP_36, lP_46, lP_48, lP_56, lP_58, lP_51, lP_60, lP_63, lW_1, lW_2, lW_4, lW_6, lW_7, lW_3, lo_K, lo_L, lo_R, lo_N, lo_C, lo_S, lo_F, lo_I, ↓rmI_in, ↓shrI_in, ↓shlI_in, ↓okI_in, ↓bI_01, bI_z, bI_o, nn_neg, Int.cast_ofNat_Int, zlit, n_leT, n_leF, n_ltT, n_ltF, n_eqT, n_eqF, z_leT, z_leF, z_ltT, z_ltF, z_eqT, z_eqF, nn_add, nn_mul, nn_clamp, nn_lt, nn_le, nn_eq, nn_div, rmI_nn, okI_nn, nn_and, nn_or, nn_xor, shlI_1, shrI_nn, Cont_v, Cont_0, List.mem_cons, List.not_mem_nil, or_false, or_true, true_or, true_and, and_true, ite_not, if_true, if_false, not_true_eq_false, not_false_eq_true, false_or, false_and, and_false, eq_self, ↓reduceIte, reduceCtorEq, rd_K, rd_F, a1, a4, k0, k1, k2, k3, k4, k6, k7, l1, l2, l3, l4, l6, l7, ↓il2, ↓c12_must1, ↓w4]
          · have eT2 : pTk t n 59 (tkN t n (tkN t n (tkN t n (tkN t n 0))), wr (wr zS 2 (tkV t n (tkN t n 0))) 3 (tkV t n (tkN t n (tkN t n (tkN t n 0))))) = .inl (1, tkN t n (tkN t n (tkN t n (tkN t n 0)))) := if_neg (fun q => c5 ((sg _).2.1.mpr q))
            rw [eT2]
            obtain ⟨hh, a, w1, w2, w3, w4⟩ := c12_signF (s := wr zS 3 (tkV t n (tkN t n (tkN t n (tkN t n 0))))) (m := fun _ => 0) R (p := tkN t n (tkN t n (tkN t n (tkN t n 0)))) (w := 4) (by omega) c5
            refine ⟨hh, a, w1, w2, w3, fun Q => ?_⟩
            simp (disch := omega) only [↓rX12_all_0, ↓rX12_all_1, ↓rX12_all_4, ↓rX12_all_5, ↓rX12_all_6, ↓rX12_all_8, ↓rX12_all_11, ↓rX12_all_12, ↓rX12_all_15, ↓rX12_all_16, ↓rX12_all_19, ↓rX12_all_20, ↓rX12_all_21, ↓rX12_all_23, ↓rX12_all_26, ↓rX12_all_27, ↓rX12_all_28, ↓rX12_all_31, ↓rX12_all_32, ↓rX12_all_33, ↓rX12_all_35, ↓rX12_all_38, ↓rX12_all_41, ↓rX12_all_42, ↓rX12_all_43, ↓rX12_all_46, ↓rX12_all_47, ↓rX12_all_50, ↓rX12_all_51, ↓rX12_all_54, ↓rX12_all_55, ↓rX12_all_56, ↓rX12_all_58, ↓rX12_all_61, ↓rX12_all_62, ↓rX12_all_66, ↓rX12_all_68, ↓rX12_all_71, ↓rX12_all_74, ↓rX12_all_75, ↓rX12_all_78, ↓rX12_all_81, ↓rX12_all_82, ↓rX12_all_83, ↓rX12_all_85, ↓rX12_all_88, ↓rX12_all_90, ↓rX12_all_93, ↓rX12_all_94, ↓rX12_all_97, ↓rX12_all_98, ↓rX12_all_99, ↓rX12_all_103, ↓rX12_all_105, ↓rX12_all_108, ↓rX12_all_110, ↓rX12_all_113, ↓rX12_all_114, ↓rX12_all_117, ↓rX12_all_120, ↓rX12_all_121, ↓rX12_all_122, ↓rX12_all_125, ↓rX12_all_128, ↓rX12_all_129, ↓rX12_all_132, ↓rX12_all_133, ↓rX12_all_134, ↓rX12_all_137, ↓rX12_all_t, lG_32, lG_34, lG_36, lG_46, lG_48, lG_56, lG_58, lG_39, lG_41, lG_43, lG_45, lG_53, lG_55, lG_51, lG_60, lG_63, lI_1, lI_2, lI_4, lI_6, lI_7, lI_3, lP_32, lP_34, lP_36, lP_46, lP_48, lP_56, lP_58, lP_51, lP_60, lP_63, lW_1, lW_2, lW_4, lW_6, lW_7, lW_3, lo_K, lo_L, lo_R, lo_N, lo_C, lo_S, lo_F, lo_I, ↓rmI_in, ↓shrI_in, ↓shlI_in, ↓okI_in, ↓bI_01, bI_z, bI_o, nn_neg, Int.cast_ofNat_Int, zlit, n_leT, n_leF, n_ltT, n_ltF, n_eqT, n_eqF, z_leT, z_leF, z_ltT, z_ltF, z_eqT, z_eqF, nn_add, nn_mul, nn_clamp, nn_lt, nn_le, nn_eq, nn_div, rmI_nn, okI_nn, nn_and, nn_or, nn_xor, shlI_1, shrI_nn, Cont_v, Cont_0, List.mem_cons, List.not_mem_nil, or_false, or_true, true_or, true_and, and_true, ite_not, if_true, if_false, not_true_eq_false, not_false_eq_true, false_or, false_and, and_false, eq_self, ↓reduceIte, reduceCtorEq, rd_K, rd_F, a1, a4, k0, k1, k2, k3, k4, k6, k7, l1, l2, l3, l4, l6, l7, ↓nx, ↓nx2, ↓il, ↓f1, ↓f2, ↓c12_must1, ↓w4]
        · have eN2 : pNum t n 0 8 3 59 (tkN t n (tkN t n (tkN t n 0)), wr zS 2 (tkV t n (tkN t n 0))) = .inl (if tkC t n (tkN t n (tkN t n (tkN t n 0))) = 2 then 2 else 1, tkN t n (tkN t n (tkN t n 0))) := by
            unfold pNum
            rw [if_neg (fun q => c4 ⟨tk_C2.mpr q.1, q.2⟩)]
            simp only [tk_C2]
          rw [eN2]
          obtain ⟨hh, a, w1, w2, w3, w4⟩ := c12_moreF (s := zS) (m := fun _ => 0) R (p := tkN t n (tkN t n 0)) (lo := 0) (hi := 8) p2 (by omega) (fun q => c4 q.2)
          rw [if_pos c3] at w1
          rw [if_pos c3] at w1
          have hv1 := c2.2
          refine ⟨hh, a, w1, w2, w3, fun Q => ?_⟩
          simp (disch := omega) only [↓rX12_all_0, ↓rX12_all_1, ↓rX12_all_4, ↓rX12_all_5, ↓rX12_all_6, ↓rX12_all_8, ↓rX12_all_11, ↓rX12_all_12, ↓rX12_all_15, ↓rX12_all_16, ↓rX12_all_19, ↓rX12_all_20, ↓rX12_all_21, ↓rX12_all_23, ↓rX12_all_26, ↓rX12_all_27, ↓rX12_all_28, ↓rX12_all_31, ↓rX12_all_32, ↓rX12_all_33, ↓rX12_all_35, ↓rX12_all_38, ↓rX12_all_41, ↓rX12_all_42, ↓rX12_all_43, ↓rX12_all_46, ↓rX12_all_47, ↓rX12_all_50, ↓rX12_all_51, ↓rX12_all_54, ↓rX12_all_55, ↓rX12_all_56, ↓rX12_all_58, ↓rX12_all_61, ↓rX12_all_62, ↓rX12_all_66, ↓rX12_all_68, ↓rX12_all_71, ↓rX12_all_74, ↓rX12_all_75, ↓rX12_all_78, ↓rX12_all_81, ↓rX12_all_82, ↓rX12_all_83, ↓rX12_all_85, ↓rX12_all_88, ↓rX12_all_90, ↓rX12_all_93, ↓rX12_all_94, ↓rX12_all_97, ↓rX12_all_98, ↓rX12_all_99, ↓rX12_all_103, ↓rX12_all_105, ↓rX12_all_108, ↓rX12_all_110, ↓rX12_all_113, ↓rX12_all_114, ↓rX12_all_117, ↓rX12_all_120, ↓rX12_all_121, ↓rX12_all_122, ↓rX12_all_125, ↓rX12_all_128, ↓rX12_all_129, ↓rX12_all_132, ↓rX12_all_133, ↓rX12_all_134, ↓rX12_all_137, ↓rX12_all_t, lG_32, lG_34, lG_36, lG_46, lG_48, lG_56, lG_58, lG_39, lG_41, lG_43, lG_45, lG_53, lG_55, lG_51, lG_60, lG_63, lI_1, lI_2, lI_4, lI_6, lI_7, lI_3, lP_32, lP_34, lP_36, lP_46, lP_48, lP_56, lP_58, lP_51, lP_60, lP_63, lW_1, lW_2, lW_4, lW_6, lW_7, lW_3, lo_K, lo_L, lo_R, lo_N, lo_C, lo_S, lo_F, lo_I, ↓rmI_in, ↓shrI_in, ↓shlI_in, ↓okI_in, ↓bI_01, bI_z, bI_o, nn_neg, Int.cast_ofNat_Int, zlit, n_leT, n_leF, n_ltT, n_ltF, n_eqT, n_eqF, z_leT, z_leF, z_ltT, z_ltF, z_eqT, z_eqF, nn_add, nn_mul, nn_clamp, nn_lt, nn_le, nn_eq, nn_div, rmI_nn, okI_nn, nn_and, nn_or, nn_xor, shlI_1, shrI_nn, Cont_v, Cont_0, List.mem_cons, List.not_mem_nil, or_false, or_true, true_or, true_and, and_true, ite_not, if_true, if_false, not_true_eq_false, not_false_eq_true, false_or, false_and, and_false, eq_self, ↓reduceIte, reduceCtorEq, rd_K, rd_F, a1, a4, k0, k1, k2, k3, k4, k6, k7, l1, l2, l3, l4, l6, l7, ↓nx, ↓nx2, ↓il, ↓f1, ↓c12_must1, ↓w4]
      · have eT1 : pTk t n 44 (tkN t n (tkN t n 0), wr zS 2 (tkV t n (tkN t n 0))) = .inl (1, tkN t n (tkN t n 0)) := if_neg (fun q => c3 ((sg _).1.mpr q))
        rw [eT1]
        obtain ⟨hh, a, w1, w2, w3, w4⟩ := c12_moreF (s := zS) (m := fun _ => 0) R (p := tkN t n (tkN t n 0)) (lo := 0) (hi := 8) p2 (by omega) (fun q => c3 q.1)
        rw [if_neg c3] at w1
        rw [if_neg c3] at w1
        have hv1 := c2.2
        refine ⟨hh, a, w1, w2, w3, fun Q => ?_⟩
        simp (disch := omega) only [↓rX12_all_0, ↓rX12_all_1, ↓rX12_all_4, ↓rX12_all_5, ↓rX12_all_6, ↓rX12_all_8, ↓rX12_all_11, ↓rX12_all_12, ↓rX12_all_15, ↓rX12_all_16, ↓rX12_all_19, ↓rX12_all_20, ↓rX12_all_21, ↓rX12_all_23, ↓rX12_all_26, ↓rX12_all_27, ↓rX12_all_28, ↓rX12_all_31, ↓rX12_all_32, ↓rX12_all_33, ↓rX12_all_35, ↓rX12_all_38, ↓rX12_all_41, ↓rX12_all_42, ↓rX12_all_43, ↓rX12_all_46, ↓rX12_all_47, ↓rX12_all_50, ↓rX12_all_51, ↓rX12_all_54, ↓rX12_all_55, ↓rX12_all_56, ↓rX12_all_58, ↓rX12_all_61, ↓rX12_all_62, ↓rX12_all_66, ↓rX12_all_68, ↓rX12_all_71, ↓rX12_all_74, ↓rX12_all_75, ↓rX12_all_78, ↓rX12_all_81, ↓rX12_all_82, ↓rX12_all_83, ↓rX12_all_85, ↓rX12_all_88, ↓rX12_all_90, ↓rX12_all_93, ↓rX12_all_94, ↓rX12_all_97, ↓rX12_all_98, ↓rX12_all_99, ↓rX12_all_103, ↓rX12_all_105, ↓rX12_all_108, ↓rX12_all_110, ↓rX12_all_113, ↓rX12_all_114, ↓rX12_all_117, ↓rX12_all_120, ↓rX12_all_121, ↓rX12_all_122, ↓rX12_all_125, ↓rX12_all_128, ↓rX12_all_129, ↓rX12_all_132, ↓rX12_all_133, ↓rX12_all_134, ↓rX12_all_137, ↓rX12_all_t, lG_32, lG_34, lG_36, lG_46, lG_48, lG_56, lG_58, lG_39, lG_41, lG_43, lG_45, lG_53, lG_55, lG_51, lG_60, lG_63, lI_1, lI_2, lI_4, lI_6, lI_7, lI_3, lP_32, lP_34, lP_36, lP_46, lP_48, lP_56, lP_58, lP_51, lP_60, lP_63, lW_1, lW_2, lW_4, lW_6, lW_7, lW_3, lo_K, lo_L, lo_R, lo_N, lo_C, lo_S, lo_F, lo_I, ↓rmI_in, ↓shrI_in, ↓shlI_in, ↓okI_in, ↓bI_01, bI_z, bI_o, nn_neg, Int.cast_ofNat_Int, zlit, n_leT, n_leF, n_ltT, n_ltF, n_eqT, n_eqF, z_leT, z_leF, z_ltT, z_ltF, z_eqT, z_eqF, nn_add, nn_mul, nn_clamp, nn_lt, nn_le, nn_eq, nn_div, rmI_nn, okI_nn, nn_and, nn_or, nn_xor, shlI_1, shrI_nn, Cont_v, Cont_0, List.mem_cons, List.not_mem_nil, or_false, or_true, true_or, true_and, and_true, ite_not, if_true, if_false, not_true_eq_false, not_false_eq_true, false_or, false_and, and_false, eq_self, ↓reduceIte, reduceCtorEq, rd_K, rd_F, a1, a4, k0, k1, k2, k3, k4, k6, k7, l1, l2, l3, l4, l6, l7, ↓nx, ↓nx2, ↓il, ↓f1, ↓c12_must1, ↓w4]
    · have eN1 : pNum t n 1 9 2 44 (tkN t n 0, zS) = .inl (if tkC t n (tkN t n 0) = 2 then 2 else 1, tkN t n 0) := by
        unfold pNum
        rw [if_neg (fun q => c2 ⟨tk_C2.mpr q.1, q.2⟩)]
        simp only [tk_C2]
      rw [eN1]
      obtain ⟨hh, a, w1, w2, w3, w4⟩ := c12_figureF (s := zS) (m := fun _ => 0) R (p := tkN t n 0) (lo := 1) (hi := 9) p1 (by omega) c2
      refine ⟨hh, a, w1, w2, w3, fun Q => ?_⟩
      simp (disch := omega) only [↓rX12_all_0, ↓rX12_all_1, ↓rX12_all_4, ↓rX12_all_5, ↓rX12_all_6, ↓rX12_all_8, ↓rX12_all_11, ↓rX12_all_12, ↓rX12_all_15, ↓rX12_all_16, ↓rX12_all_19, ↓rX12_all_20, ↓rX12_all_21, ↓rX12_all_23, ↓rX12_all_26, ↓rX12_all_27, ↓rX12_all_28, ↓rX12_all_31, ↓rX12_all_32, ↓rX12_all_33, ↓rX12_all_35, ↓rX12_all_38, ↓rX12_all_41, ↓rX12_all_42, ↓rX12_all_43, ↓rX12_all_46, ↓rX12_all_47, ↓rX12_all_50, ↓rX12_all_51, ↓rX12_all_54, ↓rX12_all_55, ↓rX12_all_56, ↓rX12_all_58, ↓rX12_all_61, ↓rX12_all_62, ↓rX12_all_66, ↓rX12_all_68, ↓rX12_all_71, ↓rX12_all_74, ↓rX12_all_75, ↓rX12_all_78, ↓rX12_all_81, ↓rX12_all_82, ↓rX12_all_83, ↓rX12_all_85, ↓rX12_all_88, ↓rX12_all_90, ↓rX12_all_93, ↓rX12_all_94, ↓rX12_all_97, ↓rX12_all_98, ↓rX12_all_99, ↓rX12_all_103, ↓rX12_all_105, ↓rX12_all_108, ↓rX12_all_110, ↓rX12_all_113, ↓rX12_all_114, ↓rX12_all_117, ↓rX12_all_120, ↓rX12_all_121, ↓rX12_all_122, ↓rX12_all_125, ↓rX12_all_128, ↓rX12_all_129, ↓rX12_all_132, ↓rX12_all_133, ↓rX12_all_134, ↓rX12_all_137, ↓rX12_all_t, lG_32, lG_34, lG_36, lG_46, lG_48, lG_56, lG_58, lG_39, lG_41, lG_43, lG_45, lG_53, lG_55, lG_51, lG_60, lG_63, lI_1, lI_2, lI_4, lI_6, lI_7, lI_3, lP_32, lP_34, lP_36, lP_46, lP_48, lP_56, lP_58, lP_51, lP_60, lP_63, lW_1, lW_2, lW_4, lW_6, lW_7, lW_3, lo_K, lo_L, lo_R, lo_N, lo_C, lo_S, lo_F, lo_I, ↓rmI_in, ↓shrI_in, ↓shlI_in, ↓okI_in, ↓bI_01, bI_z, bI_o, nn_neg, Int.cast_ofNat_Int, zlit, n_leT, n_leF, n_ltT, n_ltF, n_eqT, n_eqF, z_leT, z_leF, z_ltT, z_ltF, z_eqT, z_eqF, nn_add, nn_mul, nn_clamp, nn_lt, nn_le, nn_eq, nn_div, rmI_nn, okI_nn, nn_and, nn_or, nn_xor, shlI_1, shrI_nn, Cont_v, Cont_0, List.mem_cons, List.not_mem_nil, or_false, or_true, true_or, true_and, and_true, ite_not, if_true, if_false, not_true_eq_false, not_false_eq_true, false_or, false_and, and_false, eq_self, ↓reduceIte, reduceCtorEq, rd_K, rd_F, a1, a4, k0, k1, k2, k3, k4, k6, k7, l1, l2, l3, l4, l6, l7, ↓nx, ↓nx2, ↓il, ↓c12_must1, ↓w4]
  · have eT : pTk t n 108 (0, zS) = .inl (1, 0) := if_neg (fun q => c1 (((sg 0).2.2 108 (by omega) (by omega)).mpr q))
    rw [eT]
    rw [bI_f c1] at il
    obtain ⟨hh, a, w1, w2, w3, w4⟩ := c12_must0 (s := zS) (m := fun _ => 0) R 0 1
    refine ⟨hh, a, w1, w2, w3, fun Q => ?_⟩
    simp (disch := omega) only [↓rX12_all_0, ↓rX12_all_1, ↓rX12_all_4, ↓rX12_all_5, ↓rX12_all_6, ↓rX12_all_8, ↓rX12_all_11, ↓rX12_all_12, ↓rX12_all_15, ↓rX12_all_16, ↓rX12_all_19, ↓rX12_all_20, ↓rX12_all_21, ↓rX12_all_23, ↓rX12_all_26, ↓rX12_all_27, ↓rX12_all_28, ↓rX12_all_31, ↓rX12_all_32, ↓rX12_all_33, ↓rX12_all_35, ↓rX12_all_38, ↓rX12_all_41, ↓rX12_all_42, ↓rX12_all_43, ↓rX12_all_46, ↓rX12_all_47, ↓rX12_all_50, ↓rX12_all_51, ↓rX12_all_54, ↓rX12_all_55, ↓rX12_all_56, ↓rX12_all_58, ↓rX12_all_61, ↓rX12_all_62, ↓rX12_all_66, ↓rX12_all_68, ↓rX12_all_71, ↓rX12_all_74, ↓rX12_all_75, ↓rX12_all_78, ↓rX12_all_81, ↓rX12_all_82, ↓rX12_all_83, ↓rX12_all_85, ↓rX12_all_88, ↓rX12_all_90, ↓rX12_all_93, ↓rX12_all_94, ↓rX12_all_97, ↓rX12_all_98, ↓rX12_all_99, ↓rX12_all_103, ↓rX12_all_105, ↓rX12_all_108, ↓rX12_all_110, ↓rX12_all_113, ↓rX12_all_114, ↓rX12_all_117, ↓rX12_all_120, ↓rX12_all_121, ↓rX12_all_122, ↓rX12_all_125, ↓rX12_all_128, ↓rX12_all_129, ↓rX12_all_132, ↓rX12_all_133, ↓rX12_all_134, ↓rX12_all_137, ↓rX12_all_t, lG_32, lG_34, lG_36, lG_46, lG_48, lG_56, lG_58, lG_39, lG_41, lG_43, lG_45, lG_53, lG_55, lG_51, lG_60, lG_63, lI_1, lI_2, lI_4, lI_6, lI_7, lI_3, lP_32, lP_34, lP_36, lP_46, lP_48, lP_56, lP_58, lP_51, lP_60, lP_63, lW_1, lW_2, lW_4, lW_6, lW_7, lW_3, lo_K, lo_L, lo_R, lo_N, lo_C, lo_S, lo_F, lo_I, ↓rmI_in, ↓shrI_in, ↓shlI_in, ↓okI_in, ↓bI_01, bI_z, bI_o, nn_neg, Int.cast_ofNat_Int, zlit, n_leT, n_leF, n_ltT, n_ltF, n_eqT, n_eqF, z_leT, z_leF, z_ltT, z_ltF, z_eqT, z_eqF, nn_add, nn_mul, nn_clamp, nn_lt, nn_le, nn_eq, nn_div, rmI_nn, okI_nn, nn_and, nn_or, nn_xor, shlI_1, shrI_nn, Cont_v, Cont_0, List.mem_cons, List.not_mem_nil, or_false, or_true, true_or, true_and, and_true, ite_not, if_true, if_false, not_true_eq_false, not_false_eq_true, false_or, false_and, and_false, eq_self, ↓reduceIte, reduceCtorEq, rd_K, rd_F, a1, a4, k0, k1, k2, k3, k4, k6, k7, l1, l2, l3, l4, l6, l7, ↓nx, ↓il, ↓w4]
end RD5
