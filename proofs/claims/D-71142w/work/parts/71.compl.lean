/-! THE CLASS READS A TEXT: figures and signs -/
theorem tkW_1 {t : Nat → Nat} {n p : Nat} (h : tkC t n p = 1) : tkW t n p = nI (t p) := by
  unfold tkC at h
  unfold tkW
  by_cases h1 : n ≤ p
  · rw [if_pos h1] at h; omega
  · rw [if_neg h1] at h ⊢
    by_cases h2 : isDg (t p) = true
    · rw [if_pos h2] at h; split at h <;> omega
    · rw [if_neg h2]
theorem tk_C2 {t : Nat → Nat} {n p : Nat} : tkC t n p = 2 ↔ tkK t n p = 2 := by
  unfold tkC tkK
  by_cases h1 : n ≤ p
  · rw [if_pos h1, if_pos h1]; omega
  · rw [if_neg h1, if_neg h1]
    by_cases h2 : isDg (t p) = true
    · rw [if_pos h2, if_pos h2]; split <;> omega
    · rw [if_neg h2, if_neg h2]
      constructor
      · intro h; (repeat' split at h) <;> omega
      · intro h; split at h <;> omega
theorem isDg_no {v : Nat} (h : v < 48 ∨ 57 < v) : ¬ isDg v = true := fun q => by have := (isDg_iff _).mp q; omega
theorem isLe_iff (v : Nat) : isLe v = true ↔ (97 ≤ v ∧ v ≤ 122) ∨ v = 44 ∨ v = 59 := decide_eq_true_iff
theorem tk_W2 {t : Nat → Nat} {n p : Nat} (h : tkC t n p = 2) (hp : p ≤ n) : tkW t n p = nI (tkV t n p) ∧ tkV t n p ≤ 99 := by
  unfold tkC at h
  unfold tkW tkV
  by_cases h1 : n ≤ p
  · rw [if_pos h1] at h; omega
  · rw [if_neg h1] at h ⊢
    by_cases h2 : isDg (t p) = true
    · have hE := dgE_gt (t := t) (n := n) (p := p) (by omega) h2
      rw [if_pos h2] at h ⊢
      rw [if_pos h2]
      have h3 : ¬ 2 < dgE t n p - p := fun q => by rw [if_pos q] at h; omega
      have hd := (isDg_iff _).mp h2
      unfold clV
      by_cases h4 : dgE t n p = p + 1
      · rw [if_pos h4, if_neg (by omega), if_pos (by omega)]; exact ⟨rfl, by omega⟩
      · have hd1 := (isDg_iff _).mp (dgF_dg t n 120 p (p + 1) (by omega) (show p + 1 < dgE t n p by omega))
        rw [if_neg h4, if_neg (by omega), if_neg (by omega)]; exact ⟨rfl, by omega⟩
    · rw [if_neg h2] at h
      exfalso
      (repeat' split at h) <;> omega
theorem tk_C0 {t : Nat → Nat} {n p : Nat} : tkC t n p = 0 ↔ tkK t n p = 3 := by
  unfold tkC tkK
  by_cases h1 : n ≤ p
  · rw [if_pos h1, if_pos h1]; omega
  · rw [if_neg h1, if_neg h1]
    by_cases h2 : isDg (t p) = true
    · rw [if_pos h2, if_pos h2]; split <;> omega
    · rw [if_neg h2, if_neg h2]
      constructor
      · intro h; (repeat' split at h) <;> omega
      · intro h; split at h <;> omega
/-- signs and letters -/
theorem tk_sg {t : Nat → Nat} {n p : Nat} : (tkC t n p = 3 ↔ tkK t n p = 1 ∧ tkV t n p = 44) ∧ (tkC t n p = 4 ↔ tkK t n p = 1 ∧ tkV t n p = 59) ∧ ∀ ch, 97 ≤ ch → ch ≤ 122 → ((tkC t n p = 1 ∧ t p = ch) ↔ tkK t n p = 1 ∧ tkV t n p = ch) := by
  unfold tkC tkK tkV
  by_cases h1 : n ≤ p
  · rw [if_pos h1, if_pos h1]
    exact ⟨by omega, by omega, fun ch _ _ => by omega⟩
  · rw [if_neg h1, if_neg h1]
    by_cases h2 : isDg (t p) = true
    · rw [if_pos h2, if_pos h2]
      by_cases h3 : 2 < dgE t n p - p
      · rw [if_pos h3, if_pos h3]; exact ⟨by omega, by omega, fun ch _ _ => by omega⟩
      · rw [if_neg h3, if_neg h3]; exact ⟨by omega, by omega, fun ch _ _ => by omega⟩
    · rw [if_neg h2, if_neg h2, if_neg h2]
      have hl := isLe_iff (t p)
      by_cases h4 : 97 ≤ t p ∧ t p ≤ 122
      · rw [if_pos h4, if_pos (hl.mpr (Or.inl h4))]
        exact ⟨by omega, by omega, fun ch _ _ => by omega⟩
      · rw [if_neg h4]
        by_cases h5 : t p = 44
        · rw [if_pos h5, if_pos (hl.mpr (Or.inr (Or.inl h5)))]
          exact ⟨by omega, by omega, fun ch _ _ => by omega⟩
        · rw [if_neg h5]
          by_cases h6 : t p = 59
          · rw [if_pos h6, if_pos (hl.mpr (Or.inr (Or.inr h6)))]
            exact ⟨by omega, by omega, fun ch _ _ => by omega⟩
          · rw [if_neg h6, if_neg (fun q => by have := hl.mp q; omega)]
            exact ⟨by omega, by omega, fun ch _ _ => by omega⟩
theorem tkC_lt {t : Nat → Nat} {n p : Nat} : tkC t n p ≤ 5 := by
  unfold tkC
  (repeat' split) <;> omega
section RD2
variable {g0 g : Hp} {c r : Nat} {t : Nat → Nat} {n f : Nat} {s : St} {m : Nat → Nat}
theorem c12_must1 (Q : Po) (h : Hp) (r : Nat) (k : Int32) : Ex mX12_must Q 0 [.ref r, .int (nI 1), .int k] [] h = Q (.inl none) h := by
  simp (disch := omega) only [↓rX12_must_0, ↓rX12_must_1, ↓rX12_must_4, ↓rX12_must_7, ↓rX12_must_8, ↓rX12_must_9, ↓rX12_must_10, ↓rX12_must_13, ↓rX12_must_16, ↓rX12_must_17, ↓rX12_must_t, ↓rmI_in, ↓shrI_in, ↓shlI_in, ↓okI_in, ↓bI_01, bI_z, bI_o, nn_neg, Int.cast_ofNat_Int, zlit, n_leT, n_leF, n_ltT, n_ltF, n_eqT, n_eqF, z_leT, z_leF, z_ltT, z_ltF, z_eqT, z_eqF, nn_add, nn_mul, nn_clamp, nn_lt, nn_le, nn_eq, nn_div, rmI_nn, okI_nn, nn_and, nn_or, nn_xor, shlI_1, shrI_nn, Cont_v, Cont_0, List.mem_cons, List.not_mem_nil, or_false, or_true, true_or, true_and, and_true, ite_not, if_true, if_false, not_true_eq_false, not_false_eq_true, false_or, false_and, and_false, eq_self, ↓reduceIte, reduceCtorEq]
theorem c12_must0 (R : RB g0 g c r t n f) (p k : Nat) : FltO g0 r k p (fun Q => Ex mX12_must Q 0 [.ref r, .int (nI 0), .int (nI k)] [] (LB (RDo g r (nI (tkN t n p)) (nI (tkC t n p)) (nI p) (tkW t n p)) (r + 1) s m (r + 6) (zI (-1000000)) .null)) := by
  obtain ⟨⟨a1, a2, a3, a4⟩, -, -, ⟨a8, a9, a10⟩, ⟨⟨-, ⟨u1, e1⟩, ⟨u2, e2⟩, -⟩, -⟩, ⟨b1, b2, b3, b4⟩, ⟨b5, b6, b7⟩, hn, ht⟩ := R
  have ne0 : ¬ (0 : Nat) = gN g := by omega
  have ner : ¬ r = gN g := by omega
  have ne1 : ¬ (0 : Nat) = r := by omega
  refine ⟨pF (pF (pF (pF (pF (pF (pF (pF (pF (nO (LB (RDo g r (nI (tkN t n p)) (nI (tkC t n p)) (nI p) (tkW t n p)) (r + 1) s m (r + 6) (zI (-1000000)) .null) 13 8) 123 (gN g) (.ref (gN g))) 125 (gN g) (va_rf u1)) 127 (gN g) (va_rf u2)) 125 (gN g) .null) 129 (gN g) .null) 123 (gN g) .null) 127 (gN g) .null) 154 (gN g) (.int (nI k))) 156 (gN g) (.int (nI p)), gN g, ⟨?_, ?_, ?_⟩, ⟨?_, ?_, ?_⟩, fun x hx => ?_, fun Q => ?_⟩
  · simp only [gK_pF, gK_nO, lo_N, rd_N, if_true]
  · exact (pF_ne (by omega)).trans pF_eq
  · exact pF_eq
  · show gN g0 ≤ gN g + 1; omega
  · show gC g0 ≤ gC g - 1 + 11; omega
  · show gS g0 ≤ gS g - 8 + 63; omega
  · refine (b1 x hx).trans ?_
    have hne : ¬ x = gN g := by omega
    refine ⟨?_, rfl, fun e => ?_, fun i => ?_, fun i => rfl⟩
    · exact if_neg hne
    · simp only [gF_pF, gF_nO, lo_N, rd_N, hne, and_false, if_false]
      exact ((rd_sm g r _ _ _ _ (show x ≠ r by omega)).trans (LB_sm _ _ _ _ _ _ _ (by omega))).2.2.1 e
    · have hs : SmX g (LB (RDo g r (nI (tkN t n p)) (nI (tkC t n p)) (nI p) (tkW t n p)) (r + 1) s m (r + 6) (zI (-1000000)) .null) x := (rd_sm g r _ _ _ _ (show x ≠ r by omega)).trans (LB_sm _ _ _ _ _ _ _ (by omega))
      exact hs.2.2.2.1 i
  · simp (disch := omega) only [↓rX12_must_0, ↓rX12_must_1, ↓rX12_must_4, ↓rX12_must_7, ↓rX12_must_8, ↓rX12_must_9, ↓rX12_must_10, ↓rX12_must_13, ↓rX12_must_16, ↓rX12_must_17, ↓rX12_must_t, ↓rX13_init_0, ↓rX13_init_1, ↓rX13_init_2, ↓rX13_init_3, ↓rX13_init_4, ↓rX13_init_5, ↓rX13_init_8, ↓rX13_init_9, ↓rX13_init_10, ↓rX13_init_13, ↓rX13_init_14, ↓rX13_init_15, ↓rX13_init_18, ↓rX13_init_t, ↓rJ4_init_0, ↓rJ4_init_0n, ↓rJ4_init_1, ↓rJ4_init_1n, ↓rJ4_init_2, ↓rJ4_init_2n, ↓rJ4_init_3, ↓rJ4_init_4, ↓rJ4_init_6, ↓rJ4_init_9, ↓rJ4_init_t, ↓rJ4_init_6n, ↓rJ3_init_2_0, ↓rJ3_init_2_0n, ↓rJ3_init_2_1, ↓rJ3_init_2_4, ↓rJ3_init_2_4n, ↓rJ3_init_2_5, ↓rJ3_init_2_5n, ↓rJ3_init_2_6, ↓rJ3_init_2_6n, ↓rJ3_init_2_9, ↓rJ3_init_2_9n, ↓rJ3_init_2_10, ↓rJ3_init_2_13, ↓rJ3_init_2_13n, ↓rJ3_init_2_16, ↓rJ3_init_2_16n, ↓rJ3_init_2_17, ↓rJ3_init_2_20, ↓rJ3_init_2_20n, ↓rJ3_init_2_23, ↓rJ3_init_2_25, ↓rJ3_init_2_28, ↓rJ3_init_2_28n, ↓rJ3_init_2_32, ↓rJ3_init_2_33, ↓rJ3_init_2_36, ↓rJ3_init_2_36n, ↓rJ3_init_2_37, ↓rJ3_init_2_38, ↓rJ3_init_2_38n, ↓rJ3_init_2_41, ↓rJ3_init_2_41n, ↓rJ3_init_2_42, ↓rJ3_init_2_42n, ↓rJ3_init_2_43, ↓rJ3_init_2_43n, ↓rJ3_init_2_46, ↓rJ3_init_2_46n, ↓rJ3_init_2_47, ↓rJ3_init_2_47n, ↓rJ3_init_2_48, ↓rJ3_init_2_48n, ↓rJ3_init_2_51, ↓rJ3_init_2_52, ↓rJ3_init_2_55, ↓rJ3_init_2_55n, ↓rJ3_init_2_56, ↓rJ3_init_2_57, ↓rJ3_init_2_57n, ↓rJ3_init_2_60, ↓rJ3_init_2_t, ↓rJ3_13v, ↓rJ3_20v, lG_32, lG_34, lG_36, lG_46, lG_48, lG_56, lG_58, lG_39, lG_41, lG_43, lG_45, lG_53, lG_55, lG_51, lG_60, lG_63, lI_1, lI_2, lI_4, lI_6, lI_7, lI_3, lP_32, lP_34, lP_36, lP_46, lP_48, lP_56, lP_58, lP_51, lP_60, lP_63, lW_1, lW_2, lW_4, lW_6, lW_7, lW_3, lo_K, lo_L, lo_R, lo_N, lo_C, lo_S, lo_F, lo_I, ↓rmI_in, ↓shrI_in, ↓shlI_in, ↓okI_in, ↓bI_01, bI_z, bI_o, nn_neg, Int.cast_ofNat_Int, zlit, n_leT, n_leF, n_ltT, n_ltF, n_eqT, n_eqF, z_leT, z_leF, z_ltT, z_ltF, z_eqT, z_eqF, nn_add, nn_mul, nn_clamp, nn_lt, nn_le, nn_eq, nn_div, rmI_nn, okI_nn, nn_and, nn_or, nn_xor, shlI_1, shrI_nn, Cont_v, Cont_0, List.mem_cons, List.not_mem_nil, or_false, or_true, true_or, true_and, and_true, ite_not, if_true, if_false, not_true_eq_false, not_false_eq_true, false_or, false_and, and_false, eq_self, ↓reduceIte, reduceCtorEq, gK_pF, gK_nO, gF_pF, gF_nO, rd_K, rd_F, rd_N, rd_C, rd_S, e1, e2, a1, ne0, ner, ne1]
theorem c12_isLetter (R : RB g0 g c r t n f) (Q : Po) {p ch : Nat} (hc : ch < 256) : Ex mX12_isLetter Q 0 [.ref r, .int (nI ch)] [] (LB (RDo g r (nI (tkN t n p)) (nI (tkC t n p)) (nI p) (tkW t n p)) (r + 1) s m (r + 6) (zI (-1000000)) .null) = Q (.inl (some (.int (bI (tkC t n p = 1 ∧ t p = ch))))) (LB (RDo g r (nI (tkN t n p)) (nI (tkC t n p)) (nI p) (tkW t n p)) (r + 1) s m (r + 6) (zI (-1000000)) .null) := by
  obtain ⟨⟨a1, a2, a3, a4⟩, -, -, ⟨a8, a9, a10⟩, -, -, -, hn, ht⟩ := R
  have htp := ht p
  have hcl := tkC_lt (t := t) (n := n) (p := p)
  by_cases h1 : tkC t n p = 1
  · have hw := tkW_1 h1
    by_cases h2 : t p = ch
    · rw [bI_t ⟨h1, h2⟩]
      simp (disch := omega) only [↓rX12_isLetter_0, ↓rX12_isLetter_1, ↓rX12_isLetter_4, ↓rX12_isLetter_5, ↓rX12_isLetter_8, ↓rX12_isLetter_9, ↓rX12_isLetter_12, ↓rX12_isLetter_13, ↓rX12_isLetter_16, ↓rX12_isLetter_17, ↓rX12_isLetter_20, ↓rX12_isLetter_21, ↓rX12_isLetter_t, lG_32, lG_34, lG_36, lG_46, lG_48, lG_56, lG_58, lG_39, lG_41, lG_43, lG_45, lG_53, lG_55, lG_51, lG_60, lG_63, lI_1, lI_2, lI_4, lI_6, lI_7, lI_3, lP_32, lP_34, lP_36, lP_46, lP_48, lP_56, lP_58, lP_51, lP_60, lP_63, lW_1, lW_2, lW_4, lW_6, lW_7, lW_3, lo_K, lo_L, lo_R, lo_N, lo_C, lo_S, lo_F, lo_I, ↓rmI_in, ↓shrI_in, ↓shlI_in, ↓okI_in, ↓bI_01, bI_z, bI_o, nn_neg, Int.cast_ofNat_Int, zlit, n_leT, n_leF, n_ltT, n_ltF, n_eqT, n_eqF, z_leT, z_leF, z_ltT, z_ltF, z_eqT, z_eqF, nn_add, nn_mul, nn_clamp, nn_lt, nn_le, nn_eq, nn_div, rmI_nn, okI_nn, nn_and, nn_or, nn_xor, shlI_1, shrI_nn, Cont_v, Cont_0, List.mem_cons, List.not_mem_nil, or_false, or_true, true_or, true_and, and_true, ite_not, if_true, if_false, not_true_eq_false, not_false_eq_true, false_or, false_and, and_false, eq_self, ↓reduceIte, reduceCtorEq, rd_K, rd_F, a1, h1, hw, h2]
    · rw [bI_f (fun q => h2 q.2)]
      simp (disch := omega) only [↓rX12_isLetter_0, ↓rX12_isLetter_1, ↓rX12_isLetter_4, ↓rX12_isLetter_5, ↓rX12_isLetter_8, ↓rX12_isLetter_9, ↓rX12_isLetter_12, ↓rX12_isLetter_13, ↓rX12_isLetter_16, ↓rX12_isLetter_17, ↓rX12_isLetter_20, ↓rX12_isLetter_21, ↓rX12_isLetter_t, lG_32, lG_34, lG_36, lG_46, lG_48, lG_56, lG_58, lG_39, lG_41, lG_43, lG_45, lG_53, lG_55, lG_51, lG_60, lG_63, lI_1, lI_2, lI_4, lI_6, lI_7, lI_3, lP_32, lP_34, lP_36, lP_46, lP_48, lP_56, lP_58, lP_51, lP_60, lP_63, lW_1, lW_2, lW_4, lW_6, lW_7, lW_3, lo_K, lo_L, lo_R, lo_N, lo_C, lo_S, lo_F, lo_I, ↓rmI_in, ↓shrI_in, ↓shlI_in, ↓okI_in, ↓bI_01, bI_z, bI_o, nn_neg, Int.cast_ofNat_Int, zlit, n_leT, n_leF, n_ltT, n_ltF, n_eqT, n_eqF, z_leT, z_leF, z_ltT, z_ltF, z_eqT, z_eqF, nn_add, nn_mul, nn_clamp, nn_lt, nn_le, nn_eq, nn_div, rmI_nn, okI_nn, nn_and, nn_or, nn_xor, shlI_1, shrI_nn, Cont_v, Cont_0, List.mem_cons, List.not_mem_nil, or_false, or_true, true_or, true_and, and_true, ite_not, if_true, if_false, not_true_eq_false, not_false_eq_true, false_or, false_and, and_false, eq_self, ↓reduceIte, reduceCtorEq, rd_K, rd_F, a1, h1, hw, h2]
  · rw [bI_f (fun q => h1 q.1)]
    simp (disch := omega) only [↓rX12_isLetter_0, ↓rX12_isLetter_1, ↓rX12_isLetter_4, ↓rX12_isLetter_5, ↓rX12_isLetter_8, ↓rX12_isLetter_9, ↓rX12_isLetter_12, ↓rX12_isLetter_13, ↓rX12_isLetter_16, ↓rX12_isLetter_17, ↓rX12_isLetter_20, ↓rX12_isLetter_21, ↓rX12_isLetter_t, lG_32, lG_34, lG_36, lG_46, lG_48, lG_56, lG_58, lG_39, lG_41, lG_43, lG_45, lG_53, lG_55, lG_51, lG_60, lG_63, lI_1, lI_2, lI_4, lI_6, lI_7, lI_3, lP_32, lP_34, lP_36, lP_46, lP_48, lP_56, lP_58, lP_51, lP_60, lP_63, lW_1, lW_2, lW_4, lW_6, lW_7, lW_3, lo_K, lo_L, lo_R, lo_N, lo_C, lo_S, lo_F, lo_I, ↓rmI_in, ↓shrI_in, ↓shlI_in, ↓okI_in, ↓bI_01, bI_z, bI_o, nn_neg, Int.cast_ofNat_Int, zlit, n_leT, n_leF, n_ltT, n_ltF, n_eqT, n_eqF, z_leT, z_leF, z_ltT, z_ltF, z_eqT, z_eqF, nn_add, nn_mul, nn_clamp, nn_lt, nn_le, nn_eq, nn_div, rmI_nn, okI_nn, nn_and, nn_or, nn_xor, shlI_1, shrI_nn, Cont_v, Cont_0, List.mem_cons, List.not_mem_nil, or_false, or_true, true_or, true_and, and_true, ite_not, if_true, if_false, not_true_eq_false, not_false_eq_true, false_or, false_and, and_false, eq_self, ↓reduceIte, reduceCtorEq, rd_K, rd_F, a1, h1]
theorem c12_signT (R : RB g0 g c r t n f) (Q : Po) {p w : Nat} (hp : p ≤ n) (h : tkC t n p = w) : Ex mX12_sign Q 0 [.ref r, .int (nI w)] [] (LB (RDo g r (nI (tkN t n p)) (nI (tkC t n p)) (nI p) (tkW t n p)) (r + 1) s m (r + 6) (zI (-1000000)) .null) = Q (.inl none) (LB (RDo g r (nI (tkN t n (tkN t n p))) (nI (tkC t n (tkN t n p))) (nI (tkN t n p)) (tkW t n (tkN t n p))) (r + 1) s m (r + 6) (zI (-1000000)) .null) := by
  have hw := tkC_lt (t := t) (n := n) (p := p)
  have nx := fun Q x6 x8 x0 => c12_next (s := s) (m := m) R Q (p := tkN t n p) (x6 := x6) (x8 := x8) (x0 := x0) (tkN_le hp)
  obtain ⟨⟨a1, a2, a3, a4⟩, -⟩ := R
  simp (disch := omega) only [↓rX12_sign_0, ↓rX12_sign_1, ↓rX12_sign_2, ↓rX12_sign_5, ↓rX12_sign_6, ↓rX12_sign_9, ↓rX12_sign_10, ↓rX12_sign_13, ↓rX12_sign_14, ↓rX12_sign_15, ↓rX12_sign_18, ↓rX12_sign_19, ↓rX12_sign_22, ↓rX12_sign_t, lG_32, lG_34, lG_36, lG_46, lG_48, lG_56, lG_58, lG_39, lG_41, lG_43, lG_45, lG_53, lG_55, lG_51, lG_60, lG_63, lI_1, lI_2, lI_4, lI_6, lI_7, lI_3, lP_32, lP_34, lP_36, lP_46, lP_48, lP_56, lP_58, lP_51, lP_60, lP_63, lW_1, lW_2, lW_4, lW_6, lW_7, lW_3, lo_K, lo_L, lo_R, lo_N, lo_C, lo_S, lo_F, lo_I, ↓rmI_in, ↓shrI_in, ↓shlI_in, ↓okI_in, ↓bI_01, bI_z, bI_o, nn_neg, Int.cast_ofNat_Int, zlit, n_leT, n_leF, n_ltT, n_ltF, n_eqT, n_eqF, z_leT, z_leF, z_ltT, z_ltF, z_eqT, z_eqF, nn_add, nn_mul, nn_clamp, nn_lt, nn_le, nn_eq, nn_div, rmI_nn, okI_nn, nn_and, nn_or, nn_xor, shlI_1, shrI_nn, Cont_v, Cont_0, List.mem_cons, List.not_mem_nil, or_false, or_true, true_or, true_and, and_true, ite_not, if_true, if_false, not_true_eq_false, not_false_eq_true, false_or, false_and, and_false, eq_self, ↓reduceIte, reduceCtorEq, rd_K, rd_F, a1, h, ↓c12_must1, ↓nx]
theorem c12_signF (R : RB g0 g c r t n f) {p w : Nat} (hw : w < 10) (h : ¬ tkC t n p = w) : FltO g0 r 1 p (fun Q => Ex mX12_sign Q 0 [.ref r, .int (nI w)] [] (LB (RDo g r (nI (tkN t n p)) (nI (tkC t n p)) (nI p) (tkW t n p)) (r + 1) s m (r + 6) (zI (-1000000)) .null)) := by
  have hcl := tkC_lt (t := t) (n := n) (p := p)
  obtain ⟨h1, a, b1, b2, b3, b4⟩ := c12_must0 (s := s) (m := m) R p 1
  obtain ⟨⟨a1, a2, a3, a4⟩, -⟩ := R
  refine ⟨h1, a, b1, b2, b3, fun Q => ?_⟩
  simp (disch := omega) only [↓rX12_sign_0, ↓rX12_sign_1, ↓rX12_sign_2, ↓rX12_sign_5, ↓rX12_sign_6, ↓rX12_sign_9, ↓rX12_sign_10, ↓rX12_sign_13, ↓rX12_sign_14, ↓rX12_sign_15, ↓rX12_sign_18, ↓rX12_sign_19, ↓rX12_sign_22, ↓rX12_sign_t, lG_32, lG_34, lG_36, lG_46, lG_48, lG_56, lG_58, lG_39, lG_41, lG_43, lG_45, lG_53, lG_55, lG_51, lG_60, lG_63, lI_1, lI_2, lI_4, lI_6, lI_7, lI_3, lP_32, lP_34, lP_36, lP_46, lP_48, lP_56, lP_58, lP_51, lP_60, lP_63, lW_1, lW_2, lW_4, lW_6, lW_7, lW_3, lo_K, lo_L, lo_R, lo_N, lo_C, lo_S, lo_F, lo_I, ↓rmI_in, ↓shrI_in, ↓shlI_in, ↓okI_in, ↓bI_01, bI_z, bI_o, nn_neg, Int.cast_ofNat_Int, zlit, n_leT, n_leF, n_ltT, n_ltF, n_eqT, n_eqF, z_leT, z_leF, z_ltT, z_ltF, z_eqT, z_eqF, nn_add, nn_mul, nn_clamp, nn_lt, nn_le, nn_eq, nn_div, rmI_nn, okI_nn, nn_and, nn_or, nn_xor, shlI_1, shrI_nn, Cont_v, Cont_0, List.mem_cons, List.not_mem_nil, or_false, or_true, true_or, true_and, and_true, ite_not, if_true, if_false, not_true_eq_false, not_false_eq_true, false_or, false_and, and_false, eq_self, ↓reduceIte, reduceCtorEq, rd_K, rd_F, a1, h, ↓b4]
theorem c12_beginT (R : RB g0 g c r t n f) (Q : Po) {p k w : Nat} (hp : p ≤ n) (h : k < w) (hw : w < 100) : Ex mX12_begin Q 0 [.ref r, .int (nI k), .int (nI w)] [] (LB (RDo g r (nI (tkN t n p)) (nI (tkC t n p)) (nI p) (tkW t n p)) (r + 1) s m (r + 6) (zI (-1000000)) .null) = Q (.inl none) (LB (RDo g r (nI (tkN t n (tkN t n p))) (nI (tkC t n (tkN t n p))) (nI (tkN t n p)) (tkW t n (tkN t n p))) (r + 1) s m (r + 6) (zI (-1000000)) .null) := by
  have nx := fun Q x6 x8 x0 => c12_next (s := s) (m := m) R Q (p := tkN t n p) (x6 := x6) (x8 := x8) (x0 := x0) (tkN_le hp)
  obtain ⟨⟨a1, a2, a3, a4⟩, -⟩ := R
  simp (disch := omega) only [↓rX12_begin_0, ↓rX12_begin_1, ↓rX12_begin_2, ↓rX12_begin_3, ↓rX12_begin_6, ↓rX12_begin_7, ↓rX12_begin_10, ↓rX12_begin_11, ↓rX12_begin_12, ↓rX12_begin_15, ↓rX12_begin_16, ↓rX12_begin_19, ↓rX12_begin_t, lG_32, lG_34, lG_36, lG_46, lG_48, lG_56, lG_58, lG_39, lG_41, lG_43, lG_45, lG_53, lG_55, lG_51, lG_60, lG_63, lI_1, lI_2, lI_4, lI_6, lI_7, lI_3, lP_32, lP_34, lP_36, lP_46, lP_48, lP_56, lP_58, lP_51, lP_60, lP_63, lW_1, lW_2, lW_4, lW_6, lW_7, lW_3, lo_K, lo_L, lo_R, lo_N, lo_C, lo_S, lo_F, lo_I, ↓rmI_in, ↓shrI_in, ↓shlI_in, ↓okI_in, ↓bI_01, bI_z, bI_o, nn_neg, Int.cast_ofNat_Int, zlit, n_leT, n_leF, n_ltT, n_ltF, n_eqT, n_eqF, z_leT, z_leF, z_ltT, z_ltF, z_eqT, z_eqF, nn_add, nn_mul, nn_clamp, nn_lt, nn_le, nn_eq, nn_div, rmI_nn, okI_nn, nn_and, nn_or, nn_xor, shlI_1, shrI_nn, Cont_v, Cont_0, List.mem_cons, List.not_mem_nil, or_false, or_true, true_or, true_and, and_true, ite_not, if_true, if_false, not_true_eq_false, not_false_eq_true, false_or, false_and, and_false, eq_self, ↓reduceIte, reduceCtorEq, rd_K, rd_F, a1, h, ↓c12_must1, ↓nx]
theorem c12_beginF (R : RB g0 g c r t n f) {p k w : Nat} (h : ¬ k < w) (hk : k < 100) : FltO g0 r 3 p (fun Q => Ex mX12_begin Q 0 [.ref r, .int (nI k), .int (nI w)] [] (LB (RDo g r (nI (tkN t n p)) (nI (tkC t n p)) (nI p) (tkW t n p)) (r + 1) s m (r + 6) (zI (-1000000)) .null)) := by
  obtain ⟨h1, a, b1, b2, b3, b4⟩ := c12_must0 (s := s) (m := m) R p 3
  obtain ⟨⟨a1, a2, a3, a4⟩, -⟩ := R
  refine ⟨h1, a, b1, b2, b3, fun Q => ?_⟩
  simp (disch := omega) only [↓rX12_begin_0, ↓rX12_begin_1, ↓rX12_begin_2, ↓rX12_begin_3, ↓rX12_begin_6, ↓rX12_begin_7, ↓rX12_begin_10, ↓rX12_begin_11, ↓rX12_begin_12, ↓rX12_begin_15, ↓rX12_begin_16, ↓rX12_begin_19, ↓rX12_begin_t, lG_32, lG_34, lG_36, lG_46, lG_48, lG_56, lG_58, lG_39, lG_41, lG_43, lG_45, lG_53, lG_55, lG_51, lG_60, lG_63, lI_1, lI_2, lI_4, lI_6, lI_7, lI_3, lP_32, lP_34, lP_36, lP_46, lP_48, lP_56, lP_58, lP_51, lP_60, lP_63, lW_1, lW_2, lW_4, lW_6, lW_7, lW_3, lo_K, lo_L, lo_R, lo_N, lo_C, lo_S, lo_F, lo_I, ↓rmI_in, ↓shrI_in, ↓shlI_in, ↓okI_in, ↓bI_01, bI_z, bI_o, nn_neg, Int.cast_ofNat_Int, zlit, n_leT, n_leF, n_ltT, n_ltF, n_eqT, n_eqF, z_leT, z_leF, z_ltT, z_ltF, z_eqT, z_eqF, nn_add, nn_mul, nn_clamp, nn_lt, nn_le, nn_eq, nn_div, rmI_nn, okI_nn, nn_and, nn_or, nn_xor, shlI_1, shrI_nn, Cont_v, Cont_0, List.mem_cons, List.not_mem_nil, or_false, or_true, true_or, true_and, and_true, ite_not, if_true, if_false, not_true_eq_false, not_false_eq_true, false_or, false_and, and_false, eq_self, ↓reduceIte, reduceCtorEq, rd_K, rd_F, a1, h, ↓b4]
theorem c12_figureT (R : RB g0 g c r t n f) (Q : Po) {p lo hi : Nat} (hp : p ≤ n) (hh : hi < 1000) (h : tkC t n p = 2) (h1 : lo ≤ tkV t n p ∧ tkV t n p ≤ hi) : Ex mX12_figure Q 0 [.ref r, .int (nI lo), .int (nI hi), .retAddr 0] [] (LB (RDo g r (nI (tkN t n p)) (nI (tkC t n p)) (nI p) (tkW t n p)) (r + 1) s m (r + 6) (zI (-1000000)) .null) = Q (.inl (some (.int (nI (tkV t n p))))) (LB (RDo g r (nI (tkN t n (tkN t n p))) (nI (tkC t n (tkN t n p))) (nI (tkN t n p)) (tkW t n (tkN t n p))) (r + 1) s m (r + 6) (zI (-1000000)) .null) := by
  have nx := fun Q x6 x8 x0 => c12_next (s := s) (m := m) R Q (p := tkN t n p) (x6 := x6) (x8 := x8) (x0 := x0) (tkN_le hp)
  obtain ⟨e1, e2⟩ := tk_W2 h hp
  obtain ⟨⟨a1, a2, a3, a4⟩, -⟩ := R
  simp (disch := omega) only [↓rX12_figure_0, ↓rX12_figure_1, ↓rX12_figure_2, ↓rX12_figure_5, ↓rX12_figure_6, ↓rX12_figure_9, ↓rX12_figure_10, ↓rX12_figure_13, ↓rX12_figure_14, ↓rX12_figure_15, ↓rX12_figure_18, ↓rX12_figure_19, ↓rX12_figure_20, ↓rX12_figure_23, ↓rX12_figure_24, ↓rX12_figure_25, ↓rX12_figure_26, ↓rX12_figure_27, ↓rX12_figure_28, ↓rX12_figure_31, ↓rX12_figure_32, ↓rX12_figure_35, ↓rX12_figure_36, ↓rX12_figure_39, ↓rX12_figure_40, ↓rX12_figure_41, ↓rX12_figure_44, ↓rX12_figure_45, ↓rX12_figure_t, lG_32, lG_34, lG_36, lG_46, lG_48, lG_56, lG_58, lG_39, lG_41, lG_43, lG_45, lG_53, lG_55, lG_51, lG_60, lG_63, lI_1, lI_2, lI_4, lI_6, lI_7, lI_3, lP_32, lP_34, lP_36, lP_46, lP_48, lP_56, lP_58, lP_51, lP_60, lP_63, lW_1, lW_2, lW_4, lW_6, lW_7, lW_3, lo_K, lo_L, lo_R, lo_N, lo_C, lo_S, lo_F, lo_I, ↓rmI_in, ↓shrI_in, ↓shlI_in, ↓okI_in, ↓bI_01, bI_z, bI_o, nn_neg, Int.cast_ofNat_Int, zlit, n_leT, n_leF, n_ltT, n_ltF, n_eqT, n_eqF, z_leT, z_leF, z_ltT, z_ltF, z_eqT, z_eqF, nn_add, nn_mul, nn_clamp, nn_lt, nn_le, nn_eq, nn_div, rmI_nn, okI_nn, nn_and, nn_or, nn_xor, shlI_1, shrI_nn, Cont_v, Cont_0, List.mem_cons, List.not_mem_nil, or_false, or_true, true_or, true_and, and_true, ite_not, if_true, if_false, not_true_eq_false, not_false_eq_true, false_or, false_and, and_false, eq_self, ↓reduceIte, reduceCtorEq, l_toInt, sub_toInt, l64_0, l64_1, l64_2, l64_3, l64_5, l64_7, l64_9, l64_10, l64_12, l64_24, l64_48, l64_57, l64_60, l64_97, l64_122, l64_255, l64_999, l64_999999, l64_m, ↓c0_isIn, rd_K, rd_F, a1, h, e1, nn_toInt, bI_T, ↓c12_must1, ↓nx]
theorem c12_figureF (R : RB g0 g c r t n f) {p lo hi : Nat} (hp : p ≤ n) (hh : hi < 1000 ∧ lo < 1000) (h : ¬ (tkC t n p = 2 ∧ lo ≤ tkV t n p ∧ tkV t n p ≤ hi)) : FltO g0 r (if tkC t n p = 2 then 2 else 1) p (fun Q => Ex mX12_figure Q 0 [.ref r, .int (nI lo), .int (nI hi), .retAddr 0] [] (LB (RDo g r (nI (tkN t n p)) (nI (tkC t n p)) (nI p) (tkW t n p)) (r + 1) s m (r + 6) (zI (-1000000)) .null)) := by
  have hcl := tkC_lt (t := t) (n := n) (p := p)
  by_cases h2 : tkC t n p = 2
  · rw [if_pos h2]
    obtain ⟨e1, e2⟩ := tk_W2 h2 hp
    have h3 : (((lo : Nat) : Int) ≤ ((tkV t n p : Nat) : Int) ∧ ((tkV t n p : Nat) : Int) ≤ ((hi : Nat) : Int)) = False := eq_false (by omega)
    obtain ⟨h1, a, b1, b2, b3, b4⟩ := c12_must0 (s := s) (m := m) R p 2
    obtain ⟨⟨a1, a2, a3, a4⟩, -⟩ := R
    refine ⟨h1, a, b1, b2, b3, fun Q => ?_⟩
    rw [h2, e1] at b4
    simp (disch := omega) only [↓rX12_figure_0, ↓rX12_figure_1, ↓rX12_figure_2, ↓rX12_figure_5, ↓rX12_figure_6, ↓rX12_figure_9, ↓rX12_figure_10, ↓rX12_figure_13, ↓rX12_figure_14, ↓rX12_figure_15, ↓rX12_figure_18, ↓rX12_figure_19, ↓rX12_figure_20, ↓rX12_figure_23, ↓rX12_figure_24, ↓rX12_figure_25, ↓rX12_figure_26, ↓rX12_figure_27, ↓rX12_figure_28, ↓rX12_figure_31, ↓rX12_figure_32, ↓rX12_figure_35, ↓rX12_figure_36, ↓rX12_figure_39, ↓rX12_figure_40, ↓rX12_figure_41, ↓rX12_figure_44, ↓rX12_figure_45, ↓rX12_figure_t, lG_32, lG_34, lG_36, lG_46, lG_48, lG_56, lG_58, lG_39, lG_41, lG_43, lG_45, lG_53, lG_55, lG_51, lG_60, lG_63, lI_1, lI_2, lI_4, lI_6, lI_7, lI_3, lP_32, lP_34, lP_36, lP_46, lP_48, lP_56, lP_58, lP_51, lP_60, lP_63, lW_1, lW_2, lW_4, lW_6, lW_7, lW_3, lo_K, lo_L, lo_R, lo_N, lo_C, lo_S, lo_F, lo_I, ↓rmI_in, ↓shrI_in, ↓shlI_in, ↓okI_in, ↓bI_01, bI_z, bI_o, nn_neg, Int.cast_ofNat_Int, zlit, n_leT, n_leF, n_ltT, n_ltF, n_eqT, n_eqF, z_leT, z_leF, z_ltT, z_ltF, z_eqT, z_eqF, nn_add, nn_mul, nn_clamp, nn_lt, nn_le, nn_eq, nn_div, rmI_nn, okI_nn, nn_and, nn_or, nn_xor, shlI_1, shrI_nn, Cont_v, Cont_0, List.mem_cons, List.not_mem_nil, or_false, or_true, true_or, true_and, and_true, ite_not, if_true, if_false, not_true_eq_false, not_false_eq_true, false_or, false_and, and_false, eq_self, ↓reduceIte, reduceCtorEq, l_toInt, sub_toInt, l64_0, l64_1, l64_2, l64_3, l64_5, l64_7, l64_9, l64_10, l64_12, l64_24, l64_48, l64_57, l64_60, l64_97, l64_122, l64_255, l64_999, l64_999999, l64_m, ↓c0_isIn, rd_K, rd_F, a1, h2, e1, nn_toInt, h3, bI_F, ↓c12_must1, ↓b4]
  · rw [if_neg h2]
    obtain ⟨h1, a, b1, b2, b3, b4⟩ := c12_must0 (s := s) (m := m) R p 1
    obtain ⟨⟨a1, a2, a3, a4⟩, -⟩ := R
    refine ⟨h1, a, b1, b2, b3, fun Q => ?_⟩
    simp (disch := omega) only [↓rX12_figure_0, ↓rX12_figure_1, ↓rX12_figure_2, ↓rX12_figure_5, ↓rX12_figure_6, ↓rX12_figure_9, ↓rX12_figure_10, ↓rX12_figure_13, ↓rX12_figure_14, ↓rX12_figure_15, ↓rX12_figure_18, ↓rX12_figure_19, ↓rX12_figure_20, ↓rX12_figure_23, ↓rX12_figure_24, ↓rX12_figure_25, ↓rX12_figure_26, ↓rX12_figure_27, ↓rX12_figure_28, ↓rX12_figure_31, ↓rX12_figure_32, ↓rX12_figure_35, ↓rX12_figure_36, ↓rX12_figure_39, ↓rX12_figure_40, ↓rX12_figure_41, ↓rX12_figure_44, ↓rX12_figure_45, ↓rX12_figure_t, lG_32, lG_34, lG_36, lG_46, lG_48, lG_56, lG_58, lG_39, lG_41, lG_43, lG_45, lG_53, lG_55, lG_51, lG_60, lG_63, lI_1, lI_2, lI_4, lI_6, lI_7, lI_3, lP_32, lP_34, lP_36, lP_46, lP_48, lP_56, lP_58, lP_51, lP_60, lP_63, lW_1, lW_2, lW_4, lW_6, lW_7, lW_3, lo_K, lo_L, lo_R, lo_N, lo_C, lo_S, lo_F, lo_I, ↓rmI_in, ↓shrI_in, ↓shlI_in, ↓okI_in, ↓bI_01, bI_z, bI_o, nn_neg, Int.cast_ofNat_Int, zlit, n_leT, n_leF, n_ltT, n_ltF, n_eqT, n_eqF, z_leT, z_leF, z_ltT, z_ltF, z_eqT, z_eqF, nn_add, nn_mul, nn_clamp, nn_lt, nn_le, nn_eq, nn_div, rmI_nn, okI_nn, nn_and, nn_or, nn_xor, shlI_1, shrI_nn, Cont_v, Cont_0, List.mem_cons, List.not_mem_nil, or_false, or_true, true_or, true_and, and_true, ite_not, if_true, if_false, not_true_eq_false, not_false_eq_true, false_or, false_and, and_false, eq_self, ↓reduceIte, reduceCtorEq, rd_K, rd_F, a1, h2, ↓b4]
theorem c12_moreT (R : RB g0 g c r t n f) (Q : Po) {p lo hi : Nat} (hp : p ≤ n) (hh : hi < 1000) (h3 : tkC t n p = 3) (h : tkC t n (tkN t n p) = 2) (h1 : lo ≤ tkV t n (tkN t n p) ∧ tkV t n (tkN t n p) ≤ hi) : Ex mX12_more Q 0 [.ref r, .int (nI lo), .int (nI hi)] [] (LB (RDo g r (nI (tkN t n p)) (nI (tkC t n p)) (nI p) (tkW t n p)) (r + 1) s m (r + 6) (zI (-1000000)) .null) = Q (.inl (some (.int (nI (tkV t n (tkN t n p)))))) (LB (RDo g r (nI (tkN t n (tkN t n (tkN t n p)))) (nI (tkC t n (tkN t n (tkN t n p)))) (nI (tkN t n (tkN t n p))) (tkW t n (tkN t n (tkN t n p)))) (r + 1) s m (r + 6) (zI (-1000000)) .null) := by
  have e1 := fun Q => c12_signT (s := s) (m := m) R Q hp h3
  have e2 := fun Q => c12_figureT (s := s) (m := m) R Q (tkN_le hp) hh h h1
  obtain ⟨⟨a1, a2, a3, a4⟩, -⟩ := R
  simp (disch := omega) only [↓rX12_more_0, ↓rX12_more_1, ↓rX12_more_2, ↓rX12_more_5, ↓rX12_more_6, ↓rX12_more_7, ↓rX12_more_8, ↓rX12_more_11, ↓rX12_more_t, lG_32, lG_34, lG_36, lG_46, lG_48, lG_56, lG_58, lG_39, lG_41, lG_43, lG_45, lG_53, lG_55, lG_51, lG_60, lG_63, lI_1, lI_2, lI_4, lI_6, lI_7, lI_3, lP_32, lP_34, lP_36, lP_46, lP_48, lP_56, lP_58, lP_51, lP_60, lP_63, lW_1, lW_2, lW_4, lW_6, lW_7, lW_3, lo_K, lo_L, lo_R, lo_N, lo_C, lo_S, lo_F, lo_I, ↓rmI_in, ↓shrI_in, ↓shlI_in, ↓okI_in, ↓bI_01, bI_z, bI_o, nn_neg, Int.cast_ofNat_Int, zlit, n_leT, n_leF, n_ltT, n_ltF, n_eqT, n_eqF, z_leT, z_leF, z_ltT, z_ltF, z_eqT, z_eqF, nn_add, nn_mul, nn_clamp, nn_lt, nn_le, nn_eq, nn_div, rmI_nn, okI_nn, nn_and, nn_or, nn_xor, shlI_1, shrI_nn, Cont_v, Cont_0, List.mem_cons, List.not_mem_nil, or_false, or_true, true_or, true_and, and_true, ite_not, if_true, if_false, not_true_eq_false, not_false_eq_true, false_or, false_and, and_false, eq_self, ↓reduceIte, reduceCtorEq, rd_K, a1, ↓e1, ↓e2]
theorem c12_moreF (R : RB g0 g c r t n f) {p lo hi : Nat} (hp : p ≤ n) (hh : hi < 1000 ∧ lo < 1000) (h : ¬ (tkC t n p = 3 ∧ tkC t n (tkN t n p) = 2 ∧ lo ≤ tkV t n (tkN t n p) ∧ tkV t n (tkN t n p) ≤ hi)) : FltO g0 r (if tkC t n p = 3 then (if tkC t n (tkN t n p) = 2 then 2 else 1) else 1) (if tkC t n p = 3 then tkN t n p else p) (fun Q => Ex mX12_more Q 0 [.ref r, .int (nI lo), .int (nI hi)] [] (LB (RDo g r (nI (tkN t n p)) (nI (tkC t n p)) (nI p) (tkW t n p)) (r + 1) s m (r + 6) (zI (-1000000)) .null)) := by
  by_cases h3 : tkC t n p = 3
  · rw [if_pos h3, if_pos h3]
    have e1 := fun Q => c12_signT (s := s) (m := m) R Q hp h3
    obtain ⟨h1, a, b1, b2, b3, b4⟩ := c12_figureF (s := s) (m := m) R (tkN_le hp) hh (fun q => h ⟨h3, q⟩)
    obtain ⟨⟨a1, a2, a3, a4⟩, -⟩ := R
    refine ⟨h1, a, b1, b2, b3, fun Q => ?_⟩
    simp (disch := omega) only [↓rX12_more_0, ↓rX12_more_1, ↓rX12_more_2, ↓rX12_more_5, ↓rX12_more_6, ↓rX12_more_7, ↓rX12_more_8, ↓rX12_more_11, ↓rX12_more_t, lG_32, lG_34, lG_36, lG_46, lG_48, lG_56, lG_58, lG_39, lG_41, lG_43, lG_45, lG_53, lG_55, lG_51, lG_60, lG_63, lI_1, lI_2, lI_4, lI_6, lI_7, lI_3, lP_32, lP_34, lP_36, lP_46, lP_48, lP_56, lP_58, lP_51, lP_60, lP_63, lW_1, lW_2, lW_4, lW_6, lW_7, lW_3, lo_K, lo_L, lo_R, lo_N, lo_C, lo_S, lo_F, lo_I, ↓rmI_in, ↓shrI_in, ↓shlI_in, ↓okI_in, ↓bI_01, bI_z, bI_o, nn_neg, Int.cast_ofNat_Int, zlit, n_leT, n_leF, n_ltT, n_ltF, n_eqT, n_eqF, z_leT, z_leF, z_ltT, z_ltF, z_eqT, z_eqF, nn_add, nn_mul, nn_clamp, nn_lt, nn_le, nn_eq, nn_div, rmI_nn, okI_nn, nn_and, nn_or, nn_xor, shlI_1, shrI_nn, Cont_v, Cont_0, List.mem_cons, List.not_mem_nil, or_false, or_true, true_or, true_and, and_true, ite_not, if_true, if_false, not_true_eq_false, not_false_eq_true, false_or, false_and, and_false, eq_self, ↓reduceIte, reduceCtorEq, rd_K, a1, ↓e1, ↓b4]
  · rw [if_neg h3, if_neg h3]
    obtain ⟨h1, a, b1, b2, b3, b4⟩ := c12_signF (s := s) (m := m) R (w := 3) (by omega) h3
    obtain ⟨⟨a1, a2, a3, a4⟩, -⟩ := R
    refine ⟨h1, a, b1, b2, b3, fun Q => ?_⟩
    simp (disch := omega) only [↓rX12_more_0, ↓rX12_more_1, ↓rX12_more_2, ↓rX12_more_5, ↓rX12_more_6, ↓rX12_more_7, ↓rX12_more_8, ↓rX12_more_11, ↓rX12_more_t, lG_32, lG_34, lG_36, lG_46, lG_48, lG_56, lG_58, lG_39, lG_41, lG_43, lG_45, lG_53, lG_55, lG_51, lG_60, lG_63, lI_1, lI_2, lI_4, lI_6, lI_7, lI_3, lP_32, lP_34, lP_36, lP_46, lP_48, lP_56, lP_58, lP_51, lP_60, lP_63, lW_1, lW_2, lW_4, lW_6, lW_7, lW_3, lo_K, lo_L, lo_R, lo_N, lo_C, lo_S, lo_F, lo_I, ↓rmI_in, ↓shrI_in, ↓shlI_in, ↓okI_in, ↓bI_01, bI_z, bI_o, nn_neg, Int.cast_ofNat_Int, zlit, n_leT, n_leF, n_ltT, n_ltF, n_eqT, n_eqF, z_leT, z_leF, z_ltT, z_ltF, z_eqT, z_eqF, nn_add, nn_mul, nn_clamp, nn_lt, nn_le, nn_eq, nn_div, rmI_nn, okI_nn, nn_and, nn_or, nn_xor, shlI_1, shrI_nn, Cont_v, Cont_0, List.mem_cons, List.not_mem_nil, or_false, or_true, true_or, true_and, and_true, ite_not, if_true, if_false, not_true_eq_false, not_false_eq_true, false_or, false_and, and_false, eq_self, ↓reduceIte, reduceCtorEq, rd_K, a1, ↓b4]
end RD2
