/-! WHAT THE MACHINE ITSELF THROWS, in the class: copy -/
theorem hTab_hit {lo hi hp pc a : Nat} {ks : List Nat} {t : List (Nat × Nat × Nat × List Nat)} {h : Hp} (h1 : lo ≤ pc) (h2 : pc < hi) (hk : gK h a ∈ ks) : hTab ((lo, hi, hp, ks) :: t) pc a h = some hp := by
  show (if lo ≤ pc ∧ pc < hi then (if gK h a ∈ ks then some hp else some 65536) else _) = some hp
  rw [if_pos ⟨h1, h2⟩, if_pos hk]
theorem hTab_skip {lo hi hp pc a : Nat} {ks : List Nat} {t : List (Nat × Nat × Nat × List Nat)} {h : Hp} (h1 : ¬ (lo ≤ pc ∧ pc < hi)) : hTab ((lo, hi, hp, ks) :: t) pc a h = hTab t pc a h := if_neg h1
theorem k1m {h : Hp} {a k : Nat} (hk : gK h a = k) : gK h a ∈ ([k] : List Nat) := by rw [hk]; exact List.mem_singleton.mpr rfl
theorem c10_new (h : Hp) (k : Int32) (hs : StR h) : ∃ h', Xt h h' 1 7 ∧ gK h' (gN h) = 10 ∧ gF h' 134 (gN h) = .int k ∧ ∀ Q : Po, Ex mX10_init Q 0 [.ref (gN h), .int k] [] (nO h 10 7) = Q (.inl none) h' := by
  obtain ⟨-, ⟨u1, e1⟩, ⟨u2, e2⟩, hN⟩ := hs
  have ne0 : ¬ (0 : Nat) = gN h := by omega
  refine ⟨pF (pF (pF (pF (pF (pF (pF (pF (nO h 10 7) 123 (gN h) (.ref (gN h))) 125 (gN h) (va_rf u1)) 127 (gN h) (va_rf u2)) 125 (gN h) .null) 129 (gN h) .null) 123 (gN h) .null) 127 (gN h) .null) 134 (gN h) (.int k), ?_, ?_, ?_, fun Q => ?_⟩
  · refine ⟨rfl, rfl, rfl, fun x hx => ?_⟩
    have hne : ¬ x = gN h := by omega
    refine ⟨?_, rfl, fun f => ?_, fun i => rfl, fun i => rfl⟩
    · simp only [gK_pF, gK_nO, if_neg hne]
    · simp only [gF_pF, gF_nO, hne, and_false, if_false]
  · simp only [gK_pF, gK_nO, if_true]
  · simp only [gF_pF, and_self, if_true]
  · simp (disch := omega) only [↓rX10_init_0, ↓rX10_init_1, ↓rX10_init_2, ↓rX10_init_3, ↓rX10_init_4, ↓rX10_init_5, ↓rX10_init_8, ↓rX10_init_9, ↓rX10_init_10, ↓rX10_init_13, ↓rX10_init_t, ↓rJ4_init_0, ↓rJ4_init_0n, ↓rJ4_init_1, ↓rJ4_init_1n, ↓rJ4_init_2, ↓rJ4_init_2n, ↓rJ4_init_3, ↓rJ4_init_4, ↓rJ4_init_6, ↓rJ4_init_9, ↓rJ4_init_t, ↓rJ4_init_6n, ↓rJ3_init_2_0, ↓rJ3_init_2_0n, ↓rJ3_init_2_1, ↓rJ3_init_2_4, ↓rJ3_init_2_4n, ↓rJ3_init_2_5, ↓rJ3_init_2_5n, ↓rJ3_init_2_6, ↓rJ3_init_2_6n, ↓rJ3_init_2_9, ↓rJ3_init_2_9n, ↓rJ3_init_2_10, ↓rJ3_init_2_13, ↓rJ3_init_2_13n, ↓rJ3_init_2_16, ↓rJ3_init_2_16n, ↓rJ3_init_2_17, ↓rJ3_init_2_20, ↓rJ3_init_2_20n, ↓rJ3_init_2_23, ↓rJ3_init_2_25, ↓rJ3_init_2_28, ↓rJ3_init_2_28n, ↓rJ3_init_2_32, ↓rJ3_init_2_33, ↓rJ3_init_2_36, ↓rJ3_init_2_36n, ↓rJ3_init_2_37, ↓rJ3_init_2_38, ↓rJ3_init_2_38n, ↓rJ3_init_2_41, ↓rJ3_init_2_41n, ↓rJ3_init_2_42, ↓rJ3_init_2_42n, ↓rJ3_init_2_43, ↓rJ3_init_2_43n, ↓rJ3_init_2_46, ↓rJ3_init_2_46n, ↓rJ3_init_2_47, ↓rJ3_init_2_47n, ↓rJ3_init_2_48, ↓rJ3_init_2_48n, ↓rJ3_init_2_51, ↓rJ3_init_2_52, ↓rJ3_init_2_55, ↓rJ3_init_2_55n, ↓rJ3_init_2_56, ↓rJ3_init_2_57, ↓rJ3_init_2_57n, ↓rJ3_init_2_60, ↓rJ3_init_2_t, ↓rJ3_13v, ↓rJ3_20v, ↓rmI_in, ↓shrI_in, ↓shlI_in, ↓okI_in, ↓bI_01, bI_z, bI_o, nn_neg, Int.cast_ofNat_Int, zlit, n_leT, n_leF, n_ltT, n_ltF, n_eqT, n_eqF, z_leT, z_leF, z_ltT, z_ltF, z_eqT, z_eqF, nn_add, nn_mul, nn_clamp, nn_lt, nn_le, nn_eq, nn_div, rmI_nn, okI_nn, nn_and, nn_or, nn_xor, shlI_1, shrI_nn, Cont_v, Cont_0, List.mem_cons, List.not_mem_nil, or_false, or_true, true_or, true_and, and_true, ite_not, if_true, if_false, not_true_eq_false, not_false_eq_true, false_or, false_and, and_false, eq_self, ↓reduceIte, reduceCtorEq, gK_pF, gK_nO, gF_pF, gF_nO, e1, e2, ne0]
theorem nX_sm {h : Hp} {k x : Nat} (hx : x < gN h) : SmX h (nX h k) x := ((nO_sm (by omega)).trans (nO_sm (by rw [gN_nO]; omega))).trans (nO_sm (by rw [gN_nO, gN_nO]; omega))
theorem rfV_rf (u : Option Nat) : rfV (va_rf u) = true := by cases u <;> rfl
theorem StR.x {h : Hp} (hs : StR h) (hC : 3 ≤ gC h) (hS : 1010 ≤ gS h) : xOk h [] := by
  obtain ⟨-, ⟨u1, e1⟩, ⟨u2, e2⟩, hN⟩ := hs
  exact ⟨by rw [e1]; exact rfV_rf u1, by rw [e2]; exact rfV_rf u2, hC, hS, by decide⟩
theorem CInv.vmx {h : Hp} {c : Nat} {X : XS} (H : CInv h c X) (hX : XOK X) (hC : 4 ≤ gC h) (hS : 1017 ≤ gS h) (kk k : Nat) : ∃ h3, gK (nX h kk) (gN h + 2) = kk ∧ gK h3 (gN h + 3) = 10 ∧ gK h3 c = 1 ∧ CInv (pF h3 22 c (.int (nI k))) c (uu X k) ∧ KpN h (pF h3 22 c (.int (nI k))) c 4 1017 ∧ (gN (nX h kk) = gN h + 3 ∧ 1 ≤ gC (nX h kk) ∧ 7 ≤ gS (nX h kk)) ∧ (∀ Q : Po, Ex mX10_init Q 0 [.ref (gN h + 3), .int (nI k)] [] (nO (nX h kk) 10 7) = Q (.inl none) h3) ∧ ∀ Q : Po, Ex mX0_found Q 0 [.ref c, .ref (gN h + 3)] [] h3 = Q (.inl (some (.int (zI (-1000010 - (k : Int)))))) (pF h3 22 c (.int (nI k))) := by
  have hs := H.2.1
  have hc := H.2.2.1
  have hK : gK (nX h kk) (gN h + 2) = kk := by rw [nX_K, if_pos rfl]
  have hN : gN (nX h kk) = gN h + 3 := rfl
  have hCc : gC (nX h kk) = gC h - 3 := by show gC h - 1 - 1 - 1 = _; omega
  have hSs : gS (nX h kk) = gS h - 1010 := by show gS h - 0 - 0 - 1010 = _; omega
  have sm0 : ∀ x, x < gN h → SmX h (nX h kk) x := fun x hx => nX_sm hx
  have hs2 : StR (nX h kk) := by
    obtain ⟨⟨u0, e0⟩, ⟨u1, e1⟩, ⟨u2, e2⟩, hN0⟩ := hs
    have s0 := sm0 0 hN0
    exact ⟨⟨u0, (s0.2.2.1 _).trans e0⟩, ⟨u1, (s0.2.2.1 _).trans e1⟩, ⟨u2, (s0.2.2.1 _).trans e2⟩, by omega⟩
  generalize nX h kk = g at hK hN hCc hSs sm0 hs2
  obtain ⟨h3, ⟨x1, x2, x3, x4⟩, k1, f1, hm⟩ := c10_new g (nI k) hs2
  rw [hN] at k1 f1 hm
  have sm : ∀ x, x < gN h → SmX h h3 x := fun x hx => (sm0 x hx).trans (x4 x (Or.inl (by omega)))
  have kc : gK h3 c = 1 := (sm c (by omega)).1.trans H.1.k0
  refine ⟨h3, hK, k1, kc, H.stat hX (by omega) sm, ⟨⟨?_, ?_, ?_⟩, fun j _ => (sm _ (by omega)).trans (pF_sm (by omega)), fun x _ => (sm x (by omega)).trans (pF_sm (by omega))⟩, ⟨hN, by omega, by omega⟩, hm, fun Q => c0_found Q kc k1 f1⟩
  · show gN h ≤ gN h3; omega
  · show gC h ≤ gC h3 + 4; omega
  · show gS h ≤ gS h3 + 1017; omega
theorem acOk_eq {h : Hp} {s d : Nat} {i j n : Int32} : acOk h s d i j n ↔ (0 ≤ n.toInt ∧ inR i 0 ((gL h s : Int) - n.toInt) ∧ inR j 0 ((gL h d : Int) - n.toInt)) := by
  have e : ∀ v : Int32, (¬ v < 0 ↔ 0 ≤ v.toInt) := fun v => by
    rw [Int32.lt_iff_toInt_lt]
    show ¬ v.toInt < 0 ↔ _
    omega
  unfold inR
  constructor
  · rintro ⟨h1, h2, h3, h4, h5⟩
    have e1 := nonneg32 i h1
    have e2 := nonneg32 j h2
    have e3 := nonneg32 n h3
    have := (e i).mp h1
    have := (e j).mp h2
    have := (e n).mp h3
    exact ⟨by omega, ⟨by omega, by omega⟩, ⟨by omega, by omega⟩⟩
  · rintro ⟨h3, ⟨h1, h4⟩, ⟨h2, h5⟩⟩
    have f1 := (e i).mpr h1
    have f2 := (e j).mpr h2
    have f3 := (e n).mpr h3
    have e1 := nonneg32 i f1
    have e2 := nonneg32 j f2
    have e3 := nonneg32 n f3
    exact ⟨f1, f2, f3, by omega, by omega⟩
section CPY
variable (c : Nat) (X : XS)
theorem k_copy (hX : XOK X) (x i y j n : Int32) : COpS mX0_copy [.int x, .int i, .int y, .int j, .int n, .retAddr 0, .retAddr 0, .retAddr 0] c X (.int (mu_copy X x i y j n).1) (mu_copy X x i y j n).2 := by
  intro h H _ hC hS
  have M := H.1
  have hc := H.2.2.1
  unfold mu_copy
  by_cases hx : inR x 0 7
  · by_cases hy : inR y 0 7
    · rw [if_pos ⟨hx, hy⟩]
      obtain ⟨k, rfl, q1, q2, q3⟩ := inR_nn hx (by omega)
      obtain ⟨d, rfl, d1, d2, d3⟩ := inR_nn hy (by omega)
      rw [nt_nn q3, nt_nn d3]
      have H' := H
      obtain ⟨-, -, -, -, -, -, -, ow, qq, mx, u, w, tr, -, -, ⟨r1, r2, r3⟩, -⟩ := H'
      cases hr : xr X k with
      | none =>
        obtain ⟨h1, k1, kc1, C1, C2, hm, hfd⟩ := H.find hX (by omega) (by omega) 1
        have hra := fun Q => c0_rowN M (show k < 8 by omega) (r1 k (by omega) hr) hm Q
        have hh : mX0_copy.2 19 (gN h) h1 = some 92 := (hTab_skip (by omega)).trans (hTab_hit (by omega) (by omega) (k1m k1))
        refine ⟨_, C1, C2.kp (by omega) (by omega), fun Q => ?_⟩
        simp (disch := omega) only [↓rX0_copy_0, ↓rX0_copy_1, ↓rX0_copy_4, ↓rX0_copy_7, ↓rX0_copy_8, ↓rX0_copy_11, ↓rX0_copy_14, ↓rX0_copy_16, ↓rX0_copy_17, ↓rX0_copy_18, ↓rX0_copy_19, ↓rX0_copy_22, ↓rX0_copy_24, ↓rX0_copy_25, ↓rX0_copy_26, ↓rX0_copy_29, ↓rX0_copy_31, ↓rX0_copy_33, ↓rX0_copy_36, ↓rX0_copy_38, ↓rX0_copy_41, ↓rX0_copy_44, ↓rX0_copy_45, ↓rX0_copy_48, ↓rX0_copy_49, ↓rX0_copy_50, ↓rX0_copy_53, ↓rX0_copy_55, ↓rX0_copy_58, ↓rX0_copy_59, ↓rX0_copy_61, ↓rX0_copy_64, ↓rX0_copy_66, ↓rX0_copy_92, ↓rX0_copy_94, ↓rX0_copy_95, ↓rX0_copy_97, ↓rX0_copy_100, ↓rmI_in, ↓shrI_in, ↓shlI_in, ↓okI_in, ↓bI_01, bI_z, bI_o, nn_neg, Int.cast_ofNat_Int, zlit, n_leT, n_leF, n_ltT, n_ltF, n_eqT, n_eqF, z_leT, z_leF, z_ltT, z_ltF, z_eqT, z_eqF, nn_add, nn_mul, nn_clamp, nn_lt, nn_le, nn_eq, nn_div, rmI_nn, okI_nn, nn_and, nn_or, nn_xor, shlI_1, shrI_nn, Cont_v, Cont_0, List.mem_cons, List.not_mem_nil, or_false, or_true, true_or, true_and, and_true, ite_not, if_true, if_false, not_true_eq_false, not_false_eq_true, false_or, false_and, and_false, eq_self, ↓reduceIte, reduceCtorEq, l_toInt, sub_toInt, l64_0, l64_1, l64_2, l64_3, l64_5, l64_7, l64_9, l64_10, l64_12, l64_24, l64_48, l64_57, l64_60, l64_97, l64_122, l64_255, l64_999, l64_999999, l64_m, ↓c0_isRow, nn_toInt, CM.k0 M, CM.k1 M, CM.l1 M, CM.k2 M, CM.l2 M, CM.k19 M, CM.l19 M, CM.k20 M, CM.l20 M, CM.k23 M, CM.l23 M, CM.k24 M, CM.l24 M, CM.k25 M, CM.l25 M, CM.f3 M, CM.f5 M, CM.f11 M, CM.f13 M, CM.f15 M, CM.f19 M, CM.f25 M, CM.f27 M, CM.f31 M, ↓hra, Cont_h hh, kc1, ↓hfd]
        rfl
      | some v =>
        obtain ⟨e1, ⟨a2, a3⟩, ⟨e4, e5, e6⟩, ⟨e7, e8, e9⟩, -⟩ := r2 k (by omega) v hr
        have hv := hX.2.2.2.1 k (by omega) v hr
        have hra := fun Q => c0_rowS Q M (show k < 8 by omega) e1
        cases hr2 : xr X d with
        | none =>
          obtain ⟨h1, k1, kc1, C1, C2, hm, hfd⟩ := H.find hX (by omega) (by omega) 1
          have hrb := fun Q => c0_rowN M (show d < 8 by omega) (r1 d (by omega) hr2) hm Q
          have hh : mX0_copy.2 26 (gN h) h1 = some 92 := (hTab_skip (by omega)).trans (hTab_hit (by omega) (by omega) (k1m k1))
          refine ⟨_, C1, C2.kp (by omega) (by omega), fun Q => ?_⟩
          simp (disch := omega) only [↓rX0_copy_0, ↓rX0_copy_1, ↓rX0_copy_4, ↓rX0_copy_7, ↓rX0_copy_8, ↓rX0_copy_11, ↓rX0_copy_14, ↓rX0_copy_16, ↓rX0_copy_17, ↓rX0_copy_18, ↓rX0_copy_19, ↓rX0_copy_22, ↓rX0_copy_24, ↓rX0_copy_25, ↓rX0_copy_26, ↓rX0_copy_29, ↓rX0_copy_31, ↓rX0_copy_33, ↓rX0_copy_36, ↓rX0_copy_38, ↓rX0_copy_41, ↓rX0_copy_44, ↓rX0_copy_45, ↓rX0_copy_48, ↓rX0_copy_49, ↓rX0_copy_50, ↓rX0_copy_53, ↓rX0_copy_55, ↓rX0_copy_58, ↓rX0_copy_59, ↓rX0_copy_61, ↓rX0_copy_64, ↓rX0_copy_66, ↓rX0_copy_92, ↓rX0_copy_94, ↓rX0_copy_95, ↓rX0_copy_97, ↓rX0_copy_100, ↓rmI_in, ↓shrI_in, ↓shlI_in, ↓okI_in, ↓bI_01, bI_z, bI_o, nn_neg, Int.cast_ofNat_Int, zlit, n_leT, n_leF, n_ltT, n_ltF, n_eqT, n_eqF, z_leT, z_leF, z_ltT, z_ltF, z_eqT, z_eqF, nn_add, nn_mul, nn_clamp, nn_lt, nn_le, nn_eq, nn_div, rmI_nn, okI_nn, nn_and, nn_or, nn_xor, shlI_1, shrI_nn, Cont_v, Cont_0, List.mem_cons, List.not_mem_nil, or_false, or_true, true_or, true_and, and_true, ite_not, if_true, if_false, not_true_eq_false, not_false_eq_true, false_or, false_and, and_false, eq_self, ↓reduceIte, reduceCtorEq, l_toInt, sub_toInt, l64_0, l64_1, l64_2, l64_3, l64_5, l64_7, l64_9, l64_10, l64_12, l64_24, l64_48, l64_57, l64_60, l64_97, l64_122, l64_255, l64_999, l64_999999, l64_m, ↓c0_isRow, nn_toInt, CM.k0 M, CM.k1 M, CM.l1 M, CM.k2 M, CM.l2 M, CM.k19 M, CM.l19 M, CM.k20 M, CM.l20 M, CM.k23 M, CM.l23 M, CM.k24 M, CM.l24 M, CM.k25 M, CM.l25 M, CM.f3 M, CM.f5 M, CM.f11 M, CM.f13 M, CM.f15 M, CM.f19 M, CM.f25 M, CM.f27 M, CM.f31 M, ↓hra, ↓hrb, Cont_h hh, kc1, ↓hfd]
          rfl
        | some v2 =>
          obtain ⟨f1, ⟨b2, b3⟩, ⟨f4, f5, f6⟩, ⟨f7, f8, f9⟩, -⟩ := r2 d (by omega) v2 hr2
          have hv2 := hX.2.2.2.1 d (by omega) v2 hr2
          have hrb := fun Q => c0_rowS Q M (show d < 8 by omega) f1
          have hpq : ∀ {α : Type} (A B : α), (match (some v : Option (Nat × Nat × (Nat → Int32))), (some v2 : Option (Nat × Nat × (Nat → Int32))) with | some _, some _ => A | _, _ => B) = A := fun _ _ => rfl
          show ∃ h', CInv h' c (if v.1 = v2.1 then _ else _ : Int32 × XS).2 ∧ _
          by_cases he : v.1 = v2.1
          · simp only [if_pos he]
            have st : ∀ Q : Po, Ex mX0_copy Q 0 [.ref c, .int (nI k), .int i, .int (nI d), .int j, .int n, .retAddr 0, .retAddr 0, .retAddr 0] [] h = Ex mX0_copy Q 68 [.ref c, .int (nI k), .int i, .int (nI d), .int j, .int n, .ref (w k), .ref (w d), .retAddr 0] [.int n, .int j, .ref (w d + 1), .int i, .ref (w k + 1)] h := by
              intro Q
              simp (disch := omega) only [↓rX0_copy_0, ↓rX0_copy_1, ↓rX0_copy_4, ↓rX0_copy_7, ↓rX0_copy_8, ↓rX0_copy_11, ↓rX0_copy_14, ↓rX0_copy_16, ↓rX0_copy_17, ↓rX0_copy_18, ↓rX0_copy_19, ↓rX0_copy_22, ↓rX0_copy_24, ↓rX0_copy_25, ↓rX0_copy_26, ↓rX0_copy_29, ↓rX0_copy_31, ↓rX0_copy_33, ↓rX0_copy_36, ↓rX0_copy_38, ↓rX0_copy_41, ↓rX0_copy_44, ↓rX0_copy_45, ↓rX0_copy_48, ↓rX0_copy_49, ↓rX0_copy_50, ↓rX0_copy_53, ↓rX0_copy_55, ↓rX0_copy_58, ↓rX0_copy_59, ↓rX0_copy_61, ↓rX0_copy_64, ↓rX0_copy_66, ↓rmI_in, ↓shrI_in, ↓shlI_in, ↓okI_in, ↓bI_01, bI_z, bI_o, nn_neg, Int.cast_ofNat_Int, zlit, n_leT, n_leF, n_ltT, n_ltF, n_eqT, n_eqF, z_leT, z_leF, z_ltT, z_ltF, z_eqT, z_eqF, nn_add, nn_mul, nn_clamp, nn_lt, nn_le, nn_eq, nn_div, rmI_nn, okI_nn, nn_and, nn_or, nn_xor, shlI_1, shrI_nn, Cont_v, Cont_0, List.mem_cons, List.not_mem_nil, or_false, or_true, true_or, true_and, and_true, ite_not, if_true, if_false, not_true_eq_false, not_false_eq_true, false_or, false_and, and_false, eq_self, ↓reduceIte, reduceCtorEq, l_toInt, sub_toInt, l64_0, l64_1, l64_2, l64_3, l64_5, l64_7, l64_9, l64_10, l64_12, l64_24, l64_48, l64_57, l64_60, l64_97, l64_122, l64_255, l64_999, l64_999999, l64_m, ↓c0_isRow, nn_toInt, CM.k0 M, CM.k1 M, CM.l1 M, CM.k2 M, CM.l2 M, CM.k19 M, CM.l19 M, CM.k20 M, CM.l20 M, CM.k23 M, CM.l23 M, CM.k24 M, CM.l24 M, CM.k25 M, CM.l25 M, CM.f3 M, CM.f5 M, CM.f11 M, CM.f13 M, CM.f15 M, CM.f19 M, CM.f25 M, CM.f27 M, CM.f31 M, ↓hra, ↓hrb, e4, e5, e6, f4, f5, f6, he, ↓c0_must1]
            have hac : acOk h (w k + 1) (w d + 1) i j n ↔ (0 ≤ n.toInt ∧ inR i 0 ((v.2.1 : Int) - n.toInt) ∧ inR j 0 ((v2.2.1 : Int) - n.toInt)) := by
              rw [acOk_eq, e8, f8]
            by_cases hg : 0 ≤ n.toInt ∧ inR i 0 ((v.2.1 : Int) - n.toInt) ∧ inR j 0 ((v2.2.1 : Int) - n.toInt)
            · simp only [if_pos hg]
              have hok := hac.mpr hg
              obtain ⟨m, rfl, m1, m2, m3⟩ := inR_nn (x := n) (lo := 0) (hi := 40) ⟨hg.1, by have := hg.2.1.1; have := hg.2.1.2; omega⟩ (by omega)
              have hg2 := hg.2
              rw [nn_toInt m3] at hg2
              obtain ⟨i', rfl, i1, i2, i3⟩ := inR_nn hg2.1 (by omega)
              obtain ⟨j', rfl, j1, j2, j3⟩ := inR_nn hg2.2 (by omega)
              rw [nt_nn m3, nt_nn i3, nt_nn j3]
              have ci := nn_clamp i3
              have cj := nn_clamp j3
              have cm := nn_clamp m3
              have sm : ∀ x, x ≠ c → x ≠ w d + 1 → SmX h (pF (pC h (w d + 1) (va_cpy (gI h (w k + 1)) (gI h (w d + 1)) i' j' m)) 22 c (.int (nI 0))) x := fun x h1 h2 => SmX.trans ⟨rfl, rfl, fun _ => rfl, fun i => if_neg h2, fun _ => rfl⟩ (pF_sm h1)
              refine ⟨pF (pC h (w d + 1) (va_cpy (gI h (w k + 1)) (gI h (w d + 1)) i' j' m)) 22 c (.int (nI 0)), H.rowW (r := d) (a := w d) (q := (v2.1, v2.2.1, fun k => if j' ≤ k ∧ k < j' + m then v.2.2 (i' + (k - j')) else v2.2.2 k)) hX (by omega) (Nat.le_refl _) (Or.inl ⟨v2, hr2, f1⟩) (by show w d + 2 ≤ gN h; omega) (fun x _ h1 _ _ h4 => sm x h1 h4) (fun x _ => ⟨rfl, rfl⟩) (fun f hf => pF_ne hf) pF_eq (fun r => ?_) ⟨f4, ?_, ?_⟩ ⟨f7, f8, fun r hr => ?_⟩, ⟨⟨Nat.le_refl _, Nat.le_add_right _ _, Nat.le_add_right _ _⟩, fun t _ => sm _ (by omega) (by omega), fun x _ => sm _ (by omega) (by omega)⟩, fun Q => ?_⟩
              · show gR h (c + 1) r = _
                by_cases er : r = d
                · rw [if_pos er, er]; exact f1
                · rw [if_neg er]
              · exact (pF_sm (h := pC h (w d + 1) _) (show w d ≠ c by omega)).2.2.1 136 |>.trans f5
              · exact (pF_sm (h := pC h (w d + 1) _) (show w d ≠ c by omega)).2.2.1 139 |>.trans f6
              · show (if w d + 1 = w d + 1 then va_cpy (gI h (w k + 1)) (gI h (w d + 1)) i' j' m r else _) = _
                rw [if_pos rfl]
                show (if j' ≤ r ∧ r < j' + m then gI h (w k + 1) (i' + (r - j')) else gI h (w d + 1) r) = (if j' ≤ r ∧ r < j' + m then v.2.2 (i' + (r - j')) else v2.2.2 r)
                by_cases ej : j' ≤ r ∧ r < j' + m
                · rw [if_pos ej, if_pos ej]; exact e9 _ (by omega)
                · rw [if_neg ej, if_neg ej]; exact f9 _ hr
              · rw [st, rX0_copy_68 _ _ _ _ _ _ _ _ hok ⟨by decide, e7, f7⟩, ci, cj, cm]
                have kc : gK (pC h (w d + 1) (va_cpy (gI h (w k + 1)) (gI h (w d + 1)) i' j' m)) c = 1 := M.k0
                have hw := fun Q => c0_well Q kc (nI m)
                simp (disch := omega) only [↓rX0_copy_71, ↓rX0_copy_85, ↓rX0_copy_86, ↓rX0_copy_88, ↓rX0_copy_91, ↓rmI_in, ↓shrI_in, ↓shlI_in, ↓okI_in, ↓bI_01, bI_z, bI_o, nn_neg, Int.cast_ofNat_Int, zlit, n_leT, n_leF, n_ltT, n_ltF, n_eqT, n_eqF, z_leT, z_leF, z_ltT, z_ltF, z_eqT, z_eqF, nn_add, nn_mul, nn_clamp, nn_lt, nn_le, nn_eq, nn_div, rmI_nn, okI_nn, nn_and, nn_or, nn_xor, shlI_1, shrI_nn, Cont_v, Cont_0, List.mem_cons, List.not_mem_nil, or_false, or_true, true_or, true_and, and_true, ite_not, if_true, if_false, not_true_eq_false, not_false_eq_true, false_or, false_and, and_false, eq_self, ↓reduceIte, reduceCtorEq, kc, ↓hw]
            · simp only [if_neg hg]
              have hno := fun q => hg (hac.mp q)
              obtain ⟨h3, kx, k3, kc3, C1, C2, ⟨n1, n2, n3⟩, hi, hfd⟩ := H.vmx hX (by omega) (by omega) 62 2
              have hh : mX0_copy.2 68 (gN h + 2) (nX h 62) = some 74 := hTab_hit (by omega) (by omega) (k1m kx)
              have hh2 : mX0_copy.2 84 (gN h + 3) h3 = some 92 := (hTab_skip (by omega)).trans (hTab_hit (by omega) (by omega) (k1m k3))
              refine ⟨_, C1, C2.kp (by omega) (by omega), fun Q => ?_⟩
              rw [st, rX0_copy_68x _ _ _ _ _ _ _ _ hno ⟨⟨e7, f7, by omega, by omega⟩, H.2.1.x (by omega) (by omega)⟩, Cont_h hh]
              simp (disch := omega) only [↓rX0_copy_74, ↓rX0_copy_76, ↓rX0_copy_79, ↓rX0_copy_80, ↓rX0_copy_81, ↓rX0_copy_84, ↓rX0_copy_92, ↓rX0_copy_94, ↓rX0_copy_95, ↓rX0_copy_97, ↓rX0_copy_100, ↓rmI_in, ↓shrI_in, ↓shlI_in, ↓okI_in, ↓bI_01, bI_z, bI_o, nn_neg, Int.cast_ofNat_Int, zlit, n_leT, n_leF, n_ltT, n_ltF, n_eqT, n_eqF, z_leT, z_leF, z_ltT, z_ltF, z_eqT, z_eqF, nn_add, nn_mul, nn_clamp, nn_lt, nn_le, nn_eq, nn_div, rmI_nn, okI_nn, nn_and, nn_or, nn_xor, shlI_1, shrI_nn, Cont_v, Cont_0, List.mem_cons, List.not_mem_nil, or_false, or_true, true_or, true_and, and_true, ite_not, if_true, if_false, not_true_eq_false, not_false_eq_true, false_or, false_and, and_false, eq_self, ↓reduceIte, reduceCtorEq, n1, n2, n3, ↓hi, Cont_h hh2, kc3, ↓hfd]
              rfl
          · simp only [if_neg he]
            obtain ⟨h1, k1, kc1, C1, C2, hm, hfd⟩ := H.find hX (by omega) (by omega) 5
            have hh : mX0_copy.2 50 (gN h) h1 = some 92 := (hTab_skip (by omega)).trans (hTab_hit (by omega) (by omega) (k1m k1))
            refine ⟨_, C1, C2.kp (by omega) (by omega), fun Q => ?_⟩
            simp (disch := omega) only [↓rX0_copy_0, ↓rX0_copy_1, ↓rX0_copy_4, ↓rX0_copy_7, ↓rX0_copy_8, ↓rX0_copy_11, ↓rX0_copy_14, ↓rX0_copy_16, ↓rX0_copy_17, ↓rX0_copy_18, ↓rX0_copy_19, ↓rX0_copy_22, ↓rX0_copy_24, ↓rX0_copy_25, ↓rX0_copy_26, ↓rX0_copy_29, ↓rX0_copy_31, ↓rX0_copy_33, ↓rX0_copy_36, ↓rX0_copy_38, ↓rX0_copy_41, ↓rX0_copy_44, ↓rX0_copy_45, ↓rX0_copy_48, ↓rX0_copy_49, ↓rX0_copy_50, ↓rX0_copy_53, ↓rX0_copy_55, ↓rX0_copy_58, ↓rX0_copy_59, ↓rX0_copy_61, ↓rX0_copy_64, ↓rX0_copy_66, ↓rX0_copy_92, ↓rX0_copy_94, ↓rX0_copy_95, ↓rX0_copy_97, ↓rX0_copy_100, ↓rmI_in, ↓shrI_in, ↓shlI_in, ↓okI_in, ↓bI_01, bI_z, bI_o, nn_neg, Int.cast_ofNat_Int, zlit, n_leT, n_leF, n_ltT, n_ltF, n_eqT, n_eqF, z_leT, z_leF, z_ltT, z_ltF, z_eqT, z_eqF, nn_add, nn_mul, nn_clamp, nn_lt, nn_le, nn_eq, nn_div, rmI_nn, okI_nn, nn_and, nn_or, nn_xor, shlI_1, shrI_nn, Cont_v, Cont_0, List.mem_cons, List.not_mem_nil, or_false, or_true, true_or, true_and, and_true, ite_not, if_true, if_false, not_true_eq_false, not_false_eq_true, false_or, false_and, and_false, eq_self, ↓reduceIte, reduceCtorEq, l_toInt, sub_toInt, l64_0, l64_1, l64_2, l64_3, l64_5, l64_7, l64_9, l64_10, l64_12, l64_24, l64_48, l64_57, l64_60, l64_97, l64_122, l64_255, l64_999, l64_999999, l64_m, ↓c0_isRow, nn_toInt, CM.k0 M, CM.k1 M, CM.l1 M, CM.k2 M, CM.l2 M, CM.k19 M, CM.l19 M, CM.k20 M, CM.l20 M, CM.k23 M, CM.l23 M, CM.k24 M, CM.l24 M, CM.k25 M, CM.l25 M, CM.f3 M, CM.f5 M, CM.f11 M, CM.f13 M, CM.f15 M, CM.f19 M, CM.f25 M, CM.f27 M, CM.f31 M, ↓hra, ↓hrb, e4, e5, e6, f4, f5, f6, he, ↓hm, Cont_h hh, kc1, ↓hfd]
            rfl
    · rw [if_neg (fun q => hy q.2)]
      refine ⟨h, H, Kp.rfl' h c, fun Q => ?_⟩
      simp (disch := omega) only [↓rX0_copy_0, ↓rX0_copy_1, ↓rX0_copy_4, ↓rX0_copy_7, ↓rX0_copy_8, ↓rX0_copy_11, ↓rX0_copy_14, ↓rX0_copy_16, ↓rX0_copy_17, ↓rX0_copy_18, ↓rX0_copy_19, ↓rX0_copy_22, ↓rX0_copy_24, ↓rX0_copy_25, ↓rX0_copy_26, ↓rX0_copy_29, ↓rX0_copy_31, ↓rX0_copy_33, ↓rX0_copy_36, ↓rX0_copy_38, ↓rX0_copy_41, ↓rX0_copy_44, ↓rX0_copy_45, ↓rX0_copy_48, ↓rX0_copy_49, ↓rX0_copy_50, ↓rX0_copy_53, ↓rX0_copy_55, ↓rX0_copy_58, ↓rX0_copy_59, ↓rX0_copy_61, ↓rX0_copy_64, ↓rX0_copy_66, ↓rmI_in, ↓shrI_in, ↓shlI_in, ↓okI_in, ↓bI_01, bI_z, bI_o, nn_neg, Int.cast_ofNat_Int, zlit, n_leT, n_leF, n_ltT, n_ltF, n_eqT, n_eqF, z_leT, z_leF, z_ltT, z_ltF, z_eqT, z_eqF, nn_add, nn_mul, nn_clamp, nn_lt, nn_le, nn_eq, nn_div, rmI_nn, okI_nn, nn_and, nn_or, nn_xor, shlI_1, shrI_nn, Cont_v, Cont_0, List.mem_cons, List.not_mem_nil, or_false, or_true, true_or, true_and, and_true, ite_not, if_true, if_false, not_true_eq_false, not_false_eq_true, false_or, false_and, and_false, eq_self, ↓reduceIte, reduceCtorEq, l_toInt, sub_toInt, l64_0, l64_1, l64_2, l64_3, l64_5, l64_7, l64_9, l64_10, l64_12, l64_24, l64_48, l64_57, l64_60, l64_97, l64_122, l64_255, l64_999, l64_999999, l64_m, ↓c0_isRow, hx, hy, cB]
  · rw [if_neg (fun q => hx q.1)]
    refine ⟨h, H, Kp.rfl' h c, fun Q => ?_⟩
    simp (disch := omega) only [↓rX0_copy_0, ↓rX0_copy_1, ↓rX0_copy_4, ↓rX0_copy_7, ↓rX0_copy_8, ↓rX0_copy_11, ↓rX0_copy_14, ↓rX0_copy_16, ↓rX0_copy_17, ↓rX0_copy_18, ↓rX0_copy_19, ↓rX0_copy_22, ↓rX0_copy_24, ↓rX0_copy_25, ↓rX0_copy_26, ↓rX0_copy_29, ↓rX0_copy_31, ↓rX0_copy_33, ↓rX0_copy_36, ↓rX0_copy_38, ↓rX0_copy_41, ↓rX0_copy_44, ↓rX0_copy_45, ↓rX0_copy_48, ↓rX0_copy_49, ↓rX0_copy_50, ↓rX0_copy_53, ↓rX0_copy_55, ↓rX0_copy_58, ↓rX0_copy_59, ↓rX0_copy_61, ↓rX0_copy_64, ↓rX0_copy_66, ↓rmI_in, ↓shrI_in, ↓shlI_in, ↓okI_in, ↓bI_01, bI_z, bI_o, nn_neg, Int.cast_ofNat_Int, zlit, n_leT, n_leF, n_ltT, n_ltF, n_eqT, n_eqF, z_leT, z_leF, z_ltT, z_ltF, z_eqT, z_eqF, nn_add, nn_mul, nn_clamp, nn_lt, nn_le, nn_eq, nn_div, rmI_nn, okI_nn, nn_and, nn_or, nn_xor, shlI_1, shrI_nn, Cont_v, Cont_0, List.mem_cons, List.not_mem_nil, or_false, or_true, true_or, true_and, and_true, ite_not, if_true, if_false, not_true_eq_false, not_false_eq_true, false_or, false_and, and_false, eq_self, ↓reduceIte, reduceCtorEq, l_toInt, sub_toInt, l64_0, l64_1, l64_2, l64_3, l64_5, l64_7, l64_9, l64_10, l64_12, l64_24, l64_48, l64_57, l64_60, l64_97, l64_122, l64_255, l64_999, l64_999999, l64_m, ↓c0_isRow, hx, cB]
end CPY
