/-! THE CLASS: image, keep -/
theorem pR_sm {h : Hp} {a i x : Nat} {v : Option Nat} (hx : x ≠ a) : SmX h (pR h a i v) x := ⟨rfl, rfl, fun _ => rfl, fun _ => rfl, fun j => if_neg (fun q => hx q.1)⟩
theorem nO_sm {h : Hp} {k n x : Nat} (hx : x ≠ gN h) : SmX h (nO h k n) x := ⟨if_neg hx, rfl, fun _ => if_neg hx, fun _ => rfl, fun _ => rfl⟩
/-- a heap with a new library -/
def NL (h : Hp) (u : Nat) : Hp := LI (nO h 2 16) (gN h) u
section NLS
variable {h : Hp} {u : Nat}
theorem NL_walk (hu : gF h 1001 0 = .ref u) (h0 : 0 < gN h) (hC : 8 ≤ gC h) (hS : 53 ≤ gS h) (Q : Po) : Ex mX1_init Q 0 [.ref (gN h)] [] (nO h 2 16) = Q (.inl none) (NL h u) := c1_init (g := nO h 2 16) (if_pos rfl) rfl ((if_neg (by omega)).trans hu) h0 (by rw [gC_nO]; omega) (by rw [gS_nO]; omega) Q
theorem NL_room : gN (NL h u) = gN h + 8 ∧ gC (NL h u) = gC h - 8 ∧ gS (NL h u) = gS h - 53 := by
  obtain ⟨h1, h2, h3⟩ := LI_room (nO h 2 16) (gN h) u
  refine ⟨h1, ?_, ?_⟩
  · show gC (LI _ _ _) = _; rw [h2, gC_nO]; omega
  · show gS (LI _ _ _) = _; rw [h3, gS_nO]; omega
theorem NL_sm {x : Nat} (hx : x < gN h ∨ gN h + 8 ≤ x) : SmX h (NL h u) x := (nO_sm (by omega)).trans (LI_sm (g := nO h 2 16) rfl hx)
theorem NL_hl : HL (NL h u) (gN h) zS (fun _ => 0) (gN h + 5) (zI (-1000000)) .null ∧ gK (NL h u) (gN h + 5) = 14 ∧ gF (NL h u) 161 (gN h + 5) = .ref u ∧ gF (NL h u) 162 (gN h + 5) = .int (nI 0) := LI_hl (g := nO h 2 16) (if_pos rfl) rfl (fun f => if_pos rfl)
end NLS
section CA2
variable (c : Nat) (X : XS)
theorem k_image (hX : XOK X) (x : Int32) : COp mX0_image [.int x] c X (.int (mu_image X x).1) (mu_image X x).2 := by
  intro h H hC hS
  obtain ⟨nn, p, tf, tk, s0, n0, p0, tf0, tk0, e, fa, M, L, eh, K, hn, hl, hp, hp3, hf⟩ := H.use hX
  have K' := K
  obtain ⟨k0, ⟨k1, k2, k3, k4, k6, k7⟩, l1, l2, l3, l4, l6, l7⟩ := K'
  have hM : (xs X 0 : Nat) ≤ 6 := hX.1.1.1.1
  have hN : (xs X 1 : Nat) ≤ 5 := hX.1.1.1.2
  have h4 := hX.1.2
  unfold mu_image
  by_cases hx : inR x 0 1
  · skip
    rw [if_pos hx]
    obtain ⟨k, rfl, q1, q2, q3⟩ := inR_nn hx (by omega)
    rw [nt_nn q3]
    by_cases ht : (xs X 2 : Nat) = 0
    · rw [if_pos ht]
      refine ⟨h, H, Kp.rfl' h c, fun Q => ?_⟩
      rw [← eh]
      simp (disch := omega) only [↓rX0_image_0, ↓rX0_image_1, ↓rX0_image_2, ↓rX0_image_3, ↓rX0_image_4, ↓rX0_image_7, ↓rX0_image_10, ↓rX0_image_12, ↓rX0_image_13, ↓rX0_image_14, ↓rX0_image_17, ↓rX0_image_20, ↓rX0_image_22, ↓rX0_image_23, ↓rX0_image_24, ↓rX0_image_27, ↓rX0_image_28, ↓rX0_image_29n, ↓rX0_image_29, ↓rX0_image_32, ↓rX0_image_33, ↓rX0_image_36, ↓rX0_image_37, ↓rX0_image_40, ↓rX0_image_41, ↓rX0_image_44, ↓rX0_image_44n, ↓rX0_image_45, ↓rX0_image_46, ↓rX0_image_49, ↓rX0_image_50, ↓rX0_image_51, ↓rX0_image_52, ↓rX0_image_55, ↓rX0_image_58, ↓rX0_image_59, ↓rX0_image_60, ↓rX0_image_t, lG_32, lG_34, lG_36, lG_46, lG_48, lG_56, lG_58, lG_39, lG_41, lG_43, lG_45, lG_53, lG_55, lG_51, lG_60, lG_63, lI_1, lI_2, lI_4, lI_6, lI_7, lI_3, lP_32, lP_34, lP_36, lP_46, lP_48, lP_56, lP_58, lP_51, lP_60, lP_63, lW_1, lW_2, lW_4, lW_6, lW_7, lW_3, lo_K, lo_L, lo_R, lo_N, lo_C, lo_S, lo_F, lo_I, ↓rmI_in, ↓shrI_in, ↓shlI_in, ↓okI_in, ↓bI_01, bI_z, bI_o, nn_neg, Int.cast_ofNat_Int, zlit, n_leT, n_leF, n_ltT, n_ltF, n_eqT, n_eqF, z_leT, z_leF, z_ltT, z_ltF, z_eqT, z_eqF, nn_add, nn_mul, nn_clamp, nn_lt, nn_le, nn_eq, nn_div, rmI_nn, okI_nn, nn_and, nn_or, nn_xor, shlI_1, shrI_nn, Cont_v, Cont_0, List.mem_cons, List.not_mem_nil, or_false, or_true, true_or, true_and, and_true, ite_not, if_true, if_false, not_true_eq_false, not_false_eq_true, false_or, false_and, and_false, eq_self, ↓reduceIte, reduceCtorEq, l_toInt, sub_toInt, l64_0, l64_1, l64_2, l64_3, l64_5, l64_7, l64_9, l64_10, l64_12, l64_24, l64_48, l64_57, l64_60, l64_97, l64_122, l64_255, l64_999, l64_999999, l64_m, ↓c0_isIn, ↓c0_isRow, ↓c0_isHalf, ↓c0_isFar, ↓c0_isLong, ↓c0_isShort, CM.k0 M, CM.k1 M, CM.l1 M, CM.k2 M, CM.l2 M, CM.k19 M, CM.l19 M, CM.k20 M, CM.l20 M, CM.k23 M, CM.l23 M, CM.k24 M, CM.l24 M, CM.k25 M, CM.l25 M, CM.f3 M, CM.f5 M, CM.f11 M, CM.f13 M, CM.f15 M, CM.f19 M, CM.f25 M, CM.f27 M, CM.f31 M, k0, k1, k2, k3, k4, k6, k7, l1, l2, l3, l4, l6, l7, k0, HL.k0 L, nn_toInt, ↓c0_isBook _ _ _ _ _ _ _ _ _ _ _ _ _ M L, ↓c0_isFish _ _ _ _ _ _ _ _ _ _ _ _ _ M L hl hp (show (xs X 1 : Nat) ≤ 10 by omega), ↓c0_isLibrary _ _ _ _ _ _ _ _ _ _ _ _ _ M L, ↓c0_tried _ _ _ _ _ _ _ _ _ _ _ _ _ M K L, ht, cS, Nat.lt_irrefl]
    rw [if_neg ht]
    have ht' : (0 < (xs X 2 : Nat)) = True := eq_true (by omega)
    obtain ⟨nA', pA', tfA, tkA, LA', hnA, hLLA, -⟩ := H.2.2.2.2.2.1
    have H' := H
    obtain ⟨-, ⟨⟨u1, hu1⟩, -⟩, hc, -, -, -, -, ow, q, mx, u, w, tr, -, ⟨i1, i2, i3⟩, -⟩ := H'
    have hr := i1 k (by omega)
    have hW := hX.1.1
    have kA := LA'.k0
    have st : ∀ Q : Po, Ex mX0_image Q 0 [.ref c, .int (nI k)] [] h = Ex mX0_image Q 23 [.ref c, .int (nI k)] [] h := by
      intro Q
      conv => lhs; rw [← eh]
      simp (disch := omega) only [↓rX0_image_0, ↓rX0_image_1, ↓rX0_image_2, ↓rX0_image_3, ↓rX0_image_4, ↓rX0_image_7, ↓rX0_image_10, ↓rX0_image_12, ↓rX0_image_13, ↓rX0_image_14, ↓rX0_image_17, ↓rX0_image_20, ↓rX0_image_22, ↓rX0_image_t, lG_32, lG_34, lG_36, lG_46, lG_48, lG_56, lG_58, lG_39, lG_41, lG_43, lG_45, lG_53, lG_55, lG_51, lG_60, lG_63, lI_1, lI_2, lI_4, lI_6, lI_7, lI_3, lP_32, lP_34, lP_36, lP_46, lP_48, lP_56, lP_58, lP_51, lP_60, lP_63, lW_1, lW_2, lW_4, lW_6, lW_7, lW_3, lo_K, lo_L, lo_R, lo_N, lo_C, lo_S, lo_F, lo_I, ↓rmI_in, ↓shrI_in, ↓shlI_in, ↓okI_in, ↓bI_01, bI_z, bI_o, nn_neg, Int.cast_ofNat_Int, zlit, n_leT, n_leF, n_ltT, n_ltF, n_eqT, n_eqF, z_leT, z_leF, z_ltT, z_ltF, z_eqT, z_eqF, nn_add, nn_mul, nn_clamp, nn_lt, nn_le, nn_eq, nn_div, rmI_nn, okI_nn, nn_and, nn_or, nn_xor, shlI_1, shrI_nn, Cont_v, Cont_0, List.mem_cons, List.not_mem_nil, or_false, or_true, true_or, true_and, and_true, ite_not, if_true, if_false, not_true_eq_false, not_false_eq_true, false_or, false_and, and_false, eq_self, ↓reduceIte, reduceCtorEq, l_toInt, sub_toInt, l64_0, l64_1, l64_2, l64_3, l64_5, l64_7, l64_9, l64_10, l64_12, l64_24, l64_48, l64_57, l64_60, l64_97, l64_122, l64_255, l64_999, l64_999999, l64_m, ↓c0_isIn, ↓c0_isRow, ↓c0_isHalf, ↓c0_isFar, ↓c0_isLong, ↓c0_isShort, CM.k0 M, CM.k1 M, CM.l1 M, CM.k2 M, CM.l2 M, CM.k19 M, CM.l19 M, CM.k20 M, CM.l20 M, CM.k23 M, CM.l23 M, CM.k24 M, CM.l24 M, CM.k25 M, CM.l25 M, CM.f3 M, CM.f5 M, CM.f11 M, CM.f13 M, CM.f15 M, CM.f19 M, CM.f25 M, CM.f27 M, CM.f31 M, k0, k1, k2, k3, k4, k6, k7, l1, l2, l3, l4, l6, l7, k0, HL.k0 L, nn_toInt, ↓c0_isBook _ _ _ _ _ _ _ _ _ _ _ _ _ M L, ↓c0_isFish _ _ _ _ _ _ _ _ _ _ _ _ _ M L hl hp (show (xs X 1 : Nat) ≤ 10 by omega), ↓c0_isLibrary _ _ _ _ _ _ _ _ _ _ _ _ _ M L, ↓c0_tried _ _ _ _ _ _ _ _ _ _ _ _ _ M K L, ht']
      rw [eh]
    cases hk : xk X k with
    | true =>
      rw [hk, if_pos rfl] at hr
      obtain ⟨⟨a1, a2⟩, ⟨n2, pq, tf2, tk2, L2, hn2, hLL2, -⟩, -⟩ := i2 k (by omega) hk
      have hb : ∀ Q : Po, Ex mX1_become Q 0 [.ref (u k), .ref (c + 3)] [] h = Q (.inl (some (.ref (u k)))) (LB h (u k) (xs X) (cpN n2 nA') pA' (zI (-1000000)) tk2) := by
        intro Q
        have := c1_become Q h (u k) (xB X k) n2 pq tf2 tk2 L2.2.2 LA' (by omega)
        rwa [L2.eq] at this
      have kq := L2.k0
      have C1 : CInv (LB h (u k) (xs X) (cpN n2 nA') pA' (zI (-1000000)) tk2) c _ := H.img hX (show k < 2 by omega) (Nat.le_refl _) (Or.inl hr) a2 (fun x _ _ h3 => LB_sm _ _ _ _ _ _ _ h3) (fun x _ => ⟨rfl, rfl⟩) (fun i => by
        by_cases e : i = k
        · rw [if_pos e, e]; exact hr
        · rw [if_neg e]; rfl) ⟨cpN n2 nA', pA', _, tk2, HL.of L2.2.2, cpN_b hM hnA, hLLA.keep hW (PrL.lb L2.2.2 _ _ _ _ _), rfl⟩
      refine ⟨_, C1, ⟨⟨Nat.le_refl _, Nat.le_add_right _ _, Nat.le_add_right _ _⟩, fun j _ => LB_sm _ _ _ _ _ _ _ (by omega), fun x _ => LB_sm _ _ _ _ _ _ _ (by omega)⟩, fun Q => ?_⟩
      rw [st Q]
      simp (disch := omega) only [↓rX0_image_23, ↓rX0_image_24, ↓rX0_image_27, ↓rX0_image_28, ↓rX0_image_29n, ↓rX0_image_29, ↓rX0_image_32, ↓rX0_image_33, ↓rX0_image_36, ↓rX0_image_37, ↓rX0_image_40, ↓rX0_image_41, ↓rX0_image_44, ↓rX0_image_44n, ↓rX0_image_45, ↓rX0_image_46, ↓rX0_image_49, ↓rX0_image_50, ↓rX0_image_51, ↓rX0_image_52, ↓rX0_image_55, ↓rX0_image_58, ↓rX0_image_59, ↓rX0_image_60, ↓rX0_image_t, lG_32, lG_34, lG_36, lG_46, lG_48, lG_56, lG_58, lG_39, lG_41, lG_43, lG_45, lG_53, lG_55, lG_51, lG_60, lG_63, lI_1, lI_2, lI_4, lI_6, lI_7, lI_3, lP_32, lP_34, lP_36, lP_46, lP_48, lP_56, lP_58, lP_51, lP_60, lP_63, lW_1, lW_2, lW_4, lW_6, lW_7, lW_3, lo_K, lo_L, lo_R, lo_N, lo_C, lo_S, lo_F, lo_I, ↓rmI_in, ↓shrI_in, ↓shlI_in, ↓okI_in, ↓bI_01, bI_z, bI_o, nn_neg, Int.cast_ofNat_Int, zlit, n_leT, n_leF, n_ltT, n_ltF, n_eqT, n_eqF, z_leT, z_leF, z_ltT, z_ltF, z_eqT, z_eqF, nn_add, nn_mul, nn_clamp, nn_lt, nn_le, nn_eq, nn_div, rmI_nn, okI_nn, nn_and, nn_or, nn_xor, shlI_1, shrI_nn, Cont_v, Cont_0, List.mem_cons, List.not_mem_nil, or_false, or_true, true_or, true_and, and_true, ite_not, if_true, if_false, not_true_eq_false, not_false_eq_true, false_or, false_and, and_false, eq_self, ↓reduceIte, reduceCtorEq, CM.k0 M, CM.k1 M, CM.l1 M, CM.k2 M, CM.l2 M, CM.k19 M, CM.l19 M, CM.k20 M, CM.l20 M, CM.k23 M, CM.l23 M, CM.k24 M, CM.l24 M, CM.k25 M, CM.l25 M, CM.f3 M, CM.f5 M, CM.f11 M, CM.f13 M, CM.f15 M, CM.f19 M, CM.f25 M, CM.f27 M, CM.f31 M, hr, rf_some, kq, kA, ↓hb]
    | false =>
      rw [hk, if_neg (by decide)] at hr
      have hi := fun Q => NL_walk (h := h) hu1 (by omega) (by omega) (by omega) Q
      obtain ⟨r1, r2, r3⟩ := NL_room (h := h) (u := u1)
      obtain ⟨N1, -⟩ := NL_hl (h := h) (u := u1)
      have sN : ∀ x, x < gN h → SmX h (NL h u1) x := fun x hx => NL_sm (Or.inl hx)
      have fc := fun f => (sN c (by omega)).2.2.1 f
      have kc := (sN c (by omega)).1
      have k20 := (sN (c + 20) (by omega)).1
      have l20 := (sN (c + 20) (by omega)).2.1
      have k3 := (sN (c + 3) (by omega)).1
      have kn := N1.k0
      have sB : ∀ x, x < gN h → x ≠ c + 20 → SmX h (pR (NL h u1) (c + 20) k (some (gN h))) x := fun x hx hx2 => (sN x hx).trans (pR_sm hx2)
      have NB : HL (pR (NL h u1) (c + 20) k (some (gN h))) (gN h) zS (fun _ => 0) (gN h + 5) (zI (-1000000)) .null := N1.sm (fun j hj => pR_sm (by omega))
      have LB' : HL (pR (NL h u1) (c + 20) k (some (gN h))) (c + 3) (xs X) nA' pA' tfA tkA := LA'.sm (fun j hj => sB _ (by omega) (by omega))
      have hb : ∀ Q : Po, Ex mX1_become Q 0 [.ref (gN h), .ref (c + 3)] [] (pR (NL h u1) (c + 20) k (some (gN h))) = Q (.inl (some (.ref (gN h)))) (LB (pR (NL h u1) (c + 20) k (some (gN h))) (gN h) (xs X) (cpN (fun _ => 0) nA') pA' (zI (-1000000)) .null) := by
        intro Q
        have := c1_become Q _ (gN h) zS (fun _ => 0) (gN h + 5) (zI (-1000000)) .null NB.2.2 LB' (by omega)
        rwa [NB.eq] at this
      have hPB : PrL h (pR (NL h u1) (c + 20) k (some (gN h))) := ⟨by show gN h ≤ gN (NL h u1); omega, fun x hx hkx => sB x hx (fun e => by rw [e, M.k20] at hkx; omega)⟩
      have sF : ∀ x, x < gN h → x ≠ c + 20 → SmX h (LB (pR (NL h u1) (c + 20) k (some (gN h))) (gN h) (xs X) (cpN (fun _ => 0) nA') pA' (zI (-1000000)) .null) x := fun x hx hx2 => (sB x hx hx2).trans (LB_sm _ _ _ _ _ _ _ (by omega))
      have C1 : CInv (LB (pR (NL h u1) (c + 20) k (some (gN h))) (gN h) (xs X) (cpN (fun _ => 0) nA') pA' (zI (-1000000)) .null) c _ := H.img hX (show k < 2 by omega) (by show gN h ≤ gN (NL h u1); omega) (Or.inr ⟨hr, Nat.le_refl _⟩) (by show gN h + 8 ≤ gN (NL h u1); omega) (fun x hx h2 _ => sF x hx h2) (fun x hx => ⟨(sN x hx).1, (sN x hx).2.1⟩) (fun i => by
        show (if c + 20 = c + 20 ∧ i = k then some (gN h) else gR (NL h u1) (c + 20) i) = _
        by_cases e : i = k
        · rw [if_pos e, if_pos ⟨rfl, e⟩]
        · rw [if_neg e, if_neg (fun q => e q.2)]; exact (sN (c + 20) (by omega)).2.2.2.2 i) ⟨cpN (fun _ => 0) nA', pA', _, .null, HL.of NB.2.2, cpN_b hM hnA, (hLLA.keep hW hPB).keep hW (PrL.lb NB.2.2 _ _ _ _ _), rfl⟩
      refine ⟨_, C1, ⟨⟨by show gN h ≤ gN (NL h u1); omega, by show gC h ≤ gC (NL h u1) + 256; omega, by show gS h ≤ gS (NL h u1) + 2048; omega⟩, fun j _ => sF _ (by omega) (by omega), fun x _ => sF _ (by omega) (by omega)⟩, fun Q => ?_⟩
      rw [st Q]
      simp (disch := omega) only [↓rX0_image_23, ↓rX0_image_24, ↓rX0_image_27, ↓rX0_image_28, ↓rX0_image_29n, ↓rX0_image_29, ↓rX0_image_32, ↓rX0_image_33, ↓rX0_image_36, ↓rX0_image_37, ↓rX0_image_40, ↓rX0_image_41, ↓rX0_image_44, ↓rX0_image_44n, ↓rX0_image_45, ↓rX0_image_46, ↓rX0_image_49, ↓rX0_image_50, ↓rX0_image_51, ↓rX0_image_52, ↓rX0_image_55, ↓rX0_image_58, ↓rX0_image_59, ↓rX0_image_60, ↓rX0_image_t, lG_32, lG_34, lG_36, lG_46, lG_48, lG_56, lG_58, lG_39, lG_41, lG_43, lG_45, lG_53, lG_55, lG_51, lG_60, lG_63, lI_1, lI_2, lI_4, lI_6, lI_7, lI_3, lP_32, lP_34, lP_36, lP_46, lP_48, lP_56, lP_58, lP_51, lP_60, lP_63, lW_1, lW_2, lW_4, lW_6, lW_7, lW_3, lo_K, lo_L, lo_R, lo_N, lo_C, lo_S, lo_F, lo_I, ↓rmI_in, ↓shrI_in, ↓shlI_in, ↓okI_in, ↓bI_01, bI_z, bI_o, nn_neg, Int.cast_ofNat_Int, zlit, n_leT, n_leF, n_ltT, n_ltF, n_eqT, n_eqF, z_leT, z_leF, z_ltT, z_ltF, z_eqT, z_eqF, nn_add, nn_mul, nn_clamp, nn_lt, nn_le, nn_eq, nn_div, rmI_nn, okI_nn, nn_and, nn_or, nn_xor, shlI_1, shrI_nn, Cont_v, Cont_0, List.mem_cons, List.not_mem_nil, or_false, or_true, true_or, true_and, and_true, ite_not, if_true, if_false, not_true_eq_false, not_false_eq_true, false_or, false_and, and_false, eq_self, ↓reduceIte, reduceCtorEq, CM.k0 M, CM.k1 M, CM.l1 M, CM.k2 M, CM.l2 M, CM.k19 M, CM.l19 M, CM.k20 M, CM.l20 M, CM.k23 M, CM.l23 M, CM.k24 M, CM.l24 M, CM.k25 M, CM.l25 M, CM.f3 M, CM.f5 M, CM.f11 M, CM.f13 M, CM.f15 M, CM.f19 M, CM.f25 M, CM.f27 M, CM.f31 M, hr, rf_some, rf_none, kA, kc, k20, l20, k3, kn, fc, gK_pR, gL_pR, gF_pR, gR_pR, ↓hi, ↓hb]
  · rw [if_neg (fun q => hx q)]
    refine ⟨h, H, Kp.rfl' h c, fun Q => ?_⟩
    rw [← eh]
    simp (disch := omega) only [↓rX0_image_0, ↓rX0_image_1, ↓rX0_image_2, ↓rX0_image_3, ↓rX0_image_4, ↓rX0_image_7, ↓rX0_image_10, ↓rX0_image_12, ↓rX0_image_13, ↓rX0_image_14, ↓rX0_image_17, ↓rX0_image_20, ↓rX0_image_22, ↓rX0_image_23, ↓rX0_image_24, ↓rX0_image_27, ↓rX0_image_28, ↓rX0_image_29n, ↓rX0_image_29, ↓rX0_image_32, ↓rX0_image_33, ↓rX0_image_36, ↓rX0_image_37, ↓rX0_image_40, ↓rX0_image_41, ↓rX0_image_44, ↓rX0_image_44n, ↓rX0_image_45, ↓rX0_image_46, ↓rX0_image_49, ↓rX0_image_50, ↓rX0_image_51, ↓rX0_image_52, ↓rX0_image_55, ↓rX0_image_58, ↓rX0_image_59, ↓rX0_image_60, ↓rX0_image_t, lG_32, lG_34, lG_36, lG_46, lG_48, lG_56, lG_58, lG_39, lG_41, lG_43, lG_45, lG_53, lG_55, lG_51, lG_60, lG_63, lI_1, lI_2, lI_4, lI_6, lI_7, lI_3, lP_32, lP_34, lP_36, lP_46, lP_48, lP_56, lP_58, lP_51, lP_60, lP_63, lW_1, lW_2, lW_4, lW_6, lW_7, lW_3, lo_K, lo_L, lo_R, lo_N, lo_C, lo_S, lo_F, lo_I, ↓rmI_in, ↓shrI_in, ↓shlI_in, ↓okI_in, ↓bI_01, bI_z, bI_o, nn_neg, Int.cast_ofNat_Int, zlit, n_leT, n_leF, n_ltT, n_ltF, n_eqT, n_eqF, z_leT, z_leF, z_ltT, z_ltF, z_eqT, z_eqF, nn_add, nn_mul, nn_clamp, nn_lt, nn_le, nn_eq, nn_div, rmI_nn, okI_nn, nn_and, nn_or, nn_xor, shlI_1, shrI_nn, Cont_v, Cont_0, List.mem_cons, List.not_mem_nil, or_false, or_true, true_or, true_and, and_true, ite_not, if_true, if_false, not_true_eq_false, not_false_eq_true, false_or, false_and, and_false, eq_self, ↓reduceIte, reduceCtorEq, l_toInt, sub_toInt, l64_0, l64_1, l64_2, l64_3, l64_5, l64_7, l64_9, l64_10, l64_12, l64_24, l64_48, l64_57, l64_60, l64_97, l64_122, l64_255, l64_999, l64_999999, l64_m, ↓c0_isIn, ↓c0_isRow, ↓c0_isHalf, ↓c0_isFar, ↓c0_isLong, ↓c0_isShort, CM.k0 M, CM.k1 M, CM.l1 M, CM.k2 M, CM.l2 M, CM.k19 M, CM.l19 M, CM.k20 M, CM.l20 M, CM.k23 M, CM.l23 M, CM.k24 M, CM.l24 M, CM.k25 M, CM.l25 M, CM.f3 M, CM.f5 M, CM.f11 M, CM.f13 M, CM.f15 M, CM.f19 M, CM.f25 M, CM.f27 M, CM.f31 M, k0, k1, k2, k3, k4, k6, k7, l1, l2, l3, l4, l6, l7, k0, HL.k0 L, nn_toInt, ↓c0_isBook _ _ _ _ _ _ _ _ _ _ _ _ _ M L, ↓c0_isFish _ _ _ _ _ _ _ _ _ _ _ _ _ M L hl hp (show (xs X 1 : Nat) ≤ 10 by omega), ↓c0_isLibrary _ _ _ _ _ _ _ _ _ _ _ _ _ M L, ↓c0_tried _ _ _ _ _ _ _ _ _ _ _ _ _ M K L, hx, cB]
end CA2
/-- a reference array's contents laid over a heap -/
def pG (h : Hp) (a : Nat) (g : Nat → Option Nat) : Hp := (h.1, h.2.1, h.2.2.1, h.2.2.2.1, fun b j => if b = a then g j else h.2.2.2.2.1 b j, h.2.2.2.2.2)
def upO (g : Nat → Option Nat) (i : Nat) (v : Option Nat) : Nat → Option Nat := fun j => if j = i then v else g j
theorem pG_id (h : Hp) (a : Nat) : pG h a (gR h a) = h := by
  unfold pG
  refine congrArg (Prod.mk _) (congrArg (Prod.mk _) (congrArg (Prod.mk _) (congrArg (Prod.mk _) (congrArg (fun c => Prod.mk c _) ?_))))
  funext b j
  by_cases e : b = a
  · rw [if_pos e, e]; rfl
  · rw [if_neg e]
theorem pR_pG (h : Hp) (a i : Nat) (g : Nat → Option Nat) (v : Option Nat) : pR (pG h a g) a i v = pG h a (upO g i v) := by
  unfold pR pG upO
  refine congrArg (Prod.mk _) (congrArg (Prod.mk _) (congrArg (Prod.mk _) (congrArg (Prod.mk _) (congrArg (fun c => Prod.mk c _) ?_))))
  funext b j
  by_cases e : b = a
  · by_cases e2 : j = i
    · rw [if_pos ⟨e, e2⟩, if_pos e, if_pos e2]
    · rw [if_neg (fun q => e2 q.2), if_pos e, if_neg e2]; exact if_pos e
  · rw [if_neg (fun q => e q.1), if_neg e]; exact if_neg e
section PG
variable (h : Hp) (a : Nat) (g : Nat → Option Nat)
theorem gK_pG (x : Nat) : gK (pG h a g) x = gK h x := rfl
theorem gL_pG (x : Nat) : gL (pG h a g) x = gL h x := rfl
theorem gF_pG (f x : Nat) : gF (pG h a g) f x = gF h f x := rfl
theorem gR_pG (j : Nat) : gR (pG h a g) a j = g j := if_pos rfl
theorem pG_sm {x : Nat} (hx : x ≠ a) : SmX h (pG h a g) x := ⟨rfl, rfl, fun _ => rfl, fun _ => rfl, fun j => if_neg hx⟩
end PG
theorem rot_1 (G : Nat → Option Nat) : rotG G 1 = G := by funext j; exact if_neg (by omega)
theorem rot_s (G : Nat → Option Nat) {k : Nat} (hk : 1 ≤ k) : upO (rotG G k) (k - 1) (G k) = rotG G (k + 1) := by
  funext j
  unfold upO rotG
  by_cases e : j = k - 1
  · rw [if_pos e, if_pos (by omega), show j + 1 = k by omega]
  · rw [if_neg e]
    by_cases e2 : j + 1 < k
    · rw [if_pos e2, if_pos (by omega)]
    · rw [if_neg e2, if_neg (by omega)]
/-- it is kept, with room left -/
theorem c0_keep1 {h : Hp} {c : Nat} {X : XS} (H : CInv h c X) (hX : XOK X) (hm : xm X < 24) (hC : 8 ≤ gC h) (hS : 53 ≤ gS h) : ∃ h', CInv h' c (um (uA X (upS (xA X) (xm X) (xs X))) (xm X + 1)) ∧ KpN h h' c 8 53 ∧ ∀ (Q : Po) (x1 x2 : Value), Ex mX0_keep Q 62 [.ref c, x1, x2] [] h = Q (.inl none) h' := by
  have M := H.1
  have hM : (xs X 0 : Nat) ≤ 6 := hX.1.1.1.1
  have hW := hX.1.1
  have g16 := H.2.2.2.1.2.2.1
  obtain ⟨nA', pA', tfA, tkA, LA', hnA, hLLA, -⟩ := H.2.2.2.2.2.1
  have H' := H
  obtain ⟨-, ⟨⟨u1, hu1⟩, -⟩, hc, -, -, -, -, ow, q, mx, u, w, tr, ⟨i0, i1, i2, i3, i4⟩, -⟩ := H'
  have hr := i1 (xm X) hm
  have kA := LA'.k0
  by_cases hmx : xm X < mx
  · rw [if_pos hmx] at hr
    obtain ⟨⟨a1, a2⟩, ⟨s2, n2, pq, tf2, tk2, L2⟩, -⟩ := i2 (xm X) hmx
    have kq := L2.k0
    have hb : ∀ Q : Po, Ex mX1_become Q 0 [.ref (q (xm X)), .ref (c + 3)] [] h = Q (.inl (some (.ref (q (xm X))))) (LB h (q (xm X)) (xs X) (cpN n2 nA') pA' (zI (-1000000)) tk2) := by
      intro Q
      have := c1_become Q h (q (xm X)) s2 n2 pq tf2 tk2 L2.2.2 LA' (by omega)
      rwa [L2.eq] at this
    have hP := PrL.lb L2.2.2 (xs X) (cpN n2 nA') pA' (zI (-1000000)) tk2
    have hP2 : PrL h (pF (LB h (q (xm X)) (xs X) (cpN n2 nA') pA' (zI (-1000000)) tk2) 16 c (.int (nI (xm X + 1)))) := ⟨Nat.le_refl _, fun x hx hk => (hP.2 x hx hk).trans (pF_sm (fun e => by rw [e, M.k0] at hk; omega))⟩
    have LF2 : HL (pF (LB h (q (xm X)) (xs X) (cpN n2 nA') pA' (zI (-1000000)) tk2) 16 c (.int (nI (xm X + 1)))) (q (xm X)) (xs X) (cpN n2 nA') pA' (zI (-1000000)) tk2 := (HL.of L2.2.2).sm (fun j hj => pF_sm (by omega))
    have C1 : CInv (pF (LB h (q (xm X)) (xs X) (cpN n2 nA') pA' (zI (-1000000)) tk2) 16 c (.int (nI (xm X + 1)))) c _ := H.past hX hm (Nat.le_refl _) (Or.inl hr) a2 (fun x _ h1 _ h3 => (LB_sm _ _ _ _ _ _ _ h3).trans (pF_sm h1)) (fun x _ => ⟨rfl, rfl⟩) (fun f hf => (pF_ne hf).trans (lo_F _ _ _ _ _ _ _ _ (by omega))) pF_eq (fun i => by
      by_cases e : i = xm X
      · rw [if_pos e, e]; exact hr
      · rw [if_neg e]; rfl) ⟨cpN n2 nA', pA', _, tk2, LF2, cpN_b hM hnA, hLLA.keep hW hP2, rfl⟩
    refine ⟨_, C1, ⟨⟨Nat.le_refl _, Nat.le_add_right _ _, Nat.le_add_right _ _⟩, fun j _ => (LB_sm _ _ _ _ _ _ _ (by omega)).trans (pF_sm (by omega)), fun x _ => (LB_sm _ _ _ _ _ _ _ (by omega)).trans (pF_sm (by omega))⟩, fun Q x1 x2 => ?_⟩
    simp (disch := omega) only [↓rX0_keep_62, ↓rX0_keep_63, ↓rX0_keep_66, ↓rX0_keep_67, ↓rX0_keep_70, ↓rX0_keep_71n, ↓rX0_keep_71, ↓rX0_keep_74, ↓rX0_keep_75, ↓rX0_keep_78, ↓rX0_keep_79, ↓rX0_keep_82, ↓rX0_keep_85, ↓rX0_keep_86, ↓rX0_keep_89, ↓rX0_keep_89n, ↓rX0_keep_90, ↓rX0_keep_91, ↓rX0_keep_94, ↓rX0_keep_95, ↓rX0_keep_98, ↓rX0_keep_99, ↓rX0_keep_100, ↓rX0_keep_103, ↓rX0_keep_106, ↓rX0_keep_107, ↓rX0_keep_108, ↓rX0_keep_109, ↓rX0_keep_112, ↓rX0_keep_113, ↓rX0_keep_114, ↓rX0_keep_117, ↓rX0_keep_t, lG_32, lG_34, lG_36, lG_46, lG_48, lG_56, lG_58, lG_39, lG_41, lG_43, lG_45, lG_53, lG_55, lG_51, lG_60, lG_63, lI_1, lI_2, lI_4, lI_6, lI_7, lI_3, lP_32, lP_34, lP_36, lP_46, lP_48, lP_56, lP_58, lP_51, lP_60, lP_63, lW_1, lW_2, lW_4, lW_6, lW_7, lW_3, lo_K, lo_L, lo_R, lo_N, lo_C, lo_S, lo_F, lo_I, ↓rmI_in, ↓shrI_in, ↓shlI_in, ↓okI_in, ↓bI_01, bI_z, bI_o, nn_neg, Int.cast_ofNat_Int, zlit, n_leT, n_leF, n_ltT, n_ltF, n_eqT, n_eqF, z_leT, z_leF, z_ltT, z_ltF, z_eqT, z_eqF, nn_add, nn_mul, nn_clamp, nn_lt, nn_le, nn_eq, nn_div, rmI_nn, okI_nn, nn_and, nn_or, nn_xor, shlI_1, shrI_nn, Cont_v, Cont_0, List.mem_cons, List.not_mem_nil, or_false, or_true, true_or, true_and, and_true, ite_not, if_true, if_false, not_true_eq_false, not_false_eq_true, false_or, false_and, and_false, eq_self, ↓reduceIte, reduceCtorEq, CM.k0 M, CM.k1 M, CM.l1 M, CM.k2 M, CM.l2 M, CM.k19 M, CM.l19 M, CM.k20 M, CM.l20 M, CM.k23 M, CM.l23 M, CM.k24 M, CM.l24 M, CM.k25 M, CM.l25 M, CM.f3 M, CM.f5 M, CM.f11 M, CM.f13 M, CM.f15 M, CM.f19 M, CM.f25 M, CM.f27 M, CM.f31 M, g16, hr, rf_some, kq, kA, ↓hb]
  · rw [if_neg hmx] at hr
    have hi := fun Q => NL_walk (h := h) hu1 (by omega) (by omega) (by omega) Q
    obtain ⟨r1, r2, r3⟩ := NL_room (h := h) (u := u1)
    obtain ⟨N1, -⟩ := NL_hl (h := h) (u := u1)
    have sN : ∀ x, x < gN h → SmX h (NL h u1) x := fun x hx => NL_sm (Or.inl hx)
    have fc := fun f => (sN c (by omega)).2.2.1 f
    have kc := (sN c (by omega)).1
    have k19 := (sN (c + 19) (by omega)).1
    have l19 := (sN (c + 19) (by omega)).2.1
    have k3 := (sN (c + 3) (by omega)).1
    have kn := N1.k0
    have sB : ∀ x, x < gN h → x ≠ c + 19 → SmX h (pR (NL h u1) (c + 19) (xm X) (some (gN h))) x := fun x hx hx2 => (sN x hx).trans (pR_sm hx2)
    have NB : HL (pR (NL h u1) (c + 19) (xm X) (some (gN h))) (gN h) zS (fun _ => 0) (gN h + 5) (zI (-1000000)) .null := N1.sm (fun j hj => pR_sm (by omega))
    have LB' : HL (pR (NL h u1) (c + 19) (xm X) (some (gN h))) (c + 3) (xs X) nA' pA' tfA tkA := LA'.sm (fun j hj => sB _ (by omega) (by omega))
    have hb : ∀ Q : Po, Ex mX1_become Q 0 [.ref (gN h), .ref (c + 3)] [] (pR (NL h u1) (c + 19) (xm X) (some (gN h))) = Q (.inl (some (.ref (gN h)))) (LB (pR (NL h u1) (c + 19) (xm X) (some (gN h))) (gN h) (xs X) (cpN (fun _ => 0) nA') pA' (zI (-1000000)) .null) := by
      intro Q
      have := c1_become Q _ (gN h) zS (fun _ => 0) (gN h + 5) (zI (-1000000)) .null NB.2.2 LB' (by omega)
      rwa [NB.eq] at this
    have hPB : PrL h (pR (NL h u1) (c + 19) (xm X) (some (gN h))) := ⟨by rw [gN_pR, r1]; omega, fun x hx hkx => sB x hx (fun e => by rw [e, M.k19] at hkx; omega)⟩
    have sF : ∀ x, x < gN h → x ≠ c → x ≠ c + 19 → SmX h (pF (LB (pR (NL h u1) (c + 19) (xm X) (some (gN h))) (gN h) (xs X) (cpN (fun _ => 0) nA') pA' (zI (-1000000)) .null) 16 c (.int (nI (xm X + 1)))) x := fun x hx h1 hx2 => ((sB x hx hx2).trans (LB_sm _ _ _ _ _ _ _ (by omega))).trans (pF_sm h1)
    have hP2 : PrL h (pF (LB (pR (NL h u1) (c + 19) (xm X) (some (gN h))) (gN h) (xs X) (cpN (fun _ => 0) nA') pA' (zI (-1000000)) .null) 16 c (.int (nI (xm X + 1)))) := ⟨by rw [gN_pF, lo_N, gN_pR, r1]; omega, fun x hx hk => sF x hx (fun e => by rw [e, M.k0] at hk; omega) (fun e => by rw [e, M.k19] at hk; omega)⟩
    have LF2 : HL (pF (LB (pR (NL h u1) (c + 19) (xm X) (some (gN h))) (gN h) (xs X) (cpN (fun _ => 0) nA') pA' (zI (-1000000)) .null) 16 c (.int (nI (xm X + 1)))) (gN h) (xs X) (cpN (fun _ => 0) nA') pA' (zI (-1000000)) .null := (HL.of NB.2.2).sm (fun j hj => pF_sm (by omega))
    have C1 : CInv (pF (LB (pR (NL h u1) (c + 19) (xm X) (some (gN h))) (gN h) (xs X) (cpN (fun _ => 0) nA') pA' (zI (-1000000)) .null) 16 c (.int (nI (xm X + 1)))) c _ := H.past hX hm (by rw [gN_pF, lo_N, gN_pR, r1]; omega) (Or.inr ⟨hr, Nat.le_refl _⟩) (by rw [gN_pF, lo_N, gN_pR, r1]; omega) (fun x hx h1 h2 _ => sF x hx h1 h2) (fun x hx => ⟨by rw [gK_pF, lo_K, gK_pR]; exact (sN x hx).1, by rw [gL_pF, lo_L, gL_pR]; exact (sN x hx).2.1⟩) (fun f hf => by rw [pF_ne hf, lo_F _ _ _ _ _ _ _ _ (by omega), gF_pR]; exact fc f) pF_eq (fun i => by
      rw [gR_pF, lo_R, gR_pR]
      by_cases e : i = xm X
      · rw [if_pos e, if_pos ⟨rfl, e⟩]
      · rw [if_neg e, if_neg (fun q => e q.2)]; exact (sN (c + 19) (by omega)).2.2.2.2 i) ⟨cpN (fun _ => 0) nA', pA', _, .null, LF2, cpN_b hM hnA, hLLA.keep hW hP2, rfl⟩
    refine ⟨_, C1, ⟨⟨by rw [gN_pF, lo_N, gN_pR, r1]; omega, by rw [gC_pF, lo_C, gC_pR, r2]; omega, by rw [gS_pF, lo_S, gS_pR, r3]; omega⟩, fun j _ => sF _ (by omega) (by omega) (by omega), fun x _ => sF _ (by omega) (by omega) (by omega)⟩, fun Q x1 x2 => ?_⟩
    simp (disch := omega) only [↓rX0_keep_62, ↓rX0_keep_63, ↓rX0_keep_66, ↓rX0_keep_67, ↓rX0_keep_70, ↓rX0_keep_71n, ↓rX0_keep_71, ↓rX0_keep_74, ↓rX0_keep_75, ↓rX0_keep_78, ↓rX0_keep_79, ↓rX0_keep_82, ↓rX0_keep_85, ↓rX0_keep_86, ↓rX0_keep_89, ↓rX0_keep_89n, ↓rX0_keep_90, ↓rX0_keep_91, ↓rX0_keep_94, ↓rX0_keep_95, ↓rX0_keep_98, ↓rX0_keep_99, ↓rX0_keep_100, ↓rX0_keep_103, ↓rX0_keep_106, ↓rX0_keep_107, ↓rX0_keep_108, ↓rX0_keep_109, ↓rX0_keep_112, ↓rX0_keep_113, ↓rX0_keep_114, ↓rX0_keep_117, ↓rX0_keep_t, lG_32, lG_34, lG_36, lG_46, lG_48, lG_56, lG_58, lG_39, lG_41, lG_43, lG_45, lG_53, lG_55, lG_51, lG_60, lG_63, lI_1, lI_2, lI_4, lI_6, lI_7, lI_3, lP_32, lP_34, lP_36, lP_46, lP_48, lP_56, lP_58, lP_51, lP_60, lP_63, lW_1, lW_2, lW_4, lW_6, lW_7, lW_3, lo_K, lo_L, lo_R, lo_N, lo_C, lo_S, lo_F, lo_I, ↓rmI_in, ↓shrI_in, ↓shlI_in, ↓okI_in, ↓bI_01, bI_z, bI_o, nn_neg, Int.cast_ofNat_Int, zlit, n_leT, n_leF, n_ltT, n_ltF, n_eqT, n_eqF, z_leT, z_leF, z_ltT, z_ltF, z_eqT, z_eqF, nn_add, nn_mul, nn_clamp, nn_lt, nn_le, nn_eq, nn_div, rmI_nn, okI_nn, nn_and, nn_or, nn_xor, shlI_1, shrI_nn, Cont_v, Cont_0, List.mem_cons, List.not_mem_nil, or_false, or_true, true_or, true_and, and_true, ite_not, if_true, if_false, not_true_eq_false, not_false_eq_true, false_or, false_and, and_false, eq_self, ↓reduceIte, reduceCtorEq, CM.k0 M, CM.k1 M, CM.l1 M, CM.k2 M, CM.l2 M, CM.k19 M, CM.l19 M, CM.k20 M, CM.l20 M, CM.k23 M, CM.l23 M, CM.k24 M, CM.l24 M, CM.k25 M, CM.l25 M, CM.f3 M, CM.f5 M, CM.f11 M, CM.f13 M, CM.f15 M, CM.f19 M, CM.f25 M, CM.f27 M, CM.f31 M, g16, hr, rf_some, rf_none, kA, kc, k19, l19, k3, kn, fc, gK_pR, gL_pR, gF_pR, gR_pR, ↓hi, ↓hb]
theorem c0_keep {h : Hp} {c : Nat} {X : XS} (H : CInv h c X) (hX : XOK X) (hC : 8 ≤ gC h) (hS : 53 ≤ gS h) : ∃ h', CInv h' c (noteX X) ∧ KpN h h' c 8 53 ∧ ∀ (Q : Po), Ex mX0_keep Q 0 [.ref c, .retAddr 0, .retAddr 0] [] h = Q (.inl none) h' := by
  have M := H.1
  have g16 := H.2.2.2.1.2.2.1
  have hm24 : xm X ≤ 24 := hX.2.1.1
  by_cases hm : xm X < 24
  · obtain ⟨h', C1, C2, C3⟩ := c0_keep1 H hX hm hC hS
    have e : noteX X = um (uA X (upS (xA X) (xm X) (xs X))) (xm X + 1) := by
      unfold noteX noteA noteM; rw [if_neg (by omega), if_neg (by omega)]
    refine ⟨h', by rw [e]; exact C1, C2, fun Q => ?_⟩
    rw [← C3 Q (.retAddr 0) (.retAddr 0)]
    simp (disch := omega) only [↓rX0_keep_0, ↓rX0_keep_1, ↓rX0_keep_4, ↓rX0_keep_6, ↓rX0_keep_9, ↓rX0_keep_10, ↓rX0_keep_13, ↓rX0_keep_14, ↓rX0_keep_15, ↓rX0_keep_16, ↓rX0_keep_17, ↓rX0_keep_19, ↓rX0_keep_21, ↓rX0_keep_24, ↓rX0_keep_25, ↓rX0_keep_28, ↓rX0_keep_29, ↓rX0_keep_30, ↓rX0_keep_31, ↓rX0_keep_32, ↓rX0_keep_35, ↓rX0_keep_36, ↓rX0_keep_37, ↓rX0_keep_37n, ↓rX0_keep_38, ↓rX0_keep_41, ↓rX0_keep_44, ↓rX0_keep_45, ↓rX0_keep_48, ↓rX0_keep_50, ↓rX0_keep_51, ↓rX0_keep_51n, ↓rX0_keep_52, ↓rX0_keep_53, ↓rX0_keep_54, ↓rX0_keep_57, ↓rX0_keep_58, ↓rX0_keep_59, ↓rX0_keep_t, ↓rmI_in, ↓shrI_in, ↓shlI_in, ↓okI_in, ↓bI_01, bI_z, bI_o, nn_neg, Int.cast_ofNat_Int, zlit, n_leT, n_leF, n_ltT, n_ltF, n_eqT, n_eqF, z_leT, z_leF, z_ltT, z_ltF, z_eqT, z_eqF, nn_add, nn_mul, nn_clamp, nn_lt, nn_le, nn_eq, nn_div, rmI_nn, okI_nn, nn_and, nn_or, nn_xor, shlI_1, shrI_nn, Cont_v, Cont_0, List.mem_cons, List.not_mem_nil, or_false, or_true, true_or, true_and, and_true, ite_not, if_true, if_false, not_true_eq_false, not_false_eq_true, false_or, false_and, and_false, eq_self, ↓reduceIte, reduceCtorEq, CM.k0 M, CM.k1 M, CM.l1 M, CM.k2 M, CM.l2 M, CM.k19 M, CM.l19 M, CM.k20 M, CM.l20 M, CM.k23 M, CM.l23 M, CM.k24 M, CM.l24 M, CM.k25 M, CM.l25 M, CM.f3 M, CM.f5 M, CM.f11 M, CM.f13 M, CM.f15 M, CM.f19 M, CM.f25 M, CM.f27 M, CM.f31 M, g16]
  · have em : xm X = 24 := by omega
    have H' := H
    obtain ⟨-, -, hc, -, -, -, -, ow, q, mx, u, w, tr, ⟨i0, i1, i2, i3, i4⟩, -⟩ := H'
    have emx : mx = 24 := by omega
    subst emx
    have hG : ∀ k, k < 24 → gR h (c + 19) k = some (q k) := fun k hk => by rw [i1 k hk, if_pos hk]
    have hkq : ∀ k, k < 24 → gK h (q k) = 2 := fun k hk => (i2 k hk).2.1.lk.1
    have key : ∀ r k (Q : Po), k + r = 24 → 1 ≤ k → Ex mX0_keep Q 18 [.ref c, .ref (q 0), .int (nI k)] [] (pG h (c + 19) (rotG (gR h (c + 19)) k)) = Ex mX0_keep Q 44 [.ref c, .ref (q 0), .int (nI 24)] [] (pG h (c + 19) (rotG (gR h (c + 19)) 24)) := by
      intro r
      induction r with
      | zero =>
        intro k Q hk h1
        have ek : k = 24 := by omega
        rw [rX0_keep_18, ek]
        simp (disch := omega) only [↓rX0_keep_19, ↓rX0_keep_21, ↓rX0_keep_24, ↓rX0_keep_25, ↓rX0_keep_28, ↓rX0_keep_29, ↓rX0_keep_30, ↓rX0_keep_31, ↓rX0_keep_32, ↓rX0_keep_35, ↓rX0_keep_36, ↓rX0_keep_37, ↓rX0_keep_37n, ↓rX0_keep_38, ↓rX0_keep_41, ↓rX0_keep_t, ↓rmI_in, ↓shrI_in, ↓shlI_in, ↓okI_in, ↓bI_01, bI_z, bI_o, nn_neg, Int.cast_ofNat_Int, zlit, n_leT, n_leF, n_ltT, n_ltF, n_eqT, n_eqF, z_leT, z_leF, z_ltT, z_ltF, z_eqT, z_eqF, nn_add, nn_mul, nn_clamp, nn_lt, nn_le, nn_eq, nn_div, rmI_nn, okI_nn, nn_and, nn_or, nn_xor, shlI_1, shrI_nn, Cont_v, Cont_0, List.mem_cons, List.not_mem_nil, or_false, or_true, true_or, true_and, and_true, ite_not, if_true, if_false, not_true_eq_false, not_false_eq_true, false_or, false_and, and_false, eq_self, ↓reduceIte, reduceCtorEq, gK_pG, gF_pG, CM.k0 M, CM.k1 M, CM.l1 M, CM.k2 M, CM.l2 M, CM.k19 M, CM.l19 M, CM.k20 M, CM.l20 M, CM.k23 M, CM.l23 M, CM.k24 M, CM.l24 M, CM.k25 M, CM.l25 M, CM.f3 M, CM.f5 M, CM.f11 M, CM.f13 M, CM.f15 M, CM.f19 M, CM.f25 M, CM.f27 M, CM.f31 M]
      | succ r ih =>
        intro k Q hk h1
        have hrd : rotG (gR h (c + 19)) k k = some (q k) := (if_neg (by omega)).trans (hG k (by omega))
        have hkk := hkq k (by omega)
        have es := rot_s (gR h (c + 19)) h1
        rw [hG k (by omega)] at es
        rw [← ih (k + 1) Q (by omega) (by omega), rX0_keep_18]
        simp (disch := omega) only [↓rX0_keep_19, ↓rX0_keep_21, ↓rX0_keep_24, ↓rX0_keep_25, ↓rX0_keep_28, ↓rX0_keep_29, ↓rX0_keep_30, ↓rX0_keep_31, ↓rX0_keep_32, ↓rX0_keep_35, ↓rX0_keep_36, ↓rX0_keep_37, ↓rX0_keep_37n, ↓rX0_keep_38, ↓rX0_keep_41, ↓rX0_keep_t, ↓rmI_in, ↓shrI_in, ↓shlI_in, ↓okI_in, ↓bI_01, bI_z, bI_o, nn_neg, Int.cast_ofNat_Int, zlit, n_leT, n_leF, n_ltT, n_ltF, n_eqT, n_eqF, z_leT, z_leF, z_ltT, z_ltF, z_eqT, z_eqF, nn_add, nn_mul, nn_clamp, nn_lt, nn_le, nn_eq, nn_div, rmI_nn, okI_nn, nn_and, nn_or, nn_xor, shlI_1, shrI_nn, Cont_v, Cont_0, List.mem_cons, List.not_mem_nil, or_false, or_true, true_or, true_and, and_true, ite_not, if_true, if_false, not_true_eq_false, not_false_eq_true, false_or, false_and, and_false, eq_self, ↓reduceIte, reduceCtorEq, gK_pG, gL_pG, gF_pG, gR_pG, pR_pG, CM.k0 M, CM.k1 M, CM.l1 M, CM.k2 M, CM.l2 M, CM.k19 M, CM.l19 M, CM.k20 M, CM.l20 M, CM.k23 M, CM.l23 M, CM.k24 M, CM.l24 M, CM.k25 M, CM.l25 M, CM.f3 M, CM.f5 M, CM.f11 M, CM.f13 M, CM.f15 M, CM.f19 M, CM.f25 M, CM.f27 M, CM.f31 M, hrd, rf_some, hkk, nn_sub, es]
    have hk0 := hkq 0 (by omega)
    have step : ∀ Q : Po, Ex mX0_keep Q 0 [.ref c, .retAddr 0, .retAddr 0] [] h = Ex mX0_keep Q 62 [.ref c, .ref (q 0), .int (nI 24)] [] (pF (pG h (c + 19) (upO (rotG (gR h (c + 19)) 24) 23 (some (q 0)))) 16 c (.int (nI 23))) := by
      intro Q
      have s1 : Ex mX0_keep Q 0 [.ref c, .retAddr 0, .retAddr 0] [] h = Ex mX0_keep Q 18 [.ref c, .ref (q 0), .int (nI 1)] [] (pG h (c + 19) (rotG (gR h (c + 19)) 1)) := by
        rw [rot_1, pG_id]
        have hg0 := hG 0 (by omega)
        simp (disch := omega) only [↓rX0_keep_0, ↓rX0_keep_1, ↓rX0_keep_4, ↓rX0_keep_6, ↓rX0_keep_9, ↓rX0_keep_10, ↓rX0_keep_13, ↓rX0_keep_14, ↓rX0_keep_15, ↓rX0_keep_16, ↓rX0_keep_17, ↓rX0_keep_t, ↓rmI_in, ↓shrI_in, ↓shlI_in, ↓okI_in, ↓bI_01, bI_z, bI_o, nn_neg, Int.cast_ofNat_Int, zlit, n_leT, n_leF, n_ltT, n_ltF, n_eqT, n_eqF, z_leT, z_leF, z_ltT, z_ltF, z_eqT, z_eqF, nn_add, nn_mul, nn_clamp, nn_lt, nn_le, nn_eq, nn_div, rmI_nn, okI_nn, nn_and, nn_or, nn_xor, shlI_1, shrI_nn, Cont_v, Cont_0, List.mem_cons, List.not_mem_nil, or_false, or_true, true_or, true_and, and_true, ite_not, if_true, if_false, not_true_eq_false, not_false_eq_true, false_or, false_and, and_false, eq_self, ↓reduceIte, reduceCtorEq, CM.k0 M, CM.k1 M, CM.l1 M, CM.k2 M, CM.l2 M, CM.k19 M, CM.l19 M, CM.k20 M, CM.l20 M, CM.k23 M, CM.l23 M, CM.k24 M, CM.l24 M, CM.k25 M, CM.l25 M, CM.f3 M, CM.f5 M, CM.f11 M, CM.f13 M, CM.f15 M, CM.f19 M, CM.f25 M, CM.f27 M, CM.f31 M, g16, em, hg0, rf_some]
      rw [s1, key 23 1 Q (by omega) (by omega)]
      simp (disch := omega) only [↓rX0_keep_44, ↓rX0_keep_45, ↓rX0_keep_48, ↓rX0_keep_50, ↓rX0_keep_51, ↓rX0_keep_51n, ↓rX0_keep_52, ↓rX0_keep_53, ↓rX0_keep_54, ↓rX0_keep_57, ↓rX0_keep_58, ↓rX0_keep_59, ↓rX0_keep_t, ↓rmI_in, ↓shrI_in, ↓shlI_in, ↓okI_in, ↓bI_01, bI_z, bI_o, nn_neg, Int.cast_ofNat_Int, zlit, n_leT, n_leF, n_ltT, n_ltF, n_eqT, n_eqF, z_leT, z_leF, z_ltT, z_ltF, z_eqT, z_eqF, nn_add, nn_mul, nn_clamp, nn_lt, nn_le, nn_eq, nn_div, rmI_nn, okI_nn, nn_and, nn_or, nn_xor, shlI_1, shrI_nn, Cont_v, Cont_0, List.mem_cons, List.not_mem_nil, or_false, or_true, true_or, true_and, and_true, ite_not, if_true, if_false, not_true_eq_false, not_false_eq_true, false_or, false_and, and_false, eq_self, ↓reduceIte, reduceCtorEq, gK_pG, gL_pG, gF_pG, gR_pG, pR_pG, CM.k0 M, CM.k1 M, CM.l1 M, CM.k2 M, CM.l2 M, CM.k19 M, CM.l19 M, CM.k20 M, CM.l20 M, CM.k23 M, CM.l23 M, CM.k24 M, CM.l24 M, CM.k25 M, CM.l25 M, CM.f3 M, CM.f5 M, CM.f11 M, CM.f13 M, CM.f15 M, CM.f19 M, CM.f25 M, CM.f27 M, CM.f31 M, g16, em, hk0, nn_sub, Nat.reduceSub]
    have sm : ∀ x, x ≠ c → x ≠ c + 19 → SmX h (pF (pG h (c + 19) (upO (rotG (gR h (c + 19)) 24) 23 (some (q 0)))) 16 c (.int (nI 23))) x := fun x h1 h2 => (pG_sm h (c + 19) _ h2).trans (pF_sm h1)
    have B1 := H.rot (h' := pF (pG h (c + 19) (upO (rotG (gR h (c + 19)) 24) 23 (some (q 0)))) 16 c (.int (nI 23))) hX em rfl (fun x _ h1 h2 => sm x h1 h2) (fun x _ => ⟨rfl, rfl⟩) (fun f hf => pF_ne hf) pF_eq (fun i hi => by
      show gR (pG h (c + 19) (upO (rotG (gR h (c + 19)) 24) 23 (some (q 0)))) (c + 19) i = _
      rw [gR_pG]
      unfold upO rotG
      by_cases e : i = 23
      · rw [if_pos e, if_neg (by omega)]; exact (hG 0 (by omega)).symm
      · rw [if_neg e, if_pos (by omega), if_pos (by omega)])
    have hX1 : XOK (um (uA X (fun j => if j < 23 then xA X (j + 1) else xA X j)) 23) := by
      obtain ⟨x1, ⟨x2, x3⟩, x4⟩ := hX
      refine ⟨x1, ⟨show 23 ≤ 24 by omega, fun k hk => ?_⟩, x4⟩
      have hk' : k < 23 := hk
      show WF (if k < 23 then xA X (k + 1) else xA X k) ∧ ((if k < 23 then xA X (k + 1) else xA X k) 4 : Nat) ≤ 999 ∧ 0 < ((if k < 23 then xA X (k + 1) else xA X k) 2 : Nat) ∧ 0 < (xs X 2 : Nat)
      rw [if_pos hk']
      exact x3 (k + 1) (by omega)
    obtain ⟨h', C1, C2, C3⟩ := c0_keep1 B1 hX1 (show 23 < 24 by omega) hC hS
    have e : noteX X = um (uA X (upS (fun j => if j < 23 then xA X (j + 1) else xA X j) 23 (xs X))) 24 := by
      unfold noteX noteA noteM; rw [if_pos em, if_pos em]
    have C0 : KpN h (pF (pG h (c + 19) (upO (rotG (gR h (c + 19)) 24) 23 (some (q 0)))) 16 c (.int (nI 23))) c 0 0 := ⟨⟨Nat.le_refl _, Nat.le_refl _, Nat.le_refl _⟩, fun j _ => sm _ (by omega) (by omega), fun x _ => sm _ (by omega) (by omega)⟩
    refine ⟨h', by rw [e]; exact C1, (by have := C0.trans C2; rwa [Nat.zero_add, Nat.zero_add] at this), fun Q => (step Q).trans (C3 Q _ _)⟩
