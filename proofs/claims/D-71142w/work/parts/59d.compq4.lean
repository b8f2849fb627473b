/-! THE CLASS: trials of any state; how many bits -/
theorem use_pass {h : Hp} {c : Nat} {X : XS} {nT : Nat → Nat} {p e : Nat} {fa : Nat → Nat} {tk0 : Value} (K : LK h (c + 11)) (hl : FLi h p e (xs X 1) fa) (hp : p < c + 11 ∨ c + 11 < p) (hn : ∀ j, j < (xs X 0 : Nat) → nT j = bookAt (xs X) j) (hf : ∀ f, f < (xs X 1 : Nat) → FiA h e (xs X 1) fa (zI (-1000000)) tk0 f (fa f) ∧ gK h (fa f) = 3 + (xs X (26 + f) : Nat) ∧ gF h 68 (fa f) = .int (nI f)) : ∀ (Q : Po) (s' : St), WF s' → (s' 4 : Nat) + 1 < 4096 → s' 0 = xs X 0 → s' 1 = xs X 1 → (∀ j, 20 ≤ j → j < 31 → s' j = xs X j) → Ex mX1_pass Q 0 [.ref (c + 11), .retAddr 0] [] (LB h (c + 11) s' nT p (zI (-1000000)) tk0) = Q (.inl (some (.ref (c + 11)))) (LB h (c + 11) (night s') nT p (zI (-1000000)) tk0) := by
  intro Q s' hW h4 e0 e1 e2
  refine c1_pass Q h (c + 11) s' nT p _ tk0 K (by rw [e1]; exact hl) hp hW (fun j hj => ?_) h4 (fun f hf' => ?_)
  · rw [bookAt_cg (s := xs X) (fun i hi => e2 (20 + i) (by omega) (by omega))]; exact hn j (by rw [e0] at hj; exact hj)
  · have hN : (s' 1 : Nat) ≤ 5 := hW.1.2
    rw [e1] at hf' ⊢
    rw [e1] at hN
    rw [e2 (26 + f) (by omega) (by omega)]
    exact ⟨fa f, (hf f hf').1, (hf f hf').2.1⟩
theorem use_goOn {h : Hp} {c : Nat} {X : XS} {nT : Nat → Nat} {p e : Nat} {fa : Nat → Nat} {tk0 : Value} (M : CM h c) (K : LK h (c + 11)) (hl : FLi h p e (xs X 1) fa) (hp : p < c + 11 ∨ c + 11 < p) (hn : ∀ j, j < (xs X 0 : Nat) → nT j = bookAt (xs X) j) (hf : ∀ f, f < (xs X 1 : Nat) → FiA h e (xs X 1) fa (zI (-1000000)) tk0 f (fa f) ∧ gK h (fa f) = 3 + (xs X (26 + f) : Nat) ∧ gF h 68 (fa f) = .int (nI f)) : ∀ (Q : Po) (s' : St) (m : Nat), m < 4096 → WF s' → (s' 4 : Nat) + m < 4096 → s' 0 = xs X 0 → s' 1 = xs X 1 → (∀ j, 20 ≤ j → j < 31 → s' j = xs X j) → Ex mX0_goOn Q 0 [.ref c, .int (nI m), .retAddr 0] [] (LB h (c + 11) s' nT p (zI (-1000000)) tk0) = Q (.inl (some (.ref (c + 11)))) (LB h (c + 11) (nts m s') nT p (zI (-1000000)) tk0) := by
  intro Q s' m hm hW h4 e0 e1 e2
  refine c0_goOn Q h c s' nT p _ tk0 M K m hm (by rw [e1]; exact hl) hp hW (fun j hj => ?_) h4 (fun f hf' => ?_)
  · rw [bookAt_cg (s := xs X) (fun i hi => e2 (20 + i) (by omega) (by omega))]; exact hn j (by rw [e0] at hj; exact hj)
  · have hN : (s' 1 : Nat) ≤ 5 := hW.1.2
    rw [e1] at hf' ⊢
    rw [e1] at hN
    rw [e2 (26 + f) (by omega) (by omega)]
    exact ⟨fa f, (hf f hf').1, (hf f hf').2.1⟩
def ushI (x y : Int32) : Int32 := (x.toUInt32 >>> (y.toUInt32 &&& Int32.toUInt32 31)).toInt32
def bcA (x : Int32) : Int32 := x - (ushI x 1 &&& 1431655765)
def bcB (a : Int32) : Int32 := (a &&& 858993459) + (ushI a 2 &&& 858993459)
def bcC (a : Int32) : Int32 := (a + ushI a 4) &&& 252645135
def bcD (a : Int32) : Int32 := a + ushI a 8
def bcE (a : Int32) : Int32 := (a + ushI a 16) &&& 63
def bcW (x : Int32) : Int32 := bcE (bcD (bcC (bcB (bcA x))))
theorem cJ_bcW (Q : Po) (h : Hp) (x : Int32) : Ex mJ16_bitCount Q 0 [.int x] [] h = Q (.inl (some (.int (bcW x)))) h := by
  simp only [↓rJ16_bitCount_0, ↓rJ16_bitCount_1, ↓rJ16_bitCount_2, ↓rJ16_bitCount_3, ↓rJ16_bitCount_4, ↓rJ16_bitCount_7, ↓rJ16_bitCount_8, ↓rJ16_bitCount_9, ↓rJ16_bitCount_10, ↓rJ16_bitCount_11, ↓rJ16_bitCount_14, ↓rJ16_bitCount_15, ↓rJ16_bitCount_16, ↓rJ16_bitCount_17, ↓rJ16_bitCount_18, ↓rJ16_bitCount_21, ↓rJ16_bitCount_22, ↓rJ16_bitCount_23, ↓rJ16_bitCount_24, ↓rJ16_bitCount_25, ↓rJ16_bitCount_26, ↓rJ16_bitCount_27, ↓rJ16_bitCount_28, ↓rJ16_bitCount_29, ↓rJ16_bitCount_32, ↓rJ16_bitCount_33, ↓rJ16_bitCount_34, ↓rJ16_bitCount_35, ↓rJ16_bitCount_36, ↓rJ16_bitCount_38, ↓rJ16_bitCount_39, ↓rJ16_bitCount_40, ↓rJ16_bitCount_41, ↓rJ16_bitCount_42, ↓rJ16_bitCount_43, ↓rJ16_bitCount_45, ↓rJ16_bitCount_46, ↓rJ16_bitCount_47, ↓rJ16_bitCount_48, ↓rJ16_bitCount_49, ↓rJ16_bitCount_51, ↓rJ16_bitCount_52, ↓rJ16_bitCount_t]
  rfl
theorem bc64 : ∀ m, m < 64 → bcW (nI m) = nI (onz m) := by decide +kernel
theorem bcN : bcW (zI (-1000000)) = nI (onW 33 (zI (-1000000)) 0) := by decide +kernel
theorem cJ_bitCount (Q : Po) (h : Hp) {m : Nat} (hm : m < 64) : Ex mJ16_bitCount Q 0 [.int (nI m)] [] h = Q (.inl (some (.int (nI (onz m))))) h := by
  rw [cJ_bcW, bc64 m hm]
theorem nz_a : ∀ m, m < 64 → 0 < m → (nI m ^^^ zI (-1)) &&& (nI m - nI 1) = nI (2 ^ lz m - 1) ∧ lz m < 6 := by decide +kernel
theorem cJ_ntz (Q : Po) (h : Hp) {m : Nat} (hm : m < 64 ∧ 0 < m) : Ex mJ16_numberOfTrailingZeros Q 0 [.int (nI m), .retAddr 0] [] h = Q (.inl (some (.int (nI (lz m))))) h := by
  obtain ⟨e, hz⟩ := nz_a m hm.1 hm.2
  have u1 : ((nI 31).toUInt32 >>> ((nI 4).toUInt32 &&& Int32.toUInt32 (nI 31))).toInt32 = nI 1 := by decide
  have u2 : ((nI 7).toUInt32 >>> ((nI 2).toUInt32 &&& Int32.toUInt32 (nI 31))).toInt32 = nI 1 := by decide
  have u3 : ((nI 15).toUInt32 >>> ((nI 2).toUInt32 &&& Int32.toUInt32 (nI 31))).toInt32 = nI 3 := by decide
  have u4 : ((nI 1).toUInt32 >>> ((nI 1).toUInt32 &&& Int32.toUInt32 (nI 31))).toInt32 = nI 0 := by decide
  have u5 : ((nI 3).toUInt32 >>> ((nI 1).toUInt32 &&& Int32.toUInt32 (nI 31))).toInt32 = nI 1 := by decide
  have s0 : Ex mJ16_numberOfTrailingZeros Q 0 [.int (nI m), .retAddr 0] [] h = Ex mJ16_numberOfTrailingZeros Q 8 [.int (nI (2 ^ lz m - 1)), .retAddr 0] [] h := by
    simp (disch := omega) only [↓rJ16_numberOfTrailingZeros_0, ↓rJ16_numberOfTrailingZeros_1, ↓rJ16_numberOfTrailingZeros_2, ↓rJ16_numberOfTrailingZeros_3, ↓rJ16_numberOfTrailingZeros_4, ↓rJ16_numberOfTrailingZeros_5, ↓rJ16_numberOfTrailingZeros_6, ↓rJ16_numberOfTrailingZeros_7, ↓rJ16_numberOfTrailingZeros_t, ↓rmI_in, ↓shrI_in, ↓shlI_in, ↓okI_in, ↓bI_01, bI_z, bI_o, nn_neg, Int.cast_ofNat_Int, zlit, n_leT, n_leF, n_ltT, n_ltF, n_eqT, n_eqF, z_leT, z_leF, z_ltT, z_ltF, z_eqT, z_eqF, nn_add, nn_mul, nn_clamp, nn_lt, nn_le, nn_eq, nn_div, rmI_nn, okI_nn, nn_and, nn_or, nn_xor, shlI_1, shrI_nn, Cont_v, Cont_0, List.mem_cons, List.not_mem_nil, or_false, or_true, true_or, true_and, and_true, ite_not, if_true, if_false, not_true_eq_false, not_false_eq_true, false_or, false_and, and_false, eq_self, ↓reduceIte, reduceCtorEq, e]
  rw [s0]
  generalize lz m = z at hz
  obtain rfl | rfl | rfl | rfl | rfl | rfl : z = 0 ∨ z = 1 ∨ z = 2 ∨ z = 3 ∨ z = 4 ∨ z = 5 := by omega
  all_goals
    simp (disch := omega) only [↓rJ16_numberOfTrailingZeros_8, ↓rJ16_numberOfTrailingZeros_9, ↓rJ16_numberOfTrailingZeros_12, ↓rJ16_numberOfTrailingZeros_13, ↓rJ16_numberOfTrailingZeros_15, ↓rJ16_numberOfTrailingZeros_16, ↓rJ16_numberOfTrailingZeros_17, ↓rJ16_numberOfTrailingZeros_18, ↓rJ16_numberOfTrailingZeros_19, ↓rJ16_numberOfTrailingZeros_20, ↓rJ16_numberOfTrailingZeros_23, ↓rJ16_numberOfTrailingZeros_26, ↓rJ16_numberOfTrailingZeros_29, ↓rJ16_numberOfTrailingZeros_30, ↓rJ16_numberOfTrailingZeros_32, ↓rJ16_numberOfTrailingZeros_33, ↓rJ16_numberOfTrailingZeros_34, ↓rJ16_numberOfTrailingZeros_35, ↓rJ16_numberOfTrailingZeros_38, ↓rJ16_numberOfTrailingZeros_41, ↓rJ16_numberOfTrailingZeros_44, ↓rJ16_numberOfTrailingZeros_45, ↓rJ16_numberOfTrailingZeros_47, ↓rJ16_numberOfTrailingZeros_48, ↓rJ16_numberOfTrailingZeros_49, ↓rJ16_numberOfTrailingZeros_50, ↓rJ16_numberOfTrailingZeros_52, ↓rJ16_numberOfTrailingZeros_55, ↓rJ16_numberOfTrailingZeros_58, ↓rJ16_numberOfTrailingZeros_59, ↓rJ16_numberOfTrailingZeros_60, ↓rJ16_numberOfTrailingZeros_61, ↓rJ16_numberOfTrailingZeros_62, ↓rJ16_numberOfTrailingZeros_63, ↓rJ16_numberOfTrailingZeros_64, ↓rJ16_numberOfTrailingZeros_67, ↓rJ16_numberOfTrailingZeros_70, ↓rJ16_numberOfTrailingZeros_71, ↓rJ16_numberOfTrailingZeros_72, ↓rJ16_numberOfTrailingZeros_73, ↓rJ16_numberOfTrailingZeros_74, ↓rJ16_numberOfTrailingZeros_75, ↓rJ16_numberOfTrailingZeros_76, ↓rJ16_numberOfTrailingZeros_77, ↓rJ16_numberOfTrailingZeros_78, ↓rJ16_numberOfTrailingZeros_79, ↓rJ16_numberOfTrailingZeros_t, ↓rmI_in, ↓shrI_in, ↓shlI_in, ↓okI_in, ↓bI_01, bI_z, bI_o, nn_neg, Int.cast_ofNat_Int, zlit, n_leT, n_leF, n_ltT, n_ltF, n_eqT, n_eqF, z_leT, z_leF, z_ltT, z_ltF, z_eqT, z_eqF, nn_add, nn_mul, nn_clamp, nn_lt, nn_le, nn_eq, nn_div, rmI_nn, okI_nn, nn_and, nn_or, nn_xor, shlI_1, shrI_nn, Cont_v, Cont_0, List.mem_cons, List.not_mem_nil, or_false, or_true, true_or, true_and, and_true, ite_not, if_true, if_false, not_true_eq_false, not_false_eq_true, false_or, false_and, and_false, eq_self, ↓reduceIte, reduceCtorEq, u1, u2, u3, u4, u5, Nat.reducePow, Nat.reduceSub, Nat.reduceAdd, Nat.zero_and]
    try rfl
