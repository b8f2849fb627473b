/-! THE CLASS: order -/
theorem hp_eq {a b : Hp} (h1 : a.1 = b.1) (h2 : a.2.1 = b.2.1) (h3 : ∀ f x, gF a f x = gF b f x) (h4 : ∀ x i, gI a x i = gI b x i) (h5 : a.2.2.2.2 = b.2.2.2.2) : a = b := by
  obtain ⟨a1, a2, a3, a4, a5⟩ := a
  obtain ⟨b1, b2, b3, b4, b5⟩ := b
  have e3 : a3 = b3 := by funext f x; exact h3 f x
  have e4 : a4 = b4 := by funext x i; exact h4 x i
  have e1 : a1 = b1 := h1
  have e2 : a2 = b2 := h2
  have e5 : a5 = b5 := h5
  rw [e1, e2, e3, e4, e5]
theorem LB_F (b : Hp) (a : Nat) (s : St) (n : Nat → Nat) (p : Nat) (tf : Int32) (tk : Value) (f x : Nat) : gF (LB b a s n p tf tk) f x = if x = a ∧ lFn f = true then lF a s p tf tk f else gF b f x := rfl
theorem LB_I (b : Hp) (a : Nat) (s : St) (n : Nat → Nat) (p : Nat) (tf : Int32) (tk : Value) (x i : Nat) : gI (LB b a s n p tf tk) x i = if a < x ∧ x ≤ a + 7 ∧ ¬ x = a + 5 then lCc s n (x - a) i else gI b x i := rfl
/-- line, best and most laid over a heap -/
def OB (h : Hp) (c : Nat) (l z : Nat → Int32) (mo : Int32) : Hp := pF (pC (pC h (c + 23) l) (c + 24) z) 28 c (.int mo)
def upX (l : Nat → Int32) (i : Nat) (v : Int32) : Nat → Int32 := fun j => if j = i then v else l j
section OBS
variable (h : Hp) (c : Nat) (l z : Nat → Int32) (mo : Int32) (s : St) (n : Nat → Nat) (p : Nat) (tf : Int32) (tk : Value)
theorem ob_K (x : Nat) : gK (OB h c l z mo) x = gK h x := rfl
theorem ob_L (x : Nat) : gL (OB h c l z mo) x = gL h x := rfl
theorem ob_F (f x : Nat) : gF (OB h c l z mo) f x = if f = 28 ∧ x = c then .int mo else gF h f x := rfl
theorem ob_I (x i : Nat) : gI (OB h c l z mo) x i = if x = c + 24 then z i else if x = c + 23 then l i else gI h x i := rfl
theorem ob_28 : gF (OB h c l z mo) 28 c = .int mo := if_pos ⟨rfl, rfl⟩
theorem ob_f {f x : Nat} (hf : f ≠ 28 ∨ x ≠ c) : gF (OB h c l z mo) f x = gF h f x := if_neg (by omega)
theorem ob_23 : gI (LB (OB h c l z mo) (c + 11) s n p tf tk) (c + 23) = l := by
  funext i
  rw [lo_I _ _ _ _ _ _ _ _ (by omega), ob_I, if_neg (by omega), if_pos rfl]
theorem ob_24 : gI (LB (OB h c l z mo) (c + 11) s n p tf tk) (c + 24) = z := by
  funext i
  rw [lo_I _ _ _ _ _ _ _ _ (by omega), ob_I, if_pos rfl]
theorem ob_sm {x : Nat} (h1 : x ≠ c) (h2 : x ≠ c + 23) (h3 : x ≠ c + 24) : SmX h (OB h c l z mo) x := by
  refine ⟨rfl, rfl, fun f => ob_f h c l z mo (Or.inr h1), fun i => ?_, fun _ => rfl⟩
  rw [ob_I, if_neg h3, if_neg h2]
theorem ob_w0 (m2 : Int32) : pF (LB h (c + 11) s n p tf tk) 28 c (.int m2) = LB (OB h c (gI h (c + 23)) (gI h (c + 24)) m2) (c + 11) s n p tf tk := by
  refine hp_eq rfl rfl (fun f x => ?_) (fun x i => ?_) rfl
  · rw [gF_pF, LB_F, LB_F, ob_F]
    by_cases h1 : x = c
    · rw [if_neg (show ¬ (x = c + 11 ∧ lFn f = true) by omega), if_neg (show ¬ (x = c + 11 ∧ lFn f = true) by omega)]
    · rw [if_neg (show ¬ (f = 28 ∧ x = c) by omega), if_neg (show ¬ (f = 28 ∧ x = c) by omega)]
  · rw [gI_pF, LB_I, LB_I, ob_I]
    by_cases h1 : x = c + 24
    · subst h1; rw [if_pos rfl]
    · rw [if_neg h1]
      by_cases h2 : x = c + 23
      · subst h2; rw [if_pos rfl]
      · rw [if_neg h2]
theorem ob_w1 (m2 : Int32) : pF (LB (OB h c l z mo) (c + 11) s n p tf tk) 28 c (.int m2) = LB (OB h c l z m2) (c + 11) s n p tf tk := by
  refine hp_eq rfl rfl (fun f x => ?_) (fun x i => rfl) rfl
  rw [gF_pF, LB_F, LB_F, ob_F, ob_F]
  by_cases h1 : x = c
  · rw [if_neg (show ¬ (x = c + 11 ∧ lFn f = true) by omega), if_neg (show ¬ (x = c + 11 ∧ lFn f = true) by omega)]
    by_cases h2 : f = 28 ∧ x = c
    · rw [if_pos h2, if_pos h2]
    · rw [if_neg h2, if_neg h2, if_neg h2]
  · rw [if_neg (show ¬ (f = 28 ∧ x = c) by omega), if_neg (show ¬ (f = 28 ∧ x = c) by omega), if_neg (show ¬ (f = 28 ∧ x = c) by omega)]
theorem ob_w2 (i : Nat) (v : Int32) : pI (LB (OB h c l z mo) (c + 11) s n p tf tk) (c + 23) i v = LB (OB h c (upX l i v) z mo) (c + 11) s n p tf tk := by
  refine hp_eq rfl rfl (fun f x => rfl) (fun x j => ?_) rfl
  rw [gI_pI, LB_I, LB_I, ob_I, ob_I]
  by_cases h1 : x = c + 23
  · subst h1
    rw [if_neg (show ¬ (c + 11 < c + 23 ∧ c + 23 ≤ c + 11 + 7 ∧ ¬ c + 23 = c + 11 + 5) by omega), if_neg (show ¬ (c + 11 < c + 23 ∧ c + 23 ≤ c + 11 + 7 ∧ ¬ c + 23 = c + 11 + 5) by omega), if_neg (show ¬ (c + 23 = c + 24) by omega), if_neg (show ¬ (c + 23 = c + 24) by omega), if_pos rfl, if_pos rfl]
    unfold upX
    by_cases hj : j = i
    · rw [if_pos ⟨rfl, hj⟩, if_pos hj]
    · rw [if_neg (fun q => hj q.2), if_neg hj]
  · rw [if_neg (fun q => h1 q.1), if_neg h1, if_neg h1]
theorem ob_w3 (g : Nat → Int32) : pC (LB (OB h c l z mo) (c + 11) s n p tf tk) (c + 24) g = LB (OB h c l g mo) (c + 11) s n p tf tk := by
  refine hp_eq rfl rfl (fun f x => rfl) (fun x j => ?_) rfl
  rw [gI_pC, LB_I, LB_I, ob_I, ob_I]
  by_cases h1 : x = c + 24
  · subst h1
    rw [if_neg (show ¬ (c + 11 < c + 24 ∧ c + 24 ≤ c + 11 + 7 ∧ ¬ c + 24 = c + 11 + 5) by omega), if_pos rfl, if_pos rfl, if_neg (show ¬ (c + 11 < c + 24 ∧ c + 24 ≤ c + 11 + 7 ∧ ¬ c + 24 = c + 11 + 5) by omega)]
  · rw [if_neg h1, if_neg h1, if_neg h1]
theorem ob_i23 (i : Nat) : gI (OB h c l z mo) (c + 23) i = l i := by rw [ob_I, if_neg (by omega), if_pos rfl]
theorem ob_i24 (i : Nat) : gI (OB h c l z mo) (c + 24) i = z i := by rw [ob_I, if_pos rfl]
end OBS
theorem OB.M {h : Hp} {c : Nat} (M : CM h c) (l z : Nat → Int32) (mo : Int32) : CM (OB h c l z mo) c := M.keep (fun k _ => ⟨rfl, rfl⟩) (fun f _ _ _ _ _ f6 => ob_f h c l z mo (Or.inl f6)) (fun i => rfl)
theorem OB.L {h : Hp} {c : Nat} {s : St} {n : Nat → Nat} {p : Nat} {tf : Int32} {tk : Value} (L : HL h (c + 3) s n p tf tk) (l z : Nat → Int32) (mo : Int32) : HL (OB h c l z mo) (c + 3) s n p tf tk := L.sm (fun k hk => ob_sm h c l z mo (by omega) (by omega) (by omega))
theorem OB.l {h : Hp} {c p e N : Nat} {fa : Nat → Nat} (H : FLi h p e N fa) (l z : Nat → Int32) (mo : Int32) : FLi (OB h c l z mo) p e N fa := by
  obtain ⟨q1, q2, q3, q4⟩ := H
  exact ⟨q1, by rw [ob_f h c l z mo (Or.inl (by omega))]; exact q2, by rw [ob_f h c l z mo (Or.inl (by omega))]; exact q3, q4⟩
theorem lOf_app {P : List Nat} {b i : Nat} : lOf (P ++ [b]) i = if i = P.length then b else lOf P i := by
  unfold lOf
  by_cases h : i < P.length
  · rw [if_neg (by omega), List.getD_eq_getElem?_getD, List.getD_eq_getElem?_getD, List.getElem?_append_left h]
  · by_cases e : i = P.length
    · rw [if_pos e, e, List.getD_eq_getElem?_getD, List.getElem?_append_right (Nat.le_refl _), Nat.sub_self]; rfl
    · rw [if_neg e, List.getD_eq_getElem?_getD, List.getD_eq_getElem?_getD, List.getElem?_eq_none (by rw [List.length_append]; simp only [List.length_cons, List.length_nil]; omega), List.getElem?_eq_none (by omega)]
/-- what is held of an order's value -/
def ORl (M : Nat) (x : Int × (Nat → Nat)) (z : Nat → Int32) (mo : Int32) : Prop := mo = zI x.1 ∧ (-1 ≤ x.1 ∧ x.1 ≤ 30000) ∧ (0 ≤ x.1 → ∀ j, j < M → z j = nI (x.2 j))
theorem c0_look {h : Hp} {c : Nat} {X : XS} {nn : Nat → Nat} {p e : Nat} {fa : Nat → Nat} {tf : Int32} {tk tk0 : Value} (hX : XOK X) (M : CM h c) (K : LK h (c + 11)) (L : HL h (c + 3) (xs X) nn p tf tk) (hl : FLi h p e (xs X 1) fa) (hp : p < c + 11 ∨ c + 11 < p) (hn : ∀ j, j < (xs X 0 : Nat) → nn j = bookAt (xs X) j) (hf : ∀ f, f < (xs X 1 : Nat) → FiA h e (xs X 1) fa (zI (-1000000)) tk0 f (fa f) ∧ gK h (fa f) = 3 + (xs X (26 + f) : Nat) ∧ gF h 68 (fa f) = .int (nI f)) {P : List Nat} {l z : Nat → Int32} {mo : Int32} {x : Int × (Nat → Nat)} {bk m : Nat} (s' : St) (n' : Nat → Nat) (p' : Nat) (tf' : Int32) (hP : perB (xs X 0) P = true) (hlP : ∀ i, i < (xs X 0 : Nat) → l i = nI (lOf P i)) (hr : ORl (xs X 0) x z mo) (hbk : bk < 64) (hm : m ≤ 12) : ∃ z2 m2 s2 n2 p2 tf2, ORl (xs X 0) (ordU (xs X) bk m x (lOf P)) z2 m2 ∧ ∀ Q : Po, Ex mX0_look Q 0 [.ref c, .int (nI bk), .int (nI m), .retAddr 0] [] (LB (OB h c l z mo) (c + 11) s' n' p' tf' tk0) = Q (.inl none) (LB (OB h c l z2 m2) (c + 11) s2 n2 p2 tf2 tk0) := by
  have hM : (xs X 0 : Nat) ≤ 6 := hX.1.1.1.1
  have h4 := hX.1.2
  obtain ⟨p1, p2, p3, p4⟩ := perB_ok hP
  obtain ⟨a1, a2⟩ := setP_at (s := xs X) hM p2 p4
  obtain ⟨hWp, hbp⟩ := WF_places hX.1.1 (lOf P) a2 p2 p3 a1
  have e4 : (setP (lOf P) (xs X 0) (xs X) 4 : Nat) = (xs X 4 : Nat) := congrArg Fin.val (a2 4 (by omega))
  have hnt := nts_ok hWp m (by omega)
  have hn0 : (nts m (setP (lOf P) (xs X 0) (xs X)) 0 : Nat) ≤ 6 := hnt.1.1.1
  have hv := sumS_le (bk := bk) hn0
  have Mo := OB.M M l z mo
  have Lo := OB.L L l z mo
  have hlo := OB.l (c := c) hl l z mo
  have Ko : LK (OB h c l z mo) (c + 11) := K
  have k0 : gK (OB h c l z mo) (c + 11) = 2 := K.1
  obtain ⟨hmo, hxb, hz⟩ := hr
  have keyP : ∀ (Q : Po) q k s' n', k + q = (xs X 0 : Nat) → Ex mX0_look Q 7 [.ref c, .int (nI bk), .int (nI m), .int (nI k)] [] (LB (OB h c l z mo) (c + 11) s' n' p (zI (-1000000)) tk0) = Ex mX0_look Q 38 [.ref c, .int (nI bk), .int (nI m), .int (nI (xs X 0))] [] (LB (OB h c l z mo) (c + 11) (lf (fun k s => wr s (20 + lOf P k) k) q k s') (lf (fun k n => upN n k (lOf P k)) q k n') p (zI (-1000000)) tk0) := by
    intro Q q
    induction q with
    | zero =>
      intro k s' n' hk
      have ek : k = (xs X 0 : Nat) := by omega
      rw [rX0_look_7, ek]
      simp (disch := omega) only [↓rX0_look_8, ↓rX0_look_9, ↓rX0_look_12, ↓rX0_look_15, ↓rX0_look_18, ↓rX0_look_19, ↓rX0_look_22, ↓rX0_look_23, ↓rX0_look_26, ↓rX0_look_27, ↓rX0_look_28, ↓rX0_look_29, ↓rX0_look_32, ↓rX0_look_35, ↓rX0_look_t, lG_32, lG_34, lG_36, lG_46, lG_48, lG_56, lG_58, lG_39, lG_41, lG_43, lG_45, lG_53, lG_55, lG_51, lG_60, lG_63, lI_1, lI_2, lI_4, lI_6, lI_7, lI_3, lP_32, lP_34, lP_36, lP_46, lP_48, lP_56, lP_58, lP_51, lP_60, lP_63, lW_1, lW_2, lW_4, lW_6, lW_7, lW_3, lo_K, lo_L, lo_R, lo_N, lo_C, lo_S, lo_F, lo_I, ↓rmI_in, ↓shrI_in, ↓shlI_in, ↓okI_in, ↓bI_01, bI_z, bI_o, nn_neg, Int.cast_ofNat_Int, zlit, n_leT, n_leF, n_ltT, n_ltF, n_eqT, n_eqF, z_leT, z_leF, z_ltT, z_ltF, z_eqT, z_eqF, nn_add, nn_mul, nn_clamp, nn_lt, nn_le, nn_eq, nn_div, rmI_nn, okI_nn, nn_and, nn_or, nn_xor, shlI_1, shrI_nn, Cont_v, Cont_0, List.mem_cons, List.not_mem_nil, or_false, or_true, true_or, true_and, and_true, ite_not, if_true, if_false, not_true_eq_false, not_false_eq_true, false_or, false_and, and_false, eq_self, ↓reduceIte, reduceCtorEq, l_toInt, sub_toInt, l64_0, l64_1, l64_2, l64_3, l64_5, l64_7, l64_9, l64_10, l64_12, l64_24, l64_48, l64_57, l64_60, l64_97, l64_122, l64_255, l64_999, l64_999999, l64_m, ↓c0_isIn, ↓c0_isRow, ↓c0_isHalf, ↓c0_isFar, ↓c0_isLong, ↓c0_isShort, CM.k0 Mo, CM.k1 Mo, CM.l1 Mo, CM.k2 Mo, CM.l2 Mo, CM.k19 Mo, CM.l19 Mo, CM.k20 Mo, CM.l20 Mo, CM.k23 Mo, CM.l23 Mo, CM.k24 Mo, CM.l24 Mo, CM.k25 Mo, CM.l25 Mo, CM.f3 Mo, CM.f5 Mo, CM.f11 Mo, CM.f13 Mo, CM.f15 Mo, CM.f19 Mo, CM.f25 Mo, CM.f27 Mo, CM.f31 Mo, HL.k0 Lo, HL.g32 Lo, HL.g34 Lo, HL.g36 Lo, HL.g46 Lo, HL.g48 Lo, HL.g56 Lo, HL.g58 Lo, HL.g39 Lo, HL.g41 Lo, HL.g43 Lo, HL.g45 Lo, HL.g53 Lo, HL.g55 Lo, HL.g51 Lo, HL.g60 Lo, HL.g63 Lo, HL.i1 Lo, HL.i2 Lo, HL.i4 Lo, HL.i6 Lo, HL.i7 Lo, HL.i3 Lo, HL.k0 Lo, HL.k1 Lo, HL.l1 Lo, HL.k2 Lo, HL.l2 Lo, HL.k3 Lo, HL.l3 Lo, HL.k4 Lo, HL.l4 Lo, HL.k6 Lo, HL.l6 Lo, HL.k7 Lo, HL.l7 Lo, lf]
    | succ q ih =>
      intro k s' n' hk
      have hlk := p2 k (by omega)
      have hlx := hlP k (by omega)
      rw [rX0_look_7]
      simp (disch := omega) only [↓rX0_look_8, ↓rX0_look_9, ↓rX0_look_12, ↓rX0_look_15, ↓rX0_look_18, ↓rX0_look_19, ↓rX0_look_22, ↓rX0_look_23, ↓rX0_look_26, ↓rX0_look_27, ↓rX0_look_28, ↓rX0_look_29, ↓rX0_look_32, ↓rX0_look_35, ↓rX0_look_t, lG_32, lG_34, lG_36, lG_46, lG_48, lG_56, lG_58, lG_39, lG_41, lG_43, lG_45, lG_53, lG_55, lG_51, lG_60, lG_63, lI_1, lI_2, lI_4, lI_6, lI_7, lI_3, lP_32, lP_34, lP_36, lP_46, lP_48, lP_56, lP_58, lP_51, lP_60, lP_63, lW_1, lW_2, lW_4, lW_6, lW_7, lW_3, lo_K, lo_L, lo_R, lo_N, lo_C, lo_S, lo_F, lo_I, ↓rmI_in, ↓shrI_in, ↓shlI_in, ↓okI_in, ↓bI_01, bI_z, bI_o, nn_neg, Int.cast_ofNat_Int, zlit, n_leT, n_leF, n_ltT, n_ltF, n_eqT, n_eqF, z_leT, z_leF, z_ltT, z_ltF, z_eqT, z_eqF, nn_add, nn_mul, nn_clamp, nn_lt, nn_le, nn_eq, nn_div, rmI_nn, okI_nn, nn_and, nn_or, nn_xor, shlI_1, shrI_nn, Cont_v, Cont_0, List.mem_cons, List.not_mem_nil, or_false, or_true, true_or, true_and, and_true, ite_not, if_true, if_false, not_true_eq_false, not_false_eq_true, false_or, false_and, and_false, eq_self, ↓reduceIte, reduceCtorEq, l_toInt, sub_toInt, l64_0, l64_1, l64_2, l64_3, l64_5, l64_7, l64_9, l64_10, l64_12, l64_24, l64_48, l64_57, l64_60, l64_97, l64_122, l64_255, l64_999, l64_999999, l64_m, ↓c0_isIn, ↓c0_isRow, ↓c0_isHalf, ↓c0_isFar, ↓c0_isLong, ↓c0_isShort, CM.k0 Mo, CM.k1 Mo, CM.l1 Mo, CM.k2 Mo, CM.l2 Mo, CM.k19 Mo, CM.l19 Mo, CM.k20 Mo, CM.l20 Mo, CM.k23 Mo, CM.l23 Mo, CM.k24 Mo, CM.l24 Mo, CM.k25 Mo, CM.l25 Mo, CM.f3 Mo, CM.f5 Mo, CM.f11 Mo, CM.f13 Mo, CM.f15 Mo, CM.f19 Mo, CM.f25 Mo, CM.f27 Mo, CM.f31 Mo, HL.k0 Lo, HL.g32 Lo, HL.g34 Lo, HL.g36 Lo, HL.g46 Lo, HL.g48 Lo, HL.g56 Lo, HL.g58 Lo, HL.g39 Lo, HL.g41 Lo, HL.g43 Lo, HL.g45 Lo, HL.g53 Lo, HL.g55 Lo, HL.g51 Lo, HL.g60 Lo, HL.g63 Lo, HL.i1 Lo, HL.i2 Lo, HL.i4 Lo, HL.i6 Lo, HL.i7 Lo, HL.i3 Lo, HL.k0 Lo, HL.k1 Lo, HL.l1 Lo, HL.k2 Lo, HL.l2 Lo, HL.k3 Lo, HL.l3 Lo, HL.k4 Lo, HL.l4 Lo, HL.k6 Lo, HL.l6 Lo, HL.k7 Lo, HL.l7 Lo, k0, ob_i23, hlx, ↓c1_puts _ _ _ _ _ _ _ _ Ko, lf]
      exact ih (k + 1) _ _ (by omega)
  have hnf : ∀ q k n', k + q = (xs X 0 : Nat) → ∀ j, j < (xs X 0 : Nat) → lf (fun k n => upN n k (lOf P k)) q k n' j = if k ≤ j then lOf P j else n' j := by
    intro q
    induction q with
    | zero => intro k n' hk j hj; rw [if_neg (by omega)]; rfl
    | succ q ih =>
      intro k n' hk j hj
      show lf (fun k n => upN n k (lOf P k)) q (k + 1) (upN n' k (lOf P k)) j = _
      rw [ih (k + 1) _ (by omega) j hj]
      by_cases h1 : k + 1 ≤ j
      · rw [if_pos h1, if_pos (by omega)]
      · rw [if_neg h1]
        unfold upN
        by_cases h2 : j = k
        · rw [if_pos h2, if_pos (by omega), h2]
        · rw [if_neg h2, if_neg (by omega)]
  have es : lf (fun k s => wr s (20 + lOf P k) k) (xs X 0 : Nat) 0 (xs X) = setP (lOf P) (xs X 0) (xs X) := rfl
  have hgo := fun Q => c0_goOn (tf' := zI (-1000000)) (tk' := tk0) Q (OB h c l z mo) c (setP (lOf P) (xs X 0) (xs X)) (lf (fun k n => upN n k (lOf P k)) (xs X 0 : Nat) 0 (cpN n' nn)) p Mo Ko m (by omega) (by rw [a2 1 (by omega)]; exact hlo) hp hWp (fun j hj => by
    rw [a2 0 (by omega)] at hj
    rw [hnf _ 0 _ (by omega) j hj, if_pos (by omega), hbp j hj]) (by omega) (fun f hf' => by
    rw [a2 1 (by omega)] at hf' ⊢
    rw [a2 (26 + f) (by omega)]
    exact ⟨fa f, (hf f hf').1, (hf f hf').2.1⟩)
  have hlf := fun Q => c1_left Q (OB h c l z mo) (c + 11) (nts m (setP (lOf P) (xs X 0) (xs X))) (lf (fun k n => upN n k (lOf P k)) (xs X 0 : Nat) 0 (cpN n' nn)) p (zI (-1000000)) tk0 Ko (set := bk) hn0 (by omega)
  have h1 : ∀ Q : Po, Ex mX0_look Q 0 [.ref c, .int (nI bk), .int (nI m), .retAddr 0] [] (LB (OB h c l z mo) (c + 11) s' n' p' tf' tk0) = Ex mX0_look Q 48 [.ref c, .int (nI bk), .int (nI m), .int (nI (sumS (nts m (setP (lOf P) (xs X 0) (xs X))) bk))] [] (LB (OB h c l z mo) (c + 11) (nts m (setP (lOf P) (xs X 0) (xs X))) (lf (fun k n => upN n k (lOf P k)) (xs X 0 : Nat) 0 (cpN n' nn)) p (zI (-1000000)) tk0) := by
    intro Q
    simp (disch := omega) only [↓rX0_look_0, ↓rX0_look_1, ↓rX0_look_4, ↓rX0_look_5, ↓rX0_look_6, ↓rX0_look_t, lG_32, lG_34, lG_36, lG_46, lG_48, lG_56, lG_58, lG_39, lG_41, lG_43, lG_45, lG_53, lG_55, lG_51, lG_60, lG_63, lI_1, lI_2, lI_4, lI_6, lI_7, lI_3, lP_32, lP_34, lP_36, lP_46, lP_48, lP_56, lP_58, lP_51, lP_60, lP_63, lW_1, lW_2, lW_4, lW_6, lW_7, lW_3, lo_K, lo_L, lo_R, lo_N, lo_C, lo_S, lo_F, lo_I, ↓rmI_in, ↓shrI_in, ↓shlI_in, ↓okI_in, ↓bI_01, bI_z, bI_o, nn_neg, Int.cast_ofNat_Int, zlit, n_leT, n_leF, n_ltT, n_ltF, n_eqT, n_eqF, z_leT, z_leF, z_ltT, z_ltF, z_eqT, z_eqF, nn_add, nn_mul, nn_clamp, nn_lt, nn_le, nn_eq, nn_div, rmI_nn, okI_nn, nn_and, nn_or, nn_xor, shlI_1, shrI_nn, Cont_v, Cont_0, List.mem_cons, List.not_mem_nil, or_false, or_true, true_or, true_and, and_true, ite_not, if_true, if_false, not_true_eq_false, not_false_eq_true, false_or, false_and, and_false, eq_self, ↓reduceIte, reduceCtorEq, l_toInt, sub_toInt, l64_0, l64_1, l64_2, l64_3, l64_5, l64_7, l64_9, l64_10, l64_12, l64_24, l64_48, l64_57, l64_60, l64_97, l64_122, l64_255, l64_999, l64_999999, l64_m, ↓c0_isIn, ↓c0_isRow, ↓c0_isHalf, ↓c0_isFar, ↓c0_isLong, ↓c0_isShort, CM.k0 Mo, CM.k1 Mo, CM.l1 Mo, CM.k2 Mo, CM.l2 Mo, CM.k19 Mo, CM.l19 Mo, CM.k20 Mo, CM.l20 Mo, CM.k23 Mo, CM.l23 Mo, CM.k24 Mo, CM.l24 Mo, CM.k25 Mo, CM.l25 Mo, CM.f3 Mo, CM.f5 Mo, CM.f11 Mo, CM.f13 Mo, CM.f15 Mo, CM.f19 Mo, CM.f25 Mo, CM.f27 Mo, CM.f31 Mo, ↓c0_tried _ _ _ _ _ _ _ _ _ _ _ _ _ Mo Ko Lo]
    rw [keyP Q (xs X 0) 0 (xs X) (cpN n' nn) (by omega), es]
    simp (disch := omega) only [↓rX0_look_38, ↓rX0_look_39, ↓rX0_look_40, ↓rX0_look_43, ↓rX0_look_44, ↓rX0_look_47, ↓rX0_look_t, lG_32, lG_34, lG_36, lG_46, lG_48, lG_56, lG_58, lG_39, lG_41, lG_43, lG_45, lG_53, lG_55, lG_51, lG_60, lG_63, lI_1, lI_2, lI_4, lI_6, lI_7, lI_3, lP_32, lP_34, lP_36, lP_46, lP_48, lP_56, lP_58, lP_51, lP_60, lP_63, lW_1, lW_2, lW_4, lW_6, lW_7, lW_3, lo_K, lo_L, lo_R, lo_N, lo_C, lo_S, lo_F, lo_I, ↓rmI_in, ↓shrI_in, ↓shlI_in, ↓okI_in, ↓bI_01, bI_z, bI_o, nn_neg, Int.cast_ofNat_Int, zlit, n_leT, n_leF, n_ltT, n_ltF, n_eqT, n_eqF, z_leT, z_leF, z_ltT, z_ltF, z_eqT, z_eqF, nn_add, nn_mul, nn_clamp, nn_lt, nn_le, nn_eq, nn_div, rmI_nn, okI_nn, nn_and, nn_or, nn_xor, shlI_1, shrI_nn, Cont_v, Cont_0, List.mem_cons, List.not_mem_nil, or_false, or_true, true_or, true_and, and_true, ite_not, if_true, if_false, not_true_eq_false, not_false_eq_true, false_or, false_and, and_false, eq_self, ↓reduceIte, reduceCtorEq, l_toInt, sub_toInt, l64_0, l64_1, l64_2, l64_3, l64_5, l64_7, l64_9, l64_10, l64_12, l64_24, l64_48, l64_57, l64_60, l64_97, l64_122, l64_255, l64_999, l64_999999, l64_m, ↓c0_isIn, ↓c0_isRow, ↓c0_isHalf, ↓c0_isFar, ↓c0_isLong, ↓c0_isShort, CM.k0 Mo, CM.k1 Mo, CM.l1 Mo, CM.k2 Mo, CM.l2 Mo, CM.k19 Mo, CM.l19 Mo, CM.k20 Mo, CM.l20 Mo, CM.k23 Mo, CM.l23 Mo, CM.k24 Mo, CM.l24 Mo, CM.k25 Mo, CM.l25 Mo, CM.f3 Mo, CM.f5 Mo, CM.f11 Mo, CM.f13 Mo, CM.f15 Mo, CM.f19 Mo, CM.f25 Mo, CM.f27 Mo, CM.f31 Mo, k0, ↓hgo, ↓hlf]
  unfold ordU
  by_cases hc : x.1 < ((sumS (nts m (setP (lOf P) (xs X 0) (xs X))) bk : Nat) : Int)
  · rw [if_pos hc]
    refine ⟨va_cpy l z 0 0 6, nI (sumS (nts m (setP (lOf P) (xs X 0) (xs X))) bk), nts m (setP (lOf P) (xs X 0) (xs X)), lf (fun k n => upN n k (lOf P k)) (xs X 0 : Nat) 0 (cpN n' nn), p, zI (-1000000), ⟨nn_zI _, ⟨by simp only; omega, by simp only; omega⟩, fun _ j hj => ?_⟩, fun Q => ?_⟩
    · rw [pk_cpy_in (by omega) (by omega), Nat.zero_add, Nat.sub_zero, hlP j hj]
      simp only [if_pos hj]
    · rw [h1 Q, hmo]
      rw [hmo] at Mo Lo
      simp (disch := omega) only [↓rX0_look_48, ↓rX0_look_49, ↓rX0_look_50, ↓rX0_look_53, ↓rX0_look_56, ↓rX0_look_57, ↓rX0_look_58, ↓rX0_look_59, ↓rX0_look_62, ↓rX0_look_63, ↓rX0_look_66, ↓rX0_look_67, ↓rX0_look_68, ↓rX0_look_71, ↓rX0_look_72, ↓rX0_look_74, ↓rX0_look_77, ↓rX0_look_t, lG_32, lG_34, lG_36, lG_46, lG_48, lG_56, lG_58, lG_39, lG_41, lG_43, lG_45, lG_53, lG_55, lG_51, lG_60, lG_63, lI_1, lI_2, lI_4, lI_6, lI_7, lI_3, lP_32, lP_34, lP_36, lP_46, lP_48, lP_56, lP_58, lP_51, lP_60, lP_63, lW_1, lW_2, lW_4, lW_6, lW_7, lW_3, lo_K, lo_L, lo_R, lo_N, lo_C, lo_S, lo_F, lo_I, ↓rmI_in, ↓shrI_in, ↓shlI_in, ↓okI_in, ↓bI_01, bI_z, bI_o, nn_neg, Int.cast_ofNat_Int, zlit, n_leT, n_leF, n_ltT, n_ltF, n_eqT, n_eqF, z_leT, z_leF, z_ltT, z_ltF, z_eqT, z_eqF, nn_add, nn_mul, nn_clamp, nn_lt, nn_le, nn_eq, nn_div, rmI_nn, okI_nn, nn_and, nn_or, nn_xor, shlI_1, shrI_nn, Cont_v, Cont_0, List.mem_cons, List.not_mem_nil, or_false, or_true, true_or, true_and, and_true, ite_not, if_true, if_false, not_true_eq_false, not_false_eq_true, false_or, false_and, and_false, eq_self, ↓reduceIte, reduceCtorEq, l_toInt, sub_toInt, l64_0, l64_1, l64_2, l64_3, l64_5, l64_7, l64_9, l64_10, l64_12, l64_24, l64_48, l64_57, l64_60, l64_97, l64_122, l64_255, l64_999, l64_999999, l64_m, ↓c0_isIn, ↓c0_isRow, ↓c0_isHalf, ↓c0_isFar, ↓c0_isLong, ↓c0_isShort, CM.k0 Mo, CM.k1 Mo, CM.l1 Mo, CM.k2 Mo, CM.l2 Mo, CM.k19 Mo, CM.l19 Mo, CM.k20 Mo, CM.l20 Mo, CM.k23 Mo, CM.l23 Mo, CM.k24 Mo, CM.l24 Mo, CM.k25 Mo, CM.l25 Mo, CM.f3 Mo, CM.f5 Mo, CM.f11 Mo, CM.f13 Mo, CM.f15 Mo, CM.f19 Mo, CM.f25 Mo, CM.f27 Mo, CM.f31 Mo, zI_add, zI_sub, zI_mul, zI_neg, nn_neg, zI_lt, zI_le, zI_eq, zn_lt, nz_lt, zn_le, nz_le, zn_eq, nz_eq, zn_add, nz_add, zn_sub, nz_sub, ob_28, ob_f, CM.f25 M, CM.f27 M, ob_23, ob_24, ob_w1, ob_w3, ob_K, ob_L, CM.k0 M, CM.k23 M, CM.l23 M, CM.k24 M, CM.l24 M, List.length_nil]
  · rw [if_neg hc]
    refine ⟨z, mo, nts m (setP (lOf P) (xs X 0) (xs X)), lf (fun k n => upN n k (lOf P k)) (xs X 0 : Nat) 0 (cpN n' nn), p, zI (-1000000), ⟨hmo, hxb, hz⟩, fun Q => ?_⟩
    rw [h1 Q, hmo]
    rw [hmo] at Mo Lo
    simp (disch := omega) only [↓rX0_look_48, ↓rX0_look_49, ↓rX0_look_50, ↓rX0_look_53, ↓rX0_look_56, ↓rX0_look_57, ↓rX0_look_58, ↓rX0_look_59, ↓rX0_look_62, ↓rX0_look_63, ↓rX0_look_66, ↓rX0_look_67, ↓rX0_look_68, ↓rX0_look_71, ↓rX0_look_72, ↓rX0_look_74, ↓rX0_look_77, ↓rX0_look_t, lG_32, lG_34, lG_36, lG_46, lG_48, lG_56, lG_58, lG_39, lG_41, lG_43, lG_45, lG_53, lG_55, lG_51, lG_60, lG_63, lI_1, lI_2, lI_4, lI_6, lI_7, lI_3, lP_32, lP_34, lP_36, lP_46, lP_48, lP_56, lP_58, lP_51, lP_60, lP_63, lW_1, lW_2, lW_4, lW_6, lW_7, lW_3, lo_K, lo_L, lo_R, lo_N, lo_C, lo_S, lo_F, lo_I, ↓rmI_in, ↓shrI_in, ↓shlI_in, ↓okI_in, ↓bI_01, bI_z, bI_o, nn_neg, Int.cast_ofNat_Int, zlit, n_leT, n_leF, n_ltT, n_ltF, n_eqT, n_eqF, z_leT, z_leF, z_ltT, z_ltF, z_eqT, z_eqF, nn_add, nn_mul, nn_clamp, nn_lt, nn_le, nn_eq, nn_div, rmI_nn, okI_nn, nn_and, nn_or, nn_xor, shlI_1, shrI_nn, Cont_v, Cont_0, List.mem_cons, List.not_mem_nil, or_false, or_true, true_or, true_and, and_true, ite_not, if_true, if_false, not_true_eq_false, not_false_eq_true, false_or, false_and, and_false, eq_self, ↓reduceIte, reduceCtorEq, l_toInt, sub_toInt, l64_0, l64_1, l64_2, l64_3, l64_5, l64_7, l64_9, l64_10, l64_12, l64_24, l64_48, l64_57, l64_60, l64_97, l64_122, l64_255, l64_999, l64_999999, l64_m, ↓c0_isIn, ↓c0_isRow, ↓c0_isHalf, ↓c0_isFar, ↓c0_isLong, ↓c0_isShort, CM.k0 Mo, CM.k1 Mo, CM.l1 Mo, CM.k2 Mo, CM.l2 Mo, CM.k19 Mo, CM.l19 Mo, CM.k20 Mo, CM.l20 Mo, CM.k23 Mo, CM.l23 Mo, CM.k24 Mo, CM.l24 Mo, CM.k25 Mo, CM.l25 Mo, CM.f3 Mo, CM.f5 Mo, CM.f11 Mo, CM.f13 Mo, CM.f15 Mo, CM.f19 Mo, CM.f25 Mo, CM.f27 Mo, CM.f31 Mo, zI_add, zI_sub, zI_mul, zI_neg, nn_neg, zI_lt, zI_le, zI_eq, zn_lt, nz_lt, zn_le, nz_le, zn_eq, nz_eq, zn_add, nz_add, zn_sub, nz_sub, ob_28, ob_K, CM.k0 M]
theorem onz_mi : ∀ r, r < 64 → ∀ b, b < 6 → hb r b = true → onz (mi r (2 ^ b)) + 1 = onz r := by decide +kernel
theorem onz_z : ∀ r, r < 64 → onz r = 0 → r = 0 := by decide +kernel
theorem hb_z (b : Nat) : hb 0 b = false := by
  unfold hb
  rw [Nat.zero_div]
  exact decide_eq_false (by decide)
theorem ordLoop {h : Hp} {c : Nat} {X : XS} {nn : Nat → Nat} {p : Nat} {tf : Int32} {tk tk0 : Value} (hX : XOK X) (M : CM h c) (L : HL h (c + 3) (xs X) nn p tf tk) {c2 : Cd} {f bk m rest : Nat} {P : List Nat} (hrest : rest < 64) (hPl : P.length + onz rest = (xs X 0 : Nat))
    (hcall : ∀ b l z mo x s' n' p' tf', b < (xs X 0 : Nat) → hb rest b = true → (∀ i, i < P.length + 1 → l i = nI (lOf (P ++ [b]) i)) → ORl (xs X 0) x z mo → ∃ l2 z2 m2 s2 n2 p2 tf2, (∀ i, i < P.length + 1 → l2 i = l i) ∧ ORl (xs X 0) (((genF (xs X 0) f (P ++ [b]) (mi rest (2 ^ b))).map lOf).foldl (ordU (xs X) bk m) x) z2 m2 ∧ ∀ Q : Po, Ex c2 Q 0 [.ref c, .int (nI bk), .int (nI m), .int (nI (P.length + 1)), .int (nI (mi rest (2 ^ b))), .retAddr 0] [] (LB (OB h c l z mo) (c + 11) s' n' p' tf' tk0) = Q (.inl none) (LB (OB h c l2 z2 m2) (c + 11) s2 n2 p2 tf2 tk0)) :
    ∀ q b l z mo x s' n' p' tf', b + q = (xs X 0 : Nat) → (∀ i, i < P.length → l i = nI (lOf P i)) → ORl (xs X 0) x z mo → ∃ l2 z2 m2 s2 n2 p2 tf2, (∀ i, i < P.length → l2 i = l i) ∧ ORl (xs X 0) (((((List.range' b q).filter (fun b => hb rest b)).flatMap (fun b => genF (xs X 0) f (P ++ [b]) (mi rest (2 ^ b)))).map lOf).foldl (ordU (xs X) bk m) x) z2 m2 ∧ ∀ Q : Po, Ex (mX0_orderFrom (Mt c2 6)) Q 14 [.ref c, .int (nI bk), .int (nI m), .int (nI P.length), .int (nI rest), .int (nI b)] [] (LB (OB h c l z mo) (c + 11) s' n' p' tf' tk0) = Q (.inl none) (LB (OB h c l2 z2 m2) (c + 11) s2 n2 p2 tf2 tk0) := by
  have hM : (xs X 0 : Nat) ≤ 6 := hX.1.1.1.1
  intro q
  induction q with
  | zero =>
    intro b l z mo x s' n' p' tf' hb' hl1 hr
    refine ⟨l, z, mo, s', n', p', tf', fun _ _ => rfl, hr, fun Q => ?_⟩
    have Mo := OB.M M l z mo
    have Lo := OB.L L l z mo
    rw [rX0_orderFrom_14]
    simp (disch := omega) only [↓rX0_orderFrom_0, ↓rX0_orderFrom_2, ↓rX0_orderFrom_5, ↓rX0_orderFrom_6, ↓rX0_orderFrom_7, ↓rX0_orderFrom_8, ↓rX0_orderFrom_11, ↓rX0_orderFrom_12, ↓rX0_orderFrom_16, ↓rX0_orderFrom_17, ↓rX0_orderFrom_20, ↓rX0_orderFrom_23, ↓rX0_orderFrom_26, ↓rX0_orderFrom_28, ↓rX0_orderFrom_30, ↓rX0_orderFrom_33, ↓rX0_orderFrom_36, ↓rX0_orderFrom_39, ↓rX0_orderFrom_40, ↓rX0_orderFrom_43, ↓rX0_orderFrom_44, ↓rX0_orderFrom_46, ↓rX0_orderFrom_47, ↓rX0_orderFrom_48, ↓rX0_orderFrom_49, ↓rX0_orderFrom_50, ↓rX0_orderFrom_51, ↓rX0_orderFrom_52, ↓rX0_orderFrom_53, ↓rX0_orderFrom_55, ↓rX0_orderFrom_56, ↓rX0_orderFrom_58, ↓rX0_orderFrom_59, ↓rX0_orderFrom_60, ↓rX0_orderFrom_61, ↓rX0_orderFrom_62, ↓rX0_orderFrom_65, ↓rX0_orderFrom_68, ↓rX0_orderFrom_71, ↓rX0_orderFrom_t, lG_32, lG_34, lG_36, lG_46, lG_48, lG_56, lG_58, lG_39, lG_41, lG_43, lG_45, lG_53, lG_55, lG_51, lG_60, lG_63, lI_1, lI_2, lI_4, lI_6, lI_7, lI_3, lP_32, lP_34, lP_36, lP_46, lP_48, lP_56, lP_58, lP_51, lP_60, lP_63, lW_1, lW_2, lW_4, lW_6, lW_7, lW_3, lo_K, lo_L, lo_R, lo_N, lo_C, lo_S, lo_F, lo_I, ↓rmI_in, ↓shrI_in, ↓shlI_in, ↓okI_in, ↓bI_01, bI_z, bI_o, nn_neg, Int.cast_ofNat_Int, zlit, n_leT, n_leF, n_ltT, n_ltF, n_eqT, n_eqF, z_leT, z_leF, z_ltT, z_ltF, z_eqT, z_eqF, nn_add, nn_mul, nn_clamp, nn_lt, nn_le, nn_eq, nn_div, rmI_nn, okI_nn, nn_and, nn_or, nn_xor, shlI_1, shrI_nn, Cont_v, Cont_0, List.mem_cons, List.not_mem_nil, or_false, or_true, true_or, true_and, and_true, ite_not, if_true, if_false, not_true_eq_false, not_false_eq_true, false_or, false_and, and_false, eq_self, ↓reduceIte, reduceCtorEq, l_toInt, sub_toInt, l64_0, l64_1, l64_2, l64_3, l64_5, l64_7, l64_9, l64_10, l64_12, l64_24, l64_48, l64_57, l64_60, l64_97, l64_122, l64_255, l64_999, l64_999999, l64_m, ↓c0_isIn, ↓c0_isRow, ↓c0_isHalf, ↓c0_isFar, ↓c0_isLong, ↓c0_isShort, CM.k0 Mo, CM.k1 Mo, CM.l1 Mo, CM.k2 Mo, CM.l2 Mo, CM.k19 Mo, CM.l19 Mo, CM.k20 Mo, CM.l20 Mo, CM.k23 Mo, CM.l23 Mo, CM.k24 Mo, CM.l24 Mo, CM.k25 Mo, CM.l25 Mo, CM.f3 Mo, CM.f5 Mo, CM.f11 Mo, CM.f13 Mo, CM.f15 Mo, CM.f19 Mo, CM.f25 Mo, CM.f27 Mo, CM.f31 Mo, HL.k0 Lo, HL.g32 Lo, HL.g34 Lo, HL.g36 Lo, HL.g46 Lo, HL.g48 Lo, HL.g56 Lo, HL.g58 Lo, HL.g39 Lo, HL.g41 Lo, HL.g43 Lo, HL.g45 Lo, HL.g53 Lo, HL.g55 Lo, HL.g51 Lo, HL.g60 Lo, HL.g63 Lo, HL.i1 Lo, HL.i2 Lo, HL.i4 Lo, HL.i6 Lo, HL.i7 Lo, HL.i3 Lo, HL.k0 Lo, HL.k1 Lo, HL.l1 Lo, HL.k2 Lo, HL.l2 Lo, HL.k3 Lo, HL.l3 Lo, HL.k4 Lo, HL.l4 Lo, HL.k6 Lo, HL.l6 Lo, HL.k7 Lo, HL.l7 Lo]
  | succ q ih =>
    intro b l z mo x s' n' p' tf' hb' hl1 hr
    have Mo := OB.M M l z mo
    have Lo := OB.L L l z mo
    have hb6 : b < 6 := by omega
    cases hc : hb rest b with
    | false =>
      obtain ⟨l2, z2, m2, s2, n2, p2, tf2, a1, a2, a3⟩ := ih (b + 1) l z mo x s' n' p' tf' (by omega) hl1 hr
      refine ⟨l2, z2, m2, s2, n2, p2, tf2, a1, ?_, fun Q => Eq.trans ?_ (a3 Q)⟩
      · rw [List.range'_succ, List.filter_cons_of_neg (by rw [hc]; decide)]; exact a2
      · rw [rX0_orderFrom_14]
        simp (disch := omega) only [↓rX0_orderFrom_0, ↓rX0_orderFrom_2, ↓rX0_orderFrom_5, ↓rX0_orderFrom_6, ↓rX0_orderFrom_7, ↓rX0_orderFrom_8, ↓rX0_orderFrom_11, ↓rX0_orderFrom_12, ↓rX0_orderFrom_16, ↓rX0_orderFrom_17, ↓rX0_orderFrom_20, ↓rX0_orderFrom_23, ↓rX0_orderFrom_26, ↓rX0_orderFrom_28, ↓rX0_orderFrom_30, ↓rX0_orderFrom_33, ↓rX0_orderFrom_36, ↓rX0_orderFrom_39, ↓rX0_orderFrom_40, ↓rX0_orderFrom_43, ↓rX0_orderFrom_44, ↓rX0_orderFrom_46, ↓rX0_orderFrom_47, ↓rX0_orderFrom_48, ↓rX0_orderFrom_49, ↓rX0_orderFrom_50, ↓rX0_orderFrom_51, ↓rX0_orderFrom_52, ↓rX0_orderFrom_53, ↓rX0_orderFrom_55, ↓rX0_orderFrom_56, ↓rX0_orderFrom_58, ↓rX0_orderFrom_59, ↓rX0_orderFrom_60, ↓rX0_orderFrom_61, ↓rX0_orderFrom_62, ↓rX0_orderFrom_65, ↓rX0_orderFrom_68, ↓rX0_orderFrom_71, ↓rX0_orderFrom_t, lG_32, lG_34, lG_36, lG_46, lG_48, lG_56, lG_58, lG_39, lG_41, lG_43, lG_45, lG_53, lG_55, lG_51, lG_60, lG_63, lI_1, lI_2, lI_4, lI_6, lI_7, lI_3, lP_32, lP_34, lP_36, lP_46, lP_48, lP_56, lP_58, lP_51, lP_60, lP_63, lW_1, lW_2, lW_4, lW_6, lW_7, lW_3, lo_K, lo_L, lo_R, lo_N, lo_C, lo_S, lo_F, lo_I, ↓rmI_in, ↓shrI_in, ↓shlI_in, ↓okI_in, ↓bI_01, bI_z, bI_o, nn_neg, Int.cast_ofNat_Int, zlit, n_leT, n_leF, n_ltT, n_ltF, n_eqT, n_eqF, z_leT, z_leF, z_ltT, z_ltF, z_eqT, z_eqF, nn_add, nn_mul, nn_clamp, nn_lt, nn_le, nn_eq, nn_div, rmI_nn, okI_nn, nn_and, nn_or, nn_xor, shlI_1, shrI_nn, Cont_v, Cont_0, List.mem_cons, List.not_mem_nil, or_false, or_true, true_or, true_and, and_true, ite_not, if_true, if_false, not_true_eq_false, not_false_eq_true, false_or, false_and, and_false, eq_self, ↓reduceIte, reduceCtorEq, l_toInt, sub_toInt, l64_0, l64_1, l64_2, l64_3, l64_5, l64_7, l64_9, l64_10, l64_12, l64_24, l64_48, l64_57, l64_60, l64_97, l64_122, l64_255, l64_999, l64_999999, l64_m, ↓c0_isIn, ↓c0_isRow, ↓c0_isHalf, ↓c0_isFar, ↓c0_isLong, ↓c0_isShort, CM.k0 Mo, CM.k1 Mo, CM.l1 Mo, CM.k2 Mo, CM.l2 Mo, CM.k19 Mo, CM.l19 Mo, CM.k20 Mo, CM.l20 Mo, CM.k23 Mo, CM.l23 Mo, CM.k24 Mo, CM.l24 Mo, CM.k25 Mo, CM.l25 Mo, CM.f3 Mo, CM.f5 Mo, CM.f11 Mo, CM.f13 Mo, CM.f15 Mo, CM.f19 Mo, CM.f25 Mo, CM.f27 Mo, CM.f31 Mo, HL.k0 Lo, HL.g32 Lo, HL.g34 Lo, HL.g36 Lo, HL.g46 Lo, HL.g48 Lo, HL.g56 Lo, HL.g58 Lo, HL.g39 Lo, HL.g41 Lo, HL.g43 Lo, HL.g45 Lo, HL.g53 Lo, HL.g55 Lo, HL.g51 Lo, HL.g60 Lo, HL.g63 Lo, HL.i1 Lo, HL.i2 Lo, HL.i4 Lo, HL.i6 Lo, HL.i7 Lo, HL.i3 Lo, HL.k0 Lo, HL.k1 Lo, HL.l1 Lo, HL.k2 Lo, HL.l2 Lo, HL.k3 Lo, HL.l3 Lo, HL.k4 Lo, HL.l4 Lo, HL.k6 Lo, HL.l6 Lo, HL.k7 Lo, HL.l7 Lo, ↓c0_has, hc]
    | true =>
      have ho := onz_mi rest hrest b hb6 hc
      have hpb : 2 ^ b < 64 := Nat.pow_lt_pow_right (n := 6) (by decide) hb6
      obtain ⟨l3, z3, m3, s3, n3, p3, tf3, b1, b2, b3⟩ := hcall b (upX l P.length (nI b)) z mo x s' n' p' tf' (by omega) hc (fun i hi => by
        unfold upX
        rw [lOf_app]
        by_cases e : i = P.length
        · rw [if_pos e, if_pos e]
        · rw [if_neg e, if_neg e]; exact hl1 i (by omega)) hr
      have hl3 : ∀ i, i < P.length → l3 i = l i := fun i hi => (b1 i (by omega)).trans (if_neg (by omega))
      obtain ⟨l2, z2, m2, s2, n2, p2, tf2, a1, a2, a3⟩ := ih (b + 1) l3 z3 m3 _ s3 n3 p3 tf3 (by omega) (fun i hi => (hl3 i hi).trans (hl1 i hi)) b2
      refine ⟨l2, z2, m2, s2, n2, p2, tf2, fun i hi => (a1 i hi).trans (hl3 i hi), ?_, fun Q => Eq.trans ?_ (a3 Q)⟩
      · rw [List.range'_succ, List.filter_cons_of_pos hc, List.flatMap_cons, List.map_append, List.foldl_append]; exact a2
      · rw [rX0_orderFrom_14]
        simp (disch := omega) only [↓rX0_orderFrom_0, ↓rX0_orderFrom_2, ↓rX0_orderFrom_5, ↓rX0_orderFrom_6, ↓rX0_orderFrom_7, ↓rX0_orderFrom_8, ↓rX0_orderFrom_11, ↓rX0_orderFrom_12, ↓rX0_orderFrom_16, ↓rX0_orderFrom_17, ↓rX0_orderFrom_20, ↓rX0_orderFrom_23, ↓rX0_orderFrom_26, ↓rX0_orderFrom_28, ↓rX0_orderFrom_30, ↓rX0_orderFrom_33, ↓rX0_orderFrom_36, ↓rX0_orderFrom_39, ↓rX0_orderFrom_40, ↓rX0_orderFrom_43, ↓rX0_orderFrom_44, ↓rX0_orderFrom_46, ↓rX0_orderFrom_47, ↓rX0_orderFrom_48, ↓rX0_orderFrom_49, ↓rX0_orderFrom_50, ↓rX0_orderFrom_51, ↓rX0_orderFrom_52, ↓rX0_orderFrom_53, ↓rX0_orderFrom_55, ↓rX0_orderFrom_56, ↓rX0_orderFrom_58, ↓rX0_orderFrom_59, ↓rX0_orderFrom_60, ↓rX0_orderFrom_61, ↓rX0_orderFrom_62, ↓rX0_orderFrom_65, ↓rX0_orderFrom_68, ↓rX0_orderFrom_71, ↓rX0_orderFrom_t, lG_32, lG_34, lG_36, lG_46, lG_48, lG_56, lG_58, lG_39, lG_41, lG_43, lG_45, lG_53, lG_55, lG_51, lG_60, lG_63, lI_1, lI_2, lI_4, lI_6, lI_7, lI_3, lP_32, lP_34, lP_36, lP_46, lP_48, lP_56, lP_58, lP_51, lP_60, lP_63, lW_1, lW_2, lW_4, lW_6, lW_7, lW_3, lo_K, lo_L, lo_R, lo_N, lo_C, lo_S, lo_F, lo_I, ↓rmI_in, ↓shrI_in, ↓shlI_in, ↓okI_in, ↓bI_01, bI_z, bI_o, nn_neg, Int.cast_ofNat_Int, zlit, n_leT, n_leF, n_ltT, n_ltF, n_eqT, n_eqF, z_leT, z_leF, z_ltT, z_ltF, z_eqT, z_eqF, nn_add, nn_mul, nn_clamp, nn_lt, nn_le, nn_eq, nn_div, rmI_nn, okI_nn, nn_and, nn_or, nn_xor, shlI_1, shrI_nn, Cont_v, Cont_0, List.mem_cons, List.not_mem_nil, or_false, or_true, true_or, true_and, and_true, ite_not, if_true, if_false, not_true_eq_false, not_false_eq_true, false_or, false_and, and_false, eq_self, ↓reduceIte, reduceCtorEq, l_toInt, sub_toInt, l64_0, l64_1, l64_2, l64_3, l64_5, l64_7, l64_9, l64_10, l64_12, l64_24, l64_48, l64_57, l64_60, l64_97, l64_122, l64_255, l64_999, l64_999999, l64_m, ↓c0_isIn, ↓c0_isRow, ↓c0_isHalf, ↓c0_isFar, ↓c0_isLong, ↓c0_isShort, CM.k0 Mo, CM.k1 Mo, CM.l1 Mo, CM.k2 Mo, CM.l2 Mo, CM.k19 Mo, CM.l19 Mo, CM.k20 Mo, CM.l20 Mo, CM.k23 Mo, CM.l23 Mo, CM.k24 Mo, CM.l24 Mo, CM.k25 Mo, CM.l25 Mo, CM.f3 Mo, CM.f5 Mo, CM.f11 Mo, CM.f13 Mo, CM.f15 Mo, CM.f19 Mo, CM.f25 Mo, CM.f27 Mo, CM.f31 Mo, HL.k0 Lo, HL.g32 Lo, HL.g34 Lo, HL.g36 Lo, HL.g46 Lo, HL.g48 Lo, HL.g56 Lo, HL.g58 Lo, HL.g39 Lo, HL.g41 Lo, HL.g43 Lo, HL.g45 Lo, HL.g53 Lo, HL.g55 Lo, HL.g51 Lo, HL.g60 Lo, HL.g63 Lo, HL.i1 Lo, HL.i2 Lo, HL.i4 Lo, HL.i6 Lo, HL.i7 Lo, HL.i3 Lo, HL.k0 Lo, HL.k1 Lo, HL.l1 Lo, HL.k2 Lo, HL.l2 Lo, HL.k3 Lo, HL.l3 Lo, HL.k4 Lo, HL.l4 Lo, HL.k6 Lo, HL.l6 Lo, HL.k7 Lo, HL.l7 Lo, ↓c0_has, hc, andn, ob_w2, ob_K, CM.k0 M, ↓b3]
theorem c0_orderFrom {h : Hp} {c : Nat} {X : XS} {nn : Nat → Nat} {p e : Nat} {fa : Nat → Nat} {tf : Int32} {tk tk0 : Value} (hX : XOK X) (M : CM h c) (K : LK h (c + 11)) (L : HL h (c + 3) (xs X) nn p tf tk) (hl : FLi h p e (xs X 1) fa) (hp : p < c + 11 ∨ c + 11 < p) (hn : ∀ j, j < (xs X 0 : Nat) → nn j = bookAt (xs X) j) (hf : ∀ f, f < (xs X 1 : Nat) → FiA h e (xs X 1) fa (zI (-1000000)) tk0 f (fa f) ∧ gK h (fa f) = 3 + (xs X (26 + f) : Nat) ∧ gF h 68 (fa f) = .int (nI f)) {bk m : Nat} (hbk : bk < 64) (hm : m ≤ 12) : ∀ F f (P : List Nat) rest l z mo x s' n' p' tf', rest < 64 → onz rest ≤ F → onz rest < f → P.length + onz rest = (xs X 0 : Nat) → (∀ Lq, Lq ∈ genF (xs X 0) f P rest → perB (xs X 0) Lq = true) → (∀ i, i < P.length → l i = nI (lOf P i)) → ORl (xs X 0) x z mo → ∃ l2 z2 m2 s2 n2 p2 tf2, (∀ i, i < P.length → l2 i = l i) ∧ ORl (xs X 0) (((genF (xs X 0) f P rest).map lOf).foldl (ordU (xs X) bk m) x) z2 m2 ∧ ∀ Q : Po, Ex (mX0_orderFromN (F + 1)) Q 0 [.ref c, .int (nI bk), .int (nI m), .int (nI P.length), .int (nI rest), .retAddr 0] [] (LB (OB h c l z mo) (c + 11) s' n' p' tf' tk0) = Q (.inl none) (LB (OB h c l2 z2 m2) (c + 11) s2 n2 p2 tf2 tk0) := by
  have hM : (xs X 0 : Nat) ≤ 6 := hX.1.1.1.1
  -- from the loop to the whole
  have fin : ∀ (c2 : Cd) f (P : List Nat) rest, rest < 64 → P.length + onz rest = (xs X 0 : Nat) → (∀ Lq, Lq ∈ genF (xs X 0) (f + 1) P rest → perB (xs X 0) Lq = true) → (∀ b l z mo x s' n' p' tf', b < (xs X 0 : Nat) → hb rest b = true → (∀ i, i < P.length + 1 → l i = nI (lOf (P ++ [b]) i)) → ORl (xs X 0) x z mo → ∃ l2 z2 m2 s2 n2 p2 tf2, (∀ i, i < P.length + 1 → l2 i = l i) ∧ ORl (xs X 0) (((genF (xs X 0) f (P ++ [b]) (mi rest (2 ^ b))).map lOf).foldl (ordU (xs X) bk m) x) z2 m2 ∧ ∀ Q : Po, Ex c2 Q 0 [.ref c, .int (nI bk), .int (nI m), .int (nI (P.length + 1)), .int (nI (mi rest (2 ^ b))), .retAddr 0] [] (LB (OB h c l z mo) (c + 11) s' n' p' tf' tk0) = Q (.inl none) (LB (OB h c l2 z2 m2) (c + 11) s2 n2 p2 tf2 tk0)) → ∀ l z mo x s' n' p' tf', (∀ i, i < P.length → l i = nI (lOf P i)) → ORl (xs X 0) x z mo → ∃ l2 z2 m2 s2 n2 p2 tf2, (∀ i, i < P.length → l2 i = l i) ∧ ORl (xs X 0) (((genF (xs X 0) (f + 1) P rest).map lOf).foldl (ordU (xs X) bk m) x) z2 m2 ∧ ∀ Q : Po, Ex (mX0_orderFrom (Mt c2 6)) Q 0 [.ref c, .int (nI bk), .int (nI m), .int (nI P.length), .int (nI rest), .retAddr 0] [] (LB (OB h c l z mo) (c + 11) s' n' p' tf' tk0) = Q (.inl none) (LB (OB h c l2 z2 m2) (c + 11) s2 n2 p2 tf2 tk0) := by
    intro c2 f P rest hrest hPl hper hcall l z mo x s' n' p' tf' hl1 hr
    by_cases h0 : rest = 0
    · subst h0
      have hz0 : onz 0 = 0 := by decide
      have hPM : P.length = (xs X 0 : Nat) := by omega
      have hPp : perB (xs X 0) P = true := hper P (by unfold genF; rw [if_pos rfl]; exact List.mem_append_left _ (List.mem_singleton.mpr rfl))
      obtain ⟨z3, m3, s3, n3, p3, tf3, b2, b3⟩ := c0_look hX M K L hl hp hn hf s' n' p' tf' hPp (fun i hi => hl1 i (by omega)) hr hbk hm
      obtain ⟨l2, z2, m2, s2, n2, p2, tf2, a1, a2, a3⟩ := ordLoop (tk0 := tk0) hX M L hrest hPl hcall (xs X 0) 0 l z3 m3 _ s3 n3 p3 tf3 (by omega) hl1 b2
      refine ⟨l2, z2, m2, s2, n2, p2, tf2, a1, ?_, fun Q => Eq.trans ?_ (a3 Q)⟩
      · unfold genF
        rw [if_pos rfl, List.map_append, List.foldl_append, List.range_eq_range']
        exact a2
      · have k0 : gK h c = 1 := M.k0
        simp (disch := omega) only [↓rX0_orderFrom_0, ↓rX0_orderFrom_2, ↓rX0_orderFrom_5, ↓rX0_orderFrom_6, ↓rX0_orderFrom_7, ↓rX0_orderFrom_8, ↓rX0_orderFrom_11, ↓rX0_orderFrom_12, ↓rX0_orderFrom_16, ↓rX0_orderFrom_17, ↓rX0_orderFrom_20, ↓rX0_orderFrom_23, ↓rX0_orderFrom_26, ↓rX0_orderFrom_28, ↓rX0_orderFrom_30, ↓rX0_orderFrom_33, ↓rX0_orderFrom_36, ↓rX0_orderFrom_39, ↓rX0_orderFrom_40, ↓rX0_orderFrom_43, ↓rX0_orderFrom_44, ↓rX0_orderFrom_46, ↓rX0_orderFrom_47, ↓rX0_orderFrom_48, ↓rX0_orderFrom_49, ↓rX0_orderFrom_50, ↓rX0_orderFrom_51, ↓rX0_orderFrom_52, ↓rX0_orderFrom_53, ↓rX0_orderFrom_55, ↓rX0_orderFrom_56, ↓rX0_orderFrom_58, ↓rX0_orderFrom_59, ↓rX0_orderFrom_60, ↓rX0_orderFrom_61, ↓rX0_orderFrom_62, ↓rX0_orderFrom_65, ↓rX0_orderFrom_68, ↓rX0_orderFrom_71, ↓rX0_orderFrom_t, lG_32, lG_34, lG_36, lG_46, lG_48, lG_56, lG_58, lG_39, lG_41, lG_43, lG_45, lG_53, lG_55, lG_51, lG_60, lG_63, lI_1, lI_2, lI_4, lI_6, lI_7, lI_3, lP_32, lP_34, lP_36, lP_46, lP_48, lP_56, lP_58, lP_51, lP_60, lP_63, lW_1, lW_2, lW_4, lW_6, lW_7, lW_3, lo_K, lo_L, lo_R, lo_N, lo_C, lo_S, lo_F, lo_I, ↓rmI_in, ↓shrI_in, ↓shlI_in, ↓okI_in, ↓bI_01, bI_z, bI_o, nn_neg, Int.cast_ofNat_Int, zlit, n_leT, n_leF, n_ltT, n_ltF, n_eqT, n_eqF, z_leT, z_leF, z_ltT, z_ltF, z_eqT, z_eqF, nn_add, nn_mul, nn_clamp, nn_lt, nn_le, nn_eq, nn_div, rmI_nn, okI_nn, nn_and, nn_or, nn_xor, shlI_1, shrI_nn, Cont_v, Cont_0, List.mem_cons, List.not_mem_nil, or_false, or_true, true_or, true_and, and_true, ite_not, if_true, if_false, not_true_eq_false, not_false_eq_true, false_or, false_and, and_false, eq_self, ↓reduceIte, reduceCtorEq, ob_K, k0, ↓b3]
    · obtain ⟨l2, z2, m2, s2, n2, p2, tf2, a1, a2, a3⟩ := ordLoop (tk0 := tk0) hX M L hrest hPl hcall (xs X 0) 0 l z mo _ s' n' p' tf' (by omega) hl1 hr
      refine ⟨l2, z2, m2, s2, n2, p2, tf2, a1, ?_, fun Q => Eq.trans ?_ (a3 Q)⟩
      · unfold genF
        rw [if_neg h0, List.map_append, List.foldl_append, List.range_eq_range']
        exact a2
      · simp (disch := omega) only [↓rX0_orderFrom_0, ↓rX0_orderFrom_2, ↓rX0_orderFrom_5, ↓rX0_orderFrom_6, ↓rX0_orderFrom_7, ↓rX0_orderFrom_8, ↓rX0_orderFrom_11, ↓rX0_orderFrom_12, ↓rX0_orderFrom_16, ↓rX0_orderFrom_17, ↓rX0_orderFrom_20, ↓rX0_orderFrom_23, ↓rX0_orderFrom_26, ↓rX0_orderFrom_28, ↓rX0_orderFrom_30, ↓rX0_orderFrom_33, ↓rX0_orderFrom_36, ↓rX0_orderFrom_39, ↓rX0_orderFrom_40, ↓rX0_orderFrom_43, ↓rX0_orderFrom_44, ↓rX0_orderFrom_46, ↓rX0_orderFrom_47, ↓rX0_orderFrom_48, ↓rX0_orderFrom_49, ↓rX0_orderFrom_50, ↓rX0_orderFrom_51, ↓rX0_orderFrom_52, ↓rX0_orderFrom_53, ↓rX0_orderFrom_55, ↓rX0_orderFrom_56, ↓rX0_orderFrom_58, ↓rX0_orderFrom_59, ↓rX0_orderFrom_60, ↓rX0_orderFrom_61, ↓rX0_orderFrom_62, ↓rX0_orderFrom_65, ↓rX0_orderFrom_68, ↓rX0_orderFrom_71, ↓rX0_orderFrom_t, lG_32, lG_34, lG_36, lG_46, lG_48, lG_56, lG_58, lG_39, lG_41, lG_43, lG_45, lG_53, lG_55, lG_51, lG_60, lG_63, lI_1, lI_2, lI_4, lI_6, lI_7, lI_3, lP_32, lP_34, lP_36, lP_46, lP_48, lP_56, lP_58, lP_51, lP_60, lP_63, lW_1, lW_2, lW_4, lW_6, lW_7, lW_3, lo_K, lo_L, lo_R, lo_N, lo_C, lo_S, lo_F, lo_I, ↓rmI_in, ↓shrI_in, ↓shlI_in, ↓okI_in, ↓bI_01, bI_z, bI_o, nn_neg, Int.cast_ofNat_Int, zlit, n_leT, n_leF, n_ltT, n_ltF, n_eqT, n_eqF, z_leT, z_leF, z_ltT, z_ltF, z_eqT, z_eqF, nn_add, nn_mul, nn_clamp, nn_lt, nn_le, nn_eq, nn_div, rmI_nn, okI_nn, nn_and, nn_or, nn_xor, shlI_1, shrI_nn, Cont_v, Cont_0, List.mem_cons, List.not_mem_nil, or_false, or_true, true_or, true_and, and_true, ite_not, if_true, if_false, not_true_eq_false, not_false_eq_true, false_or, false_and, and_false, eq_self, ↓reduceIte, reduceCtorEq, h0]
  intro F
  induction F with
  | zero =>
    intro f P rest l z mo x s' n' p' tf' hrest hF hf' hPl hper hl1 hr
    have h0 : rest = 0 := onz_z rest hrest (by omega)
    obtain ⟨f, rfl⟩ : ∃ g, f = g + 1 := ⟨f - 1, by omega⟩
    exact fin (mX0_orderFromN 0) f P rest hrest hPl hper (fun b l z mo x s' n' p' tf' hb1 hb2 => by rw [h0, hb_z] at hb2; cases hb2) l z mo x s' n' p' tf' hl1 hr
  | succ F ih =>
    intro f P rest l z mo x s' n' p' tf' hrest hF hf' hPl hper hl1 hr
    obtain ⟨f, rfl⟩ : ∃ g, f = g + 1 := ⟨f - 1, by omega⟩
    refine fin (mX0_orderFromN (F + 1)) f P rest hrest hPl hper (fun b l z mo x s' n' p' tf' hb1 hb2 hl2 hr2 => ?_) l z mo x s' n' p' tf' hl1 hr
    have ho := onz_mi rest hrest b (by omega) hb2
    have hlen : (P ++ [b]).length = P.length + 1 := by rw [List.length_append]; rfl
    have := ih f (P ++ [b]) (mi rest (2 ^ b)) l z mo x s' n' p' tf' (mi_lt hrest) (by omega) (by omega) (by omega) (fun Lq hq => hper Lq (by
      unfold genF
      refine List.mem_append_right _ (List.mem_flatMap.mpr ⟨b, List.mem_filter.mpr ⟨List.mem_range.mpr hb1, hb2⟩, hq⟩))) (by rw [hlen]; exact hl2) hr2
    rw [hlen] at this
    exact this
theorem CInv.ob {h : Hp} {c : Nat} {X : XS} (H : CInv h c X) (hX : XOK X) (l z : Nat → Int32) (mo : Int32) (s : St) (n : Nat → Nat) (p : Nat) (tf : Int32) (tk : Value) : CInv (LB (OB h c l z mo) (c + 11) s n p tf tk) c X ∧ Kp h (LB (OB h c l z mo) (c + 11) s n p tf tk) c := by
  have hc := H.2.2.1
  have T := H.2.2.2.2.2.2.1
  have hk : LK (OB h c l z mo) (c + 11) := by
    obtain ⟨_, _, _, _, _, x1⟩ := T; exact x1.2.2
  have sm : ∀ x, x ≠ c → x ≠ c + 23 → x ≠ c + 24 → ¬ (c + 11 ≤ x ∧ x ≤ c + 18 ∧ x ≠ c + 16) → SmX h (LB (OB h c l z mo) (c + 11) s n p tf tk) x := fun x h1 h2 h3 hx => by
    obtain ⟨a1, a2, a3, a4, a5⟩ := ob_sm h c l z mo h1 h2 h3
    obtain ⟨b1, b2, b3, b4, b5⟩ := LB_sm (OB h c l z mo) (c + 11) s n p tf tk (x := x) (by omega)
    exact ⟨b1.trans a1, b2.trans a2, fun f => (b3 f).trans (a3 f), fun i => (b4 i).trans (a4 i), fun i => (b5 i).trans (a5 i)⟩
  have fc : ∀ f, f ≠ 28 → gF (LB (OB h c l z mo) (c + 11) s n p tf tk) f c = gF h f c := fun f hf => by
    rw [lo_F _ _ _ _ _ _ _ _ (by omega)]; exact ob_f h c l z mo (Or.inl hf)
  refine ⟨CInv.q (u := xu X) H hX (Nat.le_refl _) (fun x _ => ⟨rfl, rfl⟩) (fun f => (sm 0 (by omega) (by omega) (by omega) (by omega)).2.2.1 f) (fun f _ h2 => fc f h2) (fun i => rfl) (fun x _ h1 h2 h3 h4 => sm x h1 h3 h4 h2) ⟨s, n, p, tf, tk, HL.of hk⟩ ((fc 22 (by decide)).trans H.2.2.2.1.2.2.2), ⟨⟨Nat.le_refl _, Nat.le_add_right _ _, Nat.le_add_right _ _⟩, fun k _ => sm _ (by omega) (by omega) (by omega) (by omega), fun x _ => sm x (by omega) (by omega) (by omega) (by omega)⟩⟩
theorem onz_all : ∀ M, M < 7 → onz (2 ^ M - 1) = M := by decide +kernel
section CQ15
variable (c : Nat) (X : XS)
theorem k_order (hX : XOK X) (x n v : Int32) : COp mX0_order [.int x, .int n, .int v] c X (.int (sp_order (xs X) x n v)) X := by
  intro h H hC hS
  obtain ⟨nn, p, tf, tk, s0, n0, p0, tf0, tk0, e, fa, M, L, eh, K, hn, hl, hp, hp3, hf⟩ := H.use hX
  have K' := K
  obtain ⟨k0, ⟨k1, k2, k3, k4, k6, k7⟩, l1, l2, l3, l4, l6, l7⟩ := K'
  have hM : (xs X 0 : Nat) ≤ 6 := hX.1.1.1.1
  have hN : (xs X 1 : Nat) ≤ 5 := hX.1.1.1.2
  have h4 := hX.1.2
  have h2p : 2 ^ (xs X 0 : Nat) ≤ 64 := Nat.pow_le_pow_right (n := 2) (by decide) hM
  have h1p : 1 ≤ 2 ^ (xs X 0 : Nat) := Nat.one_le_two_pow
  have e64 : ((2 ^ (xs X 0 : Nat) - 1 : Nat) : Int) = ((2 ^ (xs X 0 : Nat) : Nat) : Int) - 1 := by omega
  unfold sp_order
  by_cases ht : (xs X 2 : Nat) = 0
  · rw [if_pos ht]
    refine ⟨h, H, Kp.rfl' h c, fun Q => ?_⟩
    rw [← eh]
    simp (disch := omega) only [↓rX0_order_0, ↓rX0_order_1, ↓rX0_order_4, ↓rX0_order_7, ↓rX0_order_9, ↓rX0_order_10, ↓rX0_order_11, ↓rX0_order_12, ↓rX0_order_13, ↓rX0_order_14, ↓rX0_order_17, ↓rX0_order_18, ↓rX0_order_21, ↓rX0_order_24, ↓rX0_order_25, ↓rX0_order_28, ↓rX0_order_31, ↓rX0_order_32, ↓rX0_order_33, ↓rX0_order_36, ↓rX0_order_37, ↓rX0_order_40, ↓rX0_order_43, ↓rX0_order_44, ↓rX0_order_45, ↓rX0_order_46, ↓rX0_order_49, ↓rX0_order_52, ↓rX0_order_54, ↓rX0_order_55, ↓rX0_order_56, ↓rX0_order_57, ↓rX0_order_60, ↓rX0_order_61, ↓rX0_order_62, ↓rX0_order_63, ↓rX0_order_64, ↓rX0_order_65, ↓rX0_order_68, ↓rX0_order_71, ↓rX0_order_72, ↓rX0_order_73, ↓rX0_order_76, ↓rX0_order_77, ↓rX0_order_80, ↓rX0_order_83, ↓rX0_order_84, ↓rX0_order_87, ↓rX0_order_88, ↓rX0_order_89, ↓rX0_order_t, lG_32, lG_34, lG_36, lG_46, lG_48, lG_56, lG_58, lG_39, lG_41, lG_43, lG_45, lG_53, lG_55, lG_51, lG_60, lG_63, lI_1, lI_2, lI_4, lI_6, lI_7, lI_3, lP_32, lP_34, lP_36, lP_46, lP_48, lP_56, lP_58, lP_51, lP_60, lP_63, lW_1, lW_2, lW_4, lW_6, lW_7, lW_3, lo_K, lo_L, lo_R, lo_N, lo_C, lo_S, lo_F, lo_I, ↓rmI_in, ↓shrI_in, ↓shlI_in, ↓okI_in, ↓bI_01, bI_z, bI_o, nn_neg, Int.cast_ofNat_Int, zlit, n_leT, n_leF, n_ltT, n_ltF, n_eqT, n_eqF, z_leT, z_leF, z_ltT, z_ltF, z_eqT, z_eqF, nn_add, nn_mul, nn_clamp, nn_lt, nn_le, nn_eq, nn_div, rmI_nn, okI_nn, nn_and, nn_or, nn_xor, shlI_1, shrI_nn, Cont_v, Cont_0, List.mem_cons, List.not_mem_nil, or_false, or_true, true_or, true_and, and_true, ite_not, if_true, if_false, not_true_eq_false, not_false_eq_true, false_or, false_and, and_false, eq_self, ↓reduceIte, reduceCtorEq, l_toInt, sub_toInt, l64_0, l64_1, l64_2, l64_3, l64_5, l64_7, l64_9, l64_10, l64_12, l64_24, l64_48, l64_57, l64_60, l64_97, l64_122, l64_255, l64_999, l64_999999, l64_m, ↓c0_isIn, ↓c0_isRow, ↓c0_isHalf, ↓c0_isFar, ↓c0_isLong, ↓c0_isShort, CM.k0 M, CM.k1 M, CM.l1 M, CM.k2 M, CM.l2 M, CM.k19 M, CM.l19 M, CM.k20 M, CM.l20 M, CM.k23 M, CM.l23 M, CM.k24 M, CM.l24 M, CM.k25 M, CM.l25 M, CM.f3 M, CM.f5 M, CM.f11 M, CM.f13 M, CM.f15 M, CM.f19 M, CM.f25 M, CM.f27 M, CM.f31 M, k0, k1, k2, k3, k4, k6, k7, l1, l2, l3, l4, l6, l7, k0, HL.k0 L, nn_toInt, ↓c0_isBook _ _ _ _ _ _ _ _ _ _ _ _ _ M L, ↓c0_isFish _ _ _ _ _ _ _ _ _ _ _ _ _ M L hl hp (show (xs X 1 : Nat) ≤ 10 by omega), ↓c0_isLibrary _ _ _ _ _ _ _ _ _ _ _ _ _ M L, ↓c0_tried _ _ _ _ _ _ _ _ _ _ _ _ _ M K L, HL.g32 L, HL.g34 L, HL.g36 L, HL.g46 L, HL.g48 L, HL.g56 L, HL.g58 L, HL.g39 L, HL.g41 L, HL.g43 L, HL.g45 L, HL.g53 L, HL.g55 L, HL.g51 L, HL.g60 L, HL.g63 L, HL.i1 L, HL.i2 L, HL.i4 L, HL.i6 L, HL.i7 L, HL.i3 L, HL.k0 L, HL.k1 L, HL.l1 L, HL.k2 L, HL.l2 L, HL.k3 L, HL.l3 L, HL.k4 L, HL.l4 L, HL.k6 L, HL.l6 L, HL.k7 L, HL.l7 L, ↓c0_allBooks _ _ _ _ _ _ _ _ _ _ _ _ _ M L hM, e64, ht, cS, Nat.lt_irrefl]
  rw [if_neg ht]
  have ht : (0 < (xs X 2 : Nat)) = True := eq_true (by omega)
  by_cases hx : inR x 0 ((2 ^ (xs X 0 : Nat) : Nat) - 1 : Int)
  · skip
    by_cases hm : inR n 1 12
    · skip
      by_cases hv : inR v (-1) (((xs X 0 : Nat) : Int) - 1)
      · skip
        rw [if_pos ⟨hx, hm, hv⟩]
        have hM0 : 0 < (xs X 0 : Nat) := (hX.1.1.2.2.2.2.2.2.1 (by rw [ht]; trivial)).1
        obtain ⟨k, rfl, q1, q2, q3⟩ := inR_nn hx (by omega)
        obtain ⟨m, rfl, m1, m2, m3⟩ := inR_nn hm (by omega)
        rw [nt_nn q3, nt_nn m3]
        have hal := onz_all (xs X 0) (by omega)
        have hgen := gen_ok (xs X 0) (by omega) hM0
        obtain ⟨lz2, z2, mo2, s2, n2, p2, tf2, -, ⟨r1, r2, r3⟩, hO⟩ := c0_orderFrom hX M K L hl hp (fun j hj => (hn j hj).2) hf (bk := k) (m := m) (by omega) (by omega) 6 ((xs X 0 : Nat) + 1) [] (2 ^ (xs X 0 : Nat) - 1) (gI h (c + 23)) (gI h (c + 24)) (zI (-1)) (-1, fun _ => 0) s0 n0 p0 tf0 (by omega) (by omega) (by omega) (by simp only [List.length_nil]; omega) (fun Lq hq => List.all_eq_true.mp hgen.2.2 Lq hq) (fun i hi => by simp only [List.length_nil] at hi; omega) ⟨rfl, by simp only; omega, fun q => by simp only at q; omega⟩
        simp only [List.length_nil, Nat.reduceAdd] at hO
        have eV : List.foldl (ordU (xs X) k m) (-1, fun _ => 0) (List.map lOf (genF (xs X 0) ((xs X 0 : Nat) + 1) [] (2 ^ (xs X 0 : Nat) - 1))) = ordV (xs X) k m (fun _ => 0) := rfl
        rw [eV] at r1 r2 r3
        obtain ⟨C1, C2⟩ := H.ob hX lz2 z2 mo2 s2 n2 p2 tf2 tk0
        refine ⟨_, C1, C2, fun Q => ?_⟩
        have Mo := OB.M M (gI h (c + 23)) (gI h (c + 24)) (zI (-1))
        have Lo := OB.L L (gI h (c + 23)) (gI h (c + 24)) (zI (-1))
        have Mo2 := OB.M M lz2 z2 mo2
        conv => lhs; rw [← eh]
        have hAl := fun Q => c0_allBooks Q (OB h c (gI h (c + 23)) (gI h (c + 24)) (zI (-1))) c (xs X) nn p tf tk s0 n0 p0 tf0 tk0 Mo Lo hM
        have step : Ex mX0_order Q 0 [.ref c, .int (nI k), .int (nI m), .int v] [] (LB h (c + 11) s0 n0 p0 tf0 tk0) = Ex mX0_order Q 71 [.ref c, .int (nI k), .int (nI m), .int v] [] (LB (OB h c lz2 z2 mo2) (c + 11) s2 n2 p2 tf2 tk0) := by
          simp (disch := omega) only [↓rX0_order_0, ↓rX0_order_1, ↓rX0_order_4, ↓rX0_order_7, ↓rX0_order_9, ↓rX0_order_10, ↓rX0_order_11, ↓rX0_order_12, ↓rX0_order_13, ↓rX0_order_14, ↓rX0_order_17, ↓rX0_order_18, ↓rX0_order_21, ↓rX0_order_24, ↓rX0_order_25, ↓rX0_order_28, ↓rX0_order_31, ↓rX0_order_32, ↓rX0_order_33, ↓rX0_order_36, ↓rX0_order_37, ↓rX0_order_40, ↓rX0_order_43, ↓rX0_order_44, ↓rX0_order_45, ↓rX0_order_46, ↓rX0_order_49, ↓rX0_order_52, ↓rX0_order_54, ↓rX0_order_55, ↓rX0_order_56, ↓rX0_order_57, ↓rX0_order_t, lG_32, lG_34, lG_36, lG_46, lG_48, lG_56, lG_58, lG_39, lG_41, lG_43, lG_45, lG_53, lG_55, lG_51, lG_60, lG_63, lI_1, lI_2, lI_4, lI_6, lI_7, lI_3, lP_32, lP_34, lP_36, lP_46, lP_48, lP_56, lP_58, lP_51, lP_60, lP_63, lW_1, lW_2, lW_4, lW_6, lW_7, lW_3, lo_K, lo_L, lo_R, lo_N, lo_C, lo_S, lo_F, lo_I, ↓rmI_in, ↓shrI_in, ↓shlI_in, ↓okI_in, ↓bI_01, bI_z, bI_o, nn_neg, Int.cast_ofNat_Int, zlit, n_leT, n_leF, n_ltT, n_ltF, n_eqT, n_eqF, z_leT, z_leF, z_ltT, z_ltF, z_eqT, z_eqF, nn_add, nn_mul, nn_clamp, nn_lt, nn_le, nn_eq, nn_div, rmI_nn, okI_nn, nn_and, nn_or, nn_xor, shlI_1, shrI_nn, Cont_v, Cont_0, List.mem_cons, List.not_mem_nil, or_false, or_true, true_or, true_and, and_true, ite_not, if_true, if_false, not_true_eq_false, not_false_eq_true, false_or, false_and, and_false, eq_self, ↓reduceIte, reduceCtorEq, l_toInt, sub_toInt, l64_0, l64_1, l64_2, l64_3, l64_5, l64_7, l64_9, l64_10, l64_12, l64_24, l64_48, l64_57, l64_60, l64_97, l64_122, l64_255, l64_999, l64_999999, l64_m, ↓c0_isIn, ↓c0_isRow, ↓c0_isHalf, ↓c0_isFar, ↓c0_isLong, ↓c0_isShort, CM.k0 M, CM.k1 M, CM.l1 M, CM.k2 M, CM.l2 M, CM.k19 M, CM.l19 M, CM.k20 M, CM.l20 M, CM.k23 M, CM.l23 M, CM.k24 M, CM.l24 M, CM.k25 M, CM.l25 M, CM.f3 M, CM.f5 M, CM.f11 M, CM.f13 M, CM.f15 M, CM.f19 M, CM.f25 M, CM.f27 M, CM.f31 M, k0, k1, k2, k3, k4, k6, k7, l1, l2, l3, l4, l6, l7, k0, HL.k0 L, nn_toInt, ↓c0_isBook _ _ _ _ _ _ _ _ _ _ _ _ _ M L, ↓c0_isFish _ _ _ _ _ _ _ _ _ _ _ _ _ M L hl hp (show (xs X 1 : Nat) ≤ 10 by omega), ↓c0_isLibrary _ _ _ _ _ _ _ _ _ _ _ _ _ M L, ↓c0_tried _ _ _ _ _ _ _ _ _ _ _ _ _ M K L, HL.g32 L, HL.g34 L, HL.g36 L, HL.g46 L, HL.g48 L, HL.g56 L, HL.g58 L, HL.g39 L, HL.g41 L, HL.g43 L, HL.g45 L, HL.g53 L, HL.g55 L, HL.g51 L, HL.g60 L, HL.g63 L, HL.i1 L, HL.i2 L, HL.i4 L, HL.i6 L, HL.i7 L, HL.i3 L, HL.k0 L, HL.k1 L, HL.l1 L, HL.k2 L, HL.l2 L, HL.k3 L, HL.l3 L, HL.k4 L, HL.l4 L, HL.k6 L, HL.l6 L, HL.k7 L, HL.l7 L, ↓c0_allBooks _ _ _ _ _ _ _ _ _ _ _ _ _ M L hM, e64, ht, hv]
          rw [ob_w0]
          simp (disch := omega) only [↓rX0_order_60, ↓rX0_order_61, ↓rX0_order_62, ↓rX0_order_63, ↓rX0_order_64, ↓rX0_order_65, ↓rX0_order_68, ↓rX0_order_t, lG_32, lG_34, lG_36, lG_46, lG_48, lG_56, lG_58, lG_39, lG_41, lG_43, lG_45, lG_53, lG_55, lG_51, lG_60, lG_63, lI_1, lI_2, lI_4, lI_6, lI_7, lI_3, lP_32, lP_34, lP_36, lP_46, lP_48, lP_56, lP_58, lP_51, lP_60, lP_63, lW_1, lW_2, lW_4, lW_6, lW_7, lW_3, lo_K, lo_L, lo_R, lo_N, lo_C, lo_S, lo_F, lo_I, ↓rmI_in, ↓shrI_in, ↓shlI_in, ↓okI_in, ↓bI_01, bI_z, bI_o, nn_neg, Int.cast_ofNat_Int, zlit, n_leT, n_leF, n_ltT, n_ltF, n_eqT, n_eqF, z_leT, z_leF, z_ltT, z_ltF, z_eqT, z_eqF, nn_add, nn_mul, nn_clamp, nn_lt, nn_le, nn_eq, nn_div, rmI_nn, okI_nn, nn_and, nn_or, nn_xor, shlI_1, shrI_nn, Cont_v, Cont_0, List.mem_cons, List.not_mem_nil, or_false, or_true, true_or, true_and, and_true, ite_not, if_true, if_false, not_true_eq_false, not_false_eq_true, false_or, false_and, and_false, eq_self, ↓reduceIte, reduceCtorEq, CM.k0 Mo, CM.k1 Mo, CM.l1 Mo, CM.k2 Mo, CM.l2 Mo, CM.k19 Mo, CM.l19 Mo, CM.k20 Mo, CM.l20 Mo, CM.k23 Mo, CM.l23 Mo, CM.k24 Mo, CM.l24 Mo, CM.k25 Mo, CM.l25 Mo, CM.f3 Mo, CM.f5 Mo, CM.f11 Mo, CM.f13 Mo, CM.f15 Mo, CM.f19 Mo, CM.f25 Mo, CM.f27 Mo, CM.f31 Mo, ↓hAl, List.length_nil, ↓hO]
        rw [step]
        have hfst : 0 ≤ (ordV (xs X) k m (fun _ => 0)).1 := by
          unfold ordV
          cases hg : gen (xs X 0) with
          | nil => rw [hg] at hgen; cases hgen.2.1
          | cons Lq Ls =>
            rw [List.map_cons, List.foldl_cons]
            have hmon : ∀ (Ls : List (Nat → Nat)) (y : Int × (Nat → Nat)), 0 ≤ y.1 → 0 ≤ (Ls.foldl (ordU (xs X) k m) y).1 := by
              intro Ls
              induction Ls with
              | nil => intro y hy; exact hy
              | cons a Ls ih =>
                intro y hy
                rw [List.foldl_cons]
                refine ih _ ?_
                unfold ordU
                split
                · simp only; omega
                · exact hy
            refine hmon _ _ ?_
            unfold ordU
            rw [if_pos (by show (-1 : Int) < _; omega)]
            simp only; omega
        by_cases hv0 : v.toInt < 0
        · have ev : v = zI (-1) := by rw [← zI_of v]; congr 1; omega
          rw [if_pos hv0, ev, ← r1]
          simp (disch := omega) only [↓rX0_order_71, ↓rX0_order_72, ↓rX0_order_73, ↓rX0_order_76, ↓rX0_order_77, ↓rX0_order_80, ↓rX0_order_83, ↓rX0_order_84, ↓rX0_order_87, ↓rX0_order_88, ↓rX0_order_89, ↓rX0_order_t, lG_32, lG_34, lG_36, lG_46, lG_48, lG_56, lG_58, lG_39, lG_41, lG_43, lG_45, lG_53, lG_55, lG_51, lG_60, lG_63, lI_1, lI_2, lI_4, lI_6, lI_7, lI_3, lP_32, lP_34, lP_36, lP_46, lP_48, lP_56, lP_58, lP_51, lP_60, lP_63, lW_1, lW_2, lW_4, lW_6, lW_7, lW_3, lo_K, lo_L, lo_R, lo_N, lo_C, lo_S, lo_F, lo_I, ↓rmI_in, ↓shrI_in, ↓shlI_in, ↓okI_in, ↓bI_01, bI_z, bI_o, nn_neg, Int.cast_ofNat_Int, zlit, n_leT, n_leF, n_ltT, n_ltF, n_eqT, n_eqF, z_leT, z_leF, z_ltT, z_ltF, z_eqT, z_eqF, nn_add, nn_mul, nn_clamp, nn_lt, nn_le, nn_eq, nn_div, rmI_nn, okI_nn, nn_and, nn_or, nn_xor, shlI_1, shrI_nn, Cont_v, Cont_0, List.mem_cons, List.not_mem_nil, or_false, or_true, true_or, true_and, and_true, ite_not, if_true, if_false, not_true_eq_false, not_false_eq_true, false_or, false_and, and_false, eq_self, ↓reduceIte, reduceCtorEq, zI_add, zI_sub, zI_mul, zI_neg, nn_neg, zI_lt, zI_le, zI_eq, zn_lt, nz_lt, zn_le, nz_le, zn_eq, nz_eq, zn_add, nz_add, zn_sub, nz_sub, CM.k0 Mo2, CM.k1 Mo2, CM.l1 Mo2, CM.k2 Mo2, CM.l2 Mo2, CM.k19 Mo2, CM.l19 Mo2, CM.k20 Mo2, CM.l20 Mo2, CM.k23 Mo2, CM.l23 Mo2, CM.k24 Mo2, CM.l24 Mo2, CM.k25 Mo2, CM.l25 Mo2, CM.f3 Mo2, CM.f5 Mo2, CM.f11 Mo2, CM.f13 Mo2, CM.f15 Mo2, CM.f19 Mo2, CM.f25 Mo2, CM.f27 Mo2, CM.f31 Mo2, ob_28]
        · rw [if_neg hv0]
          obtain ⟨j, rfl, j1, j2, j3⟩ := inR_nn (x := v) (lo := 0) (hi := ((xs X 0 : Nat) : Int) - 1) ⟨by omega, hv.2⟩ (by omega)
          rw [nt_nn j3, ← r3 hfst j (by omega)]
          simp (disch := omega) only [↓rX0_order_71, ↓rX0_order_72, ↓rX0_order_73, ↓rX0_order_76, ↓rX0_order_77, ↓rX0_order_80, ↓rX0_order_83, ↓rX0_order_84, ↓rX0_order_87, ↓rX0_order_88, ↓rX0_order_89, ↓rX0_order_t, lG_32, lG_34, lG_36, lG_46, lG_48, lG_56, lG_58, lG_39, lG_41, lG_43, lG_45, lG_53, lG_55, lG_51, lG_60, lG_63, lI_1, lI_2, lI_4, lI_6, lI_7, lI_3, lP_32, lP_34, lP_36, lP_46, lP_48, lP_56, lP_58, lP_51, lP_60, lP_63, lW_1, lW_2, lW_4, lW_6, lW_7, lW_3, lo_K, lo_L, lo_R, lo_N, lo_C, lo_S, lo_F, lo_I, ↓rmI_in, ↓shrI_in, ↓shlI_in, ↓okI_in, ↓bI_01, bI_z, bI_o, nn_neg, Int.cast_ofNat_Int, zlit, n_leT, n_leF, n_ltT, n_ltF, n_eqT, n_eqF, z_leT, z_leF, z_ltT, z_ltF, z_eqT, z_eqF, nn_add, nn_mul, nn_clamp, nn_lt, nn_le, nn_eq, nn_div, rmI_nn, okI_nn, nn_and, nn_or, nn_xor, shlI_1, shrI_nn, Cont_v, Cont_0, List.mem_cons, List.not_mem_nil, or_false, or_true, true_or, true_and, and_true, ite_not, if_true, if_false, not_true_eq_false, not_false_eq_true, false_or, false_and, and_false, eq_self, ↓reduceIte, reduceCtorEq, zI_add, zI_sub, zI_mul, zI_neg, nn_neg, zI_lt, zI_le, zI_eq, zn_lt, nz_lt, zn_le, nz_le, zn_eq, nz_eq, zn_add, nz_add, zn_sub, nz_sub, CM.k0 Mo2, CM.k1 Mo2, CM.l1 Mo2, CM.k2 Mo2, CM.l2 Mo2, CM.k19 Mo2, CM.l19 Mo2, CM.k20 Mo2, CM.l20 Mo2, CM.k23 Mo2, CM.l23 Mo2, CM.k24 Mo2, CM.l24 Mo2, CM.k25 Mo2, CM.l25 Mo2, CM.f3 Mo2, CM.f5 Mo2, CM.f11 Mo2, CM.f13 Mo2, CM.f15 Mo2, CM.f19 Mo2, CM.f25 Mo2, CM.f27 Mo2, CM.f31 Mo2, ob_i24]
      · rw [if_neg (fun q => hv q.2.2)]
        refine ⟨h, H, Kp.rfl' h c, fun Q => ?_⟩
        rw [← eh]
        simp (disch := omega) only [↓rX0_order_0, ↓rX0_order_1, ↓rX0_order_4, ↓rX0_order_7, ↓rX0_order_9, ↓rX0_order_10, ↓rX0_order_11, ↓rX0_order_12, ↓rX0_order_13, ↓rX0_order_14, ↓rX0_order_17, ↓rX0_order_18, ↓rX0_order_21, ↓rX0_order_24, ↓rX0_order_25, ↓rX0_order_28, ↓rX0_order_31, ↓rX0_order_32, ↓rX0_order_33, ↓rX0_order_36, ↓rX0_order_37, ↓rX0_order_40, ↓rX0_order_43, ↓rX0_order_44, ↓rX0_order_45, ↓rX0_order_46, ↓rX0_order_49, ↓rX0_order_52, ↓rX0_order_54, ↓rX0_order_55, ↓rX0_order_56, ↓rX0_order_57, ↓rX0_order_60, ↓rX0_order_61, ↓rX0_order_62, ↓rX0_order_63, ↓rX0_order_64, ↓rX0_order_65, ↓rX0_order_68, ↓rX0_order_71, ↓rX0_order_72, ↓rX0_order_73, ↓rX0_order_76, ↓rX0_order_77, ↓rX0_order_80, ↓rX0_order_83, ↓rX0_order_84, ↓rX0_order_87, ↓rX0_order_88, ↓rX0_order_89, ↓rX0_order_t, lG_32, lG_34, lG_36, lG_46, lG_48, lG_56, lG_58, lG_39, lG_41, lG_43, lG_45, lG_53, lG_55, lG_51, lG_60, lG_63, lI_1, lI_2, lI_4, lI_6, lI_7, lI_3, lP_32, lP_34, lP_36, lP_46, lP_48, lP_56, lP_58, lP_51, lP_60, lP_63, lW_1, lW_2, lW_4, lW_6, lW_7, lW_3, lo_K, lo_L, lo_R, lo_N, lo_C, lo_S, lo_F, lo_I, ↓rmI_in, ↓shrI_in, ↓shlI_in, ↓okI_in, ↓bI_01, bI_z, bI_o, nn_neg, Int.cast_ofNat_Int, zlit, n_leT, n_leF, n_ltT, n_ltF, n_eqT, n_eqF, z_leT, z_leF, z_ltT, z_ltF, z_eqT, z_eqF, nn_add, nn_mul, nn_clamp, nn_lt, nn_le, nn_eq, nn_div, rmI_nn, okI_nn, nn_and, nn_or, nn_xor, shlI_1, shrI_nn, Cont_v, Cont_0, List.mem_cons, List.not_mem_nil, or_false, or_true, true_or, true_and, and_true, ite_not, if_true, if_false, not_true_eq_false, not_false_eq_true, false_or, false_and, and_false, eq_self, ↓reduceIte, reduceCtorEq, l_toInt, sub_toInt, l64_0, l64_1, l64_2, l64_3, l64_5, l64_7, l64_9, l64_10, l64_12, l64_24, l64_48, l64_57, l64_60, l64_97, l64_122, l64_255, l64_999, l64_999999, l64_m, ↓c0_isIn, ↓c0_isRow, ↓c0_isHalf, ↓c0_isFar, ↓c0_isLong, ↓c0_isShort, CM.k0 M, CM.k1 M, CM.l1 M, CM.k2 M, CM.l2 M, CM.k19 M, CM.l19 M, CM.k20 M, CM.l20 M, CM.k23 M, CM.l23 M, CM.k24 M, CM.l24 M, CM.k25 M, CM.l25 M, CM.f3 M, CM.f5 M, CM.f11 M, CM.f13 M, CM.f15 M, CM.f19 M, CM.f25 M, CM.f27 M, CM.f31 M, k0, k1, k2, k3, k4, k6, k7, l1, l2, l3, l4, l6, l7, k0, HL.k0 L, nn_toInt, ↓c0_isBook _ _ _ _ _ _ _ _ _ _ _ _ _ M L, ↓c0_isFish _ _ _ _ _ _ _ _ _ _ _ _ _ M L hl hp (show (xs X 1 : Nat) ≤ 10 by omega), ↓c0_isLibrary _ _ _ _ _ _ _ _ _ _ _ _ _ M L, ↓c0_tried _ _ _ _ _ _ _ _ _ _ _ _ _ M K L, HL.g32 L, HL.g34 L, HL.g36 L, HL.g46 L, HL.g48 L, HL.g56 L, HL.g58 L, HL.g39 L, HL.g41 L, HL.g43 L, HL.g45 L, HL.g53 L, HL.g55 L, HL.g51 L, HL.g60 L, HL.g63 L, HL.i1 L, HL.i2 L, HL.i4 L, HL.i6 L, HL.i7 L, HL.i3 L, HL.k0 L, HL.k1 L, HL.l1 L, HL.k2 L, HL.l2 L, HL.k3 L, HL.l3 L, HL.k4 L, HL.l4 L, HL.k6 L, HL.l6 L, HL.k7 L, HL.l7 L, ↓c0_allBooks _ _ _ _ _ _ _ _ _ _ _ _ _ M L hM, e64, ht, hx, hm, hv, cB]
    · rw [if_neg (fun q => hm q.2.1)]
      refine ⟨h, H, Kp.rfl' h c, fun Q => ?_⟩
      rw [← eh]
      simp (disch := omega) only [↓rX0_order_0, ↓rX0_order_1, ↓rX0_order_4, ↓rX0_order_7, ↓rX0_order_9, ↓rX0_order_10, ↓rX0_order_11, ↓rX0_order_12, ↓rX0_order_13, ↓rX0_order_14, ↓rX0_order_17, ↓rX0_order_18, ↓rX0_order_21, ↓rX0_order_24, ↓rX0_order_25, ↓rX0_order_28, ↓rX0_order_31, ↓rX0_order_32, ↓rX0_order_33, ↓rX0_order_36, ↓rX0_order_37, ↓rX0_order_40, ↓rX0_order_43, ↓rX0_order_44, ↓rX0_order_45, ↓rX0_order_46, ↓rX0_order_49, ↓rX0_order_52, ↓rX0_order_54, ↓rX0_order_55, ↓rX0_order_56, ↓rX0_order_57, ↓rX0_order_60, ↓rX0_order_61, ↓rX0_order_62, ↓rX0_order_63, ↓rX0_order_64, ↓rX0_order_65, ↓rX0_order_68, ↓rX0_order_71, ↓rX0_order_72, ↓rX0_order_73, ↓rX0_order_76, ↓rX0_order_77, ↓rX0_order_80, ↓rX0_order_83, ↓rX0_order_84, ↓rX0_order_87, ↓rX0_order_88, ↓rX0_order_89, ↓rX0_order_t, lG_32, lG_34, lG_36, lG_46, lG_48, lG_56, lG_58, lG_39, lG_41, lG_43, lG_45, lG_53, lG_55, lG_51, lG_60, lG_63, lI_1, lI_2, lI_4, lI_6, lI_7, lI_3, lP_32, lP_34, lP_36, lP_46, lP_48, lP_56, lP_58, lP_51, lP_60, lP_63, lW_1, lW_2, lW_4, lW_6, lW_7, lW_3, lo_K, lo_L, lo_R, lo_N, lo_C, lo_S, lo_F, lo_I, ↓rmI_in, ↓shrI_in, ↓shlI_in, ↓okI_in, ↓bI_01, bI_z, bI_o, nn_neg, Int.cast_ofNat_Int, zlit, n_leT, n_leF, n_ltT, n_ltF, n_eqT, n_eqF, z_leT, z_leF, z_ltT, z_ltF, z_eqT, z_eqF, nn_add, nn_mul, nn_clamp, nn_lt, nn_le, nn_eq, nn_div, rmI_nn, okI_nn, nn_and, nn_or, nn_xor, shlI_1, shrI_nn, Cont_v, Cont_0, List.mem_cons, List.not_mem_nil, or_false, or_true, true_or, true_and, and_true, ite_not, if_true, if_false, not_true_eq_false, not_false_eq_true, false_or, false_and, and_false, eq_self, ↓reduceIte, reduceCtorEq, l_toInt, sub_toInt, l64_0, l64_1, l64_2, l64_3, l64_5, l64_7, l64_9, l64_10, l64_12, l64_24, l64_48, l64_57, l64_60, l64_97, l64_122, l64_255, l64_999, l64_999999, l64_m, ↓c0_isIn, ↓c0_isRow, ↓c0_isHalf, ↓c0_isFar, ↓c0_isLong, ↓c0_isShort, CM.k0 M, CM.k1 M, CM.l1 M, CM.k2 M, CM.l2 M, CM.k19 M, CM.l19 M, CM.k20 M, CM.l20 M, CM.k23 M, CM.l23 M, CM.k24 M, CM.l24 M, CM.k25 M, CM.l25 M, CM.f3 M, CM.f5 M, CM.f11 M, CM.f13 M, CM.f15 M, CM.f19 M, CM.f25 M, CM.f27 M, CM.f31 M, k0, k1, k2, k3, k4, k6, k7, l1, l2, l3, l4, l6, l7, k0, HL.k0 L, nn_toInt, ↓c0_isBook _ _ _ _ _ _ _ _ _ _ _ _ _ M L, ↓c0_isFish _ _ _ _ _ _ _ _ _ _ _ _ _ M L hl hp (show (xs X 1 : Nat) ≤ 10 by omega), ↓c0_isLibrary _ _ _ _ _ _ _ _ _ _ _ _ _ M L, ↓c0_tried _ _ _ _ _ _ _ _ _ _ _ _ _ M K L, HL.g32 L, HL.g34 L, HL.g36 L, HL.g46 L, HL.g48 L, HL.g56 L, HL.g58 L, HL.g39 L, HL.g41 L, HL.g43 L, HL.g45 L, HL.g53 L, HL.g55 L, HL.g51 L, HL.g60 L, HL.g63 L, HL.i1 L, HL.i2 L, HL.i4 L, HL.i6 L, HL.i7 L, HL.i3 L, HL.k0 L, HL.k1 L, HL.l1 L, HL.k2 L, HL.l2 L, HL.k3 L, HL.l3 L, HL.k4 L, HL.l4 L, HL.k6 L, HL.l6 L, HL.k7 L, HL.l7 L, ↓c0_allBooks _ _ _ _ _ _ _ _ _ _ _ _ _ M L hM, e64, ht, hx, hm, cB]
  · rw [if_neg (fun q => hx q.1)]
    refine ⟨h, H, Kp.rfl' h c, fun Q => ?_⟩
    rw [← eh]
    simp (disch := omega) only [↓rX0_order_0, ↓rX0_order_1, ↓rX0_order_4, ↓rX0_order_7, ↓rX0_order_9, ↓rX0_order_10, ↓rX0_order_11, ↓rX0_order_12, ↓rX0_order_13, ↓rX0_order_14, ↓rX0_order_17, ↓rX0_order_18, ↓rX0_order_21, ↓rX0_order_24, ↓rX0_order_25, ↓rX0_order_28, ↓rX0_order_31, ↓rX0_order_32, ↓rX0_order_33, ↓rX0_order_36, ↓rX0_order_37, ↓rX0_order_40, ↓rX0_order_43, ↓rX0_order_44, ↓rX0_order_45, ↓rX0_order_46, ↓rX0_order_49, ↓rX0_order_52, ↓rX0_order_54, ↓rX0_order_55, ↓rX0_order_56, ↓rX0_order_57, ↓rX0_order_60, ↓rX0_order_61, ↓rX0_order_62, ↓rX0_order_63, ↓rX0_order_64, ↓rX0_order_65, ↓rX0_order_68, ↓rX0_order_71, ↓rX0_order_72, ↓rX0_order_73, ↓rX0_order_76, ↓rX0_order_77, ↓rX0_order_80, ↓rX0_order_83, ↓rX0_order_84, ↓rX0_order_87, ↓rX0_order_88, ↓rX0_order_89, ↓rX0_order_t, lG_32, lG_34, lG_36, lG_46, lG_48, lG_56, lG_58, lG_39, lG_41, lG_43, lG_45, lG_53, lG_55, lG_51, lG_60, lG_63, lI_1, lI_2, lI_4, lI_6, lI_7, lI_3, lP_32, lP_34, lP_36, lP_46, lP_48, lP_56, lP_58, lP_51, lP_60, lP_63, lW_1, lW_2, lW_4, lW_6, lW_7, lW_3, lo_K, lo_L, lo_R, lo_N, lo_C, lo_S, lo_F, lo_I, ↓rmI_in, ↓shrI_in, ↓shlI_in, ↓okI_in, ↓bI_01, bI_z, bI_o, nn_neg, Int.cast_ofNat_Int, zlit, n_leT, n_leF, n_ltT, n_ltF, n_eqT, n_eqF, z_leT, z_leF, z_ltT, z_ltF, z_eqT, z_eqF, nn_add, nn_mul, nn_clamp, nn_lt, nn_le, nn_eq, nn_div, rmI_nn, okI_nn, nn_and, nn_or, nn_xor, shlI_1, shrI_nn, Cont_v, Cont_0, List.mem_cons, List.not_mem_nil, or_false, or_true, true_or, true_and, and_true, ite_not, if_true, if_false, not_true_eq_false, not_false_eq_true, false_or, false_and, and_false, eq_self, ↓reduceIte, reduceCtorEq, l_toInt, sub_toInt, l64_0, l64_1, l64_2, l64_3, l64_5, l64_7, l64_9, l64_10, l64_12, l64_24, l64_48, l64_57, l64_60, l64_97, l64_122, l64_255, l64_999, l64_999999, l64_m, ↓c0_isIn, ↓c0_isRow, ↓c0_isHalf, ↓c0_isFar, ↓c0_isLong, ↓c0_isShort, CM.k0 M, CM.k1 M, CM.l1 M, CM.k2 M, CM.l2 M, CM.k19 M, CM.l19 M, CM.k20 M, CM.l20 M, CM.k23 M, CM.l23 M, CM.k24 M, CM.l24 M, CM.k25 M, CM.l25 M, CM.f3 M, CM.f5 M, CM.f11 M, CM.f13 M, CM.f15 M, CM.f19 M, CM.f25 M, CM.f27 M, CM.f31 M, k0, k1, k2, k3, k4, k6, k7, l1, l2, l3, l4, l6, l7, k0, HL.k0 L, nn_toInt, ↓c0_isBook _ _ _ _ _ _ _ _ _ _ _ _ _ M L, ↓c0_isFish _ _ _ _ _ _ _ _ _ _ _ _ _ M L hl hp (show (xs X 1 : Nat) ≤ 10 by omega), ↓c0_isLibrary _ _ _ _ _ _ _ _ _ _ _ _ _ M L, ↓c0_tried _ _ _ _ _ _ _ _ _ _ _ _ _ M K L, HL.g32 L, HL.g34 L, HL.g36 L, HL.g46 L, HL.g48 L, HL.g56 L, HL.g58 L, HL.g39 L, HL.g41 L, HL.g43 L, HL.g45 L, HL.g53 L, HL.g55 L, HL.g51 L, HL.g60 L, HL.g63 L, HL.i1 L, HL.i2 L, HL.i4 L, HL.i6 L, HL.i7 L, HL.i3 L, HL.k0 L, HL.k1 L, HL.l1 L, HL.k2 L, HL.l2 L, HL.k3 L, HL.l3 L, HL.k4 L, HL.l4 L, HL.k6 L, HL.l6 L, HL.k7 L, HL.l7 L, ↓c0_allBooks _ _ _ _ _ _ _ _ _ _ _ _ _ M L hM, e64, ht, hx, cB]
end CQ15
