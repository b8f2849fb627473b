/-! THE CLASS: hole. A night asks not for dust -/
def Eq36 (s t : St) : Prop := ∀ j, j < 36 → s j = t j
theorem bkF_le (s : St) (w : Nat) : ∀ n b, bkF s w n b ≤ b + n := by
  intro n
  induction n with
  | zero => intro b; simp only [bkF]; omega
  | succ n ih =>
    intro b
    simp only [bkF]
    split
    · omega
    · have := ih (b + 1); omega
theorem bookAt_le (s : St) (w : Nat) : bookAt s w ≤ 6 := by
  have := bkF_le s w 6 0
  unfold bookAt; omega
theorem Eq36.bk {s t : St} (E : Eq36 s t) (w : Nat) : bookAt s w = bookAt t w := bookAt_cg (fun j hj => E (20 + j) (by omega)) w
theorem Eq36.klkS {s t : St} (E : Eq36 s t) (k fr p : Nat) (x : Option (Nat × Int)) : lkS s k fr p x = lkS t k fr p x := by
  have e := E.bk p
  have hb := bookAt_le t p
  unfold lkS lkV opB shutB
  rw [e, E (14 + bookAt t p) (by omega), E (8 + bookAt t p) (by omega), E 5 (by omega), E 6 (by omega)]
theorem Eq36.klkd {s t : St} (E : Eq36 s t) (k fr : Nat) : lkd s k fr = lkd t k fr := by
  unfold lkd
  have : lkS s k fr = lkS t k fr := by funext p x; exact E.klkS k fr p x
  rw [this, E 0 (by omega)]
theorem Eq36.goes {s t : St} (E : Eq36 s t) {f : Nat} (hf : f < 5) : goesTo s f = goesTo t f := by
  have e := E.bk (t (31 + f))
  have hb := bookAt_le t (t (31 + f))
  unfold goesTo opB shutB
  rw [E (26 + f) (by omega), E (31 + f) (by omega), E.klkd, E.bk, E 5 (by omega), E 6 (by omega), E 0 (by omega), E (8 + bookAt t (t (31 + f))) (by omega)]
theorem Eq36.kmuch {s t : St} (E : Eq36 s t) {f : Nat} (hf : f < 5) : much s f = much t f := by
  have hb := bookAt_le t (t (31 + f))
  unfold much shutB
  rw [E (31 + f) (by omega), E.bk, E 5 (by omega), E 6 (by omega), E 2 (by omega), E (8 + bookAt t (t (31 + f))) (by omega)]
theorem Eq36.kwr {s t : St} (E : Eq36 s t) (i v : Nat) : Eq36 (wr s i v) (wr t i v) := fun j hj => by
  unfold wr
  split
  · rfl
  · exact E j hj
theorem Eq36.wrl {s t : St} (E : Eq36 s t) {i : Nat} (v : Nat) (hi : 36 ≤ i) : Eq36 (wr s i v) t := fun j hj => by
  rw [wr_ne (by omega)]; exact E j hj
theorem Eq36.go {s t : St} (E : Eq36 s t) {f : Nat} (hf : f < 5) : Eq36 (goS s f) (goS t f) := by
  unfold goS
  rw [E.goes hf]
  exact E.kwr _ _
theorem Eq36.eat {s t : St} (E : Eq36 s t) {f : Nat} (hf : f < 5) : Eq36 (eatS s f) (eatS t f) := by
  have hb := bookAt_le t (t (31 + f))
  unfold eatS
  intro j hj
  rw [wr_ne (show j ≠ 36 + f by omega), wr_ne (show j ≠ 36 + f by omega), E.kmuch hf, E (31 + f) (by omega), E.bk, E (8 + bookAt t (t (31 + f))) (by omega)]
  exact E.kwr _ _ j hj
theorem Eq36.keatG {s t : St} (E : Eq36 s t) {f : Nat} (hf : f < 5) (g : Nat → Nat) : eatG s g f = eatG t g f := by
  unfold eatG
  rw [E.kmuch hf, E (31 + f) (by omega), E.bk]
theorem Eq36.paste {s t : St} (E : Eq36 s t) {b : Nat} (hb : b < 6) : Eq36 (pasteS b s) (pasteS b t) := by
  unfold pasteS
  rw [E 6 (by omega), E (14 + b) (by omega)]
  split
  · exact E.kwr _ _
  · exact E
theorem Eq36.fish {f : Nat} {x y : St × (Nat → Nat)} (hf : f < 5) (E : Eq36 x.1 y.1) (e : x.2 = y.2) : Eq36 (fishS f x).1 (fishS f y).1 ∧ (fishS f x).2 = (fishS f y).2 := by
  unfold fishS
  rw [E 7 (by omega)]
  split
  · exact ⟨E, e⟩
  · refine ⟨(E.go hf).eat hf, ?_⟩
    show eatG (goS x.1 f) x.2 f = eatG (goS y.1 f) y.2 f
    rw [e]; exact (E.go hf).keatG hf _
theorem Eq36.knightG {x y : St × (Nat → Nat)} (E : Eq36 x.1 y.1) (e : x.2 = y.2) (hW : WF y.1) : Eq36 (nightG x).1 (nightG y).1 ∧ (nightG x).2 = (nightG y).2 := by
  have h0 : (y.1 0 : Nat) ≤ 6 := hW.1.1
  have h1 : (y.1 1 : Nat) ≤ 5 := hW.1.2
  have key : ∀ n, n ≤ 5 → Eq36 (lf fishS n 0 x).1 (lf fishS n 0 y).1 ∧ (lf fishS n 0 x).2 = (lf fishS n 0 y).2 := by
    intro n
    induction n with
    | zero => intro _; exact ⟨E, e⟩
    | succ n ih =>
      intro hn
      obtain ⟨i1, i2⟩ := ih (by omega)
      rw [lf_end, lf_end]
      exact Eq36.fish (by omega) i1 i2
  obtain ⟨k1, k2⟩ := key (y.1 1 : Nat) h1
  have e0 := (fishL_ok hW (Nat.le_refl _)).2.1 0 (by omega)
  unfold nightG
  rw [E 1 (by omega)]
  refine ⟨?_, k2⟩
  show Eq36 (night2 (lf fishS (y.1 1 : Nat) 0 x).1) (night2 (lf fishS (y.1 1 : Nat) 0 y).1)
  generalize (lf fishS (y.1 1 : Nat) 0 x).1 = s at k1
  generalize (lf fishS (y.1 1 : Nat) 0 y).1 = t at k1 e0
  have h0' : (t 0 : Nat) ≤ 6 := by rw [e0]; exact h0
  unfold night2
  rw [k1 4 (by omega), k1 0 (by omega)]
  refine Eq36.kwr ?_ _ _
  split
  · have pk : ∀ n, n ≤ 6 → Eq36 (lf pasteS n 0 s) (lf pasteS n 0 t) := by
      intro n
      induction n with
      | zero => intro _; exact k1
      | succ n ih =>
        intro hn
        rw [lf_end, lf_end]
        exact (ih (by omega)).paste (by omega)
    exact pk _ h0'
  · exact k1
/-- what a night does to one's dust and holes -/
theorem nightG_dust {x : St × (Nat → Nat)} {k : Nat} (hW : WF x.1) (hk : k < (x.1 1 : Nat)) : ∃ m, m ≤ 9 ∧ ((nightG x).1 (36 + k) : Nat) = min 999 ((x.1 (36 + k) : Nat) + m) ∧ (nightG x).2 k = x.2 k ||| (if 0 < m then 2 ^ bookAt (nightG x).1 ((nightG x).1 (31 + k)) else 0) := by
  have hN : (x.1 1 : Nat) ≤ 5 := hW.1.2
  have hd0 := (hW.2.2.2.2.1 k hk).2.2
  have key : ∀ n, n ≤ (x.1 1 : Nat) → (n ≤ k → (lf fishS n 0 x).1 (36 + k) = x.1 (36 + k) ∧ (lf fishS n 0 x).2 k = x.2 k) ∧ (k < n → ∃ m, m ≤ 9 ∧ ((lf fishS n 0 x).1 (36 + k) : Nat) = min 999 ((x.1 (36 + k) : Nat) + m) ∧ (lf fishS n 0 x).2 k = x.2 k ||| (if 0 < m then 2 ^ bookAt (lf fishS n 0 x).1 ((lf fishS n 0 x).1 (31 + k)) else 0)) := by
    intro n
    induction n with
    | zero => intro _; exact ⟨fun _ => ⟨rfl, rfl⟩, fun h => by omega⟩
    | succ n ih =>
      intro hn
      obtain ⟨i1, i2⟩ := ih (by omega)
      obtain ⟨f1, f2, f3⟩ := fishL_ok (n := n) hW (by omega)
      rw [lf_end, Nat.zero_add]
      generalize lf fishS n 0 x = y at i1 i2 f1 f2 f3
      have hny : n < (y.1 1 : Nat) := by rw [f2 1 (by omega)]; omega
      unfold fishS
      by_cases hc : hb (y.1 7) n = true
      · rw [if_pos hc]
        refine ⟨fun h => i1 (by omega), fun h => ?_⟩
        by_cases e : k = n
        · obtain ⟨a1, a2⟩ := i1 (by omega)
          refine ⟨0, by omega, ?_, ?_⟩
          · rw [a1]; omega
          · rw [a2, if_neg (by omega), Nat.or_zero]
        · exact i2 (by omega)
      · rw [if_neg hc]
        have hWg := WF_goS f1 hny
        have hfg : n < (goS y.1 n 1 : Nat) := by rw [goS_ne (by omega)]; exact hny
        have h6 := WF_at hWg hfg
        have hml := (much_le (goS y.1 n) n).2
        have h2 : (goS y.1 n 2 : Nat) ≤ 9 := hWg.2.2.2.2.2.1.1
        have hbk : ∀ w, bookAt (eatS (goS y.1 n) n) w = bookAt y.1 w := fun w => bookAt_cg (fun j hj => by rw [eatS_ne (by omega) (by omega) h6, goS_ne (by omega)]) w
        by_cases e : k = n
        · subst e
          obtain ⟨a1, a2⟩ := i1 (Nat.le_refl _)
          refine ⟨fun h => by omega, fun _ => ⟨much (goS y.1 k) k, by omega, ?_, ?_⟩⟩
          · show (eatS (goS y.1 k) k (36 + k) : Nat) = _
            unfold eatS
            rw [wr_eq, goS_ne (by omega), a1, Nat.mod_eq_of_lt (by omega)]
          · show eatG (goS y.1 k) y.2 k k = x.2 k ||| (if 0 < much (goS y.1 k) k then 2 ^ bookAt (eatS (goS y.1 k) k) (eatS (goS y.1 k) k (31 + k)) else 0)
            have e31 : eatS (goS y.1 k) k (31 + k) = goS y.1 k (31 + k) := eatS_ne (by omega) (by omega) h6
            have hbg : ∀ w, bookAt (goS y.1 k) w = bookAt y.1 w := fun w => bookAt_cg (fun j hj => goS_ne (by omega)) w
            unfold eatG upN
            rw [if_pos rfl, a2, hbk, hbg, e31]
        · have n36 : eatS (goS y.1 n) n (36 + k) = y.1 (36 + k) := by rw [eatS_ne (by omega) (by omega) h6, goS_ne (by omega)]
          have n31 : eatS (goS y.1 n) n (31 + k) = y.1 (31 + k) := by rw [eatS_ne (by omega) (by omega) h6, goS_ne (by omega)]
          have ng : eatG (goS y.1 n) y.2 n k = y.2 k := by unfold eatG upN; rw [if_neg e]
          refine ⟨fun h => ⟨n36.trans (i1 (by omega)).1, ng.trans (i1 (by omega)).2⟩, fun h => ?_⟩
          obtain ⟨m, m1, m2, m3⟩ := i2 (by omega)
          refine ⟨m, m1, ?_, ?_⟩
          · show (eatS (goS y.1 n) n (36 + k) : Nat) = _
            rw [n36]; exact m2
          · show eatG (goS y.1 n) y.2 n k = x.2 k ||| (if 0 < m then 2 ^ bookAt (eatS (goS y.1 n) n) (eatS (goS y.1 n) n (31 + k)) else 0)
            rw [hbk, n31]; exact ng.trans m3
  obtain ⟨m, m1, m2, m3⟩ := (key (x.1 1 : Nat) (Nat.le_refl _)).2 hk
  obtain ⟨q1, q2, q3⟩ := night2_ok (fishL_ok hW (Nat.le_refl _)).1
  refine ⟨m, m1, ?_, ?_⟩
  · show (night2 (lf fishS (x.1 1 : Nat) 0 x).1 (36 + k) : Nat) = _
    rw [q2 _ (by omega) (by omega)]; exact m2
  · show (lf fishS (x.1 1 : Nat) 0 x).2 k = x.2 k ||| (if 0 < m then 2 ^ bookAt (night2 (lf fishS (x.1 1 : Nat) 0 x).1) (night2 (lf fishS (x.1 1 : Nat) 0 x).1 (31 + k)) else 0)
    rw [q2 (31 + k) (by omega) (by omega), bookAt_cg (s := (lf fishS (x.1 1 : Nat) 0 x).1) (fun j hj => q2 (20 + j) (by omega) (by omega))]
    exact m3
def holF (k : Nat) : Nat → St → Nat → Nat
  | 0, _, y => y
  | n + 1, t, y => holF k n (night t) (y ||| (if (t (36 + k) : Nat) < (night t (36 + k) : Nat) then 2 ^ bookAt (night t) (night t (31 + k)) else 0))
theorem holF_ok {k : Nat} : ∀ n i (t s : St) (g : Nat → Nat), i + n ≤ 60 → Eq36 t s → WF t → WF s → k < (t 1 : Nat) → (t (36 + k) : Nat) ≤ 9 * i → holF k n t (g k) = (ntG n (s, g)).2 k := by
  intro n
  induction n with
  | zero => intro i t s g _ _ _ _ _ _; rfl
  | succ n ih =>
    intro i t s g hi E hT hS hk hd
    obtain ⟨m, m1, m2, m3⟩ := nightG_dust (x := (t, g)) hT hk
    obtain ⟨e1, e2⟩ := Eq36.knightG (x := (t, g)) (y := (s, g)) E rfl hS
    have et : (nightG (t, g)).1 = night t := nightG_1 t g
    rw [et] at m2 m3 e1
    have q := night_ok hT
    have qS := nightG_ok (x := (s, g)) hS
    show holF k n (night t) (g k ||| _) = (ntG n (nightG (s, g))).2 k
    have eg : g k ||| (if (t (36 + k) : Nat) < (night t (36 + k) : Nat) then 2 ^ bookAt (night t) (night t (31 + k)) else 0) = (nightG (s, g)).2 k := by
      rw [← e2]
      refine Eq.trans ?_ m3.symm
      have hm2 : (night t (36 + k) : Nat) = (t (36 + k) : Nat) + m := by rw [m2]; show min 999 ((t (36 + k) : Nat) + m) = _; omega
      by_cases h0 : 0 < m
      · rw [if_pos h0, if_pos (by omega)]
      · rw [if_neg h0, if_neg (by omega)]
    rw [eg]
    have hk' : k < (night t 1 : Nat) := by rw [q.2.1 1 (by omega) (by omega)]; exact hk
    exact ih (i + 1) (night t) (nightG (s, g)).1 (nightG (s, g)).2 (by omega) e1 q.1 qS.1 hk' (by rw [m2]; show min 999 ((t (36 + k) : Nat) + m) ≤ _; omega)
theorem WF_dust {s : St} {k v : Nat} (hW : WF s) (hk : k < (s 1 : Nat)) (hv : v ≤ 999) : WF (wr s (36 + k) v) := by
  have h := hW
  obtain ⟨⟨hM, hN⟩, hB, hP, hG, hF, hr, -⟩ := hW
  refine WF_mk h (wr_ne (by omega)) (wr_ne (by omega)) (fun j hj => wr_ne (by omega)) (fun b hb => ?_) (fun f hf => ?_) ?_ ?_
  · rw [wr_ne (by omega), wr_ne (by omega)]; exact hG b hb
  · obtain ⟨a1, a2, a3⟩ := hF f hf
    rw [wr_ne (by omega), wr_ne (by omega), wr_at]
    refine ⟨a1, a2, ?_⟩
    split
    · rw [Nat.mod_eq_of_lt (by omega)]; exact hv
    · exact a3
  · rw [wr_ne (by omega), wr_ne (by omega), wr_ne (by omega), wr_ne (by omega), wr_ne (by omega)]; exact hr
  · rw [wr_ne (by omega)]
section CQ13
variable (c : Nat) (X : XS)
theorem k_hole (hX : XOK X) (x n : Int32) : COp mX0_hole [.int x, .int n, .retAddr 0, .retAddr 0, .retAddr 0] c X (.int (sp_hole (xs X) x n)) X := by
  intro h H hC hS
  obtain ⟨nn, p, tf, tk, s0, n0, p0, tf0, tk0, e, fa, M, L, eh, K, hn, hl, hp, hp3, hf⟩ := H.use hX
  have K' := K
  obtain ⟨k0, ⟨k1, k2, k3, k4, k6, k7⟩, l1, l2, l3, l4, l6, l7⟩ := K'
  have hM : (xs X 0 : Nat) ≤ 6 := hX.1.1.1.1
  have hN : (xs X 1 : Nat) ≤ 5 := hX.1.1.1.2
  have h4 := hX.1.2
  unfold sp_hole
  by_cases hx : isF (xs X) x
  · skip
    by_cases hm : inR n 0 60
    · skip
      rw [if_pos ⟨hx, hm⟩]
      obtain ⟨k, rfl, q1, q2, q3⟩ := inR_nn hx (by omega)
      obtain ⟨m, rfl, m1, m2, m3⟩ := inR_nn hm (by omega)
      rw [nt_nn q3, nt_nn m3]
      have hk1 : k < (xs X 1 : Nat) := by omega
      have hWd := WF_dust (k := k) (v := 0) hX.1.1 hk1 (by omega)
      have hnT : ∀ j, j < (xs X 0 : Nat) → cpN n0 nn j = bookAt (xs X) j := fun j hj => (hn j hj).1
      have key : ∀ q i t y u5, i + q = m → WF t → (t 4 : Nat) + q < 4096 → t 0 = xs X 0 → t 1 = xs X 1 → (∀ j, 20 ≤ j → j < 31 → t j = xs X j) → ∃ s2, ∀ Q : Po, Ex mX0_hole Q 38 [.ref c, .int (nI k), .int (nI m), .int (nI y), .int (nI i), u5] [] (LB h (c + 11) t (cpN n0 nn) p (zI (-1000000)) tk0) = Q (.inl (some (.int (nI (holF k q t y))))) (LB h (c + 11) s2 (cpN n0 nn) p (zI (-1000000)) tk0) := by
        intro q
        induction q with
        | zero =>
          intro i t y u5 hi hW' h4' e0 e1 e2
          refine ⟨t, fun Q => ?_⟩
          rw [rX0_hole_38]
          simp (disch := omega) only [↓rX0_hole_0, ↓rX0_hole_1, ↓rX0_hole_2, ↓rX0_hole_5, ↓rX0_hole_8, ↓rX0_hole_9, ↓rX0_hole_12, ↓rX0_hole_15, ↓rX0_hole_17, ↓rX0_hole_18, ↓rX0_hole_19, ↓rX0_hole_22, ↓rX0_hole_23, ↓rX0_hole_24, ↓rX0_hole_27, ↓rX0_hole_30, ↓rX0_hole_31, ↓rX0_hole_32, ↓rX0_hole_33, ↓rX0_hole_34, ↓rX0_hole_35, ↓rX0_hole_36, ↓rX0_hole_40, ↓rX0_hole_41, ↓rX0_hole_44, ↓rX0_hole_45, ↓rX0_hole_48, ↓rX0_hole_51, ↓rX0_hole_52, ↓rX0_hole_53, ↓rX0_hole_55, ↓rX0_hole_56, ↓rX0_hole_59, ↓rX0_hole_62, ↓rX0_hole_63, ↓rX0_hole_64, ↓rX0_hole_65, ↓rX0_hole_68, ↓rX0_hole_71, ↓rX0_hole_72, ↓rX0_hole_73, ↓rX0_hole_75, ↓rX0_hole_78, ↓rX0_hole_79, ↓rX0_hole_80, ↓rX0_hole_83, ↓rX0_hole_86, ↓rX0_hole_87, ↓rX0_hole_90, ↓rX0_hole_93, ↓rX0_hole_94, ↓rX0_hole_95, ↓rX0_hole_96, ↓rX0_hole_97, ↓rX0_hole_100, ↓rX0_hole_101, ↓rX0_hole_102, ↓rX0_hole_103, ↓rX0_hole_106, ↓rX0_hole_109, ↓rX0_hole_110, ↓rX0_hole_t, lG_32, lG_34, lG_36, lG_46, lG_48, lG_56, lG_58, lG_39, lG_41, lG_43, lG_45, lG_53, lG_55, lG_51, lG_60, lG_63, lI_1, lI_2, lI_4, lI_6, lI_7, lI_3, lP_32, lP_34, lP_36, lP_46, lP_48, lP_56, lP_58, lP_51, lP_60, lP_63, lW_1, lW_2, lW_4, lW_6, lW_7, lW_3, lo_K, lo_L, lo_R, lo_N, lo_C, lo_S, lo_F, lo_I, ↓rmI_in, ↓shrI_in, ↓shlI_in, ↓okI_in, ↓bI_01, bI_z, bI_o, nn_neg, Int.cast_ofNat_Int, zlit, n_leT, n_leF, n_ltT, n_ltF, n_eqT, n_eqF, z_leT, z_leF, z_ltT, z_ltF, z_eqT, z_eqF, nn_add, nn_mul, nn_clamp, nn_lt, nn_le, nn_eq, nn_div, rmI_nn, okI_nn, nn_and, nn_or, nn_xor, shlI_1, shrI_nn, Cont_v, Cont_0, List.mem_cons, List.not_mem_nil, or_false, or_true, true_or, true_and, and_true, ite_not, if_true, if_false, not_true_eq_false, not_false_eq_true, false_or, false_and, and_false, eq_self, ↓reduceIte, reduceCtorEq, l_toInt, sub_toInt, l64_0, l64_1, l64_2, l64_3, l64_5, l64_7, l64_9, l64_10, l64_12, l64_24, l64_48, l64_57, l64_60, l64_97, l64_122, l64_255, l64_999, l64_999999, l64_m, ↓c0_isIn, ↓c0_isRow, ↓c0_isHalf, ↓c0_isFar, ↓c0_isLong, ↓c0_isShort, CM.k0 M, CM.k1 M, CM.l1 M, CM.k2 M, CM.l2 M, CM.k19 M, CM.l19 M, CM.k20 M, CM.l20 M, CM.k23 M, CM.l23 M, CM.k24 M, CM.l24 M, CM.k25 M, CM.l25 M, CM.f3 M, CM.f5 M, CM.f11 M, CM.f13 M, CM.f15 M, CM.f19 M, CM.f25 M, CM.f27 M, CM.f31 M, k0, k1, k2, k3, k4, k6, k7, l1, l2, l3, l4, l6, l7, k0, HL.k0 L, nn_toInt, ↓c0_isBook _ _ _ _ _ _ _ _ _ _ _ _ _ M L, ↓c0_isFish _ _ _ _ _ _ _ _ _ _ _ _ _ M L hl hp (show (xs X 1 : Nat) ≤ 10 by omega), ↓c0_isLibrary _ _ _ _ _ _ _ _ _ _ _ _ _ M L, ↓c0_tried _ _ _ _ _ _ _ _ _ _ _ _ _ M K L, holF]
        | succ q ih =>
          intro i t y u5 hi hW' h4' e0 e1 e2
          have qn := night_ok hW'
          have q0 : night t 0 = xs X 0 := (qn.2.1 0 (by omega) (by omega)).trans e0
          have q1' : night t 1 = xs X 1 := (qn.2.1 1 (by omega) (by omega)).trans e1
          have q20 : ∀ j, 20 ≤ j → j < 31 → night t j = xs X j := fun j hj hj2 => (qn.2.2.1 j hj hj2).trans (e2 j hj hj2)
          have hps := fun Q => use_pass (X := X) (nT := cpN n0 nn) K hl hp hnT hf Q t hW' (by omega) e0 e1 e2
          have hat := (qn.1.2.2.2.2.1 k (by rw [q1']; exact hk1)).2.1
          rw [q0] at hat
          have hin : cpN n0 nn (night t (31 + k)) = bookAt (night t) (night t (31 + k)) := by
            rw [hnT _ hat]
            exact (bookAt_cg (fun j hj => q20 (20 + j) (by omega) (by omega)) _).symm
          have hb6 : bookAt (night t) (night t (31 + k)) < 6 := by
            have h1 := (qn.1.2.1 (night t (31 + k) : Nat) (by rw [q0]; exact hat)).1
            rw [q0] at h1
            omega
          obtain ⟨s2, h2⟩ := ih (i + 1) (night t) (y ||| (if (t (36 + k) : Nat) < (night t (36 + k) : Nat) then 2 ^ bookAt (night t) (night t (31 + k)) else 0)) (.int (nI (t (36 + k)))) (by omega) qn.1 (by rw [qn.2.2.2, Nat.mod_eq_of_lt (by omega)]; omega) q0 q1' q20
          refine ⟨s2, fun Q => Eq.trans ?_ (h2 Q)⟩
          rw [rX0_hole_38]
          by_cases hc : (t (36 + k) : Nat) < (night t (36 + k) : Nat)
          · simp (disch := omega) only [↓rX0_hole_0, ↓rX0_hole_1, ↓rX0_hole_2, ↓rX0_hole_5, ↓rX0_hole_8, ↓rX0_hole_9, ↓rX0_hole_12, ↓rX0_hole_15, ↓rX0_hole_17, ↓rX0_hole_18, ↓rX0_hole_19, ↓rX0_hole_22, ↓rX0_hole_23, ↓rX0_hole_24, ↓rX0_hole_27, ↓rX0_hole_30, ↓rX0_hole_31, ↓rX0_hole_32, ↓rX0_hole_33, ↓rX0_hole_34, ↓rX0_hole_35, ↓rX0_hole_36, ↓rX0_hole_40, ↓rX0_hole_41, ↓rX0_hole_44, ↓rX0_hole_45, ↓rX0_hole_48, ↓rX0_hole_51, ↓rX0_hole_52, ↓rX0_hole_53, ↓rX0_hole_55, ↓rX0_hole_56, ↓rX0_hole_59, ↓rX0_hole_62, ↓rX0_hole_63, ↓rX0_hole_64, ↓rX0_hole_65, ↓rX0_hole_68, ↓rX0_hole_71, ↓rX0_hole_72, ↓rX0_hole_73, ↓rX0_hole_75, ↓rX0_hole_78, ↓rX0_hole_79, ↓rX0_hole_80, ↓rX0_hole_83, ↓rX0_hole_86, ↓rX0_hole_87, ↓rX0_hole_90, ↓rX0_hole_93, ↓rX0_hole_94, ↓rX0_hole_95, ↓rX0_hole_96, ↓rX0_hole_97, ↓rX0_hole_100, ↓rX0_hole_101, ↓rX0_hole_102, ↓rX0_hole_103, ↓rX0_hole_106, ↓rX0_hole_109, ↓rX0_hole_110, ↓rX0_hole_t, lG_32, lG_34, lG_36, lG_46, lG_48, lG_56, lG_58, lG_39, lG_41, lG_43, lG_45, lG_53, lG_55, lG_51, lG_60, lG_63, lI_1, lI_2, lI_4, lI_6, lI_7, lI_3, lP_32, lP_34, lP_36, lP_46, lP_48, lP_56, lP_58, lP_51, lP_60, lP_63, lW_1, lW_2, lW_4, lW_6, lW_7, lW_3, lo_K, lo_L, lo_R, lo_N, lo_C, lo_S, lo_F, lo_I, ↓rmI_in, ↓shrI_in, ↓shlI_in, ↓okI_in, ↓bI_01, bI_z, bI_o, nn_neg, Int.cast_ofNat_Int, zlit, n_leT, n_leF, n_ltT, n_ltF, n_eqT, n_eqF, z_leT, z_leF, z_ltT, z_ltF, z_eqT, z_eqF, nn_add, nn_mul, nn_clamp, nn_lt, nn_le, nn_eq, nn_div, rmI_nn, okI_nn, nn_and, nn_or, nn_xor, shlI_1, shrI_nn, Cont_v, Cont_0, List.mem_cons, List.not_mem_nil, or_false, or_true, true_or, true_and, and_true, ite_not, if_true, if_false, not_true_eq_false, not_false_eq_true, false_or, false_and, and_false, eq_self, ↓reduceIte, reduceCtorEq, l_toInt, sub_toInt, l64_0, l64_1, l64_2, l64_3, l64_5, l64_7, l64_9, l64_10, l64_12, l64_24, l64_48, l64_57, l64_60, l64_97, l64_122, l64_255, l64_999, l64_999999, l64_m, ↓c0_isIn, ↓c0_isRow, ↓c0_isHalf, ↓c0_isFar, ↓c0_isLong, ↓c0_isShort, CM.k0 M, CM.k1 M, CM.l1 M, CM.k2 M, CM.l2 M, CM.k19 M, CM.l19 M, CM.k20 M, CM.l20 M, CM.k23 M, CM.l23 M, CM.k24 M, CM.l24 M, CM.k25 M, CM.l25 M, CM.f3 M, CM.f5 M, CM.f11 M, CM.f13 M, CM.f15 M, CM.f19 M, CM.f25 M, CM.f27 M, CM.f31 M, k0, k1, k2, k3, k4, k6, k7, l1, l2, l3, l4, l6, l7, k0, HL.k0 L, nn_toInt, ↓c0_isBook _ _ _ _ _ _ _ _ _ _ _ _ _ M L, ↓c0_isFish _ _ _ _ _ _ _ _ _ _ _ _ _ M L hl hp (show (xs X 1 : Nat) ≤ 10 by omega), ↓c0_isLibrary _ _ _ _ _ _ _ _ _ _ _ _ _ M L, ↓c0_tried _ _ _ _ _ _ _ _ _ _ _ _ _ M K L, ↓hps, hin, hc]
          · simp (disch := omega) only [↓rX0_hole_0, ↓rX0_hole_1, ↓rX0_hole_2, ↓rX0_hole_5, ↓rX0_hole_8, ↓rX0_hole_9, ↓rX0_hole_12, ↓rX0_hole_15, ↓rX0_hole_17, ↓rX0_hole_18, ↓rX0_hole_19, ↓rX0_hole_22, ↓rX0_hole_23, ↓rX0_hole_24, ↓rX0_hole_27, ↓rX0_hole_30, ↓rX0_hole_31, ↓rX0_hole_32, ↓rX0_hole_33, ↓rX0_hole_34, ↓rX0_hole_35, ↓rX0_hole_36, ↓rX0_hole_40, ↓rX0_hole_41, ↓rX0_hole_44, ↓rX0_hole_45, ↓rX0_hole_48, ↓rX0_hole_51, ↓rX0_hole_52, ↓rX0_hole_53, ↓rX0_hole_55, ↓rX0_hole_56, ↓rX0_hole_59, ↓rX0_hole_62, ↓rX0_hole_63, ↓rX0_hole_64, ↓rX0_hole_65, ↓rX0_hole_68, ↓rX0_hole_71, ↓rX0_hole_72, ↓rX0_hole_73, ↓rX0_hole_75, ↓rX0_hole_78, ↓rX0_hole_79, ↓rX0_hole_80, ↓rX0_hole_83, ↓rX0_hole_86, ↓rX0_hole_87, ↓rX0_hole_90, ↓rX0_hole_93, ↓rX0_hole_94, ↓rX0_hole_95, ↓rX0_hole_96, ↓rX0_hole_97, ↓rX0_hole_100, ↓rX0_hole_101, ↓rX0_hole_102, ↓rX0_hole_103, ↓rX0_hole_106, ↓rX0_hole_109, ↓rX0_hole_110, ↓rX0_hole_t, lG_32, lG_34, lG_36, lG_46, lG_48, lG_56, lG_58, lG_39, lG_41, lG_43, lG_45, lG_53, lG_55, lG_51, lG_60, lG_63, lI_1, lI_2, lI_4, lI_6, lI_7, lI_3, lP_32, lP_34, lP_36, lP_46, lP_48, lP_56, lP_58, lP_51, lP_60, lP_63, lW_1, lW_2, lW_4, lW_6, lW_7, lW_3, lo_K, lo_L, lo_R, lo_N, lo_C, lo_S, lo_F, lo_I, ↓rmI_in, ↓shrI_in, ↓shlI_in, ↓okI_in, ↓bI_01, bI_z, bI_o, nn_neg, Int.cast_ofNat_Int, zlit, n_leT, n_leF, n_ltT, n_ltF, n_eqT, n_eqF, z_leT, z_leF, z_ltT, z_ltF, z_eqT, z_eqF, nn_add, nn_mul, nn_clamp, nn_lt, nn_le, nn_eq, nn_div, rmI_nn, okI_nn, nn_and, nn_or, nn_xor, shlI_1, shrI_nn, Cont_v, Cont_0, List.mem_cons, List.not_mem_nil, or_false, or_true, true_or, true_and, and_true, ite_not, if_true, if_false, not_true_eq_false, not_false_eq_true, false_or, false_and, and_false, eq_self, ↓reduceIte, reduceCtorEq, l_toInt, sub_toInt, l64_0, l64_1, l64_2, l64_3, l64_5, l64_7, l64_9, l64_10, l64_12, l64_24, l64_48, l64_57, l64_60, l64_97, l64_122, l64_255, l64_999, l64_999999, l64_m, ↓c0_isIn, ↓c0_isRow, ↓c0_isHalf, ↓c0_isFar, ↓c0_isLong, ↓c0_isShort, CM.k0 M, CM.k1 M, CM.l1 M, CM.k2 M, CM.l2 M, CM.k19 M, CM.l19 M, CM.k20 M, CM.l20 M, CM.k23 M, CM.l23 M, CM.k24 M, CM.l24 M, CM.k25 M, CM.l25 M, CM.f3 M, CM.f5 M, CM.f11 M, CM.f13 M, CM.f15 M, CM.f19 M, CM.f25 M, CM.f27 M, CM.f31 M, k0, k1, k2, k3, k4, k6, k7, l1, l2, l3, l4, l6, l7, k0, HL.k0 L, nn_toInt, ↓c0_isBook _ _ _ _ _ _ _ _ _ _ _ _ _ M L, ↓c0_isFish _ _ _ _ _ _ _ _ _ _ _ _ _ M L hl hp (show (xs X 1 : Nat) ≤ 10 by omega), ↓c0_isLibrary _ _ _ _ _ _ _ _ _ _ _ _ _ M L, ↓c0_tried _ _ _ _ _ _ _ _ _ _ _ _ _ M K L, ↓hps, hc]
      obtain ⟨s2, h2⟩ := key m 0 (wr (xs X) (36 + k) 0) 0 (.retAddr 0) (by omega) hWd (by rw [wr_ne (by omega)]; omega) (wr_ne (by omega)) (wr_ne (by omega)) (fun j hj hj2 => wr_ne (by omega))
      obtain ⟨C1, C2⟩ := H.lb hX s2 (cpN n0 nn) p (zI (-1000000)) tk0
      have ef : holF k m (wr (xs X) (36 + k) 0) 0 = (ntG m (xs X, fun _ => 0)).2 k := holF_ok m 0 _ (xs X) (fun _ => 0) (by omega) (Eq36.wrl (fun _ _ => rfl) 0 (by omega)) hWd hX.1.1 (by rw [wr_ne (by omega)]; exact hk1) (by rw [wr_eq]; omega)
      refine ⟨_, C1, C2, fun Q => Eq.trans ?_ ((h2 Q).trans (by rw [ef]))⟩
      conv => lhs; rw [← eh]
      simp (disch := omega) only [↓rX0_hole_0, ↓rX0_hole_1, ↓rX0_hole_2, ↓rX0_hole_5, ↓rX0_hole_8, ↓rX0_hole_9, ↓rX0_hole_12, ↓rX0_hole_15, ↓rX0_hole_17, ↓rX0_hole_18, ↓rX0_hole_19, ↓rX0_hole_22, ↓rX0_hole_23, ↓rX0_hole_24, ↓rX0_hole_27, ↓rX0_hole_30, ↓rX0_hole_31, ↓rX0_hole_32, ↓rX0_hole_33, ↓rX0_hole_34, ↓rX0_hole_35, ↓rX0_hole_36, ↓rX0_hole_40, ↓rX0_hole_41, ↓rX0_hole_44, ↓rX0_hole_45, ↓rX0_hole_48, ↓rX0_hole_51, ↓rX0_hole_52, ↓rX0_hole_53, ↓rX0_hole_55, ↓rX0_hole_56, ↓rX0_hole_59, ↓rX0_hole_62, ↓rX0_hole_63, ↓rX0_hole_64, ↓rX0_hole_65, ↓rX0_hole_68, ↓rX0_hole_71, ↓rX0_hole_72, ↓rX0_hole_73, ↓rX0_hole_75, ↓rX0_hole_78, ↓rX0_hole_79, ↓rX0_hole_80, ↓rX0_hole_83, ↓rX0_hole_86, ↓rX0_hole_87, ↓rX0_hole_90, ↓rX0_hole_93, ↓rX0_hole_94, ↓rX0_hole_95, ↓rX0_hole_96, ↓rX0_hole_97, ↓rX0_hole_100, ↓rX0_hole_101, ↓rX0_hole_102, ↓rX0_hole_103, ↓rX0_hole_106, ↓rX0_hole_109, ↓rX0_hole_110, ↓rX0_hole_t, lG_32, lG_34, lG_36, lG_46, lG_48, lG_56, lG_58, lG_39, lG_41, lG_43, lG_45, lG_53, lG_55, lG_51, lG_60, lG_63, lI_1, lI_2, lI_4, lI_6, lI_7, lI_3, lP_32, lP_34, lP_36, lP_46, lP_48, lP_56, lP_58, lP_51, lP_60, lP_63, lW_1, lW_2, lW_4, lW_6, lW_7, lW_3, lo_K, lo_L, lo_R, lo_N, lo_C, lo_S, lo_F, lo_I, ↓rmI_in, ↓shrI_in, ↓shlI_in, ↓okI_in, ↓bI_01, bI_z, bI_o, nn_neg, Int.cast_ofNat_Int, zlit, n_leT, n_leF, n_ltT, n_ltF, n_eqT, n_eqF, z_leT, z_leF, z_ltT, z_ltF, z_eqT, z_eqF, nn_add, nn_mul, nn_clamp, nn_lt, nn_le, nn_eq, nn_div, rmI_nn, okI_nn, nn_and, nn_or, nn_xor, shlI_1, shrI_nn, Cont_v, Cont_0, List.mem_cons, List.not_mem_nil, or_false, or_true, true_or, true_and, and_true, ite_not, if_true, if_false, not_true_eq_false, not_false_eq_true, false_or, false_and, and_false, eq_self, ↓reduceIte, reduceCtorEq, l_toInt, sub_toInt, l64_0, l64_1, l64_2, l64_3, l64_5, l64_7, l64_9, l64_10, l64_12, l64_24, l64_48, l64_57, l64_60, l64_97, l64_122, l64_255, l64_999, l64_999999, l64_m, ↓c0_isIn, ↓c0_isRow, ↓c0_isHalf, ↓c0_isFar, ↓c0_isLong, ↓c0_isShort, CM.k0 M, CM.k1 M, CM.l1 M, CM.k2 M, CM.l2 M, CM.k19 M, CM.l19 M, CM.k20 M, CM.l20 M, CM.k23 M, CM.l23 M, CM.k24 M, CM.l24 M, CM.k25 M, CM.l25 M, CM.f3 M, CM.f5 M, CM.f11 M, CM.f13 M, CM.f15 M, CM.f19 M, CM.f25 M, CM.f27 M, CM.f31 M, k0, k1, k2, k3, k4, k6, k7, l1, l2, l3, l4, l6, l7, k0, HL.k0 L, nn_toInt, ↓c0_isBook _ _ _ _ _ _ _ _ _ _ _ _ _ M L, ↓c0_isFish _ _ _ _ _ _ _ _ _ _ _ _ _ M L hl hp (show (xs X 1 : Nat) ≤ 10 by omega), ↓c0_isLibrary _ _ _ _ _ _ _ _ _ _ _ _ _ M L, ↓c0_tried _ _ _ _ _ _ _ _ _ _ _ _ _ M K L]
    · rw [if_neg (fun q => hm q.2)]
      refine ⟨h, H, Kp.rfl' h c, fun Q => ?_⟩
      rw [← eh]
      simp (disch := omega) only [↓rX0_hole_0, ↓rX0_hole_1, ↓rX0_hole_2, ↓rX0_hole_5, ↓rX0_hole_8, ↓rX0_hole_9, ↓rX0_hole_12, ↓rX0_hole_15, ↓rX0_hole_17, ↓rX0_hole_18, ↓rX0_hole_19, ↓rX0_hole_22, ↓rX0_hole_23, ↓rX0_hole_24, ↓rX0_hole_27, ↓rX0_hole_30, ↓rX0_hole_31, ↓rX0_hole_32, ↓rX0_hole_33, ↓rX0_hole_34, ↓rX0_hole_35, ↓rX0_hole_36, ↓rX0_hole_40, ↓rX0_hole_41, ↓rX0_hole_44, ↓rX0_hole_45, ↓rX0_hole_48, ↓rX0_hole_51, ↓rX0_hole_52, ↓rX0_hole_53, ↓rX0_hole_55, ↓rX0_hole_56, ↓rX0_hole_59, ↓rX0_hole_62, ↓rX0_hole_63, ↓rX0_hole_64, ↓rX0_hole_65, ↓rX0_hole_68, ↓rX0_hole_71, ↓rX0_hole_72, ↓rX0_hole_73, ↓rX0_hole_75, ↓rX0_hole_78, ↓rX0_hole_79, ↓rX0_hole_80, ↓rX0_hole_83, ↓rX0_hole_86, ↓rX0_hole_87, ↓rX0_hole_90, ↓rX0_hole_93, ↓rX0_hole_94, ↓rX0_hole_95, ↓rX0_hole_96, ↓rX0_hole_97, ↓rX0_hole_100, ↓rX0_hole_101, ↓rX0_hole_102, ↓rX0_hole_103, ↓rX0_hole_106, ↓rX0_hole_109, ↓rX0_hole_110, ↓rX0_hole_t, lG_32, lG_34, lG_36, lG_46, lG_48, lG_56, lG_58, lG_39, lG_41, lG_43, lG_45, lG_53, lG_55, lG_51, lG_60, lG_63, lI_1, lI_2, lI_4, lI_6, lI_7, lI_3, lP_32, lP_34, lP_36, lP_46, lP_48, lP_56, lP_58, lP_51, lP_60, lP_63, lW_1, lW_2, lW_4, lW_6, lW_7, lW_3, lo_K, lo_L, lo_R, lo_N, lo_C, lo_S, lo_F, lo_I, ↓rmI_in, ↓shrI_in, ↓shlI_in, ↓okI_in, ↓bI_01, bI_z, bI_o, nn_neg, Int.cast_ofNat_Int, zlit, n_leT, n_leF, n_ltT, n_ltF, n_eqT, n_eqF, z_leT, z_leF, z_ltT, z_ltF, z_eqT, z_eqF, nn_add, nn_mul, nn_clamp, nn_lt, nn_le, nn_eq, nn_div, rmI_nn, okI_nn, nn_and, nn_or, nn_xor, shlI_1, shrI_nn, Cont_v, Cont_0, List.mem_cons, List.not_mem_nil, or_false, or_true, true_or, true_and, and_true, ite_not, if_true, if_false, not_true_eq_false, not_false_eq_true, false_or, false_and, and_false, eq_self, ↓reduceIte, reduceCtorEq, l_toInt, sub_toInt, l64_0, l64_1, l64_2, l64_3, l64_5, l64_7, l64_9, l64_10, l64_12, l64_24, l64_48, l64_57, l64_60, l64_97, l64_122, l64_255, l64_999, l64_999999, l64_m, ↓c0_isIn, ↓c0_isRow, ↓c0_isHalf, ↓c0_isFar, ↓c0_isLong, ↓c0_isShort, CM.k0 M, CM.k1 M, CM.l1 M, CM.k2 M, CM.l2 M, CM.k19 M, CM.l19 M, CM.k20 M, CM.l20 M, CM.k23 M, CM.l23 M, CM.k24 M, CM.l24 M, CM.k25 M, CM.l25 M, CM.f3 M, CM.f5 M, CM.f11 M, CM.f13 M, CM.f15 M, CM.f19 M, CM.f25 M, CM.f27 M, CM.f31 M, k0, k1, k2, k3, k4, k6, k7, l1, l2, l3, l4, l6, l7, k0, HL.k0 L, nn_toInt, ↓c0_isBook _ _ _ _ _ _ _ _ _ _ _ _ _ M L, ↓c0_isFish _ _ _ _ _ _ _ _ _ _ _ _ _ M L hl hp (show (xs X 1 : Nat) ≤ 10 by omega), ↓c0_isLibrary _ _ _ _ _ _ _ _ _ _ _ _ _ M L, ↓c0_tried _ _ _ _ _ _ _ _ _ _ _ _ _ M K L, hx, hm, cB]
  · rw [if_neg (fun q => hx q.1)]
    refine ⟨h, H, Kp.rfl' h c, fun Q => ?_⟩
    rw [← eh]
    simp (disch := omega) only [↓rX0_hole_0, ↓rX0_hole_1, ↓rX0_hole_2, ↓rX0_hole_5, ↓rX0_hole_8, ↓rX0_hole_9, ↓rX0_hole_12, ↓rX0_hole_15, ↓rX0_hole_17, ↓rX0_hole_18, ↓rX0_hole_19, ↓rX0_hole_22, ↓rX0_hole_23, ↓rX0_hole_24, ↓rX0_hole_27, ↓rX0_hole_30, ↓rX0_hole_31, ↓rX0_hole_32, ↓rX0_hole_33, ↓rX0_hole_34, ↓rX0_hole_35, ↓rX0_hole_36, ↓rX0_hole_40, ↓rX0_hole_41, ↓rX0_hole_44, ↓rX0_hole_45, ↓rX0_hole_48, ↓rX0_hole_51, ↓rX0_hole_52, ↓rX0_hole_53, ↓rX0_hole_55, ↓rX0_hole_56, ↓rX0_hole_59, ↓rX0_hole_62, ↓rX0_hole_63, ↓rX0_hole_64, ↓rX0_hole_65, ↓rX0_hole_68, ↓rX0_hole_71, ↓rX0_hole_72, ↓rX0_hole_73, ↓rX0_hole_75, ↓rX0_hole_78, ↓rX0_hole_79, ↓rX0_hole_80, ↓rX0_hole_83, ↓rX0_hole_86, ↓rX0_hole_87, ↓rX0_hole_90, ↓rX0_hole_93, ↓rX0_hole_94, ↓rX0_hole_95, ↓rX0_hole_96, ↓rX0_hole_97, ↓rX0_hole_100, ↓rX0_hole_101, ↓rX0_hole_102, ↓rX0_hole_103, ↓rX0_hole_106, ↓rX0_hole_109, ↓rX0_hole_110, ↓rX0_hole_t, lG_32, lG_34, lG_36, lG_46, lG_48, lG_56, lG_58, lG_39, lG_41, lG_43, lG_45, lG_53, lG_55, lG_51, lG_60, lG_63, lI_1, lI_2, lI_4, lI_6, lI_7, lI_3, lP_32, lP_34, lP_36, lP_46, lP_48, lP_56, lP_58, lP_51, lP_60, lP_63, lW_1, lW_2, lW_4, lW_6, lW_7, lW_3, lo_K, lo_L, lo_R, lo_N, lo_C, lo_S, lo_F, lo_I, ↓rmI_in, ↓shrI_in, ↓shlI_in, ↓okI_in, ↓bI_01, bI_z, bI_o, nn_neg, Int.cast_ofNat_Int, zlit, n_leT, n_leF, n_ltT, n_ltF, n_eqT, n_eqF, z_leT, z_leF, z_ltT, z_ltF, z_eqT, z_eqF, nn_add, nn_mul, nn_clamp, nn_lt, nn_le, nn_eq, nn_div, rmI_nn, okI_nn, nn_and, nn_or, nn_xor, shlI_1, shrI_nn, Cont_v, Cont_0, List.mem_cons, List.not_mem_nil, or_false, or_true, true_or, true_and, and_true, ite_not, if_true, if_false, not_true_eq_false, not_false_eq_true, false_or, false_and, and_false, eq_self, ↓reduceIte, reduceCtorEq, l_toInt, sub_toInt, l64_0, l64_1, l64_2, l64_3, l64_5, l64_7, l64_9, l64_10, l64_12, l64_24, l64_48, l64_57, l64_60, l64_97, l64_122, l64_255, l64_999, l64_999999, l64_m, ↓c0_isIn, ↓c0_isRow, ↓c0_isHalf, ↓c0_isFar, ↓c0_isLong, ↓c0_isShort, CM.k0 M, CM.k1 M, CM.l1 M, CM.k2 M, CM.l2 M, CM.k19 M, CM.l19 M, CM.k20 M, CM.l20 M, CM.k23 M, CM.l23 M, CM.k24 M, CM.l24 M, CM.k25 M, CM.l25 M, CM.f3 M, CM.f5 M, CM.f11 M, CM.f13 M, CM.f15 M, CM.f19 M, CM.f25 M, CM.f27 M, CM.f31 M, k0, k1, k2, k3, k4, k6, k7, l1, l2, l3, l4, l6, l7, k0, HL.k0 L, nn_toInt, ↓c0_isBook _ _ _ _ _ _ _ _ _ _ _ _ _ M L, ↓c0_isFish _ _ _ _ _ _ _ _ _ _ _ _ _ M L hl hp (show (xs X 1 : Nat) ≤ 10 by omega), ↓c0_isLibrary _ _ _ _ _ _ _ _ _ _ _ _ _ M L, ↓c0_tried _ _ _ _ _ _ _ _ _ _ _ _ _ M K L, hx, cB]
end CQ13
