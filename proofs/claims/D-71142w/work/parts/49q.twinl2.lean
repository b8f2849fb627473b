/-! THE TWIN READS A LIBRARY: all of it -/
def PI (r : St) : Prop := ((r 0 : Nat) ≤ 6 ∧ (r 1 : Nat) ≤ 5) ∧ (∀ b, b < (r 0 : Nat) → (r (8 + b) : Nat) ≤ 99 ∧ (r (14 + b) : Nat) ≤ 9 ∧ (r (20 + b) : Nat) = b) ∧ (∀ f, f < (r 1 : Nat) → (1 ≤ (r (26 + f) : Nat) ∧ (r (26 + f) : Nat) ≤ 5) ∧ (r (31 + f) : Nat) < (r 0 : Nat)) ∧ ((1 ≤ (r 2 : Nat) ∧ (r 2 : Nat) ≤ 9) ∧ (r 3 : Nat) ≤ 8 ∧ (r 4 : Nat) = 0 ∧ (r 5 : Nat) = 0 ∧ (r 6 : Nat) = 0 ∧ (r 7 : Nat) = 0) ∧ (∀ f, f < 5 → (r (36 + f) : Nat) = 0)
theorem PI_book {r : St} {v1 v2 : Nat} (h : PI r) (h1 : (r 1 : Nat) = 0) (h6 : (r 0 : Nat) ≠ 6) (hv : v1 ≤ 99 ∧ v2 ≤ 9) : PI (wr (wr (wr (wr r (20 + (r 0 : Nat)) (r 0)) 0 ((r 0 : Nat) + 1)) (8 + (r 0 : Nat)) v1) (14 + (r 0 : Nat)) v2) := by
  obtain ⟨⟨a1, a2⟩, a3, a4, ⟨⟨a5, a6⟩, a7, a8, a9, a10, a11⟩, a12⟩ := h
  have e0 : (wr (wr (wr (wr r (20 + (r 0 : Nat)) (r 0)) 0 ((r 0 : Nat) + 1)) (8 + (r 0 : Nat)) v1) (14 + (r 0 : Nat)) v2 0 : Nat) = (r 0 : Nat) + 1 := by
    rw [wr_ne (by omega), wr_ne (by omega), wr_eq, Nat.mod_eq_of_lt (by omega)]
  have ek : ∀ k, k ≠ 0 → k ≠ 20 + (r 0 : Nat) → k ≠ 8 + (r 0 : Nat) → k ≠ 14 + (r 0 : Nat) → wr (wr (wr (wr r (20 + (r 0 : Nat)) (r 0)) 0 ((r 0 : Nat) + 1)) (8 + (r 0 : Nat)) v1) (14 + (r 0 : Nat)) v2 k = r k := fun k k1 k2 k3 k4 => by
    rw [wr_ne k4, wr_ne k3, wr_ne k1, wr_ne k2]
  unfold PI
  rw [e0, ek 1 (by omega) (by omega) (by omega) (by omega), ek 2 (by omega) (by omega) (by omega) (by omega), ek 3 (by omega) (by omega) (by omega) (by omega), ek 4 (by omega) (by omega) (by omega) (by omega), ek 5 (by omega) (by omega) (by omega) (by omega), ek 6 (by omega) (by omega) (by omega) (by omega), ek 7 (by omega) (by omega) (by omega) (by omega)]
  refine ⟨⟨by omega, a2⟩, fun b hb => ?_, fun f hf => by omega, ⟨⟨a5, a6⟩, a7, a8, a9, a10, a11⟩, fun f hf => ?_⟩
  · by_cases e : b = (r 0 : Nat)
    · rw [e]
      refine ⟨?_, ?_, ?_⟩
      · rw [wr_ne (by omega), wr_eq, Nat.mod_eq_of_lt (by omega)]; exact hv.1
      · rw [wr_eq, Nat.mod_eq_of_lt (by omega)]; exact hv.2
      · rw [wr_ne (by omega), wr_ne (by omega), wr_ne (by omega), wr_eq, Nat.mod_eq_of_lt (by omega)]
    · rw [ek (8 + b) (by omega) (by omega) (by omega) (by omega), ek (14 + b) (by omega) (by omega) (by omega) (by omega), ek (20 + b) (by omega) (by omega) (by omega) (by omega)]
      exact a3 b (by omega)
  · rw [ek (36 + f) (by omega) (by omega) (by omega) (by omega)]; exact a12 f hf
theorem PI_fish {r : St} {v kd : Nat} (h : PI r) (h0 : (r 0 : Nat) ≠ 0) (h5 : (r 1 : Nat) ≠ 5) (hk : 1 ≤ kd ∧ kd ≤ 5) (hv : v ≤ (r 0 : Nat) - 1) : PI (wr (wr (wr r (26 + (r 1 : Nat)) kd) 1 ((r 1 : Nat) + 1)) (31 + (r 1 : Nat)) v) := by
  obtain ⟨⟨a1, a2⟩, a3, a4, ⟨⟨a5, a6⟩, a7, a8, a9, a10, a11⟩, a12⟩ := h
  have e1 : (wr (wr (wr r (26 + (r 1 : Nat)) kd) 1 ((r 1 : Nat) + 1)) (31 + (r 1 : Nat)) v 1 : Nat) = (r 1 : Nat) + 1 := by
    rw [wr_ne (by omega), wr_eq, Nat.mod_eq_of_lt (by omega)]
  have ek : ∀ k, k ≠ 1 → k ≠ 26 + (r 1 : Nat) → k ≠ 31 + (r 1 : Nat) → wr (wr (wr r (26 + (r 1 : Nat)) kd) 1 ((r 1 : Nat) + 1)) (31 + (r 1 : Nat)) v k = r k := fun k k1 k2 k3 => by
    rw [wr_ne k3, wr_ne k1, wr_ne k2]
  unfold PI
  rw [e1, ek 0 (by omega) (by omega) (by omega), ek 2 (by omega) (by omega) (by omega), ek 3 (by omega) (by omega) (by omega), ek 4 (by omega) (by omega) (by omega), ek 5 (by omega) (by omega) (by omega), ek 6 (by omega) (by omega) (by omega), ek 7 (by omega) (by omega) (by omega)]
  refine ⟨⟨a1, by omega⟩, fun b hb => ?_, fun f hf => ?_, ⟨⟨a5, a6⟩, a7, a8, a9, a10, a11⟩, fun f hf => ?_⟩
  · rw [ek (8 + b) (by omega) (by omega) (by omega), ek (14 + b) (by omega) (by omega) (by omega), ek (20 + b) (by omega) (by omega) (by omega)]
    exact a3 b hb
  · by_cases e : f = (r 1 : Nat)
    · rw [e]
      refine ⟨?_, ?_⟩
      · rw [wr_ne (by omega), wr_ne (by omega), wr_eq, Nat.mod_eq_of_lt (by omega)]; exact hk
      · rw [wr_eq, Nat.mod_eq_of_lt (by omega)]; omega
    · rw [ek (26 + f) (by omega) (by omega) (by omega), ek (31 + f) (by omega) (by omega) (by omega)]
      exact a4 f (by omega)
  · rw [ek (36 + f) (by omega) (by omega) (by omega)]; exact a12 f hf
theorem PI_WF {r : St} (h : PI r) (h1 : 0 < (r 1 : Nat)) : WF r := by
  obtain ⟨⟨a1, a2⟩, a3, a4, ⟨⟨a5, a6⟩, a7, a8, a9, a10, a11⟩, a12⟩ := h
  have h0 : 0 < (r 0 : Nat) := by have := (a4 0 h1).2; omega
  have hb : ∀ w, w < (r 0 : Nat) → bookAt r w = w := fun w hw => bkF_first (a3 w hw).2.2 6 0 (Nat.zero_le _) (by omega) (fun d _ hd q => by
    have := (a3 d (by omega)).2.2
    omega)
  have p0 : 0 < 2 ^ (r 0 : Nat) := Nat.pow_pos (by decide)
  have p1 : 0 < 2 ^ (r 1 : Nat) := Nat.pow_pos (by decide)
  refine ⟨⟨a1, a2⟩, fun w hw => by rw [hb w hw]; exact ⟨hw, (a3 w hw).2.2⟩, fun c hc => ?_, fun c hc => ⟨(a3 c hc).1, (a3 c hc).2.1⟩, fun f hf => ⟨(a4 f hf).1, (a4 f hf).2, by rw [a12 f (by omega)]; omega⟩, ⟨a6, a7, by omega, by omega, by omega⟩, fun _ => ⟨h0, h1⟩, fun q => by omega⟩
  rw [(a3 c hc).2.2]
  exact ⟨hc, hb c hc⟩
theorem kB_98 : kB 98 = 0 := rfl
theorem kB_le (c : Nat) : kB c ≤ 5 := by
  unfold kB
  repeat (first | omega | split)
theorem pOne_r {t : Nat → Nat} {n : Nat} {x y : Nat × St} (hI : PI x.2) (h : pOne t n x = .inr y) : PI y.2 ∧ x.1 < y.1 := by
  unfold pOne at h
  split at h
  · rename_i hc
    have hlt := tkK_lt3 (t := t) (n := n) (p := x.1) (by omega)
    have hgt := tkN_gt (t := t) hlt
    unfold pFish at h
    split at h
    · cases h
    · rename_i hd
      obtain ⟨⟨v, v1, v2, e⟩, q2, q3⟩ := pNum_r h
      rw [e]
      exact ⟨PI_fish hI (fun q => hd (Or.inl q)) (fun q => hd (Or.inr q)) ⟨hc.2, kB_le _⟩ v2, by simp only at q2; omega⟩
  · split at h
    · rename_i hc
      have hlt := tkK_lt3 (t := t) (n := n) (p := x.1) (by omega)
      have hgt := tkN_gt (t := t) hlt
      unfold pBook at h
      split at h
      · cases h
      · rename_i hd
        unfold pB at h
        split at h
        · cases h
        · rename_i z hz
          obtain ⟨⟨v1, a1, a2, e1⟩, q2, q3⟩ := pNum_r hz
          obtain ⟨⟨v2, b1, b2, e2⟩, s2, s3⟩ := pNum_r h
          rw [e2, e1]
          exact ⟨PI_book hI (by have : ¬ 0 < (x.2 1 : Nat) := fun q => hd (Or.inl q); omega) (fun q => hd (Or.inr q)) ⟨a2, b2⟩, by simp only at q2; omega⟩
    · cases h
theorem pTk_n {t : Nat → Nat} {n c : Nat} {x y : Nat × St} (h : pTk t n c x = .inr y) : y.1 ≤ n := by
  have h3 := (pTk_r h).2.2
  unfold pTk at h
  split at h
  · cases h; exact tkN_le (by omega)
  · cases h
theorem pNum_n {t : Nat → Nat} {n lo hi at' c : Nat} {x y : Nat × St} (h : pNum t n lo hi at' c x = .inr y) : y.1 ≤ n := by
  unfold pNum at h
  split at h
  · exact pTk_n h
  · cases h
theorem pOne_n {t : Nat → Nat} {n : Nat} {x y : Nat × St} (h : pOne t n x = .inr y) : y.1 ≤ n := by
  unfold pOne at h
  split at h
  · unfold pFish at h
    split at h
    · cases h
    · exact pNum_n h
  · split at h
    · unfold pBook at h
      split at h
      · cases h
      · unfold pB at h
        split at h
        · cases h
        · exact pNum_n h
    · cases h
theorem pLp_ok {t : Nat → Nat} {n : Nat} : ∀ (f : Nat) (x y : Nat × St), n + 1 ≤ x.1 + f → x.1 ≤ n → PI x.2 → pLp t n f x = .inr y → PI y.2 ∧ 0 < (y.2 1 : Nat) := by
  intro f
  induction f with
  | zero => intro x y h1 h2; omega
  | succ f ih =>
    intro x y h1 h2 hI h
    simp only [pLp] at h
    split at h
    · rename_i hc; cases h; exact ⟨hI, hc.2⟩
    · unfold pB at h
      split at h
      · cases h
      · rename_i z hz
        obtain ⟨q1, q2⟩ := pOne_r hI hz
        exact ih z y (by omega) (pOne_n hz) q1 h
theorem PI_start {v1 v2 : Nat} (h1 : 1 ≤ v1 ∧ v1 ≤ 9) (h2 : v2 ≤ 8) : PI (wr (wr zS 2 v1) 3 v2) := by
  have z : ∀ k, (zS k : Nat) = 0 := fun _ => rfl
  have e : ∀ k, k ≠ 2 → k ≠ 3 → (wr (wr zS 2 v1) 3 v2 k : Nat) = 0 := fun k k2 k3 => by rw [wr_ne k3, wr_ne k2]; rfl
  unfold PI
  rw [e 0 (by omega) (by omega), e 1 (by omega) (by omega), e 4 (by omega) (by omega), e 5 (by omega) (by omega), e 6 (by omega) (by omega), e 7 (by omega) (by omega)]
  refine ⟨⟨by omega, by omega⟩, fun b hb => by omega, fun f hf => by omega, ⟨?_, ?_, rfl, rfl, rfl, rfl⟩, fun f hf => e _ (by omega) (by omega)⟩
  · rw [wr_ne (by omega), wr_eq, Nat.mod_eq_of_lt (by omega)]; exact h1
  · rw [wr_eq, Nat.mod_eq_of_lt (by omega)]; exact h2
theorem pLib_ok {t : Nat → Nat} {n : Nat} {y : Nat × St} (h : pLib t n = .inr y) : PI y.2 ∧ 0 < (y.2 1 : Nat) := by
  unfold pLib at h
  cases h1 : pTk t n 108 (0, zS) with
  | inl q => rw [h1] at h; cases h
  | inr a =>
    rw [h1] at h
    simp only [pB] at h
    cases h2 : pNum t n 1 9 2 44 a with
    | inl q => rw [h2] at h; cases h
    | inr c =>
      rw [h2] at h
      simp only at h
      cases h3 : pNum t n 0 8 3 59 c with
      | inl q => rw [h3] at h; cases h
      | inr d =>
        rw [h3] at h
        simp only at h
        obtain ⟨e1, -⟩ := pTk_r h1
        obtain ⟨⟨v1, a1, a2, e2⟩, -⟩ := pNum_r h2
        obtain ⟨⟨v2, b1, b2, e3⟩, -⟩ := pNum_r h3
        refine pLp_ok (n + 1) d y (by omega) (pNum_n h3) ?_ h
        rw [e3, e2, e1]
        exact PI_start ⟨a1, a2⟩ b2
section TL2
variable (b : Hp) (o : Nat) (s : St) (g : Nat → Nat) (w r : St) (A B : Nat → St) (t l z : Nat → Nat) (I : Nat → Nat → Int32) (F : Nat → Int32)
theorem c9_lpL {n : Nat} (hn : n ≤ 120) (ht : ∀ i, t i < 256) : ∀ f p r F u2, n + 1 ≤ p + f → p ≤ n → tkI t n p F → PI r → ∃ F' r' v, PRes t n F F' r' v (pLp t n f (p, r)) ∧ ∀ Q : Po, Ex mX9_readLibrary Q 69 [.ref o, .int (nI 1), u2] [] (TH b o s g w r A B t l z I F) = Q (.inl (some (.int v))) (TH b o s g w r' A B t l z I F') := by
  intro f
  induction f with
  | zero => intro p r F u2 h1 h2; omega
  | succ f ih =>
    intro p r F u2 h1 h2 hT hI
    have hk := tkK_lt t n p
    have hv := tkV_lt (n := n) (p := p) ht
    have h92 := hT.2.1
    by_cases hc : tkK t n p = 3 ∧ 0 < (r 1 : Nat)
    · have e : pLp t n (f + 1) (p, r) = .inr (p, r) := if_pos hc
      refine ⟨F, r, nI 1, ?_, fun Q => ?_⟩
      · rw [e]; exact ⟨fun _ _ _ _ _ _ => rfl, rfl, hT, h2, rfl⟩
      · rw [rX9_readLibrary_69]
        simp (disch := omega) only [↓rX9_readLibrary_70, ↓rX9_readLibrary_73, ↓rX9_readLibrary_74, ↓rX9_readLibrary_77, ↓rX9_readLibrary_78, ↓rX9_readLibrary_81, ↓rX9_readLibrary_82, ↓rX9_readLibrary_85, ↓rX9_readLibrary_86, ↓rX9_readLibrary_87, ↓rX9_readLibrary_90, ↓rX9_readLibrary_91, ↓rX9_readLibrary_94, ↓rX9_readLibrary_95, ↓rX9_readLibrary_98, ↓rX9_readLibrary_99, ↓rX9_readLibrary_102, ↓rX9_readLibrary_105, ↓rX9_readLibrary_108, ↓rX9_readLibrary_109, ↓rX9_readLibrary_110, ↓rX9_readLibrary_111, ↓rX9_readLibrary_114, ↓rX9_readLibrary_115, ↓rX9_readLibrary_116, ↓rX9_readLibrary_119, ↓rX9_readLibrary_122, ↓rX9_readLibrary_123, ↓rX9_readLibrary_125, ↓rX9_readLibrary_128, ↓rX9_readLibrary_131, ↓rX9_readLibrary_132, ↓rX9_readLibrary_135, ↓rX9_readLibrary_138, ↓rX9_readLibrary_139, ↓rX9_readLibrary_140, ↓rX9_readLibrary_143, ↓rX9_readLibrary_144, ↓rX9_readLibrary_147, ↓rX9_readLibrary_148, ↓rX9_readLibrary_t, tK_0, tK_1, tL_1, tK_2, tL_2, tK_3, tL_3, tK_4, tL_4, tK_5, tL_5, tK_6, tL_6, tK_7, tL_7, tK_8, tL_8, tK_9, tL_9, tK_10, tL_10, tK_11, tL_11, tK_12, tL_12, tK_13, tL_13, tK_14, tL_14, tK_15, tL_15, tF_71, tF_73, tF_75, tF_81, tF_83, tF_85, tF_101, tF_103, tF_105, tF_109, tF_111, tF_113, tF_115, tF_117, tF_119, tG_76, tG_78, tG_86, tG_88, tG_90, tG_92, tG_94, tG_96, tG_98, tG_106, tG_120, tI_1, tI_2, tI_3, tI_4, tI_5, tI_6, tI_7, tI_8, tI_9, tI_10, tI_11, tI_12, tI_13, tI_14, tI_15, tP_76, tP_78, tP_86, tP_88, tP_90, tP_92, tP_94, tP_96, tP_98, tP_106, tP_120, tW_1, tW_2, tW_3, tW_4, tW_5, tW_6, tW_7, tW_8, tW_9, tW_10, tW_11, tW_12, tW_13, tW_14, tW_15, ↓rmI_in, ↓shrI_in, ↓shlI_in, ↓okI_in, ↓bI_01, bI_z, bI_o, nn_neg, Int.cast_ofNat_Int, zlit, n_leT, n_leF, n_ltT, n_ltF, n_eqT, n_eqF, z_leT, z_leF, z_ltT, z_ltF, z_eqT, z_eqF, nn_add, nn_mul, nn_clamp, nn_lt, nn_le, nn_eq, nn_div, rmI_nn, okI_nn, nn_and, nn_or, nn_xor, shlI_1, shrI_nn, Cont_v, Cont_0, List.mem_cons, List.not_mem_nil, or_false, or_true, true_or, true_and, and_true, ite_not, if_true, if_false, not_true_eq_false, not_false_eq_true, false_or, false_and, and_false, eq_self, ↓reduceIte, reduceCtorEq, ↓c9_in, ↓c9_isBook, ↓c9_isFish, ↓c9_isWhat, ↓c9_isCaught, ↓c9_putAside, ↓c9_takeBack, l_toInt, sub_toInt, l64_0, l64_1, l64_2, l64_3, l64_5, l64_7, l64_9, l64_10, l64_12, l64_24, l64_48, l64_57, l64_60, l64_97, l64_122, l64_255, l64_999, l64_999999, l64_m, h92, hc]
    · have e : pLp t n (f + 1) (p, r) = pB (pOne t n (p, r)) (pLp t n f) := if_neg hc
      rw [e]
      have st : ∃ F1 r1 v1 w2, PRes t n F F1 r1 v1 (pOne t n (p, r)) ∧ ∀ Q : Po, Ex mX9_readLibrary Q 69 [.ref o, .int (nI 1), u2] [] (TH b o s g w r A B t l z I F) = Ex mX9_readLibrary Q 69 [.ref o, .int v1, .int w2] [] (TH b o s g w r1 A B t l z I F1) := by
        have hpre : ∀ Q : Po, Ex mX9_readLibrary Q 69 [.ref o, .int (nI 1), u2] [] (TH b o s g w r A B t l z I F) = Ex mX9_readLibrary Q 90 [.ref o, .int (nI 1), u2] [] (TH b o s g w r A B t l z I F) := by
          intro Q
          rw [rX9_readLibrary_69]
          by_cases h3 : tkK t n p = 3
          · have hr1 : (r 1 : Nat) = 0 := by
              have : ¬ 0 < (r 1 : Nat) := fun q => hc ⟨h3, q⟩
              omega
            simp (disch := omega) only [↓rX9_readLibrary_70, ↓rX9_readLibrary_73, ↓rX9_readLibrary_74, ↓rX9_readLibrary_77, ↓rX9_readLibrary_78, ↓rX9_readLibrary_81, ↓rX9_readLibrary_82, ↓rX9_readLibrary_85, ↓rX9_readLibrary_86, ↓rX9_readLibrary_87, ↓rX9_readLibrary_t, tK_0, tK_1, tL_1, tK_2, tL_2, tK_3, tL_3, tK_4, tL_4, tK_5, tL_5, tK_6, tL_6, tK_7, tL_7, tK_8, tL_8, tK_9, tL_9, tK_10, tL_10, tK_11, tL_11, tK_12, tL_12, tK_13, tL_13, tK_14, tL_14, tK_15, tL_15, tF_71, tF_73, tF_75, tF_81, tF_83, tF_85, tF_101, tF_103, tF_105, tF_109, tF_111, tF_113, tF_115, tF_117, tF_119, tG_76, tG_78, tG_86, tG_88, tG_90, tG_92, tG_94, tG_96, tG_98, tG_106, tG_120, tI_1, tI_2, tI_3, tI_4, tI_5, tI_6, tI_7, tI_8, tI_9, tI_10, tI_11, tI_12, tI_13, tI_14, tI_15, tP_76, tP_78, tP_86, tP_88, tP_90, tP_92, tP_94, tP_96, tP_98, tP_106, tP_120, tW_1, tW_2, tW_3, tW_4, tW_5, tW_6, tW_7, tW_8, tW_9, tW_10, tW_11, tW_12, tW_13, tW_14, tW_15, ↓rmI_in, ↓shrI_in, ↓shlI_in, ↓okI_in, ↓bI_01, bI_z, bI_o, nn_neg, Int.cast_ofNat_Int, zlit, n_leT, n_leF, n_ltT, n_ltF, n_eqT, n_eqF, z_leT, z_leF, z_ltT, z_ltF, z_eqT, z_eqF, nn_add, nn_mul, nn_clamp, nn_lt, nn_le, nn_eq, nn_div, rmI_nn, okI_nn, nn_and, nn_or, nn_xor, shlI_1, shrI_nn, Cont_v, Cont_0, List.mem_cons, List.not_mem_nil, or_false, or_true, true_or, true_and, and_true, ite_not, if_true, if_false, not_true_eq_false, not_false_eq_true, false_or, false_and, and_false, eq_self, ↓reduceIte, reduceCtorEq, ↓c9_in, ↓c9_isBook, ↓c9_isFish, ↓c9_isWhat, ↓c9_isCaught, ↓c9_putAside, ↓c9_takeBack, l_toInt, sub_toInt, l64_0, l64_1, l64_2, l64_3, l64_5, l64_7, l64_9, l64_10, l64_12, l64_24, l64_48, l64_57, l64_60, l64_97, l64_122, l64_255, l64_999, l64_999999, l64_m, h92, h3, hr1]
          · simp (disch := omega) only [↓rX9_readLibrary_70, ↓rX9_readLibrary_73, ↓rX9_readLibrary_74, ↓rX9_readLibrary_77, ↓rX9_readLibrary_78, ↓rX9_readLibrary_81, ↓rX9_readLibrary_82, ↓rX9_readLibrary_85, ↓rX9_readLibrary_86, ↓rX9_readLibrary_87, ↓rX9_readLibrary_t, tK_0, tK_1, tL_1, tK_2, tL_2, tK_3, tL_3, tK_4, tL_4, tK_5, tL_5, tK_6, tL_6, tK_7, tL_7, tK_8, tL_8, tK_9, tL_9, tK_10, tL_10, tK_11, tL_11, tK_12, tL_12, tK_13, tL_13, tK_14, tL_14, tK_15, tL_15, tF_71, tF_73, tF_75, tF_81, tF_83, tF_85, tF_101, tF_103, tF_105, tF_109, tF_111, tF_113, tF_115, tF_117, tF_119, tG_76, tG_78, tG_86, tG_88, tG_90, tG_92, tG_94, tG_96, tG_98, tG_106, tG_120, tI_1, tI_2, tI_3, tI_4, tI_5, tI_6, tI_7, tI_8, tI_9, tI_10, tI_11, tI_12, tI_13, tI_14, tI_15, tP_76, tP_78, tP_86, tP_88, tP_90, tP_92, tP_94, tP_96, tP_98, tP_106, tP_120, tW_1, tW_2, tW_3, tW_4, tW_5, tW_6, tW_7, tW_8, tW_9, tW_10, tW_11, tW_12, tW_13, tW_14, tW_15, ↓rmI_in, ↓shrI_in, ↓shlI_in, ↓okI_in, ↓bI_01, bI_z, bI_o, nn_neg, Int.cast_ofNat_Int, zlit, n_leT, n_leF, n_ltT, n_ltF, n_eqT, n_eqF, z_leT, z_leF, z_ltT, z_ltF, z_eqT, z_eqF, nn_add, nn_mul, nn_clamp, nn_lt, nn_le, nn_eq, nn_div, rmI_nn, okI_nn, nn_and, nn_or, nn_xor, shlI_1, shrI_nn, Cont_v, Cont_0, List.mem_cons, List.not_mem_nil, or_false, or_true, true_or, true_and, and_true, ite_not, if_true, if_false, not_true_eq_false, not_false_eq_true, false_or, false_and, and_false, eq_self, ↓reduceIte, reduceCtorEq, ↓c9_in, ↓c9_isBook, ↓c9_isFish, ↓c9_isWhat, ↓c9_isCaught, ↓c9_putAside, ↓c9_takeBack, l_toInt, sub_toInt, l64_0, l64_1, l64_2, l64_3, l64_5, l64_7, l64_9, l64_10, l64_12, l64_24, l64_48, l64_57, l64_60, l64_97, l64_122, l64_255, l64_999, l64_999999, l64_m, h92, h3]
        unfold pOne
        by_cases k1 : tkK t n p = 1
        · have h94 := hT.2.2.2.1 (Or.inl k1)
          have hkl := kB_le (tkV t n p)
          by_cases k2 : 0 < kB (tkV t n p)
          · obtain ⟨F1, r1, v1, p1, e1⟩ := c9_readFish b o s g w r A B t l z I F (kd := kB (tkV t n p)) hn ht h2 hkl hT hI.1.1 hI.1.2
            refine ⟨F1, r1, v1, nI (kB (tkV t n p)), by rw [if_pos ⟨k1, k2⟩]; exact p1, fun Q => ?_⟩
            rw [hpre Q]
            simp (disch := omega) only [↓rX9_readLibrary_90, ↓rX9_readLibrary_91, ↓rX9_readLibrary_94, ↓rX9_readLibrary_95, ↓rX9_readLibrary_98, ↓rX9_readLibrary_99, ↓rX9_readLibrary_102, ↓rX9_readLibrary_105, ↓rX9_readLibrary_108, ↓rX9_readLibrary_109, ↓rX9_readLibrary_110, ↓rX9_readLibrary_111, ↓rX9_readLibrary_114, ↓rX9_readLibrary_115, ↓rX9_readLibrary_116, ↓rX9_readLibrary_119, ↓rX9_readLibrary_122, ↓rX9_readLibrary_123, ↓rX9_readLibrary_125, ↓rX9_readLibrary_128, ↓rX9_readLibrary_131, ↓rX9_readLibrary_132, ↓rX9_readLibrary_135, ↓rX9_readLibrary_138, ↓rX9_readLibrary_139, ↓rX9_readLibrary_140, ↓rX9_readLibrary_143, ↓rX9_readLibrary_144, ↓rX9_readLibrary_t, tK_0, tK_1, tL_1, tK_2, tL_2, tK_3, tL_3, tK_4, tL_4, tK_5, tL_5, tK_6, tL_6, tK_7, tL_7, tK_8, tL_8, tK_9, tL_9, tK_10, tL_10, tK_11, tL_11, tK_12, tL_12, tK_13, tL_13, tK_14, tL_14, tK_15, tL_15, tF_71, tF_73, tF_75, tF_81, tF_83, tF_85, tF_101, tF_103, tF_105, tF_109, tF_111, tF_113, tF_115, tF_117, tF_119, tG_76, tG_78, tG_86, tG_88, tG_90, tG_92, tG_94, tG_96, tG_98, tG_106, tG_120, tI_1, tI_2, tI_3, tI_4, tI_5, tI_6, tI_7, tI_8, tI_9, tI_10, tI_11, tI_12, tI_13, tI_14, tI_15, tP_76, tP_78, tP_86, tP_88, tP_90, tP_92, tP_94, tP_96, tP_98, tP_106, tP_120, tW_1, tW_2, tW_3, tW_4, tW_5, tW_6, tW_7, tW_8, tW_9, tW_10, tW_11, tW_12, tW_13, tW_14, tW_15, ↓rmI_in, ↓shrI_in, ↓shlI_in, ↓okI_in, ↓bI_01, bI_z, bI_o, nn_neg, Int.cast_ofNat_Int, zlit, n_leT, n_leF, n_ltT, n_ltF, n_eqT, n_eqF, z_leT, z_leF, z_ltT, z_ltF, z_eqT, z_eqF, nn_add, nn_mul, nn_clamp, nn_lt, nn_le, nn_eq, nn_div, rmI_nn, okI_nn, nn_and, nn_or, nn_xor, shlI_1, shrI_nn, Cont_v, Cont_0, List.mem_cons, List.not_mem_nil, or_false, or_true, true_or, true_and, and_true, ite_not, if_true, if_false, not_true_eq_false, not_false_eq_true, false_or, false_and, and_false, eq_self, ↓reduceIte, reduceCtorEq, ↓c9_in, ↓c9_isBook, ↓c9_isFish, ↓c9_isWhat, ↓c9_isCaught, ↓c9_putAside, ↓c9_takeBack, l_toInt, sub_toInt, l64_0, l64_1, l64_2, l64_3, l64_5, l64_7, l64_9, l64_10, l64_12, l64_24, l64_48, l64_57, l64_60, l64_97, l64_122, l64_255, l64_999, l64_999999, l64_m, h92, h94, k1, ↓c9_kindBy, ↓e1]
          · by_cases k3 : tkV t n p = 98
            · obtain ⟨F1, r1, v1, p1, e1⟩ := c9_readBook b o s g w r A B t l z I F hn ht h2 hT hI.1.1
              refine ⟨F1, r1, v1, nI (kB (tkV t n p)), by rw [if_neg (fun q => k2 q.2), if_pos ⟨k1, k3⟩]; exact p1, fun Q => ?_⟩
              rw [hpre Q]
              simp (disch := omega) only [↓rX9_readLibrary_90, ↓rX9_readLibrary_91, ↓rX9_readLibrary_94, ↓rX9_readLibrary_95, ↓rX9_readLibrary_98, ↓rX9_readLibrary_99, ↓rX9_readLibrary_102, ↓rX9_readLibrary_105, ↓rX9_readLibrary_108, ↓rX9_readLibrary_109, ↓rX9_readLibrary_110, ↓rX9_readLibrary_111, ↓rX9_readLibrary_114, ↓rX9_readLibrary_115, ↓rX9_readLibrary_116, ↓rX9_readLibrary_119, ↓rX9_readLibrary_122, ↓rX9_readLibrary_123, ↓rX9_readLibrary_125, ↓rX9_readLibrary_128, ↓rX9_readLibrary_131, ↓rX9_readLibrary_132, ↓rX9_readLibrary_135, ↓rX9_readLibrary_138, ↓rX9_readLibrary_139, ↓rX9_readLibrary_140, ↓rX9_readLibrary_143, ↓rX9_readLibrary_144, ↓rX9_readLibrary_t, tK_0, tK_1, tL_1, tK_2, tL_2, tK_3, tL_3, tK_4, tL_4, tK_5, tL_5, tK_6, tL_6, tK_7, tL_7, tK_8, tL_8, tK_9, tL_9, tK_10, tL_10, tK_11, tL_11, tK_12, tL_12, tK_13, tL_13, tK_14, tL_14, tK_15, tL_15, tF_71, tF_73, tF_75, tF_81, tF_83, tF_85, tF_101, tF_103, tF_105, tF_109, tF_111, tF_113, tF_115, tF_117, tF_119, tG_76, tG_78, tG_86, tG_88, tG_90, tG_92, tG_94, tG_96, tG_98, tG_106, tG_120, tI_1, tI_2, tI_3, tI_4, tI_5, tI_6, tI_7, tI_8, tI_9, tI_10, tI_11, tI_12, tI_13, tI_14, tI_15, tP_76, tP_78, tP_86, tP_88, tP_90, tP_92, tP_94, tP_96, tP_98, tP_106, tP_120, tW_1, tW_2, tW_3, tW_4, tW_5, tW_6, tW_7, tW_8, tW_9, tW_10, tW_11, tW_12, tW_13, tW_14, tW_15, ↓rmI_in, ↓shrI_in, ↓shlI_in, ↓okI_in, ↓bI_01, bI_z, bI_o, nn_neg, Int.cast_ofNat_Int, zlit, n_leT, n_leF, n_ltT, n_ltF, n_eqT, n_eqF, z_leT, z_leF, z_ltT, z_ltF, z_eqT, z_eqF, nn_add, nn_mul, nn_clamp, nn_lt, nn_le, nn_eq, nn_div, rmI_nn, okI_nn, nn_and, nn_or, nn_xor, shlI_1, shrI_nn, Cont_v, Cont_0, List.mem_cons, List.not_mem_nil, or_false, or_true, true_or, true_and, and_true, ite_not, if_true, if_false, not_true_eq_false, not_false_eq_true, false_or, false_and, and_false, eq_self, ↓reduceIte, reduceCtorEq, ↓c9_in, ↓c9_isBook, ↓c9_isFish, ↓c9_isWhat, ↓c9_isCaught, ↓c9_putAside, ↓c9_takeBack, l_toInt, sub_toInt, l64_0, l64_1, l64_2, l64_3, l64_5, l64_7, l64_9, l64_10, l64_12, l64_24, l64_48, l64_57, l64_60, l64_97, l64_122, l64_255, l64_999, l64_999999, l64_m, h92, h94, k1, ↓c9_kindBy, ↓e1, ↓c9_isLetter _ _ _ _ _ _ _ _ _ _ _ _ _ _ (show 98 < 4096 by omega) ht hT, k3, kB_98]
            · refine ⟨up F 98 (nI 1), r, nI 0, nI (kB (tkV t n p)), ?_, fun Q => ?_⟩
              · rw [if_neg (fun q => k2 q.2), if_neg (fun q => k3 q.2)]
                exact ⟨fun f a1 a2 a3 a4 a5 => by rw [up_at, if_neg a5], rfl, rfl, hT.1⟩
              · rw [hpre Q]
                simp (disch := omega) only [↓rX9_readLibrary_90, ↓rX9_readLibrary_91, ↓rX9_readLibrary_94, ↓rX9_readLibrary_95, ↓rX9_readLibrary_98, ↓rX9_readLibrary_99, ↓rX9_readLibrary_102, ↓rX9_readLibrary_105, ↓rX9_readLibrary_108, ↓rX9_readLibrary_109, ↓rX9_readLibrary_110, ↓rX9_readLibrary_111, ↓rX9_readLibrary_114, ↓rX9_readLibrary_115, ↓rX9_readLibrary_116, ↓rX9_readLibrary_119, ↓rX9_readLibrary_122, ↓rX9_readLibrary_123, ↓rX9_readLibrary_125, ↓rX9_readLibrary_128, ↓rX9_readLibrary_131, ↓rX9_readLibrary_132, ↓rX9_readLibrary_135, ↓rX9_readLibrary_138, ↓rX9_readLibrary_139, ↓rX9_readLibrary_140, ↓rX9_readLibrary_143, ↓rX9_readLibrary_144, ↓rX9_readLibrary_t, tK_0, tK_1, tL_1, tK_2, tL_2, tK_3, tL_3, tK_4, tL_4, tK_5, tL_5, tK_6, tL_6, tK_7, tL_7, tK_8, tL_8, tK_9, tL_9, tK_10, tL_10, tK_11, tL_11, tK_12, tL_12, tK_13, tL_13, tK_14, tL_14, tK_15, tL_15, tF_71, tF_73, tF_75, tF_81, tF_83, tF_85, tF_101, tF_103, tF_105, tF_109, tF_111, tF_113, tF_115, tF_117, tF_119, tG_76, tG_78, tG_86, tG_88, tG_90, tG_92, tG_94, tG_96, tG_98, tG_106, tG_120, tI_1, tI_2, tI_3, tI_4, tI_5, tI_6, tI_7, tI_8, tI_9, tI_10, tI_11, tI_12, tI_13, tI_14, tI_15, tP_76, tP_78, tP_86, tP_88, tP_90, tP_92, tP_94, tP_96, tP_98, tP_106, tP_120, tW_1, tW_2, tW_3, tW_4, tW_5, tW_6, tW_7, tW_8, tW_9, tW_10, tW_11, tW_12, tW_13, tW_14, tW_15, ↓rmI_in, ↓shrI_in, ↓shlI_in, ↓okI_in, ↓bI_01, bI_z, bI_o, nn_neg, Int.cast_ofNat_Int, zlit, n_leT, n_leF, n_ltT, n_ltF, n_eqT, n_eqF, z_leT, z_leF, z_ltT, z_ltF, z_eqT, z_eqF, nn_add, nn_mul, nn_clamp, nn_lt, nn_le, nn_eq, nn_div, rmI_nn, okI_nn, nn_and, nn_or, nn_xor, shlI_1, shrI_nn, Cont_v, Cont_0, List.mem_cons, List.not_mem_nil, or_false, or_true, true_or, true_and, and_true, ite_not, if_true, if_false, not_true_eq_false, not_false_eq_true, false_or, false_and, and_false, eq_self, ↓reduceIte, reduceCtorEq, ↓c9_in, ↓c9_isBook, ↓c9_isFish, ↓c9_isWhat, ↓c9_isCaught, ↓c9_putAside, ↓c9_takeBack, l_toInt, sub_toInt, l64_0, l64_1, l64_2, l64_3, l64_5, l64_7, l64_9, l64_10, l64_12, l64_24, l64_48, l64_57, l64_60, l64_97, l64_122, l64_255, l64_999, l64_999999, l64_m, h92, h94, k1, ↓c9_kindBy, ↓c9_isLetter _ _ _ _ _ _ _ _ _ _ _ _ _ _ (show 98 < 4096 by omega) ht hT, k3, ↓c9_faults]
        · refine ⟨up F 98 (nI 1), r, nI 0, nI 0, ?_, fun Q => ?_⟩
          · rw [if_neg (fun q => k1 q.1), if_neg (fun q => k1 q.1)]
            exact ⟨fun f a1 a2 a3 a4 a5 => by rw [up_at, if_neg a5], rfl, rfl, hT.1⟩
          · rw [hpre Q]
            simp (disch := omega) only [↓rX9_readLibrary_90, ↓rX9_readLibrary_91, ↓rX9_readLibrary_94, ↓rX9_readLibrary_95, ↓rX9_readLibrary_98, ↓rX9_readLibrary_99, ↓rX9_readLibrary_102, ↓rX9_readLibrary_105, ↓rX9_readLibrary_108, ↓rX9_readLibrary_109, ↓rX9_readLibrary_110, ↓rX9_readLibrary_111, ↓rX9_readLibrary_114, ↓rX9_readLibrary_115, ↓rX9_readLibrary_116, ↓rX9_readLibrary_119, ↓rX9_readLibrary_122, ↓rX9_readLibrary_123, ↓rX9_readLibrary_125, ↓rX9_readLibrary_128, ↓rX9_readLibrary_131, ↓rX9_readLibrary_132, ↓rX9_readLibrary_135, ↓rX9_readLibrary_138, ↓rX9_readLibrary_139, ↓rX9_readLibrary_140, ↓rX9_readLibrary_143, ↓rX9_readLibrary_144, ↓rX9_readLibrary_t, tK_0, tK_1, tL_1, tK_2, tL_2, tK_3, tL_3, tK_4, tL_4, tK_5, tL_5, tK_6, tL_6, tK_7, tL_7, tK_8, tL_8, tK_9, tL_9, tK_10, tL_10, tK_11, tL_11, tK_12, tL_12, tK_13, tL_13, tK_14, tL_14, tK_15, tL_15, tF_71, tF_73, tF_75, tF_81, tF_83, tF_85, tF_101, tF_103, tF_105, tF_109, tF_111, tF_113, tF_115, tF_117, tF_119, tG_76, tG_78, tG_86, tG_88, tG_90, tG_92, tG_94, tG_96, tG_98, tG_106, tG_120, tI_1, tI_2, tI_3, tI_4, tI_5, tI_6, tI_7, tI_8, tI_9, tI_10, tI_11, tI_12, tI_13, tI_14, tI_15, tP_76, tP_78, tP_86, tP_88, tP_90, tP_92, tP_94, tP_96, tP_98, tP_106, tP_120, tW_1, tW_2, tW_3, tW_4, tW_5, tW_6, tW_7, tW_8, tW_9, tW_10, tW_11, tW_12, tW_13, tW_14, tW_15, ↓rmI_in, ↓shrI_in, ↓shlI_in, ↓okI_in, ↓bI_01, bI_z, bI_o, nn_neg, Int.cast_ofNat_Int, zlit, n_leT, n_leF, n_ltT, n_ltF, n_eqT, n_eqF, z_leT, z_leF, z_ltT, z_ltF, z_eqT, z_eqF, nn_add, nn_mul, nn_clamp, nn_lt, nn_le, nn_eq, nn_div, rmI_nn, okI_nn, nn_and, nn_or, nn_xor, shlI_1, shrI_nn, Cont_v, Cont_0, List.mem_cons, List.not_mem_nil, or_false, or_true, true_or, true_and, and_true, ite_not, if_true, if_false, not_true_eq_false, not_false_eq_true, false_or, false_and, and_false, eq_self, ↓reduceIte, reduceCtorEq, ↓c9_in, ↓c9_isBook, ↓c9_isFish, ↓c9_isWhat, ↓c9_isCaught, ↓c9_putAside, ↓c9_takeBack, l_toInt, sub_toInt, l64_0, l64_1, l64_2, l64_3, l64_5, l64_7, l64_9, l64_10, l64_12, l64_24, l64_48, l64_57, l64_60, l64_97, l64_122, l64_255, l64_999, l64_999999, l64_m, h92, k1, ↓c9_isLetter _ _ _ _ _ _ _ _ _ _ _ _ _ _ (show 98 < 4096 by omega) ht hT, ↓c9_faults]
      obtain ⟨F1, r1, v1, w2, p1, e1⟩ := st
      cases hx : pOne t n (p, r) with
      | inl q =>
        rw [hx] at p1
        obtain ⟨o1, q1, q2, q3⟩ := p1
        subst q1
        refine ⟨F1, r1, nI 0, ⟨o1, rfl, q2, q3⟩, fun Q => ?_⟩
        rw [e1 Q, rX9_readLibrary_69]
        simp (disch := omega) only [↓rX9_readLibrary_70, ↓rX9_readLibrary_73, ↓rX9_readLibrary_74, ↓rX9_readLibrary_77, ↓rX9_readLibrary_78, ↓rX9_readLibrary_81, ↓rX9_readLibrary_82, ↓rX9_readLibrary_85, ↓rX9_readLibrary_86, ↓rX9_readLibrary_87, ↓rX9_readLibrary_90, ↓rX9_readLibrary_91, ↓rX9_readLibrary_94, ↓rX9_readLibrary_95, ↓rX9_readLibrary_98, ↓rX9_readLibrary_99, ↓rX9_readLibrary_102, ↓rX9_readLibrary_105, ↓rX9_readLibrary_108, ↓rX9_readLibrary_109, ↓rX9_readLibrary_110, ↓rX9_readLibrary_111, ↓rX9_readLibrary_114, ↓rX9_readLibrary_115, ↓rX9_readLibrary_116, ↓rX9_readLibrary_119, ↓rX9_readLibrary_122, ↓rX9_readLibrary_123, ↓rX9_readLibrary_125, ↓rX9_readLibrary_128, ↓rX9_readLibrary_131, ↓rX9_readLibrary_132, ↓rX9_readLibrary_135, ↓rX9_readLibrary_138, ↓rX9_readLibrary_139, ↓rX9_readLibrary_140, ↓rX9_readLibrary_143, ↓rX9_readLibrary_144, ↓rX9_readLibrary_147, ↓rX9_readLibrary_148, ↓rX9_readLibrary_t, tK_0, tK_1, tL_1, tK_2, tL_2, tK_3, tL_3, tK_4, tL_4, tK_5, tL_5, tK_6, tL_6, tK_7, tL_7, tK_8, tL_8, tK_9, tL_9, tK_10, tL_10, tK_11, tL_11, tK_12, tL_12, tK_13, tL_13, tK_14, tL_14, tK_15, tL_15, tF_71, tF_73, tF_75, tF_81, tF_83, tF_85, tF_101, tF_103, tF_105, tF_109, tF_111, tF_113, tF_115, tF_117, tF_119, tG_76, tG_78, tG_86, tG_88, tG_90, tG_92, tG_94, tG_96, tG_98, tG_106, tG_120, tI_1, tI_2, tI_3, tI_4, tI_5, tI_6, tI_7, tI_8, tI_9, tI_10, tI_11, tI_12, tI_13, tI_14, tI_15, tP_76, tP_78, tP_86, tP_88, tP_90, tP_92, tP_94, tP_96, tP_98, tP_106, tP_120, tW_1, tW_2, tW_3, tW_4, tW_5, tW_6, tW_7, tW_8, tW_9, tW_10, tW_11, tW_12, tW_13, tW_14, tW_15, ↓rmI_in, ↓shrI_in, ↓shlI_in, ↓okI_in, ↓bI_01, bI_z, bI_o, nn_neg, Int.cast_ofNat_Int, zlit, n_leT, n_leF, n_ltT, n_ltF, n_eqT, n_eqF, z_leT, z_leF, z_ltT, z_ltF, z_eqT, z_eqF, nn_add, nn_mul, nn_clamp, nn_lt, nn_le, nn_eq, nn_div, rmI_nn, okI_nn, nn_and, nn_or, nn_xor, shlI_1, shrI_nn, Cont_v, Cont_0, List.mem_cons, List.not_mem_nil, or_false, or_true, true_or, true_and, and_true, ite_not, if_true, if_false, not_true_eq_false, not_false_eq_true, false_or, false_and, and_false, eq_self, ↓reduceIte, reduceCtorEq, ↓c9_in, ↓c9_isBook, ↓c9_isFish, ↓c9_isWhat, ↓c9_isCaught, ↓c9_putAside, ↓c9_takeBack, l_toInt, sub_toInt, l64_0, l64_1, l64_2, l64_3, l64_5, l64_7, l64_9, l64_10, l64_12, l64_24, l64_48, l64_57, l64_60, l64_97, l64_122, l64_255, l64_999, l64_999999, l64_m]
      | inr y =>
        rw [hx] at p1
        obtain ⟨o1, q1, q2, q3, q4⟩ := p1
        subst q1; subst q4
        obtain ⟨j1, j2⟩ := pOne_r hI hx
        obtain ⟨F2, r2, v2, p2, e2⟩ := ih y.1 y.2 F1 (.int w2) (by simp only at j2; omega) q3 q2 j1
        exact ⟨F2, r2, v2, ⟨o1.trans p2.1, p2.2⟩, fun Q => (e1 Q).trans (e2 Q)⟩
end TL2
