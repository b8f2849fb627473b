/-! A HEAP HOLDS A LIBRARY -/
def HL (h : Hp) (a : Nat) (s : St) (n : Nat → Nat) (p : Nat) (tf : Int32) (tk : Value) : Prop := (∀ f, lFn f = true → gF h f a = lF a s p tf tk f) ∧ (∀ k i, 1 ≤ k → k ≤ 7 → k ≠ 5 → gI h (a + k) i = lCc s n k i) ∧ LK h a
section HLS
variable {h h' : Hp} {a : Nat} {s : St} {n : Nat → Nat} {p : Nat} {tf : Int32} {tk : Value}
theorem HL.eq (H : HL h a s n p tf tk) : LB h a s n p tf tk = h := by
  obtain ⟨h1, h2, -⟩ := H
  unfold LB LBc
  have e1 : (fun f x => if x = a ∧ lFn f = true then lF a s p tf tk f else gF h f x) = h.2.2.1 := by
    funext f x
    by_cases hx : x = a ∧ lFn f = true
    · rw [if_pos hx, hx.1]; exact (h1 f hx.2).symm
    · rw [if_neg hx]; rfl
  have e2 : (fun x i => if a < x ∧ x ≤ a + 7 ∧ ¬ x = a + 5 then lCc s n (x - a) i else gI h x i) = h.2.2.2.1 := by
    funext x i
    by_cases hx : a < x ∧ x ≤ a + 7 ∧ ¬ x = a + 5
    · rw [if_pos hx]
      have := h2 (x - a) i (by omega) (by omega) (by omega)
      rw [show a + (x - a) = x by omega] at this
      exact this.symm
    · rw [if_neg hx]; rfl
  rw [e1, e2]
theorem HL.of (K : LK h a) : HL (LB h a s n p tf tk) a s n p tf tk := ⟨fun f hf => LBc_G h a f _ _ hf, fun k i h1 h2 h3 => LBc_I h a k _ _ i ⟨h1, h2, h3⟩, K⟩
/-- what is unchanged is still there -/
theorem HL.keep (H : HL h a s n p tf tk) (e1 : ∀ f, gF h' f a = gF h f a) (e2 : ∀ k i, 1 ≤ k → k ≤ 7 → k ≠ 5 → gI h' (a + k) i = gI h (a + k) i) (e3 : ∀ k, k ≤ 7 → gK h' (a + k) = gK h (a + k) ∧ gL h' (a + k) = gL h (a + k)) : HL h' a s n p tf tk := by
  obtain ⟨h1, h2, K⟩ := H
  refine ⟨fun f hf => (e1 f).trans (h1 f hf), fun k i k1 k2 k3 => (e2 k i k1 k2 k3).trans (h2 k i k1 k2 k3), ?_⟩
  unfold LK at K ⊢
  have e0 := (e3 0 (by omega)).1
  rw [Nat.add_zero] at e0
  rw [e0, (e3 1 (by omega)).1, (e3 2 (by omega)).1, (e3 3 (by omega)).1, (e3 4 (by omega)).1, (e3 6 (by omega)).1, (e3 7 (by omega)).1, (e3 1 (by omega)).2, (e3 2 (by omega)).2, (e3 3 (by omega)).2, (e3 4 (by omega)).2, (e3 6 (by omega)).2, (e3 7 (by omega)).2]
  exact K
theorem HL.g32 (H : HL h a s n p tf tk) : gF h 32 a = .int (nI (s 2)) := H.1 32 (by decide)
theorem HL.g34 (H : HL h a s n p tf tk) : gF h 34 a = .int (nI (s 3)) := H.1 34 (by decide)
theorem HL.g36 (H : HL h a s n p tf tk) : gF h 36 a = .int (nI (s 0)) := H.1 36 (by decide)
theorem HL.g46 (H : HL h a s n p tf tk) : gF h 46 a = .int (nI (s 5)) := H.1 46 (by decide)
theorem HL.g48 (H : HL h a s n p tf tk) : gF h 48 a = .int (nI (s 6)) := H.1 48 (by decide)
theorem HL.g56 (H : HL h a s n p tf tk) : gF h 56 a = .int (nI (s 7)) := H.1 56 (by decide)
theorem HL.g58 (H : HL h a s n p tf tk) : gF h 58 a = .int (nI (s 4)) := H.1 58 (by decide)
theorem HL.g39 (H : HL h a s n p tf tk) : gF h 39 a = .ref (a + 1) := H.1 39 (by decide)
theorem HL.g41 (H : HL h a s n p tf tk) : gF h 41 a = .ref (a + 2) := H.1 41 (by decide)
theorem HL.g43 (H : HL h a s n p tf tk) : gF h 43 a = .ref (a + 3) := H.1 43 (by decide)
theorem HL.g45 (H : HL h a s n p tf tk) : gF h 45 a = .ref (a + 4) := H.1 45 (by decide)
theorem HL.g53 (H : HL h a s n p tf tk) : gF h 53 a = .ref (a + 6) := H.1 53 (by decide)
theorem HL.g55 (H : HL h a s n p tf tk) : gF h 55 a = .ref (a + 7) := H.1 55 (by decide)
theorem HL.g51 (H : HL h a s n p tf tk) : gF h 51 a = .ref p := H.1 51 (by decide)
theorem HL.g60 (H : HL h a s n p tf tk) : gF h 60 a = .int tf := H.1 60 (by decide)
theorem HL.g63 (H : HL h a s n p tf tk) : gF h 63 a = tk := H.1 63 (by decide)
theorem HL.i1 (H : HL h a s n p tf tk) {i : Nat} (hi : i < 6) : gI h (a + 1) i = nI (s (8 + i)) := (H.2.1 1 i (by omega) (by omega) (by omega)).trans (if_pos hi)
theorem HL.i2 (H : HL h a s n p tf tk) {i : Nat} (hi : i < 6) : gI h (a + 2) i = nI (s (14 + i)) := (H.2.1 2 i (by omega) (by omega) (by omega)).trans (if_pos hi)
theorem HL.i4 (H : HL h a s n p tf tk) {i : Nat} (hi : i < 6) : gI h (a + 4) i = nI (s (20 + i)) := (H.2.1 4 i (by omega) (by omega) (by omega)).trans (if_pos hi)
theorem HL.i6 (H : HL h a s n p tf tk) {i : Nat} (hi : i < 5) : gI h (a + 6) i = nI (s (31 + i)) := (H.2.1 6 i (by omega) (by omega) (by omega)).trans (if_pos hi)
theorem HL.i7 (H : HL h a s n p tf tk) {i : Nat} (hi : i < 5) : gI h (a + 7) i = nI (s (36 + i)) := (H.2.1 7 i (by omega) (by omega) (by omega)).trans (if_pos hi)
theorem HL.i3 (H : HL h a s n p tf tk) (i : Nat) : gI h (a + 3) i = nI (n i) := H.2.1 3 i (by omega) (by omega) (by omega)
theorem HL.k0 (H : HL h a s n p tf tk) : gK h a = 2 := H.2.2.1
theorem HL.k1 (H : HL h a s n p tf tk) : gK h (a + 1) = 51 := H.2.2.2.1.1
theorem HL.l1 (H : HL h a s n p tf tk) : gL h (a + 1) = 6 := H.2.2.2.2.1
theorem HL.k2 (H : HL h a s n p tf tk) : gK h (a + 2) = 51 := H.2.2.2.1.2.1
theorem HL.l2 (H : HL h a s n p tf tk) : gL h (a + 2) = 6 := H.2.2.2.2.2.1
theorem HL.k3 (H : HL h a s n p tf tk) : gK h (a + 3) = 51 := H.2.2.2.1.2.2.1
theorem HL.l3 (H : HL h a s n p tf tk) : gL h (a + 3) = 6 := H.2.2.2.2.2.2.1
theorem HL.k4 (H : HL h a s n p tf tk) : gK h (a + 4) = 51 := H.2.2.2.1.2.2.2.1
theorem HL.l4 (H : HL h a s n p tf tk) : gL h (a + 4) = 6 := H.2.2.2.2.2.2.2.1
theorem HL.k6 (H : HL h a s n p tf tk) : gK h (a + 6) = 51 := H.2.2.2.1.2.2.2.2.1
theorem HL.l6 (H : HL h a s n p tf tk) : gL h (a + 6) = 5 := H.2.2.2.2.2.2.2.2.1
theorem HL.k7 (H : HL h a s n p tf tk) : gK h (a + 7) = 51 := H.2.2.2.1.2.2.2.2.2
theorem HL.l7 (H : HL h a s n p tf tk) : gL h (a + 7) = 5 := H.2.2.2.2.2.2.2.2.2
end HLS
/-- one takes over what another has -/
def cpS (s t : St) (e m : Nat) : St := fun j => if e ≤ j ∧ j < e + m then t j else s j
def cpN (n m : Nat → Nat) : Nat → Nat := fun j => if j < 6 then m j else n j
theorem wr_val (s t : St) (i j : Nat) : wr s i (t i : Nat) j = if j = i then t i else s j := by
  by_cases h : j = i
  · rw [if_pos h, h]; exact Fin.ext (by rw [wr_at, if_pos rfl, Nat.mod_eq_of_lt (t i).isLt])
  · rw [if_neg h]; exact wr_ne h
theorem fB_cp {s t : St} {e m j : Nat} : va_cpy (fB t e m) (fB s e m) 0 0 m j = fB (cpS s t e m) e m j := by
  unfold va_cpy fB cpS
  by_cases hj : j < m
  · rw [if_pos ⟨by omega, by omega⟩, if_pos (by omega), if_pos hj, if_pos ⟨by omega, by omega⟩, show 0 + (j - 0) = j by omega]
  · rw [if_neg (by omega), if_neg hj, if_neg hj]
theorem lQ_1 (b : Hp) (a : Nat) (s t : St) (n : Nat → Nat) (p : Nat) (tf : Int32) (tk : Value) {x : Nat} (hx : ∀ j, j < 6 → gI (LB b a s n p tf tk) x j = nI (t (8 + j))) : pC (LB b a s n p tf tk) (a + 1) (va_cpy (gI (LB b a s n p tf tk) x) (gI (LB b a s n p tf tk) (a + 1)) 0 0 6) = LB b a (cpS s t 8 6) n p tf tk := by
  refine (LBc_C b a 1 _ _ _ (by omega)).trans (LB_o b a (fun f _ => ?_) (fun k j _ _ _ => ?_))
  · unfold lF; rw [show cpS s t 8 6 2 = s 2 from if_neg (by omega), show cpS s t 8 6 3 = s 3 from if_neg (by omega), show cpS s t 8 6 0 = s 0 from if_neg (by omega), show cpS s t 8 6 5 = s 5 from if_neg (by omega), show cpS s t 8 6 6 = s 6 from if_neg (by omega), show cpS s t 8 6 7 = s 7 from if_neg (by omega), show cpS s t 8 6 4 = s 4 from if_neg (by omega)]
  · by_cases hk : k = 1
    · subst hk
      rw [if_pos rfl]
      show _ = fB (cpS s t 8 6) 8 6 j
      rw [← fB_cp]
      unfold va_cpy
      by_cases hj : j < 6
      · rw [if_pos ⟨by omega, by omega⟩, if_pos ⟨by omega, by omega⟩, hx _ (by omega)]; unfold fB; rw [if_pos (by omega)]
      · rw [if_neg (by omega), if_neg (by omega)]; exact LBc_I b a 1 _ _ j (by omega)
    · rw [if_neg hk]; unfold lCc
      simp only [if_neg hk, fB_cg (s := cpS s t 8 6) (s' := s) (e := 14) (m := 6) (fun j hj => if_neg (by omega)), fB_cg (s := cpS s t 8 6) (s' := s) (e := 20) (m := 6) (fun j hj => if_neg (by omega)), fB_cg (s := cpS s t 8 6) (s' := s) (e := 31) (m := 5) (fun j hj => if_neg (by omega)), fB_cg (s := cpS s t 8 6) (s' := s) (e := 36) (m := 5) (fun j hj => if_neg (by omega))]
theorem lQ_2 (b : Hp) (a : Nat) (s t : St) (n : Nat → Nat) (p : Nat) (tf : Int32) (tk : Value) {x : Nat} (hx : ∀ j, j < 6 → gI (LB b a s n p tf tk) x j = nI (t (14 + j))) : pC (LB b a s n p tf tk) (a + 2) (va_cpy (gI (LB b a s n p tf tk) x) (gI (LB b a s n p tf tk) (a + 2)) 0 0 6) = LB b a (cpS s t 14 6) n p tf tk := by
  refine (LBc_C b a 2 _ _ _ (by omega)).trans (LB_o b a (fun f _ => ?_) (fun k j _ _ _ => ?_))
  · unfold lF; rw [show cpS s t 14 6 2 = s 2 from if_neg (by omega), show cpS s t 14 6 3 = s 3 from if_neg (by omega), show cpS s t 14 6 0 = s 0 from if_neg (by omega), show cpS s t 14 6 5 = s 5 from if_neg (by omega), show cpS s t 14 6 6 = s 6 from if_neg (by omega), show cpS s t 14 6 7 = s 7 from if_neg (by omega), show cpS s t 14 6 4 = s 4 from if_neg (by omega)]
  · by_cases hk : k = 2
    · subst hk
      rw [if_pos rfl]
      show _ = fB (cpS s t 14 6) 14 6 j
      rw [← fB_cp]
      unfold va_cpy
      by_cases hj : j < 6
      · rw [if_pos ⟨by omega, by omega⟩, if_pos ⟨by omega, by omega⟩, hx _ (by omega)]; unfold fB; rw [if_pos (by omega)]
      · rw [if_neg (by omega), if_neg (by omega)]; exact LBc_I b a 2 _ _ j (by omega)
    · rw [if_neg hk]; unfold lCc
      simp only [if_neg hk, fB_cg (s := cpS s t 14 6) (s' := s) (e := 8) (m := 6) (fun j hj => if_neg (by omega)), fB_cg (s := cpS s t 14 6) (s' := s) (e := 20) (m := 6) (fun j hj => if_neg (by omega)), fB_cg (s := cpS s t 14 6) (s' := s) (e := 31) (m := 5) (fun j hj => if_neg (by omega)), fB_cg (s := cpS s t 14 6) (s' := s) (e := 36) (m := 5) (fun j hj => if_neg (by omega))]
theorem lQ_4 (b : Hp) (a : Nat) (s t : St) (n : Nat → Nat) (p : Nat) (tf : Int32) (tk : Value) {x : Nat} (hx : ∀ j, j < 6 → gI (LB b a s n p tf tk) x j = nI (t (20 + j))) : pC (LB b a s n p tf tk) (a + 4) (va_cpy (gI (LB b a s n p tf tk) x) (gI (LB b a s n p tf tk) (a + 4)) 0 0 6) = LB b a (cpS s t 20 6) n p tf tk := by
  refine (LBc_C b a 4 _ _ _ (by omega)).trans (LB_o b a (fun f _ => ?_) (fun k j _ _ _ => ?_))
  · unfold lF; rw [show cpS s t 20 6 2 = s 2 from if_neg (by omega), show cpS s t 20 6 3 = s 3 from if_neg (by omega), show cpS s t 20 6 0 = s 0 from if_neg (by omega), show cpS s t 20 6 5 = s 5 from if_neg (by omega), show cpS s t 20 6 6 = s 6 from if_neg (by omega), show cpS s t 20 6 7 = s 7 from if_neg (by omega), show cpS s t 20 6 4 = s 4 from if_neg (by omega)]
  · by_cases hk : k = 4
    · subst hk
      rw [if_pos rfl]
      show _ = fB (cpS s t 20 6) 20 6 j
      rw [← fB_cp]
      unfold va_cpy
      by_cases hj : j < 6
      · rw [if_pos ⟨by omega, by omega⟩, if_pos ⟨by omega, by omega⟩, hx _ (by omega)]; unfold fB; rw [if_pos (by omega)]
      · rw [if_neg (by omega), if_neg (by omega)]; exact LBc_I b a 4 _ _ j (by omega)
    · rw [if_neg hk]; unfold lCc
      simp only [if_neg hk, fB_cg (s := cpS s t 20 6) (s' := s) (e := 8) (m := 6) (fun j hj => if_neg (by omega)), fB_cg (s := cpS s t 20 6) (s' := s) (e := 14) (m := 6) (fun j hj => if_neg (by omega)), fB_cg (s := cpS s t 20 6) (s' := s) (e := 31) (m := 5) (fun j hj => if_neg (by omega)), fB_cg (s := cpS s t 20 6) (s' := s) (e := 36) (m := 5) (fun j hj => if_neg (by omega))]
theorem lQ_6 (b : Hp) (a : Nat) (s t : St) (n : Nat → Nat) (p : Nat) (tf : Int32) (tk : Value) {x : Nat} (hx : ∀ j, j < 5 → gI (LB b a s n p tf tk) x j = nI (t (31 + j))) : pC (LB b a s n p tf tk) (a + 6) (va_cpy (gI (LB b a s n p tf tk) x) (gI (LB b a s n p tf tk) (a + 6)) 0 0 5) = LB b a (cpS s t 31 5) n p tf tk := by
  refine (LBc_C b a 6 _ _ _ (by omega)).trans (LB_o b a (fun f _ => ?_) (fun k j _ _ _ => ?_))
  · unfold lF; rw [show cpS s t 31 5 2 = s 2 from if_neg (by omega), show cpS s t 31 5 3 = s 3 from if_neg (by omega), show cpS s t 31 5 0 = s 0 from if_neg (by omega), show cpS s t 31 5 5 = s 5 from if_neg (by omega), show cpS s t 31 5 6 = s 6 from if_neg (by omega), show cpS s t 31 5 7 = s 7 from if_neg (by omega), show cpS s t 31 5 4 = s 4 from if_neg (by omega)]
  · by_cases hk : k = 6
    · subst hk
      rw [if_pos rfl]
      show _ = fB (cpS s t 31 5) 31 5 j
      rw [← fB_cp]
      unfold va_cpy
      by_cases hj : j < 5
      · rw [if_pos ⟨by omega, by omega⟩, if_pos ⟨by omega, by omega⟩, hx _ (by omega)]; unfold fB; rw [if_pos (by omega)]
      · rw [if_neg (by omega), if_neg (by omega)]; exact LBc_I b a 6 _ _ j (by omega)
    · rw [if_neg hk]; unfold lCc
      simp only [if_neg hk, fB_cg (s := cpS s t 31 5) (s' := s) (e := 8) (m := 6) (fun j hj => if_neg (by omega)), fB_cg (s := cpS s t 31 5) (s' := s) (e := 14) (m := 6) (fun j hj => if_neg (by omega)), fB_cg (s := cpS s t 31 5) (s' := s) (e := 20) (m := 6) (fun j hj => if_neg (by omega)), fB_cg (s := cpS s t 31 5) (s' := s) (e := 36) (m := 5) (fun j hj => if_neg (by omega))]
theorem lQ_7 (b : Hp) (a : Nat) (s t : St) (n : Nat → Nat) (p : Nat) (tf : Int32) (tk : Value) {x : Nat} (hx : ∀ j, j < 5 → gI (LB b a s n p tf tk) x j = nI (t (36 + j))) : pC (LB b a s n p tf tk) (a + 7) (va_cpy (gI (LB b a s n p tf tk) x) (gI (LB b a s n p tf tk) (a + 7)) 0 0 5) = LB b a (cpS s t 36 5) n p tf tk := by
  refine (LBc_C b a 7 _ _ _ (by omega)).trans (LB_o b a (fun f _ => ?_) (fun k j _ _ _ => ?_))
  · unfold lF; rw [show cpS s t 36 5 2 = s 2 from if_neg (by omega), show cpS s t 36 5 3 = s 3 from if_neg (by omega), show cpS s t 36 5 0 = s 0 from if_neg (by omega), show cpS s t 36 5 5 = s 5 from if_neg (by omega), show cpS s t 36 5 6 = s 6 from if_neg (by omega), show cpS s t 36 5 7 = s 7 from if_neg (by omega), show cpS s t 36 5 4 = s 4 from if_neg (by omega)]
  · by_cases hk : k = 7
    · subst hk
      rw [if_pos rfl]
      show _ = fB (cpS s t 36 5) 36 5 j
      rw [← fB_cp]
      unfold va_cpy
      by_cases hj : j < 5
      · rw [if_pos ⟨by omega, by omega⟩, if_pos ⟨by omega, by omega⟩, hx _ (by omega)]; unfold fB; rw [if_pos (by omega)]
      · rw [if_neg (by omega), if_neg (by omega)]; exact LBc_I b a 7 _ _ j (by omega)
    · rw [if_neg hk]; unfold lCc
      simp only [if_neg hk, fB_cg (s := cpS s t 36 5) (s' := s) (e := 8) (m := 6) (fun j hj => if_neg (by omega)), fB_cg (s := cpS s t 36 5) (s' := s) (e := 14) (m := 6) (fun j hj => if_neg (by omega)), fB_cg (s := cpS s t 36 5) (s' := s) (e := 20) (m := 6) (fun j hj => if_neg (by omega)), fB_cg (s := cpS s t 36 5) (s' := s) (e := 31) (m := 5) (fun j hj => if_neg (by omega))]
theorem lQ_3 (b : Hp) (a : Nat) (s : St) (n m : Nat → Nat) (p : Nat) (tf : Int32) (tk : Value) {x : Nat} (hx : ∀ j, j < 6 → gI (LB b a s n p tf tk) x j = nI (m j)) : pC (LB b a s n p tf tk) (a + 3) (va_cpy (gI (LB b a s n p tf tk) x) (gI (LB b a s n p tf tk) (a + 3)) 0 0 6) = LB b a s (cpN n m) p tf tk := by
  refine (LBc_C b a 3 _ _ _ (by omega)).trans (LB_o b a (fun f _ => rfl) (fun k j _ _ _ => ?_))
  by_cases hk : k = 3
  · subst hk
    rw [if_pos rfl]
    show _ = nI (cpN n m j)
    unfold va_cpy cpN
    by_cases hj : j < 6
    · rw [if_pos ⟨by omega, by omega⟩, hx _ (by omega), if_pos hj, show 0 + (j - 0) = j by omega]
    · rw [if_neg (by omega), if_neg hj]; exact LBc_I b a 3 _ _ j (by omega)
  · rw [if_neg hk]; unfold lCc; simp only [if_neg hk]
