/-! THE CLASS'S OWN CELLS: the object at c, what it was made with up to c+30 -/
def CM (h : Hp) (c : Nat) : Prop := gK h c = 1 ∧ gK h (c + 1) = 54 ∧ gL h (c + 1) = 8 ∧ gK h (c + 2) = 52 ∧ gL h (c + 2) = 120 ∧ gK h (c + 19) = 55 ∧ gL h (c + 19) = 24 ∧ gK h (c + 20) = 55 ∧ gL h (c + 20) = 2 ∧ gK h (c + 23) = 51 ∧ gL h (c + 23) = 6 ∧ gK h (c + 24) = 51 ∧ gL h (c + 24) = 6 ∧ gK h (c + 25) = 56 ∧ gL h (c + 25) = 5 ∧ gF h 3 c = .ref (c + 1) ∧ gF h 5 c = .ref (c + 2) ∧ gF h 11 c = .ref (c + 3) ∧ gF h 13 c = .ref (c + 11) ∧ gF h 15 c = .ref (c + 19) ∧ gF h 19 c = .ref (c + 20) ∧ gF h 25 c = .ref (c + 23) ∧ gF h 27 c = .ref (c + 24) ∧ gF h 31 c = .ref (c + 25) ∧ (∀ k, k < 5 → gK h (c + 26 + k) = 4 + k) ∧ (∀ k, k < 5 → gR h (c + 25) k = some (c + 26 + k))
theorem CM.k0 {h : Hp} {c : Nat} (H : CM h c) : gK h c = 1 := H.1
theorem CM.k1 {h : Hp} {c : Nat} (H : CM h c) : gK h (c + 1) = 54 := H.2.1
theorem CM.l1 {h : Hp} {c : Nat} (H : CM h c) : gL h (c + 1) = 8 := H.2.2.1
theorem CM.k2 {h : Hp} {c : Nat} (H : CM h c) : gK h (c + 2) = 52 := H.2.2.2.1
theorem CM.l2 {h : Hp} {c : Nat} (H : CM h c) : gL h (c + 2) = 120 := H.2.2.2.2.1
theorem CM.k19 {h : Hp} {c : Nat} (H : CM h c) : gK h (c + 19) = 55 := H.2.2.2.2.2.1
theorem CM.l19 {h : Hp} {c : Nat} (H : CM h c) : gL h (c + 19) = 24 := H.2.2.2.2.2.2.1
theorem CM.k20 {h : Hp} {c : Nat} (H : CM h c) : gK h (c + 20) = 55 := H.2.2.2.2.2.2.2.1
theorem CM.l20 {h : Hp} {c : Nat} (H : CM h c) : gL h (c + 20) = 2 := H.2.2.2.2.2.2.2.2.1
theorem CM.k23 {h : Hp} {c : Nat} (H : CM h c) : gK h (c + 23) = 51 := H.2.2.2.2.2.2.2.2.2.1
theorem CM.l23 {h : Hp} {c : Nat} (H : CM h c) : gL h (c + 23) = 6 := H.2.2.2.2.2.2.2.2.2.2.1
theorem CM.k24 {h : Hp} {c : Nat} (H : CM h c) : gK h (c + 24) = 51 := H.2.2.2.2.2.2.2.2.2.2.2.1
theorem CM.l24 {h : Hp} {c : Nat} (H : CM h c) : gL h (c + 24) = 6 := H.2.2.2.2.2.2.2.2.2.2.2.2.1
theorem CM.k25 {h : Hp} {c : Nat} (H : CM h c) : gK h (c + 25) = 56 := H.2.2.2.2.2.2.2.2.2.2.2.2.2.1
theorem CM.l25 {h : Hp} {c : Nat} (H : CM h c) : gL h (c + 25) = 5 := H.2.2.2.2.2.2.2.2.2.2.2.2.2.2.1
theorem CM.f3 {h : Hp} {c : Nat} (H : CM h c) : gF h 3 c = .ref (c + 1) := H.2.2.2.2.2.2.2.2.2.2.2.2.2.2.2.1
theorem CM.f5 {h : Hp} {c : Nat} (H : CM h c) : gF h 5 c = .ref (c + 2) := H.2.2.2.2.2.2.2.2.2.2.2.2.2.2.2.2.1
theorem CM.f11 {h : Hp} {c : Nat} (H : CM h c) : gF h 11 c = .ref (c + 3) := H.2.2.2.2.2.2.2.2.2.2.2.2.2.2.2.2.2.1
theorem CM.f13 {h : Hp} {c : Nat} (H : CM h c) : gF h 13 c = .ref (c + 11) := H.2.2.2.2.2.2.2.2.2.2.2.2.2.2.2.2.2.2.1
theorem CM.f15 {h : Hp} {c : Nat} (H : CM h c) : gF h 15 c = .ref (c + 19) := H.2.2.2.2.2.2.2.2.2.2.2.2.2.2.2.2.2.2.2.1
theorem CM.f19 {h : Hp} {c : Nat} (H : CM h c) : gF h 19 c = .ref (c + 20) := H.2.2.2.2.2.2.2.2.2.2.2.2.2.2.2.2.2.2.2.2.1
theorem CM.f25 {h : Hp} {c : Nat} (H : CM h c) : gF h 25 c = .ref (c + 23) := H.2.2.2.2.2.2.2.2.2.2.2.2.2.2.2.2.2.2.2.2.2.1
theorem CM.f27 {h : Hp} {c : Nat} (H : CM h c) : gF h 27 c = .ref (c + 24) := H.2.2.2.2.2.2.2.2.2.2.2.2.2.2.2.2.2.2.2.2.2.2.1
theorem CM.f31 {h : Hp} {c : Nat} (H : CM h c) : gF h 31 c = .ref (c + 25) := H.2.2.2.2.2.2.2.2.2.2.2.2.2.2.2.2.2.2.2.2.2.2.2.1
theorem CM.kt {h : Hp} {c : Nat} (H : CM h c) : ∀ k, k < 5 → gK h (c + 26 + k) = 4 + k := H.2.2.2.2.2.2.2.2.2.2.2.2.2.2.2.2.2.2.2.2.2.2.2.2.1
theorem CM.rt {h : Hp} {c : Nat} (H : CM h c) : ∀ k, k < 5 → gR h (c + 25) k = some (c + 26 + k) := H.2.2.2.2.2.2.2.2.2.2.2.2.2.2.2.2.2.2.2.2.2.2.2.2.2
theorem CM.keep {h h' : Hp} {c : Nat} (H : CM h c) (e1 : ∀ k, k ≤ 30 → gK h' (c + k) = gK h (c + k) ∧ gL h' (c + k) = gL h (c + k)) (e2 : ∀ f, f ≠ 6 → f ≠ 8 → f ≠ 16 → f ≠ 21 → f ≠ 22 → f ≠ 28 → gF h' f c = gF h f c) (e3 : ∀ i, gR h' (c + 25) i = gR h (c + 25) i) : CM h' c := by
  have e0 : gK h' c = gK h c := (e1 0 (by omega)).1
  unfold CM at H ⊢
  rw [e0, (e1 1 (by omega)).1, (e1 1 (by omega)).2, (e1 2 (by omega)).1, (e1 2 (by omega)).2, (e1 19 (by omega)).1, (e1 19 (by omega)).2, (e1 20 (by omega)).1, (e1 20 (by omega)).2, (e1 23 (by omega)).1, (e1 23 (by omega)).2, (e1 24 (by omega)).1, (e1 24 (by omega)).2, (e1 25 (by omega)).1, (e1 25 (by omega)).2, e2 3 (by decide) (by decide) (by decide) (by decide) (by decide) (by decide), e2 5 (by decide) (by decide) (by decide) (by decide) (by decide) (by decide), e2 11 (by decide) (by decide) (by decide) (by decide) (by decide) (by decide), e2 13 (by decide) (by decide) (by decide) (by decide) (by decide) (by decide), e2 15 (by decide) (by decide) (by decide) (by decide) (by decide) (by decide), e2 19 (by decide) (by decide) (by decide) (by decide) (by decide) (by decide), e2 25 (by decide) (by decide) (by decide) (by decide) (by decide) (by decide), e2 27 (by decide) (by decide) (by decide) (by decide) (by decide) (by decide), e2 31 (by decide) (by decide) (by decide) (by decide) (by decide) (by decide)]
  obtain ⟨a0, a1, a2, a3, a4, a5, a6, a7, a8, a9, a10, a11, a12, a13, a14, a15, a16, a17, a18, a19, a20, a21, a22, a23, a24, a25⟩ := H
  exact ⟨a0, a1, a2, a3, a4, a5, a6, a7, a8, a9, a10, a11, a12, a13, a14, a15, a16, a17, a18, a19, a20, a21, a22, a23, fun k hk => by rw [Nat.add_assoc, (e1 (26 + k) (by omega)).1, ← Nat.add_assoc]; exact a24 k hk, fun k hk => by rw [e3]; exact a25 k hk⟩
/-- a list of fish as a library has it -/
def LL (h : Hp) (p : Nat) (s : St) : Prop := ∃ e fa, FLi h p e (s 1) fa ∧ (∀ f, f < (s 1 : Nat) → gK h (fa f) = 3 + (s (26 + f) : Nat) ∧ gF h 68 (fa f) = .int (nI f) ∧ fa f < gN h ∧ e < gN h) ∧ p < gN h
/-- lists and fish are as they were -/
def PrL (h h' : Hp) : Prop := gN h ≤ gN h' ∧ ∀ x, x < gN h → (gK h x = 14 ∨ gK h x = 57 ∨ (4 ≤ gK h x ∧ gK h x ≤ 8)) → SmX h h' x
theorem PrL.trans {h1 h2 h3 : Hp} (a : PrL h1 h2) (b : PrL h2 h3) : PrL h1 h3 := by
  refine ⟨Nat.le_trans a.1 b.1, fun x hx hk => ?_⟩
  obtain ⟨a1, a2, a3, a4, a5⟩ := a.2 x hx hk
  obtain ⟨b1, b2, b3, b4, b5⟩ := b.2 x (by have := a.1; omega) (by rw [a1]; exact hk)
  exact ⟨b1.trans a1, b2.trans a2, fun f => (b3 f).trans (a3 f), fun i => (b4 i).trans (a4 i), fun i => (b5 i).trans (a5 i)⟩
theorem LL.keep {h h' : Hp} {p : Nat} {s : St} (H : LL h p s) (hW : WF s) (hP : PrL h h') : LL h' p s := by
  obtain ⟨e, fa, ⟨q1, q2, q3, q4⟩, q5, q6⟩ := H
  obtain ⟨-, -, sp, -, -⟩ := hP.2 p q6 (Or.inl q1)
  have sk := (hP.2 p q6 (Or.inl q1)).1
  refine ⟨e, fa, ⟨sk.trans q1, (sp _).trans q2, (sp _).trans q3, fun f hf => ?_⟩, fun f hf => ?_, Nat.lt_of_lt_of_le q6 hP.1⟩
  · obtain ⟨⟨e1, e2⟩, e3⟩ := q4 f hf
    obtain ⟨s1, s2, -, -, s5⟩ := hP.2 e (q5 f hf).2.2.2 (Or.inr (Or.inl e1))
    exact ⟨⟨s1.trans e1, by rw [s2]; exact e2⟩, (s5 f).trans e3⟩
  · obtain ⟨f1, f2, f3, f4⟩ := q5 f hf
    have hk := (hW.2.2.2.2.1 f hf).1
    obtain ⟨s1, -, s3, -, -⟩ := hP.2 (fa f) f3 (Or.inr (Or.inr (by omega)))
    have := hP.1
    exact ⟨s1.trans f1, (s3 _).trans f2, by omega, by omega⟩
/-- a library with its list -/
def LF (h : Hp) (a : Nat) (s : St) : Prop := ∃ n p tf tk, HL h a s n p tf tk ∧ (∀ j, j < (s 0 : Nat) → n j = bookAt s j) ∧ LL h p s ∧ tf = zI (-1000000)
/-- some library or other -/
def LA (h : Hp) (a : Nat) : Prop := ∃ s n p tf tk, HL h a s n p tf tk
theorem LF.any {h : Hp} {a : Nat} {s : St} (H : LF h a s) : LA h a := by
  obtain ⟨n, p, tf, tk, h1, -⟩ := H
  exact ⟨s, n, p, tf, tk, h1⟩
/-- a block of cells is as it was -/
def SmB (h h' : Hp) (a m : Nat) : Prop := ∀ k, k < m → SmX h h' (a + k)
theorem HL.sm {h h' : Hp} {a : Nat} {s : St} {n : Nat → Nat} {p : Nat} {tf : Int32} {tk : Value} (H : HL h a s n p tf tk) (hb : SmB h h' a 8) : HL h' a s n p tf tk :=
  H.keep (fun f => (hb 0 (by omega)).2.2.1 f) (fun k i _ _ _ => (hb k (by omega)).2.2.2.1 i) (fun k hk => ⟨(hb k (by omega)).1, (hb k (by omega)).2.1⟩)
theorem LF.keep {h h' : Hp} {a : Nat} {s : St} (H : LF h a s) (hW : WF s) (hb : SmB h h' a 8) (hP : PrL h h') : LF h' a s := by
  obtain ⟨n, p, tf, tk, h1, h2, h3, h4⟩ := H
  exact ⟨n, p, tf, tk, h1.sm hb, h2, h3.keep hW hP, h4⟩
theorem LA.keep {h h' : Hp} {a : Nat} (H : LA h a) (hb : SmB h h' a 8) : LA h' a := by
  obtain ⟨s, n, p, tf, tk, h1⟩ := H
  exact ⟨s, n, p, tf, tk, h1.sm hb⟩
/-- past libraries, images, rows, the trail: at addresses of their own, apart from each other (ow: the base of each block) -/
def PaI (h : Hp) (c : Nat) (X : XS) (ow : Nat → Nat) (q : Nat → Nat) (mx : Nat) : Prop := (xm X ≤ mx ∧ mx ≤ 24) ∧ (∀ k, k < 24 → gR h (c + 19) k = if k < mx then some (q k) else none) ∧ (∀ k, k < mx → (c + 47 ≤ q k ∧ q k + 8 ≤ gN h) ∧ LA h (q k) ∧ ∀ i, i < 8 → ow (q k + i) = q k) ∧ (∀ k, k < xm X → LF h (q k) (xA X k)) ∧ (∀ j k, j < mx → k < mx → q j = q k → j = k)
def ImI (h : Hp) (c : Nat) (X : XS) (ow : Nat → Nat) (u : Nat → Nat) : Prop := (∀ k, k < 2 → gR h (c + 20) k = if xk X k = true then some (u k) else none) ∧ (∀ k, k < 2 → xk X k = true → (c + 47 ≤ u k ∧ u k + 8 ≤ gN h) ∧ LF h (u k) (xB X k) ∧ ∀ i, i < 8 → ow (u k + i) = u k) ∧ (xk X 0 = true → xk X 1 = true → u 0 ≠ u 1)
def RoI (h : Hp) (c : Nat) (X : XS) (ow : Nat → Nat) (w : Nat → Nat) : Prop := (∀ r, r < 8 → xr X r = none → gR h (c + 1) r = none) ∧ (∀ r, r < 8 → ∀ q, xr X r = some q → gR h (c + 1) r = some (w r) ∧ (c + 47 ≤ w r ∧ w r + 2 ≤ gN h) ∧ (gK h (w r) = 11 ∧ gF h 136 (w r) = .int (nI q.1) ∧ gF h 139 (w r) = .ref (w r + 1)) ∧ (gK h (w r + 1) = 51 ∧ gL h (w r + 1) = q.2.1 ∧ ∀ i, i < q.2.1 → gI h (w r + 1) i = q.2.2 i) ∧ ow (w r) = w r ∧ ow (w r + 1) = w r) ∧ (∀ j k, j < 8 → k < 8 → (xr X j).isSome = true → (xr X k).isSome = true → w j = w k → j = k)
def TrI (h : Hp) (c : Nat) (X : XS) (ow : Nat → Nat) (tr : Nat) : Prop := gF h 21 c = .ref tr ∧ (tr = c + 21 ∨ c + 47 ≤ tr) ∧ tr + 2 ≤ gN h ∧ (gK h tr = 3 ∧ gF h 65 tr = .ref (tr + 1) ∧ gF h 66 tr = .int (nI (xy X).length)) ∧ (gK h (tr + 1) = 51 ∧ gL h (tr + 1) = 16 ∧ ∀ i, i < (xy X).length → gI h (tr + 1) i = nI ((xy X).getD i 0)) ∧ ow tr = tr ∧ ow (tr + 1) = tr
def CInv (h : Hp) (c : Nat) (X : XS) : Prop := CM h c ∧ StR h ∧ (0 < c ∧ c + 47 ≤ gN h) ∧ (gF h 6 c = .int (nI (xn X)) ∧ gF h 8 c = .int (nI (xl X)) ∧ gF h 16 c = .int (nI (xm X)) ∧ gF h 22 c = .int (nI (xu X))) ∧ (∀ i, i < xn X → gI h (c + 2) i = (nI (xt X i)).toInt8.toInt32) ∧ LF h (c + 3) (xs X) ∧ LA h (c + 11) ∧ ∃ ow q mx u w tr, PaI h c X ow q mx ∧ ImI h c X ow u ∧ RoI h c X ow w ∧ TrI h c X ow tr ∧ (∀ j k, j < mx → k < 2 → xk X k = true → q j ≠ u k)
