/-! THE CLASS: images and acts kept, as blocks of their own -/
theorem LF.lk {h : Hp} {a : Nat} {s : St} (H : LF h a s) : LK h a := by
  obtain ⟨_, _, _, _, x1, -⟩ := H; exact x1.2.2
theorem LA.lk {h : Hp} {a : Nat} (H : LA h a) : LK h a := by
  obtain ⟨_, _, _, _, _, x1⟩ := H; exact x1.2.2
/-- a cell of the kind of lists or fish is none of a library's own -/
theorem LK.no {h : Hp} {a x : Nat} (K : LK h a) (hk : gK h x = 14 ∨ gK h x = 57 ∨ (4 ≤ gK h x ∧ gK h x ≤ 8)) : ¬ (a ≤ x ∧ x ≤ a + 7 ∧ x ≠ a + 5) := by
  intro e
  obtain ⟨k0, ⟨k1, k2, k3, k4, k6, k7⟩, -⟩ := K
  obtain e | e | e | e | e | e | e : x = a ∨ x = a + 1 ∨ x = a + 2 ∨ x = a + 3 ∨ x = a + 4 ∨ x = a + 6 ∨ x = a + 7 := by omega
  · rw [e, k0] at hk; omega
  · rw [e, k1] at hk; omega
  · rw [e, k2] at hk; omega
  · rw [e, k3] at hk; omega
  · rw [e, k4] at hk; omega
  · rw [e, k6] at hk; omega
  · rw [e, k7] at hk; omega
theorem CInv.img {h h' : Hp} {c a k : Nat} {X : XS} (H : CInv h c X) (hX : XOK X) (hk : k < 2) (hN : gN h ≤ gN h') (ha : gR h (c + 20) k = some a ∨ (gR h (c + 20) k = none ∧ gN h ≤ a)) (hNa : a + 8 ≤ gN h') (hSm : ∀ x, x < gN h → x ≠ c + 20 → ¬ (a ≤ x ∧ x ≤ a + 7 ∧ x ≠ a + 5) → SmX h h' x) (hK : ∀ x, x < gN h → gK h' x = gK h x ∧ gL h' x = gL h x) (hR : ∀ i, gR h' (c + 20) i = if i = k then some a else gR h (c + 20) i) (hLF : LF h' a (xs X)) : CInv h' c (uk (uB X (upS (xB X) k (xs X))) (upB (xk X) k true)) := by
  obtain ⟨m1, ⟨⟨s1, s2⟩, ⟨s3, s4⟩, ⟨s5, s6⟩, s7⟩, ⟨m3, m4⟩, ⟨g1, g2, g3, g4⟩, m5, m6, m7, ow, q, mx, u, w, tr, hPa, hIm, hRo, hTr, hd⟩ := H
  obtain ⟨i1, i2, i3⟩ := hIm
  -- where the block is
  have hcase : (xk X k = true ∧ a = u k) ∨ (xk X k = false ∧ gN h ≤ a) := by
    have h1 := i1 k hk
    cases hx : xk X k with
    | true =>
      rw [hx, if_pos rfl] at h1
      rcases ha with e | ⟨e, -⟩
      · rw [h1] at e; injection e with e; exact Or.inl ⟨rfl, e.symm⟩
      · rw [h1] at e; cases e
    | false =>
      rw [hx, if_neg (by decide)] at h1
      rcases ha with e | ⟨-, e⟩
      · rw [h1] at e; cases e
      · exact Or.inr ⟨rfl, e⟩
  have hal : c + 47 ≤ a := by
    rcases hcase with ⟨e1, e2⟩ | ⟨-, e2⟩
    · have := (i2 k hk e1).1.1; omega
    · omega
  have hP : PrL h h' := by
    refine ⟨hN, fun x hx hkx => hSm x hx (fun e => by rw [e, m1.k20] at hkx; omega) ?_⟩
    rcases hcase with ⟨e1, e2⟩ | ⟨-, e2⟩
    · rw [e2]; exact (i2 k hk e1).2.1.lk.no hkx
    · omega
  have hoa : ∀ x, x < gN h → a ≤ x → x < a + 8 → ow x = a ∧ gK h a = 2 := fun x hx h1 h2 => by
    rcases hcase with ⟨e1, e2⟩ | ⟨-, e2⟩
    · have h3 := (i2 k hk e1).2.2 (x - a) (by omega)
      rw [← e2, show a + (x - a) = x by omega] at h3
      exact ⟨h3, by rw [e2]; exact (i2 k hk e1).2.1.lk.1⟩
    · omega
  have hO : ∀ x, x < gN h → (fun x => if a ≤ x ∧ x < a + 8 then a else ow x) x = ow x := fun x hx => by
    by_cases e : a ≤ x ∧ x < a + 8
    · simp only [if_pos e]; exact (hoa x hx e.1 e.2).1.symm
    · simp only [if_neg e]
  have near : ∀ j, j < 47 → j ≠ 20 → SmX h h' (c + j) := fun j hj h20 => hSm _ (by omega) (by omega) (by omega)
  have s0 : SmX h h' 0 := hSm 0 (by omega) (by omega) (by omega)
  have sc : SmX h h' c := near 0 (by omega) (by omega)
  -- the other blocks
  have far : ∀ x b, x < gN h → c + 47 ≤ x → ow x = b → (b = a → gK h a = 2 → False) → SmX h h' x := fun x b hx h1 h2 h3 => by
    refine hSm x hx (by omega) (fun e => ?_)
    obtain ⟨e1, e2⟩ := hoa x hx e.1 (by omega)
    exact h3 (h2.symm.trans e1) e2
  have hqa : ∀ j, j < mx → q j ≠ a := fun j hj e => by
    rcases hcase with ⟨e1, e2⟩ | ⟨-, e2⟩
    · exact hd j k hj hk e1 (e.trans e2)
    · have := (hPa.2.2.1 j hj).1; omega
  refine ⟨m1.keep (fun j hj => hK _ (by omega)) (fun f _ _ _ _ _ _ => sc.2.2.1 f) (near 25 (by omega) (by omega)).2.2.2.2, ⟨⟨s1, (s0.2.2.1 _).trans s2⟩, ⟨s3, (s0.2.2.1 _).trans s4⟩, ⟨s5, (s0.2.2.1 _).trans s6⟩, by omega⟩, ⟨m3, by omega⟩, ⟨(sc.2.2.1 6).trans g1, (sc.2.2.1 8).trans g2, (sc.2.2.1 16).trans g3, (sc.2.2.1 22).trans g4⟩, fun i hi => ((near 2 (by omega) (by omega)).2.2.2.1 i).trans (m5 i hi), m6.keep hX.1.1 (fun j hj => by rw [Nat.add_assoc]; exact near (3 + j) (by omega) (by omega)) hP, m7.keep (fun j hj => by rw [Nat.add_assoc]; exact near (11 + j) (by omega) (by omega)), (fun x => if a ≤ x ∧ x < a + 8 then a else ow x), q, mx, upN u k a, w, tr, ?_, ?_, ?_, ?_, ?_⟩
  · exact hPa.keep rfl (fun j hj => ⟨rfl, (hX.2.1.2 j hj).1⟩) hN hO (near 19 (by omega) (by omega)).2.2.2.2 (fun j hj i hi => by
      obtain ⟨⟨a1, a2⟩, -, a4⟩ := hPa.2.2.1 j hj
      exact far (q j + i) (q j) (by omega) (by omega) (a4 i hi) (fun e _ => hqa j hj e)) hP
  · refine ⟨fun j hj => ?_, fun j hj hx => ?_, fun h0 h1 => ?_⟩
    · rw [hR j]
      show (if j = k then some a else gR h (c + 20) j) = if (if j = k then true else xk X j) = true then some (if j = k then a else u j) else none
      by_cases e : j = k
      · rw [if_pos e, if_pos e, if_pos rfl, if_pos e]
      · rw [if_neg e, if_neg e, if_neg e]; exact i1 j hj
    · by_cases e : j = k
      · subst e
        have eu : upN u j a j = a := if_pos rfl
        rw [eu]
        refine ⟨⟨hal, hNa⟩, ?_, fun i hi => if_pos (by omega)⟩
        show LF h' a (if j = j then xs X else xB X j)
        rw [if_pos rfl]; exact hLF
      · have hx' : xk X j = true := by
          have h2 : (if j = k then true else xk X j) = true := hx
          rw [if_neg e] at h2; exact h2
        have eu : upN u k a j = u j := if_neg e
        rw [eu]
        obtain ⟨⟨a1, a2⟩, a3, a4⟩ := i2 j hj hx'
        refine ⟨⟨a1, by omega⟩, ?_, fun i hi => (hO _ (by omega)).trans (a4 i hi)⟩
        show LF h' (u j) (if j = k then xs X else xB X j)
        rw [if_neg e]
        refine a3.keep (hX.2.2.1 j hj hx').1 (fun i hi => far (u j + i) (u j) (by omega) (by omega) (a4 i hi) (fun e2 _ => ?_)) hP
        rcases hcase with ⟨f1, f2⟩ | ⟨-, f2⟩
        · obtain ⟨rfl, rfl⟩ | ⟨rfl, rfl⟩ : (j = 0 ∧ k = 1) ∨ (j = 1 ∧ k = 0) := by omega
          · exact i3 hx' f1 (e2.trans f2)
          · exact i3 f1 hx' (e2.trans f2).symm
        · omega
    · have h0' : (if 0 = k then true else xk X 0) = true := h0
      have h1' : (if 1 = k then true else xk X 1) = true := h1
      show (if 0 = k then a else u 0) ≠ (if 1 = k then a else u 1)
      obtain rfl | rfl : k = 0 ∨ k = 1 := by omega
      · rw [if_pos rfl, if_neg (by omega)]
        rw [if_neg (by omega)] at h1'
        intro e
        rcases hcase with ⟨f1, f2⟩ | ⟨-, f2⟩
        · exact i3 f1 h1' (f2.symm.trans e)
        · have := (i2 1 (by omega) h1').1; omega
      · rw [if_neg (by omega), if_pos rfl]
        rw [if_neg (by omega)] at h0'
        intro e
        rcases hcase with ⟨f1, f2⟩ | ⟨-, f2⟩
        · exact i3 h0' f1 (e.trans f2)
        · have := (i2 0 (by omega) h0').1; omega
  · exact hRo.keep (fun _ _ => rfl) hN hO (near 1 (by omega) (by omega)).2.2.2.2 (fun r hr hx i hi => by
      obtain ⟨v, hv⟩ := Option.isSome_iff_exists.mp hx
      obtain ⟨-, ⟨a1, a2⟩, ⟨a3, -⟩, -, a4, a5⟩ := hRo.2.1 r hr v hv
      obtain rfl | rfl : i = 0 ∨ i = 1 := by omega
      · exact far (w r + 0) (w r) (by omega) (by omega) a4 (fun e e2 => by rw [← e, a3] at e2; omega)
      · exact far (w r + 1) (w r) (by omega) (by omega) a5 (fun e e2 => by rw [← e, a3] at e2; omega))
  · refine hTr.keep rfl hN hO (sc.2.2.1 21) (fun i hi => ?_)
    obtain ⟨-, a1, a2, ⟨a3, -⟩, -, a4, a5⟩ := hTr
    rcases a1 with e | e
    · rw [e, Nat.add_assoc]; exact near (21 + i) (by omega) (by omega)
    · obtain rfl | rfl : i = 0 ∨ i = 1 := by omega
      · exact far (tr + 0) tr (by omega) (by omega) a4 (fun e e2 => by rw [← e, a3] at e2; omega)
      · exact far (tr + 1) tr (by omega) (by omega) a5 (fun e e2 => by rw [← e, a3] at e2; omega)
  · intro j k' hj hk' hx
    show q j ≠ (if k' = k then a else u k')
    by_cases e : k' = k
    · rw [if_pos e]; exact hqa j hj
    · rw [if_neg e]
      have hx' : (if k' = k then true else xk X k') = true := hx
      rw [if_neg e] at hx'
      exact hd j k' hj hk' hx'
theorem CInv.past {h h' : Hp} {c a : Nat} {X : XS} (H : CInv h c X) (hX : XOK X) (hm : xm X < 24) (hN : gN h ≤ gN h') (ha : gR h (c + 19) (xm X) = some a ∨ (gR h (c + 19) (xm X) = none ∧ gN h ≤ a)) (hNa : a + 8 ≤ gN h') (hSm : ∀ x, x < gN h → x ≠ c → x ≠ c + 19 → ¬ (a ≤ x ∧ x ≤ a + 7 ∧ x ≠ a + 5) → SmX h h' x) (hK : ∀ x, x < gN h → gK h' x = gK h x ∧ gL h' x = gL h x) (hf : ∀ f, f ≠ 16 → gF h' f c = gF h f c) (h16 : gF h' 16 c = .int (nI (xm X + 1))) (hR : ∀ i, gR h' (c + 19) i = if i = xm X then some a else gR h (c + 19) i) (hLF : LF h' a (xs X)) : CInv h' c (um (uA X (upS (xA X) (xm X) (xs X))) (xm X + 1)) := by
  obtain ⟨m1, ⟨⟨s1, s2⟩, ⟨s3, s4⟩, ⟨s5, s6⟩, s7⟩, ⟨m3, m4⟩, ⟨g1, g2, g3, g4⟩, m5, m6, m7, ow, q, mx, u, w, tr, hPa, hIm, hRo, hTr, hd⟩ := H
  obtain ⟨⟨i1, i1'⟩, i2, i3, i4, i5⟩ := hPa
  have hcase : (xm X < mx ∧ a = q (xm X)) ∨ (xm X = mx ∧ gN h ≤ a) := by
    have h1 := i2 (xm X) hm
    by_cases hx : xm X < mx
    · rw [if_pos hx] at h1
      rcases ha with e | ⟨e, -⟩
      · rw [h1] at e; injection e with e; exact Or.inl ⟨hx, e.symm⟩
      · rw [h1] at e; cases e
    · rw [if_neg hx] at h1
      rcases ha with e | ⟨-, e⟩
      · rw [h1] at e; cases e
      · exact Or.inr ⟨by omega, e⟩
  have hal : c + 47 ≤ a := by
    rcases hcase with ⟨e1, e2⟩ | ⟨-, e2⟩
    · have := (i3 _ e1).1.1; omega
    · omega
  have hP : PrL h h' := by
    refine ⟨hN, fun x hx hkx => hSm x hx (fun e => by rw [e, m1.k0] at hkx; omega) (fun e => by rw [e, m1.k19] at hkx; omega) ?_⟩
    rcases hcase with ⟨e1, e2⟩ | ⟨-, e2⟩
    · rw [e2]; exact (i3 _ e1).2.1.lk.no hkx
    · omega
  have hoa : ∀ x, x < gN h → a ≤ x → x < a + 8 → ow x = a ∧ gK h a = 2 := fun x hx h1 h2 => by
    rcases hcase with ⟨e1, e2⟩ | ⟨-, e2⟩
    · have h3 := (i3 _ e1).2.2 (x - a) (by omega)
      rw [← e2, show a + (x - a) = x by omega] at h3
      exact ⟨h3, by rw [e2]; exact (i3 _ e1).2.1.lk.1⟩
    · omega
  have hO : ∀ x, x < gN h → (fun x => if a ≤ x ∧ x < a + 8 then a else ow x) x = ow x := fun x hx => by
    by_cases e : a ≤ x ∧ x < a + 8
    · simp only [if_pos e]; exact (hoa x hx e.1 e.2).1.symm
    · simp only [if_neg e]
  have near : ∀ j, j < 47 → j ≠ 0 → j ≠ 19 → SmX h h' (c + j) := fun j hj h0 h20 => hSm _ (by omega) (by omega) (by omega) (by omega)
  have s0 : SmX h h' 0 := hSm 0 (by omega) (by omega) (by omega) (by omega)
  have far : ∀ x b, x < gN h → c + 47 ≤ x → ow x = b → (b = a → gK h a = 2 → False) → SmX h h' x := fun x b hx h1 h2 h3 => by
    refine hSm x hx (by omega) (by omega) (fun e => ?_)
    obtain ⟨e1, e2⟩ := hoa x hx e.1 (by omega)
    exact h3 (h2.symm.trans e1) e2
  have hqa : ∀ j, j < mx → j ≠ xm X → q j ≠ a := fun j hj hne e => by
    rcases hcase with ⟨e1, e2⟩ | ⟨-, e2⟩
    · exact hne (i5 j (xm X) hj e1 (e.trans e2))
    · have := (i3 j hj).1; omega
  have hua : ∀ k, k < 2 → xk X k = true → u k ≠ a := fun k hk hx e => by
    rcases hcase with ⟨e1, e2⟩ | ⟨-, e2⟩
    · exact hd (xm X) k e1 hk hx (e2.symm.trans e.symm)
    · have := (hIm.2.1 k hk hx).1; omega
  have hmx : (if xm X < mx then mx else mx + 1) ≤ 24 ∧ xm X + 1 ≤ (if xm X < mx then mx else mx + 1) ∧ mx ≤ (if xm X < mx then mx else mx + 1) ∧ ∀ j, j < (if xm X < mx then mx else mx + 1) → j = xm X ∨ (j < mx ∧ j ≠ xm X) := by
    rcases hcase with ⟨e1, e2⟩ | ⟨e1, e2⟩
    · rw [if_pos e1]; exact ⟨by omega, by omega, by omega, fun j hj => by omega⟩
    · rw [if_neg (by omega)]; exact ⟨by omega, by omega, by omega, fun j hj => by omega⟩
  obtain ⟨x1, x2, x3, x4⟩ := hmx
  refine ⟨m1.keep (fun j hj => hK _ (by omega)) (fun f _ _ h3 _ _ _ => hf f h3) (near 25 (by omega) (by omega) (by omega)).2.2.2.2, ⟨⟨s1, (s0.2.2.1 _).trans s2⟩, ⟨s3, (s0.2.2.1 _).trans s4⟩, ⟨s5, (s0.2.2.1 _).trans s6⟩, by omega⟩, ⟨m3, by omega⟩, ⟨(hf 6 (by decide)).trans g1, (hf 8 (by decide)).trans g2, h16, (hf 22 (by decide)).trans g4⟩, fun i hi => ((near 2 (by omega) (by omega) (by omega)).2.2.2.1 i).trans (m5 i hi), m6.keep hX.1.1 (fun j hj => by rw [Nat.add_assoc]; exact near (3 + j) (by omega) (by omega) (by omega)) hP, m7.keep (fun j hj => by rw [Nat.add_assoc]; exact near (11 + j) (by omega) (by omega) (by omega)), (fun x => if a ≤ x ∧ x < a + 8 then a else ow x), upN q (xm X) a, (if xm X < mx then mx else mx + 1), u, w, tr, ?_, ?_, ?_, ?_, ?_⟩
  · have eq1 : upN q (xm X) a (xm X) = a := if_pos rfl
    have eq2 : ∀ j, j ≠ xm X → upN q (xm X) a j = q j := fun j hj => if_neg hj
    have hsm : ∀ j, j < mx → j ≠ xm X → SmB h h' (q j) 8 := fun j hj hne i hi => by
      obtain ⟨⟨a1, a2⟩, -, a4⟩ := i3 j hj
      exact far (q j + i) (q j) (by omega) (by omega) (a4 i hi) (fun e _ => hqa j hj hne e)
    refine ⟨⟨x2, x1⟩, fun j hj => ?_, fun j hj => ?_, fun j hj => ?_, fun j k hj hk e => ?_⟩
    · rw [hR j]
      by_cases e : j = xm X
      · rw [if_pos e, e, eq1, if_pos (by omega)]
      · rw [if_neg e, eq2 j e, i2 j hj]
        by_cases hlt : j < mx
        · rw [if_pos hlt, if_pos (by omega)]
        · rw [if_neg hlt, if_neg (fun q => by have := x4 j q; omega)]
    · rcases x4 j hj with e | ⟨e1, e2⟩
      · rw [e, eq1]
        exact ⟨⟨hal, hNa⟩, hLF.any, fun i hi => if_pos (by omega)⟩
      · rw [eq2 j e2]
        obtain ⟨⟨a1, a2⟩, a3, a4⟩ := i3 j e1
        exact ⟨⟨a1, by omega⟩, a3.keep (hsm j e1 e2), fun i hi => (hO _ (by omega)).trans (a4 i hi)⟩
    · have hj' : j < xm X + 1 := hj
      show LF h' (upN q (xm X) a j) (if j = xm X then xs X else xA X j)
      by_cases e : j = xm X
      · rw [if_pos e, e, eq1]; exact hLF
      · rw [if_neg e, eq2 j e]
        exact (i4 j (by omega)).keep (hX.2.1.2 j (by omega)).1 (hsm j (by omega) e) hP
    · rcases x4 j hj with e1 | ⟨e1, e2⟩
      · rcases x4 k hk with f1 | ⟨f1, f2⟩
        · omega
        · rw [e1, eq1, eq2 k f2] at e; exact absurd e.symm (hqa k f1 f2)
      · rcases x4 k hk with f1 | ⟨f1, f2⟩
        · rw [f1, eq1, eq2 j e2] at e; exact absurd e (hqa j e1 e2)
        · rw [eq2 j e2, eq2 k f2] at e; exact i5 j k e1 f1 e
  · exact hIm.keep (fun _ _ => rfl) (fun k hk hx => ⟨rfl, (hX.2.2.1 k hk hx).1⟩) hN hO (near 20 (by omega) (by omega) (by omega)).2.2.2.2 (fun k hk hx i hi => by
      obtain ⟨⟨a1, a2⟩, -, a4⟩ := hIm.2.1 k hk hx
      exact far (u k + i) (u k) (by omega) (by omega) (a4 i hi) (fun e _ => hua k hk hx e)) hP
  · exact hRo.keep (fun _ _ => rfl) hN hO (near 1 (by omega) (by omega) (by omega)).2.2.2.2 (fun r hr hx i hi => by
      obtain ⟨v, hv⟩ := Option.isSome_iff_exists.mp hx
      obtain ⟨-, ⟨a1, a2⟩, ⟨a3, -⟩, -, a4, a5⟩ := hRo.2.1 r hr v hv
      obtain rfl | rfl : i = 0 ∨ i = 1 := by omega
      · exact far (w r + 0) (w r) (by omega) (by omega) a4 (fun e e2 => by rw [← e, a3] at e2; omega)
      · exact far (w r + 1) (w r) (by omega) (by omega) a5 (fun e e2 => by rw [← e, a3] at e2; omega))
  · refine hTr.keep rfl hN hO (hf 21 (by decide)) (fun i hi => ?_)
    obtain ⟨-, a1, a2, ⟨a3, -⟩, -, a4, a5⟩ := hTr
    rcases a1 with e | e
    · rw [e, Nat.add_assoc]; exact near (21 + i) (by omega) (by omega) (by omega)
    · obtain rfl | rfl : i = 0 ∨ i = 1 := by omega
      · exact far (tr + 0) tr (by omega) (by omega) a4 (fun e e2 => by rw [← e, a3] at e2; omega)
      · exact far (tr + 1) tr (by omega) (by omega) a5 (fun e e2 => by rw [← e, a3] at e2; omega)
  · intro j k' hj hk' hx
    show (if j = xm X then a else q j) ≠ u k'
    rcases x4 j hj with e1 | ⟨e1, e2⟩
    · rw [if_pos e1]; exact fun e => hua k' hk' hx e.symm
    · rw [if_neg e2]; exact hd j k' e1 hk' hx
/-- the oldest of them goes to the end -/
def rotG (G : Nat → Option Nat) (k : Nat) : Nat → Option Nat := fun j => if j + 1 < k then G (j + 1) else G j
theorem CInv.rot {h h' : Hp} {c : Nat} {X : XS} (H : CInv h c X) (hX : XOK X) (hm : xm X = 24) (hN : gN h = gN h') (hSm : ∀ x, x < gN h → x ≠ c → x ≠ c + 19 → SmX h h' x) (hK : ∀ x, x < gN h → gK h' x = gK h x ∧ gL h' x = gL h x) (hf : ∀ f, f ≠ 16 → gF h' f c = gF h f c) (h16 : gF h' 16 c = .int (nI 23)) (hR : ∀ i, i < 24 → gR h' (c + 19) i = if i < 23 then gR h (c + 19) (i + 1) else gR h (c + 19) 0) : CInv h' c (um (uA X (fun j => if j < 23 then xA X (j + 1) else xA X j)) 23) := by
  obtain ⟨m1, ⟨⟨s1, s2⟩, ⟨s3, s4⟩, ⟨s5, s6⟩, s7⟩, ⟨m3, m4⟩, ⟨g1, g2, g3, g4⟩, m5, m6, m7, ow, q, mx, u, w, tr, hPa, hIm, hRo, hTr, hd⟩ := H
  have hP : PrL h h' := ⟨by omega, fun x hx hkx => hSm x hx (fun e => by rw [e, m1.k0] at hkx; omega) (fun e => by rw [e, m1.k19] at hkx; omega)⟩
  have near : ∀ j, j < 47 → j ≠ 0 → j ≠ 19 → SmX h h' (c + j) := fun j hj h0 h20 => hSm _ (by omega) (by omega) (by omega)
  have s0 : SmX h h' 0 := hSm 0 (by omega) (by omega) (by omega)
  have far : ∀ x, x < gN h → c + 47 ≤ x → SmX h h' x := fun x hx h1 => hSm x hx (by omega) (by omega)
  obtain ⟨⟨i1, i1'⟩, i2, i3, i4, i5⟩ := hPa
  have emx : mx = 24 := by omega
  subst emx
  refine ⟨m1.keep (fun j hj => hK _ (by omega)) (fun f _ _ h3 _ _ _ => hf f h3) (near 25 (by omega) (by omega) (by omega)).2.2.2.2, ⟨⟨s1, (s0.2.2.1 _).trans s2⟩, ⟨s3, (s0.2.2.1 _).trans s4⟩, ⟨s5, (s0.2.2.1 _).trans s6⟩, by omega⟩, ⟨m3, by omega⟩, ⟨(hf 6 (by decide)).trans g1, (hf 8 (by decide)).trans g2, h16, (hf 22 (by decide)).trans g4⟩, fun i hi => ((near 2 (by omega) (by omega) (by omega)).2.2.2.1 i).trans (m5 i hi), m6.keep hX.1.1 (fun j hj => by rw [Nat.add_assoc]; exact near (3 + j) (by omega) (by omega) (by omega)) hP, m7.keep (fun j hj => by rw [Nat.add_assoc]; exact near (11 + j) (by omega) (by omega) (by omega)), ow, (fun j => if j < 23 then q (j + 1) else q 0), 24, u, w, tr, ?_, ?_, ?_, ?_, ?_⟩
  · have hsm : ∀ j, j < 24 → SmB h h' (q j) 8 := fun j hj i hi => by
      obtain ⟨⟨a1, a2⟩, -⟩ := i3 j hj
      exact far (q j + i) (by omega) (by omega)
    refine ⟨⟨show 23 ≤ 24 by omega, by omega⟩, fun j hj => ?_, fun j hj => ?_, fun j hj => ?_, fun j k hj hk e => ?_⟩
    · rw [hR j hj, if_pos hj]
      show _ = some (if j < 23 then q (j + 1) else q 0)
      by_cases e : j < 23
      · rw [if_pos e, if_pos e, i2 _ (by omega), if_pos (by omega)]
      · rw [if_neg e, if_neg e, i2 _ (by omega), if_pos (by omega)]
    · have key : ∀ k, k < 24 → (c + 47 ≤ q k ∧ q k + 8 ≤ gN h') ∧ LA h' (q k) ∧ ∀ i, i < 8 → ow (q k + i) = q k := fun k hk => by
        obtain ⟨⟨a1, a2⟩, a3, a4⟩ := i3 k hk
        exact ⟨⟨a1, by omega⟩, a3.keep (hsm k hk), a4⟩
      by_cases e : j < 23
      · simp only [if_pos e]; exact key (j + 1) (by omega)
      · simp only [if_neg e]; exact key 0 (by omega)
    · have hj' : j < 23 := hj
      show LF h' (if j < 23 then q (j + 1) else q 0) (if j < 23 then xA X (j + 1) else xA X j)
      rw [if_pos hj', if_pos hj']
      exact (i4 (j + 1) (by omega)).keep (hX.2.1.2 (j + 1) (by omega)).1 (hsm _ (by omega)) hP
    · have hqq : ∀ a b, a < 24 → b < 24 → q a = q b → a = b := fun a b ha hb => i5 a b ha hb
      by_cases e1 : j < 23
      · by_cases e2 : k < 23
        · simp only [if_pos e1, if_pos e2] at e; have := hqq _ _ (by omega) (by omega) e; omega
        · simp only [if_pos e1, if_neg e2] at e; have := hqq _ _ (by omega) (by omega) e; omega
      · by_cases e2 : k < 23
        · simp only [if_neg e1, if_pos e2] at e; have := hqq _ _ (by omega) (by omega) e; omega
        · omega
  · exact hIm.keep (fun _ _ => rfl) (fun k hk hx => ⟨rfl, (hX.2.2.1 k hk hx).1⟩) (by omega) (fun _ _ => rfl) (near 20 (by omega) (by omega) (by omega)).2.2.2.2 (fun k hk hx i hi => by
      obtain ⟨⟨a1, a2⟩, -⟩ := hIm.2.1 k hk hx
      exact far (u k + i) (by omega) (by omega)) hP
  · exact hRo.keep (fun _ _ => rfl) (by omega) (fun _ _ => rfl) (near 1 (by omega) (by omega) (by omega)).2.2.2.2 (fun r hr hx i hi => by
      obtain ⟨v, hv⟩ := Option.isSome_iff_exists.mp hx
      obtain ⟨-, ⟨a1, a2⟩, -⟩ := hRo.2.1 r hr v hv
      exact far (w r + i) (by omega) (by omega))
  · refine hTr.keep rfl (by omega) (fun _ _ => rfl) (hf 21 (by decide)) (fun i hi => ?_)
    obtain ⟨-, a1, a2, -⟩ := hTr
    rcases a1 with e | e
    · rw [e, Nat.add_assoc]; exact near (21 + i) (by omega) (by omega) (by omega)
    · exact far (tr + i) (by omega) (by omega)
  · intro j k' hj hk' hx
    show (if j < 23 then q (j + 1) else q 0) ≠ u k'
    by_cases e : j < 23
    · rw [if_pos e]; exact hd _ k' (by omega) hk' hx
    · rw [if_neg e]; exact hd _ k' (by omega) hk' hx
