/-! A NIGHT KEEPS A LIBRARY WHAT IT IS -/
theorem wr_ne {s : St} {i v j : Nat} (h : j ≠ i) : wr s i v j = s j := if_neg h
theorem wr_eq (s : St) (i v : Nat) : ((wr s i v i : Fin 4096) : Nat) = v % 4096 := by rw [wr_at, if_pos rfl]
theorem wr_id {s : St} {i v : Nat} (h : (s i : Nat) = v) : wr s i v = s := by
  funext j
  refine Fin.ext ?_
  rw [wr_at]
  split
  · rename_i e; rw [e, ← h, Nat.mod_eq_of_lt (s i).isLt]
  · rfl
theorem bookAt_cg {s s' : St} (h : ∀ j, j < 6 → s' (20 + j) = s (20 + j)) (w : Nat) : bookAt s' w = bookAt s w := by
  unfold bookAt
  simp only [bkF, h 0 (by omega), h (0 + 1) (by omega), h (0 + 1 + 1) (by omega), h (0 + 1 + 1 + 1) (by omega), h (0 + 1 + 1 + 1 + 1) (by omega), h (0 + 1 + 1 + 1 + 1 + 1) (by omega)]
theorem WF_mk {s s' : St} (h : WF s) (e0 : s' 0 = s 0) (e1 : s' 1 = s 1) (ep : ∀ j, j < 6 → s' (20 + j) = s (20 + j))
    (hp : ∀ b, b < (s 0 : Nat) → (s' (8 + b) : Nat) ≤ 99 ∧ (s' (14 + b) : Nat) ≤ 9)
    (hf : ∀ f, f < (s 1 : Nat) → (1 ≤ (s' (26 + f) : Nat) ∧ (s' (26 + f) : Nat) ≤ 5) ∧ (s' (31 + f) : Nat) < (s 0 : Nat) ∧ (s' (36 + f) : Nat) ≤ 999)
    (hr : (s' 2 : Nat) ≤ 9 ∧ (s' 3 : Nat) ≤ 8 ∧ (s' 5 : Nat) < 2 ^ (s 0 : Nat) ∧ (s' 6 : Nat) < 2 ^ (s 0 : Nat) ∧ (s' 7 : Nat) < 2 ^ (s 1 : Nat))
    (hh : 0 < (s' 2 : Nat) ↔ 0 < (s 2 : Nat)) : WF s' := by
  obtain ⟨h0, hB, hP, -, -, -, hx, hy⟩ := h
  refine ⟨by rw [e0, e1]; exact h0, fun w hw => ?_, fun b hb => ?_, fun b hb => hp b (by rw [e0] at hb; exact hb), fun f hf' => by rw [e0]; exact hf f (by rw [e1] at hf'; exact hf'), by rw [e0, e1]; exact hr, fun h => by rw [e0, e1]; exact hx (hh.mp h), fun h => by rw [e0, e1]; exact hy (by omega)⟩
  · rw [e0] at hw ⊢
    rw [bookAt_cg ep]
    obtain ⟨q1, q2⟩ := hB w hw
    exact ⟨q1, by rw [ep _ (by omega)]; exact q2⟩
  · rw [e0] at hb ⊢
    rw [ep b (by omega), bookAt_cg ep]
    exact hP b hb
theorem lkd_lt {s : St} {t fr : Nat} {q : Nat × Int} (hx : lkd s t fr = some q) : q.1 < (s 0 : Nat) := by
  have := lf_inv (f := lkS s t fr) (fun j x => ∀ q, x = some q → q.1 < j) (n := s 0) (k := 0) (x := none) (fun q h => by cases h) (fun j y _ _ ih q hq => by
    unfold lkS at hq
    split at hq
    · cases hq; exact Nat.lt_succ_self _
    · exact Nat.lt_succ_of_lt (ih q hq)) q (by
      unfold lkd at hx
      split at hx
      · cases hx
      · exact hx)
  omega
theorem goesTo_lt {s : St} {f : Nat} (hW : WF s) (hf : f < (s 1 : Nat)) : goesTo s f < (s 0 : Nat) := by
  obtain ⟨⟨hM, hN⟩, hB, hP, hG, hF, -⟩ := hW
  obtain ⟨-, hat, -⟩ := hF f hf
  unfold goesTo
  split
  · exact Nat.mod_lt _ (by omega)
  · split
    · cases hx : lkd s (tas (s (26 + f))) (s (31 + f)) with
      | none => exact hat
      | some q =>
        have := lkd_lt hx
        simp only [near]
        split
        · exact hat
        · split <;> omega
    · split
      · exact Nat.mod_lt _ (by omega)
      · exact hat
theorem much_le (s : St) (f : Nat) : much s f ≤ (s (8 + bookAt s (s (31 + f))) : Nat) ∧ much s f ≤ (s 2 : Nat) := by
  unfold much; split <;> omega
theorem WF_goS {s : St} {f : Nat} (hW : WF s) (hf : f < (s 1 : Nat)) : WF (goS s f) := by
  have hlt := goesTo_lt hW hf
  have h := hW
  obtain ⟨⟨hM, hN⟩, hB, hP, hG, hF, hr, -⟩ := hW
  unfold goS
  refine WF_mk h (wr_ne (by omega)) (wr_ne (by omega)) (fun j hj => wr_ne (by omega)) (fun b hb => ?_) (fun k hk => ?_) ?_ ?_
  · rw [wr_ne (by omega), wr_ne (by omega)]; exact hG b hb
  · obtain ⟨q1, q2, q3⟩ := hF k hk
    rw [wr_ne (show 26 + k ≠ 31 + f by omega), wr_ne (show 36 + k ≠ 31 + f by omega), wr_at]
    refine ⟨q1, ?_, q3⟩
    split
    · rw [Nat.mod_eq_of_lt (by omega)]; exact hlt
    · exact q2
  · rw [wr_ne (by omega), wr_ne (by omega), wr_ne (by omega), wr_ne (by omega), wr_ne (by omega)]; exact hr
  · rw [wr_ne (by omega)]
theorem WF_eatS {s : St} {f : Nat} (hW : WF s) (hf : f < (s 1 : Nat)) : WF (eatS s f) := by
  have h := hW
  obtain ⟨⟨hM, hN⟩, hB, hP, hG, hF, hr, -⟩ := hW
  obtain ⟨-, hat, hd⟩ := hF f hf
  obtain ⟨b1, b2⟩ := hB _ hat
  obtain ⟨p1, p2⟩ := hG _ b1
  unfold eatS
  refine WF_mk h ?_ ?_ (fun j hj => ?_) (fun b hb => ?_) (fun k hk => ?_) ?_ ?_
  · rw [wr_ne (by omega), wr_ne (by omega)]
  · rw [wr_ne (by omega), wr_ne (by omega)]
  · rw [wr_ne (by omega), wr_ne (by omega)]
  · rw [wr_ne (show 8 + b ≠ 36 + f by omega), wr_ne (show 14 + b ≠ 36 + f by omega), wr_ne (show 14 + b ≠ 8 + bookAt s (s (31 + f)) by omega), wr_at]
    refine ⟨?_, (hG b hb).2⟩
    split
    · rw [Nat.mod_eq_of_lt (by omega)]; omega
    · exact (hG b hb).1
  · obtain ⟨q1, q2, q3⟩ := hF k hk
    rw [wr_ne (show 26 + k ≠ 36 + f by omega), wr_ne (show 26 + k ≠ 8 + bookAt s (s (31 + f)) by omega), wr_ne (show 31 + k ≠ 36 + f by omega), wr_ne (show 31 + k ≠ 8 + bookAt s (s (31 + f)) by omega), wr_at]
    refine ⟨q1, q2, ?_⟩
    split
    · rw [Nat.mod_eq_of_lt (by omega)]; omega
    · rw [wr_ne (by omega)]; exact q3
  · rw [wr_ne (by omega), wr_ne (by omega), wr_ne (by omega), wr_ne (by omega), wr_ne (by omega), wr_ne (by omega), wr_ne (by omega), wr_ne (by omega), wr_ne (by omega), wr_ne (by omega)]; exact hr
  · rw [wr_ne (by omega), wr_ne (by omega)]
theorem goS_ne {s : St} {f j : Nat} (h : j ≠ 31 + f) : goS s f j = s j := wr_ne h
theorem eatS_ne {s : St} {f j : Nat} (h : j ≠ 36 + f) (h2 : j < 8 ∨ 14 ≤ j) (hb : bookAt s (s (31 + f)) < 6) : eatS s f j = s j := by
  unfold eatS; rw [wr_ne h, wr_ne (by omega)]
/-- what stays all through a night's moves -/
theorem WF_at {s : St} {f : Nat} (hW : WF s) (hf : f < (s 1 : Nat)) : bookAt s (s (31 + f)) < 6 := by
  obtain ⟨⟨hM, hN⟩, hB, hP, hG, hF, -⟩ := hW
  have := (hB _ (hF f hf).2.1).1
  omega
theorem fishS_ok {x : St × (Nat → Nat)} {f : Nat} (hW : WF x.1) (hf : f < (x.1 1 : Nat)) : WF (fishS f x).1 ∧ (∀ j, j < 8 → (fishS f x).1 j = x.1 j) ∧ (∀ j, 14 ≤ j → j < 31 → (fishS f x).1 j = x.1 j) := by
  unfold fishS
  split
  · exact ⟨hW, fun _ _ => rfl, fun _ _ _ => rfl⟩
  · have h1 := WF_goS hW hf
    have hf1 : f < (goS x.1 f 1 : Nat) := by rw [goS_ne (by omega)]; exact hf
    have h6 := WF_at h1 hf1
    refine ⟨WF_eatS h1 hf1, fun j hj => ?_, fun j hj hj2 => ?_⟩
    · show eatS (goS x.1 f) f j = _
      rw [eatS_ne (by omega) (by omega) h6, goS_ne (by omega)]
    · show eatS (goS x.1 f) f j = _
      rw [eatS_ne (by omega) (by omega) h6, goS_ne (by omega)]
theorem fishL_ok {x : St × (Nat → Nat)} {n : Nat} (hW : WF x.1) (hn : n ≤ (x.1 1 : Nat)) : WF (lf fishS n 0 x).1 ∧ (∀ j, j < 8 → (lf fishS n 0 x).1 j = x.1 j) ∧ (∀ j, 14 ≤ j → j < 31 → (lf fishS n 0 x).1 j = x.1 j) := by
  refine lf_inv (f := fishS) (fun _ y => WF y.1 ∧ (∀ j, j < 8 → y.1 j = x.1 j) ∧ (∀ j, 14 ≤ j → j < 31 → y.1 j = x.1 j)) ⟨hW, fun _ _ => rfl, fun _ _ _ => rfl⟩ (fun k y h0 hk hy => ?_)
  obtain ⟨h1, h2, h3⟩ := hy
  obtain ⟨q1, q2, q3⟩ := fishS_ok (x := y) (f := k) h1 (by rw [h2 1 (by omega)]; omega)
  exact ⟨q1, fun j hj => (q2 j hj).trans (h2 j hj), fun j hj hj2 => (q3 j hj hj2).trans (h3 j hj hj2)⟩
theorem pasteS_ok {s : St} {k : Nat} (hW : WF s) (hk : k < (s 0 : Nat)) : WF (pasteS k s) ∧ (∀ j, j < 14 ∨ 20 ≤ j → pasteS k s j = s j) := by
  unfold pasteS
  split
  · rename_i hc
    have h := hW
    obtain ⟨⟨hM, hN⟩, hB, hP, hG, hF, hr, -⟩ := hW
    have e : ∀ j, j < 14 ∨ 20 ≤ j → wr s (14 + k) ((s (14 + k) : Nat) + 1) j = s j := fun j hj => wr_ne (by omega)
    refine ⟨WF_mk h (e 0 (by omega)) (e 1 (by omega)) (fun j hj => e _ (by omega)) (fun b hb => ?_) (fun f hf => ?_) ?_ ?_, e⟩
    · rw [e _ (by omega), wr_at]
      refine ⟨(hG b hb).1, ?_⟩
      split
      · rw [Nat.mod_eq_of_lt (by omega)]; omega
      · exact (hG b hb).2
    · rw [e _ (by omega), e _ (by omega), e _ (by omega)]; exact hF f hf
    · rw [e _ (by omega), e _ (by omega), e _ (by omega), e _ (by omega), e _ (by omega)]; exact hr
    · rw [e _ (by omega)]
  · exact ⟨hW, fun _ _ => rfl⟩
theorem pasteL_ok {s : St} {n : Nat} (hW : WF s) (hn : n ≤ (s 0 : Nat)) : WF (lf pasteS n 0 s) ∧ (∀ j, j < 14 ∨ 20 ≤ j → lf pasteS n 0 s j = s j) := by
  refine lf_inv (f := pasteS) (fun _ y => WF y ∧ (∀ j, j < 14 ∨ 20 ≤ j → y j = s j)) ⟨hW, fun _ _ => rfl⟩ (fun k y h0 hk hy => ?_)
  obtain ⟨h1, h2⟩ := hy
  obtain ⟨q1, q2⟩ := pasteS_ok (s := y) (k := k) h1 (by rw [h2 0 (by omega)]; omega)
  exact ⟨q1, fun j hj => (q2 j hj).trans (h2 j hj)⟩
theorem WF_w4 {s : St} (hW : WF s) (v : Nat) : WF (wr s 4 v) := by
  have h := hW
  obtain ⟨⟨hM, hN⟩, hB, hP, hG, hF, hr, -⟩ := hW
  refine WF_mk h (wr_ne (by omega)) (wr_ne (by omega)) (fun j hj => wr_ne (by omega)) (fun b hb => ?_) (fun f hf => ?_) ?_ ?_
  · rw [wr_ne (by omega), wr_ne (by omega)]; exact hG b hb
  · rw [wr_ne (by omega), wr_ne (by omega), wr_ne (by omega)]; exact hF f hf
  · rw [wr_ne (by omega), wr_ne (by omega), wr_ne (by omega), wr_ne (by omega), wr_ne (by omega)]; exact hr
  · rw [wr_ne (by omega)]
theorem night2_ok {s : St} (hW : WF s) : WF (night2 s) ∧ (∀ j, j ≠ 4 → j < 14 ∨ 20 ≤ j → night2 s j = s j) ∧ (night2 s 4 : Nat) = ((s 4 : Nat) + 1) % 4096 := by
  unfold night2
  refine ⟨WF_w4 ?_ _, fun j hj hj2 => ?_, wr_eq _ _ _⟩
  · split
    · exact (pasteL_ok hW (Nat.le_refl _)).1
    · exact hW
  · rw [wr_ne hj]
    split
    · exact (pasteL_ok hW (Nat.le_refl _)).2 j hj2
    · rfl
theorem nightG_ok {x : St × (Nat → Nat)} (hW : WF x.1) : WF (nightG x).1 ∧ (∀ j, j < 8 → j ≠ 4 → (nightG x).1 j = x.1 j) ∧ (∀ j, 20 ≤ j → j < 31 → (nightG x).1 j = x.1 j) ∧ ((nightG x).1 4 : Nat) = ((x.1 4 : Nat) + 1) % 4096 := by
  obtain ⟨h1, h2, h3⟩ := fishL_ok hW (Nat.le_refl _)
  obtain ⟨q1, q2, q3⟩ := night2_ok h1
  refine ⟨q1, fun j hj hj4 => ?_, fun j hj hj2 => ?_, ?_⟩
  · exact (q2 j hj4 (by omega)).trans (h2 j hj)
  · exact (q2 j (by omega) (by omega)).trans (h3 j (by omega) hj2)
  · rw [← h2 4 (by omega)]; exact q3
/-- the library's own part of a night doesn't ask for what was noted beside -/
theorem fishS_1 (f : Nat) (s : St) (g g' : Nat → Nat) : (fishS f (s, g)).1 = (fishS f (s, g')).1 := by
  unfold fishS; simp only; split <;> rfl
theorem fishL_1 (n k : Nat) (s : St) (g g' : Nat → Nat) : (lf fishS n k (s, g)).1 = (lf fishS n k (s, g')).1 := by
  induction n with
  | zero => rfl
  | succ n ih =>
    rw [lf_end, lf_end]
    have e : ∀ x : St × (Nat → Nat), fishS (k + n) x = fishS (k + n) (x.1, x.2) := fun _ => rfl
    rw [e, e (lf fishS n k (s, g')), ih]
    exact fishS_1 _ _ _ _
theorem nightG_1 (s : St) (g : Nat → Nat) : (nightG (s, g)).1 = night s := by
  unfold night nightG
  exact congrArg night2 (fishL_1 _ _ _ _ _)
theorem night_ok {s : St} (hW : WF s) : WF (night s) ∧ (∀ j, j < 8 → j ≠ 4 → night s j = s j) ∧ (∀ j, 20 ≤ j → j < 31 → night s j = s j) ∧ (night s 4 : Nat) = ((s 4 : Nat) + 1) % 4096 := nightG_ok (x := (s, fun _ => 0)) hW
/-- so many nights -/
def nts : Nat → St → St
  | 0, s => s
  | n + 1, s => nts n (night s)
def ntG : Nat → St × (Nat → Nat) → St × (Nat → Nat)
  | 0, x => x
  | n + 1, x => ntG n (nightG x)
theorem ntG_1 (n : Nat) (x : St × (Nat → Nat)) : (ntG n x).1 = nts n x.1 := by
  induction n generalizing x with
  | zero => rfl
  | succ n ih =>
    show (ntG n (nightG x)).1 = nts n (night x.1)
    rw [ih, nightG_1 x.1 x.2]
theorem nts_end (n : Nat) (s : St) : nts (n + 1) s = night (nts n s) := by
  induction n generalizing s with
  | zero => rfl
  | succ n ih => exact ih (night s)
theorem ntG_end (n : Nat) (x : St × (Nat → Nat)) : ntG (n + 1) x = nightG (ntG n x) := by
  induction n generalizing x with
  | zero => rfl
  | succ n ih => exact ih (nightG x)
theorem nts_ok {s : St} (hW : WF s) (n : Nat) (hn : (s 4 : Nat) + n < 4096) : WF (nts n s) ∧ (∀ j, j < 8 → j ≠ 4 → nts n s j = s j) ∧ (∀ j, 20 ≤ j → j < 31 → nts n s j = s j) ∧ (nts n s 4 : Nat) = (s 4 : Nat) + n := by
  induction n with
  | zero => exact ⟨hW, fun _ _ _ => rfl, fun _ _ _ => rfl, rfl⟩
  | succ n ih =>
    obtain ⟨i1, i2, i3, i4⟩ := ih (by omega)
    obtain ⟨q1, q2, q3, q4⟩ := night_ok i1
    rw [nts_end]
    refine ⟨q1, fun j h1 h2 => (q2 j h1 h2).trans (i2 j h1 h2), fun j h1 h2 => (q3 j h1 h2).trans (i3 j h1 h2), ?_⟩
    rw [q4, i4, Nat.mod_eq_of_lt (by omega)]; omega
