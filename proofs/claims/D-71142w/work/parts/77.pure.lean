/-! STATES STAY AS THEY MAY BE -/
theorem XOK.uu {X : XS} {u : Nat} (hX : XOK X) (hu : u ≤ 5) : XOK (uu X u) := by
  obtain ⟨x1, x2, x3, x4, x5, x6, x7, x8⟩ := hX
  exact ⟨x1, x2, x3, x4, x5, x6, hu, x8⟩
theorem XOK.ur {X : XS} {r : Nat} {v : Option (Nat × Nat × (Nat → Int32))} (hX : XOK X) (hv : ∀ q, v = some q → q.1 ≤ 2 ∧ q.2.1 ≤ 40) : XOK (ur X (upR (xr X) r v)) := by
  obtain ⟨x1, x2, x3, x4, x5⟩ := hX
  refine ⟨x1, x2, x3, fun j hj q hq => ?_, x5⟩
  have hq' : (if j = r then v else xr X j) = some q := hq
  by_cases e : j = r
  · rw [if_pos e] at hq'; exact hv q hq'
  · rw [if_neg e] at hq'; exact x4 j hj q hq'
theorem x_feed {X : XS} (hX : XOK X) (x : Int32) : XOK (mu_feed X x).2 := by
  unfold mu_feed
  split
  · rename_i hx
    split
    · exact hX
    · rename_i hn
      obtain ⟨k, rfl, q1, q2, q3⟩ := inR_nn hx (by omega)
      obtain ⟨x1, x2, x3, x4, ⟨x5, x6⟩, x7⟩ := hX
      refine ⟨x1, x2, x3, x4, ⟨fun i => ?_, ?_⟩, x7⟩
      · show (if i = xn X then nt (nI k) else xt X i) < 256
        split
        · rw [nt_nn q3]; omega
        · exact x5 i
      · show xn X + 1 ≤ 120; omega
  · exact hX
theorem x_row {X : XS} (hX : XOK X) (x ln n : Int32) : XOK (mu_row X x ln n).2 := by
  unfold mu_row
  split
  · rename_i hx
    split
    · exact hX.uu (by omega)
    · rename_i h0
      obtain ⟨d, rfl, d1, d2, d3⟩ := inR_nn hx.2.1 (by omega)
      obtain ⟨m, rfl, m1, m2, m3⟩ := inR_nn (x := n) (lo := 0) (hi := 40) ⟨by omega, hx.2.2⟩ (by omega)
      refine (hX.ur (fun q hq => ?_)).uu (by omega)
      injection hq with hq
      subst hq
      simp only [nt_nn d3, nt_nn m3]
      omega
  · exact hX
theorem x_set {X : XS} (hX : XOK X) (x i v : Int32) : XOK (mu_set X x i v).2 := by
  unfold mu_set
  split
  · rename_i hx
    obtain ⟨k, rfl, q1, q2, q3⟩ := inR_nn hx (by omega)
    rw [nt_nn q3]
    cases hr : xr X k with
    | none => exact hX.uu (by omega)
    | some q =>
      dsimp only
      split
      · refine (hX.ur (fun q' hq => ?_)).uu (by omega)
        injection hq with hq
        subst hq
        exact hX.2.2.2.1 k (by omega) q hr
      · exact hX.uu (by omega)
  · exact hX
theorem x_drop {X : XS} (hX : XOK X) (x : Int32) : XOK (mu_drop X x).2 := by
  unfold mu_drop
  split
  · cases hr : xr X (nt x) with
    | none => exact hX.uu (by omega)
    | some q => exact (hX.ur (fun q' hq => by cases hq)).uu (by omega)
  · exact hX
theorem x_copy {X : XS} (hX : XOK X) (x i y j n : Int32) : XOK (mu_copy X x i y j n).2 := by
  unfold mu_copy
  split
  · rename_i hx
    obtain ⟨k, rfl, q1, q2, q3⟩ := inR_nn hx.1 (by omega)
    obtain ⟨d, rfl, d1, d2, d3⟩ := inR_nn hx.2 (by omega)
    rw [nt_nn q3, nt_nn d3]
    cases hr : xr X k with
    | none => exact hX.uu (by omega)
    | some p =>
      cases hr2 : xr X d with
      | none => exact hX.uu (by omega)
      | some q =>
        dsimp only
        split
        · split
          · refine (hX.ur (fun q' hq => ?_)).uu (by omega)
            injection hq with hq
            subst hq
            exact hX.2.2.2.1 d (by omega) q hr2
          · exact hX.uu (by omega)
        · exact hX.uu (by omega)
  · exact hX
theorem pTk_k {t : Nat → Nat} {n c : Nat} {x : Nat × St} {q : Nat × Nat} (h : pTk t n c x = .inl q) : q.1 ≤ 3 := by
  unfold pTk at h
  split at h
  · cases h
  · cases h; simp only; omega
theorem pNum_k {t : Nat → Nat} {n lo hi a c : Nat} {x : Nat × St} {q : Nat × Nat} (h : pNum t n lo hi a c x = .inl q) : q.1 ≤ 3 := by
  unfold pNum at h
  split at h
  · exact pTk_k h
  · cases h; simp only; split <;> omega
theorem pOne_k {t : Nat → Nat} {n : Nat} {x : Nat × St} {q : Nat × Nat} (h : pOne t n x = .inl q) : q.1 ≤ 3 := by
  unfold pOne at h
  split at h
  · unfold pFish at h
    split at h
    · cases h; simp only; split <;> omega
    · exact pNum_k h
  · split at h
    · unfold pBook at h
      split at h
      · cases h; simp only; split <;> omega
      · unfold pB at h
        split at h
        · rename_i hq
          cases h
          exact pNum_k hq
        · exact pNum_k h
    · cases h; simp only; omega
theorem pLp_k {t : Nat → Nat} {n : Nat} : ∀ (f : Nat) (x : Nat × St) (q : Nat × Nat), pLp t n f x = .inl q → q.1 ≤ 3 := by
  intro f
  induction f with
  | zero => intro x q h; simp only [pLp] at h; cases h
  | succ f ih =>
    intro x q h
    simp only [pLp] at h
    split at h
    · cases h
    · unfold pB at h
      split at h
      · rename_i hq
        cases h
        exact pOne_k hq
      · exact ih _ q h
theorem pLib_k {t : Nat → Nat} {n : Nat} {q : Nat × Nat} (h : pLib t n = .inl q) : q.1 ≤ 3 := by
  unfold pLib at h
  cases h1 : pTk t n 108 (0, zS) with
  | inl a => rw [h1] at h; simp only [pB] at h; cases h; exact pTk_k h1
  | inr a =>
    rw [h1] at h
    simp only [pB] at h
    cases h2 : pNum t n 1 9 2 44 a with
    | inl b => rw [h2] at h; simp only at h; cases h; exact pNum_k h2
    | inr b =>
      rw [h2] at h
      simp only at h
      cases h3 : pNum t n 0 8 3 59 b with
      | inl d => rw [h3] at h; simp only at h; cases h; exact pNum_k h3
      | inr d =>
        rw [h3] at h
        simp only at h
        exact pLp_k _ _ q h
theorem x_library {X : XS} (hX : XOK X) : XOK (mu_library X).2 := by
  unfold mu_library
  cases hP : pLib (xt X) (xn X) with
  | inl q =>
    have hk := pLib_k hP
    obtain ⟨x1, x2, x3, x4, ⟨x5, x6⟩, x7, x8, x9⟩ := hX
    exact ⟨x1, x2, x3, x4, ⟨x5, show 0 ≤ 120 by omega⟩, x7, x8, hk⟩
  | inr y =>
    obtain ⟨I2, y1⟩ := pLib_ok hP
    have hW := PI_WF I2 y1
    have h2 : 0 < (y.2 2 : Nat) := by have := I2.2.2.2.1.1.1; omega
    exact (hX.un0.um (m := 0) (Nat.zero_le _)).us hW (by have := I2.2.2.2.1.2.2.1; omega) h2
theorem x_undo {X : XS} (hX : XOK X) : XOK (mu_undo X).2 := by
  unfold mu_undo
  split
  · exact hX
  · obtain ⟨a1, a2, a3, -⟩ := hX.2.1.2 (xm X - 1) (by omega)
    exact (hX.um (m := xm X - 1) (by omega)).us a1 a2 a3
theorem x_nig {X : XS} : ∀ n (X : XS), XOK X → 0 < (xs X 2 : Nat) → (xs X 4 : Nat) + n ≤ 999 → XOK (nigX n X) := by
  intro n
  induction n with
  | zero => intro X hX _ _; exact hX
  | succ n ih =>
    intro X hX h2 h4
    have q := night_ok hX.1.1
    have e2 : night (xs X) 2 = xs X 2 := q.2.1 2 (by omega) (by omega)
    have n4 : (night (xs X) 4 : Nat) = (xs X 4 : Nat) + 1 := by rw [q.2.2.2, Nat.mod_eq_of_lt (by omega)]
    exact ih _ ((hX.note h2).us q.1 (by omega) (by rw [e2]; exact h2)) (show 0 < (night (xs X) 2 : Nat) by rw [e2]; exact h2) (show (night (xs X) 4 : Nat) + n ≤ 999 by omega)
theorem x_nights {X : XS} (hX : XOK X) (n : Int32) : XOK (mu_nights X n).2 := by
  unfold mu_nights
  split
  · exact hX
  · split
    · split
      · exact hX
      · exact x_nig (X := X) _ X hX (by omega) (by omega)
    · exact hX
theorem B2 {X : XS} (hX : XOK X) {x : Int32} (hx : isB (xs X) x) : 0 < (xs X 2 : Nat) := by
  obtain ⟨k, rfl, q1, q2, q3⟩ := inR_nn hx (by omega)
  exact Nat.pos_of_ne_zero (fun e => by have := (hX.1.1.2.2.2.2.2.2.2 e).1; omega)
theorem F2 {X : XS} (hX : XOK X) {x : Int32} (hx : isF (xs X) x) : 0 < (xs X 2 : Nat) := by
  obtain ⟨k, rfl, q1, q2, q3⟩ := inR_nn hx (by omega)
  exact Nat.pos_of_ne_zero (fun e => by have := (hX.1.1.2.2.2.2.2.2.2 e).2; omega)
theorem x_light {X : XS} (hX : XOK X) (x v : Int32) : XOK (mu_light X x v).2 := by
  unfold mu_light
  split
  · rename_i hc
    split
    · exact hX
    · have h2 := B2 hX hc.1
      obtain ⟨k, rfl, q1, q2, q3⟩ := inR_nn hc.1 (by omega)
      rw [nt_nn q3]
      have h5 : (xs X 5 : Nat) < 2 ^ (xs X 0 : Nat) := hX.1.1.2.2.2.2.2.1.2.2.1
      have hpw : 2 ^ k < 2 ^ (xs X 0 : Nat) := Nat.pow_lt_pow_right (by decide) (by omega)
      exact (hX.note h2).us (WF_lit hX.1.1 (Nat.xor_lt_two_pow h5 hpw)) (by rw [wr_ne (by omega)]; exact hX.1.2) (by rw [wr_ne (by omega)]; exact h2)
  · exact hX
theorem x_keepIt {X : XS} (hX : XOK X) (x v : Int32) : XOK (mu_keepIt X x v).2 := by
  unfold mu_keepIt
  split
  · rename_i hc
    split
    · exact hX
    · have h2 := B2 hX hc.1
      obtain ⟨k, rfl, q1, q2, q3⟩ := inR_nn hc.1 (by omega)
      rw [nt_nn q3]
      have h6 : (xs X 6 : Nat) < 2 ^ (xs X 0 : Nat) := hX.1.1.2.2.2.2.2.1.2.2.2.1
      have hpw : 2 ^ k < 2 ^ (xs X 0 : Nat) := Nat.pow_lt_pow_right (by decide) (by omega)
      exact (hX.note h2).us (WF_kep hX.1.1 (Nat.xor_lt_two_pow h6 hpw)) (by rw [wr_ne (by omega)]; exact hX.1.2) (by rw [wr_ne (by omega)]; exact h2)
  · exact hX
theorem x_change {X : XS} (hX : XOK X) (x y : Int32) : XOK (mu_change X x y).2 := by
  unfold mu_change
  split
  · rename_i hc
    have h2 := B2 hX hc.1
    obtain ⟨k, rfl, q1, q2, q3⟩ := inR_nn hc.1 (by omega)
    obtain ⟨j, rfl, j1, j2, j3⟩ := inR_nn hc.2.1 (by omega)
    rw [nt_nn q3, nt_nn j3]
    have hkj : k ≠ j := fun e => hc.2.2 (by rw [e])
    obtain ⟨w1, -⟩ := WF_swp (k := k) (j := j) hX.1.1 (by omega) (by omega) hkj
    exact (hX.note h2).us w1 (by unfold swpS; rw [wr_ne (by omega), wr_ne (by omega)]; exact hX.1.2) (by unfold swpS; rw [wr_ne (by omega), wr_ne (by omega)]; exact h2)
  · exact hX
theorem x_move {X : XS} (hX : XOK X) (x y : Int32) : XOK (mu_move X x y).2 := by
  unfold mu_move
  split
  · rename_i hc
    split
    · exact hX
    · have h2 := F2 hX hc.1
      obtain ⟨k, rfl, q1, q2, q3⟩ := inR_nn hc.1 (by omega)
      obtain ⟨j, rfl, j1, j2, j3⟩ := inR_nn hc.2 (by omega)
      rw [nt_nn q3, nt_nn j3]
      exact (hX.note h2).us (WF_ap hX.1.1 (by omega) (by omega)) (by rw [wr_ne (by omega)]; exact hX.1.2) (by rw [wr_ne (by omega)]; exact h2)
  · exact hX
theorem x_catchIt {X : XS} (hX : XOK X) (x : Int32) : XOK (mu_catchIt X x).2 := by
  unfold mu_catchIt
  split
  · rename_i hc
    split
    · exact hX
    · have h2 := F2 hX hc
      obtain ⟨k, rfl, q1, q2, q3⟩ := inR_nn hc (by omega)
      rw [nt_nn q3]
      have h7 : (xs X 7 : Nat) < 2 ^ (xs X 1 : Nat) := hX.1.1.2.2.2.2.2.1.2.2.2.2
      have hpw : 2 ^ k < 2 ^ (xs X 1 : Nat) := Nat.pow_lt_pow_right (by decide) (by omega)
      exact (hX.note h2).us (WF_cau hX.1.1 (Nat.or_lt_two_pow h7 hpw)) (by rw [wr_ne (by omega)]; exact hX.1.2) (by rw [wr_ne (by omega)]; exact h2)
  · exact hX
theorem x_image {X : XS} (hX : XOK X) (x : Int32) : XOK (mu_image X x).2 := by
  unfold mu_image
  split
  · split
    · exact hX
    · rename_i h2
      obtain ⟨x1, x2, x3, x4⟩ := hX
      refine ⟨x1, x2, fun k hk hx => ?_, x4⟩
      have hx' : (if k = nt x then true else xk X k) = true := hx
      show WF (if k = nt x then xs X else xB X k) ∧ ((if k = nt x then xs X else xB X k) 4 : Nat) ≤ 999 ∧ 0 < ((if k = nt x then xs X else xB X k) 2 : Nat) ∧ 0 < (xs X 2 : Nat)
      by_cases e : k = nt x
      · rw [if_pos e]; exact ⟨x1.1, x1.2, by omega, by omega⟩
      · rw [if_neg e] at hx' ⊢; exact x3 k hk hx'
  · exact hX
theorem x_restore {X : XS} (hX : XOK X) (x : Int32) : XOK (mu_restore X x).2 := by
  unfold mu_restore
  split
  · rename_i hx
    split
    · exact hX
    · rename_i hk
      obtain ⟨k, rfl, q1, q2, q3⟩ := inR_nn hx (by omega)
      rw [nt_nn q3] at hk ⊢
      obtain ⟨a1, a2, a3, -⟩ := hX.2.2.1 k (by omega) (by cases hq : xk X k with
        | true => rfl
        | false => exact absurd hq hk)
      exact (hX.um (m := 0) (Nat.zero_le _)).us a1 a2 a3
  · exact hX
theorem x_as {X : XS} (hX : XOK X) (x v : Int32) : XOK (mu_as X x v).2 := by
  unfold mu_as
  split
  · split
    · exact hX.uu (by omega)
    · exact hX.uu (by omega)
  · exact hX
theorem x_ask {X : XS} (hX : XOK X) (x v : Int32) : XOK (mu_ask X x v).2 := by
  unfold mu_ask
  split
  · obtain ⟨x1, x2, x3, x4, x5, x6, x7⟩ := hX
    refine ⟨x1, x2, x3, x4, x5, ?_, x7⟩
    show (skT (xs X (26 + nt x)) (nt v)).length ≤ 16 ∧ ∀ y ∈ skT (xs X (26 + nt x)) (nt v), y < 100
    unfold skT
    (repeat' split) <;> decide
  · exact hX
theorem lackF_le (X : XS) (r : Nat) (i : Int32) (n : Nat) : lackF X r i n ≤ 2 := by
  unfold lackF
  split
  · omega
  · split <;> omega
theorem x_who {X : XS} (hX : XOK X) (x v k r i n : Int32) : XOK (mu_who X x v k r i n).2 := by
  have hl := lackF_le X (nt r) i (nt n)
  unfold mu_who
  split
  · split
    · exact hX
    · split
      · exact hX.uu (by omega)
      · exact hX.uu (by omega)
  · exact hX
theorem x_paste {X : XS} (hX : XOK X) (k y r i n : Int32) : XOK (mu_paste X k y r i n).2 := by
  have hl := lackF_le X (nt r) i (nt n)
  unfold mu_paste
  split
  · split
    · exact hX.uu (by omega)
    · exact hX.uu (by omega)
  · exact hX
theorem x_hungers {X : XS} (hX : XOK X) (k r i n : Int32) : XOK (mu_hungers X k r i n).2 := by
  have hl := lackF_le X (nt r) i (nt n)
  unfold mu_hungers
  split
  · split
    · exact hX.uu (by omega)
    · exact hX.uu (by omega)
  · exact hX
