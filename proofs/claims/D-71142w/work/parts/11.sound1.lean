/-! OUR MACHINE'S RUNS ARE RUNS OF THE REAL ONE: words, the heap's picture, locals, simple instructions -/
/-- what is known of a method: code, locals, answer, class, name, handlers, frames and words that it needs -/
abbrev MI : Type := ByteArray × Nat × Option FieldType × String × String × List (Nat × Nat × Nat × Nat) × Nat × Nat
def outc : Rs → Outcome
  | .inl v => .returned v
  | .inr a => .threw a
def ClZ (ls : List Value) (i : Nat) (v : Value) : Prop := ls[i]? = some v ∧ (∀ k, v ≠ .retAddr k) ∧ (v.category = 2 → ls[i + 1]? = some (.retAddr 1))
def LocZ (lsr : Array Slot) (ls : List Value) : Prop := lsr.size = ls.length ∧ lv_wf lsr ∧ ∀ i v, ClZ ls i v → lsr[i]? = some (.val v)
theorem LocZ.set1 {lsr : Array Slot} {ls : List Value} {i : Nat} {v : Value} (h : LocZ lsr ls) (hi : i < ls.length) (hc : v.category = 1) (hv : ∀ k, v ≠ .retAddr k) : ∃ ls', storeLocals lsr i v = some ls' ∧ LocZ ls' (ls.set i v) := by
  obtain ⟨h1, h2, h3⟩ := h
  obtain ⟨ls', e, g1, g2, g3⟩ := lv_store1 (nL := ls.length) (l := []) (v := v) ⟨h1, h2, fun q hq => by cases hq⟩ hi hc
  refine ⟨ls', e, by rw [List.length_set]; exact g1, g2, fun j w hj => ?_⟩
  obtain ⟨q1, q2, q3⟩ := hj
  by_cases hji : j = i
  · subst hji
    rw [List.getElem?_set_self hi] at q1
    cases q1
    exact g3 (j, v) List.mem_cons_self
  · rw [List.getElem?_set_ne (Ne.symm hji)] at q1
    have hcl : ClZ ls j w := by
      refine ⟨q1, q2, fun hw => ?_⟩
      have := q3 hw
      by_cases hj1 : i = j + 1
      · subst hj1
        rw [List.getElem?_set_self hi] at this
        exact absurd (Option.some.inj this) (hv 1)
      · rw [List.getElem?_set_ne hj1] at this
        exact this
    obtain ⟨ls'', e2, f1, f2, f3⟩ := lv_store1 (nL := ls.length) (l := [(j, w)]) (v := v) ⟨h1, h2, fun q hq => by rw [List.mem_singleton.mp hq]; exact h3 j w hcl⟩ hi hc
    rw [e] at e2
    cases e2
    refine f3 (j, w) (List.mem_cons_of_mem _ ?_)
    refine List.mem_filter.mpr ⟨List.mem_singleton.mpr rfl, ?_⟩
    have e1 : (j == i) = false := by simpa using hji
    have e2 : (j + 1 == i && w.category == 2) = false := by
      by_cases hw : w.category = 2
      · have := q3 hw
        have : ¬ j + 1 = i := by
          intro hq
          subst hq
          rw [List.getElem?_set_self hi] at this
          exact absurd (Option.some.inj this) (hv 1)
        simp [this]
      · simp [hw]
    simp [e1, e2]
theorem LocZ.set2 {lsr : Array Slot} {ls : List Value} {i : Nat} {v : Value} (h : LocZ lsr ls) (hi : i + 1 < ls.length) (hc : v.category = 2) (hv : ∀ k, v ≠ .retAddr k) : ∃ ls', storeLocals lsr i v = some ls' ∧ LocZ ls' ((ls.set i v).set (i + 1) (.retAddr 1)) := by
  obtain ⟨h1, h2, h3⟩ := h
  obtain ⟨ls', e, g1, g2, g3⟩ := lv_store2 (nL := ls.length) (l := []) (v := v) ⟨h1, h2, fun q hq => by cases hq⟩ hi hc
  have hl1 : i + 1 < (ls.set i v).length := by rw [List.length_set]; exact hi
  refine ⟨ls', e, by rw [List.length_set, List.length_set]; exact g1, g2, fun j w hj => ?_⟩
  obtain ⟨q1, q2, q3⟩ := hj
  by_cases hj1 : j = i + 1
  · subst hj1
    rw [List.getElem?_set_self hl1] at q1
    exact absurd (Option.some.inj q1).symm (q2 1)
  · rw [List.getElem?_set_ne (Ne.symm hj1)] at q1
    by_cases hji : j = i
    · subst hji
      rw [List.getElem?_set_self (by omega)] at q1
      cases q1
      exact g3 (j, v) List.mem_cons_self
    · rw [List.getElem?_set_ne (Ne.symm hji)] at q1
      have hne : w.category = 2 → ¬ j + 1 = i := by
        intro hw hq
        have := q3 hw
        subst hq
        rw [List.getElem?_set_ne (by omega), List.getElem?_set_self (by omega)] at this
        exact absurd (Option.some.inj this) (hv 1)
      have hcl : ClZ ls j w := by
        refine ⟨q1, q2, fun hw => ?_⟩
        have := q3 hw
        rw [List.getElem?_set_ne (by omega), List.getElem?_set_ne (fun q => hne hw q.symm)] at this
        exact this
      obtain ⟨ls'', e2, f1, f2, f3⟩ := lv_store2 (nL := ls.length) (l := [(j, w)]) (v := v) ⟨h1, h2, fun q hq => by rw [List.mem_singleton.mp hq]; exact h3 j w hcl⟩ hi hc
      rw [e] at e2
      cases e2
      refine f3 (j, w) (List.mem_cons_of_mem _ ?_)
      refine List.mem_filter.mpr ⟨List.mem_singleton.mpr rfl, ?_⟩
      have e1 : (j == i) = false := by simpa using hji
      have e2 : (j == i + 1) = false := by simpa using hj1
      have e3 : (j + 1 == i && w.category == 2) = false := by
        by_cases hw : w.category = 2
        · simp [hne hw]
        · simp [hw]
      simp [e1, e2, e3]
theorem LocZ.entry (as : List Value) {n : Nat} (hn : (lcA as).length ≤ n) (has : ∀ v ∈ as, ∀ k, v ≠ .retAddr k) : LocZ ((lg_sl as ++ List.replicate (n - (lg_sl as).length) Slot.unset).toArray) (lcE n as) := by
  have hlen : ∀ as : List Value, (lcA as).length = (lg_sl as).length := by
    intro as
    induction as with
    | nil => rfl
    | cons v l ih =>
      by_cases hv : v.category = 2
      · simp [lcA, lg_sl, hv] at ih ⊢; omega
      · simp [lcA, lg_sl, hv] at ih ⊢; omega
  obtain ⟨h1, h2, h3⟩ := lv_entry as (n := n) (by rw [← hlen]; exact hn)
  refine ⟨by rw [h1]; simp [lcE]; omega, h2, fun i v hv => h3 (i, v) ?_⟩
  obtain ⟨q1, q2, -⟩ := hv
  have key : ∀ (as : List Value) (j i : Nat), (lcA as)[i]? = some v → (∀ k, v ≠ .retAddr k) → (j + i, v) ∈ lv_args j as := by
    intro as
    induction as with
    | nil => intro j i h; simp [lcA] at h
    | cons w l ih =>
      intro j i h hk
      by_cases hw : w.category = 2
      · rw [lcA, if_pos hw] at h
        rw [lv_args, if_pos hw]
        cases i with
        | zero => simp at h; subst h; exact List.mem_cons_self
        | succ i =>
          cases i with
          | zero => simp at h; exact absurd h.symm (hk 1)
          | succ i =>
            simp at h
            have := ih (j + 2) i h hk
            refine List.mem_cons_of_mem _ ?_
            rw [show j + (i + 1 + 1) = j + 2 + i by omega]
            exact this
      · rw [lcA, if_neg hw] at h
        rw [lv_args, if_neg hw]
        cases i with
        | zero => simp at h; subst h; exact List.mem_cons_self
        | succ i =>
          simp at h
          have := ih (j + 1) i h hk
          refine List.mem_cons_of_mem _ ?_
          rw [show j + (i + 1) = j + 1 + i by omega]
          exact this
  have q1' : (lcA as)[i]? = some v := by
    by_cases hi : i < (lcA as).length
    · rw [lcE, List.getElem?_append_left hi] at q1; exact q1
    · rw [lcE, List.getElem?_append_right (by omega)] at q1
      have := List.eq_of_mem_replicate (List.mem_of_getElem? q1)
      exact absurd this (q2 0)
  have := key as 0 i q1' q2
  rw [Nat.zero_add] at this
  exact this
