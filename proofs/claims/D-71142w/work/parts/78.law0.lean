/-! BOTH SIDES TOGETHER -/
theorem hp_eq2 {a b : Hp} (h1 : ∀ x, gK a x = gK b x) (h2 : ∀ x, gL a x = gL b x) (h3 : ∀ f x, gF a f x = gF b f x) (h4 : ∀ x i, gI a x i = gI b x i) (h5 : a.2.2.2.2 = b.2.2.2.2) : a = b :=
  hp_eq (by funext x; exact h1 x) (by funext x; exact h2 x) h3 h4 h5
section TWN
variable (b : Hp) (o : Nat) (s : St) (g : Nat → Nat) (w r : St) (A B : Nat → St) (t l z : Nat → Nat) (I : Nat → Nat → Int32) (F : Nat → Int32)
theorem th_K (x : Nat) : gK (TH b o s g w r A B t l z I F) x = if x = o then 9 else if o < x ∧ x ≤ o + 15 then tKs (x - o) else gK b x := rfl
theorem th_L (x : Nat) : gL (TH b o s g w r A B t l z I F) x = if o < x ∧ x ≤ o + 15 then tLn (x - o) else gL b x := rfl
theorem th_F (f x : Nat) : gF (TH b o s g w r A B t l z I F) f x = if x = o then (if tRf f = 0 then (if f % 2 = 1 then .null else .int (F f)) else .ref (o + tRf f)) else gF b f x := rfl
theorem th_I (x i : Nat) : gI (TH b o s g w r A B t l z I F) x i = if o < x ∧ x ≤ o + 15 then tC s g w r A B t l z I (x - o) i else gI b x i := rfl
theorem th_sm {x : Nat} (hx : x < o ∨ o + 16 ≤ x) : SmX b (TH b o s g w r A B t l z I F) x := by
  refine ⟨?_, ?_, fun f => ?_, fun i => ?_, fun _ => rfl⟩
  · rw [th_K, if_neg (by omega), if_neg (by omega)]
  · rw [th_L, if_neg (by omega)]
  · rw [th_F, if_neg (by omega)]
  · rw [th_I, if_neg (by omega)]
theorem th_same {b' : Hp} (e1 : TH b o s g w r A B t l z I F = b) (h : ∀ k, k < 16 → SmX b b' (o + k)) : TH b' o s g w r A B t l z I F = b' := by
  have hk : ∀ x, gK b x = if x = o then 9 else if o < x ∧ x ≤ o + 15 then tKs (x - o) else gK b x := fun x => by
    have := congrArg (fun h => gK h x) e1; rw [← th_K b o s g w r A B t l z I F x]; exact this.symm
  have hl : ∀ x, gL b x = if o < x ∧ x ≤ o + 15 then tLn (x - o) else gL b x := fun x => by
    have := congrArg (fun h => gL h x) e1; rw [← th_L b o s g w r A B t l z I F x]; exact this.symm
  have hf : ∀ f x, gF b f x = if x = o then (if tRf f = 0 then (if f % 2 = 1 then .null else .int (F f)) else .ref (o + tRf f)) else gF b f x := fun f x => by
    have := congrArg (fun h => gF h f x) e1; rw [← th_F b o s g w r A B t l z I F f x]; exact this.symm
  have hi : ∀ x i, gI b x i = if o < x ∧ x ≤ o + 15 then tC s g w r A B t l z I (x - o) i else gI b x i := fun x i => by
    have := congrArg (fun h => gI h x i) e1; rw [← th_I b o s g w r A B t l z I F x i]; exact this.symm
  refine hp_eq2 (fun x => ?_) (fun x => ?_) (fun f x => ?_) (fun x i => ?_) rfl
  · rw [th_K]
    by_cases e : x = o
    · have h1 := (h 0 (by omega)).1
      have h2 := hk x
      rw [if_pos e] at h2 ⊢
      rw [← h2, e]; exact h1.symm
    · rw [if_neg e]
      by_cases e2 : o < x ∧ x ≤ o + 15
      · have h1 := (h (x - o) (by omega)).1
        have h2 := hk x
        rw [if_neg e, if_pos e2] at h2
        rw [if_pos e2, ← h2]
        rw [show o + (x - o) = x by omega] at h1
        exact h1.symm
      · rw [if_neg e2]
  · rw [th_L]
    by_cases e2 : o < x ∧ x ≤ o + 15
    · have h1 := (h (x - o) (by omega)).2.1
      have h2 := hl x
      rw [if_pos e2] at h2
      rw [if_pos e2, ← h2]
      rw [show o + (x - o) = x by omega] at h1
      exact h1.symm
    · rw [if_neg e2]
  · rw [th_F]
    by_cases e : x = o
    · have h1 := (h 0 (by omega)).2.2.1 f
      have h2 := hf f x
      rw [if_pos e] at h2
      rw [if_pos e, ← h2, e]; exact h1.symm
    · rw [if_neg e]
  · rw [th_I]
    by_cases e2 : o < x ∧ x ≤ o + 15
    · have h1 := (h (x - o) (by omega)).2.2.2.1 i
      have h2 := hi x i
      rw [if_pos e2] at h2
      rw [if_pos e2, ← h2]
      rw [show o + (x - o) = x by omega] at h1
      exact h1.symm
    · rw [if_neg e2]
theorem th_twice : TH (TH b o s g w r A B t l z I F) o s g w r A B t l z I F = TH b o s g w r A B t l z I F := by
  refine hp_eq2 (fun x => ?_) (fun x => ?_) (fun f x => ?_) (fun x i => ?_) rfl
  · rw [th_K, th_K]; split
    · rfl
    · split <;> rfl
  · rw [th_L, th_L]; split <;> rfl
  · rw [th_F, th_F]; split <;> rfl
  · rw [th_I, th_I]; split <;> rfl
end TWN
/-- the twin at o has the state X -/
def Twn (h : Hp) (o : Nat) (X : XS) : Prop := ∃ g w r l z I F, TIx X I F ∧ TW h o X g w r l z I F = h
theorem Twn.keep {h h' : Hp} {o : Nat} {X : XS} (T : Twn h o X) (hs : ∀ k, k < 16 → SmX h h' (o + k)) : Twn h' o X := by
  obtain ⟨g, w, r, l, z, I, F, hI, e⟩ := T
  exact ⟨g, w, r, l, z, I, F, hI, th_same _ _ _ _ _ _ _ _ _ _ _ _ _ e hs⟩
theorem Twn.k {h : Hp} {o : Nat} {X : XS} (T : Twn h o X) : gK h o = 9 ∧ ∀ k, k < 16 → gK h (o + k) = 9 ∨ gK h (o + k) = 51 ∨ gK h (o + k) = 53 := by
  obtain ⟨g, w, r, l, z, I, F, -, e⟩ := T
  have hk : ∀ x, gK h x = if x = o then 9 else if o < x ∧ x ≤ o + 15 then tKs (x - o) else gK h x := fun x => by
    have := congrArg (fun h => gK h x) e
    exact this.symm
  refine ⟨by rw [hk o, if_pos rfl], fun k hk' => ?_⟩
  rw [hk (o + k)]
  by_cases e0 : k = 0
  · rw [if_pos (by omega)]; exact Or.inl rfl
  · rw [if_neg (by omega), if_pos (by omega)]
    unfold tKs
    split
    · exact Or.inr (Or.inr rfl)
    · exact Or.inr (Or.inl rfl)
theorem Twn.step {m : Cd} {ls : List Value} {h : Hp} {o : Nat} {X X' : XS} {v : Value} (T : Twn h o X) (O : TOp m ls o X v X') : ∃ h', Twn h' o X' ∧ (∀ x, x < o ∨ o + 16 ≤ x → SmX h h' x) ∧ (gN h' = gN h ∧ gC h' = gC h ∧ gS h' = gS h) ∧ ∀ Q : Po, Ex m Q 0 (.ref o :: ls) [] h = Q (.inl (some v)) h' := by
  obtain ⟨g, w, r, l, z, I, F, hI, e⟩ := T
  obtain ⟨g', w', r', l', z', I', F', hI', hq⟩ := O h g w r l z I F hI
  refine ⟨TW h o X' g' w' r' l' z' I' F', ⟨g', w', r', l', z', I', F', hI', th_twice _ _ _ _ _ _ _ _ _ _ _ _ _⟩, fun x hx => th_sm _ _ _ _ _ _ _ _ _ _ _ _ _ hx, ⟨rfl, rfl, rfl⟩, fun Q => ?_⟩
  have := hq Q
  rw [e] at this
  exact this
theorem CInv.twin {h h' : Hp} {c : Nat} {X : XS} (H : CInv h c X) (hX : XOK X) (hN : gN h' = gN h) (hS : ∀ x, x < c + 31 ∨ c + 47 ≤ x → SmX h h' x) (hk : ∀ k, k < 16 → gK h (c + 31 + k) = 9 ∨ gK h (c + 31 + k) = 51 ∨ gK h (c + 31 + k) = 53) : CInv h' c X := by
  obtain ⟨m1, ⟨⟨s1, s2⟩, ⟨s3, s4⟩, ⟨s5, s6⟩, s7⟩, ⟨m3, m4⟩, ⟨g1, g2, g3, g4⟩, m5, m6, m7, ow, q, mx, u', w, tr, hPa, hIm, hRo, hTr, hd⟩ := H
  have hP : PrL h h' := by
    refine ⟨by omega, fun x hx hkx => ?_⟩
    by_cases e : x < c + 31 ∨ c + 47 ≤ x
    · exact hS x e
    · have := hk (x - (c + 31)) (by omega)
      rw [show c + 31 + (x - (c + 31)) = x by omega] at this
      omega
  have near : ∀ j, j < 31 → SmX h h' (c + j) := fun j hj => hS _ (by omega)
  have s0 : SmX h h' 0 := hS 0 (by omega)
  have sc := near 0 (by omega)
  have dk := dyn_keep (h' := h') (X' := X) hX hPa hIm hRo hTr rfl rfl rfl rfl rfl rfl (by omega) (near 1 (by omega)).2.2.2.2 (near 19 (by omega)).2.2.2.2 (near 20 (by omega)).2.2.2.2 (sc.2.2.1 21) (fun x _ hx => hS x (by omega)) hP
  exact ⟨m1.keep (fun k hk => ⟨(near k (by omega)).1, (near k (by omega)).2.1⟩) (fun f _ _ _ _ _ _ => sc.2.2.1 f) (near 25 (by omega)).2.2.2.2, ⟨⟨s1, (s0.2.2.1 _).trans s2⟩, ⟨s3, (s0.2.2.1 _).trans s4⟩, ⟨s5, (s0.2.2.1 _).trans s6⟩, by omega⟩, ⟨m3, by omega⟩, ⟨(sc.2.2.1 6).trans g1, (sc.2.2.1 8).trans g2, (sc.2.2.1 16).trans g3, (sc.2.2.1 22).trans g4⟩, fun i hi => ((near 2 (by omega)).2.2.2.1 i).trans (m5 i hi), m6.keep hX.1.1 (fun k hk => by rw [Nat.add_assoc]; exact near (3 + k) (by omega)) hP, m7.keep (fun k hk => by rw [Nat.add_assoc]; exact near (11 + k) (by omega)), ow, q, mx, u', w, tr, dk.1, dk.2.1, dk.2.2.1, dk.2.2.2, hd⟩
/-- the script -/
def Scr (h : Hp) (sc n : Nat) (f : Nat → Int32) : Prop := gK h sc = 58 ∧ gL h sc = n ∧ ∀ j, j < n → gI h sc j = f j
theorem Scr.keep {h h' : Hp} {sc n : Nat} {f : Nat → Int32} (S : Scr h sc n f) (hs : SmX h h' sc) : Scr h' sc n f := ⟨hs.1.trans S.1, hs.2.1.trans S.2.1, fun j hj => (hs.2.2.2.1 j).trans (S.2.2 j hj)⟩
def LInv (h : Hp) (c : Nat) (X : XS) (sc n : Nat) (f : Nat → Int32) : Prop := CInv h c X ∧ XOK X ∧ StS h c ∧ Twn h (c + 31) X ∧ sc < c ∧ Scr h sc n f
/-- one call on each side -/
theorem LInv.op {h : Hp} {c sc n : Nat} {f : Nat → Int32} {X X' : XS} {m m' : Cd} {ls ls' : List Value} {v : Value} (L : LInv h c X sc n f) (C : COpS m ls c X v X') (T : TOp m' ls' (c + 31) X v X') (hX' : XOK X') (hC : 256 ≤ gC h) (hS : 2048 ≤ gS h) : ∃ h1 h2, LInv h2 c X' sc n f ∧ (gC h ≤ gC h2 + 256 ∧ gS h ≤ gS h2 + 2048) ∧ Scr h1 sc n f ∧ gK h1 (c + 31) = 9 ∧ (∀ Q : Po, Ex m Q 0 (.ref c :: ls) [] h = Q (.inl (some v)) h1) ∧ ∀ Q : Po, Ex m' Q 0 (.ref (c + 31) :: ls') [] h1 = Q (.inl (some v)) h2 := by
  obtain ⟨L1, L2, L3, L4, L5, L6⟩ := L
  have hc := L1.2.2.1
  obtain ⟨h1, C1, ⟨⟨k1, k2, k3⟩, k4, k5⟩, C3⟩ := C h L1 L3 hC hS
  have T1 := L4.keep (h' := h1) k4
  have S1 := L6.keep (k5 sc L5)
  have Z1 := L3.keep hc.1 k5
  obtain ⟨h2, D1, D2, ⟨D3, D4, D5⟩, D6⟩ := T1.step T
  have hk := T1.k
  refine ⟨h1, h2, ⟨C1.twin hX' D3 (fun x hx => D2 x (by omega)) hk.2, hX', Z1.keep hc.1 (fun x hx => D2 x (by omega)), D1, L5, S1.keep (D2 sc (by omega))⟩, ⟨by omega, by omega⟩, S1, hk.1, C3, D6⟩
