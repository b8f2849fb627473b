/-! THE CLASS: what a question leaves as it was -/
theorem CInv.q {h h' : Hp} {c u : Nat} {X : XS} (H : CInv h c X) (hX : XOK X) (hN : gN h ≤ gN h') (hK : ∀ x, x < gN h → gK h' x = gK h x ∧ gL h' x = gL h x) (h0 : ∀ f, gF h' f 0 = gF h f 0) (hc : ∀ f, f ≠ 22 → f ≠ 28 → gF h' f c = gF h f c) (hR : ∀ i, gR h' c i = gR h c i) (hS : ∀ x, x < gN h → x ≠ c → ¬ (c + 11 ≤ x ∧ x ≤ c + 18 ∧ x ≠ c + 16) → x ≠ c + 23 → x ≠ c + 24 → SmX h h' x) (hT : LA h' (c + 11)) (hu : gF h' 22 c = .int (nI u)) : CInv h' c (uu X u) := by
  obtain ⟨m1, ⟨⟨s1, s2⟩, ⟨s3, s4⟩, ⟨s5, s6⟩, s7⟩, ⟨m3, m4⟩, ⟨g1, g2, g3, g4⟩, m5, m6, m7, ow, q, mx, u', w, tr, hPa, hIm, hRo, hTr, hd⟩ := H
  have hk11 : LK h (c + 11) := by
    obtain ⟨_, _, _, _, _, x1⟩ := m7; exact x1.2.2
  have hP : PrL h h' := by
    refine ⟨hN, fun x hx hk => hS x hx (fun e => ?_) (fun e => ?_) (fun e => ?_) (fun e => ?_)⟩
    · rw [e, m1.k0] at hk; omega
    · obtain ⟨k0, ⟨k1, k2, k3, k4, k6, k7⟩, -⟩ := hk11
      obtain e | e | e | e | e | e | e : x = c + 11 ∨ x = c + 11 + 1 ∨ x = c + 11 + 2 ∨ x = c + 11 + 3 ∨ x = c + 11 + 4 ∨ x = c + 11 + 6 ∨ x = c + 11 + 7 := by omega
      · rw [e, k0] at hk; omega
      · rw [e, k1] at hk; omega
      · rw [e, k2] at hk; omega
      · rw [e, k3] at hk; omega
      · rw [e, k4] at hk; omega
      · rw [e, k6] at hk; omega
      · rw [e, k7] at hk; omega
    · rw [e, m1.k23] at hk; omega
    · rw [e, m1.k24] at hk; omega
  have far : ∀ a m, c + 47 ≤ a → a + m ≤ gN h → SmB h h' a m := fun a m h1 h2 k hk => hS (a + k) (by omega) (by omega) (by omega) (by omega) (by omega)
  have near : ∀ k, k < 31 → k ≠ 0 → ¬ (11 ≤ k ∧ k ≤ 18 ∧ k ≠ 16) → k ≠ 23 → k ≠ 24 → SmX h h' (c + k) := fun k h1 h2 h3 h4 h5 => hS (c + k) (by omega) (by omega) (by omega) (by omega) (by omega)
  refine ⟨m1.keep (fun k hk => hK _ (by omega)) (fun f f1 f2 f3 f4 f5 f6 => hc f f5 f6) (near 25 (by omega) (by omega) (by omega) (by omega) (by omega)).2.2.2.2, ⟨⟨s1, (h0 _).trans s2⟩, ⟨s3, (h0 _).trans s4⟩, ⟨s5, (h0 _).trans s6⟩, by omega⟩, ⟨m3, by omega⟩, ⟨(hc 6 (by decide) (by decide)).trans g1, (hc 8 (by decide) (by decide)).trans g2, (hc 16 (by decide) (by decide)).trans g3, hu⟩, fun i hi => ((near 2 (by omega) (by omega) (by omega) (by omega) (by omega)).2.2.2.1 i).trans (m5 i hi), m6.keep hX.1.1 (fun k hk => by rw [Nat.add_assoc]; exact near (3 + k) (by omega) (by omega) (by omega) (by omega) (by omega)) hP, hT, ow, q, mx, u', w, tr, ?_, ?_, ?_, ?_, hd⟩
  · obtain ⟨p1, p2, p3, p4, p5⟩ := hPa
    refine ⟨p1, fun k hk => ((near 19 (by omega) (by omega) (by omega) (by omega) (by omega)).2.2.2.2 k).trans (p2 k hk), fun k hk => ?_, fun k hk => ?_, p5⟩
    · obtain ⟨⟨a1, a2⟩, a3, a4⟩ := p3 k hk
      exact ⟨⟨a1, by omega⟩, a3.keep (far _ _ a1 a2), a4⟩
    · have hk' : k < xm X := hk
      obtain ⟨⟨a1, a2⟩, a3, a4⟩ := p3 k (by omega)
      exact (p4 k hk).keep (hX.2.1.2 k hk').1 (far _ _ a1 a2) hP
  · obtain ⟨p1, p2, p3⟩ := hIm
    refine ⟨fun k hk => ((near 20 (by omega) (by omega) (by omega) (by omega) (by omega)).2.2.2.2 k).trans (p1 k hk), fun k hk hx => ?_, p3⟩
    obtain ⟨⟨a1, a2⟩, a3, a4⟩ := p2 k hk hx
    exact ⟨⟨a1, by omega⟩, a3.keep (hX.2.2.1 k hk hx).1 (far _ _ a1 a2) hP, a4⟩
  · obtain ⟨p1, p2, p3⟩ := hRo
    refine ⟨fun r hr hx => ((near 1 (by omega) (by omega) (by omega) (by omega) (by omega)).2.2.2.2 r).trans (p1 r hr hx), fun r hr p hx => ?_, p3⟩
    obtain ⟨a1, ⟨a2, a3⟩, ⟨a4, a5, a6⟩, ⟨a7, a8, a9⟩, a10⟩ := p2 r hr p hx
    obtain ⟨b1, b2, b3, b4, b5⟩ := far (w r) 2 a2 a3 0 (by omega)
    obtain ⟨d1, d2, d3, d4, d5⟩ := far (w r) 2 a2 a3 1 (by omega)
    exact ⟨((near 1 (by omega) (by omega) (by omega) (by omega) (by omega)).2.2.2.2 r).trans a1, ⟨a2, by omega⟩, ⟨b1.trans a4, (b3 _).trans a5, (b3 _).trans a6⟩, ⟨d1.trans a7, d2.trans a8, fun i hi => (d4 i).trans (a9 i hi)⟩, a10⟩
  · obtain ⟨p1, p2, p3, ⟨p4, p5, p6⟩, ⟨p7, p8, p9⟩, p10⟩ := hTr
    have sm : SmB h h' tr 2 := by
      rcases p2 with e | e
      · rw [e]; intro k hk; rw [Nat.add_assoc]; exact near (21 + k) (by omega) (by omega) (by omega) (by omega) (by omega)
      · exact far _ _ e p3
    obtain ⟨b1, b2, b3, b4, b5⟩ := sm 0 (by omega)
    obtain ⟨d1, d2, d3, d4, d5⟩ := sm 1 (by omega)
    exact ⟨(hc 21 (by decide) (by decide)).trans p1, p2, by omega, ⟨b1.trans p4, (b3 _).trans p5, (b3 _).trans p6⟩, ⟨d1.trans p7, d2.trans p8, fun i hi => (d4 i).trans (p9 i hi)⟩, p10⟩
/-- the twin's cells, behind the class's own, are as they were; cells and slots that may be used in a call -/
def Kp (h h' : Hp) (c : Nat) : Prop := (gN h ≤ gN h' ∧ gC h ≤ gC h' + 256 ∧ gS h ≤ gS h' + 2048) ∧ (∀ k, k < 16 → SmX h h' (c + 31 + k)) ∧ ∀ x, x < c → SmX h h' x
/-- a method of the class answers v and takes X to X' -/
def COp (m : Cd) (ls : List Value) (c : Nat) (X : XS) (v : Value) (X' : XS) : Prop := ∀ h, CInv h c X → 256 ≤ gC h → 2048 ≤ gS h → ∃ h', CInv h' c X' ∧ Kp h h' c ∧ ∀ Q : Po, Ex m Q 0 (.ref c :: ls) [] h = Q (.inl (some v)) h'
