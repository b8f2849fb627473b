/-! THE CLASS: findings, rows -/
theorem hTab_1 {lo hi hp pc a : Nat} {h : Hp} (h1 : lo ≤ pc) (h2 : pc < hi) (hk : gK h a = 10) : hTab [(lo, hi, hp, [10])] pc a h = some hp := by
  show (if lo ≤ pc ∧ pc < hi then (if gK h a ∈ [10] then some hp else some 65536) else _) = some hp
  rw [if_pos ⟨h1, h2⟩, if_pos (by rw [hk]; exact List.mem_singleton.mpr rfl)]
theorem c0_well (Q : Po) {h : Hp} {c : Nat} (kc : gK h c = 1) (v : Int32) : Ex mX0_well Q 0 [.ref c, .int v] [] h = Q (.inl (some (.int v))) (pF h 22 c (.int (nI 0))) := by
  simp (disch := omega) only [↓rX0_well_0, ↓rX0_well_1, ↓rX0_well_2, ↓rX0_well_5, ↓rX0_well_6, ↓rX0_well_t, ↓rmI_in, ↓shrI_in, ↓shlI_in, ↓okI_in, ↓bI_01, bI_z, bI_o, nn_neg, Int.cast_ofNat_Int, zlit, n_leT, n_leF, n_ltT, n_ltF, n_eqT, n_eqF, z_leT, z_leF, z_ltT, z_ltF, z_eqT, z_eqF, nn_add, nn_mul, nn_clamp, nn_lt, nn_le, nn_eq, nn_div, rmI_nn, okI_nn, nn_and, nn_or, nn_xor, shlI_1, shrI_nn, Cont_v, Cont_0, List.mem_cons, List.not_mem_nil, or_false, or_true, true_or, true_and, and_true, ite_not, if_true, if_false, not_true_eq_false, not_false_eq_true, false_or, false_and, and_false, eq_self, ↓reduceIte, reduceCtorEq, kc]
theorem c0_found (Q : Po) {h : Hp} {c a k : Nat} (kc : gK h c = 1) (ka : gK h a = 10) (hf : gF h 134 a = .int (nI k)) : Ex mX0_found Q 0 [.ref c, .ref a] [] h = Q (.inl (some (.int (zI (-1000010 - (k : Int)))))) (pF h 22 c (.int (nI k))) := by
  simp (disch := omega) only [↓rX0_found_0, ↓rX0_found_1, ↓rX0_found_2, ↓rX0_found_5, ↓rX0_found_8, ↓rX0_found_10, ↓rX0_found_11, ↓rX0_found_14, ↓rX0_found_15, ↓rX0_found_t, ↓rmI_in, ↓shrI_in, ↓shlI_in, ↓okI_in, ↓bI_01, bI_z, bI_o, nn_neg, Int.cast_ofNat_Int, zlit, n_leT, n_leF, n_ltT, n_ltF, n_eqT, n_eqF, z_leT, z_leF, z_ltT, z_ltF, z_eqT, z_eqF, nn_add, nn_mul, nn_clamp, nn_lt, nn_le, nn_eq, nn_div, rmI_nn, okI_nn, nn_and, nn_or, nn_xor, shlI_1, shrI_nn, Cont_v, Cont_0, List.mem_cons, List.not_mem_nil, or_false, or_true, true_or, true_and, and_true, ite_not, if_true, if_false, not_true_eq_false, not_false_eq_true, false_or, false_and, and_false, eq_self, ↓reduceIte, reduceCtorEq, kc, ka, gK_pF, gF_pF, hf, zn_sub]
/-- what is found goes out, and is noted -/
theorem CInv.find {h : Hp} {c : Nat} {X : XS} (H : CInv h c X) (hX : XOK X) (hC : 1 ≤ gC h) (hS : 7 ≤ gS h) (k : Nat) : ∃ h1, gK h1 (gN h) = 10 ∧ gK h1 c = 1 ∧ CInv (pF h1 22 c (.int (nI k))) c (uu X k) ∧ KpN h (pF h1 22 c (.int (nI k))) c 1 7 ∧ (∀ Q : Po, Ex mX0_must Q 0 [.int (nI 0), .int (nI k)] [] h = Q (.inr (gN h)) h1) ∧ ∀ Q : Po, Ex mX0_found Q 0 [.ref c, .ref (gN h)] [] h1 = Q (.inl (some (.int (zI (-1000010 - (k : Int)))))) (pF h1 22 c (.int (nI k))) := by
  obtain ⟨h1, ⟨x1, x2, x3, x4⟩, k1, f1, hm⟩ := c0_must0 h (nI k) H.2.1 ⟨hC, hS⟩
  have hc := H.2.2.1
  have sm : ∀ x, x < gN h → SmX h h1 x := fun x hx => x4 x (Or.inl hx)
  have kc : gK h1 c = 1 := (sm c (by omega)).1.trans H.1.k0
  refine ⟨h1, k1, kc, H.stat hX (by omega) sm, ⟨⟨?_, ?_, ?_⟩, fun j _ => (sm _ (by omega)).trans (pF_sm (by omega)), fun x _ => (sm x (by omega)).trans (pF_sm (by omega))⟩, hm, fun Q => c0_found Q kc k1 f1⟩
  · show gN h ≤ gN h1; omega
  · show gC h ≤ gC h1 + 1; omega
  · show gS h ≤ gS h1 + 7; omega
/-- a row is another one -/
theorem CInv.rowW {h h' : Hp} {c a r u : Nat} {X : XS} {q : Nat × Nat × (Nat → Int32)} (H : CInv h c X) (hX : XOK X) (hr : r < 8) (hN : gN h ≤ gN h') (ha : (∃ q0, xr X r = some q0 ∧ gR h (c + 1) r = some a) ∨ gN h ≤ a) (hNa : a + 2 ≤ gN h') (hSm : ∀ x, x < gN h → x ≠ c → x ≠ c + 1 → x ≠ a → x ≠ a + 1 → SmX h h' x) (hK : ∀ x, x < gN h → gK h' x = gK h x ∧ gL h' x = gL h x) (hf : ∀ f, f ≠ 22 → gF h' f c = gF h f c) (h22 : gF h' 22 c = .int (nI u)) (hR : ∀ i, gR h' (c + 1) i = if i = r then some a else gR h (c + 1) i) (hcl : gK h' a = 11 ∧ gF h' 136 a = .int (nI q.1) ∧ gF h' 139 a = .ref (a + 1)) (har : gK h' (a + 1) = 51 ∧ gL h' (a + 1) = q.2.1 ∧ ∀ i, i < q.2.1 → gI h' (a + 1) i = q.2.2 i) : CInv h' c (uu (ur X (upR (xr X) r (some q))) u) := by
  obtain ⟨m1, ⟨⟨s1, s2⟩, ⟨s3, s4⟩, ⟨s5, s6⟩, s7⟩, ⟨m3, m4⟩, ⟨g1, g2, g3, g4⟩, m5, m6, m7, ow, qq, mx, uu', w, tr, hPa, hIm, hRo, hTr, hd⟩ := H
  obtain ⟨r1, r2, r3⟩ := hRo
  have hcase : (∃ q0, xr X r = some q0 ∧ a = w r) ∨ gN h ≤ a := by
    rcases ha with ⟨q0, e1, e2⟩ | e
    · have := (r2 r hr q0 e1).1
      rw [this] at e2; injection e2 with e2
      exact Or.inl ⟨q0, e1, e2.symm⟩
    · exact Or.inr e
  have hal : c + 47 ≤ a := by
    rcases hcase with ⟨q0, e1, e2⟩ | e
    · have := (r2 r hr q0 e1).2.1; omega
    · omega
  have hP : PrL h h' := by
    refine ⟨hN, fun x hx hkx => hSm x hx (fun e => by rw [e, m1.k0] at hkx; omega) (fun e => by rw [e, m1.k1] at hkx; omega) (fun e => ?_) (fun e => ?_)⟩
    · rcases hcase with ⟨q0, e1, e2⟩ | e2
      · rw [e, e2, (r2 r hr q0 e1).2.2.1.1] at hkx; omega
      · omega
    · rcases hcase with ⟨q0, e1, e2⟩ | e2
      · rw [e, e2, (r2 r hr q0 e1).2.2.2.1.1] at hkx; omega
      · omega
  have hoa : ∀ x, x < gN h → (x = a ∨ x = a + 1) → ow x = a ∧ gK h a = 11 := fun x hx h1 => by
    rcases hcase with ⟨q0, e1, e2⟩ | e2
    · obtain ⟨-, -, ⟨b1, -⟩, -, b2, b3⟩ := r2 r hr q0 e1
      rcases h1 with h1 | h1
      · rw [h1, e2]; exact ⟨b2, b1⟩
      · rw [h1, e2]; exact ⟨b3, b1⟩
    · omega
  have hO : ∀ x, x < gN h → (fun x => if x = a ∨ x = a + 1 then a else ow x) x = ow x := fun x hx => by
    by_cases e : x = a ∨ x = a + 1
    · simp only [if_pos e]; exact (hoa x hx e).1.symm
    · simp only [if_neg e]
  have near : ∀ j, j < 47 → j ≠ 0 → j ≠ 1 → SmX h h' (c + j) := fun j hj h0 h1 => hSm _ (by omega) (by omega) (by omega) (by omega) (by omega)
  have s0 : SmX h h' 0 := hSm 0 (by omega) (by omega) (by omega) (by omega) (by omega)
  have far : ∀ x b, x < gN h → c + 47 ≤ x → ow x = b → (b = a → gK h a = 11 → False) → SmX h h' x := fun x b hx h1 h2 h3 => by
    refine hSm x hx (by omega) (by omega) (fun e => ?_) (fun e => ?_)
    · obtain ⟨e1, e2⟩ := hoa x hx (Or.inl e); exact h3 (h2.symm.trans e1) e2
    · obtain ⟨e1, e2⟩ := hoa x hx (Or.inr e); exact h3 (h2.symm.trans e1) e2
  refine ⟨m1.keep (fun j hj => hK _ (by omega)) (fun f _ _ _ _ h5 _ => hf f h5) (near 25 (by omega) (by omega) (by omega)).2.2.2.2, ⟨⟨s1, (s0.2.2.1 _).trans s2⟩, ⟨s3, (s0.2.2.1 _).trans s4⟩, ⟨s5, (s0.2.2.1 _).trans s6⟩, by omega⟩, ⟨m3, by omega⟩, ⟨(hf 6 (by decide)).trans g1, (hf 8 (by decide)).trans g2, (hf 16 (by decide)).trans g3, h22⟩, fun i hi => ((near 2 (by omega) (by omega) (by omega)).2.2.2.1 i).trans (m5 i hi), m6.keep hX.1.1 (fun j hj => by rw [Nat.add_assoc]; exact near (3 + j) (by omega) (by omega) (by omega)) hP, m7.keep (fun j hj => by rw [Nat.add_assoc]; exact near (11 + j) (by omega) (by omega) (by omega)), (fun x => if x = a ∨ x = a + 1 then a else ow x), qq, mx, uu', upN w r a, tr, ?_, ?_, ?_, ?_, hd⟩
  · exact hPa.keep rfl (fun j hj => ⟨rfl, (hX.2.1.2 j hj).1⟩) hN hO (near 19 (by omega) (by omega) (by omega)).2.2.2.2 (fun j hj i hi => by
      obtain ⟨⟨a1, a2⟩, a3, a4⟩ := hPa.2.2.1 j hj
      exact far (qq j + i) (qq j) (by omega) (by omega) (a4 i hi) (fun e e2 => by rw [← e, a3.lk.1] at e2; omega)) hP
  · exact hIm.keep (fun _ _ => rfl) (fun k hk hx => ⟨rfl, (hX.2.2.1 k hk hx).1⟩) hN hO (near 20 (by omega) (by omega) (by omega)).2.2.2.2 (fun k hk hx i hi => by
      obtain ⟨⟨a1, a2⟩, a3, a4⟩ := hIm.2.1 k hk hx
      exact far (uu' k + i) (uu' k) (by omega) (by omega) (a4 i hi) (fun e e2 => by rw [← e, a3.lk.1] at e2; omega)) hP
  · have ew : upN w r a r = a := if_pos rfl
    have en : ∀ j, j ≠ r → upN w r a j = w j := fun j hj => if_neg hj
    have hwr : ∀ j, j < 8 → j ≠ r → (xr X j).isSome = true → w j ≠ a := fun j hj hne hx e => by
      obtain ⟨v, hv⟩ := Option.isSome_iff_exists.mp hx
      rcases hcase with ⟨q0, e1, e2⟩ | e2
      · exact hne (r3 j r hj hr hx (by rw [e1]; rfl) (e.trans e2))
      · have := (r2 j hj v hv).2.1; omega
    refine ⟨fun j hj hx => ?_, fun j hj v hv => ?_, fun j k hj hk h1 h2 e => ?_⟩
    · have hx' : (if j = r then some q else xr X j) = none := hx
      by_cases e : j = r
      · rw [if_pos e] at hx'; cases hx'
      · rw [if_neg e] at hx'
        rw [hR j, if_neg e]; exact r1 j hj hx'
    · have hv' : (if j = r then some q else xr X j) = some v := hv
      by_cases e : j = r
      · rw [if_pos e] at hv'; injection hv' with hv'
        subst hv'
        rw [e, ew]
        exact ⟨by rw [hR r, if_pos rfl], ⟨hal, hNa⟩, hcl, har, if_pos (Or.inl rfl), if_pos (Or.inr rfl)⟩
      · rw [if_neg e] at hv'
        rw [en j e]
        obtain ⟨b1, ⟨b2, b3⟩, ⟨b4, b5, b6⟩, ⟨b7, b8, b9⟩, b10, b11⟩ := r2 j hj v hv'
        have hne := hwr j hj e (by rw [hv']; rfl)
        obtain ⟨d1, d2, d3, d4, d5⟩ := far (w j) (w j) (by omega) (by omega) b10 (fun e2 _ => hne e2)
        obtain ⟨f1, f2, f3, f4, f5⟩ := far (w j + 1) (w j) (by omega) (by omega) b11 (fun e2 _ => hne e2)
        exact ⟨by rw [hR j, if_neg e]; exact b1, ⟨b2, by omega⟩, ⟨d1.trans b4, (d3 _).trans b5, (d3 _).trans b6⟩, ⟨f1.trans b7, f2.trans b8, fun i hi => (f4 i).trans (b9 i hi)⟩, (hO _ (by omega)).trans b10, (hO _ (by omega)).trans b11⟩
    · have h1' : (if j = r then some q else xr X j).isSome = true := h1
      have h2' : (if k = r then some q else xr X k).isSome = true := h2
      by_cases e1 : j = r
      · by_cases e2 : k = r
        · omega
        · rw [if_neg e2] at h2'
          rw [e1, ew, en k e2] at e
          exact absurd e.symm (hwr k hk e2 h2')
      · rw [if_neg e1] at h1'
        by_cases e2 : k = r
        · rw [e2, ew, en j e1] at e
          exact absurd e (hwr j hj e1 h1')
        · rw [if_neg e2] at h2'
          rw [en j e1, en k e2] at e
          exact r3 j k hj hk h1' h2' e
  · refine hTr.keep rfl hN hO (hf 21 (by decide)) (fun i hi => ?_)
    obtain ⟨-, a1, a2, ⟨a3, -⟩, -, a4, a5⟩ := hTr
    rcases a1 with e | e
    · rw [e, Nat.add_assoc]; exact near (21 + i) (by omega) (by omega) (by omega)
    · obtain rfl | rfl : i = 0 ∨ i = 1 := by omega
      · exact far (tr + 0) tr (by omega) (by omega) a4 (fun e e2 => by rw [← e, a3] at e2; omega)
      · exact far (tr + 1) tr (by omega) (by omega) a5 (fun e e2 => by rw [← e, a3] at e2; omega)
theorem CInv.drop {h h' : Hp} {c r u : Nat} {X : XS} (H : CInv h c X) (hX : XOK X) (hr : r < 8) (hN : gN h = gN h') (hSm : ∀ x, x < gN h → x ≠ c → x ≠ c + 1 → SmX h h' x) (hK : ∀ x, x < gN h → gK h' x = gK h x ∧ gL h' x = gL h x) (hf : ∀ f, f ≠ 22 → gF h' f c = gF h f c) (h22 : gF h' 22 c = .int (nI u)) (hR : ∀ i, gR h' (c + 1) i = if i = r then none else gR h (c + 1) i) : CInv h' c (uu (ur X (upR (xr X) r none)) u) := by
  obtain ⟨m1, ⟨⟨s1, s2⟩, ⟨s3, s4⟩, ⟨s5, s6⟩, s7⟩, ⟨m3, m4⟩, ⟨g1, g2, g3, g4⟩, m5, m6, m7, ow, qq, mx, uu', w, tr, hPa, hIm, hRo, hTr, hd⟩ := H
  obtain ⟨r1, r2, r3⟩ := hRo
  have hP : PrL h h' := ⟨by omega, fun x hx hkx => hSm x hx (fun e => by rw [e, m1.k0] at hkx; omega) (fun e => by rw [e, m1.k1] at hkx; omega)⟩
  have near : ∀ j, j < 47 → j ≠ 0 → j ≠ 1 → SmX h h' (c + j) := fun j hj h0 h1 => hSm _ (by omega) (by omega) (by omega)
  have s0 : SmX h h' 0 := hSm 0 (by omega) (by omega) (by omega)
  have far : ∀ x, x < gN h → c + 47 ≤ x → SmX h h' x := fun x hx h1 => hSm x hx (by omega) (by omega)
  refine ⟨m1.keep (fun j hj => hK _ (by omega)) (fun f _ _ _ _ h5 _ => hf f h5) (near 25 (by omega) (by omega) (by omega)).2.2.2.2, ⟨⟨s1, (s0.2.2.1 _).trans s2⟩, ⟨s3, (s0.2.2.1 _).trans s4⟩, ⟨s5, (s0.2.2.1 _).trans s6⟩, by omega⟩, ⟨m3, by omega⟩, ⟨(hf 6 (by decide)).trans g1, (hf 8 (by decide)).trans g2, (hf 16 (by decide)).trans g3, h22⟩, fun i hi => ((near 2 (by omega) (by omega) (by omega)).2.2.2.1 i).trans (m5 i hi), m6.keep hX.1.1 (fun j hj => by rw [Nat.add_assoc]; exact near (3 + j) (by omega) (by omega) (by omega)) hP, m7.keep (fun j hj => by rw [Nat.add_assoc]; exact near (11 + j) (by omega) (by omega) (by omega)), ow, qq, mx, uu', w, tr, ?_, ?_, ?_, ?_, hd⟩
  · exact hPa.keep rfl (fun j hj => ⟨rfl, (hX.2.1.2 j hj).1⟩) (by omega) (fun _ _ => rfl) (near 19 (by omega) (by omega) (by omega)).2.2.2.2 (fun j hj i hi => by
      obtain ⟨⟨a1, a2⟩, -⟩ := hPa.2.2.1 j hj
      exact far (qq j + i) (by omega) (by omega)) hP
  · exact hIm.keep (fun _ _ => rfl) (fun k hk hx => ⟨rfl, (hX.2.2.1 k hk hx).1⟩) (by omega) (fun _ _ => rfl) (near 20 (by omega) (by omega) (by omega)).2.2.2.2 (fun k hk hx i hi => by
      obtain ⟨⟨a1, a2⟩, -⟩ := hIm.2.1 k hk hx
      exact far (uu' k + i) (by omega) (by omega)) hP
  · refine ⟨fun j hj hx => ?_, fun j hj v hv => ?_, fun j k hj hk h1 h2 e => ?_⟩
    · rw [hR j]
      by_cases e : j = r
      · rw [if_pos e]
      · rw [if_neg e]
        have hx' : (if j = r then none else xr X j) = none := hx
        rw [if_neg e] at hx'
        exact r1 j hj hx'
    · have hv' : (if j = r then none else xr X j) = some v := hv
      by_cases e : j = r
      · rw [if_pos e] at hv'; cases hv'
      · rw [if_neg e] at hv'
        obtain ⟨b1, ⟨b2, b3⟩, ⟨b4, b5, b6⟩, ⟨b7, b8, b9⟩, b10⟩ := r2 j hj v hv'
        obtain ⟨d1, d2, d3, d4, d5⟩ := far (w j) (by omega) (by omega)
        obtain ⟨f1, f2, f3, f4, f5⟩ := far (w j + 1) (by omega) (by omega)
        exact ⟨by rw [hR j, if_neg e]; exact b1, ⟨b2, by omega⟩, ⟨d1.trans b4, (d3 _).trans b5, (d3 _).trans b6⟩, ⟨f1.trans b7, f2.trans b8, fun i hi => (f4 i).trans (b9 i hi)⟩, b10⟩
    · have h1' : (if j = r then none else xr X j).isSome = true := h1
      have h2' : (if k = r then none else xr X k).isSome = true := h2
      have e1 : ¬ j = r := fun e => by rw [if_pos e] at h1'; cases h1'
      have e2 : ¬ k = r := fun e => by rw [if_pos e] at h2'; cases h2'
      rw [if_neg e1] at h1'
      rw [if_neg e2] at h2'
      exact r3 j k hj hk h1' h2' e
  · refine hTr.keep rfl (by omega) (fun _ _ => rfl) (hf 21 (by decide)) (fun i hi => ?_)
    obtain ⟨-, a1, a2, -⟩ := hTr
    rcases a1 with e | e
    · rw [e, Nat.add_assoc]; exact near (21 + i) (by omega) (by omega) (by omega)
    · exact far (tr + i) (by omega) (by omega)
