/-! THE CLASS: library -/
theorem hTab_k {lo hi hp pc a k : Nat} {h : Hp} (h1 : lo ≤ pc) (h2 : pc < hi) (hk : gK h a = k) : hTab [(lo, hi, hp, [k])] pc a h = some hp := by
  show (if lo ≤ pc ∧ pc < hi then (if gK h a ∈ [k] then some hp else some 65536) else _) = some hp
  rw [if_pos ⟨h1, h2⟩, if_pos (by rw [hk]; exact List.mem_singleton.mpr rfl)]
theorem RD_id {g : Hp} {r : Nat} {x4 x6 x8 x0 : Int32} (e4 : gF g 144 r = .int x4) (e6 : gF g 146 r = .int x6) (e8 : gF g 148 r = .int x8) (e0 : gF g 150 r = .int x0) : RDo g r x4 x6 x8 x0 = g := by
  refine hp_eq rfl rfl (fun f x => ?_) (fun _ _ => rfl) rfl
  rw [rd_F]
  by_cases h0 : f = 150 ∧ x = r
  · rw [if_pos h0, h0.1, h0.2]; exact e0.symm
  · rw [if_neg h0]
    by_cases h1 : f = 148 ∧ x = r
    · rw [if_pos h1, h1.1, h1.2]; exact e8.symm
    · rw [if_neg h1]
      by_cases h2 : f = 146 ∧ x = r
      · rw [if_pos h2, h2.1, h2.2]; exact e6.symm
      · rw [if_neg h2]
        by_cases h3 : f = 144 ∧ x = r
        · rw [if_pos h3, h3.1, h3.2]; exact e4.symm
        · rw [if_neg h3]
theorem XOK.un0 {X : XS} (hX : XOK X) : XOK (un X 0) := by
  obtain ⟨x1, x2, x3, x4, ⟨x5, x6⟩, x7⟩ := hX
  exact ⟨x1, x2, x3, x4, ⟨x5, show 0 ≤ 120 by omega⟩, x7⟩
/-- the tape is taken -/
theorem CInv.tap0 {h : Hp} {c : Nat} {X : XS} (H : CInv h c X) (hX : XOK X) : CInv (pF h 6 c (.int (nI 0))) c (un X 0) := by
  obtain ⟨m1, ⟨⟨s1, s2⟩, ⟨s3, s4⟩, ⟨s5, s6⟩, s7⟩, ⟨m3, m4⟩, ⟨g1, g2, g3, g4⟩, m5, m6, m7, ow, q, mx, u', w, tr, hPa, hIm, hRo, hTr, hd⟩ := H
  have sm : ∀ x, x ≠ c → SmX h (pF h 6 c (.int (nI 0))) x := fun x hx => pF_sm hx
  have fc : ∀ f, f ≠ 6 → gF (pF h 6 c (.int (nI 0))) f c = gF h f c := fun f hf => pF_ne hf
  have f0 := fun f => (sm 0 (by omega)).2.2.1 f
  have hP : PrL h (pF h 6 c (.int (nI 0))) := ⟨Nat.le_refl _, fun x _ hk => sm x (fun e => by rw [e, m1.k0] at hk; omega)⟩
  have dk := dyn_keep (h' := pF h 6 c (.int (nI 0))) (X' := un X 0) hX hPa hIm hRo hTr rfl rfl rfl rfl rfl rfl (Nat.le_refl _) (fun _ => rfl) (fun _ => rfl) (fun _ => rfl) (fc 21 (by decide)) (fun x _ hx => sm x (by omega)) hP
  exact ⟨m1.keep (fun k _ => ⟨rfl, rfl⟩) (fun f h1 _ _ _ _ _ => fc f h1) (fun _ => rfl), ⟨⟨s1, (f0 _).trans s2⟩, ⟨s3, (f0 _).trans s4⟩, ⟨s5, (f0 _).trans s6⟩, s7⟩, ⟨m3, m4⟩, ⟨pF_eq, (fc 8 (by decide)).trans g2, (fc 16 (by decide)).trans g3, (fc 22 (by decide)).trans g4⟩, fun i hi => absurd hi (Nat.not_lt_zero i), m6.keep hX.1.1 (fun k hk => sm _ (by omega)) hP, m7.keep (fun k hk => sm _ (by omega)), ow, q, mx, u', w, tr, dk.1, dk.2.1, dk.2.2.1, dk.2.2.2, hd⟩
/-- a fault is noted -/
theorem CInv.flt {h : Hp} {c k : Nat} {X : XS} (H : CInv h c X) (hX : XOK X) : CInv (pF h 8 c (.int (nI k))) c (ul X k) := by
  obtain ⟨m1, ⟨⟨s1, s2⟩, ⟨s3, s4⟩, ⟨s5, s6⟩, s7⟩, ⟨m3, m4⟩, ⟨g1, g2, g3, g4⟩, m5, m6, m7, ow, q, mx, u', w, tr, hPa, hIm, hRo, hTr, hd⟩ := H
  have sm : ∀ x, x ≠ c → SmX h (pF h 8 c (.int (nI k))) x := fun x hx => pF_sm hx
  have fc : ∀ f, f ≠ 8 → gF (pF h 8 c (.int (nI k))) f c = gF h f c := fun f hf => pF_ne hf
  have f0 := fun f => (sm 0 (by omega)).2.2.1 f
  have hP : PrL h (pF h 8 c (.int (nI k))) := ⟨Nat.le_refl _, fun x _ hk => sm x (fun e => by rw [e, m1.k0] at hk; omega)⟩
  have dk := dyn_keep (h' := pF h 8 c (.int (nI k))) (X' := ul X k) hX hPa hIm hRo hTr rfl rfl rfl rfl rfl rfl (Nat.le_refl _) (fun _ => rfl) (fun _ => rfl) (fun _ => rfl) (fc 21 (by decide)) (fun x _ hx => sm x (by omega)) hP
  exact ⟨m1.keep (fun k _ => ⟨rfl, rfl⟩) (fun f _ h2 _ _ _ _ => fc f h2) (fun _ => rfl), ⟨⟨s1, (f0 _).trans s2⟩, ⟨s3, (f0 _).trans s4⟩, ⟨s5, (f0 _).trans s6⟩, s7⟩, ⟨m3, m4⟩, ⟨(fc 6 (by decide)).trans g1, pF_eq, (fc 16 (by decide)).trans g3, (fc 22 (by decide)).trans g4⟩, fun i hi => m5 i hi, m6.keep hX.1.1 (fun k hk => sm _ (by omega)) hP, m7.keep (fun k hk => sm _ (by omega)), ow, q, mx, u', w, tr, dk.1, dk.2.1, dk.2.2.1, dk.2.2.2, hd⟩
theorem PI_bk {r : St} (h : PI r) : ∀ w, w < (r 0 : Nat) → bookAt r w = w := by
  obtain ⟨⟨a1, a2⟩, a3, -⟩ := h
  exact fun w hw => bkF_first (a3 w hw).2.2 6 0 (Nat.zero_le _) (by omega) (fun d _ hd q => by
    have := (a3 d (by omega)).2.2
    omega)
theorem RLi.ll {g h : Hp} {r : Nat} {s : St} (L : RLi g r s) (hN : gN g ≤ gN h) (hr : r + 9 ≤ gN g) (hs : ∀ x, x = r + 6 ∨ r + 9 ≤ x → SmX g h x) (h1 : 0 < (s 1 : Nat)) (h5 : (s 1 : Nat) ≤ 5) : LL h (r + 6) s := by
  obtain ⟨e, fa, mc, c1, c2, c3, c4, c5, c6, c7⟩ := L
  obtain ⟨w1, w2, w3, w4⟩ := c6 h1
  have sp := hs (r + 6) (Or.inl rfl)
  have se := hs e (Or.inr w3)
  refine ⟨e, fa, ⟨sp.1.trans c1, (sp.2.2.1 _).trans c3, (sp.2.2.1 _).trans c4, fun f hf => ⟨⟨se.1.trans w1, by rw [se.2.1]; omega⟩, (se.2.2.2.2 f).trans (c7 f hf).1⟩⟩, fun f hf => ?_, by omega⟩
  obtain ⟨q1, q2, q3, q4, q5⟩ := c7 f hf
  have sf := hs (fa f) (Or.inr q4)
  exact ⟨sf.1.trans q2, (sf.2.2.1 _).trans q3, by omega, by omega⟩
def COpS (m : Cd) (ls : List Value) (c : Nat) (X : XS) (v : Value) (X' : XS) : Prop := ∀ h, CInv h c X → StS h c → 256 ≤ gC h → 2048 ≤ gS h → ∃ h', CInv h' c X' ∧ Kp h h' c ∧ ∀ Q : Po, Ex m Q 0 (.ref c :: ls) [] h = Q (.inl (some v)) h'
theorem COp.s {m : Cd} {ls : List Value} {c : Nat} {X : XS} {v : Value} {X' : XS} (H : COp m ls c X v X') : COpS m ls c X v X' := fun h h1 _ h3 h4 => H h h1 h3 h4
/-- the heap with a new reader -/
def NRd (h : Hp) (c n u : Nat) : Hp := pF (pF (pF (pF (NL (nO h 12 7) u) 153 (gN h) (.ref (gN h + 1))) 141 (gN h) (.ref (c + 2))) 142 (gN h) (.int (nI n))) 6 c (.int (nI 0))
theorem NRd_ok {h : Hp} {c n u : Nat} (hc : 0 < c ∧ c + 47 ≤ gN h) (hC : 256 ≤ gC h) (hS : 2048 ≤ gS h) : (∀ x, x < gN h → SmX (pF h 6 c (.int (nI 0))) (NRd h c n u) x) ∧ (gF (NRd h c n u) 141 (gN h) = .ref (c + 2)) ∧ (gF (NRd h c n u) 142 (gN h) = .int (nI n)) ∧ (gF (NRd h c n u) 153 (gN h) = .ref (gN h + 1)) ∧ (∀ f, f ≠ 141 → f ≠ 142 → f ≠ 153 → f ≠ 6 → gF (NRd h c n u) f (gN h) = fDef f) ∧ (gK (NRd h c n u) (gN h) = 12) ∧ (gN (NRd h c n u) = gN h + 9) ∧ (gC (NRd h c n u) = gC h - 9) ∧ (gS (NRd h c n u) = gS h - 60) ∧ (HL (NRd h c n u) (gN h + 1) zS (fun _ => 0) (gN h + 1 + 5) (zI (-1000000)) .null) ∧ (gK (NRd h c n u) (gN h + 6) = 14 ∧ gF (NRd h c n u) 158 (gN h + 6) = .int (nI 0) ∧ gF (NRd h c n u) 161 (gN h + 6) = .ref u ∧ gF (NRd h c n u) 162 (gN h + 6) = .int (nI 0)) := by
  -- the new reader
  have sN : ∀ x, x < gN h → SmX h (NL (nO h 12 7) u) x := fun x hx => (nO_sm (by omega)).trans (NL_sm (Or.inl (by rw [gN_nO]; omega)))
  have eN : gN (nO h 12 7) = gN h + 1 := rfl
  obtain ⟨N1, N2, N3, N4⟩ := NL_hl (h := nO h 12 7) (u := u)
  obtain ⟨q1, q2, q3⟩ := NL_room (h := nO h 12 7) (u := u)
  rw [eN] at N1 N2 N3 N4 q1
  have sR : SmX (nO h 12 7) (NL (nO h 12 7) u) (gN h) := NL_sm (Or.inl (by rw [eN]; omega))
  have kR : gK (NL (nO h 12 7) u) (gN h) = 12 := sR.1.trans (if_pos rfl)
  have fR : ∀ f, gF (NL (nO h 12 7) u) f (gN h) = fDef f := fun f => (sR.2.2.1 f).trans (if_pos rfl)
  have f158 : gF (NL (nO h 12 7) u) 158 (gN h + 6) = .int (nI 0) := by
    unfold NL
    rw [LI_F]
    simp (disch := omega) only [eN, Nat.add_assoc, Nat.reduceAdd, n_eqF, false_and, if_false, and_self, if_true]
  have sG : ∀ x, x ≠ c → x ≠ gN h → SmX (NL (nO h 12 7) u) (NRd h c n u) x := fun x h1 h2 => (((pF_sm h2).trans (pF_sm h2)).trans (pF_sm h2)).trans (pF_sm h1)
  have sZ : ∀ x, x < gN h → SmX (pF h 6 c (.int (nI 0))) (NRd h c n u) x := fun x hx => by
    by_cases e : x = c
    · subst e
      obtain ⟨d1, d2, d3, d4, d5⟩ := sN x hx
      refine ⟨?_, ?_, fun f => ?_, fun i => ?_, fun i => ?_⟩
      · unfold NRd; rw [gK_pF, gK_pF, gK_pF, gK_pF, gK_pF]; exact d1
      · unfold NRd; rw [gL_pF, gL_pF, gL_pF, gL_pF, gL_pF]; exact d2
      rotate_left
      · unfold NRd; rw [gI_pF, gI_pF, gI_pF, gI_pF, gI_pF]; exact d4 i
      · unfold NRd; rw [gR_pF, gR_pF, gR_pF, gR_pF, gR_pF]; exact d5 i
      unfold NRd
      by_cases ef : f = 6
      · rw [ef, pF_eq, pF_eq]
      · rw [pF_ne ef, pF_ne ef]
        rw [(pF_sm (h := pF (pF (NL (nO h 12 7) u) 153 (gN h) (.ref (gN h + 1))) 141 (gN h) (.ref (x + 2))) (f := 142) (c := gN h) (v := .int (nI n)) (show x ≠ gN h by omega)).2.2.1 f, (pF_sm (h := pF (NL (nO h 12 7) u) 153 (gN h) (.ref (gN h + 1))) (f := 141) (c := gN h) (v := .ref (x + 2)) (show x ≠ gN h by omega)).2.2.1 f, (pF_sm (h := NL (nO h 12 7) u) (f := 153) (c := gN h) (v := .ref (gN h + 1)) (show x ≠ gN h by omega)).2.2.1 f]
        exact d3 f
    · have s1 : SmX (pF h 6 c (.int (nI 0))) h x := ⟨rfl, rfl, fun f => (if_neg (fun q => e q.2)).symm, fun _ => rfl, fun _ => rfl⟩
      exact (s1.trans (sN x hx)).trans (sG x e (by omega))
  have gG1 : gF (NRd h c n u) 141 (gN h) = .ref (c + 2) := by
    unfold NRd
    rw [pF_ne (by omega), pF_ne (by omega), pF_eq]
  have gG2 : gF (NRd h c n u) 142 (gN h) = .int (nI n) := by
    unfold NRd
    rw [pF_ne (by omega), pF_eq]
  have gG3 : gF (NRd h c n u) 153 (gN h) = .ref (gN h + 1) := by
    unfold NRd
    rw [pF_ne (by omega), pF_ne (by omega), pF_ne (by omega), pF_eq]
  have gG4 : ∀ f, f ≠ 141 → f ≠ 142 → f ≠ 153 → f ≠ 6 → gF (NRd h c n u) f (gN h) = fDef f := fun f h1 h2 h3 h4 => by
    unfold NRd
    rw [pF_ne h4, pF_ne h2, pF_ne h1, pF_ne h3]; exact fR f
  have kG : gK (NRd h c n u) (gN h) = 12 := by unfold NRd; rw [gK_pF, gK_pF, gK_pF, gK_pF]; exact kR
  have nG : gN (NRd h c n u) = gN h + 9 := by
    unfold NRd
    rw [gN_pF, gN_pF, gN_pF, gN_pF, q1]
  have cG : gC (NRd h c n u) = gC h - 9 := by
    unfold NRd
    rw [gC_pF, gC_pF, gC_pF, gC_pF, q2, gC_nO]; omega
  have lG : gS (NRd h c n u) = gS h - 60 := by
    unfold NRd
    rw [gS_pF, gS_pF, gS_pF, gS_pF, q3, gS_nO]; omega
  have HG : HL (NRd h c n u) (gN h + 1) zS (fun _ => 0) (gN h + 1 + 5) (zI (-1000000)) .null := N1.sm (fun j hj => sG _ (by omega) (by omega))
  have s6 := sG (gN h + 6) (by omega) (by omega)
  exact ⟨sZ, gG1, gG2, gG3, gG4, kG, nG, cG, lG, HG, s6.1.trans N2, (s6.2.2.1 _).trans f158, (s6.2.2.1 _).trans N3, (s6.2.2.1 _).trans N4⟩
theorem c12_init (Q : Po) {h : Hp} {r b n u : Nat} (kr : gK h r = 12) (hr : r < gN h) (s1 : gF h 1001 0 = .ref u) (hC : 8 ≤ gC h) (hS : 53 ≤ gS h) : Ex mX12_init Q 0 [.ref r, .ref b, .int (nI n)] [] h = Q (.inl none) (pF (pF (pF (NL h u) 153 r (.ref (gN h))) 141 r (.ref b)) 142 r (.int (nI n))) := by
  have hi := fun Q => NL_walk (h := h) (u := u) s1 (by omega) hC hS Q
  have kR : gK (NL h u) r = 12 := (NL_sm (Or.inl hr)).1.trans kr
  simp (disch := omega) only [↓rX12_init_0, ↓rX12_init_1, ↓rX12_init_4, ↓rX12_init_5, ↓rX12_init_8, ↓rX12_init_9, ↓rX12_init_12, ↓rX12_init_12n, ↓rX12_init_15, ↓rX12_init_16, ↓rX12_init_17, ↓rX12_init_17n, ↓rX12_init_20, ↓rX12_init_21, ↓rX12_init_22, ↓rX12_init_25, ↓rX12_init_t, ↓rmI_in, ↓shrI_in, ↓shlI_in, ↓okI_in, ↓bI_01, bI_z, bI_o, nn_neg, Int.cast_ofNat_Int, zlit, n_leT, n_leF, n_ltT, n_ltF, n_eqT, n_eqF, z_leT, z_leF, z_ltT, z_ltF, z_eqT, z_eqF, nn_add, nn_mul, nn_clamp, nn_lt, nn_le, nn_eq, nn_div, rmI_nn, okI_nn, nn_and, nn_or, nn_xor, shlI_1, shrI_nn, Cont_v, Cont_0, List.mem_cons, List.not_mem_nil, or_false, or_true, true_or, true_and, and_true, ite_not, if_true, if_false, not_true_eq_false, not_false_eq_true, false_or, false_and, and_false, eq_self, ↓reduceIte, reduceCtorEq, gK_pF, ↓hi, kR]
theorem NRd_wA {h : Hp} {c n : Nat} (M : CM h c) (g6 : gF h 6 c = .int (nI n)) (hc : 0 < c ∧ c + 47 ≤ gN h) (hC : 256 ≤ gC h) (hS : 2048 ≤ gS h) (Q : Po) : Ex mX0_library Q 0 [.ref c, .retAddr 0, .retAddr 0] [] h = Ex mX0_library Q 12 [.ref c, .retAddr 0, .retAddr 0] [.int (nI n), .ref (c + 2), .ref (gN h), .ref (gN h)] (nO h 12 7) := by
  have kc : gK (nO h 12 7) c = 1 := by rw [gK_nO, if_neg (by omega)]; exact M.k0
  have f5 : gF (nO h 12 7) 5 c = .ref (c + 2) := by rw [gF_nO, if_neg (by omega)]; exact M.f5
  have f6 : gF (nO h 12 7) 6 c = .int (nI n) := by rw [gF_nO, if_neg (by omega)]; exact g6
  simp (disch := omega) only [↓rX0_library_0, ↓rX0_library_3, ↓rX0_library_4, ↓rX0_library_5, ↓rX0_library_8, ↓rX0_library_9, ↓rmI_in, ↓shrI_in, ↓shlI_in, ↓okI_in, ↓bI_01, bI_z, bI_o, nn_neg, Int.cast_ofNat_Int, zlit, n_leT, n_leF, n_ltT, n_ltF, n_eqT, n_eqF, z_leT, z_leF, z_ltT, z_ltF, z_eqT, z_eqF, nn_add, nn_mul, nn_clamp, nn_lt, nn_le, nn_eq, nn_div, rmI_nn, okI_nn, nn_and, nn_or, nn_xor, shlI_1, shrI_nn, Cont_v, Cont_0, List.mem_cons, List.not_mem_nil, or_false, or_true, true_or, true_and, and_true, ite_not, if_true, if_false, not_true_eq_false, not_false_eq_true, false_or, false_and, and_false, eq_self, ↓reduceIte, reduceCtorEq, kc, f5, f6]
theorem NRd_wB {h : Hp} {c n u : Nat} (M : CM h c) (s1 : gF h 1001 0 = .ref u) (hc : 0 < c ∧ c + 47 ≤ gN h) (hC : 256 ≤ gC h) (hS : 2048 ≤ gS h) (Q : Po) : Ex mX0_library Q 12 [.ref c, .retAddr 0, .retAddr 0] [.int (nI n), .ref (c + 2), .ref (gN h), .ref (gN h)] (nO h 12 7) = Ex mX0_library Q 15 [.ref c, .retAddr 0, .retAddr 0] [.ref (gN h)] (pF (pF (pF (NL (nO h 12 7) u) 153 (gN h) (.ref (gN h + 1))) 141 (gN h) (.ref (c + 2))) 142 (gN h) (.int (nI n))) := by
  have s1' : gF (nO h 12 7) 1001 0 = .ref u := by rw [gF_nO, if_neg (by omega)]; exact s1
  have hi := c12_init (h := nO h 12 7) (r := gN h) (b := c + 2) (n := n) (u := u) (Cont mX0_library Q 12 [.ref c, .retAddr 0, .retAddr 0] 15 [.ref (gN h)]) (by rw [gK_nO, if_pos rfl]) (by rw [gN_nO]; omega) s1' (by rw [gC_nO]; omega) (by rw [gS_nO]; omega)
  rw [gN_nO] at hi
  rw [rX0_library_12, hi]
  rfl
theorem NRd_wC {h : Hp} {c n u : Nat} (M : CM h c) (hc : 0 < c ∧ c + 47 ≤ gN h) (Q : Po) : Ex mX0_library Q 15 [.ref c, .retAddr 0, .retAddr 0] [.ref (gN h)] (pF (pF (pF (NL (nO h 12 7) u) 153 (gN h) (.ref (gN h + 1))) 141 (gN h) (.ref (c + 2))) 142 (gN h) (.int (nI n))) = Ex mX0_library Q 21 [.ref c, .ref (gN h), .retAddr 0] [] (NRd h c n u) := by
  have kc : gK (nO h 12 7) c = 1 := by rw [gK_nO, if_neg (by omega)]; exact M.k0
  have kcN : gK (NL (nO h 12 7) u) c = 1 := (NL_sm (h := nO h 12 7) (Or.inl (by rw [gN_nO]; omega))).1.trans kc
  unfold NRd
  generalize NL (nO h 12 7) u = G at kcN
  have kc3 : gK (pF (pF (pF G 153 (gN h) (.ref (gN h + 1))) 141 (gN h) (.ref (c + 2))) 142 (gN h) (.int (nI n))) c = 1 := by rw [gK_pF, gK_pF, gK_pF]; exact kcN
  generalize pF (pF (pF G 153 (gN h) (.ref (gN h + 1))) 141 (gN h) (.ref (c + 2))) 142 (gN h) (.int (nI n)) = G3 at kc3
  simp (disch := omega) only [↓rX0_library_15, ↓rX0_library_16, ↓rX0_library_17, ↓rX0_library_18, ↓rmI_in, ↓shrI_in, ↓shlI_in, ↓okI_in, ↓bI_01, bI_z, bI_o, nn_neg, Int.cast_ofNat_Int, zlit, n_leT, n_leF, n_ltT, n_ltF, n_eqT, n_eqF, z_leT, z_leF, z_ltT, z_ltF, z_eqT, z_eqF, nn_add, nn_mul, nn_clamp, nn_lt, nn_le, nn_eq, nn_div, rmI_nn, okI_nn, nn_and, nn_or, nn_xor, shlI_1, shrI_nn, Cont_v, Cont_0, List.mem_cons, List.not_mem_nil, or_false, or_true, true_or, true_and, and_true, ite_not, if_true, if_false, not_true_eq_false, not_false_eq_true, false_or, false_and, and_false, eq_self, ↓reduceIte, reduceCtorEq, kc3]
theorem NRd_walk {h : Hp} {c n u : Nat} (M : CM h c) (g6 : gF h 6 c = .int (nI n)) (s1 : gF h 1001 0 = .ref u) (hc : 0 < c ∧ c + 47 ≤ gN h) (hC : 256 ≤ gC h) (hS : 2048 ≤ gS h) (Q : Po) : Ex mX0_library Q 0 [.ref c, .retAddr 0, .retAddr 0] [] h = Ex mX0_library Q 21 [.ref c, .ref (gN h), .retAddr 0] [] (NRd h c n u) :=
  (NRd_wA M g6 hc hC hS Q).trans ((NRd_wB M s1 hc hC hS Q).trans (NRd_wC M hc Q))
theorem k_library (c : Nat) (X : XS) (hX : XOK X) : COpS mX0_library [.retAddr 0, .retAddr 0] c X (.int (mu_library X).1) (mu_library X).2 := by
  intro h H St hC hS
  have M := H.1
  have hc := H.2.2.1
  have g6 := H.2.2.2.1.1
  have hxn := hX.2.2.2.2.1.2
  have hxt := hX.2.2.2.2.1.1
  have St' := St
  obtain ⟨u, sa, sb, v7, ⟨s1, s2, s3, s4⟩, -, -, hsa, -⟩ := St'
  have hX0 := hX.un0
  have Hz := H.tap0 hX
  obtain ⟨sZ, gG1, gG2, gG3, gG4, kG, nG, cG, lG, HG, L6a, L6b, L6c, L6d⟩ := NRd_ok (n := xn X) (u := u) hc hC hS
  have sc2 := sZ (c + 2) (by omega)
  have Hg := Hz.same hX0 (by rw [gN_pF, nG]; omega) (fun x hx => sZ x hx)
  have StG : StS (NRd h c (xn X) u) c := St.keep hc.1 (fun x hx => (show SmX h (pF h 6 c (.int (nI 0))) x from pF_sm (by omega)).trans (sZ x (by omega)))
  have walk := fun Q => NRd_walk (u := u) M g6 s1 hc hC hS Q
  have RBg : RB (NRd h c (xn X) u) (NRd h c (xn X) u) c (gN h) (xt X) (xn X) 0 := by
    refine ⟨⟨kG, gG1, gG2, gG3⟩, HG.2.2, ⟨sc2.1.trans M.k2, sc2.2.1.trans M.l2, fun i hi => (sc2.2.2.2.1 i).trans (H.2.2.2.2.1 i hi)⟩, ⟨hc.1, hc.2, by omega⟩, ⟨Hg.2.1, StG⟩, ⟨fun x _ => SmX.rfl' _ x, Nat.le_refl _, Nat.le_add_right _ _, Nat.le_add_right _ _⟩, ⟨by omega, by omega, by omega⟩, hxn, hxt⟩
  have LiG : RLi (NRd h c (xn X) u) (gN h) zS := by
    have z1 : (zS 1 : Nat) = 0 := rfl
    have hu : u < gN h := Nat.lt_of_lt_of_le s4 (by omega)
    have su := sZ u hu
    refine ⟨u, fun _ => 0, nI 0, L6a, L6b, L6c, by rw [z1]; exact L6d, fun _ => ⟨?_, su.1.trans s2, su.2.1.trans s3, Nat.lt_of_lt_of_le hu (by omega)⟩, fun q => by rw [z1] at q; exact absurd q (Nat.lt_irrefl 0), fun i hi => by rw [z1] at hi; exact absurd hi (Nat.not_lt_zero i)⟩
    exact ((sZ 0 (by omega)).2.2.1 _).trans ((pF_ne (by omega)).trans s1)
  have hsG : gF (NRd h c (xn X) u) 1009 0 = .ref sa := ((sZ 0 (by omega)).2.2.1 _).trans ((pF_ne (by omega)).trans hsa)
  have eG : LB (RDo (NRd h c (xn X) u) (gN h) (nI 0) (nI 0) (nI 0) (nI 0)) (gN h + 1) zS (fun _ => 0) (gN h + 6) (zI (-1000000)) .null = NRd h c (xn X) u := by
    rw [RD_id (x4 := nI 0) (x6 := nI 0) (x8 := nI 0) (x0 := nI 0) (gG4 144 (by decide) (by decide) (by decide) (by decide)) (gG4 146 (by decide) (by decide) (by decide) (by decide)) (gG4 148 (by decide) (by decide) (by decide) (by decide)) (gG4 150 (by decide) (by decide) (by decide) (by decide))]
    exact HG.eq
  have hA := c12_all hsG RBg LiG (nI 0) (nI 0) (nI 0)
  rw [eG] at hA
  have kcG : gK (NRd h c (xn X) u) c = 1 := Hg.1.k0
  have hzc : ∀ x, x < c → SmX h (pF h 6 c (.int (nI 0))) x := fun x hx => pF_sm (by omega)
  have hzo : ∀ x, x ≠ c → SmX h (pF h 6 c (.int (nI 0))) x := fun x hx => pF_sm hx
  unfold mu_library
  cases hP : pLib (xt X) (xn X) with
  | inl q =>
    rw [hP] at hA
    obtain ⟨hh, a, ⟨w1, w2, w3⟩, ⟨w4, w5, w6⟩, w7, w8⟩ := hA
    have sF : ∀ x, x < gN h → SmX (pF h 6 c (.int (nI 0))) hh x := fun x hx => (sZ x hx).trans (w7 x hx)
    have C1 := Hz.same hX0 (by rw [gN_pF]; omega) (fun x hx => sF x hx)
    have C2 := C1.flt (k := q.1) hX0
    have hth : mX0_library.2 22 a hh = some 28 := hTab_k (lo := 21) (hi := 25) (hp := 28) (pc := 22) (k := 13) (by omega) (by omega) w1
    have kch : gK hh c = 1 := C1.1.k0
    refine ⟨_, C2, ⟨⟨by rw [gN_pF]; omega, by rw [gC_pF]; omega, by rw [gS_pF]; omega⟩, fun j _ => ((hzo _ (by omega)).trans (sF _ (by omega))).trans (pF_sm (by omega)), fun x _ => ((hzo _ (by omega)).trans (sF _ (by omega))).trans (pF_sm (by omega))⟩, fun Q => ?_⟩
    rw [walk Q]
    simp (disch := omega) only [↓rX0_library_21, ↓rX0_library_22, ↓rX0_library_25, ↓rX0_library_28, ↓rX0_library_29, ↓rX0_library_30, ↓rX0_library_31, ↓rX0_library_34, ↓rX0_library_37, ↓rX0_library_39, ↓rX0_library_40, ↓rX0_library_43, ↓rX0_library_44, ↓rmI_in, ↓shrI_in, ↓shlI_in, ↓okI_in, ↓bI_01, bI_z, bI_o, nn_neg, Int.cast_ofNat_Int, zlit, n_leT, n_leF, n_ltT, n_ltF, n_eqT, n_eqF, z_leT, z_leF, z_ltT, z_ltF, z_eqT, z_eqF, nn_add, nn_mul, nn_clamp, nn_lt, nn_le, nn_eq, nn_div, rmI_nn, okI_nn, nn_and, nn_or, nn_xor, shlI_1, shrI_nn, Cont_v, Cont_0, List.mem_cons, List.not_mem_nil, or_false, or_true, true_or, true_and, and_true, ite_not, if_true, if_false, not_true_eq_false, not_false_eq_true, false_or, false_and, and_false, eq_self, ↓reduceIte, reduceCtorEq, kG, ↓w8, Cont_h hth, kch, w1, w2, w3, gK_pF, gF_pF, zn_sub]
  | inr y =>
    rw [hP] at hA
    obtain ⟨g', m', R2, L2, hm', hq⟩ := hA
    obtain ⟨I2, y1⟩ := pLib_ok hP
    have hW := PI_WF I2 y1
    obtain ⟨⟨b1, b2, b3, b4⟩, K2, -, ⟨b5, b6, b7⟩, -, ⟨b8, b9, b10, b11⟩, ⟨-, -, b12⟩, -⟩ := R2
    generalize hx4 : nI (tkN (xt X) (xn X) y.1) = x4 at hq
    generalize hx6 : nI (tkC (xt X) (xn X) y.1) = x6 at hq
    generalize hx8 : nI y.1 = x8 at hq
    generalize hx0 : tkW (xt X) (xn X) y.1 = x0 at hq
    have s1' : ∀ x, x ≠ gN h → ¬ (gN h + 1 ≤ x ∧ x ≤ gN h + 8 ∧ x ≠ gN h + 6) → SmX g' (LB (RDo g' (gN h) x4 x6 x8 x0) (gN h + 1) y.2 m' (gN h + 6) (zI (-1000000)) .null) x := fun x h1 h2 => (rd_sm g' (gN h) _ _ _ _ h1).trans (LB_sm _ _ _ _ _ _ _ (by omega))
    have sF : ∀ x, x < gN h → SmX (pF h 6 c (.int (nI 0))) (LB (RDo g' (gN h) x4 x6 x8 x0) (gN h + 1) y.2 m' (gN h + 6) (zI (-1000000)) .null) x := fun x hx => ((sZ x hx).trans (b8 x hx)).trans (s1' x (by omega) (by omega))
    have nF : gN (LB (RDo g' (gN h) x4 x6 x8 x0) (gN h + 1) y.2 m' (gN h + 6) (zI (-1000000)) .null) = gN g' := rfl
    have cF' : gC (LB (RDo g' (gN h) x4 x6 x8 x0) (gN h + 1) y.2 m' (gN h + 6) (zI (-1000000)) .null) = gC g' := rfl
    have lF' : gS (LB (RDo g' (gN h) x4 x6 x8 x0) (gN h + 1) y.2 m' (gN h + 6) (zI (-1000000)) .null) = gS g' := rfl
    have LS : HL (LB (RDo g' (gN h) x4 x6 x8 x0) (gN h + 1) y.2 m' (gN h + 6) (zI (-1000000)) .null) (gN h + 1) y.2 m' (gN h + 6) (zI (-1000000)) .null := HL.of K2
    have hLL : LL (LB (RDo g' (gN h) x4 x6 x8 x0) (gN h + 1) y.2 m' (gN h + 6) (zI (-1000000)) .null) (gN h + 6) y.2 := L2.ll (Nat.le_refl _) b7 (fun x hx => s1' x (by omega) (by omega)) y1 I2.1.2
    have f153 : gF (LB (RDo g' (gN h) x4 x6 x8 x0) (gN h + 1) y.2 m' (gN h + 6) (zI (-1000000)) .null) 153 (gN h) = .ref (gN h + 1) := by
      rw [lo_F _ _ _ _ _ _ _ _ (by omega), rd_F, if_neg (by omega), if_neg (by omega), if_neg (by omega), if_neg (by omega)]; exact b4
    have kR2 : gK (LB (RDo g' (gN h) x4 x6 x8 x0) (gN h + 1) y.2 m' (gN h + 6) (zI (-1000000)) .null) (gN h) = 12 := b1
    generalize LB (RDo g' (gN h) x4 x6 x8 x0) (gN h + 1) y.2 m' (gN h + 6) (zI (-1000000)) .null = H1 at hq sF nF cF' lF' LS hLL f153 kR2
    have C1 := Hz.same hX0 (by rw [gN_pF]; omega) (fun x hx => sF x hx)
    obtain ⟨nM, pM, tfM, tkM, LM, hnM, hLLM, etM⟩ := C1.2.2.2.2.2.1
    have MM := C1.1
    obtain ⟨D1, D2⟩ := C1.lib (n' := cpN nM m') (tk' := tkM) hX0 hW (cpN_b hW.1.1 (fun j hj => by rw [hm' j hj, PI_bk I2 j hj])) hLL rfl
    have h2 : 0 < (y.2 2 : Nat) := by have := I2.2.2.2.1.1.1; omega
    obtain ⟨E1, E2⟩ := D1.acts (m := 0) (hX0.us hW (by have := I2.2.2.2.1.2.2.1; omega) h2) (by omega)
    have hb : ∀ Q : Po, Ex mX1_become Q 0 [.ref (c + 3), .ref (gN h + 1)] [] H1 = Q (.inl (some (.ref (c + 3)))) (LB H1 (c + 3) y.2 (cpN nM m') (gN h + 6) (zI (-1000000)) tkM) := by
      intro Q
      have := c1_become Q H1 (c + 3) (xs (un X 0)) nM pM tfM tkM LM.2.2 LS (by omega)
      rwa [LM.eq] at this
    obtain ⟨eL, faL, l1, l2, l3⟩ := hLL
    have kpl : gK H1 (gN h + 6) = 14 := l1.1
    have hmany : ∀ Q : Po, Ex mX1_many Q 0 [.ref (c + 3)] [] (pF (LB H1 (c + 3) y.2 (cpN nM m') (gN h + 6) (zI (-1000000)) tkM) 16 c (.int (nI 0))) = Q (.inl (some (.int (nI (y.2 1))))) (pF (LB H1 (c + 3) y.2 (cpN nM m') (gN h + 6) (zI (-1000000)) tkM) 16 c (.int (nI 0))) := by
      intro Q
      have HLf : HL (pF (LB H1 (c + 3) y.2 (cpN nM m') (gN h + 6) (zI (-1000000)) tkM) 16 c (.int (nI 0))) (c + 3) y.2 (cpN nM m') (gN h + 6) (zI (-1000000)) tkM := (HL.of LM.2.2).sm (fun k hk => pF_sm (by omega))
      have hlf : FLi (pF (LB H1 (c + 3) y.2 (cpN nM m') (gN h + 6) (zI (-1000000)) tkM) 16 c (.int (nI 0))) (gN h + 6) eL (y.2 1) faL := by
        obtain ⟨t1, t2, t3, t4⟩ := l1
        exact ⟨t1, by rw [pF_ne (by omega), lo_F _ _ _ _ _ _ _ _ (by omega)]; exact t2, by rw [pF_ne (by omega), lo_F _ _ _ _ _ _ _ _ (by omega)]; exact t3, t4⟩
      exact d1_many Q HLf hlf
    have k3 := LM.k0
    have k31 : gK H1 (gN h + 1) = 2 := LS.k0
    have KP : KpN h H1 c 30 200 := ⟨⟨by omega, by omega, by omega⟩, fun j _ => (hzo _ (by omega)).trans (sF _ (by omega)), fun x _ => (hzo _ (by omega)).trans (sF _ (by omega))⟩
    refine ⟨_, E1, ((KP.trans D2).trans E2).kp (by omega) (by omega), fun Q => ?_⟩
    rw [walk Q]
    simp (disch := omega) only [↓rX0_library_21, ↓rX0_library_22, ↓rX0_library_25, ↓rX0_library_28, ↓rX0_library_29, ↓rX0_library_30, ↓rX0_library_31, ↓rX0_library_34, ↓rX0_library_37, ↓rX0_library_39, ↓rX0_library_40, ↓rX0_library_43, ↓rX0_library_44, ↓rX0_library_45, ↓rX0_library_46, ↓rX0_library_49, ↓rX0_library_50, ↓rX0_library_53, ↓rX0_library_56, ↓rX0_library_57, ↓rX0_library_58, ↓rX0_library_59, ↓rX0_library_62, ↓rX0_library_63, ↓rX0_library_66, ↓rX0_library_69, lG_32, lG_34, lG_36, lG_46, lG_48, lG_56, lG_58, lG_39, lG_41, lG_43, lG_45, lG_53, lG_55, lG_51, lG_60, lG_63, lI_1, lI_2, lI_4, lI_6, lI_7, lI_3, lP_32, lP_34, lP_36, lP_46, lP_48, lP_56, lP_58, lP_51, lP_60, lP_63, lW_1, lW_2, lW_4, lW_6, lW_7, lW_3, lo_K, lo_L, lo_R, lo_N, lo_C, lo_S, lo_F, lo_I, ↓rmI_in, ↓shrI_in, ↓shlI_in, ↓okI_in, ↓bI_01, bI_z, bI_o, nn_neg, Int.cast_ofNat_Int, zlit, n_leT, n_leF, n_ltT, n_ltF, n_eqT, n_eqF, z_leT, z_leF, z_ltT, z_ltF, z_eqT, z_eqF, nn_add, nn_mul, nn_clamp, nn_lt, nn_le, nn_eq, nn_div, rmI_nn, okI_nn, nn_and, nn_or, nn_xor, shlI_1, shrI_nn, Cont_v, Cont_0, List.mem_cons, List.not_mem_nil, or_false, or_true, true_or, true_and, and_true, ite_not, if_true, if_false, not_true_eq_false, not_false_eq_true, false_or, false_and, and_false, eq_self, ↓reduceIte, reduceCtorEq, kG, ↓hq, CM.k0 MM, CM.k1 MM, CM.l1 MM, CM.k2 MM, CM.l2 MM, CM.k19 MM, CM.l19 MM, CM.k20 MM, CM.l20 MM, CM.k23 MM, CM.l23 MM, CM.k24 MM, CM.l24 MM, CM.k25 MM, CM.l25 MM, CM.f3 MM, CM.f5 MM, CM.f11 MM, CM.f13 MM, CM.f15 MM, CM.f19 MM, CM.f25 MM, CM.f27 MM, CM.f31 MM, f153, kR2, k3, k31, ↓hb, gK_pF, gF_pF, ↓hmany]
