/-! THE CLASS'S ACTS: what is kept -/
theorem SmX.trans {h1 h2 h3 : Hp} {x : Nat} (a : SmX h1 h2 x) (b : SmX h2 h3 x) : SmX h1 h3 x := ⟨b.1.trans a.1, b.2.1.trans a.2.1, fun f => (b.2.2.1 f).trans (a.2.2.1 f), fun i => (b.2.2.2.1 i).trans (a.2.2.2.1 i), fun i => (b.2.2.2.2 i).trans (a.2.2.2.2 i)⟩
theorem PrL.lb {h : Hp} {a : Nat} (K : LK h a) (s : St) (n : Nat → Nat) (p : Nat) (tf : Int32) (tk : Value) : PrL h (LB h a s n p tf tk) := by
  refine ⟨Nat.le_refl _, fun x hx hk => ?_⟩
  by_cases e : a ≤ x ∧ x ≤ a + 7 ∧ x ≠ a + 5
  · exfalso
    obtain ⟨k0, ⟨k1, k2, k3, k4, k6, k7⟩, -⟩ := K
    obtain e | e | e | e | e | e | e : x = a ∨ x = a + 1 ∨ x = a + 2 ∨ x = a + 3 ∨ x = a + 4 ∨ x = a + 6 ∨ x = a + 7 := by omega
    · rw [e, k0] at hk; omega
    · rw [e, k1] at hk; omega
    · rw [e, k2] at hk; omega
    · rw [e, k3] at hk; omega
    · rw [e, k4] at hk; omega
    · rw [e, k6] at hk; omega
    · rw [e, k7] at hk; omega
  · exact LB_sm _ _ _ _ _ _ _ e
def KpN (h h' : Hp) (c n m : Nat) : Prop := (gN h ≤ gN h' ∧ gC h ≤ gC h' + n ∧ gS h ≤ gS h' + m) ∧ (∀ k, k < 16 → SmX h h' (c + 31 + k)) ∧ ∀ x, x < c → SmX h h' x
theorem KpN.kp {h h' : Hp} {c n m : Nat} (H : KpN h h' c n m) (hn : n ≤ 256) (hm : m ≤ 2048) : Kp h h' c := by
  obtain ⟨⟨h1, h2, h3⟩, h4, h5⟩ := H
  exact ⟨⟨h1, by omega, by omega⟩, h4, h5⟩
theorem KpN.trans {h1 h2 h3 : Hp} {c n m n' m' : Nat} (A : KpN h1 h2 c n m) (B : KpN h2 h3 c n' m') : KpN h1 h3 c (n + n') (m + m') := by
  obtain ⟨⟨a1, a2, a3⟩, a4, a5⟩ := A
  obtain ⟨⟨b1, b2, b3⟩, b4, b5⟩ := B
  exact ⟨⟨by omega, by omega, by omega⟩, fun k hk => (a4 k hk).trans (b4 k hk), fun x hx => (a5 x hx).trans (b5 x hx)⟩
theorem KpN.rfl' (h : Hp) (c : Nat) : KpN h h c 0 0 := ⟨⟨Nat.le_refl _, Nat.le_refl _, Nat.le_refl _⟩, fun _ _ => SmX.rfl' _ _, fun _ _ => SmX.rfl' _ _⟩
section KEEP
variable {h h' : Hp} {c : Nat} {X X' : XS} {ow ow' q u w : Nat → Nat} {mx tr : Nat}
theorem PaI.keep (H : PaI h c X ow q mx) (hm : xm X' = xm X) (hA : ∀ k, k < xm X → xA X' k = xA X k ∧ WF (xA X k)) (hN : gN h ≤ gN h') (hO : ∀ x, x < gN h → ow' x = ow x) (hR : ∀ i, gR h' (c + 19) i = gR h (c + 19) i) (hS : ∀ k, k < mx → SmB h h' (q k) 8) (hP : PrL h h') : PaI h' c X' ow' q mx := by
  obtain ⟨p1, p2, p3, p4, p5⟩ := H
  refine ⟨by rw [hm]; exact p1, fun k hk => (hR k).trans (p2 k hk), fun k hk => ?_, fun k hk => ?_, p5⟩
  · obtain ⟨⟨a1, a2⟩, a3, a4⟩ := p3 k hk
    exact ⟨⟨a1, by omega⟩, a3.keep (hS k hk), fun i hi => by rw [hO _ (by omega)]; exact a4 i hi⟩
  · rw [hm] at hk
    obtain ⟨e, hW⟩ := hA k hk
    rw [e]
    exact (p4 k hk).keep hW (hS k (by omega)) hP
theorem ImI.keep (H : ImI h c X ow u) (hk' : ∀ k, k < 2 → xk X' k = xk X k) (hB : ∀ k, k < 2 → xk X k = true → xB X' k = xB X k ∧ WF (xB X k)) (hN : gN h ≤ gN h') (hO : ∀ x, x < gN h → ow' x = ow x) (hR : ∀ i, gR h' (c + 20) i = gR h (c + 20) i) (hS : ∀ k, k < 2 → xk X k = true → SmB h h' (u k) 8) (hP : PrL h h') : ImI h' c X' ow' u := by
  obtain ⟨p1, p2, p3⟩ := H
  refine ⟨fun k hk => by rw [hk' k hk]; exact (hR k).trans (p1 k hk), fun k hk hx => ?_, fun h0 h1 => p3 (by rw [← hk' 0 (by omega)]; exact h0) (by rw [← hk' 1 (by omega)]; exact h1)⟩
  rw [hk' k hk] at hx
  obtain ⟨⟨a1, a2⟩, a3, a4⟩ := p2 k hk hx
  obtain ⟨e, hW⟩ := hB k hk hx
  rw [e]
  exact ⟨⟨a1, by omega⟩, a3.keep hW (hS k hk hx) hP, fun i hi => by rw [hO _ (by omega)]; exact a4 i hi⟩
theorem RoI.keep (H : RoI h c X ow w) (hr : ∀ r, r < 8 → xr X' r = xr X r) (hN : gN h ≤ gN h') (hO : ∀ x, x < gN h → ow' x = ow x) (hR : ∀ i, gR h' (c + 1) i = gR h (c + 1) i) (hS : ∀ r, r < 8 → (xr X r).isSome = true → SmB h h' (w r) 2) : RoI h' c X' ow' w := by
  obtain ⟨p1, p2, p3⟩ := H
  refine ⟨fun r hr' hx => (hR r).trans (p1 r hr' (by rw [← hr r hr']; exact hx)), fun r hr' p hx => ?_, fun j k hj hk h1 h2 e => p3 j k hj hk (by rw [← hr j hj]; exact h1) (by rw [← hr k hk]; exact h2) e⟩
  rw [hr r hr'] at hx
  obtain ⟨a1, ⟨a2, a3⟩, ⟨a4, a5, a6⟩, ⟨a7, a8, a9⟩, a10, a11⟩ := p2 r hr' p hx
  have hs := hS r hr' (by rw [hx]; rfl)
  obtain ⟨b1, b2, b3, b4, b5⟩ := hs 0 (by omega)
  obtain ⟨d1, d2, d3, d4, d5⟩ := hs 1 (by omega)
  exact ⟨(hR r).trans a1, ⟨a2, by omega⟩, ⟨b1.trans a4, (b3 _).trans a5, (b3 _).trans a6⟩, ⟨d1.trans a7, d2.trans a8, fun i hi => (d4 i).trans (a9 i hi)⟩, by rw [hO _ (by omega)]; exact a10, by rw [hO _ (by omega)]; exact a11⟩
theorem TrI.keep (H : TrI h c X ow tr) (hy : xy X' = xy X) (hN : gN h ≤ gN h') (hO : ∀ x, x < gN h → ow' x = ow x) (h21 : gF h' 21 c = gF h 21 c) (hS : SmB h h' tr 2) : TrI h' c X' ow' tr := by
  obtain ⟨p1, p2, p3, ⟨p4, p5, p6⟩, ⟨p7, p8, p9⟩, p10, p11⟩ := H
  obtain ⟨b1, b2, b3, b4, b5⟩ := hS 0 (by omega)
  obtain ⟨d1, d2, d3, d4, d5⟩ := hS 1 (by omega)
  unfold TrI
  rw [hy]
  exact ⟨h21.trans p1, p2, by omega, ⟨b1.trans p4, (b3 _).trans p5, (b3 _).trans p6⟩, ⟨d1.trans p7, d2.trans p8, fun i hi => (d4 i).trans (p9 i hi)⟩, by rw [hO _ (by omega)]; exact p10, by rw [hO _ (by omega)]; exact p11⟩
/-- all that lies in blocks of their own, kept -/
theorem dyn_keep (hX : XOK X) (hPa : PaI h c X ow q mx) (hIm : ImI h c X ow u) (hRo : RoI h c X ow w) (hTr : TrI h c X ow tr) (e1 : xA X' = xA X) (e2 : xm X' = xm X) (e3 : xB X' = xB X) (e4 : xk X' = xk X) (e5 : xr X' = xr X) (e6 : xy X' = xy X) (hN : gN h ≤ gN h') (hR1 : ∀ i, gR h' (c + 1) i = gR h (c + 1) i) (hR19 : ∀ i, gR h' (c + 19) i = gR h (c + 19) i) (hR20 : ∀ i, gR h' (c + 20) i = gR h (c + 20) i) (h21 : gF h' 21 c = gF h 21 c) (hS : ∀ x, x < gN h → c + 47 ≤ x ∨ x = c + 21 ∨ x = c + 22 → SmX h h' x) (hP : PrL h h') : PaI h' c X' ow q mx ∧ ImI h' c X' ow u ∧ RoI h' c X' ow w ∧ TrI h' c X' ow tr := by
  refine ⟨hPa.keep e2 (fun k hk => ⟨by rw [e1], (hX.2.1.2 k hk).1⟩) hN (fun _ _ => rfl) hR19 (fun k hk i hi => ?_) hP, hIm.keep (fun k _ => by rw [e4]) (fun k hk hx => ⟨by rw [e3], (hX.2.2.1 k hk hx).1⟩) hN (fun _ _ => rfl) hR20 (fun k hk hx i hi => ?_) hP, hRo.keep (fun r _ => by rw [e5]) hN (fun _ _ => rfl) hR1 (fun r hr hx i hi => ?_), hTr.keep e6 hN (fun _ _ => rfl) h21 (fun i hi => ?_)⟩
  · obtain ⟨⟨a1, a2⟩, -⟩ := hPa.2.2.1 k hk
    exact hS _ (by omega) (Or.inl (by omega))
  · obtain ⟨⟨a1, a2⟩, -⟩ := hIm.2.1 k hk hx
    exact hS _ (by omega) (Or.inl (by omega))
  · obtain ⟨v, hv⟩ := Option.isSome_iff_exists.mp hx
    obtain ⟨-, ⟨a1, a2⟩, -⟩ := hRo.2.1 r hr v hv
    exact hS _ (by omega) (Or.inl (by omega))
  · obtain ⟨-, a1, a2, -⟩ := hTr
    exact hS _ (by omega) (by omega)
end KEEP
/-- the library itself is another one -/
theorem CInv.lib {h : Hp} {c : Nat} {X : XS} (H : CInv h c X) (hX : XOK X) {s' : St} {n' : Nat → Nat} {p' : Nat} {tf' : Int32} {tk' : Value} (hW : WF s') (hn : ∀ j, j < (s' 0 : Nat) → n' j = bookAt s' j) (hL : LL h p' s') (ht : tf' = zI (-1000000)) : CInv (LB h (c + 3) s' n' p' tf' tk') c (us X s') ∧ KpN h (LB h (c + 3) s' n' p' tf' tk') c 0 0 := by
  obtain ⟨m1, ⟨⟨s1, s2⟩, ⟨s3, s4⟩, ⟨s5, s6⟩, s7⟩, ⟨m3, m4⟩, ⟨g1, g2, g3, g4⟩, m5, m6, m7, ow, q, mx, u', w, tr, hPa, hIm, hRo, hTr, hd⟩ := H
  have hk : LK h (c + 3) := by
    obtain ⟨_, _, _, _, x1, -⟩ := m6; exact x1.2.2
  have sm : ∀ x, ¬ (c + 3 ≤ x ∧ x ≤ c + 10 ∧ x ≠ c + 8) → SmX h (LB h (c + 3) s' n' p' tf' tk') x := fun x hx => LB_sm _ _ _ _ _ _ _ (by omega)
  have hP := PrL.lb hk s' n' p' tf' tk'
  have fc := fun f => (sm c (by omega)).2.2.1 f
  have f0 := fun f => (sm 0 (by omega)).2.2.1 f
  have dk := dyn_keep (h' := LB h (c + 3) s' n' p' tf' tk') (X' := us X s') hX hPa hIm hRo hTr rfl rfl rfl rfl rfl rfl (Nat.le_refl _) (fun _ => rfl) (fun _ => rfl) (fun _ => rfl) (fc 21) (fun x _ hx => sm x (by omega)) hP
  exact ⟨⟨m1.keep (fun k _ => ⟨rfl, rfl⟩) (fun f _ _ _ _ _ _ => fc f) (fun _ => rfl), ⟨⟨s1, (f0 _).trans s2⟩, ⟨s3, (f0 _).trans s4⟩, ⟨s5, (f0 _).trans s6⟩, s7⟩, ⟨m3, m4⟩, ⟨(fc 6).trans g1, (fc 8).trans g2, (fc 16).trans g3, (fc 22).trans g4⟩, fun i hi => ((sm (c + 2) (by omega)).2.2.2.1 i).trans (m5 i hi), ⟨n', p', tf', tk', HL.of hk, hn, hL.keep hW hP, ht⟩, m7.keep (fun k hk => sm _ (by omega)), ow, q, mx, u', w, tr, dk.1, dk.2.1, dk.2.2.1, dk.2.2.2, hd⟩, ⟨⟨Nat.le_refl _, Nat.le_refl _, Nat.le_refl _⟩, fun k _ => sm _ (by omega), fun x _ => sm x (by omega)⟩⟩
theorem pF_sm {h : Hp} {f c x : Nat} {v : Value} (hx : x ≠ c) : SmX h (pF h f c v) x := ⟨rfl, rfl, fun g => if_neg (fun q => hx q.2), fun _ => rfl, fun _ => rfl⟩
theorem pF_ne {h : Hp} {f g c x : Nat} {v : Value} (hg : g ≠ f) : gF (pF h f c v) g x = gF h g x := if_neg (fun q => hg q.1)
theorem pF_eq {h : Hp} {f c : Nat} {v : Value} : gF (pF h f c v) f c = v := if_pos ⟨rfl, rfl⟩
/-- how many acts are kept -/
theorem CInv.acts {h : Hp} {c m : Nat} {X : XS} (H : CInv h c X) (hX : XOK X) (hm : m ≤ xm X) : CInv (pF h 16 c (.int (nI m))) c (um X m) ∧ KpN h (pF h 16 c (.int (nI m))) c 0 0 := by
  obtain ⟨m1, ⟨⟨s1, s2⟩, ⟨s3, s4⟩, ⟨s5, s6⟩, s7⟩, ⟨m3, m4⟩, ⟨g1, g2, g3, g4⟩, m5, m6, m7, ow, q, mx, u', w, tr, hPa, hIm, hRo, hTr, hd⟩ := H
  have sm : ∀ x, x ≠ c → SmX h (pF h 16 c (.int (nI m))) x := fun x hx => pF_sm hx
  have fc : ∀ f, f ≠ 16 → gF (pF h 16 c (.int (nI m))) f c = gF h f c := fun f hf => pF_ne hf
  have f0 := fun f => (sm 0 (by omega)).2.2.1 f
  have hP : PrL h (pF h 16 c (.int (nI m))) := ⟨Nat.le_refl _, fun x _ hk => sm x (fun e => by rw [e, m1.k0] at hk; omega)⟩
  have hPa2 : PaI h c (um X m) ow q mx := by
    obtain ⟨p1, p2, p3, p4, p5⟩ := hPa
    exact ⟨⟨show m ≤ mx by omega, p1.2⟩, p2, p3, fun k hk => p4 k (show k < xm X by have : k < m := hk; omega), p5⟩
  have hX2 : XOK (um X m) := by
    obtain ⟨x1, ⟨x2, x3⟩, x4⟩ := hX
    exact ⟨x1, ⟨show m ≤ 24 by omega, fun k hk => x3 k (show k < xm X by have : k < m := hk; omega)⟩, x4⟩
  have dk := dyn_keep (h' := pF h 16 c (.int (nI m))) (X := um X m) (X' := um X m) hX2 hPa2 hIm hRo hTr rfl rfl rfl rfl rfl rfl (Nat.le_refl _) (fun _ => rfl) (fun _ => rfl) (fun _ => rfl) (fc 21 (by decide)) (fun x _ hx => sm x (by omega)) hP
  exact ⟨⟨m1.keep (fun k _ => ⟨rfl, rfl⟩) (fun f _ _ h3 _ _ _ => fc f h3) (fun _ => rfl), ⟨⟨s1, (f0 _).trans s2⟩, ⟨s3, (f0 _).trans s4⟩, ⟨s5, (f0 _).trans s6⟩, s7⟩, ⟨m3, m4⟩, ⟨(fc 6 (by decide)).trans g1, (fc 8 (by decide)).trans g2, pF_eq, (fc 22 (by decide)).trans g4⟩, fun i hi => m5 i hi, m6.keep hX.1.1 (fun k hk => sm _ (by omega)) hP, m7.keep (fun k hk => sm _ (by omega)), ow, q, mx, u', w, tr, dk.1, dk.2.1, dk.2.2.1, dk.2.2.2, hd⟩, ⟨⟨Nat.le_refl _, Nat.le_refl _, Nat.le_refl _⟩, fun k _ => sm _ (by omega), fun x _ => sm x (by omega)⟩⟩
/-- the status is another one -/
theorem CInv.stat {h h' : Hp} {c u : Nat} {X : XS} (H : CInv h c X) (hX : XOK X) (hN : gN h ≤ gN h') (hS : ∀ x, x < gN h → SmX h h' x) : CInv (pF h' 22 c (.int (nI u))) c (uu X u) := by
  have hc := H.2.2.1
  have T := H.2.2.2.2.2.2.1
  refine CInv.q (u := u) H hX hN (fun x hx => ⟨(hS x hx).1, (hS x hx).2.1⟩) (fun f => ?_) (fun f h1 _ => ?_) (fun i => (hS c (by omega)).2.2.2.2 i) (fun x hx h1 _ _ _ => (hS x hx).trans (pF_sm h1)) (T.keep (fun k hk => (hS _ (by omega)).trans (pF_sm (by omega)))) pF_eq
  · exact ((pF_sm (v := .int (nI u)) (f := 22) (show (0 : Nat) ≠ c by omega)).2.2.1 f).trans ((hS 0 (by omega)).2.2.1 f)
  · exact (pF_ne h1).trans ((hS c (by omega)).2.2.1 f)
