/-! SOUNDNESS: array reads and writes, casts, throws, array copies -/
section ARRS
variable {mi : MI} {pc : Nat}
/-- an array of ints, bytes or booleans of ours -/
theorem arrI {D : va_G} {cA : Nat → ClassId} {z : Nat} {s : State} {h : Hp} {H : Heap} {a j : Nat} {ty : FieldType} (hcx : CxZ D cA s) (hR : RpZ D cA z s h H) (hj : j < 3) (hk : gK h a = 51 + j) (hjt : (zTy cA)[j]? = some (cA j, ty)) : z ≤ a ∧ H[a]? = some (arrV (cA j) (gL h a) (fun i => .int (gI h a i))) ∧ s.isArrayOf (arrV (cA j) (gL h a) (fun i => .int (gI h a i))) ty := by
  obtain ⟨q1, q2⟩ := (hR.2.2.2.2.1 a).2.1 j hj hk
  rw [vp_cell_i] at q2
  exact ⟨q1, q2, (hcx.2.2.1.2 j _ hjt).1 _ _⟩
theorem arrR {D : va_G} {cA : Nat → ClassId} {z : Nat} {s : State} {h : Hp} {H : Heap} {a j : Nat} {C : String} (hcx : CxZ D cA s) (hR : RpZ D cA z s h H) (hj : j < 4) (hk : gK h a = 54 + j) (hjt : (zTy cA)[3 + j]? = some (cA (3 + j), .object C)) : z ≤ a ∧ H[a]? = some (arrV (cA (3 + j)) (gL h a) (fun i => va_rf (gR h a i))) ∧ s.isArrayOf (arrV (cA (3 + j)) (gL h a) (fun i => va_rf (gR h a i))) (.object C) := by
  obtain ⟨q1, q2⟩ := (hR.2.2.2.2.1 a).2.2.1 j hj hk
  rw [vp_cell_q] at q2
  exact ⟨q1, q2, (hcx.2.2.1.2 (3 + j) _ hjt).1 _ _⟩
theorem arrL {cI : ClassId} {N : Nat} {f : Nat → Value} {n : Int32} (h : ¬ (n < 0 ∨ N ≤ n.toNatClampNeg)) : ¬ (n < 0 ∨ (arrV cI N f).slots.size ≤ n.toNatClampNeg) := by rw [arrV_size]; exact h
/-- reads: iaload, baload of bytes and booleans -/
theorem s_ald {i : Instr} {j : Nat} {ty : FieldType} (hj : j < 3) (hjt : ∀ cA : Nat → ClassId, (zTy cA)[j]? = some (cA j, ty)) (hd : decode mi.1 pc = .ok (i, 1)) (hi : (i = .iaload ∧ ty = .int) ∨ (i = .baload ∧ ty = .byte) ∨ (i = .baload ∧ ty = .boolean)) : SiZ mi pc (i_iald (51 + j) (pc + 1)) := by
  intro D cA z p l e R s m args below meth c K hC ls st h o hll ho hO
  simp only [i_iald] at ho
  split at ho
  · split at ho
    · rename_i i' a st' hg
      cases ho
      intro H locs cells slots lsr g1 g2 g3 g4 g5
      obtain ⟨q1, q2, q3⟩ := arrI hC.2.2.2.2.2.2.2.2.2.2 g1 hj hg.1 (hjt cA)
      have hlt : i'.toNatClampNeg < gL h a := Nat.not_le.mp fun q => hg.2 (Or.inr q)
      have hv := arrV_read (cA j) (fun i => .int (gI h a i)) hlt
      have hO' := hO hll H locs cells slots lsr g1 g2 g3 g4 g5
      rcases hi with ⟨rfl, rfl⟩ | ⟨rfl, rfl⟩ | ⟨rfl, rfl⟩
      · exact W.iald hC.1 hC.2.1 q2 q3 (fun q => by cases q) (arrL hg.2) hv rfl rfl hd hO'
      · exact W.bald hC.1 hC.2.1 q2 q3 (fun q => by cases q) (arrL hg.2) hv rfl rfl hd hO'
      · exact W.zald hC.1 hC.2.1 q2 q3 (fun q => by cases q) (arrL hg.2) hv rfl rfl hd hO'
    · cases ho
  · cases ho
/-- the law's script -/
theorem s_aldX (hd : decode mi.1 pc = .ok (.iaload, 1)) : SiZ mi pc (i_iald 58 (pc + 1)) := by
  intro D cA z p l e R s m args below meth c K hC ls st h o hll ho hO
  simp only [i_iald] at ho
  split at ho
  · split at ho
    · rename_i i' a st' hg
      cases ho
      intro H locs cells slots lsr g1 g2 g3 g4 g5
      obtain ⟨-, cell, q1, q2, q3, q4, q5⟩ := (g1.2.2.2.2.1 a).2.2.2.1 hg.1
      have hlt : i'.toNatClampNeg < gL h a := Nat.not_le.mp fun q => hg.2 (Or.inr q)
      exact W.iald hC.1 hC.2.1 q1 q2 q3 (by rw [q4]; exact hg.2) (q5 _ hlt) rfl rfl hd (hO hll H locs cells slots lsr g1 g2 g3 g4 g5)
    · cases ho
  · cases ho
/-- the String constant's bytes -/
theorem s_aldB (hd : decode mi.1 pc = .ok (.baload, 1)) : SiZ mi pc (i_iald 61 (pc + 1)) := by
  intro D cA z p l e R s m args below meth c K hC ls st h o hll ho hO
  simp only [i_iald] at ho
  split at ho
  · split at ho
    · rename_i i' a st' hg
      cases ho
      intro H locs cells slots lsr g1 g2 g3 g4 g5
      obtain ⟨-, cell, q1, q2, q3, q4, q5⟩ := (g1.2.2.2.2.1 a).2.2.2.2.2.2.1 hg.1
      have hlt : i'.toNatClampNeg < gL h a := Nat.not_le.mp fun q => hg.2 (Or.inr q)
      exact W.bald hC.1 hC.2.1 q1 q2 q3 (by rw [q4]; exact hg.2) (q5 _ hlt) rfl rfl hd (hO hll H locs cells slots lsr g1 g2 g3 g4 g5)
    · cases ho
  · cases ho
/-- lengths -/
def AlZ (k : Nat) : Prop := (∃ j ty, j < 3 ∧ k = 51 + j ∧ ∀ cA : Nat → ClassId, (zTy cA)[j]? = some (cA j, ty)) ∨ (∃ j C, j < 4 ∧ k = 54 + j ∧ ∀ cA : Nat → ClassId, (zTy cA)[3 + j]? = some (cA (3 + j), .object C)) ∨ k = 58 ∨ k = 59 ∨ k = 61
theorem s_alen {ks : List Nat} (hd : decode mi.1 pc = .ok (.arraylength, 1)) (hks : ∀ k ∈ ks, AlZ k) : SiZ mi pc (i_alen ks (pc + 1)) := by
  intro D cA z p l e R s m args below meth c K hC ls st h o hll ho hO
  simp only [i_alen] at ho
  split at ho
  · split at ho
    · rename_i a st' hg
      cases ho
      intro H locs cells slots lsr g1 g2 g3 g4 g5
      have hO' := hO hll H locs cells slots lsr g1 g2 g3 g4 g5
      rcases hks _ hg with ⟨j, ty, hj, hk, hjt⟩ | ⟨j, C, hj, hk, hjt⟩ | hk | hk | hk
      · obtain ⟨q1, q2, q3⟩ := arrI hC.2.2.2.2.2.2.2.2.2.2 g1 hj hk (hjt cA)
        exact W.alen hC.1 hC.2.1 q2 q3 (by rw [arrV_size]; rfl) rfl rfl hd hO'
      · obtain ⟨q1, q2, q3⟩ := arrR hC.2.2.2.2.2.2.2.2.2.2 g1 hj hk (hjt cA)
        exact W.alen hC.1 hC.2.1 q2 q3 (by rw [arrV_size]; rfl) rfl rfl hd hO'
      · obtain ⟨-, cell, q1, q2, q3, q4, q5⟩ := (g1.2.2.2.2.1 a).2.2.2.1 hk
        exact W.alen hC.1 hC.2.1 q1 q2 (by rw [q4]; rfl) rfl rfl hd hO'
      · obtain ⟨-, cell, q1, q2, q3, q4⟩ := (g1.2.2.2.2.1 a).2.2.2.2.1 hk
        exact W.alen hC.1 hC.2.1 q1 q2 (by rw [q4]; rfl) rfl rfl hd hO'
      · obtain ⟨-, cell, q1, q2, q3, q4, q5⟩ := (g1.2.2.2.2.1 a).2.2.2.2.2.2.1 hk
        exact W.alen hC.1 hC.2.1 q1 q2 (by rw [q4]; rfl) rfl rfl hd hO'
    · cases ho
  · cases ho
/-- our picture behind a write to an array of ints -/
theorem RpZ.wrI {D : va_G} {cA : Nat → ClassId} {z : Nat} {s : State} {h h' : Hp} {H H' : Heap} {a j : Nat} (hR : RpZ D cA z s h H) (hj : j < 3) (hk : gK h a = 51 + j) (hz : z ≤ a) (e1 : ∀ b, gK h' b = gK h b) (e2 : ∀ b, gL h' b = gL h b) (e3 : ∀ f b, gF h' f b = gF h f b) (e4 : ∀ b, b ≠ a → gI h' b = gI h b) (e5 : ∀ b, gR h' b = gR h b) (eN : gN h' = gN h) (w1 : H'[a]? = some (arrV (cA j) (gL h a) (fun i => .int (gI h' a i)))) (w2 : H'.size = H.size) (w3 : ∀ q, q ≠ a → H'[q]? = H[q]?) : RpZ D cA z s h' H' := by
  refine hR.set (a := a) hz eN w2 e1 (fun b _ => e2 b) (fun f b _ => e3 f b) e4 (fun b _ => e5 b) w3 ?_
  have hkk : gK h' a = 51 + j := (e1 a).trans hk
  refine ⟨fun ci' r' hc' hk' => ?_, fun j' hj' hk' => ?_, fun j' hj' hk' => ?_, fun hk' => ?_, fun hk' => ?_, fun hk' => ?_, fun hk' => ?_, fun j' hj' hk' => ?_⟩
  · have h16 : ci' < 16 := (List.getElem?_eq_some_iff.mp hc').1
    exact absurd (hkk.symm.trans hk') (by omega)
  · have : j' = j := by have : 51 + j' = 51 + j := hk'.symm.trans hkk; omega
    subst this
    exact ⟨hz, by rw [w1, vp_cell_i, e2]⟩
  · exact absurd (hkk.symm.trans hk') (by omega)
  · exact absurd (hkk.symm.trans hk') (by omega)
  · exact absurd (hkk.symm.trans hk') (by omega)
  · exact absurd (hkk.symm.trans hk') (by omega)
  · exact absurd (hkk.symm.trans hk') (by omega)
  · exact absurd (hkk.symm.trans hk') (by omega)
theorem upd_arr {cI : ClassId} {N : Nat} {h : Hp} {a k : Nat} {x : Int32} : (arrV cI N (fun i => .int (gI h a i))).setSlot k (.int x) = arrV cI N (fun i => .int (gI (pI h a k x) a i)) := by
  rw [arrV_store]
  congr 1
  funext i
  rw [gI_pI]
  by_cases hi : i = k
  · subst hi; simp [updV]
  · simp [updV, hi]
theorem s_ast {i : Instr} {j : Nat} {ty : FieldType} {f : Int32 → Int32} (hj : j < 3) (hjt : ∀ cA : Nat → ClassId, (zTy cA)[j]? = some (cA j, ty)) (hd : decode mi.1 pc = .ok (i, 1)) (hi : (i = .iastore ∧ ty = .int ∧ f = fun x => x) ∨ (i = .bastore ∧ ty = .byte ∧ f = fun x => x.toInt8.toInt32) ∨ (i = .bastore ∧ ty = .boolean ∧ f = fun x => x &&& 1)) : SiZ mi pc (i_iast (51 + j) f (pc + 1)) := by
  intro D cA z p l e R s m args below meth c K hC ls st h o hll ho hO
  simp only [i_iast] at ho
  split at ho
  · split at ho
    · rename_i x i' a st' hg
      cases ho
      intro H locs cells slots lsr g1 g2 g3 g4 g5
      obtain ⟨q1, q2, q3⟩ := arrI hC.2.2.2.2.2.2.2.2.2.2 g1 hj hg.1 (hjt cA)
      have hnext : ∀ (H' : Heap), H'[a]? = some ((arrV (cA j) (gL h a) (fun i => .int (gI h a i))).setSlot i'.toNatClampNeg (.int (f x))) → H'.size = H.size → (∀ q, q ≠ a → H'[q]? = H[q]?) → W p l e R s m args below meth c H' (locs ++ [⟨a, i'.toNatClampNeg⟩]) cells slots (FinZ D cA z R s below K) (F0 m (pc + 1) lsr st') := by
        intro H' w1 w2 w3
        refine hO hll H' _ cells slots lsr ?_ ?_ g3 g4 g5
        · refine g1.wrI hj hg.1 q1 (fun _ => rfl) (fun _ => rfl) (fun _ _ => rfl) (fun b hb => ?_) (fun _ => rfl) rfl (by rw [w1, upd_arr]) w2 w3
          funext k
          show gI (pI h a i'.toNatClampNeg (f x)) b k = _
          rw [gI_pI, if_neg (fun w => hb w.1)]
        · intro q hq
          rcases List.mem_append.mp hq with w | w
          · exact g2 q w
          · rw [List.mem_singleton.mp w]; exact q1
      rcases hi with ⟨rfl, rfl, rfl⟩ | ⟨rfl, rfl, rfl⟩ | ⟨rfl, rfl, rfl⟩
      · exact W.iast hC.1 hC.2.1 q2 q3 (fun q => by cases q) (arrL hg.2) rfl rfl hd hnext
      · exact W.bast hC.1 hC.2.1 q2 q3 (fun q => by cases q) (arrL hg.2) rfl rfl hd hnext
      · exact W.zast hC.1 hC.2.1 q2 q3 (fun q => by cases q) (arrL hg.2) rfl rfl hd hnext
    · cases ho
  · cases ho
theorem s_aald {j : Nat} {C : String} (hj : j < 4) (hjt : ∀ cA : Nat → ClassId, (zTy cA)[3 + j]? = some (cA (3 + j), .object C)) (hd : decode mi.1 pc = .ok (.aaload, 1)) : SiZ mi pc (i_aald (54 + j) (pc + 1)) := by
  intro D cA z p l e R s m args below meth c K hC ls st h o hll ho hO
  simp only [i_aald] at ho
  split at ho
  · split at ho
    · rename_i i' a st' hg
      cases ho
      intro H locs cells slots lsr g1 g2 g3 g4 g5
      obtain ⟨q1, q2, q3⟩ := arrR hC.2.2.2.2.2.2.2.2.2.2 g1 hj hg.1 (hjt cA)
      have hlt : i'.toNatClampNeg < gL h a := Nat.not_le.mp fun q => hg.2 (Or.inr q)
      exact W.aald (ty := .object C) hC.1 hC.2.1 q2 q3 rfl (fun q => by cases q) (arrL hg.2) (arrV_read _ (fun i => va_rf (gR h a i)) hlt) rfl rfl hd (hO hll H locs cells slots lsr g1 g2 g3 g4 g5)
    · cases ho
  · cases ho
theorem upd_arrR {cI : ClassId} {N : Nat} {h : Hp} {a k : Nat} {x : Option Nat} : (arrV cI N (fun i => va_rf (gR h a i))).setSlot k (va_rf x) = arrV cI N (fun i => va_rf (gR (pR h a k x) a i)) := by
  rw [arrV_store]
  congr 1
  funext i
  rw [gR_pR]
  by_cases hi : i = k
  · subst hi; simp [updV]
  · simp [updV, hi]
theorem RpZ.wrR {D : va_G} {cA : Nat → ClassId} {z : Nat} {s : State} {h : Hp} {H H' : Heap} {a j k : Nat} {x : Option Nat} (hR : RpZ D cA z s h H) (hj : j < 4) (hk : gK h a = 54 + j) (hz : z ≤ a) (w1 : H'[a]? = some (arrV (cA (3 + j)) (gL h a) (fun i => va_rf (gR (pR h a k x) a i)))) (w2 : H'.size = H.size) (w3 : ∀ q, q ≠ a → H'[q]? = H[q]?) : RpZ D cA z s (pR h a k x) H' := by
  refine hR.set (a := a) hz rfl w2 (fun _ => rfl) (fun _ _ => rfl) (fun _ _ _ => rfl) (fun _ _ => rfl) (fun b hb => ?_) w3 ?_
  · funext i
    rw [gR_pR, if_neg (fun w => hb w.1)]
  have hkk : gK (pR h a k x) a = 54 + j := hk
  refine ⟨fun ci' r' hc' hk' => ?_, fun j' hj' hk' => ?_, fun j' hj' hk' => ?_, fun hk' => ?_, fun hk' => ?_, fun hk' => ?_, fun hk' => ?_, fun j' hj' hk' => ?_⟩
  · have h16 : ci' < 16 := (List.getElem?_eq_some_iff.mp hc').1
    exact absurd (hkk.symm.trans hk') (by omega)
  · exact absurd (hkk.symm.trans hk') (by omega)
  · have : j' = j := by have : 54 + j' = 54 + j := hk'.symm.trans hkk; omega
    subst this
    exact ⟨hz, by rw [w1, vp_cell_q]; rfl⟩
  · exact absurd (hkk.symm.trans hk') (by omega)
  · exact absurd (hkk.symm.trans hk') (by omega)
  · exact absurd (hkk.symm.trans hk') (by omega)
  · exact absurd (hkk.symm.trans hk') (by omega)
  · exact absurd (hkk.symm.trans hk') (by omega)
theorem s_aast {j : Nat} {C : String} {ks : List Nat} (hj : j < 4) (hjt : ∀ cA : Nat → ClassId, (zTy cA)[3 + j]? = some (cA (3 + j), .object C)) (hd : decode mi.1 pc = .ok (.aastore, 1)) (hks : ∀ k ∈ ks, ∃ ci r, k = ci + 1 ∧ zCl[ci]? = some r ∧ (r.1 = C ∨ Cond.castable r.1 C ∈ lw_tbl)) : SiZ mi pc (i_aast (54 + j) ks (pc + 1)) := by
  intro D cA z p l e R s m args below meth c K hC ls st h o hll ho hO
  simp only [i_aast] at ho
  split at ho
  · split at ho
    · rename_i x i' a st' hg
      cases ho
      intro H locs cells slots lsr g1 g2 g3 g4 g5
      have hcx := hC.2.2.2.2.2.2.2.2.2.2
      obtain ⟨q1, q2, q3⟩ := arrR hcx g1 hj hg.1 (hjt cA)
      obtain ⟨ci, r, e1, e2, e3⟩ := hks _ hg.2.1
      obtain ⟨-, cellV, v1, v2, v3, -⟩ := (g1.2.2.2.2.1 x).1 ci r e2 e1
      obtain ⟨-, hfc, kV, hkV, hkindV⟩ := hcx.2.2.1.1 ci r e2
      obtain ⟨kA, comp, k1, k2, k3, -⟩ := (hcx.2.2.1.2 (3 + j) _ (hjt cA)).2
      obtain ⟨kE, hkE, -⟩ := Vm.findClass_spec k3
      have hasg : s.vm.assignable cellV.cls comp = true := by
        rcases e3 with e3 | e3
        · have : cellV.cls = comp := by rw [v2]; rw [e3] at hfc; exact Option.some.inj (hfc.symm.trans k3)
          rw [← this, v2]
          exact va_assign ⟨hfc, kV, hkV, hkindV⟩
        · obtain ⟨c0, t0, f1, f2, f3⟩ := Cond.castable_spec (va_Nw.use (A := args) rfl (hcx.2.1 _ e3 rfl))
          have a1 : c0 = D.1 ci := Option.some.inj (f1.symm.trans hfc)
          have a2 : t0 = comp := Option.some.inj (f2.symm.trans k3)
          rw [v2, ← a1, ← a2]
          exact f3
      refine W.aast hC.1 hC.2.1 q2 (fun q w => by cases w) (fun w => by cases w) k1 k2 rfl hkE ⟨fun w => hg.2.2 (Or.inl w), by rw [arrV_size]; exact Nat.not_le.mp fun w => hg.2.2 (Or.inr w)⟩ v1 (fun q w => by rw [v3] at w; cases w) (by rw [v2]; exact hkV) hasg rfl rfl hd fun H' w1 w2 w3 => ?_
      refine hO hll H' _ cells slots lsr (g1.wrR hj hg.1 q1 (by rw [w1]; exact congrArg some (upd_arrR (x := some x))) w2 w3) ?_ g3 g4 g5
      intro q hq
      rcases List.mem_append.mp hq with w | w
      · exact g2 q w
      · rw [List.mem_singleton.mp w]; exact q1
    · cases ho
  · split at ho
    · rename_i i' a st' hg
      cases ho
      intro H locs cells slots lsr g1 g2 g3 g4 g5
      have hcx := hC.2.2.2.2.2.2.2.2.2.2
      obtain ⟨q1, q2, q3⟩ := arrR hcx g1 hj hg.1 (hjt cA)
      refine va_WaastN (C := C) hC.1 hC.2.1 q2 q3 (fun w => by cases w) (arrL hg.2) rfl rfl hd fun H' w1 w2 w3 => ?_
      refine hO hll H' _ cells slots lsr (g1.wrR hj hg.1 q1 (by rw [w1]; exact congrArg some (upd_arrR (x := none))) w2 w3) ?_ g3 g4 g5
      intro q hq
      rcases List.mem_append.mp hq with w | w
      · exact g2 q w
      · rw [List.mem_singleton.mp w]; exact q1
    · cases ho
  · cases ho
/-- a cast that goes well -/
theorem s_cast {idx : Nat} {T : String} {ks : List Nat} (hd : decode mi.1 pc = .ok (.checkcast idx, 3)) (hl : Cond.classLink mi.2.2.2.1 idx T ∈ lw_all) (hks : ∀ k ∈ ks, ∃ ci r, k = ci + 1 ∧ zCl[ci]? = some r ∧ (r.1 = T ∨ Cond.castable r.1 T ∈ lw_tbl)) : SiZ mi pc (i_cast ks (pc + 3)) := by
  intro D cA z p l e R s m args below meth c K hC ls st h o hll ho hO
  simp only [i_cast] at ho
  split at ho
  · split at ho
    · rename_i a st' hg
      cases ho
      intro H locs cells slots lsr g1 g2 g3 g4 g5
      have hcx := hC.2.2.2.2.2.2.2.2.2.2
      obtain ⟨ci, r, e1, e2, e3⟩ := hks _ hg
      obtain ⟨-, cellV, v1, v2, v3, -⟩ := (g1.2.2.2.2.1 a).1 ci r e2 e1
      obtain ⟨-, hfc, kV, hkV, hkindV⟩ := hcx.2.2.1.1 ci r e2
      have hO' := hO hll H locs cells slots lsr g1 g2 g3 g4 g5
      rcases e3 with e3 | e3
      · exact va_castS hC.1 hC.2.1 hC.2.2.2.2.1 (hcx.1 _ hl _) (cC := D.1 ci) (by rw [← e3]; exact ⟨hfc, kV, hkV, hkindV⟩) ⟨cellV, v1, by rw [v3]; rfl, by rw [v2, ← e3]; exact hfc⟩ hd hO'
      · exact va_castY hC.1 hC.2.1 hC.2.2.2.2.1 (hcx.1 _ hl _) (hcx.2.1 _ e3 rfl) ⟨cellV, v1, by rw [v3]; rfl, by rw [v2]; exact hfc⟩ hd hO'
    · cases ho
  · cases ho
    intro H locs cells slots lsr g1 g2 g3 g4 g5
    exact lv_castN hC.1 hC.2.1 hd (hO hll H locs cells slots lsr g1 g2 g3 g4 g5)
  · cases ho
/-- a throw -/
theorem s_thr (hd : decode mi.1 pc = .ok (.athrow, 1)) : SiZ mi pc i_thr := by
  intro D cA z p l e R s m args below meth c K hC ls st h o hll ho hO
  simp only [i_thr] at ho
  split at ho
  · rename_i a st'
    cases ho
    intro H locs cells slots lsr g1 g2 g3 g4 g5 T hT X
    obtain ⟨t, a1, b1⟩ := hO H locs cells slots lsr st' g1 g2 g3 g4 g5 T hT X
    refine ⟨t, ?_, b1⟩
    jvm_step X.here [X.here.top, hC.1, hC.2.1, hd]
    exact a1
  · cases ho
end ARRS
