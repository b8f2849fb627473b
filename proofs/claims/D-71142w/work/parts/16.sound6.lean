/-! SOUNDNESS: new objects, arrays, casts, throws, array copies -/
section MAKES
variable {mi : MI} {pc : Nat}
theorem rest4 {st : List Value} (h : st.length ≤ 6) : (st.map fun v => v.category).sum ≤ 12 := by
  have key : ∀ st : List Value, (st.map fun v => v.category).sum ≤ 2 * st.length := by
    intro st
    induction st with
    | nil => exact Nat.le_refl _
    | cons v l ih =>
      simp only [List.map_cons, List.sum_cons, List.length_cons]
      rcases lv_cat v with e | e <;> omega
  have := key st
  omega
theorem s_oini {idx : Nat} (hd : decode mi.1 pc = .ok (.invokespecial idx, 3)) (h1 : Cond.methodLink mi.2.2.2.1 idx Lib.objectInit ∈ lw_all) (hfr : 1 ≤ mi.2.2.2.2.2.2.1) (hlo : 24 ≤ mi.2.2.2.2.2.2.2) : SiZ mi pc (i_oini (pc + 3)) := by
  intro D cA z p l e R s m args below meth c K hC ls st h o hll ho hO
  simp only [i_oini] at ho
  split at ho
  · split at ho
    · rename_i a st' hg
      cases ho
      intro H locs cells slots lsr g1 g2 g3 g4 g5
      obtain ⟨hx, hb, hml, -, hown, -, -, hF, hL, -, hcx⟩ := hC
      have := rest4 hg
      refine W.objInit hx hb hown (hcx.1 _ h1 _) (hcx.1 _ q116 _) (hcx.1 _ q117 _) rfl (by show lsr.size = _; rw [hml, g5.1]; exact hll) rfl hd (by omega) (by show 2 * 0 + _ + 12 ≤ _; omega) ?_
      exact hO hll H locs cells slots lsr g1 g2 g3 g4 g5
    · cases ho
  · cases ho
theorem s_new {idx k N n ci : Nat} {C : String} {T : u_T} {ty : Nat → FieldType} (hd : decode mi.1 pc = .ok (.new idx, 3)) (hcl : Cond.classLink mi.2.2.2.1 idx C ∈ lw_all) (hin : Cond.instantiable C n ∈ lw_all) (hini : Cond.initialized C ∈ lw_all) (hcs : ClsZ ci C T N ty) (hk : k = ci + 1) (hdef : ∀ j, j < N → defaultValue (ty j) = fDef (fid ci j)) : SiZ mi pc (i_new k n (pc + 3)) := by
  intro D cA z p l e R s m args below meth c K hC ls st h o hll ho hO
  simp only [i_new] at ho
  split at ho
  · rename_i hg
    cases ho
    intro H locs cells slots lsr g1 g2 g3 g4 g5
    obtain ⟨hx, hb, hml, -, hown, -, -, hF, hL, -, hcx⟩ := hC
    have hts : ∀ w ∈ lw_all, w.before args s = true := fun w hw => hcx.1 w hw args
    obtain ⟨hc, hinw, hty, -, hci, -⟩ := hcs
    have hKn := hcx.2.2.1.1 ci _ hc
    have hN : gN h = H.size := g1.1
    refine W.newcK hx hb hown (hts _ hcl) (hts _ hin) (hts _ hini) rfl hd (by have : cells + gC h ≤ R.cells := g3; omega) (by have : slots + gS h ≤ R.slots := g4; omega) hKn.2.1 rfl fun H1 kC hkC e1 z1 o1 => ?_
    have hO' := hO hll H1 locs (cells + 1) (slots + n) lsr ?_ g2 (by show cells + 1 + (gC h - 1) ≤ R.cells; have : cells + gC h ≤ R.cells := g3; omega) (by show slots + n + (gS h - n) ≤ R.slots; have : slots + gS h ≤ R.slots := g4; omega) g5
    · rw [← hN]; exact hO'
    · refine g1.push rfl z1 (fun b hb => ?_) (fun _ _ => rfl) (fun f b hb => ?_) (fun _ _ => rfl) (fun _ _ => rfl) o1 ?_
      · show gK (nO h k n) b = _
        rw [gK_nO, if_neg (by rw [hN]; exact hb)]
      · show gF (nO h k n) f b = _
        rw [gF_nO, if_neg (by rw [hN]; exact hb)]
      · have hkk : gK (nO h k n) H.size = ci + 1 := by rw [gK_nO, if_pos hN.symm, hk]
        refine ⟨fun ci' r' hc' hk' => ?_, fun j' hj' hk' => ?_, fun j' hj' hk' => ?_, fun hk' => ?_, fun hk' => ?_, fun hk' => ?_, fun hk' => ?_, fun j' hj' hk' => ?_⟩
        · have : ci' = ci := by have : ci' + 1 = ci + 1 := hk'.symm.trans hkk; omega
          subst this
          rw [hc] at hc'
          cases hc'
          refine ⟨g1.2.1.2, (u_born ty hts hinw hKn hkC e1 hty).to fun j hj => ?_⟩
          show _ = gF (nO h k n) (fid ci' j) H.size
          rw [gF_nO, if_pos hN.symm]
          exact hdef j hj
        · exact absurd (hkk.symm.trans hk') (by omega)
        · exact absurd (hkk.symm.trans hk') (by omega)
        · exact absurd (hkk.symm.trans hk') (by omega)
        · exact absurd (hkk.symm.trans hk') (by omega)
        · exact absurd (hkk.symm.trans hk') (by omega)
        · exact absurd (hkk.symm.trans hk') (by omega)
        · exact absurd (hkk.symm.trans hk') (by omega)
  · cases ho
theorem s_newa {at_ : ArrayType} {j : Nat} {ty : FieldType} (hd : decode mi.1 pc = .ok (.newarray at_, 2)) (hj : j < 3) (hty : newarray.typeOf at_ = ty) (hjt : ∀ cA : Nat → ClassId, (zTy cA)[j]? = some (cA j, ty)) (hb0 : defaultValue ty = .int 0) (hcb : componentBytes ty ≤ 4) (hq : Cond.arrayClass ty ∈ lw_all) (hra : ∀ (U : State) (c : ClassId), va_RA U c ty → U.vm.findClass ("[" ++ ty.toString) = some c) : SiZ mi pc (i_newa (51 + j) (pc + 2)) := by
  intro D cA z p l e R s m args below meth c K hC ls st h o hll ho hO
  simp only [i_newa] at ho
  split at ho
  · rename_i x st'
    split at ho
    · rename_i hg
      cases ho
      intro H locs cells slots lsr g1 g2 g3 g4 g5
      obtain ⟨hx, hb, hml, -, hown, -, -, hF, hL, -, hcx⟩ := hC
      have hN : gN h = H.size := g1.1
      subst hty
      refine va_newaK hx hb (hcx.1 _ hq _) rfl hd rfl hg.1 rfl (Nat.le_trans (Nat.mul_le_mul hg.2.1 hcb) (by decide)) (by have : cells + gC h ≤ R.cells := g3; omega) (by have : slots + gS h ≤ R.slots := g4; omega) rfl fun H1 cA' e1 z1 o1 hAr hNm => ?_
      have hcA : cA' = cA j := by
        have := hra s (cA j) (hcx.2.2.1.2 j _ (hjt cA)).2
        exact Option.some.inj (hNm.symm.trans this)
      subst hcA
      have hO' := hO hll H1 locs (cells + 1) (slots + x.toNatClampNeg) lsr ?_ g2 (by show cells + 1 + (gC h - 1) ≤ R.cells; have : cells + gC h ≤ R.cells := g3; omega) (by show slots + x.toNatClampNeg + (gS h - x.toNatClampNeg) ≤ R.slots; have : slots + gS h ≤ R.slots := g4; omega) g5
      · rw [← hN]; exact hO'
      · refine g1.push rfl z1 (fun b hb => ?_) (fun b hb => ?_) (fun _ _ _ => rfl) (fun b hb => ?_) (fun _ _ => rfl) o1 ?_
        · show gK (nA h (51 + j) x.toNatClampNeg) b = _
          rw [gK_nA, if_neg (by rw [hN]; exact hb)]
        · show gL (nA h (51 + j) x.toNatClampNeg) b = _
          rw [gL_nA, if_neg (by rw [hN]; exact hb)]
        · funext i
          show gI (nA h (51 + j) x.toNatClampNeg) b i = _
          rw [gI_nA, if_neg (by rw [hN]; exact hb)]
        · have hkk : gK (nA h (51 + j) x.toNatClampNeg) H.size = 51 + j := by rw [gK_nA, if_pos hN.symm]
          refine ⟨fun ci' r' hc' hk' => ?_, fun j' hj' hk' => ?_, fun j' hj' hk' => ?_, fun hk' => ?_, fun hk' => ?_, fun hk' => ?_, fun hk' => ?_, fun j' hj' hk' => ?_⟩
          · have h16 : ci' < 16 := (List.getElem?_eq_some_iff.mp hc').1
            exact absurd (hkk.symm.trans hk') (by omega)
          · have : j' = j := by have : 51 + j' = 51 + j := hk'.symm.trans hkk; omega
            subst this
            refine ⟨g1.2.1.2, ?_⟩
            rw [e1]
            show _ = some (vp_cell (cA j') (gL (nA h (51 + j') x.toNatClampNeg) H.size, .inl (gI (nA h (51 + j') x.toNatClampNeg) H.size)))
            rw [vp_cell_i, gL_nA, if_pos hN.symm, hb0]
            congr 2
            funext i
            rw [gI_nA, if_pos hN.symm]
          · exact absurd (hkk.symm.trans hk') (by omega)
          · exact absurd (hkk.symm.trans hk') (by omega)
          · exact absurd (hkk.symm.trans hk') (by omega)
          · exact absurd (hkk.symm.trans hk') (by omega)
          · exact absurd (hkk.symm.trans hk') (by omega)
          · exact absurd (hkk.symm.trans hk') (by omega)
    · cases ho
  · cases ho
theorem s_newr {idx j : Nat} {C : String} (hd : decode mi.1 pc = .ok (.anewarray idx, 3)) (hcl : Cond.classLink mi.2.2.2.1 idx C ∈ lw_all) (hj : j < 4) (hao : C ∈ aoL) (hjt : ∀ cA : Nat → ClassId, (zTy cA)[3 + j]? = some (cA (3 + j), .object C)) : SiZ mi pc (i_newr (54 + j) (pc + 3)) := by
  intro D cA z p l e R s m args below meth c K hC ls st h o hll ho hO
  simp only [i_newr] at ho
  split at ho
  · rename_i x st'
    split at ho
    · rename_i hg
      cases ho
      intro H locs cells slots lsr g1 g2 g3 g4 g5
      obtain ⟨hx, hb, hml, -, hown, -, -, hF, hL, -, hcx⟩ := hC
      have hN : gN h = H.size := g1.1
      refine W.anew hx hb hown (hcx.1 _ hcl _) (va_AO.use (hcx.2.2.2.1 C hao)) rfl hd rfl hg.1 (Nat.le_trans (Nat.mul_le_mul_right 4 hg.2.1) (by decide)) (by have : cells + gC h ≤ R.cells := g3; omega) (by have : slots + gS h ≤ R.slots := g4; omega) fun cA' kA comp f1 f2 f3 f4 => ?_
      have hcA : cA' = cA (3 + j) := by
        obtain ⟨-, -, -, -, -, q⟩ := (hcx.2.2.1.2 (3 + j) _ (hjt cA)).2
        exact Option.some.inj (f1.symm.trans q)
      subst hcA
      have hO' := hO hll (H.push ({ cls := cA (3 + j), slots := Array.replicate x.toNatClampNeg .null, vm := .none } : Cell)) locs (cells + 1) (slots + x.toNatClampNeg) lsr ?_ g2 (by show cells + 1 + (gC h - 1) ≤ R.cells; have : cells + gC h ≤ R.cells := g3; omega) (by show slots + x.toNatClampNeg + (gS h - x.toNatClampNeg) ≤ R.slots; have : slots + gS h ≤ R.slots := g4; omega) g5
      · rw [← hN]; exact hO'
      · refine g1.push rfl (by simp) (fun b hb => ?_) (fun b hb => ?_) (fun _ _ _ => rfl) (fun _ _ => rfl) (fun b hb => ?_) (fun b hb => by rw [Array.getElem?_push, if_neg (Nat.ne_of_lt hb)]) ?_
        · show gK (nR h (54 + j) x.toNatClampNeg) b = _
          rw [gK_nR, if_neg (by rw [hN]; exact hb)]
        · show gL (nR h (54 + j) x.toNatClampNeg) b = _
          rw [gL_nR, if_neg (by rw [hN]; exact hb)]
        · funext i
          show gR (nR h (54 + j) x.toNatClampNeg) b i = _
          rw [gR_nR, if_neg (by rw [hN]; exact hb)]
        · have hkk : gK (nR h (54 + j) x.toNatClampNeg) H.size = 54 + j := by rw [gK_nR, if_pos hN.symm]
          refine ⟨fun ci' r' hc' hk' => ?_, fun j' hj' hk' => ?_, fun j' hj' hk' => ?_, fun hk' => ?_, fun hk' => ?_, fun hk' => ?_, fun hk' => ?_, fun j' hj' hk' => ?_⟩
          · have h16 : ci' < 16 := (List.getElem?_eq_some_iff.mp hc').1
            exact absurd (hkk.symm.trans hk') (by omega)
          · exact absurd (hkk.symm.trans hk') (by omega)
          · have : j' = j := by have : 54 + j' = 54 + j := hk'.symm.trans hkk; omega
            subst this
            refine ⟨g1.2.1.2, ?_⟩
            rw [Array.getElem?_push, if_pos rfl, arrV_new]
            show _ = some (vp_cell (cA (3 + j')) (gL (nR h (54 + j') x.toNatClampNeg) H.size, .inr (.inr (.inr (.inr (gR (nR h (54 + j') x.toNatClampNeg) H.size))))))
            rw [vp_cell_q, gL_nR, if_pos hN.symm]
            congr 2
            funext i
            rw [gR_nR, if_pos hN.symm]
            rfl
          · exact absurd (hkk.symm.trans hk') (by omega)
          · exact absurd (hkk.symm.trans hk') (by omega)
          · exact absurd (hkk.symm.trans hk') (by omega)
          · exact absurd (hkk.symm.trans hk') (by omega)
          · exact absurd (hkk.symm.trans hk') (by omega)
    · cases ho
  · cases ho
end MAKES
