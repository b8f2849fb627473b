/-! SOUNDNESS: array copies, calls, whole methods -/
theorem StepsW {tb : Tables} {e : Env} {mid below : List Frame} {s t : State} (h : Steps tb e (mid ++ below) s t) : Steps tb e below s t := by
  obtain ⟨n, h1, h2⟩ := h
  exact ⟨n, h1, fun k hk => (h2 k hk).weaken⟩
section CALLS
variable {mi : MI} {pc : Nat}
theorem nonneg32 (z : Int32) (hz : ¬ z < 0) : z.toInt = (z.toNatClampNeg : Int) := by
  have hz0 : (0 : Int) ≤ z.toInt := by
    have := Int32.not_lt.mp hz
    simpa using Int32.le_iff_toInt_le.mp this
  show z.toInt = ((z.toInt.toNat : Nat) : Int)
  omega
theorem s_acpy {idx : Nat} (hd : decode mi.1 pc = .ok (.invokestatic idx, 3)) (hl : Cond.methodLink mi.2.2.2.1 idx arraycopyName ∈ lw_all) (hfr : 1 ≤ mi.2.2.2.2.2.2.1) (hlo : 30 ≤ mi.2.2.2.2.2.2.2) : SiZ mi pc (i_acpy 51 (pc + 3)) := by
  intro D cA z p l e R s m args below meth c K hC ls st h o hll ho hO
  simp only [i_acpy] at ho
  split at ho
  · split at ho
    · rename_i n dp d sp a0 st' hg
      cases ho
      obtain ⟨k0, k1, k2, h1, h2, h3, h4, h5⟩ := hg
      intro H locs cells slots lsr g1 g2 g3 g4 g5 T hT X
      obtain ⟨hx, hb, hml, -, hown, -, -, hF, hL, -, hcx⟩ := hC
      obtain ⟨z0, c0, -⟩ := arrI hcx g1 (j := 0) (by decide) k1 rfl
      obtain ⟨z1, c1, -⟩ := arrI hcx g1 (j := 0) (by decide) k2 rfl
      obtain ⟨-, kk0, hk0, cm0, hkk0⟩ := (hcx.2.2.1.2 0 _ rfl).1 (gL h a0) (fun j => .int (gI h a0 j))
      obtain ⟨-, kk1, hk1, cm1, hkk1⟩ := (hcx.2.2.1.2 0 _ rfl).1 (gL h d) (fun j => .int (gI h d j))
      have hr := rest4 k0
      have hnw : nativeFrameWords "java/lang/System" "arraycopy" 5 = 7 := by decide +kernel
      obtain ⟨vm', X', step⟩ := X.arraycopy hx hown (hcx.1 _ hl _) (hcx.1 _ q499 _) (hcx.1 _ q498 _) (hcx.1 _ q98 _) (src := a0) (dst := d) (cs := arrV (cA 0) (gL h a0) (fun j => .int (gI h a0 j))) (cd := arrV (cA 0) (gL h d) (fun j => .int (gI h d j))) (srcPos := sp) (destPos := dp) (n := n) (by rw [hT]; exact c0) (by rw [hT]; exact c1)
        (fun _ w => by cases w) (fun _ w => by cases w) (fun w => by cases w) (fun w => by cases w) hk0 hk1 hkk0 hkk1 (by simp [refKind]) h1 h2 h3
        (by rw [nonneg32 sp h1, nonneg32 n h3, arrV_size]; omega)
        (by rw [nonneg32 dp h2, nonneg32 n h3, arrV_size]; omega)
        (fun vm₁ _ i hi => by
          have e : (arrV (cA 0) (gL h a0) (fun j => .int (gI h a0 j))).slots.getD (sp.toNatClampNeg + i) .null = .int (gI h a0 (sp.toNatClampNeg + i)) := by
            rw [Array.getD_eq_getD_getElem?, arrV_read _ _ (by omega)]
            rfl
          refine ⟨?_, ?_⟩
          · rw [e]
            rfl
          · rw [e]
            exact trivial)
        (g := F0 m pc lsr (.int n :: .int dp :: .ref d :: .int sp :: .ref a0 :: st')) rfl (by show lsr.size = _; rw [hml, g5.1]; exact hll) (rest := st') rfl (by rw [hb]; exact hd) (by omega) (by show 2 * 0 + _ + (nativeFrameWords "java/lang/System" "arraycopy" 5 + 11) ≤ _; rw [hnw]; omega)
      have e1 : copied (arrV (cA 0) (gL h a0) (fun j => .int (gI h a0 j))) (arrV (cA 0) (gL h d) (fun j => .int (gI h d j))) sp dp n = arrV (cA 0) (gL h d) (fun j => .int (va_cpy (gI h a0) (gI h d) sp.toNatClampNeg dp.toNatClampNeg n.toNatClampNeg j)) := va_copied (fun z => .int z) (cA 0) (cA 0) (gI h a0) (gI h d) h4
      rw [e1] at X' step
      have hlt : d < H.size := (Array.getElem?_eq_some_iff.mp c1).1
      obtain ⟨t, a1, b1⟩ := hO hll (((T.setVm vm').setCell d (arrV (cA 0) (gL h d) (fun j => .int (va_cpy (gI h a0) (gI h d) sp.toNatClampNeg dp.toNatClampNeg n.toNatClampNeg j)))).heap) _ cells slots lsr (by
          have hheap : ((T.setVm vm').setCell d (arrV (cA 0) (gL h d) (fun j => .int (va_cpy (gI h a0) (gI h d) sp.toNatClampNeg dp.toNatClampNeg n.toNatClampNeg j)))).heap = H.setIfInBounds d (arrV (cA 0) (gL h d) (fun j => .int (va_cpy (gI h a0) (gI h d) sp.toNatClampNeg dp.toNatClampNeg n.toNatClampNeg j))) := by rw [← hT]; rfl
          rw [hheap]
          refine g1.wrI (j := 0) (by decide) k2 z1 (fun _ => rfl) (fun _ => rfl) (fun _ _ => rfl) (fun b hb => ?_) (fun _ => rfl) rfl ?_ (by simp) (fun q hq => by simp [Array.getElem?_setIfInBounds, Ne.symm hq])
          · funext k
            show gI (pC h d _) b k = _
            rw [gI_pC, if_neg hb]
          · have e2 : (fun i => Value.int (gI (pC h d (va_cpy (gI h a0) (gI h d) sp.toNatClampNeg dp.toNatClampNeg n.toNatClampNeg)) d i)) = fun j => Value.int (va_cpy (gI h a0) (gI h d) sp.toNatClampNeg dp.toNatClampNeg n.toNatClampNeg j) := by
              funext k
              rw [gI_pC, if_pos rfl]
            show (H.setIfInBounds d _)[d]? = some (arrV (cA 0) (gL h d) (fun i => Value.int (gI (pC h d (va_cpy (gI h a0) (gI h d) sp.toNatClampNeg dp.toNatClampNeg n.toNatClampNeg)) d i)))
            rw [e2]
            simp [Array.getElem?_setIfInBounds, hlt]) (fun q hq => by
          rcases List.mem_append.mp hq with w | w
          · exact g2 q w
          · obtain ⟨y, -, hy⟩ := List.mem_map.mp w
            rw [← hy]
            exact z1) g3 g4 g5 _ rfl X'
      exact ⟨t, step t a1, b1⟩
    · cases ho
  · cases ho
/-- a method's words -/
def CdW (y : MethodName) (mi : MI) : Prop := ((Cond.code y mi.1 mi.2.1 mi.2.2.1 ∈ lw_all ∧ mi.2.2.2.2.2.1 = []) ∨ Cond.codeWith y mi.1 mi.2.1 mi.2.2.1 mi.2.2.2.2.2.1 ∈ lw_all) ∧ y.cls = mi.2.2.2.1 ∧ y.name = mi.2.2.2.2.1 ∧ plainFor y = true
/-- a method's meaning is right -/
def SwZ (mi : MI) (w : Wm) : Prop :=
  ∀ (D : va_G) (cA : Nat → ClassId) (z : Nat) (p : Program) (l : LaZ) (e : Env) (R : Room) (s : State) (m : MethodId) (below : List Frame) (meth : Method) (c : Code) (K : Po) (as : List Value) (h : Hp), CtZ mi D cA p R s m meth c → RpZ D cA z s h s.heap → gC h ≤ R.cells → gS h ≤ R.slots → okA mi.2.1 as = true → w as h K →
    W p l e R s m as.toArray below meth c s.heap [] 0 0 (FinZ D cA z R s below K) (entryFrame m as.toArray mi.2.1)
/-- a call's own step -/
def CsZ (mi : MI) (pc len : Nat) (y : MethodName) (h : Hp) (as rest stk : List Value) : Prop :=
  ∀ (D : va_G) (cA : Nat → ClassId) (z : Nat) (p : Program) (l : Launch) (e : Env) (R : Room) (s : State) (m : MethodId) (args : Array Value) (below : List Frame) (meth : Method) (c : Code), CtZ mi D cA p R s m meth c →
    ∀ (H : Heap) (T : State) (locs : List Loc) (cells slots : Nat) (lsr : Array Slot), RpZ D cA z s h H → T.heap = H → Stand p l e R s m args below meth c T locs cells slots →
      ∃ (mk : MethodId) (vm₁ : Vm) (ig : Instr), s.methodNamed? y = some mk ∧ Stand p l e R s m args below meth c (T.setVm vm₁) locs cells slots ∧ decode c.code pc = .ok (ig, len) ∧
        ∀ target, (∀ acts, Steps p.tables e below (doInvoke e ((T.setVm vm₁).setTop (F0 m pc lsr rest)) acts mk as.toArray).1 target) → Steps p.tables e below (T.setTop (F0 m pc lsr stk)) target
def BkZ (D : va_G) (cA : Nat → ClassId) (z : Nat) (p : Program) (l : Launch) (e : Env) (R : Room) (s : State) (m : MethodId) (args : Array Value) (below : List Frame) (meth : Method) (c : Code) (K : Po) (pc : Nat) (ls : List Value) (n : Nat) (rest : List Value) (r : Rs) (h : Hp) : Prop := match r with
  | .inl v => PwZ D cA z p l e R s m args below meth c K (n, ls, v.toList ++ rest, h)
  | .inr a => TtZ D cA z p l e R s m args below meth c K pc ls a h
theorem callZ {len : Nat} {y : MethodName} {mi' : MI} {w : Wm} {h : Hp} {as rest stk : List Value} (hcs : CsZ mi pc len y h as rest stk) (hcd : CdW y mi') (hsw : SwZ mi' w) (hr4 : rest.length ≤ 6) (hok : okA mi'.2.1 as = true) (hfr : mi'.2.2.2.2.2.2.1 + 1 ≤ mi.2.2.2.2.2.2.1) (hlo : 12 + (mi'.2.1 + 11) + mi'.2.2.2.2.2.2.2 ≤ mi.2.2.2.2.2.2.2)
    {D : va_G} {cA : Nat → ClassId} {z : Nat} {p : Program} {l : LaZ} {e : Env} {R : Room} {s : State} {m : MethodId} {args : Array Value} {below : List Frame} {meth : Method} {c : Code} {K KK : Po} (hC : CtZ mi D cA p R s m meth c) {ls : List Value} (hll : ls.length = mi.2.1) (hw : w as h KK)
    (hB : ∀ r h', KK r h' → BkZ D cA z p l e R s m args below meth c K pc ls (pc + len) rest r h') : PwZ D cA z p l e R s m args below meth c K (pc, ls, stk, h) := by
  intro H locs cells slots lsr g1 g2 g3 g4 g5 T hT X
  obtain ⟨mk, vm₁, ig, hn, X₁, hdg, hstep⟩ := hcs D cA z p l e R s m args below meth c hC H T locs cells slots lsr g1 hT X
  obtain ⟨hx, hb, hml, -, hown, -, -, hF, hL, -, hcx⟩ := hC
  obtain ⟨hcode, hcls, hnm, hpl⟩ := hcd
  have hW₁ : s.WarmedH (T.setVm vm₁).vm := X₁.warmed
  have hn₁ : (T.setVm vm₁).methodNamed? y = some mk := X₁.named hn
  have hcx₁ : CxZ D cA (T.setVm vm₁) := hcx.moved hW₁
  -- the callee's record
  obtain ⟨methk, ck, hmk, hck, hbk, hlk, hrk, hlkk, htk⟩ : ∃ methk ck, (T.setVm vm₁).vm.method? mk = some methk ∧ methk.code = some ck ∧ ck.code = mi'.1 ∧ ck.maxLocals = mi'.2.1 ∧ methk.sig.returnType = mi'.2.2.1 ∧ methk.locks = false ∧ ck.exceptionTable.toList.map (fun h => (h.startPc, h.endPc, h.handlerPc, h.catchType)) = mi'.2.2.2.2.2.1 := by
    rcases hcode with ⟨hq, hh⟩ | hq
    · obtain ⟨methk, ck, f1, f2, f3, f4, f5, f6, f7, -⟩ := Cond.code_spec hn₁ (hcx₁.1 _ hq #[])
      refine ⟨methk, ck, f1, f2, f3, f4, f5, f6, ?_⟩
      rw [hh]
      have : ck.exceptionTable = #[] := by simpa using f7
      rw [this]; rfl
    · obtain ⟨mk', methk, ck, f0, f1, f2, f3, f4, f5, f6, f7, -⟩ := Cond.codeWith_spec (hcx₁.1 _ hq #[])
      cases f0.symm.trans hn₁
      exact ⟨methk, ck, f1, f2, f3, f4, f6, f7, f5⟩
  have hplain : (T.setVm vm₁).plainMethod mk := State.plainMethod.of_named (s := T.setVm vm₁) hpl hn₁ hmk
  have hr8 := rest4 hr4
  have hsz : (F0 m pc lsr rest).locals.size = c.maxLocals := by show lsr.size = _; rw [hml, g5.1]; exact hll
  obtain ⟨Y, hent⟩ := X₁.into (g := F0 m pc lsr rest) rfl hsz hdg as.toArray (R' := { frames := mi'.2.2.2.2.2.2.1, cells := gC h, slots := gS h, locals := mi'.2.2.2.2.2.2.2 }) hmk hck hlkk hplain (by show mi'.2.2.2.2.2.2.1 + 1 ≤ _; omega) (by show 2 * 0 + _ + (ck.maxLocals + 11) + mi'.2.2.2.2.2.2.2 ≤ _; rw [hlk]; show 2 * 0 + (rest.map fun v => v.category).sum + _ + _ ≤ _; omega) g3 g4
  have hC' : CtZ mi' D cA p { frames := mi'.2.2.2.2.2.2.1, cells := gC h, slots := gS h, locals := mi'.2.2.2.2.2.2.2 } ((T.setVm vm₁).calling (F0 m pc lsr rest) mk as.toArray) mk methk ck := by
    refine ⟨hx, hbk, hlk, hrk, ?_, ?_, htk, Nat.le_refl _, Nat.le_refl _, hlkk, hcx₁.moved (State.WarmedH.refl (T.setVm vm₁))⟩
    · rw [← hcls]
      exact findClass_of_methodNamed hn₁
    · rw [← hnm]
      exact (name_of_methodNamed hn₁ hmk).1
  have hR' : RpZ D cA z ((T.setVm vm₁).calling (F0 m pc lsr rest) mk as.toArray) h ((T.setVm vm₁).calling (F0 m pc lsr rest) mk as.toArray).heap := by
    have e1 : ((T.setVm vm₁).calling (F0 m pc lsr rest) mk as.toArray).heap = H := hT
    rw [e1]
    exact g1.moved hW₁.alike
  have hrun := hsw D cA z p l e { frames := mi'.2.2.2.2.2.2.1, cells := gC h, slots := gS h, locals := mi'.2.2.2.2.2.2.2 } ((T.setVm vm₁).calling (F0 m pc lsr rest) mk as.toArray) mk (.java (F0 m pc lsr rest) :: below) methk ck KK as h hC' hR' (Nat.le_refl _) (Nat.le_refl _) hok hw
  rw [← hlk] at hrun
  obtain ⟨t, hst, r, h', L, k, n, f1, f2, f3, f4, f5, f6, f7, f8, f9⟩ := hrun _ (by
    show ((((T.setVm vm₁).setTop (F0 m pc lsr rest)).pushFrame (.java (entryFrame mk as.toArray ck.maxLocals))).heap) = _
    rfl) Y
  have hst' : ∀ acts, Steps p.tables e below (doInvoke e ((T.setVm vm₁).setTop (F0 m pc lsr rest)) acts mk as.toArray).1 t := by
    intro acts
    rw [hent acts]
    exact StepsW (mid := [.java (F0 m pc lsr rest)]) hst
  have hB' := hB r h' f9
  have f6' : k + gC h' ≤ gC h := f6
  have f7' : n + gS h' ≤ gS h := f7
  have f8' : RpZ D cA z s h' t.heap := f8.moved (U := s) (show ((T.setVm vm₁).calling (F0 m pc lsr rest) mk as.toArray).vm.Alike s.vm from hW₁.alike.symm)
  have g3' : cells + gC h ≤ R.cells := g3
  have g4' : slots + gS h ≤ R.slots := g4
  cases r with
  | inl v =>
    obtain ⟨T', X', -, -, et⟩ := X₁.outOf (g := F0 m pc lsr rest) rfl hdg f2 f3 f4
    have eh : t.heap = T'.heap := by rw [et]; rfl
    obtain ⟨t2, a2, b2⟩ := hB' T'.heap (locs ++ L) (cells + k) (slots + n) lsr (by rw [← eh]; exact f8') (fun q hq => by
      rcases List.mem_append.mp hq with w | w
      · exact g2 q w
      · exact f5 q w) (by show cells + k + gC h' ≤ _; omega) (by show slots + n + gS h' ≤ _; omega) g5 T' rfl X'
    refine ⟨t2, ?_, b2⟩
    refine Steps.trans (hstep t hst') ?_
    rw [et]
    exact a2
  | inr a =>
    obtain ⟨T', X', -, -, et⟩ := X₁.outOfThrown (g := F0 m pc lsr rest) rfl f2 f3 f4
    have eh : t.heap = T'.heap := by rw [et]; simp [State.pushFrame, State.setFrames, State.setTop, State.modifyTopJava]
    obtain ⟨t2, a2, b2⟩ := hB' T'.heap (locs ++ L) (cells + k) (slots + n) lsr rest (by rw [← eh]; exact f8') (fun q hq => by
      rcases List.mem_append.mp hq with w | w
      · exact g2 q w
      · exact f5 q w) (by omega) (by omega) g5 T' rfl X'
    refine ⟨t2, ?_, b2⟩
    refine Steps.trans (hstep t hst') ?_
    rw [et]
    exact a2
end CALLS
