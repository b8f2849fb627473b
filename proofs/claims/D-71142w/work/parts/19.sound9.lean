/-! SOUNDNESS: the steps of calls; handlers; a whole method -/
section SITES
variable {mi : MI} {pc : Nat}
theorem cs_S {idx : Nat} {y : MethodName} {bytes : ByteArray} {maxL : Nat} {ret : Option FieldType} (hd : decode mi.1 pc = .ok (.invokestatic idx, 3)) (hl : Cond.methodLink mi.2.2.2.1 idx y ∈ lw_all) (hst : Cond.static y ∈ lw_all) (hini : Cond.initialized y.cls ∈ lw_all) (hcode : Cond.code y bytes maxL ret ∈ lw_all) (hy : y.cls ≠ "java/lang/invoke/MethodHandle" ∧ y.cls ≠ "java/lang/invoke/VarHandle") {n : Nat} (hn : (parseMethodDescriptor y.desc).map (fun d => d.parameters.length) = some n) {h : Hp} {as rest : List Value} (has : as.length = n) : CsZ mi pc 3 y h as rest (as.reverse ++ rest) := by
  intro D cA z p l e R s m args below meth c hC H T locs cells slots lsr g1 hT X
  obtain ⟨hx, hb, hml, -, hown, -, -, hF, hL, -, hcx⟩ := hC
  have hcode' := hcx.1 _ hcode args
  obtain ⟨mk, hnamed⟩ := Cond.code_named hcode'
  obtain ⟨methM, cM, hmethM, -, -, -, -, -, -, hsigM⟩ := Cond.code_spec hnamed hcode'
  have hstatic : methM.isStatic = true := Cond.static_spec hnamed hmethM (hcx.1 _ hst args)
  obtain ⟨kP, hkP, -⟩ := className_of_methodNamed hnamed
  have hinitP : kP.init = .initialized := Cond.initialized_spec (findClass_of_methodNamed hnamed) hkP (hcx.1 _ hini args)
  have hlen : as.length = methM.sig.parameters.length := by rw [hsigM] at hn; exact has.trans (Option.some.inj hn).symm
  obtain ⟨vm₁, X₁, hstep₁⟩ := X.invokestatic hx hown (hcx.1 _ hl args) hnamed hmethM hstatic hkP hinitP hy (g := F0 m pc lsr (as.reverse ++ rest)) rfl (argsL := as) (rest := rest) hlen rfl (by rw [hb]; exact hd)
  exact ⟨mk, vm₁, _, hnamed, X₁, by rw [hb]; exact hd, hstep₁⟩
theorem cs_SN {idx : Nat} {host : String} {y : MethodName} {bytes : ByteArray} {maxL : Nat} {ret : Option FieldType} (hd : decode mi.1 pc = .ok (.invokestatic idx, 3)) (hl : Cond.methodLinkNest mi.2.2.2.1 idx y host ∈ lw_tbl) (hst : Cond.static y ∈ lw_all) (hini : Cond.initialized y.cls ∈ lw_all) (hcode : Cond.code y bytes maxL ret ∈ lw_all) (hy : y.cls ≠ "java/lang/invoke/MethodHandle" ∧ y.cls ≠ "java/lang/invoke/VarHandle") {n : Nat} (hn : (parseMethodDescriptor y.desc).map (fun d => d.parameters.length) = some n) {h : Hp} {as rest : List Value} (has : as.length = n) : CsZ mi pc 3 y h as rest (as.reverse ++ rest) := by
  intro D cA z p l e R s m args below meth c hC H T locs cells slots lsr g1 hT X
  obtain ⟨hx, hb, hml, -, hown, -, -, hF, hL, -, hcx⟩ := hC
  have hcode' := hcx.1 _ hcode args
  obtain ⟨mk, hnamed⟩ := Cond.code_named hcode'
  obtain ⟨methM, cM, hmethM, -, -, -, -, -, -, hsigM⟩ := Cond.code_spec hnamed hcode'
  have hstatic : methM.isStatic = true := Cond.static_spec hnamed hmethM (hcx.1 _ hst args)
  obtain ⟨kP, hkP, -⟩ := className_of_methodNamed hnamed
  have hinitP : kP.init = .initialized := Cond.initialized_spec (findClass_of_methodNamed hnamed) hkP (hcx.1 _ hini args)
  have hlen : as.length = methM.sig.parameters.length := by rw [hsigM] at hn; exact has.trans (Option.some.inj hn).symm
  obtain ⟨vm₁, X₁, hstep₁⟩ := X.invokestaticNest hx hown (va_Nw.use rfl (hcx.2.1 _ hl rfl)) hnamed hmethM hstatic hkP hinitP hy (g := F0 m pc lsr (as.reverse ++ rest)) rfl (argsL := as) (rest := rest) hlen rfl (by rw [hb]; exact hd)
  exact ⟨mk, vm₁, _, hnamed, X₁, by rw [hb]; exact hd, hstep₁⟩
theorem cs_I {idx : Nat} {y : MethodName} {bytes : ByteArray} {maxL : Nat} (hd : decode mi.1 pc = .ok (.invokespecial idx, 3)) (hy1 : y.name = "<init>") (hl : Cond.methodLink mi.2.2.2.1 idx y ∈ lw_all) (hin : Cond.instanceMethod y ∈ lw_all) (hcode : Cond.code y bytes maxL none ∈ lw_all) (hy : y.cls ≠ "java/lang/invoke/MethodHandle" ∧ y.cls ≠ "java/lang/invoke/VarHandle") {n : Nat} (hn : (parseMethodDescriptor y.desc).map (fun d => d.parameters.length) = some n) {h : Hp} {b : Nat} {as rest : List Value} (has : as.length = n) : CsZ mi pc 3 y h (.ref b :: as) rest (as.reverse ++ .ref b :: rest) := by
  intro D cA z p l e R s m args below meth c hC H T locs cells slots lsr g1 hT X
  obtain ⟨hx, hb, hml, -, hown, -, -, hF, hL, -, hcx⟩ := hC
  have hpl : e.platform.magicAccessors = ({} : Platform).magicAccessors := by rw [X.admits.platform]
  obtain ⟨mk, methM, cM, kP, vm₁, hnamed, hmethM, hcodeM, -, hlocalsM, -, hkP, -, hW₁, hstep₁⟩ := Steps.initColdArgs (e := e) X.here hx X.warmed hpl hown hy1 hy (hcx.1 _ hl args) (hcx.1 _ hin args) (hcx.1 _ hcode args) (f := F0 m pc lsr (as.reverse ++ .ref b :: rest)) rfl (argsL := as) (rest := rest) (a := b) (fun sig hs => by rw [hs] at hn; exact has.trans (Option.some.inj hn).symm) rfl (by rw [hb]; exact hd)
  exact ⟨mk, vm₁, _, hnamed, X.noted hW₁, by rw [hb]; exact hd, hstep₁⟩
theorem cs_IN {idx : Nat} {host : String} {y : MethodName} {bytes : ByteArray} {maxL : Nat} (hd : decode mi.1 pc = .ok (.invokespecial idx, 3)) (hy1 : y.name = "<init>") (hl : Cond.methodLinkNest mi.2.2.2.1 idx y host ∈ lw_tbl) (hin : Cond.instanceMethod y ∈ lw_all) (hcode : Cond.code y bytes maxL none ∈ lw_all) (hy : y.cls ≠ "java/lang/invoke/MethodHandle" ∧ y.cls ≠ "java/lang/invoke/VarHandle") {n : Nat} (hn : (parseMethodDescriptor y.desc).map (fun d => d.parameters.length) = some n) {h : Hp} {b : Nat} {as rest : List Value} (has : as.length = n) : CsZ mi pc 3 y h (.ref b :: as) rest (as.reverse ++ .ref b :: rest) := by
  intro D cA z p l e R s m args below meth c hC H T locs cells slots lsr g1 hT X
  obtain ⟨hx, hb, hml, -, hown, -, -, hF, hL, -, hcx⟩ := hC
  have hpl : e.platform.magicAccessors = ({} : Platform).magicAccessors := by rw [X.admits.platform]
  obtain ⟨mk, methM, cM, kP, vm₁, hnamed, hmethM, hcodeM, -, hlocalsM, -, hkP, -, hW₁, hstep₁⟩ := Steps.initColdArgsNest (e := e) X.here hx X.warmed hpl hown hy1 hy (va_Nw.use rfl (hcx.2.1 _ hl rfl)) (hcx.1 _ hin args) (hcx.1 _ hcode args) (f := F0 m pc lsr (as.reverse ++ .ref b :: rest)) rfl (argsL := as) (rest := rest) (a := b) (fun sig hs => by rw [hs] at hn; exact has.trans (Option.some.inj hn).symm) rfl (by rw [hb]; exact hd)
  exact ⟨mk, vm₁, _, hnamed, X.noted hW₁, by rw [hb]; exact hd, hstep₁⟩
/-- an object of ours as a receiver -/
theorem recZ {D : va_G} {cA : Nat → ClassId} {z : Nat} {s : State} {h : Hp} {H : Heap} {b ci : Nat} {r : vw_C} (hcx : CxZ D cA s) (hR : RpZ D cA z s h H) (hc : zCl[ci]? = some r) (hk : gK h b = ci + 1) : ∃ (cell : Cell) (kC : Class), H[b]? = some cell ∧ cell.vm.isStatics = false ∧ s.vm.findClass r.1 = some cell.cls ∧ s.vm.classes[cell.cls]? = some kC := by
  obtain ⟨-, cell, q1, q2, q3, -⟩ := (hR.2.2.2.2.1 b).1 ci r hc hk
  obtain ⟨-, hfc, kC, hkC, -⟩ := hcx.2.2.1.1 ci r hc
  exact ⟨cell, kC, q1, by rw [q3]; rfl, by rw [q2]; exact hfc, by rw [q2]; exact hkC⟩
/-- invokevirtual of a method that the receiver's class has under the name -/
theorem cs_V {idx ci : Nat} {r : vw_C} {y : MethodName} {h : Hp} {b : Nat} (hd : decode mi.1 pc = .ok (.invokevirtual idx, 3)) (hl : Cond.methodLink mi.2.2.2.1 idx y ∈ lw_all) (hin : Cond.instanceMethod y ∈ lw_all) (hsel : Cond.selects r.1 y y ∈ lw_all) (hc : zCl[ci]? = some r) (hk : gK h b = ci + 1) (hy : y.cls ≠ "java/lang/invoke/MethodHandle" ∧ y.cls ≠ "java/lang/invoke/VarHandle") (hdc : ∀ (s : State) (mk : MethodId) (methM : Method), (∀ w ∈ lw_all, ∀ a, w.before a s = true) → s.methodNamed? y = some mk → s.vm.method? mk = some methM → parseMethodDescriptor y.desc = some methM.sig) {n : Nat} (hn : (parseMethodDescriptor y.desc).map (fun d => d.parameters.length) = some n) {as rest : List Value} (has : as.length = n) : CsZ mi pc 3 y h (.ref b :: as) rest (as.reverse ++ .ref b :: rest) := by
  intro D cA z p l e R s m args below meth c hC H T locs cells slots lsr g1 hT X
  obtain ⟨hx, hb, hml, -, hown, -, -, hF, hL, -, hcx⟩ := hC
  obtain ⟨cellB, kB, hcB, hoB, hclB, -⟩ := recZ hcx g1 hc hk
  obtain ⟨mk, methM, hnamed, hmethM, hstM, habM⟩ := Cond.instanceMethod_spec (hcx.1 _ hin args)
  have hsigM := hdc s mk methM hcx.1 hnamed hmethM
  obtain ⟨c2, r2, m2, q1, q2, q3, q4, kP, hkP, hkPi⟩ := Cond.selects_spec (hcx.1 _ hsel args)
  cases hclB.symm.trans q1
  cases (State.methodFound?_of_named hnamed hy).symm.trans q2
  cases hnamed.symm.trans q3
  have hselP : selectMethod e.platform s.vm cellB.cls mk = .method mk := by rw [Launch.admits_selectMethod X.admits]; exact q4
  have hlen : as.length = methM.sig.parameters.length := by rw [hsigM] at hn; exact has.trans (Option.some.inj hn).symm
  obtain ⟨vm₁, X₁, hstep₁⟩ := X.invokevirtual hx hown (hcx.1 _ hl args) hnamed hmethM hstM hkP hkPi hy (a := b) (cell := cellB) (by rw [hT]; exact hcB)
    (fun z h => by rw [h] at hoB; cases hoB) hselP hmethM habM hkP hkPi (g := F0 m pc lsr (as.reverse ++ .ref b :: rest)) rfl (argsL := as) (rest := rest) hlen rfl (by rw [hb]; exact hd)
  exact ⟨mk, vm₁, _, hnamed, X₁, by rw [hb]; exact hd, hstep₁⟩
theorem sigC {y : MethodName} {bytes : ByteArray} {maxL : Nat} {ret : Option FieldType} (hq : Cond.code y bytes maxL ret ∈ lw_all) : ∀ (s : State) (mk : MethodId) (methM : Method), (∀ w ∈ lw_all, ∀ a, w.before a s = true) → s.methodNamed? y = some mk → s.vm.method? mk = some methM → parseMethodDescriptor y.desc = some methM.sig := by
  intro s mk methM hw hn hm
  obtain ⟨methM', cM, hmethM', -, -, -, -, -, -, hsigM⟩ := Cond.code_spec hn (hw _ hq #[])
  cases hm.symm.trans hmethM'
  exact hsigM
theorem sigW {y : MethodName} {bytes : ByteArray} {maxL : Nat} {ret : Option FieldType} {hh : List (Nat × Nat × Nat × Nat)} (hq : Cond.codeWith y bytes maxL ret hh ∈ lw_all) : ∀ (s : State) (mk : MethodId) (methM : Method), (∀ w ∈ lw_all, ∀ a, w.before a s = true) → s.methodNamed? y = some mk → s.vm.method? mk = some methM → parseMethodDescriptor y.desc = some methM.sig := by
  intro s mk methM hw hn hm
  obtain ⟨mk', methM', cM, f0, f1, -, -, -, -, -, -, f8⟩ := Cond.codeWith_spec (hw _ hq #[])
  cases f0.symm.trans hn
  cases hm.symm.trans f1
  exact f8
/-- invokevirtual of an inherited, overridden or abstract method: x as the entry names it, declared by owner; y runs -/
theorem cs_U {idx ci : Nat} {r : vw_C} {owner : String} {x y : MethodName} {h : Hp} {b : Nat} (hd : decode mi.1 pc = .ok (.invokevirtual idx, 3)) (hl : Cond.methodLink mi.2.2.2.1 idx x ∈ lw_all) (hsame : Cond.sameMethod x.cls owner x.name x.desc ∈ lw_all) (hdecl : (Cond.declares ⟨owner, x.name, x.desc⟩ ∈ lw_tbl) ∨ (∃ bytes maxL ret, Cond.instanceMethod ⟨owner, x.name, x.desc⟩ ∈ lw_all ∧ Cond.code ⟨owner, x.name, x.desc⟩ bytes maxL ret ∈ lw_all)) (hin : Cond.instanceMethod y ∈ lw_all) (hsel : Cond.selects r.1 x y ∈ lw_all) (hc : zCl[ci]? = some r) (hk : gK h b = ci + 1) (hy : owner ≠ "java/lang/invoke/MethodHandle" ∧ owner ≠ "java/lang/invoke/VarHandle") {n : Nat} (hn : (parseMethodDescriptor x.desc).map (fun d => d.parameters.length) = some n) {as rest : List Value} (has : as.length = n) : CsZ mi pc 3 y h (.ref b :: as) rest (as.reverse ++ .ref b :: rest) := by
  intro D cA z p l e R s m args below meth c hC H T locs cells slots lsr g1 hT X
  obtain ⟨hx, hb, hml, -, hown, -, -, hF, hL, -, hcx⟩ := hC
  obtain ⟨cellB, kB, hcB, hoB, hclB, -⟩ := recZ hcx g1 hc hk
  have hd0 : va_Decl s ⟨owner, x.name, x.desc⟩ := by
    rcases hdecl with w | ⟨bytes, maxL, ret, w1, w2⟩
    · exact va_Decl.abs (hcx.2.1 _ w rfl)
    · exact va_Decl.of (hcx.1 _ w1 args) (hcx.1 _ w2 args)
  obtain ⟨r0, rm, hnr, hrm, hstR, hsigR⟩ := hd0
  have hsame' := hcx.1 _ hsame args
  obtain ⟨cn, ck, r1, hcn, hck, hni, hf, hn1⟩ := Cond.sameMethod_found hsame'
  cases hnr.symm.trans hn1
  obtain ⟨mk, methM, hnamed, hmethM, -, habM⟩ := Cond.instanceMethod_spec (hcx.1 _ hin args)
  obtain ⟨c2, r2, m2, q1, q2, q3, q4, kP, hkP, hkPi⟩ := Cond.selects_spec (hcx.1 _ hsel args)
  cases hclB.symm.trans q1
  cases hf.symm.trans q2
  cases hnamed.symm.trans q3
  have hselP : selectMethod e.platform s.vm cellB.cls r0 = .method mk := by rw [Launch.admits_selectMethod X.admits]; exact q4
  have hlen : as.length = rm.sig.parameters.length := by rw [hsigR] at hn; exact has.trans (Option.some.inj hn).symm
  obtain ⟨vm₁, X₁, hstep₁⟩ := X.invokevirtualUp hx hown (hcx.1 _ hl args) hsame' hy hnr hrm hstR (a := b) (cell := cellB) (by rw [hT]; exact hcB)
    (fun z h => by rw [h] at hoB; cases hoB) hselP hmethM habM hkP hkPi (g := F0 m pc lsr (as.reverse ++ .ref b :: rest)) rfl (argsL := as) (rest := rest) hlen rfl (by rw [hb]; exact hd)
  exact ⟨mk, vm₁, _, hnamed, X₁, by rw [hb]; exact hd, hstep₁⟩
/-- super.m(..) -/
theorem cs_SU {idx ci : Nat} {r : vw_C} {y : MethodName} {h : Hp} {b : Nat} {bytes : ByteArray} {maxL : Nat} {ret : Option FieldType} (hd : decode mi.1 pc = .ok (.invokespecial idx, 3)) (hl : Cond.methodLink mi.2.2.2.1 idx y ∈ lw_all) (hsame : Cond.sameMethod y.cls y.cls y.name y.desc ∈ lw_all) (hsup : Cond.superclass mi.2.2.2.1 y.cls ∈ lw_all) (hin : Cond.instanceMethod y ∈ lw_all) (hcode : Cond.code y bytes maxL ret ∈ lw_all) (hno : y.name ≠ "<init>") (hc : zCl[ci]? = some r) (hk : gK h b = ci + 1) {n : Nat} (hn : (parseMethodDescriptor y.desc).map (fun d => d.parameters.length) = some n) {as rest : List Value} (has : as.length = n) : CsZ mi pc 3 y h (.ref b :: as) rest (as.reverse ++ .ref b :: rest) := by
  intro D cA z p l e R s m args below meth c hC H T locs cells slots lsr g1 hT X
  obtain ⟨hx, hb, hml, -, hown, -, -, hF, hL, -, hcx⟩ := hC
  obtain ⟨cellB, kB, hcB, hoB, hclB, hkB⟩ := recZ hcx g1 hc hk
  obtain ⟨mk, methM, hnamed, hmethM, hstM, habM⟩ := Cond.instanceMethod_spec (hcx.1 _ hin args)
  obtain ⟨methM', cM, hmethM', -, -, -, -, -, -, hsigM⟩ := Cond.code_spec hnamed (hcx.1 _ hcode args)
  cases hmethM.symm.trans hmethM'
  obtain ⟨ps, dk, kp, hps, hdk, hkp, hsuper, -, -, hnid⟩ := Cond.superclass_spec hown (hcx.1 _ hsup args)
  have hn' : s.methodNamed? ⟨y.cls, y.name, y.desc⟩ = some mk := hnamed
  have hpm : ps = mk.cls := Option.some.inj (hps.symm.trans (findClass_of_methodNamed hnamed))
  have hsub : s.vm.isSubclass ps mk.cls = true := by rw [hpm]; simp [Vm.isSubclass, Vm.isSubclassAux]
  have hlen : as.length = methM.sig.parameters.length := by rw [hsigM] at hn; exact has.trans (Option.some.inj hn).symm
  obtain ⟨vm₁, X₁, hstep₁⟩ := X.invokespecialUp hx hown (hcx.1 _ hl args) (hcx.1 _ hsame args) hn' hmethM hstM habM hno hdk hnid hps hsuper hsub (a := b) (cell := cellB) (by rw [hT]; exact hcB)
    (fun z h => by rw [h] at hoB; cases hoB) hkB (g := F0 m pc lsr (as.reverse ++ .ref b :: rest)) rfl (argsL := as) (rest := rest) hlen rfl (by rw [hb]; exact hd)
  exact ⟨mk, vm₁, _, hnamed, X₁, by rw [hb]; exact hd, fun target ht => hstep₁ _ (ht _)⟩
/-- super.mark(..) that lands in the interface's default -/
theorem cs_SD {idx ci : Nat} {r : vw_C} {h : Hp} {b : Nat} (hd : decode mi.1 pc = .ok (.invokespecial idx, 3)) (hl : Cond.methodLink mi.2.2.2.1 idx ⟨"FishReaders$Fish", "mark", mkD⟩ ∈ nrL) (hsup : Cond.superclass mi.2.2.2.1 "FishReaders$Fish" ∈ lw_all) (hc : zCl[ci]? = some r) (hk : gK h b = ci + 1) {as rest : List Value} (has : as.length = 2) : CsZ mi pc 3 ⟨"FishReaders$Marked", "mark", mkD⟩ h (.ref b :: as) rest (as.reverse ++ .ref b :: rest) := by
  intro D cA z p l e R s m args below meth c hC H T locs cells slots lsr g1 hT X
  obtain ⟨hx, hb, hml, -, hown, -, -, hF, hL, -, hcx⟩ := hC
  obtain ⟨cellB, kB, hcB, hoB, hclB, hkB⟩ := recZ hcx g1 hc hk
  obtain ⟨mk, methM, hnamed, hmethM, hstM, habM⟩ := Cond.instanceMethod_spec (hcx.1 _ q1171 args)
  obtain ⟨methM', cM, hmethM', -, -, -, -, -, -, hsigM⟩ := Cond.code_spec hnamed (hcx.1 _ q1172 args)
  cases hmethM.symm.trans hmethM'
  have hn : (parseMethodDescriptor mkD).map (fun d => d.parameters.length) = some 2 := by decide +kernel
  have hlen : as.length = methM.sig.parameters.length := by
    have hs' : parseMethodDescriptor mkD = some methM.sig := hsigM
    rw [hs'] at hn
    exact has.trans (Option.some.inj hn).symm
  obtain ⟨ps, dk, kp, hps, hdk, hkp, hsuper, -, -, hnid⟩ := Cond.superclass_spec hown (hcx.1 _ hsup args)
  have hsame : (Cond.sameMethod "FishReaders$Fish" "FishReaders$Marked" "mark" mkD).before args s = true := hcx.2.2.2.2.2.1 _ (by simp [nrL]) args
  obtain ⟨cn, ck, r1, hcn, hck, hni, hf, hn1⟩ := Cond.sameMethod_found hsame
  cases hcn.symm.trans hps
  cases hn1.symm.trans hnamed
  have hpl : e.platform.magicAccessors = ({} : Platform).magicAccessors := by rw [X.admits.platform]
  obtain ⟨ci', hl', hright⟩ := Cond.methodLink_specUp (x := ⟨"FishReaders$Fish", "mark", mkD⟩) hown hcn hck hni hf (hcx.2.2.2.2.2.1 _ hl args) e.platform hpl (by rw [X.admits.platform])
  obtain ⟨dk₀, cfile, nt, _, _, _, _, _, hd₀, hcf, hcp, -⟩ := hl'.here
  cases hdk.symm.trans hd₀
  obtain ⟨kr, hkr, -⟩ := className_of_methodNamed hnamed
  obtain ⟨hrn, hrd⟩ := name_of_methodNamed hnamed hmethM
  obtain ⟨c9, m9, h91, h92, h93⟩ := hcx.2.2.2.2.2.2.2.2.1
  cases h91.symm.trans hcn
  cases h92.symm.trans hnamed
  have hrn' : methM.name = "mark" := hrn
  have hrd' : methM.desc = mkD := hrd
  obtain ⟨vm', hW', st⟩ := Steps.invokeSuperColdArgs (tb := p.tables) (e := e) (s₀ := s) (U := T) (f := F0 m pc lsr (as.reverse ++ .ref b :: rest)) (args := as) (rest := rest) (a := b) (cell := cellB) (m := mk) X.here hx (by rw [hb]; exact hd) X.warmed hl' hright hdk hcf hcp hmethM hck
    (by rw [hrn']; simp) hstM (by
      rw [hrn', hrd', hsuper]
      simpa using h93) hnid hkr habM hlen rfl (by rw [hT]; exact hcB) (fun z h => by rw [h] at hoB; cases hoB) hkB
  exact ⟨mk, vm', _, hnamed, X.noted hW', by rw [hb]; exact hd, fun target ht => st _ (ht _)⟩
/-- invokevirtual Fish.mark, found in the interface -/
theorem cs_UD {idx ci : Nat} {r : vw_C} {y : MethodName} {h : Hp} {b : Nat} (hd : decode mi.1 pc = .ok (.invokevirtual idx, 3)) (hl : Cond.methodLink mi.2.2.2.1 idx ⟨"FishReaders$Fish", "mark", mkD⟩ ∈ nrL) (hin : Cond.instanceMethod y ∈ lw_all) (hsel : Cond.selects r.1 ⟨"FishReaders$Marked", "mark", mkD⟩ y ∈ lw_all) (hc : zCl[ci]? = some r) (hk : gK h b = ci + 1) {as rest : List Value} (has : as.length = 2) : CsZ mi pc 3 y h (.ref b :: as) rest (as.reverse ++ .ref b :: rest) := by
  intro D cA z p l e R s m args below meth c hC H T locs cells slots lsr g1 hT X
  obtain ⟨hx, hb, hml, -, hown, -, -, hF, hL, -, hcx⟩ := hC
  obtain ⟨cellB, kB, hcB, hoB, hclB, -⟩ := recZ hcx g1 hc hk
  obtain ⟨r0, rm, hnr, hrm, hstR, hsigR⟩ := va_Decl.of (hcx.1 _ q1171 args) (hcx.1 _ q1172 args)
  have hy : ("FishReaders$Marked" : String) ≠ "java/lang/invoke/MethodHandle" ∧ ("FishReaders$Marked" : String) ≠ "java/lang/invoke/VarHandle" := by decide +kernel
  have hsame : (Cond.sameMethod "FishReaders$Fish" "FishReaders$Marked" "mark" mkD).before args s = true := hcx.2.2.2.2.2.1 _ (by simp [nrL]) args
  obtain ⟨mk, methM, hnamed, hmethM, -, habM⟩ := Cond.instanceMethod_spec (hcx.1 _ hin args)
  obtain ⟨c2, r2, m2, q1, q2, q3, q4, kP, hkP, hkPi⟩ := Cond.selects_spec (hcx.1 _ hsel args)
  cases hclB.symm.trans q1
  cases (State.methodFound?_of_named hnr hy).symm.trans q2
  cases hnamed.symm.trans q3
  have hselP : selectMethod e.platform s.vm cellB.cls r0 = .method mk := by rw [Launch.admits_selectMethod X.admits]; exact q4
  have hn : (parseMethodDescriptor mkD).map (fun d => d.parameters.length) = some 2 := by decide +kernel
  have hlen : as.length = rm.sig.parameters.length := by
    have hs' : parseMethodDescriptor mkD = some rm.sig := hsigR
    rw [hs'] at hn
    exact has.trans (Option.some.inj hn).symm
  obtain ⟨vm₁, X₁, hstep₁⟩ := X.invokevirtualUp (x := ⟨"FishReaders$Fish", "mark", mkD⟩) hx hown (hcx.2.2.2.2.2.1 _ hl args) hsame hy hnr hrm hstR (a := b) (cell := cellB) (by rw [hT]; exact hcB)
    (fun z h => by rw [h] at hoB; cases hoB) hselP hmethM habM hkP hkPi (g := F0 m pc lsr (as.reverse ++ .ref b :: rest)) rfl (argsL := as) (rest := rest) hlen rfl (by rw [hb]; exact hd)
  exact ⟨mk, vm₁, _, hnamed, X₁, by rw [hb]; exact hd, hstep₁⟩
/-- invokevirtual on the String -/
theorem cs_VS {idx : Nat} {y : MethodName} {h : Hp} {b : Nat} (hd : decode mi.1 pc = .ok (.invokevirtual idx, 3)) (hl : Cond.methodLink mi.2.2.2.1 idx y ∈ lw_all) (hin : Cond.instanceMethod y ∈ lw_all) (hsel : Cond.selects "java/lang/String" y y ∈ lw_all) (hk : gK h b = 60) (hy : y.cls ≠ "java/lang/invoke/MethodHandle" ∧ y.cls ≠ "java/lang/invoke/VarHandle") (hdc : ∀ (s : State) (mk : MethodId) (methM : Method), (∀ w ∈ lw_all, ∀ a, w.before a s = true) → s.methodNamed? y = some mk → s.vm.method? mk = some methM → parseMethodDescriptor y.desc = some methM.sig) {n : Nat} (hn : (parseMethodDescriptor y.desc).map (fun d => d.parameters.length) = some n) {as rest : List Value} (has : as.length = n) : CsZ mi pc 3 y h (.ref b :: as) rest (as.reverse ++ .ref b :: rest) := by
  intro D cA z p l e R s m args below meth c hC H T locs cells slots lsr g1 hT X
  obtain ⟨hx, hb, hml, -, hown, -, -, hF, hL, -, hcx⟩ := hC
  obtain ⟨-, ⟨cellB, hcB, hoB, hclB, -⟩, -⟩ := (g1.2.2.2.2.1 b).2.2.2.2.2.1 hk
  obtain ⟨mk, methM, hnamed, hmethM, hstM, habM⟩ := Cond.instanceMethod_spec (hcx.1 _ hin args)
  have hsigM := hdc s mk methM hcx.1 hnamed hmethM
  obtain ⟨c2, r2, m2, q1, q2, q3, q4, kP, hkP, hkPi⟩ := Cond.selects_spec (hcx.1 _ hsel args)
  cases hclB.symm.trans q1
  cases (State.methodFound?_of_named hnamed hy).symm.trans q2
  cases hnamed.symm.trans q3
  have hselP : selectMethod e.platform s.vm cellB.cls mk = .method mk := by rw [Launch.admits_selectMethod X.admits]; exact q4
  have hlen : as.length = methM.sig.parameters.length := by rw [hsigM] at hn; exact has.trans (Option.some.inj hn).symm
  obtain ⟨vm₁, X₁, hstep₁⟩ := X.invokevirtual hx hown (hcx.1 _ hl args) hnamed hmethM hstM hkP hkPi hy (a := b) (cell := cellB) (by rw [hT]; exact hcB)
    (fun z h => by rw [h] at hoB; cases hoB) hselP hmethM habM hkP hkPi (g := F0 m pc lsr (as.reverse ++ .ref b :: rest)) rfl (argsL := as) (rest := rest) hlen rfl (by rw [hb]; exact hd)
  exact ⟨mk, vm₁, _, hnamed, X₁, by rw [hb]; exact hd, hstep₁⟩
/-- invokeinterface -/
theorem cs_F {idx cnt ci : Nat} {r : vw_C} {x y : MethodName} {h : Hp} {b : Nat} (hd : decode mi.1 pc = .ok (.invokeinterface idx cnt, 5)) (hl : Cond.methodLink mi.2.2.2.1 idx x ∈ lw_all) (hsel : Cond.selects r.1 x y ∈ lw_all) (hin : Cond.instanceMethod y ∈ lw_all) (hfw : (r.1, x, y) ∈ fwL) (hc : zCl[ci]? = some r) (hk : gK h b = ci + 1) {n : Nat} (hn : (parseMethodDescriptor x.desc).map (fun d => d.parameters.length) = some n) {as rest : List Value} (has : as.length = n) : CsZ mi pc 5 y h (.ref b :: as) rest (as.reverse ++ .ref b :: rest) := by
  intro D cA z p l e R s m args below meth c hC H T locs cells slots lsr g1 hT X
  obtain ⟨hx, hb, hml, -, hown, -, -, hF, hL, -, hcx⟩ := hC
  obtain ⟨cellB, kB, hcB, hoB, hclB, hkB⟩ := recZ hcx g1 hc hk
  obtain ⟨w1, w2, w3, w4, w5⟩ := hcx.2.2.2.2.1 _ hfw
  have hxn := fwL_ok _ hfw
  obtain ⟨r0, rm, hnr, hrm, hstR, hsigR⟩ := Cond.declares_spec w1
  obtain ⟨cL, kL, r1, hcL, hkL, hiL, hfoundL, hn1⟩ := Cond.interfaceMethod_spec w2
  cases hnr.symm.trans hn1
  have hr0cls : r0.cls = cL := Option.some.inj ((findClass_of_methodNamed hnr).symm.trans hcL)
  obtain ⟨hnameR, hdescR⟩ := name_of_methodNamed hnr hrm
  obtain ⟨mk, methM, hnamed, hmethM, -, habM⟩ := Cond.instanceMethod_spec (hcx.1 _ hin args)
  obtain ⟨c2, r2, m2, q1, q2, q3, q4, -⟩ := Cond.selects_spec (hcx.1 _ hsel args)
  cases hclB.symm.trans q1
  cases hfoundL.symm.trans q2
  cases hnamed.symm.trans q3
  have hselP : selectMethod e.platform s.vm cellB.cls r0 = .method mk := by rw [Launch.admits_selectMethod X.admits]; exact q4
  have hpubM : hasFlag methM.accessFlags Acc.public_ = true := Cond.publicMethod_spec hnamed hmethM w3
  have hway : ((cellB.cls :: s.vm.superclasses cellB.cls).any fun k => (declaredIn s.vm rm.name rm.desc k).any fun (_, z) => z.isPrivate || z.isStatic) = false := by
    rw [hnameR, hdescR]; exact Cond.unhidden_spec hclB w4
  obtain ⟨c3, t3, v1, v2, v3⟩ := Cond.castable_spec w5
  cases hclB.symm.trans v1
  cases hcL.symm.trans v2
  have hlen : as.length = rm.sig.parameters.length := by rw [hsigR] at hn; exact has.trans (Option.some.inj hn).symm
  obtain ⟨vm₁, X₁, hstep₁⟩ := X.invokeinterface hx hown (hcx.1 _ hl args) hnr hrm hstR (by rw [hr0cls]; exact hkL) hiL hxn (a := b) (cell := cellB) (kcell := kB) (by rw [hT]; exact hcB)
    (fun z h => by rw [h] at hoB; cases hoB) hkB (by rw [hr0cls]; exact v3) hselP hmethM hway hpubM habM (g := F0 m pc lsr (as.reverse ++ .ref b :: rest)) rfl (argsL := as) (rest := rest) hlen rfl (by rw [hb]; exact hd)
  exact ⟨mk, vm₁, _, hnamed, X₁, by rw [hb]; exact hd, hstep₁⟩
end SITES
