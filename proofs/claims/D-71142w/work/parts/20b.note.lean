/-! WHAT THE MACHINE ITSELF THROWS -/
/-- the words on an exception's class -/
def xAts (X : String) : List Cond := [.initialized X, .instantiable X 6, .selects X Bundle.tFill0 Bundle.tFill0, .selects X Bundle.tFill Bundle.tFill, .lays X Bundle.tN "cause" "Ljava/lang/Throwable;", .lays X Bundle.tN "stackTrace" Bundle.steD, .lays X Bundle.tN "suppressedExceptions" Bundle.listD, .lays X Bundle.tN "detailMessage" "Ljava/lang/String;", .fieldLink Bundle.tN 198 Bundle.tN "backtrace" "Ljava/lang/Object;", .lays Bundle.tN Bundle.tN "backtrace" "Ljava/lang/Object;", .lays X Bundle.tN "backtrace" "Ljava/lang/Object;"]
section NOTE
variable {p : Program} {l : Launch} {e : Env} {R : Room} {s : State} {m₀ : MethodId} {args : Array Value} {below : List Frame} {meth : Method} {c : Code} {S : State} {locs : List Loc} {cells slots : Nat}
/-- from the note to the exception: over any frames above the method's own -/
theorem noteZ (X : Stand p l e R s m₀ args below meth c S locs cells slots) (hexec : p.tables.exec = Jvm.exec) (htr : e.platform.stackTraces = false) {cls m : String} {names : List String}
    (hcls : Bundle.fit cls = true) (hnames : ∀ n ∈ names, Bundle.fit n = true) (hsoe : (cls == "java/lang/StackOverflowError") = false) (hoom : (cls == "java/lang/OutOfMemoryError") = false)
    (a1 : ∀ x ∈ Bundle.throwableAtoms, x.before #[] S = true) (a2 : ∀ x ∈ Bundle.throwableSAtoms, x.before #[] S = true) (a3 : ∀ x ∈ Bundle.chainSAtoms cls names, x.before #[] S = true) (a4 : ∀ x ∈ Bundle.stringAtoms, x.before #[] S = true) (a5 : ∀ x ∈ xAts cls, x.before #[] S = true)
    {A : Nat → Prop} {u0 sen : RefV} (hz1 : va_Z Bundle.tN "UNASSIGNED_STACK" Bundle.steD u0.v A S S.heap) (hz2 : va_Z Bundle.tN "SUPPRESSED_SENTINEL" Bundle.listD sen.v A S S.heap)
    (hm : (m == notModelled) = false) {B : Nat} (hB : (stringBytes (stringToUtf16 m)).size ≤ B) (hBB : B ≤ 1000)
    {g : JFrame} (hsize : g.locals.size = c.maxLocals) {pre : List Frame} (hpre : pre.length ≤ 1) (huse : (stackUse (pre ++ .java g :: below)).2 = (stackUse (.java g :: below)).2)
    (hRframes : names.length + 5 < R.frames) (hRlocals : 2 * g.monitorRoom + (g.stack.map fun v => v.category).sum + 10240 ≤ R.locals) (hshort : 13 * names.length + 55 ≤ 10240)
    (hRcells : cells + 3 ≤ R.cells) (hRslots : slots + (B + 10) ≤ R.slots) :
    ∃ (S' : State) (new : List Loc) (n : Nat) (ce : Cell), Stand p l e R s m₀ args below meth c S' (locs ++ new) (cells + 3) (slots + n) ∧ n ≤ B + 10 ∧ (∀ q ∈ new, q.base = S.heap.size + 2) ∧ S'.heap.size = S.heap.size + 3 ∧ (∀ b, b < S.heap.size → S'.heap[b]? = S.heap[b]?) ∧
      S'.heap[S.heap.size + 2]? = some ce ∧ ce.vm.isStatics = false ∧ S.vm.findClass cls = some ce.cls ∧
      ∀ target, Steps p.tables e below (S'.setFrames (.throwing (S.heap.size + 2) :: (pre ++ .java g :: below))) target → Steps p.tables e below (S.setFrames (.throwNew cls (some m) none :: (pre ++ .java g :: below))) target := by
  have howns : e.platform.frameOwnsMonitors = true := by rw [X.admits.platform]
  have hfin : e.platform.finalization = false := by rw [X.admits.platform]
  have hpl : e.platform.magicAccessors = ({} : Platform).magicAccessors := by rw [X.admits.platform]
  obtain ⟨T, Z0, L, -, Y⟩ := ThrowableC.of_atoms (args := #[]) howns hfin hpl a1
  obtain ⟨Z, M, LZ, LM, hnZ⟩ := Init0T.ofS_atoms (args := #[]) hpl L Y a2
  obtain ⟨P1, Ps, hlen, L1, hL, hP1m, hlink1, hlink⟩ := Bundle.chainS (args := #[]) hpl hnZ names cls hcls hnames a3
  obtain ⟨Zs, LZs, hn4, hfitv, hfitc⟩ := StringT.of_atoms (args := #[]) a4
  have a : ∀ x, x ∈ xAts cls → x.holds #[] S none S [] = true := fun x hx => a5 x hx
  have hfound : S.vm.findClass cls = some P1.m.cls := findClass_of_methodNamed hP1m
  obtain ⟨c1, kX, hc1, hk, hord, -, -, hn6⟩ := Cond.instantiable_spec (a (.instantiable cls 6) (by simp [xAts]))
  cases Option.some.inj (hc1.symm.trans hfound)
  have hinit := Cond.initialized_spec hfound hk (a (.initialized cls) (by simp [xAts]))
  have hctor : kX.findMethod "<init>" "(Ljava/lang/String;)V" = some P1.m.idx := findMethod_of_methodNamed hP1m hk
  have hsel0 : selectMethod e.platform S.vm P1.m.cls T.fill0 = .method T.fill0 := by
    obtain ⟨c2, r2, m2, q1, q2, q3, q4, -⟩ := Cond.selects_spec (a (.selects cls Bundle.tFill0 Bundle.tFill0) (by simp [xAts]))
    cases Option.some.inj (q1.symm.trans hfound)
    cases Option.some.inj (q2.symm.trans (State.methodFound?_of_named Y.fill0 (by decide)))
    cases Option.some.inj (q3.symm.trans Y.fill0)
    rw [Launch.admits_selectMethod X.admits]; exact q4
  have hselF : selectMethod e.platform S.vm P1.m.cls T.fill = .method T.fill := by
    obtain ⟨c2, r2, m2, q1, q2, q3, q4, -⟩ := Cond.selects_spec (a (.selects cls Bundle.tFill Bundle.tFill) (by simp [xAts]))
    cases Option.some.inj (q1.symm.trans hfound)
    cases Option.some.inj (q2.symm.trans (State.methodFound?_of_named Y.fill (by decide)))
    cases Option.some.inj (q3.symm.trans Y.fill)
    rw [Launch.admits_selectMethod X.admits]; exact q4
  -- the two static fields
  obtain ⟨z1, z2, z3, z4, z5, cellS, z6, -, -, z7, hcellS, hiss, hvU, -⟩ := hz1
  have e1 := Option.some.inj (z6.symm.trans Y.unassigned)
  simp only [Prod.mk.injEq] at e1
  obtain ⟨rfl, rfl, rfl, rfl⟩ := e1
  cases Option.some.inj (z7.symm.trans L.statics)
  obtain ⟨y1, y2, y3, y4, y5, cellS2, y6, -, -, y7, hcellS2, -, hvSen, -⟩ := hz2
  have e2 := Option.some.inj (y6.symm.trans Y.sentinel)
  simp only [Prod.mk.injEq] at e2
  obtain ⟨-, rfl, -, rfl⟩ := e2
  cases Option.some.inj (y7.symm.trans L.statics)
  cases Option.some.inj (hcellS2.symm.trans hcellS)
  have hknownS : cellS.vm ≠ .unknown := fun hu => by rw [hu] at hiss; cases hiss
  obtain ⟨iM, hffM⟩ := Y.msg
  obtain ⟨tyC, dC, hdC, hdnC⟩ := Cond.laysAt hfound hk Y.cause (a (.lays cls Bundle.tN "cause" "Ljava/lang/Throwable;") (by simp [xAts]))
  obtain ⟨tyS, dS, hdS, hdnS⟩ := Cond.laysAt hfound hk Y.stack (a (.lays cls Bundle.tN "stackTrace" Bundle.steD) (by simp [xAts]))
  obtain ⟨tyP, dP, hdP, hdnP⟩ := Cond.laysAt hfound hk Y.supp (a (.lays cls Bundle.tN "suppressedExceptions" Bundle.listD) (by simp [xAts]))
  obtain ⟨tyM, -⟩ := Cond.laysAt hfound hk hffM (a (.lays cls Bundle.tN "detailMessage" "Ljava/lang/String;") (by simp [xAts]))
  obtain ⟨ci198, i198, fB, hk198, hg198, ha198, hsB, -, hnB, htB, hffB⟩ := Cond.ownField (t := .object "java/lang/Object") Y.found L.cls (by decide +kernel) (a (.fieldLink Bundle.tN 198 Bundle.tN "backtrace" "Ljava/lang/Object;") (by simp [xAts])) (a (.lays Bundle.tN Bundle.tN "backtrace" "Ljava/lang/Object;") (by simp [xAts])) e.platform hpl
  obtain ⟨tyB, dB, hdB, hdnB⟩ := Cond.laysAt hfound hk hffB (a (.lays cls Bundle.tN "backtrace" "Ljava/lang/Object;") (by simp [xAts]))
  have bC := Cond.laysApart hdB hdC hdnB hdnC (by rw [hnB, Y.causeName]; decide)
  have bS := Cond.laysApart hdB hdS hdnB hdnS (by rw [hnB, Y.stackName]; decide)
  have bP := Cond.laysApart hdB hdP hdnB hdnP (by rw [hnB, Y.suppName]; decide)
  have tkC := Takes.of_laid (v := .ref (S.heap.size + 2)) hk hord tyC (by rw [Y.causeType]; rfl)
  have tkS := Takes.of_laid (v := u0.v) hk hord tyS (by rw [Y.stackType]; exact fits_refV_array _ u0)
  have tkP := Takes.of_laid (v := sen.v) hk hord tyP (by rw [Y.suppType]; exact fits_refV_object _ sen)
  have tkM := Takes.of_laid (v := .ref (S.heap.size + 1)) hk hord tyM (by rw [Y.msgType]; rfl)
  -- the room
  obtain ⟨g₀, hfr⟩ := X.frames_eq
  have hcur : S.cur < S.threads.size := State.cur_lt_of_frames hfr
  have hA := X.stackAbove hsize hRlocals
  rw [X.tail] at hA
  have hF := X.framesAbove hRframes
  rw [hfr, List.length_cons] at hF
  have hcellsA := X.cellsAbove hRcells
  have hslotsA := X.slotsAbove hRslots
  have hlim : e.platform.stackLimits S.me = e.platform.stackLimits S.me := rfl
  generalize hlm : e.platform.stackLimits S.me = lim at hA hF
  have hlm2 : (e.platform.limitsFor S.me.stackBytes).2 = lim.2 := by rw [← hlm]; rfl
  have hbase : pre ++ Frame.java g :: below = (pre ++ [.java g]) ++ below := by simp
  have hBl : (pre ++ Frame.java g :: below).length ≤ below.length + 2 := by simp; omega
  have hBu : (stackUse (pre ++ Frame.java g :: below)).2 + 10240 ≤ lim.2 := by rw [huse]; exact hA
  have hBa : ∀ x : Frame, (∀ a, x ≠ .throwing a) → ∀ u : State, u.frames = x :: (pre ++ .java g :: below) → Within u below := fun x hx u hu =>
    ⟨x :: (pre ++ [.java g]), by rw [hu]; simp, by simp, fun a hq => by simp at hq⟩
  have hBb : ∀ x y : Frame, ∀ u : State, u.frames = x :: y :: (pre ++ .java g :: below) → ∃ mid, u.frames = mid ++ below := fun x y u hu =>
    ⟨x :: y :: (pre ++ [.java g]), by rw [hu]; simp⟩
  have hBc : ∀ x : Frame, ∀ u : State, u.frames = x :: (pre ++ .java g :: below) → ∃ mid, u.frames = mid ++ below := fun x u hu =>
    ⟨x :: (pre ++ [.java g]), by rw [hu]; simp⟩
  generalize pre ++ Frame.java g :: below = Bs at hBl hBu hBa hBb hBc ⊢
  have b1 : (bytesOf Zs.cB (stringToUtf16 m)).slots.size = (stringBytes (stringToUtf16 m)).size := by
    rw [(Cell.writeAll_facts _ _).2.2]; simp [bytes0]
  have b2 : (stringAt Zs.cS Zs.kS Zs.fv Zs.fc (stringToUtf16 m) S.heap.size).slots.size = 4 := by simp [string0, Cell.setSlot, hn4]
  have b3 : (freshCell P1.m.cls kX).slots.size = 6 := by simp [hn6]
  have XP := ((X.pushed (bytesOf Zs.cB (stringToUtf16 m))).pushed (stringAt Zs.cS Zs.kS Zs.fv Zs.fc (stringToUtf16 m) S.heap.size)).pushed (freshCell P1.m.cls kX)
  rw [← withString_eq, b1, b2, b3] at XP
  obtain ⟨w1, w2, w3, w4, w5, w6, w7⟩ := withThrown_facts e.platform S Zs m P1.m.cls kX
  -- the note's own step
  have hf0 : (S.setFrames (.throwNew cls (some m) none :: Bs)).frames = .throwNew cls (some m) none :: Bs := State.frames_setFrames _ hcur
  have hsb : ((((S.setFrames (.throwNew cls (some m) none :: Bs)).threads[(S.setFrames (.throwNew cls (some m) none :: Bs)).cur]?).map (·.stackBytes)).getD 0) = S.me.stackBytes := by
    rw [State.stackBytes_me, State.stackBytes_setFrames]
  have hst0 := stepThrowNew_message (e := e) (s := S.setFrames (.throwNew cls (some m) none :: Bs)) (cls := cls) (m := m) (rest := Bs) (c := P1.m.cls) (k := kX) (i := P1.m.idx) Zs LZs hsoe hoom hfound hk hinit hord (Launch.admits_hotImplicitExceptions X.admits)
    (by rw [hsb, hf0]; unfold Platform.stackBeyond; rw [stackUse_light _ _ (fun f hf => by cases hf) rfl, hlm2]; exact decide_eq_false (by omega))
    (by rw [hsb, hf0, Launch.admits_vmThrowRoom X.admits]; unfold Platform.stackFree; rw [stackUse_light _ _ (fun f hf => by cases hf) rfl, hlm2]; omega)
    hm hctor (by rw [Launch.admits_arrayLengthLimit X.admits]; omega) (by rw [Launch.admits_maxHeapBytes X.admits]; show ¬ (stringBytes (stringToUtf16 m)).size * 1 > 536870912; omega) hcellsA (by show S.slotsUsed + _ + _ + _ ≤ _; rw [hn4, hn6]; omega) (hfitv _) (hfitc _)
  have hst1 : (stepThrowNew e (S.setFrames (.throwNew cls (some m) none :: Bs)) cls (some m) none Bs).1 = (doInvoke e ((withThrown S Zs m P1.m.cls kX).setFrames (.thenThrow (S.heap.size + 2) :: Bs)) [] P1.m #[.ref (S.heap.size + 2), .ref (S.heap.size + 1)]).1 := by
    rw [hst0, withThrown_setFrames, State.setFrames_setFrames]; rfl
  clear hst0
  have hWW : S.WarmedH (withThrown S Zs m P1.m.cls kX).vm := by rw [w1]; exact State.WarmedH.refl S
  have XP' : Stand p l e R s m₀ args below meth c (withThrown S Zs m P1.m.cls kX) locs (cells + 1 + 1 + 1) (slots + (stringBytes (stringToUtf16 m)).size + 4 + 6) := XP
  clear XP
  have hltS : T.aS < S.heap.size := (Array.getElem?_eq_some_iff.mp hcellS).1
  have hWS := (w5 _ hltS).trans hcellS
  generalize withThrown S Zs m P1.m.cls kX = W at w1 w2 w3 w4 w5 w6 w7 hst1 hWW XP' hWS
  generalize ha : S.heap.size + 2 = a at w4 hst1 tkC ⊢
  generalize hst : S.heap.size + 1 = str at hst1 tkM
  have hWcur : W.cur < W.threads.size := State.cur_lt_of_frames (w2.trans hfr)
  have hWgo : ∀ F, (W.setFrames F).goesOn := fun F => ⟨XP'.here.running, by simpa using XP'.here.runnable, by simpa using XP'.here.alone⟩
  have hfN : (W.setFrames (.thenThrow a :: Bs)).frames = .thenThrow a :: Bs := State.frames_setFrames _ hWcur
  have hcurN : (W.setFrames (.thenThrow a :: Bs)).cur < (W.setFrames (.thenThrow a :: Bs)).threads.size := State.cur_lt_of_frames hfN
  have hlimN : e.platform.stackLimits (W.setFrames (.thenThrow a :: Bs)).me = lim := by rw [State.stackLimits_setFrames, w7]; exact hlm
  have hroom := roomAbove (pl := e.platform) (u := W.setFrames (.thenThrow a :: Bs)) (vars := 2) (pushed := [.thenThrow a]) (base := Bs) (free := 10240) (lim := lim) hfN hlimN
    (by simp only [List.length_cons, List.length_nil]; omega) hBu (by rw [stackUse_light _ _ (fun f hf => by cases hf) rfl, stackUse_nil]; show 0 + 2 + 11 ≤ _; omega)
  have hI : At ((W.setFrames (.thenThrow a :: Bs)).pushFrame (.java (passJ P1.m a (.ref str) 0 []))) P1.m P1.code below := At.pushOn _ (hWgo _) hcurN (hBc _ _ hfN) (hWW.methodAt L1.method) L1.code (hWW.plainAt (U := W.setFrames (.thenThrow a :: Bs)) L1.plain)
  have hfI : ((W.setFrames (.thenThrow a :: Bs)).pushFrame (.java (passJ P1.m a (.ref str) 0 []))).frames = .java (passJ P1.m a (.ref str) 0 []) :: .thenThrow a :: Bs := by
    rw [show ((W.setFrames (.thenThrow a :: Bs)).pushFrame (.java (passJ P1.m a (.ref str) 0 []))).frames = .java (passJ P1.m a (.ref str) 0 []) :: (W.setFrames (.thenThrow a :: Bs)).frames from State.frames_setFrames _ hcurN, hfN]
  have hlimI : e.platform.stackLimits ((W.setFrames (.thenThrow a :: Bs)).pushFrame (.java (passJ P1.m a (.ref str) 0 []))).me = lim := by rw [State.stackLimits_pushFrame]; exact hlimN
  obtain ⟨vm1, hW1, st1⟩ := Steps.invokeInitCold (tb := p.tables) (e := e) (s₀ := S) (U := (W.setFrames (.thenThrow a :: Bs)).pushFrame (.java (passJ P1.m a (.ref str) 0 []))) (f := passJ P1.m a (.ref str) 2 [.ref str, .ref a]) (args := [.ref str]) (rest := []) (a := a) hI hexec L1.at2 hWW L1.links L1.right L1.notHandle L1.cls L1.file L1.pool
    L1.supClass L1.supMethod L1.supName L1.supStatic L1.supAbstract L1.supFound L1.supParams.symm rfl
  have hI1 := hI.setVm (vm' := vm1) (hWW.alike.symm.trans hW1.alike)
  have hne : T.aS ≠ a := fun hq => by rw [hq, ← ha] at hltS; exact absurd hltS (Nat.not_lt.mpr (Nat.le_add_right _ 2))
  have hskip : SkipFacts T e.platform S (fun u => u) u0 ((preparedCellV T.toThrowableT (freshCell P1.m.cls kX) a u0 sen).withEntry W.cur) :=
    ⟨{ ci198 := ci198, i198 := i198, fBack := fB }, ⟨hk198, hg198, ha198, hsB⟩, by
      have := fresh_default (c := P1.m.cls) tyB
      rw [htB] at this
      simpa [preparedCellV, Cell.setSlot, Cell.withEntry, Array.getElem?_setIfInBounds, bC, bS, bP, bC.symm, bS.symm, bP.symm, defaultValue] using this, fun _ _ => rfl⟩
  obtain ⟨vm2, hW2, st2⟩ := Steps.initThrowableSColdByV p (e := e) (below := below) (s₀ := S) (V := ((W.setFrames (.thenThrow a :: Bs)).pushFrame (.java (passJ P1.m a (.ref str) 0 []))).setVm vm1) (g := passJ P1.m a (.ref str) 2 []) (c := P1.code) (self := a) hI1 hexec T L Z LZ M LM hW1 (t := W.cur) rfl
    (Nn := fun u => u) heapOnly_id (fun _ _ => rfl) (fun _ => rfl) (fun u x y => setCell_twice _ _ _ _) (fun _ => Nat.le_refl _) (u0 := u0) (sen := sen) (msg := .ref str) rfl (cell := freshCell P1.m.cls kX) (cellS := cellS) (cN := (preparedCellV T.toThrowableT (freshCell P1.m.cls kX) a u0 sen).withEntry W.cur)
    w4 (by intro k hk'; cases hk') (by intro hk'; cases hk') rfl hsel0 hWS hne hknownS hvU tkS (fun _ hu => hu) (fun _ hu => hu) rfl rfl rfl (by simp [preparedCellV, Cell.setSlot, Cell.withEntry])
    hskip (fun _ _ hA hW _ hroom _ hrest => L.nativeOff p htr hA hW hroom hrest) hselF hvSen tkC tkP tkM Y.objLocals Ps hL hlink (ig := .invokespecial P1.index) (len := 3) [] (lim := lim) hlimI
    (by show ((W.setFrames (.thenThrow a :: Bs)).pushFrame (.java (passJ P1.m a (.ref str) 0 []))).frames.length + _ + _ < _; rw [hfI, hlen]; simp only [List.length_cons]; omega)
    (by
      show (stackUse (.java (passJ P1.m a (.ref str) 2 []) :: ((W.setFrames (.thenThrow a :: Bs)).pushFrame (.java (passJ P1.m a (.ref str) 0 []))).frames.tail)).2 + _ + _ ≤ _
      rw [hfI, List.tail_cons, stackUse_java, stackUse_light _ _ (fun f hf => by cases hf) rfl]
      show (stackUse Bs).2 + (2 + 11 + 2 * 0 + operandWords []) + 13 * Ps.length + 42 ≤ lim.2
      simp only [operandWords, List.foldl_nil]
      omega)
    L1.at2
  rw [plainBareV_eq T.toThrowableT a u0 sen (.ref str) W.cur rfl rfl] at st2
  have X4 := XP'.noted (X.warmed.trans hW2)
  have hal : a < (W.setVm vm2).heap.size := by show a < W.heap.size; rw [w3, ← ha]; omega
  have X5 := ((((X4.stored (a := a) w4 T.fCause.slot (.ref a)).storedAgain hal T.fStack.slot u0.v).storedAgain hal T.fSupp.slot sen.v).storedAgain hal T.fStack.slot u0.v).storedAgain hal T.fMsg.slot (.ref str)
  simp only [List.append_assoc, List.cons_append, List.nil_append] at X5
  have hV : ∀ F, ((((((W.setFrames (.thenThrow a :: Bs)).pushFrame (.java (passJ P1.m a (.ref str) 0 []))).setVm vm1).setVm vm2).setCell a (plainBareV T.toThrowableT (freshCell P1.m.cls kX) a u0 sen (.ref str))).setFrames F) = (((W.setVm vm2).setCell a (plainBareV T.toThrowableT (freshCell P1.m.cls kX) a u0 sen (.ref str))).setFrames F) := by
    intro F
    rw [State.setVm_twice, State.pushFrame_setVm, State.setFrames_setVm, State.pushFrame]
    show ((((W.setVm vm2).setCell a (plainBareV T.toThrowableT (freshCell P1.m.cls kX) a u0 sen (.ref str))).setFrames _).setFrames _).setFrames F = _
    rw [State.setFrames_setFrames, State.setFrames_setFrames]
  have X6 : Stand p l e R s m₀ args below meth c ((W.setVm vm2).setCell a (plainBareV T.toThrowableT (freshCell P1.m.cls kX) a u0 sen (.ref str))) (locs ++ [⟨a, T.fCause.slot⟩, ⟨a, T.fStack.slot⟩, ⟨a, T.fSupp.slot⟩, ⟨a, T.fStack.slot⟩, ⟨a, T.fMsg.slot⟩]) (cells + 3) (slots + ((stringBytes (stringToUtf16 m)).size + 4 + 6)) := by
    rw [← Nat.add_assoc, ← Nat.add_assoc]
    exact X5
  refine ⟨(W.setVm vm2).setCell a (plainBareV T.toThrowableT (freshCell P1.m.cls kX) a u0 sen (.ref str)), _, _, _, X6, by omega, ?_, ?_, ?_, heapAt_setCell_self _ hal, rfl, hfound, ?_⟩
  · intro q hq
    simp only [List.mem_cons, List.not_mem_nil, or_false] at hq
    rcases hq with rfl | rfl | rfl | rfl | rfl <;> rfl
  · show (W.heap.setIfInBounds a _).size = _
    rw [Array.size_setIfInBounds]; exact w3
  · intro b hb
    rw [heapAt_setCell_ne _ (fun hq => by rw [← hq, ← ha] at hb; exact absurd hb (Nat.not_lt.mpr (Nat.le_add_right _ 2)))]
    exact w5 b hb
  · intro target hrest
    refine Steps.head ⟨X.here.running, by simpa using X.here.runnable, by simpa using X.here.alone⟩ (hBa _ (fun a hq => by cases hq) _ hf0) ?_
    rw [stepThread_throwNew hf0, hst1, (doInvoke_java (s := W.setFrames (.thenThrow a :: Bs)) (e := e) (acts := []) (args := #[.ref a, .ref str]) (meth := P1.meth) (code := P1.code) (hWW.methodAt L1.method) L1.code L1.locks (by rw [L1.locals]; exact hroom)).1, L1.locals]
    show Steps p.tables e below ((W.setFrames (.thenThrow a :: Bs)).pushFrame (.java (passJ P1.m a (.ref str) 0 []))) target
    rw [← State.setTop_self (s := (W.setFrames (.thenThrow a :: Bs)).pushFrame (.java (passJ P1.m a (.ref str) 0 []))) (State.topJava?_of_frames hfI)]
    jvm_step hI [hexec, L1.at0, Value.isRef]
    jvm_step hI [hexec, L1.at1, Value.isRef]
    refine st1 target ?_
    rw [hlink1]
    refine st2 target ?_
    have hB5 : At (((((W.setFrames (.thenThrow a :: Bs)).pushFrame (.java (passJ P1.m a (.ref str) 0 []))).setVm vm1).setVm vm2).setCell a (plainBareV T.toThrowableT (freshCell P1.m.cls kX) a u0 sen (.ref str))) P1.m P1.code below := (At.setCell_iff _ _).mpr (hI1.setVm (hW1.alike.symm.trans hW2.alike))
    have hf5 : (((((W.setFrames (.thenThrow a :: Bs)).pushFrame (.java (passJ P1.m a (.ref str) 0 []))).setVm vm1).setVm vm2).setCell a (plainBareV T.toThrowableT (freshCell P1.m.cls kX) a u0 sen (.ref str))).frames = .java (passJ P1.m a (.ref str) 0 []) :: .thenThrow a :: Bs := hfI
    have hv5 : (((((W.setFrames (.thenThrow a :: Bs)).pushFrame (.java (passJ P1.m a (.ref str) 0 []))).setVm vm1).setVm vm2).setCell a (plainBareV T.toThrowableT (freshCell P1.m.cls kX) a u0 sen (.ref str))).vm.method? P1.m = some P1.meth := hW2.methodAt L1.method
    generalize ((((W.setFrames (.thenThrow a :: Bs)).pushFrame (.java (passJ P1.m a (.ref str) 0 []))).setVm vm1).setVm vm2).setCell a (plainBareV T.toThrowableT (freshCell P1.m.cls kX) a u0 sen (.ref str)) = V at hV hB5 hf5 hv5 ⊢
    show Steps p.tables e below (V.setTop (passJ P1.m a (.ref str) 5 [])) target
    jvm_step hB5 [hexec, L1.at5, return_.wp_sem]
    intro acts2
    rw [ret_to (t := V) (f := passJ P1.m a (.ref str) 5 []) (f₀ := passJ P1.m a (.ref str) 0 []) (below := .thenThrow a :: Bs) (fs := .thenThrow a :: Bs) (meth := P1.meth) hf5 hv5 L1.locks rfl rfl rfl acts2, hV]
    have hf6 : (((W.setVm vm2).setCell a (plainBareV T.toThrowableT (freshCell P1.m.cls kX) a u0 sen (.ref str))).setFrames (.thenThrow a :: Bs)).frames = .thenThrow a :: Bs := State.frames_setFrames _ hWcur
    refine Steps.head ⟨X6.here.running, by simpa using X6.here.runnable, by simpa using X6.here.alone⟩ (hBa _ (fun a hq => by cases hq) _ hf6) ?_
    rw [stepThread_thenThrow hf6]
    show Steps p.tables e below ((((W.setVm vm2).setCell a (plainBareV T.toThrowableT (freshCell P1.m.cls kX) a u0 sen (.ref str))).setFrames (.thenThrow a :: Bs)).setFrames (.throwing a :: Bs)) target
    rw [State.setFrames_setFrames]
    exact hrest
end NOTE
