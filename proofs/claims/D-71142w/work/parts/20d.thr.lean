/-! THE MACHINE THROWS: words, the heap's picture -/
def isLs : Cond → Bool
  | .laysStatic o n d => decide (o = "java/lang/Throwable") && ((decide (n = lsU.1) && decide (d = lsU.2)) || (decide (n = lsS.1) && decide (d = lsS.2)))
  | _ => false
theorem wordsZ {D : va_G} {cA : Nat → ClassId} {S : State} {z : Nat} {h : Hp} (hcx : CxZ D cA S) (hS : StaZ cA z S h S.heap) (ws : List Cond) (ps : List Nat) (hp : ws = ps.filterMap (fun i => lw_tbl[i]?)) (hg : ws.all (fun w => goodWord w || wmOk w || isLs w) = true) : ∀ w ∈ ws, w.before #[] S = true := by
  intro w hw
  have h1 := List.all_eq_true.mp hg w hw
  rw [hp] at hw
  obtain ⟨i, -, hi⟩ := List.mem_filterMap.mp hw
  have hm := List.mem_of_getElem? hi
  simp only [Bool.or_eq_true] at h1
  rcases h1 with (h1 | h1) | h1
  · exact hcx.1 w (List.mem_filter.mpr ⟨hm, h1⟩) #[]
  · have hz := hcx.2.1 w hm h1
    cases w <;> first | exact va_Nw.use rfl hz | cases h1
  · cases w with
    | laysStatic o n d =>
      simp only [isLs, Bool.and_eq_true, Bool.or_eq_true, decide_eq_true_eq] at h1
      obtain ⟨rfl, ⟨rfl, rfl⟩ | ⟨rfl, rfl⟩⟩ := h1
      · exact hS.2.2.2.2.2.2.1.word
      · exact hS.2.2.2.2.2.2.2.word
    | _ => cases h1
def upC : List String := ["java/lang/RuntimeException", "java/lang/Exception"]
def upA : List String := ["java/lang/IndexOutOfBoundsException", "java/lang/RuntimeException", "java/lang/Exception"]
def xTs : List Cond := Bundle.throwableAtoms ++ Bundle.throwableSAtoms ++ Bundle.stringAtoms
def xCs : List Cond := Bundle.chainSAtoms (xNm 1) upC ++ xAts (xNm 1)
def xAs : List Cond := Bundle.chainSAtoms (xNm 0) upA ++ xAts (xNm 0)
theorem nX_K (h : Hp) (k b : Nat) : gK (nX h k) b = if b = gN h + 2 then k else if b = gN h + 1 then 0 else if b = gN h then 0 else gK h b := rfl
theorem RpZ.thr {D : va_G} {cA : Nat → ClassId} {z : Nat} {U : State} {h : Hp} {H H' : Heap} {j : Nat} (hR : RpZ D cA z U h H) (hj : j < 2) (hz : H'.size = H.size + 3) (ho : ∀ b, b < H.size → H'[b]? = H[b]?) {ce : Cell} (hc : H'[H.size + 2]? = some ce) (hs : ce.vm.isStatics = false) (hf : U.vm.findClass (xNm j) = some ce.cls) : RpZ D cA z U (nX h (62 + j)) H' := by
  obtain ⟨r1, r2, r3, r0, r4, r5⟩ := hR
  have hK := nX_K h (62 + j)
  have hlow : ∀ b, b < H.size → gK (nX h (62 + j)) b = gK h b := fun b hb => by rw [hK, if_neg (by omega), if_neg (by omega), if_neg (by omega)]
  have hFl : ∀ f b, b < H.size → gF (nX h (62 + j)) f b = gF h f b := fun f b hb => by
    unfold nX
    rw [gF_nO, if_neg (by rw [gN_nO, gN_nO]; omega), gF_nO, if_neg (by rw [gN_nO]; omega), gF_nO, if_neg (by omega)]
  refine ⟨by show gN h + 1 + 1 + 1 = _; omega, by omega, fun b hb => ?_, trivial, fun b => ?_, r5.kept (fun f => hFl f 0 (by omega)) (fun b hb => ho b (by omega))⟩
  · rw [hK, if_neg (by omega), if_neg (by omega), if_neg (by omega)]
    exact r3 b (by omega)
  · by_cases hb : b < H.size
    · exact (r4 b).congr (hlow b hb) rfl (fun f => hFl f b hb) rfl rfl (ho b hb)
    · have hk : gK (nX h (62 + j)) b = 0 ∨ (b = H.size + 2 ∧ gK (nX h (62 + j)) b = 62 + j) := by
        rw [hK]
        by_cases h2 : b = gN h + 2
        · exact Or.inr ⟨by omega, if_pos h2⟩
        · rw [if_neg h2]
          by_cases h1 : b = gN h + 1
          · exact Or.inl (if_pos h1)
          · rw [if_neg h1]
            by_cases h0 : b = gN h
            · exact Or.inl (if_pos h0)
            · rw [if_neg h0]
              exact Or.inl (r3 b (by omega))
      refine ⟨fun ci r hc' hk' => ?_, fun j' hj' hk' => ?_, fun j' hj' hk' => ?_, fun hk' => ?_, fun hk' => ?_, fun hk' => ?_, fun hk' => ?_, fun j' hj' hk' => ?_⟩
      · have h16 : ci < 16 := (List.getElem?_eq_some_iff.mp hc').1
        omega
      · omega
      · omega
      · omega
      · omega
      · omega
      · omega
      · rcases hk with hk | ⟨hk, hk2⟩
        · omega
        · have : j' = j := by omega
          subst this
          subst hk
          exact ⟨by omega, ce, hc, hs, hf⟩
theorem xTs_in : xTs = [90, 378, 387, 392, 395, 397, 379, 380, 116, 117, 381, 386, 393, 411, 368, 412, 370, 413, 372, 382, 383, 384, 385, 374, 477, 478, 410, 374, 97, 492, 152, 493, 495, 494, 496].filterMap (fun i => lw_tbl[i]?) := by decide +kernel
theorem xCs_in : xCs = [1118, 1119, 1120, 471, 490, 471, 472, 473, 474, 362, 474, 475, 476, 477, 364, 109, 1117, 1129, 391, 1123, 1124, 1126, 1122, 377, 376, 1121].filterMap (fun i => lw_tbl[i]?) := by decide +kernel
theorem xAs_in : xAs = [465, 466, 467, 468, 488, 468, 469, 470, 471, 490, 471, 472, 473, 474, 362, 474, 475, 476, 477, 364, 96, 464, 491, 390, 481, 482, 484, 480, 377, 376, 479].filterMap (fun i => lw_tbl[i]?) := by decide +kernel
theorem rfV_ref {v : Value} (h : rfV v = true) : ∃ u : RefV, u.v = v := by
  cases v <;> first | exact ⟨⟨_, rfl⟩, rfl⟩ | cases h
def upX (j : Nat) : List String := if j = 0 then upA else upC
section THR
variable {mi : MI} {D : va_G} {cA : Nat → ClassId} {z : Nat} {p : Program} {l : LaZ} {e : Env} {R : Room} {s : State} {m : MethodId} {args : Array Value} {below : List Frame} {meth : Method} {c : Code} {K : Po} {T : State} {locs : List Loc} {cells slots : Nat}
theorem thrZ {j : Nat} (hj : j < 2) (hC : CtZ mi D cA p R s m meth c) (hfr : 9 ≤ mi.2.2.2.2.2.2.1) (hlo : 10253 ≤ mi.2.2.2.2.2.2.2) {pc : Nat} {ls : List Value} (hll : ls.length = mi.2.1) {h : Hp} (hO : TtZ D cA z p l e R s m args below meth c K pc ls (gN h + 2) (nX h (62 + j))) (hR : RpZ D cA z s h T.heap) (hlocs : ∀ q ∈ locs, z ≤ q.base) (hcells : cells + gC h ≤ R.cells) (hslots : slots + gS h ≤ R.slots) {lsr : Array Slot} (hloc : LocZ lsr ls)
    (hx : rfV (gF h 1003 0) = true ∧ rfV (gF h 1005 0) = true ∧ 3 ≤ gC h ∧ 1010 ≤ gS h) (X : Stand p l e R s m args below meth c T locs cells slots) {text : String} (ht1 : (stringBytes (stringToUtf16 text)).size ≤ 1000) (ht2 : (text == notModelled) = false) {st : List Value} (hst : (st.map fun v => v.category).sum ≤ 13)
    {pre : List Frame} (hpre : pre.length ≤ 1) (huse : (stackUse (pre ++ .java (F0 m pc lsr st) :: below)).2 = (stackUse (.java (F0 m pc lsr st) :: below)).2)
    (hpop : ∀ (S' : State) (a : Addr) (lc : List Loc) (n1 n2 : Nat), Stand p l e R s m args below meth c S' lc n1 n2 → ∀ target, Steps p.tables e below (S'.setFrames (.throwing a :: .java (F0 m pc lsr st) :: below)) target → Steps p.tables e below (S'.setFrames (.throwing a :: (pre ++ .java (F0 m pc lsr st) :: below))) target) :
    ∃ t, Steps p.tables e below (T.setFrames (.throwNew (xNm j) (some text) none :: (pre ++ .java (F0 m pc lsr st) :: below))) t ∧ FinZ D cA z R s below K t := by
  obtain ⟨hxx, hb, hml, -, hown, -, -, hF, hL, -, hcx⟩ := hC
  have hcxT := hcx.moved X.warmed
  have hRT := hR.moved (U := T) X.warmed.alike
  have hST := hRT.2.2.2.2.2
  obtain ⟨u0, hu0⟩ := rfV_ref hx.1
  obtain ⟨sen, hsen⟩ := rfV_ref hx.2.1
  have hz1 := hST.2.1
  have hz2 := hST.2.2.1
  rw [← hu0] at hz1
  rw [← hsen] at hz2
  have aT := wordsZ hcxT hST xTs _ xTs_in (by decide +kernel)
  have aX : ∀ x ∈ Bundle.chainSAtoms (xNm j) (upX j) ++ xAts (xNm j), x.before #[] T = true := by
    obtain rfl | rfl : j = 0 ∨ j = 1 := by omega
    · exact wordsZ hcxT hST xAs _ xAs_in (by decide +kernel)
    · exact wordsZ hcxT hST xCs _ xCs_in (by decide +kernel)
  have htr : e.platform.stackTraces = false := by rw [X.admits.platform]; exact l.2
  have hf1 : Bundle.fit (xNm j) = true ∧ (∀ n ∈ upX j, Bundle.fit n = true) ∧ (xNm j == "java/lang/StackOverflowError") = false ∧ (xNm j == "java/lang/OutOfMemoryError") = false ∧ (upX j).length ≤ 3 := by
    obtain rfl | rfl : j = 0 ∨ j = 1 := by omega
    · decide +kernel
    · decide +kernel
  obtain ⟨f1, f2, f3, f4, f5⟩ := hf1
  obtain ⟨S', new, n, ce, X', hn, hnew, hsz, hold, hce, hcs, hcf, hgo⟩ := noteZ X hxx htr f1 f2 f3 f4 (fun x hx => aT x (List.mem_append_left _ (List.mem_append_left _ hx))) (fun x hx => aT x (List.mem_append_left _ (List.mem_append_right _ hx))) (fun x hx => aX x (List.mem_append_left _ hx)) (fun x hx => aT x (List.mem_append_right _ hx)) (fun x hx => aX x (List.mem_append_right _ hx)) hz1 hz2 ht2 ht1 (Nat.le_refl _)
    (g := F0 m pc lsr st) (by show lsr.size = _; rw [hml, hloc.1]; exact hll) hpre huse (by omega) (by show 2 * 0 + (st.map fun v => v.category).sum + 10240 ≤ _; omega) (by omega) (by omega) (by omega)
  have hsz' : gN h = T.heap.size := hR.1
  have hR' : RpZ D cA z s (nX h (62 + j)) S'.heap := hR.thr hj hsz hold hce hcs (by rw [← X.warmed.alike.findClass]; exact hcf)
  obtain ⟨t, ht, hfin⟩ := hO S'.heap (locs ++ new) (cells + 3) (slots + n) lsr st hR' (fun q hq => by
    rcases List.mem_append.mp hq with w | w
    · exact hlocs q w
    · rw [hnew q w]; have := hR.2.1; omega) (by show cells + 3 + (gC h - 1 - 1 - 1) ≤ _; omega) (by show slots + n + (gS h - 0 - 0 - 1010) ≤ _; omega) hloc S' rfl X'
  refine ⟨t, hgo t (hpop S' _ _ _ _ X' t ?_), hfin⟩
  obtain ⟨g₁, hfrM⟩ := X'.frames_eq
  rw [State.pushFrame, State.frames_setTop _ hfrM, State.setTop_of_frames _ hfrM, State.setFrames_setFrames, hsz'] at ht
  exact ht
end THR
/-! SOUNDNESS: casts and copies that may fail -/
section FAILS
variable {mi : MI} {pc : Nat}
theorem s_castT {idx : Nat} {T : String} {ks xs : List Nat} (hd : decode mi.1 pc = .ok (.checkcast idx, 3)) (hl : Cond.classLink mi.2.2.2.1 idx T ∈ lw_all) (hks : ∀ k ∈ ks, ∃ ci r, k = ci + 1 ∧ zCl[ci]? = some r ∧ (r.1 = T ∨ Cond.castable r.1 T ∈ lw_tbl)) (hxs : ∀ k ∈ xs, ∃ ci r, k = ci + 1 ∧ zCl[ci]? = some r ∧ (r.1, T) ∈ ncL ∧ packageOf r.1 ∈ castPackages_1 ∧ (dotted r.1).toList.length ≤ 20) (hT1 : packageOf T ∈ castPackages_1) (hT2 : (dotted T).toList.length ≤ 20) (hfr : 9 ≤ mi.2.2.2.2.2.2.1) (hlo : 10253 ≤ mi.2.2.2.2.2.2.2) : SiZ mi pc (i_castT ks xs (pc + 3)) := by
  intro D cA z p l e R s m args below meth c K hC ls st h o hll ho hO
  have hgood := s_cast hd hl hks D cA z p l e R s m args below meth c K hC ls st h o hll
  simp only [i_castT] at ho
  split at ho
  · rename_i a st'
    by_cases hg : gK h a ∈ ks
    · rw [if_pos hg] at ho
      exact hgood (by simp only [i_cast]; rw [if_pos hg]; exact ho) hO
    · rw [if_neg hg] at ho
      split at ho
      · rename_i hx
        cases ho
        intro H locs cells slots lsr g1 g2 g3 g4 g5 U hU X
        have hcx := hC.2.2.2.2.2.2.2.2.2.2
        obtain ⟨ci, r, e1, e2, e3, e4, e5⟩ := hxs _ hx.1
        obtain ⟨-, cellV, v1, v2, v3, -⟩ := (g1.2.2.2.2.1 a).1 ci r e2 e1
        obtain ⟨-, hfc, kV, hkV, -⟩ := hcx.2.2.1.1 ci r e2
        obtain ⟨c0, t0, n1, n2, n3⟩ := hcx.2.2.2.2.2.2.1 _ e3
        cases hfc.symm.trans n1
        have hpl : e.platform.magicAccessors = ({} : Platform).magicAccessors := by rw [X.admits.platform]
        obtain ⟨c', hc', hcl⟩ := Cond.classLink_spec hC.2.2.2.2.1 (hcx.1 _ hl args) e.platform hpl
        cases n2.symm.trans hc'
        obtain ⟨dk, _, _, kt, hdk, _, _, _, _, hkt, _, hopen⟩ := hcl.here
        have hcl₀ := X.warmed.classLinks hcl
        have hW' : s.WarmedH (U.vm.noted m.cls idx (.cls t0)) := X.warmed.noted hdk hopen (State.rightAt_cls hcl)
        obtain ⟨ks', hks', heS⟩ := hW'.alike.2.2 _ _ hkV
        obtain ⟨kt', hkt', heT⟩ := hW'.alike.2.2 _ _ hkt
        have X' := X.noted hW'
        obtain ⟨p1, p2, p3⟩ := fc_hidden hfc hkV
        obtain ⟨p4, p5, p6⟩ := fc_hidden n2 hkt
        have htx := castTx (s := U.setVm (U.vm.noted m.cls idx (.cls t0))) (modZ (U := U.setVm (U.vm.noted m.cls idx (.cls t0))) hW'.alike hcx.2.2.2.2.2.2.2.2.2) (a := ks') (b := kt') (by rw [heS]; exact p2) (by rw [heT]; exact p5) (by rw [heS]; exact p3) (by rw [heT]; exact p6)
          (by rw [heS]; show packageOf kV.name ∈ _; rw [p1]; exact e4) (by rw [heT]; show packageOf kt.name ∈ _; rw [p4]; exact hT1) (by rw [heS]; show (dotted kV.name).toList.length ≤ _; rw [p1]; exact e5) (by rw [heT]; show (dotted kt.name).toList.length ≤ _; rw [p4]; exact hT2)
        have hr4 := rest4 hx.2.2.2.2.2
        obtain ⟨t, ht, hfin⟩ := thrZ (j := 1) (by decide) hC hfr hlo hll hO (T := U.setVm (U.vm.noted m.cls idx (.cls t0))) (by show RpZ D cA z s h U.heap; rw [hU]; exact g1) g2 g3 g4 g5 ⟨hx.2.1, hx.2.2.1, hx.2.2.2.1, hx.2.2.2.2.1⟩ X' htx.1 htx.2 (st := .ref a :: st') (by simp only [List.map_cons, List.sum_cons]; show 1 + _ ≤ 13; omega) (pre := []) (by simp) rfl (fun S' a lc k1 k2 _ target h => h)
        refine ⟨t, ?_, hfin⟩
        obtain ⟨g₁, hfrM⟩ := X'.frames_eq
        rw [List.nil_append] at ht
        have ht' : Steps p.tables e below (((U.setVm (U.vm.noted m.cls idx (.cls t0))).setTop (F0 m pc lsr (.ref a :: st'))).pushFrame (.throwNew "java/lang/ClassCastException" (some (checkcast.message (U.vm.noted m.cls idx (.cls t0)) ks' kt')) none)) t := by
          rw [State.pushFrame, State.frames_setTop _ hfrM, State.setTop_of_frames _ hfrM, State.setFrames_setFrames]
          exact ht
        show Steps p.tables e below (U.setTop (F0 m pc lsr (.ref a :: st'))) t
        jvm_step X.here [hC.1, hC.2.1, hd, checkcast.wp_cold (e := e) (s := U) (f := F0 m pc lsr (.ref a :: st')) X.here.top rfl (resolveClass_links e.toSetting hcl₀) hcl₀.ready,
          checkcast.wp_ready (e := e) (s := U.setVm (U.vm.noted m.cls idx (.cls t0))) (f := F0 m pc lsr (.ref a :: st')) X.here.top hcl₀.ready rfl]
        refine ⟨cellV, by rw [hU]; exact v1, VmData.noStatics_of (by rw [v3]; rfl), ks', by rw [v2]; exact hks', kt', hkt', ?_⟩
        rw [if_neg (by rw [hW'.alike.assignable, v2, n3]; decide)]
        exact ht'
      · cases ho
  · cases ho
    exact hgood rfl hO
  · cases ho
end FAILS
/-! SOUNDNESS: copies that fail -/
theorem popNat {e : Env} {S : State} {a : Addr} {nf : NFrame} {rest : List Frame} (h1 : nf.awaiting = false) (h2 : nf.locked = none) : (stepThrowing e S a (.native nf :: rest)).1 = S.setFrames (.throwing a :: rest) := by
  simp only [stepThrowing, h1, h2, Bool.false_eq_true, if_false]
  unfold vmDo
  generalize hr : Sem.go _ e false _ S = res
  obtain ⟨as, rfl, -⟩ := Sem.eq_ok_of hr (a := true) (s' := S) (acts' := unmarked [.mark "vm.unwind/native"]) (by simp [leaveIfLocked])
  rfl
section NTHR
variable {tb : Tables} {e : Env} {below : List Frame} {s target : State} {g : JFrame} {c : Code}
theorem nativeThr (h : At s g.method c below) {m : MethodId} {meth : Method} {k : Class} {row : NativeRow} {args : Array Value} (acts : List Action)
    (hk : s.vm.classes[m.cls]? = some k) (hx : k.methods[m.idx]? = some meth) (hboot : k.loader = none) (hnat : meth.isNative = true) (hc : meth.code = none) (hl : meth.locks = false) (hrow : NativeRow.find? tb.natives k.name meth.name meth.desc = some row)
    (hroom : e.platform.stackFull (((s.setTop g).threads[(s.setTop g).cur]?).getD { frames := [] }) (s.setTop g).frames (nativeFrameWords k.name meth.name (operandWords args.toList)) = false) {cls : String} {msg : Option String}
    (hw : wpRun (row.sem (seenByNative meth args)) (fun _ _ _ => False) (fun x s₁ _ => x = .throwNew cls msg ∧ s₁ = (s.setTop g).pushFrame (.native { method := m, args := seenByNative meth args, locked := none })) e ((s.setTop g).pushFrame (.native { method := m, args := seenByNative meth args, locked := none })))
    (hrest : Steps tb e below (((s.setTop g).pushFrame (.native { method := m, args := seenByNative meth args, locked := none })).pushFrame (.throwNew cls msg none)) target) : Steps tb e below (doInvoke e (s.setTop g) acts m args).1 target := by
  have hm : (s.setTop g).vm.method? m = some meth := by
    show s.vm.method? m = some meth
    simp [Vm.method?, hk, hx]
  have hroom' : e.platform.stackFull (((s.setTop g).threads[(s.setTop g).cur]?).getD { frames := [] }) (s.setTop g).frames (nativeFrameWords ((((s.setTop g).vm.classes[m.cls]?).map (·.name)).getD "") meth.name (operandWords args.toList)) = false := by
    have : (((s.setTop g).vm.classes[m.cls]?).map (·.name)).getD "" = k.name := by
      show ((s.vm.classes[m.cls]?).map (·.name)).getD "" = k.name
      simp [hk]
    rw [this]; exact hroom
  rw [(Fast.doInvoke_native (s := s.setTop g) (e := e) (acts := acts) (args := args) hm hnat hc hl hroom').1]
  have hfe := frames_entered (g := g) h.top (.native { method := m, args := seenByNative meth args, locked := none })
  obtain ⟨mid, hmid⟩ := h.above
  refine Steps.head ⟨h.running, by simpa using h.runnable, by simpa using h.alone⟩ ⟨.native { method := m, args := seenByNative meth args, locked := none } :: .java g :: mid, by rw [hfe, hmid]; rfl, by simp, by simp⟩ ?_
  rw [stepThread_native (f := { method := m, args := seenByNative meth args, locked := none }) (k := k) (x := meth) (row := row) hfe hk hx hboot hrow rfl]
  have hw := (wpRun_iff_run _ _ _ _ _).mp hw
  cases hr : (row.sem (seenByNative meth args)).run e ((s.setTop g).pushFrame (.native { method := m, args := seenByNative meth args, locked := none })) with
  | ok v s₁ acts₁ => rw [hr] at hw; exact hw.elim
  | ctl x s₁ acts₁ =>
    rw [hr] at hw
    have hw' : x = .throwNew cls msg ∧ s₁ = (s.setTop g).pushFrame (.native { method := m, args := seenByNative meth args, locked := none }) := by
      cases x <;> first | exact hw | exact hw.elim
    obtain ⟨rfl, rfl⟩ := hw'
    exact hrest
end NTHR
section FAILS2
variable {mi : MI} {pc : Nat}
theorem s_acpyT {idx : Nat} (hd : decode mi.1 pc = .ok (.invokestatic idx, 3)) (hl : Cond.methodLink mi.2.2.2.1 idx arraycopyName ∈ lw_all) (hfr : 9 ≤ mi.2.2.2.2.2.2.1) (hlo : 10253 ≤ mi.2.2.2.2.2.2.2) : SiZ mi pc (i_acpyT 51 (pc + 3)) := by
  intro D cA z p l e R s m args below meth c K hC ls st h o hll ho hO
  have hgood := s_acpy hd hl (by omega) (by omega) D cA z p l e R s m args below meth c K hC ls st h o hll
  simp only [i_acpyT] at ho
  split at ho
  · rename_i n dp d sp a0 st'
    by_cases hg : acOk h a0 d sp dp n
    · rw [if_pos hg] at ho
      split at ho
      · rename_i hq
        refine hgood ?_ hO
        simp only [i_acpy]
        rw [if_pos ⟨hq.1, hq.2.1, hq.2.2, hg⟩]
        exact ho
      · cases ho
    · rw [if_neg hg] at ho
      split at ho
      · rename_i hx
        cases ho
        intro H locs cells slots lsr g1 g2 g3 g4 g5 U hU X
        obtain ⟨⟨k1, k2, k3, k4⟩, hx⟩ := hx
        have hC' := hC
        obtain ⟨hxx, hb, hml, -, hown, -, -, hF, hL, -, hcx⟩ := hC'
        obtain ⟨z0, c0, -⟩ := arrI hcx g1 (j := 0) (by decide) k1 rfl
        obtain ⟨z1, c1, -⟩ := arrI hcx g1 (j := 0) (by decide) k2 rfl
        obtain ⟨-, kk0, hk0, cm0, hkk0⟩ := (hcx.2.2.1.2 0 _ rfl).1 (gL h a0) (fun j => .int (gI h a0 j))
        obtain ⟨-, kk1, hk1, cm1, hkk1⟩ := (hcx.2.2.1.2 0 _ rfl).1 (gL h d) (fun j => .int (gI h d j))
        have hr4 := rest4 hx.2.2.2.2
        obtain ⟨what, hwhat⟩ := acTxt_some (a := gL h a0) (b := gL h d) hg
        obtain ⟨ht1, ht2⟩ := acTxt_ok k3 k4 hwhat
        obtain ⟨r, kS, methS, hnS, hmS, hkS, N⟩ := NativeOf.of_static (hcx.1 _ q499 args) (hcx.1 _ q498 args) (ps := [.object "java/lang/Object", .int, .object "java/lang/Object", .int, .int]) (ret := none) (by decide +kernel)
        have hinitS : kS.init = .initialized := Cond.initialized_spec (findClass_of_methodNamed hnS) hkS (hcx.1 _ q98 args)
        obtain ⟨vm', X', step⟩ := X.invokestatic hxx hown (hcx.1 _ hl args) hnS hmS N.static hkS hinitS (by decide) (g := F0 m pc lsr (.int n :: .int dp :: .ref d :: .int sp :: .ref a0 :: st')) rfl (argsL := [.ref a0, .int sp, .ref d, .int dp, .int n]) (rest := st') (by rw [N.sig]; rfl) rfl (by rw [hb]; exact hd)
        have hA' : s.vm.Alike vm' := X'.warmed.alike
        obtain ⟨kS', N'⟩ := N.alike hA'
        obtain ⟨ks', hks', hes⟩ := hA'.2.2 _ _ hk0
        obtain ⟨kd', hkd', hed⟩ := hA'.2.2 _ _ hk1
        have hseen : seenByNative methS #[.ref a0, .int sp, .ref d, .int dp, .int n] = #[.ref a0, .int sp, .ref d, .int dp, .int n] := by
          simp [seenByNative, N.static, N.sig, narrow]
        have hnw : nativeFrameWords "java/lang/System" "arraycopy" 5 = 7 := by decide +kernel
        have hroom := X'.notFull (g := F0 m pc lsr st') (by show lsr.size = _; rw [hml, g5.1]; exact hll) (vars := nativeFrameWords "java/lang/System" "arraycopy" 5) (by omega) (by show 2 * 0 + (st'.map fun v => v.category).sum + _ ≤ _; rw [hnw]; omega)
        obtain ⟨t, ht, hfin⟩ := thrZ (j := 0) (by decide) hC hfr hlo hll hO (T := U.setVm vm') (by show RpZ D cA z s h U.heap; rw [hU]; exact g1) g2 g3 g4 g5 ⟨hx.1, hx.2.1, hx.2.2.1, hx.2.2.2.1⟩ X' ht1 ht2 (st := st') (by omega) (pre := [.native { method := r, args := #[.ref a0, .int sp, .ref d, .int dp, .int n], locked := none }]) (by simp)
          (by rw [List.singleton_append, stackUse_light _ _ (fun f hf => by cases hf) rfl])
          (fun S' a lc n1 n2 XS target hs => by
            obtain ⟨g₂, hfr2⟩ := XS.frames_eq
            have hf2 : (S'.setFrames (.throwing a :: ([.native { method := r, args := #[.ref a0, .int sp, .ref d, .int dp, .int n], locked := none }] ++ .java (F0 m pc lsr st') :: below))).frames = .throwing a :: .native { method := r, args := #[.ref a0, .int sp, .ref d, .int dp, .int n], locked := none } :: .java (F0 m pc lsr st') :: below := State.frames_setFrames _ (State.cur_lt_of_frames hfr2)
            refine Steps.head ⟨XS.here.running, by simpa using XS.here.runnable, by simpa using XS.here.alone⟩ ⟨[.throwing a, .native { method := r, args := #[.ref a0, .int sp, .ref d, .int dp, .int n], locked := none }, .java (F0 m pc lsr st')], by rw [hf2]; rfl, by simp, by simp⟩ ?_
            rw [stepThread_throwing hf2, popNat rfl rfl, State.setFrames_setFrames]
            exact hs)
        refine ⟨t, ?_, hfin⟩
        refine step t fun acts => ?_
        refine nativeThr (row := arraycopyRow) (g := F0 m pc lsr st') X'.here acts N'.cls N'.meth N'.boot N'.native N'.noCode N'.noLock (by rw [N'.className, N'.name, N'.desc]; exact arraycopy_row p) (by rw [N'.className, N'.name]; exact hroom) (cls := "java/lang/ArrayIndexOutOfBoundsException") (msg := some ("arraycopy: " ++ what)) ?_ ?_
        · rw [hseen, arraycopyRow_sem]
          refine acOut (cs := arrV (cA 0) (gL h a0) (fun j => .int (gI h a0 j))) (cd := arrV (cA 0) (gL h d) (fun j => .int (gI h d j))) (ks := ks') (kd := kd') (by show U.heap[a0]? = _; rw [hU]; exact c0) (by show U.heap[d]? = _; rw [hU]; exact c1) (fun _ w => by cases w) (fun _ w => by cases w) hks' hkd' (by rw [hes]; exact hkk0) (by rw [hed]; exact hkk1) (what := what) (by rw [arrV_size, arrV_size]; exact hwhat) (fun acts' => ⟨rfl, rfl⟩)
        · rw [hseen]
          obtain ⟨g₁, hfrM⟩ := X'.frames_eq
          have e1 : (((U.setVm vm').setTop (F0 m pc lsr st')).pushFrame (.native { method := r, args := #[.ref a0, .int sp, .ref d, .int dp, .int n], locked := none })) = (U.setVm vm').setFrames (.native { method := r, args := #[.ref a0, .int sp, .ref d, .int dp, .int n], locked := none } :: .java (F0 m pc lsr st') :: below) := by
            rw [State.pushFrame, State.frames_setTop _ hfrM, State.setTop_of_frames _ hfrM, State.setFrames_setFrames]
          rw [e1, State.pushFrame, State.frames_setFrames _ (State.cur_lt_of_frames hfrM), State.setFrames_setFrames]
          exact ht
      · cases ho
  · cases ho
end FAILS2
