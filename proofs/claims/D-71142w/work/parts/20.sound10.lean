/-! SOUNDNESS: a whole method -/
/-- a call's meaning is right -/
def ScZ (mi : MI) (pc : Nat) (g : CallF) : Prop :=
  ∀ (D : va_G) (cA : Nat → ClassId) (z : Nat) (p : Program) (l : LaZ) (e : Env) (R : Room) (s : State) (m : MethodId) (args : Array Value) (below : List Frame) (meth : Method) (c : Code) (K : Po), CtZ mi D cA p R s m meth c →
    ∀ (ls st : List Value) (h : Hp) (q : Nat × List Value × List Value × Wm) (KK : Po), ls.length = mi.2.1 → g st h = some q → q.2.2.2 q.2.1 h KK → (∀ r h', KK r h' → BkZ D cA z p l e R s m args below meth c K pc ls q.1 q.2.2.1 r h') → PwZ D cA z p l e R s m args below meth c K (pc, ls, st, h)
def EnZ (mi : MI) (x : Nat × InF) : Prop := match x.2 with
  | .inl f => SiZ mi x.1 f
  | .inr g => ScZ mi x.1 g
def HdZ (mi : MI) (hd : Nat → Nat → Hp → Option Nat) : Prop :=
  ∀ (D : va_G) (cA : Nat → ClassId) (z : Nat) (p : Program) (l : LaZ) (e : Env) (R : Room) (s : State) (m : MethodId) (args : Array Value) (below : List Frame) (meth : Method) (c : Code) (K : Po), CtZ mi D cA p R s m meth c →
    ∀ (pc : Nat) (ls : List Value) (a : Nat) (h : Hp), ls.length = mi.2.1 → (match hd pc a h with | some p' => p' ≠ 65536 ∧ PwZ D cA z p l e R s m args below meth c K (p', ls, [.ref a], h) | none => K (.inr a) h) → TtZ D cA z p l e R s m args below meth c K pc ls a h
theorem lookup_mem {x : Nat} {i : InF} : ∀ {l : List (Nat × InF)}, l.lookup x = some i → (x, i) ∈ l
  | [], h => by cases h
  | (k, v) :: l, h => by
    rw [List.lookup_cons] at h
    by_cases hx : x == k
    · simp only [hx] at h
      cases h
      have : x = k := by simpa using hx
      subst this
      exact List.mem_cons_self
    · simp only [hx] at h
      exact List.mem_cons_of_mem _ (lookup_mem h)
theorem HdZ.none {mi : MI} (hh : mi.2.2.2.2.2.1 = []) : HdZ mi noH := by
  intro D cA z p l e R s m args below meth c K hC pc ls a h _ hK H locs cells slots lsr st g1 g2 g3 g4 g5 T hT X
  obtain ⟨hx, hb, hml, -, hown, -, htb, hF, hL, hlk, hcx⟩ := hC
  rw [hh] at htb
  have hout : ∀ x ∈ c.exceptionTable.toList, covers x (F0 m pc lsr st).pc = false := by
    intro x hx'
    have : c.exceptionTable.toList = [] := List.map_eq_nil_iff.mp htb
    rw [this] at hx'
    cases hx'
  obtain ⟨a1, b1, b2, b3, b4⟩ := X.leaveThrown a (g := F0 m pc lsr st) rfl rfl rfl hout hlk
  exact ⟨_, a1, .inr a, h, locs, cells, slots, b1, b2, b3, b4, g2, g3, g4, by
    have : (T.setFrames (.throwing a :: below)).heap = H := hT
    rw [this]; exact g1, hK⟩
/-- a catch clause's class, found cold or warm, takes the object -/
theorem catZ {Q : Handler → Pre} {E : CtlPost} {e : Env} {d : Bool} {acts : List Action} {s : State} {f : JFrame} {a : Addr} {x : ExceptionTableEntry} {rest : List ExceptionTableEntry} {c : ClassId} {cell : Cell} (hx : covers x f.pc = true) (h0 : x.catchType ≠ 0)
    (hl : s.vm.ClassLinks e.platform f.method.cls x.catchType c) (hcell : s.heap[a]? = some cell) (hobj : cell.vm.isStatics = false) (hfit : s.vm.assignable cell.cls c = true) :
    ∀ pre : List ExceptionTableEntry, (∀ y ∈ pre, covers y f.pc = false) → (wp (findHandler.go f a (pre ++ x :: rest)) Q E e d acts s ↔ Q (.found x.handlerPc) d acts (s.setVm (s.vm.noted f.method.cls x.catchType (.cls c))))
  | y :: pre, hp => by
    rw [List.cons_append, W.findHandler_go_skip (hp y List.mem_cons_self)]
    exact catZ hx h0 hl hcell hobj hfit pre fun w hw => hp w (List.mem_cons_of_mem _ hw)
  | [], _ => by
    obtain ⟨o1, o2⟩ := (resolveClass_links e.toSetting hl).op (op := VmOp.resolveClass f.method.cls x.catchType) rfl
    have hal : s.vm.Alike (s.vm.noted f.method.cls x.catchType (.cls c)) := (Vm.Alike.refl s.vm).noted _ _ _
    obtain ⟨-, -, -, ck, -, -, -, -, -, hck, -⟩ := hl.here
    obtain ⟨ck', hck', -⟩ := hal.2.2 _ _ hck
    obtain ⟨kk, hkk⟩ := Vm.classAt_of_assignable hfit ⟨ck, hck⟩
    obtain ⟨kk', hkk', -⟩ := hal.2.2 _ _ hkk
    have hfit' : (s.vm.noted f.method.cls x.catchType (.cls c)).assignable cell.cls c = true := by rw [hal.assignable]; exact hfit
    have hobj' := VmData.ne_statics_of hobj
    simp only [covers] at hx
    simp [findHandler.go, hx, h0, o1, o2, hcell, hobj', hkk', hck', hfit', VmOp.dirties, VmOp.acts]
theorem hTab_in (ks : Nat → List Nat) (pc a : Nat) (h : Hp) : ∀ L : List ExceptionTableEntry, (hTab (L.map fun x => (x.startPc, x.endPc, x.handlerPc, ks x.catchType)) pc a h = none ∧ ∀ x ∈ L, covers x pc = false) ∨ (hTab (L.map fun x => (x.startPc, x.endPc, x.handlerPc, ks x.catchType)) pc a h = some 65536) ∨
    ∃ pre x rest, L = pre ++ x :: rest ∧ (∀ y ∈ pre, covers y pc = false) ∧ covers x pc = true ∧ gK h a ∈ ks x.catchType ∧ hTab (L.map fun x => (x.startPc, x.endPc, x.handlerPc, ks x.catchType)) pc a h = some x.handlerPc
  | [] => Or.inl ⟨rfl, fun x hx => by cases hx⟩
  | y :: L => by
    simp only [List.map_cons, hTab]
    by_cases hc : y.startPc ≤ pc ∧ pc < y.endPc
    · rw [if_pos hc]
      by_cases hk : gK h a ∈ ks y.catchType
      · rw [if_pos hk]
        exact Or.inr (Or.inr ⟨[], y, L, rfl, (fun x hx => by cases hx), (by simp [covers, hc.1, hc.2]), hk, rfl⟩)
      · rw [if_neg hk]
        exact Or.inr (Or.inl rfl)
    · rw [if_neg hc]
      have hc' : covers y pc = false := by simpa [covers] using hc
      rcases hTab_in ks pc a h L with ⟨h1, h2⟩ | h1 | ⟨pre, x, rest, h1, h2, h3, h4, h5⟩
      · refine Or.inl ⟨h1, fun x hx => ?_⟩
        rcases List.mem_cons.mp hx with w | w
        · rw [w]; exact hc'
        · exact h2 x w
      · exact Or.inr (Or.inl h1)
      · refine Or.inr (Or.inr ⟨y :: pre, x, rest, by rw [h1]; rfl, fun w hw => ?_, h3, h4, h5⟩)
        rcases List.mem_cons.mp hw with v | v
        · rw [v]; exact hc'
        · exact h2 w v
theorem HdZ.tab {mi : MI} {tb : List (Nat × Nat × Nat × List Nat)} (ks : Nat → List Nat) (htb : tb = mi.2.2.2.2.2.1.map fun x => (x.1, x.2.1, x.2.2.1, ks x.2.2.2)) (hk : ∀ x ∈ mi.2.2.2.2.2.1, x.2.2.2 ≠ 0 ∧ ∃ T, Cond.classLink mi.2.2.2.1 x.2.2.2 T ∈ lw_all ∧ ∀ k ∈ ks x.2.2.2, ∃ N : String, ((∃ ci r, k = ci + 1 ∧ zCl[ci]? = some r ∧ r.1 = N) ∨ (∃ j, j < 2 ∧ k = 62 + j ∧ xNm j = N)) ∧ (N = T ∨ Cond.castable N T ∈ lw_tbl)) : HdZ mi (hTab tb) := by
  intro D cA z p l e R s m args below meth c K hC pc ls a h _ hK H locs cells slots lsr st g1 g2 g3 g4 g5 T hT X
  obtain ⟨hx, hb, hml, -, hown, -, hhs, hF, hL, hlk, hcx⟩ := hC
  have htb' : tb = c.exceptionTable.toList.map fun x => (x.startPc, x.endPc, x.handlerPc, ks x.catchType) := by
    rw [htb, ← hhs, List.map_map]
    rfl
  rw [htb'] at hK
  rcases hTab_in ks pc a h c.exceptionTable.toList with ⟨h1, h2⟩ | h1 | ⟨pre, x, rest, h1, h2, h3, h4, h5⟩
  · rw [h1] at hK
    obtain ⟨a1, b1, b2, b3, b4⟩ := X.leaveThrown a (g := F0 m pc lsr st) rfl rfl rfl h2 hlk
    exact ⟨_, a1, .inr a, h, locs, cells, slots, b1, b2, b3, b4, g2, g3, g4, by
      have : (T.setFrames (.throwing a :: below)).heap = H := hT
      rw [this]; exact g1, hK⟩
  · rw [h1] at hK
    exact absurd rfl hK.1
  · rw [h5] at hK
    obtain ⟨-, hK⟩ := hK
    have hmem : (x.startPc, x.endPc, x.handlerPc, x.catchType) ∈ mi.2.2.2.2.2.1 := by
      rw [← hhs]
      exact List.mem_map.mpr ⟨x, by rw [h1]; simp, rfl⟩
    obtain ⟨hct, Tn, hl, hks⟩ := hk _ hmem
    obtain ⟨N, e1, e3⟩ := hks _ h4
    obtain ⟨cellV, v1, v2, v3⟩ : ∃ cellV : Cell, H[a]? = some cellV ∧ s.vm.findClass N = some cellV.cls ∧ cellV.vm.isStatics = false := by
      rcases e1 with ⟨ci, r, e1, e2, e4⟩ | ⟨j, hj, e1, e4⟩
      · obtain ⟨-, cellV, v1, v2, v3, -⟩ := (g1.2.2.2.2.1 a).1 ci r e2 e1
        obtain ⟨-, hfc, kV, hkV, hkindV⟩ := hcx.2.2.1.1 ci r e2
        exact ⟨cellV, v1, by rw [← e4, v2]; exact hfc, by rw [v3]; rfl⟩
      · obtain ⟨-, cellV, v1, v2, v3⟩ := (g1.2.2.2.2.1 a).2.2.2.2.2.2.2 j hj e1
        exact ⟨cellV, v1, by rw [← e4]; exact v3, v2⟩
    have hpl : e.platform.magicAccessors = ({} : Platform).magicAccessors := by rw [X.admits.platform]
    obtain ⟨cT, hcT, hcl⟩ := Cond.classLink_spec hown (hcx.1 _ hl args) e.platform hpl
    have hasg : s.vm.assignable cellV.cls cT = true := by
      rcases e3 with e3 | e3
      · rw [← e3] at hcT
        cases v2.symm.trans hcT
        exact Vm.assignable_self _ _
      · obtain ⟨c3, t3, w1, w2, w3⟩ := Cond.castable_spec (args := args) (va_Nw.use rfl (hcx.2.1 _ e3 rfl))
        cases v2.symm.trans w1
        cases hcT.symm.trans w2
        exact w3
    obtain ⟨hg1, hW', -⟩ := State.classEntry (e := e) X.warmed hcl
    have hcl₀ := X.warmed.classLinks hcl
    obtain ⟨t, q1, q2⟩ := hK H locs cells slots lsr g1 g2 g3 g4 g5 (T.setVm (T.vm.noted m.cls x.catchType (.cls cT))) hT (X.noted hW')
    refine ⟨t, ?_, q2⟩
    obtain ⟨hgo, hw⟩ := X.here.throwing (g := F0 m pc lsr st) a
    refine Steps.head hgo hw ?_
    have hvm : ((T.setTop (F0 m pc lsr st)).pushFrame (.throwing a)).vm = T.vm := by simp [State.pushFrame, State.setFrames, State.setTop, State.modifyTopJava]
    have hhp : ((T.setTop (F0 m pc lsr st)).pushFrame (.throwing a)).heap = H := by rw [← hT]; simp [State.pushFrame, State.setFrames, State.setTop, State.modifyTopJava]
    have hfind : ∀ (Q : Handler → Pre) (E : CtlPost) (d : Bool) (acts : List Action), wp (findHandler (F0 m pc lsr st) a) Q E e d acts ((T.setTop (F0 m pc lsr st)).pushFrame (.throwing a)) ↔ Q (.found x.handlerPc) d acts (((T.setTop (F0 m pc lsr st)).pushFrame (.throwing a)).setVm (T.vm.noted m.cls x.catchType (.cls cT))) := by
      intro Q E d acts
      rw [W.findHandler_eq (f := F0 m pc lsr st) (meth := meth) (code := c) (by rw [hvm]; exact X.warmed.methodAt X.method) X.code, h1]
      have := catZ (Q := Q) (E := E) (e := e) (d := d) (acts := acts) (s := (T.setTop (F0 m pc lsr st)).pushFrame (.throwing a)) (f := F0 m pc lsr st) (a := a) (x := x) (rest := rest) (c := cT) (cell := cellV) h3 hct (by rw [hvm]; exact hcl₀) (by rw [hhp]; exact v1) v3 (by rw [hvm, X.warmed.alike.assignable]; exact hasg) pre h2
      rw [hvm] at this
      exact this
    have hstep : (stepThrowing e ((T.setTop (F0 m pc lsr st)).pushFrame (.throwing a)) a (.java (F0 m pc lsr st) :: T.frames.tail)).1 = ((((T.setTop (F0 m pc lsr st)).pushFrame (.throwing a)).setVm (T.vm.noted m.cls x.catchType (.cls cT))).setFrames (.java (F0 m x.handlerPc lsr [.ref a]) :: T.frames.tail)) := by
      simp only [stepThrowing, searchFrame, vmDo]
      generalize hr : Sem.go _ e false [] _ = res
      obtain ⟨as, rfl, ha⟩ := Sem.eq_ok_of hr (a := Handler.found x.handlerPc) (s' := ((T.setTop (F0 m pc lsr st)).pushFrame (.throwing a)).setVm (T.vm.noted m.cls x.catchType (.cls cT))) (acts' := []) (by simp [hfind _ _ _ _])
      rfl
    rw [stepThread_throwing (frames_entered X.here.top _), hstep]
    obtain ⟨g₀, hg⟩ := Option.isSome_iff_exists.mp X.here.top
    obtain ⟨rr, hr⟩ := State.topJava?_eq_some.mp hg
    rw [State.setTop_of_frames (s := T.setVm (T.vm.noted m.cls x.catchType (.cls cT))) _ hr] at q1
    rw [State.pushFrame, State.setTop_of_frames _ hr, hr]
    have e3 : ∀ (F G : List Frame) (vm' : Vm), ((T.setFrames F).setVm vm').setFrames G = (T.setVm vm').setFrames G := fun F G vm' => State.setFrames_setFrames (T.setVm vm') F G
    rw [State.setFrames_setFrames, e3]
    exact q1
theorem wholeZ {mi : MI} {cd : Cd} (hE : ∀ x ∈ cd.1, EnZ mi x) (hp : cd.1.all (fun x => Nat.blt x.1 65536) = true) (hH : HdZ mi cd.2) : SwZ mi (Mt cd mi.2.1) := by
  intro D cA z p l e R s m below meth c K as h hC hR hc hs hok hw
  have key : ∀ x : Fs, StpZ cd K (fun x => x.1 ≠ 65536 ∧ (x.2.1.length = mi.2.1 → PwZ D cA z p l e R s m as.toArray below meth c K x)) x → x.1 ≠ 65536 ∧ (x.2.1.length = mi.2.1 → PwZ D cA z p l e R s m as.toArray below meth c K x) := by
    intro x hx
    obtain ⟨pc, ls, st, h⟩ := x
    have thr : ls.length = mi.2.1 → ∀ a h', Thr cd K (fun x => x.1 ≠ 65536 ∧ (x.2.1.length = mi.2.1 → PwZ D cA z p l e R s m as.toArray below meth c K x)) pc ls a h' → TtZ D cA z p l e R s m as.toArray below meth c K pc ls a h' := by
      intro hl a h' ht
      refine hH D cA z p l e R s m as.toArray below meth c K hC pc ls a h' hl ?_
      unfold Thr at ht
      cases hq : cd.2 pc a h' with
      | none => rw [hq] at ht; exact ht
      | some p' => rw [hq] at ht; exact ⟨ht.1, ht.2 hl⟩
    unfold StpZ at hx
    cases hq : cd.1.lookup pc with
    | none => simp only [hq] at hx
    | some i =>
      simp only [hq] at hx
      have hmem := lookup_mem hq
      refine ⟨?_, fun hl => ?_⟩
      · have h1 := List.all_eq_true.mp hp _ hmem
        have h2 : pc < 65536 := Nat.le_of_ble_eq_true h1
        show pc ≠ 65536
        omega
      have hen := hE _ hmem
      cases i with
      | inl f =>
        obtain ⟨o, ho, hO⟩ := hx
        refine hen D cA z p l e R s m as.toArray below meth c K hC ls st h o hl ho ?_
        rcases o with x | r | t
        · exact hO.2
        · exact hO
        · exact thr hl _ _ hO
      | inr g =>
        obtain ⟨q, KK, h1, h2, h3⟩ := hx
        refine hen D cA z p l e R s m as.toArray below meth c K hC ls st h q KK hl h1 h2 fun r h' hk => ?_
        have h4 := h3 r h' hk
        cases r with
        | inl v => exact h4.2 hl
        | inr a => exact thr hl _ _ h4
  have hok' : (lcA as).length ≤ mi.2.1 ∧ ∀ v ∈ as, nrV v = true := by
    unfold okA at hok
    simpa [List.all_eq_true] using hok
  have hlen : (lcE mi.2.1 as).length = mi.2.1 := by
    unfold lcE
    rw [List.length_append, List.length_replicate]
    omega
  rw [lg_entry_eq]
  refine ((hw _ key).2 hlen) s.heap [] 0 0 _ hR (fun q hq => by cases hq) (by show 0 + gC h ≤ _; omega) (by show 0 + gS h ≤ _; omega) (LocZ.entry as hok'.1 (fun v hv k hk => ?_))
  have := hok'.2 v hv
  rw [hk] at this
  cases this
section CALLENT
variable {mi : MI} {pc : Nat}
theorem tkA_spec : ∀ {m : Nat} {st acc as rest : List Value}, tkA m st acc = some (as, rest) → ∃ bs, st = bs ++ rest ∧ as = bs.reverse ++ acc ∧ bs.length = m
  | 0, st, acc, as, rest, h => by cases h; exact ⟨[], rfl, rfl, rfl⟩
  | m + 1, [], acc, as, rest, h => by cases h
  | m + 1, v :: st, acc, as, rest, h => by
    obtain ⟨bs, h1, h2, h3⟩ := tkA_spec (m := m) h
    exact ⟨v :: bs, by rw [h1]; rfl, by rw [h2]; simp, by rw [← h3]; rfl⟩
/-- static -/
theorem e_S {m len : Nat} {y : MethodName} {mi' : MI} {w : Wm} (hcs : ∀ (h : Hp) (as rest : List Value), as.length = m → CsZ mi pc len y h as rest (as.reverse ++ rest)) (hcd : CdW y mi') (hsw : SwZ mi' w) (hfr : mi'.2.2.2.2.2.2.1 + 1 ≤ mi.2.2.2.2.2.2.1) (hlo : 12 + (mi'.2.1 + 11) + mi'.2.2.2.2.2.2.2 ≤ mi.2.2.2.2.2.2.2) : ScZ mi pc (c_S m (pc + len) mi'.2.1 w) := by
  intro D cA z p l e R s mm args below meth c K hC ls st h q KK hll hg hw hB
  simp only [c_S] at hg
  split at hg
  · rename_i as rest htk
    split at hg
    · rename_i hgd
      cases hg
      obtain ⟨bs, e1, e2, e3⟩ := tkA_spec htk
      have e4 : st = as.reverse ++ rest := by rw [e1, e2]; simp
      rw [e4]
      exact callZ (hcs h as rest (by rw [e2]; simpa using e3)) hcd hsw hgd.1 hgd.2 hfr hlo hC hll hw hB
    · cases hg
  · cases hg
theorem e_I {m len : Nat} {y : MethodName} {mi' : MI} {w : Wm} (hcs : ∀ (h : Hp) (b : Nat) (as rest : List Value), as.length = m → CsZ mi pc len y h (.ref b :: as) rest (as.reverse ++ .ref b :: rest)) (hcd : CdW y mi') (hsw : SwZ mi' w) (hfr : mi'.2.2.2.2.2.2.1 + 1 ≤ mi.2.2.2.2.2.2.1) (hlo : 12 + (mi'.2.1 + 11) + mi'.2.2.2.2.2.2.2 ≤ mi.2.2.2.2.2.2.2) : ScZ mi pc (c_I m (pc + len) mi'.2.1 w) := by
  intro D cA z p l e R s mm args below meth c K hC ls st h q KK hll hg hw hB
  simp only [c_I] at hg
  split at hg
  · rename_i as b rest htk
    split at hg
    · rename_i hgd
      cases hg
      obtain ⟨bs, e1, e2, e3⟩ := tkA_spec htk
      have e4 : st = as.reverse ++ .ref b :: rest := by rw [e1, e2]; simp
      rw [e4]
      exact callZ (hcs h b as rest (by rw [e2]; simpa using e3)) hcd hsw hgd.1 hgd.2 hfr hlo hC hll hw hB
    · cases hg
  · cases hg
theorem e_V {m len k : Nat} {y : MethodName} {mi' : MI} {w : Wm} (hcs : ∀ (h : Hp) (b : Nat) (as rest : List Value), gK h b = k → as.length = m → CsZ mi pc len y h (.ref b :: as) rest (as.reverse ++ .ref b :: rest)) (hcd : CdW y mi') (hsw : SwZ mi' w) (hfr : mi'.2.2.2.2.2.2.1 + 1 ≤ mi.2.2.2.2.2.2.1) (hlo : 12 + (mi'.2.1 + 11) + mi'.2.2.2.2.2.2.2 ≤ mi.2.2.2.2.2.2.2) : ScZ mi pc (c_V m (pc + len) mi'.2.1 k w) := by
  intro D cA z p l e R s mm args below meth c K hC ls st h q KK hll hg hw hB
  simp only [c_V] at hg
  split at hg
  · rename_i as b rest htk
    split at hg
    · rename_i hgd
      split at hg
      · rename_i hkk
        cases hg
        obtain ⟨bs, e1, e2, e3⟩ := tkA_spec htk
        have e4 : st = as.reverse ++ .ref b :: rest := by rw [e1, e2]; simp
        rw [e4]
        exact callZ (hcs h b as rest hkk (by rw [e2]; simpa using e3)) hcd hsw hgd.1 hgd.2 hfr hlo hC hll hw hB
      · cases hg
    · cases hg
  · cases hg
theorem lookup_memW {x : Nat} {i : Wm} : ∀ {l : List (Nat × Wm)}, l.lookup x = some i → (x, i) ∈ l
  | [], h => by cases h
  | (k, v) :: l, h => by
    rw [List.lookup_cons] at h
    by_cases hx : x == k
    · simp only [hx] at h
      cases h
      have : x = k := by simpa using hx
      subst this
      exact List.mem_cons_self
    · simp only [hx] at h
      exact List.mem_cons_of_mem _ (lookup_memW h)
/-- by the receiver's kind -/
theorem e_D {m len L : Nat} {ws : List (Nat × Wm)} (hws : ∀ kw ∈ ws, ∃ y mi', (∀ (h : Hp) (b : Nat) (as rest : List Value), gK h b = kw.1 → as.length = m → CsZ mi pc len y h (.ref b :: as) rest (as.reverse ++ .ref b :: rest)) ∧ CdW y mi' ∧ SwZ mi' kw.2 ∧ mi'.2.2.2.2.2.2.1 + 1 ≤ mi.2.2.2.2.2.2.1 ∧ 12 + (mi'.2.1 + 11) + mi'.2.2.2.2.2.2.2 ≤ mi.2.2.2.2.2.2.2 ∧ L ≤ mi'.2.1) : ScZ mi pc (c_D m (pc + len) L ws) := by
  intro D cA z p l e R s mm args below meth c K hC ls st h q KK hll hg hw hB
  simp only [c_D] at hg
  split at hg
  · rename_i as b rest htk
    split at hg
    · rename_i hgd
      split at hg
      · rename_i w hlk
        cases hg
        obtain ⟨y, mi', hcs, hcd, hsw, hfr, hlo, hL⟩ := hws _ (lookup_memW hlk)
        obtain ⟨bs, e1, e2, e3⟩ := tkA_spec htk
        have e4 : st = as.reverse ++ .ref b :: rest := by rw [e1, e2]; simp
        rw [e4]
        refine callZ (hcs h b as rest rfl (by rw [e2]; simpa using e3)) hcd hsw hgd.1 ?_ hfr hlo hC hll hw hB
        have := hgd.2
        unfold okA at this ⊢
        simp only [Bool.and_eq_true, decide_eq_true_eq] at this ⊢
        exact ⟨by omega, this.2⟩
      · cases hg
    · cases hg
  · cases hg
end CALLENT
theorem fm_nil {α : Type} {p : α → Prop} : ∀ x ∈ ([] : List α), p x := fun x hx => by cases hx
theorem fm_cons {α : Type} {p : α → Prop} {a : α} {l : List α} (h1 : p a) (h2 : ∀ x ∈ l, p x) : ∀ x ∈ a :: l, p x := fun x hx => by
  rcases List.mem_cons.mp hx with e | e
  · rw [e]; exact h1
  · exact h2 x e
theorem clX0 : ClsZ 0 RX0 TX0 15 tyX0 := ⟨rfl, in_X0, tyX0_ok, nmX0, by decide, rfl⟩
theorem clX1 : ClsZ 1 RX1 TX1 16 tyX1 := ⟨rfl, in_X1, tyX1_ok, nmX1, by decide, rfl⟩
theorem clX2 : ClsZ 2 RX2 TX2 2 tyX2 := ⟨rfl, in_X2, tyX2_ok, nmX2, by decide, rfl⟩
theorem clX4 : ClsZ 3 RX4 TX4 1 tyX4 := ⟨rfl, in_X4, tyX4_ok, nmX4, by decide, rfl⟩
theorem clX5 : ClsZ 4 RX5 TX5 1 tyX5 := ⟨rfl, in_X5, tyX5_ok, nmX5, by decide, rfl⟩
theorem clX6 : ClsZ 5 RX6 TX6 1 tyX6 := ⟨rfl, in_X6, tyX6_ok, nmX6, by decide, rfl⟩
theorem clX7 : ClsZ 6 RX7 TX7 1 tyX7 := ⟨rfl, in_X7, tyX7_ok, nmX7, by decide, rfl⟩
theorem clX8 : ClsZ 7 RX8 TX8 1 tyX8 := ⟨rfl, in_X8, tyX8_ok, nmX8, by decide, rfl⟩
theorem clX9 : ClsZ 8 RX9 TX9 26 tyX9 := ⟨rfl, in_X9, tyX9_ok, nmX9, by decide, rfl⟩
theorem clX10 : ClsZ 9 RX10 TX10 7 tyX10 := ⟨rfl, in_X10, tyX10_ok, nmX10, by decide, rfl⟩
theorem clX11 : ClsZ 10 RX11 TX11 2 tyX11 := ⟨rfl, in_X11, tyX11_ok, nmX11, by decide, rfl⟩
theorem clX12 : ClsZ 11 RX12 TX12 7 tyX12 := ⟨rfl, in_X12, tyX12_ok, nmX12, by decide, rfl⟩
theorem clX13 : ClsZ 12 RX13 TX13 8 tyX13 := ⟨rfl, in_X13, tyX13_ok, nmX13, by decide, rfl⟩
theorem clJ2 : ClsZ 13 RJ2 TJ2 3 tyJ2 := ⟨rfl, in_J2, tyJ2_ok, nmJ2, by decide, rfl⟩
theorem clJ7 : ClsZ 14 RJ7 TJ7 6 tyJ7 := ⟨rfl, in_J7, tyJ7_ok, nmJ7, by decide, rfl⟩
theorem clJ17 : ClsZ 15 RJ17 TJ17 6 tyJ17 := ⟨rfl, in_J17, tyJ17_ok, nmJ17, by decide, rfl⟩
