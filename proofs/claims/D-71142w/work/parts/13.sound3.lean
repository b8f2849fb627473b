/-! WHAT HOLDS IN A FRAME; a step's soundness -/
def wmOk : Cond → Bool
  | .castable .. => true
  | .declares _ => true
  | .methodLinkNest .. => true
  | .fieldLinkNest .. => true
  | _ => false
def mkD : String := "(LFishReaders$Trail;LFishReaders$Library;)I"
def nrL : List Cond := [.methodLink "FishReaders$Browser" 36 ⟨"FishReaders$Fish", "mark", mkD⟩, .methodLink "FishReaders" 373 ⟨"FishReaders$Fish", "mark", mkD⟩, .methodLink "FishReaders$Wanderer" 24 ⟨"FishReaders$Fish", "mark", mkD⟩, .sameMethod "FishReaders$Fish" "FishReaders$Marked" "mark" mkD]
def aoL : List String := ["FishReaders$Row", "FishReaders$Library", "FishReaders$Fish", "java/lang/Object"]
def fwL : List (String × MethodName × MethodName) := [("java/util/ArrayList", ⟨"java/util/List", "size", "()I"⟩, ⟨"java/util/ArrayList", "size", "()I"⟩), ("java/util/ArrayList", ⟨"java/util/List", "add", "(Ljava/lang/Object;)Z"⟩, ⟨"java/util/ArrayList", "add", "(Ljava/lang/Object;)Z"⟩), ("java/util/ArrayList", ⟨"java/util/List", "get", "(I)Ljava/lang/Object;"⟩, ⟨"java/util/ArrayList", "get", "(I)Ljava/lang/Object;"⟩), ("FishReaders$Browser", ⟨"FishReaders$Marked", "number", "()I"⟩, ⟨"FishReaders$Fish", "number", "()I"⟩), ("FishReaders$Poet", ⟨"FishReaders$Marked", "number", "()I"⟩, ⟨"FishReaders$Fish", "number", "()I"⟩), ("FishReaders$Critic", ⟨"FishReaders$Marked", "number", "()I"⟩, ⟨"FishReaders$Fish", "number", "()I"⟩), ("FishReaders$Wanderer", ⟨"FishReaders$Marked", "number", "()I"⟩, ⟨"FishReaders$Fish", "number", "()I"⟩), ("FishReaders$Scholar", ⟨"FishReaders$Marked", "number", "()I"⟩, ⟨"FishReaders$Fish", "number", "()I"⟩)]
def ncL : List (String × String) := [("FishReaders$Wanderer", "FishReaders$Browser"), ("FishReaders$Scholar", "FishReaders$Browser"), ("FishReaders$Browser", "FishReaders$Poet"), ("FishReaders$Critic", "FishReaders$Poet"), ("FishReaders$Wanderer", "FishReaders$Poet"), ("FishReaders$Scholar", "FishReaders$Poet"), ("FishReaders$Browser", "FishReaders$Critic"), ("FishReaders$Poet", "FishReaders$Critic"), ("FishReaders$Wanderer", "FishReaders$Critic"), ("FishReaders$Scholar", "FishReaders$Critic"), ("FishReaders$Browser", "FishReaders$Wanderer"), ("FishReaders$Poet", "FishReaders$Wanderer"), ("FishReaders$Critic", "FishReaders$Wanderer"), ("FishReaders$Browser", "FishReaders$Scholar"), ("FishReaders$Poet", "FishReaders$Scholar"), ("FishReaders$Critic", "FishReaders$Scholar"), ("FishReaders$Wanderer", "FishReaders$Scholar")]
/-- the default method is found -/
def MkZ (s : State) : Prop := ∃ (c : ClassId) (m : MethodId), s.vm.findClass "FishReaders$Fish" = some c ∧ s.methodNamed? ⟨"FishReaders$Marked", "mark", mkD⟩ = some m ∧ lookupSpecial s.vm c "mark" mkD = .method m
theorem MkZ.moved {s U : State} (hW : s.WarmedH U.vm) (h : MkZ s) : MkZ U := by
  obtain ⟨c, m, h1, h2, h3⟩ := h
  exact ⟨c, m, by rw [hW.alike.findClass]; exact h1, by rw [← State.methodNamed?_setVm (s := s) hW.alike] at h2; exact h2, by rw [hW.alike.lookupSpecial]; exact h3⟩
theorem modZ {s U : State} (h : s.vm.Alike U.vm) (hm : modulesRight_1 s = true) : modulesRight_1 U = true := by
  unfold modulesRight_1 at hm ⊢
  rw [h.1]
  exact hm
/-- the words that hold at every state of the run -/
def CxZ (D : va_G) (cA : Nat → ClassId) (s : State) : Prop :=
  (∀ w ∈ lw_all, ∀ a, w.before a s = true) ∧ (∀ w ∈ lw_tbl, wmOk w = true → va_Nw w s) ∧ va_K D zCl (zTy cA) s ∧ (∀ C ∈ aoL, va_AO C s) ∧ (∀ q ∈ fwL, va_Fw q.1 q.2.1 q.2.2 s) ∧ (∀ w ∈ nrL, ∀ a, w.before a s = true) ∧ (∀ q ∈ ncL, va_Nc q.1 q.2 s) ∧ vk_R "FishReaders$Reader" 104 "rpcws" (cA 99) s ∧ MkZ s ∧ modulesRight_1 s = true
theorem lw_all_good : ∀ w ∈ lw_all, (w.onTables && w.keeps) = true ∨ ∃ ty, w = .arrayClass ty := fun w hw => good_of_word (List.mem_filter.mp hw).2
theorem nrL_good : ∀ w ∈ nrL, (w.onTables && w.keeps) = true ∨ ∃ ty, w = .arrayClass ty := fun w hw => good_of_word ((List.all_eq_true.mp (show nrL.all goodWord = true by decide)) w hw)
theorem fwL_ok : ∀ q ∈ fwL, q.2.1.cls ≠ "java/lang/invoke/MethodHandle" ∧ q.2.1.cls ≠ "java/lang/invoke/VarHandle" := by decide +kernel
theorem CxZ.moved {D : va_G} {cA : Nat → ClassId} {s U : State} (hW : s.WarmedH U.vm) (h : CxZ D cA s) : CxZ D cA U := by
  obtain ⟨h1, h2, h3, h4, h5, h6, h7, h8, h9⟩ := h
  refine ⟨fun w hw a => word_at (args := #[]) hW (lw_all_good w hw) (h1 w hw _), fun w hw hk => ?_, va_K.moved hW.alike h3, fun C hC => (h4 C hC).moved hW.alike, fun q hq => (h5 q hq).moved (fwL_ok q hq) hW.alike, fun w hw a => word_at (args := #[]) hW (nrL_good w hw) (h6 w hw _), fun q hq => (h7 q hq).moved hW.alike, h8.warm hW, h9.1.moved hW, modZ hW.alike h9.2⟩
  have hz := h2 w hw hk
  cases w <;> first | exact va_Nw.warmC hW hz | exact va_Nw.warmD hW hz | exact va_Nw.warmM hW hz | exact va_Nw.warmF hW hz | cases hk
theorem StaZ.moved {cA : Nat → ClassId} {z : Nat} {s U : State} {h : Hp} {H : Heap} (hW : s.vm.Alike U.vm) (hS : StaZ cA z s h H) : StaZ cA z U h H := by
  obtain ⟨s1, s2, s3, s4, s5, s6⟩ := hS
  exact ⟨s1.moved hW, s2.moved hW, s3.moved hW, s4.moved hW, s5.moved hW, s6.1, s6.2.1.moved hW, s6.2.2.moved hW⟩
theorem RpZ.moved {D : va_G} {cA : Nat → ClassId} {z : Nat} {s U : State} {h : Hp} {H : Heap} (hW : s.vm.Alike U.vm) (hR : RpZ D cA z s h H) : RpZ D cA z U h H := by
  obtain ⟨r1, r2, r3, r0, r4, r5⟩ := hR
  exact ⟨r1, r2, r3, r0, fun a => (r4 a).moved hW, r5.moved hW⟩
/-- a method's frame is there -/
def CtZ (mi : MI) (D : va_G) (cA : Nat → ClassId) (p : Program) (R : Room) (s : State) (m : MethodId) (meth : Method) (c : Code) : Prop :=
  p.tables.exec = Jvm.exec ∧ c.code = mi.1 ∧ c.maxLocals = mi.2.1 ∧ meth.sig.returnType = mi.2.2.1 ∧ s.vm.findClass mi.2.2.2.1 = some m.cls ∧ meth.name = mi.2.2.2.2.1 ∧ c.exceptionTable.toList.map (fun h => (h.startPc, h.endPc, h.handlerPc, h.catchType)) = mi.2.2.2.2.2.1 ∧ mi.2.2.2.2.2.2.1 ≤ R.frames ∧ mi.2.2.2.2.2.2.2 ≤ R.locals ∧ meth.locks = false ∧ CxZ D cA s
/-- the end -/
def FinZ (D : va_G) (cA : Nat → ClassId) (z : Nat) (R : Room) (s : State) (below : List Frame) (K : Po) : State → Prop := fun t =>
  ∃ (r : Rs) (h : Hp) (L : List Loc) (k n : Nat), t.status = .running ∧ Ended t below (outc r) ∧ s.WarmedH t.vm ∧ s.sameButNew ({ t with vm := s.vm } : State) L k n ∧ (∀ q ∈ L, z ≤ q.base) ∧ k + gC h ≤ R.cells ∧ n + gS h ≤ R.slots ∧ RpZ D cA z s h t.heap ∧ K r h
def PwZ (D : va_G) (cA : Nat → ClassId) (z : Nat) (p : Program) (l : Launch) (e : Env) (R : Room) (s : State) (m : MethodId) (args : Array Value) (below : List Frame) (meth : Method) (c : Code) (K : Po) (x : Fs) : Prop :=
  ∀ (H : Heap) (locs : List Loc) (cells slots : Nat) (lsr : Array Slot), RpZ D cA z s x.2.2.2 H → (∀ q ∈ locs, z ≤ q.base) → cells + gC x.2.2.2 ≤ R.cells → slots + gS x.2.2.2 ≤ R.slots → LocZ lsr x.2.1 →
    W p l e R s m args below meth c H locs cells slots (FinZ D cA z R s below K) (F0 m x.1 lsr x.2.2.1)
/-- thrown at a place -/
def TtZ (D : va_G) (cA : Nat → ClassId) (z : Nat) (p : Program) (l : Launch) (e : Env) (R : Room) (s : State) (m : MethodId) (args : Array Value) (below : List Frame) (meth : Method) (c : Code) (K : Po) (pc : Nat) (ls : List Value) (a : Nat) (h : Hp) : Prop :=
  ∀ (H : Heap) (locs : List Loc) (cells slots : Nat) (lsr : Array Slot) (st : List Value), RpZ D cA z s h H → (∀ q ∈ locs, z ≤ q.base) → cells + gC h ≤ R.cells → slots + gS h ≤ R.slots → LocZ lsr ls →
    ∀ T : State, T.heap = H → Stand p l e R s m args below meth c T locs cells slots → ∃ t, Steps p.tables e below ((T.setTop (F0 m pc lsr st)).pushFrame (.throwing a)) t ∧ FinZ D cA z R s below K t
def OuZ (D : va_G) (cA : Nat → ClassId) (z : Nat) (p : Program) (l : Launch) (e : Env) (R : Room) (s : State) (m : MethodId) (args : Array Value) (below : List Frame) (meth : Method) (c : Code) (K : Po) (nL : Nat) (pc : Nat) (ls : List Value) (o : Ou) : Prop := match o with
  | .inl x => x.2.1.length = nL → PwZ D cA z p l e R s m args below meth c K x
  | .inr (.inl r) => K (.inl r.1) r.2
  | .inr (.inr t) => TtZ D cA z p l e R s m args below meth c K pc ls t.1 t.2
/-- a launch without stack traces -/
abbrev LaZ : Type := { l : Launch // l.stackTraces = false }
/-- an instruction's meaning is right -/
def SiZ (mi : MI) (pc : Nat) (f : StepF) : Prop :=
  ∀ (D : va_G) (cA : Nat → ClassId) (z : Nat) (p : Program) (l : LaZ) (e : Env) (R : Room) (s : State) (m : MethodId) (args : Array Value) (below : List Frame) (meth : Method) (c : Code) (K : Po), CtZ mi D cA p R s m meth c →
    ∀ (ls st : List Value) (h : Hp) (o : Ou), ls.length = mi.2.1 → f ls st h = some o → OuZ D cA z p l e R s m args below meth c K mi.2.1 pc ls o → PwZ D cA z p l e R s m args below meth c K (pc, ls, st, h)
section SIMPLE
variable {mi : MI} {pc : Nat}
theorem SiZ.pure {f : StepF} (hf : ∀ ls st h o, f ls st h = some o → ∃ (n : Nat) (st' : List Value), o = .inl (n, ls, st', h) ∧
    ∀ (p : Program) (l : Launch) (e : Env) (R : Room) (s : State) (m : MethodId) (args : Array Value) (below : List Frame) (meth : Method) (c : Code) (H : Heap) (locs : List Loc) (cells slots : Nat) (Q : State → Prop) (lsr : Array Slot) (D : va_G) (cA : Nat → ClassId), CtZ mi D cA p R s m meth c → LocZ lsr ls →
      W p l e R s m args below meth c H locs cells slots Q (F0 m n lsr st') → W p l e R s m args below meth c H locs cells slots Q (F0 m pc lsr st)) : SiZ mi pc f := by
  intro D cA z p l e R s m args below meth c K hC ls st h o hll ho hO
  obtain ⟨n, st', rfl, hw⟩ := hf ls st h o ho
  intro H locs cells slots lsr h1 h2 h3 h4 h5
  exact hw p l e R s m args below meth c H locs cells slots _ lsr D cA hC h5 (hO hll H locs cells slots lsr h1 h2 h3 h4 h5)
theorem s_iconst {n : Int} {v : Int32} (hd : decode mi.1 pc = .ok (.iconst n, 1)) (hv : Int32.ofInt n = v) : SiZ mi pc (i_push (.int v) (pc + 1)) :=
  SiZ.pure fun ls st h o ho => by
    cases ho
    exact ⟨_, _, rfl, fun p l e R s m args below meth c H locs cells slots Q lsr D cA hC hl k => lv_iconst hC.1 hC.2.1 hd hv k⟩
theorem s_bipush {n : Int} {v : Int32} (hd : decode mi.1 pc = .ok (.bipush n, 2)) (hv : (Int8.ofInt n).toInt32 = v) : SiZ mi pc (i_push (.int v) (pc + 2)) :=
  SiZ.pure fun ls st h o ho => by
    cases ho
    exact ⟨_, _, rfl, fun p l e R s m args below meth c H locs cells slots Q lsr D cA hC hl k => lv_bipush hC.1 hC.2.1 hd hv k⟩
theorem s_sipush {n : Int} {v : Int32} (hd : decode mi.1 pc = .ok (.sipush n, 3)) (hv : (Int16.ofInt n).toInt32 = v) : SiZ mi pc (i_push (.int v) (pc + 3)) :=
  SiZ.pure fun ls st h o ho => by
    cases ho
    exact ⟨_, _, rfl, fun p l e R s m args below meth c H locs cells slots Q lsr D cA hC hl k => lv_sipush hC.1 hC.2.1 hd hv k⟩
theorem s_lconst {n : Fin 2} {v : Int64} (hd : decode mi.1 pc = .ok (.lconst n, 1)) (hv : Int64.ofNat (n : Nat) = v) : SiZ mi pc (i_push (.long v) (pc + 1)) :=
  SiZ.pure fun ls st h o ho => by
    cases ho
    exact ⟨_, _, rfl, fun p l e R s m args below meth c H locs cells slots Q lsr D cA hC hl k => lv_lconst hC.1 hC.2.1 hd hv k⟩
theorem s_null (hd : decode mi.1 pc = .ok (.aconst_null, 1)) : SiZ mi pc (i_push .null (pc + 1)) :=
  SiZ.pure fun ls st h o ho => by
    cases ho
    exact ⟨_, _, rfl, fun p l e R s m args below meth c H locs cells slots Q lsr D cA hC hl k => lv_null hC.1 hC.2.1 hd k⟩
theorem s_ldc {idx : Nat} {v : Int32} (hd : decode mi.1 pc = .ok (.ldc idx, 2)) (hq : Cond.constant mi.2.2.2.1 idx v ∈ lw_all) : SiZ mi pc (i_push (.int v) (pc + 2)) :=
  SiZ.pure fun ls st h o ho => by
    cases ho
    exact ⟨_, _, rfl, fun p l e R s m args below meth c H locs cells slots Q lsr D cA hC hl k => by
      obtain ⟨hx, hb, -, -, hown, -, -, -, -, -, hcx⟩ := hC
      exact lv_ldc hx hb hown (hcx.1 _ hq _) hd k⟩
theorem s_ldcw {idx : Nat} {v : Int32} (hd : decode mi.1 pc = .ok (.ldc_w idx, 3)) (hq : Cond.constant mi.2.2.2.1 idx v ∈ lw_all) : SiZ mi pc (i_push (.int v) (pc + 3)) :=
  SiZ.pure fun ls st h o ho => by
    cases ho
    exact ⟨_, _, rfl, fun p l e R s m args below meth c H locs cells slots Q lsr D cA hC hl k => by
      obtain ⟨hx, hb, -, -, hown, -, -, -, -, -, hcx⟩ := hC
      exact lv_ldcw hx hb hown (hcx.1 _ hq _) hd k⟩
theorem s_ldc2 {idx : Nat} {v : Int64} (hd : decode mi.1 pc = .ok (.ldc2_w idx, 3)) (hq : Cond.constantLong mi.2.2.2.1 idx v ∈ lw_all) : SiZ mi pc (i_push (.long v) (pc + 3)) :=
  SiZ.pure fun ls st h o ho => by
    cases ho
    exact ⟨_, _, rfl, fun p l e R s m args below meth c H locs cells slots Q lsr D cA hC hl k => by
      obtain ⟨hx, hb, -, -, hown, -, -, -, -, -, hcx⟩ := hC
      exact lv_ldc2 hx hb hown (hcx.1 _ hq _) hd k⟩
theorem s_iload_n {i : Nat} {k : Fin 4} (hd : decode mi.1 pc = .ok (.iload_n k, 1)) (hk : (k : Nat) = i) : SiZ mi pc (i_iload i (pc + 1)) :=
  SiZ.pure fun ls st h o ho => by
    simp only [i_iload] at ho
    split at ho
    · rename_i x hx
      cases ho
      exact ⟨_, _, rfl, fun p l e R s m args below meth c H locs cells slots Q lsr D cA hC hl k => lv_iload_n hC.1 hC.2.1 hd hk (hl.2.2 i _ ⟨hx, (fun k q => by cases q), (fun q => by cases q)⟩) k⟩
    · cases ho
theorem s_iload {i : Nat} (hd : decode mi.1 pc = .ok (.iload i, 2)) : SiZ mi pc (i_iload i (pc + 2)) :=
  SiZ.pure fun ls st h o ho => by
    simp only [i_iload] at ho
    split at ho
    · rename_i x hx
      cases ho
      exact ⟨_, _, rfl, fun p l e R s m args below meth c H locs cells slots Q lsr D cA hC hl k => lv_iload hC.1 hC.2.1 hd (hl.2.2 i _ ⟨hx, (fun k q => by cases q), (fun q => by cases q)⟩) k⟩
    · cases ho
theorem s_lload_n {i : Nat} {k : Fin 4} (hd : decode mi.1 pc = .ok (.lload_n k, 1)) (hk : (k : Nat) = i) : SiZ mi pc (i_lload i (pc + 1)) :=
  SiZ.pure fun ls st h o ho => by
    simp only [i_lload] at ho
    split at ho
    · rename_i x hx hx2
      cases ho
      exact ⟨_, _, rfl, fun p l e R s m args below meth c H locs cells slots Q lsr D cA hC hl k => lv_lload_n hC.1 hC.2.1 hd hk (hl.2.2 i _ ⟨hx, (fun k q => by cases q), (fun _ => hx2)⟩) k⟩
    · cases ho
theorem s_lload {i : Nat} (hd : decode mi.1 pc = .ok (.lload i, 2)) : SiZ mi pc (i_lload i (pc + 2)) :=
  SiZ.pure fun ls st h o ho => by
    simp only [i_lload] at ho
    split at ho
    · rename_i x hx hx2
      cases ho
      exact ⟨_, _, rfl, fun p l e R s m args below meth c H locs cells slots Q lsr D cA hC hl k => lv_lload hC.1 hC.2.1 hd (hl.2.2 i _ ⟨hx, (fun k q => by cases q), (fun _ => hx2)⟩) k⟩
    · cases ho
theorem s_aload_n {i : Nat} {k : Fin 4} (hd : decode mi.1 pc = .ok (.aload_n k, 1)) (hk : (k : Nat) = i) : SiZ mi pc (i_aload i (pc + 1)) :=
  SiZ.pure fun ls st h o ho => by
    simp only [i_aload] at ho
    split at ho
    · rename_i x hx
      cases ho
      exact ⟨_, _, rfl, fun p l e R s m args below meth c H locs cells slots Q lsr D cA hC hl k => lv_aload_n hC.1 hC.2.1 hd hk (hl.2.2 i _ ⟨hx, (fun k q => by cases q), (fun q => by cases q)⟩) k⟩
    · rename_i hx
      cases ho
      exact ⟨_, _, rfl, fun p l e R s m args below meth c H locs cells slots Q lsr D cA hC hl k => lv_aload_nN hC.1 hC.2.1 hd hk (hl.2.2 i _ ⟨hx, (fun k q => by cases q), (fun q => by cases q)⟩) k⟩
    · cases ho
theorem s_aload {i : Nat} (hd : decode mi.1 pc = .ok (.aload i, 2)) : SiZ mi pc (i_aload i (pc + 2)) :=
  SiZ.pure fun ls st h o ho => by
    simp only [i_aload] at ho
    split at ho
    · rename_i x hx
      cases ho
      exact ⟨_, _, rfl, fun p l e R s m args below meth c H locs cells slots Q lsr D cA hC hl k => lv_aload hC.1 hC.2.1 hd (hl.2.2 i _ ⟨hx, (fun k q => by cases q), (fun q => by cases q)⟩) k⟩
    · rename_i hx
      cases ho
      exact ⟨_, _, rfl, fun p l e R s m args below meth c H locs cells slots Q lsr D cA hC hl k => lv_aloadN hC.1 hC.2.1 hd (hl.2.2 i _ ⟨hx, (fun k q => by cases q), (fun q => by cases q)⟩) k⟩
    · cases ho
theorem s_goto {off : Int} {t : Nat} (hd : decode mi.1 pc = .ok (.goto off, 3)) (ht : (pc : Int) + off = (t : Int)) : SiZ mi pc (i_goto t) :=
  SiZ.pure fun ls st h o ho => by
    cases ho
    exact ⟨_, _, rfl, fun p l e R s m args below meth c H locs cells slots Q lsr D cA hC hl k => lv_goto hC.1 hC.2.1 hd ht k⟩
theorem s_iadd (hd : decode mi.1 pc = .ok (.iadd, 1)) : SiZ mi pc (i_bin (fun x y => x + y) (pc + 1)) :=
  SiZ.pure fun ls st h o ho => by
    simp only [i_bin] at ho
    split at ho
    · cases ho
      exact ⟨_, _, rfl, fun p l e R s m args below meth c H locs cells slots Q lsr D cA hC hl k => lv_iadd hC.1 hC.2.1 hd k⟩
    · cases ho
theorem s_isub (hd : decode mi.1 pc = .ok (.isub, 1)) : SiZ mi pc (i_bin (fun x y => x - y) (pc + 1)) :=
  SiZ.pure fun ls st h o ho => by
    simp only [i_bin] at ho
    split at ho
    · cases ho
      exact ⟨_, _, rfl, fun p l e R s m args below meth c H locs cells slots Q lsr D cA hC hl k => lv_isub hC.1 hC.2.1 hd k⟩
    · cases ho
theorem s_imul (hd : decode mi.1 pc = .ok (.imul, 1)) : SiZ mi pc (i_bin (fun x y => x * y) (pc + 1)) :=
  SiZ.pure fun ls st h o ho => by
    simp only [i_bin] at ho
    split at ho
    · cases ho
      exact ⟨_, _, rfl, fun p l e R s m args below meth c H locs cells slots Q lsr D cA hC hl k => lv_imul hC.1 hC.2.1 hd k⟩
    · cases ho
theorem s_iand (hd : decode mi.1 pc = .ok (.iand, 1)) : SiZ mi pc (i_bin (fun x y => x &&& y) (pc + 1)) :=
  SiZ.pure fun ls st h o ho => by
    simp only [i_bin] at ho
    split at ho
    · cases ho
      exact ⟨_, _, rfl, fun p l e R s m args below meth c H locs cells slots Q lsr D cA hC hl k => lv_iand hC.1 hC.2.1 hd k⟩
    · cases ho
theorem s_ior (hd : decode mi.1 pc = .ok (.ior, 1)) : SiZ mi pc (i_bin (fun x y => x ||| y) (pc + 1)) :=
  SiZ.pure fun ls st h o ho => by
    simp only [i_bin] at ho
    split at ho
    · cases ho
      exact ⟨_, _, rfl, fun p l e R s m args below meth c H locs cells slots Q lsr D cA hC hl k => lv_ior hC.1 hC.2.1 hd k⟩
    · cases ho
theorem s_ixor (hd : decode mi.1 pc = .ok (.ixor, 1)) : SiZ mi pc (i_bin (fun x y => x ^^^ y) (pc + 1)) :=
  SiZ.pure fun ls st h o ho => by
    simp only [i_bin] at ho
    split at ho
    · cases ho
      exact ⟨_, _, rfl, fun p l e R s m args below meth c H locs cells slots Q lsr D cA hC hl k => lv_ixor hC.1 hC.2.1 hd k⟩
    · cases ho
theorem s_ishl (hd : decode mi.1 pc = .ok (.ishl, 1)) : SiZ mi pc (i_bin (fun x y => x <<< (y &&& 31)) (pc + 1)) :=
  SiZ.pure fun ls st h o ho => by
    simp only [i_bin] at ho
    split at ho
    · cases ho
      exact ⟨_, _, rfl, fun p l e R s m args below meth c H locs cells slots Q lsr D cA hC hl k => lv_ishl hC.1 hC.2.1 hd k⟩
    · cases ho
theorem s_ishr (hd : decode mi.1 pc = .ok (.ishr, 1)) : SiZ mi pc (i_bin (fun x y => x >>> (y &&& 31)) (pc + 1)) :=
  SiZ.pure fun ls st h o ho => by
    simp only [i_bin] at ho
    split at ho
    · cases ho
      exact ⟨_, _, rfl, fun p l e R s m args below meth c H locs cells slots Q lsr D cA hC hl k => lv_ishr hC.1 hC.2.1 hd k⟩
    · cases ho
theorem s_iushr (hd : decode mi.1 pc = .ok (.iushr, 1)) : SiZ mi pc (i_bin (fun x y => (x.toUInt32 >>> (y.toUInt32 &&& Int32.toUInt32 31)).toInt32) (pc + 1)) :=
  SiZ.pure fun ls st h o ho => by
    simp only [i_bin] at ho
    split at ho
    · cases ho
      exact ⟨_, _, rfl, fun p l e R s m args below meth c H locs cells slots Q lsr D cA hC hl k => lv_iushr hC.1 hC.2.1 hd rfl k⟩
    · cases ho
theorem s_ladd (hd : decode mi.1 pc = .ok (.ladd, 1)) : SiZ mi pc (i_lbin (fun x y => x + y) (pc + 1)) :=
  SiZ.pure fun ls st h o ho => by
    simp only [i_lbin] at ho
    split at ho
    · cases ho
      exact ⟨_, _, rfl, fun p l e R s m args below meth c H locs cells slots Q lsr D cA hC hl k => lv_ladd hC.1 hC.2.1 hd k⟩
    · cases ho
theorem s_lsub (hd : decode mi.1 pc = .ok (.lsub, 1)) : SiZ mi pc (i_lbin (fun x y => x - y) (pc + 1)) :=
  SiZ.pure fun ls st h o ho => by
    simp only [i_lbin] at ho
    split at ho
    · cases ho
      exact ⟨_, _, rfl, fun p l e R s m args below meth c H locs cells slots Q lsr D cA hC hl k => lv_lsub hC.1 hC.2.1 hd k⟩
    · cases ho
theorem s_lmul (hd : decode mi.1 pc = .ok (.lmul, 1)) : SiZ mi pc (i_lbin (fun x y => x * y) (pc + 1)) :=
  SiZ.pure fun ls st h o ho => by
    simp only [i_lbin] at ho
    split at ho
    · cases ho
      exact ⟨_, _, rfl, fun p l e R s m args below meth c H locs cells slots Q lsr D cA hC hl k => lv_lmul hC.1 hC.2.1 hd k⟩
    · cases ho
theorem s_ineg (hd : decode mi.1 pc = .ok (.ineg, 1)) : SiZ mi pc (i_un (fun x => -x) (pc + 1)) :=
  SiZ.pure fun ls st h o ho => by
    simp only [i_un] at ho
    split at ho
    · cases ho
      exact ⟨_, _, rfl, fun p l e R s m args below meth c H locs cells slots Q lsr D cA hC hl k => lv_ineg hC.1 hC.2.1 hd k⟩
    · cases ho
theorem s_i2b (hd : decode mi.1 pc = .ok (.i2b, 1)) : SiZ mi pc (i_un (fun x => x.toInt8.toInt32) (pc + 1)) :=
  SiZ.pure fun ls st h o ho => by
    simp only [i_un] at ho
    split at ho
    · cases ho
      exact ⟨_, _, rfl, fun p l e R s m args below meth c H locs cells slots Q lsr D cA hC hl k => lv_i2b hC.1 hC.2.1 hd rfl k⟩
    · cases ho
theorem s_i2s (hd : decode mi.1 pc = .ok (.i2s, 1)) : SiZ mi pc (i_un (fun x => x.toInt16.toInt32) (pc + 1)) :=
  SiZ.pure fun ls st h o ho => by
    simp only [i_un] at ho
    split at ho
    · cases ho
      exact ⟨_, _, rfl, fun p l e R s m args below meth c H locs cells slots Q lsr D cA hC hl k => lv_i2s hC.1 hC.2.1 hd rfl k⟩
    · cases ho
theorem s_i2c (hd : decode mi.1 pc = .ok (.i2c, 1)) : SiZ mi pc (i_un (fun x => (x.toUInt32 % 65536).toInt32) (pc + 1)) :=
  SiZ.pure fun ls st h o ho => by
    simp only [i_un] at ho
    split at ho
    · cases ho
      exact ⟨_, _, rfl, fun p l e R s m args below meth c H locs cells slots Q lsr D cA hC hl k => lv_i2c hC.1 hC.2.1 hd rfl k⟩
    · cases ho
theorem s_i2l (hd : decode mi.1 pc = .ok (.i2l, 1)) : SiZ mi pc (i_i2l (pc + 1)) :=
  SiZ.pure fun ls st h o ho => by
    simp only [i_i2l] at ho
    split at ho
    · cases ho
      exact ⟨_, _, rfl, fun p l e R s m args below meth c H locs cells slots Q lsr D cA hC hl k => lv_i2l hC.1 hC.2.1 hd rfl k⟩
    · cases ho
theorem s_l2i (hd : decode mi.1 pc = .ok (.l2i, 1)) : SiZ mi pc (i_l2i (pc + 1)) :=
  SiZ.pure fun ls st h o ho => by
    simp only [i_l2i] at ho
    split at ho
    · cases ho
      exact ⟨_, _, rfl, fun p l e R s m args below meth c H locs cells slots Q lsr D cA hC hl k => lv_l2i hC.1 hC.2.1 hd rfl k⟩
    · cases ho
theorem s_lcmp (hd : decode mi.1 pc = .ok (.lcmp, 1)) : SiZ mi pc (i_lcmp (pc + 1)) :=
  SiZ.pure fun ls st h o ho => by
    simp only [i_lcmp] at ho
    split at ho
    · cases ho
      exact ⟨_, _, rfl, fun p l e R s m args below meth c H locs cells slots Q lsr D cA hC hl k => W.lcmp hC.1 hC.2.1 hd k⟩
    · cases ho
theorem s_idiv (hd : decode mi.1 pc = .ok (.idiv, 1)) : SiZ mi pc (i_bing (fun x y => x / y) (pc + 1)) :=
  SiZ.pure fun ls st h o ho => by
    simp only [i_bing] at ho
    split at ho
    · split at ho
      · rename_i hg
        cases ho
        exact ⟨_, _, rfl, fun p l e R s m args below meth c H locs cells slots Q lsr D cA hC hl k => lv_idiv hC.1 hC.2.1 hd hg k⟩
      · cases ho
    · cases ho
theorem s_irem (hd : decode mi.1 pc = .ok (.irem, 1)) : SiZ mi pc (i_bing (fun x y => x - x / y * y) (pc + 1)) :=
  SiZ.pure fun ls st h o ho => by
    simp only [i_bing] at ho
    split at ho
    · split at ho
      · rename_i hg
        cases ho
        exact ⟨_, _, rfl, fun p l e R s m args below meth c H locs cells slots Q lsr D cA hC hl k => lv_irem hC.1 hC.2.1 hd hg k⟩
      · cases ho
    · cases ho
theorem s_ldiv (hd : decode mi.1 pc = .ok (.ldiv, 1)) : SiZ mi pc (i_lbing (fun x y => x / y) (pc + 1)) :=
  SiZ.pure fun ls st h o ho => by
    simp only [i_lbing] at ho
    split at ho
    · split at ho
      · rename_i hg
        cases ho
        exact ⟨_, _, rfl, fun p l e R s m args below meth c H locs cells slots Q lsr D cA hC hl k => lv_ldiv hC.1 hC.2.1 hd hg k⟩
      · cases ho
    · cases ho
theorem s_lrem (hd : decode mi.1 pc = .ok (.lrem, 1)) : SiZ mi pc (i_lbing (fun x y => x - x / y * y) (pc + 1)) :=
  SiZ.pure fun ls st h o ho => by
    simp only [i_lbing] at ho
    split at ho
    · split at ho
      · rename_i hg
        cases ho
        exact ⟨_, _, rfl, fun p l e R s m args below meth c H locs cells slots Q lsr D cA hC hl k => lv_lrem hC.1 hC.2.1 hd hg k⟩
      · cases ho
    · cases ho
theorem s_dup (hd : decode mi.1 pc = .ok (.dup, 1)) : SiZ mi pc (i_dup (pc + 1)) :=
  SiZ.pure fun ls st h o ho => by
    simp only [i_dup] at ho
    split at ho
    · split at ho
      · rename_i hg
        cases ho
        exact ⟨_, _, rfl, fun p l e R s m args below meth c H locs cells slots Q lsr D cA hC hl k => lv_dup hC.1 hC.2.1 hd hg k⟩
      · cases ho
    · cases ho
theorem s_pop (hd : decode mi.1 pc = .ok (.pop, 1)) : SiZ mi pc (i_pop (pc + 1)) :=
  SiZ.pure fun ls st h o ho => by
    simp only [i_pop] at ho
    split at ho
    · split at ho
      · rename_i hg
        cases ho
        exact ⟨_, _, rfl, fun p l e R s m args below meth c H locs cells slots Q lsr D cA hC hl k => lv_pop hC.1 hC.2.1 hd hg k⟩
      · cases ho
    · cases ho
theorem s_dup_x1 (hd : decode mi.1 pc = .ok (.dup_x1, 1)) : SiZ mi pc (i_dup_x1 (pc + 1)) :=
  SiZ.pure fun ls st h o ho => by
    simp only [i_dup_x1] at ho
    split at ho
    · split at ho
      · rename_i hg
        cases ho
        exact ⟨_, _, rfl, fun p l e R s m args below meth c H locs cells slots Q lsr D cA hC hl k => lv_dup_x1 hC.1 hC.2.1 hd hg.1 hg.2 k⟩
      · cases ho
    · cases ho
theorem s_dup2 (hd : decode mi.1 pc = .ok (.dup2, 1)) : SiZ mi pc (i_dup2 (pc + 1)) :=
  SiZ.pure fun ls st h o ho => by
    simp only [i_dup2] at ho
    split at ho
    · split at ho
      · rename_i hg
        cases ho
        exact ⟨_, _, rfl, fun p l e R s m args below meth c H locs cells slots Q lsr D cA hC hl k => lv_dup2_11 hC.1 hC.2.1 hd hg.1 hg.2 k⟩
      · cases ho
    · cases ho
theorem s_icmp_eq {off : Int} {t : Nat} (hd : decode mi.1 pc = .ok (.if_icmp .eq off, 3)) (ht : (pc : Int) + off = (t : Int)) : SiZ mi pc (i_icmp (fun x y => x = y) t (pc + 3)) :=
  SiZ.pure fun ls st h o ho => by
    simp only [i_icmp] at ho
    split at ho
    · cases ho
      exact ⟨_, _, rfl, fun p l e R s m args below meth c H locs cells slots Q lsr D cA hC hl k => lv_icmp_eq hC.1 hC.2.1 hd ht (fun q => by rw [if_pos q] at k; exact k) (fun q => by rw [if_neg q] at k; exact k)⟩
    · cases ho
theorem s_if_eq {off : Int} {t : Nat} (hd : decode mi.1 pc = .ok (.ifCond .eq off, 3)) (ht : (pc : Int) + off = (t : Int)) : SiZ mi pc (i_if (fun x => x = 0) t (pc + 3)) :=
  SiZ.pure fun ls st h o ho => by
    simp only [i_if] at ho
    split at ho
    · cases ho
      exact ⟨_, _, rfl, fun p l e R s m args below meth c H locs cells slots Q lsr D cA hC hl k => lv_if_eq hC.1 hC.2.1 hd ht (fun q => by rw [if_pos q] at k; exact k) (fun q => by rw [if_neg q] at k; exact k)⟩
    · cases ho
theorem s_icmp_ne {off : Int} {t : Nat} (hd : decode mi.1 pc = .ok (.if_icmp .ne off, 3)) (ht : (pc : Int) + off = (t : Int)) : SiZ mi pc (i_icmp (fun x y => ¬ x = y) t (pc + 3)) :=
  SiZ.pure fun ls st h o ho => by
    simp only [i_icmp] at ho
    split at ho
    · cases ho
      exact ⟨_, _, rfl, fun p l e R s m args below meth c H locs cells slots Q lsr D cA hC hl k => lv_icmp_ne hC.1 hC.2.1 hd ht (fun q => by rw [if_pos q] at k; exact k) (fun q => by rw [if_neg (fun w => w q)] at k; exact k)⟩
    · cases ho
theorem s_if_ne {off : Int} {t : Nat} (hd : decode mi.1 pc = .ok (.ifCond .ne off, 3)) (ht : (pc : Int) + off = (t : Int)) : SiZ mi pc (i_if (fun x => ¬ x = 0) t (pc + 3)) :=
  SiZ.pure fun ls st h o ho => by
    simp only [i_if] at ho
    split at ho
    · cases ho
      exact ⟨_, _, rfl, fun p l e R s m args below meth c H locs cells slots Q lsr D cA hC hl k => lv_if_ne hC.1 hC.2.1 hd ht (fun q => by rw [if_pos q] at k; exact k) (fun q => by rw [if_neg (fun w => w q)] at k; exact k)⟩
    · cases ho
theorem s_icmp_lt {off : Int} {t : Nat} (hd : decode mi.1 pc = .ok (.if_icmp .lt off, 3)) (ht : (pc : Int) + off = (t : Int)) : SiZ mi pc (i_icmp (fun x y => x < y) t (pc + 3)) :=
  SiZ.pure fun ls st h o ho => by
    simp only [i_icmp] at ho
    split at ho
    · cases ho
      exact ⟨_, _, rfl, fun p l e R s m args below meth c H locs cells slots Q lsr D cA hC hl k => lv_icmp_lt hC.1 hC.2.1 hd ht (fun q => by rw [if_pos q] at k; exact k) (fun q => by rw [if_neg q] at k; exact k)⟩
    · cases ho
theorem s_if_lt {off : Int} {t : Nat} (hd : decode mi.1 pc = .ok (.ifCond .lt off, 3)) (ht : (pc : Int) + off = (t : Int)) : SiZ mi pc (i_if (fun x => x < 0) t (pc + 3)) :=
  SiZ.pure fun ls st h o ho => by
    simp only [i_if] at ho
    split at ho
    · cases ho
      exact ⟨_, _, rfl, fun p l e R s m args below meth c H locs cells slots Q lsr D cA hC hl k => lv_if_lt hC.1 hC.2.1 hd ht (fun q => by rw [if_pos q] at k; exact k) (fun q => by rw [if_neg q] at k; exact k)⟩
    · cases ho
theorem s_icmp_ge {off : Int} {t : Nat} (hd : decode mi.1 pc = .ok (.if_icmp .ge off, 3)) (ht : (pc : Int) + off = (t : Int)) : SiZ mi pc (i_icmp (fun x y => y ≤ x) t (pc + 3)) :=
  SiZ.pure fun ls st h o ho => by
    simp only [i_icmp] at ho
    split at ho
    · cases ho
      exact ⟨_, _, rfl, fun p l e R s m args below meth c H locs cells slots Q lsr D cA hC hl k => lv_icmp_ge hC.1 hC.2.1 hd ht (fun q => by rw [if_pos q] at k; exact k) (fun q => by rw [if_neg q] at k; exact k)⟩
    · cases ho
theorem s_if_ge {off : Int} {t : Nat} (hd : decode mi.1 pc = .ok (.ifCond .ge off, 3)) (ht : (pc : Int) + off = (t : Int)) : SiZ mi pc (i_if (fun x => 0 ≤ x) t (pc + 3)) :=
  SiZ.pure fun ls st h o ho => by
    simp only [i_if] at ho
    split at ho
    · cases ho
      exact ⟨_, _, rfl, fun p l e R s m args below meth c H locs cells slots Q lsr D cA hC hl k => lv_if_ge hC.1 hC.2.1 hd ht (fun q => by rw [if_pos q] at k; exact k) (fun q => by rw [if_neg q] at k; exact k)⟩
    · cases ho
theorem s_icmp_gt {off : Int} {t : Nat} (hd : decode mi.1 pc = .ok (.if_icmp .gt off, 3)) (ht : (pc : Int) + off = (t : Int)) : SiZ mi pc (i_icmp (fun x y => y < x) t (pc + 3)) :=
  SiZ.pure fun ls st h o ho => by
    simp only [i_icmp] at ho
    split at ho
    · cases ho
      exact ⟨_, _, rfl, fun p l e R s m args below meth c H locs cells slots Q lsr D cA hC hl k => lv_icmp_gt hC.1 hC.2.1 hd ht (fun q => by rw [if_pos q] at k; exact k) (fun q => by rw [if_neg q] at k; exact k)⟩
    · cases ho
theorem s_if_gt {off : Int} {t : Nat} (hd : decode mi.1 pc = .ok (.ifCond .gt off, 3)) (ht : (pc : Int) + off = (t : Int)) : SiZ mi pc (i_if (fun x => 0 < x) t (pc + 3)) :=
  SiZ.pure fun ls st h o ho => by
    simp only [i_if] at ho
    split at ho
    · cases ho
      exact ⟨_, _, rfl, fun p l e R s m args below meth c H locs cells slots Q lsr D cA hC hl k => lv_if_gt hC.1 hC.2.1 hd ht (fun q => by rw [if_pos q] at k; exact k) (fun q => by rw [if_neg q] at k; exact k)⟩
    · cases ho
theorem s_icmp_le {off : Int} {t : Nat} (hd : decode mi.1 pc = .ok (.if_icmp .le off, 3)) (ht : (pc : Int) + off = (t : Int)) : SiZ mi pc (i_icmp (fun x y => x ≤ y) t (pc + 3)) :=
  SiZ.pure fun ls st h o ho => by
    simp only [i_icmp] at ho
    split at ho
    · cases ho
      exact ⟨_, _, rfl, fun p l e R s m args below meth c H locs cells slots Q lsr D cA hC hl k => lv_icmp_le hC.1 hC.2.1 hd ht (fun q => by rw [if_pos q] at k; exact k) (fun q => by rw [if_neg q] at k; exact k)⟩
    · cases ho
theorem s_if_le {off : Int} {t : Nat} (hd : decode mi.1 pc = .ok (.ifCond .le off, 3)) (ht : (pc : Int) + off = (t : Int)) : SiZ mi pc (i_if (fun x => x ≤ 0) t (pc + 3)) :=
  SiZ.pure fun ls st h o ho => by
    simp only [i_if] at ho
    split at ho
    · cases ho
      exact ⟨_, _, rfl, fun p l e R s m args below meth c H locs cells slots Q lsr D cA hC hl k => lv_if_le hC.1 hC.2.1 hd ht (fun q => by rw [if_pos q] at k; exact k) (fun q => by rw [if_neg q] at k; exact k)⟩
    · cases ho
end SIMPLE
