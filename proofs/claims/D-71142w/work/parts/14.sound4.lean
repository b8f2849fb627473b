/-! SOUNDNESS: stores to locals, jumps by references, switches, answers, fields -/
section STORES
variable {mi : MI} {pc : Nat}
theorem SiZ.store {f : StepF} {i len : Nat} (hf : ∀ ls st h o, f ls st h = some o → ∃ (v : Value) (st' : List Value), o = .inl (pc + len, ls.set i v, st', h) ∧ i < ls.length ∧ v.category = 1 ∧ (∀ k, v ≠ .retAddr k) ∧
    ∀ (p : Program) (l : Launch) (e : Env) (R : Room) (s : State) (m : MethodId) (args : Array Value) (below : List Frame) (meth : Method) (c : Code) (H : Heap) (locs : List Loc) (cells slots : Nat) (Q : State → Prop) (lsr lsr' : Array Slot) (D : va_G) (cA : Nat → ClassId), CtZ mi D cA p R s m meth c → LocZ lsr ls → storeLocals lsr i v = some lsr' →
      W p l e R s m args below meth c H locs cells slots Q (F0 m (pc + len) lsr' st') → W p l e R s m args below meth c H locs cells slots Q (F0 m pc lsr st)) : SiZ mi pc f := by
  intro D cA z p l e R s m args below meth c K hC ls st h o hll ho hO
  obtain ⟨v, st', rfl, hi, hc, hv, hw⟩ := hf ls st h o ho
  intro H locs cells slots lsr h1 h2 h3 h4 h5
  obtain ⟨lsr', e1, e2⟩ := h5.set1 hi hc hv
  exact hw p l e R s m args below meth c H locs cells slots _ lsr lsr' D cA hC h5 e1 (hO (by show (ls.set i v).length = _; rw [List.length_set]; exact hll) H locs cells slots lsr' h1 h2 h3 h4 e2)
theorem s_istore_n {i : Nat} {k : Fin 4} (hd : decode mi.1 pc = .ok (.istore_n k, 1)) (hk : (k : Nat) = i) : SiZ mi pc (i_istore i (pc + 1)) :=
  SiZ.store (i := i) (len := 1) fun ls st h o ho => by
    simp only [i_istore] at ho
    split at ho
    · split at ho
      · rename_i hg
        cases ho
        refine ⟨_, _, rfl, hg, rfl, (fun k q => by cases q), fun p l e R s m args below meth c H locs cells slots Q lsr lsr' D cA hC hl e1 kk T hT X => ?_⟩
        obtain ⟨t, a, b⟩ := kk T hT X
        refine ⟨t, ?_, b⟩
        subst hk
        jvm_step X.here [X.here.top, ↓top_set X.here.top, hC.1, hC.2.1, hd, e1]
        exact a
      · cases ho
    · cases ho
theorem s_istore {i : Nat} (hd : decode mi.1 pc = .ok (.istore i, 2)) : SiZ mi pc (i_istore i (pc + 2)) :=
  SiZ.store (i := i) (len := 2) fun ls st h o ho => by
    simp only [i_istore] at ho
    split at ho
    · split at ho
      · rename_i hg
        cases ho
        refine ⟨_, _, rfl, hg, rfl, (fun k q => by cases q), fun p l e R s m args below meth c H locs cells slots Q lsr lsr' D cA hC hl e1 kk T hT X => ?_⟩
        obtain ⟨t, a, b⟩ := kk T hT X
        refine ⟨t, ?_, b⟩
        jvm_step X.here [X.here.top, ↓top_set X.here.top, hC.1, hC.2.1, hd, e1]
        exact a
      · cases ho
    · cases ho
theorem s_astore_n {i : Nat} {k : Fin 4} (hd : decode mi.1 pc = .ok (.astore_n k, 1)) (hk : (k : Nat) = i) : SiZ mi pc (i_astore i (pc + 1)) :=
  SiZ.store (i := i) (len := 1) fun ls st h o ho => by
    simp only [i_astore] at ho
    subst hk
    split at ho
    · split at ho
      · rename_i hg
        cases ho
        refine ⟨_, _, rfl, hg, rfl, (fun k q => by cases q), fun p l e R s m args below meth c H locs cells slots Q lsr lsr' D cA hC hl e1 kk T hT X => ?_⟩
        obtain ⟨t, a, b⟩ := kk T hT X
        refine ⟨t, ?_, b⟩
        jvm_step X.here [X.here.top, ↓top_set X.here.top, hC.1, hC.2.1, hd, e1]
        exact ⟨rfl, a⟩
      · cases ho
    · split at ho
      · rename_i hg
        cases ho
        refine ⟨_, _, rfl, hg, rfl, (fun k q => by cases q), fun p l e R s m args below meth c H locs cells slots Q lsr lsr' D cA hC hl e1 kk T hT X => ?_⟩
        obtain ⟨t, a, b⟩ := kk T hT X
        refine ⟨t, ?_, b⟩
        jvm_step X.here [X.here.top, ↓top_set X.here.top, hC.1, hC.2.1, hd, e1]
        exact ⟨rfl, a⟩
      · cases ho
    · cases ho
theorem s_astore {i : Nat} (hd : decode mi.1 pc = .ok (.astore i, 2)) : SiZ mi pc (i_astore i (pc + 2)) :=
  SiZ.store (i := i) (len := 2) fun ls st h o ho => by
    simp only [i_astore] at ho
    split at ho
    · split at ho
      · rename_i hg
        cases ho
        refine ⟨_, _, rfl, hg, rfl, (fun k q => by cases q), fun p l e R s m args below meth c H locs cells slots Q lsr lsr' D cA hC hl e1 kk T hT X => ?_⟩
        obtain ⟨t, a, b⟩ := kk T hT X
        refine ⟨t, ?_, b⟩
        jvm_step X.here [X.here.top, ↓top_set X.here.top, hC.1, hC.2.1, hd, e1]
        exact ⟨rfl, a⟩
      · cases ho
    · split at ho
      · rename_i hg
        cases ho
        refine ⟨_, _, rfl, hg, rfl, (fun k q => by cases q), fun p l e R s m args below meth c H locs cells slots Q lsr lsr' D cA hC hl e1 kk T hT X => ?_⟩
        obtain ⟨t, a, b⟩ := kk T hT X
        refine ⟨t, ?_, b⟩
        jvm_step X.here [X.here.top, ↓top_set X.here.top, hC.1, hC.2.1, hd, e1]
        exact ⟨rfl, a⟩
      · cases ho
    · cases ho
theorem s_iinc {i : Nat} {n : Int} {d : Int32} (hd : decode mi.1 pc = .ok (.iinc i n, 3)) (hn : Int32.ofInt n = d) : SiZ mi pc (i_iinc i d (pc + 3)) :=
  SiZ.store (i := i) (len := 3) fun ls st h o ho => by
    simp only [i_iinc] at ho
    subst hn
    split at ho
    · rename_i x hx
      cases ho
      refine ⟨_, _, rfl, (List.getElem?_eq_some_iff.mp hx).1, rfl, (fun k q => by cases q), fun p l e R s m args below meth c H locs cells slots Q lsr lsr' D cA hC hl e1 kk T hT X => ?_⟩
      obtain ⟨t, a, b⟩ := kk T hT X
      refine ⟨t, ?_, b⟩
      have hg : lsr[i]? = some (.val (.int x)) := hl.2.2 i _ ⟨hx, (fun k q => by cases q), (fun q => by cases q)⟩
      jvm_step X.here [X.here.top, ↓top_set X.here.top, hC.1, hC.2.1, hd, hg, e1]
      exact a
    · cases ho
theorem SiZ.store2 {i len : Nat} (hw : ∀ (p : Program) (l : Launch) (e : Env) (R : Room) (s : State) (m : MethodId) (args : Array Value) (below : List Frame) (meth : Method) (c : Code) (H : Heap) (locs : List Loc) (cells slots : Nat) (Q : State → Prop) (lsr lsr' : Array Slot) (D : va_G) (cA : Nat → ClassId) (x : Int64) (st : List Value), CtZ mi D cA p R s m meth c → storeLocals lsr i (.long x) = some lsr' →
      W p l e R s m args below meth c H locs cells slots Q (F0 m (pc + len) lsr' st) → W p l e R s m args below meth c H locs cells slots Q (F0 m pc lsr (.long x :: st))) : SiZ mi pc (i_lstore i (pc + len)) := by
  intro D cA z p l e R s m args below meth c K hC ls st h o hll ho hO
  simp only [i_lstore] at ho
  split at ho
  · split at ho
    · rename_i hg
      cases ho
      intro H locs cells slots lsr h1 h2 h3 h4 h5
      obtain ⟨lsr', e1, e2⟩ := h5.set2 (v := .long _) hg rfl (fun k q => by cases q)
      exact hw p l e R s m args below meth c H locs cells slots _ lsr lsr' D cA _ _ hC e1 (hO (by rw [← hll]; simp) H locs cells slots lsr' h1 h2 h3 h4 e2)
    · cases ho
  · cases ho
theorem s_lstore_n {i : Nat} {k : Fin 4} (hd : decode mi.1 pc = .ok (.lstore_n k, 1)) (hk : (k : Nat) = i) : SiZ mi pc (i_lstore i (pc + 1)) :=
  SiZ.store2 fun p l e R s m args below meth c H locs cells slots Q lsr lsr' D cA x st hC e1 kk T hT X => by
    obtain ⟨t, a, b⟩ := kk T hT X
    refine ⟨t, ?_, b⟩
    subst hk
    jvm_step X.here [X.here.top, ↓top_set X.here.top, hC.1, hC.2.1, hd, e1]
    exact a
theorem s_lstore {i : Nat} (hd : decode mi.1 pc = .ok (.lstore i, 2)) : SiZ mi pc (i_lstore i (pc + 2)) :=
  SiZ.store2 fun p l e R s m args below meth c H locs cells slots Q lsr lsr' D cA x st hC e1 kk T hT X => by
    obtain ⟨t, a, b⟩ := kk T hT X
    refine ⟨t, ?_, b⟩
    jvm_step X.here [X.here.top, ↓top_set X.here.top, hC.1, hC.2.1, hd, e1]
    exact a
theorem s_ifnull {off : Int} {t : Nat} (hd : decode mi.1 pc = .ok (.ifnull off, 3)) (ht : (pc : Int) + off = (t : Int)) : SiZ mi pc (i_ifn t (pc + 3)) :=
  SiZ.pure fun ls st h o ho => by
    simp only [i_ifn] at ho
    split at ho
    · cases ho
      exact ⟨_, _, rfl, fun p l e R s m args below meth c H locs cells slots Q lsr D cA hC hl k => lv_ifnullN hC.1 hC.2.1 hd ht k⟩
    · cases ho
      exact ⟨_, _, rfl, fun p l e R s m args below meth c H locs cells slots Q lsr D cA hC hl k => lv_ifnull hC.1 hC.2.1 hd k⟩
    · cases ho
theorem s_ifnonnull {off : Int} {t : Nat} (hd : decode mi.1 pc = .ok (.ifnonnull off, 3)) (ht : (pc : Int) + off = (t : Int)) : SiZ mi pc (i_ifn (pc + 3) t) :=
  SiZ.pure fun ls st h o ho => by
    simp only [i_ifn] at ho
    split at ho
    · cases ho
      exact ⟨_, _, rfl, fun p l e R s m args below meth c H locs cells slots Q lsr D cA hC hl k => lv_ifnonnullN hC.1 hC.2.1 hd k⟩
    · cases ho
      exact ⟨_, _, rfl, fun p l e R s m args below meth c H locs cells slots Q lsr D cA hC hl k => lv_ifnonnull hC.1 hC.2.1 hd ht k⟩
    · cases ho
theorem s_acmp_eq {off : Int} {t : Nat} (hd : decode mi.1 pc = .ok (.if_acmp .eq off, 3)) (ht : (pc : Int) + off = (t : Int)) : SiZ mi pc (i_acmp t (pc + 3)) :=
  SiZ.pure fun ls st h o ho => by
    simp only [i_acmp] at ho
    split at ho
    · rename_i b a st'
      cases ho
      refine ⟨_, _, rfl, fun p l e R s m args below meth c H locs cells slots Q lsr D cA hC hl k => ?_⟩
      exact lv_acmp_eq (rx := some a) (ry := some b) hC.1 hC.2.1 hd ht (fun q => by rw [if_pos (Option.some.inj q)] at k; exact k) (fun q => by rw [if_neg (fun w => q (by rw [w]))] at k; exact k)
    · cases ho
theorem s_acmp_ne {off : Int} {t : Nat} (hd : decode mi.1 pc = .ok (.if_acmp .ne off, 3)) (ht : (pc : Int) + off = (t : Int)) : SiZ mi pc (i_acmp (pc + 3) t) :=
  SiZ.pure fun ls st h o ho => by
    simp only [i_acmp] at ho
    split at ho
    · rename_i b a st'
      cases ho
      refine ⟨_, _, rfl, fun p l e R s m args below meth c H locs cells slots Q lsr D cA hC hl k => ?_⟩
      exact lv_acmp_ne (rx := some a) (ry := some b) hC.1 hC.2.1 hd ht (fun q => by rw [if_neg (fun w => q (by rw [w]))] at k; exact k) (fun q => by rw [if_pos (Option.some.inj q)] at k; exact k)
    · cases ho
theorem s_tsw {d lo hi : Int} {offs : Array Int} {len dt : Nat} {ts : List Nat} (hd : decode mi.1 pc = .ok (.tableswitch d lo hi offs, len)) (hdt : (pc : Int) + d = (dt : Int)) (hts : offs.toList.map (fun o => (pc : Int) + o) = ts.map (fun (t : Nat) => (t : Int))) (hhi : hi = lo + (ts.length : Int) - 1) : SiZ mi pc (i_tsw lo ts dt) :=
  SiZ.pure fun ls st h o ho => by
    simp only [i_tsw] at ho
    split at ho
    · rename_i x st'
      cases ho
      refine ⟨_, _, rfl, fun p l e R s m args below meth c H locs cells slots Q lsr D cA hC hl k => ?_⟩
      by_cases h1 : x.toInt < lo
      · refine lv_tableOut hC.1 hC.2.1 hd (Or.inl h1) hdt ?_
        rw [tswT, if_pos h1] at k
        exact k
      · by_cases h2 : hi < x.toInt
        · refine lv_tableOut hC.1 hC.2.1 hd (Or.inr h2) hdt ?_
          rw [tswT, if_neg h1, List.getElem?_eq_none (by omega)] at k
          exact k
        · have hlt : (x.toInt - lo).toNat < ts.length := by omega
          have e1 : ts[(x.toInt - lo).toNat]? = some ts[(x.toInt - lo).toNat] := List.getElem?_eq_getElem hlt
          rw [tswT, if_neg h1, e1] at k
          have e2 : (offs.toList.map (fun o => (pc : Int) + o))[(x.toInt - lo).toNat]? = some ((ts[(x.toInt - lo).toNat] : Nat) : Int) := by rw [hts, List.getElem?_map, e1]; rfl
          rw [List.getElem?_map] at e2
          cases e3 : offs.toList[(x.toInt - lo).toNat]? with
          | none => rw [e3] at e2; cases e2
          | some off =>
            rw [e3] at e2
            exact lv_tableIn hC.1 hC.2.1 hd h1 h2 (off := off) (by rw [← Array.getElem?_toList]; exact e3) (Option.some.inj e2) k
    · cases ho
/-- the answers -/
theorem SiZ.ret {f : StepF} (hf : ∀ ls st h o, f ls st h = some o → ∃ v : Option Value, o = .inr (.inl (v, h)) ∧
    ∀ (p : Program) (l : Launch) (e : Env) (R : Room) (s : State) (m : MethodId) (args : Array Value) (below : List Frame) (meth : Method) (c : Code) (H : Heap) (locs : List Loc) (cells slots : Nat) (Qc : Array Value → State → Outcome → State → Prop) (free : Addr → Prop) (lsr : Array Slot) (D : va_G) (cA : Nat → ClassId), CtZ mi D cA p R s m meth c →
      (∀ t : State, t.heap = H → s.WarmedH t.vm → Qc args s (.returned v) t) → (∀ q ∈ locs, free q.base) → W p l e R s m args below meth c H locs cells slots (MQ below Qc args s cells slots free) (F0 m pc lsr st)) : SiZ mi pc f := by
  intro D cA z p l e R s m args below meth c K hC ls st h o hll ho hO
  obtain ⟨v, rfl, hw⟩ := hf ls st h o ho
  intro H locs cells slots lsr h1 h2 h3 h4 h5
  have := hw p l e R s m args below meth c H locs cells slots (fun _ _ o t => o = .returned v ∧ t.heap = H ∧ s.WarmedH t.vm) (fun q => z ≤ q) lsr D cA hC (fun t e1 e2 => ⟨rfl, e1, e2⟩) h2
  intro T hT X
  obtain ⟨t, a1, o, b1, b2, ⟨b3, b4, b5⟩, L, ⟨-, -, b6⟩, b7⟩ := this T hT X
  subst b3
  exact ⟨t, a1, .inl v, h, L, cells, slots, b1, b2, b5, b6, b7, h3, h4, by rw [b4]; exact h1, hO⟩
theorem s_iret (hd : decode mi.1 pc = .ok (.ireturn, 1)) (hr : mi.2.2.1 = some .int) : SiZ mi pc i_iret :=
  SiZ.ret fun ls st h o ho => by
    simp only [i_iret] at ho
    split at ho
    · cases ho
      exact ⟨_, rfl, fun p l e R s m args below meth c H locs cells slots Qc free lsr D cA hC hq hf => W.iret hC.1 hC.2.1 (hC.2.2.2.1.trans hr) hq hf hd hC.2.2.2.2.2.2.2.2.2.1⟩
    · cases ho
theorem s_zret (hd : decode mi.1 pc = .ok (.ireturn, 1)) (hr : mi.2.2.1 = some .boolean) : SiZ mi pc i_zret :=
  SiZ.ret fun ls st h o ho => by
    simp only [i_zret] at ho
    split at ho
    · split at ho
      · rename_i hg
        cases ho
        refine ⟨_, rfl, fun p l e R s m args below meth c H locs cells slots Qc free lsr D cA hC hq hf => W.zret hC.1 hC.2.1 (hC.2.2.2.1.trans hr) ?_ hq hf hd hC.2.2.2.2.2.2.2.2.2.1⟩
        rcases hg with rfl | rfl <;> decide
      · cases ho
    · cases ho
theorem s_bret (hd : decode mi.1 pc = .ok (.ireturn, 1)) (hr : mi.2.2.1 = some .byte) : SiZ mi pc i_bret :=
  SiZ.ret fun ls st h o ho => by
    simp only [i_bret] at ho
    split at ho
    · split at ho
      · rename_i hg
        cases ho
        refine ⟨_, rfl, fun p l e R s m args below meth c H locs cells slots Qc free lsr D cA hC hq hf => W.zret hC.1 hC.2.1 (hC.2.2.2.1.trans hr) ?_ hq hf hd hC.2.2.2.2.2.2.2.2.2.1⟩
        exact congrArg Value.int hg
      · cases ho
    · cases ho
theorem s_cret (hd : decode mi.1 pc = .ok (.ireturn, 1)) (hr : mi.2.2.1 = some .char) : SiZ mi pc i_cret :=
  SiZ.ret fun ls st h o ho => by
    simp only [i_cret] at ho
    split at ho
    · split at ho
      · rename_i hg
        cases ho
        refine ⟨_, rfl, fun p l e R s m args below meth c H locs cells slots Qc free lsr D cA hC hq hf => W.zret hC.1 hC.2.1 (hC.2.2.2.1.trans hr) ?_ hq hf hd hC.2.2.2.2.2.2.2.2.2.1⟩
        exact congrArg Value.int hg
      · cases ho
    · cases ho
theorem s_lret (hd : decode mi.1 pc = .ok (.lreturn, 1)) (hr : mi.2.2.1 = some .long) : SiZ mi pc i_lret :=
  SiZ.ret fun ls st h o ho => by
    simp only [i_lret] at ho
    split at ho
    · cases ho
      exact ⟨_, rfl, fun p l e R s m args below meth c H locs cells slots Qc free lsr D cA hC hq hf => W.lret hC.1 hC.2.1 (hC.2.2.2.1.trans hr) hq hf hd hC.2.2.2.2.2.2.2.2.2.1⟩
    · cases ho
theorem s_vret (hd : decode mi.1 pc = .ok (.return_, 1)) (hr : mi.2.2.1 = none) : SiZ mi pc i_vret :=
  SiZ.ret fun ls st h o ho => by
    simp only [i_vret] at ho
    split at ho
    · cases ho
      exact ⟨_, rfl, fun p l e R s m args below meth c H locs cells slots Qc free lsr D cA hC hq hf => W.vret hC.1 hC.2.1 (hC.2.2.2.1.trans hr) hq hf hd hC.2.2.2.2.2.2.2.2.2.1⟩
    · cases ho
theorem s_aret {rt : FieldType} (hd : decode mi.1 pc = .ok (.areturn, 1)) (hr : mi.2.2.1 = some rt) (hrt : (∃ n, rt = .object n) ∨ ∃ t, rt = .array t) : SiZ mi pc i_aret :=
  SiZ.ret fun ls st h o ho => by
    simp only [i_aret] at ho
    split at ho
    · cases ho
      exact ⟨_, rfl, fun p l e R s m args below meth c H locs cells slots Qc free lsr D cA hC hq hf => W.aret hC.1 hC.2.1 (hC.2.2.2.1.trans hr) hrt (Or.inr ⟨_, rfl⟩) hq hf hd hC.2.2.2.2.2.2.2.2.2.1⟩
    · cases ho
      exact ⟨_, rfl, fun p l e R s m args below meth c H locs cells slots Qc free lsr D cA hC hq hf => W.aret hC.1 hC.2.1 (hC.2.2.2.1.trans hr) hrt (Or.inl rfl) hq hf hd hC.2.2.2.2.2.2.2.2.2.1⟩
    · cases ho
end STORES
