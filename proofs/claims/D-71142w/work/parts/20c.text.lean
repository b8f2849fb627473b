/-! THE TEXTS OF WHAT THE MACHINE ITSELF THROWS -/
theorem fc_hidden {vm : Vm} {name : String} {c : ClassId} {k : Class} (h : vm.findClass name = some c) (hk : vm.classes[c]? = some k) : k.name = name ∧ k.hidden = none ∧ k.loader = none := by
  obtain ⟨hlt, hp, _⟩ := Array.findIdx?_eq_some_iff_getElem.mp h
  have : vm.classes[c] = k := by simpa [hlt] using hk
  rw [this] at hp
  simp only [Bool.and_eq_true, beq_iff_eq, Option.isNone_iff_eq_none] at hp
  exact ⟨hp.1.1.1, hp.1.1.2, hp.2⟩
theorem homeZ {s : State} (hm : modulesRight_1 s = true) {k : Class} (hl : k.loader = none) (hp : packageOf k.name ∈ castPackages_1) : (s.vm.home k).toList.length ≤ 38 := by
  unfold Vm.home
  rw [hl]
  cases hmo : s.vm.moduleOf k with
  | none =>
    show ("unnamed module" ++ " of loader " ++ "'bootstrap'").toList.length ≤ 38
    decide
  | some m =>
    have hn : m.name = "java.base" := by
      unfold Vm.moduleOf at hmo
      split at hmo
      · have := List.find?_some hmo
        simpa using this
      · have h1 := List.find?_some hmo
        have h2 := List.mem_of_find?_eq_some hmo
        rw [hl] at h1
        simp only [Bool.and_eq_true, beq_iff_eq] at h1
        unfold modulesRight_1 at hm
        have h3 := List.all_eq_true.mp hm m h2
        rw [h1.1] at h3
        simp only [Option.isSome_none, Bool.false_or, Bool.or_eq_true, beq_iff_eq, Bool.not_eq_true'] at h3
        rcases h3 with h3 | h3
        · exact h3
        · have h4 := List.any_eq_false.mp h3 _ hp
          exact absurd h1.2 h4
    show ("module " ++ m.name ++ " of loader " ++ "'bootstrap'").toList.length ≤ 38
    rw [hn]
    decide
theorem castTx {s : State} (hm : modulesRight_1 s = true) {a b : Class} (ha : a.hidden = none) (hb : b.hidden = none) (hla : a.loader = none) (hlb : b.loader = none) (hpa : packageOf a.name ∈ castPackages_1) (hpb : packageOf b.name ∈ castPackages_1) (ga : (dotted a.name).toList.length ≤ 20) (gb : (dotted b.name).toList.length ≤ 20) : (stringBytes (stringToUtf16 (checkcast.message s.vm a b))).size ≤ 1000 ∧ (checkcast.message s.vm a b == notModelled) = false := by
  have sa : a.shown = dotted a.name := by unfold Class.shown; rw [ha]
  have sb : b.shown = dotted b.name := by unfold Class.shown; rw [hb]
  have h1 := homeZ hm hla hpa
  have h2 := homeZ hm hlb hpb
  have hh : (s.vm.homes a b).toList.length ≤ 140 := by
    unfold Vm.homes
    rw [sa, sb]
    split
    · show (toString (dotted a.name) ++ toString " and " ++ toString (dotted b.name) ++ toString " are in " ++ toString (s.vm.home a)).toList.length ≤ 140
      simp only [String.toList_append, List.length_append]
      have a1 : (toString " and ").toList.length = 5 := by decide
      have a2 : (toString " are in ").toList.length = 8 := by decide
      have a3 : (toString (dotted a.name)).toList.length ≤ 20 := ga
      have a4 : (toString (dotted b.name)).toList.length ≤ 20 := gb
      have a5 : (toString (s.vm.home a)).toList.length ≤ 38 := h1
      omega
    · show (toString (dotted a.name) ++ toString " is in " ++ toString (s.vm.home a) ++ toString "; " ++ toString (dotted b.name) ++ toString " is in " ++ toString (s.vm.home b)).toList.length ≤ 140
      simp only [String.toList_append, List.length_append]
      have a1 : (toString " is in ").toList.length = 7 := by decide
      have a2 : (toString "; ").toList.length = 2 := by decide
      have a3 : (toString (dotted a.name)).toList.length ≤ 20 := ga
      have a4 : (toString (dotted b.name)).toList.length ≤ 20 := gb
      have a5 : (toString (s.vm.home a)).toList.length ≤ 38 := h1
      have a6 : (toString (s.vm.home b)).toList.length ≤ 38 := h2
      omega
  have e : checkcast.message s.vm a b = toString "class " ++ toString (dotted a.name) ++ toString " cannot be cast to class " ++ toString (dotted b.name) ++ toString " (" ++ toString (s.vm.homes a b) ++ toString ")" := by
    unfold checkcast.message
    rw [sa, sb]
  refine ⟨?_, ?_⟩
  · have b1 := stringBytes_size_le (stringToUtf16 (checkcast.message s.vm a b))
    have b2 := utf16_size_le (checkcast.message s.vm a b)
    have b3 : (checkcast.message s.vm a b).toList.length ≤ 220 := by
      rw [e]
      simp only [String.toList_append, List.length_append]
      have a1 : (toString "class ").toList.length = 6 := by decide
      have a2 : (toString " cannot be cast to class ").toList.length = 25 := by decide
      have a3 : (toString (dotted a.name)).toList.length ≤ 20 := ga
      have a4 : (toString (dotted b.name)).toList.length ≤ 20 := gb
      have a5 : (toString " (").toList.length = 2 := by decide
      have a6 : (toString ")").toList.length = 1 := by decide
      have a7 : (toString (s.vm.homes a b)).toList.length ≤ 140 := hh
      omega
    omega
  · rw [beq_eq_false_iff_ne]
    intro h
    have h2 := congrArg (fun t => t.toList.head?) h
    rw [e] at h2
    simp only [String.toList_append] at h2
    have h4 : notModelled.toList.head? = some '\u0000' := by decide
    have h5 : (toString "class ").toList = 'c' :: "lass ".toList := by decide
    rw [h4, h5] at h2
    simp at h2
theorem int_print (i : Int) (h : -(2 : Int) ^ 33 ≤ i ∧ i ≤ 2 ^ 33) : (toString i).toList.length ≤ 11 := by
  show (Int.repr i).toList.length ≤ 11
  cases i with
  | ofNat m =>
    have h1 : (m : Int) ≤ 2 ^ 33 := h.2
    have := nat_print (n := m) (by omega)
    show (toString m).toList.length ≤ 11
    omega
  | negSucc m =>
    have h2' : -(2 : Int) ^ 33 ≤ -((m : Int) + 1) := by simpa [Int.negSucc_eq] using h.1
    have := nat_print (n := m.succ) (by omega)
    show ("-" ++ toString m.succ).toList.length ≤ 11
    rw [String.toList_append, List.length_append]
    have h0 : "-".toList.length = 1 := by decide
    omega
/-- the text of a copy out of bounds -/
def acTxt (sp dp n : Int32) (a b : Nat) : Option String :=
  if sp < 0 then some (toString "source index " ++ toString sp ++ toString " out of bounds for " ++ toString (toString (Native.java_lang_System.arraycopy.kindName .int) ++ toString "[" ++ toString a ++ toString "]"))
  else if dp < 0 then some (toString "destination index " ++ toString dp ++ toString " out of bounds for " ++ toString (toString (Native.java_lang_System.arraycopy.kindName .int) ++ toString "[" ++ toString b ++ toString "]"))
  else if n < 0 then some (toString "length " ++ toString n ++ toString " is negative")
  else if sp.toInt + n.toInt > a then some (toString "last source index " ++ toString (sp.toInt + n.toInt) ++ toString " out of bounds for " ++ toString (toString (Native.java_lang_System.arraycopy.kindName .int) ++ toString "[" ++ toString a ++ toString "]"))
  else if dp.toInt + n.toInt > b then some (toString "last destination index " ++ toString (dp.toInt + n.toInt) ++ toString " out of bounds for " ++ toString (toString (Native.java_lang_System.arraycopy.kindName .int) ++ toString "[" ++ toString b ++ toString "]"))
  else none
theorem acOut {E : CtlPost} {e : Env} {d : Bool} {acts : List Action} {s : State} {src dst : Addr} {sp dp n : Int32} {cs cd : Cell} {ks kd : Class} {sComp dComp : ClassId} {Q : Option Value → Pre} (hs : s.heap[src]? = some cs) (hd : s.heap[dst]? = some cd) (hsobj : ∀ k, cs.vm ≠ .statics k) (hdobj : ∀ k, cd.vm ≠ .statics k)
    (hks : s.vm.classes[cs.cls]? = some ks) (hkd : s.vm.classes[cd.cls]? = some kd) (hsk : ks.kind = .array sComp .int) (hdk : kd.kind = .array dComp .int) {what : String} (hw : acTxt sp dp n cs.slots.size cd.slots.size = some what)
    (hE : ∀ acts', E (.throwNew "java/lang/ArrayIndexOutOfBoundsException" (some ("arraycopy: " ++ what))) acts' s) : wp (Native.java_lang_System.arraycopy.sem #[.ref src, .int sp, .ref dst, .int dp, .int n]) Q E e d acts s := by
  rw [Native.java_lang_System.arraycopy.sem_refs]
  unfold Native.java_lang_System.arraycopy.behind
  simp only [wp_bind', W.classOf, W.theClass, hs, hd, hks, hkd, Option.some.injEq, exists_eq_left', hsk, hdk]
  refine ⟨hsobj, hdobj, ?_⟩
  have e1 : ((false != false) || (!false && (FieldType.int != FieldType.int))) = false := by decide
  simp only [e1, Bool.false_eq_true, if_false]
  simp only [wp_bind', W.sizeOf, hs, hd, Option.some.injEq, exists_eq_left']
  unfold acTxt at hw
  rw [hw]
  simp only [mark, throwNew, wp_bind', wp_mark, wp_pure, wp_ctl]
  exact ⟨rfl, by simp [Control.restarts], hE _⟩
theorem acTxt_ok {sp dp n : Int32} {a b : Nat} (ha : a ≤ 65536) (hb : b ≤ 65536) {what : String} (hw : acTxt sp dp n a b = some what) : (stringBytes (stringToUtf16 ("arraycopy: " ++ what))).size ≤ 1000 ∧ (("arraycopy: " ++ what) == notModelled) = false := by
  have hk : ∀ {c : Nat}, c ≤ 65536 → (toString (toString (Native.java_lang_System.arraycopy.kindName .int) ++ toString "[" ++ toString c ++ toString "]")).toList.length ≤ 20 := by
    intro c hc
    show (toString "int" ++ toString "[" ++ toString c ++ toString "]").toList.length ≤ 20
    simp only [String.toList_append, List.length_append]
    have a1 : (toString "int").toList.length = 3 := by decide
    have a2 : (toString "[").toList.length = 1 := by decide
    have a3 : (toString "]").toList.length = 1 := by decide
    have a4 := nat_print (n := c) (by omega)
    omega
  have hka := hk ha
  have hkb := hk hb
  have i1 := int32_print sp
  have i2 := int32_print dp
  have i3 := int32_print n
  have l1 := Int32.toInt_lt sp
  have l2 := Int32.le_toInt sp
  have l3 := Int32.toInt_lt dp
  have l4 := Int32.le_toInt dp
  have l5 := Int32.toInt_lt n
  have l6 := Int32.le_toInt n
  have i4 := int_print (sp.toInt + n.toInt) (by omega)
  have i5 := int_print (dp.toInt + n.toInt) (by omega)
  have hl : what.toList.length ≤ 100 := by
    unfold acTxt at hw
    split at hw
    · cases hw
      show (toString "source index " ++ toString sp ++ toString " out of bounds for " ++ toString (toString (Native.java_lang_System.arraycopy.kindName .int) ++ toString "[" ++ toString a ++ toString "]")).toList.length ≤ 100
      simp only [String.toList_append, List.length_append]
      have a1 : (toString "source index ").toList.length = 13 := by decide
      have a2 : (toString " out of bounds for ").toList.length = 19 := by decide
      omega
    · split at hw
      · cases hw
        show (toString "destination index " ++ toString dp ++ toString " out of bounds for " ++ toString (toString (Native.java_lang_System.arraycopy.kindName .int) ++ toString "[" ++ toString b ++ toString "]")).toList.length ≤ 100
        simp only [String.toList_append, List.length_append]
        have a1 : (toString "destination index ").toList.length = 18 := by decide
        have a2 : (toString " out of bounds for ").toList.length = 19 := by decide
        omega
      · split at hw
        · cases hw
          show (toString "length " ++ toString n ++ toString " is negative").toList.length ≤ 100
          simp only [String.toList_append, List.length_append]
          have a1 : (toString "length ").toList.length = 7 := by decide
          have a2 : (toString " is negative").toList.length = 12 := by decide
          omega
        · split at hw
          · cases hw
            show (toString "last source index " ++ toString (sp.toInt + n.toInt) ++ toString " out of bounds for " ++ toString (toString (Native.java_lang_System.arraycopy.kindName .int) ++ toString "[" ++ toString a ++ toString "]")).toList.length ≤ 100
            simp only [String.toList_append, List.length_append]
            have a1 : (toString "last source index ").toList.length = 18 := by decide
            have a2 : (toString " out of bounds for ").toList.length = 19 := by decide
            omega
          · split at hw
            · cases hw
              show (toString "last destination index " ++ toString (dp.toInt + n.toInt) ++ toString " out of bounds for " ++ toString (toString (Native.java_lang_System.arraycopy.kindName .int) ++ toString "[" ++ toString b ++ toString "]")).toList.length ≤ 100
              simp only [String.toList_append, List.length_append]
              have a1 : (toString "last destination index ").toList.length = 23 := by decide
              have a2 : (toString " out of bounds for ").toList.length = 19 := by decide
              omega
            · cases hw
  refine ⟨?_, ?_⟩
  · have b1 := stringBytes_size_le (stringToUtf16 ("arraycopy: " ++ what))
    have b2 := utf16_size_le ("arraycopy: " ++ what)
    rw [String.toList_append, List.length_append] at b2
    have a1 : "arraycopy: ".toList.length = 11 := by decide
    omega
  · rw [beq_eq_false_iff_ne]
    intro h
    have h2 := congrArg (fun t => t.toList.head?) h
    simp only [String.toList_append] at h2
    have h4 : notModelled.toList.head? = some '\u0000' := by decide
    have h5 : "arraycopy: ".toList = 'a' :: "rraycopy: ".toList := by decide
    rw [h4, h5] at h2
    simp at h2
theorem acTxt_some {sp dp n : Int32} {a b : Nat} (h : ¬ (¬ sp < 0 ∧ ¬ dp < 0 ∧ ¬ n < 0 ∧ sp.toNatClampNeg + n.toNatClampNeg ≤ a ∧ dp.toNatClampNeg + n.toNatClampNeg ≤ b)) : ∃ what, acTxt sp dp n a b = some what := by
  unfold acTxt
  by_cases h1 : sp < 0
  · exact ⟨_, if_pos h1⟩
  rw [if_neg h1]
  by_cases h2 : dp < 0
  · exact ⟨_, if_pos h2⟩
  rw [if_neg h2]
  by_cases h3 : n < 0
  · exact ⟨_, if_pos h3⟩
  rw [if_neg h3]
  have e1 := nonneg32 sp h1
  have e2 := nonneg32 dp h2
  have e3 := nonneg32 n h3
  by_cases h4 : sp.toInt + n.toInt > a
  · exact ⟨_, if_pos h4⟩
  rw [if_neg h4]
  by_cases h5 : dp.toInt + n.toInt > b
  · exact ⟨_, if_pos h5⟩
  exact absurd ⟨h1, h2, h3, by omega, by omega⟩ h
