/-! OUR OWN SMALL MACHINE: heap, methods as lists of instruction meanings, the least predicate closed under steps -/
/-- the heap: kinds, lengths, fields (by field number, then address), int contents, reference contents, next address, cells and slots still free -/
abbrev Hp : Type := (Nat → Nat) × (Nat → Nat) × (Nat → Nat → Value) × (Nat → Nat → Int32) × (Nat → Nat → Option Nat) × Nat × Nat × Nat
def gK (h : Hp) (a : Nat) : Nat := h.1 a
def gL (h : Hp) (a : Nat) : Nat := h.2.1 a
def gF (h : Hp) (f a : Nat) : Value := h.2.2.1 f a
def gI (h : Hp) (a i : Nat) : Int32 := h.2.2.2.1 a i
def gR (h : Hp) (a i : Nat) : Option Nat := h.2.2.2.2.1 a i
def gN (h : Hp) : Nat := h.2.2.2.2.2.1
def gC (h : Hp) : Nat := h.2.2.2.2.2.2.1
def gS (h : Hp) : Nat := h.2.2.2.2.2.2.2
/-- a field's default: fields of references have odd numbers, the others even ones -/
def fDef (f : Nat) : Value := if f % 2 = 1 then .null else .int 0
def pF (h : Hp) (f a : Nat) (v : Value) : Hp := (h.1, h.2.1, fun g b => if g = f ∧ b = a then v else h.2.2.1 g b, h.2.2.2)
def pI (h : Hp) (a i : Nat) (v : Int32) : Hp := (h.1, h.2.1, h.2.2.1, fun b j => if b = a ∧ j = i then v else h.2.2.2.1 b j, h.2.2.2.2)
def pR (h : Hp) (a i : Nat) (v : Option Nat) : Hp := (h.1, h.2.1, h.2.2.1, h.2.2.2.1, fun b j => if b = a ∧ j = i then v else h.2.2.2.2.1 b j, h.2.2.2.2.2)
def pC (h : Hp) (a : Nat) (g : Nat → Int32) : Hp := (h.1, h.2.1, h.2.2.1, fun b j => if b = a then g j else h.2.2.2.1 b j, h.2.2.2.2)
def nO (h : Hp) (k n : Nat) : Hp := (fun b => if b = gN h then k else h.1 b, h.2.1, fun g b => if b = gN h then fDef g else h.2.2.1 g b, h.2.2.2.1, h.2.2.2.2.1, gN h + 1, gC h - 1, gS h - n)
def nA (h : Hp) (k n : Nat) : Hp := (fun b => if b = gN h then k else h.1 b, fun b => if b = gN h then n else h.2.1 b, h.2.2.1, fun b j => if b = gN h then 0 else h.2.2.2.1 b j, h.2.2.2.2.1, gN h + 1, gC h - 1, gS h - n)
def nR (h : Hp) (k n : Nat) : Hp := (fun b => if b = gN h then k else h.1 b, fun b => if b = gN h then n else h.2.1 b, h.2.2.1, h.2.2.2.1, fun b j => if b = gN h then none else h.2.2.2.2.1 b j, gN h + 1, gC h - 1, gS h - n)
section HP
variable (h : Hp) (a b f g i j k n : Nat) (v : Value) (x : Int32) (o : Option Nat) (c : Nat → Int32)
theorem gK_pF : gK (pF h f a v) b = gK h b := rfl
theorem gK_pI : gK (pI h a i x) b = gK h b := rfl
theorem gK_pR : gK (pR h a i o) b = gK h b := rfl
theorem gK_pC : gK (pC h a c) b = gK h b := rfl
theorem gK_nO : gK (nO h k n) b = if b = gN h then k else gK h b := rfl
theorem gK_nA : gK (nA h k n) b = if b = gN h then k else gK h b := rfl
theorem gK_nR : gK (nR h k n) b = if b = gN h then k else gK h b := rfl
theorem gL_pF : gL (pF h f a v) b = gL h b := rfl
theorem gL_pI : gL (pI h a i x) b = gL h b := rfl
theorem gL_pR : gL (pR h a i o) b = gL h b := rfl
theorem gL_pC : gL (pC h a c) b = gL h b := rfl
theorem gL_nO : gL (nO h k n) b = gL h b := rfl
theorem gL_nA : gL (nA h k n) b = if b = gN h then n else gL h b := rfl
theorem gL_nR : gL (nR h k n) b = if b = gN h then n else gL h b := rfl
theorem gF_pF : gF (pF h f a v) g b = if g = f ∧ b = a then v else gF h g b := rfl
theorem gF_pI : gF (pI h a i x) g b = gF h g b := rfl
theorem gF_pR : gF (pR h a i o) g b = gF h g b := rfl
theorem gF_pC : gF (pC h a c) g b = gF h g b := rfl
theorem gF_nO : gF (nO h k n) g b = if b = gN h then fDef g else gF h g b := rfl
theorem gF_nA : gF (nA h k n) g b = gF h g b := rfl
theorem gF_nR : gF (nR h k n) g b = gF h g b := rfl
theorem gI_pF : gI (pF h f a v) b j = gI h b j := rfl
theorem gI_pI : gI (pI h a i x) b j = if b = a ∧ j = i then x else gI h b j := rfl
theorem gI_pR : gI (pR h a i o) b j = gI h b j := rfl
theorem gI_pC : gI (pC h a c) b j = if b = a then c j else gI h b j := rfl
theorem gI_nO : gI (nO h k n) b j = gI h b j := rfl
theorem gI_nA : gI (nA h k n) b j = if b = gN h then 0 else gI h b j := rfl
theorem gI_nR : gI (nR h k n) b j = gI h b j := rfl
theorem gR_pF : gR (pF h f a v) b j = gR h b j := rfl
theorem gR_pI : gR (pI h a i x) b j = gR h b j := rfl
theorem gR_pR : gR (pR h a i o) b j = if b = a ∧ j = i then o else gR h b j := rfl
theorem gR_pC : gR (pC h a c) b j = gR h b j := rfl
theorem gR_nO : gR (nO h k n) b j = gR h b j := rfl
theorem gR_nA : gR (nA h k n) b j = gR h b j := rfl
theorem gR_nR : gR (nR h k n) b j = if b = gN h then none else gR h b j := rfl
theorem gN_pF : gN (pF h f a v) = gN h := rfl
theorem gN_pI : gN (pI h a i x) = gN h := rfl
theorem gN_pR : gN (pR h a i o) = gN h := rfl
theorem gN_pC : gN (pC h a c) = gN h := rfl
theorem gN_nO : gN (nO h k n) = gN h + 1 := rfl
theorem gN_nA : gN (nA h k n) = gN h + 1 := rfl
theorem gN_nR : gN (nR h k n) = gN h + 1 := rfl
theorem gC_pF : gC (pF h f a v) = gC h := rfl
theorem gC_pI : gC (pI h a i x) = gC h := rfl
theorem gC_pR : gC (pR h a i o) = gC h := rfl
theorem gC_pC : gC (pC h a c) = gC h := rfl
theorem gC_nO : gC (nO h k n) = gC h - 1 := rfl
theorem gC_nA : gC (nA h k n) = gC h - 1 := rfl
theorem gC_nR : gC (nR h k n) = gC h - 1 := rfl
theorem gS_pF : gS (pF h f a v) = gS h := rfl
theorem gS_pI : gS (pI h a i x) = gS h := rfl
theorem gS_pR : gS (pR h a i o) = gS h := rfl
theorem gS_pC : gS (pC h a c) = gS h := rfl
theorem gS_nO : gS (nO h k n) = gS h - n := rfl
theorem gS_nA : gS (nA h k n) = gS h - n := rfl
theorem gS_nR : gS (nR h k n) = gS h - n := rfl
end HP
/-- how a method ends: it returned, or it threw -/
abbrev Rs : Type := Option Value ⊕ Nat
abbrev Po : Type := Rs → Hp → Prop
/-- what a call does: arguments, heap, what must hold behind it -/
abbrev Wm : Type := List Value → Hp → Po → Prop
/-- pc, locals, stack, heap -/
abbrev Fs : Type := Nat × List Value × List Value × Hp
/-- goes on, returns, throws -/
abbrev Ou : Type := Fs ⊕ (Option Value × Hp) ⊕ (Nat × Hp)
abbrev StepF : Type := List Value → List Value → Hp → Option Ou
abbrev CallF : Type := List Value → Hp → Option (Nat × List Value × List Value × Wm)
abbrev InF : Type := StepF ⊕ CallF
/-- a method: its instructions by their places, its handlers: where an exception at an address goes to from a pc -/
abbrev Cd : Type := List (Nat × InF) × (Nat → Nat → Hp → Option Nat)
def Thr (cd : Cd) (Q : Po) (P : Fs → Prop) (pc : Nat) (ls : List Value) (a : Nat) (h : Hp) : Prop := match cd.2 pc a h with
  | some pc' => P (pc', ls, [.ref a], h)
  | none => Q (.inr a) h
def Bak (cd : Cd) (Q : Po) (P : Fs → Prop) (pc : Nat) (ls : List Value) (len : Nat) (rest : List Value) (r : Rs) (h : Hp) : Prop := match r with
  | .inl v => P (len, ls, v.toList ++ rest, h)
  | .inr a => Thr cd Q P pc ls a h
def Oun (cd : Cd) (Q : Po) (P : Fs → Prop) (pc : Nat) (ls : List Value) (o : Ou) : Prop := match o with
  | .inl s => P s
  | .inr (.inl r) => Q (.inl r.1) r.2
  | .inr (.inr t) => Thr cd Q P pc ls t.1 t.2
def StpZ (cd : Cd) (Q : Po) (P : Fs → Prop) (s : Fs) : Prop := match cd.1.lookup s.1 with
  | none => False
  | some (.inl f) => ∃ o, f s.2.1 s.2.2.1 s.2.2.2 = some o ∧ Oun cd Q P s.1 s.2.1 o
  | some (.inr g) => ∃ q K, g s.2.2.1 s.2.2.2 = some q ∧ q.2.2.2 q.2.1 s.2.2.2 K ∧ ∀ r h, K r h → Bak cd Q P s.1 s.2.1 q.1 q.2.2.1 r h
def Ex (cd : Cd) (Q : Po) (pc : Nat) (ls st : List Value) (h : Hp) : Prop := ∀ P : Fs → Prop, (∀ s, StpZ cd Q P s → P s) → P (pc, ls, st, h)
theorem Thr_mono {cd : Cd} {Q Q' : Po} {P P' : Fs → Prop} (hQ : ∀ r h, Q r h → Q' r h) (hP : ∀ s, P s → P' s) {pc : Nat} {ls : List Value} {a : Nat} {h : Hp} : Thr cd Q P pc ls a h → Thr cd Q' P' pc ls a h := by
  unfold Thr
  cases cd.2 pc a h with
  | none => exact hQ _ _
  | some pc' => exact hP _
theorem Bak_mono {cd : Cd} {Q Q' : Po} {P P' : Fs → Prop} (hQ : ∀ r h, Q r h → Q' r h) (hP : ∀ s, P s → P' s) {pc : Nat} {ls : List Value} {len : Nat} {rest : List Value} {r : Rs} {h : Hp} : Bak cd Q P pc ls len rest r h → Bak cd Q' P' pc ls len rest r h := by
  unfold Bak
  cases r with
  | inl v => exact hP _
  | inr a => exact Thr_mono hQ hP
theorem Oun_mono {cd : Cd} {Q Q' : Po} {P P' : Fs → Prop} (hQ : ∀ r h, Q r h → Q' r h) (hP : ∀ s, P s → P' s) {pc : Nat} {ls : List Value} {o : Ou} : Oun cd Q P pc ls o → Oun cd Q' P' pc ls o := by
  unfold Oun
  rcases o with s | r | t
  · exact hP _
  · exact hQ _ _
  · exact Thr_mono hQ hP
theorem StpZ_mono {cd : Cd} {Q Q' : Po} {P P' : Fs → Prop} (hQ : ∀ r h, Q r h → Q' r h) (hP : ∀ s, P s → P' s) {s : Fs} : StpZ cd Q P s → StpZ cd Q' P' s := by
  unfold StpZ
  cases cd.1.lookup s.1 with
  | none => exact id
  | some i =>
    cases i with
    | inl f => exact fun ⟨o, h1, h2⟩ => ⟨o, h1, Oun_mono hQ hP h2⟩
    | inr g => exact fun ⟨q, K, h1, h2, h3⟩ => ⟨q, K, h1, h2, fun r h hk => Bak_mono hQ hP (h3 r h hk)⟩
/-- one step, as a sentence on the run -/
theorem Ex_eq (cd : Cd) (Q : Po) (pc : Nat) (ls st : List Value) (h : Hp) : Ex cd Q pc ls st h = StpZ cd Q (fun s => Ex cd Q s.1 s.2.1 s.2.2.1 s.2.2.2) (pc, ls, st, h) := by
  have hup : ∀ s : Fs, StpZ cd Q (fun s => Ex cd Q s.1 s.2.1 s.2.2.1 s.2.2.2) s → Ex cd Q s.1 s.2.1 s.2.2.1 s.2.2.2 := by
    intro s hs P hP
    exact hP _ (StpZ_mono (fun _ _ q => q) (fun s' (hE : Ex cd Q s'.1 s'.2.1 s'.2.2.1 s'.2.2.2) => hE P hP) hs)
  refine propext ⟨fun hE => ?_, fun hs => hup (pc, ls, st, h) hs⟩
  exact hE _ (fun s hs => StpZ_mono (fun _ _ q => q) hup hs)
theorem Ex_mono {cd : Cd} {Q Q' : Po} (hQ : ∀ r h, Q r h → Q' r h) {pc : Nat} {ls st : List Value} {h : Hp} (hE : Ex cd Q pc ls st h) : Ex cd Q' pc ls st h :=
  fun P hP => hE P (fun s hs => hP s (StpZ_mono hQ (fun _ q => q) hs))
/-- a method's entry: arguments into locals; a long's second place bears retAddr 1, what is unset retAddr 0 -/
def lcA : List Value → List Value
  | [] => []
  | v :: l => if v.category = 2 then v :: .retAddr 1 :: lcA l else v :: lcA l
def lcE (n : Nat) (as : List Value) : List Value := lcA as ++ List.replicate (n - (lcA as).length) (.retAddr 0)
def Mt (cd : Cd) (n : Nat) : Wm := fun as h K => Ex cd K 0 (lcE n as) [] h
section RULES
variable {cd : Cd} {Q : Po} {pc : Nat} {ls st : List Value} {h : Hp}
theorem Ex_nx {f : StepF} {pc' : Nat} {ls' st' : List Value} {h' : Hp} (hl : cd.1.lookup pc = some (.inl f)) (hf : f ls st h = some (.inl (pc', ls', st', h'))) : Ex cd Q pc ls st h = Ex cd Q pc' ls' st' h' := by
  rw [Ex_eq]
  simp only [StpZ, hl, hf]
  exact propext ⟨fun ⟨o, e, q⟩ => by cases e; exact q, fun q => ⟨_, rfl, q⟩⟩
theorem Ex_gd {f : StepF} {pc' : Nat} {ls' st' : List Value} {h' : Hp} {g : Prop} [Decidable g] (hl : cd.1.lookup pc = some (.inl f)) (hf : f ls st h = if g then some (.inl (pc', ls', st', h')) else none) : Ex cd Q pc ls st h = (g ∧ Ex cd Q pc' ls' st' h') := by
  rw [Ex_eq]
  simp only [StpZ, hl, hf]
  refine propext ⟨fun ⟨o, e, q⟩ => ?_, fun ⟨hg, q⟩ => ⟨_, if_pos hg, q⟩⟩
  by_cases hg : g
  · rw [if_pos hg] at e; cases e; exact ⟨hg, q⟩
  · rw [if_neg hg] at e; cases e
theorem Ex_br {f : StepF} {p1 p2 : Nat} {ls' st' : List Value} {h' : Hp} {g : Prop} [Decidable g] (hl : cd.1.lookup pc = some (.inl f)) (hf : f ls st h = some (.inl (if g then p1 else p2, ls', st', h'))) : Ex cd Q pc ls st h = if g then Ex cd Q p1 ls' st' h' else Ex cd Q p2 ls' st' h' := by
  rw [Ex_nx hl hf]
  by_cases hg : g
  · rw [if_pos hg, if_pos hg]
  · rw [if_neg hg, if_neg hg]
theorem Ex_rt {f : StepF} {v : Option Value} {h' : Hp} (hl : cd.1.lookup pc = some (.inl f)) (hf : f ls st h = some (.inr (.inl (v, h')))) : Ex cd Q pc ls st h = Q (.inl v) h' := by
  rw [Ex_eq]
  simp only [StpZ, hl, hf]
  exact propext ⟨fun ⟨o, e, q⟩ => by cases e; exact q, fun q => ⟨_, rfl, q⟩⟩
theorem Ex_th {f : StepF} {a : Nat} {h' : Hp} (hl : cd.1.lookup pc = some (.inl f)) (hf : f ls st h = some (.inr (.inr (a, h')))) : Ex cd Q pc ls st h = match cd.2 pc a h' with | some p => Ex cd Q p ls [.ref a] h' | none => Q (.inr a) h' := by
  rw [Ex_eq]
  simp only [StpZ, hl, hf]
  refine propext ⟨fun ⟨o, e, q⟩ => ?_, fun q => ⟨_, rfl, ?_⟩⟩
  · cases e
    simp only [Oun, Thr] at q
    cases hc : cd.2 pc a h' with
    | none => rw [hc] at q; exact q
    | some p => rw [hc] at q; exact q
  · simp only [Oun, Thr]
    cases hc : cd.2 pc a h' with
    | none => rw [hc] at q; exact q
    | some p => rw [hc] at q; exact q
/-- what comes behind a call -/
def Cont (cd : Cd) (Q : Po) (pc : Nat) (ls : List Value) (len : Nat) (rest : List Value) : Po := fun r h => match r with
  | .inl v => Ex cd Q len ls (v.toList ++ rest) h
  | .inr a => match cd.2 pc a h with
    | some p => Ex cd Q p ls [.ref a] h
    | none => Q (.inr a) h
theorem Cont_Bak {len : Nat} {rest : List Value} {r : Rs} {h1 : Hp} : Bak cd Q (fun s => Ex cd Q s.1 s.2.1 s.2.2.1 s.2.2.2) pc ls len rest r h1 ↔ Cont cd Q pc ls len rest r h1 := by
  unfold Bak Cont Thr
  rcases r with v | a
  · exact Iff.rfl
  · cases cd.2 pc a h1 <;> exact Iff.rfl
theorem Ex_cw {g : CallF} {len : Nat} {as rest : List Value} {w : Wm} (hl : cd.1.lookup pc = some (.inr g)) (hg : g st h = some (len, as, rest, w)) (hm : ∀ K K' : Po, (∀ r h, K r h → K' r h) → w as h K → w as h K') : Ex cd Q pc ls st h = w as h (Cont cd Q pc ls len rest) := by
  rw [Ex_eq]
  simp only [StpZ, hl, hg]
  refine propext ⟨fun ⟨q, K, e, h1, h2⟩ => ?_, fun q => ⟨_, _, rfl, q, fun r h1 hk => Cont_Bak.mpr hk⟩⟩
  cases e
  exact hm _ _ (fun r h1 hk => Cont_Bak.mp (h2 r h1 hk)) h1
theorem Cont_v {len : Nat} {rest : List Value} {v : Value} : Cont cd Q pc ls len rest (.inl (some v)) h = Ex cd Q len ls (v :: rest) h := rfl
theorem Cont_0 {len : Nat} {rest : List Value} : Cont cd Q pc ls len rest (.inl none) h = Ex cd Q len ls rest h := rfl
theorem Cont_t {len : Nat} {rest : List Value} {a : Nat} (hn : cd.2 pc a h = none) : Cont cd Q pc ls len rest (.inr a) h = Q (.inr a) h := by
  simp only [Cont, hn]
theorem Cont_h {len p : Nat} {rest : List Value} {a : Nat} (hn : cd.2 pc a h = some p) : Cont cd Q pc ls len rest (.inr a) h = Ex cd Q p ls [.ref a] h := by
  simp only [Cont, hn]
theorem Ex_rg {f : StepF} {v : Option Value} {h' : Hp} {g : Prop} [Decidable g] (hl : cd.1.lookup pc = some (.inl f)) (hf : f ls st h = if g then some (.inr (.inl (v, h'))) else none) : Ex cd Q pc ls st h = (g ∧ Q (.inl v) h') := by
  rw [Ex_eq]
  simp only [StpZ, hl, hf]
  refine propext ⟨fun ⟨o, e, q⟩ => ?_, fun ⟨hg, q⟩ => ⟨_, if_pos hg, q⟩⟩
  by_cases hg : g
  · rw [if_pos hg] at e; cases e; exact ⟨hg, q⟩
  · rw [if_neg hg] at e; cases e
theorem Mt_mono {cd : Cd} {n : Nat} (as : List Value) (h : Hp) (K K' : Po) (hK : ∀ r h, K r h → K' r h) (q : Mt cd n as h K) : Mt cd n as h K' := Ex_mono hK q
/-- a call of a method of ours -/
theorem Ex_cl {g : CallF} {len n : Nat} {as rest : List Value} {c2 : Cd} (hl : cd.1.lookup pc = some (.inr g)) (hg : g st h = some (len, as, rest, Mt c2 n)) : Ex cd Q pc ls st h = Ex c2 (Cont cd Q pc ls len rest) 0 (lcE n as) [] h := Ex_cw hl hg (fun K K' => Mt_mono as h K K')
theorem Ex_cg {g : CallF} {len n : Nat} {as rest : List Value} {c2 : Cd} {b : Prop} [Decidable b] (hl : cd.1.lookup pc = some (.inr g)) (hg : g st h = if b then some (len, as, rest, Mt c2 n) else none) : Ex cd Q pc ls st h = (b ∧ Ex c2 (Cont cd Q pc ls len rest) 0 (lcE n as) [] h) := by
  by_cases hb : b
  · rw [if_pos hb] at hg
    rw [Ex_cl hl hg]
    exact propext ⟨fun q => ⟨hb, q⟩, fun q => q.2⟩
  · rw [if_neg hb] at hg
    rw [Ex_eq]
    simp only [StpZ, hl, hg]
    exact propext ⟨fun ⟨q, K, e, _⟩ => (by cases e), fun q => absurd q.1 hb⟩
end RULES
