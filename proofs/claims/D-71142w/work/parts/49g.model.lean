/-! ONE STATE FOR BOTH SIDES -/
/-- the library, acts and how many, images and which are there, rows, tape and how many bytes, the latest fault, the trail, the status -/
abbrev XS : Type := St × (Nat → St) × Nat × (Nat → St) × (Nat → Bool) × (Nat → Option (Nat × Nat × (Nat → Int32))) × (Nat → Nat) × Nat × Nat × List Nat × Nat
def xs (X : XS) : St := X.1
def xA (X : XS) : Nat → St := X.2.1
def xm (X : XS) : Nat := X.2.2.1
def xB (X : XS) : Nat → St := X.2.2.2.1
def xk (X : XS) : Nat → Bool := X.2.2.2.2.1
def xr (X : XS) : Nat → Option (Nat × Nat × (Nat → Int32)) := X.2.2.2.2.2.1
def xt (X : XS) : Nat → Nat := X.2.2.2.2.2.2.1
def xn (X : XS) : Nat := X.2.2.2.2.2.2.2.1
def xl (X : XS) : Nat := X.2.2.2.2.2.2.2.2.1
def xy (X : XS) : List Nat := X.2.2.2.2.2.2.2.2.2.1
def xu (X : XS) : Nat := X.2.2.2.2.2.2.2.2.2.2
def us (X : XS) (v : St) : XS := (v, X.2)
def uA (X : XS) (v : Nat → St) : XS := (X.1, v, X.2.2)
def um (X : XS) (v : Nat) : XS := (X.1, X.2.1, v, X.2.2.2)
def uB (X : XS) (v : Nat → St) : XS := (X.1, X.2.1, X.2.2.1, v, X.2.2.2.2)
def uk (X : XS) (v : Nat → Bool) : XS := (X.1, X.2.1, X.2.2.1, X.2.2.2.1, v, X.2.2.2.2.2)
def ur (X : XS) (v : Nat → Option (Nat × Nat × (Nat → Int32))) : XS := (X.1, X.2.1, X.2.2.1, X.2.2.2.1, X.2.2.2.2.1, v, X.2.2.2.2.2.2)
def ut (X : XS) (v : Nat → Nat) : XS := (X.1, X.2.1, X.2.2.1, X.2.2.2.1, X.2.2.2.2.1, X.2.2.2.2.2.1, v, X.2.2.2.2.2.2.2)
def un (X : XS) (v : Nat) : XS := (X.1, X.2.1, X.2.2.1, X.2.2.2.1, X.2.2.2.2.1, X.2.2.2.2.2.1, X.2.2.2.2.2.2.1, v, X.2.2.2.2.2.2.2.2)
def ul (X : XS) (v : Nat) : XS := (X.1, X.2.1, X.2.2.1, X.2.2.2.1, X.2.2.2.2.1, X.2.2.2.2.2.1, X.2.2.2.2.2.2.1, X.2.2.2.2.2.2.2.1, v, X.2.2.2.2.2.2.2.2.2)
def uy (X : XS) (v : List Nat) : XS := (X.1, X.2.1, X.2.2.1, X.2.2.2.1, X.2.2.2.2.1, X.2.2.2.2.2.1, X.2.2.2.2.2.2.1, X.2.2.2.2.2.2.2.1, X.2.2.2.2.2.2.2.2.1, v, X.2.2.2.2.2.2.2.2.2.2)
def uu (X : XS) (v : Nat) : XS := (X.1, X.2.1, X.2.2.1, X.2.2.2.1, X.2.2.2.2.1, X.2.2.2.2.2.1, X.2.2.2.2.2.2.1, X.2.2.2.2.2.2.2.1, X.2.2.2.2.2.2.2.2.1, X.2.2.2.2.2.2.2.2.2.1, v)
/-- a state as it may be -/
def XOK (X : XS) : Prop := (WF (xs X) ∧ (xs X 4 : Nat) ≤ 999) ∧ (xm X ≤ 24 ∧ ∀ k, k < xm X → WF (xA X k) ∧ (xA X k 4 : Nat) ≤ 999 ∧ 0 < (xA X k 2 : Nat) ∧ 0 < (xs X 2 : Nat)) ∧ (∀ k, k < 2 → xk X k = true → WF (xB X k) ∧ (xB X k 4 : Nat) ≤ 999 ∧ 0 < (xB X k 2 : Nat) ∧ 0 < (xs X 2 : Nat)) ∧ (∀ r, r < 8 → ∀ q, xr X r = some q → q.1 ≤ 2 ∧ q.2.1 ≤ 40) ∧ ((∀ i, xt X i < 256) ∧ xn X ≤ 120) ∧ ((xy X).length ≤ 16 ∧ ∀ y ∈ xy X, y < 100) ∧ xu X ≤ 5 ∧ xl X ≤ 3
/-- what the twin's other cells hold of it -/
def TIx (X : XS) (I : Nat → Nat → Int32) (F : Nat → Int32) : Prop :=
  (∀ r, r < 8 → (∀ q, xr X r = some q → I 1 r = nI q.1 ∧ I 2 r = nI q.2.1 ∧ ∀ i, i < q.2.1 → I 3 (40 * r + i) = q.2.2 i) ∧ (xr X r = none → I 2 r = zI (-1))) ∧
  (∀ k, k < 2 → I 13 k = bI (xk X k = true)) ∧ (∀ i, i < (xy X).length → I 15 i = nI ((xy X).getD i 0)) ∧ (F 76 = nI (xu X) ∧ F 78 = bI (0 < (xs X 2 : Nat)) ∧ F 86 = nI (xn X) ∧ F 88 = nI (xl X) ∧ F 106 = nI (xm X) ∧ F 120 = nI (xy X).length)
def TW (b : Hp) (o : Nat) (X : XS) (g : Nat → Nat) (w r : St) (l z : Nat → Nat) (I : Nat → Nat → Int32) (F : Nat → Int32) : Hp := TH b o (xs X) g w r (xA X) (xB X) (xt X) l z I F
/-- a method of the twin answers v and takes X to X' -/
def TOp (m : Cd) (ls : List Value) (o : Nat) (X : XS) (v : Value) (X' : XS) : Prop := ∀ b g w r l z I F, TIx X I F → ∃ g' w' r' l' z' I' F', TIx X' I' F' ∧ ∀ Q : Po, Ex m Q 0 (.ref o :: ls) [] (TW b o X g w r l z I F) = Q (.inl (some v)) (TW b o X' g' w' r' l' z' I' F')
/-- it is kept, ahead of an act -/
def noteX (X : XS) : XS := um (uA X (noteA (xA X) (xm X) (xs X))) (noteM (xm X))
theorem TOp.q {m : Cd} {ls : List Value} {o : Nat} {X : XS} {v : Value} (h : ∀ b g w r l z I F, TIx X I F → ∃ g' w', ∀ Q : Po, Ex m Q 0 (.ref o :: ls) [] (TH b o (xs X) g w r (xA X) (xB X) (xt X) l z I F) = Q (.inl (some v)) (TH b o (xs X) g' w' r (xA X) (xB X) (xt X) l z I F)) : TOp m ls o X v X := by
  intro b g w r l z I F hI
  obtain ⟨g', w', h'⟩ := h b g w r l z I F hI
  exact ⟨g', w', r, l, z, I, F, hI, h'⟩
section TO
variable (o : Nat) (X : XS) (hX : XOK X)
theorem o_ahead (hX : XOK X) (x n v : Int32) : TOp mX9_ahead [.int x, .int n, .int v, .retAddr 0] o X (.int (sp_ahead (xs X) x n v)) X := TOp.q (fun b g w r l z I F _ => t_ahead b o (xs X) g w r (xA X) (xB X) (xt X) l z I F hX.1.1 hX.1.2 x n v)
theorem o_later (hX : XOK X) (x n v : Int32) : TOp mX9_later [.int x, .int n, .int v, .retAddr 0] o X (.int (sp_later (xs X) x n v)) X := TOp.q (fun b g w r l z I F _ => t_later b o (xs X) g w r (xA X) (xB X) (xt X) l z I F hX.1.1 hX.1.2 x n v)
theorem o_when (hX : XOK X) (x : Int32) : TOp mX9_when [.int x, .retAddr 0, .retAddr 0] o X (.int (sp_when (xs X) x)) X := TOp.q (fun b g w r l z I F _ => t_when b o (xs X) g w r (xA X) (xB X) (xt X) l z I F hX.1.1 hX.1.2 x)
theorem o_first (hX : XOK X) (v : Int32) : TOp mX9_first [.int v, .retAddr 0, .retAddr 0, .retAddr 0] o X (.int (sp_first (xs X) v)) X := TOp.q (fun b g w r l z I F hI => t_first b o (xs X) g w r (xA X) (xB X) (xt X) l z I F hX.1.1 hX.1.2 hI.2.2.2.2.1 v)
theorem o_hole (hX : XOK X) (x n : Int32) : TOp mX9_hole [.int x, .int n] o X (.int (sp_hole (xs X) x n)) X := TOp.q (fun b g w r l z I F _ => t_hole b o (xs X) g w r (xA X) (xB X) (xt X) l z I F hX.1.1 hX.1.2 x n)
theorem o_order (hX : XOK X) (x n v : Int32) : TOp mX9_order [.int x, .int n, .int v, .retAddr 0, .retAddr 0, .retAddr 0, .retAddr 0] o X (.int (sp_order (xs X) x n v)) X := by
  intro b g w r l z I F hI
  obtain ⟨g', w', l', z', h⟩ := t_order b o (xs X) g w r (xA X) (xB X) (xt X) l z I F hX.1.1 hX.1.2 hI.2.2.2.2.1 x n v
  exact ⟨g', w', r, l', z', I, F, hI, h⟩
theorem o_lamp (hX : XOK X) (x n v : Int32) : TOp mX9_lamp [.int x, .int n, .int v, .retAddr 0, .retAddr 0, .retAddr 0, .retAddr 0] o X (.int (sp_lamp (xs X) x n v)) X := TOp.q (fun b g w r l z I F _ => t_lamp b o (xs X) g w r (xA X) (xB X) (xt X) l z I F hX.1.1 hX.1.2 x n v)
theorem o_caught (hX : XOK X) (x n v : Int32) : TOp mX9_caught [.int x, .int n, .int v, .retAddr 0, .retAddr 0] o X (.int (sp_caught (xs X) x n v)) X := TOp.q (fun b g w r l z I F _ => t_caught b o (xs X) g w r (xA X) (xB X) (xt X) l z I F hX.1.1 hX.1.2 x n v)
theorem o_grams (hX : XOK X) (x n : Int32) : TOp mX9_grams [.int x, .int n, .retAddr 0, .retAddr 0, .retAddr 0, .retAddr 0] o X (.int (sp_grams (xs X) x n)) X := TOp.q (fun b g w r l z I F _ => t_grams b o (xs X) g w r (xA X) (xB X) (xt X) l z I F hX.1.1 hX.1.2 x n)
theorem o_dark (hX : XOK X) (x n e v : Int32) : TOp mX9_dark [.int x, .int n, .int e, .int v, .retAddr 0, .retAddr 0, .retAddr 0, .retAddr 0, .retAddr 0, .retAddr 0, .retAddr 0, .retAddr 0, .retAddr 0, .retAddr 0, .retAddr 0] o X (.long (sp_dark (xs X) x n e v)) X := TOp.q (fun b g w r l z I F _ => t_dark b o (xs X) g w r (xA X) (xB X) (xt X) l z I F hX.1.1 hX.1.2 x n e v)
theorem o_drawn (hX : XOK X) (n e v : Int32) : TOp mX9_drawn [.int n, .int e, .int v, .retAddr 0, .retAddr 0, .retAddr 0, .retAddr 0] o X (.int (sp_drawn (xs X) n e v)) X := TOp.q (fun b g w r l z I F hI => t_drawn b o (xs X) g w r (xA X) (xB X) (xt X) l z I F hX.1.1 hX.1.2 hI.2.2.2.2.1 n e v)
theorem o_book (hX : XOK X) (x v : Int32) : TOp mX9_book [.int x, .int v] o X (.int (sp_book (xs X) x v)) X := TOp.q (fun b g w r l z I F _ => t_book b o (xs X) g w r (xA X) (xB X) (xt X) l z I F hX.1.1 hX.1.2 x v)
theorem o_fish (hX : XOK X) (x v : Int32) : TOp mX9_fish [.int x, .int v] o X (.int (sp_fish (xs X) x v)) X := TOp.q (fun b g w r l z I F _ => t_fish b o (xs X) g w r (xA X) (xB X) (xt X) l z I F hX.1.1 hX.1.2 x v)
theorem o_stand (hX : XOK X) (v : Int32) : TOp mX9_stand [.int v] o X (.int (sp_stand (xs X) v)) X := TOp.q (fun b g w r l z I F hI => t_stand b o (xs X) g w r (xA X) (xB X) (xt X) l z I F hX.1.1 hX.1.2 hI.2.2.2.2.1 v)
theorem o_kind (hX : XOK X) (x : Int32) : TOp mX9_kind [.int x] o X (.int (sp_kind (xs X) x)) X := TOp.q (fun b g w r l z I F _ => t_kind b o (xs X) g w r (xA X) (xB X) (xt X) l z I F hX.1.1 hX.1.2 x)
end TO
