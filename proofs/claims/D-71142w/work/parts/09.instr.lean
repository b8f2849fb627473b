/-! WHAT THE INSTRUCTIONS DO on our machine; n: the place of the next one -/
def i_push (v : Value) (n : Nat) : StepF := fun ls st h => some (.inl (n, ls, v :: st, h))
def i_iload (i n : Nat) : StepF := fun ls st h => match ls[i]? with
  | some (.int x) => some (.inl (n, ls, .int x :: st, h))
  | _ => none
def i_lload (i n : Nat) : StepF := fun ls st h => match ls[i]?, ls[i + 1]? with
  | some (.long x), some (.retAddr 1) => some (.inl (n, ls, .long x :: st, h))
  | _, _ => none
def i_aload (i n : Nat) : StepF := fun ls st h => match ls[i]? with
  | some (.ref x) => some (.inl (n, ls, .ref x :: st, h))
  | some .null => some (.inl (n, ls, .null :: st, h))
  | _ => none
def i_istore (i n : Nat) : StepF := fun ls st h => match st with
  | .int x :: st => if i < ls.length then some (.inl (n, ls.set i (.int x), st, h)) else none
  | _ => none
def i_lstore (i n : Nat) : StepF := fun ls st h => match st with
  | .long x :: st => if i + 1 < ls.length then some (.inl (n, (ls.set i (.long x)).set (i + 1) (.retAddr 1), st, h)) else none
  | _ => none
def i_astore (i n : Nat) : StepF := fun ls st h => match st with
  | .ref x :: st => if i < ls.length then some (.inl (n, ls.set i (.ref x), st, h)) else none
  | .null :: st => if i < ls.length then some (.inl (n, ls.set i .null, st, h)) else none
  | _ => none
def i_iinc (i : Nat) (d : Int32) (n : Nat) : StepF := fun ls st h => match ls[i]? with
  | some (.int x) => some (.inl (n, ls.set i (.int (x + d)), st, h))
  | _ => none
def i_bin (f : Int32 → Int32 → Int32) (n : Nat) : StepF := fun ls st h => match st with
  | .int y :: .int x :: st => some (.inl (n, ls, .int (f x y) :: st, h))
  | _ => none
def i_bing (f : Int32 → Int32 → Int32) (n : Nat) : StepF := fun ls st h => match st with
  | .int y :: .int x :: st => if ¬ y = 0 then some (.inl (n, ls, .int (f x y) :: st, h)) else none
  | _ => none
def i_lbin (f : Int64 → Int64 → Int64) (n : Nat) : StepF := fun ls st h => match st with
  | .long y :: .long x :: st => some (.inl (n, ls, .long (f x y) :: st, h))
  | _ => none
def i_lbing (f : Int64 → Int64 → Int64) (n : Nat) : StepF := fun ls st h => match st with
  | .long y :: .long x :: st => if ¬ y = 0 then some (.inl (n, ls, .long (f x y) :: st, h)) else none
  | _ => none
def i_un (f : Int32 → Int32) (n : Nat) : StepF := fun ls st h => match st with
  | .int x :: st => some (.inl (n, ls, .int (f x) :: st, h))
  | _ => none
def i_i2l (n : Nat) : StepF := fun ls st h => match st with
  | .int x :: st => some (.inl (n, ls, .long x.toInt64 :: st, h))
  | _ => none
def i_l2i (n : Nat) : StepF := fun ls st h => match st with
  | .long x :: st => some (.inl (n, ls, .int x.toInt32 :: st, h))
  | _ => none
def i_lcmp (n : Nat) : StepF := fun ls st h => match st with
  | .long y :: .long x :: st => some (.inl (n, ls, .int (lg_cmp x y) :: st, h))
  | _ => none
def i_dup (n : Nat) : StepF := fun ls st h => match st with
  | v :: st => if v.category = 1 then some (.inl (n, ls, v :: v :: st, h)) else none
  | _ => none
def i_dup_x1 (n : Nat) : StepF := fun ls st h => match st with
  | v :: w :: st => if v.category = 1 ∧ w.category = 1 then some (.inl (n, ls, v :: w :: v :: st, h)) else none
  | _ => none
def i_dup2 (n : Nat) : StepF := fun ls st h => match st with
  | v :: w :: st => if v.category = 1 ∧ w.category = 1 then some (.inl (n, ls, v :: w :: v :: w :: st, h)) else none
  | _ => none
def i_pop (n : Nat) : StepF := fun ls st h => match st with
  | v :: st => if v.category = 1 then some (.inl (n, ls, st, h)) else none
  | _ => none
def i_if (c : Int32 → Prop) [DecidablePred c] (t n : Nat) : StepF := fun ls st h => match st with
  | .int x :: st => some (.inl (if c x then t else n, ls, st, h))
  | _ => none
def i_icmp (c : Int32 → Int32 → Prop) [∀ x y, Decidable (c x y)] (t n : Nat) : StepF := fun ls st h => match st with
  | .int y :: .int x :: st => some (.inl (if c x y then t else n, ls, st, h))
  | _ => none
def i_ifn (p q : Nat) : StepF := fun ls st h => match st with
  | .null :: st => some (.inl (p, ls, st, h))
  | .ref _ :: st => some (.inl (q, ls, st, h))
  | _ => none
/-- p: equal, q: apart -/
def i_acmp (p q : Nat) : StepF := fun ls st h => match st with
  | .ref b :: .ref a :: st => some (.inl (if a = b then p else q, ls, st, h))
  | _ => none
def i_goto (t : Nat) : StepF := fun ls st h => some (.inl (t, ls, st, h))
def tswT (lo : Int) (ts : List Nat) (d : Nat) (x : Int32) : Nat := if x.toInt < lo then d else (ts[(x.toInt - lo).toNat]?).getD d
def i_tsw (lo : Int) (ts : List Nat) (d : Nat) : StepF := fun ls st h => match st with
  | .int x :: st => some (.inl (tswT lo ts d x, ls, st, h))
  | _ => none
def i_iret : StepF := fun _ st h => match st with
  | [.int x] => some (.inr (.inl (some (.int x), h)))
  | _ => none
def i_zret : StepF := fun _ st h => match st with
  | [.int x] => if x = 0 ∨ x = 1 then some (.inr (.inl (some (.int x), h))) else none
  | _ => none
def i_bret : StepF := fun _ st h => match st with
  | [.int x] => if x.toInt8.toInt32 = x then some (.inr (.inl (some (.int x), h))) else none
  | _ => none
def i_cret : StepF := fun _ st h => match st with
  | [.int x] => if (x.toUInt32 % 65536).toInt32 = x then some (.inr (.inl (some (.int x), h))) else none
  | _ => none
def i_lret : StepF := fun _ st h => match st with
  | [.long x] => some (.inr (.inl (some (.long x), h)))
  | _ => none
def i_aret : StepF := fun _ st h => match st with
  | [.ref x] => some (.inr (.inl (some (.ref x), h)))
  | [.null] => some (.inr (.inl (some .null, h)))
  | _ => none
def i_vret : StepF := fun _ st h => match st with
  | [] => some (.inr (.inl (none, h)))
  | _ => none
def i_getf (f : Nat) (ks : List Nat) (n : Nat) : StepF := fun ls st h => match st with
  | .ref a :: st => if gK h a ∈ ks then some (.inl (n, ls, gF h f a :: st, h)) else none
  | _ => none
def i_putI (f : Nat) (ks : List Nat) (n : Nat) : StepF := fun ls st h => match st with
  | .int x :: .ref a :: st => if gK h a ∈ ks then some (.inl (n, ls, st, pF h f a (.int x))) else none
  | _ => none
def i_putZ (f : Nat) (ks : List Nat) (n : Nat) : StepF := fun ls st h => match st with
  | .int x :: .ref a :: st => if gK h a ∈ ks ∧ (x = 0 ∨ x = 1) then some (.inl (n, ls, st, pF h f a (.int x))) else none
  | _ => none
def i_putR (f : Nat) (ks : List Nat) (n : Nat) : StepF := fun ls st h => match st with
  | .ref x :: .ref a :: st => if gK h a ∈ ks then some (.inl (n, ls, st, pF h f a (.ref x))) else none
  | .null :: .ref a :: st => if gK h a ∈ ks then some (.inl (n, ls, st, pF h f a .null)) else none
  | _ => none
/-- static fields and constants: fields of the cell 0 -/
def i_gets (f n : Nat) : StepF := fun ls st h => some (.inl (n, ls, gF h f 0 :: st, h))
def i_new (k s n : Nat) : StepF := fun ls st h => if 1 ≤ gC h ∧ s ≤ gS h then some (.inl (n, ls, .ref (gN h) :: st, nO h k s)) else none
def i_newa (k n : Nat) : StepF := fun ls st h => match st with
  | .int x :: st => if ¬ x < 0 ∧ x.toNatClampNeg ≤ 65536 ∧ 1 ≤ gC h ∧ x.toNatClampNeg ≤ gS h then some (.inl (n, ls, .ref (gN h) :: st, nA h k x.toNatClampNeg)) else none
  | _ => none
def i_newr (k n : Nat) : StepF := fun ls st h => match st with
  | .int x :: st => if ¬ x < 0 ∧ x.toNatClampNeg ≤ 65536 ∧ 1 ≤ gC h ∧ x.toNatClampNeg ≤ gS h then some (.inl (n, ls, .ref (gN h) :: st, nR h k x.toNatClampNeg)) else none
  | _ => none
def i_alen (ks : List Nat) (n : Nat) : StepF := fun ls st h => match st with
  | .ref a :: st => if gK h a ∈ ks then some (.inl (n, ls, .int (nI (gL h a)) :: st, h)) else none
  | _ => none
def i_iald (k n : Nat) : StepF := fun ls st h => match st with
  | .int i :: .ref a :: st => if gK h a = k ∧ ¬ (i < 0 ∨ gL h a ≤ i.toNatClampNeg) then some (.inl (n, ls, .int (gI h a i.toNatClampNeg) :: st, h)) else none
  | _ => none
def i_iast (k : Nat) (f : Int32 → Int32) (n : Nat) : StepF := fun ls st h => match st with
  | .int x :: .int i :: .ref a :: st => if gK h a = k ∧ ¬ (i < 0 ∨ gL h a ≤ i.toNatClampNeg) then some (.inl (n, ls, st, pI h a i.toNatClampNeg (f x))) else none
  | _ => none
def i_aald (k n : Nat) : StepF := fun ls st h => match st with
  | .int i :: .ref a :: st => if gK h a = k ∧ ¬ (i < 0 ∨ gL h a ≤ i.toNatClampNeg) then some (.inl (n, ls, va_rf (gR h a i.toNatClampNeg) :: st, h)) else none
  | _ => none
def i_aast (k : Nat) (ks : List Nat) (n : Nat) : StepF := fun ls st h => match st with
  | .ref x :: .int i :: .ref a :: st => if gK h a = k ∧ gK h x ∈ ks ∧ ¬ (i < 0 ∨ gL h a ≤ i.toNatClampNeg) then some (.inl (n, ls, st, pR h a i.toNatClampNeg (some x))) else none
  | .null :: .int i :: .ref a :: st => if gK h a = k ∧ ¬ (i < 0 ∨ gL h a ≤ i.toNatClampNeg) then some (.inl (n, ls, st, pR h a i.toNatClampNeg none)) else none
  | _ => none
def i_cast (ks : List Nat) (n : Nat) : StepF := fun ls st h => match st with
  | .ref a :: st => if gK h a ∈ ks then some (.inl (n, ls, .ref a :: st, h)) else none
  | .null :: st => some (.inl (n, ls, .null :: st, h))
  | _ => none
def i_thr : StepF := fun _ st h => match st with
  | .ref a :: _ => some (.inr (.inr (a, h)))
  | _ => none
def i_oini (n : Nat) : StepF := fun ls st h => match st with
  | .ref _ :: st => if st.length ≤ 6 then some (.inl (n, ls, st, h)) else none
  | _ => none
/-- System.arraycopy between arrays of ints, within bounds -/
def i_acpy (k n : Nat) : StepF := fun ls st h => match st with
  | .int m :: .int dp :: .ref d :: .int sp :: .ref s :: st =>
    if st.length ≤ 6 ∧ gK h s = k ∧ gK h d = k ∧ ¬ sp < 0 ∧ ¬ dp < 0 ∧ ¬ m < 0 ∧ sp.toNatClampNeg + m.toNatClampNeg ≤ gL h s ∧ dp.toNatClampNeg + m.toNatClampNeg ≤ gL h d then some (.inl (n, ls, st, pC h d (va_cpy (gI h s) (gI h d) sp.toNatClampNeg dp.toNatClampNeg m.toNatClampNeg))) else none
  | _ => none
/-- three new cells, the last of the kind k: what the machine itself throws -/
def nX (h : Hp) (k : Nat) : Hp := nO (nO (nO h 0 0) 0 0) k 1010
def rfV : Value → Bool
  | .ref _ => true
  | .null => true
  | _ => false
/-- the machine may throw -/
abbrev xOk (h : Hp) (st : List Value) : Prop := rfV (gF h 1003 0) = true ∧ rfV (gF h 1005 0) = true ∧ 3 ≤ gC h ∧ 1010 ≤ gS h ∧ st.length ≤ 6
/-- a cast that goes well for the kinds ks and fails for the kinds xs -/
def i_castT (ks xs : List Nat) (n : Nat) : StepF := fun ls st h => match st with
  | .ref a :: st => if gK h a ∈ ks then some (.inl (n, ls, .ref a :: st, h)) else if gK h a ∈ xs ∧ xOk h st then some (.inr (.inr (gN h + 2, nX h 63))) else none
  | .null :: st => some (.inl (n, ls, .null :: st, h))
  | _ => none
/-- the bounds of a copy -/
abbrev acOk (h : Hp) (s d : Nat) (sp dp m : Int32) : Prop := ¬ sp < 0 ∧ ¬ dp < 0 ∧ ¬ m < 0 ∧ sp.toNatClampNeg + m.toNatClampNeg ≤ gL h s ∧ dp.toNatClampNeg + m.toNatClampNeg ≤ gL h d
/-- System.arraycopy between arrays of ints, within bounds or not -/
def i_acpyT (k n : Nat) : StepF := fun ls st h => match st with
  | .int m :: .int dp :: .ref d :: .int sp :: .ref s :: st =>
    if acOk h s d sp dp m then (if st.length ≤ 6 ∧ gK h s = k ∧ gK h d = k then some (.inl (n, ls, st, pC h d (va_cpy (gI h s) (gI h d) sp.toNatClampNeg dp.toNatClampNeg m.toNatClampNeg))) else none)
    else if (gK h s = k ∧ gK h d = k ∧ gL h s ≤ 65536 ∧ gL h d ≤ 65536) ∧ xOk h st then some (.inr (.inr (gN h + 2, nX h 62))) else none
  | _ => none
/-- calls: m arguments (without the object); n: the place behind the call -/
def tkA : Nat → List Value → List Value → Option (List Value × List Value)
  | 0, st, as => some (as, st)
  | m + 1, v :: st, as => tkA m st (v :: as)
  | _ + 1, [], _ => none
def nrV : Value → Bool
  | .retAddr _ => false
  | _ => true
/-- the arguments fit into n locals -/
def okA (n : Nat) (as : List Value) : Bool := decide ((lcA as).length ≤ n) && as.all nrV
def c_S (m n L : Nat) (w : Wm) : CallF := fun st _ => match tkA m st [] with
  | some (as, rest) => if rest.length ≤ 6 ∧ okA L as = true then some (n, as, rest, w) else none
  | none => none
def c_I (m n L : Nat) (w : Wm) : CallF := fun st _ => match tkA m st [] with
  | some (as, .ref b :: rest) => if rest.length ≤ 6 ∧ okA L (.ref b :: as) = true then some (n, .ref b :: as, rest, w) else none
  | _ => none
def c_V (m n L : Nat) (k : Nat) (w : Wm) : CallF := fun st h => match tkA m st [] with
  | some (as, .ref b :: rest) => if rest.length ≤ 6 ∧ okA L (.ref b :: as) = true then if gK h b = k then some (n, .ref b :: as, rest, w) else none else none
  | _ => none
def c_D (m n L : Nat) (ws : List (Nat × Wm)) : CallF := fun st h => match tkA m st [] with
  | some (as, .ref b :: rest) => if rest.length ≤ 6 ∧ okA L (.ref b :: as) = true then match ws.lookup (gK h b) with
    | some w => some (n, .ref b :: as, rest, w)
    | none => none
    else none
  | _ => none
/-- handlers: from, to, handler, kinds -/
def noH : Nat → Nat → Hp → Option Nat := fun _ _ _ => none
def hTab (tb : List (Nat × Nat × Nat × List Nat)) : Nat → Nat → Hp → Option Nat := fun pc a h => match tb with
  | [] => none
  | e :: t => if e.1 ≤ pc ∧ pc < e.2.1 then (if gK h a ∈ e.2.2.2 then some e.2.2.1 else some 65536) else hTab t pc a h
