/-! WHAT THE QUESTIONS ANSWER: one meaning for both sides -/
def cN : Int32 := zI (-1000000)
def cB : Int32 := zI (-1000001)
def cS : Int32 := zI (-1000002)
def cF : Int32 := zI (-1000003)
abbrev inR (x : Int32) (lo hi : Int) : Prop := lo ≤ x.toInt ∧ x.toInt ≤ hi
abbrev isB (s : St) (x : Int32) : Prop := inR x 0 (((s 0 : Nat) : Int) - 1)
abbrev isF (s : St) (x : Int32) : Prop := inR x 0 (((s 1 : Nat) : Int) - 1)
/-- the natural number of an argument -/
def nt (x : Int32) : Nat := x.toNatClampNeg
theorem l64_0 : (0 : Int64).toInt = 0 := rfl
theorem l64_1 : (1 : Int64).toInt = 1 := rfl
theorem l64_2 : (2 : Int64).toInt = 2 := rfl
theorem l64_3 : (3 : Int64).toInt = 3 := rfl
theorem l64_5 : (5 : Int64).toInt = 5 := rfl
theorem l64_7 : (7 : Int64).toInt = 7 := rfl
theorem l64_9 : (9 : Int64).toInt = 9 := rfl
theorem l64_10 : (10 : Int64).toInt = 10 := rfl
theorem l64_12 : (12 : Int64).toInt = 12 := rfl
theorem l64_24 : (24 : Int64).toInt = 24 := rfl
theorem l64_48 : (48 : Int64).toInt = 48 := rfl
theorem l64_57 : (57 : Int64).toInt = 57 := rfl
theorem l64_60 : (60 : Int64).toInt = 60 := rfl
theorem l64_97 : (97 : Int64).toInt = 97 := rfl
theorem l64_122 : (122 : Int64).toInt = 122 := rfl
theorem l64_255 : (255 : Int64).toInt = 255 := rfl
theorem l64_999 : (999 : Int64).toInt = 999 := rfl
theorem l64_999999 : (999999 : Int64).toInt = 999999 := rfl
theorem l64_m : (-1 : Int64).toInt = -1 := rfl
theorem nt_nn {k : Nat} (h : k < 2147483648) : nt (nI k) = k := nn_clamp h
def sp_ahead (s : St) (x n w : Int32) : Int32 := if isB s x ∧ inR n 0 60 ∧ inR w 0 1 then (if nt w = 0 then nI (nts (nt n) s (8 + nt x)) else nI (nts (nt n) s (14 + nt x))) else cB
def sp_later (s : St) (x n w : Int32) : Int32 := if isF s x ∧ inR n 0 60 ∧ inR w 0 1 then (if nt w = 1 then nI (nts (nt n) s (36 + nt x)) else if hb (s 7) (nt x) = true then cN else nI (nts (nt n) s (31 + nt x))) else cB
/-- when a book has no pages left -/
def whF (k : Nat) : Nat → Nat → St → Option Nat
  | 0, n, s => if (s (8 + k) : Nat) = 0 then some n else none
  | m + 1, n, s => if (s (8 + k) : Nat) = 0 then some n else whF k m (n + 1) (night s)
def opR (x : Option Nat) : Int32 := match x with
  | none => cN
  | some n => nI n
def sp_when (s : St) (x : Int32) : Int32 := if isB s x then opR (whF (nt x) 60 0 s) else cB
/-- a without b -/
def mi (a b : Nat) : Nat := a - (a &&& b)
/-- when the next book is empty, and which ones -/
def fiF (had : Nat) : Nat → Nat → St → Option (Nat × Nat)
  | 0, _, _ => none
  | m + 1, n, s => if mi (gone (night s)) had = 0 then fiF had m (n + 1) (night s) else some (n, mi (gone (night s)) had)
def sp_first (s : St) (w : Int32) : Int32 := if (s 2 : Nat) = 0 then cS else if inR w 0 1 then (match fiF (gone s) 60 1 s with
  | none => cN
  | some q => if nt w = 0 then nI (lz q.2) else nI q.1) else cB
/-- the books of which one eats -/
def sp_hole (s : St) (x n : Int32) : Int32 := if isF s x ∧ inR n 0 60 then nI ((ntG (nt n) (s, fun _ => 0)).2 (nt x)) else cB
def lampS (s : St) (k n set : Nat) (x : Nat × Int) : Nat × Int := if onz set ≤ (s 3 : Nat) ∧ (x.2 < ((nts n (wr s 5 set) (8 + k) : Nat) : Int) ∨ (((nts n (wr s 5 set) (8 + k) : Nat) : Int) = x.2 ∧ onz set < onz x.1)) then (set, ((nts n (wr s 5 set) (8 + k) : Nat) : Int)) else x
def sp_lamp (s : St) (x n w : Int32) : Int32 := if isB s x ∧ inR n 1 60 ∧ inR w 0 1 then (if nt w = 0 then zI (lf (lampS s (nt x) (nt n)) (2 ^ (s 0 : Nat)) 0 (0, -1)).2 else nI (lf (lampS s (nt x) (nt n)) (2 ^ (s 0 : Nat)) 0 (0, -1)).1) else cB
def catS (s : St) (k n set : Nat) (x : Option Nat) : Option Nat := if (set &&& (s 7 : Nat)) = 0 ∧ (∀ q ∈ x, onz set < onz q) then (if (nts n (wr s 7 ((s 7 : Nat) ||| set)) (8 + k) : Nat) = (s (8 + k) : Nat) then some set else x) else x
def sp_caught (s : St) (x n w : Int32) : Int32 := if isB s x ∧ inR n 1 60 ∧ inR w 0 1 then (if nt w = 0 then nI (onW 33 (opR (lf (catS s (nt x) (nt n)) (2 ^ (s 1 : Nat)) 0 none)) 0) else opR (lf (catS s (nt x) (nt n)) (2 ^ (s 1 : Nat)) 0 none)) else cB
/-- grams for a fish -/
def alG (s : St) : Nat := lf (fun f x => x + dustF s f) (s 1) 0 0
def ovG (s : St) (n : Nat) : Nat := lf (fun f x => x + n * dustF s f / alG s) (s 1) 0 0
def bfG (s : St) (k : Nat) : Nat := lf (fun f x => x + (if 0 < dustF s f then 1 else 0)) k 0 0
def sp_grams (s : St) (x n : Int32) : Int32 := if isF s x ∧ inR n 0 999 then (if alG s = 0 then nI 0 else nI (nt n * dustF s (nt x) / alG s + (if 0 < dustF s (nt x) ∧ ((bfG s (nt x) : Nat) : Int) < (nt n : Int) - ((ovG s (nt n) : Nat) : Int) then 1 else 0))) else cB
def sp_book (s : St) (x w : Int32) : Int32 := if isB s x then (if w.toInt = 0 then nI (s (8 + nt x)) else if w.toInt = 1 then nI (s (14 + nt x)) else if w.toInt = 2 then nI (s (20 + nt x)) else if w.toInt = 3 then bI (hb (s 5) (nt x) = true) else if w.toInt = 4 then bI (hb (s 6) (nt x) = true) else if w.toInt = 5 then nI (fishAtF s (s (20 + nt x))) else cB) else cB
def sp_fish (s : St) (x w : Int32) : Int32 := if isF s x ∧ inR w 0 3 then (if w.toInt = 1 then nI (s (36 + nt x)) else if hb (s 7) (nt x) = true then cN else if w.toInt = 0 then nI (s (31 + nt x)) else if w.toInt = 2 then zI (lkR (lkd s (tas (s (26 + nt x))) (s (31 + nt x)))) else nI (bookAt s (s (31 + nt x)))) else cB
def sp_stand (s : St) (w : Int32) : Int32 := if (s 2 : Nat) = 0 then cS else if w.toInt = 0 then nI (s 5) else if w.toInt = 1 then nI (s 6) else if w.toInt = 2 then nI (s 7) else if w.toInt = 3 then nI (sumP s) else if w.toInt = 4 then nI (s 2) else if w.toInt = 5 then nI (s 3) else cB
def sp_kind (s : St) (x : Int32) : Int32 := if isF s x then nI (s (26 + nt x)) else cB
/-- arguments within bounds are natural numbers -/
theorem inR_nn {x : Int32} {lo hi : Int} (h : inR x lo hi) (h0 : 0 ≤ lo) : ∃ k : Nat, x = nI k ∧ lo ≤ (k : Int) ∧ (k : Int) ≤ hi ∧ k < 2147483648 := by
  obtain ⟨k, e, e2, hk⟩ := toNI (r := x) (by have := h.1; omega)
  exact ⟨k, e, by have := h.1; omega, by have := h.2; omega, hk⟩
