/-! NUMBERS: Int32 as natural numbers (nI) and integers (zI); bounds are shown by omega -/
def rmI (x y : Int32) : Int32 := x - x / y * y
def shrI (x y : Int32) : Int32 := x >>> (y &&& 31)
def shlI (x y : Int32) : Int32 := x <<< (y &&& 31)
def okI (i : Int32) (n : Nat) : Prop := ¬ (i < 0 ∨ n ≤ i.toNatClampNeg)
theorem rmI_in (x y : Int32) : x - x / y * y = rmI x y := rfl
theorem shrI_in (x y : Int32) : x >>> (y &&& 31) = shrI x y := rfl
theorem shlI_in (x y : Int32) : x <<< (y &&& 31) = shlI x y := rfl
theorem okI_in (i : Int32) (n : Nat) : (¬ (i < 0 ∨ n ≤ i.toNatClampNeg)) = okI i n := rfl
theorem zlit (n : Nat) : (OfNat.ofNat n : Int32) = nI (OfNat.ofNat n) := rfl
theorem nn_add (a b : Nat) : nI a + nI b = nI (a + b) := (Int32.ofNat_add a b).symm
theorem nn_mul (a b : Nat) : nI a * nI b = nI (a * b) := (Int32.ofNat_mul a b).symm
theorem nn_sub {a b : Nat} (h : b ≤ a) : nI a - nI b = nI (a - b) := (Int32.ofNat_sub a b h).symm
theorem nn_toInt {a : Nat} (h : a < 2147483648) : (nI a).toInt = (a : Int) := Int32.toInt_ofNat_of_lt h
theorem nn_clamp {a : Nat} (h : a < 2147483648) : (nI a).toNatClampNeg = a := Int32.toNatClampNeg_ofNat_of_lt h
theorem nn_lt {a b : Nat} (h : a < 2147483648 ∧ b < 2147483648) : (nI a < nI b) = (a < b) := by
  rw [Int32.lt_iff_toInt_lt, nn_toInt h.1, nn_toInt h.2]; exact propext Int.ofNat_lt
theorem nn_le {a b : Nat} (h : a < 2147483648 ∧ b < 2147483648) : (nI a ≤ nI b) = (a ≤ b) := by
  rw [Int32.le_iff_toInt_le, nn_toInt h.1, nn_toInt h.2]; exact propext Int.ofNat_le
theorem nn_eq {a b : Nat} (h : a < 2147483648 ∧ b < 2147483648) : (nI a = nI b) = (a = b) := by
  refine propext ⟨fun q => ?_, fun q => by rw [q]⟩
  have := congrArg Int32.toInt q
  rw [nn_toInt h.1, nn_toInt h.2] at this
  omega
theorem nn_div {a b : Nat} (h : a < 2147483648 ∧ b < 2147483648) : nI a / nI b = nI (a / b) := (Int32.ofNat_div h.1 h.2).symm
theorem rmI_nn {a b : Nat} (h : a < 2147483648 ∧ b < 2147483648) : rmI (nI a) (nI b) = nI (a % b) := by
  unfold rmI
  rw [nn_div h, nn_mul, nn_sub (Nat.div_mul_le_self a b)]
  congr 1
  have := Nat.div_add_mod a b
  rw [Nat.mul_comm] at this
  omega
theorem okI_nn {a n : Nat} (h : a < n ∧ a < 2147483648) : okI (nI a) n = True := by
  refine eq_true (fun q => ?_)
  rcases q with q | q
  · rw [zlit, nn_lt ⟨h.2, by decide⟩] at q; omega
  · rw [nn_clamp h.2] at q; omega
theorem nn_tbv (a : Nat) : (nI a).toBitVec = BitVec.ofNat 32 a := rfl
theorem nn_and (a b : Nat) : nI a &&& nI b = nI (a &&& b) := Int32.toBitVec_inj.mp (by rw [Int32.toBitVec_and, nn_tbv, nn_tbv, nn_tbv, BitVec.ofNat_and])
theorem nn_or (a b : Nat) : nI a ||| nI b = nI (a ||| b) := Int32.toBitVec_inj.mp (by rw [Int32.toBitVec_or, nn_tbv, nn_tbv, nn_tbv, BitVec.ofNat_or])
theorem nn_xor (a b : Nat) : nI a ^^^ nI b = nI (a ^^^ b) := Int32.toBitVec_inj.mp (by rw [Int32.toBitVec_xor, nn_tbv, nn_tbv, nn_tbv, BitVec.ofNat_xor])
theorem shl_a : ∀ b, b < 31 → shlI 1 (nI b) = nI (2 ^ b) := by decide +kernel
theorem shlI_1 {b : Nat} (h : b < 31) : shlI (nI 1) (nI b) = nI (2 ^ b) := shl_a b h
theorem shr_a : ∀ n, n < 32 → ((nI n &&& 31).toBitVec.smod 32).toNat = n := by decide +kernel
theorem shrI_nn {a b : Nat} (h : a < 2147483648 ∧ b < 32) : shrI (nI a) (nI b) = nI (a / 2 ^ b) := by
  apply Int32.toBitVec_inj.mp
  show BitVec.sshiftRight' (nI a).toBitVec ((nI b &&& 31).toBitVec.smod 32) = _
  rw [BitVec.sshiftRight_eq', shr_a b h.2, nn_tbv, nn_tbv]
  apply BitVec.eq_of_toInt_eq
  rw [BitVec.toInt_sshiftRight]
  have h1 : (BitVec.ofNat 32 a).toInt = (a : Int) := by
    have := nn_toInt h.1
    exact this
  have h3 : a / 2 ^ b < 2147483648 := Nat.lt_of_le_of_lt (Nat.div_le_self _ _) h.1
  have h2 : (BitVec.ofNat 32 (a / 2 ^ b)).toInt = ((a / 2 ^ b : Nat) : Int) := by
    have := nn_toInt h3
    exact this
  rw [h1, h2, Int.shiftRight_eq_div_pow]
  simp
/-- integers -/
def zI (x : Int) : Int32 := Int32.ofInt x
theorem nn_zI (a : Nat) : nI a = zI (a : Int) := Int32.ofInt_eq_ofNat.symm
theorem zI_toInt {x : Int} (h : -2147483648 ≤ x ∧ x < 2147483648) : (zI x).toInt = x := Int32.toInt_ofInt_of_le h.1 h.2
theorem zI_of (x : Int32) : zI x.toInt = x := Int32.ofInt_toInt x
theorem zI_add (x y : Int) : zI x + zI y = zI (x + y) := (Int32.ofInt_add x y).symm
theorem zI_sub (x y : Int) : zI x - zI y = zI (x - y) := (Int32.ofInt_sub x y).symm
theorem zI_mul (x y : Int) : zI x * zI y = zI (x * y) := (Int32.ofInt_mul x y).symm
theorem zI_neg (x : Int) : -zI x = zI (-x) := (Int32.ofInt_neg x).symm
theorem nn_neg (a : Nat) : -nI a = zI (-(a : Int)) := by rw [nn_zI, zI_neg]
theorem nn_subz (a b : Nat) : nI a - nI b = zI ((a : Int) - (b : Int)) := by rw [nn_zI, nn_zI, zI_sub]
theorem zI_lt {x y : Int} (h : (-2147483648 ≤ x ∧ x < 2147483648) ∧ -2147483648 ≤ y ∧ y < 2147483648) : (zI x < zI y) = (x < y) := by
  rw [Int32.lt_iff_toInt_lt, zI_toInt h.1, zI_toInt h.2]
theorem zI_le {x y : Int} (h : (-2147483648 ≤ x ∧ x < 2147483648) ∧ -2147483648 ≤ y ∧ y < 2147483648) : (zI x ≤ zI y) = (x ≤ y) := by
  rw [Int32.le_iff_toInt_le, zI_toInt h.1, zI_toInt h.2]
theorem zI_eq {x y : Int} (h : (-2147483648 ≤ x ∧ x < 2147483648) ∧ -2147483648 ≤ y ∧ y < 2147483648) : (zI x = zI y) = (x = y) := by
  refine propext ⟨fun q => ?_, fun q => by rw [q]⟩
  have := congrArg Int32.toInt q
  rw [zI_toInt h.1, zI_toInt h.2] at this
  exact this
theorem zn_lt {x : Int} {b : Nat} (h : (-2147483648 ≤ x ∧ x < 2147483648) ∧ b < 2147483648) : (zI x < nI b) = (x < (b : Int)) := by
  rw [nn_zI, zI_lt ⟨h.1, by omega⟩]
theorem nz_lt {x : Int} {b : Nat} (h : (-2147483648 ≤ x ∧ x < 2147483648) ∧ b < 2147483648) : (nI b < zI x) = ((b : Int) < x) := by
  rw [nn_zI, zI_lt ⟨by omega, h.1⟩]
theorem zn_le {x : Int} {b : Nat} (h : (-2147483648 ≤ x ∧ x < 2147483648) ∧ b < 2147483648) : (zI x ≤ nI b) = (x ≤ (b : Int)) := by
  rw [nn_zI, zI_le ⟨h.1, by omega⟩]
theorem nz_le {x : Int} {b : Nat} (h : (-2147483648 ≤ x ∧ x < 2147483648) ∧ b < 2147483648) : (nI b ≤ zI x) = ((b : Int) ≤ x) := by
  rw [nn_zI, zI_le ⟨by omega, h.1⟩]
theorem zn_eq {x : Int} {b : Nat} (h : (-2147483648 ≤ x ∧ x < 2147483648) ∧ b < 2147483648) : (zI x = nI b) = (x = (b : Int)) := by
  rw [nn_zI, zI_eq ⟨h.1, by omega⟩]
theorem nz_eq {x : Int} {b : Nat} (h : (-2147483648 ≤ x ∧ x < 2147483648) ∧ b < 2147483648) : (nI b = zI x) = ((b : Int) = x) := by
  rw [nn_zI, zI_eq ⟨by omega, h.1⟩]
theorem zn_add (x : Int) (b : Nat) : zI x + nI b = zI (x + b) := by rw [nn_zI, zI_add]
theorem nz_add (x : Int) (b : Nat) : nI b + zI x = zI (b + x) := by rw [nn_zI, zI_add]
theorem zn_sub (x : Int) (b : Nat) : zI x - nI b = zI (x - b) := by rw [nn_zI, zI_sub]
theorem nz_sub (x : Int) (b : Nat) : nI b - zI x = zI (b - x) := by rw [nn_zI, zI_sub]
/-- a number within bounds is a natural one -/
theorem toNI {r : Int32} (h : 0 ≤ r.toInt) : ∃ k : Nat, r = nI k ∧ (k : Int) = r.toInt ∧ k < 2147483648 := by
  refine ⟨r.toInt.toNat, ?_, by omega, ?_⟩
  · rw [nn_zI, Int.toNat_of_nonneg h, zI_of]
  · have := r.toInt_lt; omega
theorem l_toInt (x : Int32) : x.toInt64.toInt = x.toInt := Int32.toInt_toInt64 x
theorem sub_toInt {a b : Nat} (h : a < 2147483648 ∧ b < 2147483648) : (nI a - nI b).toInt = (a : Int) - (b : Int) := by
  rw [nn_subz, zI_toInt (by omega)]
theorem zlitN (n : Nat) : (-(OfNat.ofNat n) : Int32) = zI (-(OfNat.ofNat n)) := by
  show -(nI n) = zI (-(n : Int))
  rw [nn_neg]
theorem negL (n : Nat) : -nI (OfNat.ofNat n) = zI (-(OfNat.ofNat n)) := by
  show -(nI n) = zI (-(n : Int))
  rw [nn_neg]
/-- what arithmetic decides -/
theorem n_leT {a b : Nat} (h : a ≤ b) : (a ≤ b) = True := eq_true h
theorem n_leF {a b : Nat} (h : b < a) : (a ≤ b) = False := eq_false (by omega)
theorem n_ltT {a b : Nat} (h : a < b) : (a < b) = True := eq_true h
theorem n_ltF {a b : Nat} (h : b ≤ a) : (a < b) = False := eq_false (by omega)
theorem n_eqT {a b : Nat} (h : a = b) : (a = b) = True := eq_true h
theorem n_eqF {a b : Nat} (h : a < b ∨ b < a) : (a = b) = False := eq_false (by omega)
theorem z_leT {a b : Int} (h : a ≤ b) : (a ≤ b) = True := eq_true h
theorem z_leF {a b : Int} (h : b < a) : (a ≤ b) = False := eq_false (by omega)
theorem z_ltT {a b : Int} (h : a < b) : (a < b) = True := eq_true h
theorem z_ltF {a b : Int} (h : b ≤ a) : (a < b) = False := eq_false (by omega)
theorem z_eqT {a b : Int} (h : a = b) : (a = b) = True := eq_true h
theorem z_eqF {a b : Int} (h : a < b ∨ b < a) : (a = b) = False := eq_false (by omega)
theorem zq (Q : Po) (h : Hp) {x y : Int} (e : x = y) : Q (.inl (some (.int (zI x)))) h = Q (.inl (some (.int (zI y)))) h := by rw [e]
theorem nq (Q : Po) (h : Hp) {x y : Nat} (e : x = y) : Q (.inl (some (.int (nI x)))) h = Q (.inl (some (.int (nI y)))) h := by rw [e]
/-- truth as a number -/
def bI (p : Prop) [Decidable p] : Int32 := if p then nI 1 else nI 0
theorem bI_01 (p : Prop) [Decidable p] : (bI p = 0 ∨ bI p = 1) = True := by
  unfold bI; by_cases h : p
  · rw [if_pos h]; exact eq_true (Or.inr rfl)
  · rw [if_neg h]; exact eq_true (Or.inl rfl)
theorem bI_z (p : Prop) [Decidable p] : (bI p = nI 0) = ¬ p := by
  unfold bI; by_cases h : p
  · rw [if_pos h]; exact propext ⟨fun q => absurd q (by decide), fun q => absurd h q⟩
  · rw [if_neg h]; exact propext ⟨fun _ => h, fun _ => rfl⟩
theorem bI_o (p : Prop) [Decidable p] : (bI p = nI 1) = p := by
  unfold bI; by_cases h : p
  · rw [if_pos h]; exact propext ⟨fun _ => h, fun _ => rfl⟩
  · rw [if_neg h]; exact propext ⟨fun q => absurd q (by decide), fun q => absurd q h⟩
theorem bI_z0 (p : Prop) [Decidable p] : (bI p = 0) = ¬ p := bI_z p
theorem bI_t {p : Prop} [Decidable p] (h : p) : bI p = nI 1 := if_pos h
theorem bI_f {p : Prop} [Decidable p] (h : ¬ p) : bI p = nI 0 := if_neg h
theorem bI_cg {p q : Prop} [Decidable p] [Decidable q] (h : p ↔ q) : bI p = bI q := by
  by_cases hp : p
  · rw [bI_t hp, bI_t (h.mp hp)]
  · rw [bI_f hp, bI_f (fun x => hp (h.mpr x))]
/-- a comparison of longs -/
theorem lgc_lt (x y : Int64) : (lg_cmp x y < 0) = (x.toInt < y.toInt) := by
  unfold lg_cmp
  rcases Int.lt_trichotomy x.toInt y.toInt with h | h | h
  · have h1 : ¬ x > y := fun q => by have := Int64.lt_iff_toInt_lt.mp q; omega
    have h2 : ¬ x = y := fun q => by rw [q] at h; omega
    rw [if_neg h1, if_neg h2]
    exact propext ⟨fun _ => h, fun _ => by decide⟩
  · have h2 : x = y := Int64.toInt_inj.mp h
    have h1 : ¬ x > y := fun q => by have := Int64.lt_iff_toInt_lt.mp q; omega
    rw [if_neg h1, if_pos h2]
    exact propext ⟨fun q => absurd q (by decide), fun q => by omega⟩
  · have h1 : x > y := Int64.lt_iff_toInt_lt.mpr h
    rw [if_pos h1]
    exact propext ⟨fun q => absurd q (by decide), fun q => by omega⟩
theorem lgc_gt (x y : Int64) : (0 < lg_cmp x y) = (y.toInt < x.toInt) := by
  unfold lg_cmp
  rcases Int.lt_trichotomy x.toInt y.toInt with h | h | h
  · have h1 : ¬ x > y := fun q => by have := Int64.lt_iff_toInt_lt.mp q; omega
    have h2 : ¬ x = y := fun q => by rw [q] at h; omega
    rw [if_neg h1, if_neg h2]
    exact propext ⟨fun q => absurd q (by decide), fun q => by omega⟩
  · have h2 : x = y := Int64.toInt_inj.mp h
    have h1 : ¬ x > y := fun q => by have := Int64.lt_iff_toInt_lt.mp q; omega
    rw [if_neg h1, if_pos h2]
    exact propext ⟨fun q => absurd q (by decide), fun q => by omega⟩
  · have h1 : x > y := Int64.lt_iff_toInt_lt.mpr h
    rw [if_pos h1]
    exact propext ⟨fun _ => h, fun _ => by decide⟩
theorem lgc_eq (x y : Int64) : (lg_cmp x y = 0) = (x = y) := by
  unfold lg_cmp
  rcases Int.lt_trichotomy x.toInt y.toInt with h | h | h
  · have h1 : ¬ x > y := fun q => by have := Int64.lt_iff_toInt_lt.mp q; omega
    have h2 : ¬ x = y := fun q => by rw [q] at h; omega
    rw [if_neg h1, if_neg h2]
    exact propext ⟨fun q => absurd q (by decide), fun q => absurd q h2⟩
  · have h2 : x = y := Int64.toInt_inj.mp h
    have h1 : ¬ x > y := fun q => by have := Int64.lt_iff_toInt_lt.mp q; omega
    rw [if_neg h1, if_pos h2]
    exact propext ⟨fun _ => h2, fun _ => rfl⟩
  · have h1 : x > y := Int64.lt_iff_toInt_lt.mpr h
    have h2 : ¬ x = y := fun q => by rw [q] at h; omega
    rw [if_pos h1]
    exact propext ⟨fun q => absurd q (by decide), fun q => absurd q h2⟩
/-- a bit of a set -/
def hb (x k : Nat) : Bool := decide (x / 2 ^ k % 2 = 1)
theorem hb_iff (x k : Nat) : hb x k = true ↔ x / 2 ^ k % 2 = 1 := by unfold hb; exact decide_eq_true_iff
/-! LOOPS: n rounds from k on -/
def lf {α : Type} (f : Nat → α → α) : Nat → Nat → α → α
  | 0, _, x => x
  | n + 1, k, x => lf f n (k + 1) (f k x)
theorem lf_end {α : Type} (f : Nat → α → α) (n k : Nat) (x : α) : lf f (n + 1) k x = f (k + n) (lf f n k x) := by
  induction n generalizing k x with
  | zero => rfl
  | succ n ih =>
    show lf f (n + 1) (k + 1) (f k x) = f (k + (n + 1)) (lf f n (k + 1) (f k x))
    rw [ih, show k + 1 + n = k + (n + 1) by omega]
theorem lf_inv {α : Type} {f : Nat → α → α} (P : Nat → α → Prop) {n k : Nat} {x : α} (h0 : P k x) (hs : ∀ j y, k ≤ j → j < k + n → P j y → P (j + 1) (f j y)) : P (k + n) (lf f n k x) := by
  induction n with
  | zero => exact h0
  | succ n ih =>
    rw [lf_end]
    exact hs (k + n) _ (by omega) (by omega) (ih (fun j y h1 h2 => hs j y h1 (by omega)))
theorem lf_cg {α : Type} {f g : Nat → α → α} {n k : Nat} (x : α) (h : ∀ j y, k ≤ j → j < k + n → f j y = g j y) : lf f n k x = lf g n k x := by
  induction n with
  | zero => rfl
  | succ n ih =>
    rw [lf_end, lf_end, ih (fun j y h1 h2 => h j y h1 (by omega)), h (k + n) _ (by omega) (by omega)]
/-- two loops side by side -/
theorem lf_two {α β : Type} {f : Nat → α → α} {g : Nat → β → β} (P : Nat → α → β → Prop) {n k : Nat} {x : α} {y : β} (h0 : P k x y) (hs : ∀ j a b, k ≤ j → j < k + n → P j a b → P (j + 1) (f j a) (g j b)) : P (k + n) (lf f n k x) (lf g n k y) := by
  induction n with
  | zero => exact h0
  | succ n ih =>
    rw [lf_end, lf_end]
    exact hs (k + n) _ _ (by omega) (by omega) (ih (fun j a b h1 h2 => hs j a b h1 (by omega)))
