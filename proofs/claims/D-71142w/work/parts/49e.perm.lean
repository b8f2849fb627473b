/-! ORDERS OF BOOKS: the next one; all of them -/
def swp (l : Nat → Nat) (i j : Nat) : Nat → Nat := upN (upN l i (l j)) j (l i)
def nxI (l : Nat → Nat) : Nat → Nat
  | 0 => 0
  | k + 1 => if l (k + 1) < l k then nxI l k else k + 1
def nxJ (l : Nat → Nat) (v : Nat) : Nat → Nat
  | 0 => 0
  | j + 1 => if l (j + 1) < v then nxJ l v j else j + 1
def rvF : Nat → (Nat → Nat) → Nat → Nat → Nat → Nat
  | 0, l, _, _ => l
  | f + 1, l, a, c => if a < c then rvF f (swp l a c) (a + 1) (c - 1) else l
def nxt (n : Nat) (l : Nat → Nat) : Option (Nat → Nat) := if nxI l (n - 1) = 0 then none else some (rvF 6 (swp l (nxI l (n - 1) - 1) (nxJ l (l (nxI l (n - 1) - 1)) (n - 1))) (nxI l (n - 1)) (n - 1))
def lOf (L : List Nat) : Nat → Nat := fun i => L.getD i 0
def nxtL (L : List Nat) : Option (List Nat) := (nxt L.length (lOf L)).map (fun l => (List.range L.length).map l)
/-- all orders, as the class comes to them -/
def genF (M : Nat) : Nat → List Nat → Nat → List (List Nat)
  | 0, _, _ => []
  | f + 1, pre, rest => (if rest = 0 then [pre] else []) ++ ((List.range M).filter (fun b => hb rest b)).flatMap (fun b => genF M f (pre ++ [b]) (mi rest (2 ^ b)))
def gen (M : Nat) : List (List Nat) := genF M (M + 1) [] (2 ^ M - 1)
def chn : List (List Nat) → Bool
  | [] => false
  | [L] => nxtL L == none
  | L :: L' :: r => nxtL L == some L' && chn (L' :: r)
def perB (M : Nat) (L : List Nat) : Bool := L.length == M && (List.range M).all (fun b => decide (lOf L b < M) && (List.range M).any (fun k => lOf L k == b) && (List.range M).all (fun k => lOf L k != lOf L b || k == b))
theorem gen_ok : ∀ M, M < 7 → 0 < M → chn (gen M) = true ∧ (gen M).head? = some (List.range M) ∧ (gen M).all (perB M) = true := by decide +kernel
theorem perB_ok {M : Nat} {L : List Nat} (h : perB M L = true) : L.length = M ∧ (∀ b, b < M → lOf L b < M) ∧ (∀ b, b < M → ∃ k, k < M ∧ lOf L k = b) ∧ (∀ j k, j < M → k < M → lOf L j = lOf L k → j = k) := by
  unfold perB at h
  simp only [Bool.and_eq_true, beq_iff_eq, List.all_eq_true, List.mem_range, decide_eq_true_eq, List.any_eq_true, Bool.or_eq_true, bne_iff_ne, ne_eq] at h
  obtain ⟨h1, h2⟩ := h
  refine ⟨h1, fun b hb => (h2 b hb).1.1, fun b hb => ?_, fun j k hj hk e => ?_⟩
  · obtain ⟨k, hk, e⟩ := (h2 b hb).1.2
    exact ⟨k, hk, e⟩
  · exact ((h2 k hk).2 j hj).resolve_left (fun q => q e)
/-- what agrees up to n -/
def agr (n : Nat) (l m : Nat → Nat) : Prop := ∀ i, i < n → l i = m i
theorem agr_swp {n : Nat} {l m : Nat → Nat} (h : agr n l m) {i j : Nat} (hi : i < n) (hj : j < n) : agr n (swp l i j) (swp m i j) := by
  intro k hk
  unfold swp
  simp only [upN_at]
  rw [h k hk, h i hi, h j hj]
theorem agr_rvF {n : Nat} (f : Nat) : ∀ {l m : Nat → Nat} (a c : Nat), agr n l m → a ≤ n → c < n → agr n (rvF f l a c) (rvF f m a c) := by
  induction f with
  | zero => intro l m a c h _ _; exact h
  | succ f ih =>
    intro l m a c h ha hc
    simp only [rvF]
    split
    · exact ih (a + 1) (c - 1) (agr_swp h (by omega) hc) (by omega) (by omega)
    · exact h
theorem nxI_cg {n : Nat} {l m : Nat → Nat} (h : agr n l m) : ∀ k, k < n → nxI l k = nxI m k := by
  intro k
  induction k with
  | zero => intro _; rfl
  | succ k ih =>
    intro hk
    simp only [nxI]
    rw [h (k + 1) hk, h k (by omega), ih (by omega)]
theorem nxJ_cg {n : Nat} {l m : Nat → Nat} (h : agr n l m) (v : Nat) : ∀ k, k < n → nxJ l v k = nxJ m v k := by
  intro k
  induction k with
  | zero => intro _; rfl
  | succ k ih =>
    intro hk
    simp only [nxJ]
    rw [h (k + 1) hk, ih (by omega)]
theorem nxI_le (l : Nat → Nat) : ∀ k, nxI l k ≤ k := by
  intro k
  induction k with
  | zero => exact Nat.le_refl _
  | succ k ih => simp only [nxI]; split <;> omega
theorem nxJ_le (l : Nat → Nat) (v : Nat) : ∀ k, nxJ l v k ≤ k := by
  intro k
  induction k with
  | zero => exact Nat.le_refl _
  | succ k ih => simp only [nxJ]; split <;> omega
theorem nxt_cg {n : Nat} {l m : Nat → Nat} (hn : 0 < n) (h : agr n l m) : (nxt n l = none → nxt n m = none) ∧ ∀ l', nxt n l = some l' → ∃ m', nxt n m = some m' ∧ agr n l' m' := by
  have e1 := nxI_cg h (n - 1) (by omega)
  have hle := nxI_le l (n - 1)
  unfold nxt
  rw [← e1]
  by_cases h0 : nxI l (n - 1) = 0
  · rw [if_pos h0, if_pos h0]
    exact ⟨fun _ => rfl, fun l' hl => by cases hl⟩
  · rw [if_neg h0, if_neg h0]
    refine ⟨fun q => (by cases q), fun l' hl => ⟨_, rfl, ?_⟩⟩
    cases hl
    have e2 : l (nxI l (n - 1) - 1) = m (nxI l (n - 1) - 1) := h _ (by omega)
    rw [← e2, ← nxJ_cg h _ (n - 1) (by omega)]
    have hj := nxJ_le l (l (nxI l (n - 1) - 1)) (n - 1)
    exact agr_rvF 6 _ _ (agr_swp h (by omega) (by omega)) (by omega) (by omega)
theorem lOf_map {n : Nat} (l : Nat → Nat) : agr n l (lOf ((List.range n).map l)) := by
  intro i hi
  unfold lOf
  rw [List.getD_eq_getElem?_getD, List.getElem?_map, List.getElem?_range hi]
  rfl
theorem nxtL_ok {M : Nat} {L : List Nat} {l : Nat → Nat} (hM : 0 < M) (hL : L.length = M) (h : agr M l (lOf L)) : (nxtL L = none → nxt M l = none) ∧ ∀ L', nxtL L = some L' → ∃ l', nxt M l = some l' ∧ agr M l' (lOf L') := by
  have hs : agr M (lOf L) l := fun i hi => (h i hi).symm
  obtain ⟨c1, c2⟩ := nxt_cg hM hs
  unfold nxtL
  rw [hL]
  cases hx : nxt M (lOf L) with
  | none => exact ⟨fun _ => c1 hx, fun L' hl => by cases hl⟩
  | some m =>
    obtain ⟨l', e1, e2⟩ := c2 m hx
    refine ⟨fun q => (by cases q), fun L' hl => ⟨l', e1, ?_⟩⟩
    cases hl
    exact fun i hi => (e2 i hi).symm.trans (lOf_map m i hi)
/-- books put in an order -/
def setP (l : Nat → Nat) (M : Nat) (s : St) : St := lf (fun k s => wr s (20 + l k) k) M 0 s
theorem setP_at {l : Nat → Nat} {s : St} {M : Nat} (hM : M ≤ 6) (hl : ∀ k, k < M → l k < M) (hi : ∀ j k, j < M → k < M → l j = l k → j = k) : (∀ k, k < M → (setP l M s (20 + l k) : Nat) = k) ∧ (∀ j, j < 20 ∨ 26 ≤ j → setP l M s j = s j) := by
  have key : ∀ n, n ≤ M → (∀ k, k < n → (lf (fun k s => wr s (20 + l k) k) n 0 s (20 + l k) : Nat) = k) ∧ (∀ j, j < 20 ∨ 26 ≤ j → lf (fun k s => wr s (20 + l k) k) n 0 s j = s j) := by
    intro n
    induction n with
    | zero => intro _; exact ⟨fun k hk => by omega, fun j _ => rfl⟩
    | succ n ih =>
      intro hn
      obtain ⟨i1, i2⟩ := ih (by omega)
      rw [lf_end]
      have hln := hl n (by omega)
      refine ⟨fun k hk => ?_, fun j hj => ?_⟩
      · simp only [Nat.zero_add]
        rw [wr_at]
        by_cases e : k = n
        · rw [e, if_pos rfl, Nat.mod_eq_of_lt (by omega)]
        · rw [if_neg (fun q => e (hi k n (by omega) (by omega) (by omega)))]
          exact i1 k (by omega)
      · simp only [Nat.zero_add]
        rw [wr_ne (by omega)]
        exact i2 j hj
  exact key M (Nat.le_refl _)
theorem bkF_first {s : St} {w c : Nat} (hc : (s (20 + c) : Nat) = w) : ∀ n b, b ≤ c → c < b + n → (∀ d, b ≤ d → d < c → (s (20 + d) : Nat) ≠ w) → bkF s w n b = c := by
  intro n
  induction n with
  | zero => intro b h1 h2; omega
  | succ n ih =>
    intro b h1 h2 hno
    simp only [bkF]
    by_cases e : b = c
    · rw [e, if_pos hc]
    · rw [if_neg (hno b (Nat.le_refl _) (by omega))]
      exact ih (b + 1) (by omega) (by omega) (fun d hd hd2 => hno d (by omega) hd2)
theorem WF_places {s s' : St} (hW : WF s) (l : Nat → Nat) (e : ∀ j, j < 20 ∨ 26 ≤ j → s' j = s j) (hl : ∀ k, k < (s 0 : Nat) → l k < (s 0 : Nat)) (hs : ∀ b, b < (s 0 : Nat) → ∃ k, k < (s 0 : Nat) ∧ l k = b) (hp : ∀ k, k < (s 0 : Nat) → (s' (20 + l k) : Nat) = k) : WF s' ∧ ∀ k, k < (s 0 : Nat) → bookAt s' k = l k := by
  obtain ⟨h0, hB, hP, hG, hF, hr, hx, hy⟩ := hW
  have hbk : ∀ k, k < (s 0 : Nat) → bookAt s' k = l k := by
    intro k hk
    have hlk := hl k hk
    refine bkF_first (hp k hk) 6 0 (Nat.zero_le _) (by omega) (fun d _ hd q => ?_)
    obtain ⟨i, hi, ei⟩ := hs d (by omega)
    have := hp i hi
    rw [ei, q] at this
    rw [this, ei] at hd
    omega
  have e0 : (s' 0 : Nat) = (s 0 : Nat) := congrArg Fin.val (e 0 (by omega))
  have e1 : (s' 1 : Nat) = (s 1 : Nat) := congrArg Fin.val (e 1 (by omega))
  refine ⟨⟨by rw [e0, e1]; exact h0, fun w hw => ?_, fun b hb => ?_, fun b hb => ?_, fun f hf => ?_, ?_, fun h => ?_, fun h => ?_⟩, hbk⟩
  · rw [e0] at hw ⊢
    rw [hbk w hw]
    exact ⟨hl w hw, hp w hw⟩
  · rw [e0] at hb ⊢
    obtain ⟨k, hk, ek⟩ := hs b hb
    rw [← ek, hp k hk]
    exact ⟨hk, hbk k hk⟩
  · rw [e0] at hb
    rw [e _ (by omega), e _ (by omega)]; exact hG b hb
  · rw [e1] at hf
    rw [e0, e _ (by omega), e _ (by omega), e _ (by omega)]; exact hF f hf
  · rw [e0, e1, e _ (by omega), e _ (by omega), e _ (by omega), e _ (by omega), e _ (by omega)]; exact hr
  · rw [e 2 (by omega)] at h; rw [e0, e1]; exact hx h
  · rw [e 2 (by omega)] at h; rw [e0, e1]; exact hy h
theorem setP_cg {l m : Nat → Nat} {M : Nat} {s : St} (h : agr M l m) : setP l M s = setP m M s := by
  unfold setP
  exact lf_cg s (fun j y _ hj => by rw [h j (by omega)])
