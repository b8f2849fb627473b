/-! A LIBRARY'S CELLS as an overlay: the object at a, its arrays at a+1 .. a+4, a+6, a+7 (a+5: the list it was made with) -/
def fB (s : St) (e m j : Nat) : Int32 := if j < m then nI (s (e + j)) else 0
def lCc (s : St) (n : Nat → Nat) (k j : Nat) : Int32 := if k = 3 then nI (n j) else if k = 1 then fB s 8 6 j else if k = 2 then fB s 14 6 j else if k = 4 then fB s 20 6 j else if k = 6 then fB s 31 5 j else if k = 7 then fB s 36 5 j else 0
def lFn (f : Nat) : Bool := ([32, 34, 36, 39, 41, 43, 45, 46, 48, 51, 53, 55, 56, 58, 60, 63] : List Nat).contains f
def lF (a : Nat) (s : St) (p : Nat) (tf : Int32) (tk : Value) (f : Nat) : Value := if f = 32 then .int (nI (s 2)) else if f = 34 then .int (nI (s 3)) else if f = 36 then .int (nI (s 0)) else if f = 46 then .int (nI (s 5)) else if f = 48 then .int (nI (s 6)) else if f = 56 then .int (nI (s 7)) else if f = 58 then .int (nI (s 4)) else if f = 39 then .ref (a + 1) else if f = 41 then .ref (a + 2) else if f = 43 then .ref (a + 3) else if f = 45 then .ref (a + 4) else if f = 53 then .ref (a + 6) else if f = 55 then .ref (a + 7) else if f = 51 then .ref p else if f = 60 then .int tf else if f = 63 then tk else .null
def LBc (b : Hp) (a : Nat) (G : Nat → Value) (C : Nat → Nat → Int32) : Hp :=
  (b.1, b.2.1, fun f x => if x = a ∧ lFn f = true then G f else gF b f x, fun x i => if a < x ∧ x ≤ a + 7 ∧ ¬ x = a + 5 then C (x - a) i else gI b x i, b.2.2.2.2)
def LB (b : Hp) (a : Nat) (s : St) (n : Nat → Nat) (p : Nat) (tf : Int32) (tk : Value) : Hp := LBc b a (lF a s p tf tk) (lCc s n)
theorem LBc_G (b : Hp) (a f : Nat) (G : Nat → Value) (C : Nat → Nat → Int32) (h : lFn f = true) : gF (LBc b a G C) f a = G f := if_pos ⟨rfl, h⟩
theorem LBc_I (b : Hp) (a k : Nat) (G : Nat → Value) (C : Nat → Nat → Int32) (i : Nat) (h : 1 ≤ k ∧ k ≤ 7 ∧ ¬ k = 5) : gI (LBc b a G C) (a + k) i = C k i := by
  show (if a < a + k ∧ a + k ≤ a + 7 ∧ ¬ a + k = a + 5 then C (a + k - a) i else gI b (a + k) i) = _
  rw [if_pos (by omega), Nat.add_sub_cancel_left]
def upV (G : Nat → Value) (f : Nat) (v : Value) : Nat → Value := fun e => if e = f then v else G e
theorem LBc_P (b : Hp) (a f : Nat) (G : Nat → Value) (C : Nat → Nat → Int32) (v : Value) (h : lFn f = true) : pF (LBc b a G C) f a v = LBc b a (upV G f v) C := by
  unfold pF LBc
  refine congrArg (Prod.mk _) (congrArg (Prod.mk _) (congrArg (fun c => Prod.mk c _) ?_))
  funext e y
  show (if e = f ∧ y = a then v else if y = a ∧ lFn e = true then G e else gF b e y) = (if y = a ∧ lFn e = true then upV G f v e else gF b e y)
  unfold upV
  by_cases he : e = f
  · by_cases hy : y = a
    · rw [if_pos ⟨he, hy⟩, if_pos ⟨hy, by rw [he]; exact h⟩, if_pos he]
    · rw [if_neg (fun q => hy q.2), if_neg (fun q => hy q.1), if_neg (fun q => hy q.1)]
  · rw [if_neg (fun q => he q.1), if_neg he]
theorem LBc_W (b : Hp) (a k : Nat) (G : Nat → Value) (C : Nat → Nat → Int32) (i : Nat) (x : Int32) (h : 1 ≤ k ∧ k ≤ 7 ∧ ¬ k = 5) : pI (LBc b a G C) (a + k) i x = LBc b a G (up2 C k i x) := by
  unfold pI LBc
  refine congrArg (Prod.mk _) (congrArg (Prod.mk _) (congrArg (Prod.mk _) (congrArg (fun c => Prod.mk c _) ?_)))
  funext y j
  show (if y = a + k ∧ j = i then x else if a < y ∧ y ≤ a + 7 ∧ ¬ y = a + 5 then C (y - a) j else gI b y j) = (if a < y ∧ y ≤ a + 7 ∧ ¬ y = a + 5 then up2 C k i x (y - a) j else gI b y j)
  by_cases hy : y = a + k
  · subst hy
    rw [if_pos (show a < a + k ∧ a + k ≤ a + 7 ∧ ¬ a + k = a + 5 by omega), if_pos (show a < a + k ∧ a + k ≤ a + 7 ∧ ¬ a + k = a + 5 by omega), Nat.add_sub_cancel_left]
    unfold up2
    by_cases hj : j = i
    · rw [if_pos ⟨rfl, hj⟩, if_pos ⟨rfl, hj⟩]
    · rw [if_neg (fun q => hj q.2), if_neg (fun q => hj q.2)]
  · rw [if_neg (fun q => hy q.1)]
    by_cases hr : a < y ∧ y ≤ a + 7 ∧ ¬ y = a + 5
    · rw [if_pos hr, if_pos hr]; unfold up2; rw [if_neg (fun q => hy (by omega))]
    · rw [if_neg hr, if_neg hr]
theorem LBc_C (b : Hp) (a k : Nat) (G : Nat → Value) (C : Nat → Nat → Int32) (f : Nat → Int32) (h : 1 ≤ k ∧ k ≤ 7 ∧ ¬ k = 5) : pC (LBc b a G C) (a + k) f = LBc b a G (fun j => if j = k then f else C j) := by
  unfold pC LBc
  refine congrArg (Prod.mk _) (congrArg (Prod.mk _) (congrArg (Prod.mk _) (congrArg (fun c => Prod.mk c _) ?_)))
  funext y j
  show (if y = a + k then f j else if a < y ∧ y ≤ a + 7 ∧ ¬ y = a + 5 then C (y - a) j else gI b y j) = (if a < y ∧ y ≤ a + 7 ∧ ¬ y = a + 5 then (if y - a = k then f else C (y - a)) j else gI b y j)
  by_cases hy : y = a + k
  · subst hy
    rw [if_pos rfl, if_pos (show a < a + k ∧ a + k ≤ a + 7 ∧ ¬ a + k = a + 5 by omega), if_pos (Nat.add_sub_cancel_left a k)]
  · rw [if_neg hy]
    by_cases hr : a < y ∧ y ≤ a + 7 ∧ ¬ y = a + 5
    · rw [if_pos hr, if_pos hr, if_neg (by omega)]
    · rw [if_neg hr, if_neg hr]
theorem wr_l0 {i v : Nat} {s : St} (h : 8 ≤ i) : wr s i v 0 = s 0 := if_neg (by omega)
theorem wr_l1 {i v : Nat} {s : St} (h : 8 ≤ i) : wr s i v 1 = s 1 := if_neg (by omega)
theorem wr_l2 {i v : Nat} {s : St} (h : 8 ≤ i) : wr s i v 2 = s 2 := if_neg (by omega)
theorem wr_l3 {i v : Nat} {s : St} (h : 8 ≤ i) : wr s i v 3 = s 3 := if_neg (by omega)
theorem wr_l4 {i v : Nat} {s : St} (h : 8 ≤ i) : wr s i v 4 = s 4 := if_neg (by omega)
theorem wr_l5 {i v : Nat} {s : St} (h : 8 ≤ i) : wr s i v 5 = s 5 := if_neg (by omega)
theorem wr_l6 {i v : Nat} {s : St} (h : 8 ≤ i) : wr s i v 6 = s 6 := if_neg (by omega)
theorem wr_l7 {i v : Nat} {s : St} (h : 8 ≤ i) : wr s i v 7 = s 7 := if_neg (by omega)
theorem wr_big {s : St} {q v e i : Nat} (h : q < e) : wr s q v (e + i) = s (e + i) := if_neg (by omega)
theorem fB_cg {s s' : St} {e m : Nat} (h : ∀ j, j < m → s (e + j) = s' (e + j)) : fB s e m = fB s' e m := by
  funext j; unfold fB; by_cases hj : j < m
  · rw [if_pos hj, if_pos hj, h j hj]
  · rw [if_neg hj, if_neg hj]
theorem fB_wr {s : St} {v e m i : Nat} (h : ∀ j, j < m → e + j ≠ i) : fB (wr s i v) e m = fB s e m := fB_cg (fun j hj => if_neg (h j hj))
section LBR
variable (b : Hp) (a : Nat) (s : St) (n : Nat → Nat) (p : Nat) (tf : Int32) (tk : Value)
theorem lo_K (x : Nat) : gK (LB b a s n p tf tk) x = gK b x := rfl
theorem lo_L (x : Nat) : gL (LB b a s n p tf tk) x = gL b x := rfl
theorem lo_R (x i : Nat) : gR (LB b a s n p tf tk) x i = gR b x i := rfl
theorem lo_N : gN (LB b a s n p tf tk) = gN b := rfl
theorem lo_C : gC (LB b a s n p tf tk) = gC b := rfl
theorem lo_S : gS (LB b a s n p tf tk) = gS b := rfl
theorem lo_F {x : Nat} (f : Nat) (h : x < a ∨ a < x) : gF (LB b a s n p tf tk) f x = gF b f x := if_neg (fun q => by omega)
theorem lo_I {x : Nat} (i : Nat) (h : x ≤ a ∨ a + 8 ≤ x ∨ x = a + 5) : gI (LB b a s n p tf tk) x i = gI b x i := if_neg (fun q => by omega)
theorem LB_o {G H : Nat → Value} {C D : Nat → Nat → Int32} (h1 : ∀ f, lFn f = true → G f = H f) (h2 : ∀ k i, 1 ≤ k → k ≤ 7 → k ≠ 5 → C k i = D k i) : LBc b a G C = LBc b a H D := by
  unfold LBc
  refine congrArg (Prod.mk _) (congrArg (Prod.mk _) (congr (congrArg Prod.mk ?_) (congrArg (fun c => Prod.mk c _) ?_)))
  · funext f y
    by_cases hy : y = a ∧ lFn f = true
    · rw [if_pos hy, if_pos hy, h1 f hy.2]
    · rw [if_neg hy, if_neg hy]
  · funext y i
    by_cases hy : a < y ∧ y ≤ a + 7 ∧ ¬ y = a + 5
    · rw [if_pos hy, if_pos hy, h2 (y - a) i (by omega) (by omega) (by omega)]
    · rw [if_neg hy, if_neg hy]
theorem lG_32 : gF (LB b a s n p tf tk) 32 a = .int (nI (s 2)) := LBc_G b a 32 _ _ (by decide)
theorem lG_34 : gF (LB b a s n p tf tk) 34 a = .int (nI (s 3)) := LBc_G b a 34 _ _ (by decide)
theorem lG_36 : gF (LB b a s n p tf tk) 36 a = .int (nI (s 0)) := LBc_G b a 36 _ _ (by decide)
theorem lG_46 : gF (LB b a s n p tf tk) 46 a = .int (nI (s 5)) := LBc_G b a 46 _ _ (by decide)
theorem lG_48 : gF (LB b a s n p tf tk) 48 a = .int (nI (s 6)) := LBc_G b a 48 _ _ (by decide)
theorem lG_56 : gF (LB b a s n p tf tk) 56 a = .int (nI (s 7)) := LBc_G b a 56 _ _ (by decide)
theorem lG_58 : gF (LB b a s n p tf tk) 58 a = .int (nI (s 4)) := LBc_G b a 58 _ _ (by decide)
theorem lG_39 : gF (LB b a s n p tf tk) 39 a = .ref (a + 1) := LBc_G b a 39 _ _ (by decide)
theorem lG_41 : gF (LB b a s n p tf tk) 41 a = .ref (a + 2) := LBc_G b a 41 _ _ (by decide)
theorem lG_43 : gF (LB b a s n p tf tk) 43 a = .ref (a + 3) := LBc_G b a 43 _ _ (by decide)
theorem lG_45 : gF (LB b a s n p tf tk) 45 a = .ref (a + 4) := LBc_G b a 45 _ _ (by decide)
theorem lG_53 : gF (LB b a s n p tf tk) 53 a = .ref (a + 6) := LBc_G b a 53 _ _ (by decide)
theorem lG_55 : gF (LB b a s n p tf tk) 55 a = .ref (a + 7) := LBc_G b a 55 _ _ (by decide)
theorem lG_51 : gF (LB b a s n p tf tk) 51 a = .ref p := LBc_G b a 51 _ _ (by decide)
theorem lG_60 : gF (LB b a s n p tf tk) 60 a = .int tf := LBc_G b a 60 _ _ (by decide)
theorem lG_63 : gF (LB b a s n p tf tk) 63 a = tk := LBc_G b a 63 _ _ (by decide)
theorem lI_1 {i : Nat} (hi : i < 6) : gI (LB b a s n p tf tk) (a + 1) i = nI (s (8 + i)) := (LBc_I b a 1 _ _ i (by omega)).trans (if_pos hi)
theorem lI_2 {i : Nat} (hi : i < 6) : gI (LB b a s n p tf tk) (a + 2) i = nI (s (14 + i)) := (LBc_I b a 2 _ _ i (by omega)).trans (if_pos hi)
theorem lI_4 {i : Nat} (hi : i < 6) : gI (LB b a s n p tf tk) (a + 4) i = nI (s (20 + i)) := (LBc_I b a 4 _ _ i (by omega)).trans (if_pos hi)
theorem lI_6 {i : Nat} (hi : i < 5) : gI (LB b a s n p tf tk) (a + 6) i = nI (s (31 + i)) := (LBc_I b a 6 _ _ i (by omega)).trans (if_pos hi)
theorem lI_7 {i : Nat} (hi : i < 5) : gI (LB b a s n p tf tk) (a + 7) i = nI (s (36 + i)) := (LBc_I b a 7 _ _ i (by omega)).trans (if_pos hi)
theorem lI_3 (i : Nat) : gI (LB b a s n p tf tk) (a + 3) i = nI (n i) := LBc_I b a 3 _ _ i (by omega)
theorem lP_32 {v : Nat} (hv : v < 4096) : pF (LB b a s n p tf tk) 32 a (.int (nI v)) = LB b a (wr s 2 v) n p tf tk := by
  refine (LBc_P b a 32 _ _ _ (by decide)).trans (LB_o b a (fun e he => ?_) (fun k i _ _ _ => ?_))
  · unfold upV lF; by_cases h : e = 32
    · subst h; simp [wr, Fin.ofNat, Nat.mod_eq_of_lt hv]
    · simp [h, wr]
  · unfold lCc fB; simp (disch := omega) only [wr_big]
theorem lP_34 {v : Nat} (hv : v < 4096) : pF (LB b a s n p tf tk) 34 a (.int (nI v)) = LB b a (wr s 3 v) n p tf tk := by
  refine (LBc_P b a 34 _ _ _ (by decide)).trans (LB_o b a (fun e he => ?_) (fun k i _ _ _ => ?_))
  · unfold upV lF; by_cases h : e = 34
    · subst h; simp [wr, Fin.ofNat, Nat.mod_eq_of_lt hv]
    · simp [h, wr]
  · unfold lCc fB; simp (disch := omega) only [wr_big]
theorem lP_36 {v : Nat} (hv : v < 4096) : pF (LB b a s n p tf tk) 36 a (.int (nI v)) = LB b a (wr s 0 v) n p tf tk := by
  refine (LBc_P b a 36 _ _ _ (by decide)).trans (LB_o b a (fun e he => ?_) (fun k i _ _ _ => ?_))
  · unfold upV lF; by_cases h : e = 36
    · subst h; simp [wr, Fin.ofNat, Nat.mod_eq_of_lt hv]
    · simp [h, wr]
  · unfold lCc fB; simp (disch := omega) only [wr_big]
theorem lP_46 {v : Nat} (hv : v < 4096) : pF (LB b a s n p tf tk) 46 a (.int (nI v)) = LB b a (wr s 5 v) n p tf tk := by
  refine (LBc_P b a 46 _ _ _ (by decide)).trans (LB_o b a (fun e he => ?_) (fun k i _ _ _ => ?_))
  · unfold upV lF; by_cases h : e = 46
    · subst h; simp [wr, Fin.ofNat, Nat.mod_eq_of_lt hv]
    · simp [h, wr]
  · unfold lCc fB; simp (disch := omega) only [wr_big]
theorem lP_48 {v : Nat} (hv : v < 4096) : pF (LB b a s n p tf tk) 48 a (.int (nI v)) = LB b a (wr s 6 v) n p tf tk := by
  refine (LBc_P b a 48 _ _ _ (by decide)).trans (LB_o b a (fun e he => ?_) (fun k i _ _ _ => ?_))
  · unfold upV lF; by_cases h : e = 48
    · subst h; simp [wr, Fin.ofNat, Nat.mod_eq_of_lt hv]
    · simp [h, wr]
  · unfold lCc fB; simp (disch := omega) only [wr_big]
theorem lP_56 {v : Nat} (hv : v < 4096) : pF (LB b a s n p tf tk) 56 a (.int (nI v)) = LB b a (wr s 7 v) n p tf tk := by
  refine (LBc_P b a 56 _ _ _ (by decide)).trans (LB_o b a (fun e he => ?_) (fun k i _ _ _ => ?_))
  · unfold upV lF; by_cases h : e = 56
    · subst h; simp [wr, Fin.ofNat, Nat.mod_eq_of_lt hv]
    · simp [h, wr]
  · unfold lCc fB; simp (disch := omega) only [wr_big]
theorem lP_58 {v : Nat} (hv : v < 4096) : pF (LB b a s n p tf tk) 58 a (.int (nI v)) = LB b a (wr s 4 v) n p tf tk := by
  refine (LBc_P b a 58 _ _ _ (by decide)).trans (LB_o b a (fun e he => ?_) (fun k i _ _ _ => ?_))
  · unfold upV lF; by_cases h : e = 58
    · subst h; simp [wr, Fin.ofNat, Nat.mod_eq_of_lt hv]
    · simp [h, wr]
  · unfold lCc fB; simp (disch := omega) only [wr_big]
theorem lP_51 (v : Nat) : pF (LB b a s n p tf tk) 51 a (.ref v) = LB b a s n v tf tk := by
  refine (LBc_P b a 51 _ _ _ (by decide)).trans (LB_o b a (fun e he => ?_) (fun k i _ _ _ => rfl))
  unfold upV lF; by_cases h : e = 51
  · subst h; simp
  · simp [h]
theorem lP_60 (v : Int32) : pF (LB b a s n p tf tk) 60 a (.int v) = LB b a s n p v tk := by
  refine (LBc_P b a 60 _ _ _ (by decide)).trans (LB_o b a (fun e he => ?_) (fun k i _ _ _ => rfl))
  unfold upV lF; by_cases h : e = 60
  · subst h; simp
  · simp [h]
theorem lP_63 (v : Value) : pF (LB b a s n p tf tk) 63 a (v) = LB b a s n p tf v := by
  refine (LBc_P b a 63 _ _ _ (by decide)).trans (LB_o b a (fun e he => ?_) (fun k i _ _ _ => rfl))
  unfold upV lF; by_cases h : e = 63
  · subst h; simp
  · simp [h]
theorem lW_1 {i v : Nat} (hi : i < 6 ∧ v < 4096) : pI (LB b a s n p tf tk) (a + 1) i (nI v) = LB b a (wr s (8 + i) v) n p tf tk := by
  refine (LBc_W b a 1 _ _ i _ (by omega)).trans (LB_o b a (fun f _ => ?_) (fun k j _ _ _ => ?_))
  · unfold lF; rw [wr_l2 (show 8 ≤ 8 + i by omega), wr_l3 (show 8 ≤ 8 + i by omega), wr_l0 (show 8 ≤ 8 + i by omega), wr_l5 (show 8 ≤ 8 + i by omega), wr_l6 (show 8 ≤ 8 + i by omega), wr_l7 (show 8 ≤ 8 + i by omega), wr_l4 (show 8 ≤ 8 + i by omega)]
  · rw [up2_at]; unfold lCc
    by_cases hk : k = 1
    · subst hk; unfold fB; by_cases hj : j = i
      · subst hj; simp [hi.1, wr, Fin.ofNat, Nat.mod_eq_of_lt hi.2]
      · simp [hj, wr]
    · rw [if_neg (fun q => hk q.1)]
      simp only [if_neg hk, fB_wr (s := s) (v := v) (e := 14) (m := 6) (i := 8 + i) (fun j hj => by omega), fB_wr (s := s) (v := v) (e := 20) (m := 6) (i := 8 + i) (fun j hj => by omega), fB_wr (s := s) (v := v) (e := 31) (m := 5) (i := 8 + i) (fun j hj => by omega), fB_wr (s := s) (v := v) (e := 36) (m := 5) (i := 8 + i) (fun j hj => by omega)]
theorem lW_2 {i v : Nat} (hi : i < 6 ∧ v < 4096) : pI (LB b a s n p tf tk) (a + 2) i (nI v) = LB b a (wr s (14 + i) v) n p tf tk := by
  refine (LBc_W b a 2 _ _ i _ (by omega)).trans (LB_o b a (fun f _ => ?_) (fun k j _ _ _ => ?_))
  · unfold lF; rw [wr_l2 (show 8 ≤ 14 + i by omega), wr_l3 (show 8 ≤ 14 + i by omega), wr_l0 (show 8 ≤ 14 + i by omega), wr_l5 (show 8 ≤ 14 + i by omega), wr_l6 (show 8 ≤ 14 + i by omega), wr_l7 (show 8 ≤ 14 + i by omega), wr_l4 (show 8 ≤ 14 + i by omega)]
  · rw [up2_at]; unfold lCc
    by_cases hk : k = 2
    · subst hk; unfold fB; by_cases hj : j = i
      · subst hj; simp [hi.1, wr, Fin.ofNat, Nat.mod_eq_of_lt hi.2]
      · simp [hj, wr]
    · rw [if_neg (fun q => hk q.1)]
      simp only [if_neg hk, fB_wr (s := s) (v := v) (e := 8) (m := 6) (i := 14 + i) (fun j hj => by omega), fB_wr (s := s) (v := v) (e := 20) (m := 6) (i := 14 + i) (fun j hj => by omega), fB_wr (s := s) (v := v) (e := 31) (m := 5) (i := 14 + i) (fun j hj => by omega), fB_wr (s := s) (v := v) (e := 36) (m := 5) (i := 14 + i) (fun j hj => by omega)]
theorem lW_4 {i v : Nat} (hi : i < 6 ∧ v < 4096) : pI (LB b a s n p tf tk) (a + 4) i (nI v) = LB b a (wr s (20 + i) v) n p tf tk := by
  refine (LBc_W b a 4 _ _ i _ (by omega)).trans (LB_o b a (fun f _ => ?_) (fun k j _ _ _ => ?_))
  · unfold lF; rw [wr_l2 (show 8 ≤ 20 + i by omega), wr_l3 (show 8 ≤ 20 + i by omega), wr_l0 (show 8 ≤ 20 + i by omega), wr_l5 (show 8 ≤ 20 + i by omega), wr_l6 (show 8 ≤ 20 + i by omega), wr_l7 (show 8 ≤ 20 + i by omega), wr_l4 (show 8 ≤ 20 + i by omega)]
  · rw [up2_at]; unfold lCc
    by_cases hk : k = 4
    · subst hk; unfold fB; by_cases hj : j = i
      · subst hj; simp [hi.1, wr, Fin.ofNat, Nat.mod_eq_of_lt hi.2]
      · simp [hj, wr]
    · rw [if_neg (fun q => hk q.1)]
      simp only [if_neg hk, fB_wr (s := s) (v := v) (e := 8) (m := 6) (i := 20 + i) (fun j hj => by omega), fB_wr (s := s) (v := v) (e := 14) (m := 6) (i := 20 + i) (fun j hj => by omega), fB_wr (s := s) (v := v) (e := 31) (m := 5) (i := 20 + i) (fun j hj => by omega), fB_wr (s := s) (v := v) (e := 36) (m := 5) (i := 20 + i) (fun j hj => by omega)]
theorem lW_6 {i v : Nat} (hi : i < 5 ∧ v < 4096) : pI (LB b a s n p tf tk) (a + 6) i (nI v) = LB b a (wr s (31 + i) v) n p tf tk := by
  refine (LBc_W b a 6 _ _ i _ (by omega)).trans (LB_o b a (fun f _ => ?_) (fun k j _ _ _ => ?_))
  · unfold lF; rw [wr_l2 (show 8 ≤ 31 + i by omega), wr_l3 (show 8 ≤ 31 + i by omega), wr_l0 (show 8 ≤ 31 + i by omega), wr_l5 (show 8 ≤ 31 + i by omega), wr_l6 (show 8 ≤ 31 + i by omega), wr_l7 (show 8 ≤ 31 + i by omega), wr_l4 (show 8 ≤ 31 + i by omega)]
  · rw [up2_at]; unfold lCc
    by_cases hk : k = 6
    · subst hk; unfold fB; by_cases hj : j = i
      · subst hj; simp [hi.1, wr, Fin.ofNat, Nat.mod_eq_of_lt hi.2]
      · simp [hj, wr]
    · rw [if_neg (fun q => hk q.1)]
      simp only [if_neg hk, fB_wr (s := s) (v := v) (e := 8) (m := 6) (i := 31 + i) (fun j hj => by omega), fB_wr (s := s) (v := v) (e := 14) (m := 6) (i := 31 + i) (fun j hj => by omega), fB_wr (s := s) (v := v) (e := 20) (m := 6) (i := 31 + i) (fun j hj => by omega), fB_wr (s := s) (v := v) (e := 36) (m := 5) (i := 31 + i) (fun j hj => by omega)]
theorem lW_7 {i v : Nat} (hi : i < 5 ∧ v < 4096) : pI (LB b a s n p tf tk) (a + 7) i (nI v) = LB b a (wr s (36 + i) v) n p tf tk := by
  refine (LBc_W b a 7 _ _ i _ (by omega)).trans (LB_o b a (fun f _ => ?_) (fun k j _ _ _ => ?_))
  · unfold lF; rw [wr_l2 (show 8 ≤ 36 + i by omega), wr_l3 (show 8 ≤ 36 + i by omega), wr_l0 (show 8 ≤ 36 + i by omega), wr_l5 (show 8 ≤ 36 + i by omega), wr_l6 (show 8 ≤ 36 + i by omega), wr_l7 (show 8 ≤ 36 + i by omega), wr_l4 (show 8 ≤ 36 + i by omega)]
  · rw [up2_at]; unfold lCc
    by_cases hk : k = 7
    · subst hk; unfold fB; by_cases hj : j = i
      · subst hj; simp [hi.1, wr, Fin.ofNat, Nat.mod_eq_of_lt hi.2]
      · simp [hj, wr]
    · rw [if_neg (fun q => hk q.1)]
      simp only [if_neg hk, fB_wr (s := s) (v := v) (e := 8) (m := 6) (i := 36 + i) (fun j hj => by omega), fB_wr (s := s) (v := v) (e := 14) (m := 6) (i := 36 + i) (fun j hj => by omega), fB_wr (s := s) (v := v) (e := 20) (m := 6) (i := 36 + i) (fun j hj => by omega), fB_wr (s := s) (v := v) (e := 31) (m := 5) (i := 36 + i) (fun j hj => by omega)]
theorem lW_3 (i v : Nat) : pI (LB b a s n p tf tk) (a + 3) i (nI v) = LB b a s (upN n i v) p tf tk := by
  refine (LBc_W b a 3 _ _ i _ (by omega)).trans (LB_o b a (fun f _ => rfl) (fun k j _ _ _ => ?_))
  rw [up2_at]; unfold lCc
  by_cases hk : k = 3
  · subst hk; by_cases hj : j = i
    · subst hj; simp [upN]
    · simp [upN, hj]
  · simp [hk]
theorem LB_cg {s' : St} (h : ∀ j, j < 41 → j ≠ 1 → j < 26 ∨ 31 ≤ j → s j = s' j) : LB b a s n p tf tk = LB b a s' n p tf tk := by
  refine LB_o b a (fun f _ => ?_) (fun k i _ _ _ => ?_)
  · unfold lF; rw [h 2 (by omega) (by omega) (by omega), h 3 (by omega) (by omega) (by omega), h 0 (by omega) (by omega) (by omega), h 5 (by omega) (by omega) (by omega), h 6 (by omega) (by omega) (by omega), h 7 (by omega) (by omega) (by omega), h 4 (by omega) (by omega) (by omega)]
  · unfold lCc
    simp only [fB_cg (s := s) (s' := s') (e := 8) (m := 6) (fun j hj => h _ (by omega) (by omega) (by omega)), fB_cg (s := s) (s' := s') (e := 14) (m := 6) (fun j hj => h _ (by omega) (by omega) (by omega)), fB_cg (s := s) (s' := s') (e := 20) (m := 6) (fun j hj => h _ (by omega) (by omega) (by omega)), fB_cg (s := s) (s' := s') (e := 31) (m := 5) (fun j hj => h _ (by omega) (by omega) (by omega)), fB_cg (s := s) (s' := s') (e := 36) (m := 5) (fun j hj => h _ (by omega) (by omega) (by omega))]
end LBR
/-- kinds and lengths of a library's cells -/
def LK (h : Hp) (a : Nat) : Prop := gK h a = 2 ∧ (gK h (a + 1) = 51 ∧ gK h (a + 2) = 51 ∧ gK h (a + 3) = 51 ∧ gK h (a + 4) = 51 ∧ gK h (a + 6) = 51 ∧ gK h (a + 7) = 51) ∧ gL h (a + 1) = 6 ∧ gL h (a + 2) = 6 ∧ gL h (a + 3) = 6 ∧ gL h (a + 4) = 6 ∧ gL h (a + 6) = 5 ∧ gL h (a + 7) = 5
