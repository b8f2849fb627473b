/-! THE TWIN'S CELLS as an overlay: the object at o, its fifteen arrays at o+1 .. o+15 -/
abbrev St : Type := Nat → Fin 4096
/-- a place gets a number -/
def wr (s : St) (i v : Nat) : St := fun j => if j = i then Fin.ofNat 4096 v else s j
theorem wr_at (s : St) (i v j : Nat) : ((wr s i v j : Fin 4096) : Nat) = if j = i then v % 4096 else (s j : Nat) := by unfold wr; split <;> rfl
def upN (f : Nat → Nat) (i v : Nat) : Nat → Nat := fun j => if j = i then v else f j
theorem upN_at (f : Nat → Nat) (i v j : Nat) : upN f i v j = if j = i then v else f j := rfl
def upS (A : Nat → St) (k : Nat) (s : St) : Nat → St := fun j => if j = k then s else A j
theorem upS_at (A : Nat → St) (k : Nat) (s : St) (j : Nat) : upS A k s j = if j = k then s else A j := rfl
def up (f : Nat → Int32) (i : Nat) (v : Int32) : Nat → Int32 := fun j => if j = i then v else f j
theorem up_at (f : Nat → Int32) (i : Nat) (v : Int32) (j : Nat) : up f i v j = if j = i then v else f j := rfl
def up2 (I : Nat → Nat → Int32) (k i : Nat) (v : Int32) : Nat → Nat → Int32 := fun j m => if j = k ∧ m = i then v else I j m
theorem up2_at (I : Nat → Nat → Int32) (k i : Nat) (v : Int32) (j m : Nat) : up2 I k i v j m = if j = k ∧ m = i then v else I j m := rfl
def fS (s : St) (i : Nat) : Int32 := if i < 41 then nI (s i) else 0
def fA (A : Nat → St) (n i : Nat) : Int32 := if i < n then nI (A (i / 41) (i % 41)) else 0
def tC (s : St) (g : Nat → Nat) (w r : St) (A B : Nat → St) (t l z : Nat → Nat) (I : Nat → Nat → Int32) (k i : Nat) : Int32 :=
  if k = 4 then fS s i else if k = 8 then nI (g i) else if k = 10 then fS w i else if k = 7 then fS r i else if k = 9 then fA A 984 i else if k = 14 then fA B 82 i else if k = 6 then nI (t i) else if k = 11 then nI (l i) else if k = 12 then nI (z i) else I k i
def tKs (j : Nat) : Nat := if j = 13 then 53 else 51
def tLn (j : Nat) : Nat := ([0, 8, 8, 320, 41, 40, 120, 41, 5, 984, 41, 6, 6, 2, 82, 16][j]?).getD 0
def tRf (f : Nat) : Nat := if f = 71 then 1 else if f = 73 then 2 else if f = 75 then 3 else if f = 81 then 4 else if f = 83 then 5 else if f = 85 then 6 else if f = 101 then 7 else if f = 103 then 8 else if f = 105 then 9 else if f = 109 then 10 else if f = 111 then 11 else if f = 113 then 12 else if f = 115 then 13 else if f = 117 then 14 else if f = 119 then 15 else 0
def THc (b : Hp) (o : Nat) (C : Nat → Nat → Int32) (F : Nat → Int32) : Hp :=
  (fun x => if x = o then 9 else if o < x ∧ x ≤ o + 15 then tKs (x - o) else gK b x,
   fun x => if o < x ∧ x ≤ o + 15 then tLn (x - o) else gL b x,
   fun f x => if x = o then (if tRf f = 0 then (if f % 2 = 1 then .null else .int (F f)) else .ref (o + tRf f)) else gF b f x,
   fun x i => if o < x ∧ x ≤ o + 15 then C (x - o) i else gI b x i,
   gR b, gN b, gC b, gS b)
def TH (b : Hp) (o : Nat) (s : St) (g : Nat → Nat) (w r : St) (A B : Nat → St) (t l z : Nat → Nat) (I : Nat → Nat → Int32) (F : Nat → Int32) : Hp := THc b o (tC s g w r A B t l z I) F
theorem THc_K (b : Hp) (o k : Nat) (C : Nat → Nat → Int32) (F : Nat → Int32) (h : 1 ≤ k ∧ k ≤ 15) : gK (THc b o C F) (o + k) = tKs k := by
  show (if o + k = o then 9 else if o < o + k ∧ o + k ≤ o + 15 then tKs (o + k - o) else gK b (o + k)) = _
  rw [if_neg (by omega), if_pos (by omega), Nat.add_sub_cancel_left]
theorem THc_L (b : Hp) (o k : Nat) (C : Nat → Nat → Int32) (F : Nat → Int32) (h : 1 ≤ k ∧ k ≤ 15) : gL (THc b o C F) (o + k) = tLn k := by
  show (if o < o + k ∧ o + k ≤ o + 15 then tLn (o + k - o) else gL b (o + k)) = _
  rw [if_pos (by omega), Nat.add_sub_cancel_left]
theorem THc_I (b : Hp) (o k : Nat) (C : Nat → Nat → Int32) (F : Nat → Int32) (i : Nat) (h : 1 ≤ k ∧ k ≤ 15) : gI (THc b o C F) (o + k) i = C k i := by
  show (if o < o + k ∧ o + k ≤ o + 15 then C (o + k - o) i else gI b (o + k) i) = _
  rw [if_pos (by omega), Nat.add_sub_cancel_left]
theorem THc_W (b : Hp) (o k : Nat) (C : Nat → Nat → Int32) (F : Nat → Int32) (i : Nat) (x : Int32) (h : 1 ≤ k ∧ k ≤ 15) : pI (THc b o C F) (o + k) i x = THc b o (up2 C k i x) F := by
  unfold pI THc
  refine congrArg (Prod.mk _) (congrArg (Prod.mk _) (congrArg (Prod.mk _) (congrArg (fun c => Prod.mk c _) ?_)))
  funext y j
  show (if y = o + k ∧ j = i then x else if o < y ∧ y ≤ o + 15 then C (y - o) j else gI b y j) = (if o < y ∧ y ≤ o + 15 then up2 C k i x (y - o) j else gI b y j)
  by_cases hy : y = o + k
  · subst hy
    rw [if_pos (show o < o + k ∧ o + k ≤ o + 15 by omega), if_pos (show o < o + k ∧ o + k ≤ o + 15 by omega), Nat.add_sub_cancel_left]
    unfold up2
    by_cases hj : j = i
    · rw [if_pos ⟨rfl, hj⟩, if_pos ⟨rfl, hj⟩]
    · rw [if_neg (fun q => hj q.2), if_neg (fun q => hj q.2)]
  · rw [if_neg (fun q => hy q.1)]
    by_cases hr : o < y ∧ y ≤ o + 15
    · rw [if_pos hr, if_pos hr]; unfold up2; rw [if_neg (fun q => hy (by omega))]
    · rw [if_neg hr, if_neg hr]
theorem THc_F (b : Hp) (o f : Nat) (C : Nat → Nat → Int32) (F : Nat → Int32) (h : tRf f ≠ 0) : gF (THc b o C F) f o = .ref (o + tRf f) := by
  show (if o = o then (if tRf f = 0 then (if f % 2 = 1 then .null else .int (F f)) else .ref (o + tRf f)) else gF b f o) = _
  rw [if_pos rfl, if_neg h]
theorem THc_G (b : Hp) (o f : Nat) (C : Nat → Nat → Int32) (F : Nat → Int32) (h : tRf f = 0 ∧ f % 2 = 0) : gF (THc b o C F) f o = .int (F f) := by
  show (if o = o then (if tRf f = 0 then (if f % 2 = 1 then .null else .int (F f)) else .ref (o + tRf f)) else gF b f o) = _
  rw [if_pos rfl, if_pos h.1, if_neg (by omega)]
theorem THc_P (b : Hp) (o f : Nat) (C : Nat → Nat → Int32) (F : Nat → Int32) (x : Int32) (h : tRf f = 0 ∧ f % 2 = 0) : pF (THc b o C F) f o (.int x) = THc b o C (up F f x) := by
  unfold pF THc
  refine congrArg (Prod.mk _) (congrArg (Prod.mk _) (congrArg (fun c => Prod.mk c _) ?_))
  funext e y
  show (if e = f ∧ y = o then Value.int x else if y = o then (if tRf e = 0 then (if e % 2 = 1 then .null else .int (F e)) else .ref (o + tRf e)) else gF b e y) = (if y = o then (if tRf e = 0 then (if e % 2 = 1 then .null else .int (up F f x e)) else .ref (o + tRf e)) else gF b e y)
  by_cases hy : y = o
  · rw [if_pos hy, if_pos hy]
    by_cases he : e = f
    · rw [if_pos ⟨he, hy⟩, he, if_pos h.1, if_neg (by omega), up_at, if_pos rfl]
    · rw [if_neg (fun q => he q.1), up_at, if_neg he]
  · rw [if_neg (fun q => hy q.2), if_neg hy, if_neg hy]
section THR
variable (b : Hp) (o : Nat) (s : St) (g : Nat → Nat) (w r : St) (A B : Nat → St) (t l z : Nat → Nat) (I : Nat → Nat → Int32) (F : Nat → Int32)
theorem tK_0 : gK (TH b o s g w r A B t l z I F) o = 9 := by show (if o = o then 9 else _) = 9; rw [if_pos rfl]
theorem tK_1 : gK (TH b o s g w r A B t l z I F) (o + 1) = 51 := THc_K b o 1 _ F (by omega)
theorem tL_1 : gL (TH b o s g w r A B t l z I F) (o + 1) = 8 := THc_L b o 1 _ F (by omega)
theorem tK_2 : gK (TH b o s g w r A B t l z I F) (o + 2) = 51 := THc_K b o 2 _ F (by omega)
theorem tL_2 : gL (TH b o s g w r A B t l z I F) (o + 2) = 8 := THc_L b o 2 _ F (by omega)
theorem tK_3 : gK (TH b o s g w r A B t l z I F) (o + 3) = 51 := THc_K b o 3 _ F (by omega)
theorem tL_3 : gL (TH b o s g w r A B t l z I F) (o + 3) = 320 := THc_L b o 3 _ F (by omega)
theorem tK_4 : gK (TH b o s g w r A B t l z I F) (o + 4) = 51 := THc_K b o 4 _ F (by omega)
theorem tL_4 : gL (TH b o s g w r A B t l z I F) (o + 4) = 41 := THc_L b o 4 _ F (by omega)
theorem tK_5 : gK (TH b o s g w r A B t l z I F) (o + 5) = 51 := THc_K b o 5 _ F (by omega)
theorem tL_5 : gL (TH b o s g w r A B t l z I F) (o + 5) = 40 := THc_L b o 5 _ F (by omega)
theorem tK_6 : gK (TH b o s g w r A B t l z I F) (o + 6) = 51 := THc_K b o 6 _ F (by omega)
theorem tL_6 : gL (TH b o s g w r A B t l z I F) (o + 6) = 120 := THc_L b o 6 _ F (by omega)
theorem tK_7 : gK (TH b o s g w r A B t l z I F) (o + 7) = 51 := THc_K b o 7 _ F (by omega)
theorem tL_7 : gL (TH b o s g w r A B t l z I F) (o + 7) = 41 := THc_L b o 7 _ F (by omega)
theorem tK_8 : gK (TH b o s g w r A B t l z I F) (o + 8) = 51 := THc_K b o 8 _ F (by omega)
theorem tL_8 : gL (TH b o s g w r A B t l z I F) (o + 8) = 5 := THc_L b o 8 _ F (by omega)
theorem tK_9 : gK (TH b o s g w r A B t l z I F) (o + 9) = 51 := THc_K b o 9 _ F (by omega)
theorem tL_9 : gL (TH b o s g w r A B t l z I F) (o + 9) = 984 := THc_L b o 9 _ F (by omega)
theorem tK_10 : gK (TH b o s g w r A B t l z I F) (o + 10) = 51 := THc_K b o 10 _ F (by omega)
theorem tL_10 : gL (TH b o s g w r A B t l z I F) (o + 10) = 41 := THc_L b o 10 _ F (by omega)
theorem tK_11 : gK (TH b o s g w r A B t l z I F) (o + 11) = 51 := THc_K b o 11 _ F (by omega)
theorem tL_11 : gL (TH b o s g w r A B t l z I F) (o + 11) = 6 := THc_L b o 11 _ F (by omega)
theorem tK_12 : gK (TH b o s g w r A B t l z I F) (o + 12) = 51 := THc_K b o 12 _ F (by omega)
theorem tL_12 : gL (TH b o s g w r A B t l z I F) (o + 12) = 6 := THc_L b o 12 _ F (by omega)
theorem tK_13 : gK (TH b o s g w r A B t l z I F) (o + 13) = 53 := THc_K b o 13 _ F (by omega)
theorem tL_13 : gL (TH b o s g w r A B t l z I F) (o + 13) = 2 := THc_L b o 13 _ F (by omega)
theorem tK_14 : gK (TH b o s g w r A B t l z I F) (o + 14) = 51 := THc_K b o 14 _ F (by omega)
theorem tL_14 : gL (TH b o s g w r A B t l z I F) (o + 14) = 82 := THc_L b o 14 _ F (by omega)
theorem tK_15 : gK (TH b o s g w r A B t l z I F) (o + 15) = 51 := THc_K b o 15 _ F (by omega)
theorem tL_15 : gL (TH b o s g w r A B t l z I F) (o + 15) = 16 := THc_L b o 15 _ F (by omega)
theorem tF_71 : gF (TH b o s g w r A B t l z I F) 71 o = .ref (o + 1) := THc_F b o 71 _ F (by decide)
theorem tF_73 : gF (TH b o s g w r A B t l z I F) 73 o = .ref (o + 2) := THc_F b o 73 _ F (by decide)
theorem tF_75 : gF (TH b o s g w r A B t l z I F) 75 o = .ref (o + 3) := THc_F b o 75 _ F (by decide)
theorem tF_81 : gF (TH b o s g w r A B t l z I F) 81 o = .ref (o + 4) := THc_F b o 81 _ F (by decide)
theorem tF_83 : gF (TH b o s g w r A B t l z I F) 83 o = .ref (o + 5) := THc_F b o 83 _ F (by decide)
theorem tF_85 : gF (TH b o s g w r A B t l z I F) 85 o = .ref (o + 6) := THc_F b o 85 _ F (by decide)
theorem tF_101 : gF (TH b o s g w r A B t l z I F) 101 o = .ref (o + 7) := THc_F b o 101 _ F (by decide)
theorem tF_103 : gF (TH b o s g w r A B t l z I F) 103 o = .ref (o + 8) := THc_F b o 103 _ F (by decide)
theorem tF_105 : gF (TH b o s g w r A B t l z I F) 105 o = .ref (o + 9) := THc_F b o 105 _ F (by decide)
theorem tF_109 : gF (TH b o s g w r A B t l z I F) 109 o = .ref (o + 10) := THc_F b o 109 _ F (by decide)
theorem tF_111 : gF (TH b o s g w r A B t l z I F) 111 o = .ref (o + 11) := THc_F b o 111 _ F (by decide)
theorem tF_113 : gF (TH b o s g w r A B t l z I F) 113 o = .ref (o + 12) := THc_F b o 113 _ F (by decide)
theorem tF_115 : gF (TH b o s g w r A B t l z I F) 115 o = .ref (o + 13) := THc_F b o 115 _ F (by decide)
theorem tF_117 : gF (TH b o s g w r A B t l z I F) 117 o = .ref (o + 14) := THc_F b o 117 _ F (by decide)
theorem tF_119 : gF (TH b o s g w r A B t l z I F) 119 o = .ref (o + 15) := THc_F b o 119 _ F (by decide)
theorem tG_76 : gF (TH b o s g w r A B t l z I F) 76 o = .int (F 76) := THc_G b o 76 _ F (by decide)
theorem tP_76 (x : Int32) : pF (TH b o s g w r A B t l z I F) 76 o (.int x) = TH b o s g w r A B t l z I (up F 76 x) := THc_P b o 76 _ F x (by decide)
theorem tG_78 : gF (TH b o s g w r A B t l z I F) 78 o = .int (F 78) := THc_G b o 78 _ F (by decide)
theorem tP_78 (x : Int32) : pF (TH b o s g w r A B t l z I F) 78 o (.int x) = TH b o s g w r A B t l z I (up F 78 x) := THc_P b o 78 _ F x (by decide)
theorem tG_86 : gF (TH b o s g w r A B t l z I F) 86 o = .int (F 86) := THc_G b o 86 _ F (by decide)
theorem tP_86 (x : Int32) : pF (TH b o s g w r A B t l z I F) 86 o (.int x) = TH b o s g w r A B t l z I (up F 86 x) := THc_P b o 86 _ F x (by decide)
theorem tG_88 : gF (TH b o s g w r A B t l z I F) 88 o = .int (F 88) := THc_G b o 88 _ F (by decide)
theorem tP_88 (x : Int32) : pF (TH b o s g w r A B t l z I F) 88 o (.int x) = TH b o s g w r A B t l z I (up F 88 x) := THc_P b o 88 _ F x (by decide)
theorem tG_90 : gF (TH b o s g w r A B t l z I F) 90 o = .int (F 90) := THc_G b o 90 _ F (by decide)
theorem tP_90 (x : Int32) : pF (TH b o s g w r A B t l z I F) 90 o (.int x) = TH b o s g w r A B t l z I (up F 90 x) := THc_P b o 90 _ F x (by decide)
theorem tG_92 : gF (TH b o s g w r A B t l z I F) 92 o = .int (F 92) := THc_G b o 92 _ F (by decide)
theorem tP_92 (x : Int32) : pF (TH b o s g w r A B t l z I F) 92 o (.int x) = TH b o s g w r A B t l z I (up F 92 x) := THc_P b o 92 _ F x (by decide)
theorem tG_94 : gF (TH b o s g w r A B t l z I F) 94 o = .int (F 94) := THc_G b o 94 _ F (by decide)
theorem tP_94 (x : Int32) : pF (TH b o s g w r A B t l z I F) 94 o (.int x) = TH b o s g w r A B t l z I (up F 94 x) := THc_P b o 94 _ F x (by decide)
theorem tG_96 : gF (TH b o s g w r A B t l z I F) 96 o = .int (F 96) := THc_G b o 96 _ F (by decide)
theorem tP_96 (x : Int32) : pF (TH b o s g w r A B t l z I F) 96 o (.int x) = TH b o s g w r A B t l z I (up F 96 x) := THc_P b o 96 _ F x (by decide)
theorem tG_98 : gF (TH b o s g w r A B t l z I F) 98 o = .int (F 98) := THc_G b o 98 _ F (by decide)
theorem tP_98 (x : Int32) : pF (TH b o s g w r A B t l z I F) 98 o (.int x) = TH b o s g w r A B t l z I (up F 98 x) := THc_P b o 98 _ F x (by decide)
theorem tG_106 : gF (TH b o s g w r A B t l z I F) 106 o = .int (F 106) := THc_G b o 106 _ F (by decide)
theorem tP_106 (x : Int32) : pF (TH b o s g w r A B t l z I F) 106 o (.int x) = TH b o s g w r A B t l z I (up F 106 x) := THc_P b o 106 _ F x (by decide)
theorem tG_120 : gF (TH b o s g w r A B t l z I F) 120 o = .int (F 120) := THc_G b o 120 _ F (by decide)
theorem tP_120 (x : Int32) : pF (TH b o s g w r A B t l z I F) 120 o (.int x) = TH b o s g w r A B t l z I (up F 120 x) := THc_P b o 120 _ F x (by decide)
theorem tI_1 (i : Nat) : gI (TH b o s g w r A B t l z I F) (o + 1) i = I 1 i := THc_I b o 1 _ F i (by omega)
theorem tI_2 (i : Nat) : gI (TH b o s g w r A B t l z I F) (o + 2) i = I 2 i := THc_I b o 2 _ F i (by omega)
theorem tI_3 (i : Nat) : gI (TH b o s g w r A B t l z I F) (o + 3) i = I 3 i := THc_I b o 3 _ F i (by omega)
theorem tI_4 {i : Nat} (hi : i < 41) : gI (TH b o s g w r A B t l z I F) (o + 4) i = nI (s i) := (THc_I b o 4 _ F i (by omega)).trans (if_pos hi)
theorem tI_5 (i : Nat) : gI (TH b o s g w r A B t l z I F) (o + 5) i = I 5 i := THc_I b o 5 _ F i (by omega)
theorem tI_6 (i : Nat) : gI (TH b o s g w r A B t l z I F) (o + 6) i = nI (t i) := THc_I b o 6 _ F i (by omega)
theorem tI_7 {i : Nat} (hi : i < 41) : gI (TH b o s g w r A B t l z I F) (o + 7) i = nI (r i) := (THc_I b o 7 _ F i (by omega)).trans (if_pos hi)
theorem tI_8 (i : Nat) : gI (TH b o s g w r A B t l z I F) (o + 8) i = nI (g i) := THc_I b o 8 _ F i (by omega)
theorem tI_9 {i : Nat} (hi : i < 984) : gI (TH b o s g w r A B t l z I F) (o + 9) i = nI (A (i / 41) (i % 41)) := (THc_I b o 9 _ F i (by omega)).trans (if_pos hi)
theorem tI_10 {i : Nat} (hi : i < 41) : gI (TH b o s g w r A B t l z I F) (o + 10) i = nI (w i) := (THc_I b o 10 _ F i (by omega)).trans (if_pos hi)
theorem tI_11 (i : Nat) : gI (TH b o s g w r A B t l z I F) (o + 11) i = nI (l i) := THc_I b o 11 _ F i (by omega)
theorem tI_12 (i : Nat) : gI (TH b o s g w r A B t l z I F) (o + 12) i = nI (z i) := THc_I b o 12 _ F i (by omega)
theorem tI_13 (i : Nat) : gI (TH b o s g w r A B t l z I F) (o + 13) i = I 13 i := THc_I b o 13 _ F i (by omega)
theorem tI_14 {i : Nat} (hi : i < 82) : gI (TH b o s g w r A B t l z I F) (o + 14) i = nI (B (i / 41) (i % 41)) := (THc_I b o 14 _ F i (by omega)).trans (if_pos hi)
theorem tI_15 (i : Nat) : gI (TH b o s g w r A B t l z I F) (o + 15) i = I 15 i := THc_I b o 15 _ F i (by omega)
theorem tC_o {C D : Nat → Nat → Int32} (h : ∀ k i, C k i = D k i) : THc b o C F = THc b o D F := by rw [show C = D from funext fun k => funext fun i => h k i]
theorem tW_1 (i : Nat) (x : Int32) : pI (TH b o s g w r A B t l z I F) (o + 1) i x = TH b o s g w r A B t l z (up2 I 1 i x) F := by
  refine (THc_W b o 1 _ F i _ (by omega)).trans (tC_o b o F (fun k j => ?_))
  rw [up2_at]; unfold tC
  by_cases hk : k = 1
  · subst hk; simp [up2_at]
  · simp [hk, up2_at]
theorem tW_2 (i : Nat) (x : Int32) : pI (TH b o s g w r A B t l z I F) (o + 2) i x = TH b o s g w r A B t l z (up2 I 2 i x) F := by
  refine (THc_W b o 2 _ F i _ (by omega)).trans (tC_o b o F (fun k j => ?_))
  rw [up2_at]; unfold tC
  by_cases hk : k = 2
  · subst hk; simp [up2_at]
  · simp [hk, up2_at]
theorem tW_3 (i : Nat) (x : Int32) : pI (TH b o s g w r A B t l z I F) (o + 3) i x = TH b o s g w r A B t l z (up2 I 3 i x) F := by
  refine (THc_W b o 3 _ F i _ (by omega)).trans (tC_o b o F (fun k j => ?_))
  rw [up2_at]; unfold tC
  by_cases hk : k = 3
  · subst hk; simp [up2_at]
  · simp [hk, up2_at]
theorem tW_4 {i v : Nat} (hi : i < 41 ∧ v < 4096) : pI (TH b o s g w r A B t l z I F) (o + 4) i (nI v) = TH b o (wr s i v) g w r A B t l z I F := by
  refine (THc_W b o 4 _ F i _ (by omega)).trans (tC_o b o F (fun k j => ?_))
  rw [up2_at]; unfold tC
  by_cases hk : k = 4
  · subst hk; by_cases hj : j = i
    · subst hj; simp [fS, hi.1, wr, Fin.ofNat, Nat.mod_eq_of_lt hi.2]
    · simp [fS, wr, hj]
  · simp [hk]
theorem tW_5 (i : Nat) (x : Int32) : pI (TH b o s g w r A B t l z I F) (o + 5) i x = TH b o s g w r A B t l z (up2 I 5 i x) F := by
  refine (THc_W b o 5 _ F i _ (by omega)).trans (tC_o b o F (fun k j => ?_))
  rw [up2_at]; unfold tC
  by_cases hk : k = 5
  · subst hk; simp [up2_at]
  · simp [hk, up2_at]
theorem tW_6 (i v : Nat) : pI (TH b o s g w r A B t l z I F) (o + 6) i (nI v) = TH b o s g w r A B (upN t i v) l z I F := by
  refine (THc_W b o 6 _ F i _ (by omega)).trans (tC_o b o F (fun k j => ?_))
  rw [up2_at]; unfold tC
  by_cases hk : k = 6
  · subst hk; by_cases hj : j = i
    · subst hj; simp [upN]
    · simp [upN, hj]
  · simp [hk]
theorem tW_7 {i v : Nat} (hi : i < 41 ∧ v < 4096) : pI (TH b o s g w r A B t l z I F) (o + 7) i (nI v) = TH b o s g w (wr r i v) A B t l z I F := by
  refine (THc_W b o 7 _ F i _ (by omega)).trans (tC_o b o F (fun k j => ?_))
  rw [up2_at]; unfold tC
  by_cases hk : k = 7
  · subst hk; by_cases hj : j = i
    · subst hj; simp [fS, hi.1, wr, Fin.ofNat, Nat.mod_eq_of_lt hi.2]
    · simp [fS, wr, hj]
  · simp [hk]
theorem tW_8 (i v : Nat) : pI (TH b o s g w r A B t l z I F) (o + 8) i (nI v) = TH b o s (upN g i v) w r A B t l z I F := by
  refine (THc_W b o 8 _ F i _ (by omega)).trans (tC_o b o F (fun k j => ?_))
  rw [up2_at]; unfold tC
  by_cases hk : k = 8
  · subst hk; by_cases hj : j = i
    · subst hj; simp [upN]
    · simp [upN, hj]
  · simp [hk]
theorem tW_9 {i v : Nat} (hi : i < 984 ∧ v < 4096) : pI (TH b o s g w r A B t l z I F) (o + 9) i (nI v) = TH b o s g w r (upS A (i / 41) (wr (A (i / 41)) (i % 41) v)) B t l z I F := by
  refine (THc_W b o 9 _ F i _ (by omega)).trans (tC_o b o F (fun k j => ?_))
  rw [up2_at]; unfold tC
  by_cases hk : k = 9
  · subst hk; by_cases hj : j = i
    · subst hj; simp [fA, hi.1, upS, wr, Fin.ofNat, Nat.mod_eq_of_lt hi.2]
    · have hx : j / 41 = i / 41 → ¬ j % 41 = i % 41 := fun h1 h2 => hj (by omega)
      by_cases h1 : j / 41 = i / 41
      · simp [fA, upS, wr, hj, h1, hx h1]
      · simp [fA, upS, hj, h1]
  · simp [hk]
theorem tW_10 {i v : Nat} (hi : i < 41 ∧ v < 4096) : pI (TH b o s g w r A B t l z I F) (o + 10) i (nI v) = TH b o s g (wr w i v) r A B t l z I F := by
  refine (THc_W b o 10 _ F i _ (by omega)).trans (tC_o b o F (fun k j => ?_))
  rw [up2_at]; unfold tC
  by_cases hk : k = 10
  · subst hk; by_cases hj : j = i
    · subst hj; simp [fS, hi.1, wr, Fin.ofNat, Nat.mod_eq_of_lt hi.2]
    · simp [fS, wr, hj]
  · simp [hk]
theorem tW_11 (i v : Nat) : pI (TH b o s g w r A B t l z I F) (o + 11) i (nI v) = TH b o s g w r A B t (upN l i v) z I F := by
  refine (THc_W b o 11 _ F i _ (by omega)).trans (tC_o b o F (fun k j => ?_))
  rw [up2_at]; unfold tC
  by_cases hk : k = 11
  · subst hk; by_cases hj : j = i
    · subst hj; simp [upN]
    · simp [upN, hj]
  · simp [hk]
theorem tW_12 (i v : Nat) : pI (TH b o s g w r A B t l z I F) (o + 12) i (nI v) = TH b o s g w r A B t l (upN z i v) I F := by
  refine (THc_W b o 12 _ F i _ (by omega)).trans (tC_o b o F (fun k j => ?_))
  rw [up2_at]; unfold tC
  by_cases hk : k = 12
  · subst hk; by_cases hj : j = i
    · subst hj; simp [upN]
    · simp [upN, hj]
  · simp [hk]
theorem tW_13 (i : Nat) (x : Int32) : pI (TH b o s g w r A B t l z I F) (o + 13) i x = TH b o s g w r A B t l z (up2 I 13 i x) F := by
  refine (THc_W b o 13 _ F i _ (by omega)).trans (tC_o b o F (fun k j => ?_))
  rw [up2_at]; unfold tC
  by_cases hk : k = 13
  · subst hk; simp [up2_at]
  · simp [hk, up2_at]
theorem tW_14 {i v : Nat} (hi : i < 82 ∧ v < 4096) : pI (TH b o s g w r A B t l z I F) (o + 14) i (nI v) = TH b o s g w r A (upS B (i / 41) (wr (B (i / 41)) (i % 41) v)) t l z I F := by
  refine (THc_W b o 14 _ F i _ (by omega)).trans (tC_o b o F (fun k j => ?_))
  rw [up2_at]; unfold tC
  by_cases hk : k = 14
  · subst hk; by_cases hj : j = i
    · subst hj; simp [fA, hi.1, upS, wr, Fin.ofNat, Nat.mod_eq_of_lt hi.2]
    · have hx : j / 41 = i / 41 → ¬ j % 41 = i % 41 := fun h1 h2 => hj (by omega)
      by_cases h1 : j / 41 = i / 41
      · simp [fA, upS, wr, hj, h1, hx h1]
      · simp [fA, upS, hj, h1]
  · simp [hk]
theorem tW_15 (i : Nat) (x : Int32) : pI (TH b o s g w r A B t l z I F) (o + 15) i x = TH b o s g w r A B t l z (up2 I 15 i x) F := by
  refine (THc_W b o 15 _ F i _ (by omega)).trans (tC_o b o F (fun k j => ?_))
  rw [up2_at]; unfold tC
  by_cases hk : k = 15
  · subst hk; simp [up2_at]
  · simp [hk, up2_at]
theorem TH_s {s' : St} (h : ∀ j, j < 41 → s j = s' j) : TH b o s g w r A B t l z I F = TH b o s' g w r A B t l z I F := by
  refine tC_o b o F (fun k i => ?_)
  unfold tC
  by_cases hk : k = 4
  · subst hk; simp only [if_true, fS]; by_cases hi : i < 41
    · rw [if_pos hi, if_pos hi, h i hi]
    · rw [if_neg hi, if_neg hi]
  · simp [hk]
theorem TH_w {w' : St} (h : ∀ j, j < 41 → w j = w' j) : TH b o s g w r A B t l z I F = TH b o s g w' r A B t l z I F := by
  refine tC_o b o F (fun k i => ?_)
  unfold tC
  by_cases hk : k = 10
  · subst hk; simp only [fS]; by_cases hi : i < 41
    · simp [hi, h i hi]
    · simp [hi]
  · simp [hk]
theorem TH_r {r' : St} (h : ∀ j, j < 41 → r j = r' j) : TH b o s g w r A B t l z I F = TH b o s g w r' A B t l z I F := by
  refine tC_o b o F (fun k i => ?_)
  unfold tC
  by_cases hk : k = 7
  · subst hk; simp only [fS]; by_cases hi : i < 41
    · simp [hi, h i hi]
    · simp [hi]
  · simp [hk]
theorem TH_A {A' : Nat → St} (h : ∀ m, m < 24 → ∀ j, j < 41 → A m j = A' m j) : TH b o s g w r A B t l z I F = TH b o s g w r A' B t l z I F := by
  refine tC_o b o F (fun k i => ?_)
  unfold tC
  by_cases hk : k = 9
  · subst hk; simp only [fA]; by_cases hi : i < 984
    · simp [hi, h (i / 41) (by omega) (i % 41) (by omega)]
    · simp [hi]
  · simp [hk]
theorem TH_B {B' : Nat → St} (h : ∀ m, m < 2 → ∀ j, j < 41 → B m j = B' m j) : TH b o s g w r A B t l z I F = TH b o s g w r A B' t l z I F := by
  refine tC_o b o F (fun k i => ?_)
  unfold tC
  by_cases hk : k = 14
  · subst hk; simp only [fA]; by_cases hi : i < 82
    · simp [hi, h (i / 41) (by omega) (i % 41) (by omega)]
    · simp [hi]
  · simp [hk]
end THR
