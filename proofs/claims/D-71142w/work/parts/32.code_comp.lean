set_option maxRecDepth 100000
/-! java/util/AbstractCollection.<init>()V -/
def mJ0_init : Cd := ([(0, .inl (i_aload 0 1)),
  (1, .inl (i_oini 4)),
  (4, .inl i_vret)], noH)
theorem rJ0_init_0 (Q : Po) (h : Hp) (x : Nat) (st : List Value) : Ex mJ0_init Q 0 [.ref x] st h = Ex mJ0_init Q 1 [.ref x] (.ref x :: st) h := Ex_nx rfl rfl
theorem rJ0_init_0n (Q : Po) (h : Hp) (st : List Value) : Ex mJ0_init Q 0 [.null] st h = Ex mJ0_init Q 1 [.null] (.null :: st) h := Ex_nx rfl rfl
theorem rJ0_init_1 (Q : Po) (h : Hp) (ls : List Value) (a : Nat) : Ex mJ0_init Q 1 ls (.ref a :: []) h = Ex mJ0_init Q 4 ls [] h := Ex_nx rfl rfl
theorem rJ0_init_4 (Q : Po) (h : Hp) (ls : List Value) : Ex mJ0_init Q 4 ls [] h = Q (.inl none) h := Ex_rt rfl rfl
theorem rJ0_init_t (Q : Po) (h : Hp) (pc n a : Nat) (ls st : List Value) : Cont mJ0_init Q pc ls n st (.inr a) h = Q (.inr a) h := rfl
/-! java/util/AbstractList.<init>()V -/
def mJ1_init : Cd := ([(0, .inl (i_aload 0 1)),
  (1, .inr (c_I 0 4 1 (Mt mJ0_init 1))),
  (4, .inl (i_aload 0 5)),
  (5, .inl (i_push (.int 0) 6)),
  (6, .inl (i_putI 158 [14] 9)),
  (9, .inl i_vret)], noH)
theorem rJ1_init_0 (Q : Po) (h : Hp) (x : Nat) (st : List Value) : Ex mJ1_init Q 0 [.ref x] st h = Ex mJ1_init Q 1 [.ref x] (.ref x :: st) h := Ex_nx rfl rfl
theorem rJ1_init_0n (Q : Po) (h : Hp) (st : List Value) : Ex mJ1_init Q 0 [.null] st h = Ex mJ1_init Q 1 [.null] (.null :: st) h := Ex_nx rfl rfl
theorem rJ1_init_1 (Q : Po) (h : Hp) (ls : List Value) (b : Nat) : Ex mJ1_init Q 1 ls (.ref b :: []) h = Ex mJ0_init (Cont mJ1_init Q 1 ls 4 []) 0 [.ref b] [] h := Ex_cl (n := 1) (as := [.ref b]) rfl rfl
theorem rJ1_init_4 (Q : Po) (h : Hp) (x : Nat) (st : List Value) : Ex mJ1_init Q 4 [.ref x] st h = Ex mJ1_init Q 5 [.ref x] (.ref x :: st) h := Ex_nx rfl rfl
theorem rJ1_init_4n (Q : Po) (h : Hp) (st : List Value) : Ex mJ1_init Q 4 [.null] st h = Ex mJ1_init Q 5 [.null] (.null :: st) h := Ex_nx rfl rfl
theorem rJ1_init_5 (Q : Po) (h : Hp) (ls : List Value) (st : List Value) : Ex mJ1_init Q 5 ls st h = Ex mJ1_init Q 6 ls (.int 0 :: st) h := Ex_nx rfl rfl
theorem rJ1_init_6 (Q : Po) (h : Hp) (ls : List Value) (st : List Value) (x : Int32) (a : Nat) : Ex mJ1_init Q 6 ls (.int x :: .ref a :: st) h = (gK h a ∈ ([14] : List Nat) ∧ Ex mJ1_init Q 9 ls st (pF h 158 a (.int x))) := Ex_gd rfl rfl
theorem rJ1_init_9 (Q : Po) (h : Hp) (ls : List Value) : Ex mJ1_init Q 9 ls [] h = Q (.inl none) h := Ex_rt rfl rfl
theorem rJ1_init_t (Q : Po) (h : Hp) (pc n a : Nat) (ls st : List Value) : Cont mJ1_init Q pc ls n st (.inr a) h = Q (.inr a) h := rfl
/-! java/util/ArrayList.<init>()V -/
def mJ2_init : Cd := ([(0, .inl (i_aload 0 1)),
  (1, .inr (c_I 0 4 1 (Mt mJ1_init 1))),
  (4, .inl (i_aload 0 5)),
  (5, .inl (i_gets 1001 8)),
  (8, .inl (i_putR 161 [14] 11)),
  (11, .inl i_vret)], noH)
theorem rJ2_init_0 (Q : Po) (h : Hp) (x : Nat) (st : List Value) : Ex mJ2_init Q 0 [.ref x] st h = Ex mJ2_init Q 1 [.ref x] (.ref x :: st) h := Ex_nx rfl rfl
theorem rJ2_init_0n (Q : Po) (h : Hp) (st : List Value) : Ex mJ2_init Q 0 [.null] st h = Ex mJ2_init Q 1 [.null] (.null :: st) h := Ex_nx rfl rfl
theorem rJ2_init_1 (Q : Po) (h : Hp) (ls : List Value) (b : Nat) : Ex mJ2_init Q 1 ls (.ref b :: []) h = Ex mJ1_init (Cont mJ2_init Q 1 ls 4 []) 0 [.ref b] [] h := Ex_cl (n := 1) (as := [.ref b]) rfl rfl
theorem rJ2_init_4 (Q : Po) (h : Hp) (x : Nat) (st : List Value) : Ex mJ2_init Q 4 [.ref x] st h = Ex mJ2_init Q 5 [.ref x] (.ref x :: st) h := Ex_nx rfl rfl
theorem rJ2_init_4n (Q : Po) (h : Hp) (st : List Value) : Ex mJ2_init Q 4 [.null] st h = Ex mJ2_init Q 5 [.null] (.null :: st) h := Ex_nx rfl rfl
theorem rJ2_init_5 (Q : Po) (h : Hp) (ls : List Value) (st : List Value) : Ex mJ2_init Q 5 ls st h = Ex mJ2_init Q 8 ls (gF h 1001 0 :: st) h := Ex_nx rfl rfl
theorem rJ2_init_8 (Q : Po) (h : Hp) (ls : List Value) (st : List Value) (x a : Nat) : Ex mJ2_init Q 8 ls (.ref x :: .ref a :: st) h = (gK h a ∈ ([14] : List Nat) ∧ Ex mJ2_init Q 11 ls st (pF h 161 a (.ref x))) := Ex_gd rfl rfl
theorem rJ2_init_8n (Q : Po) (h : Hp) (ls : List Value) (st : List Value) (a : Nat) : Ex mJ2_init Q 8 ls (.null :: .ref a :: st) h = (gK h a ∈ ([14] : List Nat) ∧ Ex mJ2_init Q 11 ls st (pF h 161 a .null)) := Ex_gd rfl rfl
theorem rJ2_init_11 (Q : Po) (h : Hp) (ls : List Value) : Ex mJ2_init Q 11 ls [] h = Q (.inl none) h := Ex_rt rfl rfl
theorem rJ2_init_t (Q : Po) (h : Hp) (pc n a : Nat) (ls st : List Value) : Cont mJ2_init Q pc ls n st (.inr a) h = Q (.inr a) h := rfl
/-! FishReaders$Library.<init>()V -/
def mX1_init : Cd := ([(0, .inl (i_aload 0 1)),
  (1, .inl (i_oini 4)),
  (4, .inl (i_aload 0 5)),
  (5, .inl (i_push (.int 6) 7)),
  (7, .inl (i_newa 51 9)),
  (9, .inl (i_putR 39 [2] 12)),
  (12, .inl (i_aload 0 13)),
  (13, .inl (i_push (.int 6) 15)),
  (15, .inl (i_newa 51 17)),
  (17, .inl (i_putR 41 [2] 20)),
  (20, .inl (i_aload 0 21)),
  (21, .inl (i_push (.int 6) 23)),
  (23, .inl (i_newa 51 25)),
  (25, .inl (i_putR 43 [2] 28)),
  (28, .inl (i_aload 0 29)),
  (29, .inl (i_push (.int 6) 31)),
  (31, .inl (i_newa 51 33)),
  (33, .inl (i_putR 45 [2] 36)),
  (36, .inl (i_aload 0 37)),
  (37, .inl (i_new 14 3 40)),
  (40, .inl (i_dup 41)),
  (41, .inr (c_I 0 44 1 (Mt mJ2_init 1))),
  (44, .inl (i_putR 51 [2] 47)),
  (47, .inl (i_aload 0 48)),
  (48, .inl (i_push (.int 5) 49)),
  (49, .inl (i_newa 51 51)),
  (51, .inl (i_putR 53 [2] 54)),
  (54, .inl (i_aload 0 55)),
  (55, .inl (i_push (.int 5) 56)),
  (56, .inl (i_newa 51 58)),
  (58, .inl (i_putR 55 [2] 61)),
  (61, .inl (i_aload 0 62)),
  (62, .inl (i_push (.int (-1000000)) 64)),
  (64, .inl (i_putI 60 [2] 67)),
  (67, .inl i_vret)], noH)
theorem rX1_init_0 (Q : Po) (h : Hp) (x : Nat) (st : List Value) : Ex mX1_init Q 0 [.ref x] st h = Ex mX1_init Q 1 [.ref x] (.ref x :: st) h := Ex_nx rfl rfl
theorem rX1_init_1 (Q : Po) (h : Hp) (ls : List Value) (a : Nat) : Ex mX1_init Q 1 ls (.ref a :: []) h = Ex mX1_init Q 4 ls [] h := Ex_nx rfl rfl
theorem rX1_init_4 (Q : Po) (h : Hp) (x : Nat) (st : List Value) : Ex mX1_init Q 4 [.ref x] st h = Ex mX1_init Q 5 [.ref x] (.ref x :: st) h := Ex_nx rfl rfl
theorem rX1_init_5 (Q : Po) (h : Hp) (ls : List Value) (st : List Value) : Ex mX1_init Q 5 ls st h = Ex mX1_init Q 7 ls (.int 6 :: st) h := Ex_nx rfl rfl
theorem rX1_init_7 (Q : Po) (h : Hp) (ls : List Value) (st : List Value) (x : Int32) : Ex mX1_init Q 7 ls (.int x :: st) h = ((¬ x < 0 ∧ x.toNatClampNeg ≤ 65536 ∧ 1 ≤ gC h ∧ x.toNatClampNeg ≤ gS h) ∧ Ex mX1_init Q 9 ls (.ref (gN h) :: st) (nA h 51 x.toNatClampNeg)) := Ex_gd rfl rfl
theorem rX1_init_9 (Q : Po) (h : Hp) (ls : List Value) (st : List Value) (x a : Nat) : Ex mX1_init Q 9 ls (.ref x :: .ref a :: st) h = (gK h a ∈ ([2] : List Nat) ∧ Ex mX1_init Q 12 ls st (pF h 39 a (.ref x))) := Ex_gd rfl rfl
theorem rX1_init_9n (Q : Po) (h : Hp) (ls : List Value) (st : List Value) (a : Nat) : Ex mX1_init Q 9 ls (.null :: .ref a :: st) h = (gK h a ∈ ([2] : List Nat) ∧ Ex mX1_init Q 12 ls st (pF h 39 a .null)) := Ex_gd rfl rfl
theorem rX1_init_12 (Q : Po) (h : Hp) (x : Nat) (st : List Value) : Ex mX1_init Q 12 [.ref x] st h = Ex mX1_init Q 13 [.ref x] (.ref x :: st) h := Ex_nx rfl rfl
theorem rX1_init_13 (Q : Po) (h : Hp) (ls : List Value) (st : List Value) : Ex mX1_init Q 13 ls st h = Ex mX1_init Q 15 ls (.int 6 :: st) h := Ex_nx rfl rfl
theorem rX1_init_15 (Q : Po) (h : Hp) (ls : List Value) (st : List Value) (x : Int32) : Ex mX1_init Q 15 ls (.int x :: st) h = ((¬ x < 0 ∧ x.toNatClampNeg ≤ 65536 ∧ 1 ≤ gC h ∧ x.toNatClampNeg ≤ gS h) ∧ Ex mX1_init Q 17 ls (.ref (gN h) :: st) (nA h 51 x.toNatClampNeg)) := Ex_gd rfl rfl
theorem rX1_init_17 (Q : Po) (h : Hp) (ls : List Value) (st : List Value) (x a : Nat) : Ex mX1_init Q 17 ls (.ref x :: .ref a :: st) h = (gK h a ∈ ([2] : List Nat) ∧ Ex mX1_init Q 20 ls st (pF h 41 a (.ref x))) := Ex_gd rfl rfl
theorem rX1_init_17n (Q : Po) (h : Hp) (ls : List Value) (st : List Value) (a : Nat) : Ex mX1_init Q 17 ls (.null :: .ref a :: st) h = (gK h a ∈ ([2] : List Nat) ∧ Ex mX1_init Q 20 ls st (pF h 41 a .null)) := Ex_gd rfl rfl
theorem rX1_init_20 (Q : Po) (h : Hp) (x : Nat) (st : List Value) : Ex mX1_init Q 20 [.ref x] st h = Ex mX1_init Q 21 [.ref x] (.ref x :: st) h := Ex_nx rfl rfl
theorem rX1_init_21 (Q : Po) (h : Hp) (ls : List Value) (st : List Value) : Ex mX1_init Q 21 ls st h = Ex mX1_init Q 23 ls (.int 6 :: st) h := Ex_nx rfl rfl
theorem rX1_init_23 (Q : Po) (h : Hp) (ls : List Value) (st : List Value) (x : Int32) : Ex mX1_init Q 23 ls (.int x :: st) h = ((¬ x < 0 ∧ x.toNatClampNeg ≤ 65536 ∧ 1 ≤ gC h ∧ x.toNatClampNeg ≤ gS h) ∧ Ex mX1_init Q 25 ls (.ref (gN h) :: st) (nA h 51 x.toNatClampNeg)) := Ex_gd rfl rfl
theorem rX1_init_25 (Q : Po) (h : Hp) (ls : List Value) (st : List Value) (x a : Nat) : Ex mX1_init Q 25 ls (.ref x :: .ref a :: st) h = (gK h a ∈ ([2] : List Nat) ∧ Ex mX1_init Q 28 ls st (pF h 43 a (.ref x))) := Ex_gd rfl rfl
theorem rX1_init_25n (Q : Po) (h : Hp) (ls : List Value) (st : List Value) (a : Nat) : Ex mX1_init Q 25 ls (.null :: .ref a :: st) h = (gK h a ∈ ([2] : List Nat) ∧ Ex mX1_init Q 28 ls st (pF h 43 a .null)) := Ex_gd rfl rfl
theorem rX1_init_28 (Q : Po) (h : Hp) (x : Nat) (st : List Value) : Ex mX1_init Q 28 [.ref x] st h = Ex mX1_init Q 29 [.ref x] (.ref x :: st) h := Ex_nx rfl rfl
theorem rX1_init_29 (Q : Po) (h : Hp) (ls : List Value) (st : List Value) : Ex mX1_init Q 29 ls st h = Ex mX1_init Q 31 ls (.int 6 :: st) h := Ex_nx rfl rfl
theorem rX1_init_31 (Q : Po) (h : Hp) (ls : List Value) (st : List Value) (x : Int32) : Ex mX1_init Q 31 ls (.int x :: st) h = ((¬ x < 0 ∧ x.toNatClampNeg ≤ 65536 ∧ 1 ≤ gC h ∧ x.toNatClampNeg ≤ gS h) ∧ Ex mX1_init Q 33 ls (.ref (gN h) :: st) (nA h 51 x.toNatClampNeg)) := Ex_gd rfl rfl
theorem rX1_init_33 (Q : Po) (h : Hp) (ls : List Value) (st : List Value) (x a : Nat) : Ex mX1_init Q 33 ls (.ref x :: .ref a :: st) h = (gK h a ∈ ([2] : List Nat) ∧ Ex mX1_init Q 36 ls st (pF h 45 a (.ref x))) := Ex_gd rfl rfl
theorem rX1_init_33n (Q : Po) (h : Hp) (ls : List Value) (st : List Value) (a : Nat) : Ex mX1_init Q 33 ls (.null :: .ref a :: st) h = (gK h a ∈ ([2] : List Nat) ∧ Ex mX1_init Q 36 ls st (pF h 45 a .null)) := Ex_gd rfl rfl
theorem rX1_init_36 (Q : Po) (h : Hp) (x : Nat) (st : List Value) : Ex mX1_init Q 36 [.ref x] st h = Ex mX1_init Q 37 [.ref x] (.ref x :: st) h := Ex_nx rfl rfl
theorem rX1_init_37 (Q : Po) (h : Hp) (ls : List Value) (st : List Value) : Ex mX1_init Q 37 ls st h = ((1 ≤ gC h ∧ 3 ≤ gS h) ∧ Ex mX1_init Q 40 ls (.ref (gN h) :: st) (nO h 14 3)) := Ex_gd rfl rfl
theorem rX1_init_40 (Q : Po) (h : Hp) (ls : List Value) (st : List Value) (x : Nat) : Ex mX1_init Q 40 ls (.ref x :: st) h = Ex mX1_init Q 41 ls (.ref x :: .ref x :: st) h := Ex_nx rfl rfl
theorem rX1_init_41 (Q : Po) (h : Hp) (ls : List Value) (s0 s1 : Value) (b : Nat) : Ex mX1_init Q 41 ls (.ref b :: [s0, s1]) h = Ex mJ2_init (Cont mX1_init Q 41 ls 44 [s0, s1]) 0 [.ref b] [] h := Ex_cl (n := 1) (as := [.ref b]) rfl rfl
theorem rX1_init_44 (Q : Po) (h : Hp) (ls : List Value) (st : List Value) (x a : Nat) : Ex mX1_init Q 44 ls (.ref x :: .ref a :: st) h = (gK h a ∈ ([2] : List Nat) ∧ Ex mX1_init Q 47 ls st (pF h 51 a (.ref x))) := Ex_gd rfl rfl
theorem rX1_init_44n (Q : Po) (h : Hp) (ls : List Value) (st : List Value) (a : Nat) : Ex mX1_init Q 44 ls (.null :: .ref a :: st) h = (gK h a ∈ ([2] : List Nat) ∧ Ex mX1_init Q 47 ls st (pF h 51 a .null)) := Ex_gd rfl rfl
theorem rX1_init_47 (Q : Po) (h : Hp) (x : Nat) (st : List Value) : Ex mX1_init Q 47 [.ref x] st h = Ex mX1_init Q 48 [.ref x] (.ref x :: st) h := Ex_nx rfl rfl
theorem rX1_init_48 (Q : Po) (h : Hp) (ls : List Value) (st : List Value) : Ex mX1_init Q 48 ls st h = Ex mX1_init Q 49 ls (.int 5 :: st) h := Ex_nx rfl rfl
theorem rX1_init_49 (Q : Po) (h : Hp) (ls : List Value) (st : List Value) (x : Int32) : Ex mX1_init Q 49 ls (.int x :: st) h = ((¬ x < 0 ∧ x.toNatClampNeg ≤ 65536 ∧ 1 ≤ gC h ∧ x.toNatClampNeg ≤ gS h) ∧ Ex mX1_init Q 51 ls (.ref (gN h) :: st) (nA h 51 x.toNatClampNeg)) := Ex_gd rfl rfl
theorem rX1_init_51 (Q : Po) (h : Hp) (ls : List Value) (st : List Value) (x a : Nat) : Ex mX1_init Q 51 ls (.ref x :: .ref a :: st) h = (gK h a ∈ ([2] : List Nat) ∧ Ex mX1_init Q 54 ls st (pF h 53 a (.ref x))) := Ex_gd rfl rfl
theorem rX1_init_51n (Q : Po) (h : Hp) (ls : List Value) (st : List Value) (a : Nat) : Ex mX1_init Q 51 ls (.null :: .ref a :: st) h = (gK h a ∈ ([2] : List Nat) ∧ Ex mX1_init Q 54 ls st (pF h 53 a .null)) := Ex_gd rfl rfl
theorem rX1_init_54 (Q : Po) (h : Hp) (x : Nat) (st : List Value) : Ex mX1_init Q 54 [.ref x] st h = Ex mX1_init Q 55 [.ref x] (.ref x :: st) h := Ex_nx rfl rfl
theorem rX1_init_55 (Q : Po) (h : Hp) (ls : List Value) (st : List Value) : Ex mX1_init Q 55 ls st h = Ex mX1_init Q 56 ls (.int 5 :: st) h := Ex_nx rfl rfl
theorem rX1_init_56 (Q : Po) (h : Hp) (ls : List Value) (st : List Value) (x : Int32) : Ex mX1_init Q 56 ls (.int x :: st) h = ((¬ x < 0 ∧ x.toNatClampNeg ≤ 65536 ∧ 1 ≤ gC h ∧ x.toNatClampNeg ≤ gS h) ∧ Ex mX1_init Q 58 ls (.ref (gN h) :: st) (nA h 51 x.toNatClampNeg)) := Ex_gd rfl rfl
theorem rX1_init_58 (Q : Po) (h : Hp) (ls : List Value) (st : List Value) (x a : Nat) : Ex mX1_init Q 58 ls (.ref x :: .ref a :: st) h = (gK h a ∈ ([2] : List Nat) ∧ Ex mX1_init Q 61 ls st (pF h 55 a (.ref x))) := Ex_gd rfl rfl
theorem rX1_init_58n (Q : Po) (h : Hp) (ls : List Value) (st : List Value) (a : Nat) : Ex mX1_init Q 58 ls (.null :: .ref a :: st) h = (gK h a ∈ ([2] : List Nat) ∧ Ex mX1_init Q 61 ls st (pF h 55 a .null)) := Ex_gd rfl rfl
theorem rX1_init_61 (Q : Po) (h : Hp) (x : Nat) (st : List Value) : Ex mX1_init Q 61 [.ref x] st h = Ex mX1_init Q 62 [.ref x] (.ref x :: st) h := Ex_nx rfl rfl
theorem rX1_init_62 (Q : Po) (h : Hp) (ls : List Value) (st : List Value) : Ex mX1_init Q 62 ls st h = Ex mX1_init Q 64 ls (.int (-1000000) :: st) h := Ex_nx rfl rfl
theorem rX1_init_64 (Q : Po) (h : Hp) (ls : List Value) (st : List Value) (x : Int32) (a : Nat) : Ex mX1_init Q 64 ls (.int x :: .ref a :: st) h = (gK h a ∈ ([2] : List Nat) ∧ Ex mX1_init Q 67 ls st (pF h 60 a (.int x))) := Ex_gd rfl rfl
theorem rX1_init_67 (Q : Po) (h : Hp) (ls : List Value) : Ex mX1_init Q 67 ls [] h = Q (.inl none) h := Ex_rt rfl rfl
theorem rX1_init_t (Q : Po) (h : Hp) (pc n a : Nat) (ls st : List Value) : Cont mX1_init Q pc ls n st (.inr a) h = Q (.inr a) h := rfl
/-! FishReaders$Trail.<init>()V -/
def mX2_init : Cd := ([(0, .inl (i_aload 0 1)),
  (1, .inl (i_oini 4)),
  (4, .inl (i_aload 0 5)),
  (5, .inl (i_push (.int 16) 7)),
  (7, .inl (i_newa 51 9)),
  (9, .inl (i_putR 65 [3] 12)),
  (12, .inl i_vret)], noH)
theorem rX2_init_0 (Q : Po) (h : Hp) (x : Nat) (st : List Value) : Ex mX2_init Q 0 [.ref x] st h = Ex mX2_init Q 1 [.ref x] (.ref x :: st) h := Ex_nx rfl rfl
theorem rX2_init_1 (Q : Po) (h : Hp) (ls : List Value) (a : Nat) : Ex mX2_init Q 1 ls (.ref a :: []) h = Ex mX2_init Q 4 ls [] h := Ex_nx rfl rfl
theorem rX2_init_4 (Q : Po) (h : Hp) (x : Nat) (st : List Value) : Ex mX2_init Q 4 [.ref x] st h = Ex mX2_init Q 5 [.ref x] (.ref x :: st) h := Ex_nx rfl rfl
theorem rX2_init_5 (Q : Po) (h : Hp) (ls : List Value) (st : List Value) : Ex mX2_init Q 5 ls st h = Ex mX2_init Q 7 ls (.int 16 :: st) h := Ex_nx rfl rfl
theorem rX2_init_7 (Q : Po) (h : Hp) (ls : List Value) (st : List Value) (x : Int32) : Ex mX2_init Q 7 ls (.int x :: st) h = ((¬ x < 0 ∧ x.toNatClampNeg ≤ 65536 ∧ 1 ≤ gC h ∧ x.toNatClampNeg ≤ gS h) ∧ Ex mX2_init Q 9 ls (.ref (gN h) :: st) (nA h 51 x.toNatClampNeg)) := Ex_gd rfl rfl
theorem rX2_init_9 (Q : Po) (h : Hp) (ls : List Value) (st : List Value) (x a : Nat) : Ex mX2_init Q 9 ls (.ref x :: .ref a :: st) h = (gK h a ∈ ([3] : List Nat) ∧ Ex mX2_init Q 12 ls st (pF h 65 a (.ref x))) := Ex_gd rfl rfl
theorem rX2_init_9n (Q : Po) (h : Hp) (ls : List Value) (st : List Value) (a : Nat) : Ex mX2_init Q 9 ls (.null :: .ref a :: st) h = (gK h a ∈ ([3] : List Nat) ∧ Ex mX2_init Q 12 ls st (pF h 65 a .null)) := Ex_gd rfl rfl
theorem rX2_init_12 (Q : Po) (h : Hp) (ls : List Value) : Ex mX2_init Q 12 ls [] h = Q (.inl none) h := Ex_rt rfl rfl
theorem rX2_init_t (Q : Po) (h : Hp) (pc n a : Nat) (ls st : List Value) : Cont mX2_init Q pc ls n st (.inr a) h = Q (.inr a) h := rfl
/-! FishReaders$Fish.<init>(I)V -/
def mX3_init : Cd := ([(0, .inl (i_aload 0 1)),
  (1, .inl (i_oini 4)),
  (4, .inl (i_aload 0 5)),
  (5, .inl (i_iload 1 6)),
  (6, .inl (i_putI 68 [4, 5, 6, 7, 8] 9)),
  (9, .inl i_vret)], noH)
theorem rX3_init_0 (Q : Po) (h : Hp) (l1 : Value) (x : Nat) (st : List Value) : Ex mX3_init Q 0 [.ref x, l1] st h = Ex mX3_init Q 1 [.ref x, l1] (.ref x :: st) h := Ex_nx rfl rfl
theorem rX3_init_1 (Q : Po) (h : Hp) (ls : List Value) (a : Nat) : Ex mX3_init Q 1 ls (.ref a :: []) h = Ex mX3_init Q 4 ls [] h := Ex_nx rfl rfl
theorem rX3_init_4 (Q : Po) (h : Hp) (l1 : Value) (x : Nat) (st : List Value) : Ex mX3_init Q 4 [.ref x, l1] st h = Ex mX3_init Q 5 [.ref x, l1] (.ref x :: st) h := Ex_nx rfl rfl
theorem rX3_init_5 (Q : Po) (h : Hp) (l0 : Value) (x : Int32) (st : List Value) : Ex mX3_init Q 5 [l0, .int x] st h = Ex mX3_init Q 6 [l0, .int x] (.int x :: st) h := Ex_nx rfl rfl
theorem rX3_init_6 (Q : Po) (h : Hp) (ls : List Value) (st : List Value) (x : Int32) (a : Nat) : Ex mX3_init Q 6 ls (.int x :: .ref a :: st) h = (gK h a ∈ ([4, 5, 6, 7, 8] : List Nat) ∧ Ex mX3_init Q 9 ls st (pF h 68 a (.int x))) := Ex_gd rfl rfl
theorem rX3_init_9 (Q : Po) (h : Hp) (ls : List Value) : Ex mX3_init Q 9 ls [] h = Q (.inl none) h := Ex_rt rfl rfl
theorem rX3_init_t (Q : Po) (h : Hp) (pc n a : Nat) (ls st : List Value) : Cont mX3_init Q pc ls n st (.inr a) h = Q (.inr a) h := rfl
/-! FishReaders$Browser.<init>(I)V -/
def mX4_init : Cd := ([(0, .inl (i_aload 0 1)),
  (1, .inl (i_iload 1 2)),
  (2, .inr (c_I 1 5 2 (Mt mX3_init 2))),
  (5, .inl i_vret)], noH)
theorem rX4_init_0 (Q : Po) (h : Hp) (l1 : Value) (x : Nat) (st : List Value) : Ex mX4_init Q 0 [.ref x, l1] st h = Ex mX4_init Q 1 [.ref x, l1] (.ref x :: st) h := Ex_nx rfl rfl
theorem rX4_init_1 (Q : Po) (h : Hp) (l0 : Value) (x : Int32) (st : List Value) : Ex mX4_init Q 1 [l0, .int x] st h = Ex mX4_init Q 2 [l0, .int x] (.int x :: st) h := Ex_nx rfl rfl
theorem rX4_init_2 (Q : Po) (h : Hp) (ls : List Value) (a0 : Int32) (b : Nat) : Ex mX4_init Q 2 ls (.int a0 :: .ref b :: []) h = Ex mX3_init (Cont mX4_init Q 2 ls 5 []) 0 [.ref b, .int a0] [] h := Ex_cl (n := 2) (as := [.ref b, .int a0]) rfl rfl
theorem rX4_init_5 (Q : Po) (h : Hp) (ls : List Value) : Ex mX4_init Q 5 ls [] h = Q (.inl none) h := Ex_rt rfl rfl
theorem rX4_init_t (Q : Po) (h : Hp) (pc n a : Nat) (ls st : List Value) : Cont mX4_init Q pc ls n st (.inr a) h = Q (.inr a) h := rfl
/-! FishReaders$Poet.<init>(I)V -/
def mX5_init : Cd := ([(0, .inl (i_aload 0 1)),
  (1, .inl (i_iload 1 2)),
  (2, .inr (c_I 1 5 2 (Mt mX4_init 2))),
  (5, .inl i_vret)], noH)
theorem rX5_init_0 (Q : Po) (h : Hp) (l1 : Value) (x : Nat) (st : List Value) : Ex mX5_init Q 0 [.ref x, l1] st h = Ex mX5_init Q 1 [.ref x, l1] (.ref x :: st) h := Ex_nx rfl rfl
theorem rX5_init_1 (Q : Po) (h : Hp) (l0 : Value) (x : Int32) (st : List Value) : Ex mX5_init Q 1 [l0, .int x] st h = Ex mX5_init Q 2 [l0, .int x] (.int x :: st) h := Ex_nx rfl rfl
theorem rX5_init_2 (Q : Po) (h : Hp) (ls : List Value) (a0 : Int32) (b : Nat) : Ex mX5_init Q 2 ls (.int a0 :: .ref b :: []) h = Ex mX4_init (Cont mX5_init Q 2 ls 5 []) 0 [.ref b, .int a0] [] h := Ex_cl (n := 2) (as := [.ref b, .int a0]) rfl rfl
theorem rX5_init_5 (Q : Po) (h : Hp) (ls : List Value) : Ex mX5_init Q 5 ls [] h = Q (.inl none) h := Ex_rt rfl rfl
theorem rX5_init_t (Q : Po) (h : Hp) (pc n a : Nat) (ls st : List Value) : Cont mX5_init Q pc ls n st (.inr a) h = Q (.inr a) h := rfl
/-! FishReaders$Critic.<init>(I)V -/
def mX6_init : Cd := ([(0, .inl (i_aload 0 1)),
  (1, .inl (i_iload 1 2)),
  (2, .inr (c_I 1 5 2 (Mt mX4_init 2))),
  (5, .inl i_vret)], noH)
theorem rX6_init_0 (Q : Po) (h : Hp) (l1 : Value) (x : Nat) (st : List Value) : Ex mX6_init Q 0 [.ref x, l1] st h = Ex mX6_init Q 1 [.ref x, l1] (.ref x :: st) h := Ex_nx rfl rfl
theorem rX6_init_1 (Q : Po) (h : Hp) (l0 : Value) (x : Int32) (st : List Value) : Ex mX6_init Q 1 [l0, .int x] st h = Ex mX6_init Q 2 [l0, .int x] (.int x :: st) h := Ex_nx rfl rfl
theorem rX6_init_2 (Q : Po) (h : Hp) (ls : List Value) (a0 : Int32) (b : Nat) : Ex mX6_init Q 2 ls (.int a0 :: .ref b :: []) h = Ex mX4_init (Cont mX6_init Q 2 ls 5 []) 0 [.ref b, .int a0] [] h := Ex_cl (n := 2) (as := [.ref b, .int a0]) rfl rfl
theorem rX6_init_5 (Q : Po) (h : Hp) (ls : List Value) : Ex mX6_init Q 5 ls [] h = Q (.inl none) h := Ex_rt rfl rfl
theorem rX6_init_t (Q : Po) (h : Hp) (pc n a : Nat) (ls st : List Value) : Cont mX6_init Q pc ls n st (.inr a) h = Q (.inr a) h := rfl
/-! FishReaders$Wanderer.<init>(I)V -/
def mX7_init : Cd := ([(0, .inl (i_aload 0 1)),
  (1, .inl (i_iload 1 2)),
  (2, .inr (c_I 1 5 2 (Mt mX3_init 2))),
  (5, .inl i_vret)], noH)
theorem rX7_init_0 (Q : Po) (h : Hp) (l1 : Value) (x : Nat) (st : List Value) : Ex mX7_init Q 0 [.ref x, l1] st h = Ex mX7_init Q 1 [.ref x, l1] (.ref x :: st) h := Ex_nx rfl rfl
theorem rX7_init_1 (Q : Po) (h : Hp) (l0 : Value) (x : Int32) (st : List Value) : Ex mX7_init Q 1 [l0, .int x] st h = Ex mX7_init Q 2 [l0, .int x] (.int x :: st) h := Ex_nx rfl rfl
theorem rX7_init_2 (Q : Po) (h : Hp) (ls : List Value) (a0 : Int32) (b : Nat) : Ex mX7_init Q 2 ls (.int a0 :: .ref b :: []) h = Ex mX3_init (Cont mX7_init Q 2 ls 5 []) 0 [.ref b, .int a0] [] h := Ex_cl (n := 2) (as := [.ref b, .int a0]) rfl rfl
theorem rX7_init_5 (Q : Po) (h : Hp) (ls : List Value) : Ex mX7_init Q 5 ls [] h = Q (.inl none) h := Ex_rt rfl rfl
theorem rX7_init_t (Q : Po) (h : Hp) (pc n a : Nat) (ls st : List Value) : Cont mX7_init Q pc ls n st (.inr a) h = Q (.inr a) h := rfl
/-! FishReaders$Scholar.<init>(I)V -/
def mX8_init : Cd := ([(0, .inl (i_aload 0 1)),
  (1, .inl (i_iload 1 2)),
  (2, .inr (c_I 1 5 2 (Mt mX7_init 2))),
  (5, .inl i_vret)], noH)
theorem rX8_init_0 (Q : Po) (h : Hp) (l1 : Value) (x : Nat) (st : List Value) : Ex mX8_init Q 0 [.ref x, l1] st h = Ex mX8_init Q 1 [.ref x, l1] (.ref x :: st) h := Ex_nx rfl rfl
theorem rX8_init_1 (Q : Po) (h : Hp) (l0 : Value) (x : Int32) (st : List Value) : Ex mX8_init Q 1 [l0, .int x] st h = Ex mX8_init Q 2 [l0, .int x] (.int x :: st) h := Ex_nx rfl rfl
theorem rX8_init_2 (Q : Po) (h : Hp) (ls : List Value) (a0 : Int32) (b : Nat) : Ex mX8_init Q 2 ls (.int a0 :: .ref b :: []) h = Ex mX7_init (Cont mX8_init Q 2 ls 5 []) 0 [.ref b, .int a0] [] h := Ex_cl (n := 2) (as := [.ref b, .int a0]) rfl rfl
theorem rX8_init_5 (Q : Po) (h : Hp) (ls : List Value) : Ex mX8_init Q 5 ls [] h = Q (.inl none) h := Ex_rt rfl rfl
theorem rX8_init_t (Q : Po) (h : Hp) (pc n a : Nat) (ls st : List Value) : Cont mX8_init Q pc ls n st (.inr a) h = Q (.inr a) h := rfl
/-! FishReaders.<init>()V -/
def mX0_init : Cd := ([(0, .inl (i_aload 0 1)),
  (1, .inl (i_oini 4)),
  (4, .inl (i_aload 0 5)),
  (5, .inl (i_push (.int 8) 7)),
  (7, .inl (i_newr 54 10)),
  (10, .inl (i_putR 3 [1] 13)),
  (13, .inl (i_aload 0 14)),
  (14, .inl (i_push (.int 120) 16)),
  (16, .inl (i_newa 52 18)),
  (18, .inl (i_putR 5 [1] 21)),
  (21, .inl (i_aload 0 22)),
  (22, .inl (i_new 2 16 25)),
  (25, .inl (i_dup 26)),
  (26, .inr (c_I 0 29 1 (Mt mX1_init 1))),
  (29, .inl (i_putR 11 [1] 32)),
  (32, .inl (i_aload 0 33)),
  (33, .inl (i_new 2 16 36)),
  (36, .inl (i_dup 37)),
  (37, .inr (c_I 0 40 1 (Mt mX1_init 1))),
  (40, .inl (i_putR 13 [1] 43)),
  (43, .inl (i_aload 0 44)),
  (44, .inl (i_push (.int 24) 46)),
  (46, .inl (i_newr 55 49)),
  (49, .inl (i_putR 15 [1] 52)),
  (52, .inl (i_aload 0 53)),
  (53, .inl (i_push (.int 2) 54)),
  (54, .inl (i_newr 55 57)),
  (57, .inl (i_putR 19 [1] 60)),
  (60, .inl (i_aload 0 61)),
  (61, .inl (i_new 3 2 64)),
  (64, .inl (i_dup 65)),
  (65, .inr (c_I 0 68 1 (Mt mX2_init 1))),
  (68, .inl (i_putR 21 [1] 71)),
  (71, .inl (i_aload 0 72)),
  (72, .inl (i_push (.int 6) 74)),
  (74, .inl (i_newa 51 76)),
  (76, .inl (i_putR 25 [1] 79)),
  (79, .inl (i_aload 0 80)),
  (80, .inl (i_push (.int 6) 82)),
  (82, .inl (i_newa 51 84)),
  (84, .inl (i_putR 27 [1] 87)),
  (87, .inl (i_aload 0 88)),
  (88, .inl (i_push (.int 5) 89)),
  (89, .inl (i_newr 56 92)),
  (92, .inl (i_dup 93)),
  (93, .inl (i_push (.int 0) 94)),
  (94, .inl (i_new 4 1 97)),
  (97, .inl (i_dup 98)),
  (98, .inl (i_push (.int 0) 99)),
  (99, .inr (c_I 1 102 2 (Mt mX4_init 2))),
  (102, .inl (i_aast 56 [4, 5, 6, 7, 8] 103)),
  (103, .inl (i_dup 104)),
  (104, .inl (i_push (.int 1) 105)),
  (105, .inl (i_new 5 1 108)),
  (108, .inl (i_dup 109)),
  (109, .inl (i_push (.int 0) 110)),
  (110, .inr (c_I 1 113 2 (Mt mX5_init 2))),
  (113, .inl (i_aast 56 [4, 5, 6, 7, 8] 114)),
  (114, .inl (i_dup 115)),
  (115, .inl (i_push (.int 2) 116)),
  (116, .inl (i_new 6 1 119)),
  (119, .inl (i_dup 120)),
  (120, .inl (i_push (.int 0) 121)),
  (121, .inr (c_I 1 124 2 (Mt mX6_init 2))),
  (124, .inl (i_aast 56 [4, 5, 6, 7, 8] 125)),
  (125, .inl (i_dup 126)),
  (126, .inl (i_push (.int 3) 127)),
  (127, .inl (i_new 7 1 130)),
  (130, .inl (i_dup 131)),
  (131, .inl (i_push (.int 0) 132)),
  (132, .inr (c_I 1 135 2 (Mt mX7_init 2))),
  (135, .inl (i_aast 56 [4, 5, 6, 7, 8] 136)),
  (136, .inl (i_dup 137)),
  (137, .inl (i_push (.int 4) 138)),
  (138, .inl (i_new 8 1 141)),
  (141, .inl (i_dup 142)),
  (142, .inl (i_push (.int 0) 143)),
  (143, .inr (c_I 1 146 2 (Mt mX8_init 2))),
  (146, .inl (i_aast 56 [4, 5, 6, 7, 8] 147)),
  (147, .inl (i_putR 31 [1] 150)),
  (150, .inl i_vret)], noH)
theorem rX0_init_0 (Q : Po) (h : Hp) (x : Nat) (st : List Value) : Ex mX0_init Q 0 [.ref x] st h = Ex mX0_init Q 1 [.ref x] (.ref x :: st) h := Ex_nx rfl rfl
theorem rX0_init_1 (Q : Po) (h : Hp) (ls : List Value) (a : Nat) : Ex mX0_init Q 1 ls (.ref a :: []) h = Ex mX0_init Q 4 ls [] h := Ex_nx rfl rfl
theorem rX0_init_4 (Q : Po) (h : Hp) (x : Nat) (st : List Value) : Ex mX0_init Q 4 [.ref x] st h = Ex mX0_init Q 5 [.ref x] (.ref x :: st) h := Ex_nx rfl rfl
theorem rX0_init_5 (Q : Po) (h : Hp) (ls : List Value) (st : List Value) : Ex mX0_init Q 5 ls st h = Ex mX0_init Q 7 ls (.int 8 :: st) h := Ex_nx rfl rfl
theorem rX0_init_7 (Q : Po) (h : Hp) (ls : List Value) (st : List Value) (x : Int32) : Ex mX0_init Q 7 ls (.int x :: st) h = ((¬ x < 0 ∧ x.toNatClampNeg ≤ 65536 ∧ 1 ≤ gC h ∧ x.toNatClampNeg ≤ gS h) ∧ Ex mX0_init Q 10 ls (.ref (gN h) :: st) (nR h 54 x.toNatClampNeg)) := Ex_gd rfl rfl
theorem rX0_init_10 (Q : Po) (h : Hp) (ls : List Value) (st : List Value) (x a : Nat) : Ex mX0_init Q 10 ls (.ref x :: .ref a :: st) h = (gK h a ∈ ([1] : List Nat) ∧ Ex mX0_init Q 13 ls st (pF h 3 a (.ref x))) := Ex_gd rfl rfl
theorem rX0_init_10n (Q : Po) (h : Hp) (ls : List Value) (st : List Value) (a : Nat) : Ex mX0_init Q 10 ls (.null :: .ref a :: st) h = (gK h a ∈ ([1] : List Nat) ∧ Ex mX0_init Q 13 ls st (pF h 3 a .null)) := Ex_gd rfl rfl
theorem rX0_init_13 (Q : Po) (h : Hp) (x : Nat) (st : List Value) : Ex mX0_init Q 13 [.ref x] st h = Ex mX0_init Q 14 [.ref x] (.ref x :: st) h := Ex_nx rfl rfl
theorem rX0_init_14 (Q : Po) (h : Hp) (ls : List Value) (st : List Value) : Ex mX0_init Q 14 ls st h = Ex mX0_init Q 16 ls (.int 120 :: st) h := Ex_nx rfl rfl
theorem rX0_init_16 (Q : Po) (h : Hp) (ls : List Value) (st : List Value) (x : Int32) : Ex mX0_init Q 16 ls (.int x :: st) h = ((¬ x < 0 ∧ x.toNatClampNeg ≤ 65536 ∧ 1 ≤ gC h ∧ x.toNatClampNeg ≤ gS h) ∧ Ex mX0_init Q 18 ls (.ref (gN h) :: st) (nA h 52 x.toNatClampNeg)) := Ex_gd rfl rfl
theorem rX0_init_18 (Q : Po) (h : Hp) (ls : List Value) (st : List Value) (x a : Nat) : Ex mX0_init Q 18 ls (.ref x :: .ref a :: st) h = (gK h a ∈ ([1] : List Nat) ∧ Ex mX0_init Q 21 ls st (pF h 5 a (.ref x))) := Ex_gd rfl rfl
theorem rX0_init_18n (Q : Po) (h : Hp) (ls : List Value) (st : List Value) (a : Nat) : Ex mX0_init Q 18 ls (.null :: .ref a :: st) h = (gK h a ∈ ([1] : List Nat) ∧ Ex mX0_init Q 21 ls st (pF h 5 a .null)) := Ex_gd rfl rfl
theorem rX0_init_21 (Q : Po) (h : Hp) (x : Nat) (st : List Value) : Ex mX0_init Q 21 [.ref x] st h = Ex mX0_init Q 22 [.ref x] (.ref x :: st) h := Ex_nx rfl rfl
theorem rX0_init_22 (Q : Po) (h : Hp) (ls : List Value) (st : List Value) : Ex mX0_init Q 22 ls st h = ((1 ≤ gC h ∧ 16 ≤ gS h) ∧ Ex mX0_init Q 25 ls (.ref (gN h) :: st) (nO h 2 16)) := Ex_gd rfl rfl
theorem rX0_init_25 (Q : Po) (h : Hp) (ls : List Value) (st : List Value) (x : Nat) : Ex mX0_init Q 25 ls (.ref x :: st) h = Ex mX0_init Q 26 ls (.ref x :: .ref x :: st) h := Ex_nx rfl rfl
theorem rX0_init_26 (Q : Po) (h : Hp) (ls : List Value) (s0 s1 : Value) (b : Nat) : Ex mX0_init Q 26 ls (.ref b :: [s0, s1]) h = Ex mX1_init (Cont mX0_init Q 26 ls 29 [s0, s1]) 0 [.ref b] [] h := Ex_cl (n := 1) (as := [.ref b]) rfl rfl
theorem rX0_init_29 (Q : Po) (h : Hp) (ls : List Value) (st : List Value) (x a : Nat) : Ex mX0_init Q 29 ls (.ref x :: .ref a :: st) h = (gK h a ∈ ([1] : List Nat) ∧ Ex mX0_init Q 32 ls st (pF h 11 a (.ref x))) := Ex_gd rfl rfl
theorem rX0_init_29n (Q : Po) (h : Hp) (ls : List Value) (st : List Value) (a : Nat) : Ex mX0_init Q 29 ls (.null :: .ref a :: st) h = (gK h a ∈ ([1] : List Nat) ∧ Ex mX0_init Q 32 ls st (pF h 11 a .null)) := Ex_gd rfl rfl
theorem rX0_init_32 (Q : Po) (h : Hp) (x : Nat) (st : List Value) : Ex mX0_init Q 32 [.ref x] st h = Ex mX0_init Q 33 [.ref x] (.ref x :: st) h := Ex_nx rfl rfl
theorem rX0_init_33 (Q : Po) (h : Hp) (ls : List Value) (st : List Value) : Ex mX0_init Q 33 ls st h = ((1 ≤ gC h ∧ 16 ≤ gS h) ∧ Ex mX0_init Q 36 ls (.ref (gN h) :: st) (nO h 2 16)) := Ex_gd rfl rfl
theorem rX0_init_36 (Q : Po) (h : Hp) (ls : List Value) (st : List Value) (x : Nat) : Ex mX0_init Q 36 ls (.ref x :: st) h = Ex mX0_init Q 37 ls (.ref x :: .ref x :: st) h := Ex_nx rfl rfl
theorem rX0_init_37 (Q : Po) (h : Hp) (ls : List Value) (s0 s1 : Value) (b : Nat) : Ex mX0_init Q 37 ls (.ref b :: [s0, s1]) h = Ex mX1_init (Cont mX0_init Q 37 ls 40 [s0, s1]) 0 [.ref b] [] h := Ex_cl (n := 1) (as := [.ref b]) rfl rfl
theorem rX0_init_40 (Q : Po) (h : Hp) (ls : List Value) (st : List Value) (x a : Nat) : Ex mX0_init Q 40 ls (.ref x :: .ref a :: st) h = (gK h a ∈ ([1] : List Nat) ∧ Ex mX0_init Q 43 ls st (pF h 13 a (.ref x))) := Ex_gd rfl rfl
theorem rX0_init_40n (Q : Po) (h : Hp) (ls : List Value) (st : List Value) (a : Nat) : Ex mX0_init Q 40 ls (.null :: .ref a :: st) h = (gK h a ∈ ([1] : List Nat) ∧ Ex mX0_init Q 43 ls st (pF h 13 a .null)) := Ex_gd rfl rfl
theorem rX0_init_43 (Q : Po) (h : Hp) (x : Nat) (st : List Value) : Ex mX0_init Q 43 [.ref x] st h = Ex mX0_init Q 44 [.ref x] (.ref x :: st) h := Ex_nx rfl rfl
theorem rX0_init_44 (Q : Po) (h : Hp) (ls : List Value) (st : List Value) : Ex mX0_init Q 44 ls st h = Ex mX0_init Q 46 ls (.int 24 :: st) h := Ex_nx rfl rfl
theorem rX0_init_46 (Q : Po) (h : Hp) (ls : List Value) (st : List Value) (x : Int32) : Ex mX0_init Q 46 ls (.int x :: st) h = ((¬ x < 0 ∧ x.toNatClampNeg ≤ 65536 ∧ 1 ≤ gC h ∧ x.toNatClampNeg ≤ gS h) ∧ Ex mX0_init Q 49 ls (.ref (gN h) :: st) (nR h 55 x.toNatClampNeg)) := Ex_gd rfl rfl
theorem rX0_init_49 (Q : Po) (h : Hp) (ls : List Value) (st : List Value) (x a : Nat) : Ex mX0_init Q 49 ls (.ref x :: .ref a :: st) h = (gK h a ∈ ([1] : List Nat) ∧ Ex mX0_init Q 52 ls st (pF h 15 a (.ref x))) := Ex_gd rfl rfl
theorem rX0_init_49n (Q : Po) (h : Hp) (ls : List Value) (st : List Value) (a : Nat) : Ex mX0_init Q 49 ls (.null :: .ref a :: st) h = (gK h a ∈ ([1] : List Nat) ∧ Ex mX0_init Q 52 ls st (pF h 15 a .null)) := Ex_gd rfl rfl
theorem rX0_init_52 (Q : Po) (h : Hp) (x : Nat) (st : List Value) : Ex mX0_init Q 52 [.ref x] st h = Ex mX0_init Q 53 [.ref x] (.ref x :: st) h := Ex_nx rfl rfl
theorem rX0_init_53 (Q : Po) (h : Hp) (ls : List Value) (st : List Value) : Ex mX0_init Q 53 ls st h = Ex mX0_init Q 54 ls (.int 2 :: st) h := Ex_nx rfl rfl
theorem rX0_init_54 (Q : Po) (h : Hp) (ls : List Value) (st : List Value) (x : Int32) : Ex mX0_init Q 54 ls (.int x :: st) h = ((¬ x < 0 ∧ x.toNatClampNeg ≤ 65536 ∧ 1 ≤ gC h ∧ x.toNatClampNeg ≤ gS h) ∧ Ex mX0_init Q 57 ls (.ref (gN h) :: st) (nR h 55 x.toNatClampNeg)) := Ex_gd rfl rfl
theorem rX0_init_57 (Q : Po) (h : Hp) (ls : List Value) (st : List Value) (x a : Nat) : Ex mX0_init Q 57 ls (.ref x :: .ref a :: st) h = (gK h a ∈ ([1] : List Nat) ∧ Ex mX0_init Q 60 ls st (pF h 19 a (.ref x))) := Ex_gd rfl rfl
theorem rX0_init_57n (Q : Po) (h : Hp) (ls : List Value) (st : List Value) (a : Nat) : Ex mX0_init Q 57 ls (.null :: .ref a :: st) h = (gK h a ∈ ([1] : List Nat) ∧ Ex mX0_init Q 60 ls st (pF h 19 a .null)) := Ex_gd rfl rfl
theorem rX0_init_60 (Q : Po) (h : Hp) (x : Nat) (st : List Value) : Ex mX0_init Q 60 [.ref x] st h = Ex mX0_init Q 61 [.ref x] (.ref x :: st) h := Ex_nx rfl rfl
theorem rX0_init_61 (Q : Po) (h : Hp) (ls : List Value) (st : List Value) : Ex mX0_init Q 61 ls st h = ((1 ≤ gC h ∧ 2 ≤ gS h) ∧ Ex mX0_init Q 64 ls (.ref (gN h) :: st) (nO h 3 2)) := Ex_gd rfl rfl
theorem rX0_init_64 (Q : Po) (h : Hp) (ls : List Value) (st : List Value) (x : Nat) : Ex mX0_init Q 64 ls (.ref x :: st) h = Ex mX0_init Q 65 ls (.ref x :: .ref x :: st) h := Ex_nx rfl rfl
theorem rX0_init_65 (Q : Po) (h : Hp) (ls : List Value) (s0 s1 : Value) (b : Nat) : Ex mX0_init Q 65 ls (.ref b :: [s0, s1]) h = Ex mX2_init (Cont mX0_init Q 65 ls 68 [s0, s1]) 0 [.ref b] [] h := Ex_cl (n := 1) (as := [.ref b]) rfl rfl
theorem rX0_init_68 (Q : Po) (h : Hp) (ls : List Value) (st : List Value) (x a : Nat) : Ex mX0_init Q 68 ls (.ref x :: .ref a :: st) h = (gK h a ∈ ([1] : List Nat) ∧ Ex mX0_init Q 71 ls st (pF h 21 a (.ref x))) := Ex_gd rfl rfl
theorem rX0_init_68n (Q : Po) (h : Hp) (ls : List Value) (st : List Value) (a : Nat) : Ex mX0_init Q 68 ls (.null :: .ref a :: st) h = (gK h a ∈ ([1] : List Nat) ∧ Ex mX0_init Q 71 ls st (pF h 21 a .null)) := Ex_gd rfl rfl
theorem rX0_init_71 (Q : Po) (h : Hp) (x : Nat) (st : List Value) : Ex mX0_init Q 71 [.ref x] st h = Ex mX0_init Q 72 [.ref x] (.ref x :: st) h := Ex_nx rfl rfl
theorem rX0_init_72 (Q : Po) (h : Hp) (ls : List Value) (st : List Value) : Ex mX0_init Q 72 ls st h = Ex mX0_init Q 74 ls (.int 6 :: st) h := Ex_nx rfl rfl
theorem rX0_init_74 (Q : Po) (h : Hp) (ls : List Value) (st : List Value) (x : Int32) : Ex mX0_init Q 74 ls (.int x :: st) h = ((¬ x < 0 ∧ x.toNatClampNeg ≤ 65536 ∧ 1 ≤ gC h ∧ x.toNatClampNeg ≤ gS h) ∧ Ex mX0_init Q 76 ls (.ref (gN h) :: st) (nA h 51 x.toNatClampNeg)) := Ex_gd rfl rfl
theorem rX0_init_76 (Q : Po) (h : Hp) (ls : List Value) (st : List Value) (x a : Nat) : Ex mX0_init Q 76 ls (.ref x :: .ref a :: st) h = (gK h a ∈ ([1] : List Nat) ∧ Ex mX0_init Q 79 ls st (pF h 25 a (.ref x))) := Ex_gd rfl rfl
theorem rX0_init_76n (Q : Po) (h : Hp) (ls : List Value) (st : List Value) (a : Nat) : Ex mX0_init Q 76 ls (.null :: .ref a :: st) h = (gK h a ∈ ([1] : List Nat) ∧ Ex mX0_init Q 79 ls st (pF h 25 a .null)) := Ex_gd rfl rfl
theorem rX0_init_79 (Q : Po) (h : Hp) (x : Nat) (st : List Value) : Ex mX0_init Q 79 [.ref x] st h = Ex mX0_init Q 80 [.ref x] (.ref x :: st) h := Ex_nx rfl rfl
theorem rX0_init_80 (Q : Po) (h : Hp) (ls : List Value) (st : List Value) : Ex mX0_init Q 80 ls st h = Ex mX0_init Q 82 ls (.int 6 :: st) h := Ex_nx rfl rfl
theorem rX0_init_82 (Q : Po) (h : Hp) (ls : List Value) (st : List Value) (x : Int32) : Ex mX0_init Q 82 ls (.int x :: st) h = ((¬ x < 0 ∧ x.toNatClampNeg ≤ 65536 ∧ 1 ≤ gC h ∧ x.toNatClampNeg ≤ gS h) ∧ Ex mX0_init Q 84 ls (.ref (gN h) :: st) (nA h 51 x.toNatClampNeg)) := Ex_gd rfl rfl
theorem rX0_init_84 (Q : Po) (h : Hp) (ls : List Value) (st : List Value) (x a : Nat) : Ex mX0_init Q 84 ls (.ref x :: .ref a :: st) h = (gK h a ∈ ([1] : List Nat) ∧ Ex mX0_init Q 87 ls st (pF h 27 a (.ref x))) := Ex_gd rfl rfl
theorem rX0_init_84n (Q : Po) (h : Hp) (ls : List Value) (st : List Value) (a : Nat) : Ex mX0_init Q 84 ls (.null :: .ref a :: st) h = (gK h a ∈ ([1] : List Nat) ∧ Ex mX0_init Q 87 ls st (pF h 27 a .null)) := Ex_gd rfl rfl
theorem rX0_init_87 (Q : Po) (h : Hp) (x : Nat) (st : List Value) : Ex mX0_init Q 87 [.ref x] st h = Ex mX0_init Q 88 [.ref x] (.ref x :: st) h := Ex_nx rfl rfl
theorem rX0_init_88 (Q : Po) (h : Hp) (ls : List Value) (st : List Value) : Ex mX0_init Q 88 ls st h = Ex mX0_init Q 89 ls (.int 5 :: st) h := Ex_nx rfl rfl
theorem rX0_init_89 (Q : Po) (h : Hp) (ls : List Value) (st : List Value) (x : Int32) : Ex mX0_init Q 89 ls (.int x :: st) h = ((¬ x < 0 ∧ x.toNatClampNeg ≤ 65536 ∧ 1 ≤ gC h ∧ x.toNatClampNeg ≤ gS h) ∧ Ex mX0_init Q 92 ls (.ref (gN h) :: st) (nR h 56 x.toNatClampNeg)) := Ex_gd rfl rfl
theorem rX0_init_92 (Q : Po) (h : Hp) (ls : List Value) (st : List Value) (x : Nat) : Ex mX0_init Q 92 ls (.ref x :: st) h = Ex mX0_init Q 93 ls (.ref x :: .ref x :: st) h := Ex_nx rfl rfl
theorem rX0_init_93 (Q : Po) (h : Hp) (ls : List Value) (st : List Value) : Ex mX0_init Q 93 ls st h = Ex mX0_init Q 94 ls (.int 0 :: st) h := Ex_nx rfl rfl
theorem rX0_init_94 (Q : Po) (h : Hp) (ls : List Value) (st : List Value) : Ex mX0_init Q 94 ls st h = ((1 ≤ gC h ∧ 1 ≤ gS h) ∧ Ex mX0_init Q 97 ls (.ref (gN h) :: st) (nO h 4 1)) := Ex_gd rfl rfl
theorem rX0_init_97 (Q : Po) (h : Hp) (ls : List Value) (st : List Value) (x : Nat) : Ex mX0_init Q 97 ls (.ref x :: st) h = Ex mX0_init Q 98 ls (.ref x :: .ref x :: st) h := Ex_nx rfl rfl
theorem rX0_init_98 (Q : Po) (h : Hp) (ls : List Value) (st : List Value) : Ex mX0_init Q 98 ls st h = Ex mX0_init Q 99 ls (.int 0 :: st) h := Ex_nx rfl rfl
theorem rX0_init_99 (Q : Po) (h : Hp) (ls : List Value) (a0 : Int32) (s0 s1 s2 s3 s4 : Value) (b : Nat) : Ex mX0_init Q 99 ls (.int a0 :: .ref b :: [s0, s1, s2, s3, s4]) h = Ex mX4_init (Cont mX0_init Q 99 ls 102 [s0, s1, s2, s3, s4]) 0 [.ref b, .int a0] [] h := Ex_cl (n := 2) (as := [.ref b, .int a0]) rfl rfl
theorem rX0_init_102 (Q : Po) (h : Hp) (ls : List Value) (st : List Value) (a x : Nat) (i : Int32) : Ex mX0_init Q 102 ls (.ref x :: .int i :: .ref a :: st) h = ((gK h a = 56 ∧ gK h x ∈ ([4, 5, 6, 7, 8] : List Nat) ∧ ¬ (i < 0 ∨ gL h a ≤ i.toNatClampNeg)) ∧ Ex mX0_init Q 103 ls st (pR h a i.toNatClampNeg (some x))) := Ex_gd rfl rfl
theorem rX0_init_102n (Q : Po) (h : Hp) (ls : List Value) (st : List Value) (a : Nat) (i : Int32) : Ex mX0_init Q 102 ls (.null :: .int i :: .ref a :: st) h = ((gK h a = 56 ∧ ¬ (i < 0 ∨ gL h a ≤ i.toNatClampNeg)) ∧ Ex mX0_init Q 103 ls st (pR h a i.toNatClampNeg none)) := Ex_gd rfl rfl
theorem rX0_init_103 (Q : Po) (h : Hp) (ls : List Value) (st : List Value) (x : Nat) : Ex mX0_init Q 103 ls (.ref x :: st) h = Ex mX0_init Q 104 ls (.ref x :: .ref x :: st) h := Ex_nx rfl rfl
theorem rX0_init_104 (Q : Po) (h : Hp) (ls : List Value) (st : List Value) : Ex mX0_init Q 104 ls st h = Ex mX0_init Q 105 ls (.int 1 :: st) h := Ex_nx rfl rfl
theorem rX0_init_105 (Q : Po) (h : Hp) (ls : List Value) (st : List Value) : Ex mX0_init Q 105 ls st h = ((1 ≤ gC h ∧ 1 ≤ gS h) ∧ Ex mX0_init Q 108 ls (.ref (gN h) :: st) (nO h 5 1)) := Ex_gd rfl rfl
theorem rX0_init_108 (Q : Po) (h : Hp) (ls : List Value) (st : List Value) (x : Nat) : Ex mX0_init Q 108 ls (.ref x :: st) h = Ex mX0_init Q 109 ls (.ref x :: .ref x :: st) h := Ex_nx rfl rfl
theorem rX0_init_109 (Q : Po) (h : Hp) (ls : List Value) (st : List Value) : Ex mX0_init Q 109 ls st h = Ex mX0_init Q 110 ls (.int 0 :: st) h := Ex_nx rfl rfl
theorem rX0_init_110 (Q : Po) (h : Hp) (ls : List Value) (a0 : Int32) (s0 s1 s2 s3 s4 : Value) (b : Nat) : Ex mX0_init Q 110 ls (.int a0 :: .ref b :: [s0, s1, s2, s3, s4]) h = Ex mX5_init (Cont mX0_init Q 110 ls 113 [s0, s1, s2, s3, s4]) 0 [.ref b, .int a0] [] h := Ex_cl (n := 2) (as := [.ref b, .int a0]) rfl rfl
theorem rX0_init_113 (Q : Po) (h : Hp) (ls : List Value) (st : List Value) (a x : Nat) (i : Int32) : Ex mX0_init Q 113 ls (.ref x :: .int i :: .ref a :: st) h = ((gK h a = 56 ∧ gK h x ∈ ([4, 5, 6, 7, 8] : List Nat) ∧ ¬ (i < 0 ∨ gL h a ≤ i.toNatClampNeg)) ∧ Ex mX0_init Q 114 ls st (pR h a i.toNatClampNeg (some x))) := Ex_gd rfl rfl
theorem rX0_init_113n (Q : Po) (h : Hp) (ls : List Value) (st : List Value) (a : Nat) (i : Int32) : Ex mX0_init Q 113 ls (.null :: .int i :: .ref a :: st) h = ((gK h a = 56 ∧ ¬ (i < 0 ∨ gL h a ≤ i.toNatClampNeg)) ∧ Ex mX0_init Q 114 ls st (pR h a i.toNatClampNeg none)) := Ex_gd rfl rfl
theorem rX0_init_114 (Q : Po) (h : Hp) (ls : List Value) (st : List Value) (x : Nat) : Ex mX0_init Q 114 ls (.ref x :: st) h = Ex mX0_init Q 115 ls (.ref x :: .ref x :: st) h := Ex_nx rfl rfl
theorem rX0_init_115 (Q : Po) (h : Hp) (ls : List Value) (st : List Value) : Ex mX0_init Q 115 ls st h = Ex mX0_init Q 116 ls (.int 2 :: st) h := Ex_nx rfl rfl
theorem rX0_init_116 (Q : Po) (h : Hp) (ls : List Value) (st : List Value) : Ex mX0_init Q 116 ls st h = ((1 ≤ gC h ∧ 1 ≤ gS h) ∧ Ex mX0_init Q 119 ls (.ref (gN h) :: st) (nO h 6 1)) := Ex_gd rfl rfl
theorem rX0_init_119 (Q : Po) (h : Hp) (ls : List Value) (st : List Value) (x : Nat) : Ex mX0_init Q 119 ls (.ref x :: st) h = Ex mX0_init Q 120 ls (.ref x :: .ref x :: st) h := Ex_nx rfl rfl
theorem rX0_init_120 (Q : Po) (h : Hp) (ls : List Value) (st : List Value) : Ex mX0_init Q 120 ls st h = Ex mX0_init Q 121 ls (.int 0 :: st) h := Ex_nx rfl rfl
theorem rX0_init_121 (Q : Po) (h : Hp) (ls : List Value) (a0 : Int32) (s0 s1 s2 s3 s4 : Value) (b : Nat) : Ex mX0_init Q 121 ls (.int a0 :: .ref b :: [s0, s1, s2, s3, s4]) h = Ex mX6_init (Cont mX0_init Q 121 ls 124 [s0, s1, s2, s3, s4]) 0 [.ref b, .int a0] [] h := Ex_cl (n := 2) (as := [.ref b, .int a0]) rfl rfl
theorem rX0_init_124 (Q : Po) (h : Hp) (ls : List Value) (st : List Value) (a x : Nat) (i : Int32) : Ex mX0_init Q 124 ls (.ref x :: .int i :: .ref a :: st) h = ((gK h a = 56 ∧ gK h x ∈ ([4, 5, 6, 7, 8] : List Nat) ∧ ¬ (i < 0 ∨ gL h a ≤ i.toNatClampNeg)) ∧ Ex mX0_init Q 125 ls st (pR h a i.toNatClampNeg (some x))) := Ex_gd rfl rfl
theorem rX0_init_124n (Q : Po) (h : Hp) (ls : List Value) (st : List Value) (a : Nat) (i : Int32) : Ex mX0_init Q 124 ls (.null :: .int i :: .ref a :: st) h = ((gK h a = 56 ∧ ¬ (i < 0 ∨ gL h a ≤ i.toNatClampNeg)) ∧ Ex mX0_init Q 125 ls st (pR h a i.toNatClampNeg none)) := Ex_gd rfl rfl
theorem rX0_init_125 (Q : Po) (h : Hp) (ls : List Value) (st : List Value) (x : Nat) : Ex mX0_init Q 125 ls (.ref x :: st) h = Ex mX0_init Q 126 ls (.ref x :: .ref x :: st) h := Ex_nx rfl rfl
theorem rX0_init_126 (Q : Po) (h : Hp) (ls : List Value) (st : List Value) : Ex mX0_init Q 126 ls st h = Ex mX0_init Q 127 ls (.int 3 :: st) h := Ex_nx rfl rfl
theorem rX0_init_127 (Q : Po) (h : Hp) (ls : List Value) (st : List Value) : Ex mX0_init Q 127 ls st h = ((1 ≤ gC h ∧ 1 ≤ gS h) ∧ Ex mX0_init Q 130 ls (.ref (gN h) :: st) (nO h 7 1)) := Ex_gd rfl rfl
theorem rX0_init_130 (Q : Po) (h : Hp) (ls : List Value) (st : List Value) (x : Nat) : Ex mX0_init Q 130 ls (.ref x :: st) h = Ex mX0_init Q 131 ls (.ref x :: .ref x :: st) h := Ex_nx rfl rfl
theorem rX0_init_131 (Q : Po) (h : Hp) (ls : List Value) (st : List Value) : Ex mX0_init Q 131 ls st h = Ex mX0_init Q 132 ls (.int 0 :: st) h := Ex_nx rfl rfl
theorem rX0_init_132 (Q : Po) (h : Hp) (ls : List Value) (a0 : Int32) (s0 s1 s2 s3 s4 : Value) (b : Nat) : Ex mX0_init Q 132 ls (.int a0 :: .ref b :: [s0, s1, s2, s3, s4]) h = Ex mX7_init (Cont mX0_init Q 132 ls 135 [s0, s1, s2, s3, s4]) 0 [.ref b, .int a0] [] h := Ex_cl (n := 2) (as := [.ref b, .int a0]) rfl rfl
theorem rX0_init_135 (Q : Po) (h : Hp) (ls : List Value) (st : List Value) (a x : Nat) (i : Int32) : Ex mX0_init Q 135 ls (.ref x :: .int i :: .ref a :: st) h = ((gK h a = 56 ∧ gK h x ∈ ([4, 5, 6, 7, 8] : List Nat) ∧ ¬ (i < 0 ∨ gL h a ≤ i.toNatClampNeg)) ∧ Ex mX0_init Q 136 ls st (pR h a i.toNatClampNeg (some x))) := Ex_gd rfl rfl
theorem rX0_init_135n (Q : Po) (h : Hp) (ls : List Value) (st : List Value) (a : Nat) (i : Int32) : Ex mX0_init Q 135 ls (.null :: .int i :: .ref a :: st) h = ((gK h a = 56 ∧ ¬ (i < 0 ∨ gL h a ≤ i.toNatClampNeg)) ∧ Ex mX0_init Q 136 ls st (pR h a i.toNatClampNeg none)) := Ex_gd rfl rfl
theorem rX0_init_136 (Q : Po) (h : Hp) (ls : List Value) (st : List Value) (x : Nat) : Ex mX0_init Q 136 ls (.ref x :: st) h = Ex mX0_init Q 137 ls (.ref x :: .ref x :: st) h := Ex_nx rfl rfl
theorem rX0_init_137 (Q : Po) (h : Hp) (ls : List Value) (st : List Value) : Ex mX0_init Q 137 ls st h = Ex mX0_init Q 138 ls (.int 4 :: st) h := Ex_nx rfl rfl
theorem rX0_init_138 (Q : Po) (h : Hp) (ls : List Value) (st : List Value) : Ex mX0_init Q 138 ls st h = ((1 ≤ gC h ∧ 1 ≤ gS h) ∧ Ex mX0_init Q 141 ls (.ref (gN h) :: st) (nO h 8 1)) := Ex_gd rfl rfl
theorem rX0_init_141 (Q : Po) (h : Hp) (ls : List Value) (st : List Value) (x : Nat) : Ex mX0_init Q 141 ls (.ref x :: st) h = Ex mX0_init Q 142 ls (.ref x :: .ref x :: st) h := Ex_nx rfl rfl
theorem rX0_init_142 (Q : Po) (h : Hp) (ls : List Value) (st : List Value) : Ex mX0_init Q 142 ls st h = Ex mX0_init Q 143 ls (.int 0 :: st) h := Ex_nx rfl rfl
theorem rX0_init_143 (Q : Po) (h : Hp) (ls : List Value) (a0 : Int32) (s0 s1 s2 s3 s4 : Value) (b : Nat) : Ex mX0_init Q 143 ls (.int a0 :: .ref b :: [s0, s1, s2, s3, s4]) h = Ex mX8_init (Cont mX0_init Q 143 ls 146 [s0, s1, s2, s3, s4]) 0 [.ref b, .int a0] [] h := Ex_cl (n := 2) (as := [.ref b, .int a0]) rfl rfl
theorem rX0_init_146 (Q : Po) (h : Hp) (ls : List Value) (st : List Value) (a x : Nat) (i : Int32) : Ex mX0_init Q 146 ls (.ref x :: .int i :: .ref a :: st) h = ((gK h a = 56 ∧ gK h x ∈ ([4, 5, 6, 7, 8] : List Nat) ∧ ¬ (i < 0 ∨ gL h a ≤ i.toNatClampNeg)) ∧ Ex mX0_init Q 147 ls st (pR h a i.toNatClampNeg (some x))) := Ex_gd rfl rfl
theorem rX0_init_146n (Q : Po) (h : Hp) (ls : List Value) (st : List Value) (a : Nat) (i : Int32) : Ex mX0_init Q 146 ls (.null :: .int i :: .ref a :: st) h = ((gK h a = 56 ∧ ¬ (i < 0 ∨ gL h a ≤ i.toNatClampNeg)) ∧ Ex mX0_init Q 147 ls st (pR h a i.toNatClampNeg none)) := Ex_gd rfl rfl
theorem rX0_init_147 (Q : Po) (h : Hp) (ls : List Value) (st : List Value) (x a : Nat) : Ex mX0_init Q 147 ls (.ref x :: .ref a :: st) h = (gK h a ∈ ([1] : List Nat) ∧ Ex mX0_init Q 150 ls st (pF h 31 a (.ref x))) := Ex_gd rfl rfl
theorem rX0_init_147n (Q : Po) (h : Hp) (ls : List Value) (st : List Value) (a : Nat) : Ex mX0_init Q 147 ls (.null :: .ref a :: st) h = (gK h a ∈ ([1] : List Nat) ∧ Ex mX0_init Q 150 ls st (pF h 31 a .null)) := Ex_gd rfl rfl
theorem rX0_init_150 (Q : Po) (h : Hp) (ls : List Value) : Ex mX0_init Q 150 ls [] h = Q (.inl none) h := Ex_rt rfl rfl
theorem rX0_init_t (Q : Po) (h : Hp) (pc n a : Nat) (ls st : List Value) : Cont mX0_init Q pc ls n st (.inr a) h = Q (.inr a) h := rfl
/-! FishReaders.isIn(JJJ)Z -/
def mX0_isIn : Cd := ([(0, .inl (i_lload 0 1)),
  (1, .inl (i_lload 2 2)),
  (2, .inl (i_lcmp 3)),
  (3, .inl (i_if (fun x => x < 0) 17 6)),
  (6, .inl (i_lload 0 7)),
  (7, .inl (i_lload 4 9)),
  (9, .inl (i_lcmp 10)),
  (10, .inl (i_if (fun x => 0 < x) 17 13)),
  (13, .inl (i_push (.int 1) 14)),
  (14, .inl (i_goto 18)),
  (17, .inl (i_push (.int 0) 18)),
  (18, .inl i_zret)], noH)
theorem rX0_isIn_0 (Q : Po) (h : Hp) (l2 l3 l4 l5 : Value) (x : Int64) (st : List Value) : Ex mX0_isIn Q 0 [.long x, .retAddr 1, l2, l3, l4, l5] st h = Ex mX0_isIn Q 1 [.long x, .retAddr 1, l2, l3, l4, l5] (.long x :: st) h := Ex_nx rfl rfl
theorem rX0_isIn_1 (Q : Po) (h : Hp) (l0 l1 l4 l5 : Value) (x : Int64) (st : List Value) : Ex mX0_isIn Q 1 [l0, l1, .long x, .retAddr 1, l4, l5] st h = Ex mX0_isIn Q 2 [l0, l1, .long x, .retAddr 1, l4, l5] (.long x :: st) h := Ex_nx rfl rfl
theorem rX0_isIn_2 (Q : Po) (h : Hp) (ls : List Value) (st : List Value) (x y : Int64) : Ex mX0_isIn Q 2 ls (.long y :: .long x :: st) h = Ex mX0_isIn Q 3 ls (.int (lg_cmp x y) :: st) h := Ex_nx rfl rfl
theorem rX0_isIn_3 (Q : Po) (h : Hp) (ls : List Value) (st : List Value) (x : Int32) : Ex mX0_isIn Q 3 ls (.int x :: st) h = if x < 0 then Ex mX0_isIn Q 17 ls st h else Ex mX0_isIn Q 6 ls st h := Ex_br rfl rfl
theorem rX0_isIn_6 (Q : Po) (h : Hp) (l2 l3 l4 l5 : Value) (x : Int64) (st : List Value) : Ex mX0_isIn Q 6 [.long x, .retAddr 1, l2, l3, l4, l5] st h = Ex mX0_isIn Q 7 [.long x, .retAddr 1, l2, l3, l4, l5] (.long x :: st) h := Ex_nx rfl rfl
theorem rX0_isIn_7 (Q : Po) (h : Hp) (l0 l1 l2 l3 : Value) (x : Int64) (st : List Value) : Ex mX0_isIn Q 7 [l0, l1, l2, l3, .long x, .retAddr 1] st h = Ex mX0_isIn Q 9 [l0, l1, l2, l3, .long x, .retAddr 1] (.long x :: st) h := Ex_nx rfl rfl
theorem rX0_isIn_9 (Q : Po) (h : Hp) (ls : List Value) (st : List Value) (x y : Int64) : Ex mX0_isIn Q 9 ls (.long y :: .long x :: st) h = Ex mX0_isIn Q 10 ls (.int (lg_cmp x y) :: st) h := Ex_nx rfl rfl
theorem rX0_isIn_10 (Q : Po) (h : Hp) (ls : List Value) (st : List Value) (x : Int32) : Ex mX0_isIn Q 10 ls (.int x :: st) h = if 0 < x then Ex mX0_isIn Q 17 ls st h else Ex mX0_isIn Q 13 ls st h := Ex_br rfl rfl
theorem rX0_isIn_13 (Q : Po) (h : Hp) (ls : List Value) (st : List Value) : Ex mX0_isIn Q 13 ls st h = Ex mX0_isIn Q 14 ls (.int 1 :: st) h := Ex_nx rfl rfl
theorem rX0_isIn_14 (Q : Po) (h : Hp) (ls : List Value) (st : List Value) : Ex mX0_isIn Q 14 ls st h = Ex mX0_isIn Q 18 ls st h := Ex_nx rfl rfl
theorem rX0_isIn_17 (Q : Po) (h : Hp) (ls : List Value) (st : List Value) : Ex mX0_isIn Q 17 ls st h = Ex mX0_isIn Q 18 ls (.int 0 :: st) h := Ex_nx rfl rfl
theorem rX0_isIn_18 (Q : Po) (h : Hp) (ls : List Value) (x : Int32) : Ex mX0_isIn Q 18 ls [.int x] h = ((x = 0 ∨ x = 1) ∧ Q (.inl (some (.int x))) h) := Ex_rg rfl rfl
theorem rX0_isIn_t (Q : Po) (h : Hp) (pc n a : Nat) (ls st : List Value) : Cont mX0_isIn Q pc ls n st (.inr a) h = Q (.inr a) h := rfl
/-! FishReaders.isRow(I)Z -/
def mX0_isRow : Cd := ([(0, .inl (i_iload 0 1)),
  (1, .inl (i_i2l 2)),
  (2, .inl (i_push (.long 0) 3)),
  (3, .inl (i_push (.long 7) 6)),
  (6, .inr (c_S 3 9 6 (Mt mX0_isIn 6))),
  (9, .inl i_zret)], noH)
theorem rX0_isRow_0 (Q : Po) (h : Hp) (x : Int32) (st : List Value) : Ex mX0_isRow Q 0 [.int x] st h = Ex mX0_isRow Q 1 [.int x] (.int x :: st) h := Ex_nx rfl rfl
theorem rX0_isRow_1 (Q : Po) (h : Hp) (ls : List Value) (st : List Value) (x : Int32) : Ex mX0_isRow Q 1 ls (.int x :: st) h = Ex mX0_isRow Q 2 ls (.long x.toInt64 :: st) h := Ex_nx rfl rfl
theorem rX0_isRow_2 (Q : Po) (h : Hp) (ls : List Value) (st : List Value) : Ex mX0_isRow Q 2 ls st h = Ex mX0_isRow Q 3 ls (.long 0 :: st) h := Ex_nx rfl rfl
theorem rX0_isRow_3 (Q : Po) (h : Hp) (ls : List Value) (st : List Value) : Ex mX0_isRow Q 3 ls st h = Ex mX0_isRow Q 6 ls (.long 7 :: st) h := Ex_nx rfl rfl
theorem rX0_isRow_6 (Q : Po) (h : Hp) (ls : List Value) (a0 : Int64) (a1 : Int64) (a2 : Int64) : Ex mX0_isRow Q 6 ls (.long a2 :: .long a1 :: .long a0 :: []) h = Ex mX0_isIn (Cont mX0_isRow Q 6 ls 9 []) 0 [.long a0, .retAddr 1, .long a1, .retAddr 1, .long a2, .retAddr 1] [] h := Ex_cl (n := 6) (as := [.long a0, .long a1, .long a2]) rfl rfl
theorem rX0_isRow_9 (Q : Po) (h : Hp) (ls : List Value) (x : Int32) : Ex mX0_isRow Q 9 ls [.int x] h = ((x = 0 ∨ x = 1) ∧ Q (.inl (some (.int x))) h) := Ex_rg rfl rfl
theorem rX0_isRow_t (Q : Po) (h : Hp) (pc n a : Nat) (ls st : List Value) : Cont mX0_isRow Q pc ls n st (.inr a) h = Q (.inr a) h := rfl
/-! java/lang/Throwable.<init>(Ljava/lang/String;Ljava/lang/Throwable;ZZ)V -/
def mJ3_init_2 : Cd := ([(0, .inl (i_aload 0 1)),
  (1, .inl (i_oini 4)),
  (4, .inl (i_aload 0 5)),
  (5, .inl (i_aload 0 6)),
  (6, .inl (i_putR 123 [10, 13, 15, 16] 9)),
  (9, .inl (i_aload 0 10)),
  (10, .inl (i_gets 1003 13)),
  (13, .inl (i_putR 125 [10, 13, 15, 16] 16)),
  (16, .inl (i_aload 0 17)),
  (17, .inl (i_gets 1005 20)),
  (20, .inl (i_putR 127 [10, 13, 15, 16] 23)),
  (23, .inl (i_iload 4 25)),
  (25, .inl (i_if (fun x => x = 0) 36 28)),
  (28, .inl (i_aload 0 29)),
  (32, .inl (i_pop 33)),
  (33, .inl (i_goto 41)),
  (36, .inl (i_aload 0 37)),
  (37, .inl (i_push (.null) 38)),
  (38, .inl (i_putR 125 [10, 13, 15, 16] 41)),
  (41, .inl (i_aload 0 42)),
  (42, .inl (i_aload 1 43)),
  (43, .inl (i_putR 129 [10, 13, 15, 16] 46)),
  (46, .inl (i_aload 0 47)),
  (47, .inl (i_aload 2 48)),
  (48, .inl (i_putR 123 [10, 13, 15, 16] 51)),
  (51, .inl (i_iload 3 52)),
  (52, .inl (i_if (fun x => ¬ x = 0) 60 55)),
  (55, .inl (i_aload 0 56)),
  (56, .inl (i_push (.null) 57)),
  (57, .inl (i_putR 127 [10, 13, 15, 16] 60)),
  (60, .inl i_vret)], noH)
theorem rJ3_init_2_0 (Q : Po) (h : Hp) (l1 l2 l3 l4 : Value) (x : Nat) (st : List Value) : Ex mJ3_init_2 Q 0 [.ref x, l1, l2, l3, l4] st h = Ex mJ3_init_2 Q 1 [.ref x, l1, l2, l3, l4] (.ref x :: st) h := Ex_nx rfl rfl
theorem rJ3_init_2_0n (Q : Po) (h : Hp) (l1 l2 l3 l4 : Value) (st : List Value) : Ex mJ3_init_2 Q 0 [.null, l1, l2, l3, l4] st h = Ex mJ3_init_2 Q 1 [.null, l1, l2, l3, l4] (.null :: st) h := Ex_nx rfl rfl
theorem rJ3_init_2_1 (Q : Po) (h : Hp) (ls : List Value) (a : Nat) : Ex mJ3_init_2 Q 1 ls (.ref a :: []) h = Ex mJ3_init_2 Q 4 ls [] h := Ex_nx rfl rfl
theorem rJ3_init_2_4 (Q : Po) (h : Hp) (l1 l2 l3 l4 : Value) (x : Nat) (st : List Value) : Ex mJ3_init_2 Q 4 [.ref x, l1, l2, l3, l4] st h = Ex mJ3_init_2 Q 5 [.ref x, l1, l2, l3, l4] (.ref x :: st) h := Ex_nx rfl rfl
theorem rJ3_init_2_4n (Q : Po) (h : Hp) (l1 l2 l3 l4 : Value) (st : List Value) : Ex mJ3_init_2 Q 4 [.null, l1, l2, l3, l4] st h = Ex mJ3_init_2 Q 5 [.null, l1, l2, l3, l4] (.null :: st) h := Ex_nx rfl rfl
theorem rJ3_init_2_5 (Q : Po) (h : Hp) (l1 l2 l3 l4 : Value) (x : Nat) (st : List Value) : Ex mJ3_init_2 Q 5 [.ref x, l1, l2, l3, l4] st h = Ex mJ3_init_2 Q 6 [.ref x, l1, l2, l3, l4] (.ref x :: st) h := Ex_nx rfl rfl
theorem rJ3_init_2_5n (Q : Po) (h : Hp) (l1 l2 l3 l4 : Value) (st : List Value) : Ex mJ3_init_2 Q 5 [.null, l1, l2, l3, l4] st h = Ex mJ3_init_2 Q 6 [.null, l1, l2, l3, l4] (.null :: st) h := Ex_nx rfl rfl
theorem rJ3_init_2_6 (Q : Po) (h : Hp) (ls : List Value) (st : List Value) (x a : Nat) : Ex mJ3_init_2 Q 6 ls (.ref x :: .ref a :: st) h = (gK h a ∈ ([10, 13, 15, 16] : List Nat) ∧ Ex mJ3_init_2 Q 9 ls st (pF h 123 a (.ref x))) := Ex_gd rfl rfl
theorem rJ3_init_2_6n (Q : Po) (h : Hp) (ls : List Value) (st : List Value) (a : Nat) : Ex mJ3_init_2 Q 6 ls (.null :: .ref a :: st) h = (gK h a ∈ ([10, 13, 15, 16] : List Nat) ∧ Ex mJ3_init_2 Q 9 ls st (pF h 123 a .null)) := Ex_gd rfl rfl
theorem rJ3_init_2_9 (Q : Po) (h : Hp) (l1 l2 l3 l4 : Value) (x : Nat) (st : List Value) : Ex mJ3_init_2 Q 9 [.ref x, l1, l2, l3, l4] st h = Ex mJ3_init_2 Q 10 [.ref x, l1, l2, l3, l4] (.ref x :: st) h := Ex_nx rfl rfl
theorem rJ3_init_2_9n (Q : Po) (h : Hp) (l1 l2 l3 l4 : Value) (st : List Value) : Ex mJ3_init_2 Q 9 [.null, l1, l2, l3, l4] st h = Ex mJ3_init_2 Q 10 [.null, l1, l2, l3, l4] (.null :: st) h := Ex_nx rfl rfl
theorem rJ3_init_2_10 (Q : Po) (h : Hp) (ls : List Value) (st : List Value) : Ex mJ3_init_2 Q 10 ls st h = Ex mJ3_init_2 Q 13 ls (gF h 1003 0 :: st) h := Ex_nx rfl rfl
theorem rJ3_init_2_13 (Q : Po) (h : Hp) (ls : List Value) (st : List Value) (x a : Nat) : Ex mJ3_init_2 Q 13 ls (.ref x :: .ref a :: st) h = (gK h a ∈ ([10, 13, 15, 16] : List Nat) ∧ Ex mJ3_init_2 Q 16 ls st (pF h 125 a (.ref x))) := Ex_gd rfl rfl
theorem rJ3_init_2_13n (Q : Po) (h : Hp) (ls : List Value) (st : List Value) (a : Nat) : Ex mJ3_init_2 Q 13 ls (.null :: .ref a :: st) h = (gK h a ∈ ([10, 13, 15, 16] : List Nat) ∧ Ex mJ3_init_2 Q 16 ls st (pF h 125 a .null)) := Ex_gd rfl rfl
theorem rJ3_init_2_16 (Q : Po) (h : Hp) (l1 l2 l3 l4 : Value) (x : Nat) (st : List Value) : Ex mJ3_init_2 Q 16 [.ref x, l1, l2, l3, l4] st h = Ex mJ3_init_2 Q 17 [.ref x, l1, l2, l3, l4] (.ref x :: st) h := Ex_nx rfl rfl
theorem rJ3_init_2_16n (Q : Po) (h : Hp) (l1 l2 l3 l4 : Value) (st : List Value) : Ex mJ3_init_2 Q 16 [.null, l1, l2, l3, l4] st h = Ex mJ3_init_2 Q 17 [.null, l1, l2, l3, l4] (.null :: st) h := Ex_nx rfl rfl
theorem rJ3_init_2_17 (Q : Po) (h : Hp) (ls : List Value) (st : List Value) : Ex mJ3_init_2 Q 17 ls st h = Ex mJ3_init_2 Q 20 ls (gF h 1005 0 :: st) h := Ex_nx rfl rfl
theorem rJ3_init_2_20 (Q : Po) (h : Hp) (ls : List Value) (st : List Value) (x a : Nat) : Ex mJ3_init_2 Q 20 ls (.ref x :: .ref a :: st) h = (gK h a ∈ ([10, 13, 15, 16] : List Nat) ∧ Ex mJ3_init_2 Q 23 ls st (pF h 127 a (.ref x))) := Ex_gd rfl rfl
theorem rJ3_init_2_20n (Q : Po) (h : Hp) (ls : List Value) (st : List Value) (a : Nat) : Ex mJ3_init_2 Q 20 ls (.null :: .ref a :: st) h = (gK h a ∈ ([10, 13, 15, 16] : List Nat) ∧ Ex mJ3_init_2 Q 23 ls st (pF h 127 a .null)) := Ex_gd rfl rfl
theorem rJ3_init_2_23 (Q : Po) (h : Hp) (l0 l1 l2 l3 : Value) (x : Int32) (st : List Value) : Ex mJ3_init_2 Q 23 [l0, l1, l2, l3, .int x] st h = Ex mJ3_init_2 Q 25 [l0, l1, l2, l3, .int x] (.int x :: st) h := Ex_nx rfl rfl
theorem rJ3_init_2_25 (Q : Po) (h : Hp) (ls : List Value) (st : List Value) (x : Int32) : Ex mJ3_init_2 Q 25 ls (.int x :: st) h = if x = 0 then Ex mJ3_init_2 Q 36 ls st h else Ex mJ3_init_2 Q 28 ls st h := Ex_br rfl rfl
theorem rJ3_init_2_28 (Q : Po) (h : Hp) (l1 l2 l3 l4 : Value) (x : Nat) (st : List Value) : Ex mJ3_init_2 Q 28 [.ref x, l1, l2, l3, l4] st h = Ex mJ3_init_2 Q 29 [.ref x, l1, l2, l3, l4] (.ref x :: st) h := Ex_nx rfl rfl
theorem rJ3_init_2_28n (Q : Po) (h : Hp) (l1 l2 l3 l4 : Value) (st : List Value) : Ex mJ3_init_2 Q 28 [.null, l1, l2, l3, l4] st h = Ex mJ3_init_2 Q 29 [.null, l1, l2, l3, l4] (.null :: st) h := Ex_nx rfl rfl
theorem rJ3_init_2_32 (Q : Po) (h : Hp) (ls : List Value) (st : List Value) (x : Nat) : Ex mJ3_init_2 Q 32 ls (.ref x :: st) h = Ex mJ3_init_2 Q 33 ls st h := Ex_nx rfl rfl
theorem rJ3_init_2_33 (Q : Po) (h : Hp) (ls : List Value) (st : List Value) : Ex mJ3_init_2 Q 33 ls st h = Ex mJ3_init_2 Q 41 ls st h := Ex_nx rfl rfl
theorem rJ3_init_2_36 (Q : Po) (h : Hp) (l1 l2 l3 l4 : Value) (x : Nat) (st : List Value) : Ex mJ3_init_2 Q 36 [.ref x, l1, l2, l3, l4] st h = Ex mJ3_init_2 Q 37 [.ref x, l1, l2, l3, l4] (.ref x :: st) h := Ex_nx rfl rfl
theorem rJ3_init_2_36n (Q : Po) (h : Hp) (l1 l2 l3 l4 : Value) (st : List Value) : Ex mJ3_init_2 Q 36 [.null, l1, l2, l3, l4] st h = Ex mJ3_init_2 Q 37 [.null, l1, l2, l3, l4] (.null :: st) h := Ex_nx rfl rfl
theorem rJ3_init_2_37 (Q : Po) (h : Hp) (ls : List Value) (st : List Value) : Ex mJ3_init_2 Q 37 ls st h = Ex mJ3_init_2 Q 38 ls (.null :: st) h := Ex_nx rfl rfl
theorem rJ3_init_2_38 (Q : Po) (h : Hp) (ls : List Value) (st : List Value) (x a : Nat) : Ex mJ3_init_2 Q 38 ls (.ref x :: .ref a :: st) h = (gK h a ∈ ([10, 13, 15, 16] : List Nat) ∧ Ex mJ3_init_2 Q 41 ls st (pF h 125 a (.ref x))) := Ex_gd rfl rfl
theorem rJ3_init_2_38n (Q : Po) (h : Hp) (ls : List Value) (st : List Value) (a : Nat) : Ex mJ3_init_2 Q 38 ls (.null :: .ref a :: st) h = (gK h a ∈ ([10, 13, 15, 16] : List Nat) ∧ Ex mJ3_init_2 Q 41 ls st (pF h 125 a .null)) := Ex_gd rfl rfl
theorem rJ3_init_2_41 (Q : Po) (h : Hp) (l1 l2 l3 l4 : Value) (x : Nat) (st : List Value) : Ex mJ3_init_2 Q 41 [.ref x, l1, l2, l3, l4] st h = Ex mJ3_init_2 Q 42 [.ref x, l1, l2, l3, l4] (.ref x :: st) h := Ex_nx rfl rfl
theorem rJ3_init_2_41n (Q : Po) (h : Hp) (l1 l2 l3 l4 : Value) (st : List Value) : Ex mJ3_init_2 Q 41 [.null, l1, l2, l3, l4] st h = Ex mJ3_init_2 Q 42 [.null, l1, l2, l3, l4] (.null :: st) h := Ex_nx rfl rfl
theorem rJ3_init_2_42 (Q : Po) (h : Hp) (l0 l2 l3 l4 : Value) (x : Nat) (st : List Value) : Ex mJ3_init_2 Q 42 [l0, .ref x, l2, l3, l4] st h = Ex mJ3_init_2 Q 43 [l0, .ref x, l2, l3, l4] (.ref x :: st) h := Ex_nx rfl rfl
theorem rJ3_init_2_42n (Q : Po) (h : Hp) (l0 l2 l3 l4 : Value) (st : List Value) : Ex mJ3_init_2 Q 42 [l0, .null, l2, l3, l4] st h = Ex mJ3_init_2 Q 43 [l0, .null, l2, l3, l4] (.null :: st) h := Ex_nx rfl rfl
theorem rJ3_init_2_43 (Q : Po) (h : Hp) (ls : List Value) (st : List Value) (x a : Nat) : Ex mJ3_init_2 Q 43 ls (.ref x :: .ref a :: st) h = (gK h a ∈ ([10, 13, 15, 16] : List Nat) ∧ Ex mJ3_init_2 Q 46 ls st (pF h 129 a (.ref x))) := Ex_gd rfl rfl
theorem rJ3_init_2_43n (Q : Po) (h : Hp) (ls : List Value) (st : List Value) (a : Nat) : Ex mJ3_init_2 Q 43 ls (.null :: .ref a :: st) h = (gK h a ∈ ([10, 13, 15, 16] : List Nat) ∧ Ex mJ3_init_2 Q 46 ls st (pF h 129 a .null)) := Ex_gd rfl rfl
theorem rJ3_init_2_46 (Q : Po) (h : Hp) (l1 l2 l3 l4 : Value) (x : Nat) (st : List Value) : Ex mJ3_init_2 Q 46 [.ref x, l1, l2, l3, l4] st h = Ex mJ3_init_2 Q 47 [.ref x, l1, l2, l3, l4] (.ref x :: st) h := Ex_nx rfl rfl
theorem rJ3_init_2_46n (Q : Po) (h : Hp) (l1 l2 l3 l4 : Value) (st : List Value) : Ex mJ3_init_2 Q 46 [.null, l1, l2, l3, l4] st h = Ex mJ3_init_2 Q 47 [.null, l1, l2, l3, l4] (.null :: st) h := Ex_nx rfl rfl
theorem rJ3_init_2_47 (Q : Po) (h : Hp) (l0 l1 l3 l4 : Value) (x : Nat) (st : List Value) : Ex mJ3_init_2 Q 47 [l0, l1, .ref x, l3, l4] st h = Ex mJ3_init_2 Q 48 [l0, l1, .ref x, l3, l4] (.ref x :: st) h := Ex_nx rfl rfl
theorem rJ3_init_2_47n (Q : Po) (h : Hp) (l0 l1 l3 l4 : Value) (st : List Value) : Ex mJ3_init_2 Q 47 [l0, l1, .null, l3, l4] st h = Ex mJ3_init_2 Q 48 [l0, l1, .null, l3, l4] (.null :: st) h := Ex_nx rfl rfl
theorem rJ3_init_2_48 (Q : Po) (h : Hp) (ls : List Value) (st : List Value) (x a : Nat) : Ex mJ3_init_2 Q 48 ls (.ref x :: .ref a :: st) h = (gK h a ∈ ([10, 13, 15, 16] : List Nat) ∧ Ex mJ3_init_2 Q 51 ls st (pF h 123 a (.ref x))) := Ex_gd rfl rfl
theorem rJ3_init_2_48n (Q : Po) (h : Hp) (ls : List Value) (st : List Value) (a : Nat) : Ex mJ3_init_2 Q 48 ls (.null :: .ref a :: st) h = (gK h a ∈ ([10, 13, 15, 16] : List Nat) ∧ Ex mJ3_init_2 Q 51 ls st (pF h 123 a .null)) := Ex_gd rfl rfl
theorem rJ3_init_2_51 (Q : Po) (h : Hp) (l0 l1 l2 l4 : Value) (x : Int32) (st : List Value) : Ex mJ3_init_2 Q 51 [l0, l1, l2, .int x, l4] st h = Ex mJ3_init_2 Q 52 [l0, l1, l2, .int x, l4] (.int x :: st) h := Ex_nx rfl rfl
theorem rJ3_init_2_52 (Q : Po) (h : Hp) (ls : List Value) (st : List Value) (x : Int32) : Ex mJ3_init_2 Q 52 ls (.int x :: st) h = if ¬ x = 0 then Ex mJ3_init_2 Q 60 ls st h else Ex mJ3_init_2 Q 55 ls st h := Ex_br rfl rfl
theorem rJ3_init_2_55 (Q : Po) (h : Hp) (l1 l2 l3 l4 : Value) (x : Nat) (st : List Value) : Ex mJ3_init_2 Q 55 [.ref x, l1, l2, l3, l4] st h = Ex mJ3_init_2 Q 56 [.ref x, l1, l2, l3, l4] (.ref x :: st) h := Ex_nx rfl rfl
theorem rJ3_init_2_55n (Q : Po) (h : Hp) (l1 l2 l3 l4 : Value) (st : List Value) : Ex mJ3_init_2 Q 55 [.null, l1, l2, l3, l4] st h = Ex mJ3_init_2 Q 56 [.null, l1, l2, l3, l4] (.null :: st) h := Ex_nx rfl rfl
theorem rJ3_init_2_56 (Q : Po) (h : Hp) (ls : List Value) (st : List Value) : Ex mJ3_init_2 Q 56 ls st h = Ex mJ3_init_2 Q 57 ls (.null :: st) h := Ex_nx rfl rfl
theorem rJ3_init_2_57 (Q : Po) (h : Hp) (ls : List Value) (st : List Value) (x a : Nat) : Ex mJ3_init_2 Q 57 ls (.ref x :: .ref a :: st) h = (gK h a ∈ ([10, 13, 15, 16] : List Nat) ∧ Ex mJ3_init_2 Q 60 ls st (pF h 127 a (.ref x))) := Ex_gd rfl rfl
theorem rJ3_init_2_57n (Q : Po) (h : Hp) (ls : List Value) (st : List Value) (a : Nat) : Ex mJ3_init_2 Q 57 ls (.null :: .ref a :: st) h = (gK h a ∈ ([10, 13, 15, 16] : List Nat) ∧ Ex mJ3_init_2 Q 60 ls st (pF h 127 a .null)) := Ex_gd rfl rfl
theorem rJ3_init_2_60 (Q : Po) (h : Hp) (ls : List Value) : Ex mJ3_init_2 Q 60 ls [] h = Q (.inl none) h := Ex_rt rfl rfl
theorem rJ3_init_2_t (Q : Po) (h : Hp) (pc n a : Nat) (ls st : List Value) : Cont mJ3_init_2 Q pc ls n st (.inr a) h = Q (.inr a) h := rfl
/-! java/lang/Exception.<init>(Ljava/lang/String;Ljava/lang/Throwable;ZZ)V -/
def mJ4_init : Cd := ([(0, .inl (i_aload 0 1)),
  (1, .inl (i_aload 1 2)),
  (2, .inl (i_aload 2 3)),
  (3, .inl (i_iload 3 4)),
  (4, .inl (i_iload 4 6)),
  (6, .inr (c_I 4 9 5 (Mt mJ3_init_2 5))),
  (9, .inl i_vret)], noH)
theorem rJ4_init_0 (Q : Po) (h : Hp) (l1 l2 l3 l4 : Value) (x : Nat) (st : List Value) : Ex mJ4_init Q 0 [.ref x, l1, l2, l3, l4] st h = Ex mJ4_init Q 1 [.ref x, l1, l2, l3, l4] (.ref x :: st) h := Ex_nx rfl rfl
theorem rJ4_init_0n (Q : Po) (h : Hp) (l1 l2 l3 l4 : Value) (st : List Value) : Ex mJ4_init Q 0 [.null, l1, l2, l3, l4] st h = Ex mJ4_init Q 1 [.null, l1, l2, l3, l4] (.null :: st) h := Ex_nx rfl rfl
theorem rJ4_init_1 (Q : Po) (h : Hp) (l0 l2 l3 l4 : Value) (x : Nat) (st : List Value) : Ex mJ4_init Q 1 [l0, .ref x, l2, l3, l4] st h = Ex mJ4_init Q 2 [l0, .ref x, l2, l3, l4] (.ref x :: st) h := Ex_nx rfl rfl
theorem rJ4_init_1n (Q : Po) (h : Hp) (l0 l2 l3 l4 : Value) (st : List Value) : Ex mJ4_init Q 1 [l0, .null, l2, l3, l4] st h = Ex mJ4_init Q 2 [l0, .null, l2, l3, l4] (.null :: st) h := Ex_nx rfl rfl
theorem rJ4_init_2 (Q : Po) (h : Hp) (l0 l1 l3 l4 : Value) (x : Nat) (st : List Value) : Ex mJ4_init Q 2 [l0, l1, .ref x, l3, l4] st h = Ex mJ4_init Q 3 [l0, l1, .ref x, l3, l4] (.ref x :: st) h := Ex_nx rfl rfl
theorem rJ4_init_2n (Q : Po) (h : Hp) (l0 l1 l3 l4 : Value) (st : List Value) : Ex mJ4_init Q 2 [l0, l1, .null, l3, l4] st h = Ex mJ4_init Q 3 [l0, l1, .null, l3, l4] (.null :: st) h := Ex_nx rfl rfl
theorem rJ4_init_3 (Q : Po) (h : Hp) (l0 l1 l2 l4 : Value) (x : Int32) (st : List Value) : Ex mJ4_init Q 3 [l0, l1, l2, .int x, l4] st h = Ex mJ4_init Q 4 [l0, l1, l2, .int x, l4] (.int x :: st) h := Ex_nx rfl rfl
theorem rJ4_init_4 (Q : Po) (h : Hp) (l0 l1 l2 l3 : Value) (x : Int32) (st : List Value) : Ex mJ4_init Q 4 [l0, l1, l2, l3, .int x] st h = Ex mJ4_init Q 6 [l0, l1, l2, l3, .int x] (.int x :: st) h := Ex_nx rfl rfl
theorem rJ4_init_6 (Q : Po) (h : Hp) (ls : List Value) (a0 : Nat) (a1 : Nat) (a2 : Int32) (a3 : Int32) (b : Nat) : Ex mJ4_init Q 6 ls (.int a3 :: .int a2 :: .ref a1 :: .ref a0 :: .ref b :: []) h = Ex mJ3_init_2 (Cont mJ4_init Q 6 ls 9 []) 0 [.ref b, .ref a0, .ref a1, .int a2, .int a3] [] h := Ex_cl (n := 5) (as := [.ref b, .ref a0, .ref a1, .int a2, .int a3]) rfl rfl
theorem rJ4_init_9 (Q : Po) (h : Hp) (ls : List Value) : Ex mJ4_init Q 9 ls [] h = Q (.inl none) h := Ex_rt rfl rfl
theorem rJ4_init_t (Q : Po) (h : Hp) (pc n a : Nat) (ls st : List Value) : Cont mJ4_init Q pc ls n st (.inr a) h = Q (.inr a) h := rfl
/-! FishReaders$Finding.<init>(I)V -/
def mX10_init : Cd := ([(0, .inl (i_aload 0 1)),
  (1, .inl (i_push (.null) 2)),
  (2, .inl (i_push (.null) 3)),
  (3, .inl (i_push (.int 0) 4)),
  (4, .inl (i_push (.int 0) 5)),
  (5, .inr (c_I 4 8 5 (Mt mJ4_init 5))),
  (8, .inl (i_aload 0 9)),
  (9, .inl (i_iload 1 10)),
  (10, .inl (i_putI 134 [10] 13)),
  (13, .inl i_vret)], noH)
theorem rX10_init_0 (Q : Po) (h : Hp) (l1 : Value) (x : Nat) (st : List Value) : Ex mX10_init Q 0 [.ref x, l1] st h = Ex mX10_init Q 1 [.ref x, l1] (.ref x :: st) h := Ex_nx rfl rfl
theorem rX10_init_1 (Q : Po) (h : Hp) (ls : List Value) (st : List Value) : Ex mX10_init Q 1 ls st h = Ex mX10_init Q 2 ls (.null :: st) h := Ex_nx rfl rfl
theorem rX10_init_2 (Q : Po) (h : Hp) (ls : List Value) (st : List Value) : Ex mX10_init Q 2 ls st h = Ex mX10_init Q 3 ls (.null :: st) h := Ex_nx rfl rfl
theorem rX10_init_3 (Q : Po) (h : Hp) (ls : List Value) (st : List Value) : Ex mX10_init Q 3 ls st h = Ex mX10_init Q 4 ls (.int 0 :: st) h := Ex_nx rfl rfl
theorem rX10_init_4 (Q : Po) (h : Hp) (ls : List Value) (st : List Value) : Ex mX10_init Q 4 ls st h = Ex mX10_init Q 5 ls (.int 0 :: st) h := Ex_nx rfl rfl
theorem rX10_init_5 (Q : Po) (h : Hp) (ls : List Value) (a2 : Int32) (a3 : Int32) (b : Nat) : Ex mX10_init Q 5 ls (.int a3 :: .int a2 :: .null :: .null :: .ref b :: []) h = Ex mJ4_init (Cont mX10_init Q 5 ls 8 []) 0 [.ref b, .null, .null, .int a2, .int a3] [] h := Ex_cl (n := 5) (as := [.ref b, .null, .null, .int a2, .int a3]) rfl rfl
theorem rX10_init_8 (Q : Po) (h : Hp) (l1 : Value) (x : Nat) (st : List Value) : Ex mX10_init Q 8 [.ref x, l1] st h = Ex mX10_init Q 9 [.ref x, l1] (.ref x :: st) h := Ex_nx rfl rfl
theorem rX10_init_9 (Q : Po) (h : Hp) (l0 : Value) (x : Int32) (st : List Value) : Ex mX10_init Q 9 [l0, .int x] st h = Ex mX10_init Q 10 [l0, .int x] (.int x :: st) h := Ex_nx rfl rfl
theorem rX10_init_10 (Q : Po) (h : Hp) (ls : List Value) (st : List Value) (x : Int32) (a : Nat) : Ex mX10_init Q 10 ls (.int x :: .ref a :: st) h = (gK h a ∈ ([10] : List Nat) ∧ Ex mX10_init Q 13 ls st (pF h 134 a (.int x))) := Ex_gd rfl rfl
theorem rX10_init_13 (Q : Po) (h : Hp) (ls : List Value) : Ex mX10_init Q 13 ls [] h = Q (.inl none) h := Ex_rt rfl rfl
theorem rX10_init_t (Q : Po) (h : Hp) (pc n a : Nat) (ls st : List Value) : Cont mX10_init Q pc ls n st (.inr a) h = Q (.inr a) h := rfl
/-! FishReaders.must(ZI)V -/
def mX0_must : Cd := ([(0, .inl (i_iload 0 1)),
  (1, .inl (i_if (fun x => ¬ x = 0) 13 4)),
  (4, .inl (i_new 10 7 7)),
  (7, .inl (i_dup 8)),
  (8, .inl (i_iload 1 9)),
  (9, .inr (c_I 1 12 2 (Mt mX10_init 2))),
  (12, .inl i_thr),
  (13, .inl i_vret)], noH)
theorem rX0_must_0 (Q : Po) (h : Hp) (l1 : Value) (x : Int32) (st : List Value) : Ex mX0_must Q 0 [.int x, l1] st h = Ex mX0_must Q 1 [.int x, l1] (.int x :: st) h := Ex_nx rfl rfl
theorem rX0_must_1 (Q : Po) (h : Hp) (ls : List Value) (st : List Value) (x : Int32) : Ex mX0_must Q 1 ls (.int x :: st) h = if ¬ x = 0 then Ex mX0_must Q 13 ls st h else Ex mX0_must Q 4 ls st h := Ex_br rfl rfl
theorem rX0_must_4 (Q : Po) (h : Hp) (ls : List Value) (st : List Value) : Ex mX0_must Q 4 ls st h = ((1 ≤ gC h ∧ 7 ≤ gS h) ∧ Ex mX0_must Q 7 ls (.ref (gN h) :: st) (nO h 10 7)) := Ex_gd rfl rfl
theorem rX0_must_7 (Q : Po) (h : Hp) (ls : List Value) (st : List Value) (x : Nat) : Ex mX0_must Q 7 ls (.ref x :: st) h = Ex mX0_must Q 8 ls (.ref x :: .ref x :: st) h := Ex_nx rfl rfl
theorem rX0_must_8 (Q : Po) (h : Hp) (l0 : Value) (x : Int32) (st : List Value) : Ex mX0_must Q 8 [l0, .int x] st h = Ex mX0_must Q 9 [l0, .int x] (.int x :: st) h := Ex_nx rfl rfl
theorem rX0_must_9 (Q : Po) (h : Hp) (ls : List Value) (a0 : Int32) (s0 : Value) (b : Nat) : Ex mX0_must Q 9 ls (.int a0 :: .ref b :: [s0]) h = Ex mX10_init (Cont mX0_must Q 9 ls 12 [s0]) 0 [.ref b, .int a0] [] h := Ex_cl (n := 2) (as := [.ref b, .int a0]) rfl rfl
theorem rX0_must_12 (Q : Po) (h : Hp) (ls : List Value) (st : List Value) (a : Nat) : Ex mX0_must Q 12 ls (.ref a :: st) h = Cont mX0_must Q 12 ls 0 [] (.inr a) h := Ex_th rfl rfl
theorem rX0_must_13 (Q : Po) (h : Hp) (ls : List Value) : Ex mX0_must Q 13 ls [] h = Q (.inl none) h := Ex_rt rfl rfl
theorem rX0_must_t (Q : Po) (h : Hp) (pc n a : Nat) (ls st : List Value) : Cont mX0_must Q pc ls n st (.inr a) h = Q (.inr a) h := rfl
/-! FishReaders$Row.<init>(II)V -/
def mX11_init : Cd := ([(0, .inl (i_aload 0 1)),
  (1, .inl (i_oini 4)),
  (4, .inl (i_aload 0 5)),
  (5, .inl (i_iload 1 6)),
  (6, .inl (i_putI 136 [11] 9)),
  (9, .inl (i_aload 0 10)),
  (10, .inl (i_iload 2 11)),
  (11, .inl (i_newa 51 13)),
  (13, .inl (i_putR 139 [11] 16)),
  (16, .inl i_vret)], noH)
theorem rX11_init_0 (Q : Po) (h : Hp) (l1 l2 : Value) (x : Nat) (st : List Value) : Ex mX11_init Q 0 [.ref x, l1, l2] st h = Ex mX11_init Q 1 [.ref x, l1, l2] (.ref x :: st) h := Ex_nx rfl rfl
theorem rX11_init_1 (Q : Po) (h : Hp) (ls : List Value) (a : Nat) : Ex mX11_init Q 1 ls (.ref a :: []) h = Ex mX11_init Q 4 ls [] h := Ex_nx rfl rfl
theorem rX11_init_4 (Q : Po) (h : Hp) (l1 l2 : Value) (x : Nat) (st : List Value) : Ex mX11_init Q 4 [.ref x, l1, l2] st h = Ex mX11_init Q 5 [.ref x, l1, l2] (.ref x :: st) h := Ex_nx rfl rfl
theorem rX11_init_5 (Q : Po) (h : Hp) (l0 l2 : Value) (x : Int32) (st : List Value) : Ex mX11_init Q 5 [l0, .int x, l2] st h = Ex mX11_init Q 6 [l0, .int x, l2] (.int x :: st) h := Ex_nx rfl rfl
theorem rX11_init_6 (Q : Po) (h : Hp) (ls : List Value) (st : List Value) (x : Int32) (a : Nat) : Ex mX11_init Q 6 ls (.int x :: .ref a :: st) h = (gK h a ∈ ([11] : List Nat) ∧ Ex mX11_init Q 9 ls st (pF h 136 a (.int x))) := Ex_gd rfl rfl
theorem rX11_init_9 (Q : Po) (h : Hp) (l1 l2 : Value) (x : Nat) (st : List Value) : Ex mX11_init Q 9 [.ref x, l1, l2] st h = Ex mX11_init Q 10 [.ref x, l1, l2] (.ref x :: st) h := Ex_nx rfl rfl
theorem rX11_init_10 (Q : Po) (h : Hp) (l0 l1 : Value) (x : Int32) (st : List Value) : Ex mX11_init Q 10 [l0, l1, .int x] st h = Ex mX11_init Q 11 [l0, l1, .int x] (.int x :: st) h := Ex_nx rfl rfl
theorem rX11_init_11 (Q : Po) (h : Hp) (ls : List Value) (st : List Value) (x : Int32) : Ex mX11_init Q 11 ls (.int x :: st) h = ((¬ x < 0 ∧ x.toNatClampNeg ≤ 65536 ∧ 1 ≤ gC h ∧ x.toNatClampNeg ≤ gS h) ∧ Ex mX11_init Q 13 ls (.ref (gN h) :: st) (nA h 51 x.toNatClampNeg)) := Ex_gd rfl rfl
theorem rX11_init_13 (Q : Po) (h : Hp) (ls : List Value) (st : List Value) (x a : Nat) : Ex mX11_init Q 13 ls (.ref x :: .ref a :: st) h = (gK h a ∈ ([11] : List Nat) ∧ Ex mX11_init Q 16 ls st (pF h 139 a (.ref x))) := Ex_gd rfl rfl
theorem rX11_init_13n (Q : Po) (h : Hp) (ls : List Value) (st : List Value) (a : Nat) : Ex mX11_init Q 13 ls (.null :: .ref a :: st) h = (gK h a ∈ ([11] : List Nat) ∧ Ex mX11_init Q 16 ls st (pF h 139 a .null)) := Ex_gd rfl rfl
theorem rX11_init_16 (Q : Po) (h : Hp) (ls : List Value) : Ex mX11_init Q 16 ls [] h = Q (.inl none) h := Ex_rt rfl rfl
theorem rX11_init_t (Q : Po) (h : Hp) (pc n a : Nat) (ls st : List Value) : Cont mX11_init Q pc ls n st (.inr a) h = Q (.inr a) h := rfl
/-! FishReaders.well(I)I -/
def mX0_well : Cd := ([(0, .inl (i_aload 0 1)),
  (1, .inl (i_push (.int 0) 2)),
  (2, .inl (i_putI 22 [1] 5)),
  (5, .inl (i_iload 1 6)),
  (6, .inl i_iret)], noH)
theorem rX0_well_0 (Q : Po) (h : Hp) (l1 : Value) (x : Nat) (st : List Value) : Ex mX0_well Q 0 [.ref x, l1] st h = Ex mX0_well Q 1 [.ref x, l1] (.ref x :: st) h := Ex_nx rfl rfl
theorem rX0_well_1 (Q : Po) (h : Hp) (ls : List Value) (st : List Value) : Ex mX0_well Q 1 ls st h = Ex mX0_well Q 2 ls (.int 0 :: st) h := Ex_nx rfl rfl
theorem rX0_well_2 (Q : Po) (h : Hp) (ls : List Value) (st : List Value) (x : Int32) (a : Nat) : Ex mX0_well Q 2 ls (.int x :: .ref a :: st) h = (gK h a ∈ ([1] : List Nat) ∧ Ex mX0_well Q 5 ls st (pF h 22 a (.int x))) := Ex_gd rfl rfl
theorem rX0_well_5 (Q : Po) (h : Hp) (l0 : Value) (x : Int32) (st : List Value) : Ex mX0_well Q 5 [l0, .int x] st h = Ex mX0_well Q 6 [l0, .int x] (.int x :: st) h := Ex_nx rfl rfl
theorem rX0_well_6 (Q : Po) (h : Hp) (ls : List Value) (x : Int32) : Ex mX0_well Q 6 ls [.int x] h = Q (.inl (some (.int x))) h := Ex_rt rfl rfl
theorem rX0_well_t (Q : Po) (h : Hp) (pc n a : Nat) (ls st : List Value) : Cont mX0_well Q pc ls n st (.inr a) h = Q (.inr a) h := rfl
/-! FishReaders.found(LFishReaders$Finding;)I -/
def mX0_found : Cd := ([(0, .inl (i_aload 0 1)),
  (1, .inl (i_aload 1 2)),
  (2, .inl (i_getf 134 [10] 5)),
  (5, .inl (i_putI 22 [1] 8)),
  (8, .inl (i_push (.int (-1000010)) 10)),
  (10, .inl (i_aload 1 11)),
  (11, .inl (i_getf 134 [10] 14)),
  (14, .inl (i_bin (fun x y => x - y) 15)),
  (15, .inl i_iret)], noH)
theorem rX0_found_0 (Q : Po) (h : Hp) (l1 : Value) (x : Nat) (st : List Value) : Ex mX0_found Q 0 [.ref x, l1] st h = Ex mX0_found Q 1 [.ref x, l1] (.ref x :: st) h := Ex_nx rfl rfl
theorem rX0_found_1 (Q : Po) (h : Hp) (l0 : Value) (x : Nat) (st : List Value) : Ex mX0_found Q 1 [l0, .ref x] st h = Ex mX0_found Q 2 [l0, .ref x] (.ref x :: st) h := Ex_nx rfl rfl
theorem rX0_found_2 (Q : Po) (h : Hp) (ls : List Value) (st : List Value) (a : Nat) : Ex mX0_found Q 2 ls (.ref a :: st) h = (gK h a ∈ ([10] : List Nat) ∧ Ex mX0_found Q 5 ls (gF h 134 a :: st) h) := Ex_gd rfl rfl
theorem rX0_found_5 (Q : Po) (h : Hp) (ls : List Value) (st : List Value) (x : Int32) (a : Nat) : Ex mX0_found Q 5 ls (.int x :: .ref a :: st) h = (gK h a ∈ ([1] : List Nat) ∧ Ex mX0_found Q 8 ls st (pF h 22 a (.int x))) := Ex_gd rfl rfl
theorem rX0_found_8 (Q : Po) (h : Hp) (ls : List Value) (st : List Value) : Ex mX0_found Q 8 ls st h = Ex mX0_found Q 10 ls (.int (-1000010) :: st) h := Ex_nx rfl rfl
theorem rX0_found_10 (Q : Po) (h : Hp) (l0 : Value) (x : Nat) (st : List Value) : Ex mX0_found Q 10 [l0, .ref x] st h = Ex mX0_found Q 11 [l0, .ref x] (.ref x :: st) h := Ex_nx rfl rfl
theorem rX0_found_11 (Q : Po) (h : Hp) (ls : List Value) (st : List Value) (a : Nat) : Ex mX0_found Q 11 ls (.ref a :: st) h = (gK h a ∈ ([10] : List Nat) ∧ Ex mX0_found Q 14 ls (gF h 134 a :: st) h) := Ex_gd rfl rfl
theorem rX0_found_14 (Q : Po) (h : Hp) (ls : List Value) (st : List Value) (x y : Int32) : Ex mX0_found Q 14 ls (.int y :: .int x :: st) h = Ex mX0_found Q 15 ls (.int (x - y) :: st) h := Ex_nx rfl rfl
theorem rX0_found_15 (Q : Po) (h : Hp) (ls : List Value) (x : Int32) : Ex mX0_found Q 15 ls [.int x] h = Q (.inl (some (.int x))) h := Ex_rt rfl rfl
theorem rX0_found_t (Q : Po) (h : Hp) (pc n a : Nat) (ls st : List Value) : Cont mX0_found Q pc ls n st (.inr a) h = Q (.inr a) h := rfl
/-! FishReaders.row(III)I -/
def mX0_row : Cd := ([(0, .inl (i_iload 1 1)),
  (1, .inr (c_S 1 4 1 (Mt mX0_isRow 1))),
  (4, .inl (i_if (fun x => x = 0) 25 7)),
  (7, .inl (i_iload 2 8)),
  (8, .inl (i_i2l 9)),
  (9, .inl (i_push (.long 0) 10)),
  (10, .inl (i_push (.long 2) 13)),
  (13, .inr (c_S 3 16 6 (Mt mX0_isIn 6))),
  (16, .inl (i_if (fun x => x = 0) 25 19)),
  (19, .inl (i_iload 3 20)),
  (20, .inl (i_push (.int 40) 22)),
  (22, .inl (i_icmp (fun x y => x ≤ y) 28 25)),
  (25, .inl (i_push (.int (-1000001)) 27)),
  (27, .inl i_iret),
  (28, .inl (i_iload 3 29)),
  (29, .inl (i_if (fun x => x < 0) 36 32)),
  (32, .inl (i_push (.int 1) 33)),
  (33, .inl (i_goto 37)),
  (36, .inl (i_push (.int 0) 37)),
  (37, .inl (i_push (.int 4) 38)),
  (38, .inr (c_S 2 41 2 (Mt mX0_must 2))),
  (41, .inl (i_aload 0 42)),
  (42, .inl (i_getf 3 [1] 45)),
  (45, .inl (i_iload 1 46)),
  (46, .inl (i_new 11 2 49)),
  (49, .inl (i_dup 50)),
  (50, .inl (i_iload 2 51)),
  (51, .inl (i_iload 3 52)),
  (52, .inr (c_I 2 55 3 (Mt mX11_init 3))),
  (55, .inl (i_aast 54 [11] 56)),
  (56, .inl (i_aload 0 57)),
  (57, .inl (i_iload 3 58)),
  (58, .inr (c_V 1 61 2 1 (Mt mX0_well 2))),
  (61, .inl i_iret),
  (62, .inl (i_astore 4 64)),
  (64, .inl (i_aload 0 65)),
  (65, .inl (i_aload 4 67)),
  (67, .inr (c_V 1 70 2 1 (Mt mX0_found 2))),
  (70, .inl i_iret)], (hTab [(28, 61, 62, [10])]))
theorem rX0_row_0 (Q : Po) (h : Hp) (l0 l2 l3 l4 : Value) (x : Int32) (st : List Value) : Ex mX0_row Q 0 [l0, .int x, l2, l3, l4] st h = Ex mX0_row Q 1 [l0, .int x, l2, l3, l4] (.int x :: st) h := Ex_nx rfl rfl
theorem rX0_row_1 (Q : Po) (h : Hp) (ls : List Value) (a0 : Int32) : Ex mX0_row Q 1 ls (.int a0 :: []) h = Ex mX0_isRow (Cont mX0_row Q 1 ls 4 []) 0 [.int a0] [] h := Ex_cl (n := 1) (as := [.int a0]) rfl rfl
theorem rX0_row_4 (Q : Po) (h : Hp) (ls : List Value) (st : List Value) (x : Int32) : Ex mX0_row Q 4 ls (.int x :: st) h = if x = 0 then Ex mX0_row Q 25 ls st h else Ex mX0_row Q 7 ls st h := Ex_br rfl rfl
theorem rX0_row_7 (Q : Po) (h : Hp) (l0 l1 l3 l4 : Value) (x : Int32) (st : List Value) : Ex mX0_row Q 7 [l0, l1, .int x, l3, l4] st h = Ex mX0_row Q 8 [l0, l1, .int x, l3, l4] (.int x :: st) h := Ex_nx rfl rfl
theorem rX0_row_8 (Q : Po) (h : Hp) (ls : List Value) (st : List Value) (x : Int32) : Ex mX0_row Q 8 ls (.int x :: st) h = Ex mX0_row Q 9 ls (.long x.toInt64 :: st) h := Ex_nx rfl rfl
theorem rX0_row_9 (Q : Po) (h : Hp) (ls : List Value) (st : List Value) : Ex mX0_row Q 9 ls st h = Ex mX0_row Q 10 ls (.long 0 :: st) h := Ex_nx rfl rfl
theorem rX0_row_10 (Q : Po) (h : Hp) (ls : List Value) (st : List Value) : Ex mX0_row Q 10 ls st h = Ex mX0_row Q 13 ls (.long 2 :: st) h := Ex_nx rfl rfl
theorem rX0_row_13 (Q : Po) (h : Hp) (ls : List Value) (a0 : Int64) (a1 : Int64) (a2 : Int64) : Ex mX0_row Q 13 ls (.long a2 :: .long a1 :: .long a0 :: []) h = Ex mX0_isIn (Cont mX0_row Q 13 ls 16 []) 0 [.long a0, .retAddr 1, .long a1, .retAddr 1, .long a2, .retAddr 1] [] h := Ex_cl (n := 6) (as := [.long a0, .long a1, .long a2]) rfl rfl
theorem rX0_row_16 (Q : Po) (h : Hp) (ls : List Value) (st : List Value) (x : Int32) : Ex mX0_row Q 16 ls (.int x :: st) h = if x = 0 then Ex mX0_row Q 25 ls st h else Ex mX0_row Q 19 ls st h := Ex_br rfl rfl
theorem rX0_row_19 (Q : Po) (h : Hp) (l0 l1 l2 l4 : Value) (x : Int32) (st : List Value) : Ex mX0_row Q 19 [l0, l1, l2, .int x, l4] st h = Ex mX0_row Q 20 [l0, l1, l2, .int x, l4] (.int x :: st) h := Ex_nx rfl rfl
theorem rX0_row_20 (Q : Po) (h : Hp) (ls : List Value) (st : List Value) : Ex mX0_row Q 20 ls st h = Ex mX0_row Q 22 ls (.int 40 :: st) h := Ex_nx rfl rfl
theorem rX0_row_22 (Q : Po) (h : Hp) (ls : List Value) (st : List Value) (x y : Int32) : Ex mX0_row Q 22 ls (.int y :: .int x :: st) h = if x ≤ y then Ex mX0_row Q 28 ls st h else Ex mX0_row Q 25 ls st h := Ex_br rfl rfl
theorem rX0_row_25 (Q : Po) (h : Hp) (ls : List Value) (st : List Value) : Ex mX0_row Q 25 ls st h = Ex mX0_row Q 27 ls (.int (-1000001) :: st) h := Ex_nx rfl rfl
theorem rX0_row_27 (Q : Po) (h : Hp) (ls : List Value) (x : Int32) : Ex mX0_row Q 27 ls [.int x] h = Q (.inl (some (.int x))) h := Ex_rt rfl rfl
theorem rX0_row_28 (Q : Po) (h : Hp) (l0 l1 l2 l4 : Value) (x : Int32) (st : List Value) : Ex mX0_row Q 28 [l0, l1, l2, .int x, l4] st h = Ex mX0_row Q 29 [l0, l1, l2, .int x, l4] (.int x :: st) h := Ex_nx rfl rfl
theorem rX0_row_29 (Q : Po) (h : Hp) (ls : List Value) (st : List Value) (x : Int32) : Ex mX0_row Q 29 ls (.int x :: st) h = if x < 0 then Ex mX0_row Q 36 ls st h else Ex mX0_row Q 32 ls st h := Ex_br rfl rfl
theorem rX0_row_32 (Q : Po) (h : Hp) (ls : List Value) (st : List Value) : Ex mX0_row Q 32 ls st h = Ex mX0_row Q 33 ls (.int 1 :: st) h := Ex_nx rfl rfl
theorem rX0_row_33 (Q : Po) (h : Hp) (ls : List Value) (st : List Value) : Ex mX0_row Q 33 ls st h = Ex mX0_row Q 37 ls st h := Ex_nx rfl rfl
theorem rX0_row_36 (Q : Po) (h : Hp) (ls : List Value) (st : List Value) : Ex mX0_row Q 36 ls st h = Ex mX0_row Q 37 ls (.int 0 :: st) h := Ex_nx rfl rfl
theorem rX0_row_37 (Q : Po) (h : Hp) (ls : List Value) (st : List Value) : Ex mX0_row Q 37 ls st h = Ex mX0_row Q 38 ls (.int 4 :: st) h := Ex_nx rfl rfl
theorem rX0_row_38 (Q : Po) (h : Hp) (ls : List Value) (a0 : Int32) (a1 : Int32) : Ex mX0_row Q 38 ls (.int a1 :: .int a0 :: []) h = Ex mX0_must (Cont mX0_row Q 38 ls 41 []) 0 [.int a0, .int a1] [] h := Ex_cl (n := 2) (as := [.int a0, .int a1]) rfl rfl
theorem rX0_row_41 (Q : Po) (h : Hp) (l1 l2 l3 l4 : Value) (x : Nat) (st : List Value) : Ex mX0_row Q 41 [.ref x, l1, l2, l3, l4] st h = Ex mX0_row Q 42 [.ref x, l1, l2, l3, l4] (.ref x :: st) h := Ex_nx rfl rfl
theorem rX0_row_42 (Q : Po) (h : Hp) (ls : List Value) (st : List Value) (a : Nat) : Ex mX0_row Q 42 ls (.ref a :: st) h = (gK h a ∈ ([1] : List Nat) ∧ Ex mX0_row Q 45 ls (gF h 3 a :: st) h) := Ex_gd rfl rfl
theorem rX0_row_45 (Q : Po) (h : Hp) (l0 l2 l3 l4 : Value) (x : Int32) (st : List Value) : Ex mX0_row Q 45 [l0, .int x, l2, l3, l4] st h = Ex mX0_row Q 46 [l0, .int x, l2, l3, l4] (.int x :: st) h := Ex_nx rfl rfl
theorem rX0_row_46 (Q : Po) (h : Hp) (ls : List Value) (st : List Value) : Ex mX0_row Q 46 ls st h = ((1 ≤ gC h ∧ 2 ≤ gS h) ∧ Ex mX0_row Q 49 ls (.ref (gN h) :: st) (nO h 11 2)) := Ex_gd rfl rfl
theorem rX0_row_49 (Q : Po) (h : Hp) (ls : List Value) (st : List Value) (x : Nat) : Ex mX0_row Q 49 ls (.ref x :: st) h = Ex mX0_row Q 50 ls (.ref x :: .ref x :: st) h := Ex_nx rfl rfl
theorem rX0_row_50 (Q : Po) (h : Hp) (l0 l1 l3 l4 : Value) (x : Int32) (st : List Value) : Ex mX0_row Q 50 [l0, l1, .int x, l3, l4] st h = Ex mX0_row Q 51 [l0, l1, .int x, l3, l4] (.int x :: st) h := Ex_nx rfl rfl
theorem rX0_row_51 (Q : Po) (h : Hp) (l0 l1 l2 l4 : Value) (x : Int32) (st : List Value) : Ex mX0_row Q 51 [l0, l1, l2, .int x, l4] st h = Ex mX0_row Q 52 [l0, l1, l2, .int x, l4] (.int x :: st) h := Ex_nx rfl rfl
theorem rX0_row_52 (Q : Po) (h : Hp) (ls : List Value) (a0 : Int32) (a1 : Int32) (s0 s1 s2 : Value) (b : Nat) : Ex mX0_row Q 52 ls (.int a1 :: .int a0 :: .ref b :: [s0, s1, s2]) h = Ex mX11_init (Cont mX0_row Q 52 ls 55 [s0, s1, s2]) 0 [.ref b, .int a0, .int a1] [] h := Ex_cl (n := 3) (as := [.ref b, .int a0, .int a1]) rfl rfl
theorem rX0_row_55 (Q : Po) (h : Hp) (ls : List Value) (st : List Value) (a x : Nat) (i : Int32) : Ex mX0_row Q 55 ls (.ref x :: .int i :: .ref a :: st) h = ((gK h a = 54 ∧ gK h x ∈ ([11] : List Nat) ∧ ¬ (i < 0 ∨ gL h a ≤ i.toNatClampNeg)) ∧ Ex mX0_row Q 56 ls st (pR h a i.toNatClampNeg (some x))) := Ex_gd rfl rfl
theorem rX0_row_55n (Q : Po) (h : Hp) (ls : List Value) (st : List Value) (a : Nat) (i : Int32) : Ex mX0_row Q 55 ls (.null :: .int i :: .ref a :: st) h = ((gK h a = 54 ∧ ¬ (i < 0 ∨ gL h a ≤ i.toNatClampNeg)) ∧ Ex mX0_row Q 56 ls st (pR h a i.toNatClampNeg none)) := Ex_gd rfl rfl
theorem rX0_row_56 (Q : Po) (h : Hp) (l1 l2 l3 l4 : Value) (x : Nat) (st : List Value) : Ex mX0_row Q 56 [.ref x, l1, l2, l3, l4] st h = Ex mX0_row Q 57 [.ref x, l1, l2, l3, l4] (.ref x :: st) h := Ex_nx rfl rfl
theorem rX0_row_57 (Q : Po) (h : Hp) (l0 l1 l2 l4 : Value) (x : Int32) (st : List Value) : Ex mX0_row Q 57 [l0, l1, l2, .int x, l4] st h = Ex mX0_row Q 58 [l0, l1, l2, .int x, l4] (.int x :: st) h := Ex_nx rfl rfl
theorem rX0_row_58 (Q : Po) (h : Hp) (ls : List Value) (a0 : Int32) (b : Nat) : Ex mX0_row Q 58 ls (.int a0 :: .ref b :: []) h = (gK h b = 1 ∧ Ex mX0_well (Cont mX0_row Q 58 ls 61 []) 0 [.ref b, .int a0] [] h) := Ex_cg (n := 2) (as := [.ref b, .int a0]) rfl rfl
theorem rX0_row_61 (Q : Po) (h : Hp) (ls : List Value) (x : Int32) : Ex mX0_row Q 61 ls [.int x] h = Q (.inl (some (.int x))) h := Ex_rt rfl rfl
theorem rX0_row_62 (Q : Po) (h : Hp) (l0 l1 l2 l3 l4 : Value) (x : Nat) (st : List Value) : Ex mX0_row Q 62 [l0, l1, l2, l3, l4] (.ref x :: st) h = Ex mX0_row Q 64 [l0, l1, l2, l3, .ref x] st h := Ex_nx rfl rfl
theorem rX0_row_64 (Q : Po) (h : Hp) (l1 l2 l3 l4 : Value) (x : Nat) (st : List Value) : Ex mX0_row Q 64 [.ref x, l1, l2, l3, l4] st h = Ex mX0_row Q 65 [.ref x, l1, l2, l3, l4] (.ref x :: st) h := Ex_nx rfl rfl
theorem rX0_row_65 (Q : Po) (h : Hp) (l0 l1 l2 l3 : Value) (x : Nat) (st : List Value) : Ex mX0_row Q 65 [l0, l1, l2, l3, .ref x] st h = Ex mX0_row Q 67 [l0, l1, l2, l3, .ref x] (.ref x :: st) h := Ex_nx rfl rfl
theorem rX0_row_67 (Q : Po) (h : Hp) (ls : List Value) (a0 : Nat) (b : Nat) : Ex mX0_row Q 67 ls (.ref a0 :: .ref b :: []) h = (gK h b = 1 ∧ Ex mX0_found (Cont mX0_row Q 67 ls 70 []) 0 [.ref b, .ref a0] [] h) := Ex_cg (n := 2) (as := [.ref b, .ref a0]) rfl rfl
theorem rX0_row_70 (Q : Po) (h : Hp) (ls : List Value) (x : Int32) : Ex mX0_row Q 70 ls [.int x] h = Q (.inl (some (.int x))) h := Ex_rt rfl rfl
/-! FishReaders.rowAt(I)LFishReaders$Row; -/
def mX0_rowAt : Cd := ([(0, .inl (i_aload 0 1)),
  (1, .inl (i_getf 3 [1] 4)),
  (4, .inl (i_iload 1 5)),
  (5, .inl (i_aald 54 6)),
  (6, .inl (i_ifn 13 9)),
  (9, .inl (i_push (.int 1) 10)),
  (10, .inl (i_goto 14)),
  (13, .inl (i_push (.int 0) 14)),
  (14, .inl (i_push (.int 1) 15)),
  (15, .inr (c_S 2 18 2 (Mt mX0_must 2))),
  (18, .inl (i_aload 0 19)),
  (19, .inl (i_getf 3 [1] 22)),
  (22, .inl (i_iload 1 23)),
  (23, .inl (i_aald 54 24)),
  (24, .inl i_aret)], noH)
theorem rX0_rowAt_0 (Q : Po) (h : Hp) (l1 : Value) (x : Nat) (st : List Value) : Ex mX0_rowAt Q 0 [.ref x, l1] st h = Ex mX0_rowAt Q 1 [.ref x, l1] (.ref x :: st) h := Ex_nx rfl rfl
theorem rX0_rowAt_1 (Q : Po) (h : Hp) (ls : List Value) (st : List Value) (a : Nat) : Ex mX0_rowAt Q 1 ls (.ref a :: st) h = (gK h a ∈ ([1] : List Nat) ∧ Ex mX0_rowAt Q 4 ls (gF h 3 a :: st) h) := Ex_gd rfl rfl
theorem rX0_rowAt_4 (Q : Po) (h : Hp) (l0 : Value) (x : Int32) (st : List Value) : Ex mX0_rowAt Q 4 [l0, .int x] st h = Ex mX0_rowAt Q 5 [l0, .int x] (.int x :: st) h := Ex_nx rfl rfl
theorem rX0_rowAt_5 (Q : Po) (h : Hp) (ls : List Value) (st : List Value) (a : Nat) (i : Int32) : Ex mX0_rowAt Q 5 ls (.int i :: .ref a :: st) h = ((gK h a = 54 ∧ ¬ (i < 0 ∨ gL h a ≤ i.toNatClampNeg)) ∧ Ex mX0_rowAt Q 6 ls (va_rf (gR h a i.toNatClampNeg) :: st) h) := Ex_gd rfl rfl
theorem rX0_rowAt_6n (Q : Po) (h : Hp) (ls : List Value) (st : List Value) : Ex mX0_rowAt Q 6 ls (.null :: st) h = Ex mX0_rowAt Q 13 ls st h := Ex_nx rfl rfl
theorem rX0_rowAt_6 (Q : Po) (h : Hp) (ls : List Value) (st : List Value) (x : Nat) : Ex mX0_rowAt Q 6 ls (.ref x :: st) h = Ex mX0_rowAt Q 9 ls st h := Ex_nx rfl rfl
theorem rX0_rowAt_9 (Q : Po) (h : Hp) (ls : List Value) (st : List Value) : Ex mX0_rowAt Q 9 ls st h = Ex mX0_rowAt Q 10 ls (.int 1 :: st) h := Ex_nx rfl rfl
theorem rX0_rowAt_10 (Q : Po) (h : Hp) (ls : List Value) (st : List Value) : Ex mX0_rowAt Q 10 ls st h = Ex mX0_rowAt Q 14 ls st h := Ex_nx rfl rfl
theorem rX0_rowAt_13 (Q : Po) (h : Hp) (ls : List Value) (st : List Value) : Ex mX0_rowAt Q 13 ls st h = Ex mX0_rowAt Q 14 ls (.int 0 :: st) h := Ex_nx rfl rfl
theorem rX0_rowAt_14 (Q : Po) (h : Hp) (ls : List Value) (st : List Value) : Ex mX0_rowAt Q 14 ls st h = Ex mX0_rowAt Q 15 ls (.int 1 :: st) h := Ex_nx rfl rfl
theorem rX0_rowAt_15 (Q : Po) (h : Hp) (ls : List Value) (a0 : Int32) (a1 : Int32) : Ex mX0_rowAt Q 15 ls (.int a1 :: .int a0 :: []) h = Ex mX0_must (Cont mX0_rowAt Q 15 ls 18 []) 0 [.int a0, .int a1] [] h := Ex_cl (n := 2) (as := [.int a0, .int a1]) rfl rfl
theorem rX0_rowAt_18 (Q : Po) (h : Hp) (l1 : Value) (x : Nat) (st : List Value) : Ex mX0_rowAt Q 18 [.ref x, l1] st h = Ex mX0_rowAt Q 19 [.ref x, l1] (.ref x :: st) h := Ex_nx rfl rfl
theorem rX0_rowAt_19 (Q : Po) (h : Hp) (ls : List Value) (st : List Value) (a : Nat) : Ex mX0_rowAt Q 19 ls (.ref a :: st) h = (gK h a ∈ ([1] : List Nat) ∧ Ex mX0_rowAt Q 22 ls (gF h 3 a :: st) h) := Ex_gd rfl rfl
theorem rX0_rowAt_22 (Q : Po) (h : Hp) (l0 : Value) (x : Int32) (st : List Value) : Ex mX0_rowAt Q 22 [l0, .int x] st h = Ex mX0_rowAt Q 23 [l0, .int x] (.int x :: st) h := Ex_nx rfl rfl
theorem rX0_rowAt_23 (Q : Po) (h : Hp) (ls : List Value) (st : List Value) (a : Nat) (i : Int32) : Ex mX0_rowAt Q 23 ls (.int i :: .ref a :: st) h = ((gK h a = 54 ∧ ¬ (i < 0 ∨ gL h a ≤ i.toNatClampNeg)) ∧ Ex mX0_rowAt Q 24 ls (va_rf (gR h a i.toNatClampNeg) :: st) h) := Ex_gd rfl rfl
theorem rX0_rowAt_24 (Q : Po) (h : Hp) (ls : List Value) (x : Nat) : Ex mX0_rowAt Q 24 ls [.ref x] h = Q (.inl (some (.ref x))) h := Ex_rt rfl rfl
theorem rX0_rowAt_t (Q : Po) (h : Hp) (pc n a : Nat) (ls st : List Value) : Cont mX0_rowAt Q pc ls n st (.inr a) h = Q (.inr a) h := rfl
/-! FishReaders$Row.cut(I)I -/
def mX11_cut : Cd := ([(0, .inl (i_aload 0 1)),
  (1, .inl (i_getf 136 [11] 4)),
  (4, .inl (i_if (fun x => ¬ x = 0) 12 7)),
  (7, .inl (i_iload 1 8)),
  (8, .inl (i_un (fun x => x.toInt8.toInt32) 9)),
  (9, .inl (i_goto 26)),
  (12, .inl (i_aload 0 13)),
  (13, .inl (i_getf 136 [11] 16)),
  (16, .inl (i_push (.int 1) 17)),
  (17, .inl (i_icmp (fun x y => ¬ x = y) 25 20)),
  (20, .inl (i_iload 1 21)),
  (21, .inl (i_un (fun x => x.toInt16.toInt32) 22)),
  (22, .inl (i_goto 26)),
  (25, .inl (i_iload 1 26)),
  (26, .inl i_iret)], noH)
theorem rX11_cut_0 (Q : Po) (h : Hp) (l1 : Value) (x : Nat) (st : List Value) : Ex mX11_cut Q 0 [.ref x, l1] st h = Ex mX11_cut Q 1 [.ref x, l1] (.ref x :: st) h := Ex_nx rfl rfl
theorem rX11_cut_1 (Q : Po) (h : Hp) (ls : List Value) (st : List Value) (a : Nat) : Ex mX11_cut Q 1 ls (.ref a :: st) h = (gK h a ∈ ([11] : List Nat) ∧ Ex mX11_cut Q 4 ls (gF h 136 a :: st) h) := Ex_gd rfl rfl
theorem rX11_cut_4 (Q : Po) (h : Hp) (ls : List Value) (st : List Value) (x : Int32) : Ex mX11_cut Q 4 ls (.int x :: st) h = if ¬ x = 0 then Ex mX11_cut Q 12 ls st h else Ex mX11_cut Q 7 ls st h := Ex_br rfl rfl
theorem rX11_cut_7 (Q : Po) (h : Hp) (l0 : Value) (x : Int32) (st : List Value) : Ex mX11_cut Q 7 [l0, .int x] st h = Ex mX11_cut Q 8 [l0, .int x] (.int x :: st) h := Ex_nx rfl rfl
theorem rX11_cut_8 (Q : Po) (h : Hp) (ls : List Value) (st : List Value) (x : Int32) : Ex mX11_cut Q 8 ls (.int x :: st) h = Ex mX11_cut Q 9 ls (.int (x.toInt8.toInt32) :: st) h := Ex_nx rfl rfl
theorem rX11_cut_9 (Q : Po) (h : Hp) (ls : List Value) (st : List Value) : Ex mX11_cut Q 9 ls st h = Ex mX11_cut Q 26 ls st h := Ex_nx rfl rfl
theorem rX11_cut_12 (Q : Po) (h : Hp) (l1 : Value) (x : Nat) (st : List Value) : Ex mX11_cut Q 12 [.ref x, l1] st h = Ex mX11_cut Q 13 [.ref x, l1] (.ref x :: st) h := Ex_nx rfl rfl
theorem rX11_cut_13 (Q : Po) (h : Hp) (ls : List Value) (st : List Value) (a : Nat) : Ex mX11_cut Q 13 ls (.ref a :: st) h = (gK h a ∈ ([11] : List Nat) ∧ Ex mX11_cut Q 16 ls (gF h 136 a :: st) h) := Ex_gd rfl rfl
theorem rX11_cut_16 (Q : Po) (h : Hp) (ls : List Value) (st : List Value) : Ex mX11_cut Q 16 ls st h = Ex mX11_cut Q 17 ls (.int 1 :: st) h := Ex_nx rfl rfl
theorem rX11_cut_17 (Q : Po) (h : Hp) (ls : List Value) (st : List Value) (x y : Int32) : Ex mX11_cut Q 17 ls (.int y :: .int x :: st) h = if ¬ x = y then Ex mX11_cut Q 25 ls st h else Ex mX11_cut Q 20 ls st h := Ex_br rfl rfl
theorem rX11_cut_20 (Q : Po) (h : Hp) (l0 : Value) (x : Int32) (st : List Value) : Ex mX11_cut Q 20 [l0, .int x] st h = Ex mX11_cut Q 21 [l0, .int x] (.int x :: st) h := Ex_nx rfl rfl
theorem rX11_cut_21 (Q : Po) (h : Hp) (ls : List Value) (st : List Value) (x : Int32) : Ex mX11_cut Q 21 ls (.int x :: st) h = Ex mX11_cut Q 22 ls (.int (x.toInt16.toInt32) :: st) h := Ex_nx rfl rfl
theorem rX11_cut_22 (Q : Po) (h : Hp) (ls : List Value) (st : List Value) : Ex mX11_cut Q 22 ls st h = Ex mX11_cut Q 26 ls st h := Ex_nx rfl rfl
theorem rX11_cut_25 (Q : Po) (h : Hp) (l0 : Value) (x : Int32) (st : List Value) : Ex mX11_cut Q 25 [l0, .int x] st h = Ex mX11_cut Q 26 [l0, .int x] (.int x :: st) h := Ex_nx rfl rfl
theorem rX11_cut_26 (Q : Po) (h : Hp) (ls : List Value) (x : Int32) : Ex mX11_cut Q 26 ls [.int x] h = Q (.inl (some (.int x))) h := Ex_rt rfl rfl
theorem rX11_cut_t (Q : Po) (h : Hp) (pc n a : Nat) (ls st : List Value) : Cont mX11_cut Q pc ls n st (.inr a) h = Q (.inr a) h := rfl
/-! FishReaders.set(III)I -/
def mX0_set : Cd := ([(0, .inl (i_iload 1 1)),
  (1, .inr (c_S 1 4 1 (Mt mX0_isRow 1))),
  (4, .inl (i_if (fun x => ¬ x = 0) 10 7)),
  (7, .inl (i_push (.int (-1000001)) 9)),
  (9, .inl i_iret),
  (10, .inl (i_aload 0 11)),
  (11, .inl (i_iload 1 12)),
  (12, .inr (c_V 1 15 2 1 (Mt mX0_rowAt 2))),
  (15, .inl (i_astore 4 17)),
  (17, .inl (i_iload 2 18)),
  (18, .inl (i_i2l 19)),
  (19, .inl (i_push (.long 0) 20)),
  (20, .inl (i_aload 4 22)),
  (22, .inl (i_getf 139 [11] 25)),
  (25, .inl (i_alen [51] 26)),
  (26, .inl (i_push (.int 1) 27)),
  (27, .inl (i_bin (fun x y => x - y) 28)),
  (28, .inl (i_i2l 29)),
  (29, .inr (c_S 3 32 6 (Mt mX0_isIn 6))),
  (32, .inl (i_push (.int 2) 33)),
  (33, .inr (c_S 2 36 2 (Mt mX0_must 2))),
  (36, .inl (i_aload 4 38)),
  (38, .inl (i_getf 139 [11] 41)),
  (41, .inl (i_iload 2 42)),
  (42, .inl (i_aload 4 44)),
  (44, .inl (i_iload 3 45)),
  (45, .inr (c_V 1 48 2 11 (Mt mX11_cut 2))),
  (48, .inl (i_iast 51 (fun x => x) 49)),
  (49, .inl (i_aload 0 50)),
  (50, .inl (i_aload 4 52)),
  (52, .inl (i_getf 139 [11] 55)),
  (55, .inl (i_iload 2 56)),
  (56, .inl (i_iald 51 57)),
  (57, .inr (c_V 1 60 2 1 (Mt mX0_well 2))),
  (60, .inl i_iret),
  (61, .inl (i_astore 4 63)),
  (63, .inl (i_aload 0 64)),
  (64, .inl (i_aload 4 66)),
  (66, .inr (c_V 1 69 2 1 (Mt mX0_found 2))),
  (69, .inl i_iret)], (hTab [(10, 60, 61, [10])]))
theorem rX0_set_0 (Q : Po) (h : Hp) (l0 l2 l3 l4 : Value) (x : Int32) (st : List Value) : Ex mX0_set Q 0 [l0, .int x, l2, l3, l4] st h = Ex mX0_set Q 1 [l0, .int x, l2, l3, l4] (.int x :: st) h := Ex_nx rfl rfl
theorem rX0_set_1 (Q : Po) (h : Hp) (ls : List Value) (a0 : Int32) : Ex mX0_set Q 1 ls (.int a0 :: []) h = Ex mX0_isRow (Cont mX0_set Q 1 ls 4 []) 0 [.int a0] [] h := Ex_cl (n := 1) (as := [.int a0]) rfl rfl
theorem rX0_set_4 (Q : Po) (h : Hp) (ls : List Value) (st : List Value) (x : Int32) : Ex mX0_set Q 4 ls (.int x :: st) h = if ¬ x = 0 then Ex mX0_set Q 10 ls st h else Ex mX0_set Q 7 ls st h := Ex_br rfl rfl
theorem rX0_set_7 (Q : Po) (h : Hp) (ls : List Value) (st : List Value) : Ex mX0_set Q 7 ls st h = Ex mX0_set Q 9 ls (.int (-1000001) :: st) h := Ex_nx rfl rfl
theorem rX0_set_9 (Q : Po) (h : Hp) (ls : List Value) (x : Int32) : Ex mX0_set Q 9 ls [.int x] h = Q (.inl (some (.int x))) h := Ex_rt rfl rfl
theorem rX0_set_10 (Q : Po) (h : Hp) (l1 l2 l3 l4 : Value) (x : Nat) (st : List Value) : Ex mX0_set Q 10 [.ref x, l1, l2, l3, l4] st h = Ex mX0_set Q 11 [.ref x, l1, l2, l3, l4] (.ref x :: st) h := Ex_nx rfl rfl
theorem rX0_set_11 (Q : Po) (h : Hp) (l0 l2 l3 l4 : Value) (x : Int32) (st : List Value) : Ex mX0_set Q 11 [l0, .int x, l2, l3, l4] st h = Ex mX0_set Q 12 [l0, .int x, l2, l3, l4] (.int x :: st) h := Ex_nx rfl rfl
theorem rX0_set_12 (Q : Po) (h : Hp) (ls : List Value) (a0 : Int32) (b : Nat) : Ex mX0_set Q 12 ls (.int a0 :: .ref b :: []) h = (gK h b = 1 ∧ Ex mX0_rowAt (Cont mX0_set Q 12 ls 15 []) 0 [.ref b, .int a0] [] h) := Ex_cg (n := 2) (as := [.ref b, .int a0]) rfl rfl
theorem rX0_set_15 (Q : Po) (h : Hp) (l0 l1 l2 l3 l4 : Value) (x : Nat) (st : List Value) : Ex mX0_set Q 15 [l0, l1, l2, l3, l4] (.ref x :: st) h = Ex mX0_set Q 17 [l0, l1, l2, l3, .ref x] st h := Ex_nx rfl rfl
theorem rX0_set_17 (Q : Po) (h : Hp) (l0 l1 l3 l4 : Value) (x : Int32) (st : List Value) : Ex mX0_set Q 17 [l0, l1, .int x, l3, l4] st h = Ex mX0_set Q 18 [l0, l1, .int x, l3, l4] (.int x :: st) h := Ex_nx rfl rfl
theorem rX0_set_18 (Q : Po) (h : Hp) (ls : List Value) (st : List Value) (x : Int32) : Ex mX0_set Q 18 ls (.int x :: st) h = Ex mX0_set Q 19 ls (.long x.toInt64 :: st) h := Ex_nx rfl rfl
theorem rX0_set_19 (Q : Po) (h : Hp) (ls : List Value) (st : List Value) : Ex mX0_set Q 19 ls st h = Ex mX0_set Q 20 ls (.long 0 :: st) h := Ex_nx rfl rfl
theorem rX0_set_20 (Q : Po) (h : Hp) (l0 l1 l2 l3 : Value) (x : Nat) (st : List Value) : Ex mX0_set Q 20 [l0, l1, l2, l3, .ref x] st h = Ex mX0_set Q 22 [l0, l1, l2, l3, .ref x] (.ref x :: st) h := Ex_nx rfl rfl
theorem rX0_set_22 (Q : Po) (h : Hp) (ls : List Value) (st : List Value) (a : Nat) : Ex mX0_set Q 22 ls (.ref a :: st) h = (gK h a ∈ ([11] : List Nat) ∧ Ex mX0_set Q 25 ls (gF h 139 a :: st) h) := Ex_gd rfl rfl
theorem rX0_set_25 (Q : Po) (h : Hp) (ls : List Value) (st : List Value) (a : Nat) : Ex mX0_set Q 25 ls (.ref a :: st) h = (gK h a ∈ ([51] : List Nat) ∧ Ex mX0_set Q 26 ls (.int (nI (gL h a)) :: st) h) := Ex_gd rfl rfl
theorem rX0_set_26 (Q : Po) (h : Hp) (ls : List Value) (st : List Value) : Ex mX0_set Q 26 ls st h = Ex mX0_set Q 27 ls (.int 1 :: st) h := Ex_nx rfl rfl
theorem rX0_set_27 (Q : Po) (h : Hp) (ls : List Value) (st : List Value) (x y : Int32) : Ex mX0_set Q 27 ls (.int y :: .int x :: st) h = Ex mX0_set Q 28 ls (.int (x - y) :: st) h := Ex_nx rfl rfl
theorem rX0_set_28 (Q : Po) (h : Hp) (ls : List Value) (st : List Value) (x : Int32) : Ex mX0_set Q 28 ls (.int x :: st) h = Ex mX0_set Q 29 ls (.long x.toInt64 :: st) h := Ex_nx rfl rfl
theorem rX0_set_29 (Q : Po) (h : Hp) (ls : List Value) (a0 : Int64) (a1 : Int64) (a2 : Int64) : Ex mX0_set Q 29 ls (.long a2 :: .long a1 :: .long a0 :: []) h = Ex mX0_isIn (Cont mX0_set Q 29 ls 32 []) 0 [.long a0, .retAddr 1, .long a1, .retAddr 1, .long a2, .retAddr 1] [] h := Ex_cl (n := 6) (as := [.long a0, .long a1, .long a2]) rfl rfl
theorem rX0_set_32 (Q : Po) (h : Hp) (ls : List Value) (st : List Value) : Ex mX0_set Q 32 ls st h = Ex mX0_set Q 33 ls (.int 2 :: st) h := Ex_nx rfl rfl
theorem rX0_set_33 (Q : Po) (h : Hp) (ls : List Value) (a0 : Int32) (a1 : Int32) : Ex mX0_set Q 33 ls (.int a1 :: .int a0 :: []) h = Ex mX0_must (Cont mX0_set Q 33 ls 36 []) 0 [.int a0, .int a1] [] h := Ex_cl (n := 2) (as := [.int a0, .int a1]) rfl rfl
theorem rX0_set_36 (Q : Po) (h : Hp) (l0 l1 l2 l3 : Value) (x : Nat) (st : List Value) : Ex mX0_set Q 36 [l0, l1, l2, l3, .ref x] st h = Ex mX0_set Q 38 [l0, l1, l2, l3, .ref x] (.ref x :: st) h := Ex_nx rfl rfl
theorem rX0_set_38 (Q : Po) (h : Hp) (ls : List Value) (st : List Value) (a : Nat) : Ex mX0_set Q 38 ls (.ref a :: st) h = (gK h a ∈ ([11] : List Nat) ∧ Ex mX0_set Q 41 ls (gF h 139 a :: st) h) := Ex_gd rfl rfl
theorem rX0_set_41 (Q : Po) (h : Hp) (l0 l1 l3 l4 : Value) (x : Int32) (st : List Value) : Ex mX0_set Q 41 [l0, l1, .int x, l3, l4] st h = Ex mX0_set Q 42 [l0, l1, .int x, l3, l4] (.int x :: st) h := Ex_nx rfl rfl
theorem rX0_set_42 (Q : Po) (h : Hp) (l0 l1 l2 l3 : Value) (x : Nat) (st : List Value) : Ex mX0_set Q 42 [l0, l1, l2, l3, .ref x] st h = Ex mX0_set Q 44 [l0, l1, l2, l3, .ref x] (.ref x :: st) h := Ex_nx rfl rfl
theorem rX0_set_44 (Q : Po) (h : Hp) (l0 l1 l2 l4 : Value) (x : Int32) (st : List Value) : Ex mX0_set Q 44 [l0, l1, l2, .int x, l4] st h = Ex mX0_set Q 45 [l0, l1, l2, .int x, l4] (.int x :: st) h := Ex_nx rfl rfl
theorem rX0_set_45 (Q : Po) (h : Hp) (ls : List Value) (a0 : Int32) (s0 s1 : Value) (b : Nat) : Ex mX0_set Q 45 ls (.int a0 :: .ref b :: [s0, s1]) h = (gK h b = 11 ∧ Ex mX11_cut (Cont mX0_set Q 45 ls 48 [s0, s1]) 0 [.ref b, .int a0] [] h) := Ex_cg (n := 2) (as := [.ref b, .int a0]) rfl rfl
theorem rX0_set_48 (Q : Po) (h : Hp) (ls : List Value) (st : List Value) (a : Nat) (i x : Int32) : Ex mX0_set Q 48 ls (.int x :: .int i :: .ref a :: st) h = ((gK h a = 51 ∧ ¬ (i < 0 ∨ gL h a ≤ i.toNatClampNeg)) ∧ Ex mX0_set Q 49 ls st (pI h a i.toNatClampNeg (x))) := Ex_gd rfl rfl
theorem rX0_set_49 (Q : Po) (h : Hp) (l1 l2 l3 l4 : Value) (x : Nat) (st : List Value) : Ex mX0_set Q 49 [.ref x, l1, l2, l3, l4] st h = Ex mX0_set Q 50 [.ref x, l1, l2, l3, l4] (.ref x :: st) h := Ex_nx rfl rfl
theorem rX0_set_50 (Q : Po) (h : Hp) (l0 l1 l2 l3 : Value) (x : Nat) (st : List Value) : Ex mX0_set Q 50 [l0, l1, l2, l3, .ref x] st h = Ex mX0_set Q 52 [l0, l1, l2, l3, .ref x] (.ref x :: st) h := Ex_nx rfl rfl
theorem rX0_set_52 (Q : Po) (h : Hp) (ls : List Value) (st : List Value) (a : Nat) : Ex mX0_set Q 52 ls (.ref a :: st) h = (gK h a ∈ ([11] : List Nat) ∧ Ex mX0_set Q 55 ls (gF h 139 a :: st) h) := Ex_gd rfl rfl
theorem rX0_set_55 (Q : Po) (h : Hp) (l0 l1 l3 l4 : Value) (x : Int32) (st : List Value) : Ex mX0_set Q 55 [l0, l1, .int x, l3, l4] st h = Ex mX0_set Q 56 [l0, l1, .int x, l3, l4] (.int x :: st) h := Ex_nx rfl rfl
theorem rX0_set_56 (Q : Po) (h : Hp) (ls : List Value) (st : List Value) (a : Nat) (i : Int32) : Ex mX0_set Q 56 ls (.int i :: .ref a :: st) h = ((gK h a = 51 ∧ ¬ (i < 0 ∨ gL h a ≤ i.toNatClampNeg)) ∧ Ex mX0_set Q 57 ls (.int (gI h a i.toNatClampNeg) :: st) h) := Ex_gd rfl rfl
theorem rX0_set_57 (Q : Po) (h : Hp) (ls : List Value) (a0 : Int32) (b : Nat) : Ex mX0_set Q 57 ls (.int a0 :: .ref b :: []) h = (gK h b = 1 ∧ Ex mX0_well (Cont mX0_set Q 57 ls 60 []) 0 [.ref b, .int a0] [] h) := Ex_cg (n := 2) (as := [.ref b, .int a0]) rfl rfl
theorem rX0_set_60 (Q : Po) (h : Hp) (ls : List Value) (x : Int32) : Ex mX0_set Q 60 ls [.int x] h = Q (.inl (some (.int x))) h := Ex_rt rfl rfl
theorem rX0_set_61 (Q : Po) (h : Hp) (l0 l1 l2 l3 l4 : Value) (x : Nat) (st : List Value) : Ex mX0_set Q 61 [l0, l1, l2, l3, l4] (.ref x :: st) h = Ex mX0_set Q 63 [l0, l1, l2, l3, .ref x] st h := Ex_nx rfl rfl
theorem rX0_set_63 (Q : Po) (h : Hp) (l1 l2 l3 l4 : Value) (x : Nat) (st : List Value) : Ex mX0_set Q 63 [.ref x, l1, l2, l3, l4] st h = Ex mX0_set Q 64 [.ref x, l1, l2, l3, l4] (.ref x :: st) h := Ex_nx rfl rfl
theorem rX0_set_64 (Q : Po) (h : Hp) (l0 l1 l2 l3 : Value) (x : Nat) (st : List Value) : Ex mX0_set Q 64 [l0, l1, l2, l3, .ref x] st h = Ex mX0_set Q 66 [l0, l1, l2, l3, .ref x] (.ref x :: st) h := Ex_nx rfl rfl
theorem rX0_set_66 (Q : Po) (h : Hp) (ls : List Value) (a0 : Nat) (b : Nat) : Ex mX0_set Q 66 ls (.ref a0 :: .ref b :: []) h = (gK h b = 1 ∧ Ex mX0_found (Cont mX0_set Q 66 ls 69 []) 0 [.ref b, .ref a0] [] h) := Ex_cg (n := 2) (as := [.ref b, .ref a0]) rfl rfl
theorem rX0_set_69 (Q : Po) (h : Hp) (ls : List Value) (x : Int32) : Ex mX0_set Q 69 ls [.int x] h = Q (.inl (some (.int x))) h := Ex_rt rfl rfl
/-! FishReaders.copy(IIIII)I -/
def mX0_copy : Cd := ([(0, .inl (i_iload 1 1)),
  (1, .inr (c_S 1 4 1 (Mt mX0_isRow 1))),
  (4, .inl (i_if (fun x => x = 0) 14 7)),
  (7, .inl (i_iload 3 8)),
  (8, .inr (c_S 1 11 1 (Mt mX0_isRow 1))),
  (11, .inl (i_if (fun x => ¬ x = 0) 17 14)),
  (14, .inl (i_push (.int (-1000001)) 16)),
  (16, .inl i_iret),
  (17, .inl (i_aload 0 18)),
  (18, .inl (i_iload 1 19)),
  (19, .inr (c_V 1 22 2 1 (Mt mX0_rowAt 2))),
  (22, .inl (i_astore 6 24)),
  (24, .inl (i_aload 0 25)),
  (25, .inl (i_iload 3 26)),
  (26, .inr (c_V 1 29 2 1 (Mt mX0_rowAt 2))),
  (29, .inl (i_astore 7 31)),
  (31, .inl (i_aload 6 33)),
  (33, .inl (i_getf 136 [11] 36)),
  (36, .inl (i_aload 7 38)),
  (38, .inl (i_getf 136 [11] 41)),
  (41, .inl (i_icmp (fun x y => ¬ x = y) 48 44)),
  (44, .inl (i_push (.int 1) 45)),
  (45, .inl (i_goto 49)),
  (48, .inl (i_push (.int 0) 49)),
  (49, .inl (i_push (.int 5) 50)),
  (50, .inr (c_S 2 53 2 (Mt mX0_must 2))),
  (53, .inl (i_aload 6 55)),
  (55, .inl (i_getf 139 [11] 58)),
  (58, .inl (i_iload 2 59)),
  (59, .inl (i_aload 7 61)),
  (61, .inl (i_getf 139 [11] 64)),
  (64, .inl (i_iload 4 66)),
  (66, .inl (i_iload 5 68)),
  (68, .inl (i_acpyT 51 71)),
  (71, .inl (i_goto 85)),
  (74, .inl (i_astore 8 76)),
  (76, .inl (i_new 10 7 79)),
  (79, .inl (i_dup 80)),
  (80, .inl (i_push (.int 2) 81)),
  (81, .inr (c_I 1 84 2 (Mt mX10_init 2))),
  (84, .inl i_thr),
  (85, .inl (i_aload 0 86)),
  (86, .inl (i_iload 5 88)),
  (88, .inr (c_V 1 91 2 1 (Mt mX0_well 2))),
  (91, .inl i_iret),
  (92, .inl (i_astore 6 94)),
  (94, .inl (i_aload 0 95)),
  (95, .inl (i_aload 6 97)),
  (97, .inr (c_V 1 100 2 1 (Mt mX0_found 2))),
  (100, .inl i_iret)], (hTab [(53, 71, 74, [62]), (17, 91, 92, [10])]))
theorem rX0_copy_0 (Q : Po) (h : Hp) (l0 l2 l3 l4 l5 l6 l7 l8 : Value) (x : Int32) (st : List Value) : Ex mX0_copy Q 0 [l0, .int x, l2, l3, l4, l5, l6, l7, l8] st h = Ex mX0_copy Q 1 [l0, .int x, l2, l3, l4, l5, l6, l7, l8] (.int x :: st) h := Ex_nx rfl rfl
theorem rX0_copy_1 (Q : Po) (h : Hp) (ls : List Value) (a0 : Int32) : Ex mX0_copy Q 1 ls (.int a0 :: []) h = Ex mX0_isRow (Cont mX0_copy Q 1 ls 4 []) 0 [.int a0] [] h := Ex_cl (n := 1) (as := [.int a0]) rfl rfl
theorem rX0_copy_4 (Q : Po) (h : Hp) (ls : List Value) (st : List Value) (x : Int32) : Ex mX0_copy Q 4 ls (.int x :: st) h = if x = 0 then Ex mX0_copy Q 14 ls st h else Ex mX0_copy Q 7 ls st h := Ex_br rfl rfl
theorem rX0_copy_7 (Q : Po) (h : Hp) (l0 l1 l2 l4 l5 l6 l7 l8 : Value) (x : Int32) (st : List Value) : Ex mX0_copy Q 7 [l0, l1, l2, .int x, l4, l5, l6, l7, l8] st h = Ex mX0_copy Q 8 [l0, l1, l2, .int x, l4, l5, l6, l7, l8] (.int x :: st) h := Ex_nx rfl rfl
theorem rX0_copy_8 (Q : Po) (h : Hp) (ls : List Value) (a0 : Int32) : Ex mX0_copy Q 8 ls (.int a0 :: []) h = Ex mX0_isRow (Cont mX0_copy Q 8 ls 11 []) 0 [.int a0] [] h := Ex_cl (n := 1) (as := [.int a0]) rfl rfl
theorem rX0_copy_11 (Q : Po) (h : Hp) (ls : List Value) (st : List Value) (x : Int32) : Ex mX0_copy Q 11 ls (.int x :: st) h = if ¬ x = 0 then Ex mX0_copy Q 17 ls st h else Ex mX0_copy Q 14 ls st h := Ex_br rfl rfl
theorem rX0_copy_14 (Q : Po) (h : Hp) (ls : List Value) (st : List Value) : Ex mX0_copy Q 14 ls st h = Ex mX0_copy Q 16 ls (.int (-1000001) :: st) h := Ex_nx rfl rfl
theorem rX0_copy_16 (Q : Po) (h : Hp) (ls : List Value) (x : Int32) : Ex mX0_copy Q 16 ls [.int x] h = Q (.inl (some (.int x))) h := Ex_rt rfl rfl
theorem rX0_copy_17 (Q : Po) (h : Hp) (l1 l2 l3 l4 l5 l6 l7 l8 : Value) (x : Nat) (st : List Value) : Ex mX0_copy Q 17 [.ref x, l1, l2, l3, l4, l5, l6, l7, l8] st h = Ex mX0_copy Q 18 [.ref x, l1, l2, l3, l4, l5, l6, l7, l8] (.ref x :: st) h := Ex_nx rfl rfl
theorem rX0_copy_18 (Q : Po) (h : Hp) (l0 l2 l3 l4 l5 l6 l7 l8 : Value) (x : Int32) (st : List Value) : Ex mX0_copy Q 18 [l0, .int x, l2, l3, l4, l5, l6, l7, l8] st h = Ex mX0_copy Q 19 [l0, .int x, l2, l3, l4, l5, l6, l7, l8] (.int x :: st) h := Ex_nx rfl rfl
theorem rX0_copy_19 (Q : Po) (h : Hp) (ls : List Value) (a0 : Int32) (b : Nat) : Ex mX0_copy Q 19 ls (.int a0 :: .ref b :: []) h = (gK h b = 1 ∧ Ex mX0_rowAt (Cont mX0_copy Q 19 ls 22 []) 0 [.ref b, .int a0] [] h) := Ex_cg (n := 2) (as := [.ref b, .int a0]) rfl rfl
theorem rX0_copy_22 (Q : Po) (h : Hp) (l0 l1 l2 l3 l4 l5 l6 l7 l8 : Value) (x : Nat) (st : List Value) : Ex mX0_copy Q 22 [l0, l1, l2, l3, l4, l5, l6, l7, l8] (.ref x :: st) h = Ex mX0_copy Q 24 [l0, l1, l2, l3, l4, l5, .ref x, l7, l8] st h := Ex_nx rfl rfl
theorem rX0_copy_24 (Q : Po) (h : Hp) (l1 l2 l3 l4 l5 l6 l7 l8 : Value) (x : Nat) (st : List Value) : Ex mX0_copy Q 24 [.ref x, l1, l2, l3, l4, l5, l6, l7, l8] st h = Ex mX0_copy Q 25 [.ref x, l1, l2, l3, l4, l5, l6, l7, l8] (.ref x :: st) h := Ex_nx rfl rfl
theorem rX0_copy_25 (Q : Po) (h : Hp) (l0 l1 l2 l4 l5 l6 l7 l8 : Value) (x : Int32) (st : List Value) : Ex mX0_copy Q 25 [l0, l1, l2, .int x, l4, l5, l6, l7, l8] st h = Ex mX0_copy Q 26 [l0, l1, l2, .int x, l4, l5, l6, l7, l8] (.int x :: st) h := Ex_nx rfl rfl
theorem rX0_copy_26 (Q : Po) (h : Hp) (ls : List Value) (a0 : Int32) (b : Nat) : Ex mX0_copy Q 26 ls (.int a0 :: .ref b :: []) h = (gK h b = 1 ∧ Ex mX0_rowAt (Cont mX0_copy Q 26 ls 29 []) 0 [.ref b, .int a0] [] h) := Ex_cg (n := 2) (as := [.ref b, .int a0]) rfl rfl
theorem rX0_copy_29 (Q : Po) (h : Hp) (l0 l1 l2 l3 l4 l5 l6 l7 l8 : Value) (x : Nat) (st : List Value) : Ex mX0_copy Q 29 [l0, l1, l2, l3, l4, l5, l6, l7, l8] (.ref x :: st) h = Ex mX0_copy Q 31 [l0, l1, l2, l3, l4, l5, l6, .ref x, l8] st h := Ex_nx rfl rfl
theorem rX0_copy_31 (Q : Po) (h : Hp) (l0 l1 l2 l3 l4 l5 l7 l8 : Value) (x : Nat) (st : List Value) : Ex mX0_copy Q 31 [l0, l1, l2, l3, l4, l5, .ref x, l7, l8] st h = Ex mX0_copy Q 33 [l0, l1, l2, l3, l4, l5, .ref x, l7, l8] (.ref x :: st) h := Ex_nx rfl rfl
theorem rX0_copy_33 (Q : Po) (h : Hp) (ls : List Value) (st : List Value) (a : Nat) : Ex mX0_copy Q 33 ls (.ref a :: st) h = (gK h a ∈ ([11] : List Nat) ∧ Ex mX0_copy Q 36 ls (gF h 136 a :: st) h) := Ex_gd rfl rfl
theorem rX0_copy_36 (Q : Po) (h : Hp) (l0 l1 l2 l3 l4 l5 l6 l8 : Value) (x : Nat) (st : List Value) : Ex mX0_copy Q 36 [l0, l1, l2, l3, l4, l5, l6, .ref x, l8] st h = Ex mX0_copy Q 38 [l0, l1, l2, l3, l4, l5, l6, .ref x, l8] (.ref x :: st) h := Ex_nx rfl rfl
theorem rX0_copy_38 (Q : Po) (h : Hp) (ls : List Value) (st : List Value) (a : Nat) : Ex mX0_copy Q 38 ls (.ref a :: st) h = (gK h a ∈ ([11] : List Nat) ∧ Ex mX0_copy Q 41 ls (gF h 136 a :: st) h) := Ex_gd rfl rfl
theorem rX0_copy_41 (Q : Po) (h : Hp) (ls : List Value) (st : List Value) (x y : Int32) : Ex mX0_copy Q 41 ls (.int y :: .int x :: st) h = if ¬ x = y then Ex mX0_copy Q 48 ls st h else Ex mX0_copy Q 44 ls st h := Ex_br rfl rfl
theorem rX0_copy_44 (Q : Po) (h : Hp) (ls : List Value) (st : List Value) : Ex mX0_copy Q 44 ls st h = Ex mX0_copy Q 45 ls (.int 1 :: st) h := Ex_nx rfl rfl
theorem rX0_copy_45 (Q : Po) (h : Hp) (ls : List Value) (st : List Value) : Ex mX0_copy Q 45 ls st h = Ex mX0_copy Q 49 ls st h := Ex_nx rfl rfl
theorem rX0_copy_48 (Q : Po) (h : Hp) (ls : List Value) (st : List Value) : Ex mX0_copy Q 48 ls st h = Ex mX0_copy Q 49 ls (.int 0 :: st) h := Ex_nx rfl rfl
theorem rX0_copy_49 (Q : Po) (h : Hp) (ls : List Value) (st : List Value) : Ex mX0_copy Q 49 ls st h = Ex mX0_copy Q 50 ls (.int 5 :: st) h := Ex_nx rfl rfl
theorem rX0_copy_50 (Q : Po) (h : Hp) (ls : List Value) (a0 : Int32) (a1 : Int32) : Ex mX0_copy Q 50 ls (.int a1 :: .int a0 :: []) h = Ex mX0_must (Cont mX0_copy Q 50 ls 53 []) 0 [.int a0, .int a1] [] h := Ex_cl (n := 2) (as := [.int a0, .int a1]) rfl rfl
theorem rX0_copy_53 (Q : Po) (h : Hp) (l0 l1 l2 l3 l4 l5 l7 l8 : Value) (x : Nat) (st : List Value) : Ex mX0_copy Q 53 [l0, l1, l2, l3, l4, l5, .ref x, l7, l8] st h = Ex mX0_copy Q 55 [l0, l1, l2, l3, l4, l5, .ref x, l7, l8] (.ref x :: st) h := Ex_nx rfl rfl
theorem rX0_copy_55 (Q : Po) (h : Hp) (ls : List Value) (st : List Value) (a : Nat) : Ex mX0_copy Q 55 ls (.ref a :: st) h = (gK h a ∈ ([11] : List Nat) ∧ Ex mX0_copy Q 58 ls (gF h 139 a :: st) h) := Ex_gd rfl rfl
theorem rX0_copy_58 (Q : Po) (h : Hp) (l0 l1 l3 l4 l5 l6 l7 l8 : Value) (x : Int32) (st : List Value) : Ex mX0_copy Q 58 [l0, l1, .int x, l3, l4, l5, l6, l7, l8] st h = Ex mX0_copy Q 59 [l0, l1, .int x, l3, l4, l5, l6, l7, l8] (.int x :: st) h := Ex_nx rfl rfl
theorem rX0_copy_59 (Q : Po) (h : Hp) (l0 l1 l2 l3 l4 l5 l6 l8 : Value) (x : Nat) (st : List Value) : Ex mX0_copy Q 59 [l0, l1, l2, l3, l4, l5, l6, .ref x, l8] st h = Ex mX0_copy Q 61 [l0, l1, l2, l3, l4, l5, l6, .ref x, l8] (.ref x :: st) h := Ex_nx rfl rfl
theorem rX0_copy_61 (Q : Po) (h : Hp) (ls : List Value) (st : List Value) (a : Nat) : Ex mX0_copy Q 61 ls (.ref a :: st) h = (gK h a ∈ ([11] : List Nat) ∧ Ex mX0_copy Q 64 ls (gF h 139 a :: st) h) := Ex_gd rfl rfl
theorem rX0_copy_64 (Q : Po) (h : Hp) (l0 l1 l2 l3 l5 l6 l7 l8 : Value) (x : Int32) (st : List Value) : Ex mX0_copy Q 64 [l0, l1, l2, l3, .int x, l5, l6, l7, l8] st h = Ex mX0_copy Q 66 [l0, l1, l2, l3, .int x, l5, l6, l7, l8] (.int x :: st) h := Ex_nx rfl rfl
theorem rX0_copy_66 (Q : Po) (h : Hp) (l0 l1 l2 l3 l4 l6 l7 l8 : Value) (x : Int32) (st : List Value) : Ex mX0_copy Q 66 [l0, l1, l2, l3, l4, .int x, l6, l7, l8] st h = Ex mX0_copy Q 68 [l0, l1, l2, l3, l4, .int x, l6, l7, l8] (.int x :: st) h := Ex_nx rfl rfl
theorem rX0_copy_68 (Q : Po) (h : Hp) (ls : List Value) (s d : Nat) (sp dp k : Int32) (hk : acOk h s d sp dp k) (hx : ([] : List Value).length ≤ 6 ∧ gK h s = 51 ∧ gK h d = 51) : Ex mX0_copy Q 68 ls (.int k :: .int dp :: .ref d :: .int sp :: .ref s :: []) h = Ex mX0_copy Q 71 ls [] (pC h d (va_cpy (gI h s) (gI h d) sp.toNatClampNeg dp.toNatClampNeg k.toNatClampNeg)) := Ex_nx rfl ((if_pos hk).trans (if_pos hx))
theorem rX0_copy_68x (Q : Po) (h : Hp) (ls : List Value) (s d : Nat) (sp dp k : Int32) (hk : ¬ acOk h s d sp dp k) (hx : (gK h s = 51 ∧ gK h d = 51 ∧ gL h s ≤ 65536 ∧ gL h d ≤ 65536) ∧ xOk h []) : Ex mX0_copy Q 68 ls (.int k :: .int dp :: .ref d :: .int sp :: .ref s :: []) h = Cont mX0_copy Q 68 ls 0 [] (.inr (gN h + 2)) (nX h 62) := Ex_th rfl ((if_neg hk).trans (if_pos hx))
theorem rX0_copy_71 (Q : Po) (h : Hp) (ls : List Value) (st : List Value) : Ex mX0_copy Q 71 ls st h = Ex mX0_copy Q 85 ls st h := Ex_nx rfl rfl
theorem rX0_copy_74 (Q : Po) (h : Hp) (l0 l1 l2 l3 l4 l5 l6 l7 l8 : Value) (x : Nat) (st : List Value) : Ex mX0_copy Q 74 [l0, l1, l2, l3, l4, l5, l6, l7, l8] (.ref x :: st) h = Ex mX0_copy Q 76 [l0, l1, l2, l3, l4, l5, l6, l7, .ref x] st h := Ex_nx rfl rfl
theorem rX0_copy_76 (Q : Po) (h : Hp) (ls : List Value) (st : List Value) : Ex mX0_copy Q 76 ls st h = ((1 ≤ gC h ∧ 7 ≤ gS h) ∧ Ex mX0_copy Q 79 ls (.ref (gN h) :: st) (nO h 10 7)) := Ex_gd rfl rfl
theorem rX0_copy_79 (Q : Po) (h : Hp) (ls : List Value) (st : List Value) (x : Nat) : Ex mX0_copy Q 79 ls (.ref x :: st) h = Ex mX0_copy Q 80 ls (.ref x :: .ref x :: st) h := Ex_nx rfl rfl
theorem rX0_copy_80 (Q : Po) (h : Hp) (ls : List Value) (st : List Value) : Ex mX0_copy Q 80 ls st h = Ex mX0_copy Q 81 ls (.int 2 :: st) h := Ex_nx rfl rfl
theorem rX0_copy_81 (Q : Po) (h : Hp) (ls : List Value) (a0 : Int32) (s0 : Value) (b : Nat) : Ex mX0_copy Q 81 ls (.int a0 :: .ref b :: [s0]) h = Ex mX10_init (Cont mX0_copy Q 81 ls 84 [s0]) 0 [.ref b, .int a0] [] h := Ex_cl (n := 2) (as := [.ref b, .int a0]) rfl rfl
theorem rX0_copy_84 (Q : Po) (h : Hp) (ls : List Value) (st : List Value) (a : Nat) : Ex mX0_copy Q 84 ls (.ref a :: st) h = Cont mX0_copy Q 84 ls 0 [] (.inr a) h := Ex_th rfl rfl
theorem rX0_copy_85 (Q : Po) (h : Hp) (l1 l2 l3 l4 l5 l6 l7 l8 : Value) (x : Nat) (st : List Value) : Ex mX0_copy Q 85 [.ref x, l1, l2, l3, l4, l5, l6, l7, l8] st h = Ex mX0_copy Q 86 [.ref x, l1, l2, l3, l4, l5, l6, l7, l8] (.ref x :: st) h := Ex_nx rfl rfl
theorem rX0_copy_86 (Q : Po) (h : Hp) (l0 l1 l2 l3 l4 l6 l7 l8 : Value) (x : Int32) (st : List Value) : Ex mX0_copy Q 86 [l0, l1, l2, l3, l4, .int x, l6, l7, l8] st h = Ex mX0_copy Q 88 [l0, l1, l2, l3, l4, .int x, l6, l7, l8] (.int x :: st) h := Ex_nx rfl rfl
theorem rX0_copy_88 (Q : Po) (h : Hp) (ls : List Value) (a0 : Int32) (b : Nat) : Ex mX0_copy Q 88 ls (.int a0 :: .ref b :: []) h = (gK h b = 1 ∧ Ex mX0_well (Cont mX0_copy Q 88 ls 91 []) 0 [.ref b, .int a0] [] h) := Ex_cg (n := 2) (as := [.ref b, .int a0]) rfl rfl
theorem rX0_copy_91 (Q : Po) (h : Hp) (ls : List Value) (x : Int32) : Ex mX0_copy Q 91 ls [.int x] h = Q (.inl (some (.int x))) h := Ex_rt rfl rfl
theorem rX0_copy_92 (Q : Po) (h : Hp) (l0 l1 l2 l3 l4 l5 l6 l7 l8 : Value) (x : Nat) (st : List Value) : Ex mX0_copy Q 92 [l0, l1, l2, l3, l4, l5, l6, l7, l8] (.ref x :: st) h = Ex mX0_copy Q 94 [l0, l1, l2, l3, l4, l5, .ref x, l7, l8] st h := Ex_nx rfl rfl
theorem rX0_copy_94 (Q : Po) (h : Hp) (l1 l2 l3 l4 l5 l6 l7 l8 : Value) (x : Nat) (st : List Value) : Ex mX0_copy Q 94 [.ref x, l1, l2, l3, l4, l5, l6, l7, l8] st h = Ex mX0_copy Q 95 [.ref x, l1, l2, l3, l4, l5, l6, l7, l8] (.ref x :: st) h := Ex_nx rfl rfl
theorem rX0_copy_95 (Q : Po) (h : Hp) (l0 l1 l2 l3 l4 l5 l7 l8 : Value) (x : Nat) (st : List Value) : Ex mX0_copy Q 95 [l0, l1, l2, l3, l4, l5, .ref x, l7, l8] st h = Ex mX0_copy Q 97 [l0, l1, l2, l3, l4, l5, .ref x, l7, l8] (.ref x :: st) h := Ex_nx rfl rfl
theorem rX0_copy_97 (Q : Po) (h : Hp) (ls : List Value) (a0 : Nat) (b : Nat) : Ex mX0_copy Q 97 ls (.ref a0 :: .ref b :: []) h = (gK h b = 1 ∧ Ex mX0_found (Cont mX0_copy Q 97 ls 100 []) 0 [.ref b, .ref a0] [] h) := Ex_cg (n := 2) (as := [.ref b, .ref a0]) rfl rfl
theorem rX0_copy_100 (Q : Po) (h : Hp) (ls : List Value) (x : Int32) : Ex mX0_copy Q 100 ls [.int x] h = Q (.inl (some (.int x))) h := Ex_rt rfl rfl
/-! FishReaders.drop(I)I -/
def mX0_drop : Cd := ([(0, .inl (i_iload 1 1)),
  (1, .inr (c_S 1 4 1 (Mt mX0_isRow 1))),
  (4, .inl (i_if (fun x => ¬ x = 0) 10 7)),
  (7, .inl (i_push (.int (-1000001)) 9)),
  (9, .inl i_iret),
  (10, .inl (i_aload 0 11)),
  (11, .inl (i_iload 1 12)),
  (12, .inr (c_V 1 15 2 1 (Mt mX0_rowAt 2))),
  (15, .inl (i_getf 139 [11] 18)),
  (18, .inl (i_alen [51] 19)),
  (19, .inl (i_istore 2 20)),
  (20, .inl (i_aload 0 21)),
  (21, .inl (i_getf 3 [1] 24)),
  (24, .inl (i_iload 1 25)),
  (25, .inl (i_push (.null) 26)),
  (26, .inl (i_aast 54 [11] 27)),
  (27, .inl (i_aload 0 28)),
  (28, .inl (i_iload 2 29)),
  (29, .inr (c_V 1 32 2 1 (Mt mX0_well 2))),
  (32, .inl i_iret),
  (33, .inl (i_astore 2 34)),
  (34, .inl (i_aload 0 35)),
  (35, .inl (i_aload 2 36)),
  (36, .inr (c_V 1 39 2 1 (Mt mX0_found 2))),
  (39, .inl i_iret)], (hTab [(10, 32, 33, [10])]))
theorem rX0_drop_0 (Q : Po) (h : Hp) (l0 l2 : Value) (x : Int32) (st : List Value) : Ex mX0_drop Q 0 [l0, .int x, l2] st h = Ex mX0_drop Q 1 [l0, .int x, l2] (.int x :: st) h := Ex_nx rfl rfl
theorem rX0_drop_1 (Q : Po) (h : Hp) (ls : List Value) (a0 : Int32) : Ex mX0_drop Q 1 ls (.int a0 :: []) h = Ex mX0_isRow (Cont mX0_drop Q 1 ls 4 []) 0 [.int a0] [] h := Ex_cl (n := 1) (as := [.int a0]) rfl rfl
theorem rX0_drop_4 (Q : Po) (h : Hp) (ls : List Value) (st : List Value) (x : Int32) : Ex mX0_drop Q 4 ls (.int x :: st) h = if ¬ x = 0 then Ex mX0_drop Q 10 ls st h else Ex mX0_drop Q 7 ls st h := Ex_br rfl rfl
theorem rX0_drop_7 (Q : Po) (h : Hp) (ls : List Value) (st : List Value) : Ex mX0_drop Q 7 ls st h = Ex mX0_drop Q 9 ls (.int (-1000001) :: st) h := Ex_nx rfl rfl
theorem rX0_drop_9 (Q : Po) (h : Hp) (ls : List Value) (x : Int32) : Ex mX0_drop Q 9 ls [.int x] h = Q (.inl (some (.int x))) h := Ex_rt rfl rfl
theorem rX0_drop_10 (Q : Po) (h : Hp) (l1 l2 : Value) (x : Nat) (st : List Value) : Ex mX0_drop Q 10 [.ref x, l1, l2] st h = Ex mX0_drop Q 11 [.ref x, l1, l2] (.ref x :: st) h := Ex_nx rfl rfl
theorem rX0_drop_11 (Q : Po) (h : Hp) (l0 l2 : Value) (x : Int32) (st : List Value) : Ex mX0_drop Q 11 [l0, .int x, l2] st h = Ex mX0_drop Q 12 [l0, .int x, l2] (.int x :: st) h := Ex_nx rfl rfl
theorem rX0_drop_12 (Q : Po) (h : Hp) (ls : List Value) (a0 : Int32) (b : Nat) : Ex mX0_drop Q 12 ls (.int a0 :: .ref b :: []) h = (gK h b = 1 ∧ Ex mX0_rowAt (Cont mX0_drop Q 12 ls 15 []) 0 [.ref b, .int a0] [] h) := Ex_cg (n := 2) (as := [.ref b, .int a0]) rfl rfl
theorem rX0_drop_15 (Q : Po) (h : Hp) (ls : List Value) (st : List Value) (a : Nat) : Ex mX0_drop Q 15 ls (.ref a :: st) h = (gK h a ∈ ([11] : List Nat) ∧ Ex mX0_drop Q 18 ls (gF h 139 a :: st) h) := Ex_gd rfl rfl
theorem rX0_drop_18 (Q : Po) (h : Hp) (ls : List Value) (st : List Value) (a : Nat) : Ex mX0_drop Q 18 ls (.ref a :: st) h = (gK h a ∈ ([51] : List Nat) ∧ Ex mX0_drop Q 19 ls (.int (nI (gL h a)) :: st) h) := Ex_gd rfl rfl
theorem rX0_drop_19 (Q : Po) (h : Hp) (l0 l1 l2 : Value) (x : Int32) (st : List Value) : Ex mX0_drop Q 19 [l0, l1, l2] (.int x :: st) h = Ex mX0_drop Q 20 [l0, l1, .int x] st h := Ex_nx rfl rfl
theorem rX0_drop_20 (Q : Po) (h : Hp) (l1 l2 : Value) (x : Nat) (st : List Value) : Ex mX0_drop Q 20 [.ref x, l1, l2] st h = Ex mX0_drop Q 21 [.ref x, l1, l2] (.ref x :: st) h := Ex_nx rfl rfl
theorem rX0_drop_21 (Q : Po) (h : Hp) (ls : List Value) (st : List Value) (a : Nat) : Ex mX0_drop Q 21 ls (.ref a :: st) h = (gK h a ∈ ([1] : List Nat) ∧ Ex mX0_drop Q 24 ls (gF h 3 a :: st) h) := Ex_gd rfl rfl
theorem rX0_drop_24 (Q : Po) (h : Hp) (l0 l2 : Value) (x : Int32) (st : List Value) : Ex mX0_drop Q 24 [l0, .int x, l2] st h = Ex mX0_drop Q 25 [l0, .int x, l2] (.int x :: st) h := Ex_nx rfl rfl
theorem rX0_drop_25 (Q : Po) (h : Hp) (ls : List Value) (st : List Value) : Ex mX0_drop Q 25 ls st h = Ex mX0_drop Q 26 ls (.null :: st) h := Ex_nx rfl rfl
theorem rX0_drop_26 (Q : Po) (h : Hp) (ls : List Value) (st : List Value) (a x : Nat) (i : Int32) : Ex mX0_drop Q 26 ls (.ref x :: .int i :: .ref a :: st) h = ((gK h a = 54 ∧ gK h x ∈ ([11] : List Nat) ∧ ¬ (i < 0 ∨ gL h a ≤ i.toNatClampNeg)) ∧ Ex mX0_drop Q 27 ls st (pR h a i.toNatClampNeg (some x))) := Ex_gd rfl rfl
theorem rX0_drop_26n (Q : Po) (h : Hp) (ls : List Value) (st : List Value) (a : Nat) (i : Int32) : Ex mX0_drop Q 26 ls (.null :: .int i :: .ref a :: st) h = ((gK h a = 54 ∧ ¬ (i < 0 ∨ gL h a ≤ i.toNatClampNeg)) ∧ Ex mX0_drop Q 27 ls st (pR h a i.toNatClampNeg none)) := Ex_gd rfl rfl
theorem rX0_drop_27 (Q : Po) (h : Hp) (l1 l2 : Value) (x : Nat) (st : List Value) : Ex mX0_drop Q 27 [.ref x, l1, l2] st h = Ex mX0_drop Q 28 [.ref x, l1, l2] (.ref x :: st) h := Ex_nx rfl rfl
theorem rX0_drop_28 (Q : Po) (h : Hp) (l0 l1 : Value) (x : Int32) (st : List Value) : Ex mX0_drop Q 28 [l0, l1, .int x] st h = Ex mX0_drop Q 29 [l0, l1, .int x] (.int x :: st) h := Ex_nx rfl rfl
theorem rX0_drop_29 (Q : Po) (h : Hp) (ls : List Value) (a0 : Int32) (b : Nat) : Ex mX0_drop Q 29 ls (.int a0 :: .ref b :: []) h = (gK h b = 1 ∧ Ex mX0_well (Cont mX0_drop Q 29 ls 32 []) 0 [.ref b, .int a0] [] h) := Ex_cg (n := 2) (as := [.ref b, .int a0]) rfl rfl
theorem rX0_drop_32 (Q : Po) (h : Hp) (ls : List Value) (x : Int32) : Ex mX0_drop Q 32 ls [.int x] h = Q (.inl (some (.int x))) h := Ex_rt rfl rfl
theorem rX0_drop_33 (Q : Po) (h : Hp) (l0 l1 l2 : Value) (x : Nat) (st : List Value) : Ex mX0_drop Q 33 [l0, l1, l2] (.ref x :: st) h = Ex mX0_drop Q 34 [l0, l1, .ref x] st h := Ex_nx rfl rfl
theorem rX0_drop_34 (Q : Po) (h : Hp) (l1 l2 : Value) (x : Nat) (st : List Value) : Ex mX0_drop Q 34 [.ref x, l1, l2] st h = Ex mX0_drop Q 35 [.ref x, l1, l2] (.ref x :: st) h := Ex_nx rfl rfl
theorem rX0_drop_35 (Q : Po) (h : Hp) (l0 l1 : Value) (x : Nat) (st : List Value) : Ex mX0_drop Q 35 [l0, l1, .ref x] st h = Ex mX0_drop Q 36 [l0, l1, .ref x] (.ref x :: st) h := Ex_nx rfl rfl
theorem rX0_drop_36 (Q : Po) (h : Hp) (ls : List Value) (a0 : Nat) (b : Nat) : Ex mX0_drop Q 36 ls (.ref a0 :: .ref b :: []) h = (gK h b = 1 ∧ Ex mX0_found (Cont mX0_drop Q 36 ls 39 []) 0 [.ref b, .ref a0] [] h) := Ex_cg (n := 2) (as := [.ref b, .ref a0]) rfl rfl
theorem rX0_drop_39 (Q : Po) (h : Hp) (ls : List Value) (x : Int32) : Ex mX0_drop Q 39 ls [.int x] h = Q (.inl (some (.int x))) h := Ex_rt rfl rfl
/-! FishReaders.feed(I)I -/
def mX0_feed : Cd := ([(0, .inl (i_iload 1 1)),
  (1, .inl (i_i2l 2)),
  (2, .inl (i_push (.long 0) 3)),
  (3, .inl (i_push (.long 255) 6)),
  (6, .inr (c_S 3 9 6 (Mt mX0_isIn 6))),
  (9, .inl (i_if (fun x => ¬ x = 0) 15 12)),
  (12, .inl (i_push (.int (-1000001)) 14)),
  (14, .inl i_iret),
  (15, .inl (i_aload 0 16)),
  (16, .inl (i_getf 6 [1] 19)),
  (19, .inl (i_push (.int 120) 21)),
  (21, .inl (i_icmp (fun x y => ¬ x = y) 27 24)),
  (24, .inl (i_push (.int (-1000003)) 26)),
  (26, .inl i_iret),
  (27, .inl (i_aload 0 28)),
  (28, .inl (i_getf 5 [1] 31)),
  (31, .inl (i_aload 0 32)),
  (32, .inl (i_dup 33)),
  (33, .inl (i_getf 6 [1] 36)),
  (36, .inl (i_dup_x1 37)),
  (37, .inl (i_push (.int 1) 38)),
  (38, .inl (i_bin (fun x y => x + y) 39)),
  (39, .inl (i_putI 6 [1] 42)),
  (42, .inl (i_iload 1 43)),
  (43, .inl (i_un (fun x => x.toInt8.toInt32) 44)),
  (44, .inl (i_iast 52 (fun x => x.toInt8.toInt32) 45)),
  (45, .inl (i_aload 0 46)),
  (46, .inl (i_getf 6 [1] 49)),
  (49, .inl i_iret)], noH)
theorem rX0_feed_0 (Q : Po) (h : Hp) (l0 : Value) (x : Int32) (st : List Value) : Ex mX0_feed Q 0 [l0, .int x] st h = Ex mX0_feed Q 1 [l0, .int x] (.int x :: st) h := Ex_nx rfl rfl
theorem rX0_feed_1 (Q : Po) (h : Hp) (ls : List Value) (st : List Value) (x : Int32) : Ex mX0_feed Q 1 ls (.int x :: st) h = Ex mX0_feed Q 2 ls (.long x.toInt64 :: st) h := Ex_nx rfl rfl
theorem rX0_feed_2 (Q : Po) (h : Hp) (ls : List Value) (st : List Value) : Ex mX0_feed Q 2 ls st h = Ex mX0_feed Q 3 ls (.long 0 :: st) h := Ex_nx rfl rfl
theorem rX0_feed_3 (Q : Po) (h : Hp) (ls : List Value) (st : List Value) : Ex mX0_feed Q 3 ls st h = Ex mX0_feed Q 6 ls (.long 255 :: st) h := Ex_nx rfl rfl
theorem rX0_feed_6 (Q : Po) (h : Hp) (ls : List Value) (a0 : Int64) (a1 : Int64) (a2 : Int64) : Ex mX0_feed Q 6 ls (.long a2 :: .long a1 :: .long a0 :: []) h = Ex mX0_isIn (Cont mX0_feed Q 6 ls 9 []) 0 [.long a0, .retAddr 1, .long a1, .retAddr 1, .long a2, .retAddr 1] [] h := Ex_cl (n := 6) (as := [.long a0, .long a1, .long a2]) rfl rfl
theorem rX0_feed_9 (Q : Po) (h : Hp) (ls : List Value) (st : List Value) (x : Int32) : Ex mX0_feed Q 9 ls (.int x :: st) h = if ¬ x = 0 then Ex mX0_feed Q 15 ls st h else Ex mX0_feed Q 12 ls st h := Ex_br rfl rfl
theorem rX0_feed_12 (Q : Po) (h : Hp) (ls : List Value) (st : List Value) : Ex mX0_feed Q 12 ls st h = Ex mX0_feed Q 14 ls (.int (-1000001) :: st) h := Ex_nx rfl rfl
theorem rX0_feed_14 (Q : Po) (h : Hp) (ls : List Value) (x : Int32) : Ex mX0_feed Q 14 ls [.int x] h = Q (.inl (some (.int x))) h := Ex_rt rfl rfl
theorem rX0_feed_15 (Q : Po) (h : Hp) (l1 : Value) (x : Nat) (st : List Value) : Ex mX0_feed Q 15 [.ref x, l1] st h = Ex mX0_feed Q 16 [.ref x, l1] (.ref x :: st) h := Ex_nx rfl rfl
theorem rX0_feed_16 (Q : Po) (h : Hp) (ls : List Value) (st : List Value) (a : Nat) : Ex mX0_feed Q 16 ls (.ref a :: st) h = (gK h a ∈ ([1] : List Nat) ∧ Ex mX0_feed Q 19 ls (gF h 6 a :: st) h) := Ex_gd rfl rfl
theorem rX0_feed_19 (Q : Po) (h : Hp) (ls : List Value) (st : List Value) : Ex mX0_feed Q 19 ls st h = Ex mX0_feed Q 21 ls (.int 120 :: st) h := Ex_nx rfl rfl
theorem rX0_feed_21 (Q : Po) (h : Hp) (ls : List Value) (st : List Value) (x y : Int32) : Ex mX0_feed Q 21 ls (.int y :: .int x :: st) h = if ¬ x = y then Ex mX0_feed Q 27 ls st h else Ex mX0_feed Q 24 ls st h := Ex_br rfl rfl
theorem rX0_feed_24 (Q : Po) (h : Hp) (ls : List Value) (st : List Value) : Ex mX0_feed Q 24 ls st h = Ex mX0_feed Q 26 ls (.int (-1000003) :: st) h := Ex_nx rfl rfl
theorem rX0_feed_26 (Q : Po) (h : Hp) (ls : List Value) (x : Int32) : Ex mX0_feed Q 26 ls [.int x] h = Q (.inl (some (.int x))) h := Ex_rt rfl rfl
theorem rX0_feed_27 (Q : Po) (h : Hp) (l1 : Value) (x : Nat) (st : List Value) : Ex mX0_feed Q 27 [.ref x, l1] st h = Ex mX0_feed Q 28 [.ref x, l1] (.ref x :: st) h := Ex_nx rfl rfl
theorem rX0_feed_28 (Q : Po) (h : Hp) (ls : List Value) (st : List Value) (a : Nat) : Ex mX0_feed Q 28 ls (.ref a :: st) h = (gK h a ∈ ([1] : List Nat) ∧ Ex mX0_feed Q 31 ls (gF h 5 a :: st) h) := Ex_gd rfl rfl
theorem rX0_feed_31 (Q : Po) (h : Hp) (l1 : Value) (x : Nat) (st : List Value) : Ex mX0_feed Q 31 [.ref x, l1] st h = Ex mX0_feed Q 32 [.ref x, l1] (.ref x :: st) h := Ex_nx rfl rfl
theorem rX0_feed_32 (Q : Po) (h : Hp) (ls : List Value) (st : List Value) (x : Nat) : Ex mX0_feed Q 32 ls (.ref x :: st) h = Ex mX0_feed Q 33 ls (.ref x :: .ref x :: st) h := Ex_nx rfl rfl
theorem rX0_feed_33 (Q : Po) (h : Hp) (ls : List Value) (st : List Value) (a : Nat) : Ex mX0_feed Q 33 ls (.ref a :: st) h = (gK h a ∈ ([1] : List Nat) ∧ Ex mX0_feed Q 36 ls (gF h 6 a :: st) h) := Ex_gd rfl rfl
theorem rX0_feed_36 (Q : Po) (h : Hp) (ls : List Value) (st : List Value) (x : Int32) (y : Nat) : Ex mX0_feed Q 36 ls (.int x :: .ref y :: st) h = Ex mX0_feed Q 37 ls (.int x :: .ref y :: .int x :: st) h := Ex_nx rfl rfl
theorem rX0_feed_37 (Q : Po) (h : Hp) (ls : List Value) (st : List Value) : Ex mX0_feed Q 37 ls st h = Ex mX0_feed Q 38 ls (.int 1 :: st) h := Ex_nx rfl rfl
theorem rX0_feed_38 (Q : Po) (h : Hp) (ls : List Value) (st : List Value) (x y : Int32) : Ex mX0_feed Q 38 ls (.int y :: .int x :: st) h = Ex mX0_feed Q 39 ls (.int (x + y) :: st) h := Ex_nx rfl rfl
theorem rX0_feed_39 (Q : Po) (h : Hp) (ls : List Value) (st : List Value) (x : Int32) (a : Nat) : Ex mX0_feed Q 39 ls (.int x :: .ref a :: st) h = (gK h a ∈ ([1] : List Nat) ∧ Ex mX0_feed Q 42 ls st (pF h 6 a (.int x))) := Ex_gd rfl rfl
theorem rX0_feed_42 (Q : Po) (h : Hp) (l0 : Value) (x : Int32) (st : List Value) : Ex mX0_feed Q 42 [l0, .int x] st h = Ex mX0_feed Q 43 [l0, .int x] (.int x :: st) h := Ex_nx rfl rfl
theorem rX0_feed_43 (Q : Po) (h : Hp) (ls : List Value) (st : List Value) (x : Int32) : Ex mX0_feed Q 43 ls (.int x :: st) h = Ex mX0_feed Q 44 ls (.int (x.toInt8.toInt32) :: st) h := Ex_nx rfl rfl
theorem rX0_feed_44 (Q : Po) (h : Hp) (ls : List Value) (st : List Value) (a : Nat) (i x : Int32) : Ex mX0_feed Q 44 ls (.int x :: .int i :: .ref a :: st) h = ((gK h a = 52 ∧ ¬ (i < 0 ∨ gL h a ≤ i.toNatClampNeg)) ∧ Ex mX0_feed Q 45 ls st (pI h a i.toNatClampNeg (x.toInt8.toInt32))) := Ex_gd rfl rfl
theorem rX0_feed_45 (Q : Po) (h : Hp) (l1 : Value) (x : Nat) (st : List Value) : Ex mX0_feed Q 45 [.ref x, l1] st h = Ex mX0_feed Q 46 [.ref x, l1] (.ref x :: st) h := Ex_nx rfl rfl
theorem rX0_feed_46 (Q : Po) (h : Hp) (ls : List Value) (st : List Value) (a : Nat) : Ex mX0_feed Q 46 ls (.ref a :: st) h = (gK h a ∈ ([1] : List Nat) ∧ Ex mX0_feed Q 49 ls (gF h 6 a :: st) h) := Ex_gd rfl rfl
theorem rX0_feed_49 (Q : Po) (h : Hp) (ls : List Value) (x : Int32) : Ex mX0_feed Q 49 ls [.int x] h = Q (.inl (some (.int x))) h := Ex_rt rfl rfl
theorem rX0_feed_t (Q : Po) (h : Hp) (pc n a : Nat) (ls st : List Value) : Cont mX0_feed Q pc ls n st (.inr a) h = Q (.inr a) h := rfl
/-! FishReaders$Reader.<init>([BI)V -/
def mX12_init : Cd := ([(0, .inl (i_aload 0 1)),
  (1, .inl (i_oini 4)),
  (4, .inl (i_aload 0 5)),
  (5, .inl (i_new 2 16 8)),
  (8, .inl (i_dup 9)),
  (9, .inr (c_I 0 12 1 (Mt mX1_init 1))),
  (12, .inl (i_putR 153 [12] 15)),
  (15, .inl (i_aload 0 16)),
  (16, .inl (i_aload 1 17)),
  (17, .inl (i_putR 141 [12] 20)),
  (20, .inl (i_aload 0 21)),
  (21, .inl (i_iload 2 22)),
  (22, .inl (i_putI 142 [12] 25)),
  (25, .inl i_vret)], noH)
theorem rX12_init_0 (Q : Po) (h : Hp) (l1 l2 : Value) (x : Nat) (st : List Value) : Ex mX12_init Q 0 [.ref x, l1, l2] st h = Ex mX12_init Q 1 [.ref x, l1, l2] (.ref x :: st) h := Ex_nx rfl rfl
theorem rX12_init_1 (Q : Po) (h : Hp) (ls : List Value) (a : Nat) : Ex mX12_init Q 1 ls (.ref a :: []) h = Ex mX12_init Q 4 ls [] h := Ex_nx rfl rfl
theorem rX12_init_4 (Q : Po) (h : Hp) (l1 l2 : Value) (x : Nat) (st : List Value) : Ex mX12_init Q 4 [.ref x, l1, l2] st h = Ex mX12_init Q 5 [.ref x, l1, l2] (.ref x :: st) h := Ex_nx rfl rfl
theorem rX12_init_5 (Q : Po) (h : Hp) (ls : List Value) (st : List Value) : Ex mX12_init Q 5 ls st h = ((1 ≤ gC h ∧ 16 ≤ gS h) ∧ Ex mX12_init Q 8 ls (.ref (gN h) :: st) (nO h 2 16)) := Ex_gd rfl rfl
theorem rX12_init_8 (Q : Po) (h : Hp) (ls : List Value) (st : List Value) (x : Nat) : Ex mX12_init Q 8 ls (.ref x :: st) h = Ex mX12_init Q 9 ls (.ref x :: .ref x :: st) h := Ex_nx rfl rfl
theorem rX12_init_9 (Q : Po) (h : Hp) (ls : List Value) (s0 s1 : Value) (b : Nat) : Ex mX12_init Q 9 ls (.ref b :: [s0, s1]) h = Ex mX1_init (Cont mX12_init Q 9 ls 12 [s0, s1]) 0 [.ref b] [] h := Ex_cl (n := 1) (as := [.ref b]) rfl rfl
theorem rX12_init_12 (Q : Po) (h : Hp) (ls : List Value) (st : List Value) (x a : Nat) : Ex mX12_init Q 12 ls (.ref x :: .ref a :: st) h = (gK h a ∈ ([12] : List Nat) ∧ Ex mX12_init Q 15 ls st (pF h 153 a (.ref x))) := Ex_gd rfl rfl
theorem rX12_init_12n (Q : Po) (h : Hp) (ls : List Value) (st : List Value) (a : Nat) : Ex mX12_init Q 12 ls (.null :: .ref a :: st) h = (gK h a ∈ ([12] : List Nat) ∧ Ex mX12_init Q 15 ls st (pF h 153 a .null)) := Ex_gd rfl rfl
theorem rX12_init_15 (Q : Po) (h : Hp) (l1 l2 : Value) (x : Nat) (st : List Value) : Ex mX12_init Q 15 [.ref x, l1, l2] st h = Ex mX12_init Q 16 [.ref x, l1, l2] (.ref x :: st) h := Ex_nx rfl rfl
theorem rX12_init_16 (Q : Po) (h : Hp) (l0 l2 : Value) (x : Nat) (st : List Value) : Ex mX12_init Q 16 [l0, .ref x, l2] st h = Ex mX12_init Q 17 [l0, .ref x, l2] (.ref x :: st) h := Ex_nx rfl rfl
theorem rX12_init_17 (Q : Po) (h : Hp) (ls : List Value) (st : List Value) (x a : Nat) : Ex mX12_init Q 17 ls (.ref x :: .ref a :: st) h = (gK h a ∈ ([12] : List Nat) ∧ Ex mX12_init Q 20 ls st (pF h 141 a (.ref x))) := Ex_gd rfl rfl
theorem rX12_init_17n (Q : Po) (h : Hp) (ls : List Value) (st : List Value) (a : Nat) : Ex mX12_init Q 17 ls (.null :: .ref a :: st) h = (gK h a ∈ ([12] : List Nat) ∧ Ex mX12_init Q 20 ls st (pF h 141 a .null)) := Ex_gd rfl rfl
theorem rX12_init_20 (Q : Po) (h : Hp) (l1 l2 : Value) (x : Nat) (st : List Value) : Ex mX12_init Q 20 [.ref x, l1, l2] st h = Ex mX12_init Q 21 [.ref x, l1, l2] (.ref x :: st) h := Ex_nx rfl rfl
theorem rX12_init_21 (Q : Po) (h : Hp) (l0 l1 : Value) (x : Int32) (st : List Value) : Ex mX12_init Q 21 [l0, l1, .int x] st h = Ex mX12_init Q 22 [l0, l1, .int x] (.int x :: st) h := Ex_nx rfl rfl
theorem rX12_init_22 (Q : Po) (h : Hp) (ls : List Value) (st : List Value) (x : Int32) (a : Nat) : Ex mX12_init Q 22 ls (.int x :: .ref a :: st) h = (gK h a ∈ ([12] : List Nat) ∧ Ex mX12_init Q 25 ls st (pF h 142 a (.int x))) := Ex_gd rfl rfl
theorem rX12_init_25 (Q : Po) (h : Hp) (ls : List Value) : Ex mX12_init Q 25 ls [] h = Q (.inl none) h := Ex_rt rfl rfl
theorem rX12_init_t (Q : Po) (h : Hp) (pc n a : Nat) (ls st : List Value) : Cont mX12_init Q pc ls n st (.inr a) h = Q (.inr a) h := rfl
/-! FishReaders$Reader.look()I -/
def mX12_look : Cd := ([(0, .inl (i_aload 0 1)),
  (1, .inl (i_getf 144 [12] 4)),
  (4, .inl (i_aload 0 5)),
  (5, .inl (i_getf 142 [12] 8)),
  (8, .inl (i_icmp (fun x y => y ≤ x) 27 11)),
  (11, .inl (i_aload 0 12)),
  (12, .inl (i_getf 141 [12] 15)),
  (15, .inl (i_aload 0 16)),
  (16, .inl (i_getf 144 [12] 19)),
  (19, .inl (i_iald 52 20)),
  (20, .inl (i_push (.int 255) 23)),
  (23, .inl (i_bin (fun x y => x &&& y) 24)),
  (24, .inl (i_goto 29)),
  (27, .inl (i_push (.int (-1000000)) 29)),
  (29, .inl i_iret)], noH)
theorem rX12_look_0 (Q : Po) (h : Hp) (x : Nat) (st : List Value) : Ex mX12_look Q 0 [.ref x] st h = Ex mX12_look Q 1 [.ref x] (.ref x :: st) h := Ex_nx rfl rfl
theorem rX12_look_1 (Q : Po) (h : Hp) (ls : List Value) (st : List Value) (a : Nat) : Ex mX12_look Q 1 ls (.ref a :: st) h = (gK h a ∈ ([12] : List Nat) ∧ Ex mX12_look Q 4 ls (gF h 144 a :: st) h) := Ex_gd rfl rfl
theorem rX12_look_4 (Q : Po) (h : Hp) (x : Nat) (st : List Value) : Ex mX12_look Q 4 [.ref x] st h = Ex mX12_look Q 5 [.ref x] (.ref x :: st) h := Ex_nx rfl rfl
theorem rX12_look_5 (Q : Po) (h : Hp) (ls : List Value) (st : List Value) (a : Nat) : Ex mX12_look Q 5 ls (.ref a :: st) h = (gK h a ∈ ([12] : List Nat) ∧ Ex mX12_look Q 8 ls (gF h 142 a :: st) h) := Ex_gd rfl rfl
theorem rX12_look_8 (Q : Po) (h : Hp) (ls : List Value) (st : List Value) (x y : Int32) : Ex mX12_look Q 8 ls (.int y :: .int x :: st) h = if y ≤ x then Ex mX12_look Q 27 ls st h else Ex mX12_look Q 11 ls st h := Ex_br rfl rfl
theorem rX12_look_11 (Q : Po) (h : Hp) (x : Nat) (st : List Value) : Ex mX12_look Q 11 [.ref x] st h = Ex mX12_look Q 12 [.ref x] (.ref x :: st) h := Ex_nx rfl rfl
theorem rX12_look_12 (Q : Po) (h : Hp) (ls : List Value) (st : List Value) (a : Nat) : Ex mX12_look Q 12 ls (.ref a :: st) h = (gK h a ∈ ([12] : List Nat) ∧ Ex mX12_look Q 15 ls (gF h 141 a :: st) h) := Ex_gd rfl rfl
theorem rX12_look_15 (Q : Po) (h : Hp) (x : Nat) (st : List Value) : Ex mX12_look Q 15 [.ref x] st h = Ex mX12_look Q 16 [.ref x] (.ref x :: st) h := Ex_nx rfl rfl
theorem rX12_look_16 (Q : Po) (h : Hp) (ls : List Value) (st : List Value) (a : Nat) : Ex mX12_look Q 16 ls (.ref a :: st) h = (gK h a ∈ ([12] : List Nat) ∧ Ex mX12_look Q 19 ls (gF h 144 a :: st) h) := Ex_gd rfl rfl
theorem rX12_look_19 (Q : Po) (h : Hp) (ls : List Value) (st : List Value) (a : Nat) (i : Int32) : Ex mX12_look Q 19 ls (.int i :: .ref a :: st) h = ((gK h a = 52 ∧ ¬ (i < 0 ∨ gL h a ≤ i.toNatClampNeg)) ∧ Ex mX12_look Q 20 ls (.int (gI h a i.toNatClampNeg) :: st) h) := Ex_gd rfl rfl
theorem rX12_look_20 (Q : Po) (h : Hp) (ls : List Value) (st : List Value) : Ex mX12_look Q 20 ls st h = Ex mX12_look Q 23 ls (.int 255 :: st) h := Ex_nx rfl rfl
theorem rX12_look_23 (Q : Po) (h : Hp) (ls : List Value) (st : List Value) (x y : Int32) : Ex mX12_look Q 23 ls (.int y :: .int x :: st) h = Ex mX12_look Q 24 ls (.int (x &&& y) :: st) h := Ex_nx rfl rfl
theorem rX12_look_24 (Q : Po) (h : Hp) (ls : List Value) (st : List Value) : Ex mX12_look Q 24 ls st h = Ex mX12_look Q 29 ls st h := Ex_nx rfl rfl
theorem rX12_look_27 (Q : Po) (h : Hp) (ls : List Value) (st : List Value) : Ex mX12_look Q 27 ls st h = Ex mX12_look Q 29 ls (.int (-1000000) :: st) h := Ex_nx rfl rfl
theorem rX12_look_29 (Q : Po) (h : Hp) (ls : List Value) (x : Int32) : Ex mX12_look Q 29 ls [.int x] h = Q (.inl (some (.int x))) h := Ex_rt rfl rfl
theorem rX12_look_t (Q : Po) (h : Hp) (pc n a : Nat) (ls st : List Value) : Cont mX12_look Q pc ls n st (.inr a) h = Q (.inr a) h := rfl
/-! FishReaders$Reader.next()V -/
def mX12_next : Cd := ([(0, .inl (i_aload 0 1)),
  (1, .inl (i_aload 0 2)),
  (2, .inl (i_getf 144 [12] 5)),
  (5, .inl (i_putI 148 [12] 8)),
  (8, .inl (i_aload 0 9)),
  (9, .inr (c_V 0 12 1 12 (Mt mX12_look 1))),
  (12, .inl (i_istore 1 13)),
  (13, .inl (i_aload 0 14)),
  (14, .inl (i_iload 1 15)),
  (15, .inl (i_putI 150 [12] 18)),
  (18, .inl (i_iload 1 19)),
  (19, .inl (i_push (.int (-1000000)) 21)),
  (21, .inl (i_icmp (fun x y => ¬ x = y) 32 24)),
  (24, .inl (i_aload 0 25)),
  (25, .inl (i_push (.int 0) 26)),
  (26, .inl (i_putI 146 [12] 29)),
  (29, .inl (i_goto 198)),
  (32, .inl (i_iload 1 33)),
  (33, .inl (i_i2l 34)),
  (34, .inl (i_push (.long 48) 37)),
  (37, .inl (i_push (.long 57) 40)),
  (40, .inr (c_S 3 43 6 (Mt mX0_isIn 6))),
  (43, .inl (i_if (fun x => x = 0) 145 46)),
  (46, .inl (i_aload 0 47)),
  (47, .inl (i_push (.int 0) 48)),
  (48, .inl (i_putI 150 [12] 51)),
  (51, .inl (i_aload 0 52)),
  (52, .inr (c_V 0 55 1 12 (Mt mX12_look 1))),
  (55, .inl (i_i2l 56)),
  (56, .inl (i_push (.long 48) 59)),
  (59, .inl (i_push (.long 57) 62)),
  (62, .inr (c_S 3 65 6 (Mt mX0_isIn 6))),
  (65, .inl (i_if (fun x => x = 0) 120 68)),
  (68, .inl (i_aload 0 69)),
  (69, .inl (i_aload 0 70)),
  (70, .inl (i_getf 144 [12] 73)),
  (73, .inl (i_aload 0 74)),
  (74, .inl (i_getf 148 [12] 77)),
  (77, .inl (i_bin (fun x y => x - y) 78)),
  (78, .inl (i_push (.int 2) 79)),
  (79, .inl (i_icmp (fun x y => y ≤ x) 100 82)),
  (82, .inl (i_push (.int 10) 84)),
  (84, .inl (i_aload 0 85)),
  (85, .inl (i_getf 150 [12] 88)),
  (88, .inl (i_bin (fun x y => x * y) 89)),
  (89, .inl (i_aload 0 90)),
  (90, .inr (c_V 0 93 1 12 (Mt mX12_look 1))),
  (93, .inl (i_bin (fun x y => x + y) 94)),
  (94, .inl (i_push (.int 48) 96)),
  (96, .inl (i_bin (fun x y => x - y) 97)),
  (97, .inl (i_goto 104)),
  (100, .inl (i_aload 0 101)),
  (101, .inl (i_getf 150 [12] 104)),
  (104, .inl (i_putI 150 [12] 107)),
  (107, .inl (i_aload 0 108)),
  (108, .inl (i_dup 109)),
  (109, .inl (i_getf 144 [12] 112)),
  (112, .inl (i_push (.int 1) 113)),
  (113, .inl (i_bin (fun x y => x + y) 114)),
  (114, .inl (i_putI 144 [12] 117)),
  (117, .inl (i_goto 51)),
  (120, .inl (i_aload 0 121)),
  (121, .inl (i_aload 0 122)),
  (122, .inl (i_getf 144 [12] 125)),
  (125, .inl (i_aload 0 126)),
  (126, .inl (i_getf 148 [12] 129)),
  (129, .inl (i_bin (fun x y => x - y) 130)),
  (130, .inl (i_push (.int 2) 131)),
  (131, .inl (i_icmp (fun x y => y < x) 138 134)),
  (134, .inl (i_push (.int 2) 135)),
  (135, .inl (i_goto 139)),
  (138, .inl (i_push (.int 5) 139)),
  (139, .inl (i_putI 146 [12] 142)),
  (142, .inl (i_goto 198)),
  (145, .inl (i_aload 0 146)),
  (146, .inl (i_dup 147)),
  (147, .inl (i_getf 144 [12] 150)),
  (150, .inl (i_push (.int 1) 151)),
  (151, .inl (i_bin (fun x y => x + y) 152)),
  (152, .inl (i_putI 144 [12] 155)),
  (155, .inl (i_aload 0 156)),
  (156, .inl (i_iload 1 157)),
  (157, .inl (i_i2l 158)),
  (158, .inl (i_push (.long 97) 161)),
  (161, .inl (i_push (.long 122) 164)),
  (164, .inr (c_S 3 167 6 (Mt mX0_isIn 6))),
  (167, .inl (i_if (fun x => x = 0) 174 170)),
  (170, .inl (i_push (.int 1) 171)),
  (171, .inl (i_goto 195)),
  (174, .inl (i_iload 1 175)),
  (175, .inl (i_push (.int 44) 177)),
  (177, .inl (i_icmp (fun x y => ¬ x = y) 184 180)),
  (180, .inl (i_push (.int 3) 181)),
  (181, .inl (i_goto 195)),
  (184, .inl (i_iload 1 185)),
  (185, .inl (i_push (.int 59) 187)),
  (187, .inl (i_icmp (fun x y => ¬ x = y) 194 190)),
  (190, .inl (i_push (.int 4) 191)),
  (191, .inl (i_goto 195)),
  (194, .inl (i_push (.int 5) 195)),
  (195, .inl (i_putI 146 [12] 198)),
  (198, .inl i_vret)], noH)
theorem rX12_next_0 (Q : Po) (h : Hp) (l1 : Value) (x : Nat) (st : List Value) : Ex mX12_next Q 0 [.ref x, l1] st h = Ex mX12_next Q 1 [.ref x, l1] (.ref x :: st) h := Ex_nx rfl rfl
theorem rX12_next_1 (Q : Po) (h : Hp) (l1 : Value) (x : Nat) (st : List Value) : Ex mX12_next Q 1 [.ref x, l1] st h = Ex mX12_next Q 2 [.ref x, l1] (.ref x :: st) h := Ex_nx rfl rfl
theorem rX12_next_2 (Q : Po) (h : Hp) (ls : List Value) (st : List Value) (a : Nat) : Ex mX12_next Q 2 ls (.ref a :: st) h = (gK h a ∈ ([12] : List Nat) ∧ Ex mX12_next Q 5 ls (gF h 144 a :: st) h) := Ex_gd rfl rfl
theorem rX12_next_5 (Q : Po) (h : Hp) (ls : List Value) (st : List Value) (x : Int32) (a : Nat) : Ex mX12_next Q 5 ls (.int x :: .ref a :: st) h = (gK h a ∈ ([12] : List Nat) ∧ Ex mX12_next Q 8 ls st (pF h 148 a (.int x))) := Ex_gd rfl rfl
theorem rX12_next_8 (Q : Po) (h : Hp) (l1 : Value) (x : Nat) (st : List Value) : Ex mX12_next Q 8 [.ref x, l1] st h = Ex mX12_next Q 9 [.ref x, l1] (.ref x :: st) h := Ex_nx rfl rfl
theorem rX12_next_9 (Q : Po) (h : Hp) (ls : List Value) (b : Nat) : Ex mX12_next Q 9 ls (.ref b :: []) h = (gK h b = 12 ∧ Ex mX12_look (Cont mX12_next Q 9 ls 12 []) 0 [.ref b] [] h) := Ex_cg (n := 1) (as := [.ref b]) rfl rfl
theorem rX12_next_12 (Q : Po) (h : Hp) (l0 l1 : Value) (x : Int32) (st : List Value) : Ex mX12_next Q 12 [l0, l1] (.int x :: st) h = Ex mX12_next Q 13 [l0, .int x] st h := Ex_nx rfl rfl
theorem rX12_next_13 (Q : Po) (h : Hp) (l1 : Value) (x : Nat) (st : List Value) : Ex mX12_next Q 13 [.ref x, l1] st h = Ex mX12_next Q 14 [.ref x, l1] (.ref x :: st) h := Ex_nx rfl rfl
theorem rX12_next_14 (Q : Po) (h : Hp) (l0 : Value) (x : Int32) (st : List Value) : Ex mX12_next Q 14 [l0, .int x] st h = Ex mX12_next Q 15 [l0, .int x] (.int x :: st) h := Ex_nx rfl rfl
theorem rX12_next_15 (Q : Po) (h : Hp) (ls : List Value) (st : List Value) (x : Int32) (a : Nat) : Ex mX12_next Q 15 ls (.int x :: .ref a :: st) h = (gK h a ∈ ([12] : List Nat) ∧ Ex mX12_next Q 18 ls st (pF h 150 a (.int x))) := Ex_gd rfl rfl
theorem rX12_next_18 (Q : Po) (h : Hp) (l0 : Value) (x : Int32) (st : List Value) : Ex mX12_next Q 18 [l0, .int x] st h = Ex mX12_next Q 19 [l0, .int x] (.int x :: st) h := Ex_nx rfl rfl
theorem rX12_next_19 (Q : Po) (h : Hp) (ls : List Value) (st : List Value) : Ex mX12_next Q 19 ls st h = Ex mX12_next Q 21 ls (.int (-1000000) :: st) h := Ex_nx rfl rfl
theorem rX12_next_21 (Q : Po) (h : Hp) (ls : List Value) (st : List Value) (x y : Int32) : Ex mX12_next Q 21 ls (.int y :: .int x :: st) h = if ¬ x = y then Ex mX12_next Q 32 ls st h else Ex mX12_next Q 24 ls st h := Ex_br rfl rfl
theorem rX12_next_24 (Q : Po) (h : Hp) (l1 : Value) (x : Nat) (st : List Value) : Ex mX12_next Q 24 [.ref x, l1] st h = Ex mX12_next Q 25 [.ref x, l1] (.ref x :: st) h := Ex_nx rfl rfl
theorem rX12_next_25 (Q : Po) (h : Hp) (ls : List Value) (st : List Value) : Ex mX12_next Q 25 ls st h = Ex mX12_next Q 26 ls (.int 0 :: st) h := Ex_nx rfl rfl
theorem rX12_next_26 (Q : Po) (h : Hp) (ls : List Value) (st : List Value) (x : Int32) (a : Nat) : Ex mX12_next Q 26 ls (.int x :: .ref a :: st) h = (gK h a ∈ ([12] : List Nat) ∧ Ex mX12_next Q 29 ls st (pF h 146 a (.int x))) := Ex_gd rfl rfl
theorem rX12_next_29 (Q : Po) (h : Hp) (ls : List Value) (st : List Value) : Ex mX12_next Q 29 ls st h = Ex mX12_next Q 198 ls st h := Ex_nx rfl rfl
theorem rX12_next_32 (Q : Po) (h : Hp) (l0 : Value) (x : Int32) (st : List Value) : Ex mX12_next Q 32 [l0, .int x] st h = Ex mX12_next Q 33 [l0, .int x] (.int x :: st) h := Ex_nx rfl rfl
theorem rX12_next_33 (Q : Po) (h : Hp) (ls : List Value) (st : List Value) (x : Int32) : Ex mX12_next Q 33 ls (.int x :: st) h = Ex mX12_next Q 34 ls (.long x.toInt64 :: st) h := Ex_nx rfl rfl
theorem rX12_next_34 (Q : Po) (h : Hp) (ls : List Value) (st : List Value) : Ex mX12_next Q 34 ls st h = Ex mX12_next Q 37 ls (.long 48 :: st) h := Ex_nx rfl rfl
theorem rX12_next_37 (Q : Po) (h : Hp) (ls : List Value) (st : List Value) : Ex mX12_next Q 37 ls st h = Ex mX12_next Q 40 ls (.long 57 :: st) h := Ex_nx rfl rfl
theorem rX12_next_40 (Q : Po) (h : Hp) (ls : List Value) (a0 : Int64) (a1 : Int64) (a2 : Int64) : Ex mX12_next Q 40 ls (.long a2 :: .long a1 :: .long a0 :: []) h = Ex mX0_isIn (Cont mX12_next Q 40 ls 43 []) 0 [.long a0, .retAddr 1, .long a1, .retAddr 1, .long a2, .retAddr 1] [] h := Ex_cl (n := 6) (as := [.long a0, .long a1, .long a2]) rfl rfl
theorem rX12_next_43 (Q : Po) (h : Hp) (ls : List Value) (st : List Value) (x : Int32) : Ex mX12_next Q 43 ls (.int x :: st) h = if x = 0 then Ex mX12_next Q 145 ls st h else Ex mX12_next Q 46 ls st h := Ex_br rfl rfl
theorem rX12_next_46 (Q : Po) (h : Hp) (l1 : Value) (x : Nat) (st : List Value) : Ex mX12_next Q 46 [.ref x, l1] st h = Ex mX12_next Q 47 [.ref x, l1] (.ref x :: st) h := Ex_nx rfl rfl
theorem rX12_next_47 (Q : Po) (h : Hp) (ls : List Value) (st : List Value) : Ex mX12_next Q 47 ls st h = Ex mX12_next Q 48 ls (.int 0 :: st) h := Ex_nx rfl rfl
theorem rX12_next_48 (Q : Po) (h : Hp) (ls : List Value) (st : List Value) (x : Int32) (a : Nat) : Ex mX12_next Q 48 ls (.int x :: .ref a :: st) h = (gK h a ∈ ([12] : List Nat) ∧ Ex mX12_next Q 51 ls st (pF h 150 a (.int x))) := Ex_gd rfl rfl
theorem rX12_next_51 (Q : Po) (h : Hp) (l1 : Value) (x : Nat) (st : List Value) : Ex mX12_next Q 51 [.ref x, l1] st h = Ex mX12_next Q 52 [.ref x, l1] (.ref x :: st) h := Ex_nx rfl rfl
theorem rX12_next_52 (Q : Po) (h : Hp) (ls : List Value) (b : Nat) : Ex mX12_next Q 52 ls (.ref b :: []) h = (gK h b = 12 ∧ Ex mX12_look (Cont mX12_next Q 52 ls 55 []) 0 [.ref b] [] h) := Ex_cg (n := 1) (as := [.ref b]) rfl rfl
theorem rX12_next_55 (Q : Po) (h : Hp) (ls : List Value) (st : List Value) (x : Int32) : Ex mX12_next Q 55 ls (.int x :: st) h = Ex mX12_next Q 56 ls (.long x.toInt64 :: st) h := Ex_nx rfl rfl
theorem rX12_next_56 (Q : Po) (h : Hp) (ls : List Value) (st : List Value) : Ex mX12_next Q 56 ls st h = Ex mX12_next Q 59 ls (.long 48 :: st) h := Ex_nx rfl rfl
theorem rX12_next_59 (Q : Po) (h : Hp) (ls : List Value) (st : List Value) : Ex mX12_next Q 59 ls st h = Ex mX12_next Q 62 ls (.long 57 :: st) h := Ex_nx rfl rfl
theorem rX12_next_62 (Q : Po) (h : Hp) (ls : List Value) (a0 : Int64) (a1 : Int64) (a2 : Int64) : Ex mX12_next Q 62 ls (.long a2 :: .long a1 :: .long a0 :: []) h = Ex mX0_isIn (Cont mX12_next Q 62 ls 65 []) 0 [.long a0, .retAddr 1, .long a1, .retAddr 1, .long a2, .retAddr 1] [] h := Ex_cl (n := 6) (as := [.long a0, .long a1, .long a2]) rfl rfl
theorem rX12_next_65 (Q : Po) (h : Hp) (ls : List Value) (st : List Value) (x : Int32) : Ex mX12_next Q 65 ls (.int x :: st) h = if x = 0 then Ex mX12_next Q 120 ls st h else Ex mX12_next Q 68 ls st h := Ex_br rfl rfl
theorem rX12_next_68 (Q : Po) (h : Hp) (l1 : Value) (x : Nat) (st : List Value) : Ex mX12_next Q 68 [.ref x, l1] st h = Ex mX12_next Q 69 [.ref x, l1] (.ref x :: st) h := Ex_nx rfl rfl
theorem rX12_next_69 (Q : Po) (h : Hp) (l1 : Value) (x : Nat) (st : List Value) : Ex mX12_next Q 69 [.ref x, l1] st h = Ex mX12_next Q 70 [.ref x, l1] (.ref x :: st) h := Ex_nx rfl rfl
theorem rX12_next_70 (Q : Po) (h : Hp) (ls : List Value) (st : List Value) (a : Nat) : Ex mX12_next Q 70 ls (.ref a :: st) h = (gK h a ∈ ([12] : List Nat) ∧ Ex mX12_next Q 73 ls (gF h 144 a :: st) h) := Ex_gd rfl rfl
theorem rX12_next_73 (Q : Po) (h : Hp) (l1 : Value) (x : Nat) (st : List Value) : Ex mX12_next Q 73 [.ref x, l1] st h = Ex mX12_next Q 74 [.ref x, l1] (.ref x :: st) h := Ex_nx rfl rfl
theorem rX12_next_74 (Q : Po) (h : Hp) (ls : List Value) (st : List Value) (a : Nat) : Ex mX12_next Q 74 ls (.ref a :: st) h = (gK h a ∈ ([12] : List Nat) ∧ Ex mX12_next Q 77 ls (gF h 148 a :: st) h) := Ex_gd rfl rfl
theorem rX12_next_77 (Q : Po) (h : Hp) (ls : List Value) (st : List Value) (x y : Int32) : Ex mX12_next Q 77 ls (.int y :: .int x :: st) h = Ex mX12_next Q 78 ls (.int (x - y) :: st) h := Ex_nx rfl rfl
theorem rX12_next_78 (Q : Po) (h : Hp) (ls : List Value) (st : List Value) : Ex mX12_next Q 78 ls st h = Ex mX12_next Q 79 ls (.int 2 :: st) h := Ex_nx rfl rfl
theorem rX12_next_79 (Q : Po) (h : Hp) (ls : List Value) (st : List Value) (x y : Int32) : Ex mX12_next Q 79 ls (.int y :: .int x :: st) h = if y ≤ x then Ex mX12_next Q 100 ls st h else Ex mX12_next Q 82 ls st h := Ex_br rfl rfl
theorem rX12_next_82 (Q : Po) (h : Hp) (ls : List Value) (st : List Value) : Ex mX12_next Q 82 ls st h = Ex mX12_next Q 84 ls (.int 10 :: st) h := Ex_nx rfl rfl
theorem rX12_next_84 (Q : Po) (h : Hp) (l1 : Value) (x : Nat) (st : List Value) : Ex mX12_next Q 84 [.ref x, l1] st h = Ex mX12_next Q 85 [.ref x, l1] (.ref x :: st) h := Ex_nx rfl rfl
theorem rX12_next_85 (Q : Po) (h : Hp) (ls : List Value) (st : List Value) (a : Nat) : Ex mX12_next Q 85 ls (.ref a :: st) h = (gK h a ∈ ([12] : List Nat) ∧ Ex mX12_next Q 88 ls (gF h 150 a :: st) h) := Ex_gd rfl rfl
theorem rX12_next_88 (Q : Po) (h : Hp) (ls : List Value) (st : List Value) (x y : Int32) : Ex mX12_next Q 88 ls (.int y :: .int x :: st) h = Ex mX12_next Q 89 ls (.int (x * y) :: st) h := Ex_nx rfl rfl
theorem rX12_next_89 (Q : Po) (h : Hp) (l1 : Value) (x : Nat) (st : List Value) : Ex mX12_next Q 89 [.ref x, l1] st h = Ex mX12_next Q 90 [.ref x, l1] (.ref x :: st) h := Ex_nx rfl rfl
theorem rX12_next_90 (Q : Po) (h : Hp) (ls : List Value) (s0 s1 : Value) (b : Nat) : Ex mX12_next Q 90 ls (.ref b :: [s0, s1]) h = (gK h b = 12 ∧ Ex mX12_look (Cont mX12_next Q 90 ls 93 [s0, s1]) 0 [.ref b] [] h) := Ex_cg (n := 1) (as := [.ref b]) rfl rfl
theorem rX12_next_93 (Q : Po) (h : Hp) (ls : List Value) (st : List Value) (x y : Int32) : Ex mX12_next Q 93 ls (.int y :: .int x :: st) h = Ex mX12_next Q 94 ls (.int (x + y) :: st) h := Ex_nx rfl rfl
theorem rX12_next_94 (Q : Po) (h : Hp) (ls : List Value) (st : List Value) : Ex mX12_next Q 94 ls st h = Ex mX12_next Q 96 ls (.int 48 :: st) h := Ex_nx rfl rfl
theorem rX12_next_96 (Q : Po) (h : Hp) (ls : List Value) (st : List Value) (x y : Int32) : Ex mX12_next Q 96 ls (.int y :: .int x :: st) h = Ex mX12_next Q 97 ls (.int (x - y) :: st) h := Ex_nx rfl rfl
theorem rX12_next_97 (Q : Po) (h : Hp) (ls : List Value) (st : List Value) : Ex mX12_next Q 97 ls st h = Ex mX12_next Q 104 ls st h := Ex_nx rfl rfl
theorem rX12_next_100 (Q : Po) (h : Hp) (l1 : Value) (x : Nat) (st : List Value) : Ex mX12_next Q 100 [.ref x, l1] st h = Ex mX12_next Q 101 [.ref x, l1] (.ref x :: st) h := Ex_nx rfl rfl
theorem rX12_next_101 (Q : Po) (h : Hp) (ls : List Value) (st : List Value) (a : Nat) : Ex mX12_next Q 101 ls (.ref a :: st) h = (gK h a ∈ ([12] : List Nat) ∧ Ex mX12_next Q 104 ls (gF h 150 a :: st) h) := Ex_gd rfl rfl
theorem rX12_next_104 (Q : Po) (h : Hp) (ls : List Value) (st : List Value) (x : Int32) (a : Nat) : Ex mX12_next Q 104 ls (.int x :: .ref a :: st) h = (gK h a ∈ ([12] : List Nat) ∧ Ex mX12_next Q 107 ls st (pF h 150 a (.int x))) := Ex_gd rfl rfl
theorem rX12_next_107 (Q : Po) (h : Hp) (l1 : Value) (x : Nat) (st : List Value) : Ex mX12_next Q 107 [.ref x, l1] st h = Ex mX12_next Q 108 [.ref x, l1] (.ref x :: st) h := Ex_nx rfl rfl
theorem rX12_next_108 (Q : Po) (h : Hp) (ls : List Value) (st : List Value) (x : Nat) : Ex mX12_next Q 108 ls (.ref x :: st) h = Ex mX12_next Q 109 ls (.ref x :: .ref x :: st) h := Ex_nx rfl rfl
theorem rX12_next_109 (Q : Po) (h : Hp) (ls : List Value) (st : List Value) (a : Nat) : Ex mX12_next Q 109 ls (.ref a :: st) h = (gK h a ∈ ([12] : List Nat) ∧ Ex mX12_next Q 112 ls (gF h 144 a :: st) h) := Ex_gd rfl rfl
theorem rX12_next_112 (Q : Po) (h : Hp) (ls : List Value) (st : List Value) : Ex mX12_next Q 112 ls st h = Ex mX12_next Q 113 ls (.int 1 :: st) h := Ex_nx rfl rfl
theorem rX12_next_113 (Q : Po) (h : Hp) (ls : List Value) (st : List Value) (x y : Int32) : Ex mX12_next Q 113 ls (.int y :: .int x :: st) h = Ex mX12_next Q 114 ls (.int (x + y) :: st) h := Ex_nx rfl rfl
theorem rX12_next_114 (Q : Po) (h : Hp) (ls : List Value) (st : List Value) (x : Int32) (a : Nat) : Ex mX12_next Q 114 ls (.int x :: .ref a :: st) h = (gK h a ∈ ([12] : List Nat) ∧ Ex mX12_next Q 117 ls st (pF h 144 a (.int x))) := Ex_gd rfl rfl
theorem rX12_next_117 (Q : Po) (h : Hp) (ls : List Value) (st : List Value) : Ex mX12_next Q 117 ls st h = Ex mX12_next Q 51 ls st h := Ex_nx rfl rfl
theorem rX12_next_120 (Q : Po) (h : Hp) (l1 : Value) (x : Nat) (st : List Value) : Ex mX12_next Q 120 [.ref x, l1] st h = Ex mX12_next Q 121 [.ref x, l1] (.ref x :: st) h := Ex_nx rfl rfl
theorem rX12_next_121 (Q : Po) (h : Hp) (l1 : Value) (x : Nat) (st : List Value) : Ex mX12_next Q 121 [.ref x, l1] st h = Ex mX12_next Q 122 [.ref x, l1] (.ref x :: st) h := Ex_nx rfl rfl
theorem rX12_next_122 (Q : Po) (h : Hp) (ls : List Value) (st : List Value) (a : Nat) : Ex mX12_next Q 122 ls (.ref a :: st) h = (gK h a ∈ ([12] : List Nat) ∧ Ex mX12_next Q 125 ls (gF h 144 a :: st) h) := Ex_gd rfl rfl
theorem rX12_next_125 (Q : Po) (h : Hp) (l1 : Value) (x : Nat) (st : List Value) : Ex mX12_next Q 125 [.ref x, l1] st h = Ex mX12_next Q 126 [.ref x, l1] (.ref x :: st) h := Ex_nx rfl rfl
theorem rX12_next_126 (Q : Po) (h : Hp) (ls : List Value) (st : List Value) (a : Nat) : Ex mX12_next Q 126 ls (.ref a :: st) h = (gK h a ∈ ([12] : List Nat) ∧ Ex mX12_next Q 129 ls (gF h 148 a :: st) h) := Ex_gd rfl rfl
theorem rX12_next_129 (Q : Po) (h : Hp) (ls : List Value) (st : List Value) (x y : Int32) : Ex mX12_next Q 129 ls (.int y :: .int x :: st) h = Ex mX12_next Q 130 ls (.int (x - y) :: st) h := Ex_nx rfl rfl
theorem rX12_next_130 (Q : Po) (h : Hp) (ls : List Value) (st : List Value) : Ex mX12_next Q 130 ls st h = Ex mX12_next Q 131 ls (.int 2 :: st) h := Ex_nx rfl rfl
theorem rX12_next_131 (Q : Po) (h : Hp) (ls : List Value) (st : List Value) (x y : Int32) : Ex mX12_next Q 131 ls (.int y :: .int x :: st) h = if y < x then Ex mX12_next Q 138 ls st h else Ex mX12_next Q 134 ls st h := Ex_br rfl rfl
theorem rX12_next_134 (Q : Po) (h : Hp) (ls : List Value) (st : List Value) : Ex mX12_next Q 134 ls st h = Ex mX12_next Q 135 ls (.int 2 :: st) h := Ex_nx rfl rfl
theorem rX12_next_135 (Q : Po) (h : Hp) (ls : List Value) (st : List Value) : Ex mX12_next Q 135 ls st h = Ex mX12_next Q 139 ls st h := Ex_nx rfl rfl
theorem rX12_next_138 (Q : Po) (h : Hp) (ls : List Value) (st : List Value) : Ex mX12_next Q 138 ls st h = Ex mX12_next Q 139 ls (.int 5 :: st) h := Ex_nx rfl rfl
theorem rX12_next_139 (Q : Po) (h : Hp) (ls : List Value) (st : List Value) (x : Int32) (a : Nat) : Ex mX12_next Q 139 ls (.int x :: .ref a :: st) h = (gK h a ∈ ([12] : List Nat) ∧ Ex mX12_next Q 142 ls st (pF h 146 a (.int x))) := Ex_gd rfl rfl
theorem rX12_next_142 (Q : Po) (h : Hp) (ls : List Value) (st : List Value) : Ex mX12_next Q 142 ls st h = Ex mX12_next Q 198 ls st h := Ex_nx rfl rfl
theorem rX12_next_145 (Q : Po) (h : Hp) (l1 : Value) (x : Nat) (st : List Value) : Ex mX12_next Q 145 [.ref x, l1] st h = Ex mX12_next Q 146 [.ref x, l1] (.ref x :: st) h := Ex_nx rfl rfl
theorem rX12_next_146 (Q : Po) (h : Hp) (ls : List Value) (st : List Value) (x : Nat) : Ex mX12_next Q 146 ls (.ref x :: st) h = Ex mX12_next Q 147 ls (.ref x :: .ref x :: st) h := Ex_nx rfl rfl
theorem rX12_next_147 (Q : Po) (h : Hp) (ls : List Value) (st : List Value) (a : Nat) : Ex mX12_next Q 147 ls (.ref a :: st) h = (gK h a ∈ ([12] : List Nat) ∧ Ex mX12_next Q 150 ls (gF h 144 a :: st) h) := Ex_gd rfl rfl
theorem rX12_next_150 (Q : Po) (h : Hp) (ls : List Value) (st : List Value) : Ex mX12_next Q 150 ls st h = Ex mX12_next Q 151 ls (.int 1 :: st) h := Ex_nx rfl rfl
theorem rX12_next_151 (Q : Po) (h : Hp) (ls : List Value) (st : List Value) (x y : Int32) : Ex mX12_next Q 151 ls (.int y :: .int x :: st) h = Ex mX12_next Q 152 ls (.int (x + y) :: st) h := Ex_nx rfl rfl
theorem rX12_next_152 (Q : Po) (h : Hp) (ls : List Value) (st : List Value) (x : Int32) (a : Nat) : Ex mX12_next Q 152 ls (.int x :: .ref a :: st) h = (gK h a ∈ ([12] : List Nat) ∧ Ex mX12_next Q 155 ls st (pF h 144 a (.int x))) := Ex_gd rfl rfl
theorem rX12_next_155 (Q : Po) (h : Hp) (l1 : Value) (x : Nat) (st : List Value) : Ex mX12_next Q 155 [.ref x, l1] st h = Ex mX12_next Q 156 [.ref x, l1] (.ref x :: st) h := Ex_nx rfl rfl
theorem rX12_next_156 (Q : Po) (h : Hp) (l0 : Value) (x : Int32) (st : List Value) : Ex mX12_next Q 156 [l0, .int x] st h = Ex mX12_next Q 157 [l0, .int x] (.int x :: st) h := Ex_nx rfl rfl
theorem rX12_next_157 (Q : Po) (h : Hp) (ls : List Value) (st : List Value) (x : Int32) : Ex mX12_next Q 157 ls (.int x :: st) h = Ex mX12_next Q 158 ls (.long x.toInt64 :: st) h := Ex_nx rfl rfl
theorem rX12_next_158 (Q : Po) (h : Hp) (ls : List Value) (st : List Value) : Ex mX12_next Q 158 ls st h = Ex mX12_next Q 161 ls (.long 97 :: st) h := Ex_nx rfl rfl
theorem rX12_next_161 (Q : Po) (h : Hp) (ls : List Value) (st : List Value) : Ex mX12_next Q 161 ls st h = Ex mX12_next Q 164 ls (.long 122 :: st) h := Ex_nx rfl rfl
theorem rX12_next_164 (Q : Po) (h : Hp) (ls : List Value) (a0 : Int64) (a1 : Int64) (a2 : Int64) (s0 : Value) : Ex mX12_next Q 164 ls (.long a2 :: .long a1 :: .long a0 :: [s0]) h = Ex mX0_isIn (Cont mX12_next Q 164 ls 167 [s0]) 0 [.long a0, .retAddr 1, .long a1, .retAddr 1, .long a2, .retAddr 1] [] h := Ex_cl (n := 6) (as := [.long a0, .long a1, .long a2]) rfl rfl
theorem rX12_next_167 (Q : Po) (h : Hp) (ls : List Value) (st : List Value) (x : Int32) : Ex mX12_next Q 167 ls (.int x :: st) h = if x = 0 then Ex mX12_next Q 174 ls st h else Ex mX12_next Q 170 ls st h := Ex_br rfl rfl
theorem rX12_next_170 (Q : Po) (h : Hp) (ls : List Value) (st : List Value) : Ex mX12_next Q 170 ls st h = Ex mX12_next Q 171 ls (.int 1 :: st) h := Ex_nx rfl rfl
theorem rX12_next_171 (Q : Po) (h : Hp) (ls : List Value) (st : List Value) : Ex mX12_next Q 171 ls st h = Ex mX12_next Q 195 ls st h := Ex_nx rfl rfl
theorem rX12_next_174 (Q : Po) (h : Hp) (l0 : Value) (x : Int32) (st : List Value) : Ex mX12_next Q 174 [l0, .int x] st h = Ex mX12_next Q 175 [l0, .int x] (.int x :: st) h := Ex_nx rfl rfl
theorem rX12_next_175 (Q : Po) (h : Hp) (ls : List Value) (st : List Value) : Ex mX12_next Q 175 ls st h = Ex mX12_next Q 177 ls (.int 44 :: st) h := Ex_nx rfl rfl
theorem rX12_next_177 (Q : Po) (h : Hp) (ls : List Value) (st : List Value) (x y : Int32) : Ex mX12_next Q 177 ls (.int y :: .int x :: st) h = if ¬ x = y then Ex mX12_next Q 184 ls st h else Ex mX12_next Q 180 ls st h := Ex_br rfl rfl
theorem rX12_next_180 (Q : Po) (h : Hp) (ls : List Value) (st : List Value) : Ex mX12_next Q 180 ls st h = Ex mX12_next Q 181 ls (.int 3 :: st) h := Ex_nx rfl rfl
theorem rX12_next_181 (Q : Po) (h : Hp) (ls : List Value) (st : List Value) : Ex mX12_next Q 181 ls st h = Ex mX12_next Q 195 ls st h := Ex_nx rfl rfl
theorem rX12_next_184 (Q : Po) (h : Hp) (l0 : Value) (x : Int32) (st : List Value) : Ex mX12_next Q 184 [l0, .int x] st h = Ex mX12_next Q 185 [l0, .int x] (.int x :: st) h := Ex_nx rfl rfl
theorem rX12_next_185 (Q : Po) (h : Hp) (ls : List Value) (st : List Value) : Ex mX12_next Q 185 ls st h = Ex mX12_next Q 187 ls (.int 59 :: st) h := Ex_nx rfl rfl
theorem rX12_next_187 (Q : Po) (h : Hp) (ls : List Value) (st : List Value) (x y : Int32) : Ex mX12_next Q 187 ls (.int y :: .int x :: st) h = if ¬ x = y then Ex mX12_next Q 194 ls st h else Ex mX12_next Q 190 ls st h := Ex_br rfl rfl
theorem rX12_next_190 (Q : Po) (h : Hp) (ls : List Value) (st : List Value) : Ex mX12_next Q 190 ls st h = Ex mX12_next Q 191 ls (.int 4 :: st) h := Ex_nx rfl rfl
theorem rX12_next_191 (Q : Po) (h : Hp) (ls : List Value) (st : List Value) : Ex mX12_next Q 191 ls st h = Ex mX12_next Q 195 ls st h := Ex_nx rfl rfl
theorem rX12_next_194 (Q : Po) (h : Hp) (ls : List Value) (st : List Value) : Ex mX12_next Q 194 ls st h = Ex mX12_next Q 195 ls (.int 5 :: st) h := Ex_nx rfl rfl
theorem rX12_next_195 (Q : Po) (h : Hp) (ls : List Value) (st : List Value) (x : Int32) (a : Nat) : Ex mX12_next Q 195 ls (.int x :: .ref a :: st) h = (gK h a ∈ ([12] : List Nat) ∧ Ex mX12_next Q 198 ls st (pF h 146 a (.int x))) := Ex_gd rfl rfl
theorem rX12_next_198 (Q : Po) (h : Hp) (ls : List Value) : Ex mX12_next Q 198 ls [] h = Q (.inl none) h := Ex_rt rfl rfl
theorem rX12_next_t (Q : Po) (h : Hp) (pc n a : Nat) (ls st : List Value) : Cont mX12_next Q pc ls n st (.inr a) h = Q (.inr a) h := rfl
/-! FishReaders$Reader.isLetter(I)Z -/
def mX12_isLetter : Cd := ([(0, .inl (i_aload 0 1)),
  (1, .inl (i_getf 146 [12] 4)),
  (4, .inl (i_push (.int 1) 5)),
  (5, .inl (i_icmp (fun x y => ¬ x = y) 20 8)),
  (8, .inl (i_aload 0 9)),
  (9, .inl (i_getf 150 [12] 12)),
  (12, .inl (i_iload 1 13)),
  (13, .inl (i_icmp (fun x y => ¬ x = y) 20 16)),
  (16, .inl (i_push (.int 1) 17)),
  (17, .inl (i_goto 21)),
  (20, .inl (i_push (.int 0) 21)),
  (21, .inl i_zret)], noH)
theorem rX12_isLetter_0 (Q : Po) (h : Hp) (l1 : Value) (x : Nat) (st : List Value) : Ex mX12_isLetter Q 0 [.ref x, l1] st h = Ex mX12_isLetter Q 1 [.ref x, l1] (.ref x :: st) h := Ex_nx rfl rfl
theorem rX12_isLetter_1 (Q : Po) (h : Hp) (ls : List Value) (st : List Value) (a : Nat) : Ex mX12_isLetter Q 1 ls (.ref a :: st) h = (gK h a ∈ ([12] : List Nat) ∧ Ex mX12_isLetter Q 4 ls (gF h 146 a :: st) h) := Ex_gd rfl rfl
theorem rX12_isLetter_4 (Q : Po) (h : Hp) (ls : List Value) (st : List Value) : Ex mX12_isLetter Q 4 ls st h = Ex mX12_isLetter Q 5 ls (.int 1 :: st) h := Ex_nx rfl rfl
theorem rX12_isLetter_5 (Q : Po) (h : Hp) (ls : List Value) (st : List Value) (x y : Int32) : Ex mX12_isLetter Q 5 ls (.int y :: .int x :: st) h = if ¬ x = y then Ex mX12_isLetter Q 20 ls st h else Ex mX12_isLetter Q 8 ls st h := Ex_br rfl rfl
theorem rX12_isLetter_8 (Q : Po) (h : Hp) (l1 : Value) (x : Nat) (st : List Value) : Ex mX12_isLetter Q 8 [.ref x, l1] st h = Ex mX12_isLetter Q 9 [.ref x, l1] (.ref x :: st) h := Ex_nx rfl rfl
theorem rX12_isLetter_9 (Q : Po) (h : Hp) (ls : List Value) (st : List Value) (a : Nat) : Ex mX12_isLetter Q 9 ls (.ref a :: st) h = (gK h a ∈ ([12] : List Nat) ∧ Ex mX12_isLetter Q 12 ls (gF h 150 a :: st) h) := Ex_gd rfl rfl
theorem rX12_isLetter_12 (Q : Po) (h : Hp) (l0 : Value) (x : Int32) (st : List Value) : Ex mX12_isLetter Q 12 [l0, .int x] st h = Ex mX12_isLetter Q 13 [l0, .int x] (.int x :: st) h := Ex_nx rfl rfl
theorem rX12_isLetter_13 (Q : Po) (h : Hp) (ls : List Value) (st : List Value) (x y : Int32) : Ex mX12_isLetter Q 13 ls (.int y :: .int x :: st) h = if ¬ x = y then Ex mX12_isLetter Q 20 ls st h else Ex mX12_isLetter Q 16 ls st h := Ex_br rfl rfl
theorem rX12_isLetter_16 (Q : Po) (h : Hp) (ls : List Value) (st : List Value) : Ex mX12_isLetter Q 16 ls st h = Ex mX12_isLetter Q 17 ls (.int 1 :: st) h := Ex_nx rfl rfl
theorem rX12_isLetter_17 (Q : Po) (h : Hp) (ls : List Value) (st : List Value) : Ex mX12_isLetter Q 17 ls st h = Ex mX12_isLetter Q 21 ls st h := Ex_nx rfl rfl
theorem rX12_isLetter_20 (Q : Po) (h : Hp) (ls : List Value) (st : List Value) : Ex mX12_isLetter Q 20 ls st h = Ex mX12_isLetter Q 21 ls (.int 0 :: st) h := Ex_nx rfl rfl
theorem rX12_isLetter_21 (Q : Po) (h : Hp) (ls : List Value) (x : Int32) : Ex mX12_isLetter Q 21 ls [.int x] h = ((x = 0 ∨ x = 1) ∧ Q (.inl (some (.int x))) h) := Ex_rg rfl rfl
theorem rX12_isLetter_t (Q : Po) (h : Hp) (pc n a : Nat) (ls st : List Value) : Cont mX12_isLetter Q pc ls n st (.inr a) h = Q (.inr a) h := rfl
/-! FishReaders$Fault.<init>(II)V -/
def mX13_init : Cd := ([(0, .inl (i_aload 0 1)),
  (1, .inl (i_push (.null) 2)),
  (2, .inl (i_push (.null) 3)),
  (3, .inl (i_push (.int 0) 4)),
  (4, .inl (i_push (.int 0) 5)),
  (5, .inr (c_I 4 8 5 (Mt mJ4_init 5))),
  (8, .inl (i_aload 0 9)),
  (9, .inl (i_iload 1 10)),
  (10, .inl (i_putI 154 [13] 13)),
  (13, .inl (i_aload 0 14)),
  (14, .inl (i_iload 2 15)),
  (15, .inl (i_putI 156 [13] 18)),
  (18, .inl i_vret)], noH)
theorem rX13_init_0 (Q : Po) (h : Hp) (l1 l2 : Value) (x : Nat) (st : List Value) : Ex mX13_init Q 0 [.ref x, l1, l2] st h = Ex mX13_init Q 1 [.ref x, l1, l2] (.ref x :: st) h := Ex_nx rfl rfl
theorem rX13_init_1 (Q : Po) (h : Hp) (ls : List Value) (st : List Value) : Ex mX13_init Q 1 ls st h = Ex mX13_init Q 2 ls (.null :: st) h := Ex_nx rfl rfl
theorem rX13_init_2 (Q : Po) (h : Hp) (ls : List Value) (st : List Value) : Ex mX13_init Q 2 ls st h = Ex mX13_init Q 3 ls (.null :: st) h := Ex_nx rfl rfl
theorem rX13_init_3 (Q : Po) (h : Hp) (ls : List Value) (st : List Value) : Ex mX13_init Q 3 ls st h = Ex mX13_init Q 4 ls (.int 0 :: st) h := Ex_nx rfl rfl
theorem rX13_init_4 (Q : Po) (h : Hp) (ls : List Value) (st : List Value) : Ex mX13_init Q 4 ls st h = Ex mX13_init Q 5 ls (.int 0 :: st) h := Ex_nx rfl rfl
theorem rX13_init_5 (Q : Po) (h : Hp) (ls : List Value) (a2 : Int32) (a3 : Int32) (b : Nat) : Ex mX13_init Q 5 ls (.int a3 :: .int a2 :: .null :: .null :: .ref b :: []) h = Ex mJ4_init (Cont mX13_init Q 5 ls 8 []) 0 [.ref b, .null, .null, .int a2, .int a3] [] h := Ex_cl (n := 5) (as := [.ref b, .null, .null, .int a2, .int a3]) rfl rfl
theorem rX13_init_8 (Q : Po) (h : Hp) (l1 l2 : Value) (x : Nat) (st : List Value) : Ex mX13_init Q 8 [.ref x, l1, l2] st h = Ex mX13_init Q 9 [.ref x, l1, l2] (.ref x :: st) h := Ex_nx rfl rfl
theorem rX13_init_9 (Q : Po) (h : Hp) (l0 l2 : Value) (x : Int32) (st : List Value) : Ex mX13_init Q 9 [l0, .int x, l2] st h = Ex mX13_init Q 10 [l0, .int x, l2] (.int x :: st) h := Ex_nx rfl rfl
theorem rX13_init_10 (Q : Po) (h : Hp) (ls : List Value) (st : List Value) (x : Int32) (a : Nat) : Ex mX13_init Q 10 ls (.int x :: .ref a :: st) h = (gK h a ∈ ([13] : List Nat) ∧ Ex mX13_init Q 13 ls st (pF h 154 a (.int x))) := Ex_gd rfl rfl
theorem rX13_init_13 (Q : Po) (h : Hp) (l1 l2 : Value) (x : Nat) (st : List Value) : Ex mX13_init Q 13 [.ref x, l1, l2] st h = Ex mX13_init Q 14 [.ref x, l1, l2] (.ref x :: st) h := Ex_nx rfl rfl
theorem rX13_init_14 (Q : Po) (h : Hp) (l0 l1 : Value) (x : Int32) (st : List Value) : Ex mX13_init Q 14 [l0, l1, .int x] st h = Ex mX13_init Q 15 [l0, l1, .int x] (.int x :: st) h := Ex_nx rfl rfl
theorem rX13_init_15 (Q : Po) (h : Hp) (ls : List Value) (st : List Value) (x : Int32) (a : Nat) : Ex mX13_init Q 15 ls (.int x :: .ref a :: st) h = (gK h a ∈ ([13] : List Nat) ∧ Ex mX13_init Q 18 ls st (pF h 156 a (.int x))) := Ex_gd rfl rfl
theorem rX13_init_18 (Q : Po) (h : Hp) (ls : List Value) : Ex mX13_init Q 18 ls [] h = Q (.inl none) h := Ex_rt rfl rfl
theorem rX13_init_t (Q : Po) (h : Hp) (pc n a : Nat) (ls st : List Value) : Cont mX13_init Q pc ls n st (.inr a) h = Q (.inr a) h := rfl
/-! FishReaders$Reader.must(ZI)V -/
def mX12_must : Cd := ([(0, .inl (i_iload 1 1)),
  (1, .inl (i_if (fun x => ¬ x = 0) 17 4)),
  (4, .inl (i_new 13 8 7)),
  (7, .inl (i_dup 8)),
  (8, .inl (i_iload 2 9)),
  (9, .inl (i_aload 0 10)),
  (10, .inl (i_getf 148 [12] 13)),
  (13, .inr (c_I 2 16 3 (Mt mX13_init 3))),
  (16, .inl i_thr),
  (17, .inl i_vret)], noH)
theorem rX12_must_0 (Q : Po) (h : Hp) (l0 l2 : Value) (x : Int32) (st : List Value) : Ex mX12_must Q 0 [l0, .int x, l2] st h = Ex mX12_must Q 1 [l0, .int x, l2] (.int x :: st) h := Ex_nx rfl rfl
theorem rX12_must_1 (Q : Po) (h : Hp) (ls : List Value) (st : List Value) (x : Int32) : Ex mX12_must Q 1 ls (.int x :: st) h = if ¬ x = 0 then Ex mX12_must Q 17 ls st h else Ex mX12_must Q 4 ls st h := Ex_br rfl rfl
theorem rX12_must_4 (Q : Po) (h : Hp) (ls : List Value) (st : List Value) : Ex mX12_must Q 4 ls st h = ((1 ≤ gC h ∧ 8 ≤ gS h) ∧ Ex mX12_must Q 7 ls (.ref (gN h) :: st) (nO h 13 8)) := Ex_gd rfl rfl
theorem rX12_must_7 (Q : Po) (h : Hp) (ls : List Value) (st : List Value) (x : Nat) : Ex mX12_must Q 7 ls (.ref x :: st) h = Ex mX12_must Q 8 ls (.ref x :: .ref x :: st) h := Ex_nx rfl rfl
theorem rX12_must_8 (Q : Po) (h : Hp) (l0 l1 : Value) (x : Int32) (st : List Value) : Ex mX12_must Q 8 [l0, l1, .int x] st h = Ex mX12_must Q 9 [l0, l1, .int x] (.int x :: st) h := Ex_nx rfl rfl
theorem rX12_must_9 (Q : Po) (h : Hp) (l1 l2 : Value) (x : Nat) (st : List Value) : Ex mX12_must Q 9 [.ref x, l1, l2] st h = Ex mX12_must Q 10 [.ref x, l1, l2] (.ref x :: st) h := Ex_nx rfl rfl
theorem rX12_must_10 (Q : Po) (h : Hp) (ls : List Value) (st : List Value) (a : Nat) : Ex mX12_must Q 10 ls (.ref a :: st) h = (gK h a ∈ ([12] : List Nat) ∧ Ex mX12_must Q 13 ls (gF h 148 a :: st) h) := Ex_gd rfl rfl
theorem rX12_must_13 (Q : Po) (h : Hp) (ls : List Value) (a0 : Int32) (a1 : Int32) (s0 : Value) (b : Nat) : Ex mX12_must Q 13 ls (.int a1 :: .int a0 :: .ref b :: [s0]) h = Ex mX13_init (Cont mX12_must Q 13 ls 16 [s0]) 0 [.ref b, .int a0, .int a1] [] h := Ex_cl (n := 3) (as := [.ref b, .int a0, .int a1]) rfl rfl
theorem rX12_must_16 (Q : Po) (h : Hp) (ls : List Value) (st : List Value) (a : Nat) : Ex mX12_must Q 16 ls (.ref a :: st) h = Cont mX12_must Q 16 ls 0 [] (.inr a) h := Ex_th rfl rfl
theorem rX12_must_17 (Q : Po) (h : Hp) (ls : List Value) : Ex mX12_must Q 17 ls [] h = Q (.inl none) h := Ex_rt rfl rfl
theorem rX12_must_t (Q : Po) (h : Hp) (pc n a : Nat) (ls st : List Value) : Cont mX12_must Q pc ls n st (.inr a) h = Q (.inr a) h := rfl
/-! FishReaders$Reader.figure(II)I -/
def mX12_figure : Cd := ([(0, .inl (i_aload 0 1)),
  (1, .inl (i_aload 0 2)),
  (2, .inl (i_getf 146 [12] 5)),
  (5, .inl (i_push (.int 2) 6)),
  (6, .inl (i_icmp (fun x y => ¬ x = y) 13 9)),
  (9, .inl (i_push (.int 1) 10)),
  (10, .inl (i_goto 14)),
  (13, .inl (i_push (.int 0) 14)),
  (14, .inl (i_push (.int 1) 15)),
  (15, .inr (c_V 2 18 3 12 (Mt mX12_must 3))),
  (18, .inl (i_aload 0 19)),
  (19, .inl (i_aload 0 20)),
  (20, .inl (i_getf 150 [12] 23)),
  (23, .inl (i_i2l 24)),
  (24, .inl (i_iload 1 25)),
  (25, .inl (i_i2l 26)),
  (26, .inl (i_iload 2 27)),
  (27, .inl (i_i2l 28)),
  (28, .inr (c_S 3 31 6 (Mt mX0_isIn 6))),
  (31, .inl (i_push (.int 2) 32)),
  (32, .inr (c_V 2 35 3 12 (Mt mX12_must 3))),
  (35, .inl (i_aload 0 36)),
  (36, .inl (i_getf 150 [12] 39)),
  (39, .inl (i_istore 3 40)),
  (40, .inl (i_aload 0 41)),
  (41, .inr (c_V 0 44 2 12 (Mt mX12_next 2))),
  (44, .inl (i_iload 3 45)),
  (45, .inl i_iret)], noH)
theorem rX12_figure_0 (Q : Po) (h : Hp) (l1 l2 l3 : Value) (x : Nat) (st : List Value) : Ex mX12_figure Q 0 [.ref x, l1, l2, l3] st h = Ex mX12_figure Q 1 [.ref x, l1, l2, l3] (.ref x :: st) h := Ex_nx rfl rfl
theorem rX12_figure_1 (Q : Po) (h : Hp) (l1 l2 l3 : Value) (x : Nat) (st : List Value) : Ex mX12_figure Q 1 [.ref x, l1, l2, l3] st h = Ex mX12_figure Q 2 [.ref x, l1, l2, l3] (.ref x :: st) h := Ex_nx rfl rfl
theorem rX12_figure_2 (Q : Po) (h : Hp) (ls : List Value) (st : List Value) (a : Nat) : Ex mX12_figure Q 2 ls (.ref a :: st) h = (gK h a ∈ ([12] : List Nat) ∧ Ex mX12_figure Q 5 ls (gF h 146 a :: st) h) := Ex_gd rfl rfl
theorem rX12_figure_5 (Q : Po) (h : Hp) (ls : List Value) (st : List Value) : Ex mX12_figure Q 5 ls st h = Ex mX12_figure Q 6 ls (.int 2 :: st) h := Ex_nx rfl rfl
theorem rX12_figure_6 (Q : Po) (h : Hp) (ls : List Value) (st : List Value) (x y : Int32) : Ex mX12_figure Q 6 ls (.int y :: .int x :: st) h = if ¬ x = y then Ex mX12_figure Q 13 ls st h else Ex mX12_figure Q 9 ls st h := Ex_br rfl rfl
theorem rX12_figure_9 (Q : Po) (h : Hp) (ls : List Value) (st : List Value) : Ex mX12_figure Q 9 ls st h = Ex mX12_figure Q 10 ls (.int 1 :: st) h := Ex_nx rfl rfl
theorem rX12_figure_10 (Q : Po) (h : Hp) (ls : List Value) (st : List Value) : Ex mX12_figure Q 10 ls st h = Ex mX12_figure Q 14 ls st h := Ex_nx rfl rfl
theorem rX12_figure_13 (Q : Po) (h : Hp) (ls : List Value) (st : List Value) : Ex mX12_figure Q 13 ls st h = Ex mX12_figure Q 14 ls (.int 0 :: st) h := Ex_nx rfl rfl
theorem rX12_figure_14 (Q : Po) (h : Hp) (ls : List Value) (st : List Value) : Ex mX12_figure Q 14 ls st h = Ex mX12_figure Q 15 ls (.int 1 :: st) h := Ex_nx rfl rfl
theorem rX12_figure_15 (Q : Po) (h : Hp) (ls : List Value) (a0 : Int32) (a1 : Int32) (b : Nat) : Ex mX12_figure Q 15 ls (.int a1 :: .int a0 :: .ref b :: []) h = (gK h b = 12 ∧ Ex mX12_must (Cont mX12_figure Q 15 ls 18 []) 0 [.ref b, .int a0, .int a1] [] h) := Ex_cg (n := 3) (as := [.ref b, .int a0, .int a1]) rfl rfl
theorem rX12_figure_18 (Q : Po) (h : Hp) (l1 l2 l3 : Value) (x : Nat) (st : List Value) : Ex mX12_figure Q 18 [.ref x, l1, l2, l3] st h = Ex mX12_figure Q 19 [.ref x, l1, l2, l3] (.ref x :: st) h := Ex_nx rfl rfl
theorem rX12_figure_19 (Q : Po) (h : Hp) (l1 l2 l3 : Value) (x : Nat) (st : List Value) : Ex mX12_figure Q 19 [.ref x, l1, l2, l3] st h = Ex mX12_figure Q 20 [.ref x, l1, l2, l3] (.ref x :: st) h := Ex_nx rfl rfl
theorem rX12_figure_20 (Q : Po) (h : Hp) (ls : List Value) (st : List Value) (a : Nat) : Ex mX12_figure Q 20 ls (.ref a :: st) h = (gK h a ∈ ([12] : List Nat) ∧ Ex mX12_figure Q 23 ls (gF h 150 a :: st) h) := Ex_gd rfl rfl
theorem rX12_figure_23 (Q : Po) (h : Hp) (ls : List Value) (st : List Value) (x : Int32) : Ex mX12_figure Q 23 ls (.int x :: st) h = Ex mX12_figure Q 24 ls (.long x.toInt64 :: st) h := Ex_nx rfl rfl
theorem rX12_figure_24 (Q : Po) (h : Hp) (l0 l2 l3 : Value) (x : Int32) (st : List Value) : Ex mX12_figure Q 24 [l0, .int x, l2, l3] st h = Ex mX12_figure Q 25 [l0, .int x, l2, l3] (.int x :: st) h := Ex_nx rfl rfl
theorem rX12_figure_25 (Q : Po) (h : Hp) (ls : List Value) (st : List Value) (x : Int32) : Ex mX12_figure Q 25 ls (.int x :: st) h = Ex mX12_figure Q 26 ls (.long x.toInt64 :: st) h := Ex_nx rfl rfl
theorem rX12_figure_26 (Q : Po) (h : Hp) (l0 l1 l3 : Value) (x : Int32) (st : List Value) : Ex mX12_figure Q 26 [l0, l1, .int x, l3] st h = Ex mX12_figure Q 27 [l0, l1, .int x, l3] (.int x :: st) h := Ex_nx rfl rfl
theorem rX12_figure_27 (Q : Po) (h : Hp) (ls : List Value) (st : List Value) (x : Int32) : Ex mX12_figure Q 27 ls (.int x :: st) h = Ex mX12_figure Q 28 ls (.long x.toInt64 :: st) h := Ex_nx rfl rfl
theorem rX12_figure_28 (Q : Po) (h : Hp) (ls : List Value) (a0 : Int64) (a1 : Int64) (a2 : Int64) (s0 : Value) : Ex mX12_figure Q 28 ls (.long a2 :: .long a1 :: .long a0 :: [s0]) h = Ex mX0_isIn (Cont mX12_figure Q 28 ls 31 [s0]) 0 [.long a0, .retAddr 1, .long a1, .retAddr 1, .long a2, .retAddr 1] [] h := Ex_cl (n := 6) (as := [.long a0, .long a1, .long a2]) rfl rfl
theorem rX12_figure_31 (Q : Po) (h : Hp) (ls : List Value) (st : List Value) : Ex mX12_figure Q 31 ls st h = Ex mX12_figure Q 32 ls (.int 2 :: st) h := Ex_nx rfl rfl
theorem rX12_figure_32 (Q : Po) (h : Hp) (ls : List Value) (a0 : Int32) (a1 : Int32) (b : Nat) : Ex mX12_figure Q 32 ls (.int a1 :: .int a0 :: .ref b :: []) h = (gK h b = 12 ∧ Ex mX12_must (Cont mX12_figure Q 32 ls 35 []) 0 [.ref b, .int a0, .int a1] [] h) := Ex_cg (n := 3) (as := [.ref b, .int a0, .int a1]) rfl rfl
theorem rX12_figure_35 (Q : Po) (h : Hp) (l1 l2 l3 : Value) (x : Nat) (st : List Value) : Ex mX12_figure Q 35 [.ref x, l1, l2, l3] st h = Ex mX12_figure Q 36 [.ref x, l1, l2, l3] (.ref x :: st) h := Ex_nx rfl rfl
theorem rX12_figure_36 (Q : Po) (h : Hp) (ls : List Value) (st : List Value) (a : Nat) : Ex mX12_figure Q 36 ls (.ref a :: st) h = (gK h a ∈ ([12] : List Nat) ∧ Ex mX12_figure Q 39 ls (gF h 150 a :: st) h) := Ex_gd rfl rfl
theorem rX12_figure_39 (Q : Po) (h : Hp) (l0 l1 l2 l3 : Value) (x : Int32) (st : List Value) : Ex mX12_figure Q 39 [l0, l1, l2, l3] (.int x :: st) h = Ex mX12_figure Q 40 [l0, l1, l2, .int x] st h := Ex_nx rfl rfl
theorem rX12_figure_40 (Q : Po) (h : Hp) (l1 l2 l3 : Value) (x : Nat) (st : List Value) : Ex mX12_figure Q 40 [.ref x, l1, l2, l3] st h = Ex mX12_figure Q 41 [.ref x, l1, l2, l3] (.ref x :: st) h := Ex_nx rfl rfl
theorem rX12_figure_41 (Q : Po) (h : Hp) (ls : List Value) (b : Nat) : Ex mX12_figure Q 41 ls (.ref b :: []) h = (gK h b = 12 ∧ Ex mX12_next (Cont mX12_figure Q 41 ls 44 []) 0 [.ref b, .retAddr 0] [] h) := Ex_cg (n := 2) (as := [.ref b]) rfl rfl
theorem rX12_figure_44 (Q : Po) (h : Hp) (l0 l1 l2 : Value) (x : Int32) (st : List Value) : Ex mX12_figure Q 44 [l0, l1, l2, .int x] st h = Ex mX12_figure Q 45 [l0, l1, l2, .int x] (.int x :: st) h := Ex_nx rfl rfl
theorem rX12_figure_45 (Q : Po) (h : Hp) (ls : List Value) (x : Int32) : Ex mX12_figure Q 45 ls [.int x] h = Q (.inl (some (.int x))) h := Ex_rt rfl rfl
theorem rX12_figure_t (Q : Po) (h : Hp) (pc n a : Nat) (ls st : List Value) : Cont mX12_figure Q pc ls n st (.inr a) h = Q (.inr a) h := rfl
/-! FishReaders$Reader.sign(I)V -/
def mX12_sign : Cd := ([(0, .inl (i_aload 0 1)),
  (1, .inl (i_aload 0 2)),
  (2, .inl (i_getf 146 [12] 5)),
  (5, .inl (i_iload 1 6)),
  (6, .inl (i_icmp (fun x y => ¬ x = y) 13 9)),
  (9, .inl (i_push (.int 1) 10)),
  (10, .inl (i_goto 14)),
  (13, .inl (i_push (.int 0) 14)),
  (14, .inl (i_push (.int 1) 15)),
  (15, .inr (c_V 2 18 3 12 (Mt mX12_must 3))),
  (18, .inl (i_aload 0 19)),
  (19, .inr (c_V 0 22 2 12 (Mt mX12_next 2))),
  (22, .inl i_vret)], noH)
theorem rX12_sign_0 (Q : Po) (h : Hp) (l1 : Value) (x : Nat) (st : List Value) : Ex mX12_sign Q 0 [.ref x, l1] st h = Ex mX12_sign Q 1 [.ref x, l1] (.ref x :: st) h := Ex_nx rfl rfl
theorem rX12_sign_1 (Q : Po) (h : Hp) (l1 : Value) (x : Nat) (st : List Value) : Ex mX12_sign Q 1 [.ref x, l1] st h = Ex mX12_sign Q 2 [.ref x, l1] (.ref x :: st) h := Ex_nx rfl rfl
theorem rX12_sign_2 (Q : Po) (h : Hp) (ls : List Value) (st : List Value) (a : Nat) : Ex mX12_sign Q 2 ls (.ref a :: st) h = (gK h a ∈ ([12] : List Nat) ∧ Ex mX12_sign Q 5 ls (gF h 146 a :: st) h) := Ex_gd rfl rfl
theorem rX12_sign_5 (Q : Po) (h : Hp) (l0 : Value) (x : Int32) (st : List Value) : Ex mX12_sign Q 5 [l0, .int x] st h = Ex mX12_sign Q 6 [l0, .int x] (.int x :: st) h := Ex_nx rfl rfl
theorem rX12_sign_6 (Q : Po) (h : Hp) (ls : List Value) (st : List Value) (x y : Int32) : Ex mX12_sign Q 6 ls (.int y :: .int x :: st) h = if ¬ x = y then Ex mX12_sign Q 13 ls st h else Ex mX12_sign Q 9 ls st h := Ex_br rfl rfl
theorem rX12_sign_9 (Q : Po) (h : Hp) (ls : List Value) (st : List Value) : Ex mX12_sign Q 9 ls st h = Ex mX12_sign Q 10 ls (.int 1 :: st) h := Ex_nx rfl rfl
theorem rX12_sign_10 (Q : Po) (h : Hp) (ls : List Value) (st : List Value) : Ex mX12_sign Q 10 ls st h = Ex mX12_sign Q 14 ls st h := Ex_nx rfl rfl
theorem rX12_sign_13 (Q : Po) (h : Hp) (ls : List Value) (st : List Value) : Ex mX12_sign Q 13 ls st h = Ex mX12_sign Q 14 ls (.int 0 :: st) h := Ex_nx rfl rfl
theorem rX12_sign_14 (Q : Po) (h : Hp) (ls : List Value) (st : List Value) : Ex mX12_sign Q 14 ls st h = Ex mX12_sign Q 15 ls (.int 1 :: st) h := Ex_nx rfl rfl
theorem rX12_sign_15 (Q : Po) (h : Hp) (ls : List Value) (a0 : Int32) (a1 : Int32) (b : Nat) : Ex mX12_sign Q 15 ls (.int a1 :: .int a0 :: .ref b :: []) h = (gK h b = 12 ∧ Ex mX12_must (Cont mX12_sign Q 15 ls 18 []) 0 [.ref b, .int a0, .int a1] [] h) := Ex_cg (n := 3) (as := [.ref b, .int a0, .int a1]) rfl rfl
theorem rX12_sign_18 (Q : Po) (h : Hp) (l1 : Value) (x : Nat) (st : List Value) : Ex mX12_sign Q 18 [.ref x, l1] st h = Ex mX12_sign Q 19 [.ref x, l1] (.ref x :: st) h := Ex_nx rfl rfl
theorem rX12_sign_19 (Q : Po) (h : Hp) (ls : List Value) (b : Nat) : Ex mX12_sign Q 19 ls (.ref b :: []) h = (gK h b = 12 ∧ Ex mX12_next (Cont mX12_sign Q 19 ls 22 []) 0 [.ref b, .retAddr 0] [] h) := Ex_cg (n := 2) (as := [.ref b]) rfl rfl
theorem rX12_sign_22 (Q : Po) (h : Hp) (ls : List Value) : Ex mX12_sign Q 22 ls [] h = Q (.inl none) h := Ex_rt rfl rfl
theorem rX12_sign_t (Q : Po) (h : Hp) (pc n a : Nat) (ls st : List Value) : Cont mX12_sign Q pc ls n st (.inr a) h = Q (.inr a) h := rfl
/-! FishReaders$Reader.more(II)I -/
def mX12_more : Cd := ([(0, .inl (i_aload 0 1)),
  (1, .inl (i_push (.int 3) 2)),
  (2, .inr (c_V 1 5 2 12 (Mt mX12_sign 2))),
  (5, .inl (i_aload 0 6)),
  (6, .inl (i_iload 1 7)),
  (7, .inl (i_iload 2 8)),
  (8, .inr (c_V 2 11 4 12 (Mt mX12_figure 4))),
  (11, .inl i_iret)], noH)
theorem rX12_more_0 (Q : Po) (h : Hp) (l1 l2 : Value) (x : Nat) (st : List Value) : Ex mX12_more Q 0 [.ref x, l1, l2] st h = Ex mX12_more Q 1 [.ref x, l1, l2] (.ref x :: st) h := Ex_nx rfl rfl
theorem rX12_more_1 (Q : Po) (h : Hp) (ls : List Value) (st : List Value) : Ex mX12_more Q 1 ls st h = Ex mX12_more Q 2 ls (.int 3 :: st) h := Ex_nx rfl rfl
theorem rX12_more_2 (Q : Po) (h : Hp) (ls : List Value) (a0 : Int32) (b : Nat) : Ex mX12_more Q 2 ls (.int a0 :: .ref b :: []) h = (gK h b = 12 ∧ Ex mX12_sign (Cont mX12_more Q 2 ls 5 []) 0 [.ref b, .int a0] [] h) := Ex_cg (n := 2) (as := [.ref b, .int a0]) rfl rfl
theorem rX12_more_5 (Q : Po) (h : Hp) (l1 l2 : Value) (x : Nat) (st : List Value) : Ex mX12_more Q 5 [.ref x, l1, l2] st h = Ex mX12_more Q 6 [.ref x, l1, l2] (.ref x :: st) h := Ex_nx rfl rfl
theorem rX12_more_6 (Q : Po) (h : Hp) (l0 l2 : Value) (x : Int32) (st : List Value) : Ex mX12_more Q 6 [l0, .int x, l2] st h = Ex mX12_more Q 7 [l0, .int x, l2] (.int x :: st) h := Ex_nx rfl rfl
theorem rX12_more_7 (Q : Po) (h : Hp) (l0 l1 : Value) (x : Int32) (st : List Value) : Ex mX12_more Q 7 [l0, l1, .int x] st h = Ex mX12_more Q 8 [l0, l1, .int x] (.int x :: st) h := Ex_nx rfl rfl
theorem rX12_more_8 (Q : Po) (h : Hp) (ls : List Value) (a0 : Int32) (a1 : Int32) (b : Nat) : Ex mX12_more Q 8 ls (.int a1 :: .int a0 :: .ref b :: []) h = (gK h b = 12 ∧ Ex mX12_figure (Cont mX12_more Q 8 ls 11 []) 0 [.ref b, .int a0, .int a1, .retAddr 0] [] h) := Ex_cg (n := 4) (as := [.ref b, .int a0, .int a1]) rfl rfl
theorem rX12_more_11 (Q : Po) (h : Hp) (ls : List Value) (x : Int32) : Ex mX12_more Q 11 ls [.int x] h = Q (.inl (some (.int x))) h := Ex_rt rfl rfl
theorem rX12_more_t (Q : Po) (h : Hp) (pc n a : Nat) (ls st : List Value) : Cont mX12_more Q pc ls n st (.inr a) h = Q (.inr a) h := rfl
/-! FishReaders$Reader.begin(II)V -/
def mX12_begin : Cd := ([(0, .inl (i_aload 0 1)),
  (1, .inl (i_iload 1 2)),
  (2, .inl (i_iload 2 3)),
  (3, .inl (i_icmp (fun x y => y ≤ x) 10 6)),
  (6, .inl (i_push (.int 1) 7)),
  (7, .inl (i_goto 11)),
  (10, .inl (i_push (.int 0) 11)),
  (11, .inl (i_push (.int 3) 12)),
  (12, .inr (c_V 2 15 3 12 (Mt mX12_must 3))),
  (15, .inl (i_aload 0 16)),
  (16, .inr (c_V 0 19 2 12 (Mt mX12_next 2))),
  (19, .inl i_vret)], noH)
theorem rX12_begin_0 (Q : Po) (h : Hp) (l1 l2 : Value) (x : Nat) (st : List Value) : Ex mX12_begin Q 0 [.ref x, l1, l2] st h = Ex mX12_begin Q 1 [.ref x, l1, l2] (.ref x :: st) h := Ex_nx rfl rfl
theorem rX12_begin_1 (Q : Po) (h : Hp) (l0 l2 : Value) (x : Int32) (st : List Value) : Ex mX12_begin Q 1 [l0, .int x, l2] st h = Ex mX12_begin Q 2 [l0, .int x, l2] (.int x :: st) h := Ex_nx rfl rfl
theorem rX12_begin_2 (Q : Po) (h : Hp) (l0 l1 : Value) (x : Int32) (st : List Value) : Ex mX12_begin Q 2 [l0, l1, .int x] st h = Ex mX12_begin Q 3 [l0, l1, .int x] (.int x :: st) h := Ex_nx rfl rfl
theorem rX12_begin_3 (Q : Po) (h : Hp) (ls : List Value) (st : List Value) (x y : Int32) : Ex mX12_begin Q 3 ls (.int y :: .int x :: st) h = if y ≤ x then Ex mX12_begin Q 10 ls st h else Ex mX12_begin Q 6 ls st h := Ex_br rfl rfl
theorem rX12_begin_6 (Q : Po) (h : Hp) (ls : List Value) (st : List Value) : Ex mX12_begin Q 6 ls st h = Ex mX12_begin Q 7 ls (.int 1 :: st) h := Ex_nx rfl rfl
theorem rX12_begin_7 (Q : Po) (h : Hp) (ls : List Value) (st : List Value) : Ex mX12_begin Q 7 ls st h = Ex mX12_begin Q 11 ls st h := Ex_nx rfl rfl
theorem rX12_begin_10 (Q : Po) (h : Hp) (ls : List Value) (st : List Value) : Ex mX12_begin Q 10 ls st h = Ex mX12_begin Q 11 ls (.int 0 :: st) h := Ex_nx rfl rfl
theorem rX12_begin_11 (Q : Po) (h : Hp) (ls : List Value) (st : List Value) : Ex mX12_begin Q 11 ls st h = Ex mX12_begin Q 12 ls (.int 3 :: st) h := Ex_nx rfl rfl
theorem rX12_begin_12 (Q : Po) (h : Hp) (ls : List Value) (a0 : Int32) (a1 : Int32) (b : Nat) : Ex mX12_begin Q 12 ls (.int a1 :: .int a0 :: .ref b :: []) h = (gK h b = 12 ∧ Ex mX12_must (Cont mX12_begin Q 12 ls 15 []) 0 [.ref b, .int a0, .int a1] [] h) := Ex_cg (n := 3) (as := [.ref b, .int a0, .int a1]) rfl rfl
theorem rX12_begin_15 (Q : Po) (h : Hp) (l1 l2 : Value) (x : Nat) (st : List Value) : Ex mX12_begin Q 15 [.ref x, l1, l2] st h = Ex mX12_begin Q 16 [.ref x, l1, l2] (.ref x :: st) h := Ex_nx rfl rfl
theorem rX12_begin_16 (Q : Po) (h : Hp) (ls : List Value) (b : Nat) : Ex mX12_begin Q 16 ls (.ref b :: []) h = (gK h b = 12 ∧ Ex mX12_next (Cont mX12_begin Q 16 ls 19 []) 0 [.ref b, .retAddr 0] [] h) := Ex_cg (n := 2) (as := [.ref b]) rfl rfl
theorem rX12_begin_19 (Q : Po) (h : Hp) (ls : List Value) : Ex mX12_begin Q 19 ls [] h = Q (.inl none) h := Ex_rt rfl rfl
theorem rX12_begin_t (Q : Po) (h : Hp) (pc n a : Nat) (ls st : List Value) : Cont mX12_begin Q pc ls n st (.inr a) h = Q (.inr a) h := rfl
/-! FishReaders$Library.puts(II)V -/
def mX1_puts : Cd := ([(0, .inl (i_aload 0 1)),
  (1, .inl (i_getf 45 [2] 4)),
  (4, .inl (i_iload 1 5)),
  (5, .inl (i_iload 2 6)),
  (6, .inl (i_iast 51 (fun x => x) 7)),
  (7, .inl (i_aload 0 8)),
  (8, .inl (i_getf 43 [2] 11)),
  (11, .inl (i_iload 2 12)),
  (12, .inl (i_iload 1 13)),
  (13, .inl (i_iast 51 (fun x => x) 14)),
  (14, .inl i_vret)], noH)
theorem rX1_puts_0 (Q : Po) (h : Hp) (l1 l2 : Value) (x : Nat) (st : List Value) : Ex mX1_puts Q 0 [.ref x, l1, l2] st h = Ex mX1_puts Q 1 [.ref x, l1, l2] (.ref x :: st) h := Ex_nx rfl rfl
theorem rX1_puts_1 (Q : Po) (h : Hp) (ls : List Value) (st : List Value) (a : Nat) : Ex mX1_puts Q 1 ls (.ref a :: st) h = (gK h a ∈ ([2] : List Nat) ∧ Ex mX1_puts Q 4 ls (gF h 45 a :: st) h) := Ex_gd rfl rfl
theorem rX1_puts_4 (Q : Po) (h : Hp) (l0 l2 : Value) (x : Int32) (st : List Value) : Ex mX1_puts Q 4 [l0, .int x, l2] st h = Ex mX1_puts Q 5 [l0, .int x, l2] (.int x :: st) h := Ex_nx rfl rfl
theorem rX1_puts_5 (Q : Po) (h : Hp) (l0 l1 : Value) (x : Int32) (st : List Value) : Ex mX1_puts Q 5 [l0, l1, .int x] st h = Ex mX1_puts Q 6 [l0, l1, .int x] (.int x :: st) h := Ex_nx rfl rfl
theorem rX1_puts_6 (Q : Po) (h : Hp) (ls : List Value) (st : List Value) (a : Nat) (i x : Int32) : Ex mX1_puts Q 6 ls (.int x :: .int i :: .ref a :: st) h = ((gK h a = 51 ∧ ¬ (i < 0 ∨ gL h a ≤ i.toNatClampNeg)) ∧ Ex mX1_puts Q 7 ls st (pI h a i.toNatClampNeg (x))) := Ex_gd rfl rfl
theorem rX1_puts_7 (Q : Po) (h : Hp) (l1 l2 : Value) (x : Nat) (st : List Value) : Ex mX1_puts Q 7 [.ref x, l1, l2] st h = Ex mX1_puts Q 8 [.ref x, l1, l2] (.ref x :: st) h := Ex_nx rfl rfl
theorem rX1_puts_8 (Q : Po) (h : Hp) (ls : List Value) (st : List Value) (a : Nat) : Ex mX1_puts Q 8 ls (.ref a :: st) h = (gK h a ∈ ([2] : List Nat) ∧ Ex mX1_puts Q 11 ls (gF h 43 a :: st) h) := Ex_gd rfl rfl
theorem rX1_puts_11 (Q : Po) (h : Hp) (l0 l1 : Value) (x : Int32) (st : List Value) : Ex mX1_puts Q 11 [l0, l1, .int x] st h = Ex mX1_puts Q 12 [l0, l1, .int x] (.int x :: st) h := Ex_nx rfl rfl
theorem rX1_puts_12 (Q : Po) (h : Hp) (l0 l2 : Value) (x : Int32) (st : List Value) : Ex mX1_puts Q 12 [l0, .int x, l2] st h = Ex mX1_puts Q 13 [l0, .int x, l2] (.int x :: st) h := Ex_nx rfl rfl
theorem rX1_puts_13 (Q : Po) (h : Hp) (ls : List Value) (st : List Value) (a : Nat) (i x : Int32) : Ex mX1_puts Q 13 ls (.int x :: .int i :: .ref a :: st) h = ((gK h a = 51 ∧ ¬ (i < 0 ∨ gL h a ≤ i.toNatClampNeg)) ∧ Ex mX1_puts Q 14 ls st (pI h a i.toNatClampNeg (x))) := Ex_gd rfl rfl
theorem rX1_puts_14 (Q : Po) (h : Hp) (ls : List Value) : Ex mX1_puts Q 14 ls [] h = Q (.inl none) h := Ex_rt rfl rfl
theorem rX1_puts_t (Q : Po) (h : Hp) (pc n a : Nat) (ls st : List Value) : Cont mX1_puts Q pc ls n st (.inr a) h = Q (.inr a) h := rfl
/-! FishReaders$Reader.book()V -/
def mX12_book : Cd := ([(0, .inl (i_aload 0 1)),
  (1, .inl (i_getf 153 [12] 4)),
  (4, .inl (i_getf 36 [2] 7)),
  (7, .inl (i_istore 1 8)),
  (8, .inl (i_aload 0 9)),
  (9, .inl (i_iload 1 10)),
  (10, .inl (i_push (.int 6) 12)),
  (12, .inr (c_V 2 15 3 12 (Mt mX12_begin 3))),
  (15, .inl (i_aload 0 16)),
  (16, .inl (i_getf 153 [12] 19)),
  (19, .inl (i_getf 39 [2] 22)),
  (22, .inl (i_iload 1 23)),
  (23, .inl (i_aload 0 24)),
  (24, .inl (i_push (.int 0) 25)),
  (25, .inl (i_push (.int 99) 27)),
  (27, .inr (c_V 2 30 4 12 (Mt mX12_figure 4))),
  (30, .inl (i_iast 51 (fun x => x) 31)),
  (31, .inl (i_aload 0 32)),
  (32, .inl (i_getf 153 [12] 35)),
  (35, .inl (i_getf 41 [2] 38)),
  (38, .inl (i_iload 1 39)),
  (39, .inl (i_aload 0 40)),
  (40, .inl (i_push (.int 0) 41)),
  (41, .inl (i_push (.int 9) 43)),
  (43, .inr (c_V 2 46 3 12 (Mt mX12_more 3))),
  (46, .inl (i_iast 51 (fun x => x) 47)),
  (47, .inl (i_aload 0 48)),
  (48, .inl (i_getf 153 [12] 51)),
  (51, .inl (i_iload 1 52)),
  (52, .inl (i_iload 1 53)),
  (53, .inr (c_V 2 56 3 2 (Mt mX1_puts 3))),
  (56, .inl (i_aload 0 57)),
  (57, .inl (i_getf 153 [12] 60)),
  (60, .inl (i_dup 61)),
  (61, .inl (i_getf 36 [2] 64)),
  (64, .inl (i_push (.int 1) 65)),
  (65, .inl (i_bin (fun x y => x + y) 66)),
  (66, .inl (i_putI 36 [2] 69)),
  (69, .inl (i_aload 0 70)),
  (70, .inl (i_push (.int 4) 71)),
  (71, .inr (c_V 1 74 2 12 (Mt mX12_sign 2))),
  (74, .inl i_vret)], noH)
theorem rX12_book_0 (Q : Po) (h : Hp) (l1 : Value) (x : Nat) (st : List Value) : Ex mX12_book Q 0 [.ref x, l1] st h = Ex mX12_book Q 1 [.ref x, l1] (.ref x :: st) h := Ex_nx rfl rfl
theorem rX12_book_1 (Q : Po) (h : Hp) (ls : List Value) (st : List Value) (a : Nat) : Ex mX12_book Q 1 ls (.ref a :: st) h = (gK h a ∈ ([12] : List Nat) ∧ Ex mX12_book Q 4 ls (gF h 153 a :: st) h) := Ex_gd rfl rfl
theorem rX12_book_4 (Q : Po) (h : Hp) (ls : List Value) (st : List Value) (a : Nat) : Ex mX12_book Q 4 ls (.ref a :: st) h = (gK h a ∈ ([2] : List Nat) ∧ Ex mX12_book Q 7 ls (gF h 36 a :: st) h) := Ex_gd rfl rfl
theorem rX12_book_7 (Q : Po) (h : Hp) (l0 l1 : Value) (x : Int32) (st : List Value) : Ex mX12_book Q 7 [l0, l1] (.int x :: st) h = Ex mX12_book Q 8 [l0, .int x] st h := Ex_nx rfl rfl
theorem rX12_book_8 (Q : Po) (h : Hp) (l1 : Value) (x : Nat) (st : List Value) : Ex mX12_book Q 8 [.ref x, l1] st h = Ex mX12_book Q 9 [.ref x, l1] (.ref x :: st) h := Ex_nx rfl rfl
theorem rX12_book_9 (Q : Po) (h : Hp) (l0 : Value) (x : Int32) (st : List Value) : Ex mX12_book Q 9 [l0, .int x] st h = Ex mX12_book Q 10 [l0, .int x] (.int x :: st) h := Ex_nx rfl rfl
theorem rX12_book_10 (Q : Po) (h : Hp) (ls : List Value) (st : List Value) : Ex mX12_book Q 10 ls st h = Ex mX12_book Q 12 ls (.int 6 :: st) h := Ex_nx rfl rfl
theorem rX12_book_12 (Q : Po) (h : Hp) (ls : List Value) (a0 : Int32) (a1 : Int32) (b : Nat) : Ex mX12_book Q 12 ls (.int a1 :: .int a0 :: .ref b :: []) h = (gK h b = 12 ∧ Ex mX12_begin (Cont mX12_book Q 12 ls 15 []) 0 [.ref b, .int a0, .int a1] [] h) := Ex_cg (n := 3) (as := [.ref b, .int a0, .int a1]) rfl rfl
theorem rX12_book_15 (Q : Po) (h : Hp) (l1 : Value) (x : Nat) (st : List Value) : Ex mX12_book Q 15 [.ref x, l1] st h = Ex mX12_book Q 16 [.ref x, l1] (.ref x :: st) h := Ex_nx rfl rfl
theorem rX12_book_16 (Q : Po) (h : Hp) (ls : List Value) (st : List Value) (a : Nat) : Ex mX12_book Q 16 ls (.ref a :: st) h = (gK h a ∈ ([12] : List Nat) ∧ Ex mX12_book Q 19 ls (gF h 153 a :: st) h) := Ex_gd rfl rfl
theorem rX12_book_19 (Q : Po) (h : Hp) (ls : List Value) (st : List Value) (a : Nat) : Ex mX12_book Q 19 ls (.ref a :: st) h = (gK h a ∈ ([2] : List Nat) ∧ Ex mX12_book Q 22 ls (gF h 39 a :: st) h) := Ex_gd rfl rfl
theorem rX12_book_22 (Q : Po) (h : Hp) (l0 : Value) (x : Int32) (st : List Value) : Ex mX12_book Q 22 [l0, .int x] st h = Ex mX12_book Q 23 [l0, .int x] (.int x :: st) h := Ex_nx rfl rfl
theorem rX12_book_23 (Q : Po) (h : Hp) (l1 : Value) (x : Nat) (st : List Value) : Ex mX12_book Q 23 [.ref x, l1] st h = Ex mX12_book Q 24 [.ref x, l1] (.ref x :: st) h := Ex_nx rfl rfl
theorem rX12_book_24 (Q : Po) (h : Hp) (ls : List Value) (st : List Value) : Ex mX12_book Q 24 ls st h = Ex mX12_book Q 25 ls (.int 0 :: st) h := Ex_nx rfl rfl
theorem rX12_book_25 (Q : Po) (h : Hp) (ls : List Value) (st : List Value) : Ex mX12_book Q 25 ls st h = Ex mX12_book Q 27 ls (.int 99 :: st) h := Ex_nx rfl rfl
theorem rX12_book_27 (Q : Po) (h : Hp) (ls : List Value) (a0 : Int32) (a1 : Int32) (s0 s1 : Value) (b : Nat) : Ex mX12_book Q 27 ls (.int a1 :: .int a0 :: .ref b :: [s0, s1]) h = (gK h b = 12 ∧ Ex mX12_figure (Cont mX12_book Q 27 ls 30 [s0, s1]) 0 [.ref b, .int a0, .int a1, .retAddr 0] [] h) := Ex_cg (n := 4) (as := [.ref b, .int a0, .int a1]) rfl rfl
theorem rX12_book_30 (Q : Po) (h : Hp) (ls : List Value) (st : List Value) (a : Nat) (i x : Int32) : Ex mX12_book Q 30 ls (.int x :: .int i :: .ref a :: st) h = ((gK h a = 51 ∧ ¬ (i < 0 ∨ gL h a ≤ i.toNatClampNeg)) ∧ Ex mX12_book Q 31 ls st (pI h a i.toNatClampNeg (x))) := Ex_gd rfl rfl
theorem rX12_book_31 (Q : Po) (h : Hp) (l1 : Value) (x : Nat) (st : List Value) : Ex mX12_book Q 31 [.ref x, l1] st h = Ex mX12_book Q 32 [.ref x, l1] (.ref x :: st) h := Ex_nx rfl rfl
theorem rX12_book_32 (Q : Po) (h : Hp) (ls : List Value) (st : List Value) (a : Nat) : Ex mX12_book Q 32 ls (.ref a :: st) h = (gK h a ∈ ([12] : List Nat) ∧ Ex mX12_book Q 35 ls (gF h 153 a :: st) h) := Ex_gd rfl rfl
theorem rX12_book_35 (Q : Po) (h : Hp) (ls : List Value) (st : List Value) (a : Nat) : Ex mX12_book Q 35 ls (.ref a :: st) h = (gK h a ∈ ([2] : List Nat) ∧ Ex mX12_book Q 38 ls (gF h 41 a :: st) h) := Ex_gd rfl rfl
theorem rX12_book_38 (Q : Po) (h : Hp) (l0 : Value) (x : Int32) (st : List Value) : Ex mX12_book Q 38 [l0, .int x] st h = Ex mX12_book Q 39 [l0, .int x] (.int x :: st) h := Ex_nx rfl rfl
theorem rX12_book_39 (Q : Po) (h : Hp) (l1 : Value) (x : Nat) (st : List Value) : Ex mX12_book Q 39 [.ref x, l1] st h = Ex mX12_book Q 40 [.ref x, l1] (.ref x :: st) h := Ex_nx rfl rfl
theorem rX12_book_40 (Q : Po) (h : Hp) (ls : List Value) (st : List Value) : Ex mX12_book Q 40 ls st h = Ex mX12_book Q 41 ls (.int 0 :: st) h := Ex_nx rfl rfl
theorem rX12_book_41 (Q : Po) (h : Hp) (ls : List Value) (st : List Value) : Ex mX12_book Q 41 ls st h = Ex mX12_book Q 43 ls (.int 9 :: st) h := Ex_nx rfl rfl
theorem rX12_book_43 (Q : Po) (h : Hp) (ls : List Value) (a0 : Int32) (a1 : Int32) (s0 s1 : Value) (b : Nat) : Ex mX12_book Q 43 ls (.int a1 :: .int a0 :: .ref b :: [s0, s1]) h = (gK h b = 12 ∧ Ex mX12_more (Cont mX12_book Q 43 ls 46 [s0, s1]) 0 [.ref b, .int a0, .int a1] [] h) := Ex_cg (n := 3) (as := [.ref b, .int a0, .int a1]) rfl rfl
theorem rX12_book_46 (Q : Po) (h : Hp) (ls : List Value) (st : List Value) (a : Nat) (i x : Int32) : Ex mX12_book Q 46 ls (.int x :: .int i :: .ref a :: st) h = ((gK h a = 51 ∧ ¬ (i < 0 ∨ gL h a ≤ i.toNatClampNeg)) ∧ Ex mX12_book Q 47 ls st (pI h a i.toNatClampNeg (x))) := Ex_gd rfl rfl
theorem rX12_book_47 (Q : Po) (h : Hp) (l1 : Value) (x : Nat) (st : List Value) : Ex mX12_book Q 47 [.ref x, l1] st h = Ex mX12_book Q 48 [.ref x, l1] (.ref x :: st) h := Ex_nx rfl rfl
theorem rX12_book_48 (Q : Po) (h : Hp) (ls : List Value) (st : List Value) (a : Nat) : Ex mX12_book Q 48 ls (.ref a :: st) h = (gK h a ∈ ([12] : List Nat) ∧ Ex mX12_book Q 51 ls (gF h 153 a :: st) h) := Ex_gd rfl rfl
theorem rX12_book_51 (Q : Po) (h : Hp) (l0 : Value) (x : Int32) (st : List Value) : Ex mX12_book Q 51 [l0, .int x] st h = Ex mX12_book Q 52 [l0, .int x] (.int x :: st) h := Ex_nx rfl rfl
theorem rX12_book_52 (Q : Po) (h : Hp) (l0 : Value) (x : Int32) (st : List Value) : Ex mX12_book Q 52 [l0, .int x] st h = Ex mX12_book Q 53 [l0, .int x] (.int x :: st) h := Ex_nx rfl rfl
theorem rX12_book_53 (Q : Po) (h : Hp) (ls : List Value) (a0 : Int32) (a1 : Int32) (b : Nat) : Ex mX12_book Q 53 ls (.int a1 :: .int a0 :: .ref b :: []) h = (gK h b = 2 ∧ Ex mX1_puts (Cont mX12_book Q 53 ls 56 []) 0 [.ref b, .int a0, .int a1] [] h) := Ex_cg (n := 3) (as := [.ref b, .int a0, .int a1]) rfl rfl
theorem rX12_book_56 (Q : Po) (h : Hp) (l1 : Value) (x : Nat) (st : List Value) : Ex mX12_book Q 56 [.ref x, l1] st h = Ex mX12_book Q 57 [.ref x, l1] (.ref x :: st) h := Ex_nx rfl rfl
theorem rX12_book_57 (Q : Po) (h : Hp) (ls : List Value) (st : List Value) (a : Nat) : Ex mX12_book Q 57 ls (.ref a :: st) h = (gK h a ∈ ([12] : List Nat) ∧ Ex mX12_book Q 60 ls (gF h 153 a :: st) h) := Ex_gd rfl rfl
theorem rX12_book_60 (Q : Po) (h : Hp) (ls : List Value) (st : List Value) (x : Nat) : Ex mX12_book Q 60 ls (.ref x :: st) h = Ex mX12_book Q 61 ls (.ref x :: .ref x :: st) h := Ex_nx rfl rfl
theorem rX12_book_61 (Q : Po) (h : Hp) (ls : List Value) (st : List Value) (a : Nat) : Ex mX12_book Q 61 ls (.ref a :: st) h = (gK h a ∈ ([2] : List Nat) ∧ Ex mX12_book Q 64 ls (gF h 36 a :: st) h) := Ex_gd rfl rfl
theorem rX12_book_64 (Q : Po) (h : Hp) (ls : List Value) (st : List Value) : Ex mX12_book Q 64 ls st h = Ex mX12_book Q 65 ls (.int 1 :: st) h := Ex_nx rfl rfl
theorem rX12_book_65 (Q : Po) (h : Hp) (ls : List Value) (st : List Value) (x y : Int32) : Ex mX12_book Q 65 ls (.int y :: .int x :: st) h = Ex mX12_book Q 66 ls (.int (x + y) :: st) h := Ex_nx rfl rfl
theorem rX12_book_66 (Q : Po) (h : Hp) (ls : List Value) (st : List Value) (x : Int32) (a : Nat) : Ex mX12_book Q 66 ls (.int x :: .ref a :: st) h = (gK h a ∈ ([2] : List Nat) ∧ Ex mX12_book Q 69 ls st (pF h 36 a (.int x))) := Ex_gd rfl rfl
theorem rX12_book_69 (Q : Po) (h : Hp) (l1 : Value) (x : Nat) (st : List Value) : Ex mX12_book Q 69 [.ref x, l1] st h = Ex mX12_book Q 70 [.ref x, l1] (.ref x :: st) h := Ex_nx rfl rfl
theorem rX12_book_70 (Q : Po) (h : Hp) (ls : List Value) (st : List Value) : Ex mX12_book Q 70 ls st h = Ex mX12_book Q 71 ls (.int 4 :: st) h := Ex_nx rfl rfl
theorem rX12_book_71 (Q : Po) (h : Hp) (ls : List Value) (a0 : Int32) (b : Nat) : Ex mX12_book Q 71 ls (.int a0 :: .ref b :: []) h = (gK h b = 12 ∧ Ex mX12_sign (Cont mX12_book Q 71 ls 74 []) 0 [.ref b, .int a0] [] h) := Ex_cg (n := 2) (as := [.ref b, .int a0]) rfl rfl
theorem rX12_book_74 (Q : Po) (h : Hp) (ls : List Value) : Ex mX12_book Q 74 ls [] h = Q (.inl none) h := Ex_rt rfl rfl
theorem rX12_book_t (Q : Po) (h : Hp) (pc n a : Nat) (ls st : List Value) : Cont mX12_book Q pc ls n st (.inr a) h = Q (.inr a) h := rfl
/-! java/lang/String.coder()B -/
def mJ8_coder : Cd := ([(0, .inl (i_gets 1006 3)),
  (3, .inl (i_if (fun x => x = 0) 13 6)),
  (6, .inl (i_aload 0 7)),
  (7, .inl (i_getf 166 [60] 10)),
  (10, .inl (i_goto 14)),
  (13, .inl (i_push (.int 1) 14)),
  (14, .inl i_bret)], noH)
theorem rJ8_coder_0 (Q : Po) (h : Hp) (ls : List Value) (st : List Value) : Ex mJ8_coder Q 0 ls st h = Ex mJ8_coder Q 3 ls (gF h 1006 0 :: st) h := Ex_nx rfl rfl
theorem rJ8_coder_3 (Q : Po) (h : Hp) (ls : List Value) (st : List Value) (x : Int32) : Ex mJ8_coder Q 3 ls (.int x :: st) h = if x = 0 then Ex mJ8_coder Q 13 ls st h else Ex mJ8_coder Q 6 ls st h := Ex_br rfl rfl
theorem rJ8_coder_6 (Q : Po) (h : Hp) (x : Nat) (st : List Value) : Ex mJ8_coder Q 6 [.ref x] st h = Ex mJ8_coder Q 7 [.ref x] (.ref x :: st) h := Ex_nx rfl rfl
theorem rJ8_coder_6n (Q : Po) (h : Hp) (st : List Value) : Ex mJ8_coder Q 6 [.null] st h = Ex mJ8_coder Q 7 [.null] (.null :: st) h := Ex_nx rfl rfl
theorem rJ8_coder_7 (Q : Po) (h : Hp) (ls : List Value) (st : List Value) (a : Nat) : Ex mJ8_coder Q 7 ls (.ref a :: st) h = (gK h a ∈ ([60] : List Nat) ∧ Ex mJ8_coder Q 10 ls (gF h 166 a :: st) h) := Ex_gd rfl rfl
theorem rJ8_coder_10 (Q : Po) (h : Hp) (ls : List Value) (st : List Value) : Ex mJ8_coder Q 10 ls st h = Ex mJ8_coder Q 14 ls st h := Ex_nx rfl rfl
theorem rJ8_coder_13 (Q : Po) (h : Hp) (ls : List Value) (st : List Value) : Ex mJ8_coder Q 13 ls st h = Ex mJ8_coder Q 14 ls (.int 1 :: st) h := Ex_nx rfl rfl
theorem rJ8_coder_14 (Q : Po) (h : Hp) (ls : List Value) (x : Int32) : Ex mJ8_coder Q 14 ls [.int x] h = (x.toInt8.toInt32 = x ∧ Q (.inl (some (.int x))) h) := Ex_rg rfl rfl
theorem rJ8_coder_t (Q : Po) (h : Hp) (pc n a : Nat) (ls st : List Value) : Cont mJ8_coder Q pc ls n st (.inr a) h = Q (.inr a) h := rfl
/-! java/lang/String.length()I -/
def mJ8_length : Cd := ([(0, .inl (i_aload 0 1)),
  (1, .inl (i_getf 165 [60] 4)),
  (4, .inl (i_alen [61] 5)),
  (5, .inl (i_aload 0 6)),
  (6, .inr (c_V 0 9 1 60 (Mt mJ8_coder 1))),
  (9, .inl (i_bin (fun x y => x >>> (y &&& 31)) 10)),
  (10, .inl i_iret)], noH)
theorem rJ8_length_0 (Q : Po) (h : Hp) (x : Nat) (st : List Value) : Ex mJ8_length Q 0 [.ref x] st h = Ex mJ8_length Q 1 [.ref x] (.ref x :: st) h := Ex_nx rfl rfl
theorem rJ8_length_0n (Q : Po) (h : Hp) (st : List Value) : Ex mJ8_length Q 0 [.null] st h = Ex mJ8_length Q 1 [.null] (.null :: st) h := Ex_nx rfl rfl
theorem rJ8_length_1 (Q : Po) (h : Hp) (ls : List Value) (st : List Value) (a : Nat) : Ex mJ8_length Q 1 ls (.ref a :: st) h = (gK h a ∈ ([60] : List Nat) ∧ Ex mJ8_length Q 4 ls (gF h 165 a :: st) h) := Ex_gd rfl rfl
theorem rJ8_length_4 (Q : Po) (h : Hp) (ls : List Value) (st : List Value) (a : Nat) : Ex mJ8_length Q 4 ls (.ref a :: st) h = (gK h a ∈ ([61] : List Nat) ∧ Ex mJ8_length Q 5 ls (.int (nI (gL h a)) :: st) h) := Ex_gd rfl rfl
theorem rJ8_length_5 (Q : Po) (h : Hp) (x : Nat) (st : List Value) : Ex mJ8_length Q 5 [.ref x] st h = Ex mJ8_length Q 6 [.ref x] (.ref x :: st) h := Ex_nx rfl rfl
theorem rJ8_length_5n (Q : Po) (h : Hp) (st : List Value) : Ex mJ8_length Q 5 [.null] st h = Ex mJ8_length Q 6 [.null] (.null :: st) h := Ex_nx rfl rfl
theorem rJ8_length_6 (Q : Po) (h : Hp) (ls : List Value) (s0 : Value) (b : Nat) : Ex mJ8_length Q 6 ls (.ref b :: [s0]) h = (gK h b = 60 ∧ Ex mJ8_coder (Cont mJ8_length Q 6 ls 9 [s0]) 0 [.ref b] [] h) := Ex_cg (n := 1) (as := [.ref b]) rfl rfl
theorem rJ8_length_9 (Q : Po) (h : Hp) (ls : List Value) (st : List Value) (x y : Int32) : Ex mJ8_length Q 9 ls (.int y :: .int x :: st) h = Ex mJ8_length Q 10 ls (.int (x >>> (y &&& 31)) :: st) h := Ex_nx rfl rfl
theorem rJ8_length_10 (Q : Po) (h : Hp) (ls : List Value) (x : Int32) : Ex mJ8_length Q 10 ls [.int x] h = Q (.inl (some (.int x))) h := Ex_rt rfl rfl
theorem rJ8_length_t (Q : Po) (h : Hp) (pc n a : Nat) (ls st : List Value) : Cont mJ8_length Q pc ls n st (.inr a) h = Q (.inr a) h := rfl
/-! java/lang/String.isLatin1()Z -/
def mJ8_isLatin1 : Cd := ([(0, .inl (i_gets 1006 3)),
  (3, .inl (i_if (fun x => x = 0) 17 6)),
  (6, .inl (i_aload 0 7)),
  (7, .inl (i_getf 166 [60] 10)),
  (10, .inl (i_if (fun x => ¬ x = 0) 17 13)),
  (13, .inl (i_push (.int 1) 14)),
  (14, .inl (i_goto 18)),
  (17, .inl (i_push (.int 0) 18)),
  (18, .inl i_zret)], noH)
theorem rJ8_isLatin1_0 (Q : Po) (h : Hp) (ls : List Value) (st : List Value) : Ex mJ8_isLatin1 Q 0 ls st h = Ex mJ8_isLatin1 Q 3 ls (gF h 1006 0 :: st) h := Ex_nx rfl rfl
theorem rJ8_isLatin1_3 (Q : Po) (h : Hp) (ls : List Value) (st : List Value) (x : Int32) : Ex mJ8_isLatin1 Q 3 ls (.int x :: st) h = if x = 0 then Ex mJ8_isLatin1 Q 17 ls st h else Ex mJ8_isLatin1 Q 6 ls st h := Ex_br rfl rfl
theorem rJ8_isLatin1_6 (Q : Po) (h : Hp) (x : Nat) (st : List Value) : Ex mJ8_isLatin1 Q 6 [.ref x] st h = Ex mJ8_isLatin1 Q 7 [.ref x] (.ref x :: st) h := Ex_nx rfl rfl
theorem rJ8_isLatin1_6n (Q : Po) (h : Hp) (st : List Value) : Ex mJ8_isLatin1 Q 6 [.null] st h = Ex mJ8_isLatin1 Q 7 [.null] (.null :: st) h := Ex_nx rfl rfl
theorem rJ8_isLatin1_7 (Q : Po) (h : Hp) (ls : List Value) (st : List Value) (a : Nat) : Ex mJ8_isLatin1 Q 7 ls (.ref a :: st) h = (gK h a ∈ ([60] : List Nat) ∧ Ex mJ8_isLatin1 Q 10 ls (gF h 166 a :: st) h) := Ex_gd rfl rfl
theorem rJ8_isLatin1_10 (Q : Po) (h : Hp) (ls : List Value) (st : List Value) (x : Int32) : Ex mJ8_isLatin1 Q 10 ls (.int x :: st) h = if ¬ x = 0 then Ex mJ8_isLatin1 Q 17 ls st h else Ex mJ8_isLatin1 Q 13 ls st h := Ex_br rfl rfl
theorem rJ8_isLatin1_13 (Q : Po) (h : Hp) (ls : List Value) (st : List Value) : Ex mJ8_isLatin1 Q 13 ls st h = Ex mJ8_isLatin1 Q 14 ls (.int 1 :: st) h := Ex_nx rfl rfl
theorem rJ8_isLatin1_14 (Q : Po) (h : Hp) (ls : List Value) (st : List Value) : Ex mJ8_isLatin1 Q 14 ls st h = Ex mJ8_isLatin1 Q 18 ls st h := Ex_nx rfl rfl
theorem rJ8_isLatin1_17 (Q : Po) (h : Hp) (ls : List Value) (st : List Value) : Ex mJ8_isLatin1 Q 17 ls st h = Ex mJ8_isLatin1 Q 18 ls (.int 0 :: st) h := Ex_nx rfl rfl
theorem rJ8_isLatin1_18 (Q : Po) (h : Hp) (ls : List Value) (x : Int32) : Ex mJ8_isLatin1 Q 18 ls [.int x] h = ((x = 0 ∨ x = 1) ∧ Q (.inl (some (.int x))) h) := Ex_rg rfl rfl
theorem rJ8_isLatin1_t (Q : Po) (h : Hp) (pc n a : Nat) (ls st : List Value) : Cont mJ8_isLatin1 Q pc ls n st (.inr a) h = Q (.inr a) h := rfl
/-! jdk/internal/util/Preconditions.checkIndex(IILjava/util/function/BiFunction;)I -/
def mJ10_checkIndex : Cd := ([(0, .inl (i_iload 0 1)),
  (1, .inl (i_if (fun x => x < 0) 9 4)),
  (4, .inl (i_iload 0 5)),
  (5, .inl (i_iload 1 6)),
  (6, .inl (i_icmp (fun x y => x < y) 16 9)),
  (9, .inl (i_aload 2 10)),
  (10, .inl (i_iload 0 11)),
  (11, .inl (i_iload 1 12)),
  (16, .inl (i_iload 0 17)),
  (17, .inl i_iret)], noH)
theorem rJ10_checkIndex_0 (Q : Po) (h : Hp) (l1 l2 : Value) (x : Int32) (st : List Value) : Ex mJ10_checkIndex Q 0 [.int x, l1, l2] st h = Ex mJ10_checkIndex Q 1 [.int x, l1, l2] (.int x :: st) h := Ex_nx rfl rfl
theorem rJ10_checkIndex_1 (Q : Po) (h : Hp) (ls : List Value) (st : List Value) (x : Int32) : Ex mJ10_checkIndex Q 1 ls (.int x :: st) h = if x < 0 then Ex mJ10_checkIndex Q 9 ls st h else Ex mJ10_checkIndex Q 4 ls st h := Ex_br rfl rfl
theorem rJ10_checkIndex_4 (Q : Po) (h : Hp) (l1 l2 : Value) (x : Int32) (st : List Value) : Ex mJ10_checkIndex Q 4 [.int x, l1, l2] st h = Ex mJ10_checkIndex Q 5 [.int x, l1, l2] (.int x :: st) h := Ex_nx rfl rfl
theorem rJ10_checkIndex_5 (Q : Po) (h : Hp) (l0 l2 : Value) (x : Int32) (st : List Value) : Ex mJ10_checkIndex Q 5 [l0, .int x, l2] st h = Ex mJ10_checkIndex Q 6 [l0, .int x, l2] (.int x :: st) h := Ex_nx rfl rfl
theorem rJ10_checkIndex_6 (Q : Po) (h : Hp) (ls : List Value) (st : List Value) (x y : Int32) : Ex mJ10_checkIndex Q 6 ls (.int y :: .int x :: st) h = if x < y then Ex mJ10_checkIndex Q 16 ls st h else Ex mJ10_checkIndex Q 9 ls st h := Ex_br rfl rfl
theorem rJ10_checkIndex_9 (Q : Po) (h : Hp) (l0 l1 : Value) (x : Nat) (st : List Value) : Ex mJ10_checkIndex Q 9 [l0, l1, .ref x] st h = Ex mJ10_checkIndex Q 10 [l0, l1, .ref x] (.ref x :: st) h := Ex_nx rfl rfl
theorem rJ10_checkIndex_9n (Q : Po) (h : Hp) (l0 l1 : Value) (st : List Value) : Ex mJ10_checkIndex Q 9 [l0, l1, .null] st h = Ex mJ10_checkIndex Q 10 [l0, l1, .null] (.null :: st) h := Ex_nx rfl rfl
theorem rJ10_checkIndex_10 (Q : Po) (h : Hp) (l1 l2 : Value) (x : Int32) (st : List Value) : Ex mJ10_checkIndex Q 10 [.int x, l1, l2] st h = Ex mJ10_checkIndex Q 11 [.int x, l1, l2] (.int x :: st) h := Ex_nx rfl rfl
theorem rJ10_checkIndex_11 (Q : Po) (h : Hp) (l0 l2 : Value) (x : Int32) (st : List Value) : Ex mJ10_checkIndex Q 11 [l0, .int x, l2] st h = Ex mJ10_checkIndex Q 12 [l0, .int x, l2] (.int x :: st) h := Ex_nx rfl rfl
theorem rJ10_checkIndex_16 (Q : Po) (h : Hp) (l1 l2 : Value) (x : Int32) (st : List Value) : Ex mJ10_checkIndex Q 16 [.int x, l1, l2] st h = Ex mJ10_checkIndex Q 17 [.int x, l1, l2] (.int x :: st) h := Ex_nx rfl rfl
theorem rJ10_checkIndex_17 (Q : Po) (h : Hp) (ls : List Value) (x : Int32) : Ex mJ10_checkIndex Q 17 ls [.int x] h = Q (.inl (some (.int x))) h := Ex_rt rfl rfl
theorem rJ10_checkIndex_t (Q : Po) (h : Hp) (pc n a : Nat) (ls st : List Value) : Cont mJ10_checkIndex Q pc ls n st (.inr a) h = Q (.inr a) h := rfl
/-! java/lang/String.checkIndex(II)V -/
def mJ8_checkIndex : Cd := ([(0, .inl (i_iload 0 1)),
  (1, .inl (i_iload 1 2)),
  (2, .inl (i_gets 1007 5)),
  (5, .inr (c_S 3 8 3 (Mt mJ10_checkIndex 3))),
  (8, .inl (i_pop 9)),
  (9, .inl i_vret)], noH)
theorem rJ8_checkIndex_0 (Q : Po) (h : Hp) (l1 : Value) (x : Int32) (st : List Value) : Ex mJ8_checkIndex Q 0 [.int x, l1] st h = Ex mJ8_checkIndex Q 1 [.int x, l1] (.int x :: st) h := Ex_nx rfl rfl
theorem rJ8_checkIndex_1 (Q : Po) (h : Hp) (l0 : Value) (x : Int32) (st : List Value) : Ex mJ8_checkIndex Q 1 [l0, .int x] st h = Ex mJ8_checkIndex Q 2 [l0, .int x] (.int x :: st) h := Ex_nx rfl rfl
theorem rJ8_checkIndex_2 (Q : Po) (h : Hp) (ls : List Value) (st : List Value) : Ex mJ8_checkIndex Q 2 ls st h = Ex mJ8_checkIndex Q 5 ls (gF h 1007 0 :: st) h := Ex_nx rfl rfl
theorem rJ8_checkIndex_5 (Q : Po) (h : Hp) (ls : List Value) (a0 : Int32) (a1 : Int32) (a2 : Nat) : Ex mJ8_checkIndex Q 5 ls (.ref a2 :: .int a1 :: .int a0 :: []) h = Ex mJ10_checkIndex (Cont mJ8_checkIndex Q 5 ls 8 []) 0 [.int a0, .int a1, .ref a2] [] h := Ex_cl (n := 3) (as := [.int a0, .int a1, .ref a2]) rfl rfl
theorem rJ8_checkIndex_8 (Q : Po) (h : Hp) (ls : List Value) (st : List Value) (x : Int32) : Ex mJ8_checkIndex Q 8 ls (.int x :: st) h = Ex mJ8_checkIndex Q 9 ls st h := Ex_nx rfl rfl
theorem rJ8_checkIndex_9 (Q : Po) (h : Hp) (ls : List Value) : Ex mJ8_checkIndex Q 9 ls [] h = Q (.inl none) h := Ex_rt rfl rfl
theorem rJ8_checkIndex_t (Q : Po) (h : Hp) (pc n a : Nat) (ls st : List Value) : Cont mJ8_checkIndex Q pc ls n st (.inr a) h = Q (.inr a) h := rfl
/-! java/lang/StringLatin1.charAt([BI)C -/
def mJ9_charAt : Cd := ([(0, .inl (i_iload 1 1)),
  (1, .inl (i_aload 0 2)),
  (2, .inl (i_alen [61] 3)),
  (3, .inr (c_S 2 6 2 (Mt mJ8_checkIndex 2))),
  (6, .inl (i_aload 0 7)),
  (7, .inl (i_iload 1 8)),
  (8, .inl (i_iald 61 9)),
  (9, .inl (i_push (.int 255) 12)),
  (12, .inl (i_bin (fun x y => x &&& y) 13)),
  (13, .inl (i_un (fun x => (x.toUInt32 % 65536).toInt32) 14)),
  (14, .inl i_cret)], noH)
theorem rJ9_charAt_0 (Q : Po) (h : Hp) (l0 : Value) (x : Int32) (st : List Value) : Ex mJ9_charAt Q 0 [l0, .int x] st h = Ex mJ9_charAt Q 1 [l0, .int x] (.int x :: st) h := Ex_nx rfl rfl
theorem rJ9_charAt_1 (Q : Po) (h : Hp) (l1 : Value) (x : Nat) (st : List Value) : Ex mJ9_charAt Q 1 [.ref x, l1] st h = Ex mJ9_charAt Q 2 [.ref x, l1] (.ref x :: st) h := Ex_nx rfl rfl
theorem rJ9_charAt_1n (Q : Po) (h : Hp) (l1 : Value) (st : List Value) : Ex mJ9_charAt Q 1 [.null, l1] st h = Ex mJ9_charAt Q 2 [.null, l1] (.null :: st) h := Ex_nx rfl rfl
theorem rJ9_charAt_2 (Q : Po) (h : Hp) (ls : List Value) (st : List Value) (a : Nat) : Ex mJ9_charAt Q 2 ls (.ref a :: st) h = (gK h a ∈ ([61] : List Nat) ∧ Ex mJ9_charAt Q 3 ls (.int (nI (gL h a)) :: st) h) := Ex_gd rfl rfl
theorem rJ9_charAt_3 (Q : Po) (h : Hp) (ls : List Value) (a0 : Int32) (a1 : Int32) : Ex mJ9_charAt Q 3 ls (.int a1 :: .int a0 :: []) h = Ex mJ8_checkIndex (Cont mJ9_charAt Q 3 ls 6 []) 0 [.int a0, .int a1] [] h := Ex_cl (n := 2) (as := [.int a0, .int a1]) rfl rfl
theorem rJ9_charAt_6 (Q : Po) (h : Hp) (l1 : Value) (x : Nat) (st : List Value) : Ex mJ9_charAt Q 6 [.ref x, l1] st h = Ex mJ9_charAt Q 7 [.ref x, l1] (.ref x :: st) h := Ex_nx rfl rfl
theorem rJ9_charAt_6n (Q : Po) (h : Hp) (l1 : Value) (st : List Value) : Ex mJ9_charAt Q 6 [.null, l1] st h = Ex mJ9_charAt Q 7 [.null, l1] (.null :: st) h := Ex_nx rfl rfl
theorem rJ9_charAt_7 (Q : Po) (h : Hp) (l0 : Value) (x : Int32) (st : List Value) : Ex mJ9_charAt Q 7 [l0, .int x] st h = Ex mJ9_charAt Q 8 [l0, .int x] (.int x :: st) h := Ex_nx rfl rfl
theorem rJ9_charAt_8 (Q : Po) (h : Hp) (ls : List Value) (st : List Value) (a : Nat) (i : Int32) : Ex mJ9_charAt Q 8 ls (.int i :: .ref a :: st) h = ((gK h a = 61 ∧ ¬ (i < 0 ∨ gL h a ≤ i.toNatClampNeg)) ∧ Ex mJ9_charAt Q 9 ls (.int (gI h a i.toNatClampNeg) :: st) h) := Ex_gd rfl rfl
theorem rJ9_charAt_9 (Q : Po) (h : Hp) (ls : List Value) (st : List Value) : Ex mJ9_charAt Q 9 ls st h = Ex mJ9_charAt Q 12 ls (.int 255 :: st) h := Ex_nx rfl rfl
theorem rJ9_charAt_12 (Q : Po) (h : Hp) (ls : List Value) (st : List Value) (x y : Int32) : Ex mJ9_charAt Q 12 ls (.int y :: .int x :: st) h = Ex mJ9_charAt Q 13 ls (.int (x &&& y) :: st) h := Ex_nx rfl rfl
theorem rJ9_charAt_13 (Q : Po) (h : Hp) (ls : List Value) (st : List Value) (x : Int32) : Ex mJ9_charAt Q 13 ls (.int x :: st) h = Ex mJ9_charAt Q 14 ls (.int ((x.toUInt32 % 65536).toInt32) :: st) h := Ex_nx rfl rfl
theorem rJ9_charAt_14 (Q : Po) (h : Hp) (ls : List Value) (x : Int32) : Ex mJ9_charAt Q 14 ls [.int x] h = ((x.toUInt32 % 65536).toInt32 = x ∧ Q (.inl (some (.int x))) h) := Ex_rg rfl rfl
theorem rJ9_charAt_t (Q : Po) (h : Hp) (pc n a : Nat) (ls st : List Value) : Cont mJ9_charAt Q pc ls n st (.inr a) h = Q (.inr a) h := rfl
/-! java/lang/String.charAt(I)C -/
def mJ8_charAt : Cd := ([(0, .inl (i_aload 0 1)),
  (1, .inr (c_V 0 4 1 60 (Mt mJ8_isLatin1 1))),
  (4, .inl (i_if (fun x => x = 0) 16 7)),
  (7, .inl (i_aload 0 8)),
  (8, .inl (i_getf 165 [60] 11)),
  (11, .inl (i_iload 1 12)),
  (12, .inr (c_S 2 15 2 (Mt mJ9_charAt 2))),
  (15, .inl i_cret),
  (16, .inl (i_aload 0 17)),
  (17, .inl (i_getf 165 [60] 20)),
  (20, .inl (i_iload 1 21)),
  (24, .inl i_cret)], noH)
theorem rJ8_charAt_0 (Q : Po) (h : Hp) (l1 : Value) (x : Nat) (st : List Value) : Ex mJ8_charAt Q 0 [.ref x, l1] st h = Ex mJ8_charAt Q 1 [.ref x, l1] (.ref x :: st) h := Ex_nx rfl rfl
theorem rJ8_charAt_0n (Q : Po) (h : Hp) (l1 : Value) (st : List Value) : Ex mJ8_charAt Q 0 [.null, l1] st h = Ex mJ8_charAt Q 1 [.null, l1] (.null :: st) h := Ex_nx rfl rfl
theorem rJ8_charAt_1 (Q : Po) (h : Hp) (ls : List Value) (b : Nat) : Ex mJ8_charAt Q 1 ls (.ref b :: []) h = (gK h b = 60 ∧ Ex mJ8_isLatin1 (Cont mJ8_charAt Q 1 ls 4 []) 0 [.ref b] [] h) := Ex_cg (n := 1) (as := [.ref b]) rfl rfl
theorem rJ8_charAt_4 (Q : Po) (h : Hp) (ls : List Value) (st : List Value) (x : Int32) : Ex mJ8_charAt Q 4 ls (.int x :: st) h = if x = 0 then Ex mJ8_charAt Q 16 ls st h else Ex mJ8_charAt Q 7 ls st h := Ex_br rfl rfl
theorem rJ8_charAt_7 (Q : Po) (h : Hp) (l1 : Value) (x : Nat) (st : List Value) : Ex mJ8_charAt Q 7 [.ref x, l1] st h = Ex mJ8_charAt Q 8 [.ref x, l1] (.ref x :: st) h := Ex_nx rfl rfl
theorem rJ8_charAt_7n (Q : Po) (h : Hp) (l1 : Value) (st : List Value) : Ex mJ8_charAt Q 7 [.null, l1] st h = Ex mJ8_charAt Q 8 [.null, l1] (.null :: st) h := Ex_nx rfl rfl
theorem rJ8_charAt_8 (Q : Po) (h : Hp) (ls : List Value) (st : List Value) (a : Nat) : Ex mJ8_charAt Q 8 ls (.ref a :: st) h = (gK h a ∈ ([60] : List Nat) ∧ Ex mJ8_charAt Q 11 ls (gF h 165 a :: st) h) := Ex_gd rfl rfl
theorem rJ8_charAt_11 (Q : Po) (h : Hp) (l0 : Value) (x : Int32) (st : List Value) : Ex mJ8_charAt Q 11 [l0, .int x] st h = Ex mJ8_charAt Q 12 [l0, .int x] (.int x :: st) h := Ex_nx rfl rfl
theorem rJ8_charAt_12 (Q : Po) (h : Hp) (ls : List Value) (a0 : Nat) (a1 : Int32) : Ex mJ8_charAt Q 12 ls (.int a1 :: .ref a0 :: []) h = Ex mJ9_charAt (Cont mJ8_charAt Q 12 ls 15 []) 0 [.ref a0, .int a1] [] h := Ex_cl (n := 2) (as := [.ref a0, .int a1]) rfl rfl
theorem rJ8_charAt_15 (Q : Po) (h : Hp) (ls : List Value) (x : Int32) : Ex mJ8_charAt Q 15 ls [.int x] h = ((x.toUInt32 % 65536).toInt32 = x ∧ Q (.inl (some (.int x))) h) := Ex_rg rfl rfl
theorem rJ8_charAt_16 (Q : Po) (h : Hp) (l1 : Value) (x : Nat) (st : List Value) : Ex mJ8_charAt Q 16 [.ref x, l1] st h = Ex mJ8_charAt Q 17 [.ref x, l1] (.ref x :: st) h := Ex_nx rfl rfl
theorem rJ8_charAt_16n (Q : Po) (h : Hp) (l1 : Value) (st : List Value) : Ex mJ8_charAt Q 16 [.null, l1] st h = Ex mJ8_charAt Q 17 [.null, l1] (.null :: st) h := Ex_nx rfl rfl
theorem rJ8_charAt_17 (Q : Po) (h : Hp) (ls : List Value) (st : List Value) (a : Nat) : Ex mJ8_charAt Q 17 ls (.ref a :: st) h = (gK h a ∈ ([60] : List Nat) ∧ Ex mJ8_charAt Q 20 ls (gF h 165 a :: st) h) := Ex_gd rfl rfl
theorem rJ8_charAt_20 (Q : Po) (h : Hp) (l0 : Value) (x : Int32) (st : List Value) : Ex mJ8_charAt Q 20 [l0, .int x] st h = Ex mJ8_charAt Q 21 [l0, .int x] (.int x :: st) h := Ex_nx rfl rfl
theorem rJ8_charAt_24 (Q : Po) (h : Hp) (ls : List Value) (x : Int32) : Ex mJ8_charAt Q 24 ls [.int x] h = ((x.toUInt32 % 65536).toInt32 = x ∧ Q (.inl (some (.int x))) h) := Ex_rg rfl rfl
theorem rJ8_charAt_t (Q : Po) (h : Hp) (pc n a : Nat) (ls st : List Value) : Cont mJ8_charAt Q pc ls n st (.inr a) h = Q (.inr a) h := rfl
/-! FishReaders$Reader.sortIn(Ljava/lang/String;II)I -/
def mX12_sortIn : Cd := ([(0, .inl (i_push (.int 0) 1)),
  (1, .inl (i_istore 3 2)),
  (2, .inl (i_iload 3 3)),
  (3, .inl (i_aload 0 4)),
  (4, .inr (c_V 0 7 1 60 (Mt mJ8_length 1))),
  (7, .inl (i_icmp (fun x y => y ≤ x) 30 10)),
  (10, .inl (i_iload 1 11)),
  (11, .inl (i_push (.int 1) 12)),
  (12, .inl (i_icmp (fun x y => ¬ x = y) 24 15)),
  (15, .inl (i_aload 0 16)),
  (16, .inl (i_iload 3 17)),
  (17, .inr (c_V 1 20 2 60 (Mt mJ8_charAt 2))),
  (20, .inl (i_iload 2 21)),
  (21, .inl (i_icmp (fun x y => x = y) 30 24)),
  (24, .inl (i_iinc 3 1 27)),
  (27, .inl (i_goto 2)),
  (30, .inl (i_iload 3 31)),
  (31, .inl (i_aload 0 32)),
  (32, .inr (c_V 0 35 1 60 (Mt mJ8_length 1))),
  (35, .inl (i_icmp (fun x y => y ≤ x) 42 38)),
  (38, .inl (i_iload 3 39)),
  (39, .inl (i_goto 44)),
  (42, .inl (i_push (.int (-1000000)) 44)),
  (44, .inl i_iret)], noH)
theorem rX12_sortIn_0 (Q : Po) (h : Hp) (ls : List Value) (st : List Value) : Ex mX12_sortIn Q 0 ls st h = Ex mX12_sortIn Q 1 ls (.int 0 :: st) h := Ex_nx rfl rfl
theorem rX12_sortIn_1 (Q : Po) (h : Hp) (l0 l1 l2 l3 : Value) (x : Int32) (st : List Value) : Ex mX12_sortIn Q 1 [l0, l1, l2, l3] (.int x :: st) h = Ex mX12_sortIn Q 2 [l0, l1, l2, .int x] st h := Ex_nx rfl rfl
theorem rX12_sortIn_2 (Q : Po) (h : Hp) (l0 l1 l2 : Value) (x : Int32) (st : List Value) : Ex mX12_sortIn Q 2 [l0, l1, l2, .int x] st h = Ex mX12_sortIn Q 3 [l0, l1, l2, .int x] (.int x :: st) h := Ex_nx rfl rfl
theorem rX12_sortIn_3 (Q : Po) (h : Hp) (l1 l2 l3 : Value) (x : Nat) (st : List Value) : Ex mX12_sortIn Q 3 [.ref x, l1, l2, l3] st h = Ex mX12_sortIn Q 4 [.ref x, l1, l2, l3] (.ref x :: st) h := Ex_nx rfl rfl
theorem rX12_sortIn_4 (Q : Po) (h : Hp) (ls : List Value) (s0 : Value) (b : Nat) : Ex mX12_sortIn Q 4 ls (.ref b :: [s0]) h = (gK h b = 60 ∧ Ex mJ8_length (Cont mX12_sortIn Q 4 ls 7 [s0]) 0 [.ref b] [] h) := Ex_cg (n := 1) (as := [.ref b]) rfl rfl
theorem rX12_sortIn_7 (Q : Po) (h : Hp) (ls : List Value) (st : List Value) (x y : Int32) : Ex mX12_sortIn Q 7 ls (.int y :: .int x :: st) h = if y ≤ x then Ex mX12_sortIn Q 30 ls st h else Ex mX12_sortIn Q 10 ls st h := Ex_br rfl rfl
theorem rX12_sortIn_10 (Q : Po) (h : Hp) (l0 l2 l3 : Value) (x : Int32) (st : List Value) : Ex mX12_sortIn Q 10 [l0, .int x, l2, l3] st h = Ex mX12_sortIn Q 11 [l0, .int x, l2, l3] (.int x :: st) h := Ex_nx rfl rfl
theorem rX12_sortIn_11 (Q : Po) (h : Hp) (ls : List Value) (st : List Value) : Ex mX12_sortIn Q 11 ls st h = Ex mX12_sortIn Q 12 ls (.int 1 :: st) h := Ex_nx rfl rfl
theorem rX12_sortIn_12 (Q : Po) (h : Hp) (ls : List Value) (st : List Value) (x y : Int32) : Ex mX12_sortIn Q 12 ls (.int y :: .int x :: st) h = if ¬ x = y then Ex mX12_sortIn Q 24 ls st h else Ex mX12_sortIn Q 15 ls st h := Ex_br rfl rfl
theorem rX12_sortIn_15 (Q : Po) (h : Hp) (l1 l2 l3 : Value) (x : Nat) (st : List Value) : Ex mX12_sortIn Q 15 [.ref x, l1, l2, l3] st h = Ex mX12_sortIn Q 16 [.ref x, l1, l2, l3] (.ref x :: st) h := Ex_nx rfl rfl
theorem rX12_sortIn_16 (Q : Po) (h : Hp) (l0 l1 l2 : Value) (x : Int32) (st : List Value) : Ex mX12_sortIn Q 16 [l0, l1, l2, .int x] st h = Ex mX12_sortIn Q 17 [l0, l1, l2, .int x] (.int x :: st) h := Ex_nx rfl rfl
theorem rX12_sortIn_17 (Q : Po) (h : Hp) (ls : List Value) (a0 : Int32) (b : Nat) : Ex mX12_sortIn Q 17 ls (.int a0 :: .ref b :: []) h = (gK h b = 60 ∧ Ex mJ8_charAt (Cont mX12_sortIn Q 17 ls 20 []) 0 [.ref b, .int a0] [] h) := Ex_cg (n := 2) (as := [.ref b, .int a0]) rfl rfl
theorem rX12_sortIn_20 (Q : Po) (h : Hp) (l0 l1 l3 : Value) (x : Int32) (st : List Value) : Ex mX12_sortIn Q 20 [l0, l1, .int x, l3] st h = Ex mX12_sortIn Q 21 [l0, l1, .int x, l3] (.int x :: st) h := Ex_nx rfl rfl
theorem rX12_sortIn_21 (Q : Po) (h : Hp) (ls : List Value) (st : List Value) (x y : Int32) : Ex mX12_sortIn Q 21 ls (.int y :: .int x :: st) h = if x = y then Ex mX12_sortIn Q 30 ls st h else Ex mX12_sortIn Q 24 ls st h := Ex_br rfl rfl
theorem rX12_sortIn_24 (Q : Po) (h : Hp) (l0 l1 l2 : Value) (x : Int32) (st : List Value) : Ex mX12_sortIn Q 24 [l0, l1, l2, .int x] st h = Ex mX12_sortIn Q 27 [l0, l1, l2, .int (x + 1)] st h := Ex_nx rfl rfl
theorem rX12_sortIn_27 (Q : Po) (h : Hp) (ls : List Value) (st : List Value) : Ex mX12_sortIn Q 27 ls st h = Ex mX12_sortIn Q 2 ls st h := Ex_nx rfl rfl
theorem rX12_sortIn_30 (Q : Po) (h : Hp) (l0 l1 l2 : Value) (x : Int32) (st : List Value) : Ex mX12_sortIn Q 30 [l0, l1, l2, .int x] st h = Ex mX12_sortIn Q 31 [l0, l1, l2, .int x] (.int x :: st) h := Ex_nx rfl rfl
theorem rX12_sortIn_31 (Q : Po) (h : Hp) (l1 l2 l3 : Value) (x : Nat) (st : List Value) : Ex mX12_sortIn Q 31 [.ref x, l1, l2, l3] st h = Ex mX12_sortIn Q 32 [.ref x, l1, l2, l3] (.ref x :: st) h := Ex_nx rfl rfl
theorem rX12_sortIn_32 (Q : Po) (h : Hp) (ls : List Value) (s0 : Value) (b : Nat) : Ex mX12_sortIn Q 32 ls (.ref b :: [s0]) h = (gK h b = 60 ∧ Ex mJ8_length (Cont mX12_sortIn Q 32 ls 35 [s0]) 0 [.ref b] [] h) := Ex_cg (n := 1) (as := [.ref b]) rfl rfl
theorem rX12_sortIn_35 (Q : Po) (h : Hp) (ls : List Value) (st : List Value) (x y : Int32) : Ex mX12_sortIn Q 35 ls (.int y :: .int x :: st) h = if y ≤ x then Ex mX12_sortIn Q 42 ls st h else Ex mX12_sortIn Q 38 ls st h := Ex_br rfl rfl
theorem rX12_sortIn_38 (Q : Po) (h : Hp) (l0 l1 l2 : Value) (x : Int32) (st : List Value) : Ex mX12_sortIn Q 38 [l0, l1, l2, .int x] st h = Ex mX12_sortIn Q 39 [l0, l1, l2, .int x] (.int x :: st) h := Ex_nx rfl rfl
theorem rX12_sortIn_39 (Q : Po) (h : Hp) (ls : List Value) (st : List Value) : Ex mX12_sortIn Q 39 ls st h = Ex mX12_sortIn Q 44 ls st h := Ex_nx rfl rfl
theorem rX12_sortIn_42 (Q : Po) (h : Hp) (ls : List Value) (st : List Value) : Ex mX12_sortIn Q 42 ls st h = Ex mX12_sortIn Q 44 ls (.int (-1000000) :: st) h := Ex_nx rfl rfl
theorem rX12_sortIn_44 (Q : Po) (h : Hp) (ls : List Value) (x : Int32) : Ex mX12_sortIn Q 44 ls [.int x] h = Q (.inl (some (.int x))) h := Ex_rt rfl rfl
theorem rX12_sortIn_t (Q : Po) (h : Hp) (pc n a : Nat) (ls st : List Value) : Cont mX12_sortIn Q pc ls n st (.inr a) h = Q (.inr a) h := rfl
/-! FishReaders$Reader.sortOf(Ljava/lang/String;)I -/
def mX12_sortOf : Cd := ([(0, .inl (i_aload 1 1)),
  (1, .inl (i_aload 0 2)),
  (2, .inl (i_getf 146 [12] 5)),
  (5, .inl (i_aload 0 6)),
  (6, .inl (i_getf 150 [12] 9)),
  (9, .inr (c_S 3 12 4 (Mt mX12_sortIn 4))),
  (12, .inl i_iret)], noH)
theorem rX12_sortOf_0 (Q : Po) (h : Hp) (l0 : Value) (x : Nat) (st : List Value) : Ex mX12_sortOf Q 0 [l0, .ref x] st h = Ex mX12_sortOf Q 1 [l0, .ref x] (.ref x :: st) h := Ex_nx rfl rfl
theorem rX12_sortOf_1 (Q : Po) (h : Hp) (l1 : Value) (x : Nat) (st : List Value) : Ex mX12_sortOf Q 1 [.ref x, l1] st h = Ex mX12_sortOf Q 2 [.ref x, l1] (.ref x :: st) h := Ex_nx rfl rfl
theorem rX12_sortOf_2 (Q : Po) (h : Hp) (ls : List Value) (st : List Value) (a : Nat) : Ex mX12_sortOf Q 2 ls (.ref a :: st) h = (gK h a ∈ ([12] : List Nat) ∧ Ex mX12_sortOf Q 5 ls (gF h 146 a :: st) h) := Ex_gd rfl rfl
theorem rX12_sortOf_5 (Q : Po) (h : Hp) (l1 : Value) (x : Nat) (st : List Value) : Ex mX12_sortOf Q 5 [.ref x, l1] st h = Ex mX12_sortOf Q 6 [.ref x, l1] (.ref x :: st) h := Ex_nx rfl rfl
theorem rX12_sortOf_6 (Q : Po) (h : Hp) (ls : List Value) (st : List Value) (a : Nat) : Ex mX12_sortOf Q 6 ls (.ref a :: st) h = (gK h a ∈ ([12] : List Nat) ∧ Ex mX12_sortOf Q 9 ls (gF h 150 a :: st) h) := Ex_gd rfl rfl
theorem rX12_sortOf_9 (Q : Po) (h : Hp) (ls : List Value) (a0 : Nat) (a1 : Int32) (a2 : Int32) : Ex mX12_sortOf Q 9 ls (.int a2 :: .int a1 :: .ref a0 :: []) h = Ex mX12_sortIn (Cont mX12_sortOf Q 9 ls 12 []) 0 [.ref a0, .int a1, .int a2, .retAddr 0] [] h := Ex_cl (n := 4) (as := [.ref a0, .int a1, .int a2]) rfl rfl
theorem rX12_sortOf_12 (Q : Po) (h : Hp) (ls : List Value) (x : Int32) : Ex mX12_sortOf Q 12 ls [.int x] h = Q (.inl (some (.int x))) h := Ex_rt rfl rfl
theorem rX12_sortOf_t (Q : Po) (h : Hp) (pc n a : Nat) (ls st : List Value) : Cont mX12_sortOf Q pc ls n st (.inr a) h = Q (.inr a) h := rfl
/-! java/util/ArrayList.size()I -/
def mJ2_size : Cd := ([(0, .inl (i_aload 0 1)),
  (1, .inl (i_getf 162 [14] 4)),
  (4, .inl i_iret)], noH)
theorem rJ2_size_0 (Q : Po) (h : Hp) (x : Nat) (st : List Value) : Ex mJ2_size Q 0 [.ref x] st h = Ex mJ2_size Q 1 [.ref x] (.ref x :: st) h := Ex_nx rfl rfl
theorem rJ2_size_0n (Q : Po) (h : Hp) (st : List Value) : Ex mJ2_size Q 0 [.null] st h = Ex mJ2_size Q 1 [.null] (.null :: st) h := Ex_nx rfl rfl
theorem rJ2_size_1 (Q : Po) (h : Hp) (ls : List Value) (st : List Value) (a : Nat) : Ex mJ2_size Q 1 ls (.ref a :: st) h = (gK h a ∈ ([14] : List Nat) ∧ Ex mJ2_size Q 4 ls (gF h 162 a :: st) h) := Ex_gd rfl rfl
theorem rJ2_size_4 (Q : Po) (h : Hp) (ls : List Value) (x : Int32) : Ex mJ2_size Q 4 ls [.int x] h = Q (.inl (some (.int x))) h := Ex_rt rfl rfl
theorem rJ2_size_t (Q : Po) (h : Hp) (pc n a : Nat) (ls st : List Value) : Cont mJ2_size Q pc ls n st (.inr a) h = Q (.inr a) h := rfl
/-! FishReaders$Library.many()I -/
def mX1_many : Cd := ([(0, .inl (i_aload 0 1)),
  (1, .inl (i_getf 51 [2] 4)),
  (4, .inr (c_V 0 9 1 14 (Mt mJ2_size 1))),
  (9, .inl i_iret)], noH)
theorem rX1_many_0 (Q : Po) (h : Hp) (x : Nat) (st : List Value) : Ex mX1_many Q 0 [.ref x] st h = Ex mX1_many Q 1 [.ref x] (.ref x :: st) h := Ex_nx rfl rfl
theorem rX1_many_1 (Q : Po) (h : Hp) (ls : List Value) (st : List Value) (a : Nat) : Ex mX1_many Q 1 ls (.ref a :: st) h = (gK h a ∈ ([2] : List Nat) ∧ Ex mX1_many Q 4 ls (gF h 51 a :: st) h) := Ex_gd rfl rfl
theorem rX1_many_4 (Q : Po) (h : Hp) (ls : List Value) (b : Nat) : Ex mX1_many Q 4 ls (.ref b :: []) h = (gK h b = 14 ∧ Ex mJ2_size (Cont mX1_many Q 4 ls 9 []) 0 [.ref b] [] h) := Ex_cg (n := 1) (as := [.ref b]) rfl rfl
theorem rX1_many_9 (Q : Po) (h : Hp) (ls : List Value) (x : Int32) : Ex mX1_many Q 9 ls [.int x] h = Q (.inl (some (.int x))) h := Ex_rt rfl rfl
theorem rX1_many_t (Q : Po) (h : Hp) (pc n a : Nat) (ls st : List Value) : Cont mX1_many Q pc ls n st (.inr a) h = Q (.inr a) h := rfl
/-! FishReaders.fishBy(II)LFishReaders$Fish; -/
def mX0_fishBy : Cd := ([(0, .inl (i_iload 0 1)),
  (1, .inl (i_tsw 0 [32, 41, 50, 59] 68)),
  (32, .inl (i_new 4 1 35)),
  (35, .inl (i_dup 36)),
  (36, .inl (i_iload 1 37)),
  (37, .inr (c_I 1 40 2 (Mt mX4_init 2))),
  (40, .inl i_aret),
  (41, .inl (i_new 5 1 44)),
  (44, .inl (i_dup 45)),
  (45, .inl (i_iload 1 46)),
  (46, .inr (c_I 1 49 2 (Mt mX5_init 2))),
  (49, .inl i_aret),
  (50, .inl (i_new 6 1 53)),
  (53, .inl (i_dup 54)),
  (54, .inl (i_iload 1 55)),
  (55, .inr (c_I 1 58 2 (Mt mX6_init 2))),
  (58, .inl i_aret),
  (59, .inl (i_new 7 1 62)),
  (62, .inl (i_dup 63)),
  (63, .inl (i_iload 1 64)),
  (64, .inr (c_I 1 67 2 (Mt mX7_init 2))),
  (67, .inl i_aret),
  (68, .inl (i_new 8 1 71)),
  (71, .inl (i_dup 72)),
  (72, .inl (i_iload 1 73)),
  (73, .inr (c_I 1 76 2 (Mt mX8_init 2))),
  (76, .inl i_aret)], noH)
theorem rX0_fishBy_0 (Q : Po) (h : Hp) (l1 : Value) (x : Int32) (st : List Value) : Ex mX0_fishBy Q 0 [.int x, l1] st h = Ex mX0_fishBy Q 1 [.int x, l1] (.int x :: st) h := Ex_nx rfl rfl
theorem rX0_fishBy_1 (Q : Po) (h : Hp) (ls : List Value) (st : List Value) (x : Int32) : Ex mX0_fishBy Q 1 ls (.int x :: st) h = Ex mX0_fishBy Q (tswT 0 [32, 41, 50, 59] 68 x) ls st h := Ex_nx rfl rfl
theorem rX0_fishBy_32 (Q : Po) (h : Hp) (ls : List Value) (st : List Value) : Ex mX0_fishBy Q 32 ls st h = ((1 ≤ gC h ∧ 1 ≤ gS h) ∧ Ex mX0_fishBy Q 35 ls (.ref (gN h) :: st) (nO h 4 1)) := Ex_gd rfl rfl
theorem rX0_fishBy_35 (Q : Po) (h : Hp) (ls : List Value) (st : List Value) (x : Nat) : Ex mX0_fishBy Q 35 ls (.ref x :: st) h = Ex mX0_fishBy Q 36 ls (.ref x :: .ref x :: st) h := Ex_nx rfl rfl
theorem rX0_fishBy_36 (Q : Po) (h : Hp) (l0 : Value) (x : Int32) (st : List Value) : Ex mX0_fishBy Q 36 [l0, .int x] st h = Ex mX0_fishBy Q 37 [l0, .int x] (.int x :: st) h := Ex_nx rfl rfl
theorem rX0_fishBy_37 (Q : Po) (h : Hp) (ls : List Value) (a0 : Int32) (s0 : Value) (b : Nat) : Ex mX0_fishBy Q 37 ls (.int a0 :: .ref b :: [s0]) h = Ex mX4_init (Cont mX0_fishBy Q 37 ls 40 [s0]) 0 [.ref b, .int a0] [] h := Ex_cl (n := 2) (as := [.ref b, .int a0]) rfl rfl
theorem rX0_fishBy_40 (Q : Po) (h : Hp) (ls : List Value) (x : Nat) : Ex mX0_fishBy Q 40 ls [.ref x] h = Q (.inl (some (.ref x))) h := Ex_rt rfl rfl
theorem rX0_fishBy_41 (Q : Po) (h : Hp) (ls : List Value) (st : List Value) : Ex mX0_fishBy Q 41 ls st h = ((1 ≤ gC h ∧ 1 ≤ gS h) ∧ Ex mX0_fishBy Q 44 ls (.ref (gN h) :: st) (nO h 5 1)) := Ex_gd rfl rfl
theorem rX0_fishBy_44 (Q : Po) (h : Hp) (ls : List Value) (st : List Value) (x : Nat) : Ex mX0_fishBy Q 44 ls (.ref x :: st) h = Ex mX0_fishBy Q 45 ls (.ref x :: .ref x :: st) h := Ex_nx rfl rfl
theorem rX0_fishBy_45 (Q : Po) (h : Hp) (l0 : Value) (x : Int32) (st : List Value) : Ex mX0_fishBy Q 45 [l0, .int x] st h = Ex mX0_fishBy Q 46 [l0, .int x] (.int x :: st) h := Ex_nx rfl rfl
theorem rX0_fishBy_46 (Q : Po) (h : Hp) (ls : List Value) (a0 : Int32) (s0 : Value) (b : Nat) : Ex mX0_fishBy Q 46 ls (.int a0 :: .ref b :: [s0]) h = Ex mX5_init (Cont mX0_fishBy Q 46 ls 49 [s0]) 0 [.ref b, .int a0] [] h := Ex_cl (n := 2) (as := [.ref b, .int a0]) rfl rfl
theorem rX0_fishBy_49 (Q : Po) (h : Hp) (ls : List Value) (x : Nat) : Ex mX0_fishBy Q 49 ls [.ref x] h = Q (.inl (some (.ref x))) h := Ex_rt rfl rfl
theorem rX0_fishBy_50 (Q : Po) (h : Hp) (ls : List Value) (st : List Value) : Ex mX0_fishBy Q 50 ls st h = ((1 ≤ gC h ∧ 1 ≤ gS h) ∧ Ex mX0_fishBy Q 53 ls (.ref (gN h) :: st) (nO h 6 1)) := Ex_gd rfl rfl
theorem rX0_fishBy_53 (Q : Po) (h : Hp) (ls : List Value) (st : List Value) (x : Nat) : Ex mX0_fishBy Q 53 ls (.ref x :: st) h = Ex mX0_fishBy Q 54 ls (.ref x :: .ref x :: st) h := Ex_nx rfl rfl
theorem rX0_fishBy_54 (Q : Po) (h : Hp) (l0 : Value) (x : Int32) (st : List Value) : Ex mX0_fishBy Q 54 [l0, .int x] st h = Ex mX0_fishBy Q 55 [l0, .int x] (.int x :: st) h := Ex_nx rfl rfl
theorem rX0_fishBy_55 (Q : Po) (h : Hp) (ls : List Value) (a0 : Int32) (s0 : Value) (b : Nat) : Ex mX0_fishBy Q 55 ls (.int a0 :: .ref b :: [s0]) h = Ex mX6_init (Cont mX0_fishBy Q 55 ls 58 [s0]) 0 [.ref b, .int a0] [] h := Ex_cl (n := 2) (as := [.ref b, .int a0]) rfl rfl
theorem rX0_fishBy_58 (Q : Po) (h : Hp) (ls : List Value) (x : Nat) : Ex mX0_fishBy Q 58 ls [.ref x] h = Q (.inl (some (.ref x))) h := Ex_rt rfl rfl
theorem rX0_fishBy_59 (Q : Po) (h : Hp) (ls : List Value) (st : List Value) : Ex mX0_fishBy Q 59 ls st h = ((1 ≤ gC h ∧ 1 ≤ gS h) ∧ Ex mX0_fishBy Q 62 ls (.ref (gN h) :: st) (nO h 7 1)) := Ex_gd rfl rfl
theorem rX0_fishBy_62 (Q : Po) (h : Hp) (ls : List Value) (st : List Value) (x : Nat) : Ex mX0_fishBy Q 62 ls (.ref x :: st) h = Ex mX0_fishBy Q 63 ls (.ref x :: .ref x :: st) h := Ex_nx rfl rfl
theorem rX0_fishBy_63 (Q : Po) (h : Hp) (l0 : Value) (x : Int32) (st : List Value) : Ex mX0_fishBy Q 63 [l0, .int x] st h = Ex mX0_fishBy Q 64 [l0, .int x] (.int x :: st) h := Ex_nx rfl rfl
theorem rX0_fishBy_64 (Q : Po) (h : Hp) (ls : List Value) (a0 : Int32) (s0 : Value) (b : Nat) : Ex mX0_fishBy Q 64 ls (.int a0 :: .ref b :: [s0]) h = Ex mX7_init (Cont mX0_fishBy Q 64 ls 67 [s0]) 0 [.ref b, .int a0] [] h := Ex_cl (n := 2) (as := [.ref b, .int a0]) rfl rfl
theorem rX0_fishBy_67 (Q : Po) (h : Hp) (ls : List Value) (x : Nat) : Ex mX0_fishBy Q 67 ls [.ref x] h = Q (.inl (some (.ref x))) h := Ex_rt rfl rfl
theorem rX0_fishBy_68 (Q : Po) (h : Hp) (ls : List Value) (st : List Value) : Ex mX0_fishBy Q 68 ls st h = ((1 ≤ gC h ∧ 1 ≤ gS h) ∧ Ex mX0_fishBy Q 71 ls (.ref (gN h) :: st) (nO h 8 1)) := Ex_gd rfl rfl
theorem rX0_fishBy_71 (Q : Po) (h : Hp) (ls : List Value) (st : List Value) (x : Nat) : Ex mX0_fishBy Q 71 ls (.ref x :: st) h = Ex mX0_fishBy Q 72 ls (.ref x :: .ref x :: st) h := Ex_nx rfl rfl
theorem rX0_fishBy_72 (Q : Po) (h : Hp) (l0 : Value) (x : Int32) (st : List Value) : Ex mX0_fishBy Q 72 [l0, .int x] st h = Ex mX0_fishBy Q 73 [l0, .int x] (.int x :: st) h := Ex_nx rfl rfl
theorem rX0_fishBy_73 (Q : Po) (h : Hp) (ls : List Value) (a0 : Int32) (s0 : Value) (b : Nat) : Ex mX0_fishBy Q 73 ls (.int a0 :: .ref b :: [s0]) h = Ex mX8_init (Cont mX0_fishBy Q 73 ls 76 [s0]) 0 [.ref b, .int a0] [] h := Ex_cl (n := 2) (as := [.ref b, .int a0]) rfl rfl
theorem rX0_fishBy_76 (Q : Po) (h : Hp) (ls : List Value) (x : Nat) : Ex mX0_fishBy Q 76 ls [.ref x] h = Q (.inl (some (.ref x))) h := Ex_rt rfl rfl
theorem rX0_fishBy_t (Q : Po) (h : Hp) (pc n a : Nat) (ls st : List Value) : Cont mX0_fishBy Q pc ls n st (.inr a) h = Q (.inr a) h := rfl
/-! java/lang/Math.max(II)I -/
def mJ13_max : Cd := ([(0, .inl (i_iload 0 1)),
  (1, .inl (i_iload 1 2)),
  (2, .inl (i_icmp (fun x y => x < y) 9 5)),
  (5, .inl (i_iload 0 6)),
  (6, .inl (i_goto 10)),
  (9, .inl (i_iload 1 10)),
  (10, .inl i_iret)], noH)
theorem rJ13_max_0 (Q : Po) (h : Hp) (l1 : Value) (x : Int32) (st : List Value) : Ex mJ13_max Q 0 [.int x, l1] st h = Ex mJ13_max Q 1 [.int x, l1] (.int x :: st) h := Ex_nx rfl rfl
theorem rJ13_max_1 (Q : Po) (h : Hp) (l0 : Value) (x : Int32) (st : List Value) : Ex mJ13_max Q 1 [l0, .int x] st h = Ex mJ13_max Q 2 [l0, .int x] (.int x :: st) h := Ex_nx rfl rfl
theorem rJ13_max_2 (Q : Po) (h : Hp) (ls : List Value) (st : List Value) (x y : Int32) : Ex mJ13_max Q 2 ls (.int y :: .int x :: st) h = if x < y then Ex mJ13_max Q 9 ls st h else Ex mJ13_max Q 5 ls st h := Ex_br rfl rfl
theorem rJ13_max_5 (Q : Po) (h : Hp) (l1 : Value) (x : Int32) (st : List Value) : Ex mJ13_max Q 5 [.int x, l1] st h = Ex mJ13_max Q 6 [.int x, l1] (.int x :: st) h := Ex_nx rfl rfl
theorem rJ13_max_6 (Q : Po) (h : Hp) (ls : List Value) (st : List Value) : Ex mJ13_max Q 6 ls st h = Ex mJ13_max Q 10 ls st h := Ex_nx rfl rfl
theorem rJ13_max_9 (Q : Po) (h : Hp) (l0 : Value) (x : Int32) (st : List Value) : Ex mJ13_max Q 9 [l0, .int x] st h = Ex mJ13_max Q 10 [l0, .int x] (.int x :: st) h := Ex_nx rfl rfl
theorem rJ13_max_10 (Q : Po) (h : Hp) (ls : List Value) (x : Int32) : Ex mJ13_max Q 10 ls [.int x] h = Q (.inl (some (.int x))) h := Ex_rt rfl rfl
theorem rJ13_max_t (Q : Po) (h : Hp) (pc n a : Nat) (ls st : List Value) : Cont mJ13_max Q pc ls n st (.inr a) h = Q (.inr a) h := rfl
/-! java/util/ArrayList.grow(I)[Ljava/lang/Object; -/
def mJ2_grow_2 : Cd := ([(0, .inl (i_aload 0 1)),
  (1, .inl (i_getf 161 [14] 4)),
  (4, .inl (i_alen [57, 59] 5)),
  (5, .inl (i_istore 2 6)),
  (6, .inl (i_iload 2 7)),
  (7, .inl (i_if (fun x => 0 < x) 20 10)),
  (10, .inl (i_aload 0 11)),
  (11, .inl (i_getf 161 [14] 14)),
  (14, .inl (i_gets 1001 17)),
  (17, .inl (i_acmp 45 20)),
  (20, .inl (i_iload 2 21)),
  (21, .inl (i_iload 1 22)),
  (22, .inl (i_iload 2 23)),
  (23, .inl (i_bin (fun x y => x - y) 24)),
  (24, .inl (i_iload 2 25)),
  (25, .inl (i_push (.int 1) 26)),
  (26, .inl (i_bin (fun x y => x >>> (y &&& 31)) 27)),
  (30, .inl (i_istore 3 31)),
  (31, .inl (i_aload 0 32)),
  (32, .inl (i_aload 0 33)),
  (33, .inl (i_getf 161 [14] 36)),
  (36, .inl (i_iload 3 37)),
  (40, .inl (i_dup_x1 41)),
  (41, .inl (i_putR 161 [14] 44)),
  (44, .inl i_aret),
  (45, .inl (i_aload 0 46)),
  (46, .inl (i_push (.int 10) 48)),
  (48, .inl (i_iload 1 49)),
  (49, .inr (c_S 2 52 2 (Mt mJ13_max 2))),
  (52, .inl (i_newr 57 55)),
  (55, .inl (i_dup_x1 56)),
  (56, .inl (i_putR 161 [14] 59)),
  (59, .inl i_aret)], noH)
theorem rJ2_grow_2_0 (Q : Po) (h : Hp) (l1 l2 l3 : Value) (x : Nat) (st : List Value) : Ex mJ2_grow_2 Q 0 [.ref x, l1, l2, l3] st h = Ex mJ2_grow_2 Q 1 [.ref x, l1, l2, l3] (.ref x :: st) h := Ex_nx rfl rfl
theorem rJ2_grow_2_0n (Q : Po) (h : Hp) (l1 l2 l3 : Value) (st : List Value) : Ex mJ2_grow_2 Q 0 [.null, l1, l2, l3] st h = Ex mJ2_grow_2 Q 1 [.null, l1, l2, l3] (.null :: st) h := Ex_nx rfl rfl
theorem rJ2_grow_2_1 (Q : Po) (h : Hp) (ls : List Value) (st : List Value) (a : Nat) : Ex mJ2_grow_2 Q 1 ls (.ref a :: st) h = (gK h a ∈ ([14] : List Nat) ∧ Ex mJ2_grow_2 Q 4 ls (gF h 161 a :: st) h) := Ex_gd rfl rfl
theorem rJ2_grow_2_4 (Q : Po) (h : Hp) (ls : List Value) (st : List Value) (a : Nat) : Ex mJ2_grow_2 Q 4 ls (.ref a :: st) h = (gK h a ∈ ([57, 59] : List Nat) ∧ Ex mJ2_grow_2 Q 5 ls (.int (nI (gL h a)) :: st) h) := Ex_gd rfl rfl
theorem rJ2_grow_2_5 (Q : Po) (h : Hp) (l0 l1 l2 l3 : Value) (x : Int32) (st : List Value) : Ex mJ2_grow_2 Q 5 [l0, l1, l2, l3] (.int x :: st) h = Ex mJ2_grow_2 Q 6 [l0, l1, .int x, l3] st h := Ex_nx rfl rfl
theorem rJ2_grow_2_6 (Q : Po) (h : Hp) (l0 l1 l3 : Value) (x : Int32) (st : List Value) : Ex mJ2_grow_2 Q 6 [l0, l1, .int x, l3] st h = Ex mJ2_grow_2 Q 7 [l0, l1, .int x, l3] (.int x :: st) h := Ex_nx rfl rfl
theorem rJ2_grow_2_7 (Q : Po) (h : Hp) (ls : List Value) (st : List Value) (x : Int32) : Ex mJ2_grow_2 Q 7 ls (.int x :: st) h = if 0 < x then Ex mJ2_grow_2 Q 20 ls st h else Ex mJ2_grow_2 Q 10 ls st h := Ex_br rfl rfl
theorem rJ2_grow_2_10 (Q : Po) (h : Hp) (l1 l2 l3 : Value) (x : Nat) (st : List Value) : Ex mJ2_grow_2 Q 10 [.ref x, l1, l2, l3] st h = Ex mJ2_grow_2 Q 11 [.ref x, l1, l2, l3] (.ref x :: st) h := Ex_nx rfl rfl
theorem rJ2_grow_2_10n (Q : Po) (h : Hp) (l1 l2 l3 : Value) (st : List Value) : Ex mJ2_grow_2 Q 10 [.null, l1, l2, l3] st h = Ex mJ2_grow_2 Q 11 [.null, l1, l2, l3] (.null :: st) h := Ex_nx rfl rfl
theorem rJ2_grow_2_11 (Q : Po) (h : Hp) (ls : List Value) (st : List Value) (a : Nat) : Ex mJ2_grow_2 Q 11 ls (.ref a :: st) h = (gK h a ∈ ([14] : List Nat) ∧ Ex mJ2_grow_2 Q 14 ls (gF h 161 a :: st) h) := Ex_gd rfl rfl
theorem rJ2_grow_2_14 (Q : Po) (h : Hp) (ls : List Value) (st : List Value) : Ex mJ2_grow_2 Q 14 ls st h = Ex mJ2_grow_2 Q 17 ls (gF h 1001 0 :: st) h := Ex_nx rfl rfl
theorem rJ2_grow_2_17 (Q : Po) (h : Hp) (ls : List Value) (st : List Value) (x y : Nat) : Ex mJ2_grow_2 Q 17 ls (.ref y :: .ref x :: st) h = if x = y then Ex mJ2_grow_2 Q 45 ls st h else Ex mJ2_grow_2 Q 20 ls st h := Ex_br rfl rfl
theorem rJ2_grow_2_20 (Q : Po) (h : Hp) (l0 l1 l3 : Value) (x : Int32) (st : List Value) : Ex mJ2_grow_2 Q 20 [l0, l1, .int x, l3] st h = Ex mJ2_grow_2 Q 21 [l0, l1, .int x, l3] (.int x :: st) h := Ex_nx rfl rfl
theorem rJ2_grow_2_21 (Q : Po) (h : Hp) (l0 l2 l3 : Value) (x : Int32) (st : List Value) : Ex mJ2_grow_2 Q 21 [l0, .int x, l2, l3] st h = Ex mJ2_grow_2 Q 22 [l0, .int x, l2, l3] (.int x :: st) h := Ex_nx rfl rfl
theorem rJ2_grow_2_22 (Q : Po) (h : Hp) (l0 l1 l3 : Value) (x : Int32) (st : List Value) : Ex mJ2_grow_2 Q 22 [l0, l1, .int x, l3] st h = Ex mJ2_grow_2 Q 23 [l0, l1, .int x, l3] (.int x :: st) h := Ex_nx rfl rfl
theorem rJ2_grow_2_23 (Q : Po) (h : Hp) (ls : List Value) (st : List Value) (x y : Int32) : Ex mJ2_grow_2 Q 23 ls (.int y :: .int x :: st) h = Ex mJ2_grow_2 Q 24 ls (.int (x - y) :: st) h := Ex_nx rfl rfl
theorem rJ2_grow_2_24 (Q : Po) (h : Hp) (l0 l1 l3 : Value) (x : Int32) (st : List Value) : Ex mJ2_grow_2 Q 24 [l0, l1, .int x, l3] st h = Ex mJ2_grow_2 Q 25 [l0, l1, .int x, l3] (.int x :: st) h := Ex_nx rfl rfl
theorem rJ2_grow_2_25 (Q : Po) (h : Hp) (ls : List Value) (st : List Value) : Ex mJ2_grow_2 Q 25 ls st h = Ex mJ2_grow_2 Q 26 ls (.int 1 :: st) h := Ex_nx rfl rfl
theorem rJ2_grow_2_26 (Q : Po) (h : Hp) (ls : List Value) (st : List Value) (x y : Int32) : Ex mJ2_grow_2 Q 26 ls (.int y :: .int x :: st) h = Ex mJ2_grow_2 Q 27 ls (.int (x >>> (y &&& 31)) :: st) h := Ex_nx rfl rfl
theorem rJ2_grow_2_30 (Q : Po) (h : Hp) (l0 l1 l2 l3 : Value) (x : Int32) (st : List Value) : Ex mJ2_grow_2 Q 30 [l0, l1, l2, l3] (.int x :: st) h = Ex mJ2_grow_2 Q 31 [l0, l1, l2, .int x] st h := Ex_nx rfl rfl
theorem rJ2_grow_2_31 (Q : Po) (h : Hp) (l1 l2 l3 : Value) (x : Nat) (st : List Value) : Ex mJ2_grow_2 Q 31 [.ref x, l1, l2, l3] st h = Ex mJ2_grow_2 Q 32 [.ref x, l1, l2, l3] (.ref x :: st) h := Ex_nx rfl rfl
theorem rJ2_grow_2_31n (Q : Po) (h : Hp) (l1 l2 l3 : Value) (st : List Value) : Ex mJ2_grow_2 Q 31 [.null, l1, l2, l3] st h = Ex mJ2_grow_2 Q 32 [.null, l1, l2, l3] (.null :: st) h := Ex_nx rfl rfl
theorem rJ2_grow_2_32 (Q : Po) (h : Hp) (l1 l2 l3 : Value) (x : Nat) (st : List Value) : Ex mJ2_grow_2 Q 32 [.ref x, l1, l2, l3] st h = Ex mJ2_grow_2 Q 33 [.ref x, l1, l2, l3] (.ref x :: st) h := Ex_nx rfl rfl
theorem rJ2_grow_2_32n (Q : Po) (h : Hp) (l1 l2 l3 : Value) (st : List Value) : Ex mJ2_grow_2 Q 32 [.null, l1, l2, l3] st h = Ex mJ2_grow_2 Q 33 [.null, l1, l2, l3] (.null :: st) h := Ex_nx rfl rfl
theorem rJ2_grow_2_33 (Q : Po) (h : Hp) (ls : List Value) (st : List Value) (a : Nat) : Ex mJ2_grow_2 Q 33 ls (.ref a :: st) h = (gK h a ∈ ([14] : List Nat) ∧ Ex mJ2_grow_2 Q 36 ls (gF h 161 a :: st) h) := Ex_gd rfl rfl
theorem rJ2_grow_2_36 (Q : Po) (h : Hp) (l0 l1 l2 : Value) (x : Int32) (st : List Value) : Ex mJ2_grow_2 Q 36 [l0, l1, l2, .int x] st h = Ex mJ2_grow_2 Q 37 [l0, l1, l2, .int x] (.int x :: st) h := Ex_nx rfl rfl
theorem rJ2_grow_2_40 (Q : Po) (h : Hp) (ls : List Value) (st : List Value) (x : Nat) (y : Nat) : Ex mJ2_grow_2 Q 40 ls (.ref x :: .ref y :: st) h = Ex mJ2_grow_2 Q 41 ls (.ref x :: .ref y :: .ref x :: st) h := Ex_nx rfl rfl
theorem rJ2_grow_2_41 (Q : Po) (h : Hp) (ls : List Value) (st : List Value) (x a : Nat) : Ex mJ2_grow_2 Q 41 ls (.ref x :: .ref a :: st) h = (gK h a ∈ ([14] : List Nat) ∧ Ex mJ2_grow_2 Q 44 ls st (pF h 161 a (.ref x))) := Ex_gd rfl rfl
theorem rJ2_grow_2_41n (Q : Po) (h : Hp) (ls : List Value) (st : List Value) (a : Nat) : Ex mJ2_grow_2 Q 41 ls (.null :: .ref a :: st) h = (gK h a ∈ ([14] : List Nat) ∧ Ex mJ2_grow_2 Q 44 ls st (pF h 161 a .null)) := Ex_gd rfl rfl
theorem rJ2_grow_2_44 (Q : Po) (h : Hp) (ls : List Value) (x : Nat) : Ex mJ2_grow_2 Q 44 ls [.ref x] h = Q (.inl (some (.ref x))) h := Ex_rt rfl rfl
theorem rJ2_grow_2_45 (Q : Po) (h : Hp) (l1 l2 l3 : Value) (x : Nat) (st : List Value) : Ex mJ2_grow_2 Q 45 [.ref x, l1, l2, l3] st h = Ex mJ2_grow_2 Q 46 [.ref x, l1, l2, l3] (.ref x :: st) h := Ex_nx rfl rfl
theorem rJ2_grow_2_45n (Q : Po) (h : Hp) (l1 l2 l3 : Value) (st : List Value) : Ex mJ2_grow_2 Q 45 [.null, l1, l2, l3] st h = Ex mJ2_grow_2 Q 46 [.null, l1, l2, l3] (.null :: st) h := Ex_nx rfl rfl
theorem rJ2_grow_2_46 (Q : Po) (h : Hp) (ls : List Value) (st : List Value) : Ex mJ2_grow_2 Q 46 ls st h = Ex mJ2_grow_2 Q 48 ls (.int 10 :: st) h := Ex_nx rfl rfl
theorem rJ2_grow_2_48 (Q : Po) (h : Hp) (l0 l2 l3 : Value) (x : Int32) (st : List Value) : Ex mJ2_grow_2 Q 48 [l0, .int x, l2, l3] st h = Ex mJ2_grow_2 Q 49 [l0, .int x, l2, l3] (.int x :: st) h := Ex_nx rfl rfl
theorem rJ2_grow_2_49 (Q : Po) (h : Hp) (ls : List Value) (a0 : Int32) (a1 : Int32) (s0 : Value) : Ex mJ2_grow_2 Q 49 ls (.int a1 :: .int a0 :: [s0]) h = Ex mJ13_max (Cont mJ2_grow_2 Q 49 ls 52 [s0]) 0 [.int a0, .int a1] [] h := Ex_cl (n := 2) (as := [.int a0, .int a1]) rfl rfl
theorem rJ2_grow_2_52 (Q : Po) (h : Hp) (ls : List Value) (st : List Value) (x : Int32) : Ex mJ2_grow_2 Q 52 ls (.int x :: st) h = ((¬ x < 0 ∧ x.toNatClampNeg ≤ 65536 ∧ 1 ≤ gC h ∧ x.toNatClampNeg ≤ gS h) ∧ Ex mJ2_grow_2 Q 55 ls (.ref (gN h) :: st) (nR h 57 x.toNatClampNeg)) := Ex_gd rfl rfl
theorem rJ2_grow_2_55 (Q : Po) (h : Hp) (ls : List Value) (st : List Value) (x : Nat) (y : Nat) : Ex mJ2_grow_2 Q 55 ls (.ref x :: .ref y :: st) h = Ex mJ2_grow_2 Q 56 ls (.ref x :: .ref y :: .ref x :: st) h := Ex_nx rfl rfl
theorem rJ2_grow_2_56 (Q : Po) (h : Hp) (ls : List Value) (st : List Value) (x a : Nat) : Ex mJ2_grow_2 Q 56 ls (.ref x :: .ref a :: st) h = (gK h a ∈ ([14] : List Nat) ∧ Ex mJ2_grow_2 Q 59 ls st (pF h 161 a (.ref x))) := Ex_gd rfl rfl
theorem rJ2_grow_2_56n (Q : Po) (h : Hp) (ls : List Value) (st : List Value) (a : Nat) : Ex mJ2_grow_2 Q 56 ls (.null :: .ref a :: st) h = (gK h a ∈ ([14] : List Nat) ∧ Ex mJ2_grow_2 Q 59 ls st (pF h 161 a .null)) := Ex_gd rfl rfl
theorem rJ2_grow_2_59 (Q : Po) (h : Hp) (ls : List Value) (x : Nat) : Ex mJ2_grow_2 Q 59 ls [.ref x] h = Q (.inl (some (.ref x))) h := Ex_rt rfl rfl
theorem rJ2_grow_2_t (Q : Po) (h : Hp) (pc n a : Nat) (ls st : List Value) : Cont mJ2_grow_2 Q pc ls n st (.inr a) h = Q (.inr a) h := rfl
/-! java/util/ArrayList.grow()[Ljava/lang/Object; -/
def mJ2_grow : Cd := ([(0, .inl (i_aload 0 1)),
  (1, .inl (i_aload 0 2)),
  (2, .inl (i_getf 162 [14] 5)),
  (5, .inl (i_push (.int 1) 6)),
  (6, .inl (i_bin (fun x y => x + y) 7)),
  (7, .inr (c_V 1 10 4 14 (Mt mJ2_grow_2 4))),
  (10, .inl i_aret)], noH)
theorem rJ2_grow_0 (Q : Po) (h : Hp) (x : Nat) (st : List Value) : Ex mJ2_grow Q 0 [.ref x] st h = Ex mJ2_grow Q 1 [.ref x] (.ref x :: st) h := Ex_nx rfl rfl
theorem rJ2_grow_0n (Q : Po) (h : Hp) (st : List Value) : Ex mJ2_grow Q 0 [.null] st h = Ex mJ2_grow Q 1 [.null] (.null :: st) h := Ex_nx rfl rfl
theorem rJ2_grow_1 (Q : Po) (h : Hp) (x : Nat) (st : List Value) : Ex mJ2_grow Q 1 [.ref x] st h = Ex mJ2_grow Q 2 [.ref x] (.ref x :: st) h := Ex_nx rfl rfl
theorem rJ2_grow_1n (Q : Po) (h : Hp) (st : List Value) : Ex mJ2_grow Q 1 [.null] st h = Ex mJ2_grow Q 2 [.null] (.null :: st) h := Ex_nx rfl rfl
theorem rJ2_grow_2 (Q : Po) (h : Hp) (ls : List Value) (st : List Value) (a : Nat) : Ex mJ2_grow Q 2 ls (.ref a :: st) h = (gK h a ∈ ([14] : List Nat) ∧ Ex mJ2_grow Q 5 ls (gF h 162 a :: st) h) := Ex_gd rfl rfl
theorem rJ2_grow_5 (Q : Po) (h : Hp) (ls : List Value) (st : List Value) : Ex mJ2_grow Q 5 ls st h = Ex mJ2_grow Q 6 ls (.int 1 :: st) h := Ex_nx rfl rfl
theorem rJ2_grow_6 (Q : Po) (h : Hp) (ls : List Value) (st : List Value) (x y : Int32) : Ex mJ2_grow Q 6 ls (.int y :: .int x :: st) h = Ex mJ2_grow Q 7 ls (.int (x + y) :: st) h := Ex_nx rfl rfl
theorem rJ2_grow_7 (Q : Po) (h : Hp) (ls : List Value) (a0 : Int32) (b : Nat) : Ex mJ2_grow Q 7 ls (.int a0 :: .ref b :: []) h = (gK h b = 14 ∧ Ex mJ2_grow_2 (Cont mJ2_grow Q 7 ls 10 []) 0 [.ref b, .int a0, .retAddr 0, .retAddr 0] [] h) := Ex_cg (n := 4) (as := [.ref b, .int a0]) rfl rfl
theorem rJ2_grow_10 (Q : Po) (h : Hp) (ls : List Value) (x : Nat) : Ex mJ2_grow Q 10 ls [.ref x] h = Q (.inl (some (.ref x))) h := Ex_rt rfl rfl
theorem rJ2_grow_t (Q : Po) (h : Hp) (pc n a : Nat) (ls st : List Value) : Cont mJ2_grow Q pc ls n st (.inr a) h = Q (.inr a) h := rfl
/-! java/util/ArrayList.add(Ljava/lang/Object;[Ljava/lang/Object;I)V -/
def mJ2_add_2 : Cd := ([(0, .inl (i_iload 3 1)),
  (1, .inl (i_aload 2 2)),
  (2, .inl (i_alen [57, 59] 3)),
  (3, .inl (i_icmp (fun x y => ¬ x = y) 11 6)),
  (6, .inl (i_aload 0 7)),
  (7, .inr (c_V 0 10 1 14 (Mt mJ2_grow 1))),
  (10, .inl (i_astore 2 11)),
  (11, .inl (i_aload 2 12)),
  (12, .inl (i_iload 3 13)),
  (13, .inl (i_aload 1 14)),
  (14, .inl (i_aast 57 [4, 5, 6, 7, 8] 15)),
  (15, .inl (i_aload 0 16)),
  (16, .inl (i_iload 3 17)),
  (17, .inl (i_push (.int 1) 18)),
  (18, .inl (i_bin (fun x y => x + y) 19)),
  (19, .inl (i_putI 162 [14] 22)),
  (22, .inl i_vret)], noH)
theorem rJ2_add_2_0 (Q : Po) (h : Hp) (l0 l1 l2 : Value) (x : Int32) (st : List Value) : Ex mJ2_add_2 Q 0 [l0, l1, l2, .int x] st h = Ex mJ2_add_2 Q 1 [l0, l1, l2, .int x] (.int x :: st) h := Ex_nx rfl rfl
theorem rJ2_add_2_1 (Q : Po) (h : Hp) (l0 l1 l3 : Value) (x : Nat) (st : List Value) : Ex mJ2_add_2 Q 1 [l0, l1, .ref x, l3] st h = Ex mJ2_add_2 Q 2 [l0, l1, .ref x, l3] (.ref x :: st) h := Ex_nx rfl rfl
theorem rJ2_add_2_1n (Q : Po) (h : Hp) (l0 l1 l3 : Value) (st : List Value) : Ex mJ2_add_2 Q 1 [l0, l1, .null, l3] st h = Ex mJ2_add_2 Q 2 [l0, l1, .null, l3] (.null :: st) h := Ex_nx rfl rfl
theorem rJ2_add_2_2 (Q : Po) (h : Hp) (ls : List Value) (st : List Value) (a : Nat) : Ex mJ2_add_2 Q 2 ls (.ref a :: st) h = (gK h a ∈ ([57, 59] : List Nat) ∧ Ex mJ2_add_2 Q 3 ls (.int (nI (gL h a)) :: st) h) := Ex_gd rfl rfl
theorem rJ2_add_2_3 (Q : Po) (h : Hp) (ls : List Value) (st : List Value) (x y : Int32) : Ex mJ2_add_2 Q 3 ls (.int y :: .int x :: st) h = if ¬ x = y then Ex mJ2_add_2 Q 11 ls st h else Ex mJ2_add_2 Q 6 ls st h := Ex_br rfl rfl
theorem rJ2_add_2_6 (Q : Po) (h : Hp) (l1 l2 l3 : Value) (x : Nat) (st : List Value) : Ex mJ2_add_2 Q 6 [.ref x, l1, l2, l3] st h = Ex mJ2_add_2 Q 7 [.ref x, l1, l2, l3] (.ref x :: st) h := Ex_nx rfl rfl
theorem rJ2_add_2_6n (Q : Po) (h : Hp) (l1 l2 l3 : Value) (st : List Value) : Ex mJ2_add_2 Q 6 [.null, l1, l2, l3] st h = Ex mJ2_add_2 Q 7 [.null, l1, l2, l3] (.null :: st) h := Ex_nx rfl rfl
theorem rJ2_add_2_7 (Q : Po) (h : Hp) (ls : List Value) (b : Nat) : Ex mJ2_add_2 Q 7 ls (.ref b :: []) h = (gK h b = 14 ∧ Ex mJ2_grow (Cont mJ2_add_2 Q 7 ls 10 []) 0 [.ref b] [] h) := Ex_cg (n := 1) (as := [.ref b]) rfl rfl
theorem rJ2_add_2_10 (Q : Po) (h : Hp) (l0 l1 l2 l3 : Value) (x : Nat) (st : List Value) : Ex mJ2_add_2 Q 10 [l0, l1, l2, l3] (.ref x :: st) h = Ex mJ2_add_2 Q 11 [l0, l1, .ref x, l3] st h := Ex_nx rfl rfl
theorem rJ2_add_2_11 (Q : Po) (h : Hp) (l0 l1 l3 : Value) (x : Nat) (st : List Value) : Ex mJ2_add_2 Q 11 [l0, l1, .ref x, l3] st h = Ex mJ2_add_2 Q 12 [l0, l1, .ref x, l3] (.ref x :: st) h := Ex_nx rfl rfl
theorem rJ2_add_2_11n (Q : Po) (h : Hp) (l0 l1 l3 : Value) (st : List Value) : Ex mJ2_add_2 Q 11 [l0, l1, .null, l3] st h = Ex mJ2_add_2 Q 12 [l0, l1, .null, l3] (.null :: st) h := Ex_nx rfl rfl
theorem rJ2_add_2_12 (Q : Po) (h : Hp) (l0 l1 l2 : Value) (x : Int32) (st : List Value) : Ex mJ2_add_2 Q 12 [l0, l1, l2, .int x] st h = Ex mJ2_add_2 Q 13 [l0, l1, l2, .int x] (.int x :: st) h := Ex_nx rfl rfl
theorem rJ2_add_2_13 (Q : Po) (h : Hp) (l0 l2 l3 : Value) (x : Nat) (st : List Value) : Ex mJ2_add_2 Q 13 [l0, .ref x, l2, l3] st h = Ex mJ2_add_2 Q 14 [l0, .ref x, l2, l3] (.ref x :: st) h := Ex_nx rfl rfl
theorem rJ2_add_2_13n (Q : Po) (h : Hp) (l0 l2 l3 : Value) (st : List Value) : Ex mJ2_add_2 Q 13 [l0, .null, l2, l3] st h = Ex mJ2_add_2 Q 14 [l0, .null, l2, l3] (.null :: st) h := Ex_nx rfl rfl
theorem rJ2_add_2_14 (Q : Po) (h : Hp) (ls : List Value) (st : List Value) (a x : Nat) (i : Int32) : Ex mJ2_add_2 Q 14 ls (.ref x :: .int i :: .ref a :: st) h = ((gK h a = 57 ∧ gK h x ∈ ([4, 5, 6, 7, 8] : List Nat) ∧ ¬ (i < 0 ∨ gL h a ≤ i.toNatClampNeg)) ∧ Ex mJ2_add_2 Q 15 ls st (pR h a i.toNatClampNeg (some x))) := Ex_gd rfl rfl
theorem rJ2_add_2_14n (Q : Po) (h : Hp) (ls : List Value) (st : List Value) (a : Nat) (i : Int32) : Ex mJ2_add_2 Q 14 ls (.null :: .int i :: .ref a :: st) h = ((gK h a = 57 ∧ ¬ (i < 0 ∨ gL h a ≤ i.toNatClampNeg)) ∧ Ex mJ2_add_2 Q 15 ls st (pR h a i.toNatClampNeg none)) := Ex_gd rfl rfl
theorem rJ2_add_2_15 (Q : Po) (h : Hp) (l1 l2 l3 : Value) (x : Nat) (st : List Value) : Ex mJ2_add_2 Q 15 [.ref x, l1, l2, l3] st h = Ex mJ2_add_2 Q 16 [.ref x, l1, l2, l3] (.ref x :: st) h := Ex_nx rfl rfl
theorem rJ2_add_2_15n (Q : Po) (h : Hp) (l1 l2 l3 : Value) (st : List Value) : Ex mJ2_add_2 Q 15 [.null, l1, l2, l3] st h = Ex mJ2_add_2 Q 16 [.null, l1, l2, l3] (.null :: st) h := Ex_nx rfl rfl
theorem rJ2_add_2_16 (Q : Po) (h : Hp) (l0 l1 l2 : Value) (x : Int32) (st : List Value) : Ex mJ2_add_2 Q 16 [l0, l1, l2, .int x] st h = Ex mJ2_add_2 Q 17 [l0, l1, l2, .int x] (.int x :: st) h := Ex_nx rfl rfl
theorem rJ2_add_2_17 (Q : Po) (h : Hp) (ls : List Value) (st : List Value) : Ex mJ2_add_2 Q 17 ls st h = Ex mJ2_add_2 Q 18 ls (.int 1 :: st) h := Ex_nx rfl rfl
theorem rJ2_add_2_18 (Q : Po) (h : Hp) (ls : List Value) (st : List Value) (x y : Int32) : Ex mJ2_add_2 Q 18 ls (.int y :: .int x :: st) h = Ex mJ2_add_2 Q 19 ls (.int (x + y) :: st) h := Ex_nx rfl rfl
theorem rJ2_add_2_19 (Q : Po) (h : Hp) (ls : List Value) (st : List Value) (x : Int32) (a : Nat) : Ex mJ2_add_2 Q 19 ls (.int x :: .ref a :: st) h = (gK h a ∈ ([14] : List Nat) ∧ Ex mJ2_add_2 Q 22 ls st (pF h 162 a (.int x))) := Ex_gd rfl rfl
theorem rJ2_add_2_22 (Q : Po) (h : Hp) (ls : List Value) : Ex mJ2_add_2 Q 22 ls [] h = Q (.inl none) h := Ex_rt rfl rfl
theorem rJ2_add_2_t (Q : Po) (h : Hp) (pc n a : Nat) (ls st : List Value) : Cont mJ2_add_2 Q pc ls n st (.inr a) h = Q (.inr a) h := rfl
/-! java/util/ArrayList.add(Ljava/lang/Object;)Z -/
def mJ2_add : Cd := ([(0, .inl (i_aload 0 1)),
  (1, .inl (i_dup 2)),
  (2, .inl (i_getf 158 [14] 5)),
  (5, .inl (i_push (.int 1) 6)),
  (6, .inl (i_bin (fun x y => x + y) 7)),
  (7, .inl (i_putI 158 [14] 10)),
  (10, .inl (i_aload 0 11)),
  (11, .inl (i_aload 1 12)),
  (12, .inl (i_aload 0 13)),
  (13, .inl (i_getf 161 [14] 16)),
  (16, .inl (i_aload 0 17)),
  (17, .inl (i_getf 162 [14] 20)),
  (20, .inr (c_V 3 23 4 14 (Mt mJ2_add_2 4))),
  (23, .inl (i_push (.int 1) 24)),
  (24, .inl i_zret)], noH)
theorem rJ2_add_0 (Q : Po) (h : Hp) (l1 : Value) (x : Nat) (st : List Value) : Ex mJ2_add Q 0 [.ref x, l1] st h = Ex mJ2_add Q 1 [.ref x, l1] (.ref x :: st) h := Ex_nx rfl rfl
theorem rJ2_add_0n (Q : Po) (h : Hp) (l1 : Value) (st : List Value) : Ex mJ2_add Q 0 [.null, l1] st h = Ex mJ2_add Q 1 [.null, l1] (.null :: st) h := Ex_nx rfl rfl
theorem rJ2_add_1 (Q : Po) (h : Hp) (ls : List Value) (st : List Value) (x : Nat) : Ex mJ2_add Q 1 ls (.ref x :: st) h = Ex mJ2_add Q 2 ls (.ref x :: .ref x :: st) h := Ex_nx rfl rfl
theorem rJ2_add_2 (Q : Po) (h : Hp) (ls : List Value) (st : List Value) (a : Nat) : Ex mJ2_add Q 2 ls (.ref a :: st) h = (gK h a ∈ ([14] : List Nat) ∧ Ex mJ2_add Q 5 ls (gF h 158 a :: st) h) := Ex_gd rfl rfl
theorem rJ2_add_5 (Q : Po) (h : Hp) (ls : List Value) (st : List Value) : Ex mJ2_add Q 5 ls st h = Ex mJ2_add Q 6 ls (.int 1 :: st) h := Ex_nx rfl rfl
theorem rJ2_add_6 (Q : Po) (h : Hp) (ls : List Value) (st : List Value) (x y : Int32) : Ex mJ2_add Q 6 ls (.int y :: .int x :: st) h = Ex mJ2_add Q 7 ls (.int (x + y) :: st) h := Ex_nx rfl rfl
theorem rJ2_add_7 (Q : Po) (h : Hp) (ls : List Value) (st : List Value) (x : Int32) (a : Nat) : Ex mJ2_add Q 7 ls (.int x :: .ref a :: st) h = (gK h a ∈ ([14] : List Nat) ∧ Ex mJ2_add Q 10 ls st (pF h 158 a (.int x))) := Ex_gd rfl rfl
theorem rJ2_add_10 (Q : Po) (h : Hp) (l1 : Value) (x : Nat) (st : List Value) : Ex mJ2_add Q 10 [.ref x, l1] st h = Ex mJ2_add Q 11 [.ref x, l1] (.ref x :: st) h := Ex_nx rfl rfl
theorem rJ2_add_10n (Q : Po) (h : Hp) (l1 : Value) (st : List Value) : Ex mJ2_add Q 10 [.null, l1] st h = Ex mJ2_add Q 11 [.null, l1] (.null :: st) h := Ex_nx rfl rfl
theorem rJ2_add_11 (Q : Po) (h : Hp) (l0 : Value) (x : Nat) (st : List Value) : Ex mJ2_add Q 11 [l0, .ref x] st h = Ex mJ2_add Q 12 [l0, .ref x] (.ref x :: st) h := Ex_nx rfl rfl
theorem rJ2_add_11n (Q : Po) (h : Hp) (l0 : Value) (st : List Value) : Ex mJ2_add Q 11 [l0, .null] st h = Ex mJ2_add Q 12 [l0, .null] (.null :: st) h := Ex_nx rfl rfl
theorem rJ2_add_12 (Q : Po) (h : Hp) (l1 : Value) (x : Nat) (st : List Value) : Ex mJ2_add Q 12 [.ref x, l1] st h = Ex mJ2_add Q 13 [.ref x, l1] (.ref x :: st) h := Ex_nx rfl rfl
theorem rJ2_add_12n (Q : Po) (h : Hp) (l1 : Value) (st : List Value) : Ex mJ2_add Q 12 [.null, l1] st h = Ex mJ2_add Q 13 [.null, l1] (.null :: st) h := Ex_nx rfl rfl
theorem rJ2_add_13 (Q : Po) (h : Hp) (ls : List Value) (st : List Value) (a : Nat) : Ex mJ2_add Q 13 ls (.ref a :: st) h = (gK h a ∈ ([14] : List Nat) ∧ Ex mJ2_add Q 16 ls (gF h 161 a :: st) h) := Ex_gd rfl rfl
theorem rJ2_add_16 (Q : Po) (h : Hp) (l1 : Value) (x : Nat) (st : List Value) : Ex mJ2_add Q 16 [.ref x, l1] st h = Ex mJ2_add Q 17 [.ref x, l1] (.ref x :: st) h := Ex_nx rfl rfl
theorem rJ2_add_16n (Q : Po) (h : Hp) (l1 : Value) (st : List Value) : Ex mJ2_add Q 16 [.null, l1] st h = Ex mJ2_add Q 17 [.null, l1] (.null :: st) h := Ex_nx rfl rfl
theorem rJ2_add_17 (Q : Po) (h : Hp) (ls : List Value) (st : List Value) (a : Nat) : Ex mJ2_add Q 17 ls (.ref a :: st) h = (gK h a ∈ ([14] : List Nat) ∧ Ex mJ2_add Q 20 ls (gF h 162 a :: st) h) := Ex_gd rfl rfl
theorem rJ2_add_20 (Q : Po) (h : Hp) (ls : List Value) (a0 : Nat) (a1 : Nat) (a2 : Int32) (b : Nat) : Ex mJ2_add Q 20 ls (.int a2 :: .ref a1 :: .ref a0 :: .ref b :: []) h = (gK h b = 14 ∧ Ex mJ2_add_2 (Cont mJ2_add Q 20 ls 23 []) 0 [.ref b, .ref a0, .ref a1, .int a2] [] h) := Ex_cg (n := 4) (as := [.ref b, .ref a0, .ref a1, .int a2]) rfl rfl
theorem rJ2_add_23 (Q : Po) (h : Hp) (ls : List Value) (st : List Value) : Ex mJ2_add Q 23 ls st h = Ex mJ2_add Q 24 ls (.int 1 :: st) h := Ex_nx rfl rfl
theorem rJ2_add_24 (Q : Po) (h : Hp) (ls : List Value) (x : Int32) : Ex mJ2_add Q 24 ls [.int x] h = ((x = 0 ∨ x = 1) ∧ Q (.inl (some (.int x))) h) := Ex_rg rfl rfl
theorem rJ2_add_t (Q : Po) (h : Hp) (pc n a : Nat) (ls st : List Value) : Cont mJ2_add Q pc ls n st (.inr a) h = Q (.inr a) h := rfl
/-! FishReaders$Reader.fish()V -/
def mX12_fish : Cd := ([(0, .inl (i_aload 0 1)),
  (1, .inl (i_gets 1009 3)),
  (3, .inr (c_V 1 6 2 12 (Mt mX12_sortOf 2))),
  (6, .inl (i_istore 1 7)),
  (7, .inl (i_aload 0 8)),
  (8, .inl (i_getf 153 [12] 11)),
  (11, .inr (c_V 0 14 1 2 (Mt mX1_many 1))),
  (14, .inl (i_istore 2 15)),
  (15, .inl (i_aload 0 16)),
  (16, .inl (i_iload 2 17)),
  (17, .inl (i_push (.int 5) 18)),
  (18, .inr (c_V 2 21 3 12 (Mt mX12_begin 3))),
  (21, .inl (i_aload 0 22)),
  (22, .inl (i_getf 153 [12] 25)),
  (25, .inl (i_getf 53 [2] 28)),
  (28, .inl (i_iload 2 29)),
  (29, .inl (i_aload 0 30)),
  (30, .inl (i_push (.int 0) 31)),
  (31, .inl (i_aload 0 32)),
  (32, .inl (i_getf 153 [12] 35)),
  (35, .inl (i_getf 36 [2] 38)),
  (38, .inl (i_push (.int 1) 39)),
  (39, .inl (i_bin (fun x y => x - y) 40)),
  (40, .inr (c_V 2 43 4 12 (Mt mX12_figure 4))),
  (43, .inl (i_iast 51 (fun x => x) 44)),
  (44, .inl (i_aload 0 45)),
  (45, .inl (i_getf 153 [12] 48)),
  (48, .inl (i_getf 51 [2] 51)),
  (51, .inl (i_iload 1 52)),
  (52, .inl (i_iload 2 53)),
  (53, .inr (c_S 2 56 2 (Mt mX0_fishBy 2))),
  (56, .inr (c_V 1 61 2 14 (Mt mJ2_add 2))),
  (61, .inl (i_pop 62)),
  (62, .inl (i_aload 0 63)),
  (63, .inl (i_push (.int 4) 64)),
  (64, .inr (c_V 1 67 2 12 (Mt mX12_sign 2))),
  (67, .inl i_vret)], noH)
theorem rX12_fish_0 (Q : Po) (h : Hp) (l1 l2 : Value) (x : Nat) (st : List Value) : Ex mX12_fish Q 0 [.ref x, l1, l2] st h = Ex mX12_fish Q 1 [.ref x, l1, l2] (.ref x :: st) h := Ex_nx rfl rfl
theorem rX12_fish_1 (Q : Po) (h : Hp) (ls : List Value) (st : List Value) : Ex mX12_fish Q 1 ls st h = Ex mX12_fish Q 3 ls (gF h 1009 0 :: st) h := Ex_nx rfl rfl
theorem rX12_fish_3 (Q : Po) (h : Hp) (ls : List Value) (a0 : Nat) (b : Nat) : Ex mX12_fish Q 3 ls (.ref a0 :: .ref b :: []) h = (gK h b = 12 ∧ Ex mX12_sortOf (Cont mX12_fish Q 3 ls 6 []) 0 [.ref b, .ref a0] [] h) := Ex_cg (n := 2) (as := [.ref b, .ref a0]) rfl rfl
theorem rX12_fish_6 (Q : Po) (h : Hp) (l0 l1 l2 : Value) (x : Int32) (st : List Value) : Ex mX12_fish Q 6 [l0, l1, l2] (.int x :: st) h = Ex mX12_fish Q 7 [l0, .int x, l2] st h := Ex_nx rfl rfl
theorem rX12_fish_7 (Q : Po) (h : Hp) (l1 l2 : Value) (x : Nat) (st : List Value) : Ex mX12_fish Q 7 [.ref x, l1, l2] st h = Ex mX12_fish Q 8 [.ref x, l1, l2] (.ref x :: st) h := Ex_nx rfl rfl
theorem rX12_fish_8 (Q : Po) (h : Hp) (ls : List Value) (st : List Value) (a : Nat) : Ex mX12_fish Q 8 ls (.ref a :: st) h = (gK h a ∈ ([12] : List Nat) ∧ Ex mX12_fish Q 11 ls (gF h 153 a :: st) h) := Ex_gd rfl rfl
theorem rX12_fish_11 (Q : Po) (h : Hp) (ls : List Value) (b : Nat) : Ex mX12_fish Q 11 ls (.ref b :: []) h = (gK h b = 2 ∧ Ex mX1_many (Cont mX12_fish Q 11 ls 14 []) 0 [.ref b] [] h) := Ex_cg (n := 1) (as := [.ref b]) rfl rfl
theorem rX12_fish_14 (Q : Po) (h : Hp) (l0 l1 l2 : Value) (x : Int32) (st : List Value) : Ex mX12_fish Q 14 [l0, l1, l2] (.int x :: st) h = Ex mX12_fish Q 15 [l0, l1, .int x] st h := Ex_nx rfl rfl
theorem rX12_fish_15 (Q : Po) (h : Hp) (l1 l2 : Value) (x : Nat) (st : List Value) : Ex mX12_fish Q 15 [.ref x, l1, l2] st h = Ex mX12_fish Q 16 [.ref x, l1, l2] (.ref x :: st) h := Ex_nx rfl rfl
theorem rX12_fish_16 (Q : Po) (h : Hp) (l0 l1 : Value) (x : Int32) (st : List Value) : Ex mX12_fish Q 16 [l0, l1, .int x] st h = Ex mX12_fish Q 17 [l0, l1, .int x] (.int x :: st) h := Ex_nx rfl rfl
theorem rX12_fish_17 (Q : Po) (h : Hp) (ls : List Value) (st : List Value) : Ex mX12_fish Q 17 ls st h = Ex mX12_fish Q 18 ls (.int 5 :: st) h := Ex_nx rfl rfl
theorem rX12_fish_18 (Q : Po) (h : Hp) (ls : List Value) (a0 : Int32) (a1 : Int32) (b : Nat) : Ex mX12_fish Q 18 ls (.int a1 :: .int a0 :: .ref b :: []) h = (gK h b = 12 ∧ Ex mX12_begin (Cont mX12_fish Q 18 ls 21 []) 0 [.ref b, .int a0, .int a1] [] h) := Ex_cg (n := 3) (as := [.ref b, .int a0, .int a1]) rfl rfl
theorem rX12_fish_21 (Q : Po) (h : Hp) (l1 l2 : Value) (x : Nat) (st : List Value) : Ex mX12_fish Q 21 [.ref x, l1, l2] st h = Ex mX12_fish Q 22 [.ref x, l1, l2] (.ref x :: st) h := Ex_nx rfl rfl
theorem rX12_fish_22 (Q : Po) (h : Hp) (ls : List Value) (st : List Value) (a : Nat) : Ex mX12_fish Q 22 ls (.ref a :: st) h = (gK h a ∈ ([12] : List Nat) ∧ Ex mX12_fish Q 25 ls (gF h 153 a :: st) h) := Ex_gd rfl rfl
theorem rX12_fish_25 (Q : Po) (h : Hp) (ls : List Value) (st : List Value) (a : Nat) : Ex mX12_fish Q 25 ls (.ref a :: st) h = (gK h a ∈ ([2] : List Nat) ∧ Ex mX12_fish Q 28 ls (gF h 53 a :: st) h) := Ex_gd rfl rfl
theorem rX12_fish_28 (Q : Po) (h : Hp) (l0 l1 : Value) (x : Int32) (st : List Value) : Ex mX12_fish Q 28 [l0, l1, .int x] st h = Ex mX12_fish Q 29 [l0, l1, .int x] (.int x :: st) h := Ex_nx rfl rfl
theorem rX12_fish_29 (Q : Po) (h : Hp) (l1 l2 : Value) (x : Nat) (st : List Value) : Ex mX12_fish Q 29 [.ref x, l1, l2] st h = Ex mX12_fish Q 30 [.ref x, l1, l2] (.ref x :: st) h := Ex_nx rfl rfl
theorem rX12_fish_30 (Q : Po) (h : Hp) (ls : List Value) (st : List Value) : Ex mX12_fish Q 30 ls st h = Ex mX12_fish Q 31 ls (.int 0 :: st) h := Ex_nx rfl rfl
theorem rX12_fish_31 (Q : Po) (h : Hp) (l1 l2 : Value) (x : Nat) (st : List Value) : Ex mX12_fish Q 31 [.ref x, l1, l2] st h = Ex mX12_fish Q 32 [.ref x, l1, l2] (.ref x :: st) h := Ex_nx rfl rfl
theorem rX12_fish_32 (Q : Po) (h : Hp) (ls : List Value) (st : List Value) (a : Nat) : Ex mX12_fish Q 32 ls (.ref a :: st) h = (gK h a ∈ ([12] : List Nat) ∧ Ex mX12_fish Q 35 ls (gF h 153 a :: st) h) := Ex_gd rfl rfl
theorem rX12_fish_35 (Q : Po) (h : Hp) (ls : List Value) (st : List Value) (a : Nat) : Ex mX12_fish Q 35 ls (.ref a :: st) h = (gK h a ∈ ([2] : List Nat) ∧ Ex mX12_fish Q 38 ls (gF h 36 a :: st) h) := Ex_gd rfl rfl
theorem rX12_fish_38 (Q : Po) (h : Hp) (ls : List Value) (st : List Value) : Ex mX12_fish Q 38 ls st h = Ex mX12_fish Q 39 ls (.int 1 :: st) h := Ex_nx rfl rfl
theorem rX12_fish_39 (Q : Po) (h : Hp) (ls : List Value) (st : List Value) (x y : Int32) : Ex mX12_fish Q 39 ls (.int y :: .int x :: st) h = Ex mX12_fish Q 40 ls (.int (x - y) :: st) h := Ex_nx rfl rfl
theorem rX12_fish_40 (Q : Po) (h : Hp) (ls : List Value) (a0 : Int32) (a1 : Int32) (s0 s1 : Value) (b : Nat) : Ex mX12_fish Q 40 ls (.int a1 :: .int a0 :: .ref b :: [s0, s1]) h = (gK h b = 12 ∧ Ex mX12_figure (Cont mX12_fish Q 40 ls 43 [s0, s1]) 0 [.ref b, .int a0, .int a1, .retAddr 0] [] h) := Ex_cg (n := 4) (as := [.ref b, .int a0, .int a1]) rfl rfl
theorem rX12_fish_43 (Q : Po) (h : Hp) (ls : List Value) (st : List Value) (a : Nat) (i x : Int32) : Ex mX12_fish Q 43 ls (.int x :: .int i :: .ref a :: st) h = ((gK h a = 51 ∧ ¬ (i < 0 ∨ gL h a ≤ i.toNatClampNeg)) ∧ Ex mX12_fish Q 44 ls st (pI h a i.toNatClampNeg (x))) := Ex_gd rfl rfl
theorem rX12_fish_44 (Q : Po) (h : Hp) (l1 l2 : Value) (x : Nat) (st : List Value) : Ex mX12_fish Q 44 [.ref x, l1, l2] st h = Ex mX12_fish Q 45 [.ref x, l1, l2] (.ref x :: st) h := Ex_nx rfl rfl
theorem rX12_fish_45 (Q : Po) (h : Hp) (ls : List Value) (st : List Value) (a : Nat) : Ex mX12_fish Q 45 ls (.ref a :: st) h = (gK h a ∈ ([12] : List Nat) ∧ Ex mX12_fish Q 48 ls (gF h 153 a :: st) h) := Ex_gd rfl rfl
theorem rX12_fish_48 (Q : Po) (h : Hp) (ls : List Value) (st : List Value) (a : Nat) : Ex mX12_fish Q 48 ls (.ref a :: st) h = (gK h a ∈ ([2] : List Nat) ∧ Ex mX12_fish Q 51 ls (gF h 51 a :: st) h) := Ex_gd rfl rfl
theorem rX12_fish_51 (Q : Po) (h : Hp) (l0 l2 : Value) (x : Int32) (st : List Value) : Ex mX12_fish Q 51 [l0, .int x, l2] st h = Ex mX12_fish Q 52 [l0, .int x, l2] (.int x :: st) h := Ex_nx rfl rfl
theorem rX12_fish_52 (Q : Po) (h : Hp) (l0 l1 : Value) (x : Int32) (st : List Value) : Ex mX12_fish Q 52 [l0, l1, .int x] st h = Ex mX12_fish Q 53 [l0, l1, .int x] (.int x :: st) h := Ex_nx rfl rfl
theorem rX12_fish_53 (Q : Po) (h : Hp) (ls : List Value) (a0 : Int32) (a1 : Int32) (s0 : Value) : Ex mX12_fish Q 53 ls (.int a1 :: .int a0 :: [s0]) h = Ex mX0_fishBy (Cont mX12_fish Q 53 ls 56 [s0]) 0 [.int a0, .int a1] [] h := Ex_cl (n := 2) (as := [.int a0, .int a1]) rfl rfl
theorem rX12_fish_56 (Q : Po) (h : Hp) (ls : List Value) (a0 : Nat) (b : Nat) : Ex mX12_fish Q 56 ls (.ref a0 :: .ref b :: []) h = (gK h b = 14 ∧ Ex mJ2_add (Cont mX12_fish Q 56 ls 61 []) 0 [.ref b, .ref a0] [] h) := Ex_cg (n := 2) (as := [.ref b, .ref a0]) rfl rfl
theorem rX12_fish_61 (Q : Po) (h : Hp) (ls : List Value) (st : List Value) (x : Int32) : Ex mX12_fish Q 61 ls (.int x :: st) h = Ex mX12_fish Q 62 ls st h := Ex_nx rfl rfl
theorem rX12_fish_62 (Q : Po) (h : Hp) (l1 l2 : Value) (x : Nat) (st : List Value) : Ex mX12_fish Q 62 [.ref x, l1, l2] st h = Ex mX12_fish Q 63 [.ref x, l1, l2] (.ref x :: st) h := Ex_nx rfl rfl
theorem rX12_fish_63 (Q : Po) (h : Hp) (ls : List Value) (st : List Value) : Ex mX12_fish Q 63 ls st h = Ex mX12_fish Q 64 ls (.int 4 :: st) h := Ex_nx rfl rfl
theorem rX12_fish_64 (Q : Po) (h : Hp) (ls : List Value) (a0 : Int32) (b : Nat) : Ex mX12_fish Q 64 ls (.int a0 :: .ref b :: []) h = (gK h b = 12 ∧ Ex mX12_sign (Cont mX12_fish Q 64 ls 67 []) 0 [.ref b, .int a0] [] h) := Ex_cg (n := 2) (as := [.ref b, .int a0]) rfl rfl
theorem rX12_fish_67 (Q : Po) (h : Hp) (ls : List Value) : Ex mX12_fish Q 67 ls [] h = Q (.inl none) h := Ex_rt rfl rfl
theorem rX12_fish_t (Q : Po) (h : Hp) (pc n a : Nat) (ls st : List Value) : Cont mX12_fish Q pc ls n st (.inr a) h = Q (.inr a) h := rfl
/-! FishReaders$Reader.all()V -/
def mX12_all : Cd := ([(0, .inl (i_aload 0 1)),
  (1, .inr (c_V 0 4 2 12 (Mt mX12_next 2))),
  (4, .inl (i_aload 0 5)),
  (5, .inl (i_aload 0 6)),
  (6, .inl (i_push (.int 108) 8)),
  (8, .inr (c_V 1 11 2 12 (Mt mX12_isLetter 2))),
  (11, .inl (i_push (.int 1) 12)),
  (12, .inr (c_V 2 15 3 12 (Mt mX12_must 3))),
  (15, .inl (i_aload 0 16)),
  (16, .inr (c_V 0 19 2 12 (Mt mX12_next 2))),
  (19, .inl (i_aload 0 20)),
  (20, .inl (i_push (.int 1) 21)),
  (21, .inl (i_push (.int 9) 23)),
  (23, .inr (c_V 2 26 4 12 (Mt mX12_figure 4))),
  (26, .inl (i_istore 1 27)),
  (27, .inl (i_aload 0 28)),
  (28, .inl (i_getf 153 [12] 31)),
  (31, .inl (i_aload 0 32)),
  (32, .inl (i_push (.int 0) 33)),
  (33, .inl (i_push (.int 8) 35)),
  (35, .inr (c_V 2 38 3 12 (Mt mX12_more 3))),
  (38, .inl (i_putI 34 [2] 41)),
  (41, .inl (i_aload 0 42)),
  (42, .inl (i_push (.int 4) 43)),
  (43, .inr (c_V 1 46 2 12 (Mt mX12_sign 2))),
  (46, .inl (i_aload 0 47)),
  (47, .inl (i_getf 153 [12] 50)),
  (50, .inl (i_iload 1 51)),
  (51, .inl (i_putI 32 [2] 54)),
  (54, .inl (i_aload 0 55)),
  (55, .inl (i_aload 0 56)),
  (56, .inl (i_push (.int 98) 58)),
  (58, .inr (c_V 1 61 2 12 (Mt mX12_isLetter 2))),
  (61, .inl (i_push (.int 1) 62)),
  (62, .inr (c_V 2 65 3 12 (Mt mX12_must 3))),
  (65, .inl (i_aload 0 66)),
  (66, .inl (i_push (.int 98) 68)),
  (68, .inr (c_V 1 71 2 12 (Mt mX12_isLetter 2))),
  (71, .inl (i_if (fun x => x = 0) 81 74)),
  (74, .inl (i_aload 0 75)),
  (75, .inr (c_V 0 78 2 12 (Mt mX12_book 2))),
  (78, .inl (i_goto 65)),
  (81, .inl (i_aload 0 82)),
  (82, .inl (i_aload 0 83)),
  (83, .inl (i_gets 1009 85)),
  (85, .inr (c_V 1 88 2 12 (Mt mX12_sortOf 2))),
  (88, .inl (i_push (.int (-1000000)) 90)),
  (90, .inl (i_icmp (fun x y => x = y) 97 93)),
  (93, .inl (i_push (.int 1) 94)),
  (94, .inl (i_goto 98)),
  (97, .inl (i_push (.int 0) 98)),
  (98, .inl (i_push (.int 1) 99)),
  (99, .inr (c_V 2 102 3 12 (Mt mX12_must 3))),
  (102, .inl (i_aload 0 103)),
  (103, .inl (i_gets 1009 105)),
  (105, .inr (c_V 1 108 2 12 (Mt mX12_sortOf 2))),
  (108, .inl (i_push (.int (-1000000)) 110)),
  (110, .inl (i_icmp (fun x y => x = y) 120 113)),
  (113, .inl (i_aload 0 114)),
  (114, .inr (c_V 0 117 3 12 (Mt mX12_fish 3))),
  (117, .inl (i_goto 102)),
  (120, .inl (i_aload 0 121)),
  (121, .inl (i_aload 0 122)),
  (122, .inl (i_getf 146 [12] 125)),
  (125, .inl (i_if (fun x => ¬ x = 0) 132 128)),
  (128, .inl (i_push (.int 1) 129)),
  (129, .inl (i_goto 133)),
  (132, .inl (i_push (.int 0) 133)),
  (133, .inl (i_push (.int 1) 134)),
  (134, .inr (c_V 2 137 3 12 (Mt mX12_must 3))),
  (137, .inl i_vret)], noH)
theorem rX12_all_0 (Q : Po) (h : Hp) (l1 : Value) (x : Nat) (st : List Value) : Ex mX12_all Q 0 [.ref x, l1] st h = Ex mX12_all Q 1 [.ref x, l1] (.ref x :: st) h := Ex_nx rfl rfl
theorem rX12_all_1 (Q : Po) (h : Hp) (ls : List Value) (b : Nat) : Ex mX12_all Q 1 ls (.ref b :: []) h = (gK h b = 12 ∧ Ex mX12_next (Cont mX12_all Q 1 ls 4 []) 0 [.ref b, .retAddr 0] [] h) := Ex_cg (n := 2) (as := [.ref b]) rfl rfl
theorem rX12_all_4 (Q : Po) (h : Hp) (l1 : Value) (x : Nat) (st : List Value) : Ex mX12_all Q 4 [.ref x, l1] st h = Ex mX12_all Q 5 [.ref x, l1] (.ref x :: st) h := Ex_nx rfl rfl
theorem rX12_all_5 (Q : Po) (h : Hp) (l1 : Value) (x : Nat) (st : List Value) : Ex mX12_all Q 5 [.ref x, l1] st h = Ex mX12_all Q 6 [.ref x, l1] (.ref x :: st) h := Ex_nx rfl rfl
theorem rX12_all_6 (Q : Po) (h : Hp) (ls : List Value) (st : List Value) : Ex mX12_all Q 6 ls st h = Ex mX12_all Q 8 ls (.int 108 :: st) h := Ex_nx rfl rfl
theorem rX12_all_8 (Q : Po) (h : Hp) (ls : List Value) (a0 : Int32) (s0 : Value) (b : Nat) : Ex mX12_all Q 8 ls (.int a0 :: .ref b :: [s0]) h = (gK h b = 12 ∧ Ex mX12_isLetter (Cont mX12_all Q 8 ls 11 [s0]) 0 [.ref b, .int a0] [] h) := Ex_cg (n := 2) (as := [.ref b, .int a0]) rfl rfl
theorem rX12_all_11 (Q : Po) (h : Hp) (ls : List Value) (st : List Value) : Ex mX12_all Q 11 ls st h = Ex mX12_all Q 12 ls (.int 1 :: st) h := Ex_nx rfl rfl
theorem rX12_all_12 (Q : Po) (h : Hp) (ls : List Value) (a0 : Int32) (a1 : Int32) (b : Nat) : Ex mX12_all Q 12 ls (.int a1 :: .int a0 :: .ref b :: []) h = (gK h b = 12 ∧ Ex mX12_must (Cont mX12_all Q 12 ls 15 []) 0 [.ref b, .int a0, .int a1] [] h) := Ex_cg (n := 3) (as := [.ref b, .int a0, .int a1]) rfl rfl
theorem rX12_all_15 (Q : Po) (h : Hp) (l1 : Value) (x : Nat) (st : List Value) : Ex mX12_all Q 15 [.ref x, l1] st h = Ex mX12_all Q 16 [.ref x, l1] (.ref x :: st) h := Ex_nx rfl rfl
theorem rX12_all_16 (Q : Po) (h : Hp) (ls : List Value) (b : Nat) : Ex mX12_all Q 16 ls (.ref b :: []) h = (gK h b = 12 ∧ Ex mX12_next (Cont mX12_all Q 16 ls 19 []) 0 [.ref b, .retAddr 0] [] h) := Ex_cg (n := 2) (as := [.ref b]) rfl rfl
theorem rX12_all_19 (Q : Po) (h : Hp) (l1 : Value) (x : Nat) (st : List Value) : Ex mX12_all Q 19 [.ref x, l1] st h = Ex mX12_all Q 20 [.ref x, l1] (.ref x :: st) h := Ex_nx rfl rfl
theorem rX12_all_20 (Q : Po) (h : Hp) (ls : List Value) (st : List Value) : Ex mX12_all Q 20 ls st h = Ex mX12_all Q 21 ls (.int 1 :: st) h := Ex_nx rfl rfl
theorem rX12_all_21 (Q : Po) (h : Hp) (ls : List Value) (st : List Value) : Ex mX12_all Q 21 ls st h = Ex mX12_all Q 23 ls (.int 9 :: st) h := Ex_nx rfl rfl
theorem rX12_all_23 (Q : Po) (h : Hp) (ls : List Value) (a0 : Int32) (a1 : Int32) (b : Nat) : Ex mX12_all Q 23 ls (.int a1 :: .int a0 :: .ref b :: []) h = (gK h b = 12 ∧ Ex mX12_figure (Cont mX12_all Q 23 ls 26 []) 0 [.ref b, .int a0, .int a1, .retAddr 0] [] h) := Ex_cg (n := 4) (as := [.ref b, .int a0, .int a1]) rfl rfl
theorem rX12_all_26 (Q : Po) (h : Hp) (l0 l1 : Value) (x : Int32) (st : List Value) : Ex mX12_all Q 26 [l0, l1] (.int x :: st) h = Ex mX12_all Q 27 [l0, .int x] st h := Ex_nx rfl rfl
theorem rX12_all_27 (Q : Po) (h : Hp) (l1 : Value) (x : Nat) (st : List Value) : Ex mX12_all Q 27 [.ref x, l1] st h = Ex mX12_all Q 28 [.ref x, l1] (.ref x :: st) h := Ex_nx rfl rfl
theorem rX12_all_28 (Q : Po) (h : Hp) (ls : List Value) (st : List Value) (a : Nat) : Ex mX12_all Q 28 ls (.ref a :: st) h = (gK h a ∈ ([12] : List Nat) ∧ Ex mX12_all Q 31 ls (gF h 153 a :: st) h) := Ex_gd rfl rfl
theorem rX12_all_31 (Q : Po) (h : Hp) (l1 : Value) (x : Nat) (st : List Value) : Ex mX12_all Q 31 [.ref x, l1] st h = Ex mX12_all Q 32 [.ref x, l1] (.ref x :: st) h := Ex_nx rfl rfl
theorem rX12_all_32 (Q : Po) (h : Hp) (ls : List Value) (st : List Value) : Ex mX12_all Q 32 ls st h = Ex mX12_all Q 33 ls (.int 0 :: st) h := Ex_nx rfl rfl
theorem rX12_all_33 (Q : Po) (h : Hp) (ls : List Value) (st : List Value) : Ex mX12_all Q 33 ls st h = Ex mX12_all Q 35 ls (.int 8 :: st) h := Ex_nx rfl rfl
theorem rX12_all_35 (Q : Po) (h : Hp) (ls : List Value) (a0 : Int32) (a1 : Int32) (s0 : Value) (b : Nat) : Ex mX12_all Q 35 ls (.int a1 :: .int a0 :: .ref b :: [s0]) h = (gK h b = 12 ∧ Ex mX12_more (Cont mX12_all Q 35 ls 38 [s0]) 0 [.ref b, .int a0, .int a1] [] h) := Ex_cg (n := 3) (as := [.ref b, .int a0, .int a1]) rfl rfl
theorem rX12_all_38 (Q : Po) (h : Hp) (ls : List Value) (st : List Value) (x : Int32) (a : Nat) : Ex mX12_all Q 38 ls (.int x :: .ref a :: st) h = (gK h a ∈ ([2] : List Nat) ∧ Ex mX12_all Q 41 ls st (pF h 34 a (.int x))) := Ex_gd rfl rfl
theorem rX12_all_41 (Q : Po) (h : Hp) (l1 : Value) (x : Nat) (st : List Value) : Ex mX12_all Q 41 [.ref x, l1] st h = Ex mX12_all Q 42 [.ref x, l1] (.ref x :: st) h := Ex_nx rfl rfl
theorem rX12_all_42 (Q : Po) (h : Hp) (ls : List Value) (st : List Value) : Ex mX12_all Q 42 ls st h = Ex mX12_all Q 43 ls (.int 4 :: st) h := Ex_nx rfl rfl
theorem rX12_all_43 (Q : Po) (h : Hp) (ls : List Value) (a0 : Int32) (b : Nat) : Ex mX12_all Q 43 ls (.int a0 :: .ref b :: []) h = (gK h b = 12 ∧ Ex mX12_sign (Cont mX12_all Q 43 ls 46 []) 0 [.ref b, .int a0] [] h) := Ex_cg (n := 2) (as := [.ref b, .int a0]) rfl rfl
theorem rX12_all_46 (Q : Po) (h : Hp) (l1 : Value) (x : Nat) (st : List Value) : Ex mX12_all Q 46 [.ref x, l1] st h = Ex mX12_all Q 47 [.ref x, l1] (.ref x :: st) h := Ex_nx rfl rfl
theorem rX12_all_47 (Q : Po) (h : Hp) (ls : List Value) (st : List Value) (a : Nat) : Ex mX12_all Q 47 ls (.ref a :: st) h = (gK h a ∈ ([12] : List Nat) ∧ Ex mX12_all Q 50 ls (gF h 153 a :: st) h) := Ex_gd rfl rfl
theorem rX12_all_50 (Q : Po) (h : Hp) (l0 : Value) (x : Int32) (st : List Value) : Ex mX12_all Q 50 [l0, .int x] st h = Ex mX12_all Q 51 [l0, .int x] (.int x :: st) h := Ex_nx rfl rfl
theorem rX12_all_51 (Q : Po) (h : Hp) (ls : List Value) (st : List Value) (x : Int32) (a : Nat) : Ex mX12_all Q 51 ls (.int x :: .ref a :: st) h = (gK h a ∈ ([2] : List Nat) ∧ Ex mX12_all Q 54 ls st (pF h 32 a (.int x))) := Ex_gd rfl rfl
theorem rX12_all_54 (Q : Po) (h : Hp) (l1 : Value) (x : Nat) (st : List Value) : Ex mX12_all Q 54 [.ref x, l1] st h = Ex mX12_all Q 55 [.ref x, l1] (.ref x :: st) h := Ex_nx rfl rfl
theorem rX12_all_55 (Q : Po) (h : Hp) (l1 : Value) (x : Nat) (st : List Value) : Ex mX12_all Q 55 [.ref x, l1] st h = Ex mX12_all Q 56 [.ref x, l1] (.ref x :: st) h := Ex_nx rfl rfl
theorem rX12_all_56 (Q : Po) (h : Hp) (ls : List Value) (st : List Value) : Ex mX12_all Q 56 ls st h = Ex mX12_all Q 58 ls (.int 98 :: st) h := Ex_nx rfl rfl
theorem rX12_all_58 (Q : Po) (h : Hp) (ls : List Value) (a0 : Int32) (s0 : Value) (b : Nat) : Ex mX12_all Q 58 ls (.int a0 :: .ref b :: [s0]) h = (gK h b = 12 ∧ Ex mX12_isLetter (Cont mX12_all Q 58 ls 61 [s0]) 0 [.ref b, .int a0] [] h) := Ex_cg (n := 2) (as := [.ref b, .int a0]) rfl rfl
theorem rX12_all_61 (Q : Po) (h : Hp) (ls : List Value) (st : List Value) : Ex mX12_all Q 61 ls st h = Ex mX12_all Q 62 ls (.int 1 :: st) h := Ex_nx rfl rfl
theorem rX12_all_62 (Q : Po) (h : Hp) (ls : List Value) (a0 : Int32) (a1 : Int32) (b : Nat) : Ex mX12_all Q 62 ls (.int a1 :: .int a0 :: .ref b :: []) h = (gK h b = 12 ∧ Ex mX12_must (Cont mX12_all Q 62 ls 65 []) 0 [.ref b, .int a0, .int a1] [] h) := Ex_cg (n := 3) (as := [.ref b, .int a0, .int a1]) rfl rfl
theorem rX12_all_65 (Q : Po) (h : Hp) (l1 : Value) (x : Nat) (st : List Value) : Ex mX12_all Q 65 [.ref x, l1] st h = Ex mX12_all Q 66 [.ref x, l1] (.ref x :: st) h := Ex_nx rfl rfl
theorem rX12_all_66 (Q : Po) (h : Hp) (ls : List Value) (st : List Value) : Ex mX12_all Q 66 ls st h = Ex mX12_all Q 68 ls (.int 98 :: st) h := Ex_nx rfl rfl
theorem rX12_all_68 (Q : Po) (h : Hp) (ls : List Value) (a0 : Int32) (b : Nat) : Ex mX12_all Q 68 ls (.int a0 :: .ref b :: []) h = (gK h b = 12 ∧ Ex mX12_isLetter (Cont mX12_all Q 68 ls 71 []) 0 [.ref b, .int a0] [] h) := Ex_cg (n := 2) (as := [.ref b, .int a0]) rfl rfl
theorem rX12_all_71 (Q : Po) (h : Hp) (ls : List Value) (st : List Value) (x : Int32) : Ex mX12_all Q 71 ls (.int x :: st) h = if x = 0 then Ex mX12_all Q 81 ls st h else Ex mX12_all Q 74 ls st h := Ex_br rfl rfl
theorem rX12_all_74 (Q : Po) (h : Hp) (l1 : Value) (x : Nat) (st : List Value) : Ex mX12_all Q 74 [.ref x, l1] st h = Ex mX12_all Q 75 [.ref x, l1] (.ref x :: st) h := Ex_nx rfl rfl
theorem rX12_all_75 (Q : Po) (h : Hp) (ls : List Value) (b : Nat) : Ex mX12_all Q 75 ls (.ref b :: []) h = (gK h b = 12 ∧ Ex mX12_book (Cont mX12_all Q 75 ls 78 []) 0 [.ref b, .retAddr 0] [] h) := Ex_cg (n := 2) (as := [.ref b]) rfl rfl
theorem rX12_all_78 (Q : Po) (h : Hp) (ls : List Value) (st : List Value) : Ex mX12_all Q 78 ls st h = Ex mX12_all Q 65 ls st h := Ex_nx rfl rfl
theorem rX12_all_81 (Q : Po) (h : Hp) (l1 : Value) (x : Nat) (st : List Value) : Ex mX12_all Q 81 [.ref x, l1] st h = Ex mX12_all Q 82 [.ref x, l1] (.ref x :: st) h := Ex_nx rfl rfl
theorem rX12_all_82 (Q : Po) (h : Hp) (l1 : Value) (x : Nat) (st : List Value) : Ex mX12_all Q 82 [.ref x, l1] st h = Ex mX12_all Q 83 [.ref x, l1] (.ref x :: st) h := Ex_nx rfl rfl
theorem rX12_all_83 (Q : Po) (h : Hp) (ls : List Value) (st : List Value) : Ex mX12_all Q 83 ls st h = Ex mX12_all Q 85 ls (gF h 1009 0 :: st) h := Ex_nx rfl rfl
theorem rX12_all_85 (Q : Po) (h : Hp) (ls : List Value) (a0 : Nat) (s0 : Value) (b : Nat) : Ex mX12_all Q 85 ls (.ref a0 :: .ref b :: [s0]) h = (gK h b = 12 ∧ Ex mX12_sortOf (Cont mX12_all Q 85 ls 88 [s0]) 0 [.ref b, .ref a0] [] h) := Ex_cg (n := 2) (as := [.ref b, .ref a0]) rfl rfl
theorem rX12_all_88 (Q : Po) (h : Hp) (ls : List Value) (st : List Value) : Ex mX12_all Q 88 ls st h = Ex mX12_all Q 90 ls (.int (-1000000) :: st) h := Ex_nx rfl rfl
theorem rX12_all_90 (Q : Po) (h : Hp) (ls : List Value) (st : List Value) (x y : Int32) : Ex mX12_all Q 90 ls (.int y :: .int x :: st) h = if x = y then Ex mX12_all Q 97 ls st h else Ex mX12_all Q 93 ls st h := Ex_br rfl rfl
theorem rX12_all_93 (Q : Po) (h : Hp) (ls : List Value) (st : List Value) : Ex mX12_all Q 93 ls st h = Ex mX12_all Q 94 ls (.int 1 :: st) h := Ex_nx rfl rfl
theorem rX12_all_94 (Q : Po) (h : Hp) (ls : List Value) (st : List Value) : Ex mX12_all Q 94 ls st h = Ex mX12_all Q 98 ls st h := Ex_nx rfl rfl
theorem rX12_all_97 (Q : Po) (h : Hp) (ls : List Value) (st : List Value) : Ex mX12_all Q 97 ls st h = Ex mX12_all Q 98 ls (.int 0 :: st) h := Ex_nx rfl rfl
theorem rX12_all_98 (Q : Po) (h : Hp) (ls : List Value) (st : List Value) : Ex mX12_all Q 98 ls st h = Ex mX12_all Q 99 ls (.int 1 :: st) h := Ex_nx rfl rfl
theorem rX12_all_99 (Q : Po) (h : Hp) (ls : List Value) (a0 : Int32) (a1 : Int32) (b : Nat) : Ex mX12_all Q 99 ls (.int a1 :: .int a0 :: .ref b :: []) h = (gK h b = 12 ∧ Ex mX12_must (Cont mX12_all Q 99 ls 102 []) 0 [.ref b, .int a0, .int a1] [] h) := Ex_cg (n := 3) (as := [.ref b, .int a0, .int a1]) rfl rfl
theorem rX12_all_102 (Q : Po) (h : Hp) (l1 : Value) (x : Nat) (st : List Value) : Ex mX12_all Q 102 [.ref x, l1] st h = Ex mX12_all Q 103 [.ref x, l1] (.ref x :: st) h := Ex_nx rfl rfl
theorem rX12_all_103 (Q : Po) (h : Hp) (ls : List Value) (st : List Value) : Ex mX12_all Q 103 ls st h = Ex mX12_all Q 105 ls (gF h 1009 0 :: st) h := Ex_nx rfl rfl
theorem rX12_all_105 (Q : Po) (h : Hp) (ls : List Value) (a0 : Nat) (b : Nat) : Ex mX12_all Q 105 ls (.ref a0 :: .ref b :: []) h = (gK h b = 12 ∧ Ex mX12_sortOf (Cont mX12_all Q 105 ls 108 []) 0 [.ref b, .ref a0] [] h) := Ex_cg (n := 2) (as := [.ref b, .ref a0]) rfl rfl
theorem rX12_all_108 (Q : Po) (h : Hp) (ls : List Value) (st : List Value) : Ex mX12_all Q 108 ls st h = Ex mX12_all Q 110 ls (.int (-1000000) :: st) h := Ex_nx rfl rfl
theorem rX12_all_110 (Q : Po) (h : Hp) (ls : List Value) (st : List Value) (x y : Int32) : Ex mX12_all Q 110 ls (.int y :: .int x :: st) h = if x = y then Ex mX12_all Q 120 ls st h else Ex mX12_all Q 113 ls st h := Ex_br rfl rfl
theorem rX12_all_113 (Q : Po) (h : Hp) (l1 : Value) (x : Nat) (st : List Value) : Ex mX12_all Q 113 [.ref x, l1] st h = Ex mX12_all Q 114 [.ref x, l1] (.ref x :: st) h := Ex_nx rfl rfl
theorem rX12_all_114 (Q : Po) (h : Hp) (ls : List Value) (b : Nat) : Ex mX12_all Q 114 ls (.ref b :: []) h = (gK h b = 12 ∧ Ex mX12_fish (Cont mX12_all Q 114 ls 117 []) 0 [.ref b, .retAddr 0, .retAddr 0] [] h) := Ex_cg (n := 3) (as := [.ref b]) rfl rfl
theorem rX12_all_117 (Q : Po) (h : Hp) (ls : List Value) (st : List Value) : Ex mX12_all Q 117 ls st h = Ex mX12_all Q 102 ls st h := Ex_nx rfl rfl
theorem rX12_all_120 (Q : Po) (h : Hp) (l1 : Value) (x : Nat) (st : List Value) : Ex mX12_all Q 120 [.ref x, l1] st h = Ex mX12_all Q 121 [.ref x, l1] (.ref x :: st) h := Ex_nx rfl rfl
theorem rX12_all_121 (Q : Po) (h : Hp) (l1 : Value) (x : Nat) (st : List Value) : Ex mX12_all Q 121 [.ref x, l1] st h = Ex mX12_all Q 122 [.ref x, l1] (.ref x :: st) h := Ex_nx rfl rfl
theorem rX12_all_122 (Q : Po) (h : Hp) (ls : List Value) (st : List Value) (a : Nat) : Ex mX12_all Q 122 ls (.ref a :: st) h = (gK h a ∈ ([12] : List Nat) ∧ Ex mX12_all Q 125 ls (gF h 146 a :: st) h) := Ex_gd rfl rfl
theorem rX12_all_125 (Q : Po) (h : Hp) (ls : List Value) (st : List Value) (x : Int32) : Ex mX12_all Q 125 ls (.int x :: st) h = if ¬ x = 0 then Ex mX12_all Q 132 ls st h else Ex mX12_all Q 128 ls st h := Ex_br rfl rfl
theorem rX12_all_128 (Q : Po) (h : Hp) (ls : List Value) (st : List Value) : Ex mX12_all Q 128 ls st h = Ex mX12_all Q 129 ls (.int 1 :: st) h := Ex_nx rfl rfl
theorem rX12_all_129 (Q : Po) (h : Hp) (ls : List Value) (st : List Value) : Ex mX12_all Q 129 ls st h = Ex mX12_all Q 133 ls st h := Ex_nx rfl rfl
theorem rX12_all_132 (Q : Po) (h : Hp) (ls : List Value) (st : List Value) : Ex mX12_all Q 132 ls st h = Ex mX12_all Q 133 ls (.int 0 :: st) h := Ex_nx rfl rfl
theorem rX12_all_133 (Q : Po) (h : Hp) (ls : List Value) (st : List Value) : Ex mX12_all Q 133 ls st h = Ex mX12_all Q 134 ls (.int 1 :: st) h := Ex_nx rfl rfl
theorem rX12_all_134 (Q : Po) (h : Hp) (ls : List Value) (a0 : Int32) (a1 : Int32) (b : Nat) : Ex mX12_all Q 134 ls (.int a1 :: .int a0 :: .ref b :: []) h = (gK h b = 12 ∧ Ex mX12_must (Cont mX12_all Q 134 ls 137 []) 0 [.ref b, .int a0, .int a1] [] h) := Ex_cg (n := 3) (as := [.ref b, .int a0, .int a1]) rfl rfl
theorem rX12_all_137 (Q : Po) (h : Hp) (ls : List Value) : Ex mX12_all Q 137 ls [] h = Q (.inl none) h := Ex_rt rfl rfl
theorem rX12_all_t (Q : Po) (h : Hp) (pc n a : Nat) (ls st : List Value) : Cont mX12_all Q pc ls n st (.inr a) h = Q (.inr a) h := rfl
/-! FishReaders$Library.become(LFishReaders$Library;)LFishReaders$Library; -/
def mX1_become : Cd := ([(0, .inl (i_aload 0 1)),
  (1, .inl (i_aload 1 2)),
  (2, .inl (i_getf 32 [2] 5)),
  (5, .inl (i_putI 32 [2] 8)),
  (8, .inl (i_aload 0 9)),
  (9, .inl (i_aload 1 10)),
  (10, .inl (i_getf 34 [2] 13)),
  (13, .inl (i_putI 34 [2] 16)),
  (16, .inl (i_aload 0 17)),
  (17, .inl (i_aload 1 18)),
  (18, .inl (i_getf 36 [2] 21)),
  (21, .inl (i_putI 36 [2] 24)),
  (24, .inl (i_aload 1 25)),
  (25, .inl (i_getf 39 [2] 28)),
  (28, .inl (i_push (.int 0) 29)),
  (29, .inl (i_aload 0 30)),
  (30, .inl (i_getf 39 [2] 33)),
  (33, .inl (i_push (.int 0) 34)),
  (34, .inl (i_push (.int 6) 36)),
  (36, .inl (i_acpy 51 39)),
  (39, .inl (i_aload 1 40)),
  (40, .inl (i_getf 41 [2] 43)),
  (43, .inl (i_push (.int 0) 44)),
  (44, .inl (i_aload 0 45)),
  (45, .inl (i_getf 41 [2] 48)),
  (48, .inl (i_push (.int 0) 49)),
  (49, .inl (i_push (.int 6) 51)),
  (51, .inl (i_acpy 51 54)),
  (54, .inl (i_aload 1 55)),
  (55, .inl (i_getf 43 [2] 58)),
  (58, .inl (i_push (.int 0) 59)),
  (59, .inl (i_aload 0 60)),
  (60, .inl (i_getf 43 [2] 63)),
  (63, .inl (i_push (.int 0) 64)),
  (64, .inl (i_push (.int 6) 66)),
  (66, .inl (i_acpy 51 69)),
  (69, .inl (i_aload 1 70)),
  (70, .inl (i_getf 45 [2] 73)),
  (73, .inl (i_push (.int 0) 74)),
  (74, .inl (i_aload 0 75)),
  (75, .inl (i_getf 45 [2] 78)),
  (78, .inl (i_push (.int 0) 79)),
  (79, .inl (i_push (.int 6) 81)),
  (81, .inl (i_acpy 51 84)),
  (84, .inl (i_aload 0 85)),
  (85, .inl (i_aload 1 86)),
  (86, .inl (i_getf 46 [2] 89)),
  (89, .inl (i_putI 46 [2] 92)),
  (92, .inl (i_aload 0 93)),
  (93, .inl (i_aload 1 94)),
  (94, .inl (i_getf 48 [2] 97)),
  (97, .inl (i_putI 48 [2] 100)),
  (100, .inl (i_aload 0 101)),
  (101, .inl (i_aload 1 102)),
  (102, .inl (i_getf 51 [2] 105)),
  (105, .inl (i_putR 51 [2] 108)),
  (108, .inl (i_aload 1 109)),
  (109, .inl (i_getf 53 [2] 112)),
  (112, .inl (i_push (.int 0) 113)),
  (113, .inl (i_aload 0 114)),
  (114, .inl (i_getf 53 [2] 117)),
  (117, .inl (i_push (.int 0) 118)),
  (118, .inl (i_push (.int 5) 119)),
  (119, .inl (i_acpy 51 122)),
  (122, .inl (i_aload 1 123)),
  (123, .inl (i_getf 55 [2] 126)),
  (126, .inl (i_push (.int 0) 127)),
  (127, .inl (i_aload 0 128)),
  (128, .inl (i_getf 55 [2] 131)),
  (131, .inl (i_push (.int 0) 132)),
  (132, .inl (i_push (.int 5) 133)),
  (133, .inl (i_acpy 51 136)),
  (136, .inl (i_aload 0 137)),
  (137, .inl (i_aload 1 138)),
  (138, .inl (i_getf 56 [2] 141)),
  (141, .inl (i_putI 56 [2] 144)),
  (144, .inl (i_aload 0 145)),
  (145, .inl (i_aload 1 146)),
  (146, .inl (i_getf 58 [2] 149)),
  (149, .inl (i_putI 58 [2] 152)),
  (152, .inl (i_aload 0 153)),
  (153, .inl (i_push (.int (-1000000)) 155)),
  (155, .inl (i_putI 60 [2] 158)),
  (158, .inl (i_aload 0 159)),
  (159, .inl i_aret)], noH)
theorem rX1_become_0 (Q : Po) (h : Hp) (l1 : Value) (x : Nat) (st : List Value) : Ex mX1_become Q 0 [.ref x, l1] st h = Ex mX1_become Q 1 [.ref x, l1] (.ref x :: st) h := Ex_nx rfl rfl
theorem rX1_become_1 (Q : Po) (h : Hp) (l0 : Value) (x : Nat) (st : List Value) : Ex mX1_become Q 1 [l0, .ref x] st h = Ex mX1_become Q 2 [l0, .ref x] (.ref x :: st) h := Ex_nx rfl rfl
theorem rX1_become_2 (Q : Po) (h : Hp) (ls : List Value) (st : List Value) (a : Nat) : Ex mX1_become Q 2 ls (.ref a :: st) h = (gK h a ∈ ([2] : List Nat) ∧ Ex mX1_become Q 5 ls (gF h 32 a :: st) h) := Ex_gd rfl rfl
theorem rX1_become_5 (Q : Po) (h : Hp) (ls : List Value) (st : List Value) (x : Int32) (a : Nat) : Ex mX1_become Q 5 ls (.int x :: .ref a :: st) h = (gK h a ∈ ([2] : List Nat) ∧ Ex mX1_become Q 8 ls st (pF h 32 a (.int x))) := Ex_gd rfl rfl
theorem rX1_become_8 (Q : Po) (h : Hp) (l1 : Value) (x : Nat) (st : List Value) : Ex mX1_become Q 8 [.ref x, l1] st h = Ex mX1_become Q 9 [.ref x, l1] (.ref x :: st) h := Ex_nx rfl rfl
theorem rX1_become_9 (Q : Po) (h : Hp) (l0 : Value) (x : Nat) (st : List Value) : Ex mX1_become Q 9 [l0, .ref x] st h = Ex mX1_become Q 10 [l0, .ref x] (.ref x :: st) h := Ex_nx rfl rfl
theorem rX1_become_10 (Q : Po) (h : Hp) (ls : List Value) (st : List Value) (a : Nat) : Ex mX1_become Q 10 ls (.ref a :: st) h = (gK h a ∈ ([2] : List Nat) ∧ Ex mX1_become Q 13 ls (gF h 34 a :: st) h) := Ex_gd rfl rfl
theorem rX1_become_13 (Q : Po) (h : Hp) (ls : List Value) (st : List Value) (x : Int32) (a : Nat) : Ex mX1_become Q 13 ls (.int x :: .ref a :: st) h = (gK h a ∈ ([2] : List Nat) ∧ Ex mX1_become Q 16 ls st (pF h 34 a (.int x))) := Ex_gd rfl rfl
theorem rX1_become_16 (Q : Po) (h : Hp) (l1 : Value) (x : Nat) (st : List Value) : Ex mX1_become Q 16 [.ref x, l1] st h = Ex mX1_become Q 17 [.ref x, l1] (.ref x :: st) h := Ex_nx rfl rfl
theorem rX1_become_17 (Q : Po) (h : Hp) (l0 : Value) (x : Nat) (st : List Value) : Ex mX1_become Q 17 [l0, .ref x] st h = Ex mX1_become Q 18 [l0, .ref x] (.ref x :: st) h := Ex_nx rfl rfl
theorem rX1_become_18 (Q : Po) (h : Hp) (ls : List Value) (st : List Value) (a : Nat) : Ex mX1_become Q 18 ls (.ref a :: st) h = (gK h a ∈ ([2] : List Nat) ∧ Ex mX1_become Q 21 ls (gF h 36 a :: st) h) := Ex_gd rfl rfl
theorem rX1_become_21 (Q : Po) (h : Hp) (ls : List Value) (st : List Value) (x : Int32) (a : Nat) : Ex mX1_become Q 21 ls (.int x :: .ref a :: st) h = (gK h a ∈ ([2] : List Nat) ∧ Ex mX1_become Q 24 ls st (pF h 36 a (.int x))) := Ex_gd rfl rfl
theorem rX1_become_24 (Q : Po) (h : Hp) (l0 : Value) (x : Nat) (st : List Value) : Ex mX1_become Q 24 [l0, .ref x] st h = Ex mX1_become Q 25 [l0, .ref x] (.ref x :: st) h := Ex_nx rfl rfl
theorem rX1_become_25 (Q : Po) (h : Hp) (ls : List Value) (st : List Value) (a : Nat) : Ex mX1_become Q 25 ls (.ref a :: st) h = (gK h a ∈ ([2] : List Nat) ∧ Ex mX1_become Q 28 ls (gF h 39 a :: st) h) := Ex_gd rfl rfl
theorem rX1_become_28 (Q : Po) (h : Hp) (ls : List Value) (st : List Value) : Ex mX1_become Q 28 ls st h = Ex mX1_become Q 29 ls (.int 0 :: st) h := Ex_nx rfl rfl
theorem rX1_become_29 (Q : Po) (h : Hp) (l1 : Value) (x : Nat) (st : List Value) : Ex mX1_become Q 29 [.ref x, l1] st h = Ex mX1_become Q 30 [.ref x, l1] (.ref x :: st) h := Ex_nx rfl rfl
theorem rX1_become_30 (Q : Po) (h : Hp) (ls : List Value) (st : List Value) (a : Nat) : Ex mX1_become Q 30 ls (.ref a :: st) h = (gK h a ∈ ([2] : List Nat) ∧ Ex mX1_become Q 33 ls (gF h 39 a :: st) h) := Ex_gd rfl rfl
theorem rX1_become_33 (Q : Po) (h : Hp) (ls : List Value) (st : List Value) : Ex mX1_become Q 33 ls st h = Ex mX1_become Q 34 ls (.int 0 :: st) h := Ex_nx rfl rfl
theorem rX1_become_34 (Q : Po) (h : Hp) (ls : List Value) (st : List Value) : Ex mX1_become Q 34 ls st h = Ex mX1_become Q 36 ls (.int 6 :: st) h := Ex_nx rfl rfl
theorem rX1_become_36 (Q : Po) (h : Hp) (ls : List Value) (s d : Nat) (sp dp k : Int32) : Ex mX1_become Q 36 ls (.int k :: .int dp :: .ref d :: .int sp :: .ref s :: []) h = ((([] : List Value).length ≤ 6 ∧ gK h s = 51 ∧ gK h d = 51 ∧ ¬ sp < 0 ∧ ¬ dp < 0 ∧ ¬ k < 0 ∧ sp.toNatClampNeg + k.toNatClampNeg ≤ gL h s ∧ dp.toNatClampNeg + k.toNatClampNeg ≤ gL h d) ∧ Ex mX1_become Q 39 ls [] (pC h d (va_cpy (gI h s) (gI h d) sp.toNatClampNeg dp.toNatClampNeg k.toNatClampNeg))) := Ex_gd rfl rfl
theorem rX1_become_39 (Q : Po) (h : Hp) (l0 : Value) (x : Nat) (st : List Value) : Ex mX1_become Q 39 [l0, .ref x] st h = Ex mX1_become Q 40 [l0, .ref x] (.ref x :: st) h := Ex_nx rfl rfl
theorem rX1_become_40 (Q : Po) (h : Hp) (ls : List Value) (st : List Value) (a : Nat) : Ex mX1_become Q 40 ls (.ref a :: st) h = (gK h a ∈ ([2] : List Nat) ∧ Ex mX1_become Q 43 ls (gF h 41 a :: st) h) := Ex_gd rfl rfl
theorem rX1_become_43 (Q : Po) (h : Hp) (ls : List Value) (st : List Value) : Ex mX1_become Q 43 ls st h = Ex mX1_become Q 44 ls (.int 0 :: st) h := Ex_nx rfl rfl
theorem rX1_become_44 (Q : Po) (h : Hp) (l1 : Value) (x : Nat) (st : List Value) : Ex mX1_become Q 44 [.ref x, l1] st h = Ex mX1_become Q 45 [.ref x, l1] (.ref x :: st) h := Ex_nx rfl rfl
theorem rX1_become_45 (Q : Po) (h : Hp) (ls : List Value) (st : List Value) (a : Nat) : Ex mX1_become Q 45 ls (.ref a :: st) h = (gK h a ∈ ([2] : List Nat) ∧ Ex mX1_become Q 48 ls (gF h 41 a :: st) h) := Ex_gd rfl rfl
theorem rX1_become_48 (Q : Po) (h : Hp) (ls : List Value) (st : List Value) : Ex mX1_become Q 48 ls st h = Ex mX1_become Q 49 ls (.int 0 :: st) h := Ex_nx rfl rfl
theorem rX1_become_49 (Q : Po) (h : Hp) (ls : List Value) (st : List Value) : Ex mX1_become Q 49 ls st h = Ex mX1_become Q 51 ls (.int 6 :: st) h := Ex_nx rfl rfl
theorem rX1_become_51 (Q : Po) (h : Hp) (ls : List Value) (s d : Nat) (sp dp k : Int32) : Ex mX1_become Q 51 ls (.int k :: .int dp :: .ref d :: .int sp :: .ref s :: []) h = ((([] : List Value).length ≤ 6 ∧ gK h s = 51 ∧ gK h d = 51 ∧ ¬ sp < 0 ∧ ¬ dp < 0 ∧ ¬ k < 0 ∧ sp.toNatClampNeg + k.toNatClampNeg ≤ gL h s ∧ dp.toNatClampNeg + k.toNatClampNeg ≤ gL h d) ∧ Ex mX1_become Q 54 ls [] (pC h d (va_cpy (gI h s) (gI h d) sp.toNatClampNeg dp.toNatClampNeg k.toNatClampNeg))) := Ex_gd rfl rfl
theorem rX1_become_54 (Q : Po) (h : Hp) (l0 : Value) (x : Nat) (st : List Value) : Ex mX1_become Q 54 [l0, .ref x] st h = Ex mX1_become Q 55 [l0, .ref x] (.ref x :: st) h := Ex_nx rfl rfl
theorem rX1_become_55 (Q : Po) (h : Hp) (ls : List Value) (st : List Value) (a : Nat) : Ex mX1_become Q 55 ls (.ref a :: st) h = (gK h a ∈ ([2] : List Nat) ∧ Ex mX1_become Q 58 ls (gF h 43 a :: st) h) := Ex_gd rfl rfl
theorem rX1_become_58 (Q : Po) (h : Hp) (ls : List Value) (st : List Value) : Ex mX1_become Q 58 ls st h = Ex mX1_become Q 59 ls (.int 0 :: st) h := Ex_nx rfl rfl
theorem rX1_become_59 (Q : Po) (h : Hp) (l1 : Value) (x : Nat) (st : List Value) : Ex mX1_become Q 59 [.ref x, l1] st h = Ex mX1_become Q 60 [.ref x, l1] (.ref x :: st) h := Ex_nx rfl rfl
theorem rX1_become_60 (Q : Po) (h : Hp) (ls : List Value) (st : List Value) (a : Nat) : Ex mX1_become Q 60 ls (.ref a :: st) h = (gK h a ∈ ([2] : List Nat) ∧ Ex mX1_become Q 63 ls (gF h 43 a :: st) h) := Ex_gd rfl rfl
theorem rX1_become_63 (Q : Po) (h : Hp) (ls : List Value) (st : List Value) : Ex mX1_become Q 63 ls st h = Ex mX1_become Q 64 ls (.int 0 :: st) h := Ex_nx rfl rfl
theorem rX1_become_64 (Q : Po) (h : Hp) (ls : List Value) (st : List Value) : Ex mX1_become Q 64 ls st h = Ex mX1_become Q 66 ls (.int 6 :: st) h := Ex_nx rfl rfl
theorem rX1_become_66 (Q : Po) (h : Hp) (ls : List Value) (s d : Nat) (sp dp k : Int32) : Ex mX1_become Q 66 ls (.int k :: .int dp :: .ref d :: .int sp :: .ref s :: []) h = ((([] : List Value).length ≤ 6 ∧ gK h s = 51 ∧ gK h d = 51 ∧ ¬ sp < 0 ∧ ¬ dp < 0 ∧ ¬ k < 0 ∧ sp.toNatClampNeg + k.toNatClampNeg ≤ gL h s ∧ dp.toNatClampNeg + k.toNatClampNeg ≤ gL h d) ∧ Ex mX1_become Q 69 ls [] (pC h d (va_cpy (gI h s) (gI h d) sp.toNatClampNeg dp.toNatClampNeg k.toNatClampNeg))) := Ex_gd rfl rfl
theorem rX1_become_69 (Q : Po) (h : Hp) (l0 : Value) (x : Nat) (st : List Value) : Ex mX1_become Q 69 [l0, .ref x] st h = Ex mX1_become Q 70 [l0, .ref x] (.ref x :: st) h := Ex_nx rfl rfl
theorem rX1_become_70 (Q : Po) (h : Hp) (ls : List Value) (st : List Value) (a : Nat) : Ex mX1_become Q 70 ls (.ref a :: st) h = (gK h a ∈ ([2] : List Nat) ∧ Ex mX1_become Q 73 ls (gF h 45 a :: st) h) := Ex_gd rfl rfl
theorem rX1_become_73 (Q : Po) (h : Hp) (ls : List Value) (st : List Value) : Ex mX1_become Q 73 ls st h = Ex mX1_become Q 74 ls (.int 0 :: st) h := Ex_nx rfl rfl
theorem rX1_become_74 (Q : Po) (h : Hp) (l1 : Value) (x : Nat) (st : List Value) : Ex mX1_become Q 74 [.ref x, l1] st h = Ex mX1_become Q 75 [.ref x, l1] (.ref x :: st) h := Ex_nx rfl rfl
theorem rX1_become_75 (Q : Po) (h : Hp) (ls : List Value) (st : List Value) (a : Nat) : Ex mX1_become Q 75 ls (.ref a :: st) h = (gK h a ∈ ([2] : List Nat) ∧ Ex mX1_become Q 78 ls (gF h 45 a :: st) h) := Ex_gd rfl rfl
theorem rX1_become_78 (Q : Po) (h : Hp) (ls : List Value) (st : List Value) : Ex mX1_become Q 78 ls st h = Ex mX1_become Q 79 ls (.int 0 :: st) h := Ex_nx rfl rfl
theorem rX1_become_79 (Q : Po) (h : Hp) (ls : List Value) (st : List Value) : Ex mX1_become Q 79 ls st h = Ex mX1_become Q 81 ls (.int 6 :: st) h := Ex_nx rfl rfl
theorem rX1_become_81 (Q : Po) (h : Hp) (ls : List Value) (s d : Nat) (sp dp k : Int32) : Ex mX1_become Q 81 ls (.int k :: .int dp :: .ref d :: .int sp :: .ref s :: []) h = ((([] : List Value).length ≤ 6 ∧ gK h s = 51 ∧ gK h d = 51 ∧ ¬ sp < 0 ∧ ¬ dp < 0 ∧ ¬ k < 0 ∧ sp.toNatClampNeg + k.toNatClampNeg ≤ gL h s ∧ dp.toNatClampNeg + k.toNatClampNeg ≤ gL h d) ∧ Ex mX1_become Q 84 ls [] (pC h d (va_cpy (gI h s) (gI h d) sp.toNatClampNeg dp.toNatClampNeg k.toNatClampNeg))) := Ex_gd rfl rfl
theorem rX1_become_84 (Q : Po) (h : Hp) (l1 : Value) (x : Nat) (st : List Value) : Ex mX1_become Q 84 [.ref x, l1] st h = Ex mX1_become Q 85 [.ref x, l1] (.ref x :: st) h := Ex_nx rfl rfl
theorem rX1_become_85 (Q : Po) (h : Hp) (l0 : Value) (x : Nat) (st : List Value) : Ex mX1_become Q 85 [l0, .ref x] st h = Ex mX1_become Q 86 [l0, .ref x] (.ref x :: st) h := Ex_nx rfl rfl
theorem rX1_become_86 (Q : Po) (h : Hp) (ls : List Value) (st : List Value) (a : Nat) : Ex mX1_become Q 86 ls (.ref a :: st) h = (gK h a ∈ ([2] : List Nat) ∧ Ex mX1_become Q 89 ls (gF h 46 a :: st) h) := Ex_gd rfl rfl
theorem rX1_become_89 (Q : Po) (h : Hp) (ls : List Value) (st : List Value) (x : Int32) (a : Nat) : Ex mX1_become Q 89 ls (.int x :: .ref a :: st) h = (gK h a ∈ ([2] : List Nat) ∧ Ex mX1_become Q 92 ls st (pF h 46 a (.int x))) := Ex_gd rfl rfl
theorem rX1_become_92 (Q : Po) (h : Hp) (l1 : Value) (x : Nat) (st : List Value) : Ex mX1_become Q 92 [.ref x, l1] st h = Ex mX1_become Q 93 [.ref x, l1] (.ref x :: st) h := Ex_nx rfl rfl
theorem rX1_become_93 (Q : Po) (h : Hp) (l0 : Value) (x : Nat) (st : List Value) : Ex mX1_become Q 93 [l0, .ref x] st h = Ex mX1_become Q 94 [l0, .ref x] (.ref x :: st) h := Ex_nx rfl rfl
theorem rX1_become_94 (Q : Po) (h : Hp) (ls : List Value) (st : List Value) (a : Nat) : Ex mX1_become Q 94 ls (.ref a :: st) h = (gK h a ∈ ([2] : List Nat) ∧ Ex mX1_become Q 97 ls (gF h 48 a :: st) h) := Ex_gd rfl rfl
theorem rX1_become_97 (Q : Po) (h : Hp) (ls : List Value) (st : List Value) (x : Int32) (a : Nat) : Ex mX1_become Q 97 ls (.int x :: .ref a :: st) h = (gK h a ∈ ([2] : List Nat) ∧ Ex mX1_become Q 100 ls st (pF h 48 a (.int x))) := Ex_gd rfl rfl
theorem rX1_become_100 (Q : Po) (h : Hp) (l1 : Value) (x : Nat) (st : List Value) : Ex mX1_become Q 100 [.ref x, l1] st h = Ex mX1_become Q 101 [.ref x, l1] (.ref x :: st) h := Ex_nx rfl rfl
theorem rX1_become_101 (Q : Po) (h : Hp) (l0 : Value) (x : Nat) (st : List Value) : Ex mX1_become Q 101 [l0, .ref x] st h = Ex mX1_become Q 102 [l0, .ref x] (.ref x :: st) h := Ex_nx rfl rfl
theorem rX1_become_102 (Q : Po) (h : Hp) (ls : List Value) (st : List Value) (a : Nat) : Ex mX1_become Q 102 ls (.ref a :: st) h = (gK h a ∈ ([2] : List Nat) ∧ Ex mX1_become Q 105 ls (gF h 51 a :: st) h) := Ex_gd rfl rfl
theorem rX1_become_105 (Q : Po) (h : Hp) (ls : List Value) (st : List Value) (x a : Nat) : Ex mX1_become Q 105 ls (.ref x :: .ref a :: st) h = (gK h a ∈ ([2] : List Nat) ∧ Ex mX1_become Q 108 ls st (pF h 51 a (.ref x))) := Ex_gd rfl rfl
theorem rX1_become_105n (Q : Po) (h : Hp) (ls : List Value) (st : List Value) (a : Nat) : Ex mX1_become Q 105 ls (.null :: .ref a :: st) h = (gK h a ∈ ([2] : List Nat) ∧ Ex mX1_become Q 108 ls st (pF h 51 a .null)) := Ex_gd rfl rfl
theorem rX1_become_108 (Q : Po) (h : Hp) (l0 : Value) (x : Nat) (st : List Value) : Ex mX1_become Q 108 [l0, .ref x] st h = Ex mX1_become Q 109 [l0, .ref x] (.ref x :: st) h := Ex_nx rfl rfl
theorem rX1_become_109 (Q : Po) (h : Hp) (ls : List Value) (st : List Value) (a : Nat) : Ex mX1_become Q 109 ls (.ref a :: st) h = (gK h a ∈ ([2] : List Nat) ∧ Ex mX1_become Q 112 ls (gF h 53 a :: st) h) := Ex_gd rfl rfl
theorem rX1_become_112 (Q : Po) (h : Hp) (ls : List Value) (st : List Value) : Ex mX1_become Q 112 ls st h = Ex mX1_become Q 113 ls (.int 0 :: st) h := Ex_nx rfl rfl
theorem rX1_become_113 (Q : Po) (h : Hp) (l1 : Value) (x : Nat) (st : List Value) : Ex mX1_become Q 113 [.ref x, l1] st h = Ex mX1_become Q 114 [.ref x, l1] (.ref x :: st) h := Ex_nx rfl rfl
theorem rX1_become_114 (Q : Po) (h : Hp) (ls : List Value) (st : List Value) (a : Nat) : Ex mX1_become Q 114 ls (.ref a :: st) h = (gK h a ∈ ([2] : List Nat) ∧ Ex mX1_become Q 117 ls (gF h 53 a :: st) h) := Ex_gd rfl rfl
theorem rX1_become_117 (Q : Po) (h : Hp) (ls : List Value) (st : List Value) : Ex mX1_become Q 117 ls st h = Ex mX1_become Q 118 ls (.int 0 :: st) h := Ex_nx rfl rfl
theorem rX1_become_118 (Q : Po) (h : Hp) (ls : List Value) (st : List Value) : Ex mX1_become Q 118 ls st h = Ex mX1_become Q 119 ls (.int 5 :: st) h := Ex_nx rfl rfl
theorem rX1_become_119 (Q : Po) (h : Hp) (ls : List Value) (s d : Nat) (sp dp k : Int32) : Ex mX1_become Q 119 ls (.int k :: .int dp :: .ref d :: .int sp :: .ref s :: []) h = ((([] : List Value).length ≤ 6 ∧ gK h s = 51 ∧ gK h d = 51 ∧ ¬ sp < 0 ∧ ¬ dp < 0 ∧ ¬ k < 0 ∧ sp.toNatClampNeg + k.toNatClampNeg ≤ gL h s ∧ dp.toNatClampNeg + k.toNatClampNeg ≤ gL h d) ∧ Ex mX1_become Q 122 ls [] (pC h d (va_cpy (gI h s) (gI h d) sp.toNatClampNeg dp.toNatClampNeg k.toNatClampNeg))) := Ex_gd rfl rfl
theorem rX1_become_122 (Q : Po) (h : Hp) (l0 : Value) (x : Nat) (st : List Value) : Ex mX1_become Q 122 [l0, .ref x] st h = Ex mX1_become Q 123 [l0, .ref x] (.ref x :: st) h := Ex_nx rfl rfl
theorem rX1_become_123 (Q : Po) (h : Hp) (ls : List Value) (st : List Value) (a : Nat) : Ex mX1_become Q 123 ls (.ref a :: st) h = (gK h a ∈ ([2] : List Nat) ∧ Ex mX1_become Q 126 ls (gF h 55 a :: st) h) := Ex_gd rfl rfl
theorem rX1_become_126 (Q : Po) (h : Hp) (ls : List Value) (st : List Value) : Ex mX1_become Q 126 ls st h = Ex mX1_become Q 127 ls (.int 0 :: st) h := Ex_nx rfl rfl
theorem rX1_become_127 (Q : Po) (h : Hp) (l1 : Value) (x : Nat) (st : List Value) : Ex mX1_become Q 127 [.ref x, l1] st h = Ex mX1_become Q 128 [.ref x, l1] (.ref x :: st) h := Ex_nx rfl rfl
theorem rX1_become_128 (Q : Po) (h : Hp) (ls : List Value) (st : List Value) (a : Nat) : Ex mX1_become Q 128 ls (.ref a :: st) h = (gK h a ∈ ([2] : List Nat) ∧ Ex mX1_become Q 131 ls (gF h 55 a :: st) h) := Ex_gd rfl rfl
theorem rX1_become_131 (Q : Po) (h : Hp) (ls : List Value) (st : List Value) : Ex mX1_become Q 131 ls st h = Ex mX1_become Q 132 ls (.int 0 :: st) h := Ex_nx rfl rfl
theorem rX1_become_132 (Q : Po) (h : Hp) (ls : List Value) (st : List Value) : Ex mX1_become Q 132 ls st h = Ex mX1_become Q 133 ls (.int 5 :: st) h := Ex_nx rfl rfl
theorem rX1_become_133 (Q : Po) (h : Hp) (ls : List Value) (s d : Nat) (sp dp k : Int32) : Ex mX1_become Q 133 ls (.int k :: .int dp :: .ref d :: .int sp :: .ref s :: []) h = ((([] : List Value).length ≤ 6 ∧ gK h s = 51 ∧ gK h d = 51 ∧ ¬ sp < 0 ∧ ¬ dp < 0 ∧ ¬ k < 0 ∧ sp.toNatClampNeg + k.toNatClampNeg ≤ gL h s ∧ dp.toNatClampNeg + k.toNatClampNeg ≤ gL h d) ∧ Ex mX1_become Q 136 ls [] (pC h d (va_cpy (gI h s) (gI h d) sp.toNatClampNeg dp.toNatClampNeg k.toNatClampNeg))) := Ex_gd rfl rfl
theorem rX1_become_136 (Q : Po) (h : Hp) (l1 : Value) (x : Nat) (st : List Value) : Ex mX1_become Q 136 [.ref x, l1] st h = Ex mX1_become Q 137 [.ref x, l1] (.ref x :: st) h := Ex_nx rfl rfl
theorem rX1_become_137 (Q : Po) (h : Hp) (l0 : Value) (x : Nat) (st : List Value) : Ex mX1_become Q 137 [l0, .ref x] st h = Ex mX1_become Q 138 [l0, .ref x] (.ref x :: st) h := Ex_nx rfl rfl
theorem rX1_become_138 (Q : Po) (h : Hp) (ls : List Value) (st : List Value) (a : Nat) : Ex mX1_become Q 138 ls (.ref a :: st) h = (gK h a ∈ ([2] : List Nat) ∧ Ex mX1_become Q 141 ls (gF h 56 a :: st) h) := Ex_gd rfl rfl
theorem rX1_become_141 (Q : Po) (h : Hp) (ls : List Value) (st : List Value) (x : Int32) (a : Nat) : Ex mX1_become Q 141 ls (.int x :: .ref a :: st) h = (gK h a ∈ ([2] : List Nat) ∧ Ex mX1_become Q 144 ls st (pF h 56 a (.int x))) := Ex_gd rfl rfl
theorem rX1_become_144 (Q : Po) (h : Hp) (l1 : Value) (x : Nat) (st : List Value) : Ex mX1_become Q 144 [.ref x, l1] st h = Ex mX1_become Q 145 [.ref x, l1] (.ref x :: st) h := Ex_nx rfl rfl
theorem rX1_become_145 (Q : Po) (h : Hp) (l0 : Value) (x : Nat) (st : List Value) : Ex mX1_become Q 145 [l0, .ref x] st h = Ex mX1_become Q 146 [l0, .ref x] (.ref x :: st) h := Ex_nx rfl rfl
theorem rX1_become_146 (Q : Po) (h : Hp) (ls : List Value) (st : List Value) (a : Nat) : Ex mX1_become Q 146 ls (.ref a :: st) h = (gK h a ∈ ([2] : List Nat) ∧ Ex mX1_become Q 149 ls (gF h 58 a :: st) h) := Ex_gd rfl rfl
theorem rX1_become_149 (Q : Po) (h : Hp) (ls : List Value) (st : List Value) (x : Int32) (a : Nat) : Ex mX1_become Q 149 ls (.int x :: .ref a :: st) h = (gK h a ∈ ([2] : List Nat) ∧ Ex mX1_become Q 152 ls st (pF h 58 a (.int x))) := Ex_gd rfl rfl
theorem rX1_become_152 (Q : Po) (h : Hp) (l1 : Value) (x : Nat) (st : List Value) : Ex mX1_become Q 152 [.ref x, l1] st h = Ex mX1_become Q 153 [.ref x, l1] (.ref x :: st) h := Ex_nx rfl rfl
theorem rX1_become_153 (Q : Po) (h : Hp) (ls : List Value) (st : List Value) : Ex mX1_become Q 153 ls st h = Ex mX1_become Q 155 ls (.int (-1000000) :: st) h := Ex_nx rfl rfl
theorem rX1_become_155 (Q : Po) (h : Hp) (ls : List Value) (st : List Value) (x : Int32) (a : Nat) : Ex mX1_become Q 155 ls (.int x :: .ref a :: st) h = (gK h a ∈ ([2] : List Nat) ∧ Ex mX1_become Q 158 ls st (pF h 60 a (.int x))) := Ex_gd rfl rfl
theorem rX1_become_158 (Q : Po) (h : Hp) (l1 : Value) (x : Nat) (st : List Value) : Ex mX1_become Q 158 [.ref x, l1] st h = Ex mX1_become Q 159 [.ref x, l1] (.ref x :: st) h := Ex_nx rfl rfl
theorem rX1_become_159 (Q : Po) (h : Hp) (ls : List Value) (x : Nat) : Ex mX1_become Q 159 ls [.ref x] h = Q (.inl (some (.ref x))) h := Ex_rt rfl rfl
theorem rX1_become_t (Q : Po) (h : Hp) (pc n a : Nat) (ls st : List Value) : Cont mX1_become Q pc ls n st (.inr a) h = Q (.inr a) h := rfl
/-! FishReaders.library()I -/
def mX0_library : Cd := ([(0, .inl (i_new 12 7 3)),
  (3, .inl (i_dup 4)),
  (4, .inl (i_aload 0 5)),
  (5, .inl (i_getf 5 [1] 8)),
  (8, .inl (i_aload 0 9)),
  (9, .inl (i_getf 6 [1] 12)),
  (12, .inr (c_I 2 15 3 (Mt mX12_init 3))),
  (15, .inl (i_astore 1 16)),
  (16, .inl (i_aload 0 17)),
  (17, .inl (i_push (.int 0) 18)),
  (18, .inl (i_putI 6 [1] 21)),
  (21, .inl (i_aload 1 22)),
  (22, .inr (c_V 0 25 2 12 (Mt mX12_all 2))),
  (25, .inl (i_goto 45)),
  (28, .inl (i_astore 2 29)),
  (29, .inl (i_aload 0 30)),
  (30, .inl (i_aload 2 31)),
  (31, .inl (i_getf 154 [13] 34)),
  (34, .inl (i_putI 8 [1] 37)),
  (37, .inl (i_push (.int (-1000100)) 39)),
  (39, .inl (i_aload 2 40)),
  (40, .inl (i_getf 156 [13] 43)),
  (43, .inl (i_bin (fun x y => x - y) 44)),
  (44, .inl i_iret),
  (45, .inl (i_aload 0 46)),
  (46, .inl (i_getf 11 [1] 49)),
  (49, .inl (i_aload 1 50)),
  (50, .inl (i_getf 153 [12] 53)),
  (53, .inr (c_V 1 56 2 2 (Mt mX1_become 2))),
  (56, .inl (i_pop 57)),
  (57, .inl (i_aload 0 58)),
  (58, .inl (i_push (.int 0) 59)),
  (59, .inl (i_putI 16 [1] 62)),
  (62, .inl (i_aload 0 63)),
  (63, .inl (i_getf 11 [1] 66)),
  (66, .inr (c_V 0 69 1 2 (Mt mX1_many 1))),
  (69, .inl i_iret)], (hTab [(21, 25, 28, [13])]))
theorem rX0_library_0 (Q : Po) (h : Hp) (ls : List Value) (st : List Value) : Ex mX0_library Q 0 ls st h = ((1 ≤ gC h ∧ 7 ≤ gS h) ∧ Ex mX0_library Q 3 ls (.ref (gN h) :: st) (nO h 12 7)) := Ex_gd rfl rfl
theorem rX0_library_3 (Q : Po) (h : Hp) (ls : List Value) (st : List Value) (x : Nat) : Ex mX0_library Q 3 ls (.ref x :: st) h = Ex mX0_library Q 4 ls (.ref x :: .ref x :: st) h := Ex_nx rfl rfl
theorem rX0_library_4 (Q : Po) (h : Hp) (l1 l2 : Value) (x : Nat) (st : List Value) : Ex mX0_library Q 4 [.ref x, l1, l2] st h = Ex mX0_library Q 5 [.ref x, l1, l2] (.ref x :: st) h := Ex_nx rfl rfl
theorem rX0_library_5 (Q : Po) (h : Hp) (ls : List Value) (st : List Value) (a : Nat) : Ex mX0_library Q 5 ls (.ref a :: st) h = (gK h a ∈ ([1] : List Nat) ∧ Ex mX0_library Q 8 ls (gF h 5 a :: st) h) := Ex_gd rfl rfl
theorem rX0_library_8 (Q : Po) (h : Hp) (l1 l2 : Value) (x : Nat) (st : List Value) : Ex mX0_library Q 8 [.ref x, l1, l2] st h = Ex mX0_library Q 9 [.ref x, l1, l2] (.ref x :: st) h := Ex_nx rfl rfl
theorem rX0_library_9 (Q : Po) (h : Hp) (ls : List Value) (st : List Value) (a : Nat) : Ex mX0_library Q 9 ls (.ref a :: st) h = (gK h a ∈ ([1] : List Nat) ∧ Ex mX0_library Q 12 ls (gF h 6 a :: st) h) := Ex_gd rfl rfl
theorem rX0_library_12 (Q : Po) (h : Hp) (ls : List Value) (a0 : Nat) (a1 : Int32) (s0 : Value) (b : Nat) : Ex mX0_library Q 12 ls (.int a1 :: .ref a0 :: .ref b :: [s0]) h = Ex mX12_init (Cont mX0_library Q 12 ls 15 [s0]) 0 [.ref b, .ref a0, .int a1] [] h := Ex_cl (n := 3) (as := [.ref b, .ref a0, .int a1]) rfl rfl
theorem rX0_library_15 (Q : Po) (h : Hp) (l0 l1 l2 : Value) (x : Nat) (st : List Value) : Ex mX0_library Q 15 [l0, l1, l2] (.ref x :: st) h = Ex mX0_library Q 16 [l0, .ref x, l2] st h := Ex_nx rfl rfl
theorem rX0_library_16 (Q : Po) (h : Hp) (l1 l2 : Value) (x : Nat) (st : List Value) : Ex mX0_library Q 16 [.ref x, l1, l2] st h = Ex mX0_library Q 17 [.ref x, l1, l2] (.ref x :: st) h := Ex_nx rfl rfl
theorem rX0_library_17 (Q : Po) (h : Hp) (ls : List Value) (st : List Value) : Ex mX0_library Q 17 ls st h = Ex mX0_library Q 18 ls (.int 0 :: st) h := Ex_nx rfl rfl
theorem rX0_library_18 (Q : Po) (h : Hp) (ls : List Value) (st : List Value) (x : Int32) (a : Nat) : Ex mX0_library Q 18 ls (.int x :: .ref a :: st) h = (gK h a ∈ ([1] : List Nat) ∧ Ex mX0_library Q 21 ls st (pF h 6 a (.int x))) := Ex_gd rfl rfl
theorem rX0_library_21 (Q : Po) (h : Hp) (l0 l2 : Value) (x : Nat) (st : List Value) : Ex mX0_library Q 21 [l0, .ref x, l2] st h = Ex mX0_library Q 22 [l0, .ref x, l2] (.ref x :: st) h := Ex_nx rfl rfl
theorem rX0_library_22 (Q : Po) (h : Hp) (ls : List Value) (b : Nat) : Ex mX0_library Q 22 ls (.ref b :: []) h = (gK h b = 12 ∧ Ex mX12_all (Cont mX0_library Q 22 ls 25 []) 0 [.ref b, .retAddr 0] [] h) := Ex_cg (n := 2) (as := [.ref b]) rfl rfl
theorem rX0_library_25 (Q : Po) (h : Hp) (ls : List Value) (st : List Value) : Ex mX0_library Q 25 ls st h = Ex mX0_library Q 45 ls st h := Ex_nx rfl rfl
theorem rX0_library_28 (Q : Po) (h : Hp) (l0 l1 l2 : Value) (x : Nat) (st : List Value) : Ex mX0_library Q 28 [l0, l1, l2] (.ref x :: st) h = Ex mX0_library Q 29 [l0, l1, .ref x] st h := Ex_nx rfl rfl
theorem rX0_library_29 (Q : Po) (h : Hp) (l1 l2 : Value) (x : Nat) (st : List Value) : Ex mX0_library Q 29 [.ref x, l1, l2] st h = Ex mX0_library Q 30 [.ref x, l1, l2] (.ref x :: st) h := Ex_nx rfl rfl
theorem rX0_library_30 (Q : Po) (h : Hp) (l0 l1 : Value) (x : Nat) (st : List Value) : Ex mX0_library Q 30 [l0, l1, .ref x] st h = Ex mX0_library Q 31 [l0, l1, .ref x] (.ref x :: st) h := Ex_nx rfl rfl
theorem rX0_library_31 (Q : Po) (h : Hp) (ls : List Value) (st : List Value) (a : Nat) : Ex mX0_library Q 31 ls (.ref a :: st) h = (gK h a ∈ ([13] : List Nat) ∧ Ex mX0_library Q 34 ls (gF h 154 a :: st) h) := Ex_gd rfl rfl
theorem rX0_library_34 (Q : Po) (h : Hp) (ls : List Value) (st : List Value) (x : Int32) (a : Nat) : Ex mX0_library Q 34 ls (.int x :: .ref a :: st) h = (gK h a ∈ ([1] : List Nat) ∧ Ex mX0_library Q 37 ls st (pF h 8 a (.int x))) := Ex_gd rfl rfl
theorem rX0_library_37 (Q : Po) (h : Hp) (ls : List Value) (st : List Value) : Ex mX0_library Q 37 ls st h = Ex mX0_library Q 39 ls (.int (-1000100) :: st) h := Ex_nx rfl rfl
theorem rX0_library_39 (Q : Po) (h : Hp) (l0 l1 : Value) (x : Nat) (st : List Value) : Ex mX0_library Q 39 [l0, l1, .ref x] st h = Ex mX0_library Q 40 [l0, l1, .ref x] (.ref x :: st) h := Ex_nx rfl rfl
theorem rX0_library_40 (Q : Po) (h : Hp) (ls : List Value) (st : List Value) (a : Nat) : Ex mX0_library Q 40 ls (.ref a :: st) h = (gK h a ∈ ([13] : List Nat) ∧ Ex mX0_library Q 43 ls (gF h 156 a :: st) h) := Ex_gd rfl rfl
theorem rX0_library_43 (Q : Po) (h : Hp) (ls : List Value) (st : List Value) (x y : Int32) : Ex mX0_library Q 43 ls (.int y :: .int x :: st) h = Ex mX0_library Q 44 ls (.int (x - y) :: st) h := Ex_nx rfl rfl
theorem rX0_library_44 (Q : Po) (h : Hp) (ls : List Value) (x : Int32) : Ex mX0_library Q 44 ls [.int x] h = Q (.inl (some (.int x))) h := Ex_rt rfl rfl
theorem rX0_library_45 (Q : Po) (h : Hp) (l1 l2 : Value) (x : Nat) (st : List Value) : Ex mX0_library Q 45 [.ref x, l1, l2] st h = Ex mX0_library Q 46 [.ref x, l1, l2] (.ref x :: st) h := Ex_nx rfl rfl
theorem rX0_library_46 (Q : Po) (h : Hp) (ls : List Value) (st : List Value) (a : Nat) : Ex mX0_library Q 46 ls (.ref a :: st) h = (gK h a ∈ ([1] : List Nat) ∧ Ex mX0_library Q 49 ls (gF h 11 a :: st) h) := Ex_gd rfl rfl
theorem rX0_library_49 (Q : Po) (h : Hp) (l0 l2 : Value) (x : Nat) (st : List Value) : Ex mX0_library Q 49 [l0, .ref x, l2] st h = Ex mX0_library Q 50 [l0, .ref x, l2] (.ref x :: st) h := Ex_nx rfl rfl
theorem rX0_library_50 (Q : Po) (h : Hp) (ls : List Value) (st : List Value) (a : Nat) : Ex mX0_library Q 50 ls (.ref a :: st) h = (gK h a ∈ ([12] : List Nat) ∧ Ex mX0_library Q 53 ls (gF h 153 a :: st) h) := Ex_gd rfl rfl
theorem rX0_library_53 (Q : Po) (h : Hp) (ls : List Value) (a0 : Nat) (b : Nat) : Ex mX0_library Q 53 ls (.ref a0 :: .ref b :: []) h = (gK h b = 2 ∧ Ex mX1_become (Cont mX0_library Q 53 ls 56 []) 0 [.ref b, .ref a0] [] h) := Ex_cg (n := 2) (as := [.ref b, .ref a0]) rfl rfl
theorem rX0_library_56 (Q : Po) (h : Hp) (ls : List Value) (st : List Value) (x : Nat) : Ex mX0_library Q 56 ls (.ref x :: st) h = Ex mX0_library Q 57 ls st h := Ex_nx rfl rfl
theorem rX0_library_57 (Q : Po) (h : Hp) (l1 l2 : Value) (x : Nat) (st : List Value) : Ex mX0_library Q 57 [.ref x, l1, l2] st h = Ex mX0_library Q 58 [.ref x, l1, l2] (.ref x :: st) h := Ex_nx rfl rfl
theorem rX0_library_58 (Q : Po) (h : Hp) (ls : List Value) (st : List Value) : Ex mX0_library Q 58 ls st h = Ex mX0_library Q 59 ls (.int 0 :: st) h := Ex_nx rfl rfl
theorem rX0_library_59 (Q : Po) (h : Hp) (ls : List Value) (st : List Value) (x : Int32) (a : Nat) : Ex mX0_library Q 59 ls (.int x :: .ref a :: st) h = (gK h a ∈ ([1] : List Nat) ∧ Ex mX0_library Q 62 ls st (pF h 16 a (.int x))) := Ex_gd rfl rfl
theorem rX0_library_62 (Q : Po) (h : Hp) (l1 l2 : Value) (x : Nat) (st : List Value) : Ex mX0_library Q 62 [.ref x, l1, l2] st h = Ex mX0_library Q 63 [.ref x, l1, l2] (.ref x :: st) h := Ex_nx rfl rfl
theorem rX0_library_63 (Q : Po) (h : Hp) (ls : List Value) (st : List Value) (a : Nat) : Ex mX0_library Q 63 ls (.ref a :: st) h = (gK h a ∈ ([1] : List Nat) ∧ Ex mX0_library Q 66 ls (gF h 11 a :: st) h) := Ex_gd rfl rfl
theorem rX0_library_66 (Q : Po) (h : Hp) (ls : List Value) (b : Nat) : Ex mX0_library Q 66 ls (.ref b :: []) h = (gK h b = 2 ∧ Ex mX1_many (Cont mX0_library Q 66 ls 69 []) 0 [.ref b] [] h) := Ex_cg (n := 1) (as := [.ref b]) rfl rfl
theorem rX0_library_69 (Q : Po) (h : Hp) (ls : List Value) (x : Int32) : Ex mX0_library Q 69 ls [.int x] h = Q (.inl (some (.int x))) h := Ex_rt rfl rfl
/-! FishReaders.fault()I -/
def mX0_fault : Cd := ([(0, .inl (i_aload 0 1)),
  (1, .inl (i_getf 8 [1] 4)),
  (4, .inl i_iret)], noH)
theorem rX0_fault_0 (Q : Po) (h : Hp) (x : Nat) (st : List Value) : Ex mX0_fault Q 0 [.ref x] st h = Ex mX0_fault Q 1 [.ref x] (.ref x :: st) h := Ex_nx rfl rfl
theorem rX0_fault_1 (Q : Po) (h : Hp) (ls : List Value) (st : List Value) (a : Nat) : Ex mX0_fault Q 1 ls (.ref a :: st) h = (gK h a ∈ ([1] : List Nat) ∧ Ex mX0_fault Q 4 ls (gF h 8 a :: st) h) := Ex_gd rfl rfl
theorem rX0_fault_4 (Q : Po) (h : Hp) (ls : List Value) (x : Int32) : Ex mX0_fault Q 4 ls [.int x] h = Q (.inl (some (.int x))) h := Ex_rt rfl rfl
theorem rX0_fault_t (Q : Po) (h : Hp) (pc n a : Nat) (ls st : List Value) : Cont mX0_fault Q pc ls n st (.inr a) h = Q (.inr a) h := rfl
/-! FishReaders.undo()I -/
def mX0_undo : Cd := ([(0, .inl (i_aload 0 1)),
  (1, .inl (i_getf 16 [1] 4)),
  (4, .inl (i_if (fun x => ¬ x = 0) 10 7)),
  (7, .inl (i_push (.int (-1000002)) 9)),
  (9, .inl i_iret),
  (10, .inl (i_aload 0 11)),
  (11, .inl (i_dup 12)),
  (12, .inl (i_getf 16 [1] 15)),
  (15, .inl (i_push (.int 1) 16)),
  (16, .inl (i_bin (fun x y => x - y) 17)),
  (17, .inl (i_putI 16 [1] 20)),
  (20, .inl (i_aload 0 21)),
  (21, .inl (i_getf 11 [1] 24)),
  (24, .inl (i_aload 0 25)),
  (25, .inl (i_getf 15 [1] 28)),
  (28, .inl (i_aload 0 29)),
  (29, .inl (i_getf 16 [1] 32)),
  (32, .inl (i_aald 55 33)),
  (33, .inr (c_V 1 36 2 2 (Mt mX1_become 2))),
  (36, .inl (i_pop 37)),
  (37, .inl (i_aload 0 38)),
  (38, .inl (i_getf 16 [1] 41)),
  (41, .inl i_iret)], noH)
theorem rX0_undo_0 (Q : Po) (h : Hp) (x : Nat) (st : List Value) : Ex mX0_undo Q 0 [.ref x] st h = Ex mX0_undo Q 1 [.ref x] (.ref x :: st) h := Ex_nx rfl rfl
theorem rX0_undo_1 (Q : Po) (h : Hp) (ls : List Value) (st : List Value) (a : Nat) : Ex mX0_undo Q 1 ls (.ref a :: st) h = (gK h a ∈ ([1] : List Nat) ∧ Ex mX0_undo Q 4 ls (gF h 16 a :: st) h) := Ex_gd rfl rfl
theorem rX0_undo_4 (Q : Po) (h : Hp) (ls : List Value) (st : List Value) (x : Int32) : Ex mX0_undo Q 4 ls (.int x :: st) h = if ¬ x = 0 then Ex mX0_undo Q 10 ls st h else Ex mX0_undo Q 7 ls st h := Ex_br rfl rfl
theorem rX0_undo_7 (Q : Po) (h : Hp) (ls : List Value) (st : List Value) : Ex mX0_undo Q 7 ls st h = Ex mX0_undo Q 9 ls (.int (-1000002) :: st) h := Ex_nx rfl rfl
theorem rX0_undo_9 (Q : Po) (h : Hp) (ls : List Value) (x : Int32) : Ex mX0_undo Q 9 ls [.int x] h = Q (.inl (some (.int x))) h := Ex_rt rfl rfl
theorem rX0_undo_10 (Q : Po) (h : Hp) (x : Nat) (st : List Value) : Ex mX0_undo Q 10 [.ref x] st h = Ex mX0_undo Q 11 [.ref x] (.ref x :: st) h := Ex_nx rfl rfl
theorem rX0_undo_11 (Q : Po) (h : Hp) (ls : List Value) (st : List Value) (x : Nat) : Ex mX0_undo Q 11 ls (.ref x :: st) h = Ex mX0_undo Q 12 ls (.ref x :: .ref x :: st) h := Ex_nx rfl rfl
theorem rX0_undo_12 (Q : Po) (h : Hp) (ls : List Value) (st : List Value) (a : Nat) : Ex mX0_undo Q 12 ls (.ref a :: st) h = (gK h a ∈ ([1] : List Nat) ∧ Ex mX0_undo Q 15 ls (gF h 16 a :: st) h) := Ex_gd rfl rfl
theorem rX0_undo_15 (Q : Po) (h : Hp) (ls : List Value) (st : List Value) : Ex mX0_undo Q 15 ls st h = Ex mX0_undo Q 16 ls (.int 1 :: st) h := Ex_nx rfl rfl
theorem rX0_undo_16 (Q : Po) (h : Hp) (ls : List Value) (st : List Value) (x y : Int32) : Ex mX0_undo Q 16 ls (.int y :: .int x :: st) h = Ex mX0_undo Q 17 ls (.int (x - y) :: st) h := Ex_nx rfl rfl
theorem rX0_undo_17 (Q : Po) (h : Hp) (ls : List Value) (st : List Value) (x : Int32) (a : Nat) : Ex mX0_undo Q 17 ls (.int x :: .ref a :: st) h = (gK h a ∈ ([1] : List Nat) ∧ Ex mX0_undo Q 20 ls st (pF h 16 a (.int x))) := Ex_gd rfl rfl
theorem rX0_undo_20 (Q : Po) (h : Hp) (x : Nat) (st : List Value) : Ex mX0_undo Q 20 [.ref x] st h = Ex mX0_undo Q 21 [.ref x] (.ref x :: st) h := Ex_nx rfl rfl
theorem rX0_undo_21 (Q : Po) (h : Hp) (ls : List Value) (st : List Value) (a : Nat) : Ex mX0_undo Q 21 ls (.ref a :: st) h = (gK h a ∈ ([1] : List Nat) ∧ Ex mX0_undo Q 24 ls (gF h 11 a :: st) h) := Ex_gd rfl rfl
theorem rX0_undo_24 (Q : Po) (h : Hp) (x : Nat) (st : List Value) : Ex mX0_undo Q 24 [.ref x] st h = Ex mX0_undo Q 25 [.ref x] (.ref x :: st) h := Ex_nx rfl rfl
theorem rX0_undo_25 (Q : Po) (h : Hp) (ls : List Value) (st : List Value) (a : Nat) : Ex mX0_undo Q 25 ls (.ref a :: st) h = (gK h a ∈ ([1] : List Nat) ∧ Ex mX0_undo Q 28 ls (gF h 15 a :: st) h) := Ex_gd rfl rfl
theorem rX0_undo_28 (Q : Po) (h : Hp) (x : Nat) (st : List Value) : Ex mX0_undo Q 28 [.ref x] st h = Ex mX0_undo Q 29 [.ref x] (.ref x :: st) h := Ex_nx rfl rfl
theorem rX0_undo_29 (Q : Po) (h : Hp) (ls : List Value) (st : List Value) (a : Nat) : Ex mX0_undo Q 29 ls (.ref a :: st) h = (gK h a ∈ ([1] : List Nat) ∧ Ex mX0_undo Q 32 ls (gF h 16 a :: st) h) := Ex_gd rfl rfl
theorem rX0_undo_32 (Q : Po) (h : Hp) (ls : List Value) (st : List Value) (a : Nat) (i : Int32) : Ex mX0_undo Q 32 ls (.int i :: .ref a :: st) h = ((gK h a = 55 ∧ ¬ (i < 0 ∨ gL h a ≤ i.toNatClampNeg)) ∧ Ex mX0_undo Q 33 ls (va_rf (gR h a i.toNatClampNeg) :: st) h) := Ex_gd rfl rfl
theorem rX0_undo_33 (Q : Po) (h : Hp) (ls : List Value) (a0 : Nat) (b : Nat) : Ex mX0_undo Q 33 ls (.ref a0 :: .ref b :: []) h = (gK h b = 2 ∧ Ex mX1_become (Cont mX0_undo Q 33 ls 36 []) 0 [.ref b, .ref a0] [] h) := Ex_cg (n := 2) (as := [.ref b, .ref a0]) rfl rfl
theorem rX0_undo_36 (Q : Po) (h : Hp) (ls : List Value) (st : List Value) (x : Nat) : Ex mX0_undo Q 36 ls (.ref x :: st) h = Ex mX0_undo Q 37 ls st h := Ex_nx rfl rfl
theorem rX0_undo_37 (Q : Po) (h : Hp) (x : Nat) (st : List Value) : Ex mX0_undo Q 37 [.ref x] st h = Ex mX0_undo Q 38 [.ref x] (.ref x :: st) h := Ex_nx rfl rfl
theorem rX0_undo_38 (Q : Po) (h : Hp) (ls : List Value) (st : List Value) (a : Nat) : Ex mX0_undo Q 38 ls (.ref a :: st) h = (gK h a ∈ ([1] : List Nat) ∧ Ex mX0_undo Q 41 ls (gF h 16 a :: st) h) := Ex_gd rfl rfl
theorem rX0_undo_41 (Q : Po) (h : Hp) (ls : List Value) (x : Int32) : Ex mX0_undo Q 41 ls [.int x] h = Q (.inl (some (.int x))) h := Ex_rt rfl rfl
theorem rX0_undo_t (Q : Po) (h : Hp) (pc n a : Nat) (ls st : List Value) : Cont mX0_undo Q pc ls n st (.inr a) h = Q (.inr a) h := rfl
/-! FishReaders.isLibrary()Z -/
def mX0_isLibrary : Cd := ([(0, .inl (i_aload 0 1)),
  (1, .inl (i_getf 11 [1] 4)),
  (4, .inl (i_getf 32 [2] 7)),
  (7, .inl (i_if (fun x => x ≤ 0) 14 10)),
  (10, .inl (i_push (.int 1) 11)),
  (11, .inl (i_goto 15)),
  (14, .inl (i_push (.int 0) 15)),
  (15, .inl i_zret)], noH)
theorem rX0_isLibrary_0 (Q : Po) (h : Hp) (x : Nat) (st : List Value) : Ex mX0_isLibrary Q 0 [.ref x] st h = Ex mX0_isLibrary Q 1 [.ref x] (.ref x :: st) h := Ex_nx rfl rfl
theorem rX0_isLibrary_1 (Q : Po) (h : Hp) (ls : List Value) (st : List Value) (a : Nat) : Ex mX0_isLibrary Q 1 ls (.ref a :: st) h = (gK h a ∈ ([1] : List Nat) ∧ Ex mX0_isLibrary Q 4 ls (gF h 11 a :: st) h) := Ex_gd rfl rfl
theorem rX0_isLibrary_4 (Q : Po) (h : Hp) (ls : List Value) (st : List Value) (a : Nat) : Ex mX0_isLibrary Q 4 ls (.ref a :: st) h = (gK h a ∈ ([2] : List Nat) ∧ Ex mX0_isLibrary Q 7 ls (gF h 32 a :: st) h) := Ex_gd rfl rfl
theorem rX0_isLibrary_7 (Q : Po) (h : Hp) (ls : List Value) (st : List Value) (x : Int32) : Ex mX0_isLibrary Q 7 ls (.int x :: st) h = if x ≤ 0 then Ex mX0_isLibrary Q 14 ls st h else Ex mX0_isLibrary Q 10 ls st h := Ex_br rfl rfl
theorem rX0_isLibrary_10 (Q : Po) (h : Hp) (ls : List Value) (st : List Value) : Ex mX0_isLibrary Q 10 ls st h = Ex mX0_isLibrary Q 11 ls (.int 1 :: st) h := Ex_nx rfl rfl
theorem rX0_isLibrary_11 (Q : Po) (h : Hp) (ls : List Value) (st : List Value) : Ex mX0_isLibrary Q 11 ls st h = Ex mX0_isLibrary Q 15 ls st h := Ex_nx rfl rfl
theorem rX0_isLibrary_14 (Q : Po) (h : Hp) (ls : List Value) (st : List Value) : Ex mX0_isLibrary Q 14 ls st h = Ex mX0_isLibrary Q 15 ls (.int 0 :: st) h := Ex_nx rfl rfl
theorem rX0_isLibrary_15 (Q : Po) (h : Hp) (ls : List Value) (x : Int32) : Ex mX0_isLibrary Q 15 ls [.int x] h = ((x = 0 ∨ x = 1) ∧ Q (.inl (some (.int x))) h) := Ex_rg rfl rfl
theorem rX0_isLibrary_t (Q : Po) (h : Hp) (pc n a : Nat) (ls st : List Value) : Cont mX0_isLibrary Q pc ls n st (.inr a) h = Q (.inr a) h := rfl
/-! FishReaders.keep()V -/
def mX0_keep : Cd := ([(0, .inl (i_aload 0 1)),
  (1, .inl (i_getf 16 [1] 4)),
  (4, .inl (i_push (.int 24) 6)),
  (6, .inl (i_icmp (fun x y => ¬ x = y) 62 9)),
  (9, .inl (i_aload 0 10)),
  (10, .inl (i_getf 15 [1] 13)),
  (13, .inl (i_push (.int 0) 14)),
  (14, .inl (i_aald 55 15)),
  (15, .inl (i_astore 1 16)),
  (16, .inl (i_push (.int 1) 17)),
  (17, .inl (i_istore 2 18)),
  (18, .inl (i_iload 2 19)),
  (19, .inl (i_push (.int 24) 21)),
  (21, .inl (i_icmp (fun x y => y ≤ x) 44 24)),
  (24, .inl (i_aload 0 25)),
  (25, .inl (i_getf 15 [1] 28)),
  (28, .inl (i_iload 2 29)),
  (29, .inl (i_push (.int 1) 30)),
  (30, .inl (i_bin (fun x y => x - y) 31)),
  (31, .inl (i_aload 0 32)),
  (32, .inl (i_getf 15 [1] 35)),
  (35, .inl (i_iload 2 36)),
  (36, .inl (i_aald 55 37)),
  (37, .inl (i_aast 55 [2] 38)),
  (38, .inl (i_iinc 2 1 41)),
  (41, .inl (i_goto 18)),
  (44, .inl (i_aload 0 45)),
  (45, .inl (i_getf 15 [1] 48)),
  (48, .inl (i_push (.int 23) 50)),
  (50, .inl (i_aload 1 51)),
  (51, .inl (i_aast 55 [2] 52)),
  (52, .inl (i_aload 0 53)),
  (53, .inl (i_dup 54)),
  (54, .inl (i_getf 16 [1] 57)),
  (57, .inl (i_push (.int 1) 58)),
  (58, .inl (i_bin (fun x y => x - y) 59)),
  (59, .inl (i_putI 16 [1] 62)),
  (62, .inl (i_aload 0 63)),
  (63, .inl (i_getf 15 [1] 66)),
  (66, .inl (i_aload 0 67)),
  (67, .inl (i_getf 16 [1] 70)),
  (70, .inl (i_aald 55 71)),
  (71, .inl (i_ifn 74 90)),
  (74, .inl (i_aload 0 75)),
  (75, .inl (i_getf 15 [1] 78)),
  (78, .inl (i_aload 0 79)),
  (79, .inl (i_getf 16 [1] 82)),
  (82, .inl (i_new 2 16 85)),
  (85, .inl (i_dup 86)),
  (86, .inr (c_I 0 89 1 (Mt mX1_init 1))),
  (89, .inl (i_aast 55 [2] 90)),
  (90, .inl (i_aload 0 91)),
  (91, .inl (i_getf 15 [1] 94)),
  (94, .inl (i_aload 0 95)),
  (95, .inl (i_getf 16 [1] 98)),
  (98, .inl (i_aald 55 99)),
  (99, .inl (i_aload 0 100)),
  (100, .inl (i_getf 11 [1] 103)),
  (103, .inr (c_V 1 106 2 2 (Mt mX1_become 2))),
  (106, .inl (i_pop 107)),
  (107, .inl (i_aload 0 108)),
  (108, .inl (i_dup 109)),
  (109, .inl (i_getf 16 [1] 112)),
  (112, .inl (i_push (.int 1) 113)),
  (113, .inl (i_bin (fun x y => x + y) 114)),
  (114, .inl (i_putI 16 [1] 117)),
  (117, .inl i_vret)], noH)
theorem rX0_keep_0 (Q : Po) (h : Hp) (l1 l2 : Value) (x : Nat) (st : List Value) : Ex mX0_keep Q 0 [.ref x, l1, l2] st h = Ex mX0_keep Q 1 [.ref x, l1, l2] (.ref x :: st) h := Ex_nx rfl rfl
theorem rX0_keep_1 (Q : Po) (h : Hp) (ls : List Value) (st : List Value) (a : Nat) : Ex mX0_keep Q 1 ls (.ref a :: st) h = (gK h a ∈ ([1] : List Nat) ∧ Ex mX0_keep Q 4 ls (gF h 16 a :: st) h) := Ex_gd rfl rfl
theorem rX0_keep_4 (Q : Po) (h : Hp) (ls : List Value) (st : List Value) : Ex mX0_keep Q 4 ls st h = Ex mX0_keep Q 6 ls (.int 24 :: st) h := Ex_nx rfl rfl
theorem rX0_keep_6 (Q : Po) (h : Hp) (ls : List Value) (st : List Value) (x y : Int32) : Ex mX0_keep Q 6 ls (.int y :: .int x :: st) h = if ¬ x = y then Ex mX0_keep Q 62 ls st h else Ex mX0_keep Q 9 ls st h := Ex_br rfl rfl
theorem rX0_keep_9 (Q : Po) (h : Hp) (l1 l2 : Value) (x : Nat) (st : List Value) : Ex mX0_keep Q 9 [.ref x, l1, l2] st h = Ex mX0_keep Q 10 [.ref x, l1, l2] (.ref x :: st) h := Ex_nx rfl rfl
theorem rX0_keep_10 (Q : Po) (h : Hp) (ls : List Value) (st : List Value) (a : Nat) : Ex mX0_keep Q 10 ls (.ref a :: st) h = (gK h a ∈ ([1] : List Nat) ∧ Ex mX0_keep Q 13 ls (gF h 15 a :: st) h) := Ex_gd rfl rfl
theorem rX0_keep_13 (Q : Po) (h : Hp) (ls : List Value) (st : List Value) : Ex mX0_keep Q 13 ls st h = Ex mX0_keep Q 14 ls (.int 0 :: st) h := Ex_nx rfl rfl
theorem rX0_keep_14 (Q : Po) (h : Hp) (ls : List Value) (st : List Value) (a : Nat) (i : Int32) : Ex mX0_keep Q 14 ls (.int i :: .ref a :: st) h = ((gK h a = 55 ∧ ¬ (i < 0 ∨ gL h a ≤ i.toNatClampNeg)) ∧ Ex mX0_keep Q 15 ls (va_rf (gR h a i.toNatClampNeg) :: st) h) := Ex_gd rfl rfl
theorem rX0_keep_15 (Q : Po) (h : Hp) (l0 l1 l2 : Value) (x : Nat) (st : List Value) : Ex mX0_keep Q 15 [l0, l1, l2] (.ref x :: st) h = Ex mX0_keep Q 16 [l0, .ref x, l2] st h := Ex_nx rfl rfl
theorem rX0_keep_16 (Q : Po) (h : Hp) (ls : List Value) (st : List Value) : Ex mX0_keep Q 16 ls st h = Ex mX0_keep Q 17 ls (.int 1 :: st) h := Ex_nx rfl rfl
theorem rX0_keep_17 (Q : Po) (h : Hp) (l0 l1 l2 : Value) (x : Int32) (st : List Value) : Ex mX0_keep Q 17 [l0, l1, l2] (.int x :: st) h = Ex mX0_keep Q 18 [l0, l1, .int x] st h := Ex_nx rfl rfl
theorem rX0_keep_18 (Q : Po) (h : Hp) (l0 l1 : Value) (x : Int32) (st : List Value) : Ex mX0_keep Q 18 [l0, l1, .int x] st h = Ex mX0_keep Q 19 [l0, l1, .int x] (.int x :: st) h := Ex_nx rfl rfl
theorem rX0_keep_19 (Q : Po) (h : Hp) (ls : List Value) (st : List Value) : Ex mX0_keep Q 19 ls st h = Ex mX0_keep Q 21 ls (.int 24 :: st) h := Ex_nx rfl rfl
theorem rX0_keep_21 (Q : Po) (h : Hp) (ls : List Value) (st : List Value) (x y : Int32) : Ex mX0_keep Q 21 ls (.int y :: .int x :: st) h = if y ≤ x then Ex mX0_keep Q 44 ls st h else Ex mX0_keep Q 24 ls st h := Ex_br rfl rfl
theorem rX0_keep_24 (Q : Po) (h : Hp) (l1 l2 : Value) (x : Nat) (st : List Value) : Ex mX0_keep Q 24 [.ref x, l1, l2] st h = Ex mX0_keep Q 25 [.ref x, l1, l2] (.ref x :: st) h := Ex_nx rfl rfl
theorem rX0_keep_25 (Q : Po) (h : Hp) (ls : List Value) (st : List Value) (a : Nat) : Ex mX0_keep Q 25 ls (.ref a :: st) h = (gK h a ∈ ([1] : List Nat) ∧ Ex mX0_keep Q 28 ls (gF h 15 a :: st) h) := Ex_gd rfl rfl
theorem rX0_keep_28 (Q : Po) (h : Hp) (l0 l1 : Value) (x : Int32) (st : List Value) : Ex mX0_keep Q 28 [l0, l1, .int x] st h = Ex mX0_keep Q 29 [l0, l1, .int x] (.int x :: st) h := Ex_nx rfl rfl
theorem rX0_keep_29 (Q : Po) (h : Hp) (ls : List Value) (st : List Value) : Ex mX0_keep Q 29 ls st h = Ex mX0_keep Q 30 ls (.int 1 :: st) h := Ex_nx rfl rfl
theorem rX0_keep_30 (Q : Po) (h : Hp) (ls : List Value) (st : List Value) (x y : Int32) : Ex mX0_keep Q 30 ls (.int y :: .int x :: st) h = Ex mX0_keep Q 31 ls (.int (x - y) :: st) h := Ex_nx rfl rfl
theorem rX0_keep_31 (Q : Po) (h : Hp) (l1 l2 : Value) (x : Nat) (st : List Value) : Ex mX0_keep Q 31 [.ref x, l1, l2] st h = Ex mX0_keep Q 32 [.ref x, l1, l2] (.ref x :: st) h := Ex_nx rfl rfl
theorem rX0_keep_32 (Q : Po) (h : Hp) (ls : List Value) (st : List Value) (a : Nat) : Ex mX0_keep Q 32 ls (.ref a :: st) h = (gK h a ∈ ([1] : List Nat) ∧ Ex mX0_keep Q 35 ls (gF h 15 a :: st) h) := Ex_gd rfl rfl
theorem rX0_keep_35 (Q : Po) (h : Hp) (l0 l1 : Value) (x : Int32) (st : List Value) : Ex mX0_keep Q 35 [l0, l1, .int x] st h = Ex mX0_keep Q 36 [l0, l1, .int x] (.int x :: st) h := Ex_nx rfl rfl
theorem rX0_keep_36 (Q : Po) (h : Hp) (ls : List Value) (st : List Value) (a : Nat) (i : Int32) : Ex mX0_keep Q 36 ls (.int i :: .ref a :: st) h = ((gK h a = 55 ∧ ¬ (i < 0 ∨ gL h a ≤ i.toNatClampNeg)) ∧ Ex mX0_keep Q 37 ls (va_rf (gR h a i.toNatClampNeg) :: st) h) := Ex_gd rfl rfl
theorem rX0_keep_37 (Q : Po) (h : Hp) (ls : List Value) (st : List Value) (a x : Nat) (i : Int32) : Ex mX0_keep Q 37 ls (.ref x :: .int i :: .ref a :: st) h = ((gK h a = 55 ∧ gK h x ∈ ([2] : List Nat) ∧ ¬ (i < 0 ∨ gL h a ≤ i.toNatClampNeg)) ∧ Ex mX0_keep Q 38 ls st (pR h a i.toNatClampNeg (some x))) := Ex_gd rfl rfl
theorem rX0_keep_37n (Q : Po) (h : Hp) (ls : List Value) (st : List Value) (a : Nat) (i : Int32) : Ex mX0_keep Q 37 ls (.null :: .int i :: .ref a :: st) h = ((gK h a = 55 ∧ ¬ (i < 0 ∨ gL h a ≤ i.toNatClampNeg)) ∧ Ex mX0_keep Q 38 ls st (pR h a i.toNatClampNeg none)) := Ex_gd rfl rfl
theorem rX0_keep_38 (Q : Po) (h : Hp) (l0 l1 : Value) (x : Int32) (st : List Value) : Ex mX0_keep Q 38 [l0, l1, .int x] st h = Ex mX0_keep Q 41 [l0, l1, .int (x + 1)] st h := Ex_nx rfl rfl
theorem rX0_keep_41 (Q : Po) (h : Hp) (ls : List Value) (st : List Value) : Ex mX0_keep Q 41 ls st h = Ex mX0_keep Q 18 ls st h := Ex_nx rfl rfl
theorem rX0_keep_44 (Q : Po) (h : Hp) (l1 l2 : Value) (x : Nat) (st : List Value) : Ex mX0_keep Q 44 [.ref x, l1, l2] st h = Ex mX0_keep Q 45 [.ref x, l1, l2] (.ref x :: st) h := Ex_nx rfl rfl
theorem rX0_keep_45 (Q : Po) (h : Hp) (ls : List Value) (st : List Value) (a : Nat) : Ex mX0_keep Q 45 ls (.ref a :: st) h = (gK h a ∈ ([1] : List Nat) ∧ Ex mX0_keep Q 48 ls (gF h 15 a :: st) h) := Ex_gd rfl rfl
theorem rX0_keep_48 (Q : Po) (h : Hp) (ls : List Value) (st : List Value) : Ex mX0_keep Q 48 ls st h = Ex mX0_keep Q 50 ls (.int 23 :: st) h := Ex_nx rfl rfl
theorem rX0_keep_50 (Q : Po) (h : Hp) (l0 l2 : Value) (x : Nat) (st : List Value) : Ex mX0_keep Q 50 [l0, .ref x, l2] st h = Ex mX0_keep Q 51 [l0, .ref x, l2] (.ref x :: st) h := Ex_nx rfl rfl
theorem rX0_keep_51 (Q : Po) (h : Hp) (ls : List Value) (st : List Value) (a x : Nat) (i : Int32) : Ex mX0_keep Q 51 ls (.ref x :: .int i :: .ref a :: st) h = ((gK h a = 55 ∧ gK h x ∈ ([2] : List Nat) ∧ ¬ (i < 0 ∨ gL h a ≤ i.toNatClampNeg)) ∧ Ex mX0_keep Q 52 ls st (pR h a i.toNatClampNeg (some x))) := Ex_gd rfl rfl
theorem rX0_keep_51n (Q : Po) (h : Hp) (ls : List Value) (st : List Value) (a : Nat) (i : Int32) : Ex mX0_keep Q 51 ls (.null :: .int i :: .ref a :: st) h = ((gK h a = 55 ∧ ¬ (i < 0 ∨ gL h a ≤ i.toNatClampNeg)) ∧ Ex mX0_keep Q 52 ls st (pR h a i.toNatClampNeg none)) := Ex_gd rfl rfl
theorem rX0_keep_52 (Q : Po) (h : Hp) (l1 l2 : Value) (x : Nat) (st : List Value) : Ex mX0_keep Q 52 [.ref x, l1, l2] st h = Ex mX0_keep Q 53 [.ref x, l1, l2] (.ref x :: st) h := Ex_nx rfl rfl
theorem rX0_keep_53 (Q : Po) (h : Hp) (ls : List Value) (st : List Value) (x : Nat) : Ex mX0_keep Q 53 ls (.ref x :: st) h = Ex mX0_keep Q 54 ls (.ref x :: .ref x :: st) h := Ex_nx rfl rfl
theorem rX0_keep_54 (Q : Po) (h : Hp) (ls : List Value) (st : List Value) (a : Nat) : Ex mX0_keep Q 54 ls (.ref a :: st) h = (gK h a ∈ ([1] : List Nat) ∧ Ex mX0_keep Q 57 ls (gF h 16 a :: st) h) := Ex_gd rfl rfl
theorem rX0_keep_57 (Q : Po) (h : Hp) (ls : List Value) (st : List Value) : Ex mX0_keep Q 57 ls st h = Ex mX0_keep Q 58 ls (.int 1 :: st) h := Ex_nx rfl rfl
theorem rX0_keep_58 (Q : Po) (h : Hp) (ls : List Value) (st : List Value) (x y : Int32) : Ex mX0_keep Q 58 ls (.int y :: .int x :: st) h = Ex mX0_keep Q 59 ls (.int (x - y) :: st) h := Ex_nx rfl rfl
theorem rX0_keep_59 (Q : Po) (h : Hp) (ls : List Value) (st : List Value) (x : Int32) (a : Nat) : Ex mX0_keep Q 59 ls (.int x :: .ref a :: st) h = (gK h a ∈ ([1] : List Nat) ∧ Ex mX0_keep Q 62 ls st (pF h 16 a (.int x))) := Ex_gd rfl rfl
theorem rX0_keep_62 (Q : Po) (h : Hp) (l1 l2 : Value) (x : Nat) (st : List Value) : Ex mX0_keep Q 62 [.ref x, l1, l2] st h = Ex mX0_keep Q 63 [.ref x, l1, l2] (.ref x :: st) h := Ex_nx rfl rfl
theorem rX0_keep_63 (Q : Po) (h : Hp) (ls : List Value) (st : List Value) (a : Nat) : Ex mX0_keep Q 63 ls (.ref a :: st) h = (gK h a ∈ ([1] : List Nat) ∧ Ex mX0_keep Q 66 ls (gF h 15 a :: st) h) := Ex_gd rfl rfl
theorem rX0_keep_66 (Q : Po) (h : Hp) (l1 l2 : Value) (x : Nat) (st : List Value) : Ex mX0_keep Q 66 [.ref x, l1, l2] st h = Ex mX0_keep Q 67 [.ref x, l1, l2] (.ref x :: st) h := Ex_nx rfl rfl
theorem rX0_keep_67 (Q : Po) (h : Hp) (ls : List Value) (st : List Value) (a : Nat) : Ex mX0_keep Q 67 ls (.ref a :: st) h = (gK h a ∈ ([1] : List Nat) ∧ Ex mX0_keep Q 70 ls (gF h 16 a :: st) h) := Ex_gd rfl rfl
theorem rX0_keep_70 (Q : Po) (h : Hp) (ls : List Value) (st : List Value) (a : Nat) (i : Int32) : Ex mX0_keep Q 70 ls (.int i :: .ref a :: st) h = ((gK h a = 55 ∧ ¬ (i < 0 ∨ gL h a ≤ i.toNatClampNeg)) ∧ Ex mX0_keep Q 71 ls (va_rf (gR h a i.toNatClampNeg) :: st) h) := Ex_gd rfl rfl
theorem rX0_keep_71n (Q : Po) (h : Hp) (ls : List Value) (st : List Value) : Ex mX0_keep Q 71 ls (.null :: st) h = Ex mX0_keep Q 74 ls st h := Ex_nx rfl rfl
theorem rX0_keep_71 (Q : Po) (h : Hp) (ls : List Value) (st : List Value) (x : Nat) : Ex mX0_keep Q 71 ls (.ref x :: st) h = Ex mX0_keep Q 90 ls st h := Ex_nx rfl rfl
theorem rX0_keep_74 (Q : Po) (h : Hp) (l1 l2 : Value) (x : Nat) (st : List Value) : Ex mX0_keep Q 74 [.ref x, l1, l2] st h = Ex mX0_keep Q 75 [.ref x, l1, l2] (.ref x :: st) h := Ex_nx rfl rfl
theorem rX0_keep_75 (Q : Po) (h : Hp) (ls : List Value) (st : List Value) (a : Nat) : Ex mX0_keep Q 75 ls (.ref a :: st) h = (gK h a ∈ ([1] : List Nat) ∧ Ex mX0_keep Q 78 ls (gF h 15 a :: st) h) := Ex_gd rfl rfl
theorem rX0_keep_78 (Q : Po) (h : Hp) (l1 l2 : Value) (x : Nat) (st : List Value) : Ex mX0_keep Q 78 [.ref x, l1, l2] st h = Ex mX0_keep Q 79 [.ref x, l1, l2] (.ref x :: st) h := Ex_nx rfl rfl
theorem rX0_keep_79 (Q : Po) (h : Hp) (ls : List Value) (st : List Value) (a : Nat) : Ex mX0_keep Q 79 ls (.ref a :: st) h = (gK h a ∈ ([1] : List Nat) ∧ Ex mX0_keep Q 82 ls (gF h 16 a :: st) h) := Ex_gd rfl rfl
theorem rX0_keep_82 (Q : Po) (h : Hp) (ls : List Value) (st : List Value) : Ex mX0_keep Q 82 ls st h = ((1 ≤ gC h ∧ 16 ≤ gS h) ∧ Ex mX0_keep Q 85 ls (.ref (gN h) :: st) (nO h 2 16)) := Ex_gd rfl rfl
theorem rX0_keep_85 (Q : Po) (h : Hp) (ls : List Value) (st : List Value) (x : Nat) : Ex mX0_keep Q 85 ls (.ref x :: st) h = Ex mX0_keep Q 86 ls (.ref x :: .ref x :: st) h := Ex_nx rfl rfl
theorem rX0_keep_86 (Q : Po) (h : Hp) (ls : List Value) (s0 s1 s2 : Value) (b : Nat) : Ex mX0_keep Q 86 ls (.ref b :: [s0, s1, s2]) h = Ex mX1_init (Cont mX0_keep Q 86 ls 89 [s0, s1, s2]) 0 [.ref b] [] h := Ex_cl (n := 1) (as := [.ref b]) rfl rfl
theorem rX0_keep_89 (Q : Po) (h : Hp) (ls : List Value) (st : List Value) (a x : Nat) (i : Int32) : Ex mX0_keep Q 89 ls (.ref x :: .int i :: .ref a :: st) h = ((gK h a = 55 ∧ gK h x ∈ ([2] : List Nat) ∧ ¬ (i < 0 ∨ gL h a ≤ i.toNatClampNeg)) ∧ Ex mX0_keep Q 90 ls st (pR h a i.toNatClampNeg (some x))) := Ex_gd rfl rfl
theorem rX0_keep_89n (Q : Po) (h : Hp) (ls : List Value) (st : List Value) (a : Nat) (i : Int32) : Ex mX0_keep Q 89 ls (.null :: .int i :: .ref a :: st) h = ((gK h a = 55 ∧ ¬ (i < 0 ∨ gL h a ≤ i.toNatClampNeg)) ∧ Ex mX0_keep Q 90 ls st (pR h a i.toNatClampNeg none)) := Ex_gd rfl rfl
theorem rX0_keep_90 (Q : Po) (h : Hp) (l1 l2 : Value) (x : Nat) (st : List Value) : Ex mX0_keep Q 90 [.ref x, l1, l2] st h = Ex mX0_keep Q 91 [.ref x, l1, l2] (.ref x :: st) h := Ex_nx rfl rfl
theorem rX0_keep_91 (Q : Po) (h : Hp) (ls : List Value) (st : List Value) (a : Nat) : Ex mX0_keep Q 91 ls (.ref a :: st) h = (gK h a ∈ ([1] : List Nat) ∧ Ex mX0_keep Q 94 ls (gF h 15 a :: st) h) := Ex_gd rfl rfl
theorem rX0_keep_94 (Q : Po) (h : Hp) (l1 l2 : Value) (x : Nat) (st : List Value) : Ex mX0_keep Q 94 [.ref x, l1, l2] st h = Ex mX0_keep Q 95 [.ref x, l1, l2] (.ref x :: st) h := Ex_nx rfl rfl
theorem rX0_keep_95 (Q : Po) (h : Hp) (ls : List Value) (st : List Value) (a : Nat) : Ex mX0_keep Q 95 ls (.ref a :: st) h = (gK h a ∈ ([1] : List Nat) ∧ Ex mX0_keep Q 98 ls (gF h 16 a :: st) h) := Ex_gd rfl rfl
theorem rX0_keep_98 (Q : Po) (h : Hp) (ls : List Value) (st : List Value) (a : Nat) (i : Int32) : Ex mX0_keep Q 98 ls (.int i :: .ref a :: st) h = ((gK h a = 55 ∧ ¬ (i < 0 ∨ gL h a ≤ i.toNatClampNeg)) ∧ Ex mX0_keep Q 99 ls (va_rf (gR h a i.toNatClampNeg) :: st) h) := Ex_gd rfl rfl
theorem rX0_keep_99 (Q : Po) (h : Hp) (l1 l2 : Value) (x : Nat) (st : List Value) : Ex mX0_keep Q 99 [.ref x, l1, l2] st h = Ex mX0_keep Q 100 [.ref x, l1, l2] (.ref x :: st) h := Ex_nx rfl rfl
theorem rX0_keep_100 (Q : Po) (h : Hp) (ls : List Value) (st : List Value) (a : Nat) : Ex mX0_keep Q 100 ls (.ref a :: st) h = (gK h a ∈ ([1] : List Nat) ∧ Ex mX0_keep Q 103 ls (gF h 11 a :: st) h) := Ex_gd rfl rfl
theorem rX0_keep_103 (Q : Po) (h : Hp) (ls : List Value) (a0 : Nat) (b : Nat) : Ex mX0_keep Q 103 ls (.ref a0 :: .ref b :: []) h = (gK h b = 2 ∧ Ex mX1_become (Cont mX0_keep Q 103 ls 106 []) 0 [.ref b, .ref a0] [] h) := Ex_cg (n := 2) (as := [.ref b, .ref a0]) rfl rfl
theorem rX0_keep_106 (Q : Po) (h : Hp) (ls : List Value) (st : List Value) (x : Nat) : Ex mX0_keep Q 106 ls (.ref x :: st) h = Ex mX0_keep Q 107 ls st h := Ex_nx rfl rfl
theorem rX0_keep_107 (Q : Po) (h : Hp) (l1 l2 : Value) (x : Nat) (st : List Value) : Ex mX0_keep Q 107 [.ref x, l1, l2] st h = Ex mX0_keep Q 108 [.ref x, l1, l2] (.ref x :: st) h := Ex_nx rfl rfl
theorem rX0_keep_108 (Q : Po) (h : Hp) (ls : List Value) (st : List Value) (x : Nat) : Ex mX0_keep Q 108 ls (.ref x :: st) h = Ex mX0_keep Q 109 ls (.ref x :: .ref x :: st) h := Ex_nx rfl rfl
theorem rX0_keep_109 (Q : Po) (h : Hp) (ls : List Value) (st : List Value) (a : Nat) : Ex mX0_keep Q 109 ls (.ref a :: st) h = (gK h a ∈ ([1] : List Nat) ∧ Ex mX0_keep Q 112 ls (gF h 16 a :: st) h) := Ex_gd rfl rfl
theorem rX0_keep_112 (Q : Po) (h : Hp) (ls : List Value) (st : List Value) : Ex mX0_keep Q 112 ls st h = Ex mX0_keep Q 113 ls (.int 1 :: st) h := Ex_nx rfl rfl
theorem rX0_keep_113 (Q : Po) (h : Hp) (ls : List Value) (st : List Value) (x y : Int32) : Ex mX0_keep Q 113 ls (.int y :: .int x :: st) h = Ex mX0_keep Q 114 ls (.int (x + y) :: st) h := Ex_nx rfl rfl
theorem rX0_keep_114 (Q : Po) (h : Hp) (ls : List Value) (st : List Value) (x : Int32) (a : Nat) : Ex mX0_keep Q 114 ls (.int x :: .ref a :: st) h = (gK h a ∈ ([1] : List Nat) ∧ Ex mX0_keep Q 117 ls st (pF h 16 a (.int x))) := Ex_gd rfl rfl
theorem rX0_keep_117 (Q : Po) (h : Hp) (ls : List Value) : Ex mX0_keep Q 117 ls [] h = Q (.inl none) h := Ex_rt rfl rfl
theorem rX0_keep_t (Q : Po) (h : Hp) (pc n a : Nat) (ls st : List Value) : Cont mX0_keep Q pc ls n st (.inr a) h = Q (.inr a) h := rfl
/-! FishReaders$Library.isCaught(I)Z -/
def mX1_isCaught : Cd := ([(0, .inl (i_aload 0 1)),
  (1, .inl (i_getf 56 [2] 4)),
  (4, .inl (i_iload 1 5)),
  (5, .inl (i_bin (fun x y => x >>> (y &&& 31)) 6)),
  (6, .inl (i_push (.int 1) 7)),
  (7, .inl (i_bin (fun x y => x &&& y) 8)),
  (8, .inl (i_push (.int 1) 9)),
  (9, .inl (i_icmp (fun x y => ¬ x = y) 16 12)),
  (12, .inl (i_push (.int 1) 13)),
  (13, .inl (i_goto 17)),
  (16, .inl (i_push (.int 0) 17)),
  (17, .inl i_zret)], noH)
theorem rX1_isCaught_0 (Q : Po) (h : Hp) (l1 : Value) (x : Nat) (st : List Value) : Ex mX1_isCaught Q 0 [.ref x, l1] st h = Ex mX1_isCaught Q 1 [.ref x, l1] (.ref x :: st) h := Ex_nx rfl rfl
theorem rX1_isCaught_1 (Q : Po) (h : Hp) (ls : List Value) (st : List Value) (a : Nat) : Ex mX1_isCaught Q 1 ls (.ref a :: st) h = (gK h a ∈ ([2] : List Nat) ∧ Ex mX1_isCaught Q 4 ls (gF h 56 a :: st) h) := Ex_gd rfl rfl
theorem rX1_isCaught_4 (Q : Po) (h : Hp) (l0 : Value) (x : Int32) (st : List Value) : Ex mX1_isCaught Q 4 [l0, .int x] st h = Ex mX1_isCaught Q 5 [l0, .int x] (.int x :: st) h := Ex_nx rfl rfl
theorem rX1_isCaught_5 (Q : Po) (h : Hp) (ls : List Value) (st : List Value) (x y : Int32) : Ex mX1_isCaught Q 5 ls (.int y :: .int x :: st) h = Ex mX1_isCaught Q 6 ls (.int (x >>> (y &&& 31)) :: st) h := Ex_nx rfl rfl
theorem rX1_isCaught_6 (Q : Po) (h : Hp) (ls : List Value) (st : List Value) : Ex mX1_isCaught Q 6 ls st h = Ex mX1_isCaught Q 7 ls (.int 1 :: st) h := Ex_nx rfl rfl
theorem rX1_isCaught_7 (Q : Po) (h : Hp) (ls : List Value) (st : List Value) (x y : Int32) : Ex mX1_isCaught Q 7 ls (.int y :: .int x :: st) h = Ex mX1_isCaught Q 8 ls (.int (x &&& y) :: st) h := Ex_nx rfl rfl
theorem rX1_isCaught_8 (Q : Po) (h : Hp) (ls : List Value) (st : List Value) : Ex mX1_isCaught Q 8 ls st h = Ex mX1_isCaught Q 9 ls (.int 1 :: st) h := Ex_nx rfl rfl
theorem rX1_isCaught_9 (Q : Po) (h : Hp) (ls : List Value) (st : List Value) (x y : Int32) : Ex mX1_isCaught Q 9 ls (.int y :: .int x :: st) h = if ¬ x = y then Ex mX1_isCaught Q 16 ls st h else Ex mX1_isCaught Q 12 ls st h := Ex_br rfl rfl
theorem rX1_isCaught_12 (Q : Po) (h : Hp) (ls : List Value) (st : List Value) : Ex mX1_isCaught Q 12 ls st h = Ex mX1_isCaught Q 13 ls (.int 1 :: st) h := Ex_nx rfl rfl
theorem rX1_isCaught_13 (Q : Po) (h : Hp) (ls : List Value) (st : List Value) : Ex mX1_isCaught Q 13 ls st h = Ex mX1_isCaught Q 17 ls st h := Ex_nx rfl rfl
theorem rX1_isCaught_16 (Q : Po) (h : Hp) (ls : List Value) (st : List Value) : Ex mX1_isCaught Q 16 ls st h = Ex mX1_isCaught Q 17 ls (.int 0 :: st) h := Ex_nx rfl rfl
theorem rX1_isCaught_17 (Q : Po) (h : Hp) (ls : List Value) (x : Int32) : Ex mX1_isCaught Q 17 ls [.int x] h = ((x = 0 ∨ x = 1) ∧ Q (.inl (some (.int x))) h) := Ex_rg rfl rfl
theorem rX1_isCaught_t (Q : Po) (h : Hp) (pc n a : Nat) (ls st : List Value) : Cont mX1_isCaught Q pc ls n st (.inr a) h = Q (.inr a) h := rfl
/-! java/util/Objects.checkIndex(II)I -/
def mJ15_checkIndex : Cd := ([(0, .inl (i_iload 0 1)),
  (1, .inl (i_iload 1 2)),
  (2, .inl (i_push (.null) 3)),
  (3, .inr (c_S 3 6 3 (Mt mJ10_checkIndex 3))),
  (6, .inl i_iret)], noH)
theorem rJ15_checkIndex_0 (Q : Po) (h : Hp) (l1 : Value) (x : Int32) (st : List Value) : Ex mJ15_checkIndex Q 0 [.int x, l1] st h = Ex mJ15_checkIndex Q 1 [.int x, l1] (.int x :: st) h := Ex_nx rfl rfl
theorem rJ15_checkIndex_1 (Q : Po) (h : Hp) (l0 : Value) (x : Int32) (st : List Value) : Ex mJ15_checkIndex Q 1 [l0, .int x] st h = Ex mJ15_checkIndex Q 2 [l0, .int x] (.int x :: st) h := Ex_nx rfl rfl
theorem rJ15_checkIndex_2 (Q : Po) (h : Hp) (ls : List Value) (st : List Value) : Ex mJ15_checkIndex Q 2 ls st h = Ex mJ15_checkIndex Q 3 ls (.null :: st) h := Ex_nx rfl rfl
theorem rJ15_checkIndex_3 (Q : Po) (h : Hp) (ls : List Value) (a0 : Int32) (a1 : Int32) : Ex mJ15_checkIndex Q 3 ls (.null :: .int a1 :: .int a0 :: []) h = Ex mJ10_checkIndex (Cont mJ15_checkIndex Q 3 ls 6 []) 0 [.int a0, .int a1, .null] [] h := Ex_cl (n := 3) (as := [.int a0, .int a1, .null]) rfl rfl
theorem rJ15_checkIndex_6 (Q : Po) (h : Hp) (ls : List Value) (x : Int32) : Ex mJ15_checkIndex Q 6 ls [.int x] h = Q (.inl (some (.int x))) h := Ex_rt rfl rfl
theorem rJ15_checkIndex_t (Q : Po) (h : Hp) (pc n a : Nat) (ls st : List Value) : Cont mJ15_checkIndex Q pc ls n st (.inr a) h = Q (.inr a) h := rfl
/-! java/util/ArrayList.elementData(I)Ljava/lang/Object; -/
def mJ2_elementData : Cd := ([(0, .inl (i_aload 0 1)),
  (1, .inl (i_getf 161 [14] 4)),
  (4, .inl (i_iload 1 5)),
  (5, .inl (i_aald 57 6)),
  (6, .inl i_aret)], noH)
theorem rJ2_elementData_0 (Q : Po) (h : Hp) (l1 : Value) (x : Nat) (st : List Value) : Ex mJ2_elementData Q 0 [.ref x, l1] st h = Ex mJ2_elementData Q 1 [.ref x, l1] (.ref x :: st) h := Ex_nx rfl rfl
theorem rJ2_elementData_0n (Q : Po) (h : Hp) (l1 : Value) (st : List Value) : Ex mJ2_elementData Q 0 [.null, l1] st h = Ex mJ2_elementData Q 1 [.null, l1] (.null :: st) h := Ex_nx rfl rfl
theorem rJ2_elementData_1 (Q : Po) (h : Hp) (ls : List Value) (st : List Value) (a : Nat) : Ex mJ2_elementData Q 1 ls (.ref a :: st) h = (gK h a ∈ ([14] : List Nat) ∧ Ex mJ2_elementData Q 4 ls (gF h 161 a :: st) h) := Ex_gd rfl rfl
theorem rJ2_elementData_4 (Q : Po) (h : Hp) (l0 : Value) (x : Int32) (st : List Value) : Ex mJ2_elementData Q 4 [l0, .int x] st h = Ex mJ2_elementData Q 5 [l0, .int x] (.int x :: st) h := Ex_nx rfl rfl
theorem rJ2_elementData_5 (Q : Po) (h : Hp) (ls : List Value) (st : List Value) (a : Nat) (i : Int32) : Ex mJ2_elementData Q 5 ls (.int i :: .ref a :: st) h = ((gK h a = 57 ∧ ¬ (i < 0 ∨ gL h a ≤ i.toNatClampNeg)) ∧ Ex mJ2_elementData Q 6 ls (va_rf (gR h a i.toNatClampNeg) :: st) h) := Ex_gd rfl rfl
theorem rJ2_elementData_6 (Q : Po) (h : Hp) (ls : List Value) (x : Nat) : Ex mJ2_elementData Q 6 ls [.ref x] h = Q (.inl (some (.ref x))) h := Ex_rt rfl rfl
theorem rJ2_elementData_t (Q : Po) (h : Hp) (pc n a : Nat) (ls st : List Value) : Cont mJ2_elementData Q pc ls n st (.inr a) h = Q (.inr a) h := rfl
/-! java/util/ArrayList.get(I)Ljava/lang/Object; -/
def mJ2_get : Cd := ([(0, .inl (i_iload 1 1)),
  (1, .inl (i_aload 0 2)),
  (2, .inl (i_getf 162 [14] 5)),
  (5, .inr (c_S 2 8 2 (Mt mJ15_checkIndex 2))),
  (8, .inl (i_pop 9)),
  (9, .inl (i_aload 0 10)),
  (10, .inl (i_iload 1 11)),
  (11, .inr (c_V 1 14 2 14 (Mt mJ2_elementData 2))),
  (14, .inl i_aret)], noH)
theorem rJ2_get_0 (Q : Po) (h : Hp) (l0 : Value) (x : Int32) (st : List Value) : Ex mJ2_get Q 0 [l0, .int x] st h = Ex mJ2_get Q 1 [l0, .int x] (.int x :: st) h := Ex_nx rfl rfl
theorem rJ2_get_1 (Q : Po) (h : Hp) (l1 : Value) (x : Nat) (st : List Value) : Ex mJ2_get Q 1 [.ref x, l1] st h = Ex mJ2_get Q 2 [.ref x, l1] (.ref x :: st) h := Ex_nx rfl rfl
theorem rJ2_get_1n (Q : Po) (h : Hp) (l1 : Value) (st : List Value) : Ex mJ2_get Q 1 [.null, l1] st h = Ex mJ2_get Q 2 [.null, l1] (.null :: st) h := Ex_nx rfl rfl
theorem rJ2_get_2 (Q : Po) (h : Hp) (ls : List Value) (st : List Value) (a : Nat) : Ex mJ2_get Q 2 ls (.ref a :: st) h = (gK h a ∈ ([14] : List Nat) ∧ Ex mJ2_get Q 5 ls (gF h 162 a :: st) h) := Ex_gd rfl rfl
theorem rJ2_get_5 (Q : Po) (h : Hp) (ls : List Value) (a0 : Int32) (a1 : Int32) : Ex mJ2_get Q 5 ls (.int a1 :: .int a0 :: []) h = Ex mJ15_checkIndex (Cont mJ2_get Q 5 ls 8 []) 0 [.int a0, .int a1] [] h := Ex_cl (n := 2) (as := [.int a0, .int a1]) rfl rfl
theorem rJ2_get_8 (Q : Po) (h : Hp) (ls : List Value) (st : List Value) (x : Int32) : Ex mJ2_get Q 8 ls (.int x :: st) h = Ex mJ2_get Q 9 ls st h := Ex_nx rfl rfl
theorem rJ2_get_9 (Q : Po) (h : Hp) (l1 : Value) (x : Nat) (st : List Value) : Ex mJ2_get Q 9 [.ref x, l1] st h = Ex mJ2_get Q 10 [.ref x, l1] (.ref x :: st) h := Ex_nx rfl rfl
theorem rJ2_get_9n (Q : Po) (h : Hp) (l1 : Value) (st : List Value) : Ex mJ2_get Q 9 [.null, l1] st h = Ex mJ2_get Q 10 [.null, l1] (.null :: st) h := Ex_nx rfl rfl
theorem rJ2_get_10 (Q : Po) (h : Hp) (l0 : Value) (x : Int32) (st : List Value) : Ex mJ2_get Q 10 [l0, .int x] st h = Ex mJ2_get Q 11 [l0, .int x] (.int x :: st) h := Ex_nx rfl rfl
theorem rJ2_get_11 (Q : Po) (h : Hp) (ls : List Value) (a0 : Int32) (b : Nat) : Ex mJ2_get Q 11 ls (.int a0 :: .ref b :: []) h = (gK h b = 14 ∧ Ex mJ2_elementData (Cont mJ2_get Q 11 ls 14 []) 0 [.ref b, .int a0] [] h) := Ex_cg (n := 2) (as := [.ref b, .int a0]) rfl rfl
theorem rJ2_get_14 (Q : Po) (h : Hp) (ls : List Value) (x : Nat) : Ex mJ2_get Q 14 ls [.ref x] h = Q (.inl (some (.ref x))) h := Ex_rt rfl rfl
theorem rJ2_get_t (Q : Po) (h : Hp) (pc n a : Nat) (ls st : List Value) : Cont mJ2_get Q pc ls n st (.inr a) h = Q (.inr a) h := rfl
/-! FishReaders$Library.fish(I)LFishReaders$Fish; -/
def mX1_fish : Cd := ([(0, .inl (i_iload 1 1)),
  (1, .inl (i_aload 0 2)),
  (2, .inl (i_getf 60 [2] 5)),
  (5, .inl (i_icmp (fun x y => ¬ x = y) 15 8)),
  (8, .inl (i_aload 0 9)),
  (9, .inl (i_getf 63 [2] 12)),
  (12, .inl (i_goto 28)),
  (15, .inl (i_aload 0 16)),
  (16, .inl (i_getf 51 [2] 19)),
  (19, .inl (i_iload 1 20)),
  (20, .inr (c_V 1 25 2 14 (Mt mJ2_get 2))),
  (25, .inl (i_cast [4, 5, 6, 7, 8] 28)),
  (28, .inl i_aret)], noH)
theorem rX1_fish_0 (Q : Po) (h : Hp) (l0 : Value) (x : Int32) (st : List Value) : Ex mX1_fish Q 0 [l0, .int x] st h = Ex mX1_fish Q 1 [l0, .int x] (.int x :: st) h := Ex_nx rfl rfl
theorem rX1_fish_1 (Q : Po) (h : Hp) (l1 : Value) (x : Nat) (st : List Value) : Ex mX1_fish Q 1 [.ref x, l1] st h = Ex mX1_fish Q 2 [.ref x, l1] (.ref x :: st) h := Ex_nx rfl rfl
theorem rX1_fish_2 (Q : Po) (h : Hp) (ls : List Value) (st : List Value) (a : Nat) : Ex mX1_fish Q 2 ls (.ref a :: st) h = (gK h a ∈ ([2] : List Nat) ∧ Ex mX1_fish Q 5 ls (gF h 60 a :: st) h) := Ex_gd rfl rfl
theorem rX1_fish_5 (Q : Po) (h : Hp) (ls : List Value) (st : List Value) (x y : Int32) : Ex mX1_fish Q 5 ls (.int y :: .int x :: st) h = if ¬ x = y then Ex mX1_fish Q 15 ls st h else Ex mX1_fish Q 8 ls st h := Ex_br rfl rfl
theorem rX1_fish_8 (Q : Po) (h : Hp) (l1 : Value) (x : Nat) (st : List Value) : Ex mX1_fish Q 8 [.ref x, l1] st h = Ex mX1_fish Q 9 [.ref x, l1] (.ref x :: st) h := Ex_nx rfl rfl
theorem rX1_fish_9 (Q : Po) (h : Hp) (ls : List Value) (st : List Value) (a : Nat) : Ex mX1_fish Q 9 ls (.ref a :: st) h = (gK h a ∈ ([2] : List Nat) ∧ Ex mX1_fish Q 12 ls (gF h 63 a :: st) h) := Ex_gd rfl rfl
theorem rX1_fish_12 (Q : Po) (h : Hp) (ls : List Value) (st : List Value) : Ex mX1_fish Q 12 ls st h = Ex mX1_fish Q 28 ls st h := Ex_nx rfl rfl
theorem rX1_fish_15 (Q : Po) (h : Hp) (l1 : Value) (x : Nat) (st : List Value) : Ex mX1_fish Q 15 [.ref x, l1] st h = Ex mX1_fish Q 16 [.ref x, l1] (.ref x :: st) h := Ex_nx rfl rfl
theorem rX1_fish_16 (Q : Po) (h : Hp) (ls : List Value) (st : List Value) (a : Nat) : Ex mX1_fish Q 16 ls (.ref a :: st) h = (gK h a ∈ ([2] : List Nat) ∧ Ex mX1_fish Q 19 ls (gF h 51 a :: st) h) := Ex_gd rfl rfl
theorem rX1_fish_19 (Q : Po) (h : Hp) (l0 : Value) (x : Int32) (st : List Value) : Ex mX1_fish Q 19 [l0, .int x] st h = Ex mX1_fish Q 20 [l0, .int x] (.int x :: st) h := Ex_nx rfl rfl
theorem rX1_fish_20 (Q : Po) (h : Hp) (ls : List Value) (a0 : Int32) (b : Nat) : Ex mX1_fish Q 20 ls (.int a0 :: .ref b :: []) h = (gK h b = 14 ∧ Ex mJ2_get (Cont mX1_fish Q 20 ls 25 []) 0 [.ref b, .int a0] [] h) := Ex_cg (n := 2) (as := [.ref b, .int a0]) rfl rfl
theorem rX1_fish_25 (Q : Po) (h : Hp) (ls : List Value) (st : List Value) (a : Nat) : Ex mX1_fish Q 25 ls (.ref a :: st) h = (gK h a ∈ ([4, 5, 6, 7, 8] : List Nat) ∧ Ex mX1_fish Q 28 ls (.ref a :: st) h) := Ex_gd rfl rfl
theorem rX1_fish_28 (Q : Po) (h : Hp) (ls : List Value) (x : Nat) : Ex mX1_fish Q 28 ls [.ref x] h = Q (.inl (some (.ref x))) h := Ex_rt rfl rfl
theorem rX1_fish_t (Q : Po) (h : Hp) (pc n a : Nat) (ls st : List Value) : Cont mX1_fish Q pc ls n st (.inr a) h = Q (.inr a) h := rfl
/-! FishReaders$Browser.taste()I -/
def mX4_taste : Cd := ([(0, .inl (i_push (.int 1) 1)),
  (1, .inl i_iret)], noH)
theorem rX4_taste_0 (Q : Po) (h : Hp) (ls : List Value) (st : List Value) : Ex mX4_taste Q 0 ls st h = Ex mX4_taste Q 1 ls (.int 1 :: st) h := Ex_nx rfl rfl
theorem rX4_taste_1 (Q : Po) (h : Hp) (ls : List Value) (x : Int32) : Ex mX4_taste Q 1 ls [.int x] h = Q (.inl (some (.int x))) h := Ex_rt rfl rfl
theorem rX4_taste_t (Q : Po) (h : Hp) (pc n a : Nat) (ls st : List Value) : Cont mX4_taste Q pc ls n st (.inr a) h = Q (.inr a) h := rfl
/-! FishReaders$Poet.taste()I -/
def mX5_taste : Cd := ([(0, .inl (i_push (.int 2) 1)),
  (1, .inl (i_aload 0 2)),
  (2, .inr (c_V 0 5 1 5 (Mt mX4_taste 1))),
  (5, .inl (i_bin (fun x y => x * y) 6)),
  (6, .inl i_iret)], noH)
theorem rX5_taste_0 (Q : Po) (h : Hp) (ls : List Value) (st : List Value) : Ex mX5_taste Q 0 ls st h = Ex mX5_taste Q 1 ls (.int 2 :: st) h := Ex_nx rfl rfl
theorem rX5_taste_1 (Q : Po) (h : Hp) (x : Nat) (st : List Value) : Ex mX5_taste Q 1 [.ref x] st h = Ex mX5_taste Q 2 [.ref x] (.ref x :: st) h := Ex_nx rfl rfl
theorem rX5_taste_2 (Q : Po) (h : Hp) (ls : List Value) (s0 : Value) (b : Nat) : Ex mX5_taste Q 2 ls (.ref b :: [s0]) h = (gK h b = 5 ∧ Ex mX4_taste (Cont mX5_taste Q 2 ls 5 [s0]) 0 [.ref b] [] h) := Ex_cg (n := 1) (as := [.ref b]) rfl rfl
theorem rX5_taste_5 (Q : Po) (h : Hp) (ls : List Value) (st : List Value) (x y : Int32) : Ex mX5_taste Q 5 ls (.int y :: .int x :: st) h = Ex mX5_taste Q 6 ls (.int (x * y) :: st) h := Ex_nx rfl rfl
theorem rX5_taste_6 (Q : Po) (h : Hp) (ls : List Value) (x : Int32) : Ex mX5_taste Q 6 ls [.int x] h = Q (.inl (some (.int x))) h := Ex_rt rfl rfl
theorem rX5_taste_t (Q : Po) (h : Hp) (pc n a : Nat) (ls st : List Value) : Cont mX5_taste Q pc ls n st (.inr a) h = Q (.inr a) h := rfl
/-! java/lang/Math.abs(I)I -/
def mJ13_abs : Cd := ([(0, .inl (i_iload 0 1)),
  (1, .inl (i_if (fun x => 0 ≤ x) 9 4)),
  (4, .inl (i_iload 0 5)),
  (5, .inl (i_un (fun x => -x) 6)),
  (6, .inl (i_goto 10)),
  (9, .inl (i_iload 0 10)),
  (10, .inl i_iret)], noH)
theorem rJ13_abs_0 (Q : Po) (h : Hp) (x : Int32) (st : List Value) : Ex mJ13_abs Q 0 [.int x] st h = Ex mJ13_abs Q 1 [.int x] (.int x :: st) h := Ex_nx rfl rfl
theorem rJ13_abs_1 (Q : Po) (h : Hp) (ls : List Value) (st : List Value) (x : Int32) : Ex mJ13_abs Q 1 ls (.int x :: st) h = if 0 ≤ x then Ex mJ13_abs Q 9 ls st h else Ex mJ13_abs Q 4 ls st h := Ex_br rfl rfl
theorem rJ13_abs_4 (Q : Po) (h : Hp) (x : Int32) (st : List Value) : Ex mJ13_abs Q 4 [.int x] st h = Ex mJ13_abs Q 5 [.int x] (.int x :: st) h := Ex_nx rfl rfl
theorem rJ13_abs_5 (Q : Po) (h : Hp) (ls : List Value) (st : List Value) (x : Int32) : Ex mJ13_abs Q 5 ls (.int x :: st) h = Ex mJ13_abs Q 6 ls (.int (-x) :: st) h := Ex_nx rfl rfl
theorem rJ13_abs_6 (Q : Po) (h : Hp) (ls : List Value) (st : List Value) : Ex mJ13_abs Q 6 ls st h = Ex mJ13_abs Q 10 ls st h := Ex_nx rfl rfl
theorem rJ13_abs_9 (Q : Po) (h : Hp) (x : Int32) (st : List Value) : Ex mJ13_abs Q 9 [.int x] st h = Ex mJ13_abs Q 10 [.int x] (.int x :: st) h := Ex_nx rfl rfl
theorem rJ13_abs_10 (Q : Po) (h : Hp) (ls : List Value) (x : Int32) : Ex mJ13_abs Q 10 ls [.int x] h = Q (.inl (some (.int x))) h := Ex_rt rfl rfl
theorem rJ13_abs_t (Q : Po) (h : Hp) (pc n a : Nat) (ls st : List Value) : Cont mJ13_abs Q pc ls n st (.inr a) h = Q (.inr a) h := rfl
/-! FishReaders$Library.isLit(I)Z -/
def mX1_isLit : Cd := ([(0, .inl (i_aload 0 1)),
  (1, .inl (i_getf 46 [2] 4)),
  (4, .inl (i_iload 1 5)),
  (5, .inl (i_bin (fun x y => x >>> (y &&& 31)) 6)),
  (6, .inl (i_push (.int 1) 7)),
  (7, .inl (i_bin (fun x y => x &&& y) 8)),
  (8, .inl (i_push (.int 1) 9)),
  (9, .inl (i_icmp (fun x y => ¬ x = y) 16 12)),
  (12, .inl (i_push (.int 1) 13)),
  (13, .inl (i_goto 17)),
  (16, .inl (i_push (.int 0) 17)),
  (17, .inl i_zret)], noH)
theorem rX1_isLit_0 (Q : Po) (h : Hp) (l1 : Value) (x : Nat) (st : List Value) : Ex mX1_isLit Q 0 [.ref x, l1] st h = Ex mX1_isLit Q 1 [.ref x, l1] (.ref x :: st) h := Ex_nx rfl rfl
theorem rX1_isLit_1 (Q : Po) (h : Hp) (ls : List Value) (st : List Value) (a : Nat) : Ex mX1_isLit Q 1 ls (.ref a :: st) h = (gK h a ∈ ([2] : List Nat) ∧ Ex mX1_isLit Q 4 ls (gF h 46 a :: st) h) := Ex_gd rfl rfl
theorem rX1_isLit_4 (Q : Po) (h : Hp) (l0 : Value) (x : Int32) (st : List Value) : Ex mX1_isLit Q 4 [l0, .int x] st h = Ex mX1_isLit Q 5 [l0, .int x] (.int x :: st) h := Ex_nx rfl rfl
theorem rX1_isLit_5 (Q : Po) (h : Hp) (ls : List Value) (st : List Value) (x y : Int32) : Ex mX1_isLit Q 5 ls (.int y :: .int x :: st) h = Ex mX1_isLit Q 6 ls (.int (x >>> (y &&& 31)) :: st) h := Ex_nx rfl rfl
theorem rX1_isLit_6 (Q : Po) (h : Hp) (ls : List Value) (st : List Value) : Ex mX1_isLit Q 6 ls st h = Ex mX1_isLit Q 7 ls (.int 1 :: st) h := Ex_nx rfl rfl
theorem rX1_isLit_7 (Q : Po) (h : Hp) (ls : List Value) (st : List Value) (x y : Int32) : Ex mX1_isLit Q 7 ls (.int y :: .int x :: st) h = Ex mX1_isLit Q 8 ls (.int (x &&& y) :: st) h := Ex_nx rfl rfl
theorem rX1_isLit_8 (Q : Po) (h : Hp) (ls : List Value) (st : List Value) : Ex mX1_isLit Q 8 ls st h = Ex mX1_isLit Q 9 ls (.int 1 :: st) h := Ex_nx rfl rfl
theorem rX1_isLit_9 (Q : Po) (h : Hp) (ls : List Value) (st : List Value) (x y : Int32) : Ex mX1_isLit Q 9 ls (.int y :: .int x :: st) h = if ¬ x = y then Ex mX1_isLit Q 16 ls st h else Ex mX1_isLit Q 12 ls st h := Ex_br rfl rfl
theorem rX1_isLit_12 (Q : Po) (h : Hp) (ls : List Value) (st : List Value) : Ex mX1_isLit Q 12 ls st h = Ex mX1_isLit Q 13 ls (.int 1 :: st) h := Ex_nx rfl rfl
theorem rX1_isLit_13 (Q : Po) (h : Hp) (ls : List Value) (st : List Value) : Ex mX1_isLit Q 13 ls st h = Ex mX1_isLit Q 17 ls st h := Ex_nx rfl rfl
theorem rX1_isLit_16 (Q : Po) (h : Hp) (ls : List Value) (st : List Value) : Ex mX1_isLit Q 16 ls st h = Ex mX1_isLit Q 17 ls (.int 0 :: st) h := Ex_nx rfl rfl
theorem rX1_isLit_17 (Q : Po) (h : Hp) (ls : List Value) (x : Int32) : Ex mX1_isLit Q 17 ls [.int x] h = ((x = 0 ∨ x = 1) ∧ Q (.inl (some (.int x))) h) := Ex_rg rfl rfl
theorem rX1_isLit_t (Q : Po) (h : Hp) (pc n a : Nat) (ls st : List Value) : Cont mX1_isLit Q pc ls n st (.inr a) h = Q (.inr a) h := rfl
/-! FishReaders$Library.isKept(I)Z -/
def mX1_isKept : Cd := ([(0, .inl (i_aload 0 1)),
  (1, .inl (i_getf 48 [2] 4)),
  (4, .inl (i_iload 1 5)),
  (5, .inl (i_bin (fun x y => x >>> (y &&& 31)) 6)),
  (6, .inl (i_push (.int 1) 7)),
  (7, .inl (i_bin (fun x y => x &&& y) 8)),
  (8, .inl (i_push (.int 1) 9)),
  (9, .inl (i_icmp (fun x y => ¬ x = y) 16 12)),
  (12, .inl (i_push (.int 1) 13)),
  (13, .inl (i_goto 17)),
  (16, .inl (i_push (.int 0) 17)),
  (17, .inl i_zret)], noH)
theorem rX1_isKept_0 (Q : Po) (h : Hp) (l1 : Value) (x : Nat) (st : List Value) : Ex mX1_isKept Q 0 [.ref x, l1] st h = Ex mX1_isKept Q 1 [.ref x, l1] (.ref x :: st) h := Ex_nx rfl rfl
theorem rX1_isKept_1 (Q : Po) (h : Hp) (ls : List Value) (st : List Value) (a : Nat) : Ex mX1_isKept Q 1 ls (.ref a :: st) h = (gK h a ∈ ([2] : List Nat) ∧ Ex mX1_isKept Q 4 ls (gF h 48 a :: st) h) := Ex_gd rfl rfl
theorem rX1_isKept_4 (Q : Po) (h : Hp) (l0 : Value) (x : Int32) (st : List Value) : Ex mX1_isKept Q 4 [l0, .int x] st h = Ex mX1_isKept Q 5 [l0, .int x] (.int x :: st) h := Ex_nx rfl rfl
theorem rX1_isKept_5 (Q : Po) (h : Hp) (ls : List Value) (st : List Value) (x y : Int32) : Ex mX1_isKept Q 5 ls (.int y :: .int x :: st) h = Ex mX1_isKept Q 6 ls (.int (x >>> (y &&& 31)) :: st) h := Ex_nx rfl rfl
theorem rX1_isKept_6 (Q : Po) (h : Hp) (ls : List Value) (st : List Value) : Ex mX1_isKept Q 6 ls st h = Ex mX1_isKept Q 7 ls (.int 1 :: st) h := Ex_nx rfl rfl
theorem rX1_isKept_7 (Q : Po) (h : Hp) (ls : List Value) (st : List Value) (x y : Int32) : Ex mX1_isKept Q 7 ls (.int y :: .int x :: st) h = Ex mX1_isKept Q 8 ls (.int (x &&& y) :: st) h := Ex_nx rfl rfl
theorem rX1_isKept_8 (Q : Po) (h : Hp) (ls : List Value) (st : List Value) : Ex mX1_isKept Q 8 ls st h = Ex mX1_isKept Q 9 ls (.int 1 :: st) h := Ex_nx rfl rfl
theorem rX1_isKept_9 (Q : Po) (h : Hp) (ls : List Value) (st : List Value) (x y : Int32) : Ex mX1_isKept Q 9 ls (.int y :: .int x :: st) h = if ¬ x = y then Ex mX1_isKept Q 16 ls st h else Ex mX1_isKept Q 12 ls st h := Ex_br rfl rfl
theorem rX1_isKept_12 (Q : Po) (h : Hp) (ls : List Value) (st : List Value) : Ex mX1_isKept Q 12 ls st h = Ex mX1_isKept Q 13 ls (.int 1 :: st) h := Ex_nx rfl rfl
theorem rX1_isKept_13 (Q : Po) (h : Hp) (ls : List Value) (st : List Value) : Ex mX1_isKept Q 13 ls st h = Ex mX1_isKept Q 17 ls st h := Ex_nx rfl rfl
theorem rX1_isKept_16 (Q : Po) (h : Hp) (ls : List Value) (st : List Value) : Ex mX1_isKept Q 16 ls st h = Ex mX1_isKept Q 17 ls (.int 0 :: st) h := Ex_nx rfl rfl
theorem rX1_isKept_17 (Q : Po) (h : Hp) (ls : List Value) (x : Int32) : Ex mX1_isKept Q 17 ls [.int x] h = ((x = 0 ∨ x = 1) ∧ Q (.inl (some (.int x))) h) := Ex_rg rfl rfl
theorem rX1_isKept_t (Q : Po) (h : Hp) (pc n a : Nat) (ls st : List Value) : Cont mX1_isKept Q pc ls n st (.inr a) h = Q (.inr a) h := rfl
/-! FishReaders$Library.isOpen(I)Z -/
def mX1_isOpen : Cd := ([(0, .inl (i_aload 0 1)),
  (1, .inl (i_getf 39 [2] 4)),
  (4, .inl (i_iload 1 5)),
  (5, .inl (i_iald 51 6)),
  (6, .inl (i_if (fun x => x ≤ 0) 29 9)),
  (9, .inl (i_aload 0 10)),
  (10, .inl (i_iload 1 11)),
  (11, .inr (c_V 1 14 2 2 (Mt mX1_isLit 2))),
  (14, .inl (i_if (fun x => ¬ x = 0) 29 17)),
  (17, .inl (i_aload 0 18)),
  (18, .inl (i_iload 1 19)),
  (19, .inr (c_V 1 22 2 2 (Mt mX1_isKept 2))),
  (22, .inl (i_if (fun x => ¬ x = 0) 29 25)),
  (25, .inl (i_push (.int 1) 26)),
  (26, .inl (i_goto 30)),
  (29, .inl (i_push (.int 0) 30)),
  (30, .inl i_zret)], noH)
theorem rX1_isOpen_0 (Q : Po) (h : Hp) (l1 : Value) (x : Nat) (st : List Value) : Ex mX1_isOpen Q 0 [.ref x, l1] st h = Ex mX1_isOpen Q 1 [.ref x, l1] (.ref x :: st) h := Ex_nx rfl rfl
theorem rX1_isOpen_1 (Q : Po) (h : Hp) (ls : List Value) (st : List Value) (a : Nat) : Ex mX1_isOpen Q 1 ls (.ref a :: st) h = (gK h a ∈ ([2] : List Nat) ∧ Ex mX1_isOpen Q 4 ls (gF h 39 a :: st) h) := Ex_gd rfl rfl
theorem rX1_isOpen_4 (Q : Po) (h : Hp) (l0 : Value) (x : Int32) (st : List Value) : Ex mX1_isOpen Q 4 [l0, .int x] st h = Ex mX1_isOpen Q 5 [l0, .int x] (.int x :: st) h := Ex_nx rfl rfl
theorem rX1_isOpen_5 (Q : Po) (h : Hp) (ls : List Value) (st : List Value) (a : Nat) (i : Int32) : Ex mX1_isOpen Q 5 ls (.int i :: .ref a :: st) h = ((gK h a = 51 ∧ ¬ (i < 0 ∨ gL h a ≤ i.toNatClampNeg)) ∧ Ex mX1_isOpen Q 6 ls (.int (gI h a i.toNatClampNeg) :: st) h) := Ex_gd rfl rfl
theorem rX1_isOpen_6 (Q : Po) (h : Hp) (ls : List Value) (st : List Value) (x : Int32) : Ex mX1_isOpen Q 6 ls (.int x :: st) h = if x ≤ 0 then Ex mX1_isOpen Q 29 ls st h else Ex mX1_isOpen Q 9 ls st h := Ex_br rfl rfl
theorem rX1_isOpen_9 (Q : Po) (h : Hp) (l1 : Value) (x : Nat) (st : List Value) : Ex mX1_isOpen Q 9 [.ref x, l1] st h = Ex mX1_isOpen Q 10 [.ref x, l1] (.ref x :: st) h := Ex_nx rfl rfl
theorem rX1_isOpen_10 (Q : Po) (h : Hp) (l0 : Value) (x : Int32) (st : List Value) : Ex mX1_isOpen Q 10 [l0, .int x] st h = Ex mX1_isOpen Q 11 [l0, .int x] (.int x :: st) h := Ex_nx rfl rfl
theorem rX1_isOpen_11 (Q : Po) (h : Hp) (ls : List Value) (a0 : Int32) (b : Nat) : Ex mX1_isOpen Q 11 ls (.int a0 :: .ref b :: []) h = (gK h b = 2 ∧ Ex mX1_isLit (Cont mX1_isOpen Q 11 ls 14 []) 0 [.ref b, .int a0] [] h) := Ex_cg (n := 2) (as := [.ref b, .int a0]) rfl rfl
theorem rX1_isOpen_14 (Q : Po) (h : Hp) (ls : List Value) (st : List Value) (x : Int32) : Ex mX1_isOpen Q 14 ls (.int x :: st) h = if ¬ x = 0 then Ex mX1_isOpen Q 29 ls st h else Ex mX1_isOpen Q 17 ls st h := Ex_br rfl rfl
theorem rX1_isOpen_17 (Q : Po) (h : Hp) (l1 : Value) (x : Nat) (st : List Value) : Ex mX1_isOpen Q 17 [.ref x, l1] st h = Ex mX1_isOpen Q 18 [.ref x, l1] (.ref x :: st) h := Ex_nx rfl rfl
theorem rX1_isOpen_18 (Q : Po) (h : Hp) (l0 : Value) (x : Int32) (st : List Value) : Ex mX1_isOpen Q 18 [l0, .int x] st h = Ex mX1_isOpen Q 19 [l0, .int x] (.int x :: st) h := Ex_nx rfl rfl
theorem rX1_isOpen_19 (Q : Po) (h : Hp) (ls : List Value) (a0 : Int32) (b : Nat) : Ex mX1_isOpen Q 19 ls (.int a0 :: .ref b :: []) h = (gK h b = 2 ∧ Ex mX1_isKept (Cont mX1_isOpen Q 19 ls 22 []) 0 [.ref b, .int a0] [] h) := Ex_cg (n := 2) (as := [.ref b, .int a0]) rfl rfl
theorem rX1_isOpen_22 (Q : Po) (h : Hp) (ls : List Value) (st : List Value) (x : Int32) : Ex mX1_isOpen Q 22 ls (.int x :: st) h = if ¬ x = 0 then Ex mX1_isOpen Q 29 ls st h else Ex mX1_isOpen Q 25 ls st h := Ex_br rfl rfl
theorem rX1_isOpen_25 (Q : Po) (h : Hp) (ls : List Value) (st : List Value) : Ex mX1_isOpen Q 25 ls st h = Ex mX1_isOpen Q 26 ls (.int 1 :: st) h := Ex_nx rfl rfl
theorem rX1_isOpen_26 (Q : Po) (h : Hp) (ls : List Value) (st : List Value) : Ex mX1_isOpen Q 26 ls st h = Ex mX1_isOpen Q 30 ls st h := Ex_nx rfl rfl
theorem rX1_isOpen_29 (Q : Po) (h : Hp) (ls : List Value) (st : List Value) : Ex mX1_isOpen Q 29 ls st h = Ex mX1_isOpen Q 30 ls (.int 0 :: st) h := Ex_nx rfl rfl
theorem rX1_isOpen_30 (Q : Po) (h : Hp) (ls : List Value) (x : Int32) : Ex mX1_isOpen Q 30 ls [.int x] h = ((x = 0 ∨ x = 1) ∧ Q (.inl (some (.int x))) h) := Ex_rg rfl rfl
theorem rX1_isOpen_t (Q : Po) (h : Hp) (pc n a : Nat) (ls st : List Value) : Cont mX1_isOpen Q pc ls n st (.inr a) h = Q (.inr a) h := rfl
/-! FishReaders$Library.liked(II)I -/
def mX1_liked : Cd := ([(0, .inl (i_push (.int (-1000000)) 2)),
  (2, .inl (i_istore 3 3)),
  (3, .inl (i_push (.int (-1000000)) 5)),
  (5, .inl (i_istore 4 7)),
  (7, .inl (i_push (.int 0) 8)),
  (8, .inl (i_istore 5 10)),
  (10, .inl (i_iload 5 12)),
  (12, .inl (i_aload 0 13)),
  (13, .inl (i_getf 36 [2] 16)),
  (16, .inl (i_icmp (fun x y => y ≤ x) 100 19)),
  (19, .inl (i_iload 2 20)),
  (20, .inl (i_if (fun x => x ≤ 0) 100 23)),
  (23, .inl (i_aload 0 24)),
  (24, .inl (i_getf 43 [2] 27)),
  (27, .inl (i_iload 5 29)),
  (29, .inl (i_iald 51 30)),
  (30, .inl (i_istore 6 32)),
  (32, .inl (i_iload 2 33)),
  (33, .inl (i_aload 0 34)),
  (34, .inl (i_getf 41 [2] 37)),
  (37, .inl (i_iload 6 39)),
  (39, .inl (i_iald 51 40)),
  (40, .inl (i_bin (fun x y => x * y) 41)),
  (41, .inl (i_aload 0 42)),
  (42, .inl (i_getf 39 [2] 45)),
  (45, .inl (i_iload 6 47)),
  (47, .inl (i_iald 51 48)),
  (48, .inl (i_push (.int 10) 50)),
  (50, .inl (i_bing (fun x y => x / y) 51)),
  (51, .inl (i_bin (fun x y => x + y) 52)),
  (52, .inl (i_iload 5 54)),
  (54, .inl (i_iload 1 55)),
  (55, .inl (i_bin (fun x y => x - y) 56)),
  (56, .inr (c_S 1 59 1 (Mt mJ13_abs 1))),
  (59, .inl (i_bin (fun x y => x - y) 60)),
  (60, .inl (i_istore 7 62)),
  (62, .inl (i_aload 0 63)),
  (63, .inl (i_iload 6 65)),
  (65, .inr (c_V 1 68 2 2 (Mt mX1_isOpen 2))),
  (68, .inl (i_if (fun x => x = 0) 94 71)),
  (71, .inl (i_iload 3 72)),
  (72, .inl (i_push (.int (-1000000)) 74)),
  (74, .inl (i_icmp (fun x y => x = y) 87 77)),
  (77, .inl (i_iload 7 79)),
  (79, .inl (i_iload 4 81)),
  (81, .inl (i_icmp (fun x y => y < x) 87 84)),
  (84, .inl (i_goto 94)),
  (87, .inl (i_iload 5 89)),
  (89, .inl (i_istore 3 90)),
  (90, .inl (i_iload 7 92)),
  (92, .inl (i_istore 4 94)),
  (94, .inl (i_iinc 5 1 97)),
  (97, .inl (i_goto 10)),
  (100, .inl (i_iload 3 101)),
  (101, .inl i_iret)], noH)
theorem rX1_liked_0 (Q : Po) (h : Hp) (ls : List Value) (st : List Value) : Ex mX1_liked Q 0 ls st h = Ex mX1_liked Q 2 ls (.int (-1000000) :: st) h := Ex_nx rfl rfl
theorem rX1_liked_2 (Q : Po) (h : Hp) (l0 l1 l2 l3 l4 l5 l6 l7 : Value) (x : Int32) (st : List Value) : Ex mX1_liked Q 2 [l0, l1, l2, l3, l4, l5, l6, l7] (.int x :: st) h = Ex mX1_liked Q 3 [l0, l1, l2, .int x, l4, l5, l6, l7] st h := Ex_nx rfl rfl
theorem rX1_liked_3 (Q : Po) (h : Hp) (ls : List Value) (st : List Value) : Ex mX1_liked Q 3 ls st h = Ex mX1_liked Q 5 ls (.int (-1000000) :: st) h := Ex_nx rfl rfl
theorem rX1_liked_5 (Q : Po) (h : Hp) (l0 l1 l2 l3 l4 l5 l6 l7 : Value) (x : Int32) (st : List Value) : Ex mX1_liked Q 5 [l0, l1, l2, l3, l4, l5, l6, l7] (.int x :: st) h = Ex mX1_liked Q 7 [l0, l1, l2, l3, .int x, l5, l6, l7] st h := Ex_nx rfl rfl
theorem rX1_liked_7 (Q : Po) (h : Hp) (ls : List Value) (st : List Value) : Ex mX1_liked Q 7 ls st h = Ex mX1_liked Q 8 ls (.int 0 :: st) h := Ex_nx rfl rfl
theorem rX1_liked_8 (Q : Po) (h : Hp) (l0 l1 l2 l3 l4 l5 l6 l7 : Value) (x : Int32) (st : List Value) : Ex mX1_liked Q 8 [l0, l1, l2, l3, l4, l5, l6, l7] (.int x :: st) h = Ex mX1_liked Q 10 [l0, l1, l2, l3, l4, .int x, l6, l7] st h := Ex_nx rfl rfl
theorem rX1_liked_10 (Q : Po) (h : Hp) (l0 l1 l2 l3 l4 l6 l7 : Value) (x : Int32) (st : List Value) : Ex mX1_liked Q 10 [l0, l1, l2, l3, l4, .int x, l6, l7] st h = Ex mX1_liked Q 12 [l0, l1, l2, l3, l4, .int x, l6, l7] (.int x :: st) h := Ex_nx rfl rfl
theorem rX1_liked_12 (Q : Po) (h : Hp) (l1 l2 l3 l4 l5 l6 l7 : Value) (x : Nat) (st : List Value) : Ex mX1_liked Q 12 [.ref x, l1, l2, l3, l4, l5, l6, l7] st h = Ex mX1_liked Q 13 [.ref x, l1, l2, l3, l4, l5, l6, l7] (.ref x :: st) h := Ex_nx rfl rfl
theorem rX1_liked_13 (Q : Po) (h : Hp) (ls : List Value) (st : List Value) (a : Nat) : Ex mX1_liked Q 13 ls (.ref a :: st) h = (gK h a ∈ ([2] : List Nat) ∧ Ex mX1_liked Q 16 ls (gF h 36 a :: st) h) := Ex_gd rfl rfl
theorem rX1_liked_16 (Q : Po) (h : Hp) (ls : List Value) (st : List Value) (x y : Int32) : Ex mX1_liked Q 16 ls (.int y :: .int x :: st) h = if y ≤ x then Ex mX1_liked Q 100 ls st h else Ex mX1_liked Q 19 ls st h := Ex_br rfl rfl
theorem rX1_liked_19 (Q : Po) (h : Hp) (l0 l1 l3 l4 l5 l6 l7 : Value) (x : Int32) (st : List Value) : Ex mX1_liked Q 19 [l0, l1, .int x, l3, l4, l5, l6, l7] st h = Ex mX1_liked Q 20 [l0, l1, .int x, l3, l4, l5, l6, l7] (.int x :: st) h := Ex_nx rfl rfl
theorem rX1_liked_20 (Q : Po) (h : Hp) (ls : List Value) (st : List Value) (x : Int32) : Ex mX1_liked Q 20 ls (.int x :: st) h = if x ≤ 0 then Ex mX1_liked Q 100 ls st h else Ex mX1_liked Q 23 ls st h := Ex_br rfl rfl
theorem rX1_liked_23 (Q : Po) (h : Hp) (l1 l2 l3 l4 l5 l6 l7 : Value) (x : Nat) (st : List Value) : Ex mX1_liked Q 23 [.ref x, l1, l2, l3, l4, l5, l6, l7] st h = Ex mX1_liked Q 24 [.ref x, l1, l2, l3, l4, l5, l6, l7] (.ref x :: st) h := Ex_nx rfl rfl
theorem rX1_liked_24 (Q : Po) (h : Hp) (ls : List Value) (st : List Value) (a : Nat) : Ex mX1_liked Q 24 ls (.ref a :: st) h = (gK h a ∈ ([2] : List Nat) ∧ Ex mX1_liked Q 27 ls (gF h 43 a :: st) h) := Ex_gd rfl rfl
theorem rX1_liked_27 (Q : Po) (h : Hp) (l0 l1 l2 l3 l4 l6 l7 : Value) (x : Int32) (st : List Value) : Ex mX1_liked Q 27 [l0, l1, l2, l3, l4, .int x, l6, l7] st h = Ex mX1_liked Q 29 [l0, l1, l2, l3, l4, .int x, l6, l7] (.int x :: st) h := Ex_nx rfl rfl
theorem rX1_liked_29 (Q : Po) (h : Hp) (ls : List Value) (st : List Value) (a : Nat) (i : Int32) : Ex mX1_liked Q 29 ls (.int i :: .ref a :: st) h = ((gK h a = 51 ∧ ¬ (i < 0 ∨ gL h a ≤ i.toNatClampNeg)) ∧ Ex mX1_liked Q 30 ls (.int (gI h a i.toNatClampNeg) :: st) h) := Ex_gd rfl rfl
theorem rX1_liked_30 (Q : Po) (h : Hp) (l0 l1 l2 l3 l4 l5 l6 l7 : Value) (x : Int32) (st : List Value) : Ex mX1_liked Q 30 [l0, l1, l2, l3, l4, l5, l6, l7] (.int x :: st) h = Ex mX1_liked Q 32 [l0, l1, l2, l3, l4, l5, .int x, l7] st h := Ex_nx rfl rfl
theorem rX1_liked_32 (Q : Po) (h : Hp) (l0 l1 l3 l4 l5 l6 l7 : Value) (x : Int32) (st : List Value) : Ex mX1_liked Q 32 [l0, l1, .int x, l3, l4, l5, l6, l7] st h = Ex mX1_liked Q 33 [l0, l1, .int x, l3, l4, l5, l6, l7] (.int x :: st) h := Ex_nx rfl rfl
theorem rX1_liked_33 (Q : Po) (h : Hp) (l1 l2 l3 l4 l5 l6 l7 : Value) (x : Nat) (st : List Value) : Ex mX1_liked Q 33 [.ref x, l1, l2, l3, l4, l5, l6, l7] st h = Ex mX1_liked Q 34 [.ref x, l1, l2, l3, l4, l5, l6, l7] (.ref x :: st) h := Ex_nx rfl rfl
theorem rX1_liked_34 (Q : Po) (h : Hp) (ls : List Value) (st : List Value) (a : Nat) : Ex mX1_liked Q 34 ls (.ref a :: st) h = (gK h a ∈ ([2] : List Nat) ∧ Ex mX1_liked Q 37 ls (gF h 41 a :: st) h) := Ex_gd rfl rfl
theorem rX1_liked_37 (Q : Po) (h : Hp) (l0 l1 l2 l3 l4 l5 l7 : Value) (x : Int32) (st : List Value) : Ex mX1_liked Q 37 [l0, l1, l2, l3, l4, l5, .int x, l7] st h = Ex mX1_liked Q 39 [l0, l1, l2, l3, l4, l5, .int x, l7] (.int x :: st) h := Ex_nx rfl rfl
theorem rX1_liked_39 (Q : Po) (h : Hp) (ls : List Value) (st : List Value) (a : Nat) (i : Int32) : Ex mX1_liked Q 39 ls (.int i :: .ref a :: st) h = ((gK h a = 51 ∧ ¬ (i < 0 ∨ gL h a ≤ i.toNatClampNeg)) ∧ Ex mX1_liked Q 40 ls (.int (gI h a i.toNatClampNeg) :: st) h) := Ex_gd rfl rfl
theorem rX1_liked_40 (Q : Po) (h : Hp) (ls : List Value) (st : List Value) (x y : Int32) : Ex mX1_liked Q 40 ls (.int y :: .int x :: st) h = Ex mX1_liked Q 41 ls (.int (x * y) :: st) h := Ex_nx rfl rfl
theorem rX1_liked_41 (Q : Po) (h : Hp) (l1 l2 l3 l4 l5 l6 l7 : Value) (x : Nat) (st : List Value) : Ex mX1_liked Q 41 [.ref x, l1, l2, l3, l4, l5, l6, l7] st h = Ex mX1_liked Q 42 [.ref x, l1, l2, l3, l4, l5, l6, l7] (.ref x :: st) h := Ex_nx rfl rfl
theorem rX1_liked_42 (Q : Po) (h : Hp) (ls : List Value) (st : List Value) (a : Nat) : Ex mX1_liked Q 42 ls (.ref a :: st) h = (gK h a ∈ ([2] : List Nat) ∧ Ex mX1_liked Q 45 ls (gF h 39 a :: st) h) := Ex_gd rfl rfl
theorem rX1_liked_45 (Q : Po) (h : Hp) (l0 l1 l2 l3 l4 l5 l7 : Value) (x : Int32) (st : List Value) : Ex mX1_liked Q 45 [l0, l1, l2, l3, l4, l5, .int x, l7] st h = Ex mX1_liked Q 47 [l0, l1, l2, l3, l4, l5, .int x, l7] (.int x :: st) h := Ex_nx rfl rfl
theorem rX1_liked_47 (Q : Po) (h : Hp) (ls : List Value) (st : List Value) (a : Nat) (i : Int32) : Ex mX1_liked Q 47 ls (.int i :: .ref a :: st) h = ((gK h a = 51 ∧ ¬ (i < 0 ∨ gL h a ≤ i.toNatClampNeg)) ∧ Ex mX1_liked Q 48 ls (.int (gI h a i.toNatClampNeg) :: st) h) := Ex_gd rfl rfl
theorem rX1_liked_48 (Q : Po) (h : Hp) (ls : List Value) (st : List Value) : Ex mX1_liked Q 48 ls st h = Ex mX1_liked Q 50 ls (.int 10 :: st) h := Ex_nx rfl rfl
theorem rX1_liked_50 (Q : Po) (h : Hp) (ls : List Value) (st : List Value) (x y : Int32) : Ex mX1_liked Q 50 ls (.int y :: .int x :: st) h = (¬ y = 0 ∧ Ex mX1_liked Q 51 ls (.int (x / y) :: st) h) := Ex_gd rfl rfl
theorem rX1_liked_51 (Q : Po) (h : Hp) (ls : List Value) (st : List Value) (x y : Int32) : Ex mX1_liked Q 51 ls (.int y :: .int x :: st) h = Ex mX1_liked Q 52 ls (.int (x + y) :: st) h := Ex_nx rfl rfl
theorem rX1_liked_52 (Q : Po) (h : Hp) (l0 l1 l2 l3 l4 l6 l7 : Value) (x : Int32) (st : List Value) : Ex mX1_liked Q 52 [l0, l1, l2, l3, l4, .int x, l6, l7] st h = Ex mX1_liked Q 54 [l0, l1, l2, l3, l4, .int x, l6, l7] (.int x :: st) h := Ex_nx rfl rfl
theorem rX1_liked_54 (Q : Po) (h : Hp) (l0 l2 l3 l4 l5 l6 l7 : Value) (x : Int32) (st : List Value) : Ex mX1_liked Q 54 [l0, .int x, l2, l3, l4, l5, l6, l7] st h = Ex mX1_liked Q 55 [l0, .int x, l2, l3, l4, l5, l6, l7] (.int x :: st) h := Ex_nx rfl rfl
theorem rX1_liked_55 (Q : Po) (h : Hp) (ls : List Value) (st : List Value) (x y : Int32) : Ex mX1_liked Q 55 ls (.int y :: .int x :: st) h = Ex mX1_liked Q 56 ls (.int (x - y) :: st) h := Ex_nx rfl rfl
theorem rX1_liked_56 (Q : Po) (h : Hp) (ls : List Value) (a0 : Int32) (s0 : Value) : Ex mX1_liked Q 56 ls (.int a0 :: [s0]) h = Ex mJ13_abs (Cont mX1_liked Q 56 ls 59 [s0]) 0 [.int a0] [] h := Ex_cl (n := 1) (as := [.int a0]) rfl rfl
theorem rX1_liked_59 (Q : Po) (h : Hp) (ls : List Value) (st : List Value) (x y : Int32) : Ex mX1_liked Q 59 ls (.int y :: .int x :: st) h = Ex mX1_liked Q 60 ls (.int (x - y) :: st) h := Ex_nx rfl rfl
theorem rX1_liked_60 (Q : Po) (h : Hp) (l0 l1 l2 l3 l4 l5 l6 l7 : Value) (x : Int32) (st : List Value) : Ex mX1_liked Q 60 [l0, l1, l2, l3, l4, l5, l6, l7] (.int x :: st) h = Ex mX1_liked Q 62 [l0, l1, l2, l3, l4, l5, l6, .int x] st h := Ex_nx rfl rfl
theorem rX1_liked_62 (Q : Po) (h : Hp) (l1 l2 l3 l4 l5 l6 l7 : Value) (x : Nat) (st : List Value) : Ex mX1_liked Q 62 [.ref x, l1, l2, l3, l4, l5, l6, l7] st h = Ex mX1_liked Q 63 [.ref x, l1, l2, l3, l4, l5, l6, l7] (.ref x :: st) h := Ex_nx rfl rfl
theorem rX1_liked_63 (Q : Po) (h : Hp) (l0 l1 l2 l3 l4 l5 l7 : Value) (x : Int32) (st : List Value) : Ex mX1_liked Q 63 [l0, l1, l2, l3, l4, l5, .int x, l7] st h = Ex mX1_liked Q 65 [l0, l1, l2, l3, l4, l5, .int x, l7] (.int x :: st) h := Ex_nx rfl rfl
theorem rX1_liked_65 (Q : Po) (h : Hp) (ls : List Value) (a0 : Int32) (b : Nat) : Ex mX1_liked Q 65 ls (.int a0 :: .ref b :: []) h = (gK h b = 2 ∧ Ex mX1_isOpen (Cont mX1_liked Q 65 ls 68 []) 0 [.ref b, .int a0] [] h) := Ex_cg (n := 2) (as := [.ref b, .int a0]) rfl rfl
theorem rX1_liked_68 (Q : Po) (h : Hp) (ls : List Value) (st : List Value) (x : Int32) : Ex mX1_liked Q 68 ls (.int x :: st) h = if x = 0 then Ex mX1_liked Q 94 ls st h else Ex mX1_liked Q 71 ls st h := Ex_br rfl rfl
theorem rX1_liked_71 (Q : Po) (h : Hp) (l0 l1 l2 l4 l5 l6 l7 : Value) (x : Int32) (st : List Value) : Ex mX1_liked Q 71 [l0, l1, l2, .int x, l4, l5, l6, l7] st h = Ex mX1_liked Q 72 [l0, l1, l2, .int x, l4, l5, l6, l7] (.int x :: st) h := Ex_nx rfl rfl
theorem rX1_liked_72 (Q : Po) (h : Hp) (ls : List Value) (st : List Value) : Ex mX1_liked Q 72 ls st h = Ex mX1_liked Q 74 ls (.int (-1000000) :: st) h := Ex_nx rfl rfl
theorem rX1_liked_74 (Q : Po) (h : Hp) (ls : List Value) (st : List Value) (x y : Int32) : Ex mX1_liked Q 74 ls (.int y :: .int x :: st) h = if x = y then Ex mX1_liked Q 87 ls st h else Ex mX1_liked Q 77 ls st h := Ex_br rfl rfl
theorem rX1_liked_77 (Q : Po) (h : Hp) (l0 l1 l2 l3 l4 l5 l6 : Value) (x : Int32) (st : List Value) : Ex mX1_liked Q 77 [l0, l1, l2, l3, l4, l5, l6, .int x] st h = Ex mX1_liked Q 79 [l0, l1, l2, l3, l4, l5, l6, .int x] (.int x :: st) h := Ex_nx rfl rfl
theorem rX1_liked_79 (Q : Po) (h : Hp) (l0 l1 l2 l3 l5 l6 l7 : Value) (x : Int32) (st : List Value) : Ex mX1_liked Q 79 [l0, l1, l2, l3, .int x, l5, l6, l7] st h = Ex mX1_liked Q 81 [l0, l1, l2, l3, .int x, l5, l6, l7] (.int x :: st) h := Ex_nx rfl rfl
theorem rX1_liked_81 (Q : Po) (h : Hp) (ls : List Value) (st : List Value) (x y : Int32) : Ex mX1_liked Q 81 ls (.int y :: .int x :: st) h = if y < x then Ex mX1_liked Q 87 ls st h else Ex mX1_liked Q 84 ls st h := Ex_br rfl rfl
theorem rX1_liked_84 (Q : Po) (h : Hp) (ls : List Value) (st : List Value) : Ex mX1_liked Q 84 ls st h = Ex mX1_liked Q 94 ls st h := Ex_nx rfl rfl
theorem rX1_liked_87 (Q : Po) (h : Hp) (l0 l1 l2 l3 l4 l6 l7 : Value) (x : Int32) (st : List Value) : Ex mX1_liked Q 87 [l0, l1, l2, l3, l4, .int x, l6, l7] st h = Ex mX1_liked Q 89 [l0, l1, l2, l3, l4, .int x, l6, l7] (.int x :: st) h := Ex_nx rfl rfl
theorem rX1_liked_89 (Q : Po) (h : Hp) (l0 l1 l2 l3 l4 l5 l6 l7 : Value) (x : Int32) (st : List Value) : Ex mX1_liked Q 89 [l0, l1, l2, l3, l4, l5, l6, l7] (.int x :: st) h = Ex mX1_liked Q 90 [l0, l1, l2, .int x, l4, l5, l6, l7] st h := Ex_nx rfl rfl
theorem rX1_liked_90 (Q : Po) (h : Hp) (l0 l1 l2 l3 l4 l5 l6 : Value) (x : Int32) (st : List Value) : Ex mX1_liked Q 90 [l0, l1, l2, l3, l4, l5, l6, .int x] st h = Ex mX1_liked Q 92 [l0, l1, l2, l3, l4, l5, l6, .int x] (.int x :: st) h := Ex_nx rfl rfl
theorem rX1_liked_92 (Q : Po) (h : Hp) (l0 l1 l2 l3 l4 l5 l6 l7 : Value) (x : Int32) (st : List Value) : Ex mX1_liked Q 92 [l0, l1, l2, l3, l4, l5, l6, l7] (.int x :: st) h = Ex mX1_liked Q 94 [l0, l1, l2, l3, .int x, l5, l6, l7] st h := Ex_nx rfl rfl
theorem rX1_liked_94 (Q : Po) (h : Hp) (l0 l1 l2 l3 l4 l6 l7 : Value) (x : Int32) (st : List Value) : Ex mX1_liked Q 94 [l0, l1, l2, l3, l4, .int x, l6, l7] st h = Ex mX1_liked Q 97 [l0, l1, l2, l3, l4, .int (x + 1), l6, l7] st h := Ex_nx rfl rfl
theorem rX1_liked_97 (Q : Po) (h : Hp) (ls : List Value) (st : List Value) : Ex mX1_liked Q 97 ls st h = Ex mX1_liked Q 10 ls st h := Ex_nx rfl rfl
theorem rX1_liked_100 (Q : Po) (h : Hp) (l0 l1 l2 l4 l5 l6 l7 : Value) (x : Int32) (st : List Value) : Ex mX1_liked Q 100 [l0, l1, l2, .int x, l4, l5, l6, l7] st h = Ex mX1_liked Q 101 [l0, l1, l2, .int x, l4, l5, l6, l7] (.int x :: st) h := Ex_nx rfl rfl
theorem rX1_liked_101 (Q : Po) (h : Hp) (ls : List Value) (x : Int32) : Ex mX1_liked Q 101 ls [.int x] h = Q (.inl (some (.int x))) h := Ex_rt rfl rfl
theorem rX1_liked_t (Q : Po) (h : Hp) (pc n a : Nat) (ls st : List Value) : Cont mX1_liked Q pc ls n st (.inr a) h = Q (.inr a) h := rfl
/-! FishReaders$Library.nearer(II)I -/
def mX1_nearer : Cd := ([(0, .inl (i_iload 2 1)),
  (1, .inl (i_push (.int (-1000000)) 3)),
  (3, .inl (i_icmp (fun x y => x = y) 11 6)),
  (6, .inl (i_iload 2 7)),
  (7, .inl (i_iload 1 8)),
  (8, .inl (i_icmp (fun x y => ¬ x = y) 15 11)),
  (11, .inl (i_iload 1 12)),
  (12, .inl (i_goto 29)),
  (15, .inl (i_iload 2 16)),
  (16, .inl (i_iload 1 17)),
  (17, .inl (i_icmp (fun x y => x ≤ y) 26 20)),
  (20, .inl (i_iload 1 21)),
  (21, .inl (i_push (.int 1) 22)),
  (22, .inl (i_bin (fun x y => x + y) 23)),
  (23, .inl (i_goto 29)),
  (26, .inl (i_iload 1 27)),
  (27, .inl (i_push (.int 1) 28)),
  (28, .inl (i_bin (fun x y => x - y) 29)),
  (29, .inl i_iret)], noH)
theorem rX1_nearer_0 (Q : Po) (h : Hp) (l0 l1 : Value) (x : Int32) (st : List Value) : Ex mX1_nearer Q 0 [l0, l1, .int x] st h = Ex mX1_nearer Q 1 [l0, l1, .int x] (.int x :: st) h := Ex_nx rfl rfl
theorem rX1_nearer_1 (Q : Po) (h : Hp) (ls : List Value) (st : List Value) : Ex mX1_nearer Q 1 ls st h = Ex mX1_nearer Q 3 ls (.int (-1000000) :: st) h := Ex_nx rfl rfl
theorem rX1_nearer_3 (Q : Po) (h : Hp) (ls : List Value) (st : List Value) (x y : Int32) : Ex mX1_nearer Q 3 ls (.int y :: .int x :: st) h = if x = y then Ex mX1_nearer Q 11 ls st h else Ex mX1_nearer Q 6 ls st h := Ex_br rfl rfl
theorem rX1_nearer_6 (Q : Po) (h : Hp) (l0 l1 : Value) (x : Int32) (st : List Value) : Ex mX1_nearer Q 6 [l0, l1, .int x] st h = Ex mX1_nearer Q 7 [l0, l1, .int x] (.int x :: st) h := Ex_nx rfl rfl
theorem rX1_nearer_7 (Q : Po) (h : Hp) (l0 l2 : Value) (x : Int32) (st : List Value) : Ex mX1_nearer Q 7 [l0, .int x, l2] st h = Ex mX1_nearer Q 8 [l0, .int x, l2] (.int x :: st) h := Ex_nx rfl rfl
theorem rX1_nearer_8 (Q : Po) (h : Hp) (ls : List Value) (st : List Value) (x y : Int32) : Ex mX1_nearer Q 8 ls (.int y :: .int x :: st) h = if ¬ x = y then Ex mX1_nearer Q 15 ls st h else Ex mX1_nearer Q 11 ls st h := Ex_br rfl rfl
theorem rX1_nearer_11 (Q : Po) (h : Hp) (l0 l2 : Value) (x : Int32) (st : List Value) : Ex mX1_nearer Q 11 [l0, .int x, l2] st h = Ex mX1_nearer Q 12 [l0, .int x, l2] (.int x :: st) h := Ex_nx rfl rfl
theorem rX1_nearer_12 (Q : Po) (h : Hp) (ls : List Value) (st : List Value) : Ex mX1_nearer Q 12 ls st h = Ex mX1_nearer Q 29 ls st h := Ex_nx rfl rfl
theorem rX1_nearer_15 (Q : Po) (h : Hp) (l0 l1 : Value) (x : Int32) (st : List Value) : Ex mX1_nearer Q 15 [l0, l1, .int x] st h = Ex mX1_nearer Q 16 [l0, l1, .int x] (.int x :: st) h := Ex_nx rfl rfl
theorem rX1_nearer_16 (Q : Po) (h : Hp) (l0 l2 : Value) (x : Int32) (st : List Value) : Ex mX1_nearer Q 16 [l0, .int x, l2] st h = Ex mX1_nearer Q 17 [l0, .int x, l2] (.int x :: st) h := Ex_nx rfl rfl
theorem rX1_nearer_17 (Q : Po) (h : Hp) (ls : List Value) (st : List Value) (x y : Int32) : Ex mX1_nearer Q 17 ls (.int y :: .int x :: st) h = if x ≤ y then Ex mX1_nearer Q 26 ls st h else Ex mX1_nearer Q 20 ls st h := Ex_br rfl rfl
theorem rX1_nearer_20 (Q : Po) (h : Hp) (l0 l2 : Value) (x : Int32) (st : List Value) : Ex mX1_nearer Q 20 [l0, .int x, l2] st h = Ex mX1_nearer Q 21 [l0, .int x, l2] (.int x :: st) h := Ex_nx rfl rfl
theorem rX1_nearer_21 (Q : Po) (h : Hp) (ls : List Value) (st : List Value) : Ex mX1_nearer Q 21 ls st h = Ex mX1_nearer Q 22 ls (.int 1 :: st) h := Ex_nx rfl rfl
theorem rX1_nearer_22 (Q : Po) (h : Hp) (ls : List Value) (st : List Value) (x y : Int32) : Ex mX1_nearer Q 22 ls (.int y :: .int x :: st) h = Ex mX1_nearer Q 23 ls (.int (x + y) :: st) h := Ex_nx rfl rfl
theorem rX1_nearer_23 (Q : Po) (h : Hp) (ls : List Value) (st : List Value) : Ex mX1_nearer Q 23 ls st h = Ex mX1_nearer Q 29 ls st h := Ex_nx rfl rfl
theorem rX1_nearer_26 (Q : Po) (h : Hp) (l0 l2 : Value) (x : Int32) (st : List Value) : Ex mX1_nearer Q 26 [l0, .int x, l2] st h = Ex mX1_nearer Q 27 [l0, .int x, l2] (.int x :: st) h := Ex_nx rfl rfl
theorem rX1_nearer_27 (Q : Po) (h : Hp) (ls : List Value) (st : List Value) : Ex mX1_nearer Q 27 ls st h = Ex mX1_nearer Q 28 ls (.int 1 :: st) h := Ex_nx rfl rfl
theorem rX1_nearer_28 (Q : Po) (h : Hp) (ls : List Value) (st : List Value) (x y : Int32) : Ex mX1_nearer Q 28 ls (.int y :: .int x :: st) h = Ex mX1_nearer Q 29 ls (.int (x - y) :: st) h := Ex_nx rfl rfl
theorem rX1_nearer_29 (Q : Po) (h : Hp) (ls : List Value) (x : Int32) : Ex mX1_nearer Q 29 ls [.int x] h = Q (.inl (some (.int x))) h := Ex_rt rfl rfl
theorem rX1_nearer_t (Q : Po) (h : Hp) (pc n a : Nat) (ls st : List Value) : Cont mX1_nearer Q pc ls n st (.inr a) h = Q (.inr a) h := rfl
/-! FishReaders$Browser.goes(ILFishReaders$Library;)I -/
def mX4_goes : Cd := ([(0, .inl (i_aload 2 1)),
  (1, .inl (i_iload 1 2)),
  (2, .inl (i_aload 2 3)),
  (3, .inl (i_iload 1 4)),
  (4, .inl (i_aload 0 5)),
  (5, .inr (c_D 0 8 1 [(4, (Mt mX4_taste 1)), (5, (Mt mX5_taste 1)), (6, (Mt mX4_taste 1))])),
  (8, .inr (c_V 2 11 8 2 (Mt mX1_liked 8))),
  (11, .inr (c_V 2 14 3 2 (Mt mX1_nearer 3))),
  (14, .inl i_iret)], noH)
theorem rX4_goes_0 (Q : Po) (h : Hp) (l0 l1 : Value) (x : Nat) (st : List Value) : Ex mX4_goes Q 0 [l0, l1, .ref x] st h = Ex mX4_goes Q 1 [l0, l1, .ref x] (.ref x :: st) h := Ex_nx rfl rfl
theorem rX4_goes_1 (Q : Po) (h : Hp) (l0 l2 : Value) (x : Int32) (st : List Value) : Ex mX4_goes Q 1 [l0, .int x, l2] st h = Ex mX4_goes Q 2 [l0, .int x, l2] (.int x :: st) h := Ex_nx rfl rfl
theorem rX4_goes_2 (Q : Po) (h : Hp) (l0 l1 : Value) (x : Nat) (st : List Value) : Ex mX4_goes Q 2 [l0, l1, .ref x] st h = Ex mX4_goes Q 3 [l0, l1, .ref x] (.ref x :: st) h := Ex_nx rfl rfl
theorem rX4_goes_3 (Q : Po) (h : Hp) (l0 l2 : Value) (x : Int32) (st : List Value) : Ex mX4_goes Q 3 [l0, .int x, l2] st h = Ex mX4_goes Q 4 [l0, .int x, l2] (.int x :: st) h := Ex_nx rfl rfl
theorem rX4_goes_4 (Q : Po) (h : Hp) (l1 l2 : Value) (x : Nat) (st : List Value) : Ex mX4_goes Q 4 [.ref x, l1, l2] st h = Ex mX4_goes Q 5 [.ref x, l1, l2] (.ref x :: st) h := Ex_nx rfl rfl
theorem rX4_goes_5k4 (Q : Po) (h : Hp) (ls : List Value) (s0 s1 s2 s3 : Value) (b : Nat) (hk : gK h b = 4) : Ex mX4_goes Q 5 ls (.ref b :: [s0, s1, s2, s3]) h = Ex mX4_taste (Cont mX4_goes Q 5 ls 8 [s0, s1, s2, s3]) 0 [.ref b] [] h := Ex_cl (n := 1) (as := [.ref b]) rfl (by simp only [c_D, tkA, hk]; rfl)
theorem rX4_goes_5k5 (Q : Po) (h : Hp) (ls : List Value) (s0 s1 s2 s3 : Value) (b : Nat) (hk : gK h b = 5) : Ex mX4_goes Q 5 ls (.ref b :: [s0, s1, s2, s3]) h = Ex mX5_taste (Cont mX4_goes Q 5 ls 8 [s0, s1, s2, s3]) 0 [.ref b] [] h := Ex_cl (n := 1) (as := [.ref b]) rfl (by simp only [c_D, tkA, hk]; rfl)
theorem rX4_goes_5k6 (Q : Po) (h : Hp) (ls : List Value) (s0 s1 s2 s3 : Value) (b : Nat) (hk : gK h b = 6) : Ex mX4_goes Q 5 ls (.ref b :: [s0, s1, s2, s3]) h = Ex mX4_taste (Cont mX4_goes Q 5 ls 8 [s0, s1, s2, s3]) 0 [.ref b] [] h := Ex_cl (n := 1) (as := [.ref b]) rfl (by simp only [c_D, tkA, hk]; rfl)
theorem rX4_goes_8 (Q : Po) (h : Hp) (ls : List Value) (a0 : Int32) (a1 : Int32) (s0 s1 : Value) (b : Nat) : Ex mX4_goes Q 8 ls (.int a1 :: .int a0 :: .ref b :: [s0, s1]) h = (gK h b = 2 ∧ Ex mX1_liked (Cont mX4_goes Q 8 ls 11 [s0, s1]) 0 [.ref b, .int a0, .int a1, .retAddr 0, .retAddr 0, .retAddr 0, .retAddr 0, .retAddr 0] [] h) := Ex_cg (n := 8) (as := [.ref b, .int a0, .int a1]) rfl rfl
theorem rX4_goes_11 (Q : Po) (h : Hp) (ls : List Value) (a0 : Int32) (a1 : Int32) (b : Nat) : Ex mX4_goes Q 11 ls (.int a1 :: .int a0 :: .ref b :: []) h = (gK h b = 2 ∧ Ex mX1_nearer (Cont mX4_goes Q 11 ls 14 []) 0 [.ref b, .int a0, .int a1] [] h) := Ex_cg (n := 3) (as := [.ref b, .int a0, .int a1]) rfl rfl
theorem rX4_goes_14 (Q : Po) (h : Hp) (ls : List Value) (x : Int32) : Ex mX4_goes Q 14 ls [.int x] h = Q (.inl (some (.int x))) h := Ex_rt rfl rfl
theorem rX4_goes_t (Q : Po) (h : Hp) (pc n a : Nat) (ls st : List Value) : Cont mX4_goes Q pc ls n st (.inr a) h = Q (.inr a) h := rfl
/-! FishReaders$Critic.goes(ILFishReaders$Library;)I -/
def mX6_goes : Cd := ([(0, .inl (i_aload 2 1)),
  (1, .inl (i_aload 2 2)),
  (2, .inl (i_getf 43 [2] 5)),
  (5, .inl (i_iload 1 6)),
  (6, .inl (i_iald 51 7)),
  (7, .inr (c_V 1 10 2 2 (Mt mX1_isLit 2))),
  (10, .inl (i_if (fun x => x = 0) 24 13)),
  (13, .inl (i_iload 1 14)),
  (14, .inl (i_push (.int 2) 15)),
  (15, .inl (i_bin (fun x y => x + y) 16)),
  (16, .inl (i_aload 2 17)),
  (17, .inl (i_getf 36 [2] 20)),
  (20, .inl (i_bing (fun x y => x - x / y * y) 21)),
  (21, .inl (i_goto 30)),
  (24, .inl (i_aload 0 25)),
  (25, .inl (i_iload 1 26)),
  (26, .inl (i_aload 2 27)),
  (27, .inr (c_V 2 30 3 6 (Mt mX4_goes 3))),
  (30, .inl i_iret)], noH)
theorem rX6_goes_0 (Q : Po) (h : Hp) (l0 l1 : Value) (x : Nat) (st : List Value) : Ex mX6_goes Q 0 [l0, l1, .ref x] st h = Ex mX6_goes Q 1 [l0, l1, .ref x] (.ref x :: st) h := Ex_nx rfl rfl
theorem rX6_goes_1 (Q : Po) (h : Hp) (l0 l1 : Value) (x : Nat) (st : List Value) : Ex mX6_goes Q 1 [l0, l1, .ref x] st h = Ex mX6_goes Q 2 [l0, l1, .ref x] (.ref x :: st) h := Ex_nx rfl rfl
theorem rX6_goes_2 (Q : Po) (h : Hp) (ls : List Value) (st : List Value) (a : Nat) : Ex mX6_goes Q 2 ls (.ref a :: st) h = (gK h a ∈ ([2] : List Nat) ∧ Ex mX6_goes Q 5 ls (gF h 43 a :: st) h) := Ex_gd rfl rfl
theorem rX6_goes_5 (Q : Po) (h : Hp) (l0 l2 : Value) (x : Int32) (st : List Value) : Ex mX6_goes Q 5 [l0, .int x, l2] st h = Ex mX6_goes Q 6 [l0, .int x, l2] (.int x :: st) h := Ex_nx rfl rfl
theorem rX6_goes_6 (Q : Po) (h : Hp) (ls : List Value) (st : List Value) (a : Nat) (i : Int32) : Ex mX6_goes Q 6 ls (.int i :: .ref a :: st) h = ((gK h a = 51 ∧ ¬ (i < 0 ∨ gL h a ≤ i.toNatClampNeg)) ∧ Ex mX6_goes Q 7 ls (.int (gI h a i.toNatClampNeg) :: st) h) := Ex_gd rfl rfl
theorem rX6_goes_7 (Q : Po) (h : Hp) (ls : List Value) (a0 : Int32) (b : Nat) : Ex mX6_goes Q 7 ls (.int a0 :: .ref b :: []) h = (gK h b = 2 ∧ Ex mX1_isLit (Cont mX6_goes Q 7 ls 10 []) 0 [.ref b, .int a0] [] h) := Ex_cg (n := 2) (as := [.ref b, .int a0]) rfl rfl
theorem rX6_goes_10 (Q : Po) (h : Hp) (ls : List Value) (st : List Value) (x : Int32) : Ex mX6_goes Q 10 ls (.int x :: st) h = if x = 0 then Ex mX6_goes Q 24 ls st h else Ex mX6_goes Q 13 ls st h := Ex_br rfl rfl
theorem rX6_goes_13 (Q : Po) (h : Hp) (l0 l2 : Value) (x : Int32) (st : List Value) : Ex mX6_goes Q 13 [l0, .int x, l2] st h = Ex mX6_goes Q 14 [l0, .int x, l2] (.int x :: st) h := Ex_nx rfl rfl
theorem rX6_goes_14 (Q : Po) (h : Hp) (ls : List Value) (st : List Value) : Ex mX6_goes Q 14 ls st h = Ex mX6_goes Q 15 ls (.int 2 :: st) h := Ex_nx rfl rfl
theorem rX6_goes_15 (Q : Po) (h : Hp) (ls : List Value) (st : List Value) (x y : Int32) : Ex mX6_goes Q 15 ls (.int y :: .int x :: st) h = Ex mX6_goes Q 16 ls (.int (x + y) :: st) h := Ex_nx rfl rfl
theorem rX6_goes_16 (Q : Po) (h : Hp) (l0 l1 : Value) (x : Nat) (st : List Value) : Ex mX6_goes Q 16 [l0, l1, .ref x] st h = Ex mX6_goes Q 17 [l0, l1, .ref x] (.ref x :: st) h := Ex_nx rfl rfl
theorem rX6_goes_17 (Q : Po) (h : Hp) (ls : List Value) (st : List Value) (a : Nat) : Ex mX6_goes Q 17 ls (.ref a :: st) h = (gK h a ∈ ([2] : List Nat) ∧ Ex mX6_goes Q 20 ls (gF h 36 a :: st) h) := Ex_gd rfl rfl
theorem rX6_goes_20 (Q : Po) (h : Hp) (ls : List Value) (st : List Value) (x y : Int32) : Ex mX6_goes Q 20 ls (.int y :: .int x :: st) h = (¬ y = 0 ∧ Ex mX6_goes Q 21 ls (.int (x - x / y * y) :: st) h) := Ex_gd rfl rfl
theorem rX6_goes_21 (Q : Po) (h : Hp) (ls : List Value) (st : List Value) : Ex mX6_goes Q 21 ls st h = Ex mX6_goes Q 30 ls st h := Ex_nx rfl rfl
theorem rX6_goes_24 (Q : Po) (h : Hp) (l1 l2 : Value) (x : Nat) (st : List Value) : Ex mX6_goes Q 24 [.ref x, l1, l2] st h = Ex mX6_goes Q 25 [.ref x, l1, l2] (.ref x :: st) h := Ex_nx rfl rfl
theorem rX6_goes_25 (Q : Po) (h : Hp) (l0 l2 : Value) (x : Int32) (st : List Value) : Ex mX6_goes Q 25 [l0, .int x, l2] st h = Ex mX6_goes Q 26 [l0, .int x, l2] (.int x :: st) h := Ex_nx rfl rfl
theorem rX6_goes_26 (Q : Po) (h : Hp) (l0 l1 : Value) (x : Nat) (st : List Value) : Ex mX6_goes Q 26 [l0, l1, .ref x] st h = Ex mX6_goes Q 27 [l0, l1, .ref x] (.ref x :: st) h := Ex_nx rfl rfl
theorem rX6_goes_27 (Q : Po) (h : Hp) (ls : List Value) (a0 : Int32) (a1 : Nat) (b : Nat) : Ex mX6_goes Q 27 ls (.ref a1 :: .int a0 :: .ref b :: []) h = (gK h b = 6 ∧ Ex mX4_goes (Cont mX6_goes Q 27 ls 30 []) 0 [.ref b, .int a0, .ref a1] [] h) := Ex_cg (n := 3) (as := [.ref b, .int a0, .ref a1]) rfl rfl
theorem rX6_goes_30 (Q : Po) (h : Hp) (ls : List Value) (x : Int32) : Ex mX6_goes Q 30 ls [.int x] h = Q (.inl (some (.int x))) h := Ex_rt rfl rfl
theorem rX6_goes_t (Q : Po) (h : Hp) (pc n a : Nat) (ls st : List Value) : Cont mX6_goes Q pc ls n st (.inr a) h = Q (.inr a) h := rfl
/-! FishReaders$Wanderer.goes(ILFishReaders$Library;)I -/
def mX7_goes : Cd := ([(0, .inl (i_iload 1 1)),
  (1, .inl (i_push (.int 1) 2)),
  (2, .inl (i_bin (fun x y => x + y) 3)),
  (3, .inl (i_aload 2 4)),
  (4, .inl (i_getf 36 [2] 7)),
  (7, .inl (i_bing (fun x y => x - x / y * y) 8)),
  (8, .inl i_iret)], noH)
theorem rX7_goes_0 (Q : Po) (h : Hp) (l0 l2 : Value) (x : Int32) (st : List Value) : Ex mX7_goes Q 0 [l0, .int x, l2] st h = Ex mX7_goes Q 1 [l0, .int x, l2] (.int x :: st) h := Ex_nx rfl rfl
theorem rX7_goes_1 (Q : Po) (h : Hp) (ls : List Value) (st : List Value) : Ex mX7_goes Q 1 ls st h = Ex mX7_goes Q 2 ls (.int 1 :: st) h := Ex_nx rfl rfl
theorem rX7_goes_2 (Q : Po) (h : Hp) (ls : List Value) (st : List Value) (x y : Int32) : Ex mX7_goes Q 2 ls (.int y :: .int x :: st) h = Ex mX7_goes Q 3 ls (.int (x + y) :: st) h := Ex_nx rfl rfl
theorem rX7_goes_3 (Q : Po) (h : Hp) (l0 l1 : Value) (x : Nat) (st : List Value) : Ex mX7_goes Q 3 [l0, l1, .ref x] st h = Ex mX7_goes Q 4 [l0, l1, .ref x] (.ref x :: st) h := Ex_nx rfl rfl
theorem rX7_goes_4 (Q : Po) (h : Hp) (ls : List Value) (st : List Value) (a : Nat) : Ex mX7_goes Q 4 ls (.ref a :: st) h = (gK h a ∈ ([2] : List Nat) ∧ Ex mX7_goes Q 7 ls (gF h 36 a :: st) h) := Ex_gd rfl rfl
theorem rX7_goes_7 (Q : Po) (h : Hp) (ls : List Value) (st : List Value) (x y : Int32) : Ex mX7_goes Q 7 ls (.int y :: .int x :: st) h = (¬ y = 0 ∧ Ex mX7_goes Q 8 ls (.int (x - x / y * y) :: st) h) := Ex_gd rfl rfl
theorem rX7_goes_8 (Q : Po) (h : Hp) (ls : List Value) (x : Int32) : Ex mX7_goes Q 8 ls [.int x] h = Q (.inl (some (.int x))) h := Ex_rt rfl rfl
theorem rX7_goes_t (Q : Po) (h : Hp) (pc n a : Nat) (ls st : List Value) : Cont mX7_goes Q pc ls n st (.inr a) h = Q (.inr a) h := rfl
/-! FishReaders$Scholar.goes(ILFishReaders$Library;)I -/
def mX8_goes : Cd := ([(0, .inl (i_aload 2 1)),
  (1, .inl (i_aload 2 2)),
  (2, .inl (i_getf 43 [2] 5)),
  (5, .inl (i_iload 1 6)),
  (6, .inl (i_iald 51 7)),
  (7, .inr (c_V 1 10 2 2 (Mt mX1_isOpen 2))),
  (10, .inl (i_if (fun x => x = 0) 17 13)),
  (13, .inl (i_iload 1 14)),
  (14, .inl (i_goto 23)),
  (17, .inl (i_aload 0 18)),
  (18, .inl (i_iload 1 19)),
  (19, .inl (i_aload 2 20)),
  (20, .inr (c_V 2 23 3 8 (Mt mX7_goes 3))),
  (23, .inl i_iret)], noH)
theorem rX8_goes_0 (Q : Po) (h : Hp) (l0 l1 : Value) (x : Nat) (st : List Value) : Ex mX8_goes Q 0 [l0, l1, .ref x] st h = Ex mX8_goes Q 1 [l0, l1, .ref x] (.ref x :: st) h := Ex_nx rfl rfl
theorem rX8_goes_1 (Q : Po) (h : Hp) (l0 l1 : Value) (x : Nat) (st : List Value) : Ex mX8_goes Q 1 [l0, l1, .ref x] st h = Ex mX8_goes Q 2 [l0, l1, .ref x] (.ref x :: st) h := Ex_nx rfl rfl
theorem rX8_goes_2 (Q : Po) (h : Hp) (ls : List Value) (st : List Value) (a : Nat) : Ex mX8_goes Q 2 ls (.ref a :: st) h = (gK h a ∈ ([2] : List Nat) ∧ Ex mX8_goes Q 5 ls (gF h 43 a :: st) h) := Ex_gd rfl rfl
theorem rX8_goes_5 (Q : Po) (h : Hp) (l0 l2 : Value) (x : Int32) (st : List Value) : Ex mX8_goes Q 5 [l0, .int x, l2] st h = Ex mX8_goes Q 6 [l0, .int x, l2] (.int x :: st) h := Ex_nx rfl rfl
theorem rX8_goes_6 (Q : Po) (h : Hp) (ls : List Value) (st : List Value) (a : Nat) (i : Int32) : Ex mX8_goes Q 6 ls (.int i :: .ref a :: st) h = ((gK h a = 51 ∧ ¬ (i < 0 ∨ gL h a ≤ i.toNatClampNeg)) ∧ Ex mX8_goes Q 7 ls (.int (gI h a i.toNatClampNeg) :: st) h) := Ex_gd rfl rfl
theorem rX8_goes_7 (Q : Po) (h : Hp) (ls : List Value) (a0 : Int32) (b : Nat) : Ex mX8_goes Q 7 ls (.int a0 :: .ref b :: []) h = (gK h b = 2 ∧ Ex mX1_isOpen (Cont mX8_goes Q 7 ls 10 []) 0 [.ref b, .int a0] [] h) := Ex_cg (n := 2) (as := [.ref b, .int a0]) rfl rfl
theorem rX8_goes_10 (Q : Po) (h : Hp) (ls : List Value) (st : List Value) (x : Int32) : Ex mX8_goes Q 10 ls (.int x :: st) h = if x = 0 then Ex mX8_goes Q 17 ls st h else Ex mX8_goes Q 13 ls st h := Ex_br rfl rfl
theorem rX8_goes_13 (Q : Po) (h : Hp) (l0 l2 : Value) (x : Int32) (st : List Value) : Ex mX8_goes Q 13 [l0, .int x, l2] st h = Ex mX8_goes Q 14 [l0, .int x, l2] (.int x :: st) h := Ex_nx rfl rfl
theorem rX8_goes_14 (Q : Po) (h : Hp) (ls : List Value) (st : List Value) : Ex mX8_goes Q 14 ls st h = Ex mX8_goes Q 23 ls st h := Ex_nx rfl rfl
theorem rX8_goes_17 (Q : Po) (h : Hp) (l1 l2 : Value) (x : Nat) (st : List Value) : Ex mX8_goes Q 17 [.ref x, l1, l2] st h = Ex mX8_goes Q 18 [.ref x, l1, l2] (.ref x :: st) h := Ex_nx rfl rfl
theorem rX8_goes_18 (Q : Po) (h : Hp) (l0 l2 : Value) (x : Int32) (st : List Value) : Ex mX8_goes Q 18 [l0, .int x, l2] st h = Ex mX8_goes Q 19 [l0, .int x, l2] (.int x :: st) h := Ex_nx rfl rfl
theorem rX8_goes_19 (Q : Po) (h : Hp) (l0 l1 : Value) (x : Nat) (st : List Value) : Ex mX8_goes Q 19 [l0, l1, .ref x] st h = Ex mX8_goes Q 20 [l0, l1, .ref x] (.ref x :: st) h := Ex_nx rfl rfl
theorem rX8_goes_20 (Q : Po) (h : Hp) (ls : List Value) (a0 : Int32) (a1 : Nat) (b : Nat) : Ex mX8_goes Q 20 ls (.ref a1 :: .int a0 :: .ref b :: []) h = (gK h b = 8 ∧ Ex mX7_goes (Cont mX8_goes Q 20 ls 23 []) 0 [.ref b, .int a0, .ref a1] [] h) := Ex_cg (n := 3) (as := [.ref b, .int a0, .ref a1]) rfl rfl
theorem rX8_goes_23 (Q : Po) (h : Hp) (ls : List Value) (x : Int32) : Ex mX8_goes Q 23 ls [.int x] h = Q (.inl (some (.int x))) h := Ex_rt rfl rfl
theorem rX8_goes_t (Q : Po) (h : Hp) (pc n a : Nat) (ls st : List Value) : Cont mX8_goes Q pc ls n st (.inr a) h = Q (.inr a) h := rfl
/-! java/lang/Math.min(II)I -/
def mJ13_min : Cd := ([(0, .inl (i_iload 0 1)),
  (1, .inl (i_iload 1 2)),
  (2, .inl (i_icmp (fun x y => y < x) 9 5)),
  (5, .inl (i_iload 0 6)),
  (6, .inl (i_goto 10)),
  (9, .inl (i_iload 1 10)),
  (10, .inl i_iret)], noH)
theorem rJ13_min_0 (Q : Po) (h : Hp) (l1 : Value) (x : Int32) (st : List Value) : Ex mJ13_min Q 0 [.int x, l1] st h = Ex mJ13_min Q 1 [.int x, l1] (.int x :: st) h := Ex_nx rfl rfl
theorem rJ13_min_1 (Q : Po) (h : Hp) (l0 : Value) (x : Int32) (st : List Value) : Ex mJ13_min Q 1 [l0, .int x] st h = Ex mJ13_min Q 2 [l0, .int x] (.int x :: st) h := Ex_nx rfl rfl
theorem rJ13_min_2 (Q : Po) (h : Hp) (ls : List Value) (st : List Value) (x y : Int32) : Ex mJ13_min Q 2 ls (.int y :: .int x :: st) h = if y < x then Ex mJ13_min Q 9 ls st h else Ex mJ13_min Q 5 ls st h := Ex_br rfl rfl
theorem rJ13_min_5 (Q : Po) (h : Hp) (l1 : Value) (x : Int32) (st : List Value) : Ex mJ13_min Q 5 [.int x, l1] st h = Ex mJ13_min Q 6 [.int x, l1] (.int x :: st) h := Ex_nx rfl rfl
theorem rJ13_min_6 (Q : Po) (h : Hp) (ls : List Value) (st : List Value) : Ex mJ13_min Q 6 ls st h = Ex mJ13_min Q 10 ls st h := Ex_nx rfl rfl
theorem rJ13_min_9 (Q : Po) (h : Hp) (l0 : Value) (x : Int32) (st : List Value) : Ex mJ13_min Q 9 [l0, .int x] st h = Ex mJ13_min Q 10 [l0, .int x] (.int x :: st) h := Ex_nx rfl rfl
theorem rJ13_min_10 (Q : Po) (h : Hp) (ls : List Value) (x : Int32) : Ex mJ13_min Q 10 ls [.int x] h = Q (.inl (some (.int x))) h := Ex_rt rfl rfl
theorem rJ13_min_t (Q : Po) (h : Hp) (pc n a : Nat) (ls st : List Value) : Cont mJ13_min Q pc ls n st (.inr a) h = Q (.inr a) h := rfl
/-! FishReaders$Library.eats(I)V -/
def mX1_eats : Cd := ([(0, .inl (i_aload 0 1)),
  (1, .inl (i_getf 43 [2] 4)),
  (4, .inl (i_aload 0 5)),
  (5, .inl (i_getf 53 [2] 8)),
  (8, .inl (i_iload 1 9)),
  (9, .inl (i_iald 51 10)),
  (10, .inl (i_iald 51 11)),
  (11, .inl (i_istore 2 12)),
  (12, .inl (i_aload 0 13)),
  (13, .inl (i_iload 2 14)),
  (14, .inr (c_V 1 17 2 2 (Mt mX1_isOpen 2))),
  (17, .inl (i_if (fun x => ¬ x = 0) 21 20)),
  (20, .inl i_vret),
  (21, .inl (i_aload 0 22)),
  (22, .inl (i_getf 32 [2] 25)),
  (25, .inl (i_aload 0 26)),
  (26, .inl (i_getf 39 [2] 29)),
  (29, .inl (i_iload 2 30)),
  (30, .inl (i_iald 51 31)),
  (31, .inr (c_S 2 34 2 (Mt mJ13_min 2))),
  (34, .inl (i_istore 3 35)),
  (35, .inl (i_aload 0 36)),
  (36, .inl (i_getf 39 [2] 39)),
  (39, .inl (i_iload 2 40)),
  (40, .inl (i_dup2 41)),
  (41, .inl (i_iald 51 42)),
  (42, .inl (i_iload 3 43)),
  (43, .inl (i_bin (fun x y => x - y) 44)),
  (44, .inl (i_iast 51 (fun x => x) 45)),
  (45, .inl (i_aload 0 46)),
  (46, .inl (i_getf 55 [2] 49)),
  (49, .inl (i_iload 1 50)),
  (50, .inl (i_push (.int 999) 53)),
  (53, .inl (i_aload 0 54)),
  (54, .inl (i_getf 55 [2] 57)),
  (57, .inl (i_iload 1 58)),
  (58, .inl (i_iald 51 59)),
  (59, .inl (i_iload 3 60)),
  (60, .inl (i_bin (fun x y => x + y) 61)),
  (61, .inr (c_S 2 64 2 (Mt mJ13_min 2))),
  (64, .inl (i_iast 51 (fun x => x) 65)),
  (65, .inl i_vret)], noH)
theorem rX1_eats_0 (Q : Po) (h : Hp) (l1 l2 l3 : Value) (x : Nat) (st : List Value) : Ex mX1_eats Q 0 [.ref x, l1, l2, l3] st h = Ex mX1_eats Q 1 [.ref x, l1, l2, l3] (.ref x :: st) h := Ex_nx rfl rfl
theorem rX1_eats_1 (Q : Po) (h : Hp) (ls : List Value) (st : List Value) (a : Nat) : Ex mX1_eats Q 1 ls (.ref a :: st) h = (gK h a ∈ ([2] : List Nat) ∧ Ex mX1_eats Q 4 ls (gF h 43 a :: st) h) := Ex_gd rfl rfl
theorem rX1_eats_4 (Q : Po) (h : Hp) (l1 l2 l3 : Value) (x : Nat) (st : List Value) : Ex mX1_eats Q 4 [.ref x, l1, l2, l3] st h = Ex mX1_eats Q 5 [.ref x, l1, l2, l3] (.ref x :: st) h := Ex_nx rfl rfl
theorem rX1_eats_5 (Q : Po) (h : Hp) (ls : List Value) (st : List Value) (a : Nat) : Ex mX1_eats Q 5 ls (.ref a :: st) h = (gK h a ∈ ([2] : List Nat) ∧ Ex mX1_eats Q 8 ls (gF h 53 a :: st) h) := Ex_gd rfl rfl
theorem rX1_eats_8 (Q : Po) (h : Hp) (l0 l2 l3 : Value) (x : Int32) (st : List Value) : Ex mX1_eats Q 8 [l0, .int x, l2, l3] st h = Ex mX1_eats Q 9 [l0, .int x, l2, l3] (.int x :: st) h := Ex_nx rfl rfl
theorem rX1_eats_9 (Q : Po) (h : Hp) (ls : List Value) (st : List Value) (a : Nat) (i : Int32) : Ex mX1_eats Q 9 ls (.int i :: .ref a :: st) h = ((gK h a = 51 ∧ ¬ (i < 0 ∨ gL h a ≤ i.toNatClampNeg)) ∧ Ex mX1_eats Q 10 ls (.int (gI h a i.toNatClampNeg) :: st) h) := Ex_gd rfl rfl
theorem rX1_eats_10 (Q : Po) (h : Hp) (ls : List Value) (st : List Value) (a : Nat) (i : Int32) : Ex mX1_eats Q 10 ls (.int i :: .ref a :: st) h = ((gK h a = 51 ∧ ¬ (i < 0 ∨ gL h a ≤ i.toNatClampNeg)) ∧ Ex mX1_eats Q 11 ls (.int (gI h a i.toNatClampNeg) :: st) h) := Ex_gd rfl rfl
theorem rX1_eats_11 (Q : Po) (h : Hp) (l0 l1 l2 l3 : Value) (x : Int32) (st : List Value) : Ex mX1_eats Q 11 [l0, l1, l2, l3] (.int x :: st) h = Ex mX1_eats Q 12 [l0, l1, .int x, l3] st h := Ex_nx rfl rfl
theorem rX1_eats_12 (Q : Po) (h : Hp) (l1 l2 l3 : Value) (x : Nat) (st : List Value) : Ex mX1_eats Q 12 [.ref x, l1, l2, l3] st h = Ex mX1_eats Q 13 [.ref x, l1, l2, l3] (.ref x :: st) h := Ex_nx rfl rfl
theorem rX1_eats_13 (Q : Po) (h : Hp) (l0 l1 l3 : Value) (x : Int32) (st : List Value) : Ex mX1_eats Q 13 [l0, l1, .int x, l3] st h = Ex mX1_eats Q 14 [l0, l1, .int x, l3] (.int x :: st) h := Ex_nx rfl rfl
theorem rX1_eats_14 (Q : Po) (h : Hp) (ls : List Value) (a0 : Int32) (b : Nat) : Ex mX1_eats Q 14 ls (.int a0 :: .ref b :: []) h = (gK h b = 2 ∧ Ex mX1_isOpen (Cont mX1_eats Q 14 ls 17 []) 0 [.ref b, .int a0] [] h) := Ex_cg (n := 2) (as := [.ref b, .int a0]) rfl rfl
theorem rX1_eats_17 (Q : Po) (h : Hp) (ls : List Value) (st : List Value) (x : Int32) : Ex mX1_eats Q 17 ls (.int x :: st) h = if ¬ x = 0 then Ex mX1_eats Q 21 ls st h else Ex mX1_eats Q 20 ls st h := Ex_br rfl rfl
theorem rX1_eats_20 (Q : Po) (h : Hp) (ls : List Value) : Ex mX1_eats Q 20 ls [] h = Q (.inl none) h := Ex_rt rfl rfl
theorem rX1_eats_21 (Q : Po) (h : Hp) (l1 l2 l3 : Value) (x : Nat) (st : List Value) : Ex mX1_eats Q 21 [.ref x, l1, l2, l3] st h = Ex mX1_eats Q 22 [.ref x, l1, l2, l3] (.ref x :: st) h := Ex_nx rfl rfl
theorem rX1_eats_22 (Q : Po) (h : Hp) (ls : List Value) (st : List Value) (a : Nat) : Ex mX1_eats Q 22 ls (.ref a :: st) h = (gK h a ∈ ([2] : List Nat) ∧ Ex mX1_eats Q 25 ls (gF h 32 a :: st) h) := Ex_gd rfl rfl
theorem rX1_eats_25 (Q : Po) (h : Hp) (l1 l2 l3 : Value) (x : Nat) (st : List Value) : Ex mX1_eats Q 25 [.ref x, l1, l2, l3] st h = Ex mX1_eats Q 26 [.ref x, l1, l2, l3] (.ref x :: st) h := Ex_nx rfl rfl
theorem rX1_eats_26 (Q : Po) (h : Hp) (ls : List Value) (st : List Value) (a : Nat) : Ex mX1_eats Q 26 ls (.ref a :: st) h = (gK h a ∈ ([2] : List Nat) ∧ Ex mX1_eats Q 29 ls (gF h 39 a :: st) h) := Ex_gd rfl rfl
theorem rX1_eats_29 (Q : Po) (h : Hp) (l0 l1 l3 : Value) (x : Int32) (st : List Value) : Ex mX1_eats Q 29 [l0, l1, .int x, l3] st h = Ex mX1_eats Q 30 [l0, l1, .int x, l3] (.int x :: st) h := Ex_nx rfl rfl
theorem rX1_eats_30 (Q : Po) (h : Hp) (ls : List Value) (st : List Value) (a : Nat) (i : Int32) : Ex mX1_eats Q 30 ls (.int i :: .ref a :: st) h = ((gK h a = 51 ∧ ¬ (i < 0 ∨ gL h a ≤ i.toNatClampNeg)) ∧ Ex mX1_eats Q 31 ls (.int (gI h a i.toNatClampNeg) :: st) h) := Ex_gd rfl rfl
theorem rX1_eats_31 (Q : Po) (h : Hp) (ls : List Value) (a0 : Int32) (a1 : Int32) : Ex mX1_eats Q 31 ls (.int a1 :: .int a0 :: []) h = Ex mJ13_min (Cont mX1_eats Q 31 ls 34 []) 0 [.int a0, .int a1] [] h := Ex_cl (n := 2) (as := [.int a0, .int a1]) rfl rfl
theorem rX1_eats_34 (Q : Po) (h : Hp) (l0 l1 l2 l3 : Value) (x : Int32) (st : List Value) : Ex mX1_eats Q 34 [l0, l1, l2, l3] (.int x :: st) h = Ex mX1_eats Q 35 [l0, l1, l2, .int x] st h := Ex_nx rfl rfl
theorem rX1_eats_35 (Q : Po) (h : Hp) (l1 l2 l3 : Value) (x : Nat) (st : List Value) : Ex mX1_eats Q 35 [.ref x, l1, l2, l3] st h = Ex mX1_eats Q 36 [.ref x, l1, l2, l3] (.ref x :: st) h := Ex_nx rfl rfl
theorem rX1_eats_36 (Q : Po) (h : Hp) (ls : List Value) (st : List Value) (a : Nat) : Ex mX1_eats Q 36 ls (.ref a :: st) h = (gK h a ∈ ([2] : List Nat) ∧ Ex mX1_eats Q 39 ls (gF h 39 a :: st) h) := Ex_gd rfl rfl
theorem rX1_eats_39 (Q : Po) (h : Hp) (l0 l1 l3 : Value) (x : Int32) (st : List Value) : Ex mX1_eats Q 39 [l0, l1, .int x, l3] st h = Ex mX1_eats Q 40 [l0, l1, .int x, l3] (.int x :: st) h := Ex_nx rfl rfl
theorem rX1_eats_40 (Q : Po) (h : Hp) (ls : List Value) (st : List Value) (x : Int32) (y : Nat) : Ex mX1_eats Q 40 ls (.int x :: .ref y :: st) h = Ex mX1_eats Q 41 ls (.int x :: .ref y :: .int x :: .ref y :: st) h := Ex_nx rfl rfl
theorem rX1_eats_41 (Q : Po) (h : Hp) (ls : List Value) (st : List Value) (a : Nat) (i : Int32) : Ex mX1_eats Q 41 ls (.int i :: .ref a :: st) h = ((gK h a = 51 ∧ ¬ (i < 0 ∨ gL h a ≤ i.toNatClampNeg)) ∧ Ex mX1_eats Q 42 ls (.int (gI h a i.toNatClampNeg) :: st) h) := Ex_gd rfl rfl
theorem rX1_eats_42 (Q : Po) (h : Hp) (l0 l1 l2 : Value) (x : Int32) (st : List Value) : Ex mX1_eats Q 42 [l0, l1, l2, .int x] st h = Ex mX1_eats Q 43 [l0, l1, l2, .int x] (.int x :: st) h := Ex_nx rfl rfl
theorem rX1_eats_43 (Q : Po) (h : Hp) (ls : List Value) (st : List Value) (x y : Int32) : Ex mX1_eats Q 43 ls (.int y :: .int x :: st) h = Ex mX1_eats Q 44 ls (.int (x - y) :: st) h := Ex_nx rfl rfl
theorem rX1_eats_44 (Q : Po) (h : Hp) (ls : List Value) (st : List Value) (a : Nat) (i x : Int32) : Ex mX1_eats Q 44 ls (.int x :: .int i :: .ref a :: st) h = ((gK h a = 51 ∧ ¬ (i < 0 ∨ gL h a ≤ i.toNatClampNeg)) ∧ Ex mX1_eats Q 45 ls st (pI h a i.toNatClampNeg (x))) := Ex_gd rfl rfl
theorem rX1_eats_45 (Q : Po) (h : Hp) (l1 l2 l3 : Value) (x : Nat) (st : List Value) : Ex mX1_eats Q 45 [.ref x, l1, l2, l3] st h = Ex mX1_eats Q 46 [.ref x, l1, l2, l3] (.ref x :: st) h := Ex_nx rfl rfl
theorem rX1_eats_46 (Q : Po) (h : Hp) (ls : List Value) (st : List Value) (a : Nat) : Ex mX1_eats Q 46 ls (.ref a :: st) h = (gK h a ∈ ([2] : List Nat) ∧ Ex mX1_eats Q 49 ls (gF h 55 a :: st) h) := Ex_gd rfl rfl
theorem rX1_eats_49 (Q : Po) (h : Hp) (l0 l2 l3 : Value) (x : Int32) (st : List Value) : Ex mX1_eats Q 49 [l0, .int x, l2, l3] st h = Ex mX1_eats Q 50 [l0, .int x, l2, l3] (.int x :: st) h := Ex_nx rfl rfl
theorem rX1_eats_50 (Q : Po) (h : Hp) (ls : List Value) (st : List Value) : Ex mX1_eats Q 50 ls st h = Ex mX1_eats Q 53 ls (.int 999 :: st) h := Ex_nx rfl rfl
theorem rX1_eats_53 (Q : Po) (h : Hp) (l1 l2 l3 : Value) (x : Nat) (st : List Value) : Ex mX1_eats Q 53 [.ref x, l1, l2, l3] st h = Ex mX1_eats Q 54 [.ref x, l1, l2, l3] (.ref x :: st) h := Ex_nx rfl rfl
theorem rX1_eats_54 (Q : Po) (h : Hp) (ls : List Value) (st : List Value) (a : Nat) : Ex mX1_eats Q 54 ls (.ref a :: st) h = (gK h a ∈ ([2] : List Nat) ∧ Ex mX1_eats Q 57 ls (gF h 55 a :: st) h) := Ex_gd rfl rfl
theorem rX1_eats_57 (Q : Po) (h : Hp) (l0 l2 l3 : Value) (x : Int32) (st : List Value) : Ex mX1_eats Q 57 [l0, .int x, l2, l3] st h = Ex mX1_eats Q 58 [l0, .int x, l2, l3] (.int x :: st) h := Ex_nx rfl rfl
theorem rX1_eats_58 (Q : Po) (h : Hp) (ls : List Value) (st : List Value) (a : Nat) (i : Int32) : Ex mX1_eats Q 58 ls (.int i :: .ref a :: st) h = ((gK h a = 51 ∧ ¬ (i < 0 ∨ gL h a ≤ i.toNatClampNeg)) ∧ Ex mX1_eats Q 59 ls (.int (gI h a i.toNatClampNeg) :: st) h) := Ex_gd rfl rfl
theorem rX1_eats_59 (Q : Po) (h : Hp) (l0 l1 l2 : Value) (x : Int32) (st : List Value) : Ex mX1_eats Q 59 [l0, l1, l2, .int x] st h = Ex mX1_eats Q 60 [l0, l1, l2, .int x] (.int x :: st) h := Ex_nx rfl rfl
theorem rX1_eats_60 (Q : Po) (h : Hp) (ls : List Value) (st : List Value) (x y : Int32) : Ex mX1_eats Q 60 ls (.int y :: .int x :: st) h = Ex mX1_eats Q 61 ls (.int (x + y) :: st) h := Ex_nx rfl rfl
theorem rX1_eats_61 (Q : Po) (h : Hp) (ls : List Value) (a0 : Int32) (a1 : Int32) (s0 s1 : Value) : Ex mX1_eats Q 61 ls (.int a1 :: .int a0 :: [s0, s1]) h = Ex mJ13_min (Cont mX1_eats Q 61 ls 64 [s0, s1]) 0 [.int a0, .int a1] [] h := Ex_cl (n := 2) (as := [.int a0, .int a1]) rfl rfl
theorem rX1_eats_64 (Q : Po) (h : Hp) (ls : List Value) (st : List Value) (a : Nat) (i x : Int32) : Ex mX1_eats Q 64 ls (.int x :: .int i :: .ref a :: st) h = ((gK h a = 51 ∧ ¬ (i < 0 ∨ gL h a ≤ i.toNatClampNeg)) ∧ Ex mX1_eats Q 65 ls st (pI h a i.toNatClampNeg (x))) := Ex_gd rfl rfl
theorem rX1_eats_65 (Q : Po) (h : Hp) (ls : List Value) : Ex mX1_eats Q 65 ls [] h = Q (.inl none) h := Ex_rt rfl rfl
theorem rX1_eats_t (Q : Po) (h : Hp) (pc n a : Nat) (ls st : List Value) : Cont mX1_eats Q pc ls n st (.inr a) h = Q (.inr a) h := rfl
/-! FishReaders$Library.pass()LFishReaders$Library; -/
def mX1_pass : Cd := ([(0, .inl (i_push (.int 0) 1)),
  (1, .inl (i_istore 1 2)),
  (2, .inl (i_iload 1 3)),
  (3, .inl (i_aload 0 4)),
  (4, .inr (c_V 0 7 1 2 (Mt mX1_many 1))),
  (7, .inl (i_icmp (fun x y => y ≤ x) 53 10)),
  (10, .inl (i_aload 0 11)),
  (11, .inl (i_iload 1 12)),
  (12, .inr (c_V 1 15 2 2 (Mt mX1_isCaught 2))),
  (15, .inl (i_if (fun x => x = 0) 21 18)),
  (18, .inl (i_goto 47)),
  (21, .inl (i_aload 0 22)),
  (22, .inl (i_getf 53 [2] 25)),
  (25, .inl (i_iload 1 26)),
  (26, .inl (i_aload 0 27)),
  (27, .inl (i_iload 1 28)),
  (28, .inr (c_V 1 31 2 2 (Mt mX1_fish 2))),
  (31, .inl (i_aload 0 32)),
  (32, .inl (i_getf 53 [2] 35)),
  (35, .inl (i_iload 1 36)),
  (36, .inl (i_iald 51 37)),
  (37, .inl (i_aload 0 38)),
  (38, .inr (c_D 2 41 3 [(4, (Mt mX4_goes 3)), (5, (Mt mX4_goes 3)), (6, (Mt mX6_goes 3)), (7, (Mt mX7_goes 3)), (8, (Mt mX8_goes 3))])),
  (41, .inl (i_iast 51 (fun x => x) 42)),
  (42, .inl (i_aload 0 43)),
  (43, .inl (i_iload 1 44)),
  (44, .inr (c_V 1 47 4 2 (Mt mX1_eats 4))),
  (47, .inl (i_iinc 1 1 50)),
  (50, .inl (i_goto 2)),
  (53, .inl (i_push (.int 0) 54)),
  (54, .inl (i_istore 1 55)),
  (55, .inl (i_iload 1 56)),
  (56, .inl (i_aload 0 57)),
  (57, .inl (i_getf 36 [2] 60)),
  (60, .inl (i_icmp (fun x y => y ≤ x) 106 63)),
  (63, .inl (i_aload 0 64)),
  (64, .inl (i_getf 58 [2] 67)),
  (67, .inl (i_push (.int 4) 68)),
  (68, .inl (i_bing (fun x y => x - x / y * y) 69)),
  (69, .inl (i_push (.int 3) 70)),
  (70, .inl (i_icmp (fun x y => ¬ x = y) 100 73)),
  (73, .inl (i_aload 0 74)),
  (74, .inl (i_iload 1 75)),
  (75, .inr (c_V 1 78 2 2 (Mt mX1_isKept 2))),
  (78, .inl (i_if (fun x => ¬ x = 0) 100 81)),
  (81, .inl (i_aload 0 82)),
  (82, .inl (i_getf 41 [2] 85)),
  (85, .inl (i_iload 1 86)),
  (86, .inl (i_push (.int 9) 88)),
  (88, .inl (i_aload 0 89)),
  (89, .inl (i_getf 41 [2] 92)),
  (92, .inl (i_iload 1 93)),
  (93, .inl (i_iald 51 94)),
  (94, .inl (i_push (.int 1) 95)),
  (95, .inl (i_bin (fun x y => x + y) 96)),
  (96, .inr (c_S 2 99 2 (Mt mJ13_min 2))),
  (99, .inl (i_iast 51 (fun x => x) 100)),
  (100, .inl (i_iinc 1 1 103)),
  (103, .inl (i_goto 55)),
  (106, .inl (i_aload 0 107)),
  (107, .inl (i_dup 108)),
  (108, .inl (i_getf 58 [2] 111)),
  (111, .inl (i_push (.int 1) 112)),
  (112, .inl (i_bin (fun x y => x + y) 113)),
  (113, .inl (i_putI 58 [2] 116)),
  (116, .inl (i_aload 0 117)),
  (117, .inl i_aret)], noH)
theorem rX1_pass_0 (Q : Po) (h : Hp) (ls : List Value) (st : List Value) : Ex mX1_pass Q 0 ls st h = Ex mX1_pass Q 1 ls (.int 0 :: st) h := Ex_nx rfl rfl
theorem rX1_pass_1 (Q : Po) (h : Hp) (l0 l1 : Value) (x : Int32) (st : List Value) : Ex mX1_pass Q 1 [l0, l1] (.int x :: st) h = Ex mX1_pass Q 2 [l0, .int x] st h := Ex_nx rfl rfl
theorem rX1_pass_2 (Q : Po) (h : Hp) (l0 : Value) (x : Int32) (st : List Value) : Ex mX1_pass Q 2 [l0, .int x] st h = Ex mX1_pass Q 3 [l0, .int x] (.int x :: st) h := Ex_nx rfl rfl
theorem rX1_pass_3 (Q : Po) (h : Hp) (l1 : Value) (x : Nat) (st : List Value) : Ex mX1_pass Q 3 [.ref x, l1] st h = Ex mX1_pass Q 4 [.ref x, l1] (.ref x :: st) h := Ex_nx rfl rfl
theorem rX1_pass_4 (Q : Po) (h : Hp) (ls : List Value) (s0 : Value) (b : Nat) : Ex mX1_pass Q 4 ls (.ref b :: [s0]) h = (gK h b = 2 ∧ Ex mX1_many (Cont mX1_pass Q 4 ls 7 [s0]) 0 [.ref b] [] h) := Ex_cg (n := 1) (as := [.ref b]) rfl rfl
theorem rX1_pass_7 (Q : Po) (h : Hp) (ls : List Value) (st : List Value) (x y : Int32) : Ex mX1_pass Q 7 ls (.int y :: .int x :: st) h = if y ≤ x then Ex mX1_pass Q 53 ls st h else Ex mX1_pass Q 10 ls st h := Ex_br rfl rfl
theorem rX1_pass_10 (Q : Po) (h : Hp) (l1 : Value) (x : Nat) (st : List Value) : Ex mX1_pass Q 10 [.ref x, l1] st h = Ex mX1_pass Q 11 [.ref x, l1] (.ref x :: st) h := Ex_nx rfl rfl
theorem rX1_pass_11 (Q : Po) (h : Hp) (l0 : Value) (x : Int32) (st : List Value) : Ex mX1_pass Q 11 [l0, .int x] st h = Ex mX1_pass Q 12 [l0, .int x] (.int x :: st) h := Ex_nx rfl rfl
theorem rX1_pass_12 (Q : Po) (h : Hp) (ls : List Value) (a0 : Int32) (b : Nat) : Ex mX1_pass Q 12 ls (.int a0 :: .ref b :: []) h = (gK h b = 2 ∧ Ex mX1_isCaught (Cont mX1_pass Q 12 ls 15 []) 0 [.ref b, .int a0] [] h) := Ex_cg (n := 2) (as := [.ref b, .int a0]) rfl rfl
theorem rX1_pass_15 (Q : Po) (h : Hp) (ls : List Value) (st : List Value) (x : Int32) : Ex mX1_pass Q 15 ls (.int x :: st) h = if x = 0 then Ex mX1_pass Q 21 ls st h else Ex mX1_pass Q 18 ls st h := Ex_br rfl rfl
theorem rX1_pass_18 (Q : Po) (h : Hp) (ls : List Value) (st : List Value) : Ex mX1_pass Q 18 ls st h = Ex mX1_pass Q 47 ls st h := Ex_nx rfl rfl
theorem rX1_pass_21 (Q : Po) (h : Hp) (l1 : Value) (x : Nat) (st : List Value) : Ex mX1_pass Q 21 [.ref x, l1] st h = Ex mX1_pass Q 22 [.ref x, l1] (.ref x :: st) h := Ex_nx rfl rfl
theorem rX1_pass_22 (Q : Po) (h : Hp) (ls : List Value) (st : List Value) (a : Nat) : Ex mX1_pass Q 22 ls (.ref a :: st) h = (gK h a ∈ ([2] : List Nat) ∧ Ex mX1_pass Q 25 ls (gF h 53 a :: st) h) := Ex_gd rfl rfl
theorem rX1_pass_25 (Q : Po) (h : Hp) (l0 : Value) (x : Int32) (st : List Value) : Ex mX1_pass Q 25 [l0, .int x] st h = Ex mX1_pass Q 26 [l0, .int x] (.int x :: st) h := Ex_nx rfl rfl
theorem rX1_pass_26 (Q : Po) (h : Hp) (l1 : Value) (x : Nat) (st : List Value) : Ex mX1_pass Q 26 [.ref x, l1] st h = Ex mX1_pass Q 27 [.ref x, l1] (.ref x :: st) h := Ex_nx rfl rfl
theorem rX1_pass_27 (Q : Po) (h : Hp) (l0 : Value) (x : Int32) (st : List Value) : Ex mX1_pass Q 27 [l0, .int x] st h = Ex mX1_pass Q 28 [l0, .int x] (.int x :: st) h := Ex_nx rfl rfl
theorem rX1_pass_28 (Q : Po) (h : Hp) (ls : List Value) (a0 : Int32) (s0 s1 : Value) (b : Nat) : Ex mX1_pass Q 28 ls (.int a0 :: .ref b :: [s0, s1]) h = (gK h b = 2 ∧ Ex mX1_fish (Cont mX1_pass Q 28 ls 31 [s0, s1]) 0 [.ref b, .int a0] [] h) := Ex_cg (n := 2) (as := [.ref b, .int a0]) rfl rfl
theorem rX1_pass_31 (Q : Po) (h : Hp) (l1 : Value) (x : Nat) (st : List Value) : Ex mX1_pass Q 31 [.ref x, l1] st h = Ex mX1_pass Q 32 [.ref x, l1] (.ref x :: st) h := Ex_nx rfl rfl
theorem rX1_pass_32 (Q : Po) (h : Hp) (ls : List Value) (st : List Value) (a : Nat) : Ex mX1_pass Q 32 ls (.ref a :: st) h = (gK h a ∈ ([2] : List Nat) ∧ Ex mX1_pass Q 35 ls (gF h 53 a :: st) h) := Ex_gd rfl rfl
theorem rX1_pass_35 (Q : Po) (h : Hp) (l0 : Value) (x : Int32) (st : List Value) : Ex mX1_pass Q 35 [l0, .int x] st h = Ex mX1_pass Q 36 [l0, .int x] (.int x :: st) h := Ex_nx rfl rfl
theorem rX1_pass_36 (Q : Po) (h : Hp) (ls : List Value) (st : List Value) (a : Nat) (i : Int32) : Ex mX1_pass Q 36 ls (.int i :: .ref a :: st) h = ((gK h a = 51 ∧ ¬ (i < 0 ∨ gL h a ≤ i.toNatClampNeg)) ∧ Ex mX1_pass Q 37 ls (.int (gI h a i.toNatClampNeg) :: st) h) := Ex_gd rfl rfl
theorem rX1_pass_37 (Q : Po) (h : Hp) (l1 : Value) (x : Nat) (st : List Value) : Ex mX1_pass Q 37 [.ref x, l1] st h = Ex mX1_pass Q 38 [.ref x, l1] (.ref x :: st) h := Ex_nx rfl rfl
theorem rX1_pass_38k4 (Q : Po) (h : Hp) (ls : List Value) (a0 : Int32) (a1 : Nat) (s0 s1 : Value) (b : Nat) (hk : gK h b = 4) : Ex mX1_pass Q 38 ls (.ref a1 :: .int a0 :: .ref b :: [s0, s1]) h = Ex mX4_goes (Cont mX1_pass Q 38 ls 41 [s0, s1]) 0 [.ref b, .int a0, .ref a1] [] h := Ex_cl (n := 3) (as := [.ref b, .int a0, .ref a1]) rfl (by simp only [c_D, tkA, hk]; rfl)
theorem rX1_pass_38k5 (Q : Po) (h : Hp) (ls : List Value) (a0 : Int32) (a1 : Nat) (s0 s1 : Value) (b : Nat) (hk : gK h b = 5) : Ex mX1_pass Q 38 ls (.ref a1 :: .int a0 :: .ref b :: [s0, s1]) h = Ex mX4_goes (Cont mX1_pass Q 38 ls 41 [s0, s1]) 0 [.ref b, .int a0, .ref a1] [] h := Ex_cl (n := 3) (as := [.ref b, .int a0, .ref a1]) rfl (by simp only [c_D, tkA, hk]; rfl)
theorem rX1_pass_38k6 (Q : Po) (h : Hp) (ls : List Value) (a0 : Int32) (a1 : Nat) (s0 s1 : Value) (b : Nat) (hk : gK h b = 6) : Ex mX1_pass Q 38 ls (.ref a1 :: .int a0 :: .ref b :: [s0, s1]) h = Ex mX6_goes (Cont mX1_pass Q 38 ls 41 [s0, s1]) 0 [.ref b, .int a0, .ref a1] [] h := Ex_cl (n := 3) (as := [.ref b, .int a0, .ref a1]) rfl (by simp only [c_D, tkA, hk]; rfl)
theorem rX1_pass_38k7 (Q : Po) (h : Hp) (ls : List Value) (a0 : Int32) (a1 : Nat) (s0 s1 : Value) (b : Nat) (hk : gK h b = 7) : Ex mX1_pass Q 38 ls (.ref a1 :: .int a0 :: .ref b :: [s0, s1]) h = Ex mX7_goes (Cont mX1_pass Q 38 ls 41 [s0, s1]) 0 [.ref b, .int a0, .ref a1] [] h := Ex_cl (n := 3) (as := [.ref b, .int a0, .ref a1]) rfl (by simp only [c_D, tkA, hk]; rfl)
theorem rX1_pass_38k8 (Q : Po) (h : Hp) (ls : List Value) (a0 : Int32) (a1 : Nat) (s0 s1 : Value) (b : Nat) (hk : gK h b = 8) : Ex mX1_pass Q 38 ls (.ref a1 :: .int a0 :: .ref b :: [s0, s1]) h = Ex mX8_goes (Cont mX1_pass Q 38 ls 41 [s0, s1]) 0 [.ref b, .int a0, .ref a1] [] h := Ex_cl (n := 3) (as := [.ref b, .int a0, .ref a1]) rfl (by simp only [c_D, tkA, hk]; rfl)
theorem rX1_pass_41 (Q : Po) (h : Hp) (ls : List Value) (st : List Value) (a : Nat) (i x : Int32) : Ex mX1_pass Q 41 ls (.int x :: .int i :: .ref a :: st) h = ((gK h a = 51 ∧ ¬ (i < 0 ∨ gL h a ≤ i.toNatClampNeg)) ∧ Ex mX1_pass Q 42 ls st (pI h a i.toNatClampNeg (x))) := Ex_gd rfl rfl
theorem rX1_pass_42 (Q : Po) (h : Hp) (l1 : Value) (x : Nat) (st : List Value) : Ex mX1_pass Q 42 [.ref x, l1] st h = Ex mX1_pass Q 43 [.ref x, l1] (.ref x :: st) h := Ex_nx rfl rfl
theorem rX1_pass_43 (Q : Po) (h : Hp) (l0 : Value) (x : Int32) (st : List Value) : Ex mX1_pass Q 43 [l0, .int x] st h = Ex mX1_pass Q 44 [l0, .int x] (.int x :: st) h := Ex_nx rfl rfl
theorem rX1_pass_44 (Q : Po) (h : Hp) (ls : List Value) (a0 : Int32) (b : Nat) : Ex mX1_pass Q 44 ls (.int a0 :: .ref b :: []) h = (gK h b = 2 ∧ Ex mX1_eats (Cont mX1_pass Q 44 ls 47 []) 0 [.ref b, .int a0, .retAddr 0, .retAddr 0] [] h) := Ex_cg (n := 4) (as := [.ref b, .int a0]) rfl rfl
theorem rX1_pass_47 (Q : Po) (h : Hp) (l0 : Value) (x : Int32) (st : List Value) : Ex mX1_pass Q 47 [l0, .int x] st h = Ex mX1_pass Q 50 [l0, .int (x + 1)] st h := Ex_nx rfl rfl
theorem rX1_pass_50 (Q : Po) (h : Hp) (ls : List Value) (st : List Value) : Ex mX1_pass Q 50 ls st h = Ex mX1_pass Q 2 ls st h := Ex_nx rfl rfl
theorem rX1_pass_53 (Q : Po) (h : Hp) (ls : List Value) (st : List Value) : Ex mX1_pass Q 53 ls st h = Ex mX1_pass Q 54 ls (.int 0 :: st) h := Ex_nx rfl rfl
theorem rX1_pass_54 (Q : Po) (h : Hp) (l0 l1 : Value) (x : Int32) (st : List Value) : Ex mX1_pass Q 54 [l0, l1] (.int x :: st) h = Ex mX1_pass Q 55 [l0, .int x] st h := Ex_nx rfl rfl
theorem rX1_pass_55 (Q : Po) (h : Hp) (l0 : Value) (x : Int32) (st : List Value) : Ex mX1_pass Q 55 [l0, .int x] st h = Ex mX1_pass Q 56 [l0, .int x] (.int x :: st) h := Ex_nx rfl rfl
theorem rX1_pass_56 (Q : Po) (h : Hp) (l1 : Value) (x : Nat) (st : List Value) : Ex mX1_pass Q 56 [.ref x, l1] st h = Ex mX1_pass Q 57 [.ref x, l1] (.ref x :: st) h := Ex_nx rfl rfl
theorem rX1_pass_57 (Q : Po) (h : Hp) (ls : List Value) (st : List Value) (a : Nat) : Ex mX1_pass Q 57 ls (.ref a :: st) h = (gK h a ∈ ([2] : List Nat) ∧ Ex mX1_pass Q 60 ls (gF h 36 a :: st) h) := Ex_gd rfl rfl
theorem rX1_pass_60 (Q : Po) (h : Hp) (ls : List Value) (st : List Value) (x y : Int32) : Ex mX1_pass Q 60 ls (.int y :: .int x :: st) h = if y ≤ x then Ex mX1_pass Q 106 ls st h else Ex mX1_pass Q 63 ls st h := Ex_br rfl rfl
theorem rX1_pass_63 (Q : Po) (h : Hp) (l1 : Value) (x : Nat) (st : List Value) : Ex mX1_pass Q 63 [.ref x, l1] st h = Ex mX1_pass Q 64 [.ref x, l1] (.ref x :: st) h := Ex_nx rfl rfl
theorem rX1_pass_64 (Q : Po) (h : Hp) (ls : List Value) (st : List Value) (a : Nat) : Ex mX1_pass Q 64 ls (.ref a :: st) h = (gK h a ∈ ([2] : List Nat) ∧ Ex mX1_pass Q 67 ls (gF h 58 a :: st) h) := Ex_gd rfl rfl
theorem rX1_pass_67 (Q : Po) (h : Hp) (ls : List Value) (st : List Value) : Ex mX1_pass Q 67 ls st h = Ex mX1_pass Q 68 ls (.int 4 :: st) h := Ex_nx rfl rfl
theorem rX1_pass_68 (Q : Po) (h : Hp) (ls : List Value) (st : List Value) (x y : Int32) : Ex mX1_pass Q 68 ls (.int y :: .int x :: st) h = (¬ y = 0 ∧ Ex mX1_pass Q 69 ls (.int (x - x / y * y) :: st) h) := Ex_gd rfl rfl
theorem rX1_pass_69 (Q : Po) (h : Hp) (ls : List Value) (st : List Value) : Ex mX1_pass Q 69 ls st h = Ex mX1_pass Q 70 ls (.int 3 :: st) h := Ex_nx rfl rfl
theorem rX1_pass_70 (Q : Po) (h : Hp) (ls : List Value) (st : List Value) (x y : Int32) : Ex mX1_pass Q 70 ls (.int y :: .int x :: st) h = if ¬ x = y then Ex mX1_pass Q 100 ls st h else Ex mX1_pass Q 73 ls st h := Ex_br rfl rfl
theorem rX1_pass_73 (Q : Po) (h : Hp) (l1 : Value) (x : Nat) (st : List Value) : Ex mX1_pass Q 73 [.ref x, l1] st h = Ex mX1_pass Q 74 [.ref x, l1] (.ref x :: st) h := Ex_nx rfl rfl
theorem rX1_pass_74 (Q : Po) (h : Hp) (l0 : Value) (x : Int32) (st : List Value) : Ex mX1_pass Q 74 [l0, .int x] st h = Ex mX1_pass Q 75 [l0, .int x] (.int x :: st) h := Ex_nx rfl rfl
theorem rX1_pass_75 (Q : Po) (h : Hp) (ls : List Value) (a0 : Int32) (b : Nat) : Ex mX1_pass Q 75 ls (.int a0 :: .ref b :: []) h = (gK h b = 2 ∧ Ex mX1_isKept (Cont mX1_pass Q 75 ls 78 []) 0 [.ref b, .int a0] [] h) := Ex_cg (n := 2) (as := [.ref b, .int a0]) rfl rfl
theorem rX1_pass_78 (Q : Po) (h : Hp) (ls : List Value) (st : List Value) (x : Int32) : Ex mX1_pass Q 78 ls (.int x :: st) h = if ¬ x = 0 then Ex mX1_pass Q 100 ls st h else Ex mX1_pass Q 81 ls st h := Ex_br rfl rfl
theorem rX1_pass_81 (Q : Po) (h : Hp) (l1 : Value) (x : Nat) (st : List Value) : Ex mX1_pass Q 81 [.ref x, l1] st h = Ex mX1_pass Q 82 [.ref x, l1] (.ref x :: st) h := Ex_nx rfl rfl
theorem rX1_pass_82 (Q : Po) (h : Hp) (ls : List Value) (st : List Value) (a : Nat) : Ex mX1_pass Q 82 ls (.ref a :: st) h = (gK h a ∈ ([2] : List Nat) ∧ Ex mX1_pass Q 85 ls (gF h 41 a :: st) h) := Ex_gd rfl rfl
theorem rX1_pass_85 (Q : Po) (h : Hp) (l0 : Value) (x : Int32) (st : List Value) : Ex mX1_pass Q 85 [l0, .int x] st h = Ex mX1_pass Q 86 [l0, .int x] (.int x :: st) h := Ex_nx rfl rfl
theorem rX1_pass_86 (Q : Po) (h : Hp) (ls : List Value) (st : List Value) : Ex mX1_pass Q 86 ls st h = Ex mX1_pass Q 88 ls (.int 9 :: st) h := Ex_nx rfl rfl
theorem rX1_pass_88 (Q : Po) (h : Hp) (l1 : Value) (x : Nat) (st : List Value) : Ex mX1_pass Q 88 [.ref x, l1] st h = Ex mX1_pass Q 89 [.ref x, l1] (.ref x :: st) h := Ex_nx rfl rfl
theorem rX1_pass_89 (Q : Po) (h : Hp) (ls : List Value) (st : List Value) (a : Nat) : Ex mX1_pass Q 89 ls (.ref a :: st) h = (gK h a ∈ ([2] : List Nat) ∧ Ex mX1_pass Q 92 ls (gF h 41 a :: st) h) := Ex_gd rfl rfl
theorem rX1_pass_92 (Q : Po) (h : Hp) (l0 : Value) (x : Int32) (st : List Value) : Ex mX1_pass Q 92 [l0, .int x] st h = Ex mX1_pass Q 93 [l0, .int x] (.int x :: st) h := Ex_nx rfl rfl
theorem rX1_pass_93 (Q : Po) (h : Hp) (ls : List Value) (st : List Value) (a : Nat) (i : Int32) : Ex mX1_pass Q 93 ls (.int i :: .ref a :: st) h = ((gK h a = 51 ∧ ¬ (i < 0 ∨ gL h a ≤ i.toNatClampNeg)) ∧ Ex mX1_pass Q 94 ls (.int (gI h a i.toNatClampNeg) :: st) h) := Ex_gd rfl rfl
theorem rX1_pass_94 (Q : Po) (h : Hp) (ls : List Value) (st : List Value) : Ex mX1_pass Q 94 ls st h = Ex mX1_pass Q 95 ls (.int 1 :: st) h := Ex_nx rfl rfl
theorem rX1_pass_95 (Q : Po) (h : Hp) (ls : List Value) (st : List Value) (x y : Int32) : Ex mX1_pass Q 95 ls (.int y :: .int x :: st) h = Ex mX1_pass Q 96 ls (.int (x + y) :: st) h := Ex_nx rfl rfl
theorem rX1_pass_96 (Q : Po) (h : Hp) (ls : List Value) (a0 : Int32) (a1 : Int32) (s0 s1 : Value) : Ex mX1_pass Q 96 ls (.int a1 :: .int a0 :: [s0, s1]) h = Ex mJ13_min (Cont mX1_pass Q 96 ls 99 [s0, s1]) 0 [.int a0, .int a1] [] h := Ex_cl (n := 2) (as := [.int a0, .int a1]) rfl rfl
theorem rX1_pass_99 (Q : Po) (h : Hp) (ls : List Value) (st : List Value) (a : Nat) (i x : Int32) : Ex mX1_pass Q 99 ls (.int x :: .int i :: .ref a :: st) h = ((gK h a = 51 ∧ ¬ (i < 0 ∨ gL h a ≤ i.toNatClampNeg)) ∧ Ex mX1_pass Q 100 ls st (pI h a i.toNatClampNeg (x))) := Ex_gd rfl rfl
theorem rX1_pass_100 (Q : Po) (h : Hp) (l0 : Value) (x : Int32) (st : List Value) : Ex mX1_pass Q 100 [l0, .int x] st h = Ex mX1_pass Q 103 [l0, .int (x + 1)] st h := Ex_nx rfl rfl
theorem rX1_pass_103 (Q : Po) (h : Hp) (ls : List Value) (st : List Value) : Ex mX1_pass Q 103 ls st h = Ex mX1_pass Q 55 ls st h := Ex_nx rfl rfl
theorem rX1_pass_106 (Q : Po) (h : Hp) (l1 : Value) (x : Nat) (st : List Value) : Ex mX1_pass Q 106 [.ref x, l1] st h = Ex mX1_pass Q 107 [.ref x, l1] (.ref x :: st) h := Ex_nx rfl rfl
theorem rX1_pass_107 (Q : Po) (h : Hp) (ls : List Value) (st : List Value) (x : Nat) : Ex mX1_pass Q 107 ls (.ref x :: st) h = Ex mX1_pass Q 108 ls (.ref x :: .ref x :: st) h := Ex_nx rfl rfl
theorem rX1_pass_108 (Q : Po) (h : Hp) (ls : List Value) (st : List Value) (a : Nat) : Ex mX1_pass Q 108 ls (.ref a :: st) h = (gK h a ∈ ([2] : List Nat) ∧ Ex mX1_pass Q 111 ls (gF h 58 a :: st) h) := Ex_gd rfl rfl
theorem rX1_pass_111 (Q : Po) (h : Hp) (ls : List Value) (st : List Value) : Ex mX1_pass Q 111 ls st h = Ex mX1_pass Q 112 ls (.int 1 :: st) h := Ex_nx rfl rfl
theorem rX1_pass_112 (Q : Po) (h : Hp) (ls : List Value) (st : List Value) (x y : Int32) : Ex mX1_pass Q 112 ls (.int y :: .int x :: st) h = Ex mX1_pass Q 113 ls (.int (x + y) :: st) h := Ex_nx rfl rfl
theorem rX1_pass_113 (Q : Po) (h : Hp) (ls : List Value) (st : List Value) (x : Int32) (a : Nat) : Ex mX1_pass Q 113 ls (.int x :: .ref a :: st) h = (gK h a ∈ ([2] : List Nat) ∧ Ex mX1_pass Q 116 ls st (pF h 58 a (.int x))) := Ex_gd rfl rfl
theorem rX1_pass_116 (Q : Po) (h : Hp) (l1 : Value) (x : Nat) (st : List Value) : Ex mX1_pass Q 116 [.ref x, l1] st h = Ex mX1_pass Q 117 [.ref x, l1] (.ref x :: st) h := Ex_nx rfl rfl
theorem rX1_pass_117 (Q : Po) (h : Hp) (ls : List Value) (x : Nat) : Ex mX1_pass Q 117 ls [.ref x] h = Q (.inl (some (.ref x))) h := Ex_rt rfl rfl
theorem rX1_pass_t (Q : Po) (h : Hp) (pc n a : Nat) (ls st : List Value) : Cont mX1_pass Q pc ls n st (.inr a) h = Q (.inr a) h := rfl
/-! FishReaders.allBooks()I -/
def mX0_allBooks : Cd := ([(0, .inl (i_push (.int 1) 1)),
  (1, .inl (i_aload 0 2)),
  (2, .inl (i_getf 11 [1] 5)),
  (5, .inl (i_getf 36 [2] 8)),
  (8, .inl (i_bin (fun x y => x <<< (y &&& 31)) 9)),
  (9, .inl (i_push (.int 1) 10)),
  (10, .inl (i_bin (fun x y => x - y) 11)),
  (11, .inl i_iret)], noH)
theorem rX0_allBooks_0 (Q : Po) (h : Hp) (ls : List Value) (st : List Value) : Ex mX0_allBooks Q 0 ls st h = Ex mX0_allBooks Q 1 ls (.int 1 :: st) h := Ex_nx rfl rfl
theorem rX0_allBooks_1 (Q : Po) (h : Hp) (x : Nat) (st : List Value) : Ex mX0_allBooks Q 1 [.ref x] st h = Ex mX0_allBooks Q 2 [.ref x] (.ref x :: st) h := Ex_nx rfl rfl
theorem rX0_allBooks_2 (Q : Po) (h : Hp) (ls : List Value) (st : List Value) (a : Nat) : Ex mX0_allBooks Q 2 ls (.ref a :: st) h = (gK h a ∈ ([1] : List Nat) ∧ Ex mX0_allBooks Q 5 ls (gF h 11 a :: st) h) := Ex_gd rfl rfl
theorem rX0_allBooks_5 (Q : Po) (h : Hp) (ls : List Value) (st : List Value) (a : Nat) : Ex mX0_allBooks Q 5 ls (.ref a :: st) h = (gK h a ∈ ([2] : List Nat) ∧ Ex mX0_allBooks Q 8 ls (gF h 36 a :: st) h) := Ex_gd rfl rfl
theorem rX0_allBooks_8 (Q : Po) (h : Hp) (ls : List Value) (st : List Value) (x y : Int32) : Ex mX0_allBooks Q 8 ls (.int y :: .int x :: st) h = Ex mX0_allBooks Q 9 ls (.int (x <<< (y &&& 31)) :: st) h := Ex_nx rfl rfl
theorem rX0_allBooks_9 (Q : Po) (h : Hp) (ls : List Value) (st : List Value) : Ex mX0_allBooks Q 9 ls st h = Ex mX0_allBooks Q 10 ls (.int 1 :: st) h := Ex_nx rfl rfl
theorem rX0_allBooks_10 (Q : Po) (h : Hp) (ls : List Value) (st : List Value) (x y : Int32) : Ex mX0_allBooks Q 10 ls (.int y :: .int x :: st) h = Ex mX0_allBooks Q 11 ls (.int (x - y) :: st) h := Ex_nx rfl rfl
theorem rX0_allBooks_11 (Q : Po) (h : Hp) (ls : List Value) (x : Int32) : Ex mX0_allBooks Q 11 ls [.int x] h = Q (.inl (some (.int x))) h := Ex_rt rfl rfl
theorem rX0_allBooks_t (Q : Po) (h : Hp) (pc n a : Nat) (ls st : List Value) : Cont mX0_allBooks Q pc ls n st (.inr a) h = Q (.inr a) h := rfl
/-! FishReaders$Library.left(I)I -/
def mX1_left : Cd := ([(0, .inl (i_push (.int 0) 1)),
  (1, .inl (i_istore 2 2)),
  (2, .inl (i_push (.int 0) 3)),
  (3, .inl (i_istore 3 4)),
  (4, .inl (i_iload 3 5)),
  (5, .inl (i_aload 0 6)),
  (6, .inl (i_getf 36 [2] 9)),
  (9, .inl (i_icmp (fun x y => y ≤ x) 40 12)),
  (12, .inl (i_iload 2 13)),
  (13, .inl (i_iload 1 14)),
  (14, .inl (i_iload 3 15)),
  (15, .inl (i_bin (fun x y => x >>> (y &&& 31)) 16)),
  (16, .inl (i_push (.int 1) 17)),
  (17, .inl (i_bin (fun x y => x &&& y) 18)),
  (18, .inl (i_push (.int 1) 19)),
  (19, .inl (i_icmp (fun x y => ¬ x = y) 31 22)),
  (22, .inl (i_aload 0 23)),
  (23, .inl (i_getf 39 [2] 26)),
  (26, .inl (i_iload 3 27)),
  (27, .inl (i_iald 51 28)),
  (28, .inl (i_goto 32)),
  (31, .inl (i_push (.int 0) 32)),
  (32, .inl (i_bin (fun x y => x + y) 33)),
  (33, .inl (i_istore 2 34)),
  (34, .inl (i_iinc 3 1 37)),
  (37, .inl (i_goto 4)),
  (40, .inl (i_iload 2 41)),
  (41, .inl i_iret)], noH)
theorem rX1_left_0 (Q : Po) (h : Hp) (ls : List Value) (st : List Value) : Ex mX1_left Q 0 ls st h = Ex mX1_left Q 1 ls (.int 0 :: st) h := Ex_nx rfl rfl
theorem rX1_left_1 (Q : Po) (h : Hp) (l0 l1 l2 l3 : Value) (x : Int32) (st : List Value) : Ex mX1_left Q 1 [l0, l1, l2, l3] (.int x :: st) h = Ex mX1_left Q 2 [l0, l1, .int x, l3] st h := Ex_nx rfl rfl
theorem rX1_left_2 (Q : Po) (h : Hp) (ls : List Value) (st : List Value) : Ex mX1_left Q 2 ls st h = Ex mX1_left Q 3 ls (.int 0 :: st) h := Ex_nx rfl rfl
theorem rX1_left_3 (Q : Po) (h : Hp) (l0 l1 l2 l3 : Value) (x : Int32) (st : List Value) : Ex mX1_left Q 3 [l0, l1, l2, l3] (.int x :: st) h = Ex mX1_left Q 4 [l0, l1, l2, .int x] st h := Ex_nx rfl rfl
theorem rX1_left_4 (Q : Po) (h : Hp) (l0 l1 l2 : Value) (x : Int32) (st : List Value) : Ex mX1_left Q 4 [l0, l1, l2, .int x] st h = Ex mX1_left Q 5 [l0, l1, l2, .int x] (.int x :: st) h := Ex_nx rfl rfl
theorem rX1_left_5 (Q : Po) (h : Hp) (l1 l2 l3 : Value) (x : Nat) (st : List Value) : Ex mX1_left Q 5 [.ref x, l1, l2, l3] st h = Ex mX1_left Q 6 [.ref x, l1, l2, l3] (.ref x :: st) h := Ex_nx rfl rfl
theorem rX1_left_6 (Q : Po) (h : Hp) (ls : List Value) (st : List Value) (a : Nat) : Ex mX1_left Q 6 ls (.ref a :: st) h = (gK h a ∈ ([2] : List Nat) ∧ Ex mX1_left Q 9 ls (gF h 36 a :: st) h) := Ex_gd rfl rfl
theorem rX1_left_9 (Q : Po) (h : Hp) (ls : List Value) (st : List Value) (x y : Int32) : Ex mX1_left Q 9 ls (.int y :: .int x :: st) h = if y ≤ x then Ex mX1_left Q 40 ls st h else Ex mX1_left Q 12 ls st h := Ex_br rfl rfl
theorem rX1_left_12 (Q : Po) (h : Hp) (l0 l1 l3 : Value) (x : Int32) (st : List Value) : Ex mX1_left Q 12 [l0, l1, .int x, l3] st h = Ex mX1_left Q 13 [l0, l1, .int x, l3] (.int x :: st) h := Ex_nx rfl rfl
theorem rX1_left_13 (Q : Po) (h : Hp) (l0 l2 l3 : Value) (x : Int32) (st : List Value) : Ex mX1_left Q 13 [l0, .int x, l2, l3] st h = Ex mX1_left Q 14 [l0, .int x, l2, l3] (.int x :: st) h := Ex_nx rfl rfl
theorem rX1_left_14 (Q : Po) (h : Hp) (l0 l1 l2 : Value) (x : Int32) (st : List Value) : Ex mX1_left Q 14 [l0, l1, l2, .int x] st h = Ex mX1_left Q 15 [l0, l1, l2, .int x] (.int x :: st) h := Ex_nx rfl rfl
theorem rX1_left_15 (Q : Po) (h : Hp) (ls : List Value) (st : List Value) (x y : Int32) : Ex mX1_left Q 15 ls (.int y :: .int x :: st) h = Ex mX1_left Q 16 ls (.int (x >>> (y &&& 31)) :: st) h := Ex_nx rfl rfl
theorem rX1_left_16 (Q : Po) (h : Hp) (ls : List Value) (st : List Value) : Ex mX1_left Q 16 ls st h = Ex mX1_left Q 17 ls (.int 1 :: st) h := Ex_nx rfl rfl
theorem rX1_left_17 (Q : Po) (h : Hp) (ls : List Value) (st : List Value) (x y : Int32) : Ex mX1_left Q 17 ls (.int y :: .int x :: st) h = Ex mX1_left Q 18 ls (.int (x &&& y) :: st) h := Ex_nx rfl rfl
theorem rX1_left_18 (Q : Po) (h : Hp) (ls : List Value) (st : List Value) : Ex mX1_left Q 18 ls st h = Ex mX1_left Q 19 ls (.int 1 :: st) h := Ex_nx rfl rfl
theorem rX1_left_19 (Q : Po) (h : Hp) (ls : List Value) (st : List Value) (x y : Int32) : Ex mX1_left Q 19 ls (.int y :: .int x :: st) h = if ¬ x = y then Ex mX1_left Q 31 ls st h else Ex mX1_left Q 22 ls st h := Ex_br rfl rfl
theorem rX1_left_22 (Q : Po) (h : Hp) (l1 l2 l3 : Value) (x : Nat) (st : List Value) : Ex mX1_left Q 22 [.ref x, l1, l2, l3] st h = Ex mX1_left Q 23 [.ref x, l1, l2, l3] (.ref x :: st) h := Ex_nx rfl rfl
theorem rX1_left_23 (Q : Po) (h : Hp) (ls : List Value) (st : List Value) (a : Nat) : Ex mX1_left Q 23 ls (.ref a :: st) h = (gK h a ∈ ([2] : List Nat) ∧ Ex mX1_left Q 26 ls (gF h 39 a :: st) h) := Ex_gd rfl rfl
theorem rX1_left_26 (Q : Po) (h : Hp) (l0 l1 l2 : Value) (x : Int32) (st : List Value) : Ex mX1_left Q 26 [l0, l1, l2, .int x] st h = Ex mX1_left Q 27 [l0, l1, l2, .int x] (.int x :: st) h := Ex_nx rfl rfl
theorem rX1_left_27 (Q : Po) (h : Hp) (ls : List Value) (st : List Value) (a : Nat) (i : Int32) : Ex mX1_left Q 27 ls (.int i :: .ref a :: st) h = ((gK h a = 51 ∧ ¬ (i < 0 ∨ gL h a ≤ i.toNatClampNeg)) ∧ Ex mX1_left Q 28 ls (.int (gI h a i.toNatClampNeg) :: st) h) := Ex_gd rfl rfl
theorem rX1_left_28 (Q : Po) (h : Hp) (ls : List Value) (st : List Value) : Ex mX1_left Q 28 ls st h = Ex mX1_left Q 32 ls st h := Ex_nx rfl rfl
theorem rX1_left_31 (Q : Po) (h : Hp) (ls : List Value) (st : List Value) : Ex mX1_left Q 31 ls st h = Ex mX1_left Q 32 ls (.int 0 :: st) h := Ex_nx rfl rfl
theorem rX1_left_32 (Q : Po) (h : Hp) (ls : List Value) (st : List Value) (x y : Int32) : Ex mX1_left Q 32 ls (.int y :: .int x :: st) h = Ex mX1_left Q 33 ls (.int (x + y) :: st) h := Ex_nx rfl rfl
theorem rX1_left_33 (Q : Po) (h : Hp) (l0 l1 l2 l3 : Value) (x : Int32) (st : List Value) : Ex mX1_left Q 33 [l0, l1, l2, l3] (.int x :: st) h = Ex mX1_left Q 34 [l0, l1, .int x, l3] st h := Ex_nx rfl rfl
theorem rX1_left_34 (Q : Po) (h : Hp) (l0 l1 l2 : Value) (x : Int32) (st : List Value) : Ex mX1_left Q 34 [l0, l1, l2, .int x] st h = Ex mX1_left Q 37 [l0, l1, l2, .int (x + 1)] st h := Ex_nx rfl rfl
theorem rX1_left_37 (Q : Po) (h : Hp) (ls : List Value) (st : List Value) : Ex mX1_left Q 37 ls st h = Ex mX1_left Q 4 ls st h := Ex_nx rfl rfl
theorem rX1_left_40 (Q : Po) (h : Hp) (l0 l1 l3 : Value) (x : Int32) (st : List Value) : Ex mX1_left Q 40 [l0, l1, .int x, l3] st h = Ex mX1_left Q 41 [l0, l1, .int x, l3] (.int x :: st) h := Ex_nx rfl rfl
theorem rX1_left_41 (Q : Po) (h : Hp) (ls : List Value) (x : Int32) : Ex mX1_left Q 41 ls [.int x] h = Q (.inl (some (.int x))) h := Ex_rt rfl rfl
theorem rX1_left_t (Q : Po) (h : Hp) (pc n a : Nat) (ls st : List Value) : Cont mX1_left Q pc ls n st (.inr a) h = Q (.inr a) h := rfl
/-! FishReaders.nights(I)I -/
def mX0_nights : Cd := ([(0, .inl (i_aload 0 1)),
  (1, .inr (c_V 0 4 1 1 (Mt mX0_isLibrary 1))),
  (4, .inl (i_if (fun x => ¬ x = 0) 10 7)),
  (7, .inl (i_push (.int (-1000002)) 9)),
  (9, .inl i_iret),
  (10, .inl (i_iload 1 11)),
  (11, .inl (i_i2l 12)),
  (12, .inl (i_push (.long 1) 13)),
  (13, .inl (i_push (.long 24) 16)),
  (16, .inr (c_S 3 19 6 (Mt mX0_isIn 6))),
  (19, .inl (i_if (fun x => ¬ x = 0) 25 22)),
  (22, .inl (i_push (.int (-1000001)) 24)),
  (24, .inl i_iret),
  (25, .inl (i_aload 0 26)),
  (26, .inl (i_getf 11 [1] 29)),
  (29, .inl (i_getf 58 [2] 32)),
  (32, .inl (i_iload 1 33)),
  (33, .inl (i_bin (fun x y => x + y) 34)),
  (34, .inl (i_push (.int 999) 37)),
  (37, .inl (i_icmp (fun x y => x ≤ y) 43 40)),
  (40, .inl (i_push (.int (-1000003)) 42)),
  (42, .inl i_iret),
  (43, .inl (i_push (.int 0) 44)),
  (44, .inl (i_istore 2 45)),
  (45, .inl (i_iload 2 46)),
  (46, .inl (i_iload 1 47)),
  (47, .inl (i_icmp (fun x y => y ≤ x) 68 50)),
  (50, .inl (i_aload 0 51)),
  (51, .inr (c_V 0 54 3 1 (Mt mX0_keep 3))),
  (54, .inl (i_aload 0 55)),
  (55, .inl (i_getf 11 [1] 58)),
  (58, .inr (c_V 0 61 2 2 (Mt mX1_pass 2))),
  (61, .inl (i_pop 62)),
  (62, .inl (i_iinc 2 1 65)),
  (65, .inl (i_goto 45)),
  (68, .inl (i_aload 0 69)),
  (69, .inl (i_getf 11 [1] 72)),
  (72, .inl (i_aload 0 73)),
  (73, .inr (c_V 0 76 1 1 (Mt mX0_allBooks 1))),
  (76, .inr (c_V 1 79 4 2 (Mt mX1_left 4))),
  (79, .inl i_iret)], noH)
theorem rX0_nights_0 (Q : Po) (h : Hp) (l1 l2 : Value) (x : Nat) (st : List Value) : Ex mX0_nights Q 0 [.ref x, l1, l2] st h = Ex mX0_nights Q 1 [.ref x, l1, l2] (.ref x :: st) h := Ex_nx rfl rfl
theorem rX0_nights_1 (Q : Po) (h : Hp) (ls : List Value) (b : Nat) : Ex mX0_nights Q 1 ls (.ref b :: []) h = (gK h b = 1 ∧ Ex mX0_isLibrary (Cont mX0_nights Q 1 ls 4 []) 0 [.ref b] [] h) := Ex_cg (n := 1) (as := [.ref b]) rfl rfl
theorem rX0_nights_4 (Q : Po) (h : Hp) (ls : List Value) (st : List Value) (x : Int32) : Ex mX0_nights Q 4 ls (.int x :: st) h = if ¬ x = 0 then Ex mX0_nights Q 10 ls st h else Ex mX0_nights Q 7 ls st h := Ex_br rfl rfl
theorem rX0_nights_7 (Q : Po) (h : Hp) (ls : List Value) (st : List Value) : Ex mX0_nights Q 7 ls st h = Ex mX0_nights Q 9 ls (.int (-1000002) :: st) h := Ex_nx rfl rfl
theorem rX0_nights_9 (Q : Po) (h : Hp) (ls : List Value) (x : Int32) : Ex mX0_nights Q 9 ls [.int x] h = Q (.inl (some (.int x))) h := Ex_rt rfl rfl
theorem rX0_nights_10 (Q : Po) (h : Hp) (l0 l2 : Value) (x : Int32) (st : List Value) : Ex mX0_nights Q 10 [l0, .int x, l2] st h = Ex mX0_nights Q 11 [l0, .int x, l2] (.int x :: st) h := Ex_nx rfl rfl
theorem rX0_nights_11 (Q : Po) (h : Hp) (ls : List Value) (st : List Value) (x : Int32) : Ex mX0_nights Q 11 ls (.int x :: st) h = Ex mX0_nights Q 12 ls (.long x.toInt64 :: st) h := Ex_nx rfl rfl
theorem rX0_nights_12 (Q : Po) (h : Hp) (ls : List Value) (st : List Value) : Ex mX0_nights Q 12 ls st h = Ex mX0_nights Q 13 ls (.long 1 :: st) h := Ex_nx rfl rfl
theorem rX0_nights_13 (Q : Po) (h : Hp) (ls : List Value) (st : List Value) : Ex mX0_nights Q 13 ls st h = Ex mX0_nights Q 16 ls (.long 24 :: st) h := Ex_nx rfl rfl
theorem rX0_nights_16 (Q : Po) (h : Hp) (ls : List Value) (a0 : Int64) (a1 : Int64) (a2 : Int64) : Ex mX0_nights Q 16 ls (.long a2 :: .long a1 :: .long a0 :: []) h = Ex mX0_isIn (Cont mX0_nights Q 16 ls 19 []) 0 [.long a0, .retAddr 1, .long a1, .retAddr 1, .long a2, .retAddr 1] [] h := Ex_cl (n := 6) (as := [.long a0, .long a1, .long a2]) rfl rfl
theorem rX0_nights_19 (Q : Po) (h : Hp) (ls : List Value) (st : List Value) (x : Int32) : Ex mX0_nights Q 19 ls (.int x :: st) h = if ¬ x = 0 then Ex mX0_nights Q 25 ls st h else Ex mX0_nights Q 22 ls st h := Ex_br rfl rfl
theorem rX0_nights_22 (Q : Po) (h : Hp) (ls : List Value) (st : List Value) : Ex mX0_nights Q 22 ls st h = Ex mX0_nights Q 24 ls (.int (-1000001) :: st) h := Ex_nx rfl rfl
theorem rX0_nights_24 (Q : Po) (h : Hp) (ls : List Value) (x : Int32) : Ex mX0_nights Q 24 ls [.int x] h = Q (.inl (some (.int x))) h := Ex_rt rfl rfl
theorem rX0_nights_25 (Q : Po) (h : Hp) (l1 l2 : Value) (x : Nat) (st : List Value) : Ex mX0_nights Q 25 [.ref x, l1, l2] st h = Ex mX0_nights Q 26 [.ref x, l1, l2] (.ref x :: st) h := Ex_nx rfl rfl
theorem rX0_nights_26 (Q : Po) (h : Hp) (ls : List Value) (st : List Value) (a : Nat) : Ex mX0_nights Q 26 ls (.ref a :: st) h = (gK h a ∈ ([1] : List Nat) ∧ Ex mX0_nights Q 29 ls (gF h 11 a :: st) h) := Ex_gd rfl rfl
theorem rX0_nights_29 (Q : Po) (h : Hp) (ls : List Value) (st : List Value) (a : Nat) : Ex mX0_nights Q 29 ls (.ref a :: st) h = (gK h a ∈ ([2] : List Nat) ∧ Ex mX0_nights Q 32 ls (gF h 58 a :: st) h) := Ex_gd rfl rfl
theorem rX0_nights_32 (Q : Po) (h : Hp) (l0 l2 : Value) (x : Int32) (st : List Value) : Ex mX0_nights Q 32 [l0, .int x, l2] st h = Ex mX0_nights Q 33 [l0, .int x, l2] (.int x :: st) h := Ex_nx rfl rfl
theorem rX0_nights_33 (Q : Po) (h : Hp) (ls : List Value) (st : List Value) (x y : Int32) : Ex mX0_nights Q 33 ls (.int y :: .int x :: st) h = Ex mX0_nights Q 34 ls (.int (x + y) :: st) h := Ex_nx rfl rfl
theorem rX0_nights_34 (Q : Po) (h : Hp) (ls : List Value) (st : List Value) : Ex mX0_nights Q 34 ls st h = Ex mX0_nights Q 37 ls (.int 999 :: st) h := Ex_nx rfl rfl
theorem rX0_nights_37 (Q : Po) (h : Hp) (ls : List Value) (st : List Value) (x y : Int32) : Ex mX0_nights Q 37 ls (.int y :: .int x :: st) h = if x ≤ y then Ex mX0_nights Q 43 ls st h else Ex mX0_nights Q 40 ls st h := Ex_br rfl rfl
theorem rX0_nights_40 (Q : Po) (h : Hp) (ls : List Value) (st : List Value) : Ex mX0_nights Q 40 ls st h = Ex mX0_nights Q 42 ls (.int (-1000003) :: st) h := Ex_nx rfl rfl
theorem rX0_nights_42 (Q : Po) (h : Hp) (ls : List Value) (x : Int32) : Ex mX0_nights Q 42 ls [.int x] h = Q (.inl (some (.int x))) h := Ex_rt rfl rfl
theorem rX0_nights_43 (Q : Po) (h : Hp) (ls : List Value) (st : List Value) : Ex mX0_nights Q 43 ls st h = Ex mX0_nights Q 44 ls (.int 0 :: st) h := Ex_nx rfl rfl
theorem rX0_nights_44 (Q : Po) (h : Hp) (l0 l1 l2 : Value) (x : Int32) (st : List Value) : Ex mX0_nights Q 44 [l0, l1, l2] (.int x :: st) h = Ex mX0_nights Q 45 [l0, l1, .int x] st h := Ex_nx rfl rfl
theorem rX0_nights_45 (Q : Po) (h : Hp) (l0 l1 : Value) (x : Int32) (st : List Value) : Ex mX0_nights Q 45 [l0, l1, .int x] st h = Ex mX0_nights Q 46 [l0, l1, .int x] (.int x :: st) h := Ex_nx rfl rfl
theorem rX0_nights_46 (Q : Po) (h : Hp) (l0 l2 : Value) (x : Int32) (st : List Value) : Ex mX0_nights Q 46 [l0, .int x, l2] st h = Ex mX0_nights Q 47 [l0, .int x, l2] (.int x :: st) h := Ex_nx rfl rfl
theorem rX0_nights_47 (Q : Po) (h : Hp) (ls : List Value) (st : List Value) (x y : Int32) : Ex mX0_nights Q 47 ls (.int y :: .int x :: st) h = if y ≤ x then Ex mX0_nights Q 68 ls st h else Ex mX0_nights Q 50 ls st h := Ex_br rfl rfl
theorem rX0_nights_50 (Q : Po) (h : Hp) (l1 l2 : Value) (x : Nat) (st : List Value) : Ex mX0_nights Q 50 [.ref x, l1, l2] st h = Ex mX0_nights Q 51 [.ref x, l1, l2] (.ref x :: st) h := Ex_nx rfl rfl
theorem rX0_nights_51 (Q : Po) (h : Hp) (ls : List Value) (b : Nat) : Ex mX0_nights Q 51 ls (.ref b :: []) h = (gK h b = 1 ∧ Ex mX0_keep (Cont mX0_nights Q 51 ls 54 []) 0 [.ref b, .retAddr 0, .retAddr 0] [] h) := Ex_cg (n := 3) (as := [.ref b]) rfl rfl
theorem rX0_nights_54 (Q : Po) (h : Hp) (l1 l2 : Value) (x : Nat) (st : List Value) : Ex mX0_nights Q 54 [.ref x, l1, l2] st h = Ex mX0_nights Q 55 [.ref x, l1, l2] (.ref x :: st) h := Ex_nx rfl rfl
theorem rX0_nights_55 (Q : Po) (h : Hp) (ls : List Value) (st : List Value) (a : Nat) : Ex mX0_nights Q 55 ls (.ref a :: st) h = (gK h a ∈ ([1] : List Nat) ∧ Ex mX0_nights Q 58 ls (gF h 11 a :: st) h) := Ex_gd rfl rfl
theorem rX0_nights_58 (Q : Po) (h : Hp) (ls : List Value) (b : Nat) : Ex mX0_nights Q 58 ls (.ref b :: []) h = (gK h b = 2 ∧ Ex mX1_pass (Cont mX0_nights Q 58 ls 61 []) 0 [.ref b, .retAddr 0] [] h) := Ex_cg (n := 2) (as := [.ref b]) rfl rfl
theorem rX0_nights_61 (Q : Po) (h : Hp) (ls : List Value) (st : List Value) (x : Nat) : Ex mX0_nights Q 61 ls (.ref x :: st) h = Ex mX0_nights Q 62 ls st h := Ex_nx rfl rfl
theorem rX0_nights_62 (Q : Po) (h : Hp) (l0 l1 : Value) (x : Int32) (st : List Value) : Ex mX0_nights Q 62 [l0, l1, .int x] st h = Ex mX0_nights Q 65 [l0, l1, .int (x + 1)] st h := Ex_nx rfl rfl
theorem rX0_nights_65 (Q : Po) (h : Hp) (ls : List Value) (st : List Value) : Ex mX0_nights Q 65 ls st h = Ex mX0_nights Q 45 ls st h := Ex_nx rfl rfl
theorem rX0_nights_68 (Q : Po) (h : Hp) (l1 l2 : Value) (x : Nat) (st : List Value) : Ex mX0_nights Q 68 [.ref x, l1, l2] st h = Ex mX0_nights Q 69 [.ref x, l1, l2] (.ref x :: st) h := Ex_nx rfl rfl
theorem rX0_nights_69 (Q : Po) (h : Hp) (ls : List Value) (st : List Value) (a : Nat) : Ex mX0_nights Q 69 ls (.ref a :: st) h = (gK h a ∈ ([1] : List Nat) ∧ Ex mX0_nights Q 72 ls (gF h 11 a :: st) h) := Ex_gd rfl rfl
theorem rX0_nights_72 (Q : Po) (h : Hp) (l1 l2 : Value) (x : Nat) (st : List Value) : Ex mX0_nights Q 72 [.ref x, l1, l2] st h = Ex mX0_nights Q 73 [.ref x, l1, l2] (.ref x :: st) h := Ex_nx rfl rfl
theorem rX0_nights_73 (Q : Po) (h : Hp) (ls : List Value) (s0 : Value) (b : Nat) : Ex mX0_nights Q 73 ls (.ref b :: [s0]) h = (gK h b = 1 ∧ Ex mX0_allBooks (Cont mX0_nights Q 73 ls 76 [s0]) 0 [.ref b] [] h) := Ex_cg (n := 1) (as := [.ref b]) rfl rfl
theorem rX0_nights_76 (Q : Po) (h : Hp) (ls : List Value) (a0 : Int32) (b : Nat) : Ex mX0_nights Q 76 ls (.int a0 :: .ref b :: []) h = (gK h b = 2 ∧ Ex mX1_left (Cont mX0_nights Q 76 ls 79 []) 0 [.ref b, .int a0, .retAddr 0, .retAddr 0] [] h) := Ex_cg (n := 4) (as := [.ref b, .int a0]) rfl rfl
theorem rX0_nights_79 (Q : Po) (h : Hp) (ls : List Value) (x : Int32) : Ex mX0_nights Q 79 ls [.int x] h = Q (.inl (some (.int x))) h := Ex_rt rfl rfl
theorem rX0_nights_t (Q : Po) (h : Hp) (pc n a : Nat) (ls st : List Value) : Cont mX0_nights Q pc ls n st (.inr a) h = Q (.inr a) h := rfl
/-! FishReaders.isBook(I)Z -/
def mX0_isBook : Cd := ([(0, .inl (i_iload 1 1)),
  (1, .inl (i_i2l 2)),
  (2, .inl (i_push (.long 0) 3)),
  (3, .inl (i_aload 0 4)),
  (4, .inl (i_getf 11 [1] 7)),
  (7, .inl (i_getf 36 [2] 10)),
  (10, .inl (i_push (.int 1) 11)),
  (11, .inl (i_bin (fun x y => x - y) 12)),
  (12, .inl (i_i2l 13)),
  (13, .inr (c_S 3 16 6 (Mt mX0_isIn 6))),
  (16, .inl i_zret)], noH)
theorem rX0_isBook_0 (Q : Po) (h : Hp) (l0 : Value) (x : Int32) (st : List Value) : Ex mX0_isBook Q 0 [l0, .int x] st h = Ex mX0_isBook Q 1 [l0, .int x] (.int x :: st) h := Ex_nx rfl rfl
theorem rX0_isBook_1 (Q : Po) (h : Hp) (ls : List Value) (st : List Value) (x : Int32) : Ex mX0_isBook Q 1 ls (.int x :: st) h = Ex mX0_isBook Q 2 ls (.long x.toInt64 :: st) h := Ex_nx rfl rfl
theorem rX0_isBook_2 (Q : Po) (h : Hp) (ls : List Value) (st : List Value) : Ex mX0_isBook Q 2 ls st h = Ex mX0_isBook Q 3 ls (.long 0 :: st) h := Ex_nx rfl rfl
theorem rX0_isBook_3 (Q : Po) (h : Hp) (l1 : Value) (x : Nat) (st : List Value) : Ex mX0_isBook Q 3 [.ref x, l1] st h = Ex mX0_isBook Q 4 [.ref x, l1] (.ref x :: st) h := Ex_nx rfl rfl
theorem rX0_isBook_4 (Q : Po) (h : Hp) (ls : List Value) (st : List Value) (a : Nat) : Ex mX0_isBook Q 4 ls (.ref a :: st) h = (gK h a ∈ ([1] : List Nat) ∧ Ex mX0_isBook Q 7 ls (gF h 11 a :: st) h) := Ex_gd rfl rfl
theorem rX0_isBook_7 (Q : Po) (h : Hp) (ls : List Value) (st : List Value) (a : Nat) : Ex mX0_isBook Q 7 ls (.ref a :: st) h = (gK h a ∈ ([2] : List Nat) ∧ Ex mX0_isBook Q 10 ls (gF h 36 a :: st) h) := Ex_gd rfl rfl
theorem rX0_isBook_10 (Q : Po) (h : Hp) (ls : List Value) (st : List Value) : Ex mX0_isBook Q 10 ls st h = Ex mX0_isBook Q 11 ls (.int 1 :: st) h := Ex_nx rfl rfl
theorem rX0_isBook_11 (Q : Po) (h : Hp) (ls : List Value) (st : List Value) (x y : Int32) : Ex mX0_isBook Q 11 ls (.int y :: .int x :: st) h = Ex mX0_isBook Q 12 ls (.int (x - y) :: st) h := Ex_nx rfl rfl
theorem rX0_isBook_12 (Q : Po) (h : Hp) (ls : List Value) (st : List Value) (x : Int32) : Ex mX0_isBook Q 12 ls (.int x :: st) h = Ex mX0_isBook Q 13 ls (.long x.toInt64 :: st) h := Ex_nx rfl rfl
theorem rX0_isBook_13 (Q : Po) (h : Hp) (ls : List Value) (a0 : Int64) (a1 : Int64) (a2 : Int64) : Ex mX0_isBook Q 13 ls (.long a2 :: .long a1 :: .long a0 :: []) h = Ex mX0_isIn (Cont mX0_isBook Q 13 ls 16 []) 0 [.long a0, .retAddr 1, .long a1, .retAddr 1, .long a2, .retAddr 1] [] h := Ex_cl (n := 6) (as := [.long a0, .long a1, .long a2]) rfl rfl
theorem rX0_isBook_16 (Q : Po) (h : Hp) (ls : List Value) (x : Int32) : Ex mX0_isBook Q 16 ls [.int x] h = ((x = 0 ∨ x = 1) ∧ Q (.inl (some (.int x))) h) := Ex_rg rfl rfl
theorem rX0_isBook_t (Q : Po) (h : Hp) (pc n a : Nat) (ls st : List Value) : Cont mX0_isBook Q pc ls n st (.inr a) h = Q (.inr a) h := rfl
/-! FishReaders.isHalf(I)Z -/
def mX0_isHalf : Cd := ([(0, .inl (i_iload 0 1)),
  (1, .inl (i_i2l 2)),
  (2, .inl (i_push (.long 0) 3)),
  (3, .inl (i_push (.long 1) 4)),
  (4, .inr (c_S 3 7 6 (Mt mX0_isIn 6))),
  (7, .inl i_zret)], noH)
theorem rX0_isHalf_0 (Q : Po) (h : Hp) (x : Int32) (st : List Value) : Ex mX0_isHalf Q 0 [.int x] st h = Ex mX0_isHalf Q 1 [.int x] (.int x :: st) h := Ex_nx rfl rfl
theorem rX0_isHalf_1 (Q : Po) (h : Hp) (ls : List Value) (st : List Value) (x : Int32) : Ex mX0_isHalf Q 1 ls (.int x :: st) h = Ex mX0_isHalf Q 2 ls (.long x.toInt64 :: st) h := Ex_nx rfl rfl
theorem rX0_isHalf_2 (Q : Po) (h : Hp) (ls : List Value) (st : List Value) : Ex mX0_isHalf Q 2 ls st h = Ex mX0_isHalf Q 3 ls (.long 0 :: st) h := Ex_nx rfl rfl
theorem rX0_isHalf_3 (Q : Po) (h : Hp) (ls : List Value) (st : List Value) : Ex mX0_isHalf Q 3 ls st h = Ex mX0_isHalf Q 4 ls (.long 1 :: st) h := Ex_nx rfl rfl
theorem rX0_isHalf_4 (Q : Po) (h : Hp) (ls : List Value) (a0 : Int64) (a1 : Int64) (a2 : Int64) : Ex mX0_isHalf Q 4 ls (.long a2 :: .long a1 :: .long a0 :: []) h = Ex mX0_isIn (Cont mX0_isHalf Q 4 ls 7 []) 0 [.long a0, .retAddr 1, .long a1, .retAddr 1, .long a2, .retAddr 1] [] h := Ex_cl (n := 6) (as := [.long a0, .long a1, .long a2]) rfl rfl
theorem rX0_isHalf_7 (Q : Po) (h : Hp) (ls : List Value) (x : Int32) : Ex mX0_isHalf Q 7 ls [.int x] h = ((x = 0 ∨ x = 1) ∧ Q (.inl (some (.int x))) h) := Ex_rg rfl rfl
theorem rX0_isHalf_t (Q : Po) (h : Hp) (pc n a : Nat) (ls st : List Value) : Cont mX0_isHalf Q pc ls n st (.inr a) h = Q (.inr a) h := rfl
/-! java/lang/Integer.bitCount(I)I -/
def mJ16_bitCount : Cd := ([(0, .inl (i_iload 0 1)),
  (1, .inl (i_iload 0 2)),
  (2, .inl (i_push (.int 1) 3)),
  (3, .inl (i_bin (fun x y => (x.toUInt32 >>> (y.toUInt32 &&& Int32.toUInt32 31)).toInt32) 4)),
  (4, .inl (i_push (.int 1431655765) 7)),
  (7, .inl (i_bin (fun x y => x &&& y) 8)),
  (8, .inl (i_bin (fun x y => x - y) 9)),
  (9, .inl (i_istore 0 10)),
  (10, .inl (i_iload 0 11)),
  (11, .inl (i_push (.int 858993459) 14)),
  (14, .inl (i_bin (fun x y => x &&& y) 15)),
  (15, .inl (i_iload 0 16)),
  (16, .inl (i_push (.int 2) 17)),
  (17, .inl (i_bin (fun x y => (x.toUInt32 >>> (y.toUInt32 &&& Int32.toUInt32 31)).toInt32) 18)),
  (18, .inl (i_push (.int 858993459) 21)),
  (21, .inl (i_bin (fun x y => x &&& y) 22)),
  (22, .inl (i_bin (fun x y => x + y) 23)),
  (23, .inl (i_istore 0 24)),
  (24, .inl (i_iload 0 25)),
  (25, .inl (i_iload 0 26)),
  (26, .inl (i_push (.int 4) 27)),
  (27, .inl (i_bin (fun x y => (x.toUInt32 >>> (y.toUInt32 &&& Int32.toUInt32 31)).toInt32) 28)),
  (28, .inl (i_bin (fun x y => x + y) 29)),
  (29, .inl (i_push (.int 252645135) 32)),
  (32, .inl (i_bin (fun x y => x &&& y) 33)),
  (33, .inl (i_istore 0 34)),
  (34, .inl (i_iload 0 35)),
  (35, .inl (i_iload 0 36)),
  (36, .inl (i_push (.int 8) 38)),
  (38, .inl (i_bin (fun x y => (x.toUInt32 >>> (y.toUInt32 &&& Int32.toUInt32 31)).toInt32) 39)),
  (39, .inl (i_bin (fun x y => x + y) 40)),
  (40, .inl (i_istore 0 41)),
  (41, .inl (i_iload 0 42)),
  (42, .inl (i_iload 0 43)),
  (43, .inl (i_push (.int 16) 45)),
  (45, .inl (i_bin (fun x y => (x.toUInt32 >>> (y.toUInt32 &&& Int32.toUInt32 31)).toInt32) 46)),
  (46, .inl (i_bin (fun x y => x + y) 47)),
  (47, .inl (i_istore 0 48)),
  (48, .inl (i_iload 0 49)),
  (49, .inl (i_push (.int 63) 51)),
  (51, .inl (i_bin (fun x y => x &&& y) 52)),
  (52, .inl i_iret)], noH)
theorem rJ16_bitCount_0 (Q : Po) (h : Hp) (x : Int32) (st : List Value) : Ex mJ16_bitCount Q 0 [.int x] st h = Ex mJ16_bitCount Q 1 [.int x] (.int x :: st) h := Ex_nx rfl rfl
theorem rJ16_bitCount_1 (Q : Po) (h : Hp) (x : Int32) (st : List Value) : Ex mJ16_bitCount Q 1 [.int x] st h = Ex mJ16_bitCount Q 2 [.int x] (.int x :: st) h := Ex_nx rfl rfl
theorem rJ16_bitCount_2 (Q : Po) (h : Hp) (ls : List Value) (st : List Value) : Ex mJ16_bitCount Q 2 ls st h = Ex mJ16_bitCount Q 3 ls (.int 1 :: st) h := Ex_nx rfl rfl
theorem rJ16_bitCount_3 (Q : Po) (h : Hp) (ls : List Value) (st : List Value) (x y : Int32) : Ex mJ16_bitCount Q 3 ls (.int y :: .int x :: st) h = Ex mJ16_bitCount Q 4 ls (.int ((x.toUInt32 >>> (y.toUInt32 &&& Int32.toUInt32 31)).toInt32) :: st) h := Ex_nx rfl rfl
theorem rJ16_bitCount_4 (Q : Po) (h : Hp) (ls : List Value) (st : List Value) : Ex mJ16_bitCount Q 4 ls st h = Ex mJ16_bitCount Q 7 ls (.int 1431655765 :: st) h := Ex_nx rfl rfl
theorem rJ16_bitCount_7 (Q : Po) (h : Hp) (ls : List Value) (st : List Value) (x y : Int32) : Ex mJ16_bitCount Q 7 ls (.int y :: .int x :: st) h = Ex mJ16_bitCount Q 8 ls (.int (x &&& y) :: st) h := Ex_nx rfl rfl
theorem rJ16_bitCount_8 (Q : Po) (h : Hp) (ls : List Value) (st : List Value) (x y : Int32) : Ex mJ16_bitCount Q 8 ls (.int y :: .int x :: st) h = Ex mJ16_bitCount Q 9 ls (.int (x - y) :: st) h := Ex_nx rfl rfl
theorem rJ16_bitCount_9 (Q : Po) (h : Hp) (l0 : Value) (x : Int32) (st : List Value) : Ex mJ16_bitCount Q 9 [l0] (.int x :: st) h = Ex mJ16_bitCount Q 10 [.int x] st h := Ex_nx rfl rfl
theorem rJ16_bitCount_10 (Q : Po) (h : Hp) (x : Int32) (st : List Value) : Ex mJ16_bitCount Q 10 [.int x] st h = Ex mJ16_bitCount Q 11 [.int x] (.int x :: st) h := Ex_nx rfl rfl
theorem rJ16_bitCount_11 (Q : Po) (h : Hp) (ls : List Value) (st : List Value) : Ex mJ16_bitCount Q 11 ls st h = Ex mJ16_bitCount Q 14 ls (.int 858993459 :: st) h := Ex_nx rfl rfl
theorem rJ16_bitCount_14 (Q : Po) (h : Hp) (ls : List Value) (st : List Value) (x y : Int32) : Ex mJ16_bitCount Q 14 ls (.int y :: .int x :: st) h = Ex mJ16_bitCount Q 15 ls (.int (x &&& y) :: st) h := Ex_nx rfl rfl
theorem rJ16_bitCount_15 (Q : Po) (h : Hp) (x : Int32) (st : List Value) : Ex mJ16_bitCount Q 15 [.int x] st h = Ex mJ16_bitCount Q 16 [.int x] (.int x :: st) h := Ex_nx rfl rfl
theorem rJ16_bitCount_16 (Q : Po) (h : Hp) (ls : List Value) (st : List Value) : Ex mJ16_bitCount Q 16 ls st h = Ex mJ16_bitCount Q 17 ls (.int 2 :: st) h := Ex_nx rfl rfl
theorem rJ16_bitCount_17 (Q : Po) (h : Hp) (ls : List Value) (st : List Value) (x y : Int32) : Ex mJ16_bitCount Q 17 ls (.int y :: .int x :: st) h = Ex mJ16_bitCount Q 18 ls (.int ((x.toUInt32 >>> (y.toUInt32 &&& Int32.toUInt32 31)).toInt32) :: st) h := Ex_nx rfl rfl
theorem rJ16_bitCount_18 (Q : Po) (h : Hp) (ls : List Value) (st : List Value) : Ex mJ16_bitCount Q 18 ls st h = Ex mJ16_bitCount Q 21 ls (.int 858993459 :: st) h := Ex_nx rfl rfl
theorem rJ16_bitCount_21 (Q : Po) (h : Hp) (ls : List Value) (st : List Value) (x y : Int32) : Ex mJ16_bitCount Q 21 ls (.int y :: .int x :: st) h = Ex mJ16_bitCount Q 22 ls (.int (x &&& y) :: st) h := Ex_nx rfl rfl
theorem rJ16_bitCount_22 (Q : Po) (h : Hp) (ls : List Value) (st : List Value) (x y : Int32) : Ex mJ16_bitCount Q 22 ls (.int y :: .int x :: st) h = Ex mJ16_bitCount Q 23 ls (.int (x + y) :: st) h := Ex_nx rfl rfl
theorem rJ16_bitCount_23 (Q : Po) (h : Hp) (l0 : Value) (x : Int32) (st : List Value) : Ex mJ16_bitCount Q 23 [l0] (.int x :: st) h = Ex mJ16_bitCount Q 24 [.int x] st h := Ex_nx rfl rfl
theorem rJ16_bitCount_24 (Q : Po) (h : Hp) (x : Int32) (st : List Value) : Ex mJ16_bitCount Q 24 [.int x] st h = Ex mJ16_bitCount Q 25 [.int x] (.int x :: st) h := Ex_nx rfl rfl
theorem rJ16_bitCount_25 (Q : Po) (h : Hp) (x : Int32) (st : List Value) : Ex mJ16_bitCount Q 25 [.int x] st h = Ex mJ16_bitCount Q 26 [.int x] (.int x :: st) h := Ex_nx rfl rfl
theorem rJ16_bitCount_26 (Q : Po) (h : Hp) (ls : List Value) (st : List Value) : Ex mJ16_bitCount Q 26 ls st h = Ex mJ16_bitCount Q 27 ls (.int 4 :: st) h := Ex_nx rfl rfl
theorem rJ16_bitCount_27 (Q : Po) (h : Hp) (ls : List Value) (st : List Value) (x y : Int32) : Ex mJ16_bitCount Q 27 ls (.int y :: .int x :: st) h = Ex mJ16_bitCount Q 28 ls (.int ((x.toUInt32 >>> (y.toUInt32 &&& Int32.toUInt32 31)).toInt32) :: st) h := Ex_nx rfl rfl
theorem rJ16_bitCount_28 (Q : Po) (h : Hp) (ls : List Value) (st : List Value) (x y : Int32) : Ex mJ16_bitCount Q 28 ls (.int y :: .int x :: st) h = Ex mJ16_bitCount Q 29 ls (.int (x + y) :: st) h := Ex_nx rfl rfl
theorem rJ16_bitCount_29 (Q : Po) (h : Hp) (ls : List Value) (st : List Value) : Ex mJ16_bitCount Q 29 ls st h = Ex mJ16_bitCount Q 32 ls (.int 252645135 :: st) h := Ex_nx rfl rfl
theorem rJ16_bitCount_32 (Q : Po) (h : Hp) (ls : List Value) (st : List Value) (x y : Int32) : Ex mJ16_bitCount Q 32 ls (.int y :: .int x :: st) h = Ex mJ16_bitCount Q 33 ls (.int (x &&& y) :: st) h := Ex_nx rfl rfl
theorem rJ16_bitCount_33 (Q : Po) (h : Hp) (l0 : Value) (x : Int32) (st : List Value) : Ex mJ16_bitCount Q 33 [l0] (.int x :: st) h = Ex mJ16_bitCount Q 34 [.int x] st h := Ex_nx rfl rfl
theorem rJ16_bitCount_34 (Q : Po) (h : Hp) (x : Int32) (st : List Value) : Ex mJ16_bitCount Q 34 [.int x] st h = Ex mJ16_bitCount Q 35 [.int x] (.int x :: st) h := Ex_nx rfl rfl
theorem rJ16_bitCount_35 (Q : Po) (h : Hp) (x : Int32) (st : List Value) : Ex mJ16_bitCount Q 35 [.int x] st h = Ex mJ16_bitCount Q 36 [.int x] (.int x :: st) h := Ex_nx rfl rfl
theorem rJ16_bitCount_36 (Q : Po) (h : Hp) (ls : List Value) (st : List Value) : Ex mJ16_bitCount Q 36 ls st h = Ex mJ16_bitCount Q 38 ls (.int 8 :: st) h := Ex_nx rfl rfl
theorem rJ16_bitCount_38 (Q : Po) (h : Hp) (ls : List Value) (st : List Value) (x y : Int32) : Ex mJ16_bitCount Q 38 ls (.int y :: .int x :: st) h = Ex mJ16_bitCount Q 39 ls (.int ((x.toUInt32 >>> (y.toUInt32 &&& Int32.toUInt32 31)).toInt32) :: st) h := Ex_nx rfl rfl
theorem rJ16_bitCount_39 (Q : Po) (h : Hp) (ls : List Value) (st : List Value) (x y : Int32) : Ex mJ16_bitCount Q 39 ls (.int y :: .int x :: st) h = Ex mJ16_bitCount Q 40 ls (.int (x + y) :: st) h := Ex_nx rfl rfl
theorem rJ16_bitCount_40 (Q : Po) (h : Hp) (l0 : Value) (x : Int32) (st : List Value) : Ex mJ16_bitCount Q 40 [l0] (.int x :: st) h = Ex mJ16_bitCount Q 41 [.int x] st h := Ex_nx rfl rfl
theorem rJ16_bitCount_41 (Q : Po) (h : Hp) (x : Int32) (st : List Value) : Ex mJ16_bitCount Q 41 [.int x] st h = Ex mJ16_bitCount Q 42 [.int x] (.int x :: st) h := Ex_nx rfl rfl
theorem rJ16_bitCount_42 (Q : Po) (h : Hp) (x : Int32) (st : List Value) : Ex mJ16_bitCount Q 42 [.int x] st h = Ex mJ16_bitCount Q 43 [.int x] (.int x :: st) h := Ex_nx rfl rfl
theorem rJ16_bitCount_43 (Q : Po) (h : Hp) (ls : List Value) (st : List Value) : Ex mJ16_bitCount Q 43 ls st h = Ex mJ16_bitCount Q 45 ls (.int 16 :: st) h := Ex_nx rfl rfl
theorem rJ16_bitCount_45 (Q : Po) (h : Hp) (ls : List Value) (st : List Value) (x y : Int32) : Ex mJ16_bitCount Q 45 ls (.int y :: .int x :: st) h = Ex mJ16_bitCount Q 46 ls (.int ((x.toUInt32 >>> (y.toUInt32 &&& Int32.toUInt32 31)).toInt32) :: st) h := Ex_nx rfl rfl
theorem rJ16_bitCount_46 (Q : Po) (h : Hp) (ls : List Value) (st : List Value) (x y : Int32) : Ex mJ16_bitCount Q 46 ls (.int y :: .int x :: st) h = Ex mJ16_bitCount Q 47 ls (.int (x + y) :: st) h := Ex_nx rfl rfl
theorem rJ16_bitCount_47 (Q : Po) (h : Hp) (l0 : Value) (x : Int32) (st : List Value) : Ex mJ16_bitCount Q 47 [l0] (.int x :: st) h = Ex mJ16_bitCount Q 48 [.int x] st h := Ex_nx rfl rfl
theorem rJ16_bitCount_48 (Q : Po) (h : Hp) (x : Int32) (st : List Value) : Ex mJ16_bitCount Q 48 [.int x] st h = Ex mJ16_bitCount Q 49 [.int x] (.int x :: st) h := Ex_nx rfl rfl
theorem rJ16_bitCount_49 (Q : Po) (h : Hp) (ls : List Value) (st : List Value) : Ex mJ16_bitCount Q 49 ls st h = Ex mJ16_bitCount Q 51 ls (.int 63 :: st) h := Ex_nx rfl rfl
theorem rJ16_bitCount_51 (Q : Po) (h : Hp) (ls : List Value) (st : List Value) (x y : Int32) : Ex mJ16_bitCount Q 51 ls (.int y :: .int x :: st) h = Ex mJ16_bitCount Q 52 ls (.int (x &&& y) :: st) h := Ex_nx rfl rfl
theorem rJ16_bitCount_52 (Q : Po) (h : Hp) (ls : List Value) (x : Int32) : Ex mJ16_bitCount Q 52 ls [.int x] h = Q (.inl (some (.int x))) h := Ex_rt rfl rfl
theorem rJ16_bitCount_t (Q : Po) (h : Hp) (pc n a : Nat) (ls st : List Value) : Cont mJ16_bitCount Q pc ls n st (.inr a) h = Q (.inr a) h := rfl
/-! FishReaders.light(II)I -/
def mX0_light : Cd := ([(0, .inl (i_aload 0 1)),
  (1, .inl (i_iload 1 2)),
  (2, .inr (c_V 1 5 2 1 (Mt mX0_isBook 2))),
  (5, .inl (i_if (fun x => x = 0) 15 8)),
  (8, .inl (i_iload 2 9)),
  (9, .inr (c_S 1 12 1 (Mt mX0_isHalf 1))),
  (12, .inl (i_if (fun x => ¬ x = 0) 18 15)),
  (15, .inl (i_push (.int (-1000001)) 17)),
  (17, .inl i_iret),
  (18, .inl (i_aload 0 19)),
  (19, .inl (i_getf 11 [1] 22)),
  (22, .inl (i_getf 46 [2] 25)),
  (25, .inl (i_iload 1 26)),
  (26, .inl (i_bin (fun x y => x >>> (y &&& 31)) 27)),
  (27, .inl (i_push (.int 1) 28)),
  (28, .inl (i_bin (fun x y => x &&& y) 29)),
  (29, .inl (i_iload 2 30)),
  (30, .inl (i_icmp (fun x y => x = y) 58 33)),
  (33, .inl (i_iload 2 34)),
  (34, .inl (i_push (.int 1) 35)),
  (35, .inl (i_icmp (fun x y => ¬ x = y) 61 38)),
  (38, .inl (i_aload 0 39)),
  (39, .inl (i_getf 11 [1] 42)),
  (42, .inl (i_getf 46 [2] 45)),
  (45, .inr (c_S 1 48 1 (Mt mJ16_bitCount 1))),
  (48, .inl (i_aload 0 49)),
  (49, .inl (i_getf 11 [1] 52)),
  (52, .inl (i_getf 34 [2] 55)),
  (55, .inl (i_icmp (fun x y => x < y) 61 58)),
  (58, .inl (i_push (.int (-1000002)) 60)),
  (60, .inl i_iret),
  (61, .inl (i_aload 0 62)),
  (62, .inr (c_V 0 65 3 1 (Mt mX0_keep 3))),
  (65, .inl (i_aload 0 66)),
  (66, .inl (i_getf 11 [1] 69)),
  (69, .inl (i_dup 70)),
  (70, .inl (i_getf 46 [2] 73)),
  (73, .inl (i_push (.int 1) 74)),
  (74, .inl (i_iload 1 75)),
  (75, .inl (i_bin (fun x y => x <<< (y &&& 31)) 76)),
  (76, .inl (i_bin (fun x y => x ^^^ y) 77)),
  (77, .inl (i_putI 46 [2] 80)),
  (80, .inl (i_aload 0 81)),
  (81, .inl (i_getf 11 [1] 84)),
  (84, .inl (i_getf 46 [2] 87)),
  (87, .inl i_iret)], noH)
theorem rX0_light_0 (Q : Po) (h : Hp) (l1 l2 : Value) (x : Nat) (st : List Value) : Ex mX0_light Q 0 [.ref x, l1, l2] st h = Ex mX0_light Q 1 [.ref x, l1, l2] (.ref x :: st) h := Ex_nx rfl rfl
theorem rX0_light_1 (Q : Po) (h : Hp) (l0 l2 : Value) (x : Int32) (st : List Value) : Ex mX0_light Q 1 [l0, .int x, l2] st h = Ex mX0_light Q 2 [l0, .int x, l2] (.int x :: st) h := Ex_nx rfl rfl
theorem rX0_light_2 (Q : Po) (h : Hp) (ls : List Value) (a0 : Int32) (b : Nat) : Ex mX0_light Q 2 ls (.int a0 :: .ref b :: []) h = (gK h b = 1 ∧ Ex mX0_isBook (Cont mX0_light Q 2 ls 5 []) 0 [.ref b, .int a0] [] h) := Ex_cg (n := 2) (as := [.ref b, .int a0]) rfl rfl
theorem rX0_light_5 (Q : Po) (h : Hp) (ls : List Value) (st : List Value) (x : Int32) : Ex mX0_light Q 5 ls (.int x :: st) h = if x = 0 then Ex mX0_light Q 15 ls st h else Ex mX0_light Q 8 ls st h := Ex_br rfl rfl
theorem rX0_light_8 (Q : Po) (h : Hp) (l0 l1 : Value) (x : Int32) (st : List Value) : Ex mX0_light Q 8 [l0, l1, .int x] st h = Ex mX0_light Q 9 [l0, l1, .int x] (.int x :: st) h := Ex_nx rfl rfl
theorem rX0_light_9 (Q : Po) (h : Hp) (ls : List Value) (a0 : Int32) : Ex mX0_light Q 9 ls (.int a0 :: []) h = Ex mX0_isHalf (Cont mX0_light Q 9 ls 12 []) 0 [.int a0] [] h := Ex_cl (n := 1) (as := [.int a0]) rfl rfl
theorem rX0_light_12 (Q : Po) (h : Hp) (ls : List Value) (st : List Value) (x : Int32) : Ex mX0_light Q 12 ls (.int x :: st) h = if ¬ x = 0 then Ex mX0_light Q 18 ls st h else Ex mX0_light Q 15 ls st h := Ex_br rfl rfl
theorem rX0_light_15 (Q : Po) (h : Hp) (ls : List Value) (st : List Value) : Ex mX0_light Q 15 ls st h = Ex mX0_light Q 17 ls (.int (-1000001) :: st) h := Ex_nx rfl rfl
theorem rX0_light_17 (Q : Po) (h : Hp) (ls : List Value) (x : Int32) : Ex mX0_light Q 17 ls [.int x] h = Q (.inl (some (.int x))) h := Ex_rt rfl rfl
theorem rX0_light_18 (Q : Po) (h : Hp) (l1 l2 : Value) (x : Nat) (st : List Value) : Ex mX0_light Q 18 [.ref x, l1, l2] st h = Ex mX0_light Q 19 [.ref x, l1, l2] (.ref x :: st) h := Ex_nx rfl rfl
theorem rX0_light_19 (Q : Po) (h : Hp) (ls : List Value) (st : List Value) (a : Nat) : Ex mX0_light Q 19 ls (.ref a :: st) h = (gK h a ∈ ([1] : List Nat) ∧ Ex mX0_light Q 22 ls (gF h 11 a :: st) h) := Ex_gd rfl rfl
theorem rX0_light_22 (Q : Po) (h : Hp) (ls : List Value) (st : List Value) (a : Nat) : Ex mX0_light Q 22 ls (.ref a :: st) h = (gK h a ∈ ([2] : List Nat) ∧ Ex mX0_light Q 25 ls (gF h 46 a :: st) h) := Ex_gd rfl rfl
theorem rX0_light_25 (Q : Po) (h : Hp) (l0 l2 : Value) (x : Int32) (st : List Value) : Ex mX0_light Q 25 [l0, .int x, l2] st h = Ex mX0_light Q 26 [l0, .int x, l2] (.int x :: st) h := Ex_nx rfl rfl
theorem rX0_light_26 (Q : Po) (h : Hp) (ls : List Value) (st : List Value) (x y : Int32) : Ex mX0_light Q 26 ls (.int y :: .int x :: st) h = Ex mX0_light Q 27 ls (.int (x >>> (y &&& 31)) :: st) h := Ex_nx rfl rfl
theorem rX0_light_27 (Q : Po) (h : Hp) (ls : List Value) (st : List Value) : Ex mX0_light Q 27 ls st h = Ex mX0_light Q 28 ls (.int 1 :: st) h := Ex_nx rfl rfl
theorem rX0_light_28 (Q : Po) (h : Hp) (ls : List Value) (st : List Value) (x y : Int32) : Ex mX0_light Q 28 ls (.int y :: .int x :: st) h = Ex mX0_light Q 29 ls (.int (x &&& y) :: st) h := Ex_nx rfl rfl
theorem rX0_light_29 (Q : Po) (h : Hp) (l0 l1 : Value) (x : Int32) (st : List Value) : Ex mX0_light Q 29 [l0, l1, .int x] st h = Ex mX0_light Q 30 [l0, l1, .int x] (.int x :: st) h := Ex_nx rfl rfl
theorem rX0_light_30 (Q : Po) (h : Hp) (ls : List Value) (st : List Value) (x y : Int32) : Ex mX0_light Q 30 ls (.int y :: .int x :: st) h = if x = y then Ex mX0_light Q 58 ls st h else Ex mX0_light Q 33 ls st h := Ex_br rfl rfl
theorem rX0_light_33 (Q : Po) (h : Hp) (l0 l1 : Value) (x : Int32) (st : List Value) : Ex mX0_light Q 33 [l0, l1, .int x] st h = Ex mX0_light Q 34 [l0, l1, .int x] (.int x :: st) h := Ex_nx rfl rfl
theorem rX0_light_34 (Q : Po) (h : Hp) (ls : List Value) (st : List Value) : Ex mX0_light Q 34 ls st h = Ex mX0_light Q 35 ls (.int 1 :: st) h := Ex_nx rfl rfl
theorem rX0_light_35 (Q : Po) (h : Hp) (ls : List Value) (st : List Value) (x y : Int32) : Ex mX0_light Q 35 ls (.int y :: .int x :: st) h = if ¬ x = y then Ex mX0_light Q 61 ls st h else Ex mX0_light Q 38 ls st h := Ex_br rfl rfl
theorem rX0_light_38 (Q : Po) (h : Hp) (l1 l2 : Value) (x : Nat) (st : List Value) : Ex mX0_light Q 38 [.ref x, l1, l2] st h = Ex mX0_light Q 39 [.ref x, l1, l2] (.ref x :: st) h := Ex_nx rfl rfl
theorem rX0_light_39 (Q : Po) (h : Hp) (ls : List Value) (st : List Value) (a : Nat) : Ex mX0_light Q 39 ls (.ref a :: st) h = (gK h a ∈ ([1] : List Nat) ∧ Ex mX0_light Q 42 ls (gF h 11 a :: st) h) := Ex_gd rfl rfl
theorem rX0_light_42 (Q : Po) (h : Hp) (ls : List Value) (st : List Value) (a : Nat) : Ex mX0_light Q 42 ls (.ref a :: st) h = (gK h a ∈ ([2] : List Nat) ∧ Ex mX0_light Q 45 ls (gF h 46 a :: st) h) := Ex_gd rfl rfl
theorem rX0_light_45 (Q : Po) (h : Hp) (ls : List Value) (a0 : Int32) : Ex mX0_light Q 45 ls (.int a0 :: []) h = Ex mJ16_bitCount (Cont mX0_light Q 45 ls 48 []) 0 [.int a0] [] h := Ex_cl (n := 1) (as := [.int a0]) rfl rfl
theorem rX0_light_48 (Q : Po) (h : Hp) (l1 l2 : Value) (x : Nat) (st : List Value) : Ex mX0_light Q 48 [.ref x, l1, l2] st h = Ex mX0_light Q 49 [.ref x, l1, l2] (.ref x :: st) h := Ex_nx rfl rfl
theorem rX0_light_49 (Q : Po) (h : Hp) (ls : List Value) (st : List Value) (a : Nat) : Ex mX0_light Q 49 ls (.ref a :: st) h = (gK h a ∈ ([1] : List Nat) ∧ Ex mX0_light Q 52 ls (gF h 11 a :: st) h) := Ex_gd rfl rfl
theorem rX0_light_52 (Q : Po) (h : Hp) (ls : List Value) (st : List Value) (a : Nat) : Ex mX0_light Q 52 ls (.ref a :: st) h = (gK h a ∈ ([2] : List Nat) ∧ Ex mX0_light Q 55 ls (gF h 34 a :: st) h) := Ex_gd rfl rfl
theorem rX0_light_55 (Q : Po) (h : Hp) (ls : List Value) (st : List Value) (x y : Int32) : Ex mX0_light Q 55 ls (.int y :: .int x :: st) h = if x < y then Ex mX0_light Q 61 ls st h else Ex mX0_light Q 58 ls st h := Ex_br rfl rfl
theorem rX0_light_58 (Q : Po) (h : Hp) (ls : List Value) (st : List Value) : Ex mX0_light Q 58 ls st h = Ex mX0_light Q 60 ls (.int (-1000002) :: st) h := Ex_nx rfl rfl
theorem rX0_light_60 (Q : Po) (h : Hp) (ls : List Value) (x : Int32) : Ex mX0_light Q 60 ls [.int x] h = Q (.inl (some (.int x))) h := Ex_rt rfl rfl
theorem rX0_light_61 (Q : Po) (h : Hp) (l1 l2 : Value) (x : Nat) (st : List Value) : Ex mX0_light Q 61 [.ref x, l1, l2] st h = Ex mX0_light Q 62 [.ref x, l1, l2] (.ref x :: st) h := Ex_nx rfl rfl
theorem rX0_light_62 (Q : Po) (h : Hp) (ls : List Value) (b : Nat) : Ex mX0_light Q 62 ls (.ref b :: []) h = (gK h b = 1 ∧ Ex mX0_keep (Cont mX0_light Q 62 ls 65 []) 0 [.ref b, .retAddr 0, .retAddr 0] [] h) := Ex_cg (n := 3) (as := [.ref b]) rfl rfl
theorem rX0_light_65 (Q : Po) (h : Hp) (l1 l2 : Value) (x : Nat) (st : List Value) : Ex mX0_light Q 65 [.ref x, l1, l2] st h = Ex mX0_light Q 66 [.ref x, l1, l2] (.ref x :: st) h := Ex_nx rfl rfl
theorem rX0_light_66 (Q : Po) (h : Hp) (ls : List Value) (st : List Value) (a : Nat) : Ex mX0_light Q 66 ls (.ref a :: st) h = (gK h a ∈ ([1] : List Nat) ∧ Ex mX0_light Q 69 ls (gF h 11 a :: st) h) := Ex_gd rfl rfl
theorem rX0_light_69 (Q : Po) (h : Hp) (ls : List Value) (st : List Value) (x : Nat) : Ex mX0_light Q 69 ls (.ref x :: st) h = Ex mX0_light Q 70 ls (.ref x :: .ref x :: st) h := Ex_nx rfl rfl
theorem rX0_light_70 (Q : Po) (h : Hp) (ls : List Value) (st : List Value) (a : Nat) : Ex mX0_light Q 70 ls (.ref a :: st) h = (gK h a ∈ ([2] : List Nat) ∧ Ex mX0_light Q 73 ls (gF h 46 a :: st) h) := Ex_gd rfl rfl
theorem rX0_light_73 (Q : Po) (h : Hp) (ls : List Value) (st : List Value) : Ex mX0_light Q 73 ls st h = Ex mX0_light Q 74 ls (.int 1 :: st) h := Ex_nx rfl rfl
theorem rX0_light_74 (Q : Po) (h : Hp) (l0 l2 : Value) (x : Int32) (st : List Value) : Ex mX0_light Q 74 [l0, .int x, l2] st h = Ex mX0_light Q 75 [l0, .int x, l2] (.int x :: st) h := Ex_nx rfl rfl
theorem rX0_light_75 (Q : Po) (h : Hp) (ls : List Value) (st : List Value) (x y : Int32) : Ex mX0_light Q 75 ls (.int y :: .int x :: st) h = Ex mX0_light Q 76 ls (.int (x <<< (y &&& 31)) :: st) h := Ex_nx rfl rfl
theorem rX0_light_76 (Q : Po) (h : Hp) (ls : List Value) (st : List Value) (x y : Int32) : Ex mX0_light Q 76 ls (.int y :: .int x :: st) h = Ex mX0_light Q 77 ls (.int (x ^^^ y) :: st) h := Ex_nx rfl rfl
theorem rX0_light_77 (Q : Po) (h : Hp) (ls : List Value) (st : List Value) (x : Int32) (a : Nat) : Ex mX0_light Q 77 ls (.int x :: .ref a :: st) h = (gK h a ∈ ([2] : List Nat) ∧ Ex mX0_light Q 80 ls st (pF h 46 a (.int x))) := Ex_gd rfl rfl
theorem rX0_light_80 (Q : Po) (h : Hp) (l1 l2 : Value) (x : Nat) (st : List Value) : Ex mX0_light Q 80 [.ref x, l1, l2] st h = Ex mX0_light Q 81 [.ref x, l1, l2] (.ref x :: st) h := Ex_nx rfl rfl
theorem rX0_light_81 (Q : Po) (h : Hp) (ls : List Value) (st : List Value) (a : Nat) : Ex mX0_light Q 81 ls (.ref a :: st) h = (gK h a ∈ ([1] : List Nat) ∧ Ex mX0_light Q 84 ls (gF h 11 a :: st) h) := Ex_gd rfl rfl
theorem rX0_light_84 (Q : Po) (h : Hp) (ls : List Value) (st : List Value) (a : Nat) : Ex mX0_light Q 84 ls (.ref a :: st) h = (gK h a ∈ ([2] : List Nat) ∧ Ex mX0_light Q 87 ls (gF h 46 a :: st) h) := Ex_gd rfl rfl
theorem rX0_light_87 (Q : Po) (h : Hp) (ls : List Value) (x : Int32) : Ex mX0_light Q 87 ls [.int x] h = Q (.inl (some (.int x))) h := Ex_rt rfl rfl
theorem rX0_light_t (Q : Po) (h : Hp) (pc n a : Nat) (ls st : List Value) : Cont mX0_light Q pc ls n st (.inr a) h = Q (.inr a) h := rfl
/-! FishReaders.keepIt(II)I -/
def mX0_keepIt : Cd := ([(0, .inl (i_aload 0 1)),
  (1, .inl (i_iload 1 2)),
  (2, .inr (c_V 1 5 2 1 (Mt mX0_isBook 2))),
  (5, .inl (i_if (fun x => x = 0) 15 8)),
  (8, .inl (i_iload 2 9)),
  (9, .inr (c_S 1 12 1 (Mt mX0_isHalf 1))),
  (12, .inl (i_if (fun x => ¬ x = 0) 18 15)),
  (15, .inl (i_push (.int (-1000001)) 17)),
  (17, .inl i_iret),
  (18, .inl (i_aload 0 19)),
  (19, .inl (i_getf 11 [1] 22)),
  (22, .inl (i_getf 48 [2] 25)),
  (25, .inl (i_iload 1 26)),
  (26, .inl (i_bin (fun x y => x >>> (y &&& 31)) 27)),
  (27, .inl (i_push (.int 1) 28)),
  (28, .inl (i_bin (fun x y => x &&& y) 29)),
  (29, .inl (i_iload 2 30)),
  (30, .inl (i_icmp (fun x y => ¬ x = y) 36 33)),
  (33, .inl (i_push (.int (-1000002)) 35)),
  (35, .inl i_iret),
  (36, .inl (i_aload 0 37)),
  (37, .inr (c_V 0 40 3 1 (Mt mX0_keep 3))),
  (40, .inl (i_aload 0 41)),
  (41, .inl (i_getf 11 [1] 44)),
  (44, .inl (i_dup 45)),
  (45, .inl (i_getf 48 [2] 48)),
  (48, .inl (i_push (.int 1) 49)),
  (49, .inl (i_iload 1 50)),
  (50, .inl (i_bin (fun x y => x <<< (y &&& 31)) 51)),
  (51, .inl (i_bin (fun x y => x ^^^ y) 52)),
  (52, .inl (i_putI 48 [2] 55)),
  (55, .inl (i_aload 0 56)),
  (56, .inl (i_getf 11 [1] 59)),
  (59, .inl (i_getf 48 [2] 62)),
  (62, .inl i_iret)], noH)
theorem rX0_keepIt_0 (Q : Po) (h : Hp) (l1 l2 : Value) (x : Nat) (st : List Value) : Ex mX0_keepIt Q 0 [.ref x, l1, l2] st h = Ex mX0_keepIt Q 1 [.ref x, l1, l2] (.ref x :: st) h := Ex_nx rfl rfl
theorem rX0_keepIt_1 (Q : Po) (h : Hp) (l0 l2 : Value) (x : Int32) (st : List Value) : Ex mX0_keepIt Q 1 [l0, .int x, l2] st h = Ex mX0_keepIt Q 2 [l0, .int x, l2] (.int x :: st) h := Ex_nx rfl rfl
theorem rX0_keepIt_2 (Q : Po) (h : Hp) (ls : List Value) (a0 : Int32) (b : Nat) : Ex mX0_keepIt Q 2 ls (.int a0 :: .ref b :: []) h = (gK h b = 1 ∧ Ex mX0_isBook (Cont mX0_keepIt Q 2 ls 5 []) 0 [.ref b, .int a0] [] h) := Ex_cg (n := 2) (as := [.ref b, .int a0]) rfl rfl
theorem rX0_keepIt_5 (Q : Po) (h : Hp) (ls : List Value) (st : List Value) (x : Int32) : Ex mX0_keepIt Q 5 ls (.int x :: st) h = if x = 0 then Ex mX0_keepIt Q 15 ls st h else Ex mX0_keepIt Q 8 ls st h := Ex_br rfl rfl
theorem rX0_keepIt_8 (Q : Po) (h : Hp) (l0 l1 : Value) (x : Int32) (st : List Value) : Ex mX0_keepIt Q 8 [l0, l1, .int x] st h = Ex mX0_keepIt Q 9 [l0, l1, .int x] (.int x :: st) h := Ex_nx rfl rfl
theorem rX0_keepIt_9 (Q : Po) (h : Hp) (ls : List Value) (a0 : Int32) : Ex mX0_keepIt Q 9 ls (.int a0 :: []) h = Ex mX0_isHalf (Cont mX0_keepIt Q 9 ls 12 []) 0 [.int a0] [] h := Ex_cl (n := 1) (as := [.int a0]) rfl rfl
theorem rX0_keepIt_12 (Q : Po) (h : Hp) (ls : List Value) (st : List Value) (x : Int32) : Ex mX0_keepIt Q 12 ls (.int x :: st) h = if ¬ x = 0 then Ex mX0_keepIt Q 18 ls st h else Ex mX0_keepIt Q 15 ls st h := Ex_br rfl rfl
theorem rX0_keepIt_15 (Q : Po) (h : Hp) (ls : List Value) (st : List Value) : Ex mX0_keepIt Q 15 ls st h = Ex mX0_keepIt Q 17 ls (.int (-1000001) :: st) h := Ex_nx rfl rfl
theorem rX0_keepIt_17 (Q : Po) (h : Hp) (ls : List Value) (x : Int32) : Ex mX0_keepIt Q 17 ls [.int x] h = Q (.inl (some (.int x))) h := Ex_rt rfl rfl
theorem rX0_keepIt_18 (Q : Po) (h : Hp) (l1 l2 : Value) (x : Nat) (st : List Value) : Ex mX0_keepIt Q 18 [.ref x, l1, l2] st h = Ex mX0_keepIt Q 19 [.ref x, l1, l2] (.ref x :: st) h := Ex_nx rfl rfl
theorem rX0_keepIt_19 (Q : Po) (h : Hp) (ls : List Value) (st : List Value) (a : Nat) : Ex mX0_keepIt Q 19 ls (.ref a :: st) h = (gK h a ∈ ([1] : List Nat) ∧ Ex mX0_keepIt Q 22 ls (gF h 11 a :: st) h) := Ex_gd rfl rfl
theorem rX0_keepIt_22 (Q : Po) (h : Hp) (ls : List Value) (st : List Value) (a : Nat) : Ex mX0_keepIt Q 22 ls (.ref a :: st) h = (gK h a ∈ ([2] : List Nat) ∧ Ex mX0_keepIt Q 25 ls (gF h 48 a :: st) h) := Ex_gd rfl rfl
theorem rX0_keepIt_25 (Q : Po) (h : Hp) (l0 l2 : Value) (x : Int32) (st : List Value) : Ex mX0_keepIt Q 25 [l0, .int x, l2] st h = Ex mX0_keepIt Q 26 [l0, .int x, l2] (.int x :: st) h := Ex_nx rfl rfl
theorem rX0_keepIt_26 (Q : Po) (h : Hp) (ls : List Value) (st : List Value) (x y : Int32) : Ex mX0_keepIt Q 26 ls (.int y :: .int x :: st) h = Ex mX0_keepIt Q 27 ls (.int (x >>> (y &&& 31)) :: st) h := Ex_nx rfl rfl
theorem rX0_keepIt_27 (Q : Po) (h : Hp) (ls : List Value) (st : List Value) : Ex mX0_keepIt Q 27 ls st h = Ex mX0_keepIt Q 28 ls (.int 1 :: st) h := Ex_nx rfl rfl
theorem rX0_keepIt_28 (Q : Po) (h : Hp) (ls : List Value) (st : List Value) (x y : Int32) : Ex mX0_keepIt Q 28 ls (.int y :: .int x :: st) h = Ex mX0_keepIt Q 29 ls (.int (x &&& y) :: st) h := Ex_nx rfl rfl
theorem rX0_keepIt_29 (Q : Po) (h : Hp) (l0 l1 : Value) (x : Int32) (st : List Value) : Ex mX0_keepIt Q 29 [l0, l1, .int x] st h = Ex mX0_keepIt Q 30 [l0, l1, .int x] (.int x :: st) h := Ex_nx rfl rfl
theorem rX0_keepIt_30 (Q : Po) (h : Hp) (ls : List Value) (st : List Value) (x y : Int32) : Ex mX0_keepIt Q 30 ls (.int y :: .int x :: st) h = if ¬ x = y then Ex mX0_keepIt Q 36 ls st h else Ex mX0_keepIt Q 33 ls st h := Ex_br rfl rfl
theorem rX0_keepIt_33 (Q : Po) (h : Hp) (ls : List Value) (st : List Value) : Ex mX0_keepIt Q 33 ls st h = Ex mX0_keepIt Q 35 ls (.int (-1000002) :: st) h := Ex_nx rfl rfl
theorem rX0_keepIt_35 (Q : Po) (h : Hp) (ls : List Value) (x : Int32) : Ex mX0_keepIt Q 35 ls [.int x] h = Q (.inl (some (.int x))) h := Ex_rt rfl rfl
theorem rX0_keepIt_36 (Q : Po) (h : Hp) (l1 l2 : Value) (x : Nat) (st : List Value) : Ex mX0_keepIt Q 36 [.ref x, l1, l2] st h = Ex mX0_keepIt Q 37 [.ref x, l1, l2] (.ref x :: st) h := Ex_nx rfl rfl
theorem rX0_keepIt_37 (Q : Po) (h : Hp) (ls : List Value) (b : Nat) : Ex mX0_keepIt Q 37 ls (.ref b :: []) h = (gK h b = 1 ∧ Ex mX0_keep (Cont mX0_keepIt Q 37 ls 40 []) 0 [.ref b, .retAddr 0, .retAddr 0] [] h) := Ex_cg (n := 3) (as := [.ref b]) rfl rfl
theorem rX0_keepIt_40 (Q : Po) (h : Hp) (l1 l2 : Value) (x : Nat) (st : List Value) : Ex mX0_keepIt Q 40 [.ref x, l1, l2] st h = Ex mX0_keepIt Q 41 [.ref x, l1, l2] (.ref x :: st) h := Ex_nx rfl rfl
theorem rX0_keepIt_41 (Q : Po) (h : Hp) (ls : List Value) (st : List Value) (a : Nat) : Ex mX0_keepIt Q 41 ls (.ref a :: st) h = (gK h a ∈ ([1] : List Nat) ∧ Ex mX0_keepIt Q 44 ls (gF h 11 a :: st) h) := Ex_gd rfl rfl
theorem rX0_keepIt_44 (Q : Po) (h : Hp) (ls : List Value) (st : List Value) (x : Nat) : Ex mX0_keepIt Q 44 ls (.ref x :: st) h = Ex mX0_keepIt Q 45 ls (.ref x :: .ref x :: st) h := Ex_nx rfl rfl
theorem rX0_keepIt_45 (Q : Po) (h : Hp) (ls : List Value) (st : List Value) (a : Nat) : Ex mX0_keepIt Q 45 ls (.ref a :: st) h = (gK h a ∈ ([2] : List Nat) ∧ Ex mX0_keepIt Q 48 ls (gF h 48 a :: st) h) := Ex_gd rfl rfl
theorem rX0_keepIt_48 (Q : Po) (h : Hp) (ls : List Value) (st : List Value) : Ex mX0_keepIt Q 48 ls st h = Ex mX0_keepIt Q 49 ls (.int 1 :: st) h := Ex_nx rfl rfl
theorem rX0_keepIt_49 (Q : Po) (h : Hp) (l0 l2 : Value) (x : Int32) (st : List Value) : Ex mX0_keepIt Q 49 [l0, .int x, l2] st h = Ex mX0_keepIt Q 50 [l0, .int x, l2] (.int x :: st) h := Ex_nx rfl rfl
theorem rX0_keepIt_50 (Q : Po) (h : Hp) (ls : List Value) (st : List Value) (x y : Int32) : Ex mX0_keepIt Q 50 ls (.int y :: .int x :: st) h = Ex mX0_keepIt Q 51 ls (.int (x <<< (y &&& 31)) :: st) h := Ex_nx rfl rfl
theorem rX0_keepIt_51 (Q : Po) (h : Hp) (ls : List Value) (st : List Value) (x y : Int32) : Ex mX0_keepIt Q 51 ls (.int y :: .int x :: st) h = Ex mX0_keepIt Q 52 ls (.int (x ^^^ y) :: st) h := Ex_nx rfl rfl
theorem rX0_keepIt_52 (Q : Po) (h : Hp) (ls : List Value) (st : List Value) (x : Int32) (a : Nat) : Ex mX0_keepIt Q 52 ls (.int x :: .ref a :: st) h = (gK h a ∈ ([2] : List Nat) ∧ Ex mX0_keepIt Q 55 ls st (pF h 48 a (.int x))) := Ex_gd rfl rfl
theorem rX0_keepIt_55 (Q : Po) (h : Hp) (l1 l2 : Value) (x : Nat) (st : List Value) : Ex mX0_keepIt Q 55 [.ref x, l1, l2] st h = Ex mX0_keepIt Q 56 [.ref x, l1, l2] (.ref x :: st) h := Ex_nx rfl rfl
theorem rX0_keepIt_56 (Q : Po) (h : Hp) (ls : List Value) (st : List Value) (a : Nat) : Ex mX0_keepIt Q 56 ls (.ref a :: st) h = (gK h a ∈ ([1] : List Nat) ∧ Ex mX0_keepIt Q 59 ls (gF h 11 a :: st) h) := Ex_gd rfl rfl
theorem rX0_keepIt_59 (Q : Po) (h : Hp) (ls : List Value) (st : List Value) (a : Nat) : Ex mX0_keepIt Q 59 ls (.ref a :: st) h = (gK h a ∈ ([2] : List Nat) ∧ Ex mX0_keepIt Q 62 ls (gF h 48 a :: st) h) := Ex_gd rfl rfl
theorem rX0_keepIt_62 (Q : Po) (h : Hp) (ls : List Value) (x : Int32) : Ex mX0_keepIt Q 62 ls [.int x] h = Q (.inl (some (.int x))) h := Ex_rt rfl rfl
theorem rX0_keepIt_t (Q : Po) (h : Hp) (pc n a : Nat) (ls st : List Value) : Cont mX0_keepIt Q pc ls n st (.inr a) h = Q (.inr a) h := rfl
/-! FishReaders.change(II)I -/
def mX0_change : Cd := ([(0, .inl (i_aload 0 1)),
  (1, .inl (i_iload 1 2)),
  (2, .inr (c_V 1 5 2 1 (Mt mX0_isBook 2))),
  (5, .inl (i_if (fun x => x = 0) 21 8)),
  (8, .inl (i_aload 0 9)),
  (9, .inl (i_iload 2 10)),
  (10, .inr (c_V 1 13 2 1 (Mt mX0_isBook 2))),
  (13, .inl (i_if (fun x => x = 0) 21 16)),
  (16, .inl (i_iload 1 17)),
  (17, .inl (i_iload 2 18)),
  (18, .inl (i_icmp (fun x y => ¬ x = y) 24 21)),
  (21, .inl (i_push (.int (-1000001)) 23)),
  (23, .inl i_iret),
  (24, .inl (i_aload 0 25)),
  (25, .inr (c_V 0 28 3 1 (Mt mX0_keep 3))),
  (28, .inl (i_aload 0 29)),
  (29, .inl (i_getf 11 [1] 32)),
  (32, .inl (i_getf 45 [2] 35)),
  (35, .inl (i_iload 1 36)),
  (36, .inl (i_iald 51 37)),
  (37, .inl (i_istore 3 38)),
  (38, .inl (i_aload 0 39)),
  (39, .inl (i_getf 11 [1] 42)),
  (42, .inl (i_iload 1 43)),
  (43, .inl (i_aload 0 44)),
  (44, .inl (i_getf 11 [1] 47)),
  (47, .inl (i_getf 45 [2] 50)),
  (50, .inl (i_iload 2 51)),
  (51, .inl (i_iald 51 52)),
  (52, .inr (c_V 2 55 3 2 (Mt mX1_puts 3))),
  (55, .inl (i_aload 0 56)),
  (56, .inl (i_getf 11 [1] 59)),
  (59, .inl (i_iload 2 60)),
  (60, .inl (i_iload 3 61)),
  (61, .inr (c_V 2 64 3 2 (Mt mX1_puts 3))),
  (64, .inl (i_aload 0 65)),
  (65, .inl (i_getf 11 [1] 68)),
  (68, .inl (i_getf 45 [2] 71)),
  (71, .inl (i_iload 1 72)),
  (72, .inl (i_iald 51 73)),
  (73, .inl i_iret)], noH)
theorem rX0_change_0 (Q : Po) (h : Hp) (l1 l2 l3 : Value) (x : Nat) (st : List Value) : Ex mX0_change Q 0 [.ref x, l1, l2, l3] st h = Ex mX0_change Q 1 [.ref x, l1, l2, l3] (.ref x :: st) h := Ex_nx rfl rfl
theorem rX0_change_1 (Q : Po) (h : Hp) (l0 l2 l3 : Value) (x : Int32) (st : List Value) : Ex mX0_change Q 1 [l0, .int x, l2, l3] st h = Ex mX0_change Q 2 [l0, .int x, l2, l3] (.int x :: st) h := Ex_nx rfl rfl
theorem rX0_change_2 (Q : Po) (h : Hp) (ls : List Value) (a0 : Int32) (b : Nat) : Ex mX0_change Q 2 ls (.int a0 :: .ref b :: []) h = (gK h b = 1 ∧ Ex mX0_isBook (Cont mX0_change Q 2 ls 5 []) 0 [.ref b, .int a0] [] h) := Ex_cg (n := 2) (as := [.ref b, .int a0]) rfl rfl
theorem rX0_change_5 (Q : Po) (h : Hp) (ls : List Value) (st : List Value) (x : Int32) : Ex mX0_change Q 5 ls (.int x :: st) h = if x = 0 then Ex mX0_change Q 21 ls st h else Ex mX0_change Q 8 ls st h := Ex_br rfl rfl
theorem rX0_change_8 (Q : Po) (h : Hp) (l1 l2 l3 : Value) (x : Nat) (st : List Value) : Ex mX0_change Q 8 [.ref x, l1, l2, l3] st h = Ex mX0_change Q 9 [.ref x, l1, l2, l3] (.ref x :: st) h := Ex_nx rfl rfl
theorem rX0_change_9 (Q : Po) (h : Hp) (l0 l1 l3 : Value) (x : Int32) (st : List Value) : Ex mX0_change Q 9 [l0, l1, .int x, l3] st h = Ex mX0_change Q 10 [l0, l1, .int x, l3] (.int x :: st) h := Ex_nx rfl rfl
theorem rX0_change_10 (Q : Po) (h : Hp) (ls : List Value) (a0 : Int32) (b : Nat) : Ex mX0_change Q 10 ls (.int a0 :: .ref b :: []) h = (gK h b = 1 ∧ Ex mX0_isBook (Cont mX0_change Q 10 ls 13 []) 0 [.ref b, .int a0] [] h) := Ex_cg (n := 2) (as := [.ref b, .int a0]) rfl rfl
theorem rX0_change_13 (Q : Po) (h : Hp) (ls : List Value) (st : List Value) (x : Int32) : Ex mX0_change Q 13 ls (.int x :: st) h = if x = 0 then Ex mX0_change Q 21 ls st h else Ex mX0_change Q 16 ls st h := Ex_br rfl rfl
theorem rX0_change_16 (Q : Po) (h : Hp) (l0 l2 l3 : Value) (x : Int32) (st : List Value) : Ex mX0_change Q 16 [l0, .int x, l2, l3] st h = Ex mX0_change Q 17 [l0, .int x, l2, l3] (.int x :: st) h := Ex_nx rfl rfl
theorem rX0_change_17 (Q : Po) (h : Hp) (l0 l1 l3 : Value) (x : Int32) (st : List Value) : Ex mX0_change Q 17 [l0, l1, .int x, l3] st h = Ex mX0_change Q 18 [l0, l1, .int x, l3] (.int x :: st) h := Ex_nx rfl rfl
theorem rX0_change_18 (Q : Po) (h : Hp) (ls : List Value) (st : List Value) (x y : Int32) : Ex mX0_change Q 18 ls (.int y :: .int x :: st) h = if ¬ x = y then Ex mX0_change Q 24 ls st h else Ex mX0_change Q 21 ls st h := Ex_br rfl rfl
theorem rX0_change_21 (Q : Po) (h : Hp) (ls : List Value) (st : List Value) : Ex mX0_change Q 21 ls st h = Ex mX0_change Q 23 ls (.int (-1000001) :: st) h := Ex_nx rfl rfl
theorem rX0_change_23 (Q : Po) (h : Hp) (ls : List Value) (x : Int32) : Ex mX0_change Q 23 ls [.int x] h = Q (.inl (some (.int x))) h := Ex_rt rfl rfl
theorem rX0_change_24 (Q : Po) (h : Hp) (l1 l2 l3 : Value) (x : Nat) (st : List Value) : Ex mX0_change Q 24 [.ref x, l1, l2, l3] st h = Ex mX0_change Q 25 [.ref x, l1, l2, l3] (.ref x :: st) h := Ex_nx rfl rfl
theorem rX0_change_25 (Q : Po) (h : Hp) (ls : List Value) (b : Nat) : Ex mX0_change Q 25 ls (.ref b :: []) h = (gK h b = 1 ∧ Ex mX0_keep (Cont mX0_change Q 25 ls 28 []) 0 [.ref b, .retAddr 0, .retAddr 0] [] h) := Ex_cg (n := 3) (as := [.ref b]) rfl rfl
theorem rX0_change_28 (Q : Po) (h : Hp) (l1 l2 l3 : Value) (x : Nat) (st : List Value) : Ex mX0_change Q 28 [.ref x, l1, l2, l3] st h = Ex mX0_change Q 29 [.ref x, l1, l2, l3] (.ref x :: st) h := Ex_nx rfl rfl
theorem rX0_change_29 (Q : Po) (h : Hp) (ls : List Value) (st : List Value) (a : Nat) : Ex mX0_change Q 29 ls (.ref a :: st) h = (gK h a ∈ ([1] : List Nat) ∧ Ex mX0_change Q 32 ls (gF h 11 a :: st) h) := Ex_gd rfl rfl
theorem rX0_change_32 (Q : Po) (h : Hp) (ls : List Value) (st : List Value) (a : Nat) : Ex mX0_change Q 32 ls (.ref a :: st) h = (gK h a ∈ ([2] : List Nat) ∧ Ex mX0_change Q 35 ls (gF h 45 a :: st) h) := Ex_gd rfl rfl
theorem rX0_change_35 (Q : Po) (h : Hp) (l0 l2 l3 : Value) (x : Int32) (st : List Value) : Ex mX0_change Q 35 [l0, .int x, l2, l3] st h = Ex mX0_change Q 36 [l0, .int x, l2, l3] (.int x :: st) h := Ex_nx rfl rfl
theorem rX0_change_36 (Q : Po) (h : Hp) (ls : List Value) (st : List Value) (a : Nat) (i : Int32) : Ex mX0_change Q 36 ls (.int i :: .ref a :: st) h = ((gK h a = 51 ∧ ¬ (i < 0 ∨ gL h a ≤ i.toNatClampNeg)) ∧ Ex mX0_change Q 37 ls (.int (gI h a i.toNatClampNeg) :: st) h) := Ex_gd rfl rfl
theorem rX0_change_37 (Q : Po) (h : Hp) (l0 l1 l2 l3 : Value) (x : Int32) (st : List Value) : Ex mX0_change Q 37 [l0, l1, l2, l3] (.int x :: st) h = Ex mX0_change Q 38 [l0, l1, l2, .int x] st h := Ex_nx rfl rfl
theorem rX0_change_38 (Q : Po) (h : Hp) (l1 l2 l3 : Value) (x : Nat) (st : List Value) : Ex mX0_change Q 38 [.ref x, l1, l2, l3] st h = Ex mX0_change Q 39 [.ref x, l1, l2, l3] (.ref x :: st) h := Ex_nx rfl rfl
theorem rX0_change_39 (Q : Po) (h : Hp) (ls : List Value) (st : List Value) (a : Nat) : Ex mX0_change Q 39 ls (.ref a :: st) h = (gK h a ∈ ([1] : List Nat) ∧ Ex mX0_change Q 42 ls (gF h 11 a :: st) h) := Ex_gd rfl rfl
theorem rX0_change_42 (Q : Po) (h : Hp) (l0 l2 l3 : Value) (x : Int32) (st : List Value) : Ex mX0_change Q 42 [l0, .int x, l2, l3] st h = Ex mX0_change Q 43 [l0, .int x, l2, l3] (.int x :: st) h := Ex_nx rfl rfl
theorem rX0_change_43 (Q : Po) (h : Hp) (l1 l2 l3 : Value) (x : Nat) (st : List Value) : Ex mX0_change Q 43 [.ref x, l1, l2, l3] st h = Ex mX0_change Q 44 [.ref x, l1, l2, l3] (.ref x :: st) h := Ex_nx rfl rfl
theorem rX0_change_44 (Q : Po) (h : Hp) (ls : List Value) (st : List Value) (a : Nat) : Ex mX0_change Q 44 ls (.ref a :: st) h = (gK h a ∈ ([1] : List Nat) ∧ Ex mX0_change Q 47 ls (gF h 11 a :: st) h) := Ex_gd rfl rfl
theorem rX0_change_47 (Q : Po) (h : Hp) (ls : List Value) (st : List Value) (a : Nat) : Ex mX0_change Q 47 ls (.ref a :: st) h = (gK h a ∈ ([2] : List Nat) ∧ Ex mX0_change Q 50 ls (gF h 45 a :: st) h) := Ex_gd rfl rfl
theorem rX0_change_50 (Q : Po) (h : Hp) (l0 l1 l3 : Value) (x : Int32) (st : List Value) : Ex mX0_change Q 50 [l0, l1, .int x, l3] st h = Ex mX0_change Q 51 [l0, l1, .int x, l3] (.int x :: st) h := Ex_nx rfl rfl
theorem rX0_change_51 (Q : Po) (h : Hp) (ls : List Value) (st : List Value) (a : Nat) (i : Int32) : Ex mX0_change Q 51 ls (.int i :: .ref a :: st) h = ((gK h a = 51 ∧ ¬ (i < 0 ∨ gL h a ≤ i.toNatClampNeg)) ∧ Ex mX0_change Q 52 ls (.int (gI h a i.toNatClampNeg) :: st) h) := Ex_gd rfl rfl
theorem rX0_change_52 (Q : Po) (h : Hp) (ls : List Value) (a0 : Int32) (a1 : Int32) (b : Nat) : Ex mX0_change Q 52 ls (.int a1 :: .int a0 :: .ref b :: []) h = (gK h b = 2 ∧ Ex mX1_puts (Cont mX0_change Q 52 ls 55 []) 0 [.ref b, .int a0, .int a1] [] h) := Ex_cg (n := 3) (as := [.ref b, .int a0, .int a1]) rfl rfl
theorem rX0_change_55 (Q : Po) (h : Hp) (l1 l2 l3 : Value) (x : Nat) (st : List Value) : Ex mX0_change Q 55 [.ref x, l1, l2, l3] st h = Ex mX0_change Q 56 [.ref x, l1, l2, l3] (.ref x :: st) h := Ex_nx rfl rfl
theorem rX0_change_56 (Q : Po) (h : Hp) (ls : List Value) (st : List Value) (a : Nat) : Ex mX0_change Q 56 ls (.ref a :: st) h = (gK h a ∈ ([1] : List Nat) ∧ Ex mX0_change Q 59 ls (gF h 11 a :: st) h) := Ex_gd rfl rfl
theorem rX0_change_59 (Q : Po) (h : Hp) (l0 l1 l3 : Value) (x : Int32) (st : List Value) : Ex mX0_change Q 59 [l0, l1, .int x, l3] st h = Ex mX0_change Q 60 [l0, l1, .int x, l3] (.int x :: st) h := Ex_nx rfl rfl
theorem rX0_change_60 (Q : Po) (h : Hp) (l0 l1 l2 : Value) (x : Int32) (st : List Value) : Ex mX0_change Q 60 [l0, l1, l2, .int x] st h = Ex mX0_change Q 61 [l0, l1, l2, .int x] (.int x :: st) h := Ex_nx rfl rfl
theorem rX0_change_61 (Q : Po) (h : Hp) (ls : List Value) (a0 : Int32) (a1 : Int32) (b : Nat) : Ex mX0_change Q 61 ls (.int a1 :: .int a0 :: .ref b :: []) h = (gK h b = 2 ∧ Ex mX1_puts (Cont mX0_change Q 61 ls 64 []) 0 [.ref b, .int a0, .int a1] [] h) := Ex_cg (n := 3) (as := [.ref b, .int a0, .int a1]) rfl rfl
theorem rX0_change_64 (Q : Po) (h : Hp) (l1 l2 l3 : Value) (x : Nat) (st : List Value) : Ex mX0_change Q 64 [.ref x, l1, l2, l3] st h = Ex mX0_change Q 65 [.ref x, l1, l2, l3] (.ref x :: st) h := Ex_nx rfl rfl
theorem rX0_change_65 (Q : Po) (h : Hp) (ls : List Value) (st : List Value) (a : Nat) : Ex mX0_change Q 65 ls (.ref a :: st) h = (gK h a ∈ ([1] : List Nat) ∧ Ex mX0_change Q 68 ls (gF h 11 a :: st) h) := Ex_gd rfl rfl
theorem rX0_change_68 (Q : Po) (h : Hp) (ls : List Value) (st : List Value) (a : Nat) : Ex mX0_change Q 68 ls (.ref a :: st) h = (gK h a ∈ ([2] : List Nat) ∧ Ex mX0_change Q 71 ls (gF h 45 a :: st) h) := Ex_gd rfl rfl
theorem rX0_change_71 (Q : Po) (h : Hp) (l0 l2 l3 : Value) (x : Int32) (st : List Value) : Ex mX0_change Q 71 [l0, .int x, l2, l3] st h = Ex mX0_change Q 72 [l0, .int x, l2, l3] (.int x :: st) h := Ex_nx rfl rfl
theorem rX0_change_72 (Q : Po) (h : Hp) (ls : List Value) (st : List Value) (a : Nat) (i : Int32) : Ex mX0_change Q 72 ls (.int i :: .ref a :: st) h = ((gK h a = 51 ∧ ¬ (i < 0 ∨ gL h a ≤ i.toNatClampNeg)) ∧ Ex mX0_change Q 73 ls (.int (gI h a i.toNatClampNeg) :: st) h) := Ex_gd rfl rfl
theorem rX0_change_73 (Q : Po) (h : Hp) (ls : List Value) (x : Int32) : Ex mX0_change Q 73 ls [.int x] h = Q (.inl (some (.int x))) h := Ex_rt rfl rfl
theorem rX0_change_t (Q : Po) (h : Hp) (pc n a : Nat) (ls st : List Value) : Cont mX0_change Q pc ls n st (.inr a) h = Q (.inr a) h := rfl
/-! FishReaders.isFish(I)Z -/
def mX0_isFish : Cd := ([(0, .inl (i_iload 1 1)),
  (1, .inl (i_i2l 2)),
  (2, .inl (i_push (.long 0) 3)),
  (3, .inl (i_aload 0 4)),
  (4, .inl (i_getf 11 [1] 7)),
  (7, .inr (c_V 0 10 1 2 (Mt mX1_many 1))),
  (10, .inl (i_push (.int 1) 11)),
  (11, .inl (i_bin (fun x y => x - y) 12)),
  (12, .inl (i_i2l 13)),
  (13, .inr (c_S 3 16 6 (Mt mX0_isIn 6))),
  (16, .inl i_zret)], noH)
theorem rX0_isFish_0 (Q : Po) (h : Hp) (l0 : Value) (x : Int32) (st : List Value) : Ex mX0_isFish Q 0 [l0, .int x] st h = Ex mX0_isFish Q 1 [l0, .int x] (.int x :: st) h := Ex_nx rfl rfl
theorem rX0_isFish_1 (Q : Po) (h : Hp) (ls : List Value) (st : List Value) (x : Int32) : Ex mX0_isFish Q 1 ls (.int x :: st) h = Ex mX0_isFish Q 2 ls (.long x.toInt64 :: st) h := Ex_nx rfl rfl
theorem rX0_isFish_2 (Q : Po) (h : Hp) (ls : List Value) (st : List Value) : Ex mX0_isFish Q 2 ls st h = Ex mX0_isFish Q 3 ls (.long 0 :: st) h := Ex_nx rfl rfl
theorem rX0_isFish_3 (Q : Po) (h : Hp) (l1 : Value) (x : Nat) (st : List Value) : Ex mX0_isFish Q 3 [.ref x, l1] st h = Ex mX0_isFish Q 4 [.ref x, l1] (.ref x :: st) h := Ex_nx rfl rfl
theorem rX0_isFish_4 (Q : Po) (h : Hp) (ls : List Value) (st : List Value) (a : Nat) : Ex mX0_isFish Q 4 ls (.ref a :: st) h = (gK h a ∈ ([1] : List Nat) ∧ Ex mX0_isFish Q 7 ls (gF h 11 a :: st) h) := Ex_gd rfl rfl
theorem rX0_isFish_7 (Q : Po) (h : Hp) (ls : List Value) (s0 s1 : Value) (b : Nat) : Ex mX0_isFish Q 7 ls (.ref b :: [s0, s1]) h = (gK h b = 2 ∧ Ex mX1_many (Cont mX0_isFish Q 7 ls 10 [s0, s1]) 0 [.ref b] [] h) := Ex_cg (n := 1) (as := [.ref b]) rfl rfl
theorem rX0_isFish_10 (Q : Po) (h : Hp) (ls : List Value) (st : List Value) : Ex mX0_isFish Q 10 ls st h = Ex mX0_isFish Q 11 ls (.int 1 :: st) h := Ex_nx rfl rfl
theorem rX0_isFish_11 (Q : Po) (h : Hp) (ls : List Value) (st : List Value) (x y : Int32) : Ex mX0_isFish Q 11 ls (.int y :: .int x :: st) h = Ex mX0_isFish Q 12 ls (.int (x - y) :: st) h := Ex_nx rfl rfl
theorem rX0_isFish_12 (Q : Po) (h : Hp) (ls : List Value) (st : List Value) (x : Int32) : Ex mX0_isFish Q 12 ls (.int x :: st) h = Ex mX0_isFish Q 13 ls (.long x.toInt64 :: st) h := Ex_nx rfl rfl
theorem rX0_isFish_13 (Q : Po) (h : Hp) (ls : List Value) (a0 : Int64) (a1 : Int64) (a2 : Int64) : Ex mX0_isFish Q 13 ls (.long a2 :: .long a1 :: .long a0 :: []) h = Ex mX0_isIn (Cont mX0_isFish Q 13 ls 16 []) 0 [.long a0, .retAddr 1, .long a1, .retAddr 1, .long a2, .retAddr 1] [] h := Ex_cl (n := 6) (as := [.long a0, .long a1, .long a2]) rfl rfl
theorem rX0_isFish_16 (Q : Po) (h : Hp) (ls : List Value) (x : Int32) : Ex mX0_isFish Q 16 ls [.int x] h = ((x = 0 ∨ x = 1) ∧ Q (.inl (some (.int x))) h) := Ex_rg rfl rfl
theorem rX0_isFish_t (Q : Po) (h : Hp) (pc n a : Nat) (ls st : List Value) : Cont mX0_isFish Q pc ls n st (.inr a) h = Q (.inr a) h := rfl
/-! FishReaders.move(II)I -/
def mX0_move : Cd := ([(0, .inl (i_aload 0 1)),
  (1, .inl (i_iload 1 2)),
  (2, .inr (c_V 1 5 2 1 (Mt mX0_isFish 2))),
  (5, .inl (i_if (fun x => x = 0) 16 8)),
  (8, .inl (i_aload 0 9)),
  (9, .inl (i_iload 2 10)),
  (10, .inr (c_V 1 13 2 1 (Mt mX0_isBook 2))),
  (13, .inl (i_if (fun x => ¬ x = 0) 19 16)),
  (16, .inl (i_push (.int (-1000001)) 18)),
  (18, .inl i_iret),
  (19, .inl (i_aload 0 20)),
  (20, .inl (i_getf 11 [1] 23)),
  (23, .inl (i_iload 1 24)),
  (24, .inr (c_V 1 27 2 2 (Mt mX1_isCaught 2))),
  (27, .inl (i_if (fun x => ¬ x = 0) 43 30)),
  (30, .inl (i_aload 0 31)),
  (31, .inl (i_getf 11 [1] 34)),
  (34, .inl (i_getf 53 [2] 37)),
  (37, .inl (i_iload 1 38)),
  (38, .inl (i_iald 51 39)),
  (39, .inl (i_iload 2 40)),
  (40, .inl (i_icmp (fun x y => ¬ x = y) 46 43)),
  (43, .inl (i_push (.int (-1000002)) 45)),
  (45, .inl i_iret),
  (46, .inl (i_aload 0 47)),
  (47, .inr (c_V 0 50 3 1 (Mt mX0_keep 3))),
  (50, .inl (i_aload 0 51)),
  (51, .inl (i_getf 11 [1] 54)),
  (54, .inl (i_getf 53 [2] 57)),
  (57, .inl (i_iload 1 58)),
  (58, .inl (i_iald 51 59)),
  (59, .inl (i_istore 3 60)),
  (60, .inl (i_aload 0 61)),
  (61, .inl (i_getf 11 [1] 64)),
  (64, .inl (i_getf 53 [2] 67)),
  (67, .inl (i_iload 1 68)),
  (68, .inl (i_iload 2 69)),
  (69, .inl (i_iast 51 (fun x => x) 70)),
  (70, .inl (i_iload 3 71)),
  (71, .inl i_iret)], noH)
theorem rX0_move_0 (Q : Po) (h : Hp) (l1 l2 l3 : Value) (x : Nat) (st : List Value) : Ex mX0_move Q 0 [.ref x, l1, l2, l3] st h = Ex mX0_move Q 1 [.ref x, l1, l2, l3] (.ref x :: st) h := Ex_nx rfl rfl
theorem rX0_move_1 (Q : Po) (h : Hp) (l0 l2 l3 : Value) (x : Int32) (st : List Value) : Ex mX0_move Q 1 [l0, .int x, l2, l3] st h = Ex mX0_move Q 2 [l0, .int x, l2, l3] (.int x :: st) h := Ex_nx rfl rfl
theorem rX0_move_2 (Q : Po) (h : Hp) (ls : List Value) (a0 : Int32) (b : Nat) : Ex mX0_move Q 2 ls (.int a0 :: .ref b :: []) h = (gK h b = 1 ∧ Ex mX0_isFish (Cont mX0_move Q 2 ls 5 []) 0 [.ref b, .int a0] [] h) := Ex_cg (n := 2) (as := [.ref b, .int a0]) rfl rfl
theorem rX0_move_5 (Q : Po) (h : Hp) (ls : List Value) (st : List Value) (x : Int32) : Ex mX0_move Q 5 ls (.int x :: st) h = if x = 0 then Ex mX0_move Q 16 ls st h else Ex mX0_move Q 8 ls st h := Ex_br rfl rfl
theorem rX0_move_8 (Q : Po) (h : Hp) (l1 l2 l3 : Value) (x : Nat) (st : List Value) : Ex mX0_move Q 8 [.ref x, l1, l2, l3] st h = Ex mX0_move Q 9 [.ref x, l1, l2, l3] (.ref x :: st) h := Ex_nx rfl rfl
theorem rX0_move_9 (Q : Po) (h : Hp) (l0 l1 l3 : Value) (x : Int32) (st : List Value) : Ex mX0_move Q 9 [l0, l1, .int x, l3] st h = Ex mX0_move Q 10 [l0, l1, .int x, l3] (.int x :: st) h := Ex_nx rfl rfl
theorem rX0_move_10 (Q : Po) (h : Hp) (ls : List Value) (a0 : Int32) (b : Nat) : Ex mX0_move Q 10 ls (.int a0 :: .ref b :: []) h = (gK h b = 1 ∧ Ex mX0_isBook (Cont mX0_move Q 10 ls 13 []) 0 [.ref b, .int a0] [] h) := Ex_cg (n := 2) (as := [.ref b, .int a0]) rfl rfl
theorem rX0_move_13 (Q : Po) (h : Hp) (ls : List Value) (st : List Value) (x : Int32) : Ex mX0_move Q 13 ls (.int x :: st) h = if ¬ x = 0 then Ex mX0_move Q 19 ls st h else Ex mX0_move Q 16 ls st h := Ex_br rfl rfl
theorem rX0_move_16 (Q : Po) (h : Hp) (ls : List Value) (st : List Value) : Ex mX0_move Q 16 ls st h = Ex mX0_move Q 18 ls (.int (-1000001) :: st) h := Ex_nx rfl rfl
theorem rX0_move_18 (Q : Po) (h : Hp) (ls : List Value) (x : Int32) : Ex mX0_move Q 18 ls [.int x] h = Q (.inl (some (.int x))) h := Ex_rt rfl rfl
theorem rX0_move_19 (Q : Po) (h : Hp) (l1 l2 l3 : Value) (x : Nat) (st : List Value) : Ex mX0_move Q 19 [.ref x, l1, l2, l3] st h = Ex mX0_move Q 20 [.ref x, l1, l2, l3] (.ref x :: st) h := Ex_nx rfl rfl
theorem rX0_move_20 (Q : Po) (h : Hp) (ls : List Value) (st : List Value) (a : Nat) : Ex mX0_move Q 20 ls (.ref a :: st) h = (gK h a ∈ ([1] : List Nat) ∧ Ex mX0_move Q 23 ls (gF h 11 a :: st) h) := Ex_gd rfl rfl
theorem rX0_move_23 (Q : Po) (h : Hp) (l0 l2 l3 : Value) (x : Int32) (st : List Value) : Ex mX0_move Q 23 [l0, .int x, l2, l3] st h = Ex mX0_move Q 24 [l0, .int x, l2, l3] (.int x :: st) h := Ex_nx rfl rfl
theorem rX0_move_24 (Q : Po) (h : Hp) (ls : List Value) (a0 : Int32) (b : Nat) : Ex mX0_move Q 24 ls (.int a0 :: .ref b :: []) h = (gK h b = 2 ∧ Ex mX1_isCaught (Cont mX0_move Q 24 ls 27 []) 0 [.ref b, .int a0] [] h) := Ex_cg (n := 2) (as := [.ref b, .int a0]) rfl rfl
theorem rX0_move_27 (Q : Po) (h : Hp) (ls : List Value) (st : List Value) (x : Int32) : Ex mX0_move Q 27 ls (.int x :: st) h = if ¬ x = 0 then Ex mX0_move Q 43 ls st h else Ex mX0_move Q 30 ls st h := Ex_br rfl rfl
theorem rX0_move_30 (Q : Po) (h : Hp) (l1 l2 l3 : Value) (x : Nat) (st : List Value) : Ex mX0_move Q 30 [.ref x, l1, l2, l3] st h = Ex mX0_move Q 31 [.ref x, l1, l2, l3] (.ref x :: st) h := Ex_nx rfl rfl
theorem rX0_move_31 (Q : Po) (h : Hp) (ls : List Value) (st : List Value) (a : Nat) : Ex mX0_move Q 31 ls (.ref a :: st) h = (gK h a ∈ ([1] : List Nat) ∧ Ex mX0_move Q 34 ls (gF h 11 a :: st) h) := Ex_gd rfl rfl
theorem rX0_move_34 (Q : Po) (h : Hp) (ls : List Value) (st : List Value) (a : Nat) : Ex mX0_move Q 34 ls (.ref a :: st) h = (gK h a ∈ ([2] : List Nat) ∧ Ex mX0_move Q 37 ls (gF h 53 a :: st) h) := Ex_gd rfl rfl
theorem rX0_move_37 (Q : Po) (h : Hp) (l0 l2 l3 : Value) (x : Int32) (st : List Value) : Ex mX0_move Q 37 [l0, .int x, l2, l3] st h = Ex mX0_move Q 38 [l0, .int x, l2, l3] (.int x :: st) h := Ex_nx rfl rfl
theorem rX0_move_38 (Q : Po) (h : Hp) (ls : List Value) (st : List Value) (a : Nat) (i : Int32) : Ex mX0_move Q 38 ls (.int i :: .ref a :: st) h = ((gK h a = 51 ∧ ¬ (i < 0 ∨ gL h a ≤ i.toNatClampNeg)) ∧ Ex mX0_move Q 39 ls (.int (gI h a i.toNatClampNeg) :: st) h) := Ex_gd rfl rfl
theorem rX0_move_39 (Q : Po) (h : Hp) (l0 l1 l3 : Value) (x : Int32) (st : List Value) : Ex mX0_move Q 39 [l0, l1, .int x, l3] st h = Ex mX0_move Q 40 [l0, l1, .int x, l3] (.int x :: st) h := Ex_nx rfl rfl
theorem rX0_move_40 (Q : Po) (h : Hp) (ls : List Value) (st : List Value) (x y : Int32) : Ex mX0_move Q 40 ls (.int y :: .int x :: st) h = if ¬ x = y then Ex mX0_move Q 46 ls st h else Ex mX0_move Q 43 ls st h := Ex_br rfl rfl
theorem rX0_move_43 (Q : Po) (h : Hp) (ls : List Value) (st : List Value) : Ex mX0_move Q 43 ls st h = Ex mX0_move Q 45 ls (.int (-1000002) :: st) h := Ex_nx rfl rfl
theorem rX0_move_45 (Q : Po) (h : Hp) (ls : List Value) (x : Int32) : Ex mX0_move Q 45 ls [.int x] h = Q (.inl (some (.int x))) h := Ex_rt rfl rfl
theorem rX0_move_46 (Q : Po) (h : Hp) (l1 l2 l3 : Value) (x : Nat) (st : List Value) : Ex mX0_move Q 46 [.ref x, l1, l2, l3] st h = Ex mX0_move Q 47 [.ref x, l1, l2, l3] (.ref x :: st) h := Ex_nx rfl rfl
theorem rX0_move_47 (Q : Po) (h : Hp) (ls : List Value) (b : Nat) : Ex mX0_move Q 47 ls (.ref b :: []) h = (gK h b = 1 ∧ Ex mX0_keep (Cont mX0_move Q 47 ls 50 []) 0 [.ref b, .retAddr 0, .retAddr 0] [] h) := Ex_cg (n := 3) (as := [.ref b]) rfl rfl
theorem rX0_move_50 (Q : Po) (h : Hp) (l1 l2 l3 : Value) (x : Nat) (st : List Value) : Ex mX0_move Q 50 [.ref x, l1, l2, l3] st h = Ex mX0_move Q 51 [.ref x, l1, l2, l3] (.ref x :: st) h := Ex_nx rfl rfl
theorem rX0_move_51 (Q : Po) (h : Hp) (ls : List Value) (st : List Value) (a : Nat) : Ex mX0_move Q 51 ls (.ref a :: st) h = (gK h a ∈ ([1] : List Nat) ∧ Ex mX0_move Q 54 ls (gF h 11 a :: st) h) := Ex_gd rfl rfl
theorem rX0_move_54 (Q : Po) (h : Hp) (ls : List Value) (st : List Value) (a : Nat) : Ex mX0_move Q 54 ls (.ref a :: st) h = (gK h a ∈ ([2] : List Nat) ∧ Ex mX0_move Q 57 ls (gF h 53 a :: st) h) := Ex_gd rfl rfl
theorem rX0_move_57 (Q : Po) (h : Hp) (l0 l2 l3 : Value) (x : Int32) (st : List Value) : Ex mX0_move Q 57 [l0, .int x, l2, l3] st h = Ex mX0_move Q 58 [l0, .int x, l2, l3] (.int x :: st) h := Ex_nx rfl rfl
theorem rX0_move_58 (Q : Po) (h : Hp) (ls : List Value) (st : List Value) (a : Nat) (i : Int32) : Ex mX0_move Q 58 ls (.int i :: .ref a :: st) h = ((gK h a = 51 ∧ ¬ (i < 0 ∨ gL h a ≤ i.toNatClampNeg)) ∧ Ex mX0_move Q 59 ls (.int (gI h a i.toNatClampNeg) :: st) h) := Ex_gd rfl rfl
theorem rX0_move_59 (Q : Po) (h : Hp) (l0 l1 l2 l3 : Value) (x : Int32) (st : List Value) : Ex mX0_move Q 59 [l0, l1, l2, l3] (.int x :: st) h = Ex mX0_move Q 60 [l0, l1, l2, .int x] st h := Ex_nx rfl rfl
theorem rX0_move_60 (Q : Po) (h : Hp) (l1 l2 l3 : Value) (x : Nat) (st : List Value) : Ex mX0_move Q 60 [.ref x, l1, l2, l3] st h = Ex mX0_move Q 61 [.ref x, l1, l2, l3] (.ref x :: st) h := Ex_nx rfl rfl
theorem rX0_move_61 (Q : Po) (h : Hp) (ls : List Value) (st : List Value) (a : Nat) : Ex mX0_move Q 61 ls (.ref a :: st) h = (gK h a ∈ ([1] : List Nat) ∧ Ex mX0_move Q 64 ls (gF h 11 a :: st) h) := Ex_gd rfl rfl
theorem rX0_move_64 (Q : Po) (h : Hp) (ls : List Value) (st : List Value) (a : Nat) : Ex mX0_move Q 64 ls (.ref a :: st) h = (gK h a ∈ ([2] : List Nat) ∧ Ex mX0_move Q 67 ls (gF h 53 a :: st) h) := Ex_gd rfl rfl
theorem rX0_move_67 (Q : Po) (h : Hp) (l0 l2 l3 : Value) (x : Int32) (st : List Value) : Ex mX0_move Q 67 [l0, .int x, l2, l3] st h = Ex mX0_move Q 68 [l0, .int x, l2, l3] (.int x :: st) h := Ex_nx rfl rfl
theorem rX0_move_68 (Q : Po) (h : Hp) (l0 l1 l3 : Value) (x : Int32) (st : List Value) : Ex mX0_move Q 68 [l0, l1, .int x, l3] st h = Ex mX0_move Q 69 [l0, l1, .int x, l3] (.int x :: st) h := Ex_nx rfl rfl
theorem rX0_move_69 (Q : Po) (h : Hp) (ls : List Value) (st : List Value) (a : Nat) (i x : Int32) : Ex mX0_move Q 69 ls (.int x :: .int i :: .ref a :: st) h = ((gK h a = 51 ∧ ¬ (i < 0 ∨ gL h a ≤ i.toNatClampNeg)) ∧ Ex mX0_move Q 70 ls st (pI h a i.toNatClampNeg (x))) := Ex_gd rfl rfl
theorem rX0_move_70 (Q : Po) (h : Hp) (l0 l1 l2 : Value) (x : Int32) (st : List Value) : Ex mX0_move Q 70 [l0, l1, l2, .int x] st h = Ex mX0_move Q 71 [l0, l1, l2, .int x] (.int x :: st) h := Ex_nx rfl rfl
theorem rX0_move_71 (Q : Po) (h : Hp) (ls : List Value) (x : Int32) : Ex mX0_move Q 71 ls [.int x] h = Q (.inl (some (.int x))) h := Ex_rt rfl rfl
theorem rX0_move_t (Q : Po) (h : Hp) (pc n a : Nat) (ls st : List Value) : Cont mX0_move Q pc ls n st (.inr a) h = Q (.inr a) h := rfl
/-! FishReaders.catchIt(I)I -/
def mX0_catchIt : Cd := ([(0, .inl (i_aload 0 1)),
  (1, .inl (i_iload 1 2)),
  (2, .inr (c_V 1 5 2 1 (Mt mX0_isFish 2))),
  (5, .inl (i_if (fun x => ¬ x = 0) 11 8)),
  (8, .inl (i_push (.int (-1000001)) 10)),
  (10, .inl i_iret),
  (11, .inl (i_aload 0 12)),
  (12, .inl (i_getf 11 [1] 15)),
  (15, .inl (i_iload 1 16)),
  (16, .inr (c_V 1 19 2 2 (Mt mX1_isCaught 2))),
  (19, .inl (i_if (fun x => x = 0) 25 22)),
  (22, .inl (i_push (.int (-1000002)) 24)),
  (24, .inl i_iret),
  (25, .inl (i_aload 0 26)),
  (26, .inr (c_V 0 29 3 1 (Mt mX0_keep 3))),
  (29, .inl (i_aload 0 30)),
  (30, .inl (i_getf 11 [1] 33)),
  (33, .inl (i_dup 34)),
  (34, .inl (i_getf 56 [2] 37)),
  (37, .inl (i_push (.int 1) 38)),
  (38, .inl (i_iload 1 39)),
  (39, .inl (i_bin (fun x y => x <<< (y &&& 31)) 40)),
  (40, .inl (i_bin (fun x y => x ||| y) 41)),
  (41, .inl (i_putI 56 [2] 44)),
  (44, .inl (i_aload 0 45)),
  (45, .inl (i_getf 11 [1] 48)),
  (48, .inl (i_getf 56 [2] 51)),
  (51, .inl i_iret)], noH)
theorem rX0_catchIt_0 (Q : Po) (h : Hp) (l1 : Value) (x : Nat) (st : List Value) : Ex mX0_catchIt Q 0 [.ref x, l1] st h = Ex mX0_catchIt Q 1 [.ref x, l1] (.ref x :: st) h := Ex_nx rfl rfl
theorem rX0_catchIt_1 (Q : Po) (h : Hp) (l0 : Value) (x : Int32) (st : List Value) : Ex mX0_catchIt Q 1 [l0, .int x] st h = Ex mX0_catchIt Q 2 [l0, .int x] (.int x :: st) h := Ex_nx rfl rfl
theorem rX0_catchIt_2 (Q : Po) (h : Hp) (ls : List Value) (a0 : Int32) (b : Nat) : Ex mX0_catchIt Q 2 ls (.int a0 :: .ref b :: []) h = (gK h b = 1 ∧ Ex mX0_isFish (Cont mX0_catchIt Q 2 ls 5 []) 0 [.ref b, .int a0] [] h) := Ex_cg (n := 2) (as := [.ref b, .int a0]) rfl rfl
theorem rX0_catchIt_5 (Q : Po) (h : Hp) (ls : List Value) (st : List Value) (x : Int32) : Ex mX0_catchIt Q 5 ls (.int x :: st) h = if ¬ x = 0 then Ex mX0_catchIt Q 11 ls st h else Ex mX0_catchIt Q 8 ls st h := Ex_br rfl rfl
theorem rX0_catchIt_8 (Q : Po) (h : Hp) (ls : List Value) (st : List Value) : Ex mX0_catchIt Q 8 ls st h = Ex mX0_catchIt Q 10 ls (.int (-1000001) :: st) h := Ex_nx rfl rfl
theorem rX0_catchIt_10 (Q : Po) (h : Hp) (ls : List Value) (x : Int32) : Ex mX0_catchIt Q 10 ls [.int x] h = Q (.inl (some (.int x))) h := Ex_rt rfl rfl
theorem rX0_catchIt_11 (Q : Po) (h : Hp) (l1 : Value) (x : Nat) (st : List Value) : Ex mX0_catchIt Q 11 [.ref x, l1] st h = Ex mX0_catchIt Q 12 [.ref x, l1] (.ref x :: st) h := Ex_nx rfl rfl
theorem rX0_catchIt_12 (Q : Po) (h : Hp) (ls : List Value) (st : List Value) (a : Nat) : Ex mX0_catchIt Q 12 ls (.ref a :: st) h = (gK h a ∈ ([1] : List Nat) ∧ Ex mX0_catchIt Q 15 ls (gF h 11 a :: st) h) := Ex_gd rfl rfl
theorem rX0_catchIt_15 (Q : Po) (h : Hp) (l0 : Value) (x : Int32) (st : List Value) : Ex mX0_catchIt Q 15 [l0, .int x] st h = Ex mX0_catchIt Q 16 [l0, .int x] (.int x :: st) h := Ex_nx rfl rfl
theorem rX0_catchIt_16 (Q : Po) (h : Hp) (ls : List Value) (a0 : Int32) (b : Nat) : Ex mX0_catchIt Q 16 ls (.int a0 :: .ref b :: []) h = (gK h b = 2 ∧ Ex mX1_isCaught (Cont mX0_catchIt Q 16 ls 19 []) 0 [.ref b, .int a0] [] h) := Ex_cg (n := 2) (as := [.ref b, .int a0]) rfl rfl
theorem rX0_catchIt_19 (Q : Po) (h : Hp) (ls : List Value) (st : List Value) (x : Int32) : Ex mX0_catchIt Q 19 ls (.int x :: st) h = if x = 0 then Ex mX0_catchIt Q 25 ls st h else Ex mX0_catchIt Q 22 ls st h := Ex_br rfl rfl
theorem rX0_catchIt_22 (Q : Po) (h : Hp) (ls : List Value) (st : List Value) : Ex mX0_catchIt Q 22 ls st h = Ex mX0_catchIt Q 24 ls (.int (-1000002) :: st) h := Ex_nx rfl rfl
theorem rX0_catchIt_24 (Q : Po) (h : Hp) (ls : List Value) (x : Int32) : Ex mX0_catchIt Q 24 ls [.int x] h = Q (.inl (some (.int x))) h := Ex_rt rfl rfl
theorem rX0_catchIt_25 (Q : Po) (h : Hp) (l1 : Value) (x : Nat) (st : List Value) : Ex mX0_catchIt Q 25 [.ref x, l1] st h = Ex mX0_catchIt Q 26 [.ref x, l1] (.ref x :: st) h := Ex_nx rfl rfl
theorem rX0_catchIt_26 (Q : Po) (h : Hp) (ls : List Value) (b : Nat) : Ex mX0_catchIt Q 26 ls (.ref b :: []) h = (gK h b = 1 ∧ Ex mX0_keep (Cont mX0_catchIt Q 26 ls 29 []) 0 [.ref b, .retAddr 0, .retAddr 0] [] h) := Ex_cg (n := 3) (as := [.ref b]) rfl rfl
theorem rX0_catchIt_29 (Q : Po) (h : Hp) (l1 : Value) (x : Nat) (st : List Value) : Ex mX0_catchIt Q 29 [.ref x, l1] st h = Ex mX0_catchIt Q 30 [.ref x, l1] (.ref x :: st) h := Ex_nx rfl rfl
theorem rX0_catchIt_30 (Q : Po) (h : Hp) (ls : List Value) (st : List Value) (a : Nat) : Ex mX0_catchIt Q 30 ls (.ref a :: st) h = (gK h a ∈ ([1] : List Nat) ∧ Ex mX0_catchIt Q 33 ls (gF h 11 a :: st) h) := Ex_gd rfl rfl
theorem rX0_catchIt_33 (Q : Po) (h : Hp) (ls : List Value) (st : List Value) (x : Nat) : Ex mX0_catchIt Q 33 ls (.ref x :: st) h = Ex mX0_catchIt Q 34 ls (.ref x :: .ref x :: st) h := Ex_nx rfl rfl
theorem rX0_catchIt_34 (Q : Po) (h : Hp) (ls : List Value) (st : List Value) (a : Nat) : Ex mX0_catchIt Q 34 ls (.ref a :: st) h = (gK h a ∈ ([2] : List Nat) ∧ Ex mX0_catchIt Q 37 ls (gF h 56 a :: st) h) := Ex_gd rfl rfl
theorem rX0_catchIt_37 (Q : Po) (h : Hp) (ls : List Value) (st : List Value) : Ex mX0_catchIt Q 37 ls st h = Ex mX0_catchIt Q 38 ls (.int 1 :: st) h := Ex_nx rfl rfl
theorem rX0_catchIt_38 (Q : Po) (h : Hp) (l0 : Value) (x : Int32) (st : List Value) : Ex mX0_catchIt Q 38 [l0, .int x] st h = Ex mX0_catchIt Q 39 [l0, .int x] (.int x :: st) h := Ex_nx rfl rfl
theorem rX0_catchIt_39 (Q : Po) (h : Hp) (ls : List Value) (st : List Value) (x y : Int32) : Ex mX0_catchIt Q 39 ls (.int y :: .int x :: st) h = Ex mX0_catchIt Q 40 ls (.int (x <<< (y &&& 31)) :: st) h := Ex_nx rfl rfl
theorem rX0_catchIt_40 (Q : Po) (h : Hp) (ls : List Value) (st : List Value) (x y : Int32) : Ex mX0_catchIt Q 40 ls (.int y :: .int x :: st) h = Ex mX0_catchIt Q 41 ls (.int (x ||| y) :: st) h := Ex_nx rfl rfl
theorem rX0_catchIt_41 (Q : Po) (h : Hp) (ls : List Value) (st : List Value) (x : Int32) (a : Nat) : Ex mX0_catchIt Q 41 ls (.int x :: .ref a :: st) h = (gK h a ∈ ([2] : List Nat) ∧ Ex mX0_catchIt Q 44 ls st (pF h 56 a (.int x))) := Ex_gd rfl rfl
theorem rX0_catchIt_44 (Q : Po) (h : Hp) (l1 : Value) (x : Nat) (st : List Value) : Ex mX0_catchIt Q 44 [.ref x, l1] st h = Ex mX0_catchIt Q 45 [.ref x, l1] (.ref x :: st) h := Ex_nx rfl rfl
theorem rX0_catchIt_45 (Q : Po) (h : Hp) (ls : List Value) (st : List Value) (a : Nat) : Ex mX0_catchIt Q 45 ls (.ref a :: st) h = (gK h a ∈ ([1] : List Nat) ∧ Ex mX0_catchIt Q 48 ls (gF h 11 a :: st) h) := Ex_gd rfl rfl
theorem rX0_catchIt_48 (Q : Po) (h : Hp) (ls : List Value) (st : List Value) (a : Nat) : Ex mX0_catchIt Q 48 ls (.ref a :: st) h = (gK h a ∈ ([2] : List Nat) ∧ Ex mX0_catchIt Q 51 ls (gF h 56 a :: st) h) := Ex_gd rfl rfl
theorem rX0_catchIt_51 (Q : Po) (h : Hp) (ls : List Value) (x : Int32) : Ex mX0_catchIt Q 51 ls [.int x] h = Q (.inl (some (.int x))) h := Ex_rt rfl rfl
theorem rX0_catchIt_t (Q : Po) (h : Hp) (pc n a : Nat) (ls st : List Value) : Cont mX0_catchIt Q pc ls n st (.inr a) h = Q (.inr a) h := rfl
/-! FishReaders.fishAt(I)I -/
def mX0_fishAt : Cd := ([(0, .inl (i_push (.int 0) 1)),
  (1, .inl (i_istore 2 2)),
  (2, .inl (i_push (.int 0) 3)),
  (3, .inl (i_istore 3 4)),
  (4, .inl (i_iload 3 5)),
  (5, .inl (i_aload 0 6)),
  (6, .inl (i_getf 11 [1] 9)),
  (9, .inr (c_V 0 12 1 2 (Mt mX1_many 1))),
  (12, .inl (i_icmp (fun x y => y ≤ x) 55 15)),
  (15, .inl (i_iload 2 16)),
  (16, .inl (i_aload 0 17)),
  (17, .inl (i_getf 11 [1] 20)),
  (20, .inl (i_iload 3 21)),
  (21, .inr (c_V 1 24 2 2 (Mt mX1_isCaught 2))),
  (24, .inl (i_if (fun x => ¬ x = 0) 46 27)),
  (27, .inl (i_aload 0 28)),
  (28, .inl (i_getf 11 [1] 31)),
  (31, .inl (i_getf 53 [2] 34)),
  (34, .inl (i_iload 3 35)),
  (35, .inl (i_iald 51 36)),
  (36, .inl (i_iload 1 37)),
  (37, .inl (i_icmp (fun x y => ¬ x = y) 46 40)),
  (40, .inl (i_push (.int 1) 41)),
  (41, .inl (i_iload 3 42)),
  (42, .inl (i_bin (fun x y => x <<< (y &&& 31)) 43)),
  (43, .inl (i_goto 47)),
  (46, .inl (i_push (.int 0) 47)),
  (47, .inl (i_bin (fun x y => x ||| y) 48)),
  (48, .inl (i_istore 2 49)),
  (49, .inl (i_iinc 3 1 52)),
  (52, .inl (i_goto 4)),
  (55, .inl (i_iload 2 56)),
  (56, .inl i_iret)], noH)
theorem rX0_fishAt_0 (Q : Po) (h : Hp) (ls : List Value) (st : List Value) : Ex mX0_fishAt Q 0 ls st h = Ex mX0_fishAt Q 1 ls (.int 0 :: st) h := Ex_nx rfl rfl
theorem rX0_fishAt_1 (Q : Po) (h : Hp) (l0 l1 l2 l3 : Value) (x : Int32) (st : List Value) : Ex mX0_fishAt Q 1 [l0, l1, l2, l3] (.int x :: st) h = Ex mX0_fishAt Q 2 [l0, l1, .int x, l3] st h := Ex_nx rfl rfl
theorem rX0_fishAt_2 (Q : Po) (h : Hp) (ls : List Value) (st : List Value) : Ex mX0_fishAt Q 2 ls st h = Ex mX0_fishAt Q 3 ls (.int 0 :: st) h := Ex_nx rfl rfl
theorem rX0_fishAt_3 (Q : Po) (h : Hp) (l0 l1 l2 l3 : Value) (x : Int32) (st : List Value) : Ex mX0_fishAt Q 3 [l0, l1, l2, l3] (.int x :: st) h = Ex mX0_fishAt Q 4 [l0, l1, l2, .int x] st h := Ex_nx rfl rfl
theorem rX0_fishAt_4 (Q : Po) (h : Hp) (l0 l1 l2 : Value) (x : Int32) (st : List Value) : Ex mX0_fishAt Q 4 [l0, l1, l2, .int x] st h = Ex mX0_fishAt Q 5 [l0, l1, l2, .int x] (.int x :: st) h := Ex_nx rfl rfl
theorem rX0_fishAt_5 (Q : Po) (h : Hp) (l1 l2 l3 : Value) (x : Nat) (st : List Value) : Ex mX0_fishAt Q 5 [.ref x, l1, l2, l3] st h = Ex mX0_fishAt Q 6 [.ref x, l1, l2, l3] (.ref x :: st) h := Ex_nx rfl rfl
theorem rX0_fishAt_6 (Q : Po) (h : Hp) (ls : List Value) (st : List Value) (a : Nat) : Ex mX0_fishAt Q 6 ls (.ref a :: st) h = (gK h a ∈ ([1] : List Nat) ∧ Ex mX0_fishAt Q 9 ls (gF h 11 a :: st) h) := Ex_gd rfl rfl
theorem rX0_fishAt_9 (Q : Po) (h : Hp) (ls : List Value) (s0 : Value) (b : Nat) : Ex mX0_fishAt Q 9 ls (.ref b :: [s0]) h = (gK h b = 2 ∧ Ex mX1_many (Cont mX0_fishAt Q 9 ls 12 [s0]) 0 [.ref b] [] h) := Ex_cg (n := 1) (as := [.ref b]) rfl rfl
theorem rX0_fishAt_12 (Q : Po) (h : Hp) (ls : List Value) (st : List Value) (x y : Int32) : Ex mX0_fishAt Q 12 ls (.int y :: .int x :: st) h = if y ≤ x then Ex mX0_fishAt Q 55 ls st h else Ex mX0_fishAt Q 15 ls st h := Ex_br rfl rfl
theorem rX0_fishAt_15 (Q : Po) (h : Hp) (l0 l1 l3 : Value) (x : Int32) (st : List Value) : Ex mX0_fishAt Q 15 [l0, l1, .int x, l3] st h = Ex mX0_fishAt Q 16 [l0, l1, .int x, l3] (.int x :: st) h := Ex_nx rfl rfl
theorem rX0_fishAt_16 (Q : Po) (h : Hp) (l1 l2 l3 : Value) (x : Nat) (st : List Value) : Ex mX0_fishAt Q 16 [.ref x, l1, l2, l3] st h = Ex mX0_fishAt Q 17 [.ref x, l1, l2, l3] (.ref x :: st) h := Ex_nx rfl rfl
theorem rX0_fishAt_17 (Q : Po) (h : Hp) (ls : List Value) (st : List Value) (a : Nat) : Ex mX0_fishAt Q 17 ls (.ref a :: st) h = (gK h a ∈ ([1] : List Nat) ∧ Ex mX0_fishAt Q 20 ls (gF h 11 a :: st) h) := Ex_gd rfl rfl
theorem rX0_fishAt_20 (Q : Po) (h : Hp) (l0 l1 l2 : Value) (x : Int32) (st : List Value) : Ex mX0_fishAt Q 20 [l0, l1, l2, .int x] st h = Ex mX0_fishAt Q 21 [l0, l1, l2, .int x] (.int x :: st) h := Ex_nx rfl rfl
theorem rX0_fishAt_21 (Q : Po) (h : Hp) (ls : List Value) (a0 : Int32) (s0 : Value) (b : Nat) : Ex mX0_fishAt Q 21 ls (.int a0 :: .ref b :: [s0]) h = (gK h b = 2 ∧ Ex mX1_isCaught (Cont mX0_fishAt Q 21 ls 24 [s0]) 0 [.ref b, .int a0] [] h) := Ex_cg (n := 2) (as := [.ref b, .int a0]) rfl rfl
theorem rX0_fishAt_24 (Q : Po) (h : Hp) (ls : List Value) (st : List Value) (x : Int32) : Ex mX0_fishAt Q 24 ls (.int x :: st) h = if ¬ x = 0 then Ex mX0_fishAt Q 46 ls st h else Ex mX0_fishAt Q 27 ls st h := Ex_br rfl rfl
theorem rX0_fishAt_27 (Q : Po) (h : Hp) (l1 l2 l3 : Value) (x : Nat) (st : List Value) : Ex mX0_fishAt Q 27 [.ref x, l1, l2, l3] st h = Ex mX0_fishAt Q 28 [.ref x, l1, l2, l3] (.ref x :: st) h := Ex_nx rfl rfl
theorem rX0_fishAt_28 (Q : Po) (h : Hp) (ls : List Value) (st : List Value) (a : Nat) : Ex mX0_fishAt Q 28 ls (.ref a :: st) h = (gK h a ∈ ([1] : List Nat) ∧ Ex mX0_fishAt Q 31 ls (gF h 11 a :: st) h) := Ex_gd rfl rfl
theorem rX0_fishAt_31 (Q : Po) (h : Hp) (ls : List Value) (st : List Value) (a : Nat) : Ex mX0_fishAt Q 31 ls (.ref a :: st) h = (gK h a ∈ ([2] : List Nat) ∧ Ex mX0_fishAt Q 34 ls (gF h 53 a :: st) h) := Ex_gd rfl rfl
theorem rX0_fishAt_34 (Q : Po) (h : Hp) (l0 l1 l2 : Value) (x : Int32) (st : List Value) : Ex mX0_fishAt Q 34 [l0, l1, l2, .int x] st h = Ex mX0_fishAt Q 35 [l0, l1, l2, .int x] (.int x :: st) h := Ex_nx rfl rfl
theorem rX0_fishAt_35 (Q : Po) (h : Hp) (ls : List Value) (st : List Value) (a : Nat) (i : Int32) : Ex mX0_fishAt Q 35 ls (.int i :: .ref a :: st) h = ((gK h a = 51 ∧ ¬ (i < 0 ∨ gL h a ≤ i.toNatClampNeg)) ∧ Ex mX0_fishAt Q 36 ls (.int (gI h a i.toNatClampNeg) :: st) h) := Ex_gd rfl rfl
theorem rX0_fishAt_36 (Q : Po) (h : Hp) (l0 l2 l3 : Value) (x : Int32) (st : List Value) : Ex mX0_fishAt Q 36 [l0, .int x, l2, l3] st h = Ex mX0_fishAt Q 37 [l0, .int x, l2, l3] (.int x :: st) h := Ex_nx rfl rfl
theorem rX0_fishAt_37 (Q : Po) (h : Hp) (ls : List Value) (st : List Value) (x y : Int32) : Ex mX0_fishAt Q 37 ls (.int y :: .int x :: st) h = if ¬ x = y then Ex mX0_fishAt Q 46 ls st h else Ex mX0_fishAt Q 40 ls st h := Ex_br rfl rfl
theorem rX0_fishAt_40 (Q : Po) (h : Hp) (ls : List Value) (st : List Value) : Ex mX0_fishAt Q 40 ls st h = Ex mX0_fishAt Q 41 ls (.int 1 :: st) h := Ex_nx rfl rfl
theorem rX0_fishAt_41 (Q : Po) (h : Hp) (l0 l1 l2 : Value) (x : Int32) (st : List Value) : Ex mX0_fishAt Q 41 [l0, l1, l2, .int x] st h = Ex mX0_fishAt Q 42 [l0, l1, l2, .int x] (.int x :: st) h := Ex_nx rfl rfl
theorem rX0_fishAt_42 (Q : Po) (h : Hp) (ls : List Value) (st : List Value) (x y : Int32) : Ex mX0_fishAt Q 42 ls (.int y :: .int x :: st) h = Ex mX0_fishAt Q 43 ls (.int (x <<< (y &&& 31)) :: st) h := Ex_nx rfl rfl
theorem rX0_fishAt_43 (Q : Po) (h : Hp) (ls : List Value) (st : List Value) : Ex mX0_fishAt Q 43 ls st h = Ex mX0_fishAt Q 47 ls st h := Ex_nx rfl rfl
theorem rX0_fishAt_46 (Q : Po) (h : Hp) (ls : List Value) (st : List Value) : Ex mX0_fishAt Q 46 ls st h = Ex mX0_fishAt Q 47 ls (.int 0 :: st) h := Ex_nx rfl rfl
theorem rX0_fishAt_47 (Q : Po) (h : Hp) (ls : List Value) (st : List Value) (x y : Int32) : Ex mX0_fishAt Q 47 ls (.int y :: .int x :: st) h = Ex mX0_fishAt Q 48 ls (.int (x ||| y) :: st) h := Ex_nx rfl rfl
theorem rX0_fishAt_48 (Q : Po) (h : Hp) (l0 l1 l2 l3 : Value) (x : Int32) (st : List Value) : Ex mX0_fishAt Q 48 [l0, l1, l2, l3] (.int x :: st) h = Ex mX0_fishAt Q 49 [l0, l1, .int x, l3] st h := Ex_nx rfl rfl
theorem rX0_fishAt_49 (Q : Po) (h : Hp) (l0 l1 l2 : Value) (x : Int32) (st : List Value) : Ex mX0_fishAt Q 49 [l0, l1, l2, .int x] st h = Ex mX0_fishAt Q 52 [l0, l1, l2, .int (x + 1)] st h := Ex_nx rfl rfl
theorem rX0_fishAt_52 (Q : Po) (h : Hp) (ls : List Value) (st : List Value) : Ex mX0_fishAt Q 52 ls st h = Ex mX0_fishAt Q 4 ls st h := Ex_nx rfl rfl
theorem rX0_fishAt_55 (Q : Po) (h : Hp) (l0 l1 l3 : Value) (x : Int32) (st : List Value) : Ex mX0_fishAt Q 55 [l0, l1, .int x, l3] st h = Ex mX0_fishAt Q 56 [l0, l1, .int x, l3] (.int x :: st) h := Ex_nx rfl rfl
theorem rX0_fishAt_56 (Q : Po) (h : Hp) (ls : List Value) (x : Int32) : Ex mX0_fishAt Q 56 ls [.int x] h = Q (.inl (some (.int x))) h := Ex_rt rfl rfl
theorem rX0_fishAt_t (Q : Po) (h : Hp) (pc n a : Nat) (ls st : List Value) : Cont mX0_fishAt Q pc ls n st (.inr a) h = Q (.inr a) h := rfl
/-! FishReaders.book(II)I -/
def mX0_book : Cd := ([(0, .inl (i_aload 0 1)),
  (1, .inl (i_iload 1 2)),
  (2, .inr (c_V 1 5 2 1 (Mt mX0_isBook 2))),
  (5, .inl (i_if (fun x => ¬ x = 0) 11 8)),
  (8, .inl (i_push (.int (-1000001)) 10)),
  (10, .inl i_iret),
  (11, .inl (i_iload 2 12)),
  (12, .inl (i_tsw 0 [52, 62, 72, 82, 94, 106] 120)),
  (52, .inl (i_aload 0 53)),
  (53, .inl (i_getf 11 [1] 56)),
  (56, .inl (i_getf 39 [2] 59)),
  (59, .inl (i_iload 1 60)),
  (60, .inl (i_iald 51 61)),
  (61, .inl i_iret),
  (62, .inl (i_aload 0 63)),
  (63, .inl (i_getf 11 [1] 66)),
  (66, .inl (i_getf 41 [2] 69)),
  (69, .inl (i_iload 1 70)),
  (70, .inl (i_iald 51 71)),
  (71, .inl i_iret),
  (72, .inl (i_aload 0 73)),
  (73, .inl (i_getf 11 [1] 76)),
  (76, .inl (i_getf 45 [2] 79)),
  (79, .inl (i_iload 1 80)),
  (80, .inl (i_iald 51 81)),
  (81, .inl i_iret),
  (82, .inl (i_aload 0 83)),
  (83, .inl (i_getf 11 [1] 86)),
  (86, .inl (i_getf 46 [2] 89)),
  (89, .inl (i_iload 1 90)),
  (90, .inl (i_bin (fun x y => x >>> (y &&& 31)) 91)),
  (91, .inl (i_push (.int 1) 92)),
  (92, .inl (i_bin (fun x y => x &&& y) 93)),
  (93, .inl i_iret),
  (94, .inl (i_aload 0 95)),
  (95, .inl (i_getf 11 [1] 98)),
  (98, .inl (i_getf 48 [2] 101)),
  (101, .inl (i_iload 1 102)),
  (102, .inl (i_bin (fun x y => x >>> (y &&& 31)) 103)),
  (103, .inl (i_push (.int 1) 104)),
  (104, .inl (i_bin (fun x y => x &&& y) 105)),
  (105, .inl i_iret),
  (106, .inl (i_aload 0 107)),
  (107, .inl (i_aload 0 108)),
  (108, .inl (i_getf 11 [1] 111)),
  (111, .inl (i_getf 45 [2] 114)),
  (114, .inl (i_iload 1 115)),
  (115, .inl (i_iald 51 116)),
  (116, .inr (c_V 1 119 4 1 (Mt mX0_fishAt 4))),
  (119, .inl i_iret),
  (120, .inl (i_push (.int (-1000001)) 122)),
  (122, .inl i_iret)], noH)
theorem rX0_book_0 (Q : Po) (h : Hp) (l1 l2 : Value) (x : Nat) (st : List Value) : Ex mX0_book Q 0 [.ref x, l1, l2] st h = Ex mX0_book Q 1 [.ref x, l1, l2] (.ref x :: st) h := Ex_nx rfl rfl
theorem rX0_book_1 (Q : Po) (h : Hp) (l0 l2 : Value) (x : Int32) (st : List Value) : Ex mX0_book Q 1 [l0, .int x, l2] st h = Ex mX0_book Q 2 [l0, .int x, l2] (.int x :: st) h := Ex_nx rfl rfl
theorem rX0_book_2 (Q : Po) (h : Hp) (ls : List Value) (a0 : Int32) (b : Nat) : Ex mX0_book Q 2 ls (.int a0 :: .ref b :: []) h = (gK h b = 1 ∧ Ex mX0_isBook (Cont mX0_book Q 2 ls 5 []) 0 [.ref b, .int a0] [] h) := Ex_cg (n := 2) (as := [.ref b, .int a0]) rfl rfl
theorem rX0_book_5 (Q : Po) (h : Hp) (ls : List Value) (st : List Value) (x : Int32) : Ex mX0_book Q 5 ls (.int x :: st) h = if ¬ x = 0 then Ex mX0_book Q 11 ls st h else Ex mX0_book Q 8 ls st h := Ex_br rfl rfl
theorem rX0_book_8 (Q : Po) (h : Hp) (ls : List Value) (st : List Value) : Ex mX0_book Q 8 ls st h = Ex mX0_book Q 10 ls (.int (-1000001) :: st) h := Ex_nx rfl rfl
theorem rX0_book_10 (Q : Po) (h : Hp) (ls : List Value) (x : Int32) : Ex mX0_book Q 10 ls [.int x] h = Q (.inl (some (.int x))) h := Ex_rt rfl rfl
theorem rX0_book_11 (Q : Po) (h : Hp) (l0 l1 : Value) (x : Int32) (st : List Value) : Ex mX0_book Q 11 [l0, l1, .int x] st h = Ex mX0_book Q 12 [l0, l1, .int x] (.int x :: st) h := Ex_nx rfl rfl
theorem rX0_book_12 (Q : Po) (h : Hp) (ls : List Value) (st : List Value) (x : Int32) : Ex mX0_book Q 12 ls (.int x :: st) h = Ex mX0_book Q (tswT 0 [52, 62, 72, 82, 94, 106] 120 x) ls st h := Ex_nx rfl rfl
theorem rX0_book_52 (Q : Po) (h : Hp) (l1 l2 : Value) (x : Nat) (st : List Value) : Ex mX0_book Q 52 [.ref x, l1, l2] st h = Ex mX0_book Q 53 [.ref x, l1, l2] (.ref x :: st) h := Ex_nx rfl rfl
theorem rX0_book_53 (Q : Po) (h : Hp) (ls : List Value) (st : List Value) (a : Nat) : Ex mX0_book Q 53 ls (.ref a :: st) h = (gK h a ∈ ([1] : List Nat) ∧ Ex mX0_book Q 56 ls (gF h 11 a :: st) h) := Ex_gd rfl rfl
theorem rX0_book_56 (Q : Po) (h : Hp) (ls : List Value) (st : List Value) (a : Nat) : Ex mX0_book Q 56 ls (.ref a :: st) h = (gK h a ∈ ([2] : List Nat) ∧ Ex mX0_book Q 59 ls (gF h 39 a :: st) h) := Ex_gd rfl rfl
theorem rX0_book_59 (Q : Po) (h : Hp) (l0 l2 : Value) (x : Int32) (st : List Value) : Ex mX0_book Q 59 [l0, .int x, l2] st h = Ex mX0_book Q 60 [l0, .int x, l2] (.int x :: st) h := Ex_nx rfl rfl
theorem rX0_book_60 (Q : Po) (h : Hp) (ls : List Value) (st : List Value) (a : Nat) (i : Int32) : Ex mX0_book Q 60 ls (.int i :: .ref a :: st) h = ((gK h a = 51 ∧ ¬ (i < 0 ∨ gL h a ≤ i.toNatClampNeg)) ∧ Ex mX0_book Q 61 ls (.int (gI h a i.toNatClampNeg) :: st) h) := Ex_gd rfl rfl
theorem rX0_book_61 (Q : Po) (h : Hp) (ls : List Value) (x : Int32) : Ex mX0_book Q 61 ls [.int x] h = Q (.inl (some (.int x))) h := Ex_rt rfl rfl
theorem rX0_book_62 (Q : Po) (h : Hp) (l1 l2 : Value) (x : Nat) (st : List Value) : Ex mX0_book Q 62 [.ref x, l1, l2] st h = Ex mX0_book Q 63 [.ref x, l1, l2] (.ref x :: st) h := Ex_nx rfl rfl
theorem rX0_book_63 (Q : Po) (h : Hp) (ls : List Value) (st : List Value) (a : Nat) : Ex mX0_book Q 63 ls (.ref a :: st) h = (gK h a ∈ ([1] : List Nat) ∧ Ex mX0_book Q 66 ls (gF h 11 a :: st) h) := Ex_gd rfl rfl
theorem rX0_book_66 (Q : Po) (h : Hp) (ls : List Value) (st : List Value) (a : Nat) : Ex mX0_book Q 66 ls (.ref a :: st) h = (gK h a ∈ ([2] : List Nat) ∧ Ex mX0_book Q 69 ls (gF h 41 a :: st) h) := Ex_gd rfl rfl
theorem rX0_book_69 (Q : Po) (h : Hp) (l0 l2 : Value) (x : Int32) (st : List Value) : Ex mX0_book Q 69 [l0, .int x, l2] st h = Ex mX0_book Q 70 [l0, .int x, l2] (.int x :: st) h := Ex_nx rfl rfl
theorem rX0_book_70 (Q : Po) (h : Hp) (ls : List Value) (st : List Value) (a : Nat) (i : Int32) : Ex mX0_book Q 70 ls (.int i :: .ref a :: st) h = ((gK h a = 51 ∧ ¬ (i < 0 ∨ gL h a ≤ i.toNatClampNeg)) ∧ Ex mX0_book Q 71 ls (.int (gI h a i.toNatClampNeg) :: st) h) := Ex_gd rfl rfl
theorem rX0_book_71 (Q : Po) (h : Hp) (ls : List Value) (x : Int32) : Ex mX0_book Q 71 ls [.int x] h = Q (.inl (some (.int x))) h := Ex_rt rfl rfl
theorem rX0_book_72 (Q : Po) (h : Hp) (l1 l2 : Value) (x : Nat) (st : List Value) : Ex mX0_book Q 72 [.ref x, l1, l2] st h = Ex mX0_book Q 73 [.ref x, l1, l2] (.ref x :: st) h := Ex_nx rfl rfl
theorem rX0_book_73 (Q : Po) (h : Hp) (ls : List Value) (st : List Value) (a : Nat) : Ex mX0_book Q 73 ls (.ref a :: st) h = (gK h a ∈ ([1] : List Nat) ∧ Ex mX0_book Q 76 ls (gF h 11 a :: st) h) := Ex_gd rfl rfl
theorem rX0_book_76 (Q : Po) (h : Hp) (ls : List Value) (st : List Value) (a : Nat) : Ex mX0_book Q 76 ls (.ref a :: st) h = (gK h a ∈ ([2] : List Nat) ∧ Ex mX0_book Q 79 ls (gF h 45 a :: st) h) := Ex_gd rfl rfl
theorem rX0_book_79 (Q : Po) (h : Hp) (l0 l2 : Value) (x : Int32) (st : List Value) : Ex mX0_book Q 79 [l0, .int x, l2] st h = Ex mX0_book Q 80 [l0, .int x, l2] (.int x :: st) h := Ex_nx rfl rfl
theorem rX0_book_80 (Q : Po) (h : Hp) (ls : List Value) (st : List Value) (a : Nat) (i : Int32) : Ex mX0_book Q 80 ls (.int i :: .ref a :: st) h = ((gK h a = 51 ∧ ¬ (i < 0 ∨ gL h a ≤ i.toNatClampNeg)) ∧ Ex mX0_book Q 81 ls (.int (gI h a i.toNatClampNeg) :: st) h) := Ex_gd rfl rfl
theorem rX0_book_81 (Q : Po) (h : Hp) (ls : List Value) (x : Int32) : Ex mX0_book Q 81 ls [.int x] h = Q (.inl (some (.int x))) h := Ex_rt rfl rfl
theorem rX0_book_82 (Q : Po) (h : Hp) (l1 l2 : Value) (x : Nat) (st : List Value) : Ex mX0_book Q 82 [.ref x, l1, l2] st h = Ex mX0_book Q 83 [.ref x, l1, l2] (.ref x :: st) h := Ex_nx rfl rfl
theorem rX0_book_83 (Q : Po) (h : Hp) (ls : List Value) (st : List Value) (a : Nat) : Ex mX0_book Q 83 ls (.ref a :: st) h = (gK h a ∈ ([1] : List Nat) ∧ Ex mX0_book Q 86 ls (gF h 11 a :: st) h) := Ex_gd rfl rfl
theorem rX0_book_86 (Q : Po) (h : Hp) (ls : List Value) (st : List Value) (a : Nat) : Ex mX0_book Q 86 ls (.ref a :: st) h = (gK h a ∈ ([2] : List Nat) ∧ Ex mX0_book Q 89 ls (gF h 46 a :: st) h) := Ex_gd rfl rfl
theorem rX0_book_89 (Q : Po) (h : Hp) (l0 l2 : Value) (x : Int32) (st : List Value) : Ex mX0_book Q 89 [l0, .int x, l2] st h = Ex mX0_book Q 90 [l0, .int x, l2] (.int x :: st) h := Ex_nx rfl rfl
theorem rX0_book_90 (Q : Po) (h : Hp) (ls : List Value) (st : List Value) (x y : Int32) : Ex mX0_book Q 90 ls (.int y :: .int x :: st) h = Ex mX0_book Q 91 ls (.int (x >>> (y &&& 31)) :: st) h := Ex_nx rfl rfl
theorem rX0_book_91 (Q : Po) (h : Hp) (ls : List Value) (st : List Value) : Ex mX0_book Q 91 ls st h = Ex mX0_book Q 92 ls (.int 1 :: st) h := Ex_nx rfl rfl
theorem rX0_book_92 (Q : Po) (h : Hp) (ls : List Value) (st : List Value) (x y : Int32) : Ex mX0_book Q 92 ls (.int y :: .int x :: st) h = Ex mX0_book Q 93 ls (.int (x &&& y) :: st) h := Ex_nx rfl rfl
theorem rX0_book_93 (Q : Po) (h : Hp) (ls : List Value) (x : Int32) : Ex mX0_book Q 93 ls [.int x] h = Q (.inl (some (.int x))) h := Ex_rt rfl rfl
theorem rX0_book_94 (Q : Po) (h : Hp) (l1 l2 : Value) (x : Nat) (st : List Value) : Ex mX0_book Q 94 [.ref x, l1, l2] st h = Ex mX0_book Q 95 [.ref x, l1, l2] (.ref x :: st) h := Ex_nx rfl rfl
theorem rX0_book_95 (Q : Po) (h : Hp) (ls : List Value) (st : List Value) (a : Nat) : Ex mX0_book Q 95 ls (.ref a :: st) h = (gK h a ∈ ([1] : List Nat) ∧ Ex mX0_book Q 98 ls (gF h 11 a :: st) h) := Ex_gd rfl rfl
theorem rX0_book_98 (Q : Po) (h : Hp) (ls : List Value) (st : List Value) (a : Nat) : Ex mX0_book Q 98 ls (.ref a :: st) h = (gK h a ∈ ([2] : List Nat) ∧ Ex mX0_book Q 101 ls (gF h 48 a :: st) h) := Ex_gd rfl rfl
theorem rX0_book_101 (Q : Po) (h : Hp) (l0 l2 : Value) (x : Int32) (st : List Value) : Ex mX0_book Q 101 [l0, .int x, l2] st h = Ex mX0_book Q 102 [l0, .int x, l2] (.int x :: st) h := Ex_nx rfl rfl
theorem rX0_book_102 (Q : Po) (h : Hp) (ls : List Value) (st : List Value) (x y : Int32) : Ex mX0_book Q 102 ls (.int y :: .int x :: st) h = Ex mX0_book Q 103 ls (.int (x >>> (y &&& 31)) :: st) h := Ex_nx rfl rfl
theorem rX0_book_103 (Q : Po) (h : Hp) (ls : List Value) (st : List Value) : Ex mX0_book Q 103 ls st h = Ex mX0_book Q 104 ls (.int 1 :: st) h := Ex_nx rfl rfl
theorem rX0_book_104 (Q : Po) (h : Hp) (ls : List Value) (st : List Value) (x y : Int32) : Ex mX0_book Q 104 ls (.int y :: .int x :: st) h = Ex mX0_book Q 105 ls (.int (x &&& y) :: st) h := Ex_nx rfl rfl
theorem rX0_book_105 (Q : Po) (h : Hp) (ls : List Value) (x : Int32) : Ex mX0_book Q 105 ls [.int x] h = Q (.inl (some (.int x))) h := Ex_rt rfl rfl
theorem rX0_book_106 (Q : Po) (h : Hp) (l1 l2 : Value) (x : Nat) (st : List Value) : Ex mX0_book Q 106 [.ref x, l1, l2] st h = Ex mX0_book Q 107 [.ref x, l1, l2] (.ref x :: st) h := Ex_nx rfl rfl
theorem rX0_book_107 (Q : Po) (h : Hp) (l1 l2 : Value) (x : Nat) (st : List Value) : Ex mX0_book Q 107 [.ref x, l1, l2] st h = Ex mX0_book Q 108 [.ref x, l1, l2] (.ref x :: st) h := Ex_nx rfl rfl
theorem rX0_book_108 (Q : Po) (h : Hp) (ls : List Value) (st : List Value) (a : Nat) : Ex mX0_book Q 108 ls (.ref a :: st) h = (gK h a ∈ ([1] : List Nat) ∧ Ex mX0_book Q 111 ls (gF h 11 a :: st) h) := Ex_gd rfl rfl
theorem rX0_book_111 (Q : Po) (h : Hp) (ls : List Value) (st : List Value) (a : Nat) : Ex mX0_book Q 111 ls (.ref a :: st) h = (gK h a ∈ ([2] : List Nat) ∧ Ex mX0_book Q 114 ls (gF h 45 a :: st) h) := Ex_gd rfl rfl
theorem rX0_book_114 (Q : Po) (h : Hp) (l0 l2 : Value) (x : Int32) (st : List Value) : Ex mX0_book Q 114 [l0, .int x, l2] st h = Ex mX0_book Q 115 [l0, .int x, l2] (.int x :: st) h := Ex_nx rfl rfl
theorem rX0_book_115 (Q : Po) (h : Hp) (ls : List Value) (st : List Value) (a : Nat) (i : Int32) : Ex mX0_book Q 115 ls (.int i :: .ref a :: st) h = ((gK h a = 51 ∧ ¬ (i < 0 ∨ gL h a ≤ i.toNatClampNeg)) ∧ Ex mX0_book Q 116 ls (.int (gI h a i.toNatClampNeg) :: st) h) := Ex_gd rfl rfl
theorem rX0_book_116 (Q : Po) (h : Hp) (ls : List Value) (a0 : Int32) (b : Nat) : Ex mX0_book Q 116 ls (.int a0 :: .ref b :: []) h = (gK h b = 1 ∧ Ex mX0_fishAt (Cont mX0_book Q 116 ls 119 []) 0 [.ref b, .int a0, .retAddr 0, .retAddr 0] [] h) := Ex_cg (n := 4) (as := [.ref b, .int a0]) rfl rfl
theorem rX0_book_119 (Q : Po) (h : Hp) (ls : List Value) (x : Int32) : Ex mX0_book Q 119 ls [.int x] h = Q (.inl (some (.int x))) h := Ex_rt rfl rfl
theorem rX0_book_120 (Q : Po) (h : Hp) (ls : List Value) (st : List Value) : Ex mX0_book Q 120 ls st h = Ex mX0_book Q 122 ls (.int (-1000001) :: st) h := Ex_nx rfl rfl
theorem rX0_book_122 (Q : Po) (h : Hp) (ls : List Value) (x : Int32) : Ex mX0_book Q 122 ls [.int x] h = Q (.inl (some (.int x))) h := Ex_rt rfl rfl
theorem rX0_book_t (Q : Po) (h : Hp) (pc n a : Nat) (ls st : List Value) : Cont mX0_book Q pc ls n st (.inr a) h = Q (.inr a) h := rfl
/-! FishReaders$Fish.taste()I -/
def mX3_taste : Cd := ([(0, .inl (i_push (.int 0) 1)),
  (1, .inl i_iret)], noH)
theorem rX3_taste_0 (Q : Po) (h : Hp) (ls : List Value) (st : List Value) : Ex mX3_taste Q 0 ls st h = Ex mX3_taste Q 1 ls (.int 0 :: st) h := Ex_nx rfl rfl
theorem rX3_taste_1 (Q : Po) (h : Hp) (ls : List Value) (x : Int32) : Ex mX3_taste Q 1 ls [.int x] h = Q (.inl (some (.int x))) h := Ex_rt rfl rfl
theorem rX3_taste_t (Q : Po) (h : Hp) (pc n a : Nat) (ls st : List Value) : Cont mX3_taste Q pc ls n st (.inr a) h = Q (.inr a) h := rfl
/-! FishReaders.fish(II)I -/
def mX0_fish : Cd := ([(0, .inl (i_aload 0 1)),
  (1, .inl (i_iload 1 2)),
  (2, .inr (c_V 1 5 2 1 (Mt mX0_isFish 2))),
  (5, .inl (i_if (fun x => x = 0) 20 8)),
  (8, .inl (i_iload 2 9)),
  (9, .inl (i_i2l 10)),
  (10, .inl (i_push (.long 0) 11)),
  (11, .inl (i_push (.long 3) 14)),
  (14, .inr (c_S 3 17 6 (Mt mX0_isIn 6))),
  (17, .inl (i_if (fun x => ¬ x = 0) 23 20)),
  (20, .inl (i_push (.int (-1000001)) 22)),
  (22, .inl i_iret),
  (23, .inl (i_aload 0 24)),
  (24, .inl (i_getf 11 [1] 27)),
  (27, .inl (i_getf 53 [2] 30)),
  (30, .inl (i_iload 1 31)),
  (31, .inl (i_iald 51 32)),
  (32, .inl (i_istore 3 33)),
  (33, .inl (i_iload 2 34)),
  (34, .inl (i_push (.int 1) 35)),
  (35, .inl (i_icmp (fun x y => ¬ x = y) 48 38)),
  (38, .inl (i_aload 0 39)),
  (39, .inl (i_getf 11 [1] 42)),
  (42, .inl (i_getf 55 [2] 45)),
  (45, .inl (i_iload 1 46)),
  (46, .inl (i_iald 51 47)),
  (47, .inl i_iret),
  (48, .inl (i_aload 0 49)),
  (49, .inl (i_getf 11 [1] 52)),
  (52, .inl (i_iload 1 53)),
  (53, .inr (c_V 1 56 2 2 (Mt mX1_isCaught 2))),
  (56, .inl (i_if (fun x => x = 0) 63 59)),
  (59, .inl (i_push (.int (-1000000)) 62)),
  (62, .inl i_iret),
  (63, .inl (i_iload 2 64)),
  (64, .inl (i_if (fun x => ¬ x = 0) 71 67)),
  (67, .inl (i_iload 3 68)),
  (68, .inl (i_goto 107)),
  (71, .inl (i_iload 2 72)),
  (72, .inl (i_push (.int 2) 73)),
  (73, .inl (i_icmp (fun x y => ¬ x = y) 98 76)),
  (76, .inl (i_aload 0 77)),
  (77, .inl (i_getf 11 [1] 80)),
  (80, .inl (i_iload 3 81)),
  (81, .inl (i_aload 0 82)),
  (82, .inl (i_getf 11 [1] 85)),
  (85, .inl (i_iload 1 86)),
  (86, .inr (c_V 1 89 2 2 (Mt mX1_fish 2))),
  (89, .inr (c_D 0 92 1 [(4, (Mt mX4_taste 1)), (5, (Mt mX5_taste 1)), (6, (Mt mX4_taste 1)), (7, (Mt mX3_taste 1)), (8, (Mt mX3_taste 1))])),
  (92, .inr (c_V 2 95 8 2 (Mt mX1_liked 8))),
  (95, .inl (i_goto 107)),
  (98, .inl (i_aload 0 99)),
  (99, .inl (i_getf 11 [1] 102)),
  (102, .inl (i_getf 43 [2] 105)),
  (105, .inl (i_iload 3 106)),
  (106, .inl (i_iald 51 107)),
  (107, .inl i_iret)], noH)
theorem rX0_fish_0 (Q : Po) (h : Hp) (l1 l2 l3 : Value) (x : Nat) (st : List Value) : Ex mX0_fish Q 0 [.ref x, l1, l2, l3] st h = Ex mX0_fish Q 1 [.ref x, l1, l2, l3] (.ref x :: st) h := Ex_nx rfl rfl
theorem rX0_fish_1 (Q : Po) (h : Hp) (l0 l2 l3 : Value) (x : Int32) (st : List Value) : Ex mX0_fish Q 1 [l0, .int x, l2, l3] st h = Ex mX0_fish Q 2 [l0, .int x, l2, l3] (.int x :: st) h := Ex_nx rfl rfl
theorem rX0_fish_2 (Q : Po) (h : Hp) (ls : List Value) (a0 : Int32) (b : Nat) : Ex mX0_fish Q 2 ls (.int a0 :: .ref b :: []) h = (gK h b = 1 ∧ Ex mX0_isFish (Cont mX0_fish Q 2 ls 5 []) 0 [.ref b, .int a0] [] h) := Ex_cg (n := 2) (as := [.ref b, .int a0]) rfl rfl
theorem rX0_fish_5 (Q : Po) (h : Hp) (ls : List Value) (st : List Value) (x : Int32) : Ex mX0_fish Q 5 ls (.int x :: st) h = if x = 0 then Ex mX0_fish Q 20 ls st h else Ex mX0_fish Q 8 ls st h := Ex_br rfl rfl
theorem rX0_fish_8 (Q : Po) (h : Hp) (l0 l1 l3 : Value) (x : Int32) (st : List Value) : Ex mX0_fish Q 8 [l0, l1, .int x, l3] st h = Ex mX0_fish Q 9 [l0, l1, .int x, l3] (.int x :: st) h := Ex_nx rfl rfl
theorem rX0_fish_9 (Q : Po) (h : Hp) (ls : List Value) (st : List Value) (x : Int32) : Ex mX0_fish Q 9 ls (.int x :: st) h = Ex mX0_fish Q 10 ls (.long x.toInt64 :: st) h := Ex_nx rfl rfl
theorem rX0_fish_10 (Q : Po) (h : Hp) (ls : List Value) (st : List Value) : Ex mX0_fish Q 10 ls st h = Ex mX0_fish Q 11 ls (.long 0 :: st) h := Ex_nx rfl rfl
theorem rX0_fish_11 (Q : Po) (h : Hp) (ls : List Value) (st : List Value) : Ex mX0_fish Q 11 ls st h = Ex mX0_fish Q 14 ls (.long 3 :: st) h := Ex_nx rfl rfl
theorem rX0_fish_14 (Q : Po) (h : Hp) (ls : List Value) (a0 : Int64) (a1 : Int64) (a2 : Int64) : Ex mX0_fish Q 14 ls (.long a2 :: .long a1 :: .long a0 :: []) h = Ex mX0_isIn (Cont mX0_fish Q 14 ls 17 []) 0 [.long a0, .retAddr 1, .long a1, .retAddr 1, .long a2, .retAddr 1] [] h := Ex_cl (n := 6) (as := [.long a0, .long a1, .long a2]) rfl rfl
theorem rX0_fish_17 (Q : Po) (h : Hp) (ls : List Value) (st : List Value) (x : Int32) : Ex mX0_fish Q 17 ls (.int x :: st) h = if ¬ x = 0 then Ex mX0_fish Q 23 ls st h else Ex mX0_fish Q 20 ls st h := Ex_br rfl rfl
theorem rX0_fish_20 (Q : Po) (h : Hp) (ls : List Value) (st : List Value) : Ex mX0_fish Q 20 ls st h = Ex mX0_fish Q 22 ls (.int (-1000001) :: st) h := Ex_nx rfl rfl
theorem rX0_fish_22 (Q : Po) (h : Hp) (ls : List Value) (x : Int32) : Ex mX0_fish Q 22 ls [.int x] h = Q (.inl (some (.int x))) h := Ex_rt rfl rfl
theorem rX0_fish_23 (Q : Po) (h : Hp) (l1 l2 l3 : Value) (x : Nat) (st : List Value) : Ex mX0_fish Q 23 [.ref x, l1, l2, l3] st h = Ex mX0_fish Q 24 [.ref x, l1, l2, l3] (.ref x :: st) h := Ex_nx rfl rfl
theorem rX0_fish_24 (Q : Po) (h : Hp) (ls : List Value) (st : List Value) (a : Nat) : Ex mX0_fish Q 24 ls (.ref a :: st) h = (gK h a ∈ ([1] : List Nat) ∧ Ex mX0_fish Q 27 ls (gF h 11 a :: st) h) := Ex_gd rfl rfl
theorem rX0_fish_27 (Q : Po) (h : Hp) (ls : List Value) (st : List Value) (a : Nat) : Ex mX0_fish Q 27 ls (.ref a :: st) h = (gK h a ∈ ([2] : List Nat) ∧ Ex mX0_fish Q 30 ls (gF h 53 a :: st) h) := Ex_gd rfl rfl
theorem rX0_fish_30 (Q : Po) (h : Hp) (l0 l2 l3 : Value) (x : Int32) (st : List Value) : Ex mX0_fish Q 30 [l0, .int x, l2, l3] st h = Ex mX0_fish Q 31 [l0, .int x, l2, l3] (.int x :: st) h := Ex_nx rfl rfl
theorem rX0_fish_31 (Q : Po) (h : Hp) (ls : List Value) (st : List Value) (a : Nat) (i : Int32) : Ex mX0_fish Q 31 ls (.int i :: .ref a :: st) h = ((gK h a = 51 ∧ ¬ (i < 0 ∨ gL h a ≤ i.toNatClampNeg)) ∧ Ex mX0_fish Q 32 ls (.int (gI h a i.toNatClampNeg) :: st) h) := Ex_gd rfl rfl
theorem rX0_fish_32 (Q : Po) (h : Hp) (l0 l1 l2 l3 : Value) (x : Int32) (st : List Value) : Ex mX0_fish Q 32 [l0, l1, l2, l3] (.int x :: st) h = Ex mX0_fish Q 33 [l0, l1, l2, .int x] st h := Ex_nx rfl rfl
theorem rX0_fish_33 (Q : Po) (h : Hp) (l0 l1 l3 : Value) (x : Int32) (st : List Value) : Ex mX0_fish Q 33 [l0, l1, .int x, l3] st h = Ex mX0_fish Q 34 [l0, l1, .int x, l3] (.int x :: st) h := Ex_nx rfl rfl
theorem rX0_fish_34 (Q : Po) (h : Hp) (ls : List Value) (st : List Value) : Ex mX0_fish Q 34 ls st h = Ex mX0_fish Q 35 ls (.int 1 :: st) h := Ex_nx rfl rfl
theorem rX0_fish_35 (Q : Po) (h : Hp) (ls : List Value) (st : List Value) (x y : Int32) : Ex mX0_fish Q 35 ls (.int y :: .int x :: st) h = if ¬ x = y then Ex mX0_fish Q 48 ls st h else Ex mX0_fish Q 38 ls st h := Ex_br rfl rfl
theorem rX0_fish_38 (Q : Po) (h : Hp) (l1 l2 l3 : Value) (x : Nat) (st : List Value) : Ex mX0_fish Q 38 [.ref x, l1, l2, l3] st h = Ex mX0_fish Q 39 [.ref x, l1, l2, l3] (.ref x :: st) h := Ex_nx rfl rfl
theorem rX0_fish_39 (Q : Po) (h : Hp) (ls : List Value) (st : List Value) (a : Nat) : Ex mX0_fish Q 39 ls (.ref a :: st) h = (gK h a ∈ ([1] : List Nat) ∧ Ex mX0_fish Q 42 ls (gF h 11 a :: st) h) := Ex_gd rfl rfl
theorem rX0_fish_42 (Q : Po) (h : Hp) (ls : List Value) (st : List Value) (a : Nat) : Ex mX0_fish Q 42 ls (.ref a :: st) h = (gK h a ∈ ([2] : List Nat) ∧ Ex mX0_fish Q 45 ls (gF h 55 a :: st) h) := Ex_gd rfl rfl
theorem rX0_fish_45 (Q : Po) (h : Hp) (l0 l2 l3 : Value) (x : Int32) (st : List Value) : Ex mX0_fish Q 45 [l0, .int x, l2, l3] st h = Ex mX0_fish Q 46 [l0, .int x, l2, l3] (.int x :: st) h := Ex_nx rfl rfl
theorem rX0_fish_46 (Q : Po) (h : Hp) (ls : List Value) (st : List Value) (a : Nat) (i : Int32) : Ex mX0_fish Q 46 ls (.int i :: .ref a :: st) h = ((gK h a = 51 ∧ ¬ (i < 0 ∨ gL h a ≤ i.toNatClampNeg)) ∧ Ex mX0_fish Q 47 ls (.int (gI h a i.toNatClampNeg) :: st) h) := Ex_gd rfl rfl
theorem rX0_fish_47 (Q : Po) (h : Hp) (ls : List Value) (x : Int32) : Ex mX0_fish Q 47 ls [.int x] h = Q (.inl (some (.int x))) h := Ex_rt rfl rfl
theorem rX0_fish_48 (Q : Po) (h : Hp) (l1 l2 l3 : Value) (x : Nat) (st : List Value) : Ex mX0_fish Q 48 [.ref x, l1, l2, l3] st h = Ex mX0_fish Q 49 [.ref x, l1, l2, l3] (.ref x :: st) h := Ex_nx rfl rfl
theorem rX0_fish_49 (Q : Po) (h : Hp) (ls : List Value) (st : List Value) (a : Nat) : Ex mX0_fish Q 49 ls (.ref a :: st) h = (gK h a ∈ ([1] : List Nat) ∧ Ex mX0_fish Q 52 ls (gF h 11 a :: st) h) := Ex_gd rfl rfl
theorem rX0_fish_52 (Q : Po) (h : Hp) (l0 l2 l3 : Value) (x : Int32) (st : List Value) : Ex mX0_fish Q 52 [l0, .int x, l2, l3] st h = Ex mX0_fish Q 53 [l0, .int x, l2, l3] (.int x :: st) h := Ex_nx rfl rfl
theorem rX0_fish_53 (Q : Po) (h : Hp) (ls : List Value) (a0 : Int32) (b : Nat) : Ex mX0_fish Q 53 ls (.int a0 :: .ref b :: []) h = (gK h b = 2 ∧ Ex mX1_isCaught (Cont mX0_fish Q 53 ls 56 []) 0 [.ref b, .int a0] [] h) := Ex_cg (n := 2) (as := [.ref b, .int a0]) rfl rfl
theorem rX0_fish_56 (Q : Po) (h : Hp) (ls : List Value) (st : List Value) (x : Int32) : Ex mX0_fish Q 56 ls (.int x :: st) h = if x = 0 then Ex mX0_fish Q 63 ls st h else Ex mX0_fish Q 59 ls st h := Ex_br rfl rfl
theorem rX0_fish_59 (Q : Po) (h : Hp) (ls : List Value) (st : List Value) : Ex mX0_fish Q 59 ls st h = Ex mX0_fish Q 62 ls (.int (-1000000) :: st) h := Ex_nx rfl rfl
theorem rX0_fish_62 (Q : Po) (h : Hp) (ls : List Value) (x : Int32) : Ex mX0_fish Q 62 ls [.int x] h = Q (.inl (some (.int x))) h := Ex_rt rfl rfl
theorem rX0_fish_63 (Q : Po) (h : Hp) (l0 l1 l3 : Value) (x : Int32) (st : List Value) : Ex mX0_fish Q 63 [l0, l1, .int x, l3] st h = Ex mX0_fish Q 64 [l0, l1, .int x, l3] (.int x :: st) h := Ex_nx rfl rfl
theorem rX0_fish_64 (Q : Po) (h : Hp) (ls : List Value) (st : List Value) (x : Int32) : Ex mX0_fish Q 64 ls (.int x :: st) h = if ¬ x = 0 then Ex mX0_fish Q 71 ls st h else Ex mX0_fish Q 67 ls st h := Ex_br rfl rfl
theorem rX0_fish_67 (Q : Po) (h : Hp) (l0 l1 l2 : Value) (x : Int32) (st : List Value) : Ex mX0_fish Q 67 [l0, l1, l2, .int x] st h = Ex mX0_fish Q 68 [l0, l1, l2, .int x] (.int x :: st) h := Ex_nx rfl rfl
theorem rX0_fish_68 (Q : Po) (h : Hp) (ls : List Value) (st : List Value) : Ex mX0_fish Q 68 ls st h = Ex mX0_fish Q 107 ls st h := Ex_nx rfl rfl
theorem rX0_fish_71 (Q : Po) (h : Hp) (l0 l1 l3 : Value) (x : Int32) (st : List Value) : Ex mX0_fish Q 71 [l0, l1, .int x, l3] st h = Ex mX0_fish Q 72 [l0, l1, .int x, l3] (.int x :: st) h := Ex_nx rfl rfl
theorem rX0_fish_72 (Q : Po) (h : Hp) (ls : List Value) (st : List Value) : Ex mX0_fish Q 72 ls st h = Ex mX0_fish Q 73 ls (.int 2 :: st) h := Ex_nx rfl rfl
theorem rX0_fish_73 (Q : Po) (h : Hp) (ls : List Value) (st : List Value) (x y : Int32) : Ex mX0_fish Q 73 ls (.int y :: .int x :: st) h = if ¬ x = y then Ex mX0_fish Q 98 ls st h else Ex mX0_fish Q 76 ls st h := Ex_br rfl rfl
theorem rX0_fish_76 (Q : Po) (h : Hp) (l1 l2 l3 : Value) (x : Nat) (st : List Value) : Ex mX0_fish Q 76 [.ref x, l1, l2, l3] st h = Ex mX0_fish Q 77 [.ref x, l1, l2, l3] (.ref x :: st) h := Ex_nx rfl rfl
theorem rX0_fish_77 (Q : Po) (h : Hp) (ls : List Value) (st : List Value) (a : Nat) : Ex mX0_fish Q 77 ls (.ref a :: st) h = (gK h a ∈ ([1] : List Nat) ∧ Ex mX0_fish Q 80 ls (gF h 11 a :: st) h) := Ex_gd rfl rfl
theorem rX0_fish_80 (Q : Po) (h : Hp) (l0 l1 l2 : Value) (x : Int32) (st : List Value) : Ex mX0_fish Q 80 [l0, l1, l2, .int x] st h = Ex mX0_fish Q 81 [l0, l1, l2, .int x] (.int x :: st) h := Ex_nx rfl rfl
theorem rX0_fish_81 (Q : Po) (h : Hp) (l1 l2 l3 : Value) (x : Nat) (st : List Value) : Ex mX0_fish Q 81 [.ref x, l1, l2, l3] st h = Ex mX0_fish Q 82 [.ref x, l1, l2, l3] (.ref x :: st) h := Ex_nx rfl rfl
theorem rX0_fish_82 (Q : Po) (h : Hp) (ls : List Value) (st : List Value) (a : Nat) : Ex mX0_fish Q 82 ls (.ref a :: st) h = (gK h a ∈ ([1] : List Nat) ∧ Ex mX0_fish Q 85 ls (gF h 11 a :: st) h) := Ex_gd rfl rfl
theorem rX0_fish_85 (Q : Po) (h : Hp) (l0 l2 l3 : Value) (x : Int32) (st : List Value) : Ex mX0_fish Q 85 [l0, .int x, l2, l3] st h = Ex mX0_fish Q 86 [l0, .int x, l2, l3] (.int x :: st) h := Ex_nx rfl rfl
theorem rX0_fish_86 (Q : Po) (h : Hp) (ls : List Value) (a0 : Int32) (s0 s1 : Value) (b : Nat) : Ex mX0_fish Q 86 ls (.int a0 :: .ref b :: [s0, s1]) h = (gK h b = 2 ∧ Ex mX1_fish (Cont mX0_fish Q 86 ls 89 [s0, s1]) 0 [.ref b, .int a0] [] h) := Ex_cg (n := 2) (as := [.ref b, .int a0]) rfl rfl
theorem rX0_fish_89k4 (Q : Po) (h : Hp) (ls : List Value) (s0 s1 : Value) (b : Nat) (hk : gK h b = 4) : Ex mX0_fish Q 89 ls (.ref b :: [s0, s1]) h = Ex mX4_taste (Cont mX0_fish Q 89 ls 92 [s0, s1]) 0 [.ref b] [] h := Ex_cl (n := 1) (as := [.ref b]) rfl (by simp only [c_D, tkA, hk]; rfl)
theorem rX0_fish_89k5 (Q : Po) (h : Hp) (ls : List Value) (s0 s1 : Value) (b : Nat) (hk : gK h b = 5) : Ex mX0_fish Q 89 ls (.ref b :: [s0, s1]) h = Ex mX5_taste (Cont mX0_fish Q 89 ls 92 [s0, s1]) 0 [.ref b] [] h := Ex_cl (n := 1) (as := [.ref b]) rfl (by simp only [c_D, tkA, hk]; rfl)
theorem rX0_fish_89k6 (Q : Po) (h : Hp) (ls : List Value) (s0 s1 : Value) (b : Nat) (hk : gK h b = 6) : Ex mX0_fish Q 89 ls (.ref b :: [s0, s1]) h = Ex mX4_taste (Cont mX0_fish Q 89 ls 92 [s0, s1]) 0 [.ref b] [] h := Ex_cl (n := 1) (as := [.ref b]) rfl (by simp only [c_D, tkA, hk]; rfl)
theorem rX0_fish_89k7 (Q : Po) (h : Hp) (ls : List Value) (s0 s1 : Value) (b : Nat) (hk : gK h b = 7) : Ex mX0_fish Q 89 ls (.ref b :: [s0, s1]) h = Ex mX3_taste (Cont mX0_fish Q 89 ls 92 [s0, s1]) 0 [.ref b] [] h := Ex_cl (n := 1) (as := [.ref b]) rfl (by simp only [c_D, tkA, hk]; rfl)
theorem rX0_fish_89k8 (Q : Po) (h : Hp) (ls : List Value) (s0 s1 : Value) (b : Nat) (hk : gK h b = 8) : Ex mX0_fish Q 89 ls (.ref b :: [s0, s1]) h = Ex mX3_taste (Cont mX0_fish Q 89 ls 92 [s0, s1]) 0 [.ref b] [] h := Ex_cl (n := 1) (as := [.ref b]) rfl (by simp only [c_D, tkA, hk]; rfl)
theorem rX0_fish_92 (Q : Po) (h : Hp) (ls : List Value) (a0 : Int32) (a1 : Int32) (b : Nat) : Ex mX0_fish Q 92 ls (.int a1 :: .int a0 :: .ref b :: []) h = (gK h b = 2 ∧ Ex mX1_liked (Cont mX0_fish Q 92 ls 95 []) 0 [.ref b, .int a0, .int a1, .retAddr 0, .retAddr 0, .retAddr 0, .retAddr 0, .retAddr 0] [] h) := Ex_cg (n := 8) (as := [.ref b, .int a0, .int a1]) rfl rfl
theorem rX0_fish_95 (Q : Po) (h : Hp) (ls : List Value) (st : List Value) : Ex mX0_fish Q 95 ls st h = Ex mX0_fish Q 107 ls st h := Ex_nx rfl rfl
theorem rX0_fish_98 (Q : Po) (h : Hp) (l1 l2 l3 : Value) (x : Nat) (st : List Value) : Ex mX0_fish Q 98 [.ref x, l1, l2, l3] st h = Ex mX0_fish Q 99 [.ref x, l1, l2, l3] (.ref x :: st) h := Ex_nx rfl rfl
theorem rX0_fish_99 (Q : Po) (h : Hp) (ls : List Value) (st : List Value) (a : Nat) : Ex mX0_fish Q 99 ls (.ref a :: st) h = (gK h a ∈ ([1] : List Nat) ∧ Ex mX0_fish Q 102 ls (gF h 11 a :: st) h) := Ex_gd rfl rfl
theorem rX0_fish_102 (Q : Po) (h : Hp) (ls : List Value) (st : List Value) (a : Nat) : Ex mX0_fish Q 102 ls (.ref a :: st) h = (gK h a ∈ ([2] : List Nat) ∧ Ex mX0_fish Q 105 ls (gF h 43 a :: st) h) := Ex_gd rfl rfl
theorem rX0_fish_105 (Q : Po) (h : Hp) (l0 l1 l2 : Value) (x : Int32) (st : List Value) : Ex mX0_fish Q 105 [l0, l1, l2, .int x] st h = Ex mX0_fish Q 106 [l0, l1, l2, .int x] (.int x :: st) h := Ex_nx rfl rfl
theorem rX0_fish_106 (Q : Po) (h : Hp) (ls : List Value) (st : List Value) (a : Nat) (i : Int32) : Ex mX0_fish Q 106 ls (.int i :: .ref a :: st) h = ((gK h a = 51 ∧ ¬ (i < 0 ∨ gL h a ≤ i.toNatClampNeg)) ∧ Ex mX0_fish Q 107 ls (.int (gI h a i.toNatClampNeg) :: st) h) := Ex_gd rfl rfl
theorem rX0_fish_107 (Q : Po) (h : Hp) (ls : List Value) (x : Int32) : Ex mX0_fish Q 107 ls [.int x] h = Q (.inl (some (.int x))) h := Ex_rt rfl rfl
theorem rX0_fish_t (Q : Po) (h : Hp) (pc n a : Nat) (ls st : List Value) : Cont mX0_fish Q pc ls n st (.inr a) h = Q (.inr a) h := rfl
/-! FishReaders.stand(I)I -/
def mX0_stand : Cd := ([(0, .inl (i_aload 0 1)),
  (1, .inr (c_V 0 4 1 1 (Mt mX0_isLibrary 1))),
  (4, .inl (i_if (fun x => ¬ x = 0) 10 7)),
  (7, .inl (i_push (.int (-1000002)) 9)),
  (9, .inl i_iret),
  (10, .inl (i_iload 1 11)),
  (11, .inl (i_tsw 0 [48, 56, 64, 72, 84, 92] 100)),
  (48, .inl (i_aload 0 49)),
  (49, .inl (i_getf 11 [1] 52)),
  (52, .inl (i_getf 46 [2] 55)),
  (55, .inl i_iret),
  (56, .inl (i_aload 0 57)),
  (57, .inl (i_getf 11 [1] 60)),
  (60, .inl (i_getf 48 [2] 63)),
  (63, .inl i_iret),
  (64, .inl (i_aload 0 65)),
  (65, .inl (i_getf 11 [1] 68)),
  (68, .inl (i_getf 56 [2] 71)),
  (71, .inl i_iret),
  (72, .inl (i_aload 0 73)),
  (73, .inl (i_getf 11 [1] 76)),
  (76, .inl (i_aload 0 77)),
  (77, .inr (c_V 0 80 1 1 (Mt mX0_allBooks 1))),
  (80, .inr (c_V 1 83 4 2 (Mt mX1_left 4))),
  (83, .inl i_iret),
  (84, .inl (i_aload 0 85)),
  (85, .inl (i_getf 11 [1] 88)),
  (88, .inl (i_getf 32 [2] 91)),
  (91, .inl i_iret),
  (92, .inl (i_aload 0 93)),
  (93, .inl (i_getf 11 [1] 96)),
  (96, .inl (i_getf 34 [2] 99)),
  (99, .inl i_iret),
  (100, .inl (i_push (.int (-1000001)) 102)),
  (102, .inl i_iret)], noH)
theorem rX0_stand_0 (Q : Po) (h : Hp) (l1 : Value) (x : Nat) (st : List Value) : Ex mX0_stand Q 0 [.ref x, l1] st h = Ex mX0_stand Q 1 [.ref x, l1] (.ref x :: st) h := Ex_nx rfl rfl
theorem rX0_stand_1 (Q : Po) (h : Hp) (ls : List Value) (b : Nat) : Ex mX0_stand Q 1 ls (.ref b :: []) h = (gK h b = 1 ∧ Ex mX0_isLibrary (Cont mX0_stand Q 1 ls 4 []) 0 [.ref b] [] h) := Ex_cg (n := 1) (as := [.ref b]) rfl rfl
theorem rX0_stand_4 (Q : Po) (h : Hp) (ls : List Value) (st : List Value) (x : Int32) : Ex mX0_stand Q 4 ls (.int x :: st) h = if ¬ x = 0 then Ex mX0_stand Q 10 ls st h else Ex mX0_stand Q 7 ls st h := Ex_br rfl rfl
theorem rX0_stand_7 (Q : Po) (h : Hp) (ls : List Value) (st : List Value) : Ex mX0_stand Q 7 ls st h = Ex mX0_stand Q 9 ls (.int (-1000002) :: st) h := Ex_nx rfl rfl
theorem rX0_stand_9 (Q : Po) (h : Hp) (ls : List Value) (x : Int32) : Ex mX0_stand Q 9 ls [.int x] h = Q (.inl (some (.int x))) h := Ex_rt rfl rfl
theorem rX0_stand_10 (Q : Po) (h : Hp) (l0 : Value) (x : Int32) (st : List Value) : Ex mX0_stand Q 10 [l0, .int x] st h = Ex mX0_stand Q 11 [l0, .int x] (.int x :: st) h := Ex_nx rfl rfl
theorem rX0_stand_11 (Q : Po) (h : Hp) (ls : List Value) (st : List Value) (x : Int32) : Ex mX0_stand Q 11 ls (.int x :: st) h = Ex mX0_stand Q (tswT 0 [48, 56, 64, 72, 84, 92] 100 x) ls st h := Ex_nx rfl rfl
theorem rX0_stand_48 (Q : Po) (h : Hp) (l1 : Value) (x : Nat) (st : List Value) : Ex mX0_stand Q 48 [.ref x, l1] st h = Ex mX0_stand Q 49 [.ref x, l1] (.ref x :: st) h := Ex_nx rfl rfl
theorem rX0_stand_49 (Q : Po) (h : Hp) (ls : List Value) (st : List Value) (a : Nat) : Ex mX0_stand Q 49 ls (.ref a :: st) h = (gK h a ∈ ([1] : List Nat) ∧ Ex mX0_stand Q 52 ls (gF h 11 a :: st) h) := Ex_gd rfl rfl
theorem rX0_stand_52 (Q : Po) (h : Hp) (ls : List Value) (st : List Value) (a : Nat) : Ex mX0_stand Q 52 ls (.ref a :: st) h = (gK h a ∈ ([2] : List Nat) ∧ Ex mX0_stand Q 55 ls (gF h 46 a :: st) h) := Ex_gd rfl rfl
theorem rX0_stand_55 (Q : Po) (h : Hp) (ls : List Value) (x : Int32) : Ex mX0_stand Q 55 ls [.int x] h = Q (.inl (some (.int x))) h := Ex_rt rfl rfl
theorem rX0_stand_56 (Q : Po) (h : Hp) (l1 : Value) (x : Nat) (st : List Value) : Ex mX0_stand Q 56 [.ref x, l1] st h = Ex mX0_stand Q 57 [.ref x, l1] (.ref x :: st) h := Ex_nx rfl rfl
theorem rX0_stand_57 (Q : Po) (h : Hp) (ls : List Value) (st : List Value) (a : Nat) : Ex mX0_stand Q 57 ls (.ref a :: st) h = (gK h a ∈ ([1] : List Nat) ∧ Ex mX0_stand Q 60 ls (gF h 11 a :: st) h) := Ex_gd rfl rfl
theorem rX0_stand_60 (Q : Po) (h : Hp) (ls : List Value) (st : List Value) (a : Nat) : Ex mX0_stand Q 60 ls (.ref a :: st) h = (gK h a ∈ ([2] : List Nat) ∧ Ex mX0_stand Q 63 ls (gF h 48 a :: st) h) := Ex_gd rfl rfl
theorem rX0_stand_63 (Q : Po) (h : Hp) (ls : List Value) (x : Int32) : Ex mX0_stand Q 63 ls [.int x] h = Q (.inl (some (.int x))) h := Ex_rt rfl rfl
theorem rX0_stand_64 (Q : Po) (h : Hp) (l1 : Value) (x : Nat) (st : List Value) : Ex mX0_stand Q 64 [.ref x, l1] st h = Ex mX0_stand Q 65 [.ref x, l1] (.ref x :: st) h := Ex_nx rfl rfl
theorem rX0_stand_65 (Q : Po) (h : Hp) (ls : List Value) (st : List Value) (a : Nat) : Ex mX0_stand Q 65 ls (.ref a :: st) h = (gK h a ∈ ([1] : List Nat) ∧ Ex mX0_stand Q 68 ls (gF h 11 a :: st) h) := Ex_gd rfl rfl
theorem rX0_stand_68 (Q : Po) (h : Hp) (ls : List Value) (st : List Value) (a : Nat) : Ex mX0_stand Q 68 ls (.ref a :: st) h = (gK h a ∈ ([2] : List Nat) ∧ Ex mX0_stand Q 71 ls (gF h 56 a :: st) h) := Ex_gd rfl rfl
theorem rX0_stand_71 (Q : Po) (h : Hp) (ls : List Value) (x : Int32) : Ex mX0_stand Q 71 ls [.int x] h = Q (.inl (some (.int x))) h := Ex_rt rfl rfl
theorem rX0_stand_72 (Q : Po) (h : Hp) (l1 : Value) (x : Nat) (st : List Value) : Ex mX0_stand Q 72 [.ref x, l1] st h = Ex mX0_stand Q 73 [.ref x, l1] (.ref x :: st) h := Ex_nx rfl rfl
theorem rX0_stand_73 (Q : Po) (h : Hp) (ls : List Value) (st : List Value) (a : Nat) : Ex mX0_stand Q 73 ls (.ref a :: st) h = (gK h a ∈ ([1] : List Nat) ∧ Ex mX0_stand Q 76 ls (gF h 11 a :: st) h) := Ex_gd rfl rfl
theorem rX0_stand_76 (Q : Po) (h : Hp) (l1 : Value) (x : Nat) (st : List Value) : Ex mX0_stand Q 76 [.ref x, l1] st h = Ex mX0_stand Q 77 [.ref x, l1] (.ref x :: st) h := Ex_nx rfl rfl
theorem rX0_stand_77 (Q : Po) (h : Hp) (ls : List Value) (s0 : Value) (b : Nat) : Ex mX0_stand Q 77 ls (.ref b :: [s0]) h = (gK h b = 1 ∧ Ex mX0_allBooks (Cont mX0_stand Q 77 ls 80 [s0]) 0 [.ref b] [] h) := Ex_cg (n := 1) (as := [.ref b]) rfl rfl
theorem rX0_stand_80 (Q : Po) (h : Hp) (ls : List Value) (a0 : Int32) (b : Nat) : Ex mX0_stand Q 80 ls (.int a0 :: .ref b :: []) h = (gK h b = 2 ∧ Ex mX1_left (Cont mX0_stand Q 80 ls 83 []) 0 [.ref b, .int a0, .retAddr 0, .retAddr 0] [] h) := Ex_cg (n := 4) (as := [.ref b, .int a0]) rfl rfl
theorem rX0_stand_83 (Q : Po) (h : Hp) (ls : List Value) (x : Int32) : Ex mX0_stand Q 83 ls [.int x] h = Q (.inl (some (.int x))) h := Ex_rt rfl rfl
theorem rX0_stand_84 (Q : Po) (h : Hp) (l1 : Value) (x : Nat) (st : List Value) : Ex mX0_stand Q 84 [.ref x, l1] st h = Ex mX0_stand Q 85 [.ref x, l1] (.ref x :: st) h := Ex_nx rfl rfl
theorem rX0_stand_85 (Q : Po) (h : Hp) (ls : List Value) (st : List Value) (a : Nat) : Ex mX0_stand Q 85 ls (.ref a :: st) h = (gK h a ∈ ([1] : List Nat) ∧ Ex mX0_stand Q 88 ls (gF h 11 a :: st) h) := Ex_gd rfl rfl
theorem rX0_stand_88 (Q : Po) (h : Hp) (ls : List Value) (st : List Value) (a : Nat) : Ex mX0_stand Q 88 ls (.ref a :: st) h = (gK h a ∈ ([2] : List Nat) ∧ Ex mX0_stand Q 91 ls (gF h 32 a :: st) h) := Ex_gd rfl rfl
theorem rX0_stand_91 (Q : Po) (h : Hp) (ls : List Value) (x : Int32) : Ex mX0_stand Q 91 ls [.int x] h = Q (.inl (some (.int x))) h := Ex_rt rfl rfl
theorem rX0_stand_92 (Q : Po) (h : Hp) (l1 : Value) (x : Nat) (st : List Value) : Ex mX0_stand Q 92 [.ref x, l1] st h = Ex mX0_stand Q 93 [.ref x, l1] (.ref x :: st) h := Ex_nx rfl rfl
theorem rX0_stand_93 (Q : Po) (h : Hp) (ls : List Value) (st : List Value) (a : Nat) : Ex mX0_stand Q 93 ls (.ref a :: st) h = (gK h a ∈ ([1] : List Nat) ∧ Ex mX0_stand Q 96 ls (gF h 11 a :: st) h) := Ex_gd rfl rfl
theorem rX0_stand_96 (Q : Po) (h : Hp) (ls : List Value) (st : List Value) (a : Nat) : Ex mX0_stand Q 96 ls (.ref a :: st) h = (gK h a ∈ ([2] : List Nat) ∧ Ex mX0_stand Q 99 ls (gF h 34 a :: st) h) := Ex_gd rfl rfl
theorem rX0_stand_99 (Q : Po) (h : Hp) (ls : List Value) (x : Int32) : Ex mX0_stand Q 99 ls [.int x] h = Q (.inl (some (.int x))) h := Ex_rt rfl rfl
theorem rX0_stand_100 (Q : Po) (h : Hp) (ls : List Value) (st : List Value) : Ex mX0_stand Q 100 ls st h = Ex mX0_stand Q 102 ls (.int (-1000001) :: st) h := Ex_nx rfl rfl
theorem rX0_stand_102 (Q : Po) (h : Hp) (ls : List Value) (x : Int32) : Ex mX0_stand Q 102 ls [.int x] h = Q (.inl (some (.int x))) h := Ex_rt rfl rfl
theorem rX0_stand_t (Q : Po) (h : Hp) (pc n a : Nat) (ls st : List Value) : Cont mX0_stand Q pc ls n st (.inr a) h = Q (.inr a) h := rfl
/-! FishReaders.isFar(I)Z -/
def mX0_isFar : Cd := ([(0, .inl (i_iload 0 1)),
  (1, .inl (i_i2l 2)),
  (2, .inl (i_push (.long 0) 3)),
  (3, .inl (i_push (.long 60) 6)),
  (6, .inr (c_S 3 9 6 (Mt mX0_isIn 6))),
  (9, .inl i_zret)], noH)
theorem rX0_isFar_0 (Q : Po) (h : Hp) (x : Int32) (st : List Value) : Ex mX0_isFar Q 0 [.int x] st h = Ex mX0_isFar Q 1 [.int x] (.int x :: st) h := Ex_nx rfl rfl
theorem rX0_isFar_1 (Q : Po) (h : Hp) (ls : List Value) (st : List Value) (x : Int32) : Ex mX0_isFar Q 1 ls (.int x :: st) h = Ex mX0_isFar Q 2 ls (.long x.toInt64 :: st) h := Ex_nx rfl rfl
theorem rX0_isFar_2 (Q : Po) (h : Hp) (ls : List Value) (st : List Value) : Ex mX0_isFar Q 2 ls st h = Ex mX0_isFar Q 3 ls (.long 0 :: st) h := Ex_nx rfl rfl
theorem rX0_isFar_3 (Q : Po) (h : Hp) (ls : List Value) (st : List Value) : Ex mX0_isFar Q 3 ls st h = Ex mX0_isFar Q 6 ls (.long 60 :: st) h := Ex_nx rfl rfl
theorem rX0_isFar_6 (Q : Po) (h : Hp) (ls : List Value) (a0 : Int64) (a1 : Int64) (a2 : Int64) : Ex mX0_isFar Q 6 ls (.long a2 :: .long a1 :: .long a0 :: []) h = Ex mX0_isIn (Cont mX0_isFar Q 6 ls 9 []) 0 [.long a0, .retAddr 1, .long a1, .retAddr 1, .long a2, .retAddr 1] [] h := Ex_cl (n := 6) (as := [.long a0, .long a1, .long a2]) rfl rfl
theorem rX0_isFar_9 (Q : Po) (h : Hp) (ls : List Value) (x : Int32) : Ex mX0_isFar Q 9 ls [.int x] h = ((x = 0 ∨ x = 1) ∧ Q (.inl (some (.int x))) h) := Ex_rg rfl rfl
theorem rX0_isFar_t (Q : Po) (h : Hp) (pc n a : Nat) (ls st : List Value) : Cont mX0_isFar Q pc ls n st (.inr a) h = Q (.inr a) h := rfl
/-! FishReaders.tried()LFishReaders$Library; -/
def mX0_tried : Cd := ([(0, .inl (i_aload 0 1)),
  (1, .inl (i_getf 13 [1] 4)),
  (4, .inl (i_aload 0 5)),
  (5, .inl (i_getf 11 [1] 8)),
  (8, .inr (c_V 1 11 2 2 (Mt mX1_become 2))),
  (11, .inl i_aret)], noH)
theorem rX0_tried_0 (Q : Po) (h : Hp) (x : Nat) (st : List Value) : Ex mX0_tried Q 0 [.ref x] st h = Ex mX0_tried Q 1 [.ref x] (.ref x :: st) h := Ex_nx rfl rfl
theorem rX0_tried_1 (Q : Po) (h : Hp) (ls : List Value) (st : List Value) (a : Nat) : Ex mX0_tried Q 1 ls (.ref a :: st) h = (gK h a ∈ ([1] : List Nat) ∧ Ex mX0_tried Q 4 ls (gF h 13 a :: st) h) := Ex_gd rfl rfl
theorem rX0_tried_4 (Q : Po) (h : Hp) (x : Nat) (st : List Value) : Ex mX0_tried Q 4 [.ref x] st h = Ex mX0_tried Q 5 [.ref x] (.ref x :: st) h := Ex_nx rfl rfl
theorem rX0_tried_5 (Q : Po) (h : Hp) (ls : List Value) (st : List Value) (a : Nat) : Ex mX0_tried Q 5 ls (.ref a :: st) h = (gK h a ∈ ([1] : List Nat) ∧ Ex mX0_tried Q 8 ls (gF h 11 a :: st) h) := Ex_gd rfl rfl
theorem rX0_tried_8 (Q : Po) (h : Hp) (ls : List Value) (a0 : Nat) (b : Nat) : Ex mX0_tried Q 8 ls (.ref a0 :: .ref b :: []) h = (gK h b = 2 ∧ Ex mX1_become (Cont mX0_tried Q 8 ls 11 []) 0 [.ref b, .ref a0] [] h) := Ex_cg (n := 2) (as := [.ref b, .ref a0]) rfl rfl
theorem rX0_tried_11 (Q : Po) (h : Hp) (ls : List Value) (x : Nat) : Ex mX0_tried Q 11 ls [.ref x] h = Q (.inl (some (.ref x))) h := Ex_rt rfl rfl
theorem rX0_tried_t (Q : Po) (h : Hp) (pc n a : Nat) (ls st : List Value) : Cont mX0_tried Q pc ls n st (.inr a) h = Q (.inr a) h := rfl
/-! FishReaders.goOn(I)LFishReaders$Library; -/
def mX0_goOn : Cd := ([(0, .inl (i_push (.int 0) 1)),
  (1, .inl (i_istore 2 2)),
  (2, .inl (i_iload 2 3)),
  (3, .inl (i_iload 1 4)),
  (4, .inl (i_icmp (fun x y => y ≤ x) 21 7)),
  (7, .inl (i_aload 0 8)),
  (8, .inl (i_getf 13 [1] 11)),
  (11, .inr (c_V 0 14 2 2 (Mt mX1_pass 2))),
  (14, .inl (i_pop 15)),
  (15, .inl (i_iinc 2 1 18)),
  (18, .inl (i_goto 2)),
  (21, .inl (i_aload 0 22)),
  (22, .inl (i_getf 13 [1] 25)),
  (25, .inl i_aret)], noH)
theorem rX0_goOn_0 (Q : Po) (h : Hp) (ls : List Value) (st : List Value) : Ex mX0_goOn Q 0 ls st h = Ex mX0_goOn Q 1 ls (.int 0 :: st) h := Ex_nx rfl rfl
theorem rX0_goOn_1 (Q : Po) (h : Hp) (l0 l1 l2 : Value) (x : Int32) (st : List Value) : Ex mX0_goOn Q 1 [l0, l1, l2] (.int x :: st) h = Ex mX0_goOn Q 2 [l0, l1, .int x] st h := Ex_nx rfl rfl
theorem rX0_goOn_2 (Q : Po) (h : Hp) (l0 l1 : Value) (x : Int32) (st : List Value) : Ex mX0_goOn Q 2 [l0, l1, .int x] st h = Ex mX0_goOn Q 3 [l0, l1, .int x] (.int x :: st) h := Ex_nx rfl rfl
theorem rX0_goOn_3 (Q : Po) (h : Hp) (l0 l2 : Value) (x : Int32) (st : List Value) : Ex mX0_goOn Q 3 [l0, .int x, l2] st h = Ex mX0_goOn Q 4 [l0, .int x, l2] (.int x :: st) h := Ex_nx rfl rfl
theorem rX0_goOn_4 (Q : Po) (h : Hp) (ls : List Value) (st : List Value) (x y : Int32) : Ex mX0_goOn Q 4 ls (.int y :: .int x :: st) h = if y ≤ x then Ex mX0_goOn Q 21 ls st h else Ex mX0_goOn Q 7 ls st h := Ex_br rfl rfl
theorem rX0_goOn_7 (Q : Po) (h : Hp) (l1 l2 : Value) (x : Nat) (st : List Value) : Ex mX0_goOn Q 7 [.ref x, l1, l2] st h = Ex mX0_goOn Q 8 [.ref x, l1, l2] (.ref x :: st) h := Ex_nx rfl rfl
theorem rX0_goOn_8 (Q : Po) (h : Hp) (ls : List Value) (st : List Value) (a : Nat) : Ex mX0_goOn Q 8 ls (.ref a :: st) h = (gK h a ∈ ([1] : List Nat) ∧ Ex mX0_goOn Q 11 ls (gF h 13 a :: st) h) := Ex_gd rfl rfl
theorem rX0_goOn_11 (Q : Po) (h : Hp) (ls : List Value) (b : Nat) : Ex mX0_goOn Q 11 ls (.ref b :: []) h = (gK h b = 2 ∧ Ex mX1_pass (Cont mX0_goOn Q 11 ls 14 []) 0 [.ref b, .retAddr 0] [] h) := Ex_cg (n := 2) (as := [.ref b]) rfl rfl
theorem rX0_goOn_14 (Q : Po) (h : Hp) (ls : List Value) (st : List Value) (x : Nat) : Ex mX0_goOn Q 14 ls (.ref x :: st) h = Ex mX0_goOn Q 15 ls st h := Ex_nx rfl rfl
theorem rX0_goOn_15 (Q : Po) (h : Hp) (l0 l1 : Value) (x : Int32) (st : List Value) : Ex mX0_goOn Q 15 [l0, l1, .int x] st h = Ex mX0_goOn Q 18 [l0, l1, .int (x + 1)] st h := Ex_nx rfl rfl
theorem rX0_goOn_18 (Q : Po) (h : Hp) (ls : List Value) (st : List Value) : Ex mX0_goOn Q 18 ls st h = Ex mX0_goOn Q 2 ls st h := Ex_nx rfl rfl
theorem rX0_goOn_21 (Q : Po) (h : Hp) (l1 l2 : Value) (x : Nat) (st : List Value) : Ex mX0_goOn Q 21 [.ref x, l1, l2] st h = Ex mX0_goOn Q 22 [.ref x, l1, l2] (.ref x :: st) h := Ex_nx rfl rfl
theorem rX0_goOn_22 (Q : Po) (h : Hp) (ls : List Value) (st : List Value) (a : Nat) : Ex mX0_goOn Q 22 ls (.ref a :: st) h = (gK h a ∈ ([1] : List Nat) ∧ Ex mX0_goOn Q 25 ls (gF h 13 a :: st) h) := Ex_gd rfl rfl
theorem rX0_goOn_25 (Q : Po) (h : Hp) (ls : List Value) (x : Nat) : Ex mX0_goOn Q 25 ls [.ref x] h = Q (.inl (some (.ref x))) h := Ex_rt rfl rfl
theorem rX0_goOn_t (Q : Po) (h : Hp) (pc n a : Nat) (ls st : List Value) : Cont mX0_goOn Q pc ls n st (.inr a) h = Q (.inr a) h := rfl
/-! FishReaders.ahead(III)I -/
def mX0_ahead : Cd := ([(0, .inl (i_aload 0 1)),
  (1, .inl (i_iload 1 2)),
  (2, .inr (c_V 1 5 2 1 (Mt mX0_isBook 2))),
  (5, .inl (i_if (fun x => x = 0) 22 8)),
  (8, .inl (i_iload 2 9)),
  (9, .inr (c_S 1 12 1 (Mt mX0_isFar 1))),
  (12, .inl (i_if (fun x => x = 0) 22 15)),
  (15, .inl (i_iload 3 16)),
  (16, .inr (c_S 1 19 1 (Mt mX0_isHalf 1))),
  (19, .inl (i_if (fun x => ¬ x = 0) 25 22)),
  (22, .inl (i_push (.int (-1000001)) 24)),
  (24, .inl i_iret),
  (25, .inl (i_aload 0 26)),
  (26, .inr (c_V 0 29 1 1 (Mt mX0_tried 1))),
  (29, .inl (i_pop 30)),
  (30, .inl (i_aload 0 31)),
  (31, .inl (i_iload 2 32)),
  (32, .inr (c_V 1 35 3 1 (Mt mX0_goOn 3))),
  (35, .inl (i_pop 36)),
  (36, .inl (i_iload 3 37)),
  (37, .inl (i_if (fun x => ¬ x = 0) 52 40)),
  (40, .inl (i_aload 0 41)),
  (41, .inl (i_getf 13 [1] 44)),
  (44, .inl (i_getf 39 [2] 47)),
  (47, .inl (i_iload 1 48)),
  (48, .inl (i_iald 51 49)),
  (49, .inl (i_goto 61)),
  (52, .inl (i_aload 0 53)),
  (53, .inl (i_getf 13 [1] 56)),
  (56, .inl (i_getf 41 [2] 59)),
  (59, .inl (i_iload 1 60)),
  (60, .inl (i_iald 51 61)),
  (61, .inl i_iret)], noH)
theorem rX0_ahead_0 (Q : Po) (h : Hp) (l1 l2 l3 : Value) (x : Nat) (st : List Value) : Ex mX0_ahead Q 0 [.ref x, l1, l2, l3] st h = Ex mX0_ahead Q 1 [.ref x, l1, l2, l3] (.ref x :: st) h := Ex_nx rfl rfl
theorem rX0_ahead_1 (Q : Po) (h : Hp) (l0 l2 l3 : Value) (x : Int32) (st : List Value) : Ex mX0_ahead Q 1 [l0, .int x, l2, l3] st h = Ex mX0_ahead Q 2 [l0, .int x, l2, l3] (.int x :: st) h := Ex_nx rfl rfl
theorem rX0_ahead_2 (Q : Po) (h : Hp) (ls : List Value) (a0 : Int32) (b : Nat) : Ex mX0_ahead Q 2 ls (.int a0 :: .ref b :: []) h = (gK h b = 1 ∧ Ex mX0_isBook (Cont mX0_ahead Q 2 ls 5 []) 0 [.ref b, .int a0] [] h) := Ex_cg (n := 2) (as := [.ref b, .int a0]) rfl rfl
theorem rX0_ahead_5 (Q : Po) (h : Hp) (ls : List Value) (st : List Value) (x : Int32) : Ex mX0_ahead Q 5 ls (.int x :: st) h = if x = 0 then Ex mX0_ahead Q 22 ls st h else Ex mX0_ahead Q 8 ls st h := Ex_br rfl rfl
theorem rX0_ahead_8 (Q : Po) (h : Hp) (l0 l1 l3 : Value) (x : Int32) (st : List Value) : Ex mX0_ahead Q 8 [l0, l1, .int x, l3] st h = Ex mX0_ahead Q 9 [l0, l1, .int x, l3] (.int x :: st) h := Ex_nx rfl rfl
theorem rX0_ahead_9 (Q : Po) (h : Hp) (ls : List Value) (a0 : Int32) : Ex mX0_ahead Q 9 ls (.int a0 :: []) h = Ex mX0_isFar (Cont mX0_ahead Q 9 ls 12 []) 0 [.int a0] [] h := Ex_cl (n := 1) (as := [.int a0]) rfl rfl
theorem rX0_ahead_12 (Q : Po) (h : Hp) (ls : List Value) (st : List Value) (x : Int32) : Ex mX0_ahead Q 12 ls (.int x :: st) h = if x = 0 then Ex mX0_ahead Q 22 ls st h else Ex mX0_ahead Q 15 ls st h := Ex_br rfl rfl
theorem rX0_ahead_15 (Q : Po) (h : Hp) (l0 l1 l2 : Value) (x : Int32) (st : List Value) : Ex mX0_ahead Q 15 [l0, l1, l2, .int x] st h = Ex mX0_ahead Q 16 [l0, l1, l2, .int x] (.int x :: st) h := Ex_nx rfl rfl
theorem rX0_ahead_16 (Q : Po) (h : Hp) (ls : List Value) (a0 : Int32) : Ex mX0_ahead Q 16 ls (.int a0 :: []) h = Ex mX0_isHalf (Cont mX0_ahead Q 16 ls 19 []) 0 [.int a0] [] h := Ex_cl (n := 1) (as := [.int a0]) rfl rfl
theorem rX0_ahead_19 (Q : Po) (h : Hp) (ls : List Value) (st : List Value) (x : Int32) : Ex mX0_ahead Q 19 ls (.int x :: st) h = if ¬ x = 0 then Ex mX0_ahead Q 25 ls st h else Ex mX0_ahead Q 22 ls st h := Ex_br rfl rfl
theorem rX0_ahead_22 (Q : Po) (h : Hp) (ls : List Value) (st : List Value) : Ex mX0_ahead Q 22 ls st h = Ex mX0_ahead Q 24 ls (.int (-1000001) :: st) h := Ex_nx rfl rfl
theorem rX0_ahead_24 (Q : Po) (h : Hp) (ls : List Value) (x : Int32) : Ex mX0_ahead Q 24 ls [.int x] h = Q (.inl (some (.int x))) h := Ex_rt rfl rfl
theorem rX0_ahead_25 (Q : Po) (h : Hp) (l1 l2 l3 : Value) (x : Nat) (st : List Value) : Ex mX0_ahead Q 25 [.ref x, l1, l2, l3] st h = Ex mX0_ahead Q 26 [.ref x, l1, l2, l3] (.ref x :: st) h := Ex_nx rfl rfl
theorem rX0_ahead_26 (Q : Po) (h : Hp) (ls : List Value) (b : Nat) : Ex mX0_ahead Q 26 ls (.ref b :: []) h = (gK h b = 1 ∧ Ex mX0_tried (Cont mX0_ahead Q 26 ls 29 []) 0 [.ref b] [] h) := Ex_cg (n := 1) (as := [.ref b]) rfl rfl
theorem rX0_ahead_29 (Q : Po) (h : Hp) (ls : List Value) (st : List Value) (x : Nat) : Ex mX0_ahead Q 29 ls (.ref x :: st) h = Ex mX0_ahead Q 30 ls st h := Ex_nx rfl rfl
theorem rX0_ahead_30 (Q : Po) (h : Hp) (l1 l2 l3 : Value) (x : Nat) (st : List Value) : Ex mX0_ahead Q 30 [.ref x, l1, l2, l3] st h = Ex mX0_ahead Q 31 [.ref x, l1, l2, l3] (.ref x :: st) h := Ex_nx rfl rfl
theorem rX0_ahead_31 (Q : Po) (h : Hp) (l0 l1 l3 : Value) (x : Int32) (st : List Value) : Ex mX0_ahead Q 31 [l0, l1, .int x, l3] st h = Ex mX0_ahead Q 32 [l0, l1, .int x, l3] (.int x :: st) h := Ex_nx rfl rfl
theorem rX0_ahead_32 (Q : Po) (h : Hp) (ls : List Value) (a0 : Int32) (b : Nat) : Ex mX0_ahead Q 32 ls (.int a0 :: .ref b :: []) h = (gK h b = 1 ∧ Ex mX0_goOn (Cont mX0_ahead Q 32 ls 35 []) 0 [.ref b, .int a0, .retAddr 0] [] h) := Ex_cg (n := 3) (as := [.ref b, .int a0]) rfl rfl
theorem rX0_ahead_35 (Q : Po) (h : Hp) (ls : List Value) (st : List Value) (x : Nat) : Ex mX0_ahead Q 35 ls (.ref x :: st) h = Ex mX0_ahead Q 36 ls st h := Ex_nx rfl rfl
theorem rX0_ahead_36 (Q : Po) (h : Hp) (l0 l1 l2 : Value) (x : Int32) (st : List Value) : Ex mX0_ahead Q 36 [l0, l1, l2, .int x] st h = Ex mX0_ahead Q 37 [l0, l1, l2, .int x] (.int x :: st) h := Ex_nx rfl rfl
theorem rX0_ahead_37 (Q : Po) (h : Hp) (ls : List Value) (st : List Value) (x : Int32) : Ex mX0_ahead Q 37 ls (.int x :: st) h = if ¬ x = 0 then Ex mX0_ahead Q 52 ls st h else Ex mX0_ahead Q 40 ls st h := Ex_br rfl rfl
theorem rX0_ahead_40 (Q : Po) (h : Hp) (l1 l2 l3 : Value) (x : Nat) (st : List Value) : Ex mX0_ahead Q 40 [.ref x, l1, l2, l3] st h = Ex mX0_ahead Q 41 [.ref x, l1, l2, l3] (.ref x :: st) h := Ex_nx rfl rfl
theorem rX0_ahead_41 (Q : Po) (h : Hp) (ls : List Value) (st : List Value) (a : Nat) : Ex mX0_ahead Q 41 ls (.ref a :: st) h = (gK h a ∈ ([1] : List Nat) ∧ Ex mX0_ahead Q 44 ls (gF h 13 a :: st) h) := Ex_gd rfl rfl
theorem rX0_ahead_44 (Q : Po) (h : Hp) (ls : List Value) (st : List Value) (a : Nat) : Ex mX0_ahead Q 44 ls (.ref a :: st) h = (gK h a ∈ ([2] : List Nat) ∧ Ex mX0_ahead Q 47 ls (gF h 39 a :: st) h) := Ex_gd rfl rfl
theorem rX0_ahead_47 (Q : Po) (h : Hp) (l0 l2 l3 : Value) (x : Int32) (st : List Value) : Ex mX0_ahead Q 47 [l0, .int x, l2, l3] st h = Ex mX0_ahead Q 48 [l0, .int x, l2, l3] (.int x :: st) h := Ex_nx rfl rfl
theorem rX0_ahead_48 (Q : Po) (h : Hp) (ls : List Value) (st : List Value) (a : Nat) (i : Int32) : Ex mX0_ahead Q 48 ls (.int i :: .ref a :: st) h = ((gK h a = 51 ∧ ¬ (i < 0 ∨ gL h a ≤ i.toNatClampNeg)) ∧ Ex mX0_ahead Q 49 ls (.int (gI h a i.toNatClampNeg) :: st) h) := Ex_gd rfl rfl
theorem rX0_ahead_49 (Q : Po) (h : Hp) (ls : List Value) (st : List Value) : Ex mX0_ahead Q 49 ls st h = Ex mX0_ahead Q 61 ls st h := Ex_nx rfl rfl
theorem rX0_ahead_52 (Q : Po) (h : Hp) (l1 l2 l3 : Value) (x : Nat) (st : List Value) : Ex mX0_ahead Q 52 [.ref x, l1, l2, l3] st h = Ex mX0_ahead Q 53 [.ref x, l1, l2, l3] (.ref x :: st) h := Ex_nx rfl rfl
theorem rX0_ahead_53 (Q : Po) (h : Hp) (ls : List Value) (st : List Value) (a : Nat) : Ex mX0_ahead Q 53 ls (.ref a :: st) h = (gK h a ∈ ([1] : List Nat) ∧ Ex mX0_ahead Q 56 ls (gF h 13 a :: st) h) := Ex_gd rfl rfl
theorem rX0_ahead_56 (Q : Po) (h : Hp) (ls : List Value) (st : List Value) (a : Nat) : Ex mX0_ahead Q 56 ls (.ref a :: st) h = (gK h a ∈ ([2] : List Nat) ∧ Ex mX0_ahead Q 59 ls (gF h 41 a :: st) h) := Ex_gd rfl rfl
theorem rX0_ahead_59 (Q : Po) (h : Hp) (l0 l2 l3 : Value) (x : Int32) (st : List Value) : Ex mX0_ahead Q 59 [l0, .int x, l2, l3] st h = Ex mX0_ahead Q 60 [l0, .int x, l2, l3] (.int x :: st) h := Ex_nx rfl rfl
theorem rX0_ahead_60 (Q : Po) (h : Hp) (ls : List Value) (st : List Value) (a : Nat) (i : Int32) : Ex mX0_ahead Q 60 ls (.int i :: .ref a :: st) h = ((gK h a = 51 ∧ ¬ (i < 0 ∨ gL h a ≤ i.toNatClampNeg)) ∧ Ex mX0_ahead Q 61 ls (.int (gI h a i.toNatClampNeg) :: st) h) := Ex_gd rfl rfl
theorem rX0_ahead_61 (Q : Po) (h : Hp) (ls : List Value) (x : Int32) : Ex mX0_ahead Q 61 ls [.int x] h = Q (.inl (some (.int x))) h := Ex_rt rfl rfl
theorem rX0_ahead_t (Q : Po) (h : Hp) (pc n a : Nat) (ls st : List Value) : Cont mX0_ahead Q pc ls n st (.inr a) h = Q (.inr a) h := rfl
/-! FishReaders.later(III)I -/
def mX0_later : Cd := ([(0, .inl (i_aload 0 1)),
  (1, .inl (i_iload 1 2)),
  (2, .inr (c_V 1 5 2 1 (Mt mX0_isFish 2))),
  (5, .inl (i_if (fun x => x = 0) 22 8)),
  (8, .inl (i_iload 2 9)),
  (9, .inr (c_S 1 12 1 (Mt mX0_isFar 1))),
  (12, .inl (i_if (fun x => x = 0) 22 15)),
  (15, .inl (i_iload 3 16)),
  (16, .inr (c_S 1 19 1 (Mt mX0_isHalf 1))),
  (19, .inl (i_if (fun x => ¬ x = 0) 25 22)),
  (22, .inl (i_push (.int (-1000001)) 24)),
  (24, .inl i_iret),
  (25, .inl (i_aload 0 26)),
  (26, .inr (c_V 0 29 1 1 (Mt mX0_tried 1))),
  (29, .inl (i_pop 30)),
  (30, .inl (i_aload 0 31)),
  (31, .inl (i_iload 2 32)),
  (32, .inr (c_V 1 35 3 1 (Mt mX0_goOn 3))),
  (35, .inl (i_pop 36)),
  (36, .inl (i_iload 3 37)),
  (37, .inl (i_push (.int 1) 38)),
  (38, .inl (i_icmp (fun x y => ¬ x = y) 53 41)),
  (41, .inl (i_aload 0 42)),
  (42, .inl (i_getf 13 [1] 45)),
  (45, .inl (i_getf 55 [2] 48)),
  (48, .inl (i_iload 1 49)),
  (49, .inl (i_iald 51 50)),
  (50, .inl (i_goto 79)),
  (53, .inl (i_aload 0 54)),
  (54, .inl (i_getf 13 [1] 57)),
  (57, .inl (i_iload 1 58)),
  (58, .inr (c_V 1 61 2 2 (Mt mX1_isCaught 2))),
  (61, .inl (i_if (fun x => x = 0) 70 64)),
  (64, .inl (i_push (.int (-1000000)) 67)),
  (67, .inl (i_goto 79)),
  (70, .inl (i_aload 0 71)),
  (71, .inl (i_getf 13 [1] 74)),
  (74, .inl (i_getf 53 [2] 77)),
  (77, .inl (i_iload 1 78)),
  (78, .inl (i_iald 51 79)),
  (79, .inl i_iret)], noH)
theorem rX0_later_0 (Q : Po) (h : Hp) (l1 l2 l3 : Value) (x : Nat) (st : List Value) : Ex mX0_later Q 0 [.ref x, l1, l2, l3] st h = Ex mX0_later Q 1 [.ref x, l1, l2, l3] (.ref x :: st) h := Ex_nx rfl rfl
theorem rX0_later_1 (Q : Po) (h : Hp) (l0 l2 l3 : Value) (x : Int32) (st : List Value) : Ex mX0_later Q 1 [l0, .int x, l2, l3] st h = Ex mX0_later Q 2 [l0, .int x, l2, l3] (.int x :: st) h := Ex_nx rfl rfl
theorem rX0_later_2 (Q : Po) (h : Hp) (ls : List Value) (a0 : Int32) (b : Nat) : Ex mX0_later Q 2 ls (.int a0 :: .ref b :: []) h = (gK h b = 1 ∧ Ex mX0_isFish (Cont mX0_later Q 2 ls 5 []) 0 [.ref b, .int a0] [] h) := Ex_cg (n := 2) (as := [.ref b, .int a0]) rfl rfl
theorem rX0_later_5 (Q : Po) (h : Hp) (ls : List Value) (st : List Value) (x : Int32) : Ex mX0_later Q 5 ls (.int x :: st) h = if x = 0 then Ex mX0_later Q 22 ls st h else Ex mX0_later Q 8 ls st h := Ex_br rfl rfl
theorem rX0_later_8 (Q : Po) (h : Hp) (l0 l1 l3 : Value) (x : Int32) (st : List Value) : Ex mX0_later Q 8 [l0, l1, .int x, l3] st h = Ex mX0_later Q 9 [l0, l1, .int x, l3] (.int x :: st) h := Ex_nx rfl rfl
theorem rX0_later_9 (Q : Po) (h : Hp) (ls : List Value) (a0 : Int32) : Ex mX0_later Q 9 ls (.int a0 :: []) h = Ex mX0_isFar (Cont mX0_later Q 9 ls 12 []) 0 [.int a0] [] h := Ex_cl (n := 1) (as := [.int a0]) rfl rfl
theorem rX0_later_12 (Q : Po) (h : Hp) (ls : List Value) (st : List Value) (x : Int32) : Ex mX0_later Q 12 ls (.int x :: st) h = if x = 0 then Ex mX0_later Q 22 ls st h else Ex mX0_later Q 15 ls st h := Ex_br rfl rfl
theorem rX0_later_15 (Q : Po) (h : Hp) (l0 l1 l2 : Value) (x : Int32) (st : List Value) : Ex mX0_later Q 15 [l0, l1, l2, .int x] st h = Ex mX0_later Q 16 [l0, l1, l2, .int x] (.int x :: st) h := Ex_nx rfl rfl
theorem rX0_later_16 (Q : Po) (h : Hp) (ls : List Value) (a0 : Int32) : Ex mX0_later Q 16 ls (.int a0 :: []) h = Ex mX0_isHalf (Cont mX0_later Q 16 ls 19 []) 0 [.int a0] [] h := Ex_cl (n := 1) (as := [.int a0]) rfl rfl
theorem rX0_later_19 (Q : Po) (h : Hp) (ls : List Value) (st : List Value) (x : Int32) : Ex mX0_later Q 19 ls (.int x :: st) h = if ¬ x = 0 then Ex mX0_later Q 25 ls st h else Ex mX0_later Q 22 ls st h := Ex_br rfl rfl
theorem rX0_later_22 (Q : Po) (h : Hp) (ls : List Value) (st : List Value) : Ex mX0_later Q 22 ls st h = Ex mX0_later Q 24 ls (.int (-1000001) :: st) h := Ex_nx rfl rfl
theorem rX0_later_24 (Q : Po) (h : Hp) (ls : List Value) (x : Int32) : Ex mX0_later Q 24 ls [.int x] h = Q (.inl (some (.int x))) h := Ex_rt rfl rfl
theorem rX0_later_25 (Q : Po) (h : Hp) (l1 l2 l3 : Value) (x : Nat) (st : List Value) : Ex mX0_later Q 25 [.ref x, l1, l2, l3] st h = Ex mX0_later Q 26 [.ref x, l1, l2, l3] (.ref x :: st) h := Ex_nx rfl rfl
theorem rX0_later_26 (Q : Po) (h : Hp) (ls : List Value) (b : Nat) : Ex mX0_later Q 26 ls (.ref b :: []) h = (gK h b = 1 ∧ Ex mX0_tried (Cont mX0_later Q 26 ls 29 []) 0 [.ref b] [] h) := Ex_cg (n := 1) (as := [.ref b]) rfl rfl
theorem rX0_later_29 (Q : Po) (h : Hp) (ls : List Value) (st : List Value) (x : Nat) : Ex mX0_later Q 29 ls (.ref x :: st) h = Ex mX0_later Q 30 ls st h := Ex_nx rfl rfl
theorem rX0_later_30 (Q : Po) (h : Hp) (l1 l2 l3 : Value) (x : Nat) (st : List Value) : Ex mX0_later Q 30 [.ref x, l1, l2, l3] st h = Ex mX0_later Q 31 [.ref x, l1, l2, l3] (.ref x :: st) h := Ex_nx rfl rfl
theorem rX0_later_31 (Q : Po) (h : Hp) (l0 l1 l3 : Value) (x : Int32) (st : List Value) : Ex mX0_later Q 31 [l0, l1, .int x, l3] st h = Ex mX0_later Q 32 [l0, l1, .int x, l3] (.int x :: st) h := Ex_nx rfl rfl
theorem rX0_later_32 (Q : Po) (h : Hp) (ls : List Value) (a0 : Int32) (b : Nat) : Ex mX0_later Q 32 ls (.int a0 :: .ref b :: []) h = (gK h b = 1 ∧ Ex mX0_goOn (Cont mX0_later Q 32 ls 35 []) 0 [.ref b, .int a0, .retAddr 0] [] h) := Ex_cg (n := 3) (as := [.ref b, .int a0]) rfl rfl
theorem rX0_later_35 (Q : Po) (h : Hp) (ls : List Value) (st : List Value) (x : Nat) : Ex mX0_later Q 35 ls (.ref x :: st) h = Ex mX0_later Q 36 ls st h := Ex_nx rfl rfl
theorem rX0_later_36 (Q : Po) (h : Hp) (l0 l1 l2 : Value) (x : Int32) (st : List Value) : Ex mX0_later Q 36 [l0, l1, l2, .int x] st h = Ex mX0_later Q 37 [l0, l1, l2, .int x] (.int x :: st) h := Ex_nx rfl rfl
theorem rX0_later_37 (Q : Po) (h : Hp) (ls : List Value) (st : List Value) : Ex mX0_later Q 37 ls st h = Ex mX0_later Q 38 ls (.int 1 :: st) h := Ex_nx rfl rfl
theorem rX0_later_38 (Q : Po) (h : Hp) (ls : List Value) (st : List Value) (x y : Int32) : Ex mX0_later Q 38 ls (.int y :: .int x :: st) h = if ¬ x = y then Ex mX0_later Q 53 ls st h else Ex mX0_later Q 41 ls st h := Ex_br rfl rfl
theorem rX0_later_41 (Q : Po) (h : Hp) (l1 l2 l3 : Value) (x : Nat) (st : List Value) : Ex mX0_later Q 41 [.ref x, l1, l2, l3] st h = Ex mX0_later Q 42 [.ref x, l1, l2, l3] (.ref x :: st) h := Ex_nx rfl rfl
theorem rX0_later_42 (Q : Po) (h : Hp) (ls : List Value) (st : List Value) (a : Nat) : Ex mX0_later Q 42 ls (.ref a :: st) h = (gK h a ∈ ([1] : List Nat) ∧ Ex mX0_later Q 45 ls (gF h 13 a :: st) h) := Ex_gd rfl rfl
theorem rX0_later_45 (Q : Po) (h : Hp) (ls : List Value) (st : List Value) (a : Nat) : Ex mX0_later Q 45 ls (.ref a :: st) h = (gK h a ∈ ([2] : List Nat) ∧ Ex mX0_later Q 48 ls (gF h 55 a :: st) h) := Ex_gd rfl rfl
theorem rX0_later_48 (Q : Po) (h : Hp) (l0 l2 l3 : Value) (x : Int32) (st : List Value) : Ex mX0_later Q 48 [l0, .int x, l2, l3] st h = Ex mX0_later Q 49 [l0, .int x, l2, l3] (.int x :: st) h := Ex_nx rfl rfl
theorem rX0_later_49 (Q : Po) (h : Hp) (ls : List Value) (st : List Value) (a : Nat) (i : Int32) : Ex mX0_later Q 49 ls (.int i :: .ref a :: st) h = ((gK h a = 51 ∧ ¬ (i < 0 ∨ gL h a ≤ i.toNatClampNeg)) ∧ Ex mX0_later Q 50 ls (.int (gI h a i.toNatClampNeg) :: st) h) := Ex_gd rfl rfl
theorem rX0_later_50 (Q : Po) (h : Hp) (ls : List Value) (st : List Value) : Ex mX0_later Q 50 ls st h = Ex mX0_later Q 79 ls st h := Ex_nx rfl rfl
theorem rX0_later_53 (Q : Po) (h : Hp) (l1 l2 l3 : Value) (x : Nat) (st : List Value) : Ex mX0_later Q 53 [.ref x, l1, l2, l3] st h = Ex mX0_later Q 54 [.ref x, l1, l2, l3] (.ref x :: st) h := Ex_nx rfl rfl
theorem rX0_later_54 (Q : Po) (h : Hp) (ls : List Value) (st : List Value) (a : Nat) : Ex mX0_later Q 54 ls (.ref a :: st) h = (gK h a ∈ ([1] : List Nat) ∧ Ex mX0_later Q 57 ls (gF h 13 a :: st) h) := Ex_gd rfl rfl
theorem rX0_later_57 (Q : Po) (h : Hp) (l0 l2 l3 : Value) (x : Int32) (st : List Value) : Ex mX0_later Q 57 [l0, .int x, l2, l3] st h = Ex mX0_later Q 58 [l0, .int x, l2, l3] (.int x :: st) h := Ex_nx rfl rfl
theorem rX0_later_58 (Q : Po) (h : Hp) (ls : List Value) (a0 : Int32) (b : Nat) : Ex mX0_later Q 58 ls (.int a0 :: .ref b :: []) h = (gK h b = 2 ∧ Ex mX1_isCaught (Cont mX0_later Q 58 ls 61 []) 0 [.ref b, .int a0] [] h) := Ex_cg (n := 2) (as := [.ref b, .int a0]) rfl rfl
theorem rX0_later_61 (Q : Po) (h : Hp) (ls : List Value) (st : List Value) (x : Int32) : Ex mX0_later Q 61 ls (.int x :: st) h = if x = 0 then Ex mX0_later Q 70 ls st h else Ex mX0_later Q 64 ls st h := Ex_br rfl rfl
theorem rX0_later_64 (Q : Po) (h : Hp) (ls : List Value) (st : List Value) : Ex mX0_later Q 64 ls st h = Ex mX0_later Q 67 ls (.int (-1000000) :: st) h := Ex_nx rfl rfl
theorem rX0_later_67 (Q : Po) (h : Hp) (ls : List Value) (st : List Value) : Ex mX0_later Q 67 ls st h = Ex mX0_later Q 79 ls st h := Ex_nx rfl rfl
theorem rX0_later_70 (Q : Po) (h : Hp) (l1 l2 l3 : Value) (x : Nat) (st : List Value) : Ex mX0_later Q 70 [.ref x, l1, l2, l3] st h = Ex mX0_later Q 71 [.ref x, l1, l2, l3] (.ref x :: st) h := Ex_nx rfl rfl
theorem rX0_later_71 (Q : Po) (h : Hp) (ls : List Value) (st : List Value) (a : Nat) : Ex mX0_later Q 71 ls (.ref a :: st) h = (gK h a ∈ ([1] : List Nat) ∧ Ex mX0_later Q 74 ls (gF h 13 a :: st) h) := Ex_gd rfl rfl
theorem rX0_later_74 (Q : Po) (h : Hp) (ls : List Value) (st : List Value) (a : Nat) : Ex mX0_later Q 74 ls (.ref a :: st) h = (gK h a ∈ ([2] : List Nat) ∧ Ex mX0_later Q 77 ls (gF h 53 a :: st) h) := Ex_gd rfl rfl
theorem rX0_later_77 (Q : Po) (h : Hp) (l0 l2 l3 : Value) (x : Int32) (st : List Value) : Ex mX0_later Q 77 [l0, .int x, l2, l3] st h = Ex mX0_later Q 78 [l0, .int x, l2, l3] (.int x :: st) h := Ex_nx rfl rfl
theorem rX0_later_78 (Q : Po) (h : Hp) (ls : List Value) (st : List Value) (a : Nat) (i : Int32) : Ex mX0_later Q 78 ls (.int i :: .ref a :: st) h = ((gK h a = 51 ∧ ¬ (i < 0 ∨ gL h a ≤ i.toNatClampNeg)) ∧ Ex mX0_later Q 79 ls (.int (gI h a i.toNatClampNeg) :: st) h) := Ex_gd rfl rfl
theorem rX0_later_79 (Q : Po) (h : Hp) (ls : List Value) (x : Int32) : Ex mX0_later Q 79 ls [.int x] h = Q (.inl (some (.int x))) h := Ex_rt rfl rfl
theorem rX0_later_t (Q : Po) (h : Hp) (pc n a : Nat) (ls st : List Value) : Cont mX0_later Q pc ls n st (.inr a) h = Q (.inr a) h := rfl
/-! FishReaders.when(I)I -/
def mX0_when : Cd := ([(0, .inl (i_aload 0 1)),
  (1, .inl (i_iload 1 2)),
  (2, .inr (c_V 1 5 2 1 (Mt mX0_isBook 2))),
  (5, .inl (i_if (fun x => ¬ x = 0) 11 8)),
  (8, .inl (i_push (.int (-1000001)) 10)),
  (10, .inl i_iret),
  (11, .inl (i_aload 0 12)),
  (12, .inr (c_V 0 15 1 1 (Mt mX0_tried 1))),
  (15, .inl (i_pop 16)),
  (16, .inl (i_push (.int 0) 17)),
  (17, .inl (i_istore 2 18)),
  (18, .inl (i_iload 2 19)),
  (19, .inl (i_push (.int 60) 21)),
  (21, .inl (i_icmp (fun x y => y < x) 52 24)),
  (24, .inl (i_aload 0 25)),
  (25, .inl (i_getf 13 [1] 28)),
  (28, .inl (i_getf 39 [2] 31)),
  (31, .inl (i_iload 1 32)),
  (32, .inl (i_iald 51 33)),
  (33, .inl (i_if (fun x => ¬ x = 0) 38 36)),
  (36, .inl (i_iload 2 37)),
  (37, .inl i_iret),
  (38, .inl (i_aload 0 39)),
  (39, .inl (i_getf 13 [1] 42)),
  (42, .inr (c_V 0 45 2 2 (Mt mX1_pass 2))),
  (45, .inl (i_pop 46)),
  (46, .inl (i_iinc 2 1 49)),
  (49, .inl (i_goto 18)),
  (52, .inl (i_push (.int (-1000000)) 55)),
  (55, .inl i_iret)], noH)
theorem rX0_when_0 (Q : Po) (h : Hp) (l1 l2 : Value) (x : Nat) (st : List Value) : Ex mX0_when Q 0 [.ref x, l1, l2] st h = Ex mX0_when Q 1 [.ref x, l1, l2] (.ref x :: st) h := Ex_nx rfl rfl
theorem rX0_when_1 (Q : Po) (h : Hp) (l0 l2 : Value) (x : Int32) (st : List Value) : Ex mX0_when Q 1 [l0, .int x, l2] st h = Ex mX0_when Q 2 [l0, .int x, l2] (.int x :: st) h := Ex_nx rfl rfl
theorem rX0_when_2 (Q : Po) (h : Hp) (ls : List Value) (a0 : Int32) (b : Nat) : Ex mX0_when Q 2 ls (.int a0 :: .ref b :: []) h = (gK h b = 1 ∧ Ex mX0_isBook (Cont mX0_when Q 2 ls 5 []) 0 [.ref b, .int a0] [] h) := Ex_cg (n := 2) (as := [.ref b, .int a0]) rfl rfl
theorem rX0_when_5 (Q : Po) (h : Hp) (ls : List Value) (st : List Value) (x : Int32) : Ex mX0_when Q 5 ls (.int x :: st) h = if ¬ x = 0 then Ex mX0_when Q 11 ls st h else Ex mX0_when Q 8 ls st h := Ex_br rfl rfl
theorem rX0_when_8 (Q : Po) (h : Hp) (ls : List Value) (st : List Value) : Ex mX0_when Q 8 ls st h = Ex mX0_when Q 10 ls (.int (-1000001) :: st) h := Ex_nx rfl rfl
theorem rX0_when_10 (Q : Po) (h : Hp) (ls : List Value) (x : Int32) : Ex mX0_when Q 10 ls [.int x] h = Q (.inl (some (.int x))) h := Ex_rt rfl rfl
theorem rX0_when_11 (Q : Po) (h : Hp) (l1 l2 : Value) (x : Nat) (st : List Value) : Ex mX0_when Q 11 [.ref x, l1, l2] st h = Ex mX0_when Q 12 [.ref x, l1, l2] (.ref x :: st) h := Ex_nx rfl rfl
theorem rX0_when_12 (Q : Po) (h : Hp) (ls : List Value) (b : Nat) : Ex mX0_when Q 12 ls (.ref b :: []) h = (gK h b = 1 ∧ Ex mX0_tried (Cont mX0_when Q 12 ls 15 []) 0 [.ref b] [] h) := Ex_cg (n := 1) (as := [.ref b]) rfl rfl
theorem rX0_when_15 (Q : Po) (h : Hp) (ls : List Value) (st : List Value) (x : Nat) : Ex mX0_when Q 15 ls (.ref x :: st) h = Ex mX0_when Q 16 ls st h := Ex_nx rfl rfl
theorem rX0_when_16 (Q : Po) (h : Hp) (ls : List Value) (st : List Value) : Ex mX0_when Q 16 ls st h = Ex mX0_when Q 17 ls (.int 0 :: st) h := Ex_nx rfl rfl
theorem rX0_when_17 (Q : Po) (h : Hp) (l0 l1 l2 : Value) (x : Int32) (st : List Value) : Ex mX0_when Q 17 [l0, l1, l2] (.int x :: st) h = Ex mX0_when Q 18 [l0, l1, .int x] st h := Ex_nx rfl rfl
theorem rX0_when_18 (Q : Po) (h : Hp) (l0 l1 : Value) (x : Int32) (st : List Value) : Ex mX0_when Q 18 [l0, l1, .int x] st h = Ex mX0_when Q 19 [l0, l1, .int x] (.int x :: st) h := Ex_nx rfl rfl
theorem rX0_when_19 (Q : Po) (h : Hp) (ls : List Value) (st : List Value) : Ex mX0_when Q 19 ls st h = Ex mX0_when Q 21 ls (.int 60 :: st) h := Ex_nx rfl rfl
theorem rX0_when_21 (Q : Po) (h : Hp) (ls : List Value) (st : List Value) (x y : Int32) : Ex mX0_when Q 21 ls (.int y :: .int x :: st) h = if y < x then Ex mX0_when Q 52 ls st h else Ex mX0_when Q 24 ls st h := Ex_br rfl rfl
theorem rX0_when_24 (Q : Po) (h : Hp) (l1 l2 : Value) (x : Nat) (st : List Value) : Ex mX0_when Q 24 [.ref x, l1, l2] st h = Ex mX0_when Q 25 [.ref x, l1, l2] (.ref x :: st) h := Ex_nx rfl rfl
theorem rX0_when_25 (Q : Po) (h : Hp) (ls : List Value) (st : List Value) (a : Nat) : Ex mX0_when Q 25 ls (.ref a :: st) h = (gK h a ∈ ([1] : List Nat) ∧ Ex mX0_when Q 28 ls (gF h 13 a :: st) h) := Ex_gd rfl rfl
theorem rX0_when_28 (Q : Po) (h : Hp) (ls : List Value) (st : List Value) (a : Nat) : Ex mX0_when Q 28 ls (.ref a :: st) h = (gK h a ∈ ([2] : List Nat) ∧ Ex mX0_when Q 31 ls (gF h 39 a :: st) h) := Ex_gd rfl rfl
theorem rX0_when_31 (Q : Po) (h : Hp) (l0 l2 : Value) (x : Int32) (st : List Value) : Ex mX0_when Q 31 [l0, .int x, l2] st h = Ex mX0_when Q 32 [l0, .int x, l2] (.int x :: st) h := Ex_nx rfl rfl
theorem rX0_when_32 (Q : Po) (h : Hp) (ls : List Value) (st : List Value) (a : Nat) (i : Int32) : Ex mX0_when Q 32 ls (.int i :: .ref a :: st) h = ((gK h a = 51 ∧ ¬ (i < 0 ∨ gL h a ≤ i.toNatClampNeg)) ∧ Ex mX0_when Q 33 ls (.int (gI h a i.toNatClampNeg) :: st) h) := Ex_gd rfl rfl
theorem rX0_when_33 (Q : Po) (h : Hp) (ls : List Value) (st : List Value) (x : Int32) : Ex mX0_when Q 33 ls (.int x :: st) h = if ¬ x = 0 then Ex mX0_when Q 38 ls st h else Ex mX0_when Q 36 ls st h := Ex_br rfl rfl
theorem rX0_when_36 (Q : Po) (h : Hp) (l0 l1 : Value) (x : Int32) (st : List Value) : Ex mX0_when Q 36 [l0, l1, .int x] st h = Ex mX0_when Q 37 [l0, l1, .int x] (.int x :: st) h := Ex_nx rfl rfl
theorem rX0_when_37 (Q : Po) (h : Hp) (ls : List Value) (x : Int32) : Ex mX0_when Q 37 ls [.int x] h = Q (.inl (some (.int x))) h := Ex_rt rfl rfl
theorem rX0_when_38 (Q : Po) (h : Hp) (l1 l2 : Value) (x : Nat) (st : List Value) : Ex mX0_when Q 38 [.ref x, l1, l2] st h = Ex mX0_when Q 39 [.ref x, l1, l2] (.ref x :: st) h := Ex_nx rfl rfl
theorem rX0_when_39 (Q : Po) (h : Hp) (ls : List Value) (st : List Value) (a : Nat) : Ex mX0_when Q 39 ls (.ref a :: st) h = (gK h a ∈ ([1] : List Nat) ∧ Ex mX0_when Q 42 ls (gF h 13 a :: st) h) := Ex_gd rfl rfl
theorem rX0_when_42 (Q : Po) (h : Hp) (ls : List Value) (b : Nat) : Ex mX0_when Q 42 ls (.ref b :: []) h = (gK h b = 2 ∧ Ex mX1_pass (Cont mX0_when Q 42 ls 45 []) 0 [.ref b, .retAddr 0] [] h) := Ex_cg (n := 2) (as := [.ref b]) rfl rfl
theorem rX0_when_45 (Q : Po) (h : Hp) (ls : List Value) (st : List Value) (x : Nat) : Ex mX0_when Q 45 ls (.ref x :: st) h = Ex mX0_when Q 46 ls st h := Ex_nx rfl rfl
theorem rX0_when_46 (Q : Po) (h : Hp) (l0 l1 : Value) (x : Int32) (st : List Value) : Ex mX0_when Q 46 [l0, l1, .int x] st h = Ex mX0_when Q 49 [l0, l1, .int (x + 1)] st h := Ex_nx rfl rfl
theorem rX0_when_49 (Q : Po) (h : Hp) (ls : List Value) (st : List Value) : Ex mX0_when Q 49 ls st h = Ex mX0_when Q 18 ls st h := Ex_nx rfl rfl
theorem rX0_when_52 (Q : Po) (h : Hp) (ls : List Value) (st : List Value) : Ex mX0_when Q 52 ls st h = Ex mX0_when Q 55 ls (.int (-1000000) :: st) h := Ex_nx rfl rfl
theorem rX0_when_55 (Q : Po) (h : Hp) (ls : List Value) (x : Int32) : Ex mX0_when Q 55 ls [.int x] h = Q (.inl (some (.int x))) h := Ex_rt rfl rfl
theorem rX0_when_t (Q : Po) (h : Hp) (pc n a : Nat) (ls st : List Value) : Cont mX0_when Q pc ls n st (.inr a) h = Q (.inr a) h := rfl
/-! FishReaders$Library.gone()I -/
def mX1_gone : Cd := ([(0, .inl (i_push (.int 0) 1)),
  (1, .inl (i_istore 1 2)),
  (2, .inl (i_push (.int 0) 3)),
  (3, .inl (i_istore 2 4)),
  (4, .inl (i_iload 2 5)),
  (5, .inl (i_aload 0 6)),
  (6, .inl (i_getf 36 [2] 9)),
  (9, .inl (i_icmp (fun x y => y ≤ x) 37 12)),
  (12, .inl (i_iload 1 13)),
  (13, .inl (i_aload 0 14)),
  (14, .inl (i_getf 39 [2] 17)),
  (17, .inl (i_iload 2 18)),
  (18, .inl (i_iald 51 19)),
  (19, .inl (i_if (fun x => ¬ x = 0) 28 22)),
  (22, .inl (i_push (.int 1) 23)),
  (23, .inl (i_iload 2 24)),
  (24, .inl (i_bin (fun x y => x <<< (y &&& 31)) 25)),
  (25, .inl (i_goto 29)),
  (28, .inl (i_push (.int 0) 29)),
  (29, .inl (i_bin (fun x y => x ||| y) 30)),
  (30, .inl (i_istore 1 31)),
  (31, .inl (i_iinc 2 1 34)),
  (34, .inl (i_goto 4)),
  (37, .inl (i_iload 1 38)),
  (38, .inl i_iret)], noH)
theorem rX1_gone_0 (Q : Po) (h : Hp) (ls : List Value) (st : List Value) : Ex mX1_gone Q 0 ls st h = Ex mX1_gone Q 1 ls (.int 0 :: st) h := Ex_nx rfl rfl
theorem rX1_gone_1 (Q : Po) (h : Hp) (l0 l1 l2 : Value) (x : Int32) (st : List Value) : Ex mX1_gone Q 1 [l0, l1, l2] (.int x :: st) h = Ex mX1_gone Q 2 [l0, .int x, l2] st h := Ex_nx rfl rfl
theorem rX1_gone_2 (Q : Po) (h : Hp) (ls : List Value) (st : List Value) : Ex mX1_gone Q 2 ls st h = Ex mX1_gone Q 3 ls (.int 0 :: st) h := Ex_nx rfl rfl
theorem rX1_gone_3 (Q : Po) (h : Hp) (l0 l1 l2 : Value) (x : Int32) (st : List Value) : Ex mX1_gone Q 3 [l0, l1, l2] (.int x :: st) h = Ex mX1_gone Q 4 [l0, l1, .int x] st h := Ex_nx rfl rfl
theorem rX1_gone_4 (Q : Po) (h : Hp) (l0 l1 : Value) (x : Int32) (st : List Value) : Ex mX1_gone Q 4 [l0, l1, .int x] st h = Ex mX1_gone Q 5 [l0, l1, .int x] (.int x :: st) h := Ex_nx rfl rfl
theorem rX1_gone_5 (Q : Po) (h : Hp) (l1 l2 : Value) (x : Nat) (st : List Value) : Ex mX1_gone Q 5 [.ref x, l1, l2] st h = Ex mX1_gone Q 6 [.ref x, l1, l2] (.ref x :: st) h := Ex_nx rfl rfl
theorem rX1_gone_6 (Q : Po) (h : Hp) (ls : List Value) (st : List Value) (a : Nat) : Ex mX1_gone Q 6 ls (.ref a :: st) h = (gK h a ∈ ([2] : List Nat) ∧ Ex mX1_gone Q 9 ls (gF h 36 a :: st) h) := Ex_gd rfl rfl
theorem rX1_gone_9 (Q : Po) (h : Hp) (ls : List Value) (st : List Value) (x y : Int32) : Ex mX1_gone Q 9 ls (.int y :: .int x :: st) h = if y ≤ x then Ex mX1_gone Q 37 ls st h else Ex mX1_gone Q 12 ls st h := Ex_br rfl rfl
theorem rX1_gone_12 (Q : Po) (h : Hp) (l0 l2 : Value) (x : Int32) (st : List Value) : Ex mX1_gone Q 12 [l0, .int x, l2] st h = Ex mX1_gone Q 13 [l0, .int x, l2] (.int x :: st) h := Ex_nx rfl rfl
theorem rX1_gone_13 (Q : Po) (h : Hp) (l1 l2 : Value) (x : Nat) (st : List Value) : Ex mX1_gone Q 13 [.ref x, l1, l2] st h = Ex mX1_gone Q 14 [.ref x, l1, l2] (.ref x :: st) h := Ex_nx rfl rfl
theorem rX1_gone_14 (Q : Po) (h : Hp) (ls : List Value) (st : List Value) (a : Nat) : Ex mX1_gone Q 14 ls (.ref a :: st) h = (gK h a ∈ ([2] : List Nat) ∧ Ex mX1_gone Q 17 ls (gF h 39 a :: st) h) := Ex_gd rfl rfl
theorem rX1_gone_17 (Q : Po) (h : Hp) (l0 l1 : Value) (x : Int32) (st : List Value) : Ex mX1_gone Q 17 [l0, l1, .int x] st h = Ex mX1_gone Q 18 [l0, l1, .int x] (.int x :: st) h := Ex_nx rfl rfl
theorem rX1_gone_18 (Q : Po) (h : Hp) (ls : List Value) (st : List Value) (a : Nat) (i : Int32) : Ex mX1_gone Q 18 ls (.int i :: .ref a :: st) h = ((gK h a = 51 ∧ ¬ (i < 0 ∨ gL h a ≤ i.toNatClampNeg)) ∧ Ex mX1_gone Q 19 ls (.int (gI h a i.toNatClampNeg) :: st) h) := Ex_gd rfl rfl
theorem rX1_gone_19 (Q : Po) (h : Hp) (ls : List Value) (st : List Value) (x : Int32) : Ex mX1_gone Q 19 ls (.int x :: st) h = if ¬ x = 0 then Ex mX1_gone Q 28 ls st h else Ex mX1_gone Q 22 ls st h := Ex_br rfl rfl
theorem rX1_gone_22 (Q : Po) (h : Hp) (ls : List Value) (st : List Value) : Ex mX1_gone Q 22 ls st h = Ex mX1_gone Q 23 ls (.int 1 :: st) h := Ex_nx rfl rfl
theorem rX1_gone_23 (Q : Po) (h : Hp) (l0 l1 : Value) (x : Int32) (st : List Value) : Ex mX1_gone Q 23 [l0, l1, .int x] st h = Ex mX1_gone Q 24 [l0, l1, .int x] (.int x :: st) h := Ex_nx rfl rfl
theorem rX1_gone_24 (Q : Po) (h : Hp) (ls : List Value) (st : List Value) (x y : Int32) : Ex mX1_gone Q 24 ls (.int y :: .int x :: st) h = Ex mX1_gone Q 25 ls (.int (x <<< (y &&& 31)) :: st) h := Ex_nx rfl rfl
theorem rX1_gone_25 (Q : Po) (h : Hp) (ls : List Value) (st : List Value) : Ex mX1_gone Q 25 ls st h = Ex mX1_gone Q 29 ls st h := Ex_nx rfl rfl
theorem rX1_gone_28 (Q : Po) (h : Hp) (ls : List Value) (st : List Value) : Ex mX1_gone Q 28 ls st h = Ex mX1_gone Q 29 ls (.int 0 :: st) h := Ex_nx rfl rfl
theorem rX1_gone_29 (Q : Po) (h : Hp) (ls : List Value) (st : List Value) (x y : Int32) : Ex mX1_gone Q 29 ls (.int y :: .int x :: st) h = Ex mX1_gone Q 30 ls (.int (x ||| y) :: st) h := Ex_nx rfl rfl
theorem rX1_gone_30 (Q : Po) (h : Hp) (l0 l1 l2 : Value) (x : Int32) (st : List Value) : Ex mX1_gone Q 30 [l0, l1, l2] (.int x :: st) h = Ex mX1_gone Q 31 [l0, .int x, l2] st h := Ex_nx rfl rfl
theorem rX1_gone_31 (Q : Po) (h : Hp) (l0 l1 : Value) (x : Int32) (st : List Value) : Ex mX1_gone Q 31 [l0, l1, .int x] st h = Ex mX1_gone Q 34 [l0, l1, .int (x + 1)] st h := Ex_nx rfl rfl
theorem rX1_gone_34 (Q : Po) (h : Hp) (ls : List Value) (st : List Value) : Ex mX1_gone Q 34 ls st h = Ex mX1_gone Q 4 ls st h := Ex_nx rfl rfl
theorem rX1_gone_37 (Q : Po) (h : Hp) (l0 l2 : Value) (x : Int32) (st : List Value) : Ex mX1_gone Q 37 [l0, .int x, l2] st h = Ex mX1_gone Q 38 [l0, .int x, l2] (.int x :: st) h := Ex_nx rfl rfl
theorem rX1_gone_38 (Q : Po) (h : Hp) (ls : List Value) (x : Int32) : Ex mX1_gone Q 38 ls [.int x] h = Q (.inl (some (.int x))) h := Ex_rt rfl rfl
theorem rX1_gone_t (Q : Po) (h : Hp) (pc n a : Nat) (ls st : List Value) : Cont mX1_gone Q pc ls n st (.inr a) h = Q (.inr a) h := rfl
/-! java/lang/Integer.numberOfTrailingZeros(I)I -/
def mJ16_numberOfTrailingZeros : Cd := ([(0, .inl (i_iload 0 1)),
  (1, .inl (i_push (.int (-1)) 2)),
  (2, .inl (i_bin (fun x y => x ^^^ y) 3)),
  (3, .inl (i_iload 0 4)),
  (4, .inl (i_push (.int 1) 5)),
  (5, .inl (i_bin (fun x y => x - y) 6)),
  (6, .inl (i_bin (fun x y => x &&& y) 7)),
  (7, .inl (i_istore 0 8)),
  (8, .inl (i_iload 0 9)),
  (9, .inl (i_if (fun x => 0 < x) 17 12)),
  (12, .inl (i_iload 0 13)),
  (13, .inl (i_push (.int 32) 15)),
  (15, .inl (i_bin (fun x y => x &&& y) 16)),
  (16, .inl i_iret),
  (17, .inl (i_push (.int 1) 18)),
  (18, .inl (i_istore 1 19)),
  (19, .inl (i_iload 0 20)),
  (20, .inl (i_push (.int 65536) 23)),
  (23, .inl (i_icmp (fun x y => x ≤ y) 34 26)),
  (26, .inl (i_iinc 1 16 29)),
  (29, .inl (i_iload 0 30)),
  (30, .inl (i_push (.int 16) 32)),
  (32, .inl (i_bin (fun x y => (x.toUInt32 >>> (y.toUInt32 &&& Int32.toUInt32 31)).toInt32) 33)),
  (33, .inl (i_istore 0 34)),
  (34, .inl (i_iload 0 35)),
  (35, .inl (i_push (.int 256) 38)),
  (38, .inl (i_icmp (fun x y => x ≤ y) 49 41)),
  (41, .inl (i_iinc 1 8 44)),
  (44, .inl (i_iload 0 45)),
  (45, .inl (i_push (.int 8) 47)),
  (47, .inl (i_bin (fun x y => (x.toUInt32 >>> (y.toUInt32 &&& Int32.toUInt32 31)).toInt32) 48)),
  (48, .inl (i_istore 0 49)),
  (49, .inl (i_iload 0 50)),
  (50, .inl (i_push (.int 16) 52)),
  (52, .inl (i_icmp (fun x y => x ≤ y) 62 55)),
  (55, .inl (i_iinc 1 4 58)),
  (58, .inl (i_iload 0 59)),
  (59, .inl (i_push (.int 4) 60)),
  (60, .inl (i_bin (fun x y => (x.toUInt32 >>> (y.toUInt32 &&& Int32.toUInt32 31)).toInt32) 61)),
  (61, .inl (i_istore 0 62)),
  (62, .inl (i_iload 0 63)),
  (63, .inl (i_push (.int 4) 64)),
  (64, .inl (i_icmp (fun x y => x ≤ y) 74 67)),
  (67, .inl (i_iinc 1 2 70)),
  (70, .inl (i_iload 0 71)),
  (71, .inl (i_push (.int 2) 72)),
  (72, .inl (i_bin (fun x y => (x.toUInt32 >>> (y.toUInt32 &&& Int32.toUInt32 31)).toInt32) 73)),
  (73, .inl (i_istore 0 74)),
  (74, .inl (i_iload 1 75)),
  (75, .inl (i_iload 0 76)),
  (76, .inl (i_push (.int 1) 77)),
  (77, .inl (i_bin (fun x y => (x.toUInt32 >>> (y.toUInt32 &&& Int32.toUInt32 31)).toInt32) 78)),
  (78, .inl (i_bin (fun x y => x + y) 79)),
  (79, .inl i_iret)], noH)
theorem rJ16_numberOfTrailingZeros_0 (Q : Po) (h : Hp) (l1 : Value) (x : Int32) (st : List Value) : Ex mJ16_numberOfTrailingZeros Q 0 [.int x, l1] st h = Ex mJ16_numberOfTrailingZeros Q 1 [.int x, l1] (.int x :: st) h := Ex_nx rfl rfl
theorem rJ16_numberOfTrailingZeros_1 (Q : Po) (h : Hp) (ls : List Value) (st : List Value) : Ex mJ16_numberOfTrailingZeros Q 1 ls st h = Ex mJ16_numberOfTrailingZeros Q 2 ls (.int (-1) :: st) h := Ex_nx rfl rfl
theorem rJ16_numberOfTrailingZeros_2 (Q : Po) (h : Hp) (ls : List Value) (st : List Value) (x y : Int32) : Ex mJ16_numberOfTrailingZeros Q 2 ls (.int y :: .int x :: st) h = Ex mJ16_numberOfTrailingZeros Q 3 ls (.int (x ^^^ y) :: st) h := Ex_nx rfl rfl
theorem rJ16_numberOfTrailingZeros_3 (Q : Po) (h : Hp) (l1 : Value) (x : Int32) (st : List Value) : Ex mJ16_numberOfTrailingZeros Q 3 [.int x, l1] st h = Ex mJ16_numberOfTrailingZeros Q 4 [.int x, l1] (.int x :: st) h := Ex_nx rfl rfl
theorem rJ16_numberOfTrailingZeros_4 (Q : Po) (h : Hp) (ls : List Value) (st : List Value) : Ex mJ16_numberOfTrailingZeros Q 4 ls st h = Ex mJ16_numberOfTrailingZeros Q 5 ls (.int 1 :: st) h := Ex_nx rfl rfl
theorem rJ16_numberOfTrailingZeros_5 (Q : Po) (h : Hp) (ls : List Value) (st : List Value) (x y : Int32) : Ex mJ16_numberOfTrailingZeros Q 5 ls (.int y :: .int x :: st) h = Ex mJ16_numberOfTrailingZeros Q 6 ls (.int (x - y) :: st) h := Ex_nx rfl rfl
theorem rJ16_numberOfTrailingZeros_6 (Q : Po) (h : Hp) (ls : List Value) (st : List Value) (x y : Int32) : Ex mJ16_numberOfTrailingZeros Q 6 ls (.int y :: .int x :: st) h = Ex mJ16_numberOfTrailingZeros Q 7 ls (.int (x &&& y) :: st) h := Ex_nx rfl rfl
theorem rJ16_numberOfTrailingZeros_7 (Q : Po) (h : Hp) (l0 l1 : Value) (x : Int32) (st : List Value) : Ex mJ16_numberOfTrailingZeros Q 7 [l0, l1] (.int x :: st) h = Ex mJ16_numberOfTrailingZeros Q 8 [.int x, l1] st h := Ex_nx rfl rfl
theorem rJ16_numberOfTrailingZeros_8 (Q : Po) (h : Hp) (l1 : Value) (x : Int32) (st : List Value) : Ex mJ16_numberOfTrailingZeros Q 8 [.int x, l1] st h = Ex mJ16_numberOfTrailingZeros Q 9 [.int x, l1] (.int x :: st) h := Ex_nx rfl rfl
theorem rJ16_numberOfTrailingZeros_9 (Q : Po) (h : Hp) (ls : List Value) (st : List Value) (x : Int32) : Ex mJ16_numberOfTrailingZeros Q 9 ls (.int x :: st) h = if 0 < x then Ex mJ16_numberOfTrailingZeros Q 17 ls st h else Ex mJ16_numberOfTrailingZeros Q 12 ls st h := Ex_br rfl rfl
theorem rJ16_numberOfTrailingZeros_12 (Q : Po) (h : Hp) (l1 : Value) (x : Int32) (st : List Value) : Ex mJ16_numberOfTrailingZeros Q 12 [.int x, l1] st h = Ex mJ16_numberOfTrailingZeros Q 13 [.int x, l1] (.int x :: st) h := Ex_nx rfl rfl
theorem rJ16_numberOfTrailingZeros_13 (Q : Po) (h : Hp) (ls : List Value) (st : List Value) : Ex mJ16_numberOfTrailingZeros Q 13 ls st h = Ex mJ16_numberOfTrailingZeros Q 15 ls (.int 32 :: st) h := Ex_nx rfl rfl
theorem rJ16_numberOfTrailingZeros_15 (Q : Po) (h : Hp) (ls : List Value) (st : List Value) (x y : Int32) : Ex mJ16_numberOfTrailingZeros Q 15 ls (.int y :: .int x :: st) h = Ex mJ16_numberOfTrailingZeros Q 16 ls (.int (x &&& y) :: st) h := Ex_nx rfl rfl
theorem rJ16_numberOfTrailingZeros_16 (Q : Po) (h : Hp) (ls : List Value) (x : Int32) : Ex mJ16_numberOfTrailingZeros Q 16 ls [.int x] h = Q (.inl (some (.int x))) h := Ex_rt rfl rfl
theorem rJ16_numberOfTrailingZeros_17 (Q : Po) (h : Hp) (ls : List Value) (st : List Value) : Ex mJ16_numberOfTrailingZeros Q 17 ls st h = Ex mJ16_numberOfTrailingZeros Q 18 ls (.int 1 :: st) h := Ex_nx rfl rfl
theorem rJ16_numberOfTrailingZeros_18 (Q : Po) (h : Hp) (l0 l1 : Value) (x : Int32) (st : List Value) : Ex mJ16_numberOfTrailingZeros Q 18 [l0, l1] (.int x :: st) h = Ex mJ16_numberOfTrailingZeros Q 19 [l0, .int x] st h := Ex_nx rfl rfl
theorem rJ16_numberOfTrailingZeros_19 (Q : Po) (h : Hp) (l1 : Value) (x : Int32) (st : List Value) : Ex mJ16_numberOfTrailingZeros Q 19 [.int x, l1] st h = Ex mJ16_numberOfTrailingZeros Q 20 [.int x, l1] (.int x :: st) h := Ex_nx rfl rfl
theorem rJ16_numberOfTrailingZeros_20 (Q : Po) (h : Hp) (ls : List Value) (st : List Value) : Ex mJ16_numberOfTrailingZeros Q 20 ls st h = Ex mJ16_numberOfTrailingZeros Q 23 ls (.int 65536 :: st) h := Ex_nx rfl rfl
theorem rJ16_numberOfTrailingZeros_23 (Q : Po) (h : Hp) (ls : List Value) (st : List Value) (x y : Int32) : Ex mJ16_numberOfTrailingZeros Q 23 ls (.int y :: .int x :: st) h = if x ≤ y then Ex mJ16_numberOfTrailingZeros Q 34 ls st h else Ex mJ16_numberOfTrailingZeros Q 26 ls st h := Ex_br rfl rfl
theorem rJ16_numberOfTrailingZeros_26 (Q : Po) (h : Hp) (l0 : Value) (x : Int32) (st : List Value) : Ex mJ16_numberOfTrailingZeros Q 26 [l0, .int x] st h = Ex mJ16_numberOfTrailingZeros Q 29 [l0, .int (x + 16)] st h := Ex_nx rfl rfl
theorem rJ16_numberOfTrailingZeros_29 (Q : Po) (h : Hp) (l1 : Value) (x : Int32) (st : List Value) : Ex mJ16_numberOfTrailingZeros Q 29 [.int x, l1] st h = Ex mJ16_numberOfTrailingZeros Q 30 [.int x, l1] (.int x :: st) h := Ex_nx rfl rfl
theorem rJ16_numberOfTrailingZeros_30 (Q : Po) (h : Hp) (ls : List Value) (st : List Value) : Ex mJ16_numberOfTrailingZeros Q 30 ls st h = Ex mJ16_numberOfTrailingZeros Q 32 ls (.int 16 :: st) h := Ex_nx rfl rfl
theorem rJ16_numberOfTrailingZeros_32 (Q : Po) (h : Hp) (ls : List Value) (st : List Value) (x y : Int32) : Ex mJ16_numberOfTrailingZeros Q 32 ls (.int y :: .int x :: st) h = Ex mJ16_numberOfTrailingZeros Q 33 ls (.int ((x.toUInt32 >>> (y.toUInt32 &&& Int32.toUInt32 31)).toInt32) :: st) h := Ex_nx rfl rfl
theorem rJ16_numberOfTrailingZeros_33 (Q : Po) (h : Hp) (l0 l1 : Value) (x : Int32) (st : List Value) : Ex mJ16_numberOfTrailingZeros Q 33 [l0, l1] (.int x :: st) h = Ex mJ16_numberOfTrailingZeros Q 34 [.int x, l1] st h := Ex_nx rfl rfl
theorem rJ16_numberOfTrailingZeros_34 (Q : Po) (h : Hp) (l1 : Value) (x : Int32) (st : List Value) : Ex mJ16_numberOfTrailingZeros Q 34 [.int x, l1] st h = Ex mJ16_numberOfTrailingZeros Q 35 [.int x, l1] (.int x :: st) h := Ex_nx rfl rfl
theorem rJ16_numberOfTrailingZeros_35 (Q : Po) (h : Hp) (ls : List Value) (st : List Value) : Ex mJ16_numberOfTrailingZeros Q 35 ls st h = Ex mJ16_numberOfTrailingZeros Q 38 ls (.int 256 :: st) h := Ex_nx rfl rfl
theorem rJ16_numberOfTrailingZeros_38 (Q : Po) (h : Hp) (ls : List Value) (st : List Value) (x y : Int32) : Ex mJ16_numberOfTrailingZeros Q 38 ls (.int y :: .int x :: st) h = if x ≤ y then Ex mJ16_numberOfTrailingZeros Q 49 ls st h else Ex mJ16_numberOfTrailingZeros Q 41 ls st h := Ex_br rfl rfl
theorem rJ16_numberOfTrailingZeros_41 (Q : Po) (h : Hp) (l0 : Value) (x : Int32) (st : List Value) : Ex mJ16_numberOfTrailingZeros Q 41 [l0, .int x] st h = Ex mJ16_numberOfTrailingZeros Q 44 [l0, .int (x + 8)] st h := Ex_nx rfl rfl
theorem rJ16_numberOfTrailingZeros_44 (Q : Po) (h : Hp) (l1 : Value) (x : Int32) (st : List Value) : Ex mJ16_numberOfTrailingZeros Q 44 [.int x, l1] st h = Ex mJ16_numberOfTrailingZeros Q 45 [.int x, l1] (.int x :: st) h := Ex_nx rfl rfl
theorem rJ16_numberOfTrailingZeros_45 (Q : Po) (h : Hp) (ls : List Value) (st : List Value) : Ex mJ16_numberOfTrailingZeros Q 45 ls st h = Ex mJ16_numberOfTrailingZeros Q 47 ls (.int 8 :: st) h := Ex_nx rfl rfl
theorem rJ16_numberOfTrailingZeros_47 (Q : Po) (h : Hp) (ls : List Value) (st : List Value) (x y : Int32) : Ex mJ16_numberOfTrailingZeros Q 47 ls (.int y :: .int x :: st) h = Ex mJ16_numberOfTrailingZeros Q 48 ls (.int ((x.toUInt32 >>> (y.toUInt32 &&& Int32.toUInt32 31)).toInt32) :: st) h := Ex_nx rfl rfl
theorem rJ16_numberOfTrailingZeros_48 (Q : Po) (h : Hp) (l0 l1 : Value) (x : Int32) (st : List Value) : Ex mJ16_numberOfTrailingZeros Q 48 [l0, l1] (.int x :: st) h = Ex mJ16_numberOfTrailingZeros Q 49 [.int x, l1] st h := Ex_nx rfl rfl
theorem rJ16_numberOfTrailingZeros_49 (Q : Po) (h : Hp) (l1 : Value) (x : Int32) (st : List Value) : Ex mJ16_numberOfTrailingZeros Q 49 [.int x, l1] st h = Ex mJ16_numberOfTrailingZeros Q 50 [.int x, l1] (.int x :: st) h := Ex_nx rfl rfl
theorem rJ16_numberOfTrailingZeros_50 (Q : Po) (h : Hp) (ls : List Value) (st : List Value) : Ex mJ16_numberOfTrailingZeros Q 50 ls st h = Ex mJ16_numberOfTrailingZeros Q 52 ls (.int 16 :: st) h := Ex_nx rfl rfl
theorem rJ16_numberOfTrailingZeros_52 (Q : Po) (h : Hp) (ls : List Value) (st : List Value) (x y : Int32) : Ex mJ16_numberOfTrailingZeros Q 52 ls (.int y :: .int x :: st) h = if x ≤ y then Ex mJ16_numberOfTrailingZeros Q 62 ls st h else Ex mJ16_numberOfTrailingZeros Q 55 ls st h := Ex_br rfl rfl
theorem rJ16_numberOfTrailingZeros_55 (Q : Po) (h : Hp) (l0 : Value) (x : Int32) (st : List Value) : Ex mJ16_numberOfTrailingZeros Q 55 [l0, .int x] st h = Ex mJ16_numberOfTrailingZeros Q 58 [l0, .int (x + 4)] st h := Ex_nx rfl rfl
theorem rJ16_numberOfTrailingZeros_58 (Q : Po) (h : Hp) (l1 : Value) (x : Int32) (st : List Value) : Ex mJ16_numberOfTrailingZeros Q 58 [.int x, l1] st h = Ex mJ16_numberOfTrailingZeros Q 59 [.int x, l1] (.int x :: st) h := Ex_nx rfl rfl
theorem rJ16_numberOfTrailingZeros_59 (Q : Po) (h : Hp) (ls : List Value) (st : List Value) : Ex mJ16_numberOfTrailingZeros Q 59 ls st h = Ex mJ16_numberOfTrailingZeros Q 60 ls (.int 4 :: st) h := Ex_nx rfl rfl
theorem rJ16_numberOfTrailingZeros_60 (Q : Po) (h : Hp) (ls : List Value) (st : List Value) (x y : Int32) : Ex mJ16_numberOfTrailingZeros Q 60 ls (.int y :: .int x :: st) h = Ex mJ16_numberOfTrailingZeros Q 61 ls (.int ((x.toUInt32 >>> (y.toUInt32 &&& Int32.toUInt32 31)).toInt32) :: st) h := Ex_nx rfl rfl
theorem rJ16_numberOfTrailingZeros_61 (Q : Po) (h : Hp) (l0 l1 : Value) (x : Int32) (st : List Value) : Ex mJ16_numberOfTrailingZeros Q 61 [l0, l1] (.int x :: st) h = Ex mJ16_numberOfTrailingZeros Q 62 [.int x, l1] st h := Ex_nx rfl rfl
theorem rJ16_numberOfTrailingZeros_62 (Q : Po) (h : Hp) (l1 : Value) (x : Int32) (st : List Value) : Ex mJ16_numberOfTrailingZeros Q 62 [.int x, l1] st h = Ex mJ16_numberOfTrailingZeros Q 63 [.int x, l1] (.int x :: st) h := Ex_nx rfl rfl
theorem rJ16_numberOfTrailingZeros_63 (Q : Po) (h : Hp) (ls : List Value) (st : List Value) : Ex mJ16_numberOfTrailingZeros Q 63 ls st h = Ex mJ16_numberOfTrailingZeros Q 64 ls (.int 4 :: st) h := Ex_nx rfl rfl
theorem rJ16_numberOfTrailingZeros_64 (Q : Po) (h : Hp) (ls : List Value) (st : List Value) (x y : Int32) : Ex mJ16_numberOfTrailingZeros Q 64 ls (.int y :: .int x :: st) h = if x ≤ y then Ex mJ16_numberOfTrailingZeros Q 74 ls st h else Ex mJ16_numberOfTrailingZeros Q 67 ls st h := Ex_br rfl rfl
theorem rJ16_numberOfTrailingZeros_67 (Q : Po) (h : Hp) (l0 : Value) (x : Int32) (st : List Value) : Ex mJ16_numberOfTrailingZeros Q 67 [l0, .int x] st h = Ex mJ16_numberOfTrailingZeros Q 70 [l0, .int (x + 2)] st h := Ex_nx rfl rfl
theorem rJ16_numberOfTrailingZeros_70 (Q : Po) (h : Hp) (l1 : Value) (x : Int32) (st : List Value) : Ex mJ16_numberOfTrailingZeros Q 70 [.int x, l1] st h = Ex mJ16_numberOfTrailingZeros Q 71 [.int x, l1] (.int x :: st) h := Ex_nx rfl rfl
theorem rJ16_numberOfTrailingZeros_71 (Q : Po) (h : Hp) (ls : List Value) (st : List Value) : Ex mJ16_numberOfTrailingZeros Q 71 ls st h = Ex mJ16_numberOfTrailingZeros Q 72 ls (.int 2 :: st) h := Ex_nx rfl rfl
theorem rJ16_numberOfTrailingZeros_72 (Q : Po) (h : Hp) (ls : List Value) (st : List Value) (x y : Int32) : Ex mJ16_numberOfTrailingZeros Q 72 ls (.int y :: .int x :: st) h = Ex mJ16_numberOfTrailingZeros Q 73 ls (.int ((x.toUInt32 >>> (y.toUInt32 &&& Int32.toUInt32 31)).toInt32) :: st) h := Ex_nx rfl rfl
theorem rJ16_numberOfTrailingZeros_73 (Q : Po) (h : Hp) (l0 l1 : Value) (x : Int32) (st : List Value) : Ex mJ16_numberOfTrailingZeros Q 73 [l0, l1] (.int x :: st) h = Ex mJ16_numberOfTrailingZeros Q 74 [.int x, l1] st h := Ex_nx rfl rfl
theorem rJ16_numberOfTrailingZeros_74 (Q : Po) (h : Hp) (l0 : Value) (x : Int32) (st : List Value) : Ex mJ16_numberOfTrailingZeros Q 74 [l0, .int x] st h = Ex mJ16_numberOfTrailingZeros Q 75 [l0, .int x] (.int x :: st) h := Ex_nx rfl rfl
theorem rJ16_numberOfTrailingZeros_75 (Q : Po) (h : Hp) (l1 : Value) (x : Int32) (st : List Value) : Ex mJ16_numberOfTrailingZeros Q 75 [.int x, l1] st h = Ex mJ16_numberOfTrailingZeros Q 76 [.int x, l1] (.int x :: st) h := Ex_nx rfl rfl
theorem rJ16_numberOfTrailingZeros_76 (Q : Po) (h : Hp) (ls : List Value) (st : List Value) : Ex mJ16_numberOfTrailingZeros Q 76 ls st h = Ex mJ16_numberOfTrailingZeros Q 77 ls (.int 1 :: st) h := Ex_nx rfl rfl
theorem rJ16_numberOfTrailingZeros_77 (Q : Po) (h : Hp) (ls : List Value) (st : List Value) (x y : Int32) : Ex mJ16_numberOfTrailingZeros Q 77 ls (.int y :: .int x :: st) h = Ex mJ16_numberOfTrailingZeros Q 78 ls (.int ((x.toUInt32 >>> (y.toUInt32 &&& Int32.toUInt32 31)).toInt32) :: st) h := Ex_nx rfl rfl
theorem rJ16_numberOfTrailingZeros_78 (Q : Po) (h : Hp) (ls : List Value) (st : List Value) (x y : Int32) : Ex mJ16_numberOfTrailingZeros Q 78 ls (.int y :: .int x :: st) h = Ex mJ16_numberOfTrailingZeros Q 79 ls (.int (x + y) :: st) h := Ex_nx rfl rfl
theorem rJ16_numberOfTrailingZeros_79 (Q : Po) (h : Hp) (ls : List Value) (x : Int32) : Ex mJ16_numberOfTrailingZeros Q 79 ls [.int x] h = Q (.inl (some (.int x))) h := Ex_rt rfl rfl
theorem rJ16_numberOfTrailingZeros_t (Q : Po) (h : Hp) (pc n a : Nat) (ls st : List Value) : Cont mJ16_numberOfTrailingZeros Q pc ls n st (.inr a) h = Q (.inr a) h := rfl
/-! FishReaders.first(I)I -/
def mX0_first : Cd := ([(0, .inl (i_aload 0 1)),
  (1, .inr (c_V 0 4 1 1 (Mt mX0_isLibrary 1))),
  (4, .inl (i_if (fun x => ¬ x = 0) 10 7)),
  (7, .inl (i_push (.int (-1000002)) 9)),
  (9, .inl i_iret),
  (10, .inl (i_iload 1 11)),
  (11, .inr (c_S 1 14 1 (Mt mX0_isHalf 1))),
  (14, .inl (i_if (fun x => ¬ x = 0) 20 17)),
  (17, .inl (i_push (.int (-1000001)) 19)),
  (19, .inl i_iret),
  (20, .inl (i_aload 0 21)),
  (21, .inr (c_V 0 24 1 1 (Mt mX0_tried 1))),
  (24, .inl (i_pop 25)),
  (25, .inl (i_push (.int 1) 26)),
  (26, .inl (i_istore 2 27)),
  (27, .inl (i_iload 2 28)),
  (28, .inl (i_push (.int 60) 30)),
  (30, .inl (i_icmp (fun x y => y < x) 77 33)),
  (33, .inl (i_aload 0 34)),
  (34, .inl (i_getf 13 [1] 37)),
  (37, .inr (c_V 0 40 2 2 (Mt mX1_pass 2))),
  (40, .inr (c_V 0 43 3 2 (Mt mX1_gone 3))),
  (43, .inl (i_aload 0 44)),
  (44, .inl (i_getf 11 [1] 47)),
  (47, .inr (c_V 0 50 3 2 (Mt mX1_gone 3))),
  (50, .inl (i_push (.int (-1)) 51)),
  (51, .inl (i_bin (fun x y => x ^^^ y) 52)),
  (52, .inl (i_bin (fun x y => x &&& y) 53)),
  (53, .inl (i_istore 3 54)),
  (54, .inl (i_iload 3 55)),
  (55, .inl (i_if (fun x => x = 0) 71 58)),
  (58, .inl (i_iload 1 59)),
  (59, .inl (i_if (fun x => ¬ x = 0) 69 62)),
  (62, .inl (i_iload 3 63)),
  (63, .inr (c_S 1 66 2 (Mt mJ16_numberOfTrailingZeros 2))),
  (66, .inl (i_goto 70)),
  (69, .inl (i_iload 2 70)),
  (70, .inl i_iret),
  (71, .inl (i_iinc 2 1 74)),
  (74, .inl (i_goto 27)),
  (77, .inl (i_push (.int (-1000000)) 80)),
  (80, .inl i_iret)], noH)
theorem rX0_first_0 (Q : Po) (h : Hp) (l1 l2 l3 : Value) (x : Nat) (st : List Value) : Ex mX0_first Q 0 [.ref x, l1, l2, l3] st h = Ex mX0_first Q 1 [.ref x, l1, l2, l3] (.ref x :: st) h := Ex_nx rfl rfl
theorem rX0_first_1 (Q : Po) (h : Hp) (ls : List Value) (b : Nat) : Ex mX0_first Q 1 ls (.ref b :: []) h = (gK h b = 1 ∧ Ex mX0_isLibrary (Cont mX0_first Q 1 ls 4 []) 0 [.ref b] [] h) := Ex_cg (n := 1) (as := [.ref b]) rfl rfl
theorem rX0_first_4 (Q : Po) (h : Hp) (ls : List Value) (st : List Value) (x : Int32) : Ex mX0_first Q 4 ls (.int x :: st) h = if ¬ x = 0 then Ex mX0_first Q 10 ls st h else Ex mX0_first Q 7 ls st h := Ex_br rfl rfl
theorem rX0_first_7 (Q : Po) (h : Hp) (ls : List Value) (st : List Value) : Ex mX0_first Q 7 ls st h = Ex mX0_first Q 9 ls (.int (-1000002) :: st) h := Ex_nx rfl rfl
theorem rX0_first_9 (Q : Po) (h : Hp) (ls : List Value) (x : Int32) : Ex mX0_first Q 9 ls [.int x] h = Q (.inl (some (.int x))) h := Ex_rt rfl rfl
theorem rX0_first_10 (Q : Po) (h : Hp) (l0 l2 l3 : Value) (x : Int32) (st : List Value) : Ex mX0_first Q 10 [l0, .int x, l2, l3] st h = Ex mX0_first Q 11 [l0, .int x, l2, l3] (.int x :: st) h := Ex_nx rfl rfl
theorem rX0_first_11 (Q : Po) (h : Hp) (ls : List Value) (a0 : Int32) : Ex mX0_first Q 11 ls (.int a0 :: []) h = Ex mX0_isHalf (Cont mX0_first Q 11 ls 14 []) 0 [.int a0] [] h := Ex_cl (n := 1) (as := [.int a0]) rfl rfl
theorem rX0_first_14 (Q : Po) (h : Hp) (ls : List Value) (st : List Value) (x : Int32) : Ex mX0_first Q 14 ls (.int x :: st) h = if ¬ x = 0 then Ex mX0_first Q 20 ls st h else Ex mX0_first Q 17 ls st h := Ex_br rfl rfl
theorem rX0_first_17 (Q : Po) (h : Hp) (ls : List Value) (st : List Value) : Ex mX0_first Q 17 ls st h = Ex mX0_first Q 19 ls (.int (-1000001) :: st) h := Ex_nx rfl rfl
theorem rX0_first_19 (Q : Po) (h : Hp) (ls : List Value) (x : Int32) : Ex mX0_first Q 19 ls [.int x] h = Q (.inl (some (.int x))) h := Ex_rt rfl rfl
theorem rX0_first_20 (Q : Po) (h : Hp) (l1 l2 l3 : Value) (x : Nat) (st : List Value) : Ex mX0_first Q 20 [.ref x, l1, l2, l3] st h = Ex mX0_first Q 21 [.ref x, l1, l2, l3] (.ref x :: st) h := Ex_nx rfl rfl
theorem rX0_first_21 (Q : Po) (h : Hp) (ls : List Value) (b : Nat) : Ex mX0_first Q 21 ls (.ref b :: []) h = (gK h b = 1 ∧ Ex mX0_tried (Cont mX0_first Q 21 ls 24 []) 0 [.ref b] [] h) := Ex_cg (n := 1) (as := [.ref b]) rfl rfl
theorem rX0_first_24 (Q : Po) (h : Hp) (ls : List Value) (st : List Value) (x : Nat) : Ex mX0_first Q 24 ls (.ref x :: st) h = Ex mX0_first Q 25 ls st h := Ex_nx rfl rfl
theorem rX0_first_25 (Q : Po) (h : Hp) (ls : List Value) (st : List Value) : Ex mX0_first Q 25 ls st h = Ex mX0_first Q 26 ls (.int 1 :: st) h := Ex_nx rfl rfl
theorem rX0_first_26 (Q : Po) (h : Hp) (l0 l1 l2 l3 : Value) (x : Int32) (st : List Value) : Ex mX0_first Q 26 [l0, l1, l2, l3] (.int x :: st) h = Ex mX0_first Q 27 [l0, l1, .int x, l3] st h := Ex_nx rfl rfl
theorem rX0_first_27 (Q : Po) (h : Hp) (l0 l1 l3 : Value) (x : Int32) (st : List Value) : Ex mX0_first Q 27 [l0, l1, .int x, l3] st h = Ex mX0_first Q 28 [l0, l1, .int x, l3] (.int x :: st) h := Ex_nx rfl rfl
theorem rX0_first_28 (Q : Po) (h : Hp) (ls : List Value) (st : List Value) : Ex mX0_first Q 28 ls st h = Ex mX0_first Q 30 ls (.int 60 :: st) h := Ex_nx rfl rfl
theorem rX0_first_30 (Q : Po) (h : Hp) (ls : List Value) (st : List Value) (x y : Int32) : Ex mX0_first Q 30 ls (.int y :: .int x :: st) h = if y < x then Ex mX0_first Q 77 ls st h else Ex mX0_first Q 33 ls st h := Ex_br rfl rfl
theorem rX0_first_33 (Q : Po) (h : Hp) (l1 l2 l3 : Value) (x : Nat) (st : List Value) : Ex mX0_first Q 33 [.ref x, l1, l2, l3] st h = Ex mX0_first Q 34 [.ref x, l1, l2, l3] (.ref x :: st) h := Ex_nx rfl rfl
theorem rX0_first_34 (Q : Po) (h : Hp) (ls : List Value) (st : List Value) (a : Nat) : Ex mX0_first Q 34 ls (.ref a :: st) h = (gK h a ∈ ([1] : List Nat) ∧ Ex mX0_first Q 37 ls (gF h 13 a :: st) h) := Ex_gd rfl rfl
theorem rX0_first_37 (Q : Po) (h : Hp) (ls : List Value) (b : Nat) : Ex mX0_first Q 37 ls (.ref b :: []) h = (gK h b = 2 ∧ Ex mX1_pass (Cont mX0_first Q 37 ls 40 []) 0 [.ref b, .retAddr 0] [] h) := Ex_cg (n := 2) (as := [.ref b]) rfl rfl
theorem rX0_first_40 (Q : Po) (h : Hp) (ls : List Value) (b : Nat) : Ex mX0_first Q 40 ls (.ref b :: []) h = (gK h b = 2 ∧ Ex mX1_gone (Cont mX0_first Q 40 ls 43 []) 0 [.ref b, .retAddr 0, .retAddr 0] [] h) := Ex_cg (n := 3) (as := [.ref b]) rfl rfl
theorem rX0_first_43 (Q : Po) (h : Hp) (l1 l2 l3 : Value) (x : Nat) (st : List Value) : Ex mX0_first Q 43 [.ref x, l1, l2, l3] st h = Ex mX0_first Q 44 [.ref x, l1, l2, l3] (.ref x :: st) h := Ex_nx rfl rfl
theorem rX0_first_44 (Q : Po) (h : Hp) (ls : List Value) (st : List Value) (a : Nat) : Ex mX0_first Q 44 ls (.ref a :: st) h = (gK h a ∈ ([1] : List Nat) ∧ Ex mX0_first Q 47 ls (gF h 11 a :: st) h) := Ex_gd rfl rfl
theorem rX0_first_47 (Q : Po) (h : Hp) (ls : List Value) (s0 : Value) (b : Nat) : Ex mX0_first Q 47 ls (.ref b :: [s0]) h = (gK h b = 2 ∧ Ex mX1_gone (Cont mX0_first Q 47 ls 50 [s0]) 0 [.ref b, .retAddr 0, .retAddr 0] [] h) := Ex_cg (n := 3) (as := [.ref b]) rfl rfl
theorem rX0_first_50 (Q : Po) (h : Hp) (ls : List Value) (st : List Value) : Ex mX0_first Q 50 ls st h = Ex mX0_first Q 51 ls (.int (-1) :: st) h := Ex_nx rfl rfl
theorem rX0_first_51 (Q : Po) (h : Hp) (ls : List Value) (st : List Value) (x y : Int32) : Ex mX0_first Q 51 ls (.int y :: .int x :: st) h = Ex mX0_first Q 52 ls (.int (x ^^^ y) :: st) h := Ex_nx rfl rfl
theorem rX0_first_52 (Q : Po) (h : Hp) (ls : List Value) (st : List Value) (x y : Int32) : Ex mX0_first Q 52 ls (.int y :: .int x :: st) h = Ex mX0_first Q 53 ls (.int (x &&& y) :: st) h := Ex_nx rfl rfl
theorem rX0_first_53 (Q : Po) (h : Hp) (l0 l1 l2 l3 : Value) (x : Int32) (st : List Value) : Ex mX0_first Q 53 [l0, l1, l2, l3] (.int x :: st) h = Ex mX0_first Q 54 [l0, l1, l2, .int x] st h := Ex_nx rfl rfl
theorem rX0_first_54 (Q : Po) (h : Hp) (l0 l1 l2 : Value) (x : Int32) (st : List Value) : Ex mX0_first Q 54 [l0, l1, l2, .int x] st h = Ex mX0_first Q 55 [l0, l1, l2, .int x] (.int x :: st) h := Ex_nx rfl rfl
theorem rX0_first_55 (Q : Po) (h : Hp) (ls : List Value) (st : List Value) (x : Int32) : Ex mX0_first Q 55 ls (.int x :: st) h = if x = 0 then Ex mX0_first Q 71 ls st h else Ex mX0_first Q 58 ls st h := Ex_br rfl rfl
theorem rX0_first_58 (Q : Po) (h : Hp) (l0 l2 l3 : Value) (x : Int32) (st : List Value) : Ex mX0_first Q 58 [l0, .int x, l2, l3] st h = Ex mX0_first Q 59 [l0, .int x, l2, l3] (.int x :: st) h := Ex_nx rfl rfl
theorem rX0_first_59 (Q : Po) (h : Hp) (ls : List Value) (st : List Value) (x : Int32) : Ex mX0_first Q 59 ls (.int x :: st) h = if ¬ x = 0 then Ex mX0_first Q 69 ls st h else Ex mX0_first Q 62 ls st h := Ex_br rfl rfl
theorem rX0_first_62 (Q : Po) (h : Hp) (l0 l1 l2 : Value) (x : Int32) (st : List Value) : Ex mX0_first Q 62 [l0, l1, l2, .int x] st h = Ex mX0_first Q 63 [l0, l1, l2, .int x] (.int x :: st) h := Ex_nx rfl rfl
theorem rX0_first_63 (Q : Po) (h : Hp) (ls : List Value) (a0 : Int32) : Ex mX0_first Q 63 ls (.int a0 :: []) h = Ex mJ16_numberOfTrailingZeros (Cont mX0_first Q 63 ls 66 []) 0 [.int a0, .retAddr 0] [] h := Ex_cl (n := 2) (as := [.int a0]) rfl rfl
theorem rX0_first_66 (Q : Po) (h : Hp) (ls : List Value) (st : List Value) : Ex mX0_first Q 66 ls st h = Ex mX0_first Q 70 ls st h := Ex_nx rfl rfl
theorem rX0_first_69 (Q : Po) (h : Hp) (l0 l1 l3 : Value) (x : Int32) (st : List Value) : Ex mX0_first Q 69 [l0, l1, .int x, l3] st h = Ex mX0_first Q 70 [l0, l1, .int x, l3] (.int x :: st) h := Ex_nx rfl rfl
theorem rX0_first_70 (Q : Po) (h : Hp) (ls : List Value) (x : Int32) : Ex mX0_first Q 70 ls [.int x] h = Q (.inl (some (.int x))) h := Ex_rt rfl rfl
theorem rX0_first_71 (Q : Po) (h : Hp) (l0 l1 l3 : Value) (x : Int32) (st : List Value) : Ex mX0_first Q 71 [l0, l1, .int x, l3] st h = Ex mX0_first Q 74 [l0, l1, .int (x + 1), l3] st h := Ex_nx rfl rfl
theorem rX0_first_74 (Q : Po) (h : Hp) (ls : List Value) (st : List Value) : Ex mX0_first Q 74 ls st h = Ex mX0_first Q 27 ls st h := Ex_nx rfl rfl
theorem rX0_first_77 (Q : Po) (h : Hp) (ls : List Value) (st : List Value) : Ex mX0_first Q 77 ls st h = Ex mX0_first Q 80 ls (.int (-1000000) :: st) h := Ex_nx rfl rfl
theorem rX0_first_80 (Q : Po) (h : Hp) (ls : List Value) (x : Int32) : Ex mX0_first Q 80 ls [.int x] h = Q (.inl (some (.int x))) h := Ex_rt rfl rfl
theorem rX0_first_t (Q : Po) (h : Hp) (pc n a : Nat) (ls st : List Value) : Cont mX0_first Q pc ls n st (.inr a) h = Q (.inr a) h := rfl
/-! FishReaders.hole(II)I -/
def mX0_hole : Cd := ([(0, .inl (i_aload 0 1)),
  (1, .inl (i_iload 1 2)),
  (2, .inr (c_V 1 5 2 1 (Mt mX0_isFish 2))),
  (5, .inl (i_if (fun x => x = 0) 15 8)),
  (8, .inl (i_iload 2 9)),
  (9, .inr (c_S 1 12 1 (Mt mX0_isFar 1))),
  (12, .inl (i_if (fun x => ¬ x = 0) 18 15)),
  (15, .inl (i_push (.int (-1000001)) 17)),
  (17, .inl i_iret),
  (18, .inl (i_aload 0 19)),
  (19, .inr (c_V 0 22 1 1 (Mt mX0_tried 1))),
  (22, .inl (i_pop 23)),
  (23, .inl (i_aload 0 24)),
  (24, .inl (i_getf 13 [1] 27)),
  (27, .inl (i_getf 55 [2] 30)),
  (30, .inl (i_iload 1 31)),
  (31, .inl (i_push (.int 0) 32)),
  (32, .inl (i_iast 51 (fun x => x) 33)),
  (33, .inl (i_push (.int 0) 34)),
  (34, .inl (i_istore 3 35)),
  (35, .inl (i_push (.int 0) 36)),
  (36, .inl (i_istore 4 38)),
  (38, .inl (i_iload 4 40)),
  (40, .inl (i_iload 2 41)),
  (41, .inl (i_icmp (fun x y => y ≤ x) 109 44)),
  (44, .inl (i_aload 0 45)),
  (45, .inl (i_getf 13 [1] 48)),
  (48, .inl (i_getf 55 [2] 51)),
  (51, .inl (i_iload 1 52)),
  (52, .inl (i_iald 51 53)),
  (53, .inl (i_istore 5 55)),
  (55, .inl (i_aload 0 56)),
  (56, .inl (i_getf 13 [1] 59)),
  (59, .inr (c_V 0 62 2 2 (Mt mX1_pass 2))),
  (62, .inl (i_pop 63)),
  (63, .inl (i_iload 3 64)),
  (64, .inl (i_aload 0 65)),
  (65, .inl (i_getf 13 [1] 68)),
  (68, .inl (i_getf 55 [2] 71)),
  (71, .inl (i_iload 1 72)),
  (72, .inl (i_iald 51 73)),
  (73, .inl (i_iload 5 75)),
  (75, .inl (i_icmp (fun x y => x ≤ y) 100 78)),
  (78, .inl (i_push (.int 1) 79)),
  (79, .inl (i_aload 0 80)),
  (80, .inl (i_getf 13 [1] 83)),
  (83, .inl (i_getf 43 [2] 86)),
  (86, .inl (i_aload 0 87)),
  (87, .inl (i_getf 13 [1] 90)),
  (90, .inl (i_getf 53 [2] 93)),
  (93, .inl (i_iload 1 94)),
  (94, .inl (i_iald 51 95)),
  (95, .inl (i_iald 51 96)),
  (96, .inl (i_bin (fun x y => x <<< (y &&& 31)) 97)),
  (97, .inl (i_goto 101)),
  (100, .inl (i_push (.int 0) 101)),
  (101, .inl (i_bin (fun x y => x ||| y) 102)),
  (102, .inl (i_istore 3 103)),
  (103, .inl (i_iinc 4 1 106)),
  (106, .inl (i_goto 38)),
  (109, .inl (i_iload 3 110)),
  (110, .inl i_iret)], noH)
theorem rX0_hole_0 (Q : Po) (h : Hp) (l1 l2 l3 l4 l5 : Value) (x : Nat) (st : List Value) : Ex mX0_hole Q 0 [.ref x, l1, l2, l3, l4, l5] st h = Ex mX0_hole Q 1 [.ref x, l1, l2, l3, l4, l5] (.ref x :: st) h := Ex_nx rfl rfl
theorem rX0_hole_1 (Q : Po) (h : Hp) (l0 l2 l3 l4 l5 : Value) (x : Int32) (st : List Value) : Ex mX0_hole Q 1 [l0, .int x, l2, l3, l4, l5] st h = Ex mX0_hole Q 2 [l0, .int x, l2, l3, l4, l5] (.int x :: st) h := Ex_nx rfl rfl
theorem rX0_hole_2 (Q : Po) (h : Hp) (ls : List Value) (a0 : Int32) (b : Nat) : Ex mX0_hole Q 2 ls (.int a0 :: .ref b :: []) h = (gK h b = 1 ∧ Ex mX0_isFish (Cont mX0_hole Q 2 ls 5 []) 0 [.ref b, .int a0] [] h) := Ex_cg (n := 2) (as := [.ref b, .int a0]) rfl rfl
theorem rX0_hole_5 (Q : Po) (h : Hp) (ls : List Value) (st : List Value) (x : Int32) : Ex mX0_hole Q 5 ls (.int x :: st) h = if x = 0 then Ex mX0_hole Q 15 ls st h else Ex mX0_hole Q 8 ls st h := Ex_br rfl rfl
theorem rX0_hole_8 (Q : Po) (h : Hp) (l0 l1 l3 l4 l5 : Value) (x : Int32) (st : List Value) : Ex mX0_hole Q 8 [l0, l1, .int x, l3, l4, l5] st h = Ex mX0_hole Q 9 [l0, l1, .int x, l3, l4, l5] (.int x :: st) h := Ex_nx rfl rfl
theorem rX0_hole_9 (Q : Po) (h : Hp) (ls : List Value) (a0 : Int32) : Ex mX0_hole Q 9 ls (.int a0 :: []) h = Ex mX0_isFar (Cont mX0_hole Q 9 ls 12 []) 0 [.int a0] [] h := Ex_cl (n := 1) (as := [.int a0]) rfl rfl
theorem rX0_hole_12 (Q : Po) (h : Hp) (ls : List Value) (st : List Value) (x : Int32) : Ex mX0_hole Q 12 ls (.int x :: st) h = if ¬ x = 0 then Ex mX0_hole Q 18 ls st h else Ex mX0_hole Q 15 ls st h := Ex_br rfl rfl
theorem rX0_hole_15 (Q : Po) (h : Hp) (ls : List Value) (st : List Value) : Ex mX0_hole Q 15 ls st h = Ex mX0_hole Q 17 ls (.int (-1000001) :: st) h := Ex_nx rfl rfl
theorem rX0_hole_17 (Q : Po) (h : Hp) (ls : List Value) (x : Int32) : Ex mX0_hole Q 17 ls [.int x] h = Q (.inl (some (.int x))) h := Ex_rt rfl rfl
theorem rX0_hole_18 (Q : Po) (h : Hp) (l1 l2 l3 l4 l5 : Value) (x : Nat) (st : List Value) : Ex mX0_hole Q 18 [.ref x, l1, l2, l3, l4, l5] st h = Ex mX0_hole Q 19 [.ref x, l1, l2, l3, l4, l5] (.ref x :: st) h := Ex_nx rfl rfl
theorem rX0_hole_19 (Q : Po) (h : Hp) (ls : List Value) (b : Nat) : Ex mX0_hole Q 19 ls (.ref b :: []) h = (gK h b = 1 ∧ Ex mX0_tried (Cont mX0_hole Q 19 ls 22 []) 0 [.ref b] [] h) := Ex_cg (n := 1) (as := [.ref b]) rfl rfl
theorem rX0_hole_22 (Q : Po) (h : Hp) (ls : List Value) (st : List Value) (x : Nat) : Ex mX0_hole Q 22 ls (.ref x :: st) h = Ex mX0_hole Q 23 ls st h := Ex_nx rfl rfl
theorem rX0_hole_23 (Q : Po) (h : Hp) (l1 l2 l3 l4 l5 : Value) (x : Nat) (st : List Value) : Ex mX0_hole Q 23 [.ref x, l1, l2, l3, l4, l5] st h = Ex mX0_hole Q 24 [.ref x, l1, l2, l3, l4, l5] (.ref x :: st) h := Ex_nx rfl rfl
theorem rX0_hole_24 (Q : Po) (h : Hp) (ls : List Value) (st : List Value) (a : Nat) : Ex mX0_hole Q 24 ls (.ref a :: st) h = (gK h a ∈ ([1] : List Nat) ∧ Ex mX0_hole Q 27 ls (gF h 13 a :: st) h) := Ex_gd rfl rfl
theorem rX0_hole_27 (Q : Po) (h : Hp) (ls : List Value) (st : List Value) (a : Nat) : Ex mX0_hole Q 27 ls (.ref a :: st) h = (gK h a ∈ ([2] : List Nat) ∧ Ex mX0_hole Q 30 ls (gF h 55 a :: st) h) := Ex_gd rfl rfl
theorem rX0_hole_30 (Q : Po) (h : Hp) (l0 l2 l3 l4 l5 : Value) (x : Int32) (st : List Value) : Ex mX0_hole Q 30 [l0, .int x, l2, l3, l4, l5] st h = Ex mX0_hole Q 31 [l0, .int x, l2, l3, l4, l5] (.int x :: st) h := Ex_nx rfl rfl
theorem rX0_hole_31 (Q : Po) (h : Hp) (ls : List Value) (st : List Value) : Ex mX0_hole Q 31 ls st h = Ex mX0_hole Q 32 ls (.int 0 :: st) h := Ex_nx rfl rfl
theorem rX0_hole_32 (Q : Po) (h : Hp) (ls : List Value) (st : List Value) (a : Nat) (i x : Int32) : Ex mX0_hole Q 32 ls (.int x :: .int i :: .ref a :: st) h = ((gK h a = 51 ∧ ¬ (i < 0 ∨ gL h a ≤ i.toNatClampNeg)) ∧ Ex mX0_hole Q 33 ls st (pI h a i.toNatClampNeg (x))) := Ex_gd rfl rfl
theorem rX0_hole_33 (Q : Po) (h : Hp) (ls : List Value) (st : List Value) : Ex mX0_hole Q 33 ls st h = Ex mX0_hole Q 34 ls (.int 0 :: st) h := Ex_nx rfl rfl
theorem rX0_hole_34 (Q : Po) (h : Hp) (l0 l1 l2 l3 l4 l5 : Value) (x : Int32) (st : List Value) : Ex mX0_hole Q 34 [l0, l1, l2, l3, l4, l5] (.int x :: st) h = Ex mX0_hole Q 35 [l0, l1, l2, .int x, l4, l5] st h := Ex_nx rfl rfl
theorem rX0_hole_35 (Q : Po) (h : Hp) (ls : List Value) (st : List Value) : Ex mX0_hole Q 35 ls st h = Ex mX0_hole Q 36 ls (.int 0 :: st) h := Ex_nx rfl rfl
theorem rX0_hole_36 (Q : Po) (h : Hp) (l0 l1 l2 l3 l4 l5 : Value) (x : Int32) (st : List Value) : Ex mX0_hole Q 36 [l0, l1, l2, l3, l4, l5] (.int x :: st) h = Ex mX0_hole Q 38 [l0, l1, l2, l3, .int x, l5] st h := Ex_nx rfl rfl
theorem rX0_hole_38 (Q : Po) (h : Hp) (l0 l1 l2 l3 l5 : Value) (x : Int32) (st : List Value) : Ex mX0_hole Q 38 [l0, l1, l2, l3, .int x, l5] st h = Ex mX0_hole Q 40 [l0, l1, l2, l3, .int x, l5] (.int x :: st) h := Ex_nx rfl rfl
theorem rX0_hole_40 (Q : Po) (h : Hp) (l0 l1 l3 l4 l5 : Value) (x : Int32) (st : List Value) : Ex mX0_hole Q 40 [l0, l1, .int x, l3, l4, l5] st h = Ex mX0_hole Q 41 [l0, l1, .int x, l3, l4, l5] (.int x :: st) h := Ex_nx rfl rfl
theorem rX0_hole_41 (Q : Po) (h : Hp) (ls : List Value) (st : List Value) (x y : Int32) : Ex mX0_hole Q 41 ls (.int y :: .int x :: st) h = if y ≤ x then Ex mX0_hole Q 109 ls st h else Ex mX0_hole Q 44 ls st h := Ex_br rfl rfl
theorem rX0_hole_44 (Q : Po) (h : Hp) (l1 l2 l3 l4 l5 : Value) (x : Nat) (st : List Value) : Ex mX0_hole Q 44 [.ref x, l1, l2, l3, l4, l5] st h = Ex mX0_hole Q 45 [.ref x, l1, l2, l3, l4, l5] (.ref x :: st) h := Ex_nx rfl rfl
theorem rX0_hole_45 (Q : Po) (h : Hp) (ls : List Value) (st : List Value) (a : Nat) : Ex mX0_hole Q 45 ls (.ref a :: st) h = (gK h a ∈ ([1] : List Nat) ∧ Ex mX0_hole Q 48 ls (gF h 13 a :: st) h) := Ex_gd rfl rfl
theorem rX0_hole_48 (Q : Po) (h : Hp) (ls : List Value) (st : List Value) (a : Nat) : Ex mX0_hole Q 48 ls (.ref a :: st) h = (gK h a ∈ ([2] : List Nat) ∧ Ex mX0_hole Q 51 ls (gF h 55 a :: st) h) := Ex_gd rfl rfl
theorem rX0_hole_51 (Q : Po) (h : Hp) (l0 l2 l3 l4 l5 : Value) (x : Int32) (st : List Value) : Ex mX0_hole Q 51 [l0, .int x, l2, l3, l4, l5] st h = Ex mX0_hole Q 52 [l0, .int x, l2, l3, l4, l5] (.int x :: st) h := Ex_nx rfl rfl
theorem rX0_hole_52 (Q : Po) (h : Hp) (ls : List Value) (st : List Value) (a : Nat) (i : Int32) : Ex mX0_hole Q 52 ls (.int i :: .ref a :: st) h = ((gK h a = 51 ∧ ¬ (i < 0 ∨ gL h a ≤ i.toNatClampNeg)) ∧ Ex mX0_hole Q 53 ls (.int (gI h a i.toNatClampNeg) :: st) h) := Ex_gd rfl rfl
theorem rX0_hole_53 (Q : Po) (h : Hp) (l0 l1 l2 l3 l4 l5 : Value) (x : Int32) (st : List Value) : Ex mX0_hole Q 53 [l0, l1, l2, l3, l4, l5] (.int x :: st) h = Ex mX0_hole Q 55 [l0, l1, l2, l3, l4, .int x] st h := Ex_nx rfl rfl
theorem rX0_hole_55 (Q : Po) (h : Hp) (l1 l2 l3 l4 l5 : Value) (x : Nat) (st : List Value) : Ex mX0_hole Q 55 [.ref x, l1, l2, l3, l4, l5] st h = Ex mX0_hole Q 56 [.ref x, l1, l2, l3, l4, l5] (.ref x :: st) h := Ex_nx rfl rfl
theorem rX0_hole_56 (Q : Po) (h : Hp) (ls : List Value) (st : List Value) (a : Nat) : Ex mX0_hole Q 56 ls (.ref a :: st) h = (gK h a ∈ ([1] : List Nat) ∧ Ex mX0_hole Q 59 ls (gF h 13 a :: st) h) := Ex_gd rfl rfl
theorem rX0_hole_59 (Q : Po) (h : Hp) (ls : List Value) (b : Nat) : Ex mX0_hole Q 59 ls (.ref b :: []) h = (gK h b = 2 ∧ Ex mX1_pass (Cont mX0_hole Q 59 ls 62 []) 0 [.ref b, .retAddr 0] [] h) := Ex_cg (n := 2) (as := [.ref b]) rfl rfl
theorem rX0_hole_62 (Q : Po) (h : Hp) (ls : List Value) (st : List Value) (x : Nat) : Ex mX0_hole Q 62 ls (.ref x :: st) h = Ex mX0_hole Q 63 ls st h := Ex_nx rfl rfl
theorem rX0_hole_63 (Q : Po) (h : Hp) (l0 l1 l2 l4 l5 : Value) (x : Int32) (st : List Value) : Ex mX0_hole Q 63 [l0, l1, l2, .int x, l4, l5] st h = Ex mX0_hole Q 64 [l0, l1, l2, .int x, l4, l5] (.int x :: st) h := Ex_nx rfl rfl
theorem rX0_hole_64 (Q : Po) (h : Hp) (l1 l2 l3 l4 l5 : Value) (x : Nat) (st : List Value) : Ex mX0_hole Q 64 [.ref x, l1, l2, l3, l4, l5] st h = Ex mX0_hole Q 65 [.ref x, l1, l2, l3, l4, l5] (.ref x :: st) h := Ex_nx rfl rfl
theorem rX0_hole_65 (Q : Po) (h : Hp) (ls : List Value) (st : List Value) (a : Nat) : Ex mX0_hole Q 65 ls (.ref a :: st) h = (gK h a ∈ ([1] : List Nat) ∧ Ex mX0_hole Q 68 ls (gF h 13 a :: st) h) := Ex_gd rfl rfl
theorem rX0_hole_68 (Q : Po) (h : Hp) (ls : List Value) (st : List Value) (a : Nat) : Ex mX0_hole Q 68 ls (.ref a :: st) h = (gK h a ∈ ([2] : List Nat) ∧ Ex mX0_hole Q 71 ls (gF h 55 a :: st) h) := Ex_gd rfl rfl
theorem rX0_hole_71 (Q : Po) (h : Hp) (l0 l2 l3 l4 l5 : Value) (x : Int32) (st : List Value) : Ex mX0_hole Q 71 [l0, .int x, l2, l3, l4, l5] st h = Ex mX0_hole Q 72 [l0, .int x, l2, l3, l4, l5] (.int x :: st) h := Ex_nx rfl rfl
theorem rX0_hole_72 (Q : Po) (h : Hp) (ls : List Value) (st : List Value) (a : Nat) (i : Int32) : Ex mX0_hole Q 72 ls (.int i :: .ref a :: st) h = ((gK h a = 51 ∧ ¬ (i < 0 ∨ gL h a ≤ i.toNatClampNeg)) ∧ Ex mX0_hole Q 73 ls (.int (gI h a i.toNatClampNeg) :: st) h) := Ex_gd rfl rfl
theorem rX0_hole_73 (Q : Po) (h : Hp) (l0 l1 l2 l3 l4 : Value) (x : Int32) (st : List Value) : Ex mX0_hole Q 73 [l0, l1, l2, l3, l4, .int x] st h = Ex mX0_hole Q 75 [l0, l1, l2, l3, l4, .int x] (.int x :: st) h := Ex_nx rfl rfl
theorem rX0_hole_75 (Q : Po) (h : Hp) (ls : List Value) (st : List Value) (x y : Int32) : Ex mX0_hole Q 75 ls (.int y :: .int x :: st) h = if x ≤ y then Ex mX0_hole Q 100 ls st h else Ex mX0_hole Q 78 ls st h := Ex_br rfl rfl
theorem rX0_hole_78 (Q : Po) (h : Hp) (ls : List Value) (st : List Value) : Ex mX0_hole Q 78 ls st h = Ex mX0_hole Q 79 ls (.int 1 :: st) h := Ex_nx rfl rfl
theorem rX0_hole_79 (Q : Po) (h : Hp) (l1 l2 l3 l4 l5 : Value) (x : Nat) (st : List Value) : Ex mX0_hole Q 79 [.ref x, l1, l2, l3, l4, l5] st h = Ex mX0_hole Q 80 [.ref x, l1, l2, l3, l4, l5] (.ref x :: st) h := Ex_nx rfl rfl
theorem rX0_hole_80 (Q : Po) (h : Hp) (ls : List Value) (st : List Value) (a : Nat) : Ex mX0_hole Q 80 ls (.ref a :: st) h = (gK h a ∈ ([1] : List Nat) ∧ Ex mX0_hole Q 83 ls (gF h 13 a :: st) h) := Ex_gd rfl rfl
theorem rX0_hole_83 (Q : Po) (h : Hp) (ls : List Value) (st : List Value) (a : Nat) : Ex mX0_hole Q 83 ls (.ref a :: st) h = (gK h a ∈ ([2] : List Nat) ∧ Ex mX0_hole Q 86 ls (gF h 43 a :: st) h) := Ex_gd rfl rfl
theorem rX0_hole_86 (Q : Po) (h : Hp) (l1 l2 l3 l4 l5 : Value) (x : Nat) (st : List Value) : Ex mX0_hole Q 86 [.ref x, l1, l2, l3, l4, l5] st h = Ex mX0_hole Q 87 [.ref x, l1, l2, l3, l4, l5] (.ref x :: st) h := Ex_nx rfl rfl
theorem rX0_hole_87 (Q : Po) (h : Hp) (ls : List Value) (st : List Value) (a : Nat) : Ex mX0_hole Q 87 ls (.ref a :: st) h = (gK h a ∈ ([1] : List Nat) ∧ Ex mX0_hole Q 90 ls (gF h 13 a :: st) h) := Ex_gd rfl rfl
theorem rX0_hole_90 (Q : Po) (h : Hp) (ls : List Value) (st : List Value) (a : Nat) : Ex mX0_hole Q 90 ls (.ref a :: st) h = (gK h a ∈ ([2] : List Nat) ∧ Ex mX0_hole Q 93 ls (gF h 53 a :: st) h) := Ex_gd rfl rfl
theorem rX0_hole_93 (Q : Po) (h : Hp) (l0 l2 l3 l4 l5 : Value) (x : Int32) (st : List Value) : Ex mX0_hole Q 93 [l0, .int x, l2, l3, l4, l5] st h = Ex mX0_hole Q 94 [l0, .int x, l2, l3, l4, l5] (.int x :: st) h := Ex_nx rfl rfl
theorem rX0_hole_94 (Q : Po) (h : Hp) (ls : List Value) (st : List Value) (a : Nat) (i : Int32) : Ex mX0_hole Q 94 ls (.int i :: .ref a :: st) h = ((gK h a = 51 ∧ ¬ (i < 0 ∨ gL h a ≤ i.toNatClampNeg)) ∧ Ex mX0_hole Q 95 ls (.int (gI h a i.toNatClampNeg) :: st) h) := Ex_gd rfl rfl
theorem rX0_hole_95 (Q : Po) (h : Hp) (ls : List Value) (st : List Value) (a : Nat) (i : Int32) : Ex mX0_hole Q 95 ls (.int i :: .ref a :: st) h = ((gK h a = 51 ∧ ¬ (i < 0 ∨ gL h a ≤ i.toNatClampNeg)) ∧ Ex mX0_hole Q 96 ls (.int (gI h a i.toNatClampNeg) :: st) h) := Ex_gd rfl rfl
theorem rX0_hole_96 (Q : Po) (h : Hp) (ls : List Value) (st : List Value) (x y : Int32) : Ex mX0_hole Q 96 ls (.int y :: .int x :: st) h = Ex mX0_hole Q 97 ls (.int (x <<< (y &&& 31)) :: st) h := Ex_nx rfl rfl
theorem rX0_hole_97 (Q : Po) (h : Hp) (ls : List Value) (st : List Value) : Ex mX0_hole Q 97 ls st h = Ex mX0_hole Q 101 ls st h := Ex_nx rfl rfl
theorem rX0_hole_100 (Q : Po) (h : Hp) (ls : List Value) (st : List Value) : Ex mX0_hole Q 100 ls st h = Ex mX0_hole Q 101 ls (.int 0 :: st) h := Ex_nx rfl rfl
theorem rX0_hole_101 (Q : Po) (h : Hp) (ls : List Value) (st : List Value) (x y : Int32) : Ex mX0_hole Q 101 ls (.int y :: .int x :: st) h = Ex mX0_hole Q 102 ls (.int (x ||| y) :: st) h := Ex_nx rfl rfl
theorem rX0_hole_102 (Q : Po) (h : Hp) (l0 l1 l2 l3 l4 l5 : Value) (x : Int32) (st : List Value) : Ex mX0_hole Q 102 [l0, l1, l2, l3, l4, l5] (.int x :: st) h = Ex mX0_hole Q 103 [l0, l1, l2, .int x, l4, l5] st h := Ex_nx rfl rfl
theorem rX0_hole_103 (Q : Po) (h : Hp) (l0 l1 l2 l3 l5 : Value) (x : Int32) (st : List Value) : Ex mX0_hole Q 103 [l0, l1, l2, l3, .int x, l5] st h = Ex mX0_hole Q 106 [l0, l1, l2, l3, .int (x + 1), l5] st h := Ex_nx rfl rfl
theorem rX0_hole_106 (Q : Po) (h : Hp) (ls : List Value) (st : List Value) : Ex mX0_hole Q 106 ls st h = Ex mX0_hole Q 38 ls st h := Ex_nx rfl rfl
theorem rX0_hole_109 (Q : Po) (h : Hp) (l0 l1 l2 l4 l5 : Value) (x : Int32) (st : List Value) : Ex mX0_hole Q 109 [l0, l1, l2, .int x, l4, l5] st h = Ex mX0_hole Q 110 [l0, l1, l2, .int x, l4, l5] (.int x :: st) h := Ex_nx rfl rfl
theorem rX0_hole_110 (Q : Po) (h : Hp) (ls : List Value) (x : Int32) : Ex mX0_hole Q 110 ls [.int x] h = Q (.inl (some (.int x))) h := Ex_rt rfl rfl
theorem rX0_hole_t (Q : Po) (h : Hp) (pc n a : Nat) (ls st : List Value) : Cont mX0_hole Q pc ls n st (.inr a) h = Q (.inr a) h := rfl
/-! FishReaders.isShort(I)Z -/
def mX0_isShort : Cd := ([(0, .inl (i_iload 0 1)),
  (1, .inl (i_i2l 2)),
  (2, .inl (i_push (.long 1) 3)),
  (3, .inl (i_push (.long 12) 6)),
  (6, .inr (c_S 3 9 6 (Mt mX0_isIn 6))),
  (9, .inl i_zret)], noH)
theorem rX0_isShort_0 (Q : Po) (h : Hp) (x : Int32) (st : List Value) : Ex mX0_isShort Q 0 [.int x] st h = Ex mX0_isShort Q 1 [.int x] (.int x :: st) h := Ex_nx rfl rfl
theorem rX0_isShort_1 (Q : Po) (h : Hp) (ls : List Value) (st : List Value) (x : Int32) : Ex mX0_isShort Q 1 ls (.int x :: st) h = Ex mX0_isShort Q 2 ls (.long x.toInt64 :: st) h := Ex_nx rfl rfl
theorem rX0_isShort_2 (Q : Po) (h : Hp) (ls : List Value) (st : List Value) : Ex mX0_isShort Q 2 ls st h = Ex mX0_isShort Q 3 ls (.long 1 :: st) h := Ex_nx rfl rfl
theorem rX0_isShort_3 (Q : Po) (h : Hp) (ls : List Value) (st : List Value) : Ex mX0_isShort Q 3 ls st h = Ex mX0_isShort Q 6 ls (.long 12 :: st) h := Ex_nx rfl rfl
theorem rX0_isShort_6 (Q : Po) (h : Hp) (ls : List Value) (a0 : Int64) (a1 : Int64) (a2 : Int64) : Ex mX0_isShort Q 6 ls (.long a2 :: .long a1 :: .long a0 :: []) h = Ex mX0_isIn (Cont mX0_isShort Q 6 ls 9 []) 0 [.long a0, .retAddr 1, .long a1, .retAddr 1, .long a2, .retAddr 1] [] h := Ex_cl (n := 6) (as := [.long a0, .long a1, .long a2]) rfl rfl
theorem rX0_isShort_9 (Q : Po) (h : Hp) (ls : List Value) (x : Int32) : Ex mX0_isShort Q 9 ls [.int x] h = ((x = 0 ∨ x = 1) ∧ Q (.inl (some (.int x))) h) := Ex_rg rfl rfl
theorem rX0_isShort_t (Q : Po) (h : Hp) (pc n a : Nat) (ls st : List Value) : Cont mX0_isShort Q pc ls n st (.inr a) h = Q (.inr a) h := rfl
/-! FishReaders.look(II)V -/
def mX0_look : Cd := ([(0, .inl (i_aload 0 1)),
  (1, .inr (c_V 0 4 1 1 (Mt mX0_tried 1))),
  (4, .inl (i_pop 5)),
  (5, .inl (i_push (.int 0) 6)),
  (6, .inl (i_istore 3 7)),
  (7, .inl (i_iload 3 8)),
  (8, .inl (i_aload 0 9)),
  (9, .inl (i_getf 11 [1] 12)),
  (12, .inl (i_getf 36 [2] 15)),
  (15, .inl (i_icmp (fun x y => y ≤ x) 38 18)),
  (18, .inl (i_aload 0 19)),
  (19, .inl (i_getf 13 [1] 22)),
  (22, .inl (i_aload 0 23)),
  (23, .inl (i_getf 25 [1] 26)),
  (26, .inl (i_iload 3 27)),
  (27, .inl (i_iald 51 28)),
  (28, .inl (i_iload 3 29)),
  (29, .inr (c_V 2 32 3 2 (Mt mX1_puts 3))),
  (32, .inl (i_iinc 3 1 35)),
  (35, .inl (i_goto 7)),
  (38, .inl (i_aload 0 39)),
  (39, .inl (i_iload 2 40)),
  (40, .inr (c_V 1 43 3 1 (Mt mX0_goOn 3))),
  (43, .inl (i_iload 1 44)),
  (44, .inr (c_V 1 47 4 2 (Mt mX1_left 4))),
  (47, .inl (i_istore 3 48)),
  (48, .inl (i_iload 3 49)),
  (49, .inl (i_aload 0 50)),
  (50, .inl (i_getf 28 [1] 53)),
  (53, .inl (i_icmp (fun x y => y < x) 57 56)),
  (56, .inl i_vret),
  (57, .inl (i_aload 0 58)),
  (58, .inl (i_iload 3 59)),
  (59, .inl (i_putI 28 [1] 62)),
  (62, .inl (i_aload 0 63)),
  (63, .inl (i_getf 25 [1] 66)),
  (66, .inl (i_push (.int 0) 67)),
  (67, .inl (i_aload 0 68)),
  (68, .inl (i_getf 27 [1] 71)),
  (71, .inl (i_push (.int 0) 72)),
  (72, .inl (i_push (.int 6) 74)),
  (74, .inl (i_acpy 51 77)),
  (77, .inl i_vret)], noH)
theorem rX0_look_0 (Q : Po) (h : Hp) (l1 l2 l3 : Value) (x : Nat) (st : List Value) : Ex mX0_look Q 0 [.ref x, l1, l2, l3] st h = Ex mX0_look Q 1 [.ref x, l1, l2, l3] (.ref x :: st) h := Ex_nx rfl rfl
theorem rX0_look_1 (Q : Po) (h : Hp) (ls : List Value) (b : Nat) : Ex mX0_look Q 1 ls (.ref b :: []) h = (gK h b = 1 ∧ Ex mX0_tried (Cont mX0_look Q 1 ls 4 []) 0 [.ref b] [] h) := Ex_cg (n := 1) (as := [.ref b]) rfl rfl
theorem rX0_look_4 (Q : Po) (h : Hp) (ls : List Value) (st : List Value) (x : Nat) : Ex mX0_look Q 4 ls (.ref x :: st) h = Ex mX0_look Q 5 ls st h := Ex_nx rfl rfl
theorem rX0_look_5 (Q : Po) (h : Hp) (ls : List Value) (st : List Value) : Ex mX0_look Q 5 ls st h = Ex mX0_look Q 6 ls (.int 0 :: st) h := Ex_nx rfl rfl
theorem rX0_look_6 (Q : Po) (h : Hp) (l0 l1 l2 l3 : Value) (x : Int32) (st : List Value) : Ex mX0_look Q 6 [l0, l1, l2, l3] (.int x :: st) h = Ex mX0_look Q 7 [l0, l1, l2, .int x] st h := Ex_nx rfl rfl
theorem rX0_look_7 (Q : Po) (h : Hp) (l0 l1 l2 : Value) (x : Int32) (st : List Value) : Ex mX0_look Q 7 [l0, l1, l2, .int x] st h = Ex mX0_look Q 8 [l0, l1, l2, .int x] (.int x :: st) h := Ex_nx rfl rfl
theorem rX0_look_8 (Q : Po) (h : Hp) (l1 l2 l3 : Value) (x : Nat) (st : List Value) : Ex mX0_look Q 8 [.ref x, l1, l2, l3] st h = Ex mX0_look Q 9 [.ref x, l1, l2, l3] (.ref x :: st) h := Ex_nx rfl rfl
theorem rX0_look_9 (Q : Po) (h : Hp) (ls : List Value) (st : List Value) (a : Nat) : Ex mX0_look Q 9 ls (.ref a :: st) h = (gK h a ∈ ([1] : List Nat) ∧ Ex mX0_look Q 12 ls (gF h 11 a :: st) h) := Ex_gd rfl rfl
theorem rX0_look_12 (Q : Po) (h : Hp) (ls : List Value) (st : List Value) (a : Nat) : Ex mX0_look Q 12 ls (.ref a :: st) h = (gK h a ∈ ([2] : List Nat) ∧ Ex mX0_look Q 15 ls (gF h 36 a :: st) h) := Ex_gd rfl rfl
theorem rX0_look_15 (Q : Po) (h : Hp) (ls : List Value) (st : List Value) (x y : Int32) : Ex mX0_look Q 15 ls (.int y :: .int x :: st) h = if y ≤ x then Ex mX0_look Q 38 ls st h else Ex mX0_look Q 18 ls st h := Ex_br rfl rfl
theorem rX0_look_18 (Q : Po) (h : Hp) (l1 l2 l3 : Value) (x : Nat) (st : List Value) : Ex mX0_look Q 18 [.ref x, l1, l2, l3] st h = Ex mX0_look Q 19 [.ref x, l1, l2, l3] (.ref x :: st) h := Ex_nx rfl rfl
theorem rX0_look_19 (Q : Po) (h : Hp) (ls : List Value) (st : List Value) (a : Nat) : Ex mX0_look Q 19 ls (.ref a :: st) h = (gK h a ∈ ([1] : List Nat) ∧ Ex mX0_look Q 22 ls (gF h 13 a :: st) h) := Ex_gd rfl rfl
theorem rX0_look_22 (Q : Po) (h : Hp) (l1 l2 l3 : Value) (x : Nat) (st : List Value) : Ex mX0_look Q 22 [.ref x, l1, l2, l3] st h = Ex mX0_look Q 23 [.ref x, l1, l2, l3] (.ref x :: st) h := Ex_nx rfl rfl
theorem rX0_look_23 (Q : Po) (h : Hp) (ls : List Value) (st : List Value) (a : Nat) : Ex mX0_look Q 23 ls (.ref a :: st) h = (gK h a ∈ ([1] : List Nat) ∧ Ex mX0_look Q 26 ls (gF h 25 a :: st) h) := Ex_gd rfl rfl
theorem rX0_look_26 (Q : Po) (h : Hp) (l0 l1 l2 : Value) (x : Int32) (st : List Value) : Ex mX0_look Q 26 [l0, l1, l2, .int x] st h = Ex mX0_look Q 27 [l0, l1, l2, .int x] (.int x :: st) h := Ex_nx rfl rfl
theorem rX0_look_27 (Q : Po) (h : Hp) (ls : List Value) (st : List Value) (a : Nat) (i : Int32) : Ex mX0_look Q 27 ls (.int i :: .ref a :: st) h = ((gK h a = 51 ∧ ¬ (i < 0 ∨ gL h a ≤ i.toNatClampNeg)) ∧ Ex mX0_look Q 28 ls (.int (gI h a i.toNatClampNeg) :: st) h) := Ex_gd rfl rfl
theorem rX0_look_28 (Q : Po) (h : Hp) (l0 l1 l2 : Value) (x : Int32) (st : List Value) : Ex mX0_look Q 28 [l0, l1, l2, .int x] st h = Ex mX0_look Q 29 [l0, l1, l2, .int x] (.int x :: st) h := Ex_nx rfl rfl
theorem rX0_look_29 (Q : Po) (h : Hp) (ls : List Value) (a0 : Int32) (a1 : Int32) (b : Nat) : Ex mX0_look Q 29 ls (.int a1 :: .int a0 :: .ref b :: []) h = (gK h b = 2 ∧ Ex mX1_puts (Cont mX0_look Q 29 ls 32 []) 0 [.ref b, .int a0, .int a1] [] h) := Ex_cg (n := 3) (as := [.ref b, .int a0, .int a1]) rfl rfl
theorem rX0_look_32 (Q : Po) (h : Hp) (l0 l1 l2 : Value) (x : Int32) (st : List Value) : Ex mX0_look Q 32 [l0, l1, l2, .int x] st h = Ex mX0_look Q 35 [l0, l1, l2, .int (x + 1)] st h := Ex_nx rfl rfl
theorem rX0_look_35 (Q : Po) (h : Hp) (ls : List Value) (st : List Value) : Ex mX0_look Q 35 ls st h = Ex mX0_look Q 7 ls st h := Ex_nx rfl rfl
theorem rX0_look_38 (Q : Po) (h : Hp) (l1 l2 l3 : Value) (x : Nat) (st : List Value) : Ex mX0_look Q 38 [.ref x, l1, l2, l3] st h = Ex mX0_look Q 39 [.ref x, l1, l2, l3] (.ref x :: st) h := Ex_nx rfl rfl
theorem rX0_look_39 (Q : Po) (h : Hp) (l0 l1 l3 : Value) (x : Int32) (st : List Value) : Ex mX0_look Q 39 [l0, l1, .int x, l3] st h = Ex mX0_look Q 40 [l0, l1, .int x, l3] (.int x :: st) h := Ex_nx rfl rfl
theorem rX0_look_40 (Q : Po) (h : Hp) (ls : List Value) (a0 : Int32) (b : Nat) : Ex mX0_look Q 40 ls (.int a0 :: .ref b :: []) h = (gK h b = 1 ∧ Ex mX0_goOn (Cont mX0_look Q 40 ls 43 []) 0 [.ref b, .int a0, .retAddr 0] [] h) := Ex_cg (n := 3) (as := [.ref b, .int a0]) rfl rfl
theorem rX0_look_43 (Q : Po) (h : Hp) (l0 l2 l3 : Value) (x : Int32) (st : List Value) : Ex mX0_look Q 43 [l0, .int x, l2, l3] st h = Ex mX0_look Q 44 [l0, .int x, l2, l3] (.int x :: st) h := Ex_nx rfl rfl
theorem rX0_look_44 (Q : Po) (h : Hp) (ls : List Value) (a0 : Int32) (b : Nat) : Ex mX0_look Q 44 ls (.int a0 :: .ref b :: []) h = (gK h b = 2 ∧ Ex mX1_left (Cont mX0_look Q 44 ls 47 []) 0 [.ref b, .int a0, .retAddr 0, .retAddr 0] [] h) := Ex_cg (n := 4) (as := [.ref b, .int a0]) rfl rfl
theorem rX0_look_47 (Q : Po) (h : Hp) (l0 l1 l2 l3 : Value) (x : Int32) (st : List Value) : Ex mX0_look Q 47 [l0, l1, l2, l3] (.int x :: st) h = Ex mX0_look Q 48 [l0, l1, l2, .int x] st h := Ex_nx rfl rfl
theorem rX0_look_48 (Q : Po) (h : Hp) (l0 l1 l2 : Value) (x : Int32) (st : List Value) : Ex mX0_look Q 48 [l0, l1, l2, .int x] st h = Ex mX0_look Q 49 [l0, l1, l2, .int x] (.int x :: st) h := Ex_nx rfl rfl
theorem rX0_look_49 (Q : Po) (h : Hp) (l1 l2 l3 : Value) (x : Nat) (st : List Value) : Ex mX0_look Q 49 [.ref x, l1, l2, l3] st h = Ex mX0_look Q 50 [.ref x, l1, l2, l3] (.ref x :: st) h := Ex_nx rfl rfl
theorem rX0_look_50 (Q : Po) (h : Hp) (ls : List Value) (st : List Value) (a : Nat) : Ex mX0_look Q 50 ls (.ref a :: st) h = (gK h a ∈ ([1] : List Nat) ∧ Ex mX0_look Q 53 ls (gF h 28 a :: st) h) := Ex_gd rfl rfl
theorem rX0_look_53 (Q : Po) (h : Hp) (ls : List Value) (st : List Value) (x y : Int32) : Ex mX0_look Q 53 ls (.int y :: .int x :: st) h = if y < x then Ex mX0_look Q 57 ls st h else Ex mX0_look Q 56 ls st h := Ex_br rfl rfl
theorem rX0_look_56 (Q : Po) (h : Hp) (ls : List Value) : Ex mX0_look Q 56 ls [] h = Q (.inl none) h := Ex_rt rfl rfl
theorem rX0_look_57 (Q : Po) (h : Hp) (l1 l2 l3 : Value) (x : Nat) (st : List Value) : Ex mX0_look Q 57 [.ref x, l1, l2, l3] st h = Ex mX0_look Q 58 [.ref x, l1, l2, l3] (.ref x :: st) h := Ex_nx rfl rfl
theorem rX0_look_58 (Q : Po) (h : Hp) (l0 l1 l2 : Value) (x : Int32) (st : List Value) : Ex mX0_look Q 58 [l0, l1, l2, .int x] st h = Ex mX0_look Q 59 [l0, l1, l2, .int x] (.int x :: st) h := Ex_nx rfl rfl
theorem rX0_look_59 (Q : Po) (h : Hp) (ls : List Value) (st : List Value) (x : Int32) (a : Nat) : Ex mX0_look Q 59 ls (.int x :: .ref a :: st) h = (gK h a ∈ ([1] : List Nat) ∧ Ex mX0_look Q 62 ls st (pF h 28 a (.int x))) := Ex_gd rfl rfl
theorem rX0_look_62 (Q : Po) (h : Hp) (l1 l2 l3 : Value) (x : Nat) (st : List Value) : Ex mX0_look Q 62 [.ref x, l1, l2, l3] st h = Ex mX0_look Q 63 [.ref x, l1, l2, l3] (.ref x :: st) h := Ex_nx rfl rfl
theorem rX0_look_63 (Q : Po) (h : Hp) (ls : List Value) (st : List Value) (a : Nat) : Ex mX0_look Q 63 ls (.ref a :: st) h = (gK h a ∈ ([1] : List Nat) ∧ Ex mX0_look Q 66 ls (gF h 25 a :: st) h) := Ex_gd rfl rfl
theorem rX0_look_66 (Q : Po) (h : Hp) (ls : List Value) (st : List Value) : Ex mX0_look Q 66 ls st h = Ex mX0_look Q 67 ls (.int 0 :: st) h := Ex_nx rfl rfl
theorem rX0_look_67 (Q : Po) (h : Hp) (l1 l2 l3 : Value) (x : Nat) (st : List Value) : Ex mX0_look Q 67 [.ref x, l1, l2, l3] st h = Ex mX0_look Q 68 [.ref x, l1, l2, l3] (.ref x :: st) h := Ex_nx rfl rfl
theorem rX0_look_68 (Q : Po) (h : Hp) (ls : List Value) (st : List Value) (a : Nat) : Ex mX0_look Q 68 ls (.ref a :: st) h = (gK h a ∈ ([1] : List Nat) ∧ Ex mX0_look Q 71 ls (gF h 27 a :: st) h) := Ex_gd rfl rfl
theorem rX0_look_71 (Q : Po) (h : Hp) (ls : List Value) (st : List Value) : Ex mX0_look Q 71 ls st h = Ex mX0_look Q 72 ls (.int 0 :: st) h := Ex_nx rfl rfl
theorem rX0_look_72 (Q : Po) (h : Hp) (ls : List Value) (st : List Value) : Ex mX0_look Q 72 ls st h = Ex mX0_look Q 74 ls (.int 6 :: st) h := Ex_nx rfl rfl
theorem rX0_look_74 (Q : Po) (h : Hp) (ls : List Value) (s d : Nat) (sp dp k : Int32) : Ex mX0_look Q 74 ls (.int k :: .int dp :: .ref d :: .int sp :: .ref s :: []) h = ((([] : List Value).length ≤ 6 ∧ gK h s = 51 ∧ gK h d = 51 ∧ ¬ sp < 0 ∧ ¬ dp < 0 ∧ ¬ k < 0 ∧ sp.toNatClampNeg + k.toNatClampNeg ≤ gL h s ∧ dp.toNatClampNeg + k.toNatClampNeg ≤ gL h d) ∧ Ex mX0_look Q 77 ls [] (pC h d (va_cpy (gI h s) (gI h d) sp.toNatClampNeg dp.toNatClampNeg k.toNatClampNeg))) := Ex_gd rfl rfl
theorem rX0_look_77 (Q : Po) (h : Hp) (ls : List Value) : Ex mX0_look Q 77 ls [] h = Q (.inl none) h := Ex_rt rfl rfl
theorem rX0_look_t (Q : Po) (h : Hp) (pc n a : Nat) (ls st : List Value) : Cont mX0_look Q pc ls n st (.inr a) h = Q (.inr a) h := rfl
/-! FishReaders.has(II)Z -/
def mX0_has : Cd := ([(0, .inl (i_iload 0 1)),
  (1, .inl (i_iload 1 2)),
  (2, .inl (i_bin (fun x y => x >>> (y &&& 31)) 3)),
  (3, .inl (i_push (.int 1) 4)),
  (4, .inl (i_bin (fun x y => x &&& y) 5)),
  (5, .inl (i_push (.int 1) 6)),
  (6, .inl (i_icmp (fun x y => ¬ x = y) 13 9)),
  (9, .inl (i_push (.int 1) 10)),
  (10, .inl (i_goto 14)),
  (13, .inl (i_push (.int 0) 14)),
  (14, .inl i_zret)], noH)
theorem rX0_has_0 (Q : Po) (h : Hp) (l1 : Value) (x : Int32) (st : List Value) : Ex mX0_has Q 0 [.int x, l1] st h = Ex mX0_has Q 1 [.int x, l1] (.int x :: st) h := Ex_nx rfl rfl
theorem rX0_has_1 (Q : Po) (h : Hp) (l0 : Value) (x : Int32) (st : List Value) : Ex mX0_has Q 1 [l0, .int x] st h = Ex mX0_has Q 2 [l0, .int x] (.int x :: st) h := Ex_nx rfl rfl
theorem rX0_has_2 (Q : Po) (h : Hp) (ls : List Value) (st : List Value) (x y : Int32) : Ex mX0_has Q 2 ls (.int y :: .int x :: st) h = Ex mX0_has Q 3 ls (.int (x >>> (y &&& 31)) :: st) h := Ex_nx rfl rfl
theorem rX0_has_3 (Q : Po) (h : Hp) (ls : List Value) (st : List Value) : Ex mX0_has Q 3 ls st h = Ex mX0_has Q 4 ls (.int 1 :: st) h := Ex_nx rfl rfl
theorem rX0_has_4 (Q : Po) (h : Hp) (ls : List Value) (st : List Value) (x y : Int32) : Ex mX0_has Q 4 ls (.int y :: .int x :: st) h = Ex mX0_has Q 5 ls (.int (x &&& y) :: st) h := Ex_nx rfl rfl
theorem rX0_has_5 (Q : Po) (h : Hp) (ls : List Value) (st : List Value) : Ex mX0_has Q 5 ls st h = Ex mX0_has Q 6 ls (.int 1 :: st) h := Ex_nx rfl rfl
theorem rX0_has_6 (Q : Po) (h : Hp) (ls : List Value) (st : List Value) (x y : Int32) : Ex mX0_has Q 6 ls (.int y :: .int x :: st) h = if ¬ x = y then Ex mX0_has Q 13 ls st h else Ex mX0_has Q 9 ls st h := Ex_br rfl rfl
theorem rX0_has_9 (Q : Po) (h : Hp) (ls : List Value) (st : List Value) : Ex mX0_has Q 9 ls st h = Ex mX0_has Q 10 ls (.int 1 :: st) h := Ex_nx rfl rfl
theorem rX0_has_10 (Q : Po) (h : Hp) (ls : List Value) (st : List Value) : Ex mX0_has Q 10 ls st h = Ex mX0_has Q 14 ls st h := Ex_nx rfl rfl
theorem rX0_has_13 (Q : Po) (h : Hp) (ls : List Value) (st : List Value) : Ex mX0_has Q 13 ls st h = Ex mX0_has Q 14 ls (.int 0 :: st) h := Ex_nx rfl rfl
theorem rX0_has_14 (Q : Po) (h : Hp) (ls : List Value) (x : Int32) : Ex mX0_has Q 14 ls [.int x] h = ((x = 0 ∨ x = 1) ∧ Q (.inl (some (.int x))) h) := Ex_rg rfl rfl
theorem rX0_has_t (Q : Po) (h : Hp) (pc n a : Nat) (ls st : List Value) : Cont mX0_has Q pc ls n st (.inr a) h = Q (.inr a) h := rfl
/-! FishReaders.orderFrom(IIII)V -/
def mX0_orderFrom (w : Wm) : Cd := ([(0, .inl (i_iload 4 2)),
  (2, .inl (i_if (fun x => ¬ x = 0) 11 5)),
  (5, .inl (i_aload 0 6)),
  (6, .inl (i_iload 1 7)),
  (7, .inl (i_iload 2 8)),
  (8, .inr (c_V 2 11 4 1 (Mt mX0_look 4))),
  (11, .inl (i_push (.int 0) 12)),
  (12, .inl (i_istore 5 14)),
  (14, .inl (i_iload 5 16)),
  (16, .inl (i_aload 0 17)),
  (17, .inl (i_getf 11 [1] 20)),
  (20, .inl (i_getf 36 [2] 23)),
  (23, .inl (i_icmp (fun x y => y ≤ x) 71 26)),
  (26, .inl (i_iload 4 28)),
  (28, .inl (i_iload 5 30)),
  (30, .inr (c_S 2 33 2 (Mt mX0_has 2))),
  (33, .inl (i_if (fun x => ¬ x = 0) 39 36)),
  (36, .inl (i_goto 65)),
  (39, .inl (i_aload 0 40)),
  (40, .inl (i_getf 25 [1] 43)),
  (43, .inl (i_iload 3 44)),
  (44, .inl (i_iload 5 46)),
  (46, .inl (i_iast 51 (fun x => x) 47)),
  (47, .inl (i_aload 0 48)),
  (48, .inl (i_iload 1 49)),
  (49, .inl (i_iload 2 50)),
  (50, .inl (i_iload 3 51)),
  (51, .inl (i_push (.int 1) 52)),
  (52, .inl (i_bin (fun x y => x + y) 53)),
  (53, .inl (i_iload 4 55)),
  (55, .inl (i_push (.int 1) 56)),
  (56, .inl (i_iload 5 58)),
  (58, .inl (i_bin (fun x y => x <<< (y &&& 31)) 59)),
  (59, .inl (i_push (.int (-1)) 60)),
  (60, .inl (i_bin (fun x y => x ^^^ y) 61)),
  (61, .inl (i_bin (fun x y => x &&& y) 62)),
  (62, .inr (c_V 4 65 6 1 w)),
  (65, .inl (i_iinc 5 1 68)),
  (68, .inl (i_goto 14)),
  (71, .inl i_vret)], noH)
def mX0_orderFromN : Nat → Cd
  | 0 => mX0_orderFrom (fun _ _ _ => False)
  | d + 1 => mX0_orderFrom (Mt (mX0_orderFromN d) 6)
theorem rX0_orderFrom_0 (Q : Po) (h : Hp) (c2 : Cd) (l0 l1 l2 l3 l5 : Value) (x : Int32) (st : List Value) : Ex (mX0_orderFrom (Mt c2 6)) Q 0 [l0, l1, l2, l3, .int x, l5] st h = Ex (mX0_orderFrom (Mt c2 6)) Q 2 [l0, l1, l2, l3, .int x, l5] (.int x :: st) h := Ex_nx rfl rfl
theorem rX0_orderFrom_2 (Q : Po) (h : Hp) (c2 : Cd) (ls : List Value) (st : List Value) (x : Int32) : Ex (mX0_orderFrom (Mt c2 6)) Q 2 ls (.int x :: st) h = if ¬ x = 0 then Ex (mX0_orderFrom (Mt c2 6)) Q 11 ls st h else Ex (mX0_orderFrom (Mt c2 6)) Q 5 ls st h := Ex_br rfl rfl
theorem rX0_orderFrom_5 (Q : Po) (h : Hp) (c2 : Cd) (l1 l2 l3 l4 l5 : Value) (x : Nat) (st : List Value) : Ex (mX0_orderFrom (Mt c2 6)) Q 5 [.ref x, l1, l2, l3, l4, l5] st h = Ex (mX0_orderFrom (Mt c2 6)) Q 6 [.ref x, l1, l2, l3, l4, l5] (.ref x :: st) h := Ex_nx rfl rfl
theorem rX0_orderFrom_6 (Q : Po) (h : Hp) (c2 : Cd) (l0 l2 l3 l4 l5 : Value) (x : Int32) (st : List Value) : Ex (mX0_orderFrom (Mt c2 6)) Q 6 [l0, .int x, l2, l3, l4, l5] st h = Ex (mX0_orderFrom (Mt c2 6)) Q 7 [l0, .int x, l2, l3, l4, l5] (.int x :: st) h := Ex_nx rfl rfl
theorem rX0_orderFrom_7 (Q : Po) (h : Hp) (c2 : Cd) (l0 l1 l3 l4 l5 : Value) (x : Int32) (st : List Value) : Ex (mX0_orderFrom (Mt c2 6)) Q 7 [l0, l1, .int x, l3, l4, l5] st h = Ex (mX0_orderFrom (Mt c2 6)) Q 8 [l0, l1, .int x, l3, l4, l5] (.int x :: st) h := Ex_nx rfl rfl
theorem rX0_orderFrom_8 (Q : Po) (h : Hp) (c2 : Cd) (ls : List Value) (a0 : Int32) (a1 : Int32) (b : Nat) : Ex (mX0_orderFrom (Mt c2 6)) Q 8 ls (.int a1 :: .int a0 :: .ref b :: []) h = (gK h b = 1 ∧ Ex mX0_look (Cont (mX0_orderFrom (Mt c2 6)) Q 8 ls 11 []) 0 [.ref b, .int a0, .int a1, .retAddr 0] [] h) := Ex_cg (n := 4) (as := [.ref b, .int a0, .int a1]) rfl rfl
theorem rX0_orderFrom_11 (Q : Po) (h : Hp) (c2 : Cd) (ls : List Value) (st : List Value) : Ex (mX0_orderFrom (Mt c2 6)) Q 11 ls st h = Ex (mX0_orderFrom (Mt c2 6)) Q 12 ls (.int 0 :: st) h := Ex_nx rfl rfl
theorem rX0_orderFrom_12 (Q : Po) (h : Hp) (c2 : Cd) (l0 l1 l2 l3 l4 l5 : Value) (x : Int32) (st : List Value) : Ex (mX0_orderFrom (Mt c2 6)) Q 12 [l0, l1, l2, l3, l4, l5] (.int x :: st) h = Ex (mX0_orderFrom (Mt c2 6)) Q 14 [l0, l1, l2, l3, l4, .int x] st h := Ex_nx rfl rfl
theorem rX0_orderFrom_14 (Q : Po) (h : Hp) (c2 : Cd) (l0 l1 l2 l3 l4 : Value) (x : Int32) (st : List Value) : Ex (mX0_orderFrom (Mt c2 6)) Q 14 [l0, l1, l2, l3, l4, .int x] st h = Ex (mX0_orderFrom (Mt c2 6)) Q 16 [l0, l1, l2, l3, l4, .int x] (.int x :: st) h := Ex_nx rfl rfl
theorem rX0_orderFrom_16 (Q : Po) (h : Hp) (c2 : Cd) (l1 l2 l3 l4 l5 : Value) (x : Nat) (st : List Value) : Ex (mX0_orderFrom (Mt c2 6)) Q 16 [.ref x, l1, l2, l3, l4, l5] st h = Ex (mX0_orderFrom (Mt c2 6)) Q 17 [.ref x, l1, l2, l3, l4, l5] (.ref x :: st) h := Ex_nx rfl rfl
theorem rX0_orderFrom_17 (Q : Po) (h : Hp) (c2 : Cd) (ls : List Value) (st : List Value) (a : Nat) : Ex (mX0_orderFrom (Mt c2 6)) Q 17 ls (.ref a :: st) h = (gK h a ∈ ([1] : List Nat) ∧ Ex (mX0_orderFrom (Mt c2 6)) Q 20 ls (gF h 11 a :: st) h) := Ex_gd rfl rfl
theorem rX0_orderFrom_20 (Q : Po) (h : Hp) (c2 : Cd) (ls : List Value) (st : List Value) (a : Nat) : Ex (mX0_orderFrom (Mt c2 6)) Q 20 ls (.ref a :: st) h = (gK h a ∈ ([2] : List Nat) ∧ Ex (mX0_orderFrom (Mt c2 6)) Q 23 ls (gF h 36 a :: st) h) := Ex_gd rfl rfl
theorem rX0_orderFrom_23 (Q : Po) (h : Hp) (c2 : Cd) (ls : List Value) (st : List Value) (x y : Int32) : Ex (mX0_orderFrom (Mt c2 6)) Q 23 ls (.int y :: .int x :: st) h = if y ≤ x then Ex (mX0_orderFrom (Mt c2 6)) Q 71 ls st h else Ex (mX0_orderFrom (Mt c2 6)) Q 26 ls st h := Ex_br rfl rfl
theorem rX0_orderFrom_26 (Q : Po) (h : Hp) (c2 : Cd) (l0 l1 l2 l3 l5 : Value) (x : Int32) (st : List Value) : Ex (mX0_orderFrom (Mt c2 6)) Q 26 [l0, l1, l2, l3, .int x, l5] st h = Ex (mX0_orderFrom (Mt c2 6)) Q 28 [l0, l1, l2, l3, .int x, l5] (.int x :: st) h := Ex_nx rfl rfl
theorem rX0_orderFrom_28 (Q : Po) (h : Hp) (c2 : Cd) (l0 l1 l2 l3 l4 : Value) (x : Int32) (st : List Value) : Ex (mX0_orderFrom (Mt c2 6)) Q 28 [l0, l1, l2, l3, l4, .int x] st h = Ex (mX0_orderFrom (Mt c2 6)) Q 30 [l0, l1, l2, l3, l4, .int x] (.int x :: st) h := Ex_nx rfl rfl
theorem rX0_orderFrom_30 (Q : Po) (h : Hp) (c2 : Cd) (ls : List Value) (a0 : Int32) (a1 : Int32) : Ex (mX0_orderFrom (Mt c2 6)) Q 30 ls (.int a1 :: .int a0 :: []) h = Ex mX0_has (Cont (mX0_orderFrom (Mt c2 6)) Q 30 ls 33 []) 0 [.int a0, .int a1] [] h := Ex_cl (n := 2) (as := [.int a0, .int a1]) rfl rfl
theorem rX0_orderFrom_33 (Q : Po) (h : Hp) (c2 : Cd) (ls : List Value) (st : List Value) (x : Int32) : Ex (mX0_orderFrom (Mt c2 6)) Q 33 ls (.int x :: st) h = if ¬ x = 0 then Ex (mX0_orderFrom (Mt c2 6)) Q 39 ls st h else Ex (mX0_orderFrom (Mt c2 6)) Q 36 ls st h := Ex_br rfl rfl
theorem rX0_orderFrom_36 (Q : Po) (h : Hp) (c2 : Cd) (ls : List Value) (st : List Value) : Ex (mX0_orderFrom (Mt c2 6)) Q 36 ls st h = Ex (mX0_orderFrom (Mt c2 6)) Q 65 ls st h := Ex_nx rfl rfl
theorem rX0_orderFrom_39 (Q : Po) (h : Hp) (c2 : Cd) (l1 l2 l3 l4 l5 : Value) (x : Nat) (st : List Value) : Ex (mX0_orderFrom (Mt c2 6)) Q 39 [.ref x, l1, l2, l3, l4, l5] st h = Ex (mX0_orderFrom (Mt c2 6)) Q 40 [.ref x, l1, l2, l3, l4, l5] (.ref x :: st) h := Ex_nx rfl rfl
theorem rX0_orderFrom_40 (Q : Po) (h : Hp) (c2 : Cd) (ls : List Value) (st : List Value) (a : Nat) : Ex (mX0_orderFrom (Mt c2 6)) Q 40 ls (.ref a :: st) h = (gK h a ∈ ([1] : List Nat) ∧ Ex (mX0_orderFrom (Mt c2 6)) Q 43 ls (gF h 25 a :: st) h) := Ex_gd rfl rfl
theorem rX0_orderFrom_43 (Q : Po) (h : Hp) (c2 : Cd) (l0 l1 l2 l4 l5 : Value) (x : Int32) (st : List Value) : Ex (mX0_orderFrom (Mt c2 6)) Q 43 [l0, l1, l2, .int x, l4, l5] st h = Ex (mX0_orderFrom (Mt c2 6)) Q 44 [l0, l1, l2, .int x, l4, l5] (.int x :: st) h := Ex_nx rfl rfl
theorem rX0_orderFrom_44 (Q : Po) (h : Hp) (c2 : Cd) (l0 l1 l2 l3 l4 : Value) (x : Int32) (st : List Value) : Ex (mX0_orderFrom (Mt c2 6)) Q 44 [l0, l1, l2, l3, l4, .int x] st h = Ex (mX0_orderFrom (Mt c2 6)) Q 46 [l0, l1, l2, l3, l4, .int x] (.int x :: st) h := Ex_nx rfl rfl
theorem rX0_orderFrom_46 (Q : Po) (h : Hp) (c2 : Cd) (ls : List Value) (st : List Value) (a : Nat) (i x : Int32) : Ex (mX0_orderFrom (Mt c2 6)) Q 46 ls (.int x :: .int i :: .ref a :: st) h = ((gK h a = 51 ∧ ¬ (i < 0 ∨ gL h a ≤ i.toNatClampNeg)) ∧ Ex (mX0_orderFrom (Mt c2 6)) Q 47 ls st (pI h a i.toNatClampNeg (x))) := Ex_gd rfl rfl
theorem rX0_orderFrom_47 (Q : Po) (h : Hp) (c2 : Cd) (l1 l2 l3 l4 l5 : Value) (x : Nat) (st : List Value) : Ex (mX0_orderFrom (Mt c2 6)) Q 47 [.ref x, l1, l2, l3, l4, l5] st h = Ex (mX0_orderFrom (Mt c2 6)) Q 48 [.ref x, l1, l2, l3, l4, l5] (.ref x :: st) h := Ex_nx rfl rfl
theorem rX0_orderFrom_48 (Q : Po) (h : Hp) (c2 : Cd) (l0 l2 l3 l4 l5 : Value) (x : Int32) (st : List Value) : Ex (mX0_orderFrom (Mt c2 6)) Q 48 [l0, .int x, l2, l3, l4, l5] st h = Ex (mX0_orderFrom (Mt c2 6)) Q 49 [l0, .int x, l2, l3, l4, l5] (.int x :: st) h := Ex_nx rfl rfl
theorem rX0_orderFrom_49 (Q : Po) (h : Hp) (c2 : Cd) (l0 l1 l3 l4 l5 : Value) (x : Int32) (st : List Value) : Ex (mX0_orderFrom (Mt c2 6)) Q 49 [l0, l1, .int x, l3, l4, l5] st h = Ex (mX0_orderFrom (Mt c2 6)) Q 50 [l0, l1, .int x, l3, l4, l5] (.int x :: st) h := Ex_nx rfl rfl
theorem rX0_orderFrom_50 (Q : Po) (h : Hp) (c2 : Cd) (l0 l1 l2 l4 l5 : Value) (x : Int32) (st : List Value) : Ex (mX0_orderFrom (Mt c2 6)) Q 50 [l0, l1, l2, .int x, l4, l5] st h = Ex (mX0_orderFrom (Mt c2 6)) Q 51 [l0, l1, l2, .int x, l4, l5] (.int x :: st) h := Ex_nx rfl rfl
theorem rX0_orderFrom_51 (Q : Po) (h : Hp) (c2 : Cd) (ls : List Value) (st : List Value) : Ex (mX0_orderFrom (Mt c2 6)) Q 51 ls st h = Ex (mX0_orderFrom (Mt c2 6)) Q 52 ls (.int 1 :: st) h := Ex_nx rfl rfl
theorem rX0_orderFrom_52 (Q : Po) (h : Hp) (c2 : Cd) (ls : List Value) (st : List Value) (x y : Int32) : Ex (mX0_orderFrom (Mt c2 6)) Q 52 ls (.int y :: .int x :: st) h = Ex (mX0_orderFrom (Mt c2 6)) Q 53 ls (.int (x + y) :: st) h := Ex_nx rfl rfl
theorem rX0_orderFrom_53 (Q : Po) (h : Hp) (c2 : Cd) (l0 l1 l2 l3 l5 : Value) (x : Int32) (st : List Value) : Ex (mX0_orderFrom (Mt c2 6)) Q 53 [l0, l1, l2, l3, .int x, l5] st h = Ex (mX0_orderFrom (Mt c2 6)) Q 55 [l0, l1, l2, l3, .int x, l5] (.int x :: st) h := Ex_nx rfl rfl
theorem rX0_orderFrom_55 (Q : Po) (h : Hp) (c2 : Cd) (ls : List Value) (st : List Value) : Ex (mX0_orderFrom (Mt c2 6)) Q 55 ls st h = Ex (mX0_orderFrom (Mt c2 6)) Q 56 ls (.int 1 :: st) h := Ex_nx rfl rfl
theorem rX0_orderFrom_56 (Q : Po) (h : Hp) (c2 : Cd) (l0 l1 l2 l3 l4 : Value) (x : Int32) (st : List Value) : Ex (mX0_orderFrom (Mt c2 6)) Q 56 [l0, l1, l2, l3, l4, .int x] st h = Ex (mX0_orderFrom (Mt c2 6)) Q 58 [l0, l1, l2, l3, l4, .int x] (.int x :: st) h := Ex_nx rfl rfl
theorem rX0_orderFrom_58 (Q : Po) (h : Hp) (c2 : Cd) (ls : List Value) (st : List Value) (x y : Int32) : Ex (mX0_orderFrom (Mt c2 6)) Q 58 ls (.int y :: .int x :: st) h = Ex (mX0_orderFrom (Mt c2 6)) Q 59 ls (.int (x <<< (y &&& 31)) :: st) h := Ex_nx rfl rfl
theorem rX0_orderFrom_59 (Q : Po) (h : Hp) (c2 : Cd) (ls : List Value) (st : List Value) : Ex (mX0_orderFrom (Mt c2 6)) Q 59 ls st h = Ex (mX0_orderFrom (Mt c2 6)) Q 60 ls (.int (-1) :: st) h := Ex_nx rfl rfl
theorem rX0_orderFrom_60 (Q : Po) (h : Hp) (c2 : Cd) (ls : List Value) (st : List Value) (x y : Int32) : Ex (mX0_orderFrom (Mt c2 6)) Q 60 ls (.int y :: .int x :: st) h = Ex (mX0_orderFrom (Mt c2 6)) Q 61 ls (.int (x ^^^ y) :: st) h := Ex_nx rfl rfl
theorem rX0_orderFrom_61 (Q : Po) (h : Hp) (c2 : Cd) (ls : List Value) (st : List Value) (x y : Int32) : Ex (mX0_orderFrom (Mt c2 6)) Q 61 ls (.int y :: .int x :: st) h = Ex (mX0_orderFrom (Mt c2 6)) Q 62 ls (.int (x &&& y) :: st) h := Ex_nx rfl rfl
theorem rX0_orderFrom_62 (Q : Po) (h : Hp) (c2 : Cd) (ls : List Value) (a0 : Int32) (a1 : Int32) (a2 : Int32) (a3 : Int32) (b : Nat) : Ex (mX0_orderFrom (Mt c2 6)) Q 62 ls (.int a3 :: .int a2 :: .int a1 :: .int a0 :: .ref b :: []) h = (gK h b = 1 ∧ Ex c2 (Cont (mX0_orderFrom (Mt c2 6)) Q 62 ls 65 []) 0 [.ref b, .int a0, .int a1, .int a2, .int a3, .retAddr 0] [] h) := Ex_cg (n := 6) (as := [.ref b, .int a0, .int a1, .int a2, .int a3]) rfl rfl
theorem rX0_orderFrom_65 (Q : Po) (h : Hp) (c2 : Cd) (l0 l1 l2 l3 l4 : Value) (x : Int32) (st : List Value) : Ex (mX0_orderFrom (Mt c2 6)) Q 65 [l0, l1, l2, l3, l4, .int x] st h = Ex (mX0_orderFrom (Mt c2 6)) Q 68 [l0, l1, l2, l3, l4, .int (x + 1)] st h := Ex_nx rfl rfl
theorem rX0_orderFrom_68 (Q : Po) (h : Hp) (c2 : Cd) (ls : List Value) (st : List Value) : Ex (mX0_orderFrom (Mt c2 6)) Q 68 ls st h = Ex (mX0_orderFrom (Mt c2 6)) Q 14 ls st h := Ex_nx rfl rfl
theorem rX0_orderFrom_71 (Q : Po) (h : Hp) (c2 : Cd) (ls : List Value) : Ex (mX0_orderFrom (Mt c2 6)) Q 71 ls [] h = Q (.inl none) h := Ex_rt rfl rfl
theorem rX0_orderFrom_t (c2 : Cd) (Q : Po) (h : Hp) (pc n a : Nat) (ls st : List Value) : Cont (mX0_orderFrom (Mt c2 6)) Q pc ls n st (.inr a) h = Q (.inr a) h := rfl
/-! FishReaders.order(III)I -/
def mX0_order : Cd := ([(0, .inl (i_aload 0 1)),
  (1, .inr (c_V 0 4 1 1 (Mt mX0_isLibrary 1))),
  (4, .inl (i_if (fun x => ¬ x = 0) 10 7)),
  (7, .inl (i_push (.int (-1000002)) 9)),
  (9, .inl i_iret),
  (10, .inl (i_iload 1 11)),
  (11, .inl (i_i2l 12)),
  (12, .inl (i_push (.long 0) 13)),
  (13, .inl (i_aload 0 14)),
  (14, .inr (c_V 0 17 1 1 (Mt mX0_allBooks 1))),
  (17, .inl (i_i2l 18)),
  (18, .inr (c_S 3 21 6 (Mt mX0_isIn 6))),
  (21, .inl (i_if (fun x => x = 0) 52 24)),
  (24, .inl (i_iload 2 25)),
  (25, .inr (c_S 1 28 1 (Mt mX0_isShort 1))),
  (28, .inl (i_if (fun x => x = 0) 52 31)),
  (31, .inl (i_iload 3 32)),
  (32, .inl (i_i2l 33)),
  (33, .inl (i_push (.long (-1)) 36)),
  (36, .inl (i_aload 0 37)),
  (37, .inl (i_getf 11 [1] 40)),
  (40, .inl (i_getf 36 [2] 43)),
  (43, .inl (i_push (.int 1) 44)),
  (44, .inl (i_bin (fun x y => x - y) 45)),
  (45, .inl (i_i2l 46)),
  (46, .inr (c_S 3 49 6 (Mt mX0_isIn 6))),
  (49, .inl (i_if (fun x => ¬ x = 0) 55 52)),
  (52, .inl (i_push (.int (-1000001)) 54)),
  (54, .inl i_iret),
  (55, .inl (i_aload 0 56)),
  (56, .inl (i_push (.int (-1)) 57)),
  (57, .inl (i_putI 28 [1] 60)),
  (60, .inl (i_aload 0 61)),
  (61, .inl (i_iload 1 62)),
  (62, .inl (i_iload 2 63)),
  (63, .inl (i_push (.int 0) 64)),
  (64, .inl (i_aload 0 65)),
  (65, .inr (c_V 0 68 1 1 (Mt mX0_allBooks 1))),
  (68, .inr (c_V 4 71 6 1 (Mt (mX0_orderFromN 7) 6))),
  (71, .inl (i_iload 3 72)),
  (72, .inl (i_push (.int (-1)) 73)),
  (73, .inl (i_icmp (fun x y => ¬ x = y) 83 76)),
  (76, .inl (i_aload 0 77)),
  (77, .inl (i_getf 28 [1] 80)),
  (80, .inl (i_goto 89)),
  (83, .inl (i_aload 0 84)),
  (84, .inl (i_getf 27 [1] 87)),
  (87, .inl (i_iload 3 88)),
  (88, .inl (i_iald 51 89)),
  (89, .inl i_iret)], noH)
theorem rX0_order_0 (Q : Po) (h : Hp) (l1 l2 l3 : Value) (x : Nat) (st : List Value) : Ex mX0_order Q 0 [.ref x, l1, l2, l3] st h = Ex mX0_order Q 1 [.ref x, l1, l2, l3] (.ref x :: st) h := Ex_nx rfl rfl
theorem rX0_order_1 (Q : Po) (h : Hp) (ls : List Value) (b : Nat) : Ex mX0_order Q 1 ls (.ref b :: []) h = (gK h b = 1 ∧ Ex mX0_isLibrary (Cont mX0_order Q 1 ls 4 []) 0 [.ref b] [] h) := Ex_cg (n := 1) (as := [.ref b]) rfl rfl
theorem rX0_order_4 (Q : Po) (h : Hp) (ls : List Value) (st : List Value) (x : Int32) : Ex mX0_order Q 4 ls (.int x :: st) h = if ¬ x = 0 then Ex mX0_order Q 10 ls st h else Ex mX0_order Q 7 ls st h := Ex_br rfl rfl
theorem rX0_order_7 (Q : Po) (h : Hp) (ls : List Value) (st : List Value) : Ex mX0_order Q 7 ls st h = Ex mX0_order Q 9 ls (.int (-1000002) :: st) h := Ex_nx rfl rfl
theorem rX0_order_9 (Q : Po) (h : Hp) (ls : List Value) (x : Int32) : Ex mX0_order Q 9 ls [.int x] h = Q (.inl (some (.int x))) h := Ex_rt rfl rfl
theorem rX0_order_10 (Q : Po) (h : Hp) (l0 l2 l3 : Value) (x : Int32) (st : List Value) : Ex mX0_order Q 10 [l0, .int x, l2, l3] st h = Ex mX0_order Q 11 [l0, .int x, l2, l3] (.int x :: st) h := Ex_nx rfl rfl
theorem rX0_order_11 (Q : Po) (h : Hp) (ls : List Value) (st : List Value) (x : Int32) : Ex mX0_order Q 11 ls (.int x :: st) h = Ex mX0_order Q 12 ls (.long x.toInt64 :: st) h := Ex_nx rfl rfl
theorem rX0_order_12 (Q : Po) (h : Hp) (ls : List Value) (st : List Value) : Ex mX0_order Q 12 ls st h = Ex mX0_order Q 13 ls (.long 0 :: st) h := Ex_nx rfl rfl
theorem rX0_order_13 (Q : Po) (h : Hp) (l1 l2 l3 : Value) (x : Nat) (st : List Value) : Ex mX0_order Q 13 [.ref x, l1, l2, l3] st h = Ex mX0_order Q 14 [.ref x, l1, l2, l3] (.ref x :: st) h := Ex_nx rfl rfl
theorem rX0_order_14 (Q : Po) (h : Hp) (ls : List Value) (s0 s1 : Value) (b : Nat) : Ex mX0_order Q 14 ls (.ref b :: [s0, s1]) h = (gK h b = 1 ∧ Ex mX0_allBooks (Cont mX0_order Q 14 ls 17 [s0, s1]) 0 [.ref b] [] h) := Ex_cg (n := 1) (as := [.ref b]) rfl rfl
theorem rX0_order_17 (Q : Po) (h : Hp) (ls : List Value) (st : List Value) (x : Int32) : Ex mX0_order Q 17 ls (.int x :: st) h = Ex mX0_order Q 18 ls (.long x.toInt64 :: st) h := Ex_nx rfl rfl
theorem rX0_order_18 (Q : Po) (h : Hp) (ls : List Value) (a0 : Int64) (a1 : Int64) (a2 : Int64) : Ex mX0_order Q 18 ls (.long a2 :: .long a1 :: .long a0 :: []) h = Ex mX0_isIn (Cont mX0_order Q 18 ls 21 []) 0 [.long a0, .retAddr 1, .long a1, .retAddr 1, .long a2, .retAddr 1] [] h := Ex_cl (n := 6) (as := [.long a0, .long a1, .long a2]) rfl rfl
theorem rX0_order_21 (Q : Po) (h : Hp) (ls : List Value) (st : List Value) (x : Int32) : Ex mX0_order Q 21 ls (.int x :: st) h = if x = 0 then Ex mX0_order Q 52 ls st h else Ex mX0_order Q 24 ls st h := Ex_br rfl rfl
theorem rX0_order_24 (Q : Po) (h : Hp) (l0 l1 l3 : Value) (x : Int32) (st : List Value) : Ex mX0_order Q 24 [l0, l1, .int x, l3] st h = Ex mX0_order Q 25 [l0, l1, .int x, l3] (.int x :: st) h := Ex_nx rfl rfl
theorem rX0_order_25 (Q : Po) (h : Hp) (ls : List Value) (a0 : Int32) : Ex mX0_order Q 25 ls (.int a0 :: []) h = Ex mX0_isShort (Cont mX0_order Q 25 ls 28 []) 0 [.int a0] [] h := Ex_cl (n := 1) (as := [.int a0]) rfl rfl
theorem rX0_order_28 (Q : Po) (h : Hp) (ls : List Value) (st : List Value) (x : Int32) : Ex mX0_order Q 28 ls (.int x :: st) h = if x = 0 then Ex mX0_order Q 52 ls st h else Ex mX0_order Q 31 ls st h := Ex_br rfl rfl
theorem rX0_order_31 (Q : Po) (h : Hp) (l0 l1 l2 : Value) (x : Int32) (st : List Value) : Ex mX0_order Q 31 [l0, l1, l2, .int x] st h = Ex mX0_order Q 32 [l0, l1, l2, .int x] (.int x :: st) h := Ex_nx rfl rfl
theorem rX0_order_32 (Q : Po) (h : Hp) (ls : List Value) (st : List Value) (x : Int32) : Ex mX0_order Q 32 ls (.int x :: st) h = Ex mX0_order Q 33 ls (.long x.toInt64 :: st) h := Ex_nx rfl rfl
theorem rX0_order_33 (Q : Po) (h : Hp) (ls : List Value) (st : List Value) : Ex mX0_order Q 33 ls st h = Ex mX0_order Q 36 ls (.long (-1) :: st) h := Ex_nx rfl rfl
theorem rX0_order_36 (Q : Po) (h : Hp) (l1 l2 l3 : Value) (x : Nat) (st : List Value) : Ex mX0_order Q 36 [.ref x, l1, l2, l3] st h = Ex mX0_order Q 37 [.ref x, l1, l2, l3] (.ref x :: st) h := Ex_nx rfl rfl
theorem rX0_order_37 (Q : Po) (h : Hp) (ls : List Value) (st : List Value) (a : Nat) : Ex mX0_order Q 37 ls (.ref a :: st) h = (gK h a ∈ ([1] : List Nat) ∧ Ex mX0_order Q 40 ls (gF h 11 a :: st) h) := Ex_gd rfl rfl
theorem rX0_order_40 (Q : Po) (h : Hp) (ls : List Value) (st : List Value) (a : Nat) : Ex mX0_order Q 40 ls (.ref a :: st) h = (gK h a ∈ ([2] : List Nat) ∧ Ex mX0_order Q 43 ls (gF h 36 a :: st) h) := Ex_gd rfl rfl
theorem rX0_order_43 (Q : Po) (h : Hp) (ls : List Value) (st : List Value) : Ex mX0_order Q 43 ls st h = Ex mX0_order Q 44 ls (.int 1 :: st) h := Ex_nx rfl rfl
theorem rX0_order_44 (Q : Po) (h : Hp) (ls : List Value) (st : List Value) (x y : Int32) : Ex mX0_order Q 44 ls (.int y :: .int x :: st) h = Ex mX0_order Q 45 ls (.int (x - y) :: st) h := Ex_nx rfl rfl
theorem rX0_order_45 (Q : Po) (h : Hp) (ls : List Value) (st : List Value) (x : Int32) : Ex mX0_order Q 45 ls (.int x :: st) h = Ex mX0_order Q 46 ls (.long x.toInt64 :: st) h := Ex_nx rfl rfl
theorem rX0_order_46 (Q : Po) (h : Hp) (ls : List Value) (a0 : Int64) (a1 : Int64) (a2 : Int64) : Ex mX0_order Q 46 ls (.long a2 :: .long a1 :: .long a0 :: []) h = Ex mX0_isIn (Cont mX0_order Q 46 ls 49 []) 0 [.long a0, .retAddr 1, .long a1, .retAddr 1, .long a2, .retAddr 1] [] h := Ex_cl (n := 6) (as := [.long a0, .long a1, .long a2]) rfl rfl
theorem rX0_order_49 (Q : Po) (h : Hp) (ls : List Value) (st : List Value) (x : Int32) : Ex mX0_order Q 49 ls (.int x :: st) h = if ¬ x = 0 then Ex mX0_order Q 55 ls st h else Ex mX0_order Q 52 ls st h := Ex_br rfl rfl
theorem rX0_order_52 (Q : Po) (h : Hp) (ls : List Value) (st : List Value) : Ex mX0_order Q 52 ls st h = Ex mX0_order Q 54 ls (.int (-1000001) :: st) h := Ex_nx rfl rfl
theorem rX0_order_54 (Q : Po) (h : Hp) (ls : List Value) (x : Int32) : Ex mX0_order Q 54 ls [.int x] h = Q (.inl (some (.int x))) h := Ex_rt rfl rfl
theorem rX0_order_55 (Q : Po) (h : Hp) (l1 l2 l3 : Value) (x : Nat) (st : List Value) : Ex mX0_order Q 55 [.ref x, l1, l2, l3] st h = Ex mX0_order Q 56 [.ref x, l1, l2, l3] (.ref x :: st) h := Ex_nx rfl rfl
theorem rX0_order_56 (Q : Po) (h : Hp) (ls : List Value) (st : List Value) : Ex mX0_order Q 56 ls st h = Ex mX0_order Q 57 ls (.int (-1) :: st) h := Ex_nx rfl rfl
theorem rX0_order_57 (Q : Po) (h : Hp) (ls : List Value) (st : List Value) (x : Int32) (a : Nat) : Ex mX0_order Q 57 ls (.int x :: .ref a :: st) h = (gK h a ∈ ([1] : List Nat) ∧ Ex mX0_order Q 60 ls st (pF h 28 a (.int x))) := Ex_gd rfl rfl
theorem rX0_order_60 (Q : Po) (h : Hp) (l1 l2 l3 : Value) (x : Nat) (st : List Value) : Ex mX0_order Q 60 [.ref x, l1, l2, l3] st h = Ex mX0_order Q 61 [.ref x, l1, l2, l3] (.ref x :: st) h := Ex_nx rfl rfl
theorem rX0_order_61 (Q : Po) (h : Hp) (l0 l2 l3 : Value) (x : Int32) (st : List Value) : Ex mX0_order Q 61 [l0, .int x, l2, l3] st h = Ex mX0_order Q 62 [l0, .int x, l2, l3] (.int x :: st) h := Ex_nx rfl rfl
theorem rX0_order_62 (Q : Po) (h : Hp) (l0 l1 l3 : Value) (x : Int32) (st : List Value) : Ex mX0_order Q 62 [l0, l1, .int x, l3] st h = Ex mX0_order Q 63 [l0, l1, .int x, l3] (.int x :: st) h := Ex_nx rfl rfl
theorem rX0_order_63 (Q : Po) (h : Hp) (ls : List Value) (st : List Value) : Ex mX0_order Q 63 ls st h = Ex mX0_order Q 64 ls (.int 0 :: st) h := Ex_nx rfl rfl
theorem rX0_order_64 (Q : Po) (h : Hp) (l1 l2 l3 : Value) (x : Nat) (st : List Value) : Ex mX0_order Q 64 [.ref x, l1, l2, l3] st h = Ex mX0_order Q 65 [.ref x, l1, l2, l3] (.ref x :: st) h := Ex_nx rfl rfl
theorem rX0_order_65 (Q : Po) (h : Hp) (ls : List Value) (s0 s1 s2 s3 : Value) (b : Nat) : Ex mX0_order Q 65 ls (.ref b :: [s0, s1, s2, s3]) h = (gK h b = 1 ∧ Ex mX0_allBooks (Cont mX0_order Q 65 ls 68 [s0, s1, s2, s3]) 0 [.ref b] [] h) := Ex_cg (n := 1) (as := [.ref b]) rfl rfl
theorem rX0_order_68 (Q : Po) (h : Hp) (ls : List Value) (a0 : Int32) (a1 : Int32) (a2 : Int32) (a3 : Int32) (b : Nat) : Ex mX0_order Q 68 ls (.int a3 :: .int a2 :: .int a1 :: .int a0 :: .ref b :: []) h = (gK h b = 1 ∧ Ex (mX0_orderFromN 7) (Cont mX0_order Q 68 ls 71 []) 0 [.ref b, .int a0, .int a1, .int a2, .int a3, .retAddr 0] [] h) := Ex_cg (n := 6) (as := [.ref b, .int a0, .int a1, .int a2, .int a3]) rfl rfl
theorem rX0_order_71 (Q : Po) (h : Hp) (l0 l1 l2 : Value) (x : Int32) (st : List Value) : Ex mX0_order Q 71 [l0, l1, l2, .int x] st h = Ex mX0_order Q 72 [l0, l1, l2, .int x] (.int x :: st) h := Ex_nx rfl rfl
theorem rX0_order_72 (Q : Po) (h : Hp) (ls : List Value) (st : List Value) : Ex mX0_order Q 72 ls st h = Ex mX0_order Q 73 ls (.int (-1) :: st) h := Ex_nx rfl rfl
theorem rX0_order_73 (Q : Po) (h : Hp) (ls : List Value) (st : List Value) (x y : Int32) : Ex mX0_order Q 73 ls (.int y :: .int x :: st) h = if ¬ x = y then Ex mX0_order Q 83 ls st h else Ex mX0_order Q 76 ls st h := Ex_br rfl rfl
theorem rX0_order_76 (Q : Po) (h : Hp) (l1 l2 l3 : Value) (x : Nat) (st : List Value) : Ex mX0_order Q 76 [.ref x, l1, l2, l3] st h = Ex mX0_order Q 77 [.ref x, l1, l2, l3] (.ref x :: st) h := Ex_nx rfl rfl
theorem rX0_order_77 (Q : Po) (h : Hp) (ls : List Value) (st : List Value) (a : Nat) : Ex mX0_order Q 77 ls (.ref a :: st) h = (gK h a ∈ ([1] : List Nat) ∧ Ex mX0_order Q 80 ls (gF h 28 a :: st) h) := Ex_gd rfl rfl
theorem rX0_order_80 (Q : Po) (h : Hp) (ls : List Value) (st : List Value) : Ex mX0_order Q 80 ls st h = Ex mX0_order Q 89 ls st h := Ex_nx rfl rfl
theorem rX0_order_83 (Q : Po) (h : Hp) (l1 l2 l3 : Value) (x : Nat) (st : List Value) : Ex mX0_order Q 83 [.ref x, l1, l2, l3] st h = Ex mX0_order Q 84 [.ref x, l1, l2, l3] (.ref x :: st) h := Ex_nx rfl rfl
theorem rX0_order_84 (Q : Po) (h : Hp) (ls : List Value) (st : List Value) (a : Nat) : Ex mX0_order Q 84 ls (.ref a :: st) h = (gK h a ∈ ([1] : List Nat) ∧ Ex mX0_order Q 87 ls (gF h 27 a :: st) h) := Ex_gd rfl rfl
theorem rX0_order_87 (Q : Po) (h : Hp) (l0 l1 l2 : Value) (x : Int32) (st : List Value) : Ex mX0_order Q 87 [l0, l1, l2, .int x] st h = Ex mX0_order Q 88 [l0, l1, l2, .int x] (.int x :: st) h := Ex_nx rfl rfl
theorem rX0_order_88 (Q : Po) (h : Hp) (ls : List Value) (st : List Value) (a : Nat) (i : Int32) : Ex mX0_order Q 88 ls (.int i :: .ref a :: st) h = ((gK h a = 51 ∧ ¬ (i < 0 ∨ gL h a ≤ i.toNatClampNeg)) ∧ Ex mX0_order Q 89 ls (.int (gI h a i.toNatClampNeg) :: st) h) := Ex_gd rfl rfl
theorem rX0_order_89 (Q : Po) (h : Hp) (ls : List Value) (x : Int32) : Ex mX0_order Q 89 ls [.int x] h = Q (.inl (some (.int x))) h := Ex_rt rfl rfl
theorem rX0_order_t (Q : Po) (h : Hp) (pc n a : Nat) (ls st : List Value) : Cont mX0_order Q pc ls n st (.inr a) h = Q (.inr a) h := rfl
/-! FishReaders.isLong(I)Z -/
def mX0_isLong : Cd := ([(0, .inl (i_iload 0 1)),
  (1, .inl (i_i2l 2)),
  (2, .inl (i_push (.long 1) 3)),
  (3, .inl (i_push (.long 60) 6)),
  (6, .inr (c_S 3 9 6 (Mt mX0_isIn 6))),
  (9, .inl i_zret)], noH)
theorem rX0_isLong_0 (Q : Po) (h : Hp) (x : Int32) (st : List Value) : Ex mX0_isLong Q 0 [.int x] st h = Ex mX0_isLong Q 1 [.int x] (.int x :: st) h := Ex_nx rfl rfl
theorem rX0_isLong_1 (Q : Po) (h : Hp) (ls : List Value) (st : List Value) (x : Int32) : Ex mX0_isLong Q 1 ls (.int x :: st) h = Ex mX0_isLong Q 2 ls (.long x.toInt64 :: st) h := Ex_nx rfl rfl
theorem rX0_isLong_2 (Q : Po) (h : Hp) (ls : List Value) (st : List Value) : Ex mX0_isLong Q 2 ls st h = Ex mX0_isLong Q 3 ls (.long 1 :: st) h := Ex_nx rfl rfl
theorem rX0_isLong_3 (Q : Po) (h : Hp) (ls : List Value) (st : List Value) : Ex mX0_isLong Q 3 ls st h = Ex mX0_isLong Q 6 ls (.long 60 :: st) h := Ex_nx rfl rfl
theorem rX0_isLong_6 (Q : Po) (h : Hp) (ls : List Value) (a0 : Int64) (a1 : Int64) (a2 : Int64) : Ex mX0_isLong Q 6 ls (.long a2 :: .long a1 :: .long a0 :: []) h = Ex mX0_isIn (Cont mX0_isLong Q 6 ls 9 []) 0 [.long a0, .retAddr 1, .long a1, .retAddr 1, .long a2, .retAddr 1] [] h := Ex_cl (n := 6) (as := [.long a0, .long a1, .long a2]) rfl rfl
theorem rX0_isLong_9 (Q : Po) (h : Hp) (ls : List Value) (x : Int32) : Ex mX0_isLong Q 9 ls [.int x] h = ((x = 0 ∨ x = 1) ∧ Q (.inl (some (.int x))) h) := Ex_rg rfl rfl
theorem rX0_isLong_t (Q : Po) (h : Hp) (pc n a : Nat) (ls st : List Value) : Cont mX0_isLong Q pc ls n st (.inr a) h = Q (.inr a) h := rfl
/-! FishReaders.lamp(III)I -/
def mX0_lamp : Cd := ([(0, .inl (i_aload 0 1)),
  (1, .inl (i_iload 1 2)),
  (2, .inr (c_V 1 5 2 1 (Mt mX0_isBook 2))),
  (5, .inl (i_if (fun x => x = 0) 22 8)),
  (8, .inl (i_iload 2 9)),
  (9, .inr (c_S 1 12 1 (Mt mX0_isLong 1))),
  (12, .inl (i_if (fun x => x = 0) 22 15)),
  (15, .inl (i_iload 3 16)),
  (16, .inr (c_S 1 19 1 (Mt mX0_isHalf 1))),
  (19, .inl (i_if (fun x => ¬ x = 0) 25 22)),
  (22, .inl (i_push (.int (-1000001)) 24)),
  (24, .inl i_iret),
  (25, .inl (i_push (.int 0) 26)),
  (26, .inl (i_istore 4 28)),
  (28, .inl (i_push (.int (-1)) 29)),
  (29, .inl (i_istore 5 31)),
  (31, .inl (i_push (.int 0) 32)),
  (32, .inl (i_istore 6 34)),
  (34, .inl (i_iload 6 36)),
  (36, .inl (i_aload 0 37)),
  (37, .inr (c_V 0 40 1 1 (Mt mX0_allBooks 1))),
  (40, .inl (i_icmp (fun x y => y < x) 126 43)),
  (43, .inl (i_iload 6 45)),
  (45, .inr (c_S 1 48 1 (Mt mJ16_bitCount 1))),
  (48, .inl (i_aload 0 49)),
  (49, .inl (i_getf 11 [1] 52)),
  (52, .inl (i_getf 34 [2] 55)),
  (55, .inl (i_icmp (fun x y => x ≤ y) 61 58)),
  (58, .inl (i_goto 120)),
  (61, .inl (i_aload 0 62)),
  (62, .inr (c_V 0 65 1 1 (Mt mX0_tried 1))),
  (65, .inl (i_iload 6 67)),
  (67, .inl (i_putI 46 [2] 70)),
  (70, .inl (i_aload 0 71)),
  (71, .inl (i_iload 2 72)),
  (72, .inr (c_V 1 75 3 1 (Mt mX0_goOn 3))),
  (75, .inl (i_getf 39 [2] 78)),
  (78, .inl (i_iload 1 79)),
  (79, .inl (i_iald 51 80)),
  (80, .inl (i_istore 7 82)),
  (82, .inl (i_iload 7 84)),
  (84, .inl (i_iload 5 86)),
  (86, .inl (i_icmp (fun x y => x < y) 120 89)),
  (89, .inl (i_iload 7 91)),
  (91, .inl (i_iload 5 93)),
  (93, .inl (i_icmp (fun x y => ¬ x = y) 112 96)),
  (96, .inl (i_iload 6 98)),
  (98, .inr (c_S 1 101 1 (Mt mJ16_bitCount 1))),
  (101, .inl (i_iload 4 103)),
  (103, .inr (c_S 1 106 1 (Mt mJ16_bitCount 1))),
  (106, .inl (i_icmp (fun x y => x < y) 112 109)),
  (109, .inl (i_goto 120)),
  (112, .inl (i_iload 6 114)),
  (114, .inl (i_istore 4 116)),
  (116, .inl (i_iload 7 118)),
  (118, .inl (i_istore 5 120)),
  (120, .inl (i_iinc 6 1 123)),
  (123, .inl (i_goto 34)),
  (126, .inl (i_iload 3 127)),
  (127, .inl (i_if (fun x => ¬ x = 0) 135 130)),
  (130, .inl (i_iload 5 132)),
  (132, .inl (i_goto 137)),
  (135, .inl (i_iload 4 137)),
  (137, .inl i_iret)], noH)
theorem rX0_lamp_0 (Q : Po) (h : Hp) (l1 l2 l3 l4 l5 l6 l7 : Value) (x : Nat) (st : List Value) : Ex mX0_lamp Q 0 [.ref x, l1, l2, l3, l4, l5, l6, l7] st h = Ex mX0_lamp Q 1 [.ref x, l1, l2, l3, l4, l5, l6, l7] (.ref x :: st) h := Ex_nx rfl rfl
theorem rX0_lamp_1 (Q : Po) (h : Hp) (l0 l2 l3 l4 l5 l6 l7 : Value) (x : Int32) (st : List Value) : Ex mX0_lamp Q 1 [l0, .int x, l2, l3, l4, l5, l6, l7] st h = Ex mX0_lamp Q 2 [l0, .int x, l2, l3, l4, l5, l6, l7] (.int x :: st) h := Ex_nx rfl rfl
theorem rX0_lamp_2 (Q : Po) (h : Hp) (ls : List Value) (a0 : Int32) (b : Nat) : Ex mX0_lamp Q 2 ls (.int a0 :: .ref b :: []) h = (gK h b = 1 ∧ Ex mX0_isBook (Cont mX0_lamp Q 2 ls 5 []) 0 [.ref b, .int a0] [] h) := Ex_cg (n := 2) (as := [.ref b, .int a0]) rfl rfl
theorem rX0_lamp_5 (Q : Po) (h : Hp) (ls : List Value) (st : List Value) (x : Int32) : Ex mX0_lamp Q 5 ls (.int x :: st) h = if x = 0 then Ex mX0_lamp Q 22 ls st h else Ex mX0_lamp Q 8 ls st h := Ex_br rfl rfl
theorem rX0_lamp_8 (Q : Po) (h : Hp) (l0 l1 l3 l4 l5 l6 l7 : Value) (x : Int32) (st : List Value) : Ex mX0_lamp Q 8 [l0, l1, .int x, l3, l4, l5, l6, l7] st h = Ex mX0_lamp Q 9 [l0, l1, .int x, l3, l4, l5, l6, l7] (.int x :: st) h := Ex_nx rfl rfl
theorem rX0_lamp_9 (Q : Po) (h : Hp) (ls : List Value) (a0 : Int32) : Ex mX0_lamp Q 9 ls (.int a0 :: []) h = Ex mX0_isLong (Cont mX0_lamp Q 9 ls 12 []) 0 [.int a0] [] h := Ex_cl (n := 1) (as := [.int a0]) rfl rfl
theorem rX0_lamp_12 (Q : Po) (h : Hp) (ls : List Value) (st : List Value) (x : Int32) : Ex mX0_lamp Q 12 ls (.int x :: st) h = if x = 0 then Ex mX0_lamp Q 22 ls st h else Ex mX0_lamp Q 15 ls st h := Ex_br rfl rfl
theorem rX0_lamp_15 (Q : Po) (h : Hp) (l0 l1 l2 l4 l5 l6 l7 : Value) (x : Int32) (st : List Value) : Ex mX0_lamp Q 15 [l0, l1, l2, .int x, l4, l5, l6, l7] st h = Ex mX0_lamp Q 16 [l0, l1, l2, .int x, l4, l5, l6, l7] (.int x :: st) h := Ex_nx rfl rfl
theorem rX0_lamp_16 (Q : Po) (h : Hp) (ls : List Value) (a0 : Int32) : Ex mX0_lamp Q 16 ls (.int a0 :: []) h = Ex mX0_isHalf (Cont mX0_lamp Q 16 ls 19 []) 0 [.int a0] [] h := Ex_cl (n := 1) (as := [.int a0]) rfl rfl
theorem rX0_lamp_19 (Q : Po) (h : Hp) (ls : List Value) (st : List Value) (x : Int32) : Ex mX0_lamp Q 19 ls (.int x :: st) h = if ¬ x = 0 then Ex mX0_lamp Q 25 ls st h else Ex mX0_lamp Q 22 ls st h := Ex_br rfl rfl
theorem rX0_lamp_22 (Q : Po) (h : Hp) (ls : List Value) (st : List Value) : Ex mX0_lamp Q 22 ls st h = Ex mX0_lamp Q 24 ls (.int (-1000001) :: st) h := Ex_nx rfl rfl
theorem rX0_lamp_24 (Q : Po) (h : Hp) (ls : List Value) (x : Int32) : Ex mX0_lamp Q 24 ls [.int x] h = Q (.inl (some (.int x))) h := Ex_rt rfl rfl
theorem rX0_lamp_25 (Q : Po) (h : Hp) (ls : List Value) (st : List Value) : Ex mX0_lamp Q 25 ls st h = Ex mX0_lamp Q 26 ls (.int 0 :: st) h := Ex_nx rfl rfl
theorem rX0_lamp_26 (Q : Po) (h : Hp) (l0 l1 l2 l3 l4 l5 l6 l7 : Value) (x : Int32) (st : List Value) : Ex mX0_lamp Q 26 [l0, l1, l2, l3, l4, l5, l6, l7] (.int x :: st) h = Ex mX0_lamp Q 28 [l0, l1, l2, l3, .int x, l5, l6, l7] st h := Ex_nx rfl rfl
theorem rX0_lamp_28 (Q : Po) (h : Hp) (ls : List Value) (st : List Value) : Ex mX0_lamp Q 28 ls st h = Ex mX0_lamp Q 29 ls (.int (-1) :: st) h := Ex_nx rfl rfl
theorem rX0_lamp_29 (Q : Po) (h : Hp) (l0 l1 l2 l3 l4 l5 l6 l7 : Value) (x : Int32) (st : List Value) : Ex mX0_lamp Q 29 [l0, l1, l2, l3, l4, l5, l6, l7] (.int x :: st) h = Ex mX0_lamp Q 31 [l0, l1, l2, l3, l4, .int x, l6, l7] st h := Ex_nx rfl rfl
theorem rX0_lamp_31 (Q : Po) (h : Hp) (ls : List Value) (st : List Value) : Ex mX0_lamp Q 31 ls st h = Ex mX0_lamp Q 32 ls (.int 0 :: st) h := Ex_nx rfl rfl
theorem rX0_lamp_32 (Q : Po) (h : Hp) (l0 l1 l2 l3 l4 l5 l6 l7 : Value) (x : Int32) (st : List Value) : Ex mX0_lamp Q 32 [l0, l1, l2, l3, l4, l5, l6, l7] (.int x :: st) h = Ex mX0_lamp Q 34 [l0, l1, l2, l3, l4, l5, .int x, l7] st h := Ex_nx rfl rfl
theorem rX0_lamp_34 (Q : Po) (h : Hp) (l0 l1 l2 l3 l4 l5 l7 : Value) (x : Int32) (st : List Value) : Ex mX0_lamp Q 34 [l0, l1, l2, l3, l4, l5, .int x, l7] st h = Ex mX0_lamp Q 36 [l0, l1, l2, l3, l4, l5, .int x, l7] (.int x :: st) h := Ex_nx rfl rfl
theorem rX0_lamp_36 (Q : Po) (h : Hp) (l1 l2 l3 l4 l5 l6 l7 : Value) (x : Nat) (st : List Value) : Ex mX0_lamp Q 36 [.ref x, l1, l2, l3, l4, l5, l6, l7] st h = Ex mX0_lamp Q 37 [.ref x, l1, l2, l3, l4, l5, l6, l7] (.ref x :: st) h := Ex_nx rfl rfl
theorem rX0_lamp_37 (Q : Po) (h : Hp) (ls : List Value) (s0 : Value) (b : Nat) : Ex mX0_lamp Q 37 ls (.ref b :: [s0]) h = (gK h b = 1 ∧ Ex mX0_allBooks (Cont mX0_lamp Q 37 ls 40 [s0]) 0 [.ref b] [] h) := Ex_cg (n := 1) (as := [.ref b]) rfl rfl
theorem rX0_lamp_40 (Q : Po) (h : Hp) (ls : List Value) (st : List Value) (x y : Int32) : Ex mX0_lamp Q 40 ls (.int y :: .int x :: st) h = if y < x then Ex mX0_lamp Q 126 ls st h else Ex mX0_lamp Q 43 ls st h := Ex_br rfl rfl
theorem rX0_lamp_43 (Q : Po) (h : Hp) (l0 l1 l2 l3 l4 l5 l7 : Value) (x : Int32) (st : List Value) : Ex mX0_lamp Q 43 [l0, l1, l2, l3, l4, l5, .int x, l7] st h = Ex mX0_lamp Q 45 [l0, l1, l2, l3, l4, l5, .int x, l7] (.int x :: st) h := Ex_nx rfl rfl
theorem rX0_lamp_45 (Q : Po) (h : Hp) (ls : List Value) (a0 : Int32) : Ex mX0_lamp Q 45 ls (.int a0 :: []) h = Ex mJ16_bitCount (Cont mX0_lamp Q 45 ls 48 []) 0 [.int a0] [] h := Ex_cl (n := 1) (as := [.int a0]) rfl rfl
theorem rX0_lamp_48 (Q : Po) (h : Hp) (l1 l2 l3 l4 l5 l6 l7 : Value) (x : Nat) (st : List Value) : Ex mX0_lamp Q 48 [.ref x, l1, l2, l3, l4, l5, l6, l7] st h = Ex mX0_lamp Q 49 [.ref x, l1, l2, l3, l4, l5, l6, l7] (.ref x :: st) h := Ex_nx rfl rfl
theorem rX0_lamp_49 (Q : Po) (h : Hp) (ls : List Value) (st : List Value) (a : Nat) : Ex mX0_lamp Q 49 ls (.ref a :: st) h = (gK h a ∈ ([1] : List Nat) ∧ Ex mX0_lamp Q 52 ls (gF h 11 a :: st) h) := Ex_gd rfl rfl
theorem rX0_lamp_52 (Q : Po) (h : Hp) (ls : List Value) (st : List Value) (a : Nat) : Ex mX0_lamp Q 52 ls (.ref a :: st) h = (gK h a ∈ ([2] : List Nat) ∧ Ex mX0_lamp Q 55 ls (gF h 34 a :: st) h) := Ex_gd rfl rfl
theorem rX0_lamp_55 (Q : Po) (h : Hp) (ls : List Value) (st : List Value) (x y : Int32) : Ex mX0_lamp Q 55 ls (.int y :: .int x :: st) h = if x ≤ y then Ex mX0_lamp Q 61 ls st h else Ex mX0_lamp Q 58 ls st h := Ex_br rfl rfl
theorem rX0_lamp_58 (Q : Po) (h : Hp) (ls : List Value) (st : List Value) : Ex mX0_lamp Q 58 ls st h = Ex mX0_lamp Q 120 ls st h := Ex_nx rfl rfl
theorem rX0_lamp_61 (Q : Po) (h : Hp) (l1 l2 l3 l4 l5 l6 l7 : Value) (x : Nat) (st : List Value) : Ex mX0_lamp Q 61 [.ref x, l1, l2, l3, l4, l5, l6, l7] st h = Ex mX0_lamp Q 62 [.ref x, l1, l2, l3, l4, l5, l6, l7] (.ref x :: st) h := Ex_nx rfl rfl
theorem rX0_lamp_62 (Q : Po) (h : Hp) (ls : List Value) (b : Nat) : Ex mX0_lamp Q 62 ls (.ref b :: []) h = (gK h b = 1 ∧ Ex mX0_tried (Cont mX0_lamp Q 62 ls 65 []) 0 [.ref b] [] h) := Ex_cg (n := 1) (as := [.ref b]) rfl rfl
theorem rX0_lamp_65 (Q : Po) (h : Hp) (l0 l1 l2 l3 l4 l5 l7 : Value) (x : Int32) (st : List Value) : Ex mX0_lamp Q 65 [l0, l1, l2, l3, l4, l5, .int x, l7] st h = Ex mX0_lamp Q 67 [l0, l1, l2, l3, l4, l5, .int x, l7] (.int x :: st) h := Ex_nx rfl rfl
theorem rX0_lamp_67 (Q : Po) (h : Hp) (ls : List Value) (st : List Value) (x : Int32) (a : Nat) : Ex mX0_lamp Q 67 ls (.int x :: .ref a :: st) h = (gK h a ∈ ([2] : List Nat) ∧ Ex mX0_lamp Q 70 ls st (pF h 46 a (.int x))) := Ex_gd rfl rfl
theorem rX0_lamp_70 (Q : Po) (h : Hp) (l1 l2 l3 l4 l5 l6 l7 : Value) (x : Nat) (st : List Value) : Ex mX0_lamp Q 70 [.ref x, l1, l2, l3, l4, l5, l6, l7] st h = Ex mX0_lamp Q 71 [.ref x, l1, l2, l3, l4, l5, l6, l7] (.ref x :: st) h := Ex_nx rfl rfl
theorem rX0_lamp_71 (Q : Po) (h : Hp) (l0 l1 l3 l4 l5 l6 l7 : Value) (x : Int32) (st : List Value) : Ex mX0_lamp Q 71 [l0, l1, .int x, l3, l4, l5, l6, l7] st h = Ex mX0_lamp Q 72 [l0, l1, .int x, l3, l4, l5, l6, l7] (.int x :: st) h := Ex_nx rfl rfl
theorem rX0_lamp_72 (Q : Po) (h : Hp) (ls : List Value) (a0 : Int32) (b : Nat) : Ex mX0_lamp Q 72 ls (.int a0 :: .ref b :: []) h = (gK h b = 1 ∧ Ex mX0_goOn (Cont mX0_lamp Q 72 ls 75 []) 0 [.ref b, .int a0, .retAddr 0] [] h) := Ex_cg (n := 3) (as := [.ref b, .int a0]) rfl rfl
theorem rX0_lamp_75 (Q : Po) (h : Hp) (ls : List Value) (st : List Value) (a : Nat) : Ex mX0_lamp Q 75 ls (.ref a :: st) h = (gK h a ∈ ([2] : List Nat) ∧ Ex mX0_lamp Q 78 ls (gF h 39 a :: st) h) := Ex_gd rfl rfl
theorem rX0_lamp_78 (Q : Po) (h : Hp) (l0 l2 l3 l4 l5 l6 l7 : Value) (x : Int32) (st : List Value) : Ex mX0_lamp Q 78 [l0, .int x, l2, l3, l4, l5, l6, l7] st h = Ex mX0_lamp Q 79 [l0, .int x, l2, l3, l4, l5, l6, l7] (.int x :: st) h := Ex_nx rfl rfl
theorem rX0_lamp_79 (Q : Po) (h : Hp) (ls : List Value) (st : List Value) (a : Nat) (i : Int32) : Ex mX0_lamp Q 79 ls (.int i :: .ref a :: st) h = ((gK h a = 51 ∧ ¬ (i < 0 ∨ gL h a ≤ i.toNatClampNeg)) ∧ Ex mX0_lamp Q 80 ls (.int (gI h a i.toNatClampNeg) :: st) h) := Ex_gd rfl rfl
theorem rX0_lamp_80 (Q : Po) (h : Hp) (l0 l1 l2 l3 l4 l5 l6 l7 : Value) (x : Int32) (st : List Value) : Ex mX0_lamp Q 80 [l0, l1, l2, l3, l4, l5, l6, l7] (.int x :: st) h = Ex mX0_lamp Q 82 [l0, l1, l2, l3, l4, l5, l6, .int x] st h := Ex_nx rfl rfl
theorem rX0_lamp_82 (Q : Po) (h : Hp) (l0 l1 l2 l3 l4 l5 l6 : Value) (x : Int32) (st : List Value) : Ex mX0_lamp Q 82 [l0, l1, l2, l3, l4, l5, l6, .int x] st h = Ex mX0_lamp Q 84 [l0, l1, l2, l3, l4, l5, l6, .int x] (.int x :: st) h := Ex_nx rfl rfl
theorem rX0_lamp_84 (Q : Po) (h : Hp) (l0 l1 l2 l3 l4 l6 l7 : Value) (x : Int32) (st : List Value) : Ex mX0_lamp Q 84 [l0, l1, l2, l3, l4, .int x, l6, l7] st h = Ex mX0_lamp Q 86 [l0, l1, l2, l3, l4, .int x, l6, l7] (.int x :: st) h := Ex_nx rfl rfl
theorem rX0_lamp_86 (Q : Po) (h : Hp) (ls : List Value) (st : List Value) (x y : Int32) : Ex mX0_lamp Q 86 ls (.int y :: .int x :: st) h = if x < y then Ex mX0_lamp Q 120 ls st h else Ex mX0_lamp Q 89 ls st h := Ex_br rfl rfl
theorem rX0_lamp_89 (Q : Po) (h : Hp) (l0 l1 l2 l3 l4 l5 l6 : Value) (x : Int32) (st : List Value) : Ex mX0_lamp Q 89 [l0, l1, l2, l3, l4, l5, l6, .int x] st h = Ex mX0_lamp Q 91 [l0, l1, l2, l3, l4, l5, l6, .int x] (.int x :: st) h := Ex_nx rfl rfl
theorem rX0_lamp_91 (Q : Po) (h : Hp) (l0 l1 l2 l3 l4 l6 l7 : Value) (x : Int32) (st : List Value) : Ex mX0_lamp Q 91 [l0, l1, l2, l3, l4, .int x, l6, l7] st h = Ex mX0_lamp Q 93 [l0, l1, l2, l3, l4, .int x, l6, l7] (.int x :: st) h := Ex_nx rfl rfl
theorem rX0_lamp_93 (Q : Po) (h : Hp) (ls : List Value) (st : List Value) (x y : Int32) : Ex mX0_lamp Q 93 ls (.int y :: .int x :: st) h = if ¬ x = y then Ex mX0_lamp Q 112 ls st h else Ex mX0_lamp Q 96 ls st h := Ex_br rfl rfl
theorem rX0_lamp_96 (Q : Po) (h : Hp) (l0 l1 l2 l3 l4 l5 l7 : Value) (x : Int32) (st : List Value) : Ex mX0_lamp Q 96 [l0, l1, l2, l3, l4, l5, .int x, l7] st h = Ex mX0_lamp Q 98 [l0, l1, l2, l3, l4, l5, .int x, l7] (.int x :: st) h := Ex_nx rfl rfl
theorem rX0_lamp_98 (Q : Po) (h : Hp) (ls : List Value) (a0 : Int32) : Ex mX0_lamp Q 98 ls (.int a0 :: []) h = Ex mJ16_bitCount (Cont mX0_lamp Q 98 ls 101 []) 0 [.int a0] [] h := Ex_cl (n := 1) (as := [.int a0]) rfl rfl
theorem rX0_lamp_101 (Q : Po) (h : Hp) (l0 l1 l2 l3 l5 l6 l7 : Value) (x : Int32) (st : List Value) : Ex mX0_lamp Q 101 [l0, l1, l2, l3, .int x, l5, l6, l7] st h = Ex mX0_lamp Q 103 [l0, l1, l2, l3, .int x, l5, l6, l7] (.int x :: st) h := Ex_nx rfl rfl
theorem rX0_lamp_103 (Q : Po) (h : Hp) (ls : List Value) (a0 : Int32) (s0 : Value) : Ex mX0_lamp Q 103 ls (.int a0 :: [s0]) h = Ex mJ16_bitCount (Cont mX0_lamp Q 103 ls 106 [s0]) 0 [.int a0] [] h := Ex_cl (n := 1) (as := [.int a0]) rfl rfl
theorem rX0_lamp_106 (Q : Po) (h : Hp) (ls : List Value) (st : List Value) (x y : Int32) : Ex mX0_lamp Q 106 ls (.int y :: .int x :: st) h = if x < y then Ex mX0_lamp Q 112 ls st h else Ex mX0_lamp Q 109 ls st h := Ex_br rfl rfl
theorem rX0_lamp_109 (Q : Po) (h : Hp) (ls : List Value) (st : List Value) : Ex mX0_lamp Q 109 ls st h = Ex mX0_lamp Q 120 ls st h := Ex_nx rfl rfl
theorem rX0_lamp_112 (Q : Po) (h : Hp) (l0 l1 l2 l3 l4 l5 l7 : Value) (x : Int32) (st : List Value) : Ex mX0_lamp Q 112 [l0, l1, l2, l3, l4, l5, .int x, l7] st h = Ex mX0_lamp Q 114 [l0, l1, l2, l3, l4, l5, .int x, l7] (.int x :: st) h := Ex_nx rfl rfl
theorem rX0_lamp_114 (Q : Po) (h : Hp) (l0 l1 l2 l3 l4 l5 l6 l7 : Value) (x : Int32) (st : List Value) : Ex mX0_lamp Q 114 [l0, l1, l2, l3, l4, l5, l6, l7] (.int x :: st) h = Ex mX0_lamp Q 116 [l0, l1, l2, l3, .int x, l5, l6, l7] st h := Ex_nx rfl rfl
theorem rX0_lamp_116 (Q : Po) (h : Hp) (l0 l1 l2 l3 l4 l5 l6 : Value) (x : Int32) (st : List Value) : Ex mX0_lamp Q 116 [l0, l1, l2, l3, l4, l5, l6, .int x] st h = Ex mX0_lamp Q 118 [l0, l1, l2, l3, l4, l5, l6, .int x] (.int x :: st) h := Ex_nx rfl rfl
theorem rX0_lamp_118 (Q : Po) (h : Hp) (l0 l1 l2 l3 l4 l5 l6 l7 : Value) (x : Int32) (st : List Value) : Ex mX0_lamp Q 118 [l0, l1, l2, l3, l4, l5, l6, l7] (.int x :: st) h = Ex mX0_lamp Q 120 [l0, l1, l2, l3, l4, .int x, l6, l7] st h := Ex_nx rfl rfl
theorem rX0_lamp_120 (Q : Po) (h : Hp) (l0 l1 l2 l3 l4 l5 l7 : Value) (x : Int32) (st : List Value) : Ex mX0_lamp Q 120 [l0, l1, l2, l3, l4, l5, .int x, l7] st h = Ex mX0_lamp Q 123 [l0, l1, l2, l3, l4, l5, .int (x + 1), l7] st h := Ex_nx rfl rfl
theorem rX0_lamp_123 (Q : Po) (h : Hp) (ls : List Value) (st : List Value) : Ex mX0_lamp Q 123 ls st h = Ex mX0_lamp Q 34 ls st h := Ex_nx rfl rfl
theorem rX0_lamp_126 (Q : Po) (h : Hp) (l0 l1 l2 l4 l5 l6 l7 : Value) (x : Int32) (st : List Value) : Ex mX0_lamp Q 126 [l0, l1, l2, .int x, l4, l5, l6, l7] st h = Ex mX0_lamp Q 127 [l0, l1, l2, .int x, l4, l5, l6, l7] (.int x :: st) h := Ex_nx rfl rfl
theorem rX0_lamp_127 (Q : Po) (h : Hp) (ls : List Value) (st : List Value) (x : Int32) : Ex mX0_lamp Q 127 ls (.int x :: st) h = if ¬ x = 0 then Ex mX0_lamp Q 135 ls st h else Ex mX0_lamp Q 130 ls st h := Ex_br rfl rfl
theorem rX0_lamp_130 (Q : Po) (h : Hp) (l0 l1 l2 l3 l4 l6 l7 : Value) (x : Int32) (st : List Value) : Ex mX0_lamp Q 130 [l0, l1, l2, l3, l4, .int x, l6, l7] st h = Ex mX0_lamp Q 132 [l0, l1, l2, l3, l4, .int x, l6, l7] (.int x :: st) h := Ex_nx rfl rfl
theorem rX0_lamp_132 (Q : Po) (h : Hp) (ls : List Value) (st : List Value) : Ex mX0_lamp Q 132 ls st h = Ex mX0_lamp Q 137 ls st h := Ex_nx rfl rfl
theorem rX0_lamp_135 (Q : Po) (h : Hp) (l0 l1 l2 l3 l5 l6 l7 : Value) (x : Int32) (st : List Value) : Ex mX0_lamp Q 135 [l0, l1, l2, l3, .int x, l5, l6, l7] st h = Ex mX0_lamp Q 137 [l0, l1, l2, l3, .int x, l5, l6, l7] (.int x :: st) h := Ex_nx rfl rfl
theorem rX0_lamp_137 (Q : Po) (h : Hp) (ls : List Value) (x : Int32) : Ex mX0_lamp Q 137 ls [.int x] h = Q (.inl (some (.int x))) h := Ex_rt rfl rfl
theorem rX0_lamp_t (Q : Po) (h : Hp) (pc n a : Nat) (ls st : List Value) : Cont mX0_lamp Q pc ls n st (.inr a) h = Q (.inr a) h := rfl
/-! FishReaders.caught(III)I -/
def mX0_caught : Cd := ([(0, .inl (i_aload 0 1)),
  (1, .inl (i_iload 1 2)),
  (2, .inr (c_V 1 5 2 1 (Mt mX0_isBook 2))),
  (5, .inl (i_if (fun x => x = 0) 22 8)),
  (8, .inl (i_iload 2 9)),
  (9, .inr (c_S 1 12 1 (Mt mX0_isLong 1))),
  (12, .inl (i_if (fun x => x = 0) 22 15)),
  (15, .inl (i_iload 3 16)),
  (16, .inr (c_S 1 19 1 (Mt mX0_isHalf 1))),
  (19, .inl (i_if (fun x => ¬ x = 0) 25 22)),
  (22, .inl (i_push (.int (-1000001)) 24)),
  (24, .inl i_iret),
  (25, .inl (i_push (.int (-1000000)) 28)),
  (28, .inl (i_istore 4 30)),
  (30, .inl (i_push (.int 0) 31)),
  (31, .inl (i_istore 5 33)),
  (33, .inl (i_iload 5 35)),
  (35, .inl (i_push (.int 1) 36)),
  (36, .inl (i_aload 0 37)),
  (37, .inl (i_getf 11 [1] 40)),
  (40, .inr (c_V 0 43 1 2 (Mt mX1_many 1))),
  (43, .inl (i_bin (fun x y => x <<< (y &&& 31)) 44)),
  (44, .inl (i_icmp (fun x y => y ≤ x) 135 47)),
  (47, .inl (i_iload 5 49)),
  (49, .inl (i_aload 0 50)),
  (50, .inl (i_getf 11 [1] 53)),
  (53, .inl (i_getf 56 [2] 56)),
  (56, .inl (i_bin (fun x y => x &&& y) 57)),
  (57, .inl (i_if (fun x => ¬ x = 0) 129 60)),
  (60, .inl (i_iload 4 62)),
  (62, .inl (i_push (.int (-1000000)) 65)),
  (65, .inl (i_icmp (fun x y => x = y) 84 68)),
  (68, .inl (i_iload 5 70)),
  (70, .inr (c_S 1 73 1 (Mt mJ16_bitCount 1))),
  (73, .inl (i_iload 4 75)),
  (75, .inr (c_S 1 78 1 (Mt mJ16_bitCount 1))),
  (78, .inl (i_icmp (fun x y => x < y) 84 81)),
  (81, .inl (i_goto 129)),
  (84, .inl (i_aload 0 85)),
  (85, .inr (c_V 0 88 1 1 (Mt mX0_tried 1))),
  (88, .inl (i_dup 89)),
  (89, .inl (i_getf 56 [2] 92)),
  (92, .inl (i_iload 5 94)),
  (94, .inl (i_bin (fun x y => x ||| y) 95)),
  (95, .inl (i_putI 56 [2] 98)),
  (98, .inl (i_aload 0 99)),
  (99, .inl (i_iload 2 100)),
  (100, .inr (c_V 1 103 3 1 (Mt mX0_goOn 3))),
  (103, .inl (i_getf 39 [2] 106)),
  (106, .inl (i_iload 1 107)),
  (107, .inl (i_iald 51 108)),
  (108, .inl (i_aload 0 109)),
  (109, .inl (i_getf 11 [1] 112)),
  (112, .inl (i_getf 39 [2] 115)),
  (115, .inl (i_iload 1 116)),
  (116, .inl (i_iald 51 117)),
  (117, .inl (i_icmp (fun x y => ¬ x = y) 125 120)),
  (120, .inl (i_iload 5 122)),
  (122, .inl (i_goto 127)),
  (125, .inl (i_iload 4 127)),
  (127, .inl (i_istore 4 129)),
  (129, .inl (i_iinc 5 1 132)),
  (132, .inl (i_goto 33)),
  (135, .inl (i_iload 3 136)),
  (136, .inl (i_push (.int 1) 137)),
  (137, .inl (i_icmp (fun x y => ¬ x = y) 145 140)),
  (140, .inl (i_iload 4 142)),
  (142, .inl (i_goto 150)),
  (145, .inl (i_iload 4 147)),
  (147, .inr (c_S 1 150 1 (Mt mJ16_bitCount 1))),
  (150, .inl i_iret)], noH)
theorem rX0_caught_0 (Q : Po) (h : Hp) (l1 l2 l3 l4 l5 : Value) (x : Nat) (st : List Value) : Ex mX0_caught Q 0 [.ref x, l1, l2, l3, l4, l5] st h = Ex mX0_caught Q 1 [.ref x, l1, l2, l3, l4, l5] (.ref x :: st) h := Ex_nx rfl rfl
theorem rX0_caught_1 (Q : Po) (h : Hp) (l0 l2 l3 l4 l5 : Value) (x : Int32) (st : List Value) : Ex mX0_caught Q 1 [l0, .int x, l2, l3, l4, l5] st h = Ex mX0_caught Q 2 [l0, .int x, l2, l3, l4, l5] (.int x :: st) h := Ex_nx rfl rfl
theorem rX0_caught_2 (Q : Po) (h : Hp) (ls : List Value) (a0 : Int32) (b : Nat) : Ex mX0_caught Q 2 ls (.int a0 :: .ref b :: []) h = (gK h b = 1 ∧ Ex mX0_isBook (Cont mX0_caught Q 2 ls 5 []) 0 [.ref b, .int a0] [] h) := Ex_cg (n := 2) (as := [.ref b, .int a0]) rfl rfl
theorem rX0_caught_5 (Q : Po) (h : Hp) (ls : List Value) (st : List Value) (x : Int32) : Ex mX0_caught Q 5 ls (.int x :: st) h = if x = 0 then Ex mX0_caught Q 22 ls st h else Ex mX0_caught Q 8 ls st h := Ex_br rfl rfl
theorem rX0_caught_8 (Q : Po) (h : Hp) (l0 l1 l3 l4 l5 : Value) (x : Int32) (st : List Value) : Ex mX0_caught Q 8 [l0, l1, .int x, l3, l4, l5] st h = Ex mX0_caught Q 9 [l0, l1, .int x, l3, l4, l5] (.int x :: st) h := Ex_nx rfl rfl
theorem rX0_caught_9 (Q : Po) (h : Hp) (ls : List Value) (a0 : Int32) : Ex mX0_caught Q 9 ls (.int a0 :: []) h = Ex mX0_isLong (Cont mX0_caught Q 9 ls 12 []) 0 [.int a0] [] h := Ex_cl (n := 1) (as := [.int a0]) rfl rfl
theorem rX0_caught_12 (Q : Po) (h : Hp) (ls : List Value) (st : List Value) (x : Int32) : Ex mX0_caught Q 12 ls (.int x :: st) h = if x = 0 then Ex mX0_caught Q 22 ls st h else Ex mX0_caught Q 15 ls st h := Ex_br rfl rfl
theorem rX0_caught_15 (Q : Po) (h : Hp) (l0 l1 l2 l4 l5 : Value) (x : Int32) (st : List Value) : Ex mX0_caught Q 15 [l0, l1, l2, .int x, l4, l5] st h = Ex mX0_caught Q 16 [l0, l1, l2, .int x, l4, l5] (.int x :: st) h := Ex_nx rfl rfl
theorem rX0_caught_16 (Q : Po) (h : Hp) (ls : List Value) (a0 : Int32) : Ex mX0_caught Q 16 ls (.int a0 :: []) h = Ex mX0_isHalf (Cont mX0_caught Q 16 ls 19 []) 0 [.int a0] [] h := Ex_cl (n := 1) (as := [.int a0]) rfl rfl
theorem rX0_caught_19 (Q : Po) (h : Hp) (ls : List Value) (st : List Value) (x : Int32) : Ex mX0_caught Q 19 ls (.int x :: st) h = if ¬ x = 0 then Ex mX0_caught Q 25 ls st h else Ex mX0_caught Q 22 ls st h := Ex_br rfl rfl
theorem rX0_caught_22 (Q : Po) (h : Hp) (ls : List Value) (st : List Value) : Ex mX0_caught Q 22 ls st h = Ex mX0_caught Q 24 ls (.int (-1000001) :: st) h := Ex_nx rfl rfl
theorem rX0_caught_24 (Q : Po) (h : Hp) (ls : List Value) (x : Int32) : Ex mX0_caught Q 24 ls [.int x] h = Q (.inl (some (.int x))) h := Ex_rt rfl rfl
theorem rX0_caught_25 (Q : Po) (h : Hp) (ls : List Value) (st : List Value) : Ex mX0_caught Q 25 ls st h = Ex mX0_caught Q 28 ls (.int (-1000000) :: st) h := Ex_nx rfl rfl
theorem rX0_caught_28 (Q : Po) (h : Hp) (l0 l1 l2 l3 l4 l5 : Value) (x : Int32) (st : List Value) : Ex mX0_caught Q 28 [l0, l1, l2, l3, l4, l5] (.int x :: st) h = Ex mX0_caught Q 30 [l0, l1, l2, l3, .int x, l5] st h := Ex_nx rfl rfl
theorem rX0_caught_30 (Q : Po) (h : Hp) (ls : List Value) (st : List Value) : Ex mX0_caught Q 30 ls st h = Ex mX0_caught Q 31 ls (.int 0 :: st) h := Ex_nx rfl rfl
theorem rX0_caught_31 (Q : Po) (h : Hp) (l0 l1 l2 l3 l4 l5 : Value) (x : Int32) (st : List Value) : Ex mX0_caught Q 31 [l0, l1, l2, l3, l4, l5] (.int x :: st) h = Ex mX0_caught Q 33 [l0, l1, l2, l3, l4, .int x] st h := Ex_nx rfl rfl
theorem rX0_caught_33 (Q : Po) (h : Hp) (l0 l1 l2 l3 l4 : Value) (x : Int32) (st : List Value) : Ex mX0_caught Q 33 [l0, l1, l2, l3, l4, .int x] st h = Ex mX0_caught Q 35 [l0, l1, l2, l3, l4, .int x] (.int x :: st) h := Ex_nx rfl rfl
theorem rX0_caught_35 (Q : Po) (h : Hp) (ls : List Value) (st : List Value) : Ex mX0_caught Q 35 ls st h = Ex mX0_caught Q 36 ls (.int 1 :: st) h := Ex_nx rfl rfl
theorem rX0_caught_36 (Q : Po) (h : Hp) (l1 l2 l3 l4 l5 : Value) (x : Nat) (st : List Value) : Ex mX0_caught Q 36 [.ref x, l1, l2, l3, l4, l5] st h = Ex mX0_caught Q 37 [.ref x, l1, l2, l3, l4, l5] (.ref x :: st) h := Ex_nx rfl rfl
theorem rX0_caught_37 (Q : Po) (h : Hp) (ls : List Value) (st : List Value) (a : Nat) : Ex mX0_caught Q 37 ls (.ref a :: st) h = (gK h a ∈ ([1] : List Nat) ∧ Ex mX0_caught Q 40 ls (gF h 11 a :: st) h) := Ex_gd rfl rfl
theorem rX0_caught_40 (Q : Po) (h : Hp) (ls : List Value) (s0 s1 : Value) (b : Nat) : Ex mX0_caught Q 40 ls (.ref b :: [s0, s1]) h = (gK h b = 2 ∧ Ex mX1_many (Cont mX0_caught Q 40 ls 43 [s0, s1]) 0 [.ref b] [] h) := Ex_cg (n := 1) (as := [.ref b]) rfl rfl
theorem rX0_caught_43 (Q : Po) (h : Hp) (ls : List Value) (st : List Value) (x y : Int32) : Ex mX0_caught Q 43 ls (.int y :: .int x :: st) h = Ex mX0_caught Q 44 ls (.int (x <<< (y &&& 31)) :: st) h := Ex_nx rfl rfl
theorem rX0_caught_44 (Q : Po) (h : Hp) (ls : List Value) (st : List Value) (x y : Int32) : Ex mX0_caught Q 44 ls (.int y :: .int x :: st) h = if y ≤ x then Ex mX0_caught Q 135 ls st h else Ex mX0_caught Q 47 ls st h := Ex_br rfl rfl
theorem rX0_caught_47 (Q : Po) (h : Hp) (l0 l1 l2 l3 l4 : Value) (x : Int32) (st : List Value) : Ex mX0_caught Q 47 [l0, l1, l2, l3, l4, .int x] st h = Ex mX0_caught Q 49 [l0, l1, l2, l3, l4, .int x] (.int x :: st) h := Ex_nx rfl rfl
theorem rX0_caught_49 (Q : Po) (h : Hp) (l1 l2 l3 l4 l5 : Value) (x : Nat) (st : List Value) : Ex mX0_caught Q 49 [.ref x, l1, l2, l3, l4, l5] st h = Ex mX0_caught Q 50 [.ref x, l1, l2, l3, l4, l5] (.ref x :: st) h := Ex_nx rfl rfl
theorem rX0_caught_50 (Q : Po) (h : Hp) (ls : List Value) (st : List Value) (a : Nat) : Ex mX0_caught Q 50 ls (.ref a :: st) h = (gK h a ∈ ([1] : List Nat) ∧ Ex mX0_caught Q 53 ls (gF h 11 a :: st) h) := Ex_gd rfl rfl
theorem rX0_caught_53 (Q : Po) (h : Hp) (ls : List Value) (st : List Value) (a : Nat) : Ex mX0_caught Q 53 ls (.ref a :: st) h = (gK h a ∈ ([2] : List Nat) ∧ Ex mX0_caught Q 56 ls (gF h 56 a :: st) h) := Ex_gd rfl rfl
theorem rX0_caught_56 (Q : Po) (h : Hp) (ls : List Value) (st : List Value) (x y : Int32) : Ex mX0_caught Q 56 ls (.int y :: .int x :: st) h = Ex mX0_caught Q 57 ls (.int (x &&& y) :: st) h := Ex_nx rfl rfl
theorem rX0_caught_57 (Q : Po) (h : Hp) (ls : List Value) (st : List Value) (x : Int32) : Ex mX0_caught Q 57 ls (.int x :: st) h = if ¬ x = 0 then Ex mX0_caught Q 129 ls st h else Ex mX0_caught Q 60 ls st h := Ex_br rfl rfl
theorem rX0_caught_60 (Q : Po) (h : Hp) (l0 l1 l2 l3 l5 : Value) (x : Int32) (st : List Value) : Ex mX0_caught Q 60 [l0, l1, l2, l3, .int x, l5] st h = Ex mX0_caught Q 62 [l0, l1, l2, l3, .int x, l5] (.int x :: st) h := Ex_nx rfl rfl
theorem rX0_caught_62 (Q : Po) (h : Hp) (ls : List Value) (st : List Value) : Ex mX0_caught Q 62 ls st h = Ex mX0_caught Q 65 ls (.int (-1000000) :: st) h := Ex_nx rfl rfl
theorem rX0_caught_65 (Q : Po) (h : Hp) (ls : List Value) (st : List Value) (x y : Int32) : Ex mX0_caught Q 65 ls (.int y :: .int x :: st) h = if x = y then Ex mX0_caught Q 84 ls st h else Ex mX0_caught Q 68 ls st h := Ex_br rfl rfl
theorem rX0_caught_68 (Q : Po) (h : Hp) (l0 l1 l2 l3 l4 : Value) (x : Int32) (st : List Value) : Ex mX0_caught Q 68 [l0, l1, l2, l3, l4, .int x] st h = Ex mX0_caught Q 70 [l0, l1, l2, l3, l4, .int x] (.int x :: st) h := Ex_nx rfl rfl
theorem rX0_caught_70 (Q : Po) (h : Hp) (ls : List Value) (a0 : Int32) : Ex mX0_caught Q 70 ls (.int a0 :: []) h = Ex mJ16_bitCount (Cont mX0_caught Q 70 ls 73 []) 0 [.int a0] [] h := Ex_cl (n := 1) (as := [.int a0]) rfl rfl
theorem rX0_caught_73 (Q : Po) (h : Hp) (l0 l1 l2 l3 l5 : Value) (x : Int32) (st : List Value) : Ex mX0_caught Q 73 [l0, l1, l2, l3, .int x, l5] st h = Ex mX0_caught Q 75 [l0, l1, l2, l3, .int x, l5] (.int x :: st) h := Ex_nx rfl rfl
theorem rX0_caught_75 (Q : Po) (h : Hp) (ls : List Value) (a0 : Int32) (s0 : Value) : Ex mX0_caught Q 75 ls (.int a0 :: [s0]) h = Ex mJ16_bitCount (Cont mX0_caught Q 75 ls 78 [s0]) 0 [.int a0] [] h := Ex_cl (n := 1) (as := [.int a0]) rfl rfl
theorem rX0_caught_78 (Q : Po) (h : Hp) (ls : List Value) (st : List Value) (x y : Int32) : Ex mX0_caught Q 78 ls (.int y :: .int x :: st) h = if x < y then Ex mX0_caught Q 84 ls st h else Ex mX0_caught Q 81 ls st h := Ex_br rfl rfl
theorem rX0_caught_81 (Q : Po) (h : Hp) (ls : List Value) (st : List Value) : Ex mX0_caught Q 81 ls st h = Ex mX0_caught Q 129 ls st h := Ex_nx rfl rfl
theorem rX0_caught_84 (Q : Po) (h : Hp) (l1 l2 l3 l4 l5 : Value) (x : Nat) (st : List Value) : Ex mX0_caught Q 84 [.ref x, l1, l2, l3, l4, l5] st h = Ex mX0_caught Q 85 [.ref x, l1, l2, l3, l4, l5] (.ref x :: st) h := Ex_nx rfl rfl
theorem rX0_caught_85 (Q : Po) (h : Hp) (ls : List Value) (b : Nat) : Ex mX0_caught Q 85 ls (.ref b :: []) h = (gK h b = 1 ∧ Ex mX0_tried (Cont mX0_caught Q 85 ls 88 []) 0 [.ref b] [] h) := Ex_cg (n := 1) (as := [.ref b]) rfl rfl
theorem rX0_caught_88 (Q : Po) (h : Hp) (ls : List Value) (st : List Value) (x : Nat) : Ex mX0_caught Q 88 ls (.ref x :: st) h = Ex mX0_caught Q 89 ls (.ref x :: .ref x :: st) h := Ex_nx rfl rfl
theorem rX0_caught_89 (Q : Po) (h : Hp) (ls : List Value) (st : List Value) (a : Nat) : Ex mX0_caught Q 89 ls (.ref a :: st) h = (gK h a ∈ ([2] : List Nat) ∧ Ex mX0_caught Q 92 ls (gF h 56 a :: st) h) := Ex_gd rfl rfl
theorem rX0_caught_92 (Q : Po) (h : Hp) (l0 l1 l2 l3 l4 : Value) (x : Int32) (st : List Value) : Ex mX0_caught Q 92 [l0, l1, l2, l3, l4, .int x] st h = Ex mX0_caught Q 94 [l0, l1, l2, l3, l4, .int x] (.int x :: st) h := Ex_nx rfl rfl
theorem rX0_caught_94 (Q : Po) (h : Hp) (ls : List Value) (st : List Value) (x y : Int32) : Ex mX0_caught Q 94 ls (.int y :: .int x :: st) h = Ex mX0_caught Q 95 ls (.int (x ||| y) :: st) h := Ex_nx rfl rfl
theorem rX0_caught_95 (Q : Po) (h : Hp) (ls : List Value) (st : List Value) (x : Int32) (a : Nat) : Ex mX0_caught Q 95 ls (.int x :: .ref a :: st) h = (gK h a ∈ ([2] : List Nat) ∧ Ex mX0_caught Q 98 ls st (pF h 56 a (.int x))) := Ex_gd rfl rfl
theorem rX0_caught_98 (Q : Po) (h : Hp) (l1 l2 l3 l4 l5 : Value) (x : Nat) (st : List Value) : Ex mX0_caught Q 98 [.ref x, l1, l2, l3, l4, l5] st h = Ex mX0_caught Q 99 [.ref x, l1, l2, l3, l4, l5] (.ref x :: st) h := Ex_nx rfl rfl
theorem rX0_caught_99 (Q : Po) (h : Hp) (l0 l1 l3 l4 l5 : Value) (x : Int32) (st : List Value) : Ex mX0_caught Q 99 [l0, l1, .int x, l3, l4, l5] st h = Ex mX0_caught Q 100 [l0, l1, .int x, l3, l4, l5] (.int x :: st) h := Ex_nx rfl rfl
theorem rX0_caught_100 (Q : Po) (h : Hp) (ls : List Value) (a0 : Int32) (b : Nat) : Ex mX0_caught Q 100 ls (.int a0 :: .ref b :: []) h = (gK h b = 1 ∧ Ex mX0_goOn (Cont mX0_caught Q 100 ls 103 []) 0 [.ref b, .int a0, .retAddr 0] [] h) := Ex_cg (n := 3) (as := [.ref b, .int a0]) rfl rfl
theorem rX0_caught_103 (Q : Po) (h : Hp) (ls : List Value) (st : List Value) (a : Nat) : Ex mX0_caught Q 103 ls (.ref a :: st) h = (gK h a ∈ ([2] : List Nat) ∧ Ex mX0_caught Q 106 ls (gF h 39 a :: st) h) := Ex_gd rfl rfl
theorem rX0_caught_106 (Q : Po) (h : Hp) (l0 l2 l3 l4 l5 : Value) (x : Int32) (st : List Value) : Ex mX0_caught Q 106 [l0, .int x, l2, l3, l4, l5] st h = Ex mX0_caught Q 107 [l0, .int x, l2, l3, l4, l5] (.int x :: st) h := Ex_nx rfl rfl
theorem rX0_caught_107 (Q : Po) (h : Hp) (ls : List Value) (st : List Value) (a : Nat) (i : Int32) : Ex mX0_caught Q 107 ls (.int i :: .ref a :: st) h = ((gK h a = 51 ∧ ¬ (i < 0 ∨ gL h a ≤ i.toNatClampNeg)) ∧ Ex mX0_caught Q 108 ls (.int (gI h a i.toNatClampNeg) :: st) h) := Ex_gd rfl rfl
theorem rX0_caught_108 (Q : Po) (h : Hp) (l1 l2 l3 l4 l5 : Value) (x : Nat) (st : List Value) : Ex mX0_caught Q 108 [.ref x, l1, l2, l3, l4, l5] st h = Ex mX0_caught Q 109 [.ref x, l1, l2, l3, l4, l5] (.ref x :: st) h := Ex_nx rfl rfl
theorem rX0_caught_109 (Q : Po) (h : Hp) (ls : List Value) (st : List Value) (a : Nat) : Ex mX0_caught Q 109 ls (.ref a :: st) h = (gK h a ∈ ([1] : List Nat) ∧ Ex mX0_caught Q 112 ls (gF h 11 a :: st) h) := Ex_gd rfl rfl
theorem rX0_caught_112 (Q : Po) (h : Hp) (ls : List Value) (st : List Value) (a : Nat) : Ex mX0_caught Q 112 ls (.ref a :: st) h = (gK h a ∈ ([2] : List Nat) ∧ Ex mX0_caught Q 115 ls (gF h 39 a :: st) h) := Ex_gd rfl rfl
theorem rX0_caught_115 (Q : Po) (h : Hp) (l0 l2 l3 l4 l5 : Value) (x : Int32) (st : List Value) : Ex mX0_caught Q 115 [l0, .int x, l2, l3, l4, l5] st h = Ex mX0_caught Q 116 [l0, .int x, l2, l3, l4, l5] (.int x :: st) h := Ex_nx rfl rfl
theorem rX0_caught_116 (Q : Po) (h : Hp) (ls : List Value) (st : List Value) (a : Nat) (i : Int32) : Ex mX0_caught Q 116 ls (.int i :: .ref a :: st) h = ((gK h a = 51 ∧ ¬ (i < 0 ∨ gL h a ≤ i.toNatClampNeg)) ∧ Ex mX0_caught Q 117 ls (.int (gI h a i.toNatClampNeg) :: st) h) := Ex_gd rfl rfl
theorem rX0_caught_117 (Q : Po) (h : Hp) (ls : List Value) (st : List Value) (x y : Int32) : Ex mX0_caught Q 117 ls (.int y :: .int x :: st) h = if ¬ x = y then Ex mX0_caught Q 125 ls st h else Ex mX0_caught Q 120 ls st h := Ex_br rfl rfl
theorem rX0_caught_120 (Q : Po) (h : Hp) (l0 l1 l2 l3 l4 : Value) (x : Int32) (st : List Value) : Ex mX0_caught Q 120 [l0, l1, l2, l3, l4, .int x] st h = Ex mX0_caught Q 122 [l0, l1, l2, l3, l4, .int x] (.int x :: st) h := Ex_nx rfl rfl
theorem rX0_caught_122 (Q : Po) (h : Hp) (ls : List Value) (st : List Value) : Ex mX0_caught Q 122 ls st h = Ex mX0_caught Q 127 ls st h := Ex_nx rfl rfl
theorem rX0_caught_125 (Q : Po) (h : Hp) (l0 l1 l2 l3 l5 : Value) (x : Int32) (st : List Value) : Ex mX0_caught Q 125 [l0, l1, l2, l3, .int x, l5] st h = Ex mX0_caught Q 127 [l0, l1, l2, l3, .int x, l5] (.int x :: st) h := Ex_nx rfl rfl
theorem rX0_caught_127 (Q : Po) (h : Hp) (l0 l1 l2 l3 l4 l5 : Value) (x : Int32) (st : List Value) : Ex mX0_caught Q 127 [l0, l1, l2, l3, l4, l5] (.int x :: st) h = Ex mX0_caught Q 129 [l0, l1, l2, l3, .int x, l5] st h := Ex_nx rfl rfl
theorem rX0_caught_129 (Q : Po) (h : Hp) (l0 l1 l2 l3 l4 : Value) (x : Int32) (st : List Value) : Ex mX0_caught Q 129 [l0, l1, l2, l3, l4, .int x] st h = Ex mX0_caught Q 132 [l0, l1, l2, l3, l4, .int (x + 1)] st h := Ex_nx rfl rfl
theorem rX0_caught_132 (Q : Po) (h : Hp) (ls : List Value) (st : List Value) : Ex mX0_caught Q 132 ls st h = Ex mX0_caught Q 33 ls st h := Ex_nx rfl rfl
theorem rX0_caught_135 (Q : Po) (h : Hp) (l0 l1 l2 l4 l5 : Value) (x : Int32) (st : List Value) : Ex mX0_caught Q 135 [l0, l1, l2, .int x, l4, l5] st h = Ex mX0_caught Q 136 [l0, l1, l2, .int x, l4, l5] (.int x :: st) h := Ex_nx rfl rfl
theorem rX0_caught_136 (Q : Po) (h : Hp) (ls : List Value) (st : List Value) : Ex mX0_caught Q 136 ls st h = Ex mX0_caught Q 137 ls (.int 1 :: st) h := Ex_nx rfl rfl
theorem rX0_caught_137 (Q : Po) (h : Hp) (ls : List Value) (st : List Value) (x y : Int32) : Ex mX0_caught Q 137 ls (.int y :: .int x :: st) h = if ¬ x = y then Ex mX0_caught Q 145 ls st h else Ex mX0_caught Q 140 ls st h := Ex_br rfl rfl
theorem rX0_caught_140 (Q : Po) (h : Hp) (l0 l1 l2 l3 l5 : Value) (x : Int32) (st : List Value) : Ex mX0_caught Q 140 [l0, l1, l2, l3, .int x, l5] st h = Ex mX0_caught Q 142 [l0, l1, l2, l3, .int x, l5] (.int x :: st) h := Ex_nx rfl rfl
theorem rX0_caught_142 (Q : Po) (h : Hp) (ls : List Value) (st : List Value) : Ex mX0_caught Q 142 ls st h = Ex mX0_caught Q 150 ls st h := Ex_nx rfl rfl
theorem rX0_caught_145 (Q : Po) (h : Hp) (l0 l1 l2 l3 l5 : Value) (x : Int32) (st : List Value) : Ex mX0_caught Q 145 [l0, l1, l2, l3, .int x, l5] st h = Ex mX0_caught Q 147 [l0, l1, l2, l3, .int x, l5] (.int x :: st) h := Ex_nx rfl rfl
theorem rX0_caught_147 (Q : Po) (h : Hp) (ls : List Value) (a0 : Int32) : Ex mX0_caught Q 147 ls (.int a0 :: []) h = Ex mJ16_bitCount (Cont mX0_caught Q 147 ls 150 []) 0 [.int a0] [] h := Ex_cl (n := 1) (as := [.int a0]) rfl rfl
theorem rX0_caught_150 (Q : Po) (h : Hp) (ls : List Value) (x : Int32) : Ex mX0_caught Q 150 ls [.int x] h = Q (.inl (some (.int x))) h := Ex_rt rfl rfl
theorem rX0_caught_t (Q : Po) (h : Hp) (pc n a : Nat) (ls st : List Value) : Cont mX0_caught Q pc ls n st (.inr a) h = Q (.inr a) h := rfl
/-! FishReaders.claim(I)I -/
def mX0_claim : Cd := ([(0, .inl (i_aload 0 1)),
  (1, .inl (i_getf 11 [1] 4)),
  (4, .inl (i_iload 1 5)),
  (5, .inr (c_V 1 8 2 2 (Mt mX1_isCaught 2))),
  (8, .inl (i_if (fun x => x = 0) 15 11)),
  (11, .inl (i_push (.int 0) 12)),
  (12, .inl (i_goto 24)),
  (15, .inl (i_aload 0 16)),
  (16, .inl (i_getf 11 [1] 19)),
  (19, .inl (i_getf 55 [2] 22)),
  (22, .inl (i_iload 1 23)),
  (23, .inl (i_iald 51 24)),
  (24, .inl i_iret)], noH)
theorem rX0_claim_0 (Q : Po) (h : Hp) (l1 : Value) (x : Nat) (st : List Value) : Ex mX0_claim Q 0 [.ref x, l1] st h = Ex mX0_claim Q 1 [.ref x, l1] (.ref x :: st) h := Ex_nx rfl rfl
theorem rX0_claim_1 (Q : Po) (h : Hp) (ls : List Value) (st : List Value) (a : Nat) : Ex mX0_claim Q 1 ls (.ref a :: st) h = (gK h a ∈ ([1] : List Nat) ∧ Ex mX0_claim Q 4 ls (gF h 11 a :: st) h) := Ex_gd rfl rfl
theorem rX0_claim_4 (Q : Po) (h : Hp) (l0 : Value) (x : Int32) (st : List Value) : Ex mX0_claim Q 4 [l0, .int x] st h = Ex mX0_claim Q 5 [l0, .int x] (.int x :: st) h := Ex_nx rfl rfl
theorem rX0_claim_5 (Q : Po) (h : Hp) (ls : List Value) (a0 : Int32) (b : Nat) : Ex mX0_claim Q 5 ls (.int a0 :: .ref b :: []) h = (gK h b = 2 ∧ Ex mX1_isCaught (Cont mX0_claim Q 5 ls 8 []) 0 [.ref b, .int a0] [] h) := Ex_cg (n := 2) (as := [.ref b, .int a0]) rfl rfl
theorem rX0_claim_8 (Q : Po) (h : Hp) (ls : List Value) (st : List Value) (x : Int32) : Ex mX0_claim Q 8 ls (.int x :: st) h = if x = 0 then Ex mX0_claim Q 15 ls st h else Ex mX0_claim Q 11 ls st h := Ex_br rfl rfl
theorem rX0_claim_11 (Q : Po) (h : Hp) (ls : List Value) (st : List Value) : Ex mX0_claim Q 11 ls st h = Ex mX0_claim Q 12 ls (.int 0 :: st) h := Ex_nx rfl rfl
theorem rX0_claim_12 (Q : Po) (h : Hp) (ls : List Value) (st : List Value) : Ex mX0_claim Q 12 ls st h = Ex mX0_claim Q 24 ls st h := Ex_nx rfl rfl
theorem rX0_claim_15 (Q : Po) (h : Hp) (l1 : Value) (x : Nat) (st : List Value) : Ex mX0_claim Q 15 [.ref x, l1] st h = Ex mX0_claim Q 16 [.ref x, l1] (.ref x :: st) h := Ex_nx rfl rfl
theorem rX0_claim_16 (Q : Po) (h : Hp) (ls : List Value) (st : List Value) (a : Nat) : Ex mX0_claim Q 16 ls (.ref a :: st) h = (gK h a ∈ ([1] : List Nat) ∧ Ex mX0_claim Q 19 ls (gF h 11 a :: st) h) := Ex_gd rfl rfl
theorem rX0_claim_19 (Q : Po) (h : Hp) (ls : List Value) (st : List Value) (a : Nat) : Ex mX0_claim Q 19 ls (.ref a :: st) h = (gK h a ∈ ([2] : List Nat) ∧ Ex mX0_claim Q 22 ls (gF h 55 a :: st) h) := Ex_gd rfl rfl
theorem rX0_claim_22 (Q : Po) (h : Hp) (l0 : Value) (x : Int32) (st : List Value) : Ex mX0_claim Q 22 [l0, .int x] st h = Ex mX0_claim Q 23 [l0, .int x] (.int x :: st) h := Ex_nx rfl rfl
theorem rX0_claim_23 (Q : Po) (h : Hp) (ls : List Value) (st : List Value) (a : Nat) (i : Int32) : Ex mX0_claim Q 23 ls (.int i :: .ref a :: st) h = ((gK h a = 51 ∧ ¬ (i < 0 ∨ gL h a ≤ i.toNatClampNeg)) ∧ Ex mX0_claim Q 24 ls (.int (gI h a i.toNatClampNeg) :: st) h) := Ex_gd rfl rfl
theorem rX0_claim_24 (Q : Po) (h : Hp) (ls : List Value) (x : Int32) : Ex mX0_claim Q 24 ls [.int x] h = Q (.inl (some (.int x))) h := Ex_rt rfl rfl
theorem rX0_claim_t (Q : Po) (h : Hp) (pc n a : Nat) (ls st : List Value) : Cont mX0_claim Q pc ls n st (.inr a) h = Q (.inr a) h := rfl
/-! FishReaders.grams(II)I -/
def mX0_grams : Cd := ([(0, .inl (i_aload 0 1)),
  (1, .inl (i_iload 1 2)),
  (2, .inr (c_V 1 5 2 1 (Mt mX0_isFish 2))),
  (5, .inl (i_if (fun x => x = 0) 20 8)),
  (8, .inl (i_iload 2 9)),
  (9, .inl (i_i2l 10)),
  (10, .inl (i_push (.long 0) 11)),
  (11, .inl (i_push (.long 999) 14)),
  (14, .inr (c_S 3 17 6 (Mt mX0_isIn 6))),
  (17, .inl (i_if (fun x => ¬ x = 0) 23 20)),
  (20, .inl (i_push (.int (-1000001)) 22)),
  (22, .inl i_iret),
  (23, .inl (i_push (.int 0) 24)),
  (24, .inl (i_istore 3 25)),
  (25, .inl (i_push (.int 0) 26)),
  (26, .inl (i_istore 4 28)),
  (28, .inl (i_iload 4 30)),
  (30, .inl (i_aload 0 31)),
  (31, .inl (i_getf 11 [1] 34)),
  (34, .inr (c_V 0 37 1 2 (Mt mX1_many 1))),
  (37, .inl (i_icmp (fun x y => y ≤ x) 55 40)),
  (40, .inl (i_iload 3 41)),
  (41, .inl (i_aload 0 42)),
  (42, .inl (i_iload 4 44)),
  (44, .inr (c_V 1 47 2 1 (Mt mX0_claim 2))),
  (47, .inl (i_bin (fun x y => x + y) 48)),
  (48, .inl (i_istore 3 49)),
  (49, .inl (i_iinc 4 1 52)),
  (52, .inl (i_goto 28)),
  (55, .inl (i_iload 3 56)),
  (56, .inl (i_if (fun x => ¬ x = 0) 61 59)),
  (59, .inl (i_push (.int 0) 60)),
  (60, .inl i_iret),
  (61, .inl (i_iload 2 62)),
  (62, .inl (i_istore 4 64)),
  (64, .inl (i_push (.int 0) 65)),
  (65, .inl (i_istore 5 67)),
  (67, .inl (i_iload 5 69)),
  (69, .inl (i_aload 0 70)),
  (70, .inl (i_getf 11 [1] 73)),
  (73, .inr (c_V 0 76 1 2 (Mt mX1_many 1))),
  (76, .inl (i_icmp (fun x y => y ≤ x) 100 79)),
  (79, .inl (i_iload 4 81)),
  (81, .inl (i_iload 2 82)),
  (82, .inl (i_aload 0 83)),
  (83, .inl (i_iload 5 85)),
  (85, .inr (c_V 1 88 2 1 (Mt mX0_claim 2))),
  (88, .inl (i_bin (fun x y => x * y) 89)),
  (89, .inl (i_iload 3 90)),
  (90, .inl (i_bing (fun x y => x / y) 91)),
  (91, .inl (i_bin (fun x y => x - y) 92)),
  (92, .inl (i_istore 4 94)),
  (94, .inl (i_iinc 5 1 97)),
  (97, .inl (i_goto 67)),
  (100, .inl (i_push (.int 0) 101)),
  (101, .inl (i_istore 5 103)),
  (103, .inl (i_push (.int 0) 104)),
  (104, .inl (i_istore 6 106)),
  (106, .inl (i_iload 6 108)),
  (108, .inl (i_iload 1 109)),
  (109, .inl (i_icmp (fun x y => y ≤ x) 137 112)),
  (112, .inl (i_iload 5 114)),
  (114, .inl (i_aload 0 115)),
  (115, .inl (i_iload 6 117)),
  (117, .inr (c_V 1 120 2 1 (Mt mX0_claim 2))),
  (120, .inl (i_if (fun x => x ≤ 0) 127 123)),
  (123, .inl (i_push (.int 1) 124)),
  (124, .inl (i_goto 128)),
  (127, .inl (i_push (.int 0) 128)),
  (128, .inl (i_bin (fun x y => x + y) 129)),
  (129, .inl (i_istore 5 131)),
  (131, .inl (i_iinc 6 1 134)),
  (134, .inl (i_goto 106)),
  (137, .inl (i_iload 2 138)),
  (138, .inl (i_aload 0 139)),
  (139, .inl (i_iload 1 140)),
  (140, .inr (c_V 1 143 2 1 (Mt mX0_claim 2))),
  (143, .inl (i_bin (fun x y => x * y) 144)),
  (144, .inl (i_iload 3 145)),
  (145, .inl (i_bing (fun x y => x / y) 146)),
  (146, .inl (i_aload 0 147)),
  (147, .inl (i_iload 1 148)),
  (148, .inr (c_V 1 151 2 1 (Mt mX0_claim 2))),
  (151, .inl (i_if (fun x => x ≤ 0) 165 154)),
  (154, .inl (i_iload 5 156)),
  (156, .inl (i_iload 4 158)),
  (158, .inl (i_icmp (fun x y => y ≤ x) 165 161)),
  (161, .inl (i_push (.int 1) 162)),
  (162, .inl (i_goto 166)),
  (165, .inl (i_push (.int 0) 166)),
  (166, .inl (i_bin (fun x y => x + y) 167)),
  (167, .inl i_iret)], noH)
theorem rX0_grams_0 (Q : Po) (h : Hp) (l1 l2 l3 l4 l5 l6 : Value) (x : Nat) (st : List Value) : Ex mX0_grams Q 0 [.ref x, l1, l2, l3, l4, l5, l6] st h = Ex mX0_grams Q 1 [.ref x, l1, l2, l3, l4, l5, l6] (.ref x :: st) h := Ex_nx rfl rfl
theorem rX0_grams_1 (Q : Po) (h : Hp) (l0 l2 l3 l4 l5 l6 : Value) (x : Int32) (st : List Value) : Ex mX0_grams Q 1 [l0, .int x, l2, l3, l4, l5, l6] st h = Ex mX0_grams Q 2 [l0, .int x, l2, l3, l4, l5, l6] (.int x :: st) h := Ex_nx rfl rfl
theorem rX0_grams_2 (Q : Po) (h : Hp) (ls : List Value) (a0 : Int32) (b : Nat) : Ex mX0_grams Q 2 ls (.int a0 :: .ref b :: []) h = (gK h b = 1 ∧ Ex mX0_isFish (Cont mX0_grams Q 2 ls 5 []) 0 [.ref b, .int a0] [] h) := Ex_cg (n := 2) (as := [.ref b, .int a0]) rfl rfl
theorem rX0_grams_5 (Q : Po) (h : Hp) (ls : List Value) (st : List Value) (x : Int32) : Ex mX0_grams Q 5 ls (.int x :: st) h = if x = 0 then Ex mX0_grams Q 20 ls st h else Ex mX0_grams Q 8 ls st h := Ex_br rfl rfl
theorem rX0_grams_8 (Q : Po) (h : Hp) (l0 l1 l3 l4 l5 l6 : Value) (x : Int32) (st : List Value) : Ex mX0_grams Q 8 [l0, l1, .int x, l3, l4, l5, l6] st h = Ex mX0_grams Q 9 [l0, l1, .int x, l3, l4, l5, l6] (.int x :: st) h := Ex_nx rfl rfl
theorem rX0_grams_9 (Q : Po) (h : Hp) (ls : List Value) (st : List Value) (x : Int32) : Ex mX0_grams Q 9 ls (.int x :: st) h = Ex mX0_grams Q 10 ls (.long x.toInt64 :: st) h := Ex_nx rfl rfl
theorem rX0_grams_10 (Q : Po) (h : Hp) (ls : List Value) (st : List Value) : Ex mX0_grams Q 10 ls st h = Ex mX0_grams Q 11 ls (.long 0 :: st) h := Ex_nx rfl rfl
theorem rX0_grams_11 (Q : Po) (h : Hp) (ls : List Value) (st : List Value) : Ex mX0_grams Q 11 ls st h = Ex mX0_grams Q 14 ls (.long 999 :: st) h := Ex_nx rfl rfl
theorem rX0_grams_14 (Q : Po) (h : Hp) (ls : List Value) (a0 : Int64) (a1 : Int64) (a2 : Int64) : Ex mX0_grams Q 14 ls (.long a2 :: .long a1 :: .long a0 :: []) h = Ex mX0_isIn (Cont mX0_grams Q 14 ls 17 []) 0 [.long a0, .retAddr 1, .long a1, .retAddr 1, .long a2, .retAddr 1] [] h := Ex_cl (n := 6) (as := [.long a0, .long a1, .long a2]) rfl rfl
theorem rX0_grams_17 (Q : Po) (h : Hp) (ls : List Value) (st : List Value) (x : Int32) : Ex mX0_grams Q 17 ls (.int x :: st) h = if ¬ x = 0 then Ex mX0_grams Q 23 ls st h else Ex mX0_grams Q 20 ls st h := Ex_br rfl rfl
theorem rX0_grams_20 (Q : Po) (h : Hp) (ls : List Value) (st : List Value) : Ex mX0_grams Q 20 ls st h = Ex mX0_grams Q 22 ls (.int (-1000001) :: st) h := Ex_nx rfl rfl
theorem rX0_grams_22 (Q : Po) (h : Hp) (ls : List Value) (x : Int32) : Ex mX0_grams Q 22 ls [.int x] h = Q (.inl (some (.int x))) h := Ex_rt rfl rfl
theorem rX0_grams_23 (Q : Po) (h : Hp) (ls : List Value) (st : List Value) : Ex mX0_grams Q 23 ls st h = Ex mX0_grams Q 24 ls (.int 0 :: st) h := Ex_nx rfl rfl
theorem rX0_grams_24 (Q : Po) (h : Hp) (l0 l1 l2 l3 l4 l5 l6 : Value) (x : Int32) (st : List Value) : Ex mX0_grams Q 24 [l0, l1, l2, l3, l4, l5, l6] (.int x :: st) h = Ex mX0_grams Q 25 [l0, l1, l2, .int x, l4, l5, l6] st h := Ex_nx rfl rfl
theorem rX0_grams_25 (Q : Po) (h : Hp) (ls : List Value) (st : List Value) : Ex mX0_grams Q 25 ls st h = Ex mX0_grams Q 26 ls (.int 0 :: st) h := Ex_nx rfl rfl
theorem rX0_grams_26 (Q : Po) (h : Hp) (l0 l1 l2 l3 l4 l5 l6 : Value) (x : Int32) (st : List Value) : Ex mX0_grams Q 26 [l0, l1, l2, l3, l4, l5, l6] (.int x :: st) h = Ex mX0_grams Q 28 [l0, l1, l2, l3, .int x, l5, l6] st h := Ex_nx rfl rfl
theorem rX0_grams_28 (Q : Po) (h : Hp) (l0 l1 l2 l3 l5 l6 : Value) (x : Int32) (st : List Value) : Ex mX0_grams Q 28 [l0, l1, l2, l3, .int x, l5, l6] st h = Ex mX0_grams Q 30 [l0, l1, l2, l3, .int x, l5, l6] (.int x :: st) h := Ex_nx rfl rfl
theorem rX0_grams_30 (Q : Po) (h : Hp) (l1 l2 l3 l4 l5 l6 : Value) (x : Nat) (st : List Value) : Ex mX0_grams Q 30 [.ref x, l1, l2, l3, l4, l5, l6] st h = Ex mX0_grams Q 31 [.ref x, l1, l2, l3, l4, l5, l6] (.ref x :: st) h := Ex_nx rfl rfl
theorem rX0_grams_31 (Q : Po) (h : Hp) (ls : List Value) (st : List Value) (a : Nat) : Ex mX0_grams Q 31 ls (.ref a :: st) h = (gK h a ∈ ([1] : List Nat) ∧ Ex mX0_grams Q 34 ls (gF h 11 a :: st) h) := Ex_gd rfl rfl
theorem rX0_grams_34 (Q : Po) (h : Hp) (ls : List Value) (s0 : Value) (b : Nat) : Ex mX0_grams Q 34 ls (.ref b :: [s0]) h = (gK h b = 2 ∧ Ex mX1_many (Cont mX0_grams Q 34 ls 37 [s0]) 0 [.ref b] [] h) := Ex_cg (n := 1) (as := [.ref b]) rfl rfl
theorem rX0_grams_37 (Q : Po) (h : Hp) (ls : List Value) (st : List Value) (x y : Int32) : Ex mX0_grams Q 37 ls (.int y :: .int x :: st) h = if y ≤ x then Ex mX0_grams Q 55 ls st h else Ex mX0_grams Q 40 ls st h := Ex_br rfl rfl
theorem rX0_grams_40 (Q : Po) (h : Hp) (l0 l1 l2 l4 l5 l6 : Value) (x : Int32) (st : List Value) : Ex mX0_grams Q 40 [l0, l1, l2, .int x, l4, l5, l6] st h = Ex mX0_grams Q 41 [l0, l1, l2, .int x, l4, l5, l6] (.int x :: st) h := Ex_nx rfl rfl
theorem rX0_grams_41 (Q : Po) (h : Hp) (l1 l2 l3 l4 l5 l6 : Value) (x : Nat) (st : List Value) : Ex mX0_grams Q 41 [.ref x, l1, l2, l3, l4, l5, l6] st h = Ex mX0_grams Q 42 [.ref x, l1, l2, l3, l4, l5, l6] (.ref x :: st) h := Ex_nx rfl rfl
theorem rX0_grams_42 (Q : Po) (h : Hp) (l0 l1 l2 l3 l5 l6 : Value) (x : Int32) (st : List Value) : Ex mX0_grams Q 42 [l0, l1, l2, l3, .int x, l5, l6] st h = Ex mX0_grams Q 44 [l0, l1, l2, l3, .int x, l5, l6] (.int x :: st) h := Ex_nx rfl rfl
theorem rX0_grams_44 (Q : Po) (h : Hp) (ls : List Value) (a0 : Int32) (s0 : Value) (b : Nat) : Ex mX0_grams Q 44 ls (.int a0 :: .ref b :: [s0]) h = (gK h b = 1 ∧ Ex mX0_claim (Cont mX0_grams Q 44 ls 47 [s0]) 0 [.ref b, .int a0] [] h) := Ex_cg (n := 2) (as := [.ref b, .int a0]) rfl rfl
theorem rX0_grams_47 (Q : Po) (h : Hp) (ls : List Value) (st : List Value) (x y : Int32) : Ex mX0_grams Q 47 ls (.int y :: .int x :: st) h = Ex mX0_grams Q 48 ls (.int (x + y) :: st) h := Ex_nx rfl rfl
theorem rX0_grams_48 (Q : Po) (h : Hp) (l0 l1 l2 l3 l4 l5 l6 : Value) (x : Int32) (st : List Value) : Ex mX0_grams Q 48 [l0, l1, l2, l3, l4, l5, l6] (.int x :: st) h = Ex mX0_grams Q 49 [l0, l1, l2, .int x, l4, l5, l6] st h := Ex_nx rfl rfl
theorem rX0_grams_49 (Q : Po) (h : Hp) (l0 l1 l2 l3 l5 l6 : Value) (x : Int32) (st : List Value) : Ex mX0_grams Q 49 [l0, l1, l2, l3, .int x, l5, l6] st h = Ex mX0_grams Q 52 [l0, l1, l2, l3, .int (x + 1), l5, l6] st h := Ex_nx rfl rfl
theorem rX0_grams_52 (Q : Po) (h : Hp) (ls : List Value) (st : List Value) : Ex mX0_grams Q 52 ls st h = Ex mX0_grams Q 28 ls st h := Ex_nx rfl rfl
theorem rX0_grams_55 (Q : Po) (h : Hp) (l0 l1 l2 l4 l5 l6 : Value) (x : Int32) (st : List Value) : Ex mX0_grams Q 55 [l0, l1, l2, .int x, l4, l5, l6] st h = Ex mX0_grams Q 56 [l0, l1, l2, .int x, l4, l5, l6] (.int x :: st) h := Ex_nx rfl rfl
theorem rX0_grams_56 (Q : Po) (h : Hp) (ls : List Value) (st : List Value) (x : Int32) : Ex mX0_grams Q 56 ls (.int x :: st) h = if ¬ x = 0 then Ex mX0_grams Q 61 ls st h else Ex mX0_grams Q 59 ls st h := Ex_br rfl rfl
theorem rX0_grams_59 (Q : Po) (h : Hp) (ls : List Value) (st : List Value) : Ex mX0_grams Q 59 ls st h = Ex mX0_grams Q 60 ls (.int 0 :: st) h := Ex_nx rfl rfl
theorem rX0_grams_60 (Q : Po) (h : Hp) (ls : List Value) (x : Int32) : Ex mX0_grams Q 60 ls [.int x] h = Q (.inl (some (.int x))) h := Ex_rt rfl rfl
theorem rX0_grams_61 (Q : Po) (h : Hp) (l0 l1 l3 l4 l5 l6 : Value) (x : Int32) (st : List Value) : Ex mX0_grams Q 61 [l0, l1, .int x, l3, l4, l5, l6] st h = Ex mX0_grams Q 62 [l0, l1, .int x, l3, l4, l5, l6] (.int x :: st) h := Ex_nx rfl rfl
theorem rX0_grams_62 (Q : Po) (h : Hp) (l0 l1 l2 l3 l4 l5 l6 : Value) (x : Int32) (st : List Value) : Ex mX0_grams Q 62 [l0, l1, l2, l3, l4, l5, l6] (.int x :: st) h = Ex mX0_grams Q 64 [l0, l1, l2, l3, .int x, l5, l6] st h := Ex_nx rfl rfl
theorem rX0_grams_64 (Q : Po) (h : Hp) (ls : List Value) (st : List Value) : Ex mX0_grams Q 64 ls st h = Ex mX0_grams Q 65 ls (.int 0 :: st) h := Ex_nx rfl rfl
theorem rX0_grams_65 (Q : Po) (h : Hp) (l0 l1 l2 l3 l4 l5 l6 : Value) (x : Int32) (st : List Value) : Ex mX0_grams Q 65 [l0, l1, l2, l3, l4, l5, l6] (.int x :: st) h = Ex mX0_grams Q 67 [l0, l1, l2, l3, l4, .int x, l6] st h := Ex_nx rfl rfl
theorem rX0_grams_67 (Q : Po) (h : Hp) (l0 l1 l2 l3 l4 l6 : Value) (x : Int32) (st : List Value) : Ex mX0_grams Q 67 [l0, l1, l2, l3, l4, .int x, l6] st h = Ex mX0_grams Q 69 [l0, l1, l2, l3, l4, .int x, l6] (.int x :: st) h := Ex_nx rfl rfl
theorem rX0_grams_69 (Q : Po) (h : Hp) (l1 l2 l3 l4 l5 l6 : Value) (x : Nat) (st : List Value) : Ex mX0_grams Q 69 [.ref x, l1, l2, l3, l4, l5, l6] st h = Ex mX0_grams Q 70 [.ref x, l1, l2, l3, l4, l5, l6] (.ref x :: st) h := Ex_nx rfl rfl
theorem rX0_grams_70 (Q : Po) (h : Hp) (ls : List Value) (st : List Value) (a : Nat) : Ex mX0_grams Q 70 ls (.ref a :: st) h = (gK h a ∈ ([1] : List Nat) ∧ Ex mX0_grams Q 73 ls (gF h 11 a :: st) h) := Ex_gd rfl rfl
theorem rX0_grams_73 (Q : Po) (h : Hp) (ls : List Value) (s0 : Value) (b : Nat) : Ex mX0_grams Q 73 ls (.ref b :: [s0]) h = (gK h b = 2 ∧ Ex mX1_many (Cont mX0_grams Q 73 ls 76 [s0]) 0 [.ref b] [] h) := Ex_cg (n := 1) (as := [.ref b]) rfl rfl
theorem rX0_grams_76 (Q : Po) (h : Hp) (ls : List Value) (st : List Value) (x y : Int32) : Ex mX0_grams Q 76 ls (.int y :: .int x :: st) h = if y ≤ x then Ex mX0_grams Q 100 ls st h else Ex mX0_grams Q 79 ls st h := Ex_br rfl rfl
theorem rX0_grams_79 (Q : Po) (h : Hp) (l0 l1 l2 l3 l5 l6 : Value) (x : Int32) (st : List Value) : Ex mX0_grams Q 79 [l0, l1, l2, l3, .int x, l5, l6] st h = Ex mX0_grams Q 81 [l0, l1, l2, l3, .int x, l5, l6] (.int x :: st) h := Ex_nx rfl rfl
theorem rX0_grams_81 (Q : Po) (h : Hp) (l0 l1 l3 l4 l5 l6 : Value) (x : Int32) (st : List Value) : Ex mX0_grams Q 81 [l0, l1, .int x, l3, l4, l5, l6] st h = Ex mX0_grams Q 82 [l0, l1, .int x, l3, l4, l5, l6] (.int x :: st) h := Ex_nx rfl rfl
theorem rX0_grams_82 (Q : Po) (h : Hp) (l1 l2 l3 l4 l5 l6 : Value) (x : Nat) (st : List Value) : Ex mX0_grams Q 82 [.ref x, l1, l2, l3, l4, l5, l6] st h = Ex mX0_grams Q 83 [.ref x, l1, l2, l3, l4, l5, l6] (.ref x :: st) h := Ex_nx rfl rfl
theorem rX0_grams_83 (Q : Po) (h : Hp) (l0 l1 l2 l3 l4 l6 : Value) (x : Int32) (st : List Value) : Ex mX0_grams Q 83 [l0, l1, l2, l3, l4, .int x, l6] st h = Ex mX0_grams Q 85 [l0, l1, l2, l3, l4, .int x, l6] (.int x :: st) h := Ex_nx rfl rfl
theorem rX0_grams_85 (Q : Po) (h : Hp) (ls : List Value) (a0 : Int32) (s0 s1 : Value) (b : Nat) : Ex mX0_grams Q 85 ls (.int a0 :: .ref b :: [s0, s1]) h = (gK h b = 1 ∧ Ex mX0_claim (Cont mX0_grams Q 85 ls 88 [s0, s1]) 0 [.ref b, .int a0] [] h) := Ex_cg (n := 2) (as := [.ref b, .int a0]) rfl rfl
theorem rX0_grams_88 (Q : Po) (h : Hp) (ls : List Value) (st : List Value) (x y : Int32) : Ex mX0_grams Q 88 ls (.int y :: .int x :: st) h = Ex mX0_grams Q 89 ls (.int (x * y) :: st) h := Ex_nx rfl rfl
theorem rX0_grams_89 (Q : Po) (h : Hp) (l0 l1 l2 l4 l5 l6 : Value) (x : Int32) (st : List Value) : Ex mX0_grams Q 89 [l0, l1, l2, .int x, l4, l5, l6] st h = Ex mX0_grams Q 90 [l0, l1, l2, .int x, l4, l5, l6] (.int x :: st) h := Ex_nx rfl rfl
theorem rX0_grams_90 (Q : Po) (h : Hp) (ls : List Value) (st : List Value) (x y : Int32) : Ex mX0_grams Q 90 ls (.int y :: .int x :: st) h = (¬ y = 0 ∧ Ex mX0_grams Q 91 ls (.int (x / y) :: st) h) := Ex_gd rfl rfl
theorem rX0_grams_91 (Q : Po) (h : Hp) (ls : List Value) (st : List Value) (x y : Int32) : Ex mX0_grams Q 91 ls (.int y :: .int x :: st) h = Ex mX0_grams Q 92 ls (.int (x - y) :: st) h := Ex_nx rfl rfl
theorem rX0_grams_92 (Q : Po) (h : Hp) (l0 l1 l2 l3 l4 l5 l6 : Value) (x : Int32) (st : List Value) : Ex mX0_grams Q 92 [l0, l1, l2, l3, l4, l5, l6] (.int x :: st) h = Ex mX0_grams Q 94 [l0, l1, l2, l3, .int x, l5, l6] st h := Ex_nx rfl rfl
theorem rX0_grams_94 (Q : Po) (h : Hp) (l0 l1 l2 l3 l4 l6 : Value) (x : Int32) (st : List Value) : Ex mX0_grams Q 94 [l0, l1, l2, l3, l4, .int x, l6] st h = Ex mX0_grams Q 97 [l0, l1, l2, l3, l4, .int (x + 1), l6] st h := Ex_nx rfl rfl
theorem rX0_grams_97 (Q : Po) (h : Hp) (ls : List Value) (st : List Value) : Ex mX0_grams Q 97 ls st h = Ex mX0_grams Q 67 ls st h := Ex_nx rfl rfl
theorem rX0_grams_100 (Q : Po) (h : Hp) (ls : List Value) (st : List Value) : Ex mX0_grams Q 100 ls st h = Ex mX0_grams Q 101 ls (.int 0 :: st) h := Ex_nx rfl rfl
theorem rX0_grams_101 (Q : Po) (h : Hp) (l0 l1 l2 l3 l4 l5 l6 : Value) (x : Int32) (st : List Value) : Ex mX0_grams Q 101 [l0, l1, l2, l3, l4, l5, l6] (.int x :: st) h = Ex mX0_grams Q 103 [l0, l1, l2, l3, l4, .int x, l6] st h := Ex_nx rfl rfl
theorem rX0_grams_103 (Q : Po) (h : Hp) (ls : List Value) (st : List Value) : Ex mX0_grams Q 103 ls st h = Ex mX0_grams Q 104 ls (.int 0 :: st) h := Ex_nx rfl rfl
theorem rX0_grams_104 (Q : Po) (h : Hp) (l0 l1 l2 l3 l4 l5 l6 : Value) (x : Int32) (st : List Value) : Ex mX0_grams Q 104 [l0, l1, l2, l3, l4, l5, l6] (.int x :: st) h = Ex mX0_grams Q 106 [l0, l1, l2, l3, l4, l5, .int x] st h := Ex_nx rfl rfl
theorem rX0_grams_106 (Q : Po) (h : Hp) (l0 l1 l2 l3 l4 l5 : Value) (x : Int32) (st : List Value) : Ex mX0_grams Q 106 [l0, l1, l2, l3, l4, l5, .int x] st h = Ex mX0_grams Q 108 [l0, l1, l2, l3, l4, l5, .int x] (.int x :: st) h := Ex_nx rfl rfl
theorem rX0_grams_108 (Q : Po) (h : Hp) (l0 l2 l3 l4 l5 l6 : Value) (x : Int32) (st : List Value) : Ex mX0_grams Q 108 [l0, .int x, l2, l3, l4, l5, l6] st h = Ex mX0_grams Q 109 [l0, .int x, l2, l3, l4, l5, l6] (.int x :: st) h := Ex_nx rfl rfl
theorem rX0_grams_109 (Q : Po) (h : Hp) (ls : List Value) (st : List Value) (x y : Int32) : Ex mX0_grams Q 109 ls (.int y :: .int x :: st) h = if y ≤ x then Ex mX0_grams Q 137 ls st h else Ex mX0_grams Q 112 ls st h := Ex_br rfl rfl
theorem rX0_grams_112 (Q : Po) (h : Hp) (l0 l1 l2 l3 l4 l6 : Value) (x : Int32) (st : List Value) : Ex mX0_grams Q 112 [l0, l1, l2, l3, l4, .int x, l6] st h = Ex mX0_grams Q 114 [l0, l1, l2, l3, l4, .int x, l6] (.int x :: st) h := Ex_nx rfl rfl
theorem rX0_grams_114 (Q : Po) (h : Hp) (l1 l2 l3 l4 l5 l6 : Value) (x : Nat) (st : List Value) : Ex mX0_grams Q 114 [.ref x, l1, l2, l3, l4, l5, l6] st h = Ex mX0_grams Q 115 [.ref x, l1, l2, l3, l4, l5, l6] (.ref x :: st) h := Ex_nx rfl rfl
theorem rX0_grams_115 (Q : Po) (h : Hp) (l0 l1 l2 l3 l4 l5 : Value) (x : Int32) (st : List Value) : Ex mX0_grams Q 115 [l0, l1, l2, l3, l4, l5, .int x] st h = Ex mX0_grams Q 117 [l0, l1, l2, l3, l4, l5, .int x] (.int x :: st) h := Ex_nx rfl rfl
theorem rX0_grams_117 (Q : Po) (h : Hp) (ls : List Value) (a0 : Int32) (s0 : Value) (b : Nat) : Ex mX0_grams Q 117 ls (.int a0 :: .ref b :: [s0]) h = (gK h b = 1 ∧ Ex mX0_claim (Cont mX0_grams Q 117 ls 120 [s0]) 0 [.ref b, .int a0] [] h) := Ex_cg (n := 2) (as := [.ref b, .int a0]) rfl rfl
theorem rX0_grams_120 (Q : Po) (h : Hp) (ls : List Value) (st : List Value) (x : Int32) : Ex mX0_grams Q 120 ls (.int x :: st) h = if x ≤ 0 then Ex mX0_grams Q 127 ls st h else Ex mX0_grams Q 123 ls st h := Ex_br rfl rfl
theorem rX0_grams_123 (Q : Po) (h : Hp) (ls : List Value) (st : List Value) : Ex mX0_grams Q 123 ls st h = Ex mX0_grams Q 124 ls (.int 1 :: st) h := Ex_nx rfl rfl
theorem rX0_grams_124 (Q : Po) (h : Hp) (ls : List Value) (st : List Value) : Ex mX0_grams Q 124 ls st h = Ex mX0_grams Q 128 ls st h := Ex_nx rfl rfl
theorem rX0_grams_127 (Q : Po) (h : Hp) (ls : List Value) (st : List Value) : Ex mX0_grams Q 127 ls st h = Ex mX0_grams Q 128 ls (.int 0 :: st) h := Ex_nx rfl rfl
theorem rX0_grams_128 (Q : Po) (h : Hp) (ls : List Value) (st : List Value) (x y : Int32) : Ex mX0_grams Q 128 ls (.int y :: .int x :: st) h = Ex mX0_grams Q 129 ls (.int (x + y) :: st) h := Ex_nx rfl rfl
theorem rX0_grams_129 (Q : Po) (h : Hp) (l0 l1 l2 l3 l4 l5 l6 : Value) (x : Int32) (st : List Value) : Ex mX0_grams Q 129 [l0, l1, l2, l3, l4, l5, l6] (.int x :: st) h = Ex mX0_grams Q 131 [l0, l1, l2, l3, l4, .int x, l6] st h := Ex_nx rfl rfl
theorem rX0_grams_131 (Q : Po) (h : Hp) (l0 l1 l2 l3 l4 l5 : Value) (x : Int32) (st : List Value) : Ex mX0_grams Q 131 [l0, l1, l2, l3, l4, l5, .int x] st h = Ex mX0_grams Q 134 [l0, l1, l2, l3, l4, l5, .int (x + 1)] st h := Ex_nx rfl rfl
theorem rX0_grams_134 (Q : Po) (h : Hp) (ls : List Value) (st : List Value) : Ex mX0_grams Q 134 ls st h = Ex mX0_grams Q 106 ls st h := Ex_nx rfl rfl
theorem rX0_grams_137 (Q : Po) (h : Hp) (l0 l1 l3 l4 l5 l6 : Value) (x : Int32) (st : List Value) : Ex mX0_grams Q 137 [l0, l1, .int x, l3, l4, l5, l6] st h = Ex mX0_grams Q 138 [l0, l1, .int x, l3, l4, l5, l6] (.int x :: st) h := Ex_nx rfl rfl
theorem rX0_grams_138 (Q : Po) (h : Hp) (l1 l2 l3 l4 l5 l6 : Value) (x : Nat) (st : List Value) : Ex mX0_grams Q 138 [.ref x, l1, l2, l3, l4, l5, l6] st h = Ex mX0_grams Q 139 [.ref x, l1, l2, l3, l4, l5, l6] (.ref x :: st) h := Ex_nx rfl rfl
theorem rX0_grams_139 (Q : Po) (h : Hp) (l0 l2 l3 l4 l5 l6 : Value) (x : Int32) (st : List Value) : Ex mX0_grams Q 139 [l0, .int x, l2, l3, l4, l5, l6] st h = Ex mX0_grams Q 140 [l0, .int x, l2, l3, l4, l5, l6] (.int x :: st) h := Ex_nx rfl rfl
theorem rX0_grams_140 (Q : Po) (h : Hp) (ls : List Value) (a0 : Int32) (s0 : Value) (b : Nat) : Ex mX0_grams Q 140 ls (.int a0 :: .ref b :: [s0]) h = (gK h b = 1 ∧ Ex mX0_claim (Cont mX0_grams Q 140 ls 143 [s0]) 0 [.ref b, .int a0] [] h) := Ex_cg (n := 2) (as := [.ref b, .int a0]) rfl rfl
theorem rX0_grams_143 (Q : Po) (h : Hp) (ls : List Value) (st : List Value) (x y : Int32) : Ex mX0_grams Q 143 ls (.int y :: .int x :: st) h = Ex mX0_grams Q 144 ls (.int (x * y) :: st) h := Ex_nx rfl rfl
theorem rX0_grams_144 (Q : Po) (h : Hp) (l0 l1 l2 l4 l5 l6 : Value) (x : Int32) (st : List Value) : Ex mX0_grams Q 144 [l0, l1, l2, .int x, l4, l5, l6] st h = Ex mX0_grams Q 145 [l0, l1, l2, .int x, l4, l5, l6] (.int x :: st) h := Ex_nx rfl rfl
theorem rX0_grams_145 (Q : Po) (h : Hp) (ls : List Value) (st : List Value) (x y : Int32) : Ex mX0_grams Q 145 ls (.int y :: .int x :: st) h = (¬ y = 0 ∧ Ex mX0_grams Q 146 ls (.int (x / y) :: st) h) := Ex_gd rfl rfl
theorem rX0_grams_146 (Q : Po) (h : Hp) (l1 l2 l3 l4 l5 l6 : Value) (x : Nat) (st : List Value) : Ex mX0_grams Q 146 [.ref x, l1, l2, l3, l4, l5, l6] st h = Ex mX0_grams Q 147 [.ref x, l1, l2, l3, l4, l5, l6] (.ref x :: st) h := Ex_nx rfl rfl
theorem rX0_grams_147 (Q : Po) (h : Hp) (l0 l2 l3 l4 l5 l6 : Value) (x : Int32) (st : List Value) : Ex mX0_grams Q 147 [l0, .int x, l2, l3, l4, l5, l6] st h = Ex mX0_grams Q 148 [l0, .int x, l2, l3, l4, l5, l6] (.int x :: st) h := Ex_nx rfl rfl
theorem rX0_grams_148 (Q : Po) (h : Hp) (ls : List Value) (a0 : Int32) (s0 : Value) (b : Nat) : Ex mX0_grams Q 148 ls (.int a0 :: .ref b :: [s0]) h = (gK h b = 1 ∧ Ex mX0_claim (Cont mX0_grams Q 148 ls 151 [s0]) 0 [.ref b, .int a0] [] h) := Ex_cg (n := 2) (as := [.ref b, .int a0]) rfl rfl
theorem rX0_grams_151 (Q : Po) (h : Hp) (ls : List Value) (st : List Value) (x : Int32) : Ex mX0_grams Q 151 ls (.int x :: st) h = if x ≤ 0 then Ex mX0_grams Q 165 ls st h else Ex mX0_grams Q 154 ls st h := Ex_br rfl rfl
theorem rX0_grams_154 (Q : Po) (h : Hp) (l0 l1 l2 l3 l4 l6 : Value) (x : Int32) (st : List Value) : Ex mX0_grams Q 154 [l0, l1, l2, l3, l4, .int x, l6] st h = Ex mX0_grams Q 156 [l0, l1, l2, l3, l4, .int x, l6] (.int x :: st) h := Ex_nx rfl rfl
theorem rX0_grams_156 (Q : Po) (h : Hp) (l0 l1 l2 l3 l5 l6 : Value) (x : Int32) (st : List Value) : Ex mX0_grams Q 156 [l0, l1, l2, l3, .int x, l5, l6] st h = Ex mX0_grams Q 158 [l0, l1, l2, l3, .int x, l5, l6] (.int x :: st) h := Ex_nx rfl rfl
theorem rX0_grams_158 (Q : Po) (h : Hp) (ls : List Value) (st : List Value) (x y : Int32) : Ex mX0_grams Q 158 ls (.int y :: .int x :: st) h = if y ≤ x then Ex mX0_grams Q 165 ls st h else Ex mX0_grams Q 161 ls st h := Ex_br rfl rfl
theorem rX0_grams_161 (Q : Po) (h : Hp) (ls : List Value) (st : List Value) : Ex mX0_grams Q 161 ls st h = Ex mX0_grams Q 162 ls (.int 1 :: st) h := Ex_nx rfl rfl
theorem rX0_grams_162 (Q : Po) (h : Hp) (ls : List Value) (st : List Value) : Ex mX0_grams Q 162 ls st h = Ex mX0_grams Q 166 ls st h := Ex_nx rfl rfl
theorem rX0_grams_165 (Q : Po) (h : Hp) (ls : List Value) (st : List Value) : Ex mX0_grams Q 165 ls st h = Ex mX0_grams Q 166 ls (.int 0 :: st) h := Ex_nx rfl rfl
theorem rX0_grams_166 (Q : Po) (h : Hp) (ls : List Value) (st : List Value) (x y : Int32) : Ex mX0_grams Q 166 ls (.int y :: .int x :: st) h = Ex mX0_grams Q 167 ls (.int (x + y) :: st) h := Ex_nx rfl rfl
theorem rX0_grams_167 (Q : Po) (h : Hp) (ls : List Value) (x : Int32) : Ex mX0_grams Q 167 ls [.int x] h = Q (.inl (some (.int x))) h := Ex_rt rfl rfl
theorem rX0_grams_t (Q : Po) (h : Hp) (pc n a : Nat) (ls st : List Value) : Cont mX0_grams Q pc ls n st (.inr a) h = Q (.inr a) h := rfl
/-! FishReaders$Row.row(II)[I -/
def mX11_row : Cd := ([(0, .inl (i_iload 1 1)),
  (1, .inl (i_if (fun x => x < 0) 23 4)),
  (4, .inl (i_iload 1 5)),
  (5, .inl (i_i2l 6)),
  (6, .inl (i_iload 2 7)),
  (7, .inl (i_i2l 8)),
  (8, .inl (i_lbin (fun x y => x + y) 9)),
  (9, .inl (i_aload 0 10)),
  (10, .inl (i_getf 139 [11] 13)),
  (13, .inl (i_alen [51] 14)),
  (14, .inl (i_i2l 15)),
  (15, .inl (i_lcmp 16)),
  (16, .inl (i_if (fun x => 0 < x) 23 19)),
  (19, .inl (i_push (.int 1) 20)),
  (20, .inl (i_goto 24)),
  (23, .inl (i_push (.int 0) 24)),
  (24, .inl (i_push (.int 2) 25)),
  (25, .inr (c_S 2 28 2 (Mt mX0_must 2))),
  (28, .inl (i_iload 2 29)),
  (29, .inl (i_newa 51 31)),
  (31, .inl (i_astore 3 32)),
  (32, .inl (i_aload 0 33)),
  (33, .inl (i_getf 139 [11] 36)),
  (36, .inl (i_iload 1 37)),
  (37, .inl (i_aload 3 38)),
  (38, .inl (i_push (.int 0) 39)),
  (39, .inl (i_iload 2 40)),
  (40, .inl (i_acpy 51 43)),
  (43, .inl (i_aload 3 44)),
  (44, .inl i_aret)], noH)
theorem rX11_row_0 (Q : Po) (h : Hp) (l0 l2 l3 : Value) (x : Int32) (st : List Value) : Ex mX11_row Q 0 [l0, .int x, l2, l3] st h = Ex mX11_row Q 1 [l0, .int x, l2, l3] (.int x :: st) h := Ex_nx rfl rfl
theorem rX11_row_1 (Q : Po) (h : Hp) (ls : List Value) (st : List Value) (x : Int32) : Ex mX11_row Q 1 ls (.int x :: st) h = if x < 0 then Ex mX11_row Q 23 ls st h else Ex mX11_row Q 4 ls st h := Ex_br rfl rfl
theorem rX11_row_4 (Q : Po) (h : Hp) (l0 l2 l3 : Value) (x : Int32) (st : List Value) : Ex mX11_row Q 4 [l0, .int x, l2, l3] st h = Ex mX11_row Q 5 [l0, .int x, l2, l3] (.int x :: st) h := Ex_nx rfl rfl
theorem rX11_row_5 (Q : Po) (h : Hp) (ls : List Value) (st : List Value) (x : Int32) : Ex mX11_row Q 5 ls (.int x :: st) h = Ex mX11_row Q 6 ls (.long x.toInt64 :: st) h := Ex_nx rfl rfl
theorem rX11_row_6 (Q : Po) (h : Hp) (l0 l1 l3 : Value) (x : Int32) (st : List Value) : Ex mX11_row Q 6 [l0, l1, .int x, l3] st h = Ex mX11_row Q 7 [l0, l1, .int x, l3] (.int x :: st) h := Ex_nx rfl rfl
theorem rX11_row_7 (Q : Po) (h : Hp) (ls : List Value) (st : List Value) (x : Int32) : Ex mX11_row Q 7 ls (.int x :: st) h = Ex mX11_row Q 8 ls (.long x.toInt64 :: st) h := Ex_nx rfl rfl
theorem rX11_row_8 (Q : Po) (h : Hp) (ls : List Value) (st : List Value) (x y : Int64) : Ex mX11_row Q 8 ls (.long y :: .long x :: st) h = Ex mX11_row Q 9 ls (.long (x + y) :: st) h := Ex_nx rfl rfl
theorem rX11_row_9 (Q : Po) (h : Hp) (l1 l2 l3 : Value) (x : Nat) (st : List Value) : Ex mX11_row Q 9 [.ref x, l1, l2, l3] st h = Ex mX11_row Q 10 [.ref x, l1, l2, l3] (.ref x :: st) h := Ex_nx rfl rfl
theorem rX11_row_10 (Q : Po) (h : Hp) (ls : List Value) (st : List Value) (a : Nat) : Ex mX11_row Q 10 ls (.ref a :: st) h = (gK h a ∈ ([11] : List Nat) ∧ Ex mX11_row Q 13 ls (gF h 139 a :: st) h) := Ex_gd rfl rfl
theorem rX11_row_13 (Q : Po) (h : Hp) (ls : List Value) (st : List Value) (a : Nat) : Ex mX11_row Q 13 ls (.ref a :: st) h = (gK h a ∈ ([51] : List Nat) ∧ Ex mX11_row Q 14 ls (.int (nI (gL h a)) :: st) h) := Ex_gd rfl rfl
theorem rX11_row_14 (Q : Po) (h : Hp) (ls : List Value) (st : List Value) (x : Int32) : Ex mX11_row Q 14 ls (.int x :: st) h = Ex mX11_row Q 15 ls (.long x.toInt64 :: st) h := Ex_nx rfl rfl
theorem rX11_row_15 (Q : Po) (h : Hp) (ls : List Value) (st : List Value) (x y : Int64) : Ex mX11_row Q 15 ls (.long y :: .long x :: st) h = Ex mX11_row Q 16 ls (.int (lg_cmp x y) :: st) h := Ex_nx rfl rfl
theorem rX11_row_16 (Q : Po) (h : Hp) (ls : List Value) (st : List Value) (x : Int32) : Ex mX11_row Q 16 ls (.int x :: st) h = if 0 < x then Ex mX11_row Q 23 ls st h else Ex mX11_row Q 19 ls st h := Ex_br rfl rfl
theorem rX11_row_19 (Q : Po) (h : Hp) (ls : List Value) (st : List Value) : Ex mX11_row Q 19 ls st h = Ex mX11_row Q 20 ls (.int 1 :: st) h := Ex_nx rfl rfl
theorem rX11_row_20 (Q : Po) (h : Hp) (ls : List Value) (st : List Value) : Ex mX11_row Q 20 ls st h = Ex mX11_row Q 24 ls st h := Ex_nx rfl rfl
theorem rX11_row_23 (Q : Po) (h : Hp) (ls : List Value) (st : List Value) : Ex mX11_row Q 23 ls st h = Ex mX11_row Q 24 ls (.int 0 :: st) h := Ex_nx rfl rfl
theorem rX11_row_24 (Q : Po) (h : Hp) (ls : List Value) (st : List Value) : Ex mX11_row Q 24 ls st h = Ex mX11_row Q 25 ls (.int 2 :: st) h := Ex_nx rfl rfl
theorem rX11_row_25 (Q : Po) (h : Hp) (ls : List Value) (a0 : Int32) (a1 : Int32) : Ex mX11_row Q 25 ls (.int a1 :: .int a0 :: []) h = Ex mX0_must (Cont mX11_row Q 25 ls 28 []) 0 [.int a0, .int a1] [] h := Ex_cl (n := 2) (as := [.int a0, .int a1]) rfl rfl
theorem rX11_row_28 (Q : Po) (h : Hp) (l0 l1 l3 : Value) (x : Int32) (st : List Value) : Ex mX11_row Q 28 [l0, l1, .int x, l3] st h = Ex mX11_row Q 29 [l0, l1, .int x, l3] (.int x :: st) h := Ex_nx rfl rfl
theorem rX11_row_29 (Q : Po) (h : Hp) (ls : List Value) (st : List Value) (x : Int32) : Ex mX11_row Q 29 ls (.int x :: st) h = ((¬ x < 0 ∧ x.toNatClampNeg ≤ 65536 ∧ 1 ≤ gC h ∧ x.toNatClampNeg ≤ gS h) ∧ Ex mX11_row Q 31 ls (.ref (gN h) :: st) (nA h 51 x.toNatClampNeg)) := Ex_gd rfl rfl
theorem rX11_row_31 (Q : Po) (h : Hp) (l0 l1 l2 l3 : Value) (x : Nat) (st : List Value) : Ex mX11_row Q 31 [l0, l1, l2, l3] (.ref x :: st) h = Ex mX11_row Q 32 [l0, l1, l2, .ref x] st h := Ex_nx rfl rfl
theorem rX11_row_32 (Q : Po) (h : Hp) (l1 l2 l3 : Value) (x : Nat) (st : List Value) : Ex mX11_row Q 32 [.ref x, l1, l2, l3] st h = Ex mX11_row Q 33 [.ref x, l1, l2, l3] (.ref x :: st) h := Ex_nx rfl rfl
theorem rX11_row_33 (Q : Po) (h : Hp) (ls : List Value) (st : List Value) (a : Nat) : Ex mX11_row Q 33 ls (.ref a :: st) h = (gK h a ∈ ([11] : List Nat) ∧ Ex mX11_row Q 36 ls (gF h 139 a :: st) h) := Ex_gd rfl rfl
theorem rX11_row_36 (Q : Po) (h : Hp) (l0 l2 l3 : Value) (x : Int32) (st : List Value) : Ex mX11_row Q 36 [l0, .int x, l2, l3] st h = Ex mX11_row Q 37 [l0, .int x, l2, l3] (.int x :: st) h := Ex_nx rfl rfl
theorem rX11_row_37 (Q : Po) (h : Hp) (l0 l1 l2 : Value) (x : Nat) (st : List Value) : Ex mX11_row Q 37 [l0, l1, l2, .ref x] st h = Ex mX11_row Q 38 [l0, l1, l2, .ref x] (.ref x :: st) h := Ex_nx rfl rfl
theorem rX11_row_38 (Q : Po) (h : Hp) (ls : List Value) (st : List Value) : Ex mX11_row Q 38 ls st h = Ex mX11_row Q 39 ls (.int 0 :: st) h := Ex_nx rfl rfl
theorem rX11_row_39 (Q : Po) (h : Hp) (l0 l1 l3 : Value) (x : Int32) (st : List Value) : Ex mX11_row Q 39 [l0, l1, .int x, l3] st h = Ex mX11_row Q 40 [l0, l1, .int x, l3] (.int x :: st) h := Ex_nx rfl rfl
theorem rX11_row_40 (Q : Po) (h : Hp) (ls : List Value) (s d : Nat) (sp dp k : Int32) : Ex mX11_row Q 40 ls (.int k :: .int dp :: .ref d :: .int sp :: .ref s :: []) h = ((([] : List Value).length ≤ 6 ∧ gK h s = 51 ∧ gK h d = 51 ∧ ¬ sp < 0 ∧ ¬ dp < 0 ∧ ¬ k < 0 ∧ sp.toNatClampNeg + k.toNatClampNeg ≤ gL h s ∧ dp.toNatClampNeg + k.toNatClampNeg ≤ gL h d) ∧ Ex mX11_row Q 43 ls [] (pC h d (va_cpy (gI h s) (gI h d) sp.toNatClampNeg dp.toNatClampNeg k.toNatClampNeg))) := Ex_gd rfl rfl
theorem rX11_row_43 (Q : Po) (h : Hp) (l0 l1 l2 : Value) (x : Nat) (st : List Value) : Ex mX11_row Q 43 [l0, l1, l2, .ref x] st h = Ex mX11_row Q 44 [l0, l1, l2, .ref x] (.ref x :: st) h := Ex_nx rfl rfl
theorem rX11_row_44 (Q : Po) (h : Hp) (ls : List Value) (x : Nat) : Ex mX11_row Q 44 ls [.ref x] h = Q (.inl (some (.ref x))) h := Ex_rt rfl rfl
theorem rX11_row_t (Q : Po) (h : Hp) (pc n a : Nat) (ls st : List Value) : Cont mX11_row Q pc ls n st (.inr a) h = Q (.inr a) h := rfl
/-! FishReaders.alters(III)V -/
def mX0_alters : Cd := ([(0, .inl (i_aload 0 1)),
  (1, .inr (c_V 0 4 1 1 (Mt mX0_tried 1))),
  (4, .inl (i_pop 5)),
  (5, .inl (i_iload 2 6)),
  (6, .inl (i_if (fun x => ¬ x = 0) 35 9)),
  (9, .inl (i_aload 0 10)),
  (10, .inl (i_getf 13 [1] 13)),
  (13, .inl (i_iload 1 14)),
  (14, .inl (i_putI 60 [2] 17)),
  (17, .inl (i_aload 0 18)),
  (18, .inl (i_getf 13 [1] 21)),
  (21, .inl (i_aload 0 22)),
  (22, .inl (i_getf 31 [1] 25)),
  (25, .inl (i_iload 3 26)),
  (26, .inl (i_push (.int 1) 27)),
  (27, .inl (i_bin (fun x y => x - y) 28)),
  (28, .inl (i_aald 56 29)),
  (29, .inl (i_putR 63 [2] 32)),
  (32, .inl (i_goto 45)),
  (35, .inl (i_aload 0 36)),
  (36, .inl (i_getf 13 [1] 39)),
  (39, .inl (i_getf 53 [2] 42)),
  (42, .inl (i_iload 1 43)),
  (43, .inl (i_iload 3 44)),
  (44, .inl (i_iast 51 (fun x => x) 45)),
  (45, .inl i_vret)], noH)
theorem rX0_alters_0 (Q : Po) (h : Hp) (l1 l2 l3 : Value) (x : Nat) (st : List Value) : Ex mX0_alters Q 0 [.ref x, l1, l2, l3] st h = Ex mX0_alters Q 1 [.ref x, l1, l2, l3] (.ref x :: st) h := Ex_nx rfl rfl
theorem rX0_alters_1 (Q : Po) (h : Hp) (ls : List Value) (b : Nat) : Ex mX0_alters Q 1 ls (.ref b :: []) h = (gK h b = 1 ∧ Ex mX0_tried (Cont mX0_alters Q 1 ls 4 []) 0 [.ref b] [] h) := Ex_cg (n := 1) (as := [.ref b]) rfl rfl
theorem rX0_alters_4 (Q : Po) (h : Hp) (ls : List Value) (st : List Value) (x : Nat) : Ex mX0_alters Q 4 ls (.ref x :: st) h = Ex mX0_alters Q 5 ls st h := Ex_nx rfl rfl
theorem rX0_alters_5 (Q : Po) (h : Hp) (l0 l1 l3 : Value) (x : Int32) (st : List Value) : Ex mX0_alters Q 5 [l0, l1, .int x, l3] st h = Ex mX0_alters Q 6 [l0, l1, .int x, l3] (.int x :: st) h := Ex_nx rfl rfl
theorem rX0_alters_6 (Q : Po) (h : Hp) (ls : List Value) (st : List Value) (x : Int32) : Ex mX0_alters Q 6 ls (.int x :: st) h = if ¬ x = 0 then Ex mX0_alters Q 35 ls st h else Ex mX0_alters Q 9 ls st h := Ex_br rfl rfl
theorem rX0_alters_9 (Q : Po) (h : Hp) (l1 l2 l3 : Value) (x : Nat) (st : List Value) : Ex mX0_alters Q 9 [.ref x, l1, l2, l3] st h = Ex mX0_alters Q 10 [.ref x, l1, l2, l3] (.ref x :: st) h := Ex_nx rfl rfl
theorem rX0_alters_10 (Q : Po) (h : Hp) (ls : List Value) (st : List Value) (a : Nat) : Ex mX0_alters Q 10 ls (.ref a :: st) h = (gK h a ∈ ([1] : List Nat) ∧ Ex mX0_alters Q 13 ls (gF h 13 a :: st) h) := Ex_gd rfl rfl
theorem rX0_alters_13 (Q : Po) (h : Hp) (l0 l2 l3 : Value) (x : Int32) (st : List Value) : Ex mX0_alters Q 13 [l0, .int x, l2, l3] st h = Ex mX0_alters Q 14 [l0, .int x, l2, l3] (.int x :: st) h := Ex_nx rfl rfl
theorem rX0_alters_14 (Q : Po) (h : Hp) (ls : List Value) (st : List Value) (x : Int32) (a : Nat) : Ex mX0_alters Q 14 ls (.int x :: .ref a :: st) h = (gK h a ∈ ([2] : List Nat) ∧ Ex mX0_alters Q 17 ls st (pF h 60 a (.int x))) := Ex_gd rfl rfl
theorem rX0_alters_17 (Q : Po) (h : Hp) (l1 l2 l3 : Value) (x : Nat) (st : List Value) : Ex mX0_alters Q 17 [.ref x, l1, l2, l3] st h = Ex mX0_alters Q 18 [.ref x, l1, l2, l3] (.ref x :: st) h := Ex_nx rfl rfl
theorem rX0_alters_18 (Q : Po) (h : Hp) (ls : List Value) (st : List Value) (a : Nat) : Ex mX0_alters Q 18 ls (.ref a :: st) h = (gK h a ∈ ([1] : List Nat) ∧ Ex mX0_alters Q 21 ls (gF h 13 a :: st) h) := Ex_gd rfl rfl
theorem rX0_alters_21 (Q : Po) (h : Hp) (l1 l2 l3 : Value) (x : Nat) (st : List Value) : Ex mX0_alters Q 21 [.ref x, l1, l2, l3] st h = Ex mX0_alters Q 22 [.ref x, l1, l2, l3] (.ref x :: st) h := Ex_nx rfl rfl
theorem rX0_alters_22 (Q : Po) (h : Hp) (ls : List Value) (st : List Value) (a : Nat) : Ex mX0_alters Q 22 ls (.ref a :: st) h = (gK h a ∈ ([1] : List Nat) ∧ Ex mX0_alters Q 25 ls (gF h 31 a :: st) h) := Ex_gd rfl rfl
theorem rX0_alters_25 (Q : Po) (h : Hp) (l0 l1 l2 : Value) (x : Int32) (st : List Value) : Ex mX0_alters Q 25 [l0, l1, l2, .int x] st h = Ex mX0_alters Q 26 [l0, l1, l2, .int x] (.int x :: st) h := Ex_nx rfl rfl
theorem rX0_alters_26 (Q : Po) (h : Hp) (ls : List Value) (st : List Value) : Ex mX0_alters Q 26 ls st h = Ex mX0_alters Q 27 ls (.int 1 :: st) h := Ex_nx rfl rfl
theorem rX0_alters_27 (Q : Po) (h : Hp) (ls : List Value) (st : List Value) (x y : Int32) : Ex mX0_alters Q 27 ls (.int y :: .int x :: st) h = Ex mX0_alters Q 28 ls (.int (x - y) :: st) h := Ex_nx rfl rfl
theorem rX0_alters_28 (Q : Po) (h : Hp) (ls : List Value) (st : List Value) (a : Nat) (i : Int32) : Ex mX0_alters Q 28 ls (.int i :: .ref a :: st) h = ((gK h a = 56 ∧ ¬ (i < 0 ∨ gL h a ≤ i.toNatClampNeg)) ∧ Ex mX0_alters Q 29 ls (va_rf (gR h a i.toNatClampNeg) :: st) h) := Ex_gd rfl rfl
theorem rX0_alters_29 (Q : Po) (h : Hp) (ls : List Value) (st : List Value) (x a : Nat) : Ex mX0_alters Q 29 ls (.ref x :: .ref a :: st) h = (gK h a ∈ ([2] : List Nat) ∧ Ex mX0_alters Q 32 ls st (pF h 63 a (.ref x))) := Ex_gd rfl rfl
theorem rX0_alters_29n (Q : Po) (h : Hp) (ls : List Value) (st : List Value) (a : Nat) : Ex mX0_alters Q 29 ls (.null :: .ref a :: st) h = (gK h a ∈ ([2] : List Nat) ∧ Ex mX0_alters Q 32 ls st (pF h 63 a .null)) := Ex_gd rfl rfl
theorem rX0_alters_32 (Q : Po) (h : Hp) (ls : List Value) (st : List Value) : Ex mX0_alters Q 32 ls st h = Ex mX0_alters Q 45 ls st h := Ex_nx rfl rfl
theorem rX0_alters_35 (Q : Po) (h : Hp) (l1 l2 l3 : Value) (x : Nat) (st : List Value) : Ex mX0_alters Q 35 [.ref x, l1, l2, l3] st h = Ex mX0_alters Q 36 [.ref x, l1, l2, l3] (.ref x :: st) h := Ex_nx rfl rfl
theorem rX0_alters_36 (Q : Po) (h : Hp) (ls : List Value) (st : List Value) (a : Nat) : Ex mX0_alters Q 36 ls (.ref a :: st) h = (gK h a ∈ ([1] : List Nat) ∧ Ex mX0_alters Q 39 ls (gF h 13 a :: st) h) := Ex_gd rfl rfl
theorem rX0_alters_39 (Q : Po) (h : Hp) (ls : List Value) (st : List Value) (a : Nat) : Ex mX0_alters Q 39 ls (.ref a :: st) h = (gK h a ∈ ([2] : List Nat) ∧ Ex mX0_alters Q 42 ls (gF h 53 a :: st) h) := Ex_gd rfl rfl
theorem rX0_alters_42 (Q : Po) (h : Hp) (l0 l2 l3 : Value) (x : Int32) (st : List Value) : Ex mX0_alters Q 42 [l0, .int x, l2, l3] st h = Ex mX0_alters Q 43 [l0, .int x, l2, l3] (.int x :: st) h := Ex_nx rfl rfl
theorem rX0_alters_43 (Q : Po) (h : Hp) (l0 l1 l2 : Value) (x : Int32) (st : List Value) : Ex mX0_alters Q 43 [l0, l1, l2, .int x] st h = Ex mX0_alters Q 44 [l0, l1, l2, .int x] (.int x :: st) h := Ex_nx rfl rfl
theorem rX0_alters_44 (Q : Po) (h : Hp) (ls : List Value) (st : List Value) (a : Nat) (i x : Int32) : Ex mX0_alters Q 44 ls (.int x :: .int i :: .ref a :: st) h = ((gK h a = 51 ∧ ¬ (i < 0 ∨ gL h a ≤ i.toNatClampNeg)) ∧ Ex mX0_alters Q 45 ls st (pI h a i.toNatClampNeg (x))) := Ex_gd rfl rfl
theorem rX0_alters_45 (Q : Po) (h : Hp) (ls : List Value) : Ex mX0_alters Q 45 ls [] h = Q (.inl none) h := Ex_rt rfl rfl
theorem rX0_alters_t (Q : Po) (h : Hp) (pc n a : Nat) (ls st : List Value) : Cont mX0_alters Q pc ls n st (.inr a) h = Q (.inr a) h := rfl
/-! FishReaders.isSeen(I[I)Z -/
def mX0_isSeen : Cd := ([(0, .inl (i_push (.int 1) 1)),
  (1, .inl (i_istore 3 2)),
  (2, .inl (i_push (.int 0) 3)),
  (3, .inl (i_istore 4 5)),
  (5, .inl (i_iload 4 7)),
  (7, .inl (i_aload 2 8)),
  (8, .inl (i_alen [51] 9)),
  (9, .inl (i_icmp (fun x y => y ≤ x) 45 12)),
  (12, .inl (i_iload 3 13)),
  (13, .inl (i_aload 0 14)),
  (14, .inl (i_getf 13 [1] 17)),
  (17, .inr (c_V 0 20 2 2 (Mt mX1_pass 2))),
  (20, .inl (i_getf 39 [2] 23)),
  (23, .inl (i_iload 1 24)),
  (24, .inl (i_iald 51 25)),
  (25, .inl (i_aload 2 26)),
  (26, .inl (i_iload 4 28)),
  (28, .inl (i_iald 51 29)),
  (29, .inl (i_icmp (fun x y => ¬ x = y) 36 32)),
  (32, .inl (i_push (.int 1) 33)),
  (33, .inl (i_goto 37)),
  (36, .inl (i_push (.int 0) 37)),
  (37, .inl (i_bin (fun x y => x &&& y) 38)),
  (38, .inl (i_istore 3 39)),
  (39, .inl (i_iinc 4 1 42)),
  (42, .inl (i_goto 5)),
  (45, .inl (i_iload 3 46)),
  (46, .inl i_zret)], noH)
theorem rX0_isSeen_0 (Q : Po) (h : Hp) (ls : List Value) (st : List Value) : Ex mX0_isSeen Q 0 ls st h = Ex mX0_isSeen Q 1 ls (.int 1 :: st) h := Ex_nx rfl rfl
theorem rX0_isSeen_1 (Q : Po) (h : Hp) (l0 l1 l2 l3 l4 : Value) (x : Int32) (st : List Value) : Ex mX0_isSeen Q 1 [l0, l1, l2, l3, l4] (.int x :: st) h = Ex mX0_isSeen Q 2 [l0, l1, l2, .int x, l4] st h := Ex_nx rfl rfl
theorem rX0_isSeen_2 (Q : Po) (h : Hp) (ls : List Value) (st : List Value) : Ex mX0_isSeen Q 2 ls st h = Ex mX0_isSeen Q 3 ls (.int 0 :: st) h := Ex_nx rfl rfl
theorem rX0_isSeen_3 (Q : Po) (h : Hp) (l0 l1 l2 l3 l4 : Value) (x : Int32) (st : List Value) : Ex mX0_isSeen Q 3 [l0, l1, l2, l3, l4] (.int x :: st) h = Ex mX0_isSeen Q 5 [l0, l1, l2, l3, .int x] st h := Ex_nx rfl rfl
theorem rX0_isSeen_5 (Q : Po) (h : Hp) (l0 l1 l2 l3 : Value) (x : Int32) (st : List Value) : Ex mX0_isSeen Q 5 [l0, l1, l2, l3, .int x] st h = Ex mX0_isSeen Q 7 [l0, l1, l2, l3, .int x] (.int x :: st) h := Ex_nx rfl rfl
theorem rX0_isSeen_7 (Q : Po) (h : Hp) (l0 l1 l3 l4 : Value) (x : Nat) (st : List Value) : Ex mX0_isSeen Q 7 [l0, l1, .ref x, l3, l4] st h = Ex mX0_isSeen Q 8 [l0, l1, .ref x, l3, l4] (.ref x :: st) h := Ex_nx rfl rfl
theorem rX0_isSeen_8 (Q : Po) (h : Hp) (ls : List Value) (st : List Value) (a : Nat) : Ex mX0_isSeen Q 8 ls (.ref a :: st) h = (gK h a ∈ ([51] : List Nat) ∧ Ex mX0_isSeen Q 9 ls (.int (nI (gL h a)) :: st) h) := Ex_gd rfl rfl
theorem rX0_isSeen_9 (Q : Po) (h : Hp) (ls : List Value) (st : List Value) (x y : Int32) : Ex mX0_isSeen Q 9 ls (.int y :: .int x :: st) h = if y ≤ x then Ex mX0_isSeen Q 45 ls st h else Ex mX0_isSeen Q 12 ls st h := Ex_br rfl rfl
theorem rX0_isSeen_12 (Q : Po) (h : Hp) (l0 l1 l2 l4 : Value) (x : Int32) (st : List Value) : Ex mX0_isSeen Q 12 [l0, l1, l2, .int x, l4] st h = Ex mX0_isSeen Q 13 [l0, l1, l2, .int x, l4] (.int x :: st) h := Ex_nx rfl rfl
theorem rX0_isSeen_13 (Q : Po) (h : Hp) (l1 l2 l3 l4 : Value) (x : Nat) (st : List Value) : Ex mX0_isSeen Q 13 [.ref x, l1, l2, l3, l4] st h = Ex mX0_isSeen Q 14 [.ref x, l1, l2, l3, l4] (.ref x :: st) h := Ex_nx rfl rfl
theorem rX0_isSeen_14 (Q : Po) (h : Hp) (ls : List Value) (st : List Value) (a : Nat) : Ex mX0_isSeen Q 14 ls (.ref a :: st) h = (gK h a ∈ ([1] : List Nat) ∧ Ex mX0_isSeen Q 17 ls (gF h 13 a :: st) h) := Ex_gd rfl rfl
theorem rX0_isSeen_17 (Q : Po) (h : Hp) (ls : List Value) (s0 : Value) (b : Nat) : Ex mX0_isSeen Q 17 ls (.ref b :: [s0]) h = (gK h b = 2 ∧ Ex mX1_pass (Cont mX0_isSeen Q 17 ls 20 [s0]) 0 [.ref b, .retAddr 0] [] h) := Ex_cg (n := 2) (as := [.ref b]) rfl rfl
theorem rX0_isSeen_20 (Q : Po) (h : Hp) (ls : List Value) (st : List Value) (a : Nat) : Ex mX0_isSeen Q 20 ls (.ref a :: st) h = (gK h a ∈ ([2] : List Nat) ∧ Ex mX0_isSeen Q 23 ls (gF h 39 a :: st) h) := Ex_gd rfl rfl
theorem rX0_isSeen_23 (Q : Po) (h : Hp) (l0 l2 l3 l4 : Value) (x : Int32) (st : List Value) : Ex mX0_isSeen Q 23 [l0, .int x, l2, l3, l4] st h = Ex mX0_isSeen Q 24 [l0, .int x, l2, l3, l4] (.int x :: st) h := Ex_nx rfl rfl
theorem rX0_isSeen_24 (Q : Po) (h : Hp) (ls : List Value) (st : List Value) (a : Nat) (i : Int32) : Ex mX0_isSeen Q 24 ls (.int i :: .ref a :: st) h = ((gK h a = 51 ∧ ¬ (i < 0 ∨ gL h a ≤ i.toNatClampNeg)) ∧ Ex mX0_isSeen Q 25 ls (.int (gI h a i.toNatClampNeg) :: st) h) := Ex_gd rfl rfl
theorem rX0_isSeen_25 (Q : Po) (h : Hp) (l0 l1 l3 l4 : Value) (x : Nat) (st : List Value) : Ex mX0_isSeen Q 25 [l0, l1, .ref x, l3, l4] st h = Ex mX0_isSeen Q 26 [l0, l1, .ref x, l3, l4] (.ref x :: st) h := Ex_nx rfl rfl
theorem rX0_isSeen_26 (Q : Po) (h : Hp) (l0 l1 l2 l3 : Value) (x : Int32) (st : List Value) : Ex mX0_isSeen Q 26 [l0, l1, l2, l3, .int x] st h = Ex mX0_isSeen Q 28 [l0, l1, l2, l3, .int x] (.int x :: st) h := Ex_nx rfl rfl
theorem rX0_isSeen_28 (Q : Po) (h : Hp) (ls : List Value) (st : List Value) (a : Nat) (i : Int32) : Ex mX0_isSeen Q 28 ls (.int i :: .ref a :: st) h = ((gK h a = 51 ∧ ¬ (i < 0 ∨ gL h a ≤ i.toNatClampNeg)) ∧ Ex mX0_isSeen Q 29 ls (.int (gI h a i.toNatClampNeg) :: st) h) := Ex_gd rfl rfl
theorem rX0_isSeen_29 (Q : Po) (h : Hp) (ls : List Value) (st : List Value) (x y : Int32) : Ex mX0_isSeen Q 29 ls (.int y :: .int x :: st) h = if ¬ x = y then Ex mX0_isSeen Q 36 ls st h else Ex mX0_isSeen Q 32 ls st h := Ex_br rfl rfl
theorem rX0_isSeen_32 (Q : Po) (h : Hp) (ls : List Value) (st : List Value) : Ex mX0_isSeen Q 32 ls st h = Ex mX0_isSeen Q 33 ls (.int 1 :: st) h := Ex_nx rfl rfl
theorem rX0_isSeen_33 (Q : Po) (h : Hp) (ls : List Value) (st : List Value) : Ex mX0_isSeen Q 33 ls st h = Ex mX0_isSeen Q 37 ls st h := Ex_nx rfl rfl
theorem rX0_isSeen_36 (Q : Po) (h : Hp) (ls : List Value) (st : List Value) : Ex mX0_isSeen Q 36 ls st h = Ex mX0_isSeen Q 37 ls (.int 0 :: st) h := Ex_nx rfl rfl
theorem rX0_isSeen_37 (Q : Po) (h : Hp) (ls : List Value) (st : List Value) (x y : Int32) : Ex mX0_isSeen Q 37 ls (.int y :: .int x :: st) h = Ex mX0_isSeen Q 38 ls (.int (x &&& y) :: st) h := Ex_nx rfl rfl
theorem rX0_isSeen_38 (Q : Po) (h : Hp) (l0 l1 l2 l3 l4 : Value) (x : Int32) (st : List Value) : Ex mX0_isSeen Q 38 [l0, l1, l2, l3, l4] (.int x :: st) h = Ex mX0_isSeen Q 39 [l0, l1, l2, .int x, l4] st h := Ex_nx rfl rfl
theorem rX0_isSeen_39 (Q : Po) (h : Hp) (l0 l1 l2 l3 : Value) (x : Int32) (st : List Value) : Ex mX0_isSeen Q 39 [l0, l1, l2, l3, .int x] st h = Ex mX0_isSeen Q 42 [l0, l1, l2, l3, .int (x + 1)] st h := Ex_nx rfl rfl
theorem rX0_isSeen_42 (Q : Po) (h : Hp) (ls : List Value) (st : List Value) : Ex mX0_isSeen Q 42 ls st h = Ex mX0_isSeen Q 5 ls st h := Ex_nx rfl rfl
theorem rX0_isSeen_45 (Q : Po) (h : Hp) (l0 l1 l2 l4 : Value) (x : Int32) (st : List Value) : Ex mX0_isSeen Q 45 [l0, l1, l2, .int x, l4] st h = Ex mX0_isSeen Q 46 [l0, l1, l2, .int x, l4] (.int x :: st) h := Ex_nx rfl rfl
theorem rX0_isSeen_46 (Q : Po) (h : Hp) (ls : List Value) (x : Int32) : Ex mX0_isSeen Q 46 ls [.int x] h = ((x = 0 ∨ x = 1) ∧ Q (.inl (some (.int x))) h) := Ex_rg rfl rfl
theorem rX0_isSeen_t (Q : Po) (h : Hp) (pc n a : Nat) (ls st : List Value) : Cont mX0_isSeen Q pc ls n st (.inr a) h = Q (.inr a) h := rfl
/-! FishReaders.who(IIIIII)I -/
def mX0_who : Cd := ([(0, .inl (i_aload 0 1)),
  (1, .inl (i_iload 1 2)),
  (2, .inr (c_V 1 5 2 1 (Mt mX0_isFish 2))),
  (5, .inl (i_if (fun x => x = 0) 39 8)),
  (8, .inl (i_iload 2 9)),
  (9, .inr (c_S 1 12 1 (Mt mX0_isHalf 1))),
  (12, .inl (i_if (fun x => x = 0) 39 15)),
  (15, .inl (i_aload 0 16)),
  (16, .inl (i_iload 3 17)),
  (17, .inr (c_V 1 20 2 1 (Mt mX0_isBook 2))),
  (20, .inl (i_if (fun x => x = 0) 39 23)),
  (23, .inl (i_iload 4 25)),
  (25, .inr (c_S 1 28 1 (Mt mX0_isRow 1))),
  (28, .inl (i_if (fun x => x = 0) 39 31)),
  (31, .inl (i_iload 6 33)),
  (33, .inr (c_S 1 36 1 (Mt mX0_isShort 1))),
  (36, .inl (i_if (fun x => ¬ x = 0) 42 39)),
  (39, .inl (i_push (.int (-1000001)) 41)),
  (41, .inl i_iret),
  (42, .inl (i_aload 0 43)),
  (43, .inl (i_getf 11 [1] 46)),
  (46, .inl (i_iload 1 47)),
  (47, .inr (c_V 1 50 2 2 (Mt mX1_isCaught 2))),
  (50, .inl (i_if (fun x => x = 0) 56 53)),
  (53, .inl (i_push (.int (-1000002)) 55)),
  (55, .inl i_iret),
  (56, .inl (i_aload 0 57)),
  (57, .inl (i_iload 4 59)),
  (59, .inr (c_V 1 62 2 1 (Mt mX0_rowAt 2))),
  (62, .inl (i_iload 5 64)),
  (64, .inl (i_iload 6 66)),
  (66, .inr (c_V 2 69 4 11 (Mt mX11_row 4))),
  (69, .inl (i_astore 7 71)),
  (71, .inl (i_push (.int 0) 72)),
  (72, .inl (i_istore 8 74)),
  (74, .inl (i_push (.int 1) 75)),
  (75, .inl (i_iload 2 76)),
  (76, .inl (i_bin (fun x y => x - y) 77)),
  (77, .inl (i_istore 9 79)),
  (79, .inl (i_iload 9 81)),
  (81, .inl (i_iload 2 82)),
  (82, .inl (i_if (fun x => ¬ x = 0) 93 85)),
  (85, .inl (i_aload 0 86)),
  (86, .inl (i_getf 31 [1] 89)),
  (89, .inl (i_alen [56] 90)),
  (90, .inl (i_goto 102)),
  (93, .inl (i_aload 0 94)),
  (94, .inl (i_getf 11 [1] 97)),
  (97, .inl (i_getf 36 [2] 100)),
  (100, .inl (i_push (.int 1) 101)),
  (101, .inl (i_bin (fun x y => x - y) 102)),
  (102, .inl (i_icmp (fun x y => y < x) 142 105)),
  (105, .inl (i_aload 0 106)),
  (106, .inl (i_iload 1 107)),
  (107, .inl (i_iload 2 108)),
  (108, .inl (i_iload 9 110)),
  (110, .inr (c_V 3 113 4 1 (Mt mX0_alters 4))),
  (113, .inl (i_iload 8 115)),
  (115, .inl (i_aload 0 116)),
  (116, .inl (i_iload 3 117)),
  (117, .inl (i_aload 7 119)),
  (119, .inr (c_V 2 122 5 1 (Mt mX0_isSeen 5))),
  (122, .inl (i_if (fun x => x = 0) 132 125)),
  (125, .inl (i_push (.int 1) 126)),
  (126, .inl (i_iload 9 128)),
  (128, .inl (i_bin (fun x y => x <<< (y &&& 31)) 129)),
  (129, .inl (i_goto 133)),
  (132, .inl (i_push (.int 0) 133)),
  (133, .inl (i_bin (fun x y => x ||| y) 134)),
  (134, .inl (i_istore 8 136)),
  (136, .inl (i_iinc 9 1 139)),
  (139, .inl (i_goto 79)),
  (142, .inl (i_aload 0 143)),
  (143, .inl (i_iload 8 145)),
  (145, .inr (c_V 1 148 2 1 (Mt mX0_well 2))),
  (148, .inl i_iret),
  (149, .inl (i_astore 7 151)),
  (151, .inl (i_aload 0 152)),
  (152, .inl (i_aload 7 154)),
  (154, .inr (c_V 1 157 2 1 (Mt mX0_found 2))),
  (157, .inl i_iret)], (hTab [(56, 148, 149, [10])]))
theorem rX0_who_0 (Q : Po) (h : Hp) (l1 l2 l3 l4 l5 l6 l7 l8 l9 : Value) (x : Nat) (st : List Value) : Ex mX0_who Q 0 [.ref x, l1, l2, l3, l4, l5, l6, l7, l8, l9] st h = Ex mX0_who Q 1 [.ref x, l1, l2, l3, l4, l5, l6, l7, l8, l9] (.ref x :: st) h := Ex_nx rfl rfl
theorem rX0_who_1 (Q : Po) (h : Hp) (l0 l2 l3 l4 l5 l6 l7 l8 l9 : Value) (x : Int32) (st : List Value) : Ex mX0_who Q 1 [l0, .int x, l2, l3, l4, l5, l6, l7, l8, l9] st h = Ex mX0_who Q 2 [l0, .int x, l2, l3, l4, l5, l6, l7, l8, l9] (.int x :: st) h := Ex_nx rfl rfl
theorem rX0_who_2 (Q : Po) (h : Hp) (ls : List Value) (a0 : Int32) (b : Nat) : Ex mX0_who Q 2 ls (.int a0 :: .ref b :: []) h = (gK h b = 1 ∧ Ex mX0_isFish (Cont mX0_who Q 2 ls 5 []) 0 [.ref b, .int a0] [] h) := Ex_cg (n := 2) (as := [.ref b, .int a0]) rfl rfl
theorem rX0_who_5 (Q : Po) (h : Hp) (ls : List Value) (st : List Value) (x : Int32) : Ex mX0_who Q 5 ls (.int x :: st) h = if x = 0 then Ex mX0_who Q 39 ls st h else Ex mX0_who Q 8 ls st h := Ex_br rfl rfl
theorem rX0_who_8 (Q : Po) (h : Hp) (l0 l1 l3 l4 l5 l6 l7 l8 l9 : Value) (x : Int32) (st : List Value) : Ex mX0_who Q 8 [l0, l1, .int x, l3, l4, l5, l6, l7, l8, l9] st h = Ex mX0_who Q 9 [l0, l1, .int x, l3, l4, l5, l6, l7, l8, l9] (.int x :: st) h := Ex_nx rfl rfl
theorem rX0_who_9 (Q : Po) (h : Hp) (ls : List Value) (a0 : Int32) : Ex mX0_who Q 9 ls (.int a0 :: []) h = Ex mX0_isHalf (Cont mX0_who Q 9 ls 12 []) 0 [.int a0] [] h := Ex_cl (n := 1) (as := [.int a0]) rfl rfl
theorem rX0_who_12 (Q : Po) (h : Hp) (ls : List Value) (st : List Value) (x : Int32) : Ex mX0_who Q 12 ls (.int x :: st) h = if x = 0 then Ex mX0_who Q 39 ls st h else Ex mX0_who Q 15 ls st h := Ex_br rfl rfl
theorem rX0_who_15 (Q : Po) (h : Hp) (l1 l2 l3 l4 l5 l6 l7 l8 l9 : Value) (x : Nat) (st : List Value) : Ex mX0_who Q 15 [.ref x, l1, l2, l3, l4, l5, l6, l7, l8, l9] st h = Ex mX0_who Q 16 [.ref x, l1, l2, l3, l4, l5, l6, l7, l8, l9] (.ref x :: st) h := Ex_nx rfl rfl
theorem rX0_who_16 (Q : Po) (h : Hp) (l0 l1 l2 l4 l5 l6 l7 l8 l9 : Value) (x : Int32) (st : List Value) : Ex mX0_who Q 16 [l0, l1, l2, .int x, l4, l5, l6, l7, l8, l9] st h = Ex mX0_who Q 17 [l0, l1, l2, .int x, l4, l5, l6, l7, l8, l9] (.int x :: st) h := Ex_nx rfl rfl
theorem rX0_who_17 (Q : Po) (h : Hp) (ls : List Value) (a0 : Int32) (b : Nat) : Ex mX0_who Q 17 ls (.int a0 :: .ref b :: []) h = (gK h b = 1 ∧ Ex mX0_isBook (Cont mX0_who Q 17 ls 20 []) 0 [.ref b, .int a0] [] h) := Ex_cg (n := 2) (as := [.ref b, .int a0]) rfl rfl
theorem rX0_who_20 (Q : Po) (h : Hp) (ls : List Value) (st : List Value) (x : Int32) : Ex mX0_who Q 20 ls (.int x :: st) h = if x = 0 then Ex mX0_who Q 39 ls st h else Ex mX0_who Q 23 ls st h := Ex_br rfl rfl
theorem rX0_who_23 (Q : Po) (h : Hp) (l0 l1 l2 l3 l5 l6 l7 l8 l9 : Value) (x : Int32) (st : List Value) : Ex mX0_who Q 23 [l0, l1, l2, l3, .int x, l5, l6, l7, l8, l9] st h = Ex mX0_who Q 25 [l0, l1, l2, l3, .int x, l5, l6, l7, l8, l9] (.int x :: st) h := Ex_nx rfl rfl
theorem rX0_who_25 (Q : Po) (h : Hp) (ls : List Value) (a0 : Int32) : Ex mX0_who Q 25 ls (.int a0 :: []) h = Ex mX0_isRow (Cont mX0_who Q 25 ls 28 []) 0 [.int a0] [] h := Ex_cl (n := 1) (as := [.int a0]) rfl rfl
theorem rX0_who_28 (Q : Po) (h : Hp) (ls : List Value) (st : List Value) (x : Int32) : Ex mX0_who Q 28 ls (.int x :: st) h = if x = 0 then Ex mX0_who Q 39 ls st h else Ex mX0_who Q 31 ls st h := Ex_br rfl rfl
theorem rX0_who_31 (Q : Po) (h : Hp) (l0 l1 l2 l3 l4 l5 l7 l8 l9 : Value) (x : Int32) (st : List Value) : Ex mX0_who Q 31 [l0, l1, l2, l3, l4, l5, .int x, l7, l8, l9] st h = Ex mX0_who Q 33 [l0, l1, l2, l3, l4, l5, .int x, l7, l8, l9] (.int x :: st) h := Ex_nx rfl rfl
theorem rX0_who_33 (Q : Po) (h : Hp) (ls : List Value) (a0 : Int32) : Ex mX0_who Q 33 ls (.int a0 :: []) h = Ex mX0_isShort (Cont mX0_who Q 33 ls 36 []) 0 [.int a0] [] h := Ex_cl (n := 1) (as := [.int a0]) rfl rfl
theorem rX0_who_36 (Q : Po) (h : Hp) (ls : List Value) (st : List Value) (x : Int32) : Ex mX0_who Q 36 ls (.int x :: st) h = if ¬ x = 0 then Ex mX0_who Q 42 ls st h else Ex mX0_who Q 39 ls st h := Ex_br rfl rfl
theorem rX0_who_39 (Q : Po) (h : Hp) (ls : List Value) (st : List Value) : Ex mX0_who Q 39 ls st h = Ex mX0_who Q 41 ls (.int (-1000001) :: st) h := Ex_nx rfl rfl
theorem rX0_who_41 (Q : Po) (h : Hp) (ls : List Value) (x : Int32) : Ex mX0_who Q 41 ls [.int x] h = Q (.inl (some (.int x))) h := Ex_rt rfl rfl
theorem rX0_who_42 (Q : Po) (h : Hp) (l1 l2 l3 l4 l5 l6 l7 l8 l9 : Value) (x : Nat) (st : List Value) : Ex mX0_who Q 42 [.ref x, l1, l2, l3, l4, l5, l6, l7, l8, l9] st h = Ex mX0_who Q 43 [.ref x, l1, l2, l3, l4, l5, l6, l7, l8, l9] (.ref x :: st) h := Ex_nx rfl rfl
theorem rX0_who_43 (Q : Po) (h : Hp) (ls : List Value) (st : List Value) (a : Nat) : Ex mX0_who Q 43 ls (.ref a :: st) h = (gK h a ∈ ([1] : List Nat) ∧ Ex mX0_who Q 46 ls (gF h 11 a :: st) h) := Ex_gd rfl rfl
theorem rX0_who_46 (Q : Po) (h : Hp) (l0 l2 l3 l4 l5 l6 l7 l8 l9 : Value) (x : Int32) (st : List Value) : Ex mX0_who Q 46 [l0, .int x, l2, l3, l4, l5, l6, l7, l8, l9] st h = Ex mX0_who Q 47 [l0, .int x, l2, l3, l4, l5, l6, l7, l8, l9] (.int x :: st) h := Ex_nx rfl rfl
theorem rX0_who_47 (Q : Po) (h : Hp) (ls : List Value) (a0 : Int32) (b : Nat) : Ex mX0_who Q 47 ls (.int a0 :: .ref b :: []) h = (gK h b = 2 ∧ Ex mX1_isCaught (Cont mX0_who Q 47 ls 50 []) 0 [.ref b, .int a0] [] h) := Ex_cg (n := 2) (as := [.ref b, .int a0]) rfl rfl
theorem rX0_who_50 (Q : Po) (h : Hp) (ls : List Value) (st : List Value) (x : Int32) : Ex mX0_who Q 50 ls (.int x :: st) h = if x = 0 then Ex mX0_who Q 56 ls st h else Ex mX0_who Q 53 ls st h := Ex_br rfl rfl
theorem rX0_who_53 (Q : Po) (h : Hp) (ls : List Value) (st : List Value) : Ex mX0_who Q 53 ls st h = Ex mX0_who Q 55 ls (.int (-1000002) :: st) h := Ex_nx rfl rfl
theorem rX0_who_55 (Q : Po) (h : Hp) (ls : List Value) (x : Int32) : Ex mX0_who Q 55 ls [.int x] h = Q (.inl (some (.int x))) h := Ex_rt rfl rfl
theorem rX0_who_56 (Q : Po) (h : Hp) (l1 l2 l3 l4 l5 l6 l7 l8 l9 : Value) (x : Nat) (st : List Value) : Ex mX0_who Q 56 [.ref x, l1, l2, l3, l4, l5, l6, l7, l8, l9] st h = Ex mX0_who Q 57 [.ref x, l1, l2, l3, l4, l5, l6, l7, l8, l9] (.ref x :: st) h := Ex_nx rfl rfl
theorem rX0_who_57 (Q : Po) (h : Hp) (l0 l1 l2 l3 l5 l6 l7 l8 l9 : Value) (x : Int32) (st : List Value) : Ex mX0_who Q 57 [l0, l1, l2, l3, .int x, l5, l6, l7, l8, l9] st h = Ex mX0_who Q 59 [l0, l1, l2, l3, .int x, l5, l6, l7, l8, l9] (.int x :: st) h := Ex_nx rfl rfl
theorem rX0_who_59 (Q : Po) (h : Hp) (ls : List Value) (a0 : Int32) (b : Nat) : Ex mX0_who Q 59 ls (.int a0 :: .ref b :: []) h = (gK h b = 1 ∧ Ex mX0_rowAt (Cont mX0_who Q 59 ls 62 []) 0 [.ref b, .int a0] [] h) := Ex_cg (n := 2) (as := [.ref b, .int a0]) rfl rfl
theorem rX0_who_62 (Q : Po) (h : Hp) (l0 l1 l2 l3 l4 l6 l7 l8 l9 : Value) (x : Int32) (st : List Value) : Ex mX0_who Q 62 [l0, l1, l2, l3, l4, .int x, l6, l7, l8, l9] st h = Ex mX0_who Q 64 [l0, l1, l2, l3, l4, .int x, l6, l7, l8, l9] (.int x :: st) h := Ex_nx rfl rfl
theorem rX0_who_64 (Q : Po) (h : Hp) (l0 l1 l2 l3 l4 l5 l7 l8 l9 : Value) (x : Int32) (st : List Value) : Ex mX0_who Q 64 [l0, l1, l2, l3, l4, l5, .int x, l7, l8, l9] st h = Ex mX0_who Q 66 [l0, l1, l2, l3, l4, l5, .int x, l7, l8, l9] (.int x :: st) h := Ex_nx rfl rfl
theorem rX0_who_66 (Q : Po) (h : Hp) (ls : List Value) (a0 : Int32) (a1 : Int32) (b : Nat) : Ex mX0_who Q 66 ls (.int a1 :: .int a0 :: .ref b :: []) h = (gK h b = 11 ∧ Ex mX11_row (Cont mX0_who Q 66 ls 69 []) 0 [.ref b, .int a0, .int a1, .retAddr 0] [] h) := Ex_cg (n := 4) (as := [.ref b, .int a0, .int a1]) rfl rfl
theorem rX0_who_69 (Q : Po) (h : Hp) (l0 l1 l2 l3 l4 l5 l6 l7 l8 l9 : Value) (x : Nat) (st : List Value) : Ex mX0_who Q 69 [l0, l1, l2, l3, l4, l5, l6, l7, l8, l9] (.ref x :: st) h = Ex mX0_who Q 71 [l0, l1, l2, l3, l4, l5, l6, .ref x, l8, l9] st h := Ex_nx rfl rfl
theorem rX0_who_71 (Q : Po) (h : Hp) (ls : List Value) (st : List Value) : Ex mX0_who Q 71 ls st h = Ex mX0_who Q 72 ls (.int 0 :: st) h := Ex_nx rfl rfl
theorem rX0_who_72 (Q : Po) (h : Hp) (l0 l1 l2 l3 l4 l5 l6 l7 l8 l9 : Value) (x : Int32) (st : List Value) : Ex mX0_who Q 72 [l0, l1, l2, l3, l4, l5, l6, l7, l8, l9] (.int x :: st) h = Ex mX0_who Q 74 [l0, l1, l2, l3, l4, l5, l6, l7, .int x, l9] st h := Ex_nx rfl rfl
theorem rX0_who_74 (Q : Po) (h : Hp) (ls : List Value) (st : List Value) : Ex mX0_who Q 74 ls st h = Ex mX0_who Q 75 ls (.int 1 :: st) h := Ex_nx rfl rfl
theorem rX0_who_75 (Q : Po) (h : Hp) (l0 l1 l3 l4 l5 l6 l7 l8 l9 : Value) (x : Int32) (st : List Value) : Ex mX0_who Q 75 [l0, l1, .int x, l3, l4, l5, l6, l7, l8, l9] st h = Ex mX0_who Q 76 [l0, l1, .int x, l3, l4, l5, l6, l7, l8, l9] (.int x :: st) h := Ex_nx rfl rfl
theorem rX0_who_76 (Q : Po) (h : Hp) (ls : List Value) (st : List Value) (x y : Int32) : Ex mX0_who Q 76 ls (.int y :: .int x :: st) h = Ex mX0_who Q 77 ls (.int (x - y) :: st) h := Ex_nx rfl rfl
theorem rX0_who_77 (Q : Po) (h : Hp) (l0 l1 l2 l3 l4 l5 l6 l7 l8 l9 : Value) (x : Int32) (st : List Value) : Ex mX0_who Q 77 [l0, l1, l2, l3, l4, l5, l6, l7, l8, l9] (.int x :: st) h = Ex mX0_who Q 79 [l0, l1, l2, l3, l4, l5, l6, l7, l8, .int x] st h := Ex_nx rfl rfl
theorem rX0_who_79 (Q : Po) (h : Hp) (l0 l1 l2 l3 l4 l5 l6 l7 l8 : Value) (x : Int32) (st : List Value) : Ex mX0_who Q 79 [l0, l1, l2, l3, l4, l5, l6, l7, l8, .int x] st h = Ex mX0_who Q 81 [l0, l1, l2, l3, l4, l5, l6, l7, l8, .int x] (.int x :: st) h := Ex_nx rfl rfl
theorem rX0_who_81 (Q : Po) (h : Hp) (l0 l1 l3 l4 l5 l6 l7 l8 l9 : Value) (x : Int32) (st : List Value) : Ex mX0_who Q 81 [l0, l1, .int x, l3, l4, l5, l6, l7, l8, l9] st h = Ex mX0_who Q 82 [l0, l1, .int x, l3, l4, l5, l6, l7, l8, l9] (.int x :: st) h := Ex_nx rfl rfl
theorem rX0_who_82 (Q : Po) (h : Hp) (ls : List Value) (st : List Value) (x : Int32) : Ex mX0_who Q 82 ls (.int x :: st) h = if ¬ x = 0 then Ex mX0_who Q 93 ls st h else Ex mX0_who Q 85 ls st h := Ex_br rfl rfl
theorem rX0_who_85 (Q : Po) (h : Hp) (l1 l2 l3 l4 l5 l6 l7 l8 l9 : Value) (x : Nat) (st : List Value) : Ex mX0_who Q 85 [.ref x, l1, l2, l3, l4, l5, l6, l7, l8, l9] st h = Ex mX0_who Q 86 [.ref x, l1, l2, l3, l4, l5, l6, l7, l8, l9] (.ref x :: st) h := Ex_nx rfl rfl
theorem rX0_who_86 (Q : Po) (h : Hp) (ls : List Value) (st : List Value) (a : Nat) : Ex mX0_who Q 86 ls (.ref a :: st) h = (gK h a ∈ ([1] : List Nat) ∧ Ex mX0_who Q 89 ls (gF h 31 a :: st) h) := Ex_gd rfl rfl
theorem rX0_who_89 (Q : Po) (h : Hp) (ls : List Value) (st : List Value) (a : Nat) : Ex mX0_who Q 89 ls (.ref a :: st) h = (gK h a ∈ ([56] : List Nat) ∧ Ex mX0_who Q 90 ls (.int (nI (gL h a)) :: st) h) := Ex_gd rfl rfl
theorem rX0_who_90 (Q : Po) (h : Hp) (ls : List Value) (st : List Value) : Ex mX0_who Q 90 ls st h = Ex mX0_who Q 102 ls st h := Ex_nx rfl rfl
theorem rX0_who_93 (Q : Po) (h : Hp) (l1 l2 l3 l4 l5 l6 l7 l8 l9 : Value) (x : Nat) (st : List Value) : Ex mX0_who Q 93 [.ref x, l1, l2, l3, l4, l5, l6, l7, l8, l9] st h = Ex mX0_who Q 94 [.ref x, l1, l2, l3, l4, l5, l6, l7, l8, l9] (.ref x :: st) h := Ex_nx rfl rfl
theorem rX0_who_94 (Q : Po) (h : Hp) (ls : List Value) (st : List Value) (a : Nat) : Ex mX0_who Q 94 ls (.ref a :: st) h = (gK h a ∈ ([1] : List Nat) ∧ Ex mX0_who Q 97 ls (gF h 11 a :: st) h) := Ex_gd rfl rfl
theorem rX0_who_97 (Q : Po) (h : Hp) (ls : List Value) (st : List Value) (a : Nat) : Ex mX0_who Q 97 ls (.ref a :: st) h = (gK h a ∈ ([2] : List Nat) ∧ Ex mX0_who Q 100 ls (gF h 36 a :: st) h) := Ex_gd rfl rfl
theorem rX0_who_100 (Q : Po) (h : Hp) (ls : List Value) (st : List Value) : Ex mX0_who Q 100 ls st h = Ex mX0_who Q 101 ls (.int 1 :: st) h := Ex_nx rfl rfl
theorem rX0_who_101 (Q : Po) (h : Hp) (ls : List Value) (st : List Value) (x y : Int32) : Ex mX0_who Q 101 ls (.int y :: .int x :: st) h = Ex mX0_who Q 102 ls (.int (x - y) :: st) h := Ex_nx rfl rfl
theorem rX0_who_102 (Q : Po) (h : Hp) (ls : List Value) (st : List Value) (x y : Int32) : Ex mX0_who Q 102 ls (.int y :: .int x :: st) h = if y < x then Ex mX0_who Q 142 ls st h else Ex mX0_who Q 105 ls st h := Ex_br rfl rfl
theorem rX0_who_105 (Q : Po) (h : Hp) (l1 l2 l3 l4 l5 l6 l7 l8 l9 : Value) (x : Nat) (st : List Value) : Ex mX0_who Q 105 [.ref x, l1, l2, l3, l4, l5, l6, l7, l8, l9] st h = Ex mX0_who Q 106 [.ref x, l1, l2, l3, l4, l5, l6, l7, l8, l9] (.ref x :: st) h := Ex_nx rfl rfl
theorem rX0_who_106 (Q : Po) (h : Hp) (l0 l2 l3 l4 l5 l6 l7 l8 l9 : Value) (x : Int32) (st : List Value) : Ex mX0_who Q 106 [l0, .int x, l2, l3, l4, l5, l6, l7, l8, l9] st h = Ex mX0_who Q 107 [l0, .int x, l2, l3, l4, l5, l6, l7, l8, l9] (.int x :: st) h := Ex_nx rfl rfl
theorem rX0_who_107 (Q : Po) (h : Hp) (l0 l1 l3 l4 l5 l6 l7 l8 l9 : Value) (x : Int32) (st : List Value) : Ex mX0_who Q 107 [l0, l1, .int x, l3, l4, l5, l6, l7, l8, l9] st h = Ex mX0_who Q 108 [l0, l1, .int x, l3, l4, l5, l6, l7, l8, l9] (.int x :: st) h := Ex_nx rfl rfl
theorem rX0_who_108 (Q : Po) (h : Hp) (l0 l1 l2 l3 l4 l5 l6 l7 l8 : Value) (x : Int32) (st : List Value) : Ex mX0_who Q 108 [l0, l1, l2, l3, l4, l5, l6, l7, l8, .int x] st h = Ex mX0_who Q 110 [l0, l1, l2, l3, l4, l5, l6, l7, l8, .int x] (.int x :: st) h := Ex_nx rfl rfl
theorem rX0_who_110 (Q : Po) (h : Hp) (ls : List Value) (a0 : Int32) (a1 : Int32) (a2 : Int32) (b : Nat) : Ex mX0_who Q 110 ls (.int a2 :: .int a1 :: .int a0 :: .ref b :: []) h = (gK h b = 1 ∧ Ex mX0_alters (Cont mX0_who Q 110 ls 113 []) 0 [.ref b, .int a0, .int a1, .int a2] [] h) := Ex_cg (n := 4) (as := [.ref b, .int a0, .int a1, .int a2]) rfl rfl
theorem rX0_who_113 (Q : Po) (h : Hp) (l0 l1 l2 l3 l4 l5 l6 l7 l9 : Value) (x : Int32) (st : List Value) : Ex mX0_who Q 113 [l0, l1, l2, l3, l4, l5, l6, l7, .int x, l9] st h = Ex mX0_who Q 115 [l0, l1, l2, l3, l4, l5, l6, l7, .int x, l9] (.int x :: st) h := Ex_nx rfl rfl
theorem rX0_who_115 (Q : Po) (h : Hp) (l1 l2 l3 l4 l5 l6 l7 l8 l9 : Value) (x : Nat) (st : List Value) : Ex mX0_who Q 115 [.ref x, l1, l2, l3, l4, l5, l6, l7, l8, l9] st h = Ex mX0_who Q 116 [.ref x, l1, l2, l3, l4, l5, l6, l7, l8, l9] (.ref x :: st) h := Ex_nx rfl rfl
theorem rX0_who_116 (Q : Po) (h : Hp) (l0 l1 l2 l4 l5 l6 l7 l8 l9 : Value) (x : Int32) (st : List Value) : Ex mX0_who Q 116 [l0, l1, l2, .int x, l4, l5, l6, l7, l8, l9] st h = Ex mX0_who Q 117 [l0, l1, l2, .int x, l4, l5, l6, l7, l8, l9] (.int x :: st) h := Ex_nx rfl rfl
theorem rX0_who_117 (Q : Po) (h : Hp) (l0 l1 l2 l3 l4 l5 l6 l8 l9 : Value) (x : Nat) (st : List Value) : Ex mX0_who Q 117 [l0, l1, l2, l3, l4, l5, l6, .ref x, l8, l9] st h = Ex mX0_who Q 119 [l0, l1, l2, l3, l4, l5, l6, .ref x, l8, l9] (.ref x :: st) h := Ex_nx rfl rfl
theorem rX0_who_119 (Q : Po) (h : Hp) (ls : List Value) (a0 : Int32) (a1 : Nat) (s0 : Value) (b : Nat) : Ex mX0_who Q 119 ls (.ref a1 :: .int a0 :: .ref b :: [s0]) h = (gK h b = 1 ∧ Ex mX0_isSeen (Cont mX0_who Q 119 ls 122 [s0]) 0 [.ref b, .int a0, .ref a1, .retAddr 0, .retAddr 0] [] h) := Ex_cg (n := 5) (as := [.ref b, .int a0, .ref a1]) rfl rfl
theorem rX0_who_122 (Q : Po) (h : Hp) (ls : List Value) (st : List Value) (x : Int32) : Ex mX0_who Q 122 ls (.int x :: st) h = if x = 0 then Ex mX0_who Q 132 ls st h else Ex mX0_who Q 125 ls st h := Ex_br rfl rfl
theorem rX0_who_125 (Q : Po) (h : Hp) (ls : List Value) (st : List Value) : Ex mX0_who Q 125 ls st h = Ex mX0_who Q 126 ls (.int 1 :: st) h := Ex_nx rfl rfl
theorem rX0_who_126 (Q : Po) (h : Hp) (l0 l1 l2 l3 l4 l5 l6 l7 l8 : Value) (x : Int32) (st : List Value) : Ex mX0_who Q 126 [l0, l1, l2, l3, l4, l5, l6, l7, l8, .int x] st h = Ex mX0_who Q 128 [l0, l1, l2, l3, l4, l5, l6, l7, l8, .int x] (.int x :: st) h := Ex_nx rfl rfl
theorem rX0_who_128 (Q : Po) (h : Hp) (ls : List Value) (st : List Value) (x y : Int32) : Ex mX0_who Q 128 ls (.int y :: .int x :: st) h = Ex mX0_who Q 129 ls (.int (x <<< (y &&& 31)) :: st) h := Ex_nx rfl rfl
theorem rX0_who_129 (Q : Po) (h : Hp) (ls : List Value) (st : List Value) : Ex mX0_who Q 129 ls st h = Ex mX0_who Q 133 ls st h := Ex_nx rfl rfl
theorem rX0_who_132 (Q : Po) (h : Hp) (ls : List Value) (st : List Value) : Ex mX0_who Q 132 ls st h = Ex mX0_who Q 133 ls (.int 0 :: st) h := Ex_nx rfl rfl
theorem rX0_who_133 (Q : Po) (h : Hp) (ls : List Value) (st : List Value) (x y : Int32) : Ex mX0_who Q 133 ls (.int y :: .int x :: st) h = Ex mX0_who Q 134 ls (.int (x ||| y) :: st) h := Ex_nx rfl rfl
theorem rX0_who_134 (Q : Po) (h : Hp) (l0 l1 l2 l3 l4 l5 l6 l7 l8 l9 : Value) (x : Int32) (st : List Value) : Ex mX0_who Q 134 [l0, l1, l2, l3, l4, l5, l6, l7, l8, l9] (.int x :: st) h = Ex mX0_who Q 136 [l0, l1, l2, l3, l4, l5, l6, l7, .int x, l9] st h := Ex_nx rfl rfl
theorem rX0_who_136 (Q : Po) (h : Hp) (l0 l1 l2 l3 l4 l5 l6 l7 l8 : Value) (x : Int32) (st : List Value) : Ex mX0_who Q 136 [l0, l1, l2, l3, l4, l5, l6, l7, l8, .int x] st h = Ex mX0_who Q 139 [l0, l1, l2, l3, l4, l5, l6, l7, l8, .int (x + 1)] st h := Ex_nx rfl rfl
theorem rX0_who_139 (Q : Po) (h : Hp) (ls : List Value) (st : List Value) : Ex mX0_who Q 139 ls st h = Ex mX0_who Q 79 ls st h := Ex_nx rfl rfl
theorem rX0_who_142 (Q : Po) (h : Hp) (l1 l2 l3 l4 l5 l6 l7 l8 l9 : Value) (x : Nat) (st : List Value) : Ex mX0_who Q 142 [.ref x, l1, l2, l3, l4, l5, l6, l7, l8, l9] st h = Ex mX0_who Q 143 [.ref x, l1, l2, l3, l4, l5, l6, l7, l8, l9] (.ref x :: st) h := Ex_nx rfl rfl
theorem rX0_who_143 (Q : Po) (h : Hp) (l0 l1 l2 l3 l4 l5 l6 l7 l9 : Value) (x : Int32) (st : List Value) : Ex mX0_who Q 143 [l0, l1, l2, l3, l4, l5, l6, l7, .int x, l9] st h = Ex mX0_who Q 145 [l0, l1, l2, l3, l4, l5, l6, l7, .int x, l9] (.int x :: st) h := Ex_nx rfl rfl
theorem rX0_who_145 (Q : Po) (h : Hp) (ls : List Value) (a0 : Int32) (b : Nat) : Ex mX0_who Q 145 ls (.int a0 :: .ref b :: []) h = (gK h b = 1 ∧ Ex mX0_well (Cont mX0_who Q 145 ls 148 []) 0 [.ref b, .int a0] [] h) := Ex_cg (n := 2) (as := [.ref b, .int a0]) rfl rfl
theorem rX0_who_148 (Q : Po) (h : Hp) (ls : List Value) (x : Int32) : Ex mX0_who Q 148 ls [.int x] h = Q (.inl (some (.int x))) h := Ex_rt rfl rfl
theorem rX0_who_149 (Q : Po) (h : Hp) (l0 l1 l2 l3 l4 l5 l6 l7 l8 l9 : Value) (x : Nat) (st : List Value) : Ex mX0_who Q 149 [l0, l1, l2, l3, l4, l5, l6, l7, l8, l9] (.ref x :: st) h = Ex mX0_who Q 151 [l0, l1, l2, l3, l4, l5, l6, .ref x, l8, l9] st h := Ex_nx rfl rfl
theorem rX0_who_151 (Q : Po) (h : Hp) (l1 l2 l3 l4 l5 l6 l7 l8 l9 : Value) (x : Nat) (st : List Value) : Ex mX0_who Q 151 [.ref x, l1, l2, l3, l4, l5, l6, l7, l8, l9] st h = Ex mX0_who Q 152 [.ref x, l1, l2, l3, l4, l5, l6, l7, l8, l9] (.ref x :: st) h := Ex_nx rfl rfl
theorem rX0_who_152 (Q : Po) (h : Hp) (l0 l1 l2 l3 l4 l5 l6 l8 l9 : Value) (x : Nat) (st : List Value) : Ex mX0_who Q 152 [l0, l1, l2, l3, l4, l5, l6, .ref x, l8, l9] st h = Ex mX0_who Q 154 [l0, l1, l2, l3, l4, l5, l6, .ref x, l8, l9] (.ref x :: st) h := Ex_nx rfl rfl
theorem rX0_who_154 (Q : Po) (h : Hp) (ls : List Value) (a0 : Nat) (b : Nat) : Ex mX0_who Q 154 ls (.ref a0 :: .ref b :: []) h = (gK h b = 1 ∧ Ex mX0_found (Cont mX0_who Q 154 ls 157 []) 0 [.ref b, .ref a0] [] h) := Ex_cg (n := 2) (as := [.ref b, .ref a0]) rfl rfl
theorem rX0_who_157 (Q : Po) (h : Hp) (ls : List Value) (x : Int32) : Ex mX0_who Q 157 ls [.int x] h = Q (.inl (some (.int x))) h := Ex_rt rfl rfl
/-! FishReaders.paste(IIIII)I -/
def mX0_paste : Cd := ([(0, .inl (i_aload 0 1)),
  (1, .inl (i_iload 1 2)),
  (2, .inr (c_V 1 5 2 1 (Mt mX0_isBook 2))),
  (5, .inl (i_if (fun x => x = 0) 31 8)),
  (8, .inl (i_aload 0 9)),
  (9, .inl (i_iload 2 10)),
  (10, .inr (c_V 1 13 2 1 (Mt mX0_isBook 2))),
  (13, .inl (i_if (fun x => x = 0) 31 16)),
  (16, .inl (i_iload 3 17)),
  (17, .inr (c_S 1 20 1 (Mt mX0_isRow 1))),
  (20, .inl (i_if (fun x => x = 0) 31 23)),
  (23, .inl (i_iload 5 25)),
  (25, .inr (c_S 1 28 1 (Mt mX0_isShort 1))),
  (28, .inl (i_if (fun x => ¬ x = 0) 34 31)),
  (31, .inl (i_push (.int (-1000001)) 33)),
  (33, .inl i_iret),
  (34, .inl (i_aload 0 35)),
  (35, .inl (i_iload 3 36)),
  (36, .inr (c_V 1 39 2 1 (Mt mX0_rowAt 2))),
  (39, .inl (i_iload 4 41)),
  (41, .inl (i_iload 5 43)),
  (43, .inr (c_V 2 46 4 11 (Mt mX11_row 4))),
  (46, .inl (i_astore 6 48)),
  (48, .inl (i_push (.int 0) 49)),
  (49, .inl (i_istore 7 51)),
  (51, .inl (i_push (.int 0) 52)),
  (52, .inl (i_istore 8 54)),
  (54, .inl (i_iload 8 56)),
  (56, .inl (i_push (.int 9) 58)),
  (58, .inl (i_icmp (fun x y => y < x) 101 61)),
  (61, .inl (i_aload 0 62)),
  (62, .inr (c_V 0 65 1 1 (Mt mX0_tried 1))),
  (65, .inl (i_getf 41 [2] 68)),
  (68, .inl (i_iload 1 69)),
  (69, .inl (i_iload 8 71)),
  (71, .inl (i_iast 51 (fun x => x) 72)),
  (72, .inl (i_iload 7 74)),
  (74, .inl (i_aload 0 75)),
  (75, .inl (i_iload 2 76)),
  (76, .inl (i_aload 6 78)),
  (78, .inr (c_V 2 81 5 1 (Mt mX0_isSeen 5))),
  (81, .inl (i_if (fun x => x = 0) 91 84)),
  (84, .inl (i_push (.int 1) 85)),
  (85, .inl (i_iload 8 87)),
  (87, .inl (i_bin (fun x y => x <<< (y &&& 31)) 88)),
  (88, .inl (i_goto 92)),
  (91, .inl (i_push (.int 0) 92)),
  (92, .inl (i_bin (fun x y => x ||| y) 93)),
  (93, .inl (i_istore 7 95)),
  (95, .inl (i_iinc 8 1 98)),
  (98, .inl (i_goto 54)),
  (101, .inl (i_aload 0 102)),
  (102, .inl (i_iload 7 104)),
  (104, .inr (c_V 1 107 2 1 (Mt mX0_well 2))),
  (107, .inl i_iret),
  (108, .inl (i_astore 6 110)),
  (110, .inl (i_aload 0 111)),
  (111, .inl (i_aload 6 113)),
  (113, .inr (c_V 1 116 2 1 (Mt mX0_found 2))),
  (116, .inl i_iret)], (hTab [(34, 107, 108, [10])]))
theorem rX0_paste_0 (Q : Po) (h : Hp) (l1 l2 l3 l4 l5 l6 l7 l8 : Value) (x : Nat) (st : List Value) : Ex mX0_paste Q 0 [.ref x, l1, l2, l3, l4, l5, l6, l7, l8] st h = Ex mX0_paste Q 1 [.ref x, l1, l2, l3, l4, l5, l6, l7, l8] (.ref x :: st) h := Ex_nx rfl rfl
theorem rX0_paste_1 (Q : Po) (h : Hp) (l0 l2 l3 l4 l5 l6 l7 l8 : Value) (x : Int32) (st : List Value) : Ex mX0_paste Q 1 [l0, .int x, l2, l3, l4, l5, l6, l7, l8] st h = Ex mX0_paste Q 2 [l0, .int x, l2, l3, l4, l5, l6, l7, l8] (.int x :: st) h := Ex_nx rfl rfl
theorem rX0_paste_2 (Q : Po) (h : Hp) (ls : List Value) (a0 : Int32) (b : Nat) : Ex mX0_paste Q 2 ls (.int a0 :: .ref b :: []) h = (gK h b = 1 ∧ Ex mX0_isBook (Cont mX0_paste Q 2 ls 5 []) 0 [.ref b, .int a0] [] h) := Ex_cg (n := 2) (as := [.ref b, .int a0]) rfl rfl
theorem rX0_paste_5 (Q : Po) (h : Hp) (ls : List Value) (st : List Value) (x : Int32) : Ex mX0_paste Q 5 ls (.int x :: st) h = if x = 0 then Ex mX0_paste Q 31 ls st h else Ex mX0_paste Q 8 ls st h := Ex_br rfl rfl
theorem rX0_paste_8 (Q : Po) (h : Hp) (l1 l2 l3 l4 l5 l6 l7 l8 : Value) (x : Nat) (st : List Value) : Ex mX0_paste Q 8 [.ref x, l1, l2, l3, l4, l5, l6, l7, l8] st h = Ex mX0_paste Q 9 [.ref x, l1, l2, l3, l4, l5, l6, l7, l8] (.ref x :: st) h := Ex_nx rfl rfl
theorem rX0_paste_9 (Q : Po) (h : Hp) (l0 l1 l3 l4 l5 l6 l7 l8 : Value) (x : Int32) (st : List Value) : Ex mX0_paste Q 9 [l0, l1, .int x, l3, l4, l5, l6, l7, l8] st h = Ex mX0_paste Q 10 [l0, l1, .int x, l3, l4, l5, l6, l7, l8] (.int x :: st) h := Ex_nx rfl rfl
theorem rX0_paste_10 (Q : Po) (h : Hp) (ls : List Value) (a0 : Int32) (b : Nat) : Ex mX0_paste Q 10 ls (.int a0 :: .ref b :: []) h = (gK h b = 1 ∧ Ex mX0_isBook (Cont mX0_paste Q 10 ls 13 []) 0 [.ref b, .int a0] [] h) := Ex_cg (n := 2) (as := [.ref b, .int a0]) rfl rfl
theorem rX0_paste_13 (Q : Po) (h : Hp) (ls : List Value) (st : List Value) (x : Int32) : Ex mX0_paste Q 13 ls (.int x :: st) h = if x = 0 then Ex mX0_paste Q 31 ls st h else Ex mX0_paste Q 16 ls st h := Ex_br rfl rfl
theorem rX0_paste_16 (Q : Po) (h : Hp) (l0 l1 l2 l4 l5 l6 l7 l8 : Value) (x : Int32) (st : List Value) : Ex mX0_paste Q 16 [l0, l1, l2, .int x, l4, l5, l6, l7, l8] st h = Ex mX0_paste Q 17 [l0, l1, l2, .int x, l4, l5, l6, l7, l8] (.int x :: st) h := Ex_nx rfl rfl
theorem rX0_paste_17 (Q : Po) (h : Hp) (ls : List Value) (a0 : Int32) : Ex mX0_paste Q 17 ls (.int a0 :: []) h = Ex mX0_isRow (Cont mX0_paste Q 17 ls 20 []) 0 [.int a0] [] h := Ex_cl (n := 1) (as := [.int a0]) rfl rfl
theorem rX0_paste_20 (Q : Po) (h : Hp) (ls : List Value) (st : List Value) (x : Int32) : Ex mX0_paste Q 20 ls (.int x :: st) h = if x = 0 then Ex mX0_paste Q 31 ls st h else Ex mX0_paste Q 23 ls st h := Ex_br rfl rfl
theorem rX0_paste_23 (Q : Po) (h : Hp) (l0 l1 l2 l3 l4 l6 l7 l8 : Value) (x : Int32) (st : List Value) : Ex mX0_paste Q 23 [l0, l1, l2, l3, l4, .int x, l6, l7, l8] st h = Ex mX0_paste Q 25 [l0, l1, l2, l3, l4, .int x, l6, l7, l8] (.int x :: st) h := Ex_nx rfl rfl
theorem rX0_paste_25 (Q : Po) (h : Hp) (ls : List Value) (a0 : Int32) : Ex mX0_paste Q 25 ls (.int a0 :: []) h = Ex mX0_isShort (Cont mX0_paste Q 25 ls 28 []) 0 [.int a0] [] h := Ex_cl (n := 1) (as := [.int a0]) rfl rfl
theorem rX0_paste_28 (Q : Po) (h : Hp) (ls : List Value) (st : List Value) (x : Int32) : Ex mX0_paste Q 28 ls (.int x :: st) h = if ¬ x = 0 then Ex mX0_paste Q 34 ls st h else Ex mX0_paste Q 31 ls st h := Ex_br rfl rfl
theorem rX0_paste_31 (Q : Po) (h : Hp) (ls : List Value) (st : List Value) : Ex mX0_paste Q 31 ls st h = Ex mX0_paste Q 33 ls (.int (-1000001) :: st) h := Ex_nx rfl rfl
theorem rX0_paste_33 (Q : Po) (h : Hp) (ls : List Value) (x : Int32) : Ex mX0_paste Q 33 ls [.int x] h = Q (.inl (some (.int x))) h := Ex_rt rfl rfl
theorem rX0_paste_34 (Q : Po) (h : Hp) (l1 l2 l3 l4 l5 l6 l7 l8 : Value) (x : Nat) (st : List Value) : Ex mX0_paste Q 34 [.ref x, l1, l2, l3, l4, l5, l6, l7, l8] st h = Ex mX0_paste Q 35 [.ref x, l1, l2, l3, l4, l5, l6, l7, l8] (.ref x :: st) h := Ex_nx rfl rfl
theorem rX0_paste_35 (Q : Po) (h : Hp) (l0 l1 l2 l4 l5 l6 l7 l8 : Value) (x : Int32) (st : List Value) : Ex mX0_paste Q 35 [l0, l1, l2, .int x, l4, l5, l6, l7, l8] st h = Ex mX0_paste Q 36 [l0, l1, l2, .int x, l4, l5, l6, l7, l8] (.int x :: st) h := Ex_nx rfl rfl
theorem rX0_paste_36 (Q : Po) (h : Hp) (ls : List Value) (a0 : Int32) (b : Nat) : Ex mX0_paste Q 36 ls (.int a0 :: .ref b :: []) h = (gK h b = 1 ∧ Ex mX0_rowAt (Cont mX0_paste Q 36 ls 39 []) 0 [.ref b, .int a0] [] h) := Ex_cg (n := 2) (as := [.ref b, .int a0]) rfl rfl
theorem rX0_paste_39 (Q : Po) (h : Hp) (l0 l1 l2 l3 l5 l6 l7 l8 : Value) (x : Int32) (st : List Value) : Ex mX0_paste Q 39 [l0, l1, l2, l3, .int x, l5, l6, l7, l8] st h = Ex mX0_paste Q 41 [l0, l1, l2, l3, .int x, l5, l6, l7, l8] (.int x :: st) h := Ex_nx rfl rfl
theorem rX0_paste_41 (Q : Po) (h : Hp) (l0 l1 l2 l3 l4 l6 l7 l8 : Value) (x : Int32) (st : List Value) : Ex mX0_paste Q 41 [l0, l1, l2, l3, l4, .int x, l6, l7, l8] st h = Ex mX0_paste Q 43 [l0, l1, l2, l3, l4, .int x, l6, l7, l8] (.int x :: st) h := Ex_nx rfl rfl
theorem rX0_paste_43 (Q : Po) (h : Hp) (ls : List Value) (a0 : Int32) (a1 : Int32) (b : Nat) : Ex mX0_paste Q 43 ls (.int a1 :: .int a0 :: .ref b :: []) h = (gK h b = 11 ∧ Ex mX11_row (Cont mX0_paste Q 43 ls 46 []) 0 [.ref b, .int a0, .int a1, .retAddr 0] [] h) := Ex_cg (n := 4) (as := [.ref b, .int a0, .int a1]) rfl rfl
theorem rX0_paste_46 (Q : Po) (h : Hp) (l0 l1 l2 l3 l4 l5 l6 l7 l8 : Value) (x : Nat) (st : List Value) : Ex mX0_paste Q 46 [l0, l1, l2, l3, l4, l5, l6, l7, l8] (.ref x :: st) h = Ex mX0_paste Q 48 [l0, l1, l2, l3, l4, l5, .ref x, l7, l8] st h := Ex_nx rfl rfl
theorem rX0_paste_48 (Q : Po) (h : Hp) (ls : List Value) (st : List Value) : Ex mX0_paste Q 48 ls st h = Ex mX0_paste Q 49 ls (.int 0 :: st) h := Ex_nx rfl rfl
theorem rX0_paste_49 (Q : Po) (h : Hp) (l0 l1 l2 l3 l4 l5 l6 l7 l8 : Value) (x : Int32) (st : List Value) : Ex mX0_paste Q 49 [l0, l1, l2, l3, l4, l5, l6, l7, l8] (.int x :: st) h = Ex mX0_paste Q 51 [l0, l1, l2, l3, l4, l5, l6, .int x, l8] st h := Ex_nx rfl rfl
theorem rX0_paste_51 (Q : Po) (h : Hp) (ls : List Value) (st : List Value) : Ex mX0_paste Q 51 ls st h = Ex mX0_paste Q 52 ls (.int 0 :: st) h := Ex_nx rfl rfl
theorem rX0_paste_52 (Q : Po) (h : Hp) (l0 l1 l2 l3 l4 l5 l6 l7 l8 : Value) (x : Int32) (st : List Value) : Ex mX0_paste Q 52 [l0, l1, l2, l3, l4, l5, l6, l7, l8] (.int x :: st) h = Ex mX0_paste Q 54 [l0, l1, l2, l3, l4, l5, l6, l7, .int x] st h := Ex_nx rfl rfl
theorem rX0_paste_54 (Q : Po) (h : Hp) (l0 l1 l2 l3 l4 l5 l6 l7 : Value) (x : Int32) (st : List Value) : Ex mX0_paste Q 54 [l0, l1, l2, l3, l4, l5, l6, l7, .int x] st h = Ex mX0_paste Q 56 [l0, l1, l2, l3, l4, l5, l6, l7, .int x] (.int x :: st) h := Ex_nx rfl rfl
theorem rX0_paste_56 (Q : Po) (h : Hp) (ls : List Value) (st : List Value) : Ex mX0_paste Q 56 ls st h = Ex mX0_paste Q 58 ls (.int 9 :: st) h := Ex_nx rfl rfl
theorem rX0_paste_58 (Q : Po) (h : Hp) (ls : List Value) (st : List Value) (x y : Int32) : Ex mX0_paste Q 58 ls (.int y :: .int x :: st) h = if y < x then Ex mX0_paste Q 101 ls st h else Ex mX0_paste Q 61 ls st h := Ex_br rfl rfl
theorem rX0_paste_61 (Q : Po) (h : Hp) (l1 l2 l3 l4 l5 l6 l7 l8 : Value) (x : Nat) (st : List Value) : Ex mX0_paste Q 61 [.ref x, l1, l2, l3, l4, l5, l6, l7, l8] st h = Ex mX0_paste Q 62 [.ref x, l1, l2, l3, l4, l5, l6, l7, l8] (.ref x :: st) h := Ex_nx rfl rfl
theorem rX0_paste_62 (Q : Po) (h : Hp) (ls : List Value) (b : Nat) : Ex mX0_paste Q 62 ls (.ref b :: []) h = (gK h b = 1 ∧ Ex mX0_tried (Cont mX0_paste Q 62 ls 65 []) 0 [.ref b] [] h) := Ex_cg (n := 1) (as := [.ref b]) rfl rfl
theorem rX0_paste_65 (Q : Po) (h : Hp) (ls : List Value) (st : List Value) (a : Nat) : Ex mX0_paste Q 65 ls (.ref a :: st) h = (gK h a ∈ ([2] : List Nat) ∧ Ex mX0_paste Q 68 ls (gF h 41 a :: st) h) := Ex_gd rfl rfl
theorem rX0_paste_68 (Q : Po) (h : Hp) (l0 l2 l3 l4 l5 l6 l7 l8 : Value) (x : Int32) (st : List Value) : Ex mX0_paste Q 68 [l0, .int x, l2, l3, l4, l5, l6, l7, l8] st h = Ex mX0_paste Q 69 [l0, .int x, l2, l3, l4, l5, l6, l7, l8] (.int x :: st) h := Ex_nx rfl rfl
theorem rX0_paste_69 (Q : Po) (h : Hp) (l0 l1 l2 l3 l4 l5 l6 l7 : Value) (x : Int32) (st : List Value) : Ex mX0_paste Q 69 [l0, l1, l2, l3, l4, l5, l6, l7, .int x] st h = Ex mX0_paste Q 71 [l0, l1, l2, l3, l4, l5, l6, l7, .int x] (.int x :: st) h := Ex_nx rfl rfl
theorem rX0_paste_71 (Q : Po) (h : Hp) (ls : List Value) (st : List Value) (a : Nat) (i x : Int32) : Ex mX0_paste Q 71 ls (.int x :: .int i :: .ref a :: st) h = ((gK h a = 51 ∧ ¬ (i < 0 ∨ gL h a ≤ i.toNatClampNeg)) ∧ Ex mX0_paste Q 72 ls st (pI h a i.toNatClampNeg (x))) := Ex_gd rfl rfl
theorem rX0_paste_72 (Q : Po) (h : Hp) (l0 l1 l2 l3 l4 l5 l6 l8 : Value) (x : Int32) (st : List Value) : Ex mX0_paste Q 72 [l0, l1, l2, l3, l4, l5, l6, .int x, l8] st h = Ex mX0_paste Q 74 [l0, l1, l2, l3, l4, l5, l6, .int x, l8] (.int x :: st) h := Ex_nx rfl rfl
theorem rX0_paste_74 (Q : Po) (h : Hp) (l1 l2 l3 l4 l5 l6 l7 l8 : Value) (x : Nat) (st : List Value) : Ex mX0_paste Q 74 [.ref x, l1, l2, l3, l4, l5, l6, l7, l8] st h = Ex mX0_paste Q 75 [.ref x, l1, l2, l3, l4, l5, l6, l7, l8] (.ref x :: st) h := Ex_nx rfl rfl
theorem rX0_paste_75 (Q : Po) (h : Hp) (l0 l1 l3 l4 l5 l6 l7 l8 : Value) (x : Int32) (st : List Value) : Ex mX0_paste Q 75 [l0, l1, .int x, l3, l4, l5, l6, l7, l8] st h = Ex mX0_paste Q 76 [l0, l1, .int x, l3, l4, l5, l6, l7, l8] (.int x :: st) h := Ex_nx rfl rfl
theorem rX0_paste_76 (Q : Po) (h : Hp) (l0 l1 l2 l3 l4 l5 l7 l8 : Value) (x : Nat) (st : List Value) : Ex mX0_paste Q 76 [l0, l1, l2, l3, l4, l5, .ref x, l7, l8] st h = Ex mX0_paste Q 78 [l0, l1, l2, l3, l4, l5, .ref x, l7, l8] (.ref x :: st) h := Ex_nx rfl rfl
theorem rX0_paste_78 (Q : Po) (h : Hp) (ls : List Value) (a0 : Int32) (a1 : Nat) (s0 : Value) (b : Nat) : Ex mX0_paste Q 78 ls (.ref a1 :: .int a0 :: .ref b :: [s0]) h = (gK h b = 1 ∧ Ex mX0_isSeen (Cont mX0_paste Q 78 ls 81 [s0]) 0 [.ref b, .int a0, .ref a1, .retAddr 0, .retAddr 0] [] h) := Ex_cg (n := 5) (as := [.ref b, .int a0, .ref a1]) rfl rfl
theorem rX0_paste_81 (Q : Po) (h : Hp) (ls : List Value) (st : List Value) (x : Int32) : Ex mX0_paste Q 81 ls (.int x :: st) h = if x = 0 then Ex mX0_paste Q 91 ls st h else Ex mX0_paste Q 84 ls st h := Ex_br rfl rfl
theorem rX0_paste_84 (Q : Po) (h : Hp) (ls : List Value) (st : List Value) : Ex mX0_paste Q 84 ls st h = Ex mX0_paste Q 85 ls (.int 1 :: st) h := Ex_nx rfl rfl
theorem rX0_paste_85 (Q : Po) (h : Hp) (l0 l1 l2 l3 l4 l5 l6 l7 : Value) (x : Int32) (st : List Value) : Ex mX0_paste Q 85 [l0, l1, l2, l3, l4, l5, l6, l7, .int x] st h = Ex mX0_paste Q 87 [l0, l1, l2, l3, l4, l5, l6, l7, .int x] (.int x :: st) h := Ex_nx rfl rfl
theorem rX0_paste_87 (Q : Po) (h : Hp) (ls : List Value) (st : List Value) (x y : Int32) : Ex mX0_paste Q 87 ls (.int y :: .int x :: st) h = Ex mX0_paste Q 88 ls (.int (x <<< (y &&& 31)) :: st) h := Ex_nx rfl rfl
theorem rX0_paste_88 (Q : Po) (h : Hp) (ls : List Value) (st : List Value) : Ex mX0_paste Q 88 ls st h = Ex mX0_paste Q 92 ls st h := Ex_nx rfl rfl
theorem rX0_paste_91 (Q : Po) (h : Hp) (ls : List Value) (st : List Value) : Ex mX0_paste Q 91 ls st h = Ex mX0_paste Q 92 ls (.int 0 :: st) h := Ex_nx rfl rfl
theorem rX0_paste_92 (Q : Po) (h : Hp) (ls : List Value) (st : List Value) (x y : Int32) : Ex mX0_paste Q 92 ls (.int y :: .int x :: st) h = Ex mX0_paste Q 93 ls (.int (x ||| y) :: st) h := Ex_nx rfl rfl
theorem rX0_paste_93 (Q : Po) (h : Hp) (l0 l1 l2 l3 l4 l5 l6 l7 l8 : Value) (x : Int32) (st : List Value) : Ex mX0_paste Q 93 [l0, l1, l2, l3, l4, l5, l6, l7, l8] (.int x :: st) h = Ex mX0_paste Q 95 [l0, l1, l2, l3, l4, l5, l6, .int x, l8] st h := Ex_nx rfl rfl
theorem rX0_paste_95 (Q : Po) (h : Hp) (l0 l1 l2 l3 l4 l5 l6 l7 : Value) (x : Int32) (st : List Value) : Ex mX0_paste Q 95 [l0, l1, l2, l3, l4, l5, l6, l7, .int x] st h = Ex mX0_paste Q 98 [l0, l1, l2, l3, l4, l5, l6, l7, .int (x + 1)] st h := Ex_nx rfl rfl
theorem rX0_paste_98 (Q : Po) (h : Hp) (ls : List Value) (st : List Value) : Ex mX0_paste Q 98 ls st h = Ex mX0_paste Q 54 ls st h := Ex_nx rfl rfl
theorem rX0_paste_101 (Q : Po) (h : Hp) (l1 l2 l3 l4 l5 l6 l7 l8 : Value) (x : Nat) (st : List Value) : Ex mX0_paste Q 101 [.ref x, l1, l2, l3, l4, l5, l6, l7, l8] st h = Ex mX0_paste Q 102 [.ref x, l1, l2, l3, l4, l5, l6, l7, l8] (.ref x :: st) h := Ex_nx rfl rfl
theorem rX0_paste_102 (Q : Po) (h : Hp) (l0 l1 l2 l3 l4 l5 l6 l8 : Value) (x : Int32) (st : List Value) : Ex mX0_paste Q 102 [l0, l1, l2, l3, l4, l5, l6, .int x, l8] st h = Ex mX0_paste Q 104 [l0, l1, l2, l3, l4, l5, l6, .int x, l8] (.int x :: st) h := Ex_nx rfl rfl
theorem rX0_paste_104 (Q : Po) (h : Hp) (ls : List Value) (a0 : Int32) (b : Nat) : Ex mX0_paste Q 104 ls (.int a0 :: .ref b :: []) h = (gK h b = 1 ∧ Ex mX0_well (Cont mX0_paste Q 104 ls 107 []) 0 [.ref b, .int a0] [] h) := Ex_cg (n := 2) (as := [.ref b, .int a0]) rfl rfl
theorem rX0_paste_107 (Q : Po) (h : Hp) (ls : List Value) (x : Int32) : Ex mX0_paste Q 107 ls [.int x] h = Q (.inl (some (.int x))) h := Ex_rt rfl rfl
theorem rX0_paste_108 (Q : Po) (h : Hp) (l0 l1 l2 l3 l4 l5 l6 l7 l8 : Value) (x : Nat) (st : List Value) : Ex mX0_paste Q 108 [l0, l1, l2, l3, l4, l5, l6, l7, l8] (.ref x :: st) h = Ex mX0_paste Q 110 [l0, l1, l2, l3, l4, l5, .ref x, l7, l8] st h := Ex_nx rfl rfl
theorem rX0_paste_110 (Q : Po) (h : Hp) (l1 l2 l3 l4 l5 l6 l7 l8 : Value) (x : Nat) (st : List Value) : Ex mX0_paste Q 110 [.ref x, l1, l2, l3, l4, l5, l6, l7, l8] st h = Ex mX0_paste Q 111 [.ref x, l1, l2, l3, l4, l5, l6, l7, l8] (.ref x :: st) h := Ex_nx rfl rfl
theorem rX0_paste_111 (Q : Po) (h : Hp) (l0 l1 l2 l3 l4 l5 l7 l8 : Value) (x : Nat) (st : List Value) : Ex mX0_paste Q 111 [l0, l1, l2, l3, l4, l5, .ref x, l7, l8] st h = Ex mX0_paste Q 113 [l0, l1, l2, l3, l4, l5, .ref x, l7, l8] (.ref x :: st) h := Ex_nx rfl rfl
theorem rX0_paste_113 (Q : Po) (h : Hp) (ls : List Value) (a0 : Nat) (b : Nat) : Ex mX0_paste Q 113 ls (.ref a0 :: .ref b :: []) h = (gK h b = 1 ∧ Ex mX0_found (Cont mX0_paste Q 113 ls 116 []) 0 [.ref b, .ref a0] [] h) := Ex_cg (n := 2) (as := [.ref b, .ref a0]) rfl rfl
theorem rX0_paste_116 (Q : Po) (h : Hp) (ls : List Value) (x : Int32) : Ex mX0_paste Q 116 ls [.int x] h = Q (.inl (some (.int x))) h := Ex_rt rfl rfl
/-! FishReaders.hungers(IIII)I -/
def mX0_hungers : Cd := ([(0, .inl (i_aload 0 1)),
  (1, .inl (i_iload 1 2)),
  (2, .inr (c_V 1 5 2 1 (Mt mX0_isBook 2))),
  (5, .inl (i_if (fun x => x = 0) 23 8)),
  (8, .inl (i_iload 2 9)),
  (9, .inr (c_S 1 12 1 (Mt mX0_isRow 1))),
  (12, .inl (i_if (fun x => x = 0) 23 15)),
  (15, .inl (i_iload 4 17)),
  (17, .inr (c_S 1 20 1 (Mt mX0_isShort 1))),
  (20, .inl (i_if (fun x => ¬ x = 0) 26 23)),
  (23, .inl (i_push (.int (-1000001)) 25)),
  (25, .inl i_iret),
  (26, .inl (i_aload 0 27)),
  (27, .inl (i_iload 2 28)),
  (28, .inr (c_V 1 31 2 1 (Mt mX0_rowAt 2))),
  (31, .inl (i_iload 3 32)),
  (32, .inl (i_iload 4 34)),
  (34, .inr (c_V 2 37 4 11 (Mt mX11_row 4))),
  (37, .inl (i_astore 5 39)),
  (39, .inl (i_push (.int 0) 40)),
  (40, .inl (i_istore 6 42)),
  (42, .inl (i_push (.int 1) 43)),
  (43, .inl (i_istore 7 45)),
  (45, .inl (i_iload 7 47)),
  (47, .inl (i_push (.int 9) 49)),
  (49, .inl (i_icmp (fun x y => y < x) 90 52)),
  (52, .inl (i_aload 0 53)),
  (53, .inr (c_V 0 56 1 1 (Mt mX0_tried 1))),
  (56, .inl (i_iload 7 58)),
  (58, .inl (i_putI 32 [2] 61)),
  (61, .inl (i_iload 6 63)),
  (63, .inl (i_aload 0 64)),
  (64, .inl (i_iload 1 65)),
  (65, .inl (i_aload 5 67)),
  (67, .inr (c_V 2 70 5 1 (Mt mX0_isSeen 5))),
  (70, .inl (i_if (fun x => x = 0) 80 73)),
  (73, .inl (i_push (.int 1) 74)),
  (74, .inl (i_iload 7 76)),
  (76, .inl (i_bin (fun x y => x <<< (y &&& 31)) 77)),
  (77, .inl (i_goto 81)),
  (80, .inl (i_push (.int 0) 81)),
  (81, .inl (i_bin (fun x y => x ||| y) 82)),
  (82, .inl (i_istore 6 84)),
  (84, .inl (i_iinc 7 1 87)),
  (87, .inl (i_goto 45)),
  (90, .inl (i_aload 0 91)),
  (91, .inl (i_iload 6 93)),
  (93, .inr (c_V 1 96 2 1 (Mt mX0_well 2))),
  (96, .inl i_iret),
  (97, .inl (i_astore 5 99)),
  (99, .inl (i_aload 0 100)),
  (100, .inl (i_aload 5 102)),
  (102, .inr (c_V 1 105 2 1 (Mt mX0_found 2))),
  (105, .inl i_iret)], (hTab [(26, 96, 97, [10])]))
theorem rX0_hungers_0 (Q : Po) (h : Hp) (l1 l2 l3 l4 l5 l6 l7 : Value) (x : Nat) (st : List Value) : Ex mX0_hungers Q 0 [.ref x, l1, l2, l3, l4, l5, l6, l7] st h = Ex mX0_hungers Q 1 [.ref x, l1, l2, l3, l4, l5, l6, l7] (.ref x :: st) h := Ex_nx rfl rfl
theorem rX0_hungers_1 (Q : Po) (h : Hp) (l0 l2 l3 l4 l5 l6 l7 : Value) (x : Int32) (st : List Value) : Ex mX0_hungers Q 1 [l0, .int x, l2, l3, l4, l5, l6, l7] st h = Ex mX0_hungers Q 2 [l0, .int x, l2, l3, l4, l5, l6, l7] (.int x :: st) h := Ex_nx rfl rfl
theorem rX0_hungers_2 (Q : Po) (h : Hp) (ls : List Value) (a0 : Int32) (b : Nat) : Ex mX0_hungers Q 2 ls (.int a0 :: .ref b :: []) h = (gK h b = 1 ∧ Ex mX0_isBook (Cont mX0_hungers Q 2 ls 5 []) 0 [.ref b, .int a0] [] h) := Ex_cg (n := 2) (as := [.ref b, .int a0]) rfl rfl
theorem rX0_hungers_5 (Q : Po) (h : Hp) (ls : List Value) (st : List Value) (x : Int32) : Ex mX0_hungers Q 5 ls (.int x :: st) h = if x = 0 then Ex mX0_hungers Q 23 ls st h else Ex mX0_hungers Q 8 ls st h := Ex_br rfl rfl
theorem rX0_hungers_8 (Q : Po) (h : Hp) (l0 l1 l3 l4 l5 l6 l7 : Value) (x : Int32) (st : List Value) : Ex mX0_hungers Q 8 [l0, l1, .int x, l3, l4, l5, l6, l7] st h = Ex mX0_hungers Q 9 [l0, l1, .int x, l3, l4, l5, l6, l7] (.int x :: st) h := Ex_nx rfl rfl
theorem rX0_hungers_9 (Q : Po) (h : Hp) (ls : List Value) (a0 : Int32) : Ex mX0_hungers Q 9 ls (.int a0 :: []) h = Ex mX0_isRow (Cont mX0_hungers Q 9 ls 12 []) 0 [.int a0] [] h := Ex_cl (n := 1) (as := [.int a0]) rfl rfl
theorem rX0_hungers_12 (Q : Po) (h : Hp) (ls : List Value) (st : List Value) (x : Int32) : Ex mX0_hungers Q 12 ls (.int x :: st) h = if x = 0 then Ex mX0_hungers Q 23 ls st h else Ex mX0_hungers Q 15 ls st h := Ex_br rfl rfl
theorem rX0_hungers_15 (Q : Po) (h : Hp) (l0 l1 l2 l3 l5 l6 l7 : Value) (x : Int32) (st : List Value) : Ex mX0_hungers Q 15 [l0, l1, l2, l3, .int x, l5, l6, l7] st h = Ex mX0_hungers Q 17 [l0, l1, l2, l3, .int x, l5, l6, l7] (.int x :: st) h := Ex_nx rfl rfl
theorem rX0_hungers_17 (Q : Po) (h : Hp) (ls : List Value) (a0 : Int32) : Ex mX0_hungers Q 17 ls (.int a0 :: []) h = Ex mX0_isShort (Cont mX0_hungers Q 17 ls 20 []) 0 [.int a0] [] h := Ex_cl (n := 1) (as := [.int a0]) rfl rfl
theorem rX0_hungers_20 (Q : Po) (h : Hp) (ls : List Value) (st : List Value) (x : Int32) : Ex mX0_hungers Q 20 ls (.int x :: st) h = if ¬ x = 0 then Ex mX0_hungers Q 26 ls st h else Ex mX0_hungers Q 23 ls st h := Ex_br rfl rfl
theorem rX0_hungers_23 (Q : Po) (h : Hp) (ls : List Value) (st : List Value) : Ex mX0_hungers Q 23 ls st h = Ex mX0_hungers Q 25 ls (.int (-1000001) :: st) h := Ex_nx rfl rfl
theorem rX0_hungers_25 (Q : Po) (h : Hp) (ls : List Value) (x : Int32) : Ex mX0_hungers Q 25 ls [.int x] h = Q (.inl (some (.int x))) h := Ex_rt rfl rfl
theorem rX0_hungers_26 (Q : Po) (h : Hp) (l1 l2 l3 l4 l5 l6 l7 : Value) (x : Nat) (st : List Value) : Ex mX0_hungers Q 26 [.ref x, l1, l2, l3, l4, l5, l6, l7] st h = Ex mX0_hungers Q 27 [.ref x, l1, l2, l3, l4, l5, l6, l7] (.ref x :: st) h := Ex_nx rfl rfl
theorem rX0_hungers_27 (Q : Po) (h : Hp) (l0 l1 l3 l4 l5 l6 l7 : Value) (x : Int32) (st : List Value) : Ex mX0_hungers Q 27 [l0, l1, .int x, l3, l4, l5, l6, l7] st h = Ex mX0_hungers Q 28 [l0, l1, .int x, l3, l4, l5, l6, l7] (.int x :: st) h := Ex_nx rfl rfl
theorem rX0_hungers_28 (Q : Po) (h : Hp) (ls : List Value) (a0 : Int32) (b : Nat) : Ex mX0_hungers Q 28 ls (.int a0 :: .ref b :: []) h = (gK h b = 1 ∧ Ex mX0_rowAt (Cont mX0_hungers Q 28 ls 31 []) 0 [.ref b, .int a0] [] h) := Ex_cg (n := 2) (as := [.ref b, .int a0]) rfl rfl
theorem rX0_hungers_31 (Q : Po) (h : Hp) (l0 l1 l2 l4 l5 l6 l7 : Value) (x : Int32) (st : List Value) : Ex mX0_hungers Q 31 [l0, l1, l2, .int x, l4, l5, l6, l7] st h = Ex mX0_hungers Q 32 [l0, l1, l2, .int x, l4, l5, l6, l7] (.int x :: st) h := Ex_nx rfl rfl
theorem rX0_hungers_32 (Q : Po) (h : Hp) (l0 l1 l2 l3 l5 l6 l7 : Value) (x : Int32) (st : List Value) : Ex mX0_hungers Q 32 [l0, l1, l2, l3, .int x, l5, l6, l7] st h = Ex mX0_hungers Q 34 [l0, l1, l2, l3, .int x, l5, l6, l7] (.int x :: st) h := Ex_nx rfl rfl
theorem rX0_hungers_34 (Q : Po) (h : Hp) (ls : List Value) (a0 : Int32) (a1 : Int32) (b : Nat) : Ex mX0_hungers Q 34 ls (.int a1 :: .int a0 :: .ref b :: []) h = (gK h b = 11 ∧ Ex mX11_row (Cont mX0_hungers Q 34 ls 37 []) 0 [.ref b, .int a0, .int a1, .retAddr 0] [] h) := Ex_cg (n := 4) (as := [.ref b, .int a0, .int a1]) rfl rfl
theorem rX0_hungers_37 (Q : Po) (h : Hp) (l0 l1 l2 l3 l4 l5 l6 l7 : Value) (x : Nat) (st : List Value) : Ex mX0_hungers Q 37 [l0, l1, l2, l3, l4, l5, l6, l7] (.ref x :: st) h = Ex mX0_hungers Q 39 [l0, l1, l2, l3, l4, .ref x, l6, l7] st h := Ex_nx rfl rfl
theorem rX0_hungers_39 (Q : Po) (h : Hp) (ls : List Value) (st : List Value) : Ex mX0_hungers Q 39 ls st h = Ex mX0_hungers Q 40 ls (.int 0 :: st) h := Ex_nx rfl rfl
theorem rX0_hungers_40 (Q : Po) (h : Hp) (l0 l1 l2 l3 l4 l5 l6 l7 : Value) (x : Int32) (st : List Value) : Ex mX0_hungers Q 40 [l0, l1, l2, l3, l4, l5, l6, l7] (.int x :: st) h = Ex mX0_hungers Q 42 [l0, l1, l2, l3, l4, l5, .int x, l7] st h := Ex_nx rfl rfl
theorem rX0_hungers_42 (Q : Po) (h : Hp) (ls : List Value) (st : List Value) : Ex mX0_hungers Q 42 ls st h = Ex mX0_hungers Q 43 ls (.int 1 :: st) h := Ex_nx rfl rfl
theorem rX0_hungers_43 (Q : Po) (h : Hp) (l0 l1 l2 l3 l4 l5 l6 l7 : Value) (x : Int32) (st : List Value) : Ex mX0_hungers Q 43 [l0, l1, l2, l3, l4, l5, l6, l7] (.int x :: st) h = Ex mX0_hungers Q 45 [l0, l1, l2, l3, l4, l5, l6, .int x] st h := Ex_nx rfl rfl
theorem rX0_hungers_45 (Q : Po) (h : Hp) (l0 l1 l2 l3 l4 l5 l6 : Value) (x : Int32) (st : List Value) : Ex mX0_hungers Q 45 [l0, l1, l2, l3, l4, l5, l6, .int x] st h = Ex mX0_hungers Q 47 [l0, l1, l2, l3, l4, l5, l6, .int x] (.int x :: st) h := Ex_nx rfl rfl
theorem rX0_hungers_47 (Q : Po) (h : Hp) (ls : List Value) (st : List Value) : Ex mX0_hungers Q 47 ls st h = Ex mX0_hungers Q 49 ls (.int 9 :: st) h := Ex_nx rfl rfl
theorem rX0_hungers_49 (Q : Po) (h : Hp) (ls : List Value) (st : List Value) (x y : Int32) : Ex mX0_hungers Q 49 ls (.int y :: .int x :: st) h = if y < x then Ex mX0_hungers Q 90 ls st h else Ex mX0_hungers Q 52 ls st h := Ex_br rfl rfl
theorem rX0_hungers_52 (Q : Po) (h : Hp) (l1 l2 l3 l4 l5 l6 l7 : Value) (x : Nat) (st : List Value) : Ex mX0_hungers Q 52 [.ref x, l1, l2, l3, l4, l5, l6, l7] st h = Ex mX0_hungers Q 53 [.ref x, l1, l2, l3, l4, l5, l6, l7] (.ref x :: st) h := Ex_nx rfl rfl
theorem rX0_hungers_53 (Q : Po) (h : Hp) (ls : List Value) (b : Nat) : Ex mX0_hungers Q 53 ls (.ref b :: []) h = (gK h b = 1 ∧ Ex mX0_tried (Cont mX0_hungers Q 53 ls 56 []) 0 [.ref b] [] h) := Ex_cg (n := 1) (as := [.ref b]) rfl rfl
theorem rX0_hungers_56 (Q : Po) (h : Hp) (l0 l1 l2 l3 l4 l5 l6 : Value) (x : Int32) (st : List Value) : Ex mX0_hungers Q 56 [l0, l1, l2, l3, l4, l5, l6, .int x] st h = Ex mX0_hungers Q 58 [l0, l1, l2, l3, l4, l5, l6, .int x] (.int x :: st) h := Ex_nx rfl rfl
theorem rX0_hungers_58 (Q : Po) (h : Hp) (ls : List Value) (st : List Value) (x : Int32) (a : Nat) : Ex mX0_hungers Q 58 ls (.int x :: .ref a :: st) h = (gK h a ∈ ([2] : List Nat) ∧ Ex mX0_hungers Q 61 ls st (pF h 32 a (.int x))) := Ex_gd rfl rfl
theorem rX0_hungers_61 (Q : Po) (h : Hp) (l0 l1 l2 l3 l4 l5 l7 : Value) (x : Int32) (st : List Value) : Ex mX0_hungers Q 61 [l0, l1, l2, l3, l4, l5, .int x, l7] st h = Ex mX0_hungers Q 63 [l0, l1, l2, l3, l4, l5, .int x, l7] (.int x :: st) h := Ex_nx rfl rfl
theorem rX0_hungers_63 (Q : Po) (h : Hp) (l1 l2 l3 l4 l5 l6 l7 : Value) (x : Nat) (st : List Value) : Ex mX0_hungers Q 63 [.ref x, l1, l2, l3, l4, l5, l6, l7] st h = Ex mX0_hungers Q 64 [.ref x, l1, l2, l3, l4, l5, l6, l7] (.ref x :: st) h := Ex_nx rfl rfl
theorem rX0_hungers_64 (Q : Po) (h : Hp) (l0 l2 l3 l4 l5 l6 l7 : Value) (x : Int32) (st : List Value) : Ex mX0_hungers Q 64 [l0, .int x, l2, l3, l4, l5, l6, l7] st h = Ex mX0_hungers Q 65 [l0, .int x, l2, l3, l4, l5, l6, l7] (.int x :: st) h := Ex_nx rfl rfl
theorem rX0_hungers_65 (Q : Po) (h : Hp) (l0 l1 l2 l3 l4 l6 l7 : Value) (x : Nat) (st : List Value) : Ex mX0_hungers Q 65 [l0, l1, l2, l3, l4, .ref x, l6, l7] st h = Ex mX0_hungers Q 67 [l0, l1, l2, l3, l4, .ref x, l6, l7] (.ref x :: st) h := Ex_nx rfl rfl
theorem rX0_hungers_67 (Q : Po) (h : Hp) (ls : List Value) (a0 : Int32) (a1 : Nat) (s0 : Value) (b : Nat) : Ex mX0_hungers Q 67 ls (.ref a1 :: .int a0 :: .ref b :: [s0]) h = (gK h b = 1 ∧ Ex mX0_isSeen (Cont mX0_hungers Q 67 ls 70 [s0]) 0 [.ref b, .int a0, .ref a1, .retAddr 0, .retAddr 0] [] h) := Ex_cg (n := 5) (as := [.ref b, .int a0, .ref a1]) rfl rfl
theorem rX0_hungers_70 (Q : Po) (h : Hp) (ls : List Value) (st : List Value) (x : Int32) : Ex mX0_hungers Q 70 ls (.int x :: st) h = if x = 0 then Ex mX0_hungers Q 80 ls st h else Ex mX0_hungers Q 73 ls st h := Ex_br rfl rfl
theorem rX0_hungers_73 (Q : Po) (h : Hp) (ls : List Value) (st : List Value) : Ex mX0_hungers Q 73 ls st h = Ex mX0_hungers Q 74 ls (.int 1 :: st) h := Ex_nx rfl rfl
theorem rX0_hungers_74 (Q : Po) (h : Hp) (l0 l1 l2 l3 l4 l5 l6 : Value) (x : Int32) (st : List Value) : Ex mX0_hungers Q 74 [l0, l1, l2, l3, l4, l5, l6, .int x] st h = Ex mX0_hungers Q 76 [l0, l1, l2, l3, l4, l5, l6, .int x] (.int x :: st) h := Ex_nx rfl rfl
theorem rX0_hungers_76 (Q : Po) (h : Hp) (ls : List Value) (st : List Value) (x y : Int32) : Ex mX0_hungers Q 76 ls (.int y :: .int x :: st) h = Ex mX0_hungers Q 77 ls (.int (x <<< (y &&& 31)) :: st) h := Ex_nx rfl rfl
theorem rX0_hungers_77 (Q : Po) (h : Hp) (ls : List Value) (st : List Value) : Ex mX0_hungers Q 77 ls st h = Ex mX0_hungers Q 81 ls st h := Ex_nx rfl rfl
theorem rX0_hungers_80 (Q : Po) (h : Hp) (ls : List Value) (st : List Value) : Ex mX0_hungers Q 80 ls st h = Ex mX0_hungers Q 81 ls (.int 0 :: st) h := Ex_nx rfl rfl
theorem rX0_hungers_81 (Q : Po) (h : Hp) (ls : List Value) (st : List Value) (x y : Int32) : Ex mX0_hungers Q 81 ls (.int y :: .int x :: st) h = Ex mX0_hungers Q 82 ls (.int (x ||| y) :: st) h := Ex_nx rfl rfl
theorem rX0_hungers_82 (Q : Po) (h : Hp) (l0 l1 l2 l3 l4 l5 l6 l7 : Value) (x : Int32) (st : List Value) : Ex mX0_hungers Q 82 [l0, l1, l2, l3, l4, l5, l6, l7] (.int x :: st) h = Ex mX0_hungers Q 84 [l0, l1, l2, l3, l4, l5, .int x, l7] st h := Ex_nx rfl rfl
theorem rX0_hungers_84 (Q : Po) (h : Hp) (l0 l1 l2 l3 l4 l5 l6 : Value) (x : Int32) (st : List Value) : Ex mX0_hungers Q 84 [l0, l1, l2, l3, l4, l5, l6, .int x] st h = Ex mX0_hungers Q 87 [l0, l1, l2, l3, l4, l5, l6, .int (x + 1)] st h := Ex_nx rfl rfl
theorem rX0_hungers_87 (Q : Po) (h : Hp) (ls : List Value) (st : List Value) : Ex mX0_hungers Q 87 ls st h = Ex mX0_hungers Q 45 ls st h := Ex_nx rfl rfl
theorem rX0_hungers_90 (Q : Po) (h : Hp) (l1 l2 l3 l4 l5 l6 l7 : Value) (x : Nat) (st : List Value) : Ex mX0_hungers Q 90 [.ref x, l1, l2, l3, l4, l5, l6, l7] st h = Ex mX0_hungers Q 91 [.ref x, l1, l2, l3, l4, l5, l6, l7] (.ref x :: st) h := Ex_nx rfl rfl
theorem rX0_hungers_91 (Q : Po) (h : Hp) (l0 l1 l2 l3 l4 l5 l7 : Value) (x : Int32) (st : List Value) : Ex mX0_hungers Q 91 [l0, l1, l2, l3, l4, l5, .int x, l7] st h = Ex mX0_hungers Q 93 [l0, l1, l2, l3, l4, l5, .int x, l7] (.int x :: st) h := Ex_nx rfl rfl
theorem rX0_hungers_93 (Q : Po) (h : Hp) (ls : List Value) (a0 : Int32) (b : Nat) : Ex mX0_hungers Q 93 ls (.int a0 :: .ref b :: []) h = (gK h b = 1 ∧ Ex mX0_well (Cont mX0_hungers Q 93 ls 96 []) 0 [.ref b, .int a0] [] h) := Ex_cg (n := 2) (as := [.ref b, .int a0]) rfl rfl
theorem rX0_hungers_96 (Q : Po) (h : Hp) (ls : List Value) (x : Int32) : Ex mX0_hungers Q 96 ls [.int x] h = Q (.inl (some (.int x))) h := Ex_rt rfl rfl
theorem rX0_hungers_97 (Q : Po) (h : Hp) (l0 l1 l2 l3 l4 l5 l6 l7 : Value) (x : Nat) (st : List Value) : Ex mX0_hungers Q 97 [l0, l1, l2, l3, l4, l5, l6, l7] (.ref x :: st) h = Ex mX0_hungers Q 99 [l0, l1, l2, l3, l4, .ref x, l6, l7] st h := Ex_nx rfl rfl
theorem rX0_hungers_99 (Q : Po) (h : Hp) (l1 l2 l3 l4 l5 l6 l7 : Value) (x : Nat) (st : List Value) : Ex mX0_hungers Q 99 [.ref x, l1, l2, l3, l4, l5, l6, l7] st h = Ex mX0_hungers Q 100 [.ref x, l1, l2, l3, l4, l5, l6, l7] (.ref x :: st) h := Ex_nx rfl rfl
theorem rX0_hungers_100 (Q : Po) (h : Hp) (l0 l1 l2 l3 l4 l6 l7 : Value) (x : Nat) (st : List Value) : Ex mX0_hungers Q 100 [l0, l1, l2, l3, l4, .ref x, l6, l7] st h = Ex mX0_hungers Q 102 [l0, l1, l2, l3, l4, .ref x, l6, l7] (.ref x :: st) h := Ex_nx rfl rfl
theorem rX0_hungers_102 (Q : Po) (h : Hp) (ls : List Value) (a0 : Nat) (b : Nat) : Ex mX0_hungers Q 102 ls (.ref a0 :: .ref b :: []) h = (gK h b = 1 ∧ Ex mX0_found (Cont mX0_hungers Q 102 ls 105 []) 0 [.ref b, .ref a0] [] h) := Ex_cg (n := 2) (as := [.ref b, .ref a0]) rfl rfl
theorem rX0_hungers_105 (Q : Po) (h : Hp) (ls : List Value) (x : Int32) : Ex mX0_hungers Q 105 ls [.int x] h = Q (.inl (some (.int x))) h := Ex_rt rfl rfl
/-! FishReaders.common(JJ)J -/
def mX0_common : Cd := ([(0, .inl (i_lload 0 1)),
  (1, .inl (i_lstore 4 3)),
  (3, .inl (i_lload 2 4)),
  (4, .inl (i_lstore 6 6)),
  (6, .inl (i_lload 6 8)),
  (8, .inl (i_push (.long 0) 9)),
  (9, .inl (i_lcmp 10)),
  (10, .inl (i_if (fun x => x = 0) 31 13)),
  (13, .inl (i_lload 4 15)),
  (15, .inl (i_lload 6 17)),
  (17, .inl (i_lbing (fun x y => x - x / y * y) 18)),
  (18, .inl (i_lstore 8 20)),
  (20, .inl (i_lload 6 22)),
  (22, .inl (i_lstore 4 24)),
  (24, .inl (i_lload 8 26)),
  (26, .inl (i_lstore 6 28)),
  (28, .inl (i_goto 6)),
  (31, .inl (i_lload 4 33)),
  (33, .inl i_lret)], noH)
theorem rX0_common_0 (Q : Po) (h : Hp) (l2 l3 l4 l5 l6 l7 l8 l9 : Value) (x : Int64) (st : List Value) : Ex mX0_common Q 0 [.long x, .retAddr 1, l2, l3, l4, l5, l6, l7, l8, l9] st h = Ex mX0_common Q 1 [.long x, .retAddr 1, l2, l3, l4, l5, l6, l7, l8, l9] (.long x :: st) h := Ex_nx rfl rfl
theorem rX0_common_1 (Q : Po) (h : Hp) (l0 l1 l2 l3 l4 l5 l6 l7 l8 l9 : Value) (x : Int64) (st : List Value) : Ex mX0_common Q 1 [l0, l1, l2, l3, l4, l5, l6, l7, l8, l9] (.long x :: st) h = Ex mX0_common Q 3 [l0, l1, l2, l3, .long x, .retAddr 1, l6, l7, l8, l9] st h := Ex_nx rfl rfl
theorem rX0_common_3 (Q : Po) (h : Hp) (l0 l1 l4 l5 l6 l7 l8 l9 : Value) (x : Int64) (st : List Value) : Ex mX0_common Q 3 [l0, l1, .long x, .retAddr 1, l4, l5, l6, l7, l8, l9] st h = Ex mX0_common Q 4 [l0, l1, .long x, .retAddr 1, l4, l5, l6, l7, l8, l9] (.long x :: st) h := Ex_nx rfl rfl
theorem rX0_common_4 (Q : Po) (h : Hp) (l0 l1 l2 l3 l4 l5 l6 l7 l8 l9 : Value) (x : Int64) (st : List Value) : Ex mX0_common Q 4 [l0, l1, l2, l3, l4, l5, l6, l7, l8, l9] (.long x :: st) h = Ex mX0_common Q 6 [l0, l1, l2, l3, l4, l5, .long x, .retAddr 1, l8, l9] st h := Ex_nx rfl rfl
theorem rX0_common_6 (Q : Po) (h : Hp) (l0 l1 l2 l3 l4 l5 l8 l9 : Value) (x : Int64) (st : List Value) : Ex mX0_common Q 6 [l0, l1, l2, l3, l4, l5, .long x, .retAddr 1, l8, l9] st h = Ex mX0_common Q 8 [l0, l1, l2, l3, l4, l5, .long x, .retAddr 1, l8, l9] (.long x :: st) h := Ex_nx rfl rfl
theorem rX0_common_8 (Q : Po) (h : Hp) (ls : List Value) (st : List Value) : Ex mX0_common Q 8 ls st h = Ex mX0_common Q 9 ls (.long 0 :: st) h := Ex_nx rfl rfl
theorem rX0_common_9 (Q : Po) (h : Hp) (ls : List Value) (st : List Value) (x y : Int64) : Ex mX0_common Q 9 ls (.long y :: .long x :: st) h = Ex mX0_common Q 10 ls (.int (lg_cmp x y) :: st) h := Ex_nx rfl rfl
theorem rX0_common_10 (Q : Po) (h : Hp) (ls : List Value) (st : List Value) (x : Int32) : Ex mX0_common Q 10 ls (.int x :: st) h = if x = 0 then Ex mX0_common Q 31 ls st h else Ex mX0_common Q 13 ls st h := Ex_br rfl rfl
theorem rX0_common_13 (Q : Po) (h : Hp) (l0 l1 l2 l3 l6 l7 l8 l9 : Value) (x : Int64) (st : List Value) : Ex mX0_common Q 13 [l0, l1, l2, l3, .long x, .retAddr 1, l6, l7, l8, l9] st h = Ex mX0_common Q 15 [l0, l1, l2, l3, .long x, .retAddr 1, l6, l7, l8, l9] (.long x :: st) h := Ex_nx rfl rfl
theorem rX0_common_15 (Q : Po) (h : Hp) (l0 l1 l2 l3 l4 l5 l8 l9 : Value) (x : Int64) (st : List Value) : Ex mX0_common Q 15 [l0, l1, l2, l3, l4, l5, .long x, .retAddr 1, l8, l9] st h = Ex mX0_common Q 17 [l0, l1, l2, l3, l4, l5, .long x, .retAddr 1, l8, l9] (.long x :: st) h := Ex_nx rfl rfl
theorem rX0_common_17 (Q : Po) (h : Hp) (ls : List Value) (st : List Value) (x y : Int64) : Ex mX0_common Q 17 ls (.long y :: .long x :: st) h = (¬ y = 0 ∧ Ex mX0_common Q 18 ls (.long (x - x / y * y) :: st) h) := Ex_gd rfl rfl
theorem rX0_common_18 (Q : Po) (h : Hp) (l0 l1 l2 l3 l4 l5 l6 l7 l8 l9 : Value) (x : Int64) (st : List Value) : Ex mX0_common Q 18 [l0, l1, l2, l3, l4, l5, l6, l7, l8, l9] (.long x :: st) h = Ex mX0_common Q 20 [l0, l1, l2, l3, l4, l5, l6, l7, .long x, .retAddr 1] st h := Ex_nx rfl rfl
theorem rX0_common_20 (Q : Po) (h : Hp) (l0 l1 l2 l3 l4 l5 l8 l9 : Value) (x : Int64) (st : List Value) : Ex mX0_common Q 20 [l0, l1, l2, l3, l4, l5, .long x, .retAddr 1, l8, l9] st h = Ex mX0_common Q 22 [l0, l1, l2, l3, l4, l5, .long x, .retAddr 1, l8, l9] (.long x :: st) h := Ex_nx rfl rfl
theorem rX0_common_22 (Q : Po) (h : Hp) (l0 l1 l2 l3 l4 l5 l6 l7 l8 l9 : Value) (x : Int64) (st : List Value) : Ex mX0_common Q 22 [l0, l1, l2, l3, l4, l5, l6, l7, l8, l9] (.long x :: st) h = Ex mX0_common Q 24 [l0, l1, l2, l3, .long x, .retAddr 1, l6, l7, l8, l9] st h := Ex_nx rfl rfl
theorem rX0_common_24 (Q : Po) (h : Hp) (l0 l1 l2 l3 l4 l5 l6 l7 : Value) (x : Int64) (st : List Value) : Ex mX0_common Q 24 [l0, l1, l2, l3, l4, l5, l6, l7, .long x, .retAddr 1] st h = Ex mX0_common Q 26 [l0, l1, l2, l3, l4, l5, l6, l7, .long x, .retAddr 1] (.long x :: st) h := Ex_nx rfl rfl
theorem rX0_common_26 (Q : Po) (h : Hp) (l0 l1 l2 l3 l4 l5 l6 l7 l8 l9 : Value) (x : Int64) (st : List Value) : Ex mX0_common Q 26 [l0, l1, l2, l3, l4, l5, l6, l7, l8, l9] (.long x :: st) h = Ex mX0_common Q 28 [l0, l1, l2, l3, l4, l5, .long x, .retAddr 1, l8, l9] st h := Ex_nx rfl rfl
theorem rX0_common_28 (Q : Po) (h : Hp) (ls : List Value) (st : List Value) : Ex mX0_common Q 28 ls st h = Ex mX0_common Q 6 ls st h := Ex_nx rfl rfl
theorem rX0_common_31 (Q : Po) (h : Hp) (l0 l1 l2 l3 l6 l7 l8 l9 : Value) (x : Int64) (st : List Value) : Ex mX0_common Q 31 [l0, l1, l2, l3, .long x, .retAddr 1, l6, l7, l8, l9] st h = Ex mX0_common Q 33 [l0, l1, l2, l3, .long x, .retAddr 1, l6, l7, l8, l9] (.long x :: st) h := Ex_nx rfl rfl
theorem rX0_common_33 (Q : Po) (h : Hp) (ls : List Value) (x : Int64) : Ex mX0_common Q 33 ls [.long x] h = Q (.inl (some (.long x))) h := Ex_rt rfl rfl
theorem rX0_common_t (Q : Po) (h : Hp) (pc n a : Nat) (ls st : List Value) : Cont mX0_common Q pc ls n st (.inr a) h = Q (.inr a) h := rfl
/-! FishReaders.dark(IIII)J -/
def mX0_dark : Cd := ([(0, .inl (i_aload 0 1)),
  (1, .inl (i_iload 1 2)),
  (2, .inr (c_V 1 5 2 1 (Mt mX0_isBook 2))),
  (5, .inl (i_if (fun x => x = 0) 35 8)),
  (8, .inl (i_iload 2 9)),
  (9, .inr (c_S 1 12 1 (Mt mX0_isFar 1))),
  (12, .inl (i_if (fun x => x = 0) 35 15)),
  (15, .inl (i_iload 3 16)),
  (16, .inl (i_i2l 17)),
  (17, .inl (i_push (.long 0) 18)),
  (18, .inl (i_push (.long 10) 21)),
  (21, .inr (c_S 3 24 6 (Mt mX0_isIn 6))),
  (24, .inl (i_if (fun x => x = 0) 35 27)),
  (27, .inl (i_iload 4 29)),
  (29, .inr (c_S 1 32 1 (Mt mX0_isHalf 1))),
  (32, .inl (i_if (fun x => ¬ x = 0) 39 35)),
  (35, .inl (i_push (.long (-1000001)) 38)),
  (38, .inl i_lret),
  (39, .inl (i_aload 0 40)),
  (40, .inl (i_getf 11 [1] 43)),
  (43, .inl (i_getf 46 [2] 46)),
  (46, .inl (i_istore 5 48)),
  (48, .inl (i_push (.long 0) 49)),
  (49, .inl (i_lstore 6 51)),
  (51, .inl (i_push (.long 1) 52)),
  (52, .inl (i_lstore 8 54)),
  (54, .inl (i_push (.int 0) 55)),
  (55, .inl (i_istore 10 57)),
  (57, .inl (i_iload 10 59)),
  (59, .inl (i_aload 0 60)),
  (60, .inl (i_getf 11 [1] 63)),
  (63, .inl (i_getf 36 [2] 66)),
  (66, .inl (i_icmp (fun x y => y ≤ x) 97 69)),
  (69, .inl (i_lload 8 71)),
  (71, .inl (i_iload 5 73)),
  (73, .inl (i_iload 10 75)),
  (75, .inr (c_S 2 78 2 (Mt mX0_has 2))),
  (78, .inl (i_if (fun x => x = 0) 87 81)),
  (81, .inl (i_push (.long 10) 84)),
  (84, .inl (i_goto 88)),
  (87, .inl (i_push (.long 1) 88)),
  (88, .inl (i_lbin (fun x y => x * y) 89)),
  (89, .inl (i_lstore 8 91)),
  (91, .inl (i_iinc 10 1 94)),
  (94, .inl (i_goto 57)),
  (97, .inl (i_push (.int 0) 98)),
  (98, .inl (i_istore 10 100)),
  (100, .inl (i_iload 10 102)),
  (102, .inl (i_iload 5 104)),
  (104, .inl (i_icmp (fun x y => y < x) 227 107)),
  (107, .inl (i_iload 10 109)),
  (109, .inl (i_iload 5 111)),
  (111, .inl (i_push (.int (-1)) 112)),
  (112, .inl (i_bin (fun x y => x ^^^ y) 113)),
  (113, .inl (i_bin (fun x y => x &&& y) 114)),
  (114, .inl (i_if (fun x => x = 0) 120 117)),
  (117, .inl (i_goto 221)),
  (120, .inl (i_push (.long 1) 121)),
  (121, .inl (i_lstore 11 123)),
  (123, .inl (i_push (.int 0) 124)),
  (124, .inl (i_istore 13 126)),
  (126, .inl (i_iload 13 128)),
  (128, .inl (i_aload 0 129)),
  (129, .inl (i_getf 11 [1] 132)),
  (132, .inl (i_getf 36 [2] 135)),
  (135, .inl (i_icmp (fun x y => y ≤ x) 183 138)),
  (138, .inl (i_lload 11 140)),
  (140, .inl (i_iload 5 142)),
  (142, .inl (i_iload 13 144)),
  (144, .inr (c_S 2 147 2 (Mt mX0_has 2))),
  (147, .inl (i_if (fun x => ¬ x = 0) 154 150)),
  (150, .inl (i_push (.long 1) 151)),
  (151, .inl (i_goto 174)),
  (154, .inl (i_iload 10 156)),
  (156, .inl (i_iload 13 158)),
  (158, .inr (c_S 2 161 2 (Mt mX0_has 2))),
  (161, .inl (i_if (fun x => x = 0) 169 164)),
  (164, .inl (i_iload 3 165)),
  (165, .inl (i_i2l 166)),
  (166, .inl (i_goto 174)),
  (169, .inl (i_push (.int 10) 171)),
  (171, .inl (i_iload 3 172)),
  (172, .inl (i_bin (fun x y => x - y) 173)),
  (173, .inl (i_i2l 174)),
  (174, .inl (i_lbin (fun x y => x * y) 175)),
  (175, .inl (i_lstore 11 177)),
  (177, .inl (i_iinc 13 1 180)),
  (180, .inl (i_goto 126)),
  (183, .inl (i_aload 0 184)),
  (184, .inr (c_V 0 187 1 1 (Mt mX0_tried 1))),
  (187, .inl (i_iload 5 189)),
  (189, .inl (i_iload 10 191)),
  (191, .inl (i_push (.int (-1)) 192)),
  (192, .inl (i_bin (fun x y => x ^^^ y) 193)),
  (193, .inl (i_bin (fun x y => x &&& y) 194)),
  (194, .inl (i_putI 46 [2] 197)),
  (197, .inl (i_lload 6 199)),
  (199, .inl (i_aload 0 200)),
  (200, .inl (i_iload 2 201)),
  (201, .inr (c_V 1 204 3 1 (Mt mX0_goOn 3))),
  (204, .inl (i_getf 39 [2] 207)),
  (207, .inl (i_iload 1 208)),
  (208, .inl (i_iald 51 209)),
  (209, .inl (i_if (fun x => x ≤ 0) 217 212)),
  (212, .inl (i_lload 11 214)),
  (214, .inl (i_goto 218)),
  (217, .inl (i_push (.long 0) 218)),
  (218, .inl (i_lbin (fun x y => x + y) 219)),
  (219, .inl (i_lstore 6 221)),
  (221, .inl (i_iinc 10 1 224)),
  (224, .inl (i_goto 100)),
  (227, .inl (i_iload 4 229)),
  (229, .inl (i_if (fun x => ¬ x = 0) 237 232)),
  (232, .inl (i_lload 6 234)),
  (234, .inl (i_goto 239)),
  (237, .inl (i_lload 8 239)),
  (239, .inl (i_lload 6 241)),
  (241, .inl (i_lload 8 243)),
  (243, .inr (c_S 2 246 10 (Mt mX0_common 10))),
  (246, .inl (i_lbing (fun x y => x / y) 247)),
  (247, .inl i_lret)], noH)
theorem rX0_dark_0 (Q : Po) (h : Hp) (l1 l2 l3 l4 l5 l6 l7 l8 l9 l10 l11 l12 l13 : Value) (x : Nat) (st : List Value) : Ex mX0_dark Q 0 [.ref x, l1, l2, l3, l4, l5, l6, l7, l8, l9, l10, l11, l12, l13] st h = Ex mX0_dark Q 1 [.ref x, l1, l2, l3, l4, l5, l6, l7, l8, l9, l10, l11, l12, l13] (.ref x :: st) h := Ex_nx rfl rfl
theorem rX0_dark_1 (Q : Po) (h : Hp) (l0 l2 l3 l4 l5 l6 l7 l8 l9 l10 l11 l12 l13 : Value) (x : Int32) (st : List Value) : Ex mX0_dark Q 1 [l0, .int x, l2, l3, l4, l5, l6, l7, l8, l9, l10, l11, l12, l13] st h = Ex mX0_dark Q 2 [l0, .int x, l2, l3, l4, l5, l6, l7, l8, l9, l10, l11, l12, l13] (.int x :: st) h := Ex_nx rfl rfl
theorem rX0_dark_2 (Q : Po) (h : Hp) (ls : List Value) (a0 : Int32) (b : Nat) : Ex mX0_dark Q 2 ls (.int a0 :: .ref b :: []) h = (gK h b = 1 ∧ Ex mX0_isBook (Cont mX0_dark Q 2 ls 5 []) 0 [.ref b, .int a0] [] h) := Ex_cg (n := 2) (as := [.ref b, .int a0]) rfl rfl
theorem rX0_dark_5 (Q : Po) (h : Hp) (ls : List Value) (st : List Value) (x : Int32) : Ex mX0_dark Q 5 ls (.int x :: st) h = if x = 0 then Ex mX0_dark Q 35 ls st h else Ex mX0_dark Q 8 ls st h := Ex_br rfl rfl
theorem rX0_dark_8 (Q : Po) (h : Hp) (l0 l1 l3 l4 l5 l6 l7 l8 l9 l10 l11 l12 l13 : Value) (x : Int32) (st : List Value) : Ex mX0_dark Q 8 [l0, l1, .int x, l3, l4, l5, l6, l7, l8, l9, l10, l11, l12, l13] st h = Ex mX0_dark Q 9 [l0, l1, .int x, l3, l4, l5, l6, l7, l8, l9, l10, l11, l12, l13] (.int x :: st) h := Ex_nx rfl rfl
theorem rX0_dark_9 (Q : Po) (h : Hp) (ls : List Value) (a0 : Int32) : Ex mX0_dark Q 9 ls (.int a0 :: []) h = Ex mX0_isFar (Cont mX0_dark Q 9 ls 12 []) 0 [.int a0] [] h := Ex_cl (n := 1) (as := [.int a0]) rfl rfl
theorem rX0_dark_12 (Q : Po) (h : Hp) (ls : List Value) (st : List Value) (x : Int32) : Ex mX0_dark Q 12 ls (.int x :: st) h = if x = 0 then Ex mX0_dark Q 35 ls st h else Ex mX0_dark Q 15 ls st h := Ex_br rfl rfl
theorem rX0_dark_15 (Q : Po) (h : Hp) (l0 l1 l2 l4 l5 l6 l7 l8 l9 l10 l11 l12 l13 : Value) (x : Int32) (st : List Value) : Ex mX0_dark Q 15 [l0, l1, l2, .int x, l4, l5, l6, l7, l8, l9, l10, l11, l12, l13] st h = Ex mX0_dark Q 16 [l0, l1, l2, .int x, l4, l5, l6, l7, l8, l9, l10, l11, l12, l13] (.int x :: st) h := Ex_nx rfl rfl
theorem rX0_dark_16 (Q : Po) (h : Hp) (ls : List Value) (st : List Value) (x : Int32) : Ex mX0_dark Q 16 ls (.int x :: st) h = Ex mX0_dark Q 17 ls (.long x.toInt64 :: st) h := Ex_nx rfl rfl
theorem rX0_dark_17 (Q : Po) (h : Hp) (ls : List Value) (st : List Value) : Ex mX0_dark Q 17 ls st h = Ex mX0_dark Q 18 ls (.long 0 :: st) h := Ex_nx rfl rfl
theorem rX0_dark_18 (Q : Po) (h : Hp) (ls : List Value) (st : List Value) : Ex mX0_dark Q 18 ls st h = Ex mX0_dark Q 21 ls (.long 10 :: st) h := Ex_nx rfl rfl
theorem rX0_dark_21 (Q : Po) (h : Hp) (ls : List Value) (a0 : Int64) (a1 : Int64) (a2 : Int64) : Ex mX0_dark Q 21 ls (.long a2 :: .long a1 :: .long a0 :: []) h = Ex mX0_isIn (Cont mX0_dark Q 21 ls 24 []) 0 [.long a0, .retAddr 1, .long a1, .retAddr 1, .long a2, .retAddr 1] [] h := Ex_cl (n := 6) (as := [.long a0, .long a1, .long a2]) rfl rfl
theorem rX0_dark_24 (Q : Po) (h : Hp) (ls : List Value) (st : List Value) (x : Int32) : Ex mX0_dark Q 24 ls (.int x :: st) h = if x = 0 then Ex mX0_dark Q 35 ls st h else Ex mX0_dark Q 27 ls st h := Ex_br rfl rfl
theorem rX0_dark_27 (Q : Po) (h : Hp) (l0 l1 l2 l3 l5 l6 l7 l8 l9 l10 l11 l12 l13 : Value) (x : Int32) (st : List Value) : Ex mX0_dark Q 27 [l0, l1, l2, l3, .int x, l5, l6, l7, l8, l9, l10, l11, l12, l13] st h = Ex mX0_dark Q 29 [l0, l1, l2, l3, .int x, l5, l6, l7, l8, l9, l10, l11, l12, l13] (.int x :: st) h := Ex_nx rfl rfl
theorem rX0_dark_29 (Q : Po) (h : Hp) (ls : List Value) (a0 : Int32) : Ex mX0_dark Q 29 ls (.int a0 :: []) h = Ex mX0_isHalf (Cont mX0_dark Q 29 ls 32 []) 0 [.int a0] [] h := Ex_cl (n := 1) (as := [.int a0]) rfl rfl
theorem rX0_dark_32 (Q : Po) (h : Hp) (ls : List Value) (st : List Value) (x : Int32) : Ex mX0_dark Q 32 ls (.int x :: st) h = if ¬ x = 0 then Ex mX0_dark Q 39 ls st h else Ex mX0_dark Q 35 ls st h := Ex_br rfl rfl
theorem rX0_dark_35 (Q : Po) (h : Hp) (ls : List Value) (st : List Value) : Ex mX0_dark Q 35 ls st h = Ex mX0_dark Q 38 ls (.long (-1000001) :: st) h := Ex_nx rfl rfl
theorem rX0_dark_38 (Q : Po) (h : Hp) (ls : List Value) (x : Int64) : Ex mX0_dark Q 38 ls [.long x] h = Q (.inl (some (.long x))) h := Ex_rt rfl rfl
theorem rX0_dark_39 (Q : Po) (h : Hp) (l1 l2 l3 l4 l5 l6 l7 l8 l9 l10 l11 l12 l13 : Value) (x : Nat) (st : List Value) : Ex mX0_dark Q 39 [.ref x, l1, l2, l3, l4, l5, l6, l7, l8, l9, l10, l11, l12, l13] st h = Ex mX0_dark Q 40 [.ref x, l1, l2, l3, l4, l5, l6, l7, l8, l9, l10, l11, l12, l13] (.ref x :: st) h := Ex_nx rfl rfl
theorem rX0_dark_40 (Q : Po) (h : Hp) (ls : List Value) (st : List Value) (a : Nat) : Ex mX0_dark Q 40 ls (.ref a :: st) h = (gK h a ∈ ([1] : List Nat) ∧ Ex mX0_dark Q 43 ls (gF h 11 a :: st) h) := Ex_gd rfl rfl
theorem rX0_dark_43 (Q : Po) (h : Hp) (ls : List Value) (st : List Value) (a : Nat) : Ex mX0_dark Q 43 ls (.ref a :: st) h = (gK h a ∈ ([2] : List Nat) ∧ Ex mX0_dark Q 46 ls (gF h 46 a :: st) h) := Ex_gd rfl rfl
theorem rX0_dark_46 (Q : Po) (h : Hp) (l0 l1 l2 l3 l4 l5 l6 l7 l8 l9 l10 l11 l12 l13 : Value) (x : Int32) (st : List Value) : Ex mX0_dark Q 46 [l0, l1, l2, l3, l4, l5, l6, l7, l8, l9, l10, l11, l12, l13] (.int x :: st) h = Ex mX0_dark Q 48 [l0, l1, l2, l3, l4, .int x, l6, l7, l8, l9, l10, l11, l12, l13] st h := Ex_nx rfl rfl
theorem rX0_dark_48 (Q : Po) (h : Hp) (ls : List Value) (st : List Value) : Ex mX0_dark Q 48 ls st h = Ex mX0_dark Q 49 ls (.long 0 :: st) h := Ex_nx rfl rfl
theorem rX0_dark_49 (Q : Po) (h : Hp) (l0 l1 l2 l3 l4 l5 l6 l7 l8 l9 l10 l11 l12 l13 : Value) (x : Int64) (st : List Value) : Ex mX0_dark Q 49 [l0, l1, l2, l3, l4, l5, l6, l7, l8, l9, l10, l11, l12, l13] (.long x :: st) h = Ex mX0_dark Q 51 [l0, l1, l2, l3, l4, l5, .long x, .retAddr 1, l8, l9, l10, l11, l12, l13] st h := Ex_nx rfl rfl
theorem rX0_dark_51 (Q : Po) (h : Hp) (ls : List Value) (st : List Value) : Ex mX0_dark Q 51 ls st h = Ex mX0_dark Q 52 ls (.long 1 :: st) h := Ex_nx rfl rfl
theorem rX0_dark_52 (Q : Po) (h : Hp) (l0 l1 l2 l3 l4 l5 l6 l7 l8 l9 l10 l11 l12 l13 : Value) (x : Int64) (st : List Value) : Ex mX0_dark Q 52 [l0, l1, l2, l3, l4, l5, l6, l7, l8, l9, l10, l11, l12, l13] (.long x :: st) h = Ex mX0_dark Q 54 [l0, l1, l2, l3, l4, l5, l6, l7, .long x, .retAddr 1, l10, l11, l12, l13] st h := Ex_nx rfl rfl
theorem rX0_dark_54 (Q : Po) (h : Hp) (ls : List Value) (st : List Value) : Ex mX0_dark Q 54 ls st h = Ex mX0_dark Q 55 ls (.int 0 :: st) h := Ex_nx rfl rfl
theorem rX0_dark_55 (Q : Po) (h : Hp) (l0 l1 l2 l3 l4 l5 l6 l7 l8 l9 l10 l11 l12 l13 : Value) (x : Int32) (st : List Value) : Ex mX0_dark Q 55 [l0, l1, l2, l3, l4, l5, l6, l7, l8, l9, l10, l11, l12, l13] (.int x :: st) h = Ex mX0_dark Q 57 [l0, l1, l2, l3, l4, l5, l6, l7, l8, l9, .int x, l11, l12, l13] st h := Ex_nx rfl rfl
theorem rX0_dark_57 (Q : Po) (h : Hp) (l0 l1 l2 l3 l4 l5 l6 l7 l8 l9 l11 l12 l13 : Value) (x : Int32) (st : List Value) : Ex mX0_dark Q 57 [l0, l1, l2, l3, l4, l5, l6, l7, l8, l9, .int x, l11, l12, l13] st h = Ex mX0_dark Q 59 [l0, l1, l2, l3, l4, l5, l6, l7, l8, l9, .int x, l11, l12, l13] (.int x :: st) h := Ex_nx rfl rfl
theorem rX0_dark_59 (Q : Po) (h : Hp) (l1 l2 l3 l4 l5 l6 l7 l8 l9 l10 l11 l12 l13 : Value) (x : Nat) (st : List Value) : Ex mX0_dark Q 59 [.ref x, l1, l2, l3, l4, l5, l6, l7, l8, l9, l10, l11, l12, l13] st h = Ex mX0_dark Q 60 [.ref x, l1, l2, l3, l4, l5, l6, l7, l8, l9, l10, l11, l12, l13] (.ref x :: st) h := Ex_nx rfl rfl
theorem rX0_dark_60 (Q : Po) (h : Hp) (ls : List Value) (st : List Value) (a : Nat) : Ex mX0_dark Q 60 ls (.ref a :: st) h = (gK h a ∈ ([1] : List Nat) ∧ Ex mX0_dark Q 63 ls (gF h 11 a :: st) h) := Ex_gd rfl rfl
theorem rX0_dark_63 (Q : Po) (h : Hp) (ls : List Value) (st : List Value) (a : Nat) : Ex mX0_dark Q 63 ls (.ref a :: st) h = (gK h a ∈ ([2] : List Nat) ∧ Ex mX0_dark Q 66 ls (gF h 36 a :: st) h) := Ex_gd rfl rfl
theorem rX0_dark_66 (Q : Po) (h : Hp) (ls : List Value) (st : List Value) (x y : Int32) : Ex mX0_dark Q 66 ls (.int y :: .int x :: st) h = if y ≤ x then Ex mX0_dark Q 97 ls st h else Ex mX0_dark Q 69 ls st h := Ex_br rfl rfl
theorem rX0_dark_69 (Q : Po) (h : Hp) (l0 l1 l2 l3 l4 l5 l6 l7 l10 l11 l12 l13 : Value) (x : Int64) (st : List Value) : Ex mX0_dark Q 69 [l0, l1, l2, l3, l4, l5, l6, l7, .long x, .retAddr 1, l10, l11, l12, l13] st h = Ex mX0_dark Q 71 [l0, l1, l2, l3, l4, l5, l6, l7, .long x, .retAddr 1, l10, l11, l12, l13] (.long x :: st) h := Ex_nx rfl rfl
theorem rX0_dark_71 (Q : Po) (h : Hp) (l0 l1 l2 l3 l4 l6 l7 l8 l9 l10 l11 l12 l13 : Value) (x : Int32) (st : List Value) : Ex mX0_dark Q 71 [l0, l1, l2, l3, l4, .int x, l6, l7, l8, l9, l10, l11, l12, l13] st h = Ex mX0_dark Q 73 [l0, l1, l2, l3, l4, .int x, l6, l7, l8, l9, l10, l11, l12, l13] (.int x :: st) h := Ex_nx rfl rfl
theorem rX0_dark_73 (Q : Po) (h : Hp) (l0 l1 l2 l3 l4 l5 l6 l7 l8 l9 l11 l12 l13 : Value) (x : Int32) (st : List Value) : Ex mX0_dark Q 73 [l0, l1, l2, l3, l4, l5, l6, l7, l8, l9, .int x, l11, l12, l13] st h = Ex mX0_dark Q 75 [l0, l1, l2, l3, l4, l5, l6, l7, l8, l9, .int x, l11, l12, l13] (.int x :: st) h := Ex_nx rfl rfl
theorem rX0_dark_75 (Q : Po) (h : Hp) (ls : List Value) (a0 : Int32) (a1 : Int32) (s0 : Value) : Ex mX0_dark Q 75 ls (.int a1 :: .int a0 :: [s0]) h = Ex mX0_has (Cont mX0_dark Q 75 ls 78 [s0]) 0 [.int a0, .int a1] [] h := Ex_cl (n := 2) (as := [.int a0, .int a1]) rfl rfl
theorem rX0_dark_78 (Q : Po) (h : Hp) (ls : List Value) (st : List Value) (x : Int32) : Ex mX0_dark Q 78 ls (.int x :: st) h = if x = 0 then Ex mX0_dark Q 87 ls st h else Ex mX0_dark Q 81 ls st h := Ex_br rfl rfl
theorem rX0_dark_81 (Q : Po) (h : Hp) (ls : List Value) (st : List Value) : Ex mX0_dark Q 81 ls st h = Ex mX0_dark Q 84 ls (.long 10 :: st) h := Ex_nx rfl rfl
theorem rX0_dark_84 (Q : Po) (h : Hp) (ls : List Value) (st : List Value) : Ex mX0_dark Q 84 ls st h = Ex mX0_dark Q 88 ls st h := Ex_nx rfl rfl
theorem rX0_dark_87 (Q : Po) (h : Hp) (ls : List Value) (st : List Value) : Ex mX0_dark Q 87 ls st h = Ex mX0_dark Q 88 ls (.long 1 :: st) h := Ex_nx rfl rfl
theorem rX0_dark_88 (Q : Po) (h : Hp) (ls : List Value) (st : List Value) (x y : Int64) : Ex mX0_dark Q 88 ls (.long y :: .long x :: st) h = Ex mX0_dark Q 89 ls (.long (x * y) :: st) h := Ex_nx rfl rfl
theorem rX0_dark_89 (Q : Po) (h : Hp) (l0 l1 l2 l3 l4 l5 l6 l7 l8 l9 l10 l11 l12 l13 : Value) (x : Int64) (st : List Value) : Ex mX0_dark Q 89 [l0, l1, l2, l3, l4, l5, l6, l7, l8, l9, l10, l11, l12, l13] (.long x :: st) h = Ex mX0_dark Q 91 [l0, l1, l2, l3, l4, l5, l6, l7, .long x, .retAddr 1, l10, l11, l12, l13] st h := Ex_nx rfl rfl
theorem rX0_dark_91 (Q : Po) (h : Hp) (l0 l1 l2 l3 l4 l5 l6 l7 l8 l9 l11 l12 l13 : Value) (x : Int32) (st : List Value) : Ex mX0_dark Q 91 [l0, l1, l2, l3, l4, l5, l6, l7, l8, l9, .int x, l11, l12, l13] st h = Ex mX0_dark Q 94 [l0, l1, l2, l3, l4, l5, l6, l7, l8, l9, .int (x + 1), l11, l12, l13] st h := Ex_nx rfl rfl
theorem rX0_dark_94 (Q : Po) (h : Hp) (ls : List Value) (st : List Value) : Ex mX0_dark Q 94 ls st h = Ex mX0_dark Q 57 ls st h := Ex_nx rfl rfl
theorem rX0_dark_97 (Q : Po) (h : Hp) (ls : List Value) (st : List Value) : Ex mX0_dark Q 97 ls st h = Ex mX0_dark Q 98 ls (.int 0 :: st) h := Ex_nx rfl rfl
theorem rX0_dark_98 (Q : Po) (h : Hp) (l0 l1 l2 l3 l4 l5 l6 l7 l8 l9 l10 l11 l12 l13 : Value) (x : Int32) (st : List Value) : Ex mX0_dark Q 98 [l0, l1, l2, l3, l4, l5, l6, l7, l8, l9, l10, l11, l12, l13] (.int x :: st) h = Ex mX0_dark Q 100 [l0, l1, l2, l3, l4, l5, l6, l7, l8, l9, .int x, l11, l12, l13] st h := Ex_nx rfl rfl
theorem rX0_dark_100 (Q : Po) (h : Hp) (l0 l1 l2 l3 l4 l5 l6 l7 l8 l9 l11 l12 l13 : Value) (x : Int32) (st : List Value) : Ex mX0_dark Q 100 [l0, l1, l2, l3, l4, l5, l6, l7, l8, l9, .int x, l11, l12, l13] st h = Ex mX0_dark Q 102 [l0, l1, l2, l3, l4, l5, l6, l7, l8, l9, .int x, l11, l12, l13] (.int x :: st) h := Ex_nx rfl rfl
theorem rX0_dark_102 (Q : Po) (h : Hp) (l0 l1 l2 l3 l4 l6 l7 l8 l9 l10 l11 l12 l13 : Value) (x : Int32) (st : List Value) : Ex mX0_dark Q 102 [l0, l1, l2, l3, l4, .int x, l6, l7, l8, l9, l10, l11, l12, l13] st h = Ex mX0_dark Q 104 [l0, l1, l2, l3, l4, .int x, l6, l7, l8, l9, l10, l11, l12, l13] (.int x :: st) h := Ex_nx rfl rfl
theorem rX0_dark_104 (Q : Po) (h : Hp) (ls : List Value) (st : List Value) (x y : Int32) : Ex mX0_dark Q 104 ls (.int y :: .int x :: st) h = if y < x then Ex mX0_dark Q 227 ls st h else Ex mX0_dark Q 107 ls st h := Ex_br rfl rfl
theorem rX0_dark_107 (Q : Po) (h : Hp) (l0 l1 l2 l3 l4 l5 l6 l7 l8 l9 l11 l12 l13 : Value) (x : Int32) (st : List Value) : Ex mX0_dark Q 107 [l0, l1, l2, l3, l4, l5, l6, l7, l8, l9, .int x, l11, l12, l13] st h = Ex mX0_dark Q 109 [l0, l1, l2, l3, l4, l5, l6, l7, l8, l9, .int x, l11, l12, l13] (.int x :: st) h := Ex_nx rfl rfl
theorem rX0_dark_109 (Q : Po) (h : Hp) (l0 l1 l2 l3 l4 l6 l7 l8 l9 l10 l11 l12 l13 : Value) (x : Int32) (st : List Value) : Ex mX0_dark Q 109 [l0, l1, l2, l3, l4, .int x, l6, l7, l8, l9, l10, l11, l12, l13] st h = Ex mX0_dark Q 111 [l0, l1, l2, l3, l4, .int x, l6, l7, l8, l9, l10, l11, l12, l13] (.int x :: st) h := Ex_nx rfl rfl
theorem rX0_dark_111 (Q : Po) (h : Hp) (ls : List Value) (st : List Value) : Ex mX0_dark Q 111 ls st h = Ex mX0_dark Q 112 ls (.int (-1) :: st) h := Ex_nx rfl rfl
theorem rX0_dark_112 (Q : Po) (h : Hp) (ls : List Value) (st : List Value) (x y : Int32) : Ex mX0_dark Q 112 ls (.int y :: .int x :: st) h = Ex mX0_dark Q 113 ls (.int (x ^^^ y) :: st) h := Ex_nx rfl rfl
theorem rX0_dark_113 (Q : Po) (h : Hp) (ls : List Value) (st : List Value) (x y : Int32) : Ex mX0_dark Q 113 ls (.int y :: .int x :: st) h = Ex mX0_dark Q 114 ls (.int (x &&& y) :: st) h := Ex_nx rfl rfl
theorem rX0_dark_114 (Q : Po) (h : Hp) (ls : List Value) (st : List Value) (x : Int32) : Ex mX0_dark Q 114 ls (.int x :: st) h = if x = 0 then Ex mX0_dark Q 120 ls st h else Ex mX0_dark Q 117 ls st h := Ex_br rfl rfl
theorem rX0_dark_117 (Q : Po) (h : Hp) (ls : List Value) (st : List Value) : Ex mX0_dark Q 117 ls st h = Ex mX0_dark Q 221 ls st h := Ex_nx rfl rfl
theorem rX0_dark_120 (Q : Po) (h : Hp) (ls : List Value) (st : List Value) : Ex mX0_dark Q 120 ls st h = Ex mX0_dark Q 121 ls (.long 1 :: st) h := Ex_nx rfl rfl
theorem rX0_dark_121 (Q : Po) (h : Hp) (l0 l1 l2 l3 l4 l5 l6 l7 l8 l9 l10 l11 l12 l13 : Value) (x : Int64) (st : List Value) : Ex mX0_dark Q 121 [l0, l1, l2, l3, l4, l5, l6, l7, l8, l9, l10, l11, l12, l13] (.long x :: st) h = Ex mX0_dark Q 123 [l0, l1, l2, l3, l4, l5, l6, l7, l8, l9, l10, .long x, .retAddr 1, l13] st h := Ex_nx rfl rfl
theorem rX0_dark_123 (Q : Po) (h : Hp) (ls : List Value) (st : List Value) : Ex mX0_dark Q 123 ls st h = Ex mX0_dark Q 124 ls (.int 0 :: st) h := Ex_nx rfl rfl
theorem rX0_dark_124 (Q : Po) (h : Hp) (l0 l1 l2 l3 l4 l5 l6 l7 l8 l9 l10 l11 l12 l13 : Value) (x : Int32) (st : List Value) : Ex mX0_dark Q 124 [l0, l1, l2, l3, l4, l5, l6, l7, l8, l9, l10, l11, l12, l13] (.int x :: st) h = Ex mX0_dark Q 126 [l0, l1, l2, l3, l4, l5, l6, l7, l8, l9, l10, l11, l12, .int x] st h := Ex_nx rfl rfl
theorem rX0_dark_126 (Q : Po) (h : Hp) (l0 l1 l2 l3 l4 l5 l6 l7 l8 l9 l10 l11 l12 : Value) (x : Int32) (st : List Value) : Ex mX0_dark Q 126 [l0, l1, l2, l3, l4, l5, l6, l7, l8, l9, l10, l11, l12, .int x] st h = Ex mX0_dark Q 128 [l0, l1, l2, l3, l4, l5, l6, l7, l8, l9, l10, l11, l12, .int x] (.int x :: st) h := Ex_nx rfl rfl
theorem rX0_dark_128 (Q : Po) (h : Hp) (l1 l2 l3 l4 l5 l6 l7 l8 l9 l10 l11 l12 l13 : Value) (x : Nat) (st : List Value) : Ex mX0_dark Q 128 [.ref x, l1, l2, l3, l4, l5, l6, l7, l8, l9, l10, l11, l12, l13] st h = Ex mX0_dark Q 129 [.ref x, l1, l2, l3, l4, l5, l6, l7, l8, l9, l10, l11, l12, l13] (.ref x :: st) h := Ex_nx rfl rfl
theorem rX0_dark_129 (Q : Po) (h : Hp) (ls : List Value) (st : List Value) (a : Nat) : Ex mX0_dark Q 129 ls (.ref a :: st) h = (gK h a ∈ ([1] : List Nat) ∧ Ex mX0_dark Q 132 ls (gF h 11 a :: st) h) := Ex_gd rfl rfl
theorem rX0_dark_132 (Q : Po) (h : Hp) (ls : List Value) (st : List Value) (a : Nat) : Ex mX0_dark Q 132 ls (.ref a :: st) h = (gK h a ∈ ([2] : List Nat) ∧ Ex mX0_dark Q 135 ls (gF h 36 a :: st) h) := Ex_gd rfl rfl
theorem rX0_dark_135 (Q : Po) (h : Hp) (ls : List Value) (st : List Value) (x y : Int32) : Ex mX0_dark Q 135 ls (.int y :: .int x :: st) h = if y ≤ x then Ex mX0_dark Q 183 ls st h else Ex mX0_dark Q 138 ls st h := Ex_br rfl rfl
theorem rX0_dark_138 (Q : Po) (h : Hp) (l0 l1 l2 l3 l4 l5 l6 l7 l8 l9 l10 l13 : Value) (x : Int64) (st : List Value) : Ex mX0_dark Q 138 [l0, l1, l2, l3, l4, l5, l6, l7, l8, l9, l10, .long x, .retAddr 1, l13] st h = Ex mX0_dark Q 140 [l0, l1, l2, l3, l4, l5, l6, l7, l8, l9, l10, .long x, .retAddr 1, l13] (.long x :: st) h := Ex_nx rfl rfl
theorem rX0_dark_140 (Q : Po) (h : Hp) (l0 l1 l2 l3 l4 l6 l7 l8 l9 l10 l11 l12 l13 : Value) (x : Int32) (st : List Value) : Ex mX0_dark Q 140 [l0, l1, l2, l3, l4, .int x, l6, l7, l8, l9, l10, l11, l12, l13] st h = Ex mX0_dark Q 142 [l0, l1, l2, l3, l4, .int x, l6, l7, l8, l9, l10, l11, l12, l13] (.int x :: st) h := Ex_nx rfl rfl
theorem rX0_dark_142 (Q : Po) (h : Hp) (l0 l1 l2 l3 l4 l5 l6 l7 l8 l9 l10 l11 l12 : Value) (x : Int32) (st : List Value) : Ex mX0_dark Q 142 [l0, l1, l2, l3, l4, l5, l6, l7, l8, l9, l10, l11, l12, .int x] st h = Ex mX0_dark Q 144 [l0, l1, l2, l3, l4, l5, l6, l7, l8, l9, l10, l11, l12, .int x] (.int x :: st) h := Ex_nx rfl rfl
theorem rX0_dark_144 (Q : Po) (h : Hp) (ls : List Value) (a0 : Int32) (a1 : Int32) (s0 : Value) : Ex mX0_dark Q 144 ls (.int a1 :: .int a0 :: [s0]) h = Ex mX0_has (Cont mX0_dark Q 144 ls 147 [s0]) 0 [.int a0, .int a1] [] h := Ex_cl (n := 2) (as := [.int a0, .int a1]) rfl rfl
theorem rX0_dark_147 (Q : Po) (h : Hp) (ls : List Value) (st : List Value) (x : Int32) : Ex mX0_dark Q 147 ls (.int x :: st) h = if ¬ x = 0 then Ex mX0_dark Q 154 ls st h else Ex mX0_dark Q 150 ls st h := Ex_br rfl rfl
theorem rX0_dark_150 (Q : Po) (h : Hp) (ls : List Value) (st : List Value) : Ex mX0_dark Q 150 ls st h = Ex mX0_dark Q 151 ls (.long 1 :: st) h := Ex_nx rfl rfl
theorem rX0_dark_151 (Q : Po) (h : Hp) (ls : List Value) (st : List Value) : Ex mX0_dark Q 151 ls st h = Ex mX0_dark Q 174 ls st h := Ex_nx rfl rfl
theorem rX0_dark_154 (Q : Po) (h : Hp) (l0 l1 l2 l3 l4 l5 l6 l7 l8 l9 l11 l12 l13 : Value) (x : Int32) (st : List Value) : Ex mX0_dark Q 154 [l0, l1, l2, l3, l4, l5, l6, l7, l8, l9, .int x, l11, l12, l13] st h = Ex mX0_dark Q 156 [l0, l1, l2, l3, l4, l5, l6, l7, l8, l9, .int x, l11, l12, l13] (.int x :: st) h := Ex_nx rfl rfl
theorem rX0_dark_156 (Q : Po) (h : Hp) (l0 l1 l2 l3 l4 l5 l6 l7 l8 l9 l10 l11 l12 : Value) (x : Int32) (st : List Value) : Ex mX0_dark Q 156 [l0, l1, l2, l3, l4, l5, l6, l7, l8, l9, l10, l11, l12, .int x] st h = Ex mX0_dark Q 158 [l0, l1, l2, l3, l4, l5, l6, l7, l8, l9, l10, l11, l12, .int x] (.int x :: st) h := Ex_nx rfl rfl
theorem rX0_dark_158 (Q : Po) (h : Hp) (ls : List Value) (a0 : Int32) (a1 : Int32) (s0 : Value) : Ex mX0_dark Q 158 ls (.int a1 :: .int a0 :: [s0]) h = Ex mX0_has (Cont mX0_dark Q 158 ls 161 [s0]) 0 [.int a0, .int a1] [] h := Ex_cl (n := 2) (as := [.int a0, .int a1]) rfl rfl
theorem rX0_dark_161 (Q : Po) (h : Hp) (ls : List Value) (st : List Value) (x : Int32) : Ex mX0_dark Q 161 ls (.int x :: st) h = if x = 0 then Ex mX0_dark Q 169 ls st h else Ex mX0_dark Q 164 ls st h := Ex_br rfl rfl
theorem rX0_dark_164 (Q : Po) (h : Hp) (l0 l1 l2 l4 l5 l6 l7 l8 l9 l10 l11 l12 l13 : Value) (x : Int32) (st : List Value) : Ex mX0_dark Q 164 [l0, l1, l2, .int x, l4, l5, l6, l7, l8, l9, l10, l11, l12, l13] st h = Ex mX0_dark Q 165 [l0, l1, l2, .int x, l4, l5, l6, l7, l8, l9, l10, l11, l12, l13] (.int x :: st) h := Ex_nx rfl rfl
theorem rX0_dark_165 (Q : Po) (h : Hp) (ls : List Value) (st : List Value) (x : Int32) : Ex mX0_dark Q 165 ls (.int x :: st) h = Ex mX0_dark Q 166 ls (.long x.toInt64 :: st) h := Ex_nx rfl rfl
theorem rX0_dark_166 (Q : Po) (h : Hp) (ls : List Value) (st : List Value) : Ex mX0_dark Q 166 ls st h = Ex mX0_dark Q 174 ls st h := Ex_nx rfl rfl
theorem rX0_dark_169 (Q : Po) (h : Hp) (ls : List Value) (st : List Value) : Ex mX0_dark Q 169 ls st h = Ex mX0_dark Q 171 ls (.int 10 :: st) h := Ex_nx rfl rfl
theorem rX0_dark_171 (Q : Po) (h : Hp) (l0 l1 l2 l4 l5 l6 l7 l8 l9 l10 l11 l12 l13 : Value) (x : Int32) (st : List Value) : Ex mX0_dark Q 171 [l0, l1, l2, .int x, l4, l5, l6, l7, l8, l9, l10, l11, l12, l13] st h = Ex mX0_dark Q 172 [l0, l1, l2, .int x, l4, l5, l6, l7, l8, l9, l10, l11, l12, l13] (.int x :: st) h := Ex_nx rfl rfl
theorem rX0_dark_172 (Q : Po) (h : Hp) (ls : List Value) (st : List Value) (x y : Int32) : Ex mX0_dark Q 172 ls (.int y :: .int x :: st) h = Ex mX0_dark Q 173 ls (.int (x - y) :: st) h := Ex_nx rfl rfl
theorem rX0_dark_173 (Q : Po) (h : Hp) (ls : List Value) (st : List Value) (x : Int32) : Ex mX0_dark Q 173 ls (.int x :: st) h = Ex mX0_dark Q 174 ls (.long x.toInt64 :: st) h := Ex_nx rfl rfl
theorem rX0_dark_174 (Q : Po) (h : Hp) (ls : List Value) (st : List Value) (x y : Int64) : Ex mX0_dark Q 174 ls (.long y :: .long x :: st) h = Ex mX0_dark Q 175 ls (.long (x * y) :: st) h := Ex_nx rfl rfl
theorem rX0_dark_175 (Q : Po) (h : Hp) (l0 l1 l2 l3 l4 l5 l6 l7 l8 l9 l10 l11 l12 l13 : Value) (x : Int64) (st : List Value) : Ex mX0_dark Q 175 [l0, l1, l2, l3, l4, l5, l6, l7, l8, l9, l10, l11, l12, l13] (.long x :: st) h = Ex mX0_dark Q 177 [l0, l1, l2, l3, l4, l5, l6, l7, l8, l9, l10, .long x, .retAddr 1, l13] st h := Ex_nx rfl rfl
theorem rX0_dark_177 (Q : Po) (h : Hp) (l0 l1 l2 l3 l4 l5 l6 l7 l8 l9 l10 l11 l12 : Value) (x : Int32) (st : List Value) : Ex mX0_dark Q 177 [l0, l1, l2, l3, l4, l5, l6, l7, l8, l9, l10, l11, l12, .int x] st h = Ex mX0_dark Q 180 [l0, l1, l2, l3, l4, l5, l6, l7, l8, l9, l10, l11, l12, .int (x + 1)] st h := Ex_nx rfl rfl
theorem rX0_dark_180 (Q : Po) (h : Hp) (ls : List Value) (st : List Value) : Ex mX0_dark Q 180 ls st h = Ex mX0_dark Q 126 ls st h := Ex_nx rfl rfl
theorem rX0_dark_183 (Q : Po) (h : Hp) (l1 l2 l3 l4 l5 l6 l7 l8 l9 l10 l11 l12 l13 : Value) (x : Nat) (st : List Value) : Ex mX0_dark Q 183 [.ref x, l1, l2, l3, l4, l5, l6, l7, l8, l9, l10, l11, l12, l13] st h = Ex mX0_dark Q 184 [.ref x, l1, l2, l3, l4, l5, l6, l7, l8, l9, l10, l11, l12, l13] (.ref x :: st) h := Ex_nx rfl rfl
theorem rX0_dark_184 (Q : Po) (h : Hp) (ls : List Value) (b : Nat) : Ex mX0_dark Q 184 ls (.ref b :: []) h = (gK h b = 1 ∧ Ex mX0_tried (Cont mX0_dark Q 184 ls 187 []) 0 [.ref b] [] h) := Ex_cg (n := 1) (as := [.ref b]) rfl rfl
theorem rX0_dark_187 (Q : Po) (h : Hp) (l0 l1 l2 l3 l4 l6 l7 l8 l9 l10 l11 l12 l13 : Value) (x : Int32) (st : List Value) : Ex mX0_dark Q 187 [l0, l1, l2, l3, l4, .int x, l6, l7, l8, l9, l10, l11, l12, l13] st h = Ex mX0_dark Q 189 [l0, l1, l2, l3, l4, .int x, l6, l7, l8, l9, l10, l11, l12, l13] (.int x :: st) h := Ex_nx rfl rfl
theorem rX0_dark_189 (Q : Po) (h : Hp) (l0 l1 l2 l3 l4 l5 l6 l7 l8 l9 l11 l12 l13 : Value) (x : Int32) (st : List Value) : Ex mX0_dark Q 189 [l0, l1, l2, l3, l4, l5, l6, l7, l8, l9, .int x, l11, l12, l13] st h = Ex mX0_dark Q 191 [l0, l1, l2, l3, l4, l5, l6, l7, l8, l9, .int x, l11, l12, l13] (.int x :: st) h := Ex_nx rfl rfl
theorem rX0_dark_191 (Q : Po) (h : Hp) (ls : List Value) (st : List Value) : Ex mX0_dark Q 191 ls st h = Ex mX0_dark Q 192 ls (.int (-1) :: st) h := Ex_nx rfl rfl
theorem rX0_dark_192 (Q : Po) (h : Hp) (ls : List Value) (st : List Value) (x y : Int32) : Ex mX0_dark Q 192 ls (.int y :: .int x :: st) h = Ex mX0_dark Q 193 ls (.int (x ^^^ y) :: st) h := Ex_nx rfl rfl
theorem rX0_dark_193 (Q : Po) (h : Hp) (ls : List Value) (st : List Value) (x y : Int32) : Ex mX0_dark Q 193 ls (.int y :: .int x :: st) h = Ex mX0_dark Q 194 ls (.int (x &&& y) :: st) h := Ex_nx rfl rfl
theorem rX0_dark_194 (Q : Po) (h : Hp) (ls : List Value) (st : List Value) (x : Int32) (a : Nat) : Ex mX0_dark Q 194 ls (.int x :: .ref a :: st) h = (gK h a ∈ ([2] : List Nat) ∧ Ex mX0_dark Q 197 ls st (pF h 46 a (.int x))) := Ex_gd rfl rfl
theorem rX0_dark_197 (Q : Po) (h : Hp) (l0 l1 l2 l3 l4 l5 l8 l9 l10 l11 l12 l13 : Value) (x : Int64) (st : List Value) : Ex mX0_dark Q 197 [l0, l1, l2, l3, l4, l5, .long x, .retAddr 1, l8, l9, l10, l11, l12, l13] st h = Ex mX0_dark Q 199 [l0, l1, l2, l3, l4, l5, .long x, .retAddr 1, l8, l9, l10, l11, l12, l13] (.long x :: st) h := Ex_nx rfl rfl
theorem rX0_dark_199 (Q : Po) (h : Hp) (l1 l2 l3 l4 l5 l6 l7 l8 l9 l10 l11 l12 l13 : Value) (x : Nat) (st : List Value) : Ex mX0_dark Q 199 [.ref x, l1, l2, l3, l4, l5, l6, l7, l8, l9, l10, l11, l12, l13] st h = Ex mX0_dark Q 200 [.ref x, l1, l2, l3, l4, l5, l6, l7, l8, l9, l10, l11, l12, l13] (.ref x :: st) h := Ex_nx rfl rfl
theorem rX0_dark_200 (Q : Po) (h : Hp) (l0 l1 l3 l4 l5 l6 l7 l8 l9 l10 l11 l12 l13 : Value) (x : Int32) (st : List Value) : Ex mX0_dark Q 200 [l0, l1, .int x, l3, l4, l5, l6, l7, l8, l9, l10, l11, l12, l13] st h = Ex mX0_dark Q 201 [l0, l1, .int x, l3, l4, l5, l6, l7, l8, l9, l10, l11, l12, l13] (.int x :: st) h := Ex_nx rfl rfl
theorem rX0_dark_201 (Q : Po) (h : Hp) (ls : List Value) (a0 : Int32) (s0 : Value) (b : Nat) : Ex mX0_dark Q 201 ls (.int a0 :: .ref b :: [s0]) h = (gK h b = 1 ∧ Ex mX0_goOn (Cont mX0_dark Q 201 ls 204 [s0]) 0 [.ref b, .int a0, .retAddr 0] [] h) := Ex_cg (n := 3) (as := [.ref b, .int a0]) rfl rfl
theorem rX0_dark_204 (Q : Po) (h : Hp) (ls : List Value) (st : List Value) (a : Nat) : Ex mX0_dark Q 204 ls (.ref a :: st) h = (gK h a ∈ ([2] : List Nat) ∧ Ex mX0_dark Q 207 ls (gF h 39 a :: st) h) := Ex_gd rfl rfl
theorem rX0_dark_207 (Q : Po) (h : Hp) (l0 l2 l3 l4 l5 l6 l7 l8 l9 l10 l11 l12 l13 : Value) (x : Int32) (st : List Value) : Ex mX0_dark Q 207 [l0, .int x, l2, l3, l4, l5, l6, l7, l8, l9, l10, l11, l12, l13] st h = Ex mX0_dark Q 208 [l0, .int x, l2, l3, l4, l5, l6, l7, l8, l9, l10, l11, l12, l13] (.int x :: st) h := Ex_nx rfl rfl
theorem rX0_dark_208 (Q : Po) (h : Hp) (ls : List Value) (st : List Value) (a : Nat) (i : Int32) : Ex mX0_dark Q 208 ls (.int i :: .ref a :: st) h = ((gK h a = 51 ∧ ¬ (i < 0 ∨ gL h a ≤ i.toNatClampNeg)) ∧ Ex mX0_dark Q 209 ls (.int (gI h a i.toNatClampNeg) :: st) h) := Ex_gd rfl rfl
theorem rX0_dark_209 (Q : Po) (h : Hp) (ls : List Value) (st : List Value) (x : Int32) : Ex mX0_dark Q 209 ls (.int x :: st) h = if x ≤ 0 then Ex mX0_dark Q 217 ls st h else Ex mX0_dark Q 212 ls st h := Ex_br rfl rfl
theorem rX0_dark_212 (Q : Po) (h : Hp) (l0 l1 l2 l3 l4 l5 l6 l7 l8 l9 l10 l13 : Value) (x : Int64) (st : List Value) : Ex mX0_dark Q 212 [l0, l1, l2, l3, l4, l5, l6, l7, l8, l9, l10, .long x, .retAddr 1, l13] st h = Ex mX0_dark Q 214 [l0, l1, l2, l3, l4, l5, l6, l7, l8, l9, l10, .long x, .retAddr 1, l13] (.long x :: st) h := Ex_nx rfl rfl
theorem rX0_dark_214 (Q : Po) (h : Hp) (ls : List Value) (st : List Value) : Ex mX0_dark Q 214 ls st h = Ex mX0_dark Q 218 ls st h := Ex_nx rfl rfl
theorem rX0_dark_217 (Q : Po) (h : Hp) (ls : List Value) (st : List Value) : Ex mX0_dark Q 217 ls st h = Ex mX0_dark Q 218 ls (.long 0 :: st) h := Ex_nx rfl rfl
theorem rX0_dark_218 (Q : Po) (h : Hp) (ls : List Value) (st : List Value) (x y : Int64) : Ex mX0_dark Q 218 ls (.long y :: .long x :: st) h = Ex mX0_dark Q 219 ls (.long (x + y) :: st) h := Ex_nx rfl rfl
theorem rX0_dark_219 (Q : Po) (h : Hp) (l0 l1 l2 l3 l4 l5 l6 l7 l8 l9 l10 l11 l12 l13 : Value) (x : Int64) (st : List Value) : Ex mX0_dark Q 219 [l0, l1, l2, l3, l4, l5, l6, l7, l8, l9, l10, l11, l12, l13] (.long x :: st) h = Ex mX0_dark Q 221 [l0, l1, l2, l3, l4, l5, .long x, .retAddr 1, l8, l9, l10, l11, l12, l13] st h := Ex_nx rfl rfl
theorem rX0_dark_221 (Q : Po) (h : Hp) (l0 l1 l2 l3 l4 l5 l6 l7 l8 l9 l11 l12 l13 : Value) (x : Int32) (st : List Value) : Ex mX0_dark Q 221 [l0, l1, l2, l3, l4, l5, l6, l7, l8, l9, .int x, l11, l12, l13] st h = Ex mX0_dark Q 224 [l0, l1, l2, l3, l4, l5, l6, l7, l8, l9, .int (x + 1), l11, l12, l13] st h := Ex_nx rfl rfl
theorem rX0_dark_224 (Q : Po) (h : Hp) (ls : List Value) (st : List Value) : Ex mX0_dark Q 224 ls st h = Ex mX0_dark Q 100 ls st h := Ex_nx rfl rfl
theorem rX0_dark_227 (Q : Po) (h : Hp) (l0 l1 l2 l3 l5 l6 l7 l8 l9 l10 l11 l12 l13 : Value) (x : Int32) (st : List Value) : Ex mX0_dark Q 227 [l0, l1, l2, l3, .int x, l5, l6, l7, l8, l9, l10, l11, l12, l13] st h = Ex mX0_dark Q 229 [l0, l1, l2, l3, .int x, l5, l6, l7, l8, l9, l10, l11, l12, l13] (.int x :: st) h := Ex_nx rfl rfl
theorem rX0_dark_229 (Q : Po) (h : Hp) (ls : List Value) (st : List Value) (x : Int32) : Ex mX0_dark Q 229 ls (.int x :: st) h = if ¬ x = 0 then Ex mX0_dark Q 237 ls st h else Ex mX0_dark Q 232 ls st h := Ex_br rfl rfl
theorem rX0_dark_232 (Q : Po) (h : Hp) (l0 l1 l2 l3 l4 l5 l8 l9 l10 l11 l12 l13 : Value) (x : Int64) (st : List Value) : Ex mX0_dark Q 232 [l0, l1, l2, l3, l4, l5, .long x, .retAddr 1, l8, l9, l10, l11, l12, l13] st h = Ex mX0_dark Q 234 [l0, l1, l2, l3, l4, l5, .long x, .retAddr 1, l8, l9, l10, l11, l12, l13] (.long x :: st) h := Ex_nx rfl rfl
theorem rX0_dark_234 (Q : Po) (h : Hp) (ls : List Value) (st : List Value) : Ex mX0_dark Q 234 ls st h = Ex mX0_dark Q 239 ls st h := Ex_nx rfl rfl
theorem rX0_dark_237 (Q : Po) (h : Hp) (l0 l1 l2 l3 l4 l5 l6 l7 l10 l11 l12 l13 : Value) (x : Int64) (st : List Value) : Ex mX0_dark Q 237 [l0, l1, l2, l3, l4, l5, l6, l7, .long x, .retAddr 1, l10, l11, l12, l13] st h = Ex mX0_dark Q 239 [l0, l1, l2, l3, l4, l5, l6, l7, .long x, .retAddr 1, l10, l11, l12, l13] (.long x :: st) h := Ex_nx rfl rfl
theorem rX0_dark_239 (Q : Po) (h : Hp) (l0 l1 l2 l3 l4 l5 l8 l9 l10 l11 l12 l13 : Value) (x : Int64) (st : List Value) : Ex mX0_dark Q 239 [l0, l1, l2, l3, l4, l5, .long x, .retAddr 1, l8, l9, l10, l11, l12, l13] st h = Ex mX0_dark Q 241 [l0, l1, l2, l3, l4, l5, .long x, .retAddr 1, l8, l9, l10, l11, l12, l13] (.long x :: st) h := Ex_nx rfl rfl
theorem rX0_dark_241 (Q : Po) (h : Hp) (l0 l1 l2 l3 l4 l5 l6 l7 l10 l11 l12 l13 : Value) (x : Int64) (st : List Value) : Ex mX0_dark Q 241 [l0, l1, l2, l3, l4, l5, l6, l7, .long x, .retAddr 1, l10, l11, l12, l13] st h = Ex mX0_dark Q 243 [l0, l1, l2, l3, l4, l5, l6, l7, .long x, .retAddr 1, l10, l11, l12, l13] (.long x :: st) h := Ex_nx rfl rfl
theorem rX0_dark_243 (Q : Po) (h : Hp) (ls : List Value) (a0 : Int64) (a1 : Int64) (s0 : Value) : Ex mX0_dark Q 243 ls (.long a1 :: .long a0 :: [s0]) h = Ex mX0_common (Cont mX0_dark Q 243 ls 246 [s0]) 0 [.long a0, .retAddr 1, .long a1, .retAddr 1, .retAddr 0, .retAddr 0, .retAddr 0, .retAddr 0, .retAddr 0, .retAddr 0] [] h := Ex_cl (n := 10) (as := [.long a0, .long a1]) rfl rfl
theorem rX0_dark_246 (Q : Po) (h : Hp) (ls : List Value) (st : List Value) (x y : Int64) : Ex mX0_dark Q 246 ls (.long y :: .long x :: st) h = (¬ y = 0 ∧ Ex mX0_dark Q 247 ls (.long (x / y) :: st) h) := Ex_gd rfl rfl
theorem rX0_dark_247 (Q : Po) (h : Hp) (ls : List Value) (x : Int64) : Ex mX0_dark Q 247 ls [.long x] h = Q (.inl (some (.long x))) h := Ex_rt rfl rfl
theorem rX0_dark_t (Q : Po) (h : Hp) (pc n a : Nat) (ls st : List Value) : Cont mX0_dark Q pc ls n st (.inr a) h = Q (.inr a) h := rfl
/-! FishReaders.drawn(III)I -/
def mX0_drawn : Cd := ([(0, .inl (i_aload 0 1)),
  (1, .inr (c_V 0 4 1 1 (Mt mX0_isLibrary 1))),
  (4, .inl (i_if (fun x => ¬ x = 0) 10 7)),
  (7, .inl (i_push (.int (-1000002)) 9)),
  (9, .inl i_iret),
  (10, .inl (i_iload 1 11)),
  (11, .inr (c_S 1 14 1 (Mt mX0_isFar 1))),
  (14, .inl (i_if (fun x => x = 0) 36 17)),
  (17, .inl (i_iload 2 18)),
  (18, .inl (i_i2l 19)),
  (19, .inl (i_push (.long 1) 20)),
  (20, .inl (i_push (.long 999999) 23)),
  (23, .inr (c_S 3 26 6 (Mt mX0_isIn 6))),
  (26, .inl (i_if (fun x => x = 0) 36 29)),
  (29, .inl (i_iload 3 30)),
  (30, .inr (c_S 1 33 1 (Mt mX0_isHalf 1))),
  (33, .inl (i_if (fun x => ¬ x = 0) 39 36)),
  (36, .inl (i_push (.int (-1000001)) 38)),
  (38, .inl i_iret),
  (39, .inl (i_aload 0 40)),
  (40, .inr (c_V 0 43 1 1 (Mt mX0_tried 1))),
  (43, .inl (i_pop 44)),
  (44, .inl (i_iload 2 45)),
  (45, .inl (i_i2l 46)),
  (46, .inl (i_lstore 4 48)),
  (48, .inl (i_push (.int 0) 49)),
  (49, .inl (i_istore 6 51)),
  (51, .inl (i_iload 6 53)),
  (53, .inl (i_iload 1 54)),
  (54, .inl (i_icmp (fun x y => y ≤ x) 190 57)),
  (57, .inl (i_lload 4 59)),
  (59, .inl (i_push (.long 16807) 62)),
  (62, .inl (i_lbin (fun x y => x * y) 63)),
  (63, .inl (i_push (.long 2147483647) 66)),
  (66, .inl (i_lbing (fun x y => x - x / y * y) 67)),
  (67, .inl (i_lstore 4 69)),
  (69, .inl (i_lload 4 71)),
  (71, .inl (i_aload 0 72)),
  (72, .inl (i_getf 13 [1] 75)),
  (75, .inl (i_getf 36 [2] 78)),
  (78, .inl (i_i2l 79)),
  (79, .inl (i_lbing (fun x y => x - x / y * y) 80)),
  (80, .inl (i_l2i 81)),
  (81, .inl (i_istore 7 83)),
  (83, .inl (i_aload 0 84)),
  (84, .inl (i_getf 13 [1] 87)),
  (87, .inl (i_iload 7 89)),
  (89, .inr (c_V 1 92 2 2 (Mt mX1_isLit 2))),
  (92, .inl (i_if (fun x => x = 0) 129 95)),
  (95, .inl (i_aload 0 96)),
  (96, .inl (i_getf 13 [1] 99)),
  (99, .inl (i_dup 100)),
  (100, .inl (i_getf 46 [2] 103)),
  (103, .inl (i_lload 4 105)),
  (105, .inl (i_push (.long 5) 108)),
  (108, .inl (i_lbing (fun x y => x - x / y * y) 109)),
  (109, .inl (i_push (.long 0) 110)),
  (110, .inl (i_lcmp 111)),
  (111, .inl (i_if (fun x => ¬ x = 0) 121 114)),
  (114, .inl (i_push (.int 1) 115)),
  (115, .inl (i_iload 7 117)),
  (117, .inl (i_bin (fun x y => x <<< (y &&& 31)) 118)),
  (118, .inl (i_goto 122)),
  (121, .inl (i_push (.int 0) 122)),
  (122, .inl (i_bin (fun x y => x ^^^ y) 123)),
  (123, .inl (i_putI 46 [2] 126)),
  (126, .inl (i_goto 176)),
  (129, .inl (i_lload 4 131)),
  (131, .inl (i_push (.long 3) 134)),
  (134, .inl (i_lbing (fun x y => x - x / y * y) 135)),
  (135, .inl (i_push (.long 0) 136)),
  (136, .inl (i_lcmp 137)),
  (137, .inl (i_if (fun x => ¬ x = 0) 176 140)),
  (140, .inl (i_aload 0 141)),
  (141, .inl (i_getf 13 [1] 144)),
  (144, .inl (i_getf 46 [2] 147)),
  (147, .inr (c_S 1 150 1 (Mt mJ16_bitCount 1))),
  (150, .inl (i_aload 0 151)),
  (151, .inl (i_getf 13 [1] 154)),
  (154, .inl (i_getf 34 [2] 157)),
  (157, .inl (i_icmp (fun x y => y ≤ x) 176 160)),
  (160, .inl (i_aload 0 161)),
  (161, .inl (i_getf 13 [1] 164)),
  (164, .inl (i_dup 165)),
  (165, .inl (i_getf 46 [2] 168)),
  (168, .inl (i_push (.int 1) 169)),
  (169, .inl (i_iload 7 171)),
  (171, .inl (i_bin (fun x y => x <<< (y &&& 31)) 172)),
  (172, .inl (i_bin (fun x y => x ||| y) 173)),
  (173, .inl (i_putI 46 [2] 176)),
  (176, .inl (i_aload 0 177)),
  (177, .inl (i_getf 13 [1] 180)),
  (180, .inr (c_V 0 183 2 2 (Mt mX1_pass 2))),
  (183, .inl (i_pop 184)),
  (184, .inl (i_iinc 6 1 187)),
  (187, .inl (i_goto 51)),
  (190, .inl (i_iload 3 191)),
  (191, .inl (i_if (fun x => ¬ x = 0) 208 194)),
  (194, .inl (i_aload 0 195)),
  (195, .inl (i_getf 13 [1] 198)),
  (198, .inl (i_aload 0 199)),
  (199, .inr (c_V 0 202 1 1 (Mt mX0_allBooks 1))),
  (202, .inr (c_V 1 205 4 2 (Mt mX1_left 4))),
  (205, .inl (i_goto 218)),
  (208, .inl (i_aload 0 209)),
  (209, .inl (i_getf 13 [1] 212)),
  (212, .inr (c_V 0 215 3 2 (Mt mX1_gone 3))),
  (215, .inr (c_S 1 218 1 (Mt mJ16_bitCount 1))),
  (218, .inl i_iret)], noH)
theorem rX0_drawn_0 (Q : Po) (h : Hp) (l1 l2 l3 l4 l5 l6 l7 : Value) (x : Nat) (st : List Value) : Ex mX0_drawn Q 0 [.ref x, l1, l2, l3, l4, l5, l6, l7] st h = Ex mX0_drawn Q 1 [.ref x, l1, l2, l3, l4, l5, l6, l7] (.ref x :: st) h := Ex_nx rfl rfl
theorem rX0_drawn_1 (Q : Po) (h : Hp) (ls : List Value) (b : Nat) : Ex mX0_drawn Q 1 ls (.ref b :: []) h = (gK h b = 1 ∧ Ex mX0_isLibrary (Cont mX0_drawn Q 1 ls 4 []) 0 [.ref b] [] h) := Ex_cg (n := 1) (as := [.ref b]) rfl rfl
theorem rX0_drawn_4 (Q : Po) (h : Hp) (ls : List Value) (st : List Value) (x : Int32) : Ex mX0_drawn Q 4 ls (.int x :: st) h = if ¬ x = 0 then Ex mX0_drawn Q 10 ls st h else Ex mX0_drawn Q 7 ls st h := Ex_br rfl rfl
theorem rX0_drawn_7 (Q : Po) (h : Hp) (ls : List Value) (st : List Value) : Ex mX0_drawn Q 7 ls st h = Ex mX0_drawn Q 9 ls (.int (-1000002) :: st) h := Ex_nx rfl rfl
theorem rX0_drawn_9 (Q : Po) (h : Hp) (ls : List Value) (x : Int32) : Ex mX0_drawn Q 9 ls [.int x] h = Q (.inl (some (.int x))) h := Ex_rt rfl rfl
theorem rX0_drawn_10 (Q : Po) (h : Hp) (l0 l2 l3 l4 l5 l6 l7 : Value) (x : Int32) (st : List Value) : Ex mX0_drawn Q 10 [l0, .int x, l2, l3, l4, l5, l6, l7] st h = Ex mX0_drawn Q 11 [l0, .int x, l2, l3, l4, l5, l6, l7] (.int x :: st) h := Ex_nx rfl rfl
theorem rX0_drawn_11 (Q : Po) (h : Hp) (ls : List Value) (a0 : Int32) : Ex mX0_drawn Q 11 ls (.int a0 :: []) h = Ex mX0_isFar (Cont mX0_drawn Q 11 ls 14 []) 0 [.int a0] [] h := Ex_cl (n := 1) (as := [.int a0]) rfl rfl
theorem rX0_drawn_14 (Q : Po) (h : Hp) (ls : List Value) (st : List Value) (x : Int32) : Ex mX0_drawn Q 14 ls (.int x :: st) h = if x = 0 then Ex mX0_drawn Q 36 ls st h else Ex mX0_drawn Q 17 ls st h := Ex_br rfl rfl
theorem rX0_drawn_17 (Q : Po) (h : Hp) (l0 l1 l3 l4 l5 l6 l7 : Value) (x : Int32) (st : List Value) : Ex mX0_drawn Q 17 [l0, l1, .int x, l3, l4, l5, l6, l7] st h = Ex mX0_drawn Q 18 [l0, l1, .int x, l3, l4, l5, l6, l7] (.int x :: st) h := Ex_nx rfl rfl
theorem rX0_drawn_18 (Q : Po) (h : Hp) (ls : List Value) (st : List Value) (x : Int32) : Ex mX0_drawn Q 18 ls (.int x :: st) h = Ex mX0_drawn Q 19 ls (.long x.toInt64 :: st) h := Ex_nx rfl rfl
theorem rX0_drawn_19 (Q : Po) (h : Hp) (ls : List Value) (st : List Value) : Ex mX0_drawn Q 19 ls st h = Ex mX0_drawn Q 20 ls (.long 1 :: st) h := Ex_nx rfl rfl
theorem rX0_drawn_20 (Q : Po) (h : Hp) (ls : List Value) (st : List Value) : Ex mX0_drawn Q 20 ls st h = Ex mX0_drawn Q 23 ls (.long 999999 :: st) h := Ex_nx rfl rfl
theorem rX0_drawn_23 (Q : Po) (h : Hp) (ls : List Value) (a0 : Int64) (a1 : Int64) (a2 : Int64) : Ex mX0_drawn Q 23 ls (.long a2 :: .long a1 :: .long a0 :: []) h = Ex mX0_isIn (Cont mX0_drawn Q 23 ls 26 []) 0 [.long a0, .retAddr 1, .long a1, .retAddr 1, .long a2, .retAddr 1] [] h := Ex_cl (n := 6) (as := [.long a0, .long a1, .long a2]) rfl rfl
theorem rX0_drawn_26 (Q : Po) (h : Hp) (ls : List Value) (st : List Value) (x : Int32) : Ex mX0_drawn Q 26 ls (.int x :: st) h = if x = 0 then Ex mX0_drawn Q 36 ls st h else Ex mX0_drawn Q 29 ls st h := Ex_br rfl rfl
theorem rX0_drawn_29 (Q : Po) (h : Hp) (l0 l1 l2 l4 l5 l6 l7 : Value) (x : Int32) (st : List Value) : Ex mX0_drawn Q 29 [l0, l1, l2, .int x, l4, l5, l6, l7] st h = Ex mX0_drawn Q 30 [l0, l1, l2, .int x, l4, l5, l6, l7] (.int x :: st) h := Ex_nx rfl rfl
theorem rX0_drawn_30 (Q : Po) (h : Hp) (ls : List Value) (a0 : Int32) : Ex mX0_drawn Q 30 ls (.int a0 :: []) h = Ex mX0_isHalf (Cont mX0_drawn Q 30 ls 33 []) 0 [.int a0] [] h := Ex_cl (n := 1) (as := [.int a0]) rfl rfl
theorem rX0_drawn_33 (Q : Po) (h : Hp) (ls : List Value) (st : List Value) (x : Int32) : Ex mX0_drawn Q 33 ls (.int x :: st) h = if ¬ x = 0 then Ex mX0_drawn Q 39 ls st h else Ex mX0_drawn Q 36 ls st h := Ex_br rfl rfl
theorem rX0_drawn_36 (Q : Po) (h : Hp) (ls : List Value) (st : List Value) : Ex mX0_drawn Q 36 ls st h = Ex mX0_drawn Q 38 ls (.int (-1000001) :: st) h := Ex_nx rfl rfl
theorem rX0_drawn_38 (Q : Po) (h : Hp) (ls : List Value) (x : Int32) : Ex mX0_drawn Q 38 ls [.int x] h = Q (.inl (some (.int x))) h := Ex_rt rfl rfl
theorem rX0_drawn_39 (Q : Po) (h : Hp) (l1 l2 l3 l4 l5 l6 l7 : Value) (x : Nat) (st : List Value) : Ex mX0_drawn Q 39 [.ref x, l1, l2, l3, l4, l5, l6, l7] st h = Ex mX0_drawn Q 40 [.ref x, l1, l2, l3, l4, l5, l6, l7] (.ref x :: st) h := Ex_nx rfl rfl
theorem rX0_drawn_40 (Q : Po) (h : Hp) (ls : List Value) (b : Nat) : Ex mX0_drawn Q 40 ls (.ref b :: []) h = (gK h b = 1 ∧ Ex mX0_tried (Cont mX0_drawn Q 40 ls 43 []) 0 [.ref b] [] h) := Ex_cg (n := 1) (as := [.ref b]) rfl rfl
theorem rX0_drawn_43 (Q : Po) (h : Hp) (ls : List Value) (st : List Value) (x : Nat) : Ex mX0_drawn Q 43 ls (.ref x :: st) h = Ex mX0_drawn Q 44 ls st h := Ex_nx rfl rfl
theorem rX0_drawn_44 (Q : Po) (h : Hp) (l0 l1 l3 l4 l5 l6 l7 : Value) (x : Int32) (st : List Value) : Ex mX0_drawn Q 44 [l0, l1, .int x, l3, l4, l5, l6, l7] st h = Ex mX0_drawn Q 45 [l0, l1, .int x, l3, l4, l5, l6, l7] (.int x :: st) h := Ex_nx rfl rfl
theorem rX0_drawn_45 (Q : Po) (h : Hp) (ls : List Value) (st : List Value) (x : Int32) : Ex mX0_drawn Q 45 ls (.int x :: st) h = Ex mX0_drawn Q 46 ls (.long x.toInt64 :: st) h := Ex_nx rfl rfl
theorem rX0_drawn_46 (Q : Po) (h : Hp) (l0 l1 l2 l3 l4 l5 l6 l7 : Value) (x : Int64) (st : List Value) : Ex mX0_drawn Q 46 [l0, l1, l2, l3, l4, l5, l6, l7] (.long x :: st) h = Ex mX0_drawn Q 48 [l0, l1, l2, l3, .long x, .retAddr 1, l6, l7] st h := Ex_nx rfl rfl
theorem rX0_drawn_48 (Q : Po) (h : Hp) (ls : List Value) (st : List Value) : Ex mX0_drawn Q 48 ls st h = Ex mX0_drawn Q 49 ls (.int 0 :: st) h := Ex_nx rfl rfl
theorem rX0_drawn_49 (Q : Po) (h : Hp) (l0 l1 l2 l3 l4 l5 l6 l7 : Value) (x : Int32) (st : List Value) : Ex mX0_drawn Q 49 [l0, l1, l2, l3, l4, l5, l6, l7] (.int x :: st) h = Ex mX0_drawn Q 51 [l0, l1, l2, l3, l4, l5, .int x, l7] st h := Ex_nx rfl rfl
theorem rX0_drawn_51 (Q : Po) (h : Hp) (l0 l1 l2 l3 l4 l5 l7 : Value) (x : Int32) (st : List Value) : Ex mX0_drawn Q 51 [l0, l1, l2, l3, l4, l5, .int x, l7] st h = Ex mX0_drawn Q 53 [l0, l1, l2, l3, l4, l5, .int x, l7] (.int x :: st) h := Ex_nx rfl rfl
theorem rX0_drawn_53 (Q : Po) (h : Hp) (l0 l2 l3 l4 l5 l6 l7 : Value) (x : Int32) (st : List Value) : Ex mX0_drawn Q 53 [l0, .int x, l2, l3, l4, l5, l6, l7] st h = Ex mX0_drawn Q 54 [l0, .int x, l2, l3, l4, l5, l6, l7] (.int x :: st) h := Ex_nx rfl rfl
theorem rX0_drawn_54 (Q : Po) (h : Hp) (ls : List Value) (st : List Value) (x y : Int32) : Ex mX0_drawn Q 54 ls (.int y :: .int x :: st) h = if y ≤ x then Ex mX0_drawn Q 190 ls st h else Ex mX0_drawn Q 57 ls st h := Ex_br rfl rfl
theorem rX0_drawn_57 (Q : Po) (h : Hp) (l0 l1 l2 l3 l6 l7 : Value) (x : Int64) (st : List Value) : Ex mX0_drawn Q 57 [l0, l1, l2, l3, .long x, .retAddr 1, l6, l7] st h = Ex mX0_drawn Q 59 [l0, l1, l2, l3, .long x, .retAddr 1, l6, l7] (.long x :: st) h := Ex_nx rfl rfl
theorem rX0_drawn_59 (Q : Po) (h : Hp) (ls : List Value) (st : List Value) : Ex mX0_drawn Q 59 ls st h = Ex mX0_drawn Q 62 ls (.long 16807 :: st) h := Ex_nx rfl rfl
theorem rX0_drawn_62 (Q : Po) (h : Hp) (ls : List Value) (st : List Value) (x y : Int64) : Ex mX0_drawn Q 62 ls (.long y :: .long x :: st) h = Ex mX0_drawn Q 63 ls (.long (x * y) :: st) h := Ex_nx rfl rfl
theorem rX0_drawn_63 (Q : Po) (h : Hp) (ls : List Value) (st : List Value) : Ex mX0_drawn Q 63 ls st h = Ex mX0_drawn Q 66 ls (.long 2147483647 :: st) h := Ex_nx rfl rfl
theorem rX0_drawn_66 (Q : Po) (h : Hp) (ls : List Value) (st : List Value) (x y : Int64) : Ex mX0_drawn Q 66 ls (.long y :: .long x :: st) h = (¬ y = 0 ∧ Ex mX0_drawn Q 67 ls (.long (x - x / y * y) :: st) h) := Ex_gd rfl rfl
theorem rX0_drawn_67 (Q : Po) (h : Hp) (l0 l1 l2 l3 l4 l5 l6 l7 : Value) (x : Int64) (st : List Value) : Ex mX0_drawn Q 67 [l0, l1, l2, l3, l4, l5, l6, l7] (.long x :: st) h = Ex mX0_drawn Q 69 [l0, l1, l2, l3, .long x, .retAddr 1, l6, l7] st h := Ex_nx rfl rfl
theorem rX0_drawn_69 (Q : Po) (h : Hp) (l0 l1 l2 l3 l6 l7 : Value) (x : Int64) (st : List Value) : Ex mX0_drawn Q 69 [l0, l1, l2, l3, .long x, .retAddr 1, l6, l7] st h = Ex mX0_drawn Q 71 [l0, l1, l2, l3, .long x, .retAddr 1, l6, l7] (.long x :: st) h := Ex_nx rfl rfl
theorem rX0_drawn_71 (Q : Po) (h : Hp) (l1 l2 l3 l4 l5 l6 l7 : Value) (x : Nat) (st : List Value) : Ex mX0_drawn Q 71 [.ref x, l1, l2, l3, l4, l5, l6, l7] st h = Ex mX0_drawn Q 72 [.ref x, l1, l2, l3, l4, l5, l6, l7] (.ref x :: st) h := Ex_nx rfl rfl
theorem rX0_drawn_72 (Q : Po) (h : Hp) (ls : List Value) (st : List Value) (a : Nat) : Ex mX0_drawn Q 72 ls (.ref a :: st) h = (gK h a ∈ ([1] : List Nat) ∧ Ex mX0_drawn Q 75 ls (gF h 13 a :: st) h) := Ex_gd rfl rfl
theorem rX0_drawn_75 (Q : Po) (h : Hp) (ls : List Value) (st : List Value) (a : Nat) : Ex mX0_drawn Q 75 ls (.ref a :: st) h = (gK h a ∈ ([2] : List Nat) ∧ Ex mX0_drawn Q 78 ls (gF h 36 a :: st) h) := Ex_gd rfl rfl
theorem rX0_drawn_78 (Q : Po) (h : Hp) (ls : List Value) (st : List Value) (x : Int32) : Ex mX0_drawn Q 78 ls (.int x :: st) h = Ex mX0_drawn Q 79 ls (.long x.toInt64 :: st) h := Ex_nx rfl rfl
theorem rX0_drawn_79 (Q : Po) (h : Hp) (ls : List Value) (st : List Value) (x y : Int64) : Ex mX0_drawn Q 79 ls (.long y :: .long x :: st) h = (¬ y = 0 ∧ Ex mX0_drawn Q 80 ls (.long (x - x / y * y) :: st) h) := Ex_gd rfl rfl
theorem rX0_drawn_80 (Q : Po) (h : Hp) (ls : List Value) (st : List Value) (x : Int64) : Ex mX0_drawn Q 80 ls (.long x :: st) h = Ex mX0_drawn Q 81 ls (.int x.toInt32 :: st) h := Ex_nx rfl rfl
theorem rX0_drawn_81 (Q : Po) (h : Hp) (l0 l1 l2 l3 l4 l5 l6 l7 : Value) (x : Int32) (st : List Value) : Ex mX0_drawn Q 81 [l0, l1, l2, l3, l4, l5, l6, l7] (.int x :: st) h = Ex mX0_drawn Q 83 [l0, l1, l2, l3, l4, l5, l6, .int x] st h := Ex_nx rfl rfl
theorem rX0_drawn_83 (Q : Po) (h : Hp) (l1 l2 l3 l4 l5 l6 l7 : Value) (x : Nat) (st : List Value) : Ex mX0_drawn Q 83 [.ref x, l1, l2, l3, l4, l5, l6, l7] st h = Ex mX0_drawn Q 84 [.ref x, l1, l2, l3, l4, l5, l6, l7] (.ref x :: st) h := Ex_nx rfl rfl
theorem rX0_drawn_84 (Q : Po) (h : Hp) (ls : List Value) (st : List Value) (a : Nat) : Ex mX0_drawn Q 84 ls (.ref a :: st) h = (gK h a ∈ ([1] : List Nat) ∧ Ex mX0_drawn Q 87 ls (gF h 13 a :: st) h) := Ex_gd rfl rfl
theorem rX0_drawn_87 (Q : Po) (h : Hp) (l0 l1 l2 l3 l4 l5 l6 : Value) (x : Int32) (st : List Value) : Ex mX0_drawn Q 87 [l0, l1, l2, l3, l4, l5, l6, .int x] st h = Ex mX0_drawn Q 89 [l0, l1, l2, l3, l4, l5, l6, .int x] (.int x :: st) h := Ex_nx rfl rfl
theorem rX0_drawn_89 (Q : Po) (h : Hp) (ls : List Value) (a0 : Int32) (b : Nat) : Ex mX0_drawn Q 89 ls (.int a0 :: .ref b :: []) h = (gK h b = 2 ∧ Ex mX1_isLit (Cont mX0_drawn Q 89 ls 92 []) 0 [.ref b, .int a0] [] h) := Ex_cg (n := 2) (as := [.ref b, .int a0]) rfl rfl
theorem rX0_drawn_92 (Q : Po) (h : Hp) (ls : List Value) (st : List Value) (x : Int32) : Ex mX0_drawn Q 92 ls (.int x :: st) h = if x = 0 then Ex mX0_drawn Q 129 ls st h else Ex mX0_drawn Q 95 ls st h := Ex_br rfl rfl
theorem rX0_drawn_95 (Q : Po) (h : Hp) (l1 l2 l3 l4 l5 l6 l7 : Value) (x : Nat) (st : List Value) : Ex mX0_drawn Q 95 [.ref x, l1, l2, l3, l4, l5, l6, l7] st h = Ex mX0_drawn Q 96 [.ref x, l1, l2, l3, l4, l5, l6, l7] (.ref x :: st) h := Ex_nx rfl rfl
theorem rX0_drawn_96 (Q : Po) (h : Hp) (ls : List Value) (st : List Value) (a : Nat) : Ex mX0_drawn Q 96 ls (.ref a :: st) h = (gK h a ∈ ([1] : List Nat) ∧ Ex mX0_drawn Q 99 ls (gF h 13 a :: st) h) := Ex_gd rfl rfl
theorem rX0_drawn_99 (Q : Po) (h : Hp) (ls : List Value) (st : List Value) (x : Nat) : Ex mX0_drawn Q 99 ls (.ref x :: st) h = Ex mX0_drawn Q 100 ls (.ref x :: .ref x :: st) h := Ex_nx rfl rfl
theorem rX0_drawn_100 (Q : Po) (h : Hp) (ls : List Value) (st : List Value) (a : Nat) : Ex mX0_drawn Q 100 ls (.ref a :: st) h = (gK h a ∈ ([2] : List Nat) ∧ Ex mX0_drawn Q 103 ls (gF h 46 a :: st) h) := Ex_gd rfl rfl
theorem rX0_drawn_103 (Q : Po) (h : Hp) (l0 l1 l2 l3 l6 l7 : Value) (x : Int64) (st : List Value) : Ex mX0_drawn Q 103 [l0, l1, l2, l3, .long x, .retAddr 1, l6, l7] st h = Ex mX0_drawn Q 105 [l0, l1, l2, l3, .long x, .retAddr 1, l6, l7] (.long x :: st) h := Ex_nx rfl rfl
theorem rX0_drawn_105 (Q : Po) (h : Hp) (ls : List Value) (st : List Value) : Ex mX0_drawn Q 105 ls st h = Ex mX0_drawn Q 108 ls (.long 5 :: st) h := Ex_nx rfl rfl
theorem rX0_drawn_108 (Q : Po) (h : Hp) (ls : List Value) (st : List Value) (x y : Int64) : Ex mX0_drawn Q 108 ls (.long y :: .long x :: st) h = (¬ y = 0 ∧ Ex mX0_drawn Q 109 ls (.long (x - x / y * y) :: st) h) := Ex_gd rfl rfl
theorem rX0_drawn_109 (Q : Po) (h : Hp) (ls : List Value) (st : List Value) : Ex mX0_drawn Q 109 ls st h = Ex mX0_drawn Q 110 ls (.long 0 :: st) h := Ex_nx rfl rfl
theorem rX0_drawn_110 (Q : Po) (h : Hp) (ls : List Value) (st : List Value) (x y : Int64) : Ex mX0_drawn Q 110 ls (.long y :: .long x :: st) h = Ex mX0_drawn Q 111 ls (.int (lg_cmp x y) :: st) h := Ex_nx rfl rfl
theorem rX0_drawn_111 (Q : Po) (h : Hp) (ls : List Value) (st : List Value) (x : Int32) : Ex mX0_drawn Q 111 ls (.int x :: st) h = if ¬ x = 0 then Ex mX0_drawn Q 121 ls st h else Ex mX0_drawn Q 114 ls st h := Ex_br rfl rfl
theorem rX0_drawn_114 (Q : Po) (h : Hp) (ls : List Value) (st : List Value) : Ex mX0_drawn Q 114 ls st h = Ex mX0_drawn Q 115 ls (.int 1 :: st) h := Ex_nx rfl rfl
theorem rX0_drawn_115 (Q : Po) (h : Hp) (l0 l1 l2 l3 l4 l5 l6 : Value) (x : Int32) (st : List Value) : Ex mX0_drawn Q 115 [l0, l1, l2, l3, l4, l5, l6, .int x] st h = Ex mX0_drawn Q 117 [l0, l1, l2, l3, l4, l5, l6, .int x] (.int x :: st) h := Ex_nx rfl rfl
theorem rX0_drawn_117 (Q : Po) (h : Hp) (ls : List Value) (st : List Value) (x y : Int32) : Ex mX0_drawn Q 117 ls (.int y :: .int x :: st) h = Ex mX0_drawn Q 118 ls (.int (x <<< (y &&& 31)) :: st) h := Ex_nx rfl rfl
theorem rX0_drawn_118 (Q : Po) (h : Hp) (ls : List Value) (st : List Value) : Ex mX0_drawn Q 118 ls st h = Ex mX0_drawn Q 122 ls st h := Ex_nx rfl rfl
theorem rX0_drawn_121 (Q : Po) (h : Hp) (ls : List Value) (st : List Value) : Ex mX0_drawn Q 121 ls st h = Ex mX0_drawn Q 122 ls (.int 0 :: st) h := Ex_nx rfl rfl
theorem rX0_drawn_122 (Q : Po) (h : Hp) (ls : List Value) (st : List Value) (x y : Int32) : Ex mX0_drawn Q 122 ls (.int y :: .int x :: st) h = Ex mX0_drawn Q 123 ls (.int (x ^^^ y) :: st) h := Ex_nx rfl rfl
theorem rX0_drawn_123 (Q : Po) (h : Hp) (ls : List Value) (st : List Value) (x : Int32) (a : Nat) : Ex mX0_drawn Q 123 ls (.int x :: .ref a :: st) h = (gK h a ∈ ([2] : List Nat) ∧ Ex mX0_drawn Q 126 ls st (pF h 46 a (.int x))) := Ex_gd rfl rfl
theorem rX0_drawn_126 (Q : Po) (h : Hp) (ls : List Value) (st : List Value) : Ex mX0_drawn Q 126 ls st h = Ex mX0_drawn Q 176 ls st h := Ex_nx rfl rfl
theorem rX0_drawn_129 (Q : Po) (h : Hp) (l0 l1 l2 l3 l6 l7 : Value) (x : Int64) (st : List Value) : Ex mX0_drawn Q 129 [l0, l1, l2, l3, .long x, .retAddr 1, l6, l7] st h = Ex mX0_drawn Q 131 [l0, l1, l2, l3, .long x, .retAddr 1, l6, l7] (.long x :: st) h := Ex_nx rfl rfl
theorem rX0_drawn_131 (Q : Po) (h : Hp) (ls : List Value) (st : List Value) : Ex mX0_drawn Q 131 ls st h = Ex mX0_drawn Q 134 ls (.long 3 :: st) h := Ex_nx rfl rfl
theorem rX0_drawn_134 (Q : Po) (h : Hp) (ls : List Value) (st : List Value) (x y : Int64) : Ex mX0_drawn Q 134 ls (.long y :: .long x :: st) h = (¬ y = 0 ∧ Ex mX0_drawn Q 135 ls (.long (x - x / y * y) :: st) h) := Ex_gd rfl rfl
theorem rX0_drawn_135 (Q : Po) (h : Hp) (ls : List Value) (st : List Value) : Ex mX0_drawn Q 135 ls st h = Ex mX0_drawn Q 136 ls (.long 0 :: st) h := Ex_nx rfl rfl
theorem rX0_drawn_136 (Q : Po) (h : Hp) (ls : List Value) (st : List Value) (x y : Int64) : Ex mX0_drawn Q 136 ls (.long y :: .long x :: st) h = Ex mX0_drawn Q 137 ls (.int (lg_cmp x y) :: st) h := Ex_nx rfl rfl
theorem rX0_drawn_137 (Q : Po) (h : Hp) (ls : List Value) (st : List Value) (x : Int32) : Ex mX0_drawn Q 137 ls (.int x :: st) h = if ¬ x = 0 then Ex mX0_drawn Q 176 ls st h else Ex mX0_drawn Q 140 ls st h := Ex_br rfl rfl
theorem rX0_drawn_140 (Q : Po) (h : Hp) (l1 l2 l3 l4 l5 l6 l7 : Value) (x : Nat) (st : List Value) : Ex mX0_drawn Q 140 [.ref x, l1, l2, l3, l4, l5, l6, l7] st h = Ex mX0_drawn Q 141 [.ref x, l1, l2, l3, l4, l5, l6, l7] (.ref x :: st) h := Ex_nx rfl rfl
theorem rX0_drawn_141 (Q : Po) (h : Hp) (ls : List Value) (st : List Value) (a : Nat) : Ex mX0_drawn Q 141 ls (.ref a :: st) h = (gK h a ∈ ([1] : List Nat) ∧ Ex mX0_drawn Q 144 ls (gF h 13 a :: st) h) := Ex_gd rfl rfl
theorem rX0_drawn_144 (Q : Po) (h : Hp) (ls : List Value) (st : List Value) (a : Nat) : Ex mX0_drawn Q 144 ls (.ref a :: st) h = (gK h a ∈ ([2] : List Nat) ∧ Ex mX0_drawn Q 147 ls (gF h 46 a :: st) h) := Ex_gd rfl rfl
theorem rX0_drawn_147 (Q : Po) (h : Hp) (ls : List Value) (a0 : Int32) : Ex mX0_drawn Q 147 ls (.int a0 :: []) h = Ex mJ16_bitCount (Cont mX0_drawn Q 147 ls 150 []) 0 [.int a0] [] h := Ex_cl (n := 1) (as := [.int a0]) rfl rfl
theorem rX0_drawn_150 (Q : Po) (h : Hp) (l1 l2 l3 l4 l5 l6 l7 : Value) (x : Nat) (st : List Value) : Ex mX0_drawn Q 150 [.ref x, l1, l2, l3, l4, l5, l6, l7] st h = Ex mX0_drawn Q 151 [.ref x, l1, l2, l3, l4, l5, l6, l7] (.ref x :: st) h := Ex_nx rfl rfl
theorem rX0_drawn_151 (Q : Po) (h : Hp) (ls : List Value) (st : List Value) (a : Nat) : Ex mX0_drawn Q 151 ls (.ref a :: st) h = (gK h a ∈ ([1] : List Nat) ∧ Ex mX0_drawn Q 154 ls (gF h 13 a :: st) h) := Ex_gd rfl rfl
theorem rX0_drawn_154 (Q : Po) (h : Hp) (ls : List Value) (st : List Value) (a : Nat) : Ex mX0_drawn Q 154 ls (.ref a :: st) h = (gK h a ∈ ([2] : List Nat) ∧ Ex mX0_drawn Q 157 ls (gF h 34 a :: st) h) := Ex_gd rfl rfl
theorem rX0_drawn_157 (Q : Po) (h : Hp) (ls : List Value) (st : List Value) (x y : Int32) : Ex mX0_drawn Q 157 ls (.int y :: .int x :: st) h = if y ≤ x then Ex mX0_drawn Q 176 ls st h else Ex mX0_drawn Q 160 ls st h := Ex_br rfl rfl
theorem rX0_drawn_160 (Q : Po) (h : Hp) (l1 l2 l3 l4 l5 l6 l7 : Value) (x : Nat) (st : List Value) : Ex mX0_drawn Q 160 [.ref x, l1, l2, l3, l4, l5, l6, l7] st h = Ex mX0_drawn Q 161 [.ref x, l1, l2, l3, l4, l5, l6, l7] (.ref x :: st) h := Ex_nx rfl rfl
theorem rX0_drawn_161 (Q : Po) (h : Hp) (ls : List Value) (st : List Value) (a : Nat) : Ex mX0_drawn Q 161 ls (.ref a :: st) h = (gK h a ∈ ([1] : List Nat) ∧ Ex mX0_drawn Q 164 ls (gF h 13 a :: st) h) := Ex_gd rfl rfl
theorem rX0_drawn_164 (Q : Po) (h : Hp) (ls : List Value) (st : List Value) (x : Nat) : Ex mX0_drawn Q 164 ls (.ref x :: st) h = Ex mX0_drawn Q 165 ls (.ref x :: .ref x :: st) h := Ex_nx rfl rfl
theorem rX0_drawn_165 (Q : Po) (h : Hp) (ls : List Value) (st : List Value) (a : Nat) : Ex mX0_drawn Q 165 ls (.ref a :: st) h = (gK h a ∈ ([2] : List Nat) ∧ Ex mX0_drawn Q 168 ls (gF h 46 a :: st) h) := Ex_gd rfl rfl
theorem rX0_drawn_168 (Q : Po) (h : Hp) (ls : List Value) (st : List Value) : Ex mX0_drawn Q 168 ls st h = Ex mX0_drawn Q 169 ls (.int 1 :: st) h := Ex_nx rfl rfl
theorem rX0_drawn_169 (Q : Po) (h : Hp) (l0 l1 l2 l3 l4 l5 l6 : Value) (x : Int32) (st : List Value) : Ex mX0_drawn Q 169 [l0, l1, l2, l3, l4, l5, l6, .int x] st h = Ex mX0_drawn Q 171 [l0, l1, l2, l3, l4, l5, l6, .int x] (.int x :: st) h := Ex_nx rfl rfl
theorem rX0_drawn_171 (Q : Po) (h : Hp) (ls : List Value) (st : List Value) (x y : Int32) : Ex mX0_drawn Q 171 ls (.int y :: .int x :: st) h = Ex mX0_drawn Q 172 ls (.int (x <<< (y &&& 31)) :: st) h := Ex_nx rfl rfl
theorem rX0_drawn_172 (Q : Po) (h : Hp) (ls : List Value) (st : List Value) (x y : Int32) : Ex mX0_drawn Q 172 ls (.int y :: .int x :: st) h = Ex mX0_drawn Q 173 ls (.int (x ||| y) :: st) h := Ex_nx rfl rfl
theorem rX0_drawn_173 (Q : Po) (h : Hp) (ls : List Value) (st : List Value) (x : Int32) (a : Nat) : Ex mX0_drawn Q 173 ls (.int x :: .ref a :: st) h = (gK h a ∈ ([2] : List Nat) ∧ Ex mX0_drawn Q 176 ls st (pF h 46 a (.int x))) := Ex_gd rfl rfl
theorem rX0_drawn_176 (Q : Po) (h : Hp) (l1 l2 l3 l4 l5 l6 l7 : Value) (x : Nat) (st : List Value) : Ex mX0_drawn Q 176 [.ref x, l1, l2, l3, l4, l5, l6, l7] st h = Ex mX0_drawn Q 177 [.ref x, l1, l2, l3, l4, l5, l6, l7] (.ref x :: st) h := Ex_nx rfl rfl
theorem rX0_drawn_177 (Q : Po) (h : Hp) (ls : List Value) (st : List Value) (a : Nat) : Ex mX0_drawn Q 177 ls (.ref a :: st) h = (gK h a ∈ ([1] : List Nat) ∧ Ex mX0_drawn Q 180 ls (gF h 13 a :: st) h) := Ex_gd rfl rfl
theorem rX0_drawn_180 (Q : Po) (h : Hp) (ls : List Value) (b : Nat) : Ex mX0_drawn Q 180 ls (.ref b :: []) h = (gK h b = 2 ∧ Ex mX1_pass (Cont mX0_drawn Q 180 ls 183 []) 0 [.ref b, .retAddr 0] [] h) := Ex_cg (n := 2) (as := [.ref b]) rfl rfl
theorem rX0_drawn_183 (Q : Po) (h : Hp) (ls : List Value) (st : List Value) (x : Nat) : Ex mX0_drawn Q 183 ls (.ref x :: st) h = Ex mX0_drawn Q 184 ls st h := Ex_nx rfl rfl
theorem rX0_drawn_184 (Q : Po) (h : Hp) (l0 l1 l2 l3 l4 l5 l7 : Value) (x : Int32) (st : List Value) : Ex mX0_drawn Q 184 [l0, l1, l2, l3, l4, l5, .int x, l7] st h = Ex mX0_drawn Q 187 [l0, l1, l2, l3, l4, l5, .int (x + 1), l7] st h := Ex_nx rfl rfl
theorem rX0_drawn_187 (Q : Po) (h : Hp) (ls : List Value) (st : List Value) : Ex mX0_drawn Q 187 ls st h = Ex mX0_drawn Q 51 ls st h := Ex_nx rfl rfl
theorem rX0_drawn_190 (Q : Po) (h : Hp) (l0 l1 l2 l4 l5 l6 l7 : Value) (x : Int32) (st : List Value) : Ex mX0_drawn Q 190 [l0, l1, l2, .int x, l4, l5, l6, l7] st h = Ex mX0_drawn Q 191 [l0, l1, l2, .int x, l4, l5, l6, l7] (.int x :: st) h := Ex_nx rfl rfl
theorem rX0_drawn_191 (Q : Po) (h : Hp) (ls : List Value) (st : List Value) (x : Int32) : Ex mX0_drawn Q 191 ls (.int x :: st) h = if ¬ x = 0 then Ex mX0_drawn Q 208 ls st h else Ex mX0_drawn Q 194 ls st h := Ex_br rfl rfl
theorem rX0_drawn_194 (Q : Po) (h : Hp) (l1 l2 l3 l4 l5 l6 l7 : Value) (x : Nat) (st : List Value) : Ex mX0_drawn Q 194 [.ref x, l1, l2, l3, l4, l5, l6, l7] st h = Ex mX0_drawn Q 195 [.ref x, l1, l2, l3, l4, l5, l6, l7] (.ref x :: st) h := Ex_nx rfl rfl
theorem rX0_drawn_195 (Q : Po) (h : Hp) (ls : List Value) (st : List Value) (a : Nat) : Ex mX0_drawn Q 195 ls (.ref a :: st) h = (gK h a ∈ ([1] : List Nat) ∧ Ex mX0_drawn Q 198 ls (gF h 13 a :: st) h) := Ex_gd rfl rfl
theorem rX0_drawn_198 (Q : Po) (h : Hp) (l1 l2 l3 l4 l5 l6 l7 : Value) (x : Nat) (st : List Value) : Ex mX0_drawn Q 198 [.ref x, l1, l2, l3, l4, l5, l6, l7] st h = Ex mX0_drawn Q 199 [.ref x, l1, l2, l3, l4, l5, l6, l7] (.ref x :: st) h := Ex_nx rfl rfl
theorem rX0_drawn_199 (Q : Po) (h : Hp) (ls : List Value) (s0 : Value) (b : Nat) : Ex mX0_drawn Q 199 ls (.ref b :: [s0]) h = (gK h b = 1 ∧ Ex mX0_allBooks (Cont mX0_drawn Q 199 ls 202 [s0]) 0 [.ref b] [] h) := Ex_cg (n := 1) (as := [.ref b]) rfl rfl
theorem rX0_drawn_202 (Q : Po) (h : Hp) (ls : List Value) (a0 : Int32) (b : Nat) : Ex mX0_drawn Q 202 ls (.int a0 :: .ref b :: []) h = (gK h b = 2 ∧ Ex mX1_left (Cont mX0_drawn Q 202 ls 205 []) 0 [.ref b, .int a0, .retAddr 0, .retAddr 0] [] h) := Ex_cg (n := 4) (as := [.ref b, .int a0]) rfl rfl
theorem rX0_drawn_205 (Q : Po) (h : Hp) (ls : List Value) (st : List Value) : Ex mX0_drawn Q 205 ls st h = Ex mX0_drawn Q 218 ls st h := Ex_nx rfl rfl
theorem rX0_drawn_208 (Q : Po) (h : Hp) (l1 l2 l3 l4 l5 l6 l7 : Value) (x : Nat) (st : List Value) : Ex mX0_drawn Q 208 [.ref x, l1, l2, l3, l4, l5, l6, l7] st h = Ex mX0_drawn Q 209 [.ref x, l1, l2, l3, l4, l5, l6, l7] (.ref x :: st) h := Ex_nx rfl rfl
theorem rX0_drawn_209 (Q : Po) (h : Hp) (ls : List Value) (st : List Value) (a : Nat) : Ex mX0_drawn Q 209 ls (.ref a :: st) h = (gK h a ∈ ([1] : List Nat) ∧ Ex mX0_drawn Q 212 ls (gF h 13 a :: st) h) := Ex_gd rfl rfl
theorem rX0_drawn_212 (Q : Po) (h : Hp) (ls : List Value) (b : Nat) : Ex mX0_drawn Q 212 ls (.ref b :: []) h = (gK h b = 2 ∧ Ex mX1_gone (Cont mX0_drawn Q 212 ls 215 []) 0 [.ref b, .retAddr 0, .retAddr 0] [] h) := Ex_cg (n := 3) (as := [.ref b]) rfl rfl
theorem rX0_drawn_215 (Q : Po) (h : Hp) (ls : List Value) (a0 : Int32) : Ex mX0_drawn Q 215 ls (.int a0 :: []) h = Ex mJ16_bitCount (Cont mX0_drawn Q 215 ls 218 []) 0 [.int a0] [] h := Ex_cl (n := 1) (as := [.int a0]) rfl rfl
theorem rX0_drawn_218 (Q : Po) (h : Hp) (ls : List Value) (x : Int32) : Ex mX0_drawn Q 218 ls [.int x] h = Q (.inl (some (.int x))) h := Ex_rt rfl rfl
theorem rX0_drawn_t (Q : Po) (h : Hp) (pc n a : Nat) (ls st : List Value) : Cont mX0_drawn Q pc ls n st (.inr a) h = Q (.inr a) h := rfl
/-! FishReaders.image(I)I -/
def mX0_image : Cd := ([(0, .inl (i_iload 1 1)),
  (1, .inl (i_i2l 2)),
  (2, .inl (i_push (.long 0) 3)),
  (3, .inl (i_push (.long 1) 4)),
  (4, .inr (c_S 3 7 6 (Mt mX0_isIn 6))),
  (7, .inl (i_if (fun x => ¬ x = 0) 13 10)),
  (10, .inl (i_push (.int (-1000001)) 12)),
  (12, .inl i_iret),
  (13, .inl (i_aload 0 14)),
  (14, .inr (c_V 0 17 1 1 (Mt mX0_isLibrary 1))),
  (17, .inl (i_if (fun x => ¬ x = 0) 23 20)),
  (20, .inl (i_push (.int (-1000002)) 22)),
  (22, .inl i_iret),
  (23, .inl (i_aload 0 24)),
  (24, .inl (i_getf 19 [1] 27)),
  (27, .inl (i_iload 1 28)),
  (28, .inl (i_aald 55 29)),
  (29, .inl (i_ifn 32 45)),
  (32, .inl (i_aload 0 33)),
  (33, .inl (i_getf 19 [1] 36)),
  (36, .inl (i_iload 1 37)),
  (37, .inl (i_new 2 16 40)),
  (40, .inl (i_dup 41)),
  (41, .inr (c_I 0 44 1 (Mt mX1_init 1))),
  (44, .inl (i_aast 55 [2] 45)),
  (45, .inl (i_aload 0 46)),
  (46, .inl (i_getf 19 [1] 49)),
  (49, .inl (i_iload 1 50)),
  (50, .inl (i_aald 55 51)),
  (51, .inl (i_aload 0 52)),
  (52, .inl (i_getf 11 [1] 55)),
  (55, .inr (c_V 1 58 2 2 (Mt mX1_become 2))),
  (58, .inl (i_pop 59)),
  (59, .inl (i_push (.int 1) 60)),
  (60, .inl i_iret)], noH)
theorem rX0_image_0 (Q : Po) (h : Hp) (l0 : Value) (x : Int32) (st : List Value) : Ex mX0_image Q 0 [l0, .int x] st h = Ex mX0_image Q 1 [l0, .int x] (.int x :: st) h := Ex_nx rfl rfl
theorem rX0_image_1 (Q : Po) (h : Hp) (ls : List Value) (st : List Value) (x : Int32) : Ex mX0_image Q 1 ls (.int x :: st) h = Ex mX0_image Q 2 ls (.long x.toInt64 :: st) h := Ex_nx rfl rfl
theorem rX0_image_2 (Q : Po) (h : Hp) (ls : List Value) (st : List Value) : Ex mX0_image Q 2 ls st h = Ex mX0_image Q 3 ls (.long 0 :: st) h := Ex_nx rfl rfl
theorem rX0_image_3 (Q : Po) (h : Hp) (ls : List Value) (st : List Value) : Ex mX0_image Q 3 ls st h = Ex mX0_image Q 4 ls (.long 1 :: st) h := Ex_nx rfl rfl
theorem rX0_image_4 (Q : Po) (h : Hp) (ls : List Value) (a0 : Int64) (a1 : Int64) (a2 : Int64) : Ex mX0_image Q 4 ls (.long a2 :: .long a1 :: .long a0 :: []) h = Ex mX0_isIn (Cont mX0_image Q 4 ls 7 []) 0 [.long a0, .retAddr 1, .long a1, .retAddr 1, .long a2, .retAddr 1] [] h := Ex_cl (n := 6) (as := [.long a0, .long a1, .long a2]) rfl rfl
theorem rX0_image_7 (Q : Po) (h : Hp) (ls : List Value) (st : List Value) (x : Int32) : Ex mX0_image Q 7 ls (.int x :: st) h = if ¬ x = 0 then Ex mX0_image Q 13 ls st h else Ex mX0_image Q 10 ls st h := Ex_br rfl rfl
theorem rX0_image_10 (Q : Po) (h : Hp) (ls : List Value) (st : List Value) : Ex mX0_image Q 10 ls st h = Ex mX0_image Q 12 ls (.int (-1000001) :: st) h := Ex_nx rfl rfl
theorem rX0_image_12 (Q : Po) (h : Hp) (ls : List Value) (x : Int32) : Ex mX0_image Q 12 ls [.int x] h = Q (.inl (some (.int x))) h := Ex_rt rfl rfl
theorem rX0_image_13 (Q : Po) (h : Hp) (l1 : Value) (x : Nat) (st : List Value) : Ex mX0_image Q 13 [.ref x, l1] st h = Ex mX0_image Q 14 [.ref x, l1] (.ref x :: st) h := Ex_nx rfl rfl
theorem rX0_image_14 (Q : Po) (h : Hp) (ls : List Value) (b : Nat) : Ex mX0_image Q 14 ls (.ref b :: []) h = (gK h b = 1 ∧ Ex mX0_isLibrary (Cont mX0_image Q 14 ls 17 []) 0 [.ref b] [] h) := Ex_cg (n := 1) (as := [.ref b]) rfl rfl
theorem rX0_image_17 (Q : Po) (h : Hp) (ls : List Value) (st : List Value) (x : Int32) : Ex mX0_image Q 17 ls (.int x :: st) h = if ¬ x = 0 then Ex mX0_image Q 23 ls st h else Ex mX0_image Q 20 ls st h := Ex_br rfl rfl
theorem rX0_image_20 (Q : Po) (h : Hp) (ls : List Value) (st : List Value) : Ex mX0_image Q 20 ls st h = Ex mX0_image Q 22 ls (.int (-1000002) :: st) h := Ex_nx rfl rfl
theorem rX0_image_22 (Q : Po) (h : Hp) (ls : List Value) (x : Int32) : Ex mX0_image Q 22 ls [.int x] h = Q (.inl (some (.int x))) h := Ex_rt rfl rfl
theorem rX0_image_23 (Q : Po) (h : Hp) (l1 : Value) (x : Nat) (st : List Value) : Ex mX0_image Q 23 [.ref x, l1] st h = Ex mX0_image Q 24 [.ref x, l1] (.ref x :: st) h := Ex_nx rfl rfl
theorem rX0_image_24 (Q : Po) (h : Hp) (ls : List Value) (st : List Value) (a : Nat) : Ex mX0_image Q 24 ls (.ref a :: st) h = (gK h a ∈ ([1] : List Nat) ∧ Ex mX0_image Q 27 ls (gF h 19 a :: st) h) := Ex_gd rfl rfl
theorem rX0_image_27 (Q : Po) (h : Hp) (l0 : Value) (x : Int32) (st : List Value) : Ex mX0_image Q 27 [l0, .int x] st h = Ex mX0_image Q 28 [l0, .int x] (.int x :: st) h := Ex_nx rfl rfl
theorem rX0_image_28 (Q : Po) (h : Hp) (ls : List Value) (st : List Value) (a : Nat) (i : Int32) : Ex mX0_image Q 28 ls (.int i :: .ref a :: st) h = ((gK h a = 55 ∧ ¬ (i < 0 ∨ gL h a ≤ i.toNatClampNeg)) ∧ Ex mX0_image Q 29 ls (va_rf (gR h a i.toNatClampNeg) :: st) h) := Ex_gd rfl rfl
theorem rX0_image_29n (Q : Po) (h : Hp) (ls : List Value) (st : List Value) : Ex mX0_image Q 29 ls (.null :: st) h = Ex mX0_image Q 32 ls st h := Ex_nx rfl rfl
theorem rX0_image_29 (Q : Po) (h : Hp) (ls : List Value) (st : List Value) (x : Nat) : Ex mX0_image Q 29 ls (.ref x :: st) h = Ex mX0_image Q 45 ls st h := Ex_nx rfl rfl
theorem rX0_image_32 (Q : Po) (h : Hp) (l1 : Value) (x : Nat) (st : List Value) : Ex mX0_image Q 32 [.ref x, l1] st h = Ex mX0_image Q 33 [.ref x, l1] (.ref x :: st) h := Ex_nx rfl rfl
theorem rX0_image_33 (Q : Po) (h : Hp) (ls : List Value) (st : List Value) (a : Nat) : Ex mX0_image Q 33 ls (.ref a :: st) h = (gK h a ∈ ([1] : List Nat) ∧ Ex mX0_image Q 36 ls (gF h 19 a :: st) h) := Ex_gd rfl rfl
theorem rX0_image_36 (Q : Po) (h : Hp) (l0 : Value) (x : Int32) (st : List Value) : Ex mX0_image Q 36 [l0, .int x] st h = Ex mX0_image Q 37 [l0, .int x] (.int x :: st) h := Ex_nx rfl rfl
theorem rX0_image_37 (Q : Po) (h : Hp) (ls : List Value) (st : List Value) : Ex mX0_image Q 37 ls st h = ((1 ≤ gC h ∧ 16 ≤ gS h) ∧ Ex mX0_image Q 40 ls (.ref (gN h) :: st) (nO h 2 16)) := Ex_gd rfl rfl
theorem rX0_image_40 (Q : Po) (h : Hp) (ls : List Value) (st : List Value) (x : Nat) : Ex mX0_image Q 40 ls (.ref x :: st) h = Ex mX0_image Q 41 ls (.ref x :: .ref x :: st) h := Ex_nx rfl rfl
theorem rX0_image_41 (Q : Po) (h : Hp) (ls : List Value) (s0 s1 s2 : Value) (b : Nat) : Ex mX0_image Q 41 ls (.ref b :: [s0, s1, s2]) h = Ex mX1_init (Cont mX0_image Q 41 ls 44 [s0, s1, s2]) 0 [.ref b] [] h := Ex_cl (n := 1) (as := [.ref b]) rfl rfl
theorem rX0_image_44 (Q : Po) (h : Hp) (ls : List Value) (st : List Value) (a x : Nat) (i : Int32) : Ex mX0_image Q 44 ls (.ref x :: .int i :: .ref a :: st) h = ((gK h a = 55 ∧ gK h x ∈ ([2] : List Nat) ∧ ¬ (i < 0 ∨ gL h a ≤ i.toNatClampNeg)) ∧ Ex mX0_image Q 45 ls st (pR h a i.toNatClampNeg (some x))) := Ex_gd rfl rfl
theorem rX0_image_44n (Q : Po) (h : Hp) (ls : List Value) (st : List Value) (a : Nat) (i : Int32) : Ex mX0_image Q 44 ls (.null :: .int i :: .ref a :: st) h = ((gK h a = 55 ∧ ¬ (i < 0 ∨ gL h a ≤ i.toNatClampNeg)) ∧ Ex mX0_image Q 45 ls st (pR h a i.toNatClampNeg none)) := Ex_gd rfl rfl
theorem rX0_image_45 (Q : Po) (h : Hp) (l1 : Value) (x : Nat) (st : List Value) : Ex mX0_image Q 45 [.ref x, l1] st h = Ex mX0_image Q 46 [.ref x, l1] (.ref x :: st) h := Ex_nx rfl rfl
theorem rX0_image_46 (Q : Po) (h : Hp) (ls : List Value) (st : List Value) (a : Nat) : Ex mX0_image Q 46 ls (.ref a :: st) h = (gK h a ∈ ([1] : List Nat) ∧ Ex mX0_image Q 49 ls (gF h 19 a :: st) h) := Ex_gd rfl rfl
theorem rX0_image_49 (Q : Po) (h : Hp) (l0 : Value) (x : Int32) (st : List Value) : Ex mX0_image Q 49 [l0, .int x] st h = Ex mX0_image Q 50 [l0, .int x] (.int x :: st) h := Ex_nx rfl rfl
theorem rX0_image_50 (Q : Po) (h : Hp) (ls : List Value) (st : List Value) (a : Nat) (i : Int32) : Ex mX0_image Q 50 ls (.int i :: .ref a :: st) h = ((gK h a = 55 ∧ ¬ (i < 0 ∨ gL h a ≤ i.toNatClampNeg)) ∧ Ex mX0_image Q 51 ls (va_rf (gR h a i.toNatClampNeg) :: st) h) := Ex_gd rfl rfl
theorem rX0_image_51 (Q : Po) (h : Hp) (l1 : Value) (x : Nat) (st : List Value) : Ex mX0_image Q 51 [.ref x, l1] st h = Ex mX0_image Q 52 [.ref x, l1] (.ref x :: st) h := Ex_nx rfl rfl
theorem rX0_image_52 (Q : Po) (h : Hp) (ls : List Value) (st : List Value) (a : Nat) : Ex mX0_image Q 52 ls (.ref a :: st) h = (gK h a ∈ ([1] : List Nat) ∧ Ex mX0_image Q 55 ls (gF h 11 a :: st) h) := Ex_gd rfl rfl
theorem rX0_image_55 (Q : Po) (h : Hp) (ls : List Value) (a0 : Nat) (b : Nat) : Ex mX0_image Q 55 ls (.ref a0 :: .ref b :: []) h = (gK h b = 2 ∧ Ex mX1_become (Cont mX0_image Q 55 ls 58 []) 0 [.ref b, .ref a0] [] h) := Ex_cg (n := 2) (as := [.ref b, .ref a0]) rfl rfl
theorem rX0_image_58 (Q : Po) (h : Hp) (ls : List Value) (st : List Value) (x : Nat) : Ex mX0_image Q 58 ls (.ref x :: st) h = Ex mX0_image Q 59 ls st h := Ex_nx rfl rfl
theorem rX0_image_59 (Q : Po) (h : Hp) (ls : List Value) (st : List Value) : Ex mX0_image Q 59 ls st h = Ex mX0_image Q 60 ls (.int 1 :: st) h := Ex_nx rfl rfl
theorem rX0_image_60 (Q : Po) (h : Hp) (ls : List Value) (x : Int32) : Ex mX0_image Q 60 ls [.int x] h = Q (.inl (some (.int x))) h := Ex_rt rfl rfl
theorem rX0_image_t (Q : Po) (h : Hp) (pc n a : Nat) (ls st : List Value) : Cont mX0_image Q pc ls n st (.inr a) h = Q (.inr a) h := rfl
/-! FishReaders.restore(I)I -/
def mX0_restore : Cd := ([(0, .inl (i_iload 1 1)),
  (1, .inl (i_i2l 2)),
  (2, .inl (i_push (.long 0) 3)),
  (3, .inl (i_push (.long 1) 4)),
  (4, .inr (c_S 3 7 6 (Mt mX0_isIn 6))),
  (7, .inl (i_if (fun x => ¬ x = 0) 13 10)),
  (10, .inl (i_push (.int (-1000001)) 12)),
  (12, .inl i_iret),
  (13, .inl (i_aload 0 14)),
  (14, .inl (i_getf 19 [1] 17)),
  (17, .inl (i_iload 1 18)),
  (18, .inl (i_aald 55 19)),
  (19, .inl (i_ifn 22 25)),
  (22, .inl (i_push (.int (-1000002)) 24)),
  (24, .inl i_iret),
  (25, .inl (i_aload 0 26)),
  (26, .inl (i_getf 11 [1] 29)),
  (29, .inl (i_aload 0 30)),
  (30, .inl (i_getf 19 [1] 33)),
  (33, .inl (i_iload 1 34)),
  (34, .inl (i_aald 55 35)),
  (35, .inr (c_V 1 38 2 2 (Mt mX1_become 2))),
  (38, .inl (i_pop 39)),
  (39, .inl (i_aload 0 40)),
  (40, .inl (i_push (.int 0) 41)),
  (41, .inl (i_putI 16 [1] 44)),
  (44, .inl (i_push (.int 1) 45)),
  (45, .inl i_iret)], noH)
theorem rX0_restore_0 (Q : Po) (h : Hp) (l0 : Value) (x : Int32) (st : List Value) : Ex mX0_restore Q 0 [l0, .int x] st h = Ex mX0_restore Q 1 [l0, .int x] (.int x :: st) h := Ex_nx rfl rfl
theorem rX0_restore_1 (Q : Po) (h : Hp) (ls : List Value) (st : List Value) (x : Int32) : Ex mX0_restore Q 1 ls (.int x :: st) h = Ex mX0_restore Q 2 ls (.long x.toInt64 :: st) h := Ex_nx rfl rfl
theorem rX0_restore_2 (Q : Po) (h : Hp) (ls : List Value) (st : List Value) : Ex mX0_restore Q 2 ls st h = Ex mX0_restore Q 3 ls (.long 0 :: st) h := Ex_nx rfl rfl
theorem rX0_restore_3 (Q : Po) (h : Hp) (ls : List Value) (st : List Value) : Ex mX0_restore Q 3 ls st h = Ex mX0_restore Q 4 ls (.long 1 :: st) h := Ex_nx rfl rfl
theorem rX0_restore_4 (Q : Po) (h : Hp) (ls : List Value) (a0 : Int64) (a1 : Int64) (a2 : Int64) : Ex mX0_restore Q 4 ls (.long a2 :: .long a1 :: .long a0 :: []) h = Ex mX0_isIn (Cont mX0_restore Q 4 ls 7 []) 0 [.long a0, .retAddr 1, .long a1, .retAddr 1, .long a2, .retAddr 1] [] h := Ex_cl (n := 6) (as := [.long a0, .long a1, .long a2]) rfl rfl
theorem rX0_restore_7 (Q : Po) (h : Hp) (ls : List Value) (st : List Value) (x : Int32) : Ex mX0_restore Q 7 ls (.int x :: st) h = if ¬ x = 0 then Ex mX0_restore Q 13 ls st h else Ex mX0_restore Q 10 ls st h := Ex_br rfl rfl
theorem rX0_restore_10 (Q : Po) (h : Hp) (ls : List Value) (st : List Value) : Ex mX0_restore Q 10 ls st h = Ex mX0_restore Q 12 ls (.int (-1000001) :: st) h := Ex_nx rfl rfl
theorem rX0_restore_12 (Q : Po) (h : Hp) (ls : List Value) (x : Int32) : Ex mX0_restore Q 12 ls [.int x] h = Q (.inl (some (.int x))) h := Ex_rt rfl rfl
theorem rX0_restore_13 (Q : Po) (h : Hp) (l1 : Value) (x : Nat) (st : List Value) : Ex mX0_restore Q 13 [.ref x, l1] st h = Ex mX0_restore Q 14 [.ref x, l1] (.ref x :: st) h := Ex_nx rfl rfl
theorem rX0_restore_14 (Q : Po) (h : Hp) (ls : List Value) (st : List Value) (a : Nat) : Ex mX0_restore Q 14 ls (.ref a :: st) h = (gK h a ∈ ([1] : List Nat) ∧ Ex mX0_restore Q 17 ls (gF h 19 a :: st) h) := Ex_gd rfl rfl
theorem rX0_restore_17 (Q : Po) (h : Hp) (l0 : Value) (x : Int32) (st : List Value) : Ex mX0_restore Q 17 [l0, .int x] st h = Ex mX0_restore Q 18 [l0, .int x] (.int x :: st) h := Ex_nx rfl rfl
theorem rX0_restore_18 (Q : Po) (h : Hp) (ls : List Value) (st : List Value) (a : Nat) (i : Int32) : Ex mX0_restore Q 18 ls (.int i :: .ref a :: st) h = ((gK h a = 55 ∧ ¬ (i < 0 ∨ gL h a ≤ i.toNatClampNeg)) ∧ Ex mX0_restore Q 19 ls (va_rf (gR h a i.toNatClampNeg) :: st) h) := Ex_gd rfl rfl
theorem rX0_restore_19n (Q : Po) (h : Hp) (ls : List Value) (st : List Value) : Ex mX0_restore Q 19 ls (.null :: st) h = Ex mX0_restore Q 22 ls st h := Ex_nx rfl rfl
theorem rX0_restore_19 (Q : Po) (h : Hp) (ls : List Value) (st : List Value) (x : Nat) : Ex mX0_restore Q 19 ls (.ref x :: st) h = Ex mX0_restore Q 25 ls st h := Ex_nx rfl rfl
theorem rX0_restore_22 (Q : Po) (h : Hp) (ls : List Value) (st : List Value) : Ex mX0_restore Q 22 ls st h = Ex mX0_restore Q 24 ls (.int (-1000002) :: st) h := Ex_nx rfl rfl
theorem rX0_restore_24 (Q : Po) (h : Hp) (ls : List Value) (x : Int32) : Ex mX0_restore Q 24 ls [.int x] h = Q (.inl (some (.int x))) h := Ex_rt rfl rfl
theorem rX0_restore_25 (Q : Po) (h : Hp) (l1 : Value) (x : Nat) (st : List Value) : Ex mX0_restore Q 25 [.ref x, l1] st h = Ex mX0_restore Q 26 [.ref x, l1] (.ref x :: st) h := Ex_nx rfl rfl
theorem rX0_restore_26 (Q : Po) (h : Hp) (ls : List Value) (st : List Value) (a : Nat) : Ex mX0_restore Q 26 ls (.ref a :: st) h = (gK h a ∈ ([1] : List Nat) ∧ Ex mX0_restore Q 29 ls (gF h 11 a :: st) h) := Ex_gd rfl rfl
theorem rX0_restore_29 (Q : Po) (h : Hp) (l1 : Value) (x : Nat) (st : List Value) : Ex mX0_restore Q 29 [.ref x, l1] st h = Ex mX0_restore Q 30 [.ref x, l1] (.ref x :: st) h := Ex_nx rfl rfl
theorem rX0_restore_30 (Q : Po) (h : Hp) (ls : List Value) (st : List Value) (a : Nat) : Ex mX0_restore Q 30 ls (.ref a :: st) h = (gK h a ∈ ([1] : List Nat) ∧ Ex mX0_restore Q 33 ls (gF h 19 a :: st) h) := Ex_gd rfl rfl
theorem rX0_restore_33 (Q : Po) (h : Hp) (l0 : Value) (x : Int32) (st : List Value) : Ex mX0_restore Q 33 [l0, .int x] st h = Ex mX0_restore Q 34 [l0, .int x] (.int x :: st) h := Ex_nx rfl rfl
theorem rX0_restore_34 (Q : Po) (h : Hp) (ls : List Value) (st : List Value) (a : Nat) (i : Int32) : Ex mX0_restore Q 34 ls (.int i :: .ref a :: st) h = ((gK h a = 55 ∧ ¬ (i < 0 ∨ gL h a ≤ i.toNatClampNeg)) ∧ Ex mX0_restore Q 35 ls (va_rf (gR h a i.toNatClampNeg) :: st) h) := Ex_gd rfl rfl
theorem rX0_restore_35 (Q : Po) (h : Hp) (ls : List Value) (a0 : Nat) (b : Nat) : Ex mX0_restore Q 35 ls (.ref a0 :: .ref b :: []) h = (gK h b = 2 ∧ Ex mX1_become (Cont mX0_restore Q 35 ls 38 []) 0 [.ref b, .ref a0] [] h) := Ex_cg (n := 2) (as := [.ref b, .ref a0]) rfl rfl
theorem rX0_restore_38 (Q : Po) (h : Hp) (ls : List Value) (st : List Value) (x : Nat) : Ex mX0_restore Q 38 ls (.ref x :: st) h = Ex mX0_restore Q 39 ls st h := Ex_nx rfl rfl
theorem rX0_restore_39 (Q : Po) (h : Hp) (l1 : Value) (x : Nat) (st : List Value) : Ex mX0_restore Q 39 [.ref x, l1] st h = Ex mX0_restore Q 40 [.ref x, l1] (.ref x :: st) h := Ex_nx rfl rfl
theorem rX0_restore_40 (Q : Po) (h : Hp) (ls : List Value) (st : List Value) : Ex mX0_restore Q 40 ls st h = Ex mX0_restore Q 41 ls (.int 0 :: st) h := Ex_nx rfl rfl
theorem rX0_restore_41 (Q : Po) (h : Hp) (ls : List Value) (st : List Value) (x : Int32) (a : Nat) : Ex mX0_restore Q 41 ls (.int x :: .ref a :: st) h = (gK h a ∈ ([1] : List Nat) ∧ Ex mX0_restore Q 44 ls st (pF h 16 a (.int x))) := Ex_gd rfl rfl
theorem rX0_restore_44 (Q : Po) (h : Hp) (ls : List Value) (st : List Value) : Ex mX0_restore Q 44 ls st h = Ex mX0_restore Q 45 ls (.int 1 :: st) h := Ex_nx rfl rfl
theorem rX0_restore_45 (Q : Po) (h : Hp) (ls : List Value) (x : Int32) : Ex mX0_restore Q 45 ls [.int x] h = Q (.inl (some (.int x))) h := Ex_rt rfl rfl
theorem rX0_restore_t (Q : Po) (h : Hp) (pc n a : Nat) (ls st : List Value) : Cont mX0_restore Q pc ls n st (.inr a) h = Q (.inr a) h := rfl
/-! FishReaders$Browser.kind()I -/
def mX4_kind : Cd := ([(0, .inl (i_push (.int 1) 1)),
  (1, .inl i_iret)], noH)
theorem rX4_kind_0 (Q : Po) (h : Hp) (ls : List Value) (st : List Value) : Ex mX4_kind Q 0 ls st h = Ex mX4_kind Q 1 ls (.int 1 :: st) h := Ex_nx rfl rfl
theorem rX4_kind_1 (Q : Po) (h : Hp) (ls : List Value) (x : Int32) : Ex mX4_kind Q 1 ls [.int x] h = Q (.inl (some (.int x))) h := Ex_rt rfl rfl
theorem rX4_kind_t (Q : Po) (h : Hp) (pc n a : Nat) (ls st : List Value) : Cont mX4_kind Q pc ls n st (.inr a) h = Q (.inr a) h := rfl
/-! FishReaders$Poet.kind()I -/
def mX5_kind : Cd := ([(0, .inl (i_push (.int 2) 1)),
  (1, .inl i_iret)], noH)
theorem rX5_kind_0 (Q : Po) (h : Hp) (ls : List Value) (st : List Value) : Ex mX5_kind Q 0 ls st h = Ex mX5_kind Q 1 ls (.int 2 :: st) h := Ex_nx rfl rfl
theorem rX5_kind_1 (Q : Po) (h : Hp) (ls : List Value) (x : Int32) : Ex mX5_kind Q 1 ls [.int x] h = Q (.inl (some (.int x))) h := Ex_rt rfl rfl
theorem rX5_kind_t (Q : Po) (h : Hp) (pc n a : Nat) (ls st : List Value) : Cont mX5_kind Q pc ls n st (.inr a) h = Q (.inr a) h := rfl
/-! FishReaders$Critic.kind()I -/
def mX6_kind : Cd := ([(0, .inl (i_push (.int 3) 1)),
  (1, .inl i_iret)], noH)
theorem rX6_kind_0 (Q : Po) (h : Hp) (ls : List Value) (st : List Value) : Ex mX6_kind Q 0 ls st h = Ex mX6_kind Q 1 ls (.int 3 :: st) h := Ex_nx rfl rfl
theorem rX6_kind_1 (Q : Po) (h : Hp) (ls : List Value) (x : Int32) : Ex mX6_kind Q 1 ls [.int x] h = Q (.inl (some (.int x))) h := Ex_rt rfl rfl
theorem rX6_kind_t (Q : Po) (h : Hp) (pc n a : Nat) (ls st : List Value) : Cont mX6_kind Q pc ls n st (.inr a) h = Q (.inr a) h := rfl
/-! FishReaders$Wanderer.kind()I -/
def mX7_kind : Cd := ([(0, .inl (i_push (.int 4) 1)),
  (1, .inl i_iret)], noH)
theorem rX7_kind_0 (Q : Po) (h : Hp) (ls : List Value) (st : List Value) : Ex mX7_kind Q 0 ls st h = Ex mX7_kind Q 1 ls (.int 4 :: st) h := Ex_nx rfl rfl
theorem rX7_kind_1 (Q : Po) (h : Hp) (ls : List Value) (x : Int32) : Ex mX7_kind Q 1 ls [.int x] h = Q (.inl (some (.int x))) h := Ex_rt rfl rfl
theorem rX7_kind_t (Q : Po) (h : Hp) (pc n a : Nat) (ls st : List Value) : Cont mX7_kind Q pc ls n st (.inr a) h = Q (.inr a) h := rfl
/-! FishReaders$Scholar.kind()I -/
def mX8_kind : Cd := ([(0, .inl (i_push (.int 5) 1)),
  (1, .inl i_iret)], noH)
theorem rX8_kind_0 (Q : Po) (h : Hp) (ls : List Value) (st : List Value) : Ex mX8_kind Q 0 ls st h = Ex mX8_kind Q 1 ls (.int 5 :: st) h := Ex_nx rfl rfl
theorem rX8_kind_1 (Q : Po) (h : Hp) (ls : List Value) (x : Int32) : Ex mX8_kind Q 1 ls [.int x] h = Q (.inl (some (.int x))) h := Ex_rt rfl rfl
theorem rX8_kind_t (Q : Po) (h : Hp) (pc n a : Nat) (ls st : List Value) : Cont mX8_kind Q pc ls n st (.inr a) h = Q (.inr a) h := rfl
/-! FishReaders.kind(I)I -/
def mX0_kind : Cd := ([(0, .inl (i_aload 0 1)),
  (1, .inl (i_iload 1 2)),
  (2, .inr (c_V 1 5 2 1 (Mt mX0_isFish 2))),
  (5, .inl (i_if (fun x => x = 0) 30 8)),
  (8, .inl (i_aload 0 9)),
  (9, .inl (i_getf 11 [1] 12)),
  (12, .inl (i_getf 51 [2] 15)),
  (15, .inl (i_iload 1 16)),
  (16, .inr (c_V 1 21 2 14 (Mt mJ2_get 2))),
  (21, .inl (i_cast [4, 5, 6, 7, 8] 24)),
  (24, .inr (c_D 0 27 1 [(4, (Mt mX4_kind 1)), (5, (Mt mX5_kind 1)), (6, (Mt mX6_kind 1)), (7, (Mt mX7_kind 1)), (8, (Mt mX8_kind 1))])),
  (27, .inl (i_goto 32)),
  (30, .inl (i_push (.int (-1000001)) 32)),
  (32, .inl i_iret)], noH)
theorem rX0_kind_0 (Q : Po) (h : Hp) (l1 : Value) (x : Nat) (st : List Value) : Ex mX0_kind Q 0 [.ref x, l1] st h = Ex mX0_kind Q 1 [.ref x, l1] (.ref x :: st) h := Ex_nx rfl rfl
theorem rX0_kind_1 (Q : Po) (h : Hp) (l0 : Value) (x : Int32) (st : List Value) : Ex mX0_kind Q 1 [l0, .int x] st h = Ex mX0_kind Q 2 [l0, .int x] (.int x :: st) h := Ex_nx rfl rfl
theorem rX0_kind_2 (Q : Po) (h : Hp) (ls : List Value) (a0 : Int32) (b : Nat) : Ex mX0_kind Q 2 ls (.int a0 :: .ref b :: []) h = (gK h b = 1 ∧ Ex mX0_isFish (Cont mX0_kind Q 2 ls 5 []) 0 [.ref b, .int a0] [] h) := Ex_cg (n := 2) (as := [.ref b, .int a0]) rfl rfl
theorem rX0_kind_5 (Q : Po) (h : Hp) (ls : List Value) (st : List Value) (x : Int32) : Ex mX0_kind Q 5 ls (.int x :: st) h = if x = 0 then Ex mX0_kind Q 30 ls st h else Ex mX0_kind Q 8 ls st h := Ex_br rfl rfl
theorem rX0_kind_8 (Q : Po) (h : Hp) (l1 : Value) (x : Nat) (st : List Value) : Ex mX0_kind Q 8 [.ref x, l1] st h = Ex mX0_kind Q 9 [.ref x, l1] (.ref x :: st) h := Ex_nx rfl rfl
theorem rX0_kind_9 (Q : Po) (h : Hp) (ls : List Value) (st : List Value) (a : Nat) : Ex mX0_kind Q 9 ls (.ref a :: st) h = (gK h a ∈ ([1] : List Nat) ∧ Ex mX0_kind Q 12 ls (gF h 11 a :: st) h) := Ex_gd rfl rfl
theorem rX0_kind_12 (Q : Po) (h : Hp) (ls : List Value) (st : List Value) (a : Nat) : Ex mX0_kind Q 12 ls (.ref a :: st) h = (gK h a ∈ ([2] : List Nat) ∧ Ex mX0_kind Q 15 ls (gF h 51 a :: st) h) := Ex_gd rfl rfl
theorem rX0_kind_15 (Q : Po) (h : Hp) (l0 : Value) (x : Int32) (st : List Value) : Ex mX0_kind Q 15 [l0, .int x] st h = Ex mX0_kind Q 16 [l0, .int x] (.int x :: st) h := Ex_nx rfl rfl
theorem rX0_kind_16 (Q : Po) (h : Hp) (ls : List Value) (a0 : Int32) (b : Nat) : Ex mX0_kind Q 16 ls (.int a0 :: .ref b :: []) h = (gK h b = 14 ∧ Ex mJ2_get (Cont mX0_kind Q 16 ls 21 []) 0 [.ref b, .int a0] [] h) := Ex_cg (n := 2) (as := [.ref b, .int a0]) rfl rfl
theorem rX0_kind_21 (Q : Po) (h : Hp) (ls : List Value) (st : List Value) (a : Nat) : Ex mX0_kind Q 21 ls (.ref a :: st) h = (gK h a ∈ ([4, 5, 6, 7, 8] : List Nat) ∧ Ex mX0_kind Q 24 ls (.ref a :: st) h) := Ex_gd rfl rfl
theorem rX0_kind_24k4 (Q : Po) (h : Hp) (ls : List Value) (b : Nat) (hk : gK h b = 4) : Ex mX0_kind Q 24 ls (.ref b :: []) h = Ex mX4_kind (Cont mX0_kind Q 24 ls 27 []) 0 [.ref b] [] h := Ex_cl (n := 1) (as := [.ref b]) rfl (by simp only [c_D, tkA, hk]; rfl)
theorem rX0_kind_24k5 (Q : Po) (h : Hp) (ls : List Value) (b : Nat) (hk : gK h b = 5) : Ex mX0_kind Q 24 ls (.ref b :: []) h = Ex mX5_kind (Cont mX0_kind Q 24 ls 27 []) 0 [.ref b] [] h := Ex_cl (n := 1) (as := [.ref b]) rfl (by simp only [c_D, tkA, hk]; rfl)
theorem rX0_kind_24k6 (Q : Po) (h : Hp) (ls : List Value) (b : Nat) (hk : gK h b = 6) : Ex mX0_kind Q 24 ls (.ref b :: []) h = Ex mX6_kind (Cont mX0_kind Q 24 ls 27 []) 0 [.ref b] [] h := Ex_cl (n := 1) (as := [.ref b]) rfl (by simp only [c_D, tkA, hk]; rfl)
theorem rX0_kind_24k7 (Q : Po) (h : Hp) (ls : List Value) (b : Nat) (hk : gK h b = 7) : Ex mX0_kind Q 24 ls (.ref b :: []) h = Ex mX7_kind (Cont mX0_kind Q 24 ls 27 []) 0 [.ref b] [] h := Ex_cl (n := 1) (as := [.ref b]) rfl (by simp only [c_D, tkA, hk]; rfl)
theorem rX0_kind_24k8 (Q : Po) (h : Hp) (ls : List Value) (b : Nat) (hk : gK h b = 8) : Ex mX0_kind Q 24 ls (.ref b :: []) h = Ex mX8_kind (Cont mX0_kind Q 24 ls 27 []) 0 [.ref b] [] h := Ex_cl (n := 1) (as := [.ref b]) rfl (by simp only [c_D, tkA, hk]; rfl)
theorem rX0_kind_27 (Q : Po) (h : Hp) (ls : List Value) (st : List Value) : Ex mX0_kind Q 27 ls st h = Ex mX0_kind Q 32 ls st h := Ex_nx rfl rfl
theorem rX0_kind_30 (Q : Po) (h : Hp) (ls : List Value) (st : List Value) : Ex mX0_kind Q 30 ls st h = Ex mX0_kind Q 32 ls (.int (-1000001) :: st) h := Ex_nx rfl rfl
theorem rX0_kind_32 (Q : Po) (h : Hp) (ls : List Value) (x : Int32) : Ex mX0_kind Q 32 ls [.int x] h = Q (.inl (some (.int x))) h := Ex_rt rfl rfl
theorem rX0_kind_t (Q : Po) (h : Hp) (pc n a : Nat) (ls st : List Value) : Cont mX0_kind Q pc ls n st (.inr a) h = Q (.inr a) h := rfl
/-! FishReaders$Fish.number()I -/
def mX3_number : Cd := ([(0, .inl (i_aload 0 1)),
  (1, .inl (i_getf 68 [4, 5, 6, 7, 8] 4)),
  (4, .inl i_iret)], noH)
theorem rX3_number_0 (Q : Po) (h : Hp) (x : Nat) (st : List Value) : Ex mX3_number Q 0 [.ref x] st h = Ex mX3_number Q 1 [.ref x] (.ref x :: st) h := Ex_nx rfl rfl
theorem rX3_number_1 (Q : Po) (h : Hp) (ls : List Value) (st : List Value) (a : Nat) : Ex mX3_number Q 1 ls (.ref a :: st) h = (gK h a ∈ ([4, 5, 6, 7, 8] : List Nat) ∧ Ex mX3_number Q 4 ls (gF h 68 a :: st) h) := Ex_gd rfl rfl
theorem rX3_number_4 (Q : Po) (h : Hp) (ls : List Value) (x : Int32) : Ex mX3_number Q 4 ls [.int x] h = Q (.inl (some (.int x))) h := Ex_rt rfl rfl
theorem rX3_number_t (Q : Po) (h : Hp) (pc n a : Nat) (ls st : List Value) : Cont mX3_number Q pc ls n st (.inr a) h = Q (.inr a) h := rfl
/-! FishReaders.as(II)I -/
def mX0_as : Cd := ([(0, .inl (i_aload 0 1)),
  (1, .inl (i_iload 1 2)),
  (2, .inr (c_V 1 5 2 1 (Mt mX0_isFish 2))),
  (5, .inl (i_if (fun x => x = 0) 20 8)),
  (8, .inl (i_iload 2 9)),
  (9, .inl (i_i2l 10)),
  (10, .inl (i_push (.long 0) 11)),
  (11, .inl (i_push (.long 5) 14)),
  (14, .inr (c_S 3 17 6 (Mt mX0_isIn 6))),
  (17, .inl (i_if (fun x => ¬ x = 0) 23 20)),
  (20, .inl (i_push (.int (-1000001)) 22)),
  (22, .inl i_iret),
  (23, .inl (i_aload 0 24)),
  (24, .inl (i_getf 11 [1] 27)),
  (27, .inl (i_getf 51 [2] 30)),
  (30, .inl (i_iload 1 31)),
  (31, .inr (c_V 1 36 2 14 (Mt mJ2_get 2))),
  (36, .inl (i_cast [4, 5, 6, 7, 8] 39)),
  (39, .inl (i_astore 3 40)),
  (40, .inl (i_iload 2 41)),
  (41, .inl (i_if (fun x => ¬ x = 0) 48 44)),
  (44, .inl (i_aload 3 45)),
  (45, .inl (i_goto 100)),
  (48, .inl (i_iload 2 49)),
  (49, .inl (i_push (.int 1) 50)),
  (50, .inl (i_icmp (fun x y => ¬ x = y) 60 53)),
  (53, .inl (i_aload 3 54)),
  (54, .inl (i_castT [4, 5, 6] [7, 8] 57)),
  (57, .inl (i_goto 100)),
  (60, .inl (i_iload 2 61)),
  (61, .inl (i_push (.int 2) 62)),
  (62, .inl (i_icmp (fun x y => ¬ x = y) 72 65)),
  (65, .inl (i_aload 3 66)),
  (66, .inl (i_castT [5] [4, 6, 7, 8] 69)),
  (69, .inl (i_goto 100)),
  (72, .inl (i_iload 2 73)),
  (73, .inl (i_push (.int 3) 74)),
  (74, .inl (i_icmp (fun x y => ¬ x = y) 84 77)),
  (77, .inl (i_aload 3 78)),
  (78, .inl (i_castT [6] [4, 5, 7, 8] 81)),
  (81, .inl (i_goto 100)),
  (84, .inl (i_iload 2 85)),
  (85, .inl (i_push (.int 4) 86)),
  (86, .inl (i_icmp (fun x y => ¬ x = y) 96 89)),
  (89, .inl (i_aload 3 90)),
  (90, .inl (i_castT [7, 8] [4, 5, 6] 93)),
  (93, .inl (i_goto 100)),
  (96, .inl (i_aload 3 97)),
  (97, .inl (i_castT [8] [4, 5, 6, 7] 100)),
  (100, .inl (i_astore 4 102)),
  (102, .inl (i_aload 0 103)),
  (103, .inl (i_aload 4 105)),
  (105, .inr (c_D 0 108 1 [(4, (Mt mX3_number 1)), (5, (Mt mX3_number 1)), (6, (Mt mX3_number 1)), (7, (Mt mX3_number 1)), (8, (Mt mX3_number 1))])),
  (108, .inr (c_V 1 111 2 1 (Mt mX0_well 2))),
  (111, .inl i_iret),
  (112, .inl (i_astore 4 114)),
  (114, .inl (i_new 10 7 117)),
  (117, .inl (i_dup 118)),
  (118, .inl (i_push (.int 3) 119)),
  (119, .inr (c_I 1 122 2 (Mt mX10_init 2))),
  (122, .inl i_thr),
  (123, .inl (i_astore 3 124)),
  (124, .inl (i_aload 0 125)),
  (125, .inl (i_aload 3 126)),
  (126, .inr (c_V 1 129 2 1 (Mt mX0_found 2))),
  (129, .inl i_iret)], (hTab [(40, 111, 112, [63]), (23, 111, 123, [10]), (112, 123, 123, [10])]))
theorem rX0_as_0 (Q : Po) (h : Hp) (l1 l2 l3 l4 : Value) (x : Nat) (st : List Value) : Ex mX0_as Q 0 [.ref x, l1, l2, l3, l4] st h = Ex mX0_as Q 1 [.ref x, l1, l2, l3, l4] (.ref x :: st) h := Ex_nx rfl rfl
theorem rX0_as_1 (Q : Po) (h : Hp) (l0 l2 l3 l4 : Value) (x : Int32) (st : List Value) : Ex mX0_as Q 1 [l0, .int x, l2, l3, l4] st h = Ex mX0_as Q 2 [l0, .int x, l2, l3, l4] (.int x :: st) h := Ex_nx rfl rfl
theorem rX0_as_2 (Q : Po) (h : Hp) (ls : List Value) (a0 : Int32) (b : Nat) : Ex mX0_as Q 2 ls (.int a0 :: .ref b :: []) h = (gK h b = 1 ∧ Ex mX0_isFish (Cont mX0_as Q 2 ls 5 []) 0 [.ref b, .int a0] [] h) := Ex_cg (n := 2) (as := [.ref b, .int a0]) rfl rfl
theorem rX0_as_5 (Q : Po) (h : Hp) (ls : List Value) (st : List Value) (x : Int32) : Ex mX0_as Q 5 ls (.int x :: st) h = if x = 0 then Ex mX0_as Q 20 ls st h else Ex mX0_as Q 8 ls st h := Ex_br rfl rfl
theorem rX0_as_8 (Q : Po) (h : Hp) (l0 l1 l3 l4 : Value) (x : Int32) (st : List Value) : Ex mX0_as Q 8 [l0, l1, .int x, l3, l4] st h = Ex mX0_as Q 9 [l0, l1, .int x, l3, l4] (.int x :: st) h := Ex_nx rfl rfl
theorem rX0_as_9 (Q : Po) (h : Hp) (ls : List Value) (st : List Value) (x : Int32) : Ex mX0_as Q 9 ls (.int x :: st) h = Ex mX0_as Q 10 ls (.long x.toInt64 :: st) h := Ex_nx rfl rfl
theorem rX0_as_10 (Q : Po) (h : Hp) (ls : List Value) (st : List Value) : Ex mX0_as Q 10 ls st h = Ex mX0_as Q 11 ls (.long 0 :: st) h := Ex_nx rfl rfl
theorem rX0_as_11 (Q : Po) (h : Hp) (ls : List Value) (st : List Value) : Ex mX0_as Q 11 ls st h = Ex mX0_as Q 14 ls (.long 5 :: st) h := Ex_nx rfl rfl
theorem rX0_as_14 (Q : Po) (h : Hp) (ls : List Value) (a0 : Int64) (a1 : Int64) (a2 : Int64) : Ex mX0_as Q 14 ls (.long a2 :: .long a1 :: .long a0 :: []) h = Ex mX0_isIn (Cont mX0_as Q 14 ls 17 []) 0 [.long a0, .retAddr 1, .long a1, .retAddr 1, .long a2, .retAddr 1] [] h := Ex_cl (n := 6) (as := [.long a0, .long a1, .long a2]) rfl rfl
theorem rX0_as_17 (Q : Po) (h : Hp) (ls : List Value) (st : List Value) (x : Int32) : Ex mX0_as Q 17 ls (.int x :: st) h = if ¬ x = 0 then Ex mX0_as Q 23 ls st h else Ex mX0_as Q 20 ls st h := Ex_br rfl rfl
theorem rX0_as_20 (Q : Po) (h : Hp) (ls : List Value) (st : List Value) : Ex mX0_as Q 20 ls st h = Ex mX0_as Q 22 ls (.int (-1000001) :: st) h := Ex_nx rfl rfl
theorem rX0_as_22 (Q : Po) (h : Hp) (ls : List Value) (x : Int32) : Ex mX0_as Q 22 ls [.int x] h = Q (.inl (some (.int x))) h := Ex_rt rfl rfl
theorem rX0_as_23 (Q : Po) (h : Hp) (l1 l2 l3 l4 : Value) (x : Nat) (st : List Value) : Ex mX0_as Q 23 [.ref x, l1, l2, l3, l4] st h = Ex mX0_as Q 24 [.ref x, l1, l2, l3, l4] (.ref x :: st) h := Ex_nx rfl rfl
theorem rX0_as_24 (Q : Po) (h : Hp) (ls : List Value) (st : List Value) (a : Nat) : Ex mX0_as Q 24 ls (.ref a :: st) h = (gK h a ∈ ([1] : List Nat) ∧ Ex mX0_as Q 27 ls (gF h 11 a :: st) h) := Ex_gd rfl rfl
theorem rX0_as_27 (Q : Po) (h : Hp) (ls : List Value) (st : List Value) (a : Nat) : Ex mX0_as Q 27 ls (.ref a :: st) h = (gK h a ∈ ([2] : List Nat) ∧ Ex mX0_as Q 30 ls (gF h 51 a :: st) h) := Ex_gd rfl rfl
theorem rX0_as_30 (Q : Po) (h : Hp) (l0 l2 l3 l4 : Value) (x : Int32) (st : List Value) : Ex mX0_as Q 30 [l0, .int x, l2, l3, l4] st h = Ex mX0_as Q 31 [l0, .int x, l2, l3, l4] (.int x :: st) h := Ex_nx rfl rfl
theorem rX0_as_31 (Q : Po) (h : Hp) (ls : List Value) (a0 : Int32) (b : Nat) : Ex mX0_as Q 31 ls (.int a0 :: .ref b :: []) h = (gK h b = 14 ∧ Ex mJ2_get (Cont mX0_as Q 31 ls 36 []) 0 [.ref b, .int a0] [] h) := Ex_cg (n := 2) (as := [.ref b, .int a0]) rfl rfl
theorem rX0_as_36 (Q : Po) (h : Hp) (ls : List Value) (st : List Value) (a : Nat) : Ex mX0_as Q 36 ls (.ref a :: st) h = (gK h a ∈ ([4, 5, 6, 7, 8] : List Nat) ∧ Ex mX0_as Q 39 ls (.ref a :: st) h) := Ex_gd rfl rfl
theorem rX0_as_39 (Q : Po) (h : Hp) (l0 l1 l2 l3 l4 : Value) (x : Nat) (st : List Value) : Ex mX0_as Q 39 [l0, l1, l2, l3, l4] (.ref x :: st) h = Ex mX0_as Q 40 [l0, l1, l2, .ref x, l4] st h := Ex_nx rfl rfl
theorem rX0_as_40 (Q : Po) (h : Hp) (l0 l1 l3 l4 : Value) (x : Int32) (st : List Value) : Ex mX0_as Q 40 [l0, l1, .int x, l3, l4] st h = Ex mX0_as Q 41 [l0, l1, .int x, l3, l4] (.int x :: st) h := Ex_nx rfl rfl
theorem rX0_as_41 (Q : Po) (h : Hp) (ls : List Value) (st : List Value) (x : Int32) : Ex mX0_as Q 41 ls (.int x :: st) h = if ¬ x = 0 then Ex mX0_as Q 48 ls st h else Ex mX0_as Q 44 ls st h := Ex_br rfl rfl
theorem rX0_as_44 (Q : Po) (h : Hp) (l0 l1 l2 l4 : Value) (x : Nat) (st : List Value) : Ex mX0_as Q 44 [l0, l1, l2, .ref x, l4] st h = Ex mX0_as Q 45 [l0, l1, l2, .ref x, l4] (.ref x :: st) h := Ex_nx rfl rfl
theorem rX0_as_45 (Q : Po) (h : Hp) (ls : List Value) (st : List Value) : Ex mX0_as Q 45 ls st h = Ex mX0_as Q 100 ls st h := Ex_nx rfl rfl
theorem rX0_as_48 (Q : Po) (h : Hp) (l0 l1 l3 l4 : Value) (x : Int32) (st : List Value) : Ex mX0_as Q 48 [l0, l1, .int x, l3, l4] st h = Ex mX0_as Q 49 [l0, l1, .int x, l3, l4] (.int x :: st) h := Ex_nx rfl rfl
theorem rX0_as_49 (Q : Po) (h : Hp) (ls : List Value) (st : List Value) : Ex mX0_as Q 49 ls st h = Ex mX0_as Q 50 ls (.int 1 :: st) h := Ex_nx rfl rfl
theorem rX0_as_50 (Q : Po) (h : Hp) (ls : List Value) (st : List Value) (x y : Int32) : Ex mX0_as Q 50 ls (.int y :: .int x :: st) h = if ¬ x = y then Ex mX0_as Q 60 ls st h else Ex mX0_as Q 53 ls st h := Ex_br rfl rfl
theorem rX0_as_53 (Q : Po) (h : Hp) (l0 l1 l2 l4 : Value) (x : Nat) (st : List Value) : Ex mX0_as Q 53 [l0, l1, l2, .ref x, l4] st h = Ex mX0_as Q 54 [l0, l1, l2, .ref x, l4] (.ref x :: st) h := Ex_nx rfl rfl
theorem rX0_as_54 (Q : Po) (h : Hp) (ls : List Value) (st : List Value) (a : Nat) (hk : gK h a ∈ ([4, 5, 6] : List Nat)) : Ex mX0_as Q 54 ls (.ref a :: st) h = Ex mX0_as Q 57 ls (.ref a :: st) h := Ex_nx rfl (if_pos hk)
theorem rX0_as_54x (Q : Po) (h : Hp) (ls : List Value) (st : List Value) (a : Nat) (hk : ¬ gK h a ∈ ([4, 5, 6] : List Nat)) (hx : gK h a ∈ ([7, 8] : List Nat) ∧ xOk h st) : Ex mX0_as Q 54 ls (.ref a :: st) h = Cont mX0_as Q 54 ls 0 [] (.inr (gN h + 2)) (nX h 63) := Ex_th rfl ((if_neg hk).trans (if_pos hx))
theorem rX0_as_57 (Q : Po) (h : Hp) (ls : List Value) (st : List Value) : Ex mX0_as Q 57 ls st h = Ex mX0_as Q 100 ls st h := Ex_nx rfl rfl
theorem rX0_as_60 (Q : Po) (h : Hp) (l0 l1 l3 l4 : Value) (x : Int32) (st : List Value) : Ex mX0_as Q 60 [l0, l1, .int x, l3, l4] st h = Ex mX0_as Q 61 [l0, l1, .int x, l3, l4] (.int x :: st) h := Ex_nx rfl rfl
theorem rX0_as_61 (Q : Po) (h : Hp) (ls : List Value) (st : List Value) : Ex mX0_as Q 61 ls st h = Ex mX0_as Q 62 ls (.int 2 :: st) h := Ex_nx rfl rfl
theorem rX0_as_62 (Q : Po) (h : Hp) (ls : List Value) (st : List Value) (x y : Int32) : Ex mX0_as Q 62 ls (.int y :: .int x :: st) h = if ¬ x = y then Ex mX0_as Q 72 ls st h else Ex mX0_as Q 65 ls st h := Ex_br rfl rfl
theorem rX0_as_65 (Q : Po) (h : Hp) (l0 l1 l2 l4 : Value) (x : Nat) (st : List Value) : Ex mX0_as Q 65 [l0, l1, l2, .ref x, l4] st h = Ex mX0_as Q 66 [l0, l1, l2, .ref x, l4] (.ref x :: st) h := Ex_nx rfl rfl
theorem rX0_as_66 (Q : Po) (h : Hp) (ls : List Value) (st : List Value) (a : Nat) (hk : gK h a ∈ ([5] : List Nat)) : Ex mX0_as Q 66 ls (.ref a :: st) h = Ex mX0_as Q 69 ls (.ref a :: st) h := Ex_nx rfl (if_pos hk)
theorem rX0_as_66x (Q : Po) (h : Hp) (ls : List Value) (st : List Value) (a : Nat) (hk : ¬ gK h a ∈ ([5] : List Nat)) (hx : gK h a ∈ ([4, 6, 7, 8] : List Nat) ∧ xOk h st) : Ex mX0_as Q 66 ls (.ref a :: st) h = Cont mX0_as Q 66 ls 0 [] (.inr (gN h + 2)) (nX h 63) := Ex_th rfl ((if_neg hk).trans (if_pos hx))
theorem rX0_as_69 (Q : Po) (h : Hp) (ls : List Value) (st : List Value) : Ex mX0_as Q 69 ls st h = Ex mX0_as Q 100 ls st h := Ex_nx rfl rfl
theorem rX0_as_72 (Q : Po) (h : Hp) (l0 l1 l3 l4 : Value) (x : Int32) (st : List Value) : Ex mX0_as Q 72 [l0, l1, .int x, l3, l4] st h = Ex mX0_as Q 73 [l0, l1, .int x, l3, l4] (.int x :: st) h := Ex_nx rfl rfl
theorem rX0_as_73 (Q : Po) (h : Hp) (ls : List Value) (st : List Value) : Ex mX0_as Q 73 ls st h = Ex mX0_as Q 74 ls (.int 3 :: st) h := Ex_nx rfl rfl
theorem rX0_as_74 (Q : Po) (h : Hp) (ls : List Value) (st : List Value) (x y : Int32) : Ex mX0_as Q 74 ls (.int y :: .int x :: st) h = if ¬ x = y then Ex mX0_as Q 84 ls st h else Ex mX0_as Q 77 ls st h := Ex_br rfl rfl
theorem rX0_as_77 (Q : Po) (h : Hp) (l0 l1 l2 l4 : Value) (x : Nat) (st : List Value) : Ex mX0_as Q 77 [l0, l1, l2, .ref x, l4] st h = Ex mX0_as Q 78 [l0, l1, l2, .ref x, l4] (.ref x :: st) h := Ex_nx rfl rfl
theorem rX0_as_78 (Q : Po) (h : Hp) (ls : List Value) (st : List Value) (a : Nat) (hk : gK h a ∈ ([6] : List Nat)) : Ex mX0_as Q 78 ls (.ref a :: st) h = Ex mX0_as Q 81 ls (.ref a :: st) h := Ex_nx rfl (if_pos hk)
theorem rX0_as_78x (Q : Po) (h : Hp) (ls : List Value) (st : List Value) (a : Nat) (hk : ¬ gK h a ∈ ([6] : List Nat)) (hx : gK h a ∈ ([4, 5, 7, 8] : List Nat) ∧ xOk h st) : Ex mX0_as Q 78 ls (.ref a :: st) h = Cont mX0_as Q 78 ls 0 [] (.inr (gN h + 2)) (nX h 63) := Ex_th rfl ((if_neg hk).trans (if_pos hx))
theorem rX0_as_81 (Q : Po) (h : Hp) (ls : List Value) (st : List Value) : Ex mX0_as Q 81 ls st h = Ex mX0_as Q 100 ls st h := Ex_nx rfl rfl
theorem rX0_as_84 (Q : Po) (h : Hp) (l0 l1 l3 l4 : Value) (x : Int32) (st : List Value) : Ex mX0_as Q 84 [l0, l1, .int x, l3, l4] st h = Ex mX0_as Q 85 [l0, l1, .int x, l3, l4] (.int x :: st) h := Ex_nx rfl rfl
theorem rX0_as_85 (Q : Po) (h : Hp) (ls : List Value) (st : List Value) : Ex mX0_as Q 85 ls st h = Ex mX0_as Q 86 ls (.int 4 :: st) h := Ex_nx rfl rfl
theorem rX0_as_86 (Q : Po) (h : Hp) (ls : List Value) (st : List Value) (x y : Int32) : Ex mX0_as Q 86 ls (.int y :: .int x :: st) h = if ¬ x = y then Ex mX0_as Q 96 ls st h else Ex mX0_as Q 89 ls st h := Ex_br rfl rfl
theorem rX0_as_89 (Q : Po) (h : Hp) (l0 l1 l2 l4 : Value) (x : Nat) (st : List Value) : Ex mX0_as Q 89 [l0, l1, l2, .ref x, l4] st h = Ex mX0_as Q 90 [l0, l1, l2, .ref x, l4] (.ref x :: st) h := Ex_nx rfl rfl
theorem rX0_as_90 (Q : Po) (h : Hp) (ls : List Value) (st : List Value) (a : Nat) (hk : gK h a ∈ ([7, 8] : List Nat)) : Ex mX0_as Q 90 ls (.ref a :: st) h = Ex mX0_as Q 93 ls (.ref a :: st) h := Ex_nx rfl (if_pos hk)
theorem rX0_as_90x (Q : Po) (h : Hp) (ls : List Value) (st : List Value) (a : Nat) (hk : ¬ gK h a ∈ ([7, 8] : List Nat)) (hx : gK h a ∈ ([4, 5, 6] : List Nat) ∧ xOk h st) : Ex mX0_as Q 90 ls (.ref a :: st) h = Cont mX0_as Q 90 ls 0 [] (.inr (gN h + 2)) (nX h 63) := Ex_th rfl ((if_neg hk).trans (if_pos hx))
theorem rX0_as_93 (Q : Po) (h : Hp) (ls : List Value) (st : List Value) : Ex mX0_as Q 93 ls st h = Ex mX0_as Q 100 ls st h := Ex_nx rfl rfl
theorem rX0_as_96 (Q : Po) (h : Hp) (l0 l1 l2 l4 : Value) (x : Nat) (st : List Value) : Ex mX0_as Q 96 [l0, l1, l2, .ref x, l4] st h = Ex mX0_as Q 97 [l0, l1, l2, .ref x, l4] (.ref x :: st) h := Ex_nx rfl rfl
theorem rX0_as_97 (Q : Po) (h : Hp) (ls : List Value) (st : List Value) (a : Nat) (hk : gK h a ∈ ([8] : List Nat)) : Ex mX0_as Q 97 ls (.ref a :: st) h = Ex mX0_as Q 100 ls (.ref a :: st) h := Ex_nx rfl (if_pos hk)
theorem rX0_as_97x (Q : Po) (h : Hp) (ls : List Value) (st : List Value) (a : Nat) (hk : ¬ gK h a ∈ ([8] : List Nat)) (hx : gK h a ∈ ([4, 5, 6, 7] : List Nat) ∧ xOk h st) : Ex mX0_as Q 97 ls (.ref a :: st) h = Cont mX0_as Q 97 ls 0 [] (.inr (gN h + 2)) (nX h 63) := Ex_th rfl ((if_neg hk).trans (if_pos hx))
theorem rX0_as_100 (Q : Po) (h : Hp) (l0 l1 l2 l3 l4 : Value) (x : Nat) (st : List Value) : Ex mX0_as Q 100 [l0, l1, l2, l3, l4] (.ref x :: st) h = Ex mX0_as Q 102 [l0, l1, l2, l3, .ref x] st h := Ex_nx rfl rfl
theorem rX0_as_102 (Q : Po) (h : Hp) (l1 l2 l3 l4 : Value) (x : Nat) (st : List Value) : Ex mX0_as Q 102 [.ref x, l1, l2, l3, l4] st h = Ex mX0_as Q 103 [.ref x, l1, l2, l3, l4] (.ref x :: st) h := Ex_nx rfl rfl
theorem rX0_as_103 (Q : Po) (h : Hp) (l0 l1 l2 l3 : Value) (x : Nat) (st : List Value) : Ex mX0_as Q 103 [l0, l1, l2, l3, .ref x] st h = Ex mX0_as Q 105 [l0, l1, l2, l3, .ref x] (.ref x :: st) h := Ex_nx rfl rfl
theorem rX0_as_105k4 (Q : Po) (h : Hp) (ls : List Value) (s0 : Value) (b : Nat) (hk : gK h b = 4) : Ex mX0_as Q 105 ls (.ref b :: [s0]) h = Ex mX3_number (Cont mX0_as Q 105 ls 108 [s0]) 0 [.ref b] [] h := Ex_cl (n := 1) (as := [.ref b]) rfl (by simp only [c_D, tkA, hk]; rfl)
theorem rX0_as_105k5 (Q : Po) (h : Hp) (ls : List Value) (s0 : Value) (b : Nat) (hk : gK h b = 5) : Ex mX0_as Q 105 ls (.ref b :: [s0]) h = Ex mX3_number (Cont mX0_as Q 105 ls 108 [s0]) 0 [.ref b] [] h := Ex_cl (n := 1) (as := [.ref b]) rfl (by simp only [c_D, tkA, hk]; rfl)
theorem rX0_as_105k6 (Q : Po) (h : Hp) (ls : List Value) (s0 : Value) (b : Nat) (hk : gK h b = 6) : Ex mX0_as Q 105 ls (.ref b :: [s0]) h = Ex mX3_number (Cont mX0_as Q 105 ls 108 [s0]) 0 [.ref b] [] h := Ex_cl (n := 1) (as := [.ref b]) rfl (by simp only [c_D, tkA, hk]; rfl)
theorem rX0_as_105k7 (Q : Po) (h : Hp) (ls : List Value) (s0 : Value) (b : Nat) (hk : gK h b = 7) : Ex mX0_as Q 105 ls (.ref b :: [s0]) h = Ex mX3_number (Cont mX0_as Q 105 ls 108 [s0]) 0 [.ref b] [] h := Ex_cl (n := 1) (as := [.ref b]) rfl (by simp only [c_D, tkA, hk]; rfl)
theorem rX0_as_105k8 (Q : Po) (h : Hp) (ls : List Value) (s0 : Value) (b : Nat) (hk : gK h b = 8) : Ex mX0_as Q 105 ls (.ref b :: [s0]) h = Ex mX3_number (Cont mX0_as Q 105 ls 108 [s0]) 0 [.ref b] [] h := Ex_cl (n := 1) (as := [.ref b]) rfl (by simp only [c_D, tkA, hk]; rfl)
theorem rX0_as_108 (Q : Po) (h : Hp) (ls : List Value) (a0 : Int32) (b : Nat) : Ex mX0_as Q 108 ls (.int a0 :: .ref b :: []) h = (gK h b = 1 ∧ Ex mX0_well (Cont mX0_as Q 108 ls 111 []) 0 [.ref b, .int a0] [] h) := Ex_cg (n := 2) (as := [.ref b, .int a0]) rfl rfl
theorem rX0_as_111 (Q : Po) (h : Hp) (ls : List Value) (x : Int32) : Ex mX0_as Q 111 ls [.int x] h = Q (.inl (some (.int x))) h := Ex_rt rfl rfl
theorem rX0_as_112 (Q : Po) (h : Hp) (l0 l1 l2 l3 l4 : Value) (x : Nat) (st : List Value) : Ex mX0_as Q 112 [l0, l1, l2, l3, l4] (.ref x :: st) h = Ex mX0_as Q 114 [l0, l1, l2, l3, .ref x] st h := Ex_nx rfl rfl
theorem rX0_as_114 (Q : Po) (h : Hp) (ls : List Value) (st : List Value) : Ex mX0_as Q 114 ls st h = ((1 ≤ gC h ∧ 7 ≤ gS h) ∧ Ex mX0_as Q 117 ls (.ref (gN h) :: st) (nO h 10 7)) := Ex_gd rfl rfl
theorem rX0_as_117 (Q : Po) (h : Hp) (ls : List Value) (st : List Value) (x : Nat) : Ex mX0_as Q 117 ls (.ref x :: st) h = Ex mX0_as Q 118 ls (.ref x :: .ref x :: st) h := Ex_nx rfl rfl
theorem rX0_as_118 (Q : Po) (h : Hp) (ls : List Value) (st : List Value) : Ex mX0_as Q 118 ls st h = Ex mX0_as Q 119 ls (.int 3 :: st) h := Ex_nx rfl rfl
theorem rX0_as_119 (Q : Po) (h : Hp) (ls : List Value) (a0 : Int32) (s0 : Value) (b : Nat) : Ex mX0_as Q 119 ls (.int a0 :: .ref b :: [s0]) h = Ex mX10_init (Cont mX0_as Q 119 ls 122 [s0]) 0 [.ref b, .int a0] [] h := Ex_cl (n := 2) (as := [.ref b, .int a0]) rfl rfl
theorem rX0_as_122 (Q : Po) (h : Hp) (ls : List Value) (st : List Value) (a : Nat) : Ex mX0_as Q 122 ls (.ref a :: st) h = Cont mX0_as Q 122 ls 0 [] (.inr a) h := Ex_th rfl rfl
theorem rX0_as_123 (Q : Po) (h : Hp) (l0 l1 l2 l3 l4 : Value) (x : Nat) (st : List Value) : Ex mX0_as Q 123 [l0, l1, l2, l3, l4] (.ref x :: st) h = Ex mX0_as Q 124 [l0, l1, l2, .ref x, l4] st h := Ex_nx rfl rfl
theorem rX0_as_124 (Q : Po) (h : Hp) (l1 l2 l3 l4 : Value) (x : Nat) (st : List Value) : Ex mX0_as Q 124 [.ref x, l1, l2, l3, l4] st h = Ex mX0_as Q 125 [.ref x, l1, l2, l3, l4] (.ref x :: st) h := Ex_nx rfl rfl
theorem rX0_as_125 (Q : Po) (h : Hp) (l0 l1 l2 l4 : Value) (x : Nat) (st : List Value) : Ex mX0_as Q 125 [l0, l1, l2, .ref x, l4] st h = Ex mX0_as Q 126 [l0, l1, l2, .ref x, l4] (.ref x :: st) h := Ex_nx rfl rfl
theorem rX0_as_126 (Q : Po) (h : Hp) (ls : List Value) (a0 : Nat) (b : Nat) : Ex mX0_as Q 126 ls (.ref a0 :: .ref b :: []) h = (gK h b = 1 ∧ Ex mX0_found (Cont mX0_as Q 126 ls 129 []) 0 [.ref b, .ref a0] [] h) := Ex_cg (n := 2) (as := [.ref b, .ref a0]) rfl rfl
theorem rX0_as_129 (Q : Po) (h : Hp) (ls : List Value) (x : Int32) : Ex mX0_as Q 129 ls [.int x] h = Q (.inl (some (.int x))) h := Ex_rt rfl rfl
/-! FishReaders$Trail.begins(I)V -/
def mX2_begins : Cd := ([(0, .inl (i_aload 0 1)),
  (1, .inl (i_getf 66 [3] 4)),
  (4, .inl (i_push (.int 16) 6)),
  (6, .inl (i_icmp (fun x y => y ≤ x) 26 9)),
  (9, .inl (i_aload 0 10)),
  (10, .inl (i_getf 65 [3] 13)),
  (13, .inl (i_aload 0 14)),
  (14, .inl (i_dup 15)),
  (15, .inl (i_getf 66 [3] 18)),
  (18, .inl (i_dup_x1 19)),
  (19, .inl (i_push (.int 1) 20)),
  (20, .inl (i_bin (fun x y => x + y) 21)),
  (21, .inl (i_putI 66 [3] 24)),
  (24, .inl (i_iload 1 25)),
  (25, .inl (i_iast 51 (fun x => x) 26)),
  (26, .inl i_vret)], noH)
theorem rX2_begins_0 (Q : Po) (h : Hp) (l1 : Value) (x : Nat) (st : List Value) : Ex mX2_begins Q 0 [.ref x, l1] st h = Ex mX2_begins Q 1 [.ref x, l1] (.ref x :: st) h := Ex_nx rfl rfl
theorem rX2_begins_1 (Q : Po) (h : Hp) (ls : List Value) (st : List Value) (a : Nat) : Ex mX2_begins Q 1 ls (.ref a :: st) h = (gK h a ∈ ([3] : List Nat) ∧ Ex mX2_begins Q 4 ls (gF h 66 a :: st) h) := Ex_gd rfl rfl
theorem rX2_begins_4 (Q : Po) (h : Hp) (ls : List Value) (st : List Value) : Ex mX2_begins Q 4 ls st h = Ex mX2_begins Q 6 ls (.int 16 :: st) h := Ex_nx rfl rfl
theorem rX2_begins_6 (Q : Po) (h : Hp) (ls : List Value) (st : List Value) (x y : Int32) : Ex mX2_begins Q 6 ls (.int y :: .int x :: st) h = if y ≤ x then Ex mX2_begins Q 26 ls st h else Ex mX2_begins Q 9 ls st h := Ex_br rfl rfl
theorem rX2_begins_9 (Q : Po) (h : Hp) (l1 : Value) (x : Nat) (st : List Value) : Ex mX2_begins Q 9 [.ref x, l1] st h = Ex mX2_begins Q 10 [.ref x, l1] (.ref x :: st) h := Ex_nx rfl rfl
theorem rX2_begins_10 (Q : Po) (h : Hp) (ls : List Value) (st : List Value) (a : Nat) : Ex mX2_begins Q 10 ls (.ref a :: st) h = (gK h a ∈ ([3] : List Nat) ∧ Ex mX2_begins Q 13 ls (gF h 65 a :: st) h) := Ex_gd rfl rfl
theorem rX2_begins_13 (Q : Po) (h : Hp) (l1 : Value) (x : Nat) (st : List Value) : Ex mX2_begins Q 13 [.ref x, l1] st h = Ex mX2_begins Q 14 [.ref x, l1] (.ref x :: st) h := Ex_nx rfl rfl
theorem rX2_begins_14 (Q : Po) (h : Hp) (ls : List Value) (st : List Value) (x : Nat) : Ex mX2_begins Q 14 ls (.ref x :: st) h = Ex mX2_begins Q 15 ls (.ref x :: .ref x :: st) h := Ex_nx rfl rfl
theorem rX2_begins_15 (Q : Po) (h : Hp) (ls : List Value) (st : List Value) (a : Nat) : Ex mX2_begins Q 15 ls (.ref a :: st) h = (gK h a ∈ ([3] : List Nat) ∧ Ex mX2_begins Q 18 ls (gF h 66 a :: st) h) := Ex_gd rfl rfl
theorem rX2_begins_18 (Q : Po) (h : Hp) (ls : List Value) (st : List Value) (x : Int32) (y : Nat) : Ex mX2_begins Q 18 ls (.int x :: .ref y :: st) h = Ex mX2_begins Q 19 ls (.int x :: .ref y :: .int x :: st) h := Ex_nx rfl rfl
theorem rX2_begins_19 (Q : Po) (h : Hp) (ls : List Value) (st : List Value) : Ex mX2_begins Q 19 ls st h = Ex mX2_begins Q 20 ls (.int 1 :: st) h := Ex_nx rfl rfl
theorem rX2_begins_20 (Q : Po) (h : Hp) (ls : List Value) (st : List Value) (x y : Int32) : Ex mX2_begins Q 20 ls (.int y :: .int x :: st) h = Ex mX2_begins Q 21 ls (.int (x + y) :: st) h := Ex_nx rfl rfl
theorem rX2_begins_21 (Q : Po) (h : Hp) (ls : List Value) (st : List Value) (x : Int32) (a : Nat) : Ex mX2_begins Q 21 ls (.int x :: .ref a :: st) h = (gK h a ∈ ([3] : List Nat) ∧ Ex mX2_begins Q 24 ls st (pF h 66 a (.int x))) := Ex_gd rfl rfl
theorem rX2_begins_24 (Q : Po) (h : Hp) (l0 : Value) (x : Int32) (st : List Value) : Ex mX2_begins Q 24 [l0, .int x] st h = Ex mX2_begins Q 25 [l0, .int x] (.int x :: st) h := Ex_nx rfl rfl
theorem rX2_begins_25 (Q : Po) (h : Hp) (ls : List Value) (st : List Value) (a : Nat) (i x : Int32) : Ex mX2_begins Q 25 ls (.int x :: .int i :: .ref a :: st) h = ((gK h a = 51 ∧ ¬ (i < 0 ∨ gL h a ≤ i.toNatClampNeg)) ∧ Ex mX2_begins Q 26 ls st (pI h a i.toNatClampNeg (x))) := Ex_gd rfl rfl
theorem rX2_begins_26 (Q : Po) (h : Hp) (ls : List Value) : Ex mX2_begins Q 26 ls [] h = Q (.inl none) h := Ex_rt rfl rfl
theorem rX2_begins_t (Q : Po) (h : Hp) (pc n a : Nat) (ls st : List Value) : Cont mX2_begins Q pc ls n st (.inr a) h = Q (.inr a) h := rfl
/-! FishReaders$Fish.size(LFishReaders$Trail;LFishReaders$Library;)I -/
def mX3_size : Cd := ([(0, .inl (i_aload 1 1)),
  (1, .inl (i_push (.int 10) 3)),
  (3, .inr (c_V 1 6 2 3 (Mt mX2_begins 2))),
  (6, .inl (i_aload 2 7)),
  (7, .inl (i_getf 55 [2] 10)),
  (10, .inl (i_aload 0 11)),
  (11, .inl (i_getf 68 [4, 5, 6, 7, 8] 14)),
  (14, .inl (i_iald 51 15)),
  (15, .inl i_iret)], noH)
theorem rX3_size_0 (Q : Po) (h : Hp) (l0 l2 : Value) (x : Nat) (st : List Value) : Ex mX3_size Q 0 [l0, .ref x, l2] st h = Ex mX3_size Q 1 [l0, .ref x, l2] (.ref x :: st) h := Ex_nx rfl rfl
theorem rX3_size_1 (Q : Po) (h : Hp) (ls : List Value) (st : List Value) : Ex mX3_size Q 1 ls st h = Ex mX3_size Q 3 ls (.int 10 :: st) h := Ex_nx rfl rfl
theorem rX3_size_3 (Q : Po) (h : Hp) (ls : List Value) (a0 : Int32) (b : Nat) : Ex mX3_size Q 3 ls (.int a0 :: .ref b :: []) h = (gK h b = 3 ∧ Ex mX2_begins (Cont mX3_size Q 3 ls 6 []) 0 [.ref b, .int a0] [] h) := Ex_cg (n := 2) (as := [.ref b, .int a0]) rfl rfl
theorem rX3_size_6 (Q : Po) (h : Hp) (l0 l1 : Value) (x : Nat) (st : List Value) : Ex mX3_size Q 6 [l0, l1, .ref x] st h = Ex mX3_size Q 7 [l0, l1, .ref x] (.ref x :: st) h := Ex_nx rfl rfl
theorem rX3_size_7 (Q : Po) (h : Hp) (ls : List Value) (st : List Value) (a : Nat) : Ex mX3_size Q 7 ls (.ref a :: st) h = (gK h a ∈ ([2] : List Nat) ∧ Ex mX3_size Q 10 ls (gF h 55 a :: st) h) := Ex_gd rfl rfl
theorem rX3_size_10 (Q : Po) (h : Hp) (l1 l2 : Value) (x : Nat) (st : List Value) : Ex mX3_size Q 10 [.ref x, l1, l2] st h = Ex mX3_size Q 11 [.ref x, l1, l2] (.ref x :: st) h := Ex_nx rfl rfl
theorem rX3_size_11 (Q : Po) (h : Hp) (ls : List Value) (st : List Value) (a : Nat) : Ex mX3_size Q 11 ls (.ref a :: st) h = (gK h a ∈ ([4, 5, 6, 7, 8] : List Nat) ∧ Ex mX3_size Q 14 ls (gF h 68 a :: st) h) := Ex_gd rfl rfl
theorem rX3_size_14 (Q : Po) (h : Hp) (ls : List Value) (st : List Value) (a : Nat) (i : Int32) : Ex mX3_size Q 14 ls (.int i :: .ref a :: st) h = ((gK h a = 51 ∧ ¬ (i < 0 ∨ gL h a ≤ i.toNatClampNeg)) ∧ Ex mX3_size Q 15 ls (.int (gI h a i.toNatClampNeg) :: st) h) := Ex_gd rfl rfl
theorem rX3_size_15 (Q : Po) (h : Hp) (ls : List Value) (x : Int32) : Ex mX3_size Q 15 ls [.int x] h = Q (.inl (some (.int x))) h := Ex_rt rfl rfl
theorem rX3_size_t (Q : Po) (h : Hp) (pc n a : Nat) (ls st : List Value) : Cont mX3_size Q pc ls n st (.inr a) h = Q (.inr a) h := rfl
/-! FishReaders$Marked.mark(LFishReaders$Trail;LFishReaders$Library;)I -/
def mX14_mark : Cd := ([(0, .inl (i_aload 1 1)),
  (1, .inl (i_push (.int 20) 3)),
  (3, .inr (c_V 1 6 2 3 (Mt mX2_begins 2))),
  (6, .inl (i_aload 0 7)),
  (7, .inr (c_D 0 12 1 [(4, (Mt mX3_number 1)), (5, (Mt mX3_number 1)), (6, (Mt mX3_number 1)), (7, (Mt mX3_number 1)), (8, (Mt mX3_number 1))])),
  (12, .inl i_iret)], noH)
theorem rX14_mark_0 (Q : Po) (h : Hp) (l0 l2 : Value) (x : Nat) (st : List Value) : Ex mX14_mark Q 0 [l0, .ref x, l2] st h = Ex mX14_mark Q 1 [l0, .ref x, l2] (.ref x :: st) h := Ex_nx rfl rfl
theorem rX14_mark_1 (Q : Po) (h : Hp) (ls : List Value) (st : List Value) : Ex mX14_mark Q 1 ls st h = Ex mX14_mark Q 3 ls (.int 20 :: st) h := Ex_nx rfl rfl
theorem rX14_mark_3 (Q : Po) (h : Hp) (ls : List Value) (a0 : Int32) (b : Nat) : Ex mX14_mark Q 3 ls (.int a0 :: .ref b :: []) h = (gK h b = 3 ∧ Ex mX2_begins (Cont mX14_mark Q 3 ls 6 []) 0 [.ref b, .int a0] [] h) := Ex_cg (n := 2) (as := [.ref b, .int a0]) rfl rfl
theorem rX14_mark_6 (Q : Po) (h : Hp) (l1 l2 : Value) (x : Nat) (st : List Value) : Ex mX14_mark Q 6 [.ref x, l1, l2] st h = Ex mX14_mark Q 7 [.ref x, l1, l2] (.ref x :: st) h := Ex_nx rfl rfl
theorem rX14_mark_7k4 (Q : Po) (h : Hp) (ls : List Value) (b : Nat) (hk : gK h b = 4) : Ex mX14_mark Q 7 ls (.ref b :: []) h = Ex mX3_number (Cont mX14_mark Q 7 ls 12 []) 0 [.ref b] [] h := Ex_cl (n := 1) (as := [.ref b]) rfl (by simp only [c_D, tkA, hk]; rfl)
theorem rX14_mark_7k5 (Q : Po) (h : Hp) (ls : List Value) (b : Nat) (hk : gK h b = 5) : Ex mX14_mark Q 7 ls (.ref b :: []) h = Ex mX3_number (Cont mX14_mark Q 7 ls 12 []) 0 [.ref b] [] h := Ex_cl (n := 1) (as := [.ref b]) rfl (by simp only [c_D, tkA, hk]; rfl)
theorem rX14_mark_7k6 (Q : Po) (h : Hp) (ls : List Value) (b : Nat) (hk : gK h b = 6) : Ex mX14_mark Q 7 ls (.ref b :: []) h = Ex mX3_number (Cont mX14_mark Q 7 ls 12 []) 0 [.ref b] [] h := Ex_cl (n := 1) (as := [.ref b]) rfl (by simp only [c_D, tkA, hk]; rfl)
theorem rX14_mark_7k7 (Q : Po) (h : Hp) (ls : List Value) (b : Nat) (hk : gK h b = 7) : Ex mX14_mark Q 7 ls (.ref b :: []) h = Ex mX3_number (Cont mX14_mark Q 7 ls 12 []) 0 [.ref b] [] h := Ex_cl (n := 1) (as := [.ref b]) rfl (by simp only [c_D, tkA, hk]; rfl)
theorem rX14_mark_7k8 (Q : Po) (h : Hp) (ls : List Value) (b : Nat) (hk : gK h b = 8) : Ex mX14_mark Q 7 ls (.ref b :: []) h = Ex mX3_number (Cont mX14_mark Q 7 ls 12 []) 0 [.ref b] [] h := Ex_cl (n := 1) (as := [.ref b]) rfl (by simp only [c_D, tkA, hk]; rfl)
theorem rX14_mark_12 (Q : Po) (h : Hp) (ls : List Value) (x : Int32) : Ex mX14_mark Q 12 ls [.int x] h = Q (.inl (some (.int x))) h := Ex_rt rfl rfl
theorem rX14_mark_t (Q : Po) (h : Hp) (pc n a : Nat) (ls st : List Value) : Cont mX14_mark Q pc ls n st (.inr a) h = Q (.inr a) h := rfl
/-! FishReaders$Browser.mark(LFishReaders$Trail;LFishReaders$Library;)I -/
def mX4_mark : Cd := ([(0, .inl (i_aload 1 1)),
  (1, .inl (i_push (.int 21) 3)),
  (3, .inr (c_V 1 6 2 3 (Mt mX2_begins 2))),
  (6, .inl (i_aload 0 7)),
  (7, .inl (i_aload 1 8)),
  (8, .inl (i_aload 2 9)),
  (9, .inr (c_D 2 12 3 [(4, (Mt mX14_mark 3)), (5, (Mt mX14_mark 3)), (6, (Mt mX14_mark 3))])),
  (12, .inl (i_aload 2 13)),
  (13, .inl (i_getf 53 [2] 16)),
  (16, .inl (i_aload 0 17)),
  (17, .inr (c_D 0 20 1 [(4, (Mt mX3_number 1)), (5, (Mt mX3_number 1)), (6, (Mt mX3_number 1))])),
  (20, .inl (i_iald 51 21)),
  (21, .inl (i_bin (fun x y => x + y) 22)),
  (22, .inl i_iret)], noH)
theorem rX4_mark_0 (Q : Po) (h : Hp) (l0 l2 : Value) (x : Nat) (st : List Value) : Ex mX4_mark Q 0 [l0, .ref x, l2] st h = Ex mX4_mark Q 1 [l0, .ref x, l2] (.ref x :: st) h := Ex_nx rfl rfl
theorem rX4_mark_1 (Q : Po) (h : Hp) (ls : List Value) (st : List Value) : Ex mX4_mark Q 1 ls st h = Ex mX4_mark Q 3 ls (.int 21 :: st) h := Ex_nx rfl rfl
theorem rX4_mark_3 (Q : Po) (h : Hp) (ls : List Value) (a0 : Int32) (b : Nat) : Ex mX4_mark Q 3 ls (.int a0 :: .ref b :: []) h = (gK h b = 3 ∧ Ex mX2_begins (Cont mX4_mark Q 3 ls 6 []) 0 [.ref b, .int a0] [] h) := Ex_cg (n := 2) (as := [.ref b, .int a0]) rfl rfl
theorem rX4_mark_6 (Q : Po) (h : Hp) (l1 l2 : Value) (x : Nat) (st : List Value) : Ex mX4_mark Q 6 [.ref x, l1, l2] st h = Ex mX4_mark Q 7 [.ref x, l1, l2] (.ref x :: st) h := Ex_nx rfl rfl
theorem rX4_mark_7 (Q : Po) (h : Hp) (l0 l2 : Value) (x : Nat) (st : List Value) : Ex mX4_mark Q 7 [l0, .ref x, l2] st h = Ex mX4_mark Q 8 [l0, .ref x, l2] (.ref x :: st) h := Ex_nx rfl rfl
theorem rX4_mark_8 (Q : Po) (h : Hp) (l0 l1 : Value) (x : Nat) (st : List Value) : Ex mX4_mark Q 8 [l0, l1, .ref x] st h = Ex mX4_mark Q 9 [l0, l1, .ref x] (.ref x :: st) h := Ex_nx rfl rfl
theorem rX4_mark_9k4 (Q : Po) (h : Hp) (ls : List Value) (a0 : Nat) (a1 : Nat) (b : Nat) (hk : gK h b = 4) : Ex mX4_mark Q 9 ls (.ref a1 :: .ref a0 :: .ref b :: []) h = Ex mX14_mark (Cont mX4_mark Q 9 ls 12 []) 0 [.ref b, .ref a0, .ref a1] [] h := Ex_cl (n := 3) (as := [.ref b, .ref a0, .ref a1]) rfl (by simp only [c_D, tkA, hk]; rfl)
theorem rX4_mark_9k5 (Q : Po) (h : Hp) (ls : List Value) (a0 : Nat) (a1 : Nat) (b : Nat) (hk : gK h b = 5) : Ex mX4_mark Q 9 ls (.ref a1 :: .ref a0 :: .ref b :: []) h = Ex mX14_mark (Cont mX4_mark Q 9 ls 12 []) 0 [.ref b, .ref a0, .ref a1] [] h := Ex_cl (n := 3) (as := [.ref b, .ref a0, .ref a1]) rfl (by simp only [c_D, tkA, hk]; rfl)
theorem rX4_mark_9k6 (Q : Po) (h : Hp) (ls : List Value) (a0 : Nat) (a1 : Nat) (b : Nat) (hk : gK h b = 6) : Ex mX4_mark Q 9 ls (.ref a1 :: .ref a0 :: .ref b :: []) h = Ex mX14_mark (Cont mX4_mark Q 9 ls 12 []) 0 [.ref b, .ref a0, .ref a1] [] h := Ex_cl (n := 3) (as := [.ref b, .ref a0, .ref a1]) rfl (by simp only [c_D, tkA, hk]; rfl)
theorem rX4_mark_12 (Q : Po) (h : Hp) (l0 l1 : Value) (x : Nat) (st : List Value) : Ex mX4_mark Q 12 [l0, l1, .ref x] st h = Ex mX4_mark Q 13 [l0, l1, .ref x] (.ref x :: st) h := Ex_nx rfl rfl
theorem rX4_mark_13 (Q : Po) (h : Hp) (ls : List Value) (st : List Value) (a : Nat) : Ex mX4_mark Q 13 ls (.ref a :: st) h = (gK h a ∈ ([2] : List Nat) ∧ Ex mX4_mark Q 16 ls (gF h 53 a :: st) h) := Ex_gd rfl rfl
theorem rX4_mark_16 (Q : Po) (h : Hp) (l1 l2 : Value) (x : Nat) (st : List Value) : Ex mX4_mark Q 16 [.ref x, l1, l2] st h = Ex mX4_mark Q 17 [.ref x, l1, l2] (.ref x :: st) h := Ex_nx rfl rfl
theorem rX4_mark_17k4 (Q : Po) (h : Hp) (ls : List Value) (s0 s1 : Value) (b : Nat) (hk : gK h b = 4) : Ex mX4_mark Q 17 ls (.ref b :: [s0, s1]) h = Ex mX3_number (Cont mX4_mark Q 17 ls 20 [s0, s1]) 0 [.ref b] [] h := Ex_cl (n := 1) (as := [.ref b]) rfl (by simp only [c_D, tkA, hk]; rfl)
theorem rX4_mark_17k5 (Q : Po) (h : Hp) (ls : List Value) (s0 s1 : Value) (b : Nat) (hk : gK h b = 5) : Ex mX4_mark Q 17 ls (.ref b :: [s0, s1]) h = Ex mX3_number (Cont mX4_mark Q 17 ls 20 [s0, s1]) 0 [.ref b] [] h := Ex_cl (n := 1) (as := [.ref b]) rfl (by simp only [c_D, tkA, hk]; rfl)
theorem rX4_mark_17k6 (Q : Po) (h : Hp) (ls : List Value) (s0 s1 : Value) (b : Nat) (hk : gK h b = 6) : Ex mX4_mark Q 17 ls (.ref b :: [s0, s1]) h = Ex mX3_number (Cont mX4_mark Q 17 ls 20 [s0, s1]) 0 [.ref b] [] h := Ex_cl (n := 1) (as := [.ref b]) rfl (by simp only [c_D, tkA, hk]; rfl)
theorem rX4_mark_20 (Q : Po) (h : Hp) (ls : List Value) (st : List Value) (a : Nat) (i : Int32) : Ex mX4_mark Q 20 ls (.int i :: .ref a :: st) h = ((gK h a = 51 ∧ ¬ (i < 0 ∨ gL h a ≤ i.toNatClampNeg)) ∧ Ex mX4_mark Q 21 ls (.int (gI h a i.toNatClampNeg) :: st) h) := Ex_gd rfl rfl
theorem rX4_mark_21 (Q : Po) (h : Hp) (ls : List Value) (st : List Value) (x y : Int32) : Ex mX4_mark Q 21 ls (.int y :: .int x :: st) h = Ex mX4_mark Q 22 ls (.int (x + y) :: st) h := Ex_nx rfl rfl
theorem rX4_mark_22 (Q : Po) (h : Hp) (ls : List Value) (x : Int32) : Ex mX4_mark Q 22 ls [.int x] h = Q (.inl (some (.int x))) h := Ex_rt rfl rfl
theorem rX4_mark_t (Q : Po) (h : Hp) (pc n a : Nat) (ls st : List Value) : Cont mX4_mark Q pc ls n st (.inr a) h = Q (.inr a) h := rfl
/-! FishReaders$Poet.mark(LFishReaders$Trail;LFishReaders$Library;)I -/
def mX5_mark : Cd := ([(0, .inl (i_aload 1 1)),
  (1, .inl (i_push (.int 24) 3)),
  (3, .inr (c_V 1 6 2 3 (Mt mX2_begins 2))),
  (6, .inl (i_push (.int 2) 7)),
  (7, .inl (i_aload 0 8)),
  (8, .inl (i_aload 1 9)),
  (9, .inl (i_aload 2 10)),
  (10, .inr (c_V 2 13 3 5 (Mt mX4_mark 3))),
  (13, .inl (i_bin (fun x y => x * y) 14)),
  (14, .inl i_iret)], noH)
theorem rX5_mark_0 (Q : Po) (h : Hp) (l0 l2 : Value) (x : Nat) (st : List Value) : Ex mX5_mark Q 0 [l0, .ref x, l2] st h = Ex mX5_mark Q 1 [l0, .ref x, l2] (.ref x :: st) h := Ex_nx rfl rfl
theorem rX5_mark_1 (Q : Po) (h : Hp) (ls : List Value) (st : List Value) : Ex mX5_mark Q 1 ls st h = Ex mX5_mark Q 3 ls (.int 24 :: st) h := Ex_nx rfl rfl
theorem rX5_mark_3 (Q : Po) (h : Hp) (ls : List Value) (a0 : Int32) (b : Nat) : Ex mX5_mark Q 3 ls (.int a0 :: .ref b :: []) h = (gK h b = 3 ∧ Ex mX2_begins (Cont mX5_mark Q 3 ls 6 []) 0 [.ref b, .int a0] [] h) := Ex_cg (n := 2) (as := [.ref b, .int a0]) rfl rfl
theorem rX5_mark_6 (Q : Po) (h : Hp) (ls : List Value) (st : List Value) : Ex mX5_mark Q 6 ls st h = Ex mX5_mark Q 7 ls (.int 2 :: st) h := Ex_nx rfl rfl
theorem rX5_mark_7 (Q : Po) (h : Hp) (l1 l2 : Value) (x : Nat) (st : List Value) : Ex mX5_mark Q 7 [.ref x, l1, l2] st h = Ex mX5_mark Q 8 [.ref x, l1, l2] (.ref x :: st) h := Ex_nx rfl rfl
theorem rX5_mark_8 (Q : Po) (h : Hp) (l0 l2 : Value) (x : Nat) (st : List Value) : Ex mX5_mark Q 8 [l0, .ref x, l2] st h = Ex mX5_mark Q 9 [l0, .ref x, l2] (.ref x :: st) h := Ex_nx rfl rfl
theorem rX5_mark_9 (Q : Po) (h : Hp) (l0 l1 : Value) (x : Nat) (st : List Value) : Ex mX5_mark Q 9 [l0, l1, .ref x] st h = Ex mX5_mark Q 10 [l0, l1, .ref x] (.ref x :: st) h := Ex_nx rfl rfl
theorem rX5_mark_10 (Q : Po) (h : Hp) (ls : List Value) (a0 : Nat) (a1 : Nat) (s0 : Value) (b : Nat) : Ex mX5_mark Q 10 ls (.ref a1 :: .ref a0 :: .ref b :: [s0]) h = (gK h b = 5 ∧ Ex mX4_mark (Cont mX5_mark Q 10 ls 13 [s0]) 0 [.ref b, .ref a0, .ref a1] [] h) := Ex_cg (n := 3) (as := [.ref b, .ref a0, .ref a1]) rfl rfl
theorem rX5_mark_13 (Q : Po) (h : Hp) (ls : List Value) (st : List Value) (x y : Int32) : Ex mX5_mark Q 13 ls (.int y :: .int x :: st) h = Ex mX5_mark Q 14 ls (.int (x * y) :: st) h := Ex_nx rfl rfl
theorem rX5_mark_14 (Q : Po) (h : Hp) (ls : List Value) (x : Int32) : Ex mX5_mark Q 14 ls [.int x] h = Q (.inl (some (.int x))) h := Ex_rt rfl rfl
theorem rX5_mark_t (Q : Po) (h : Hp) (pc n a : Nat) (ls st : List Value) : Cont mX5_mark Q pc ls n st (.inr a) h = Q (.inr a) h := rfl
/-! FishReaders$Critic.mark(LFishReaders$Trail;LFishReaders$Library;)I -/
def mX6_mark : Cd := ([(0, .inl (i_aload 1 1)),
  (1, .inl (i_push (.int 22) 3)),
  (3, .inr (c_V 1 6 2 3 (Mt mX2_begins 2))),
  (6, .inl (i_aload 0 7)),
  (7, .inl (i_aload 1 8)),
  (8, .inl (i_aload 2 9)),
  (9, .inr (c_V 2 12 3 6 (Mt mX4_mark 3))),
  (12, .inl (i_push (.int 1000) 15)),
  (15, .inl (i_bin (fun x y => x - y) 16)),
  (16, .inl i_iret)], noH)
theorem rX6_mark_0 (Q : Po) (h : Hp) (l0 l2 : Value) (x : Nat) (st : List Value) : Ex mX6_mark Q 0 [l0, .ref x, l2] st h = Ex mX6_mark Q 1 [l0, .ref x, l2] (.ref x :: st) h := Ex_nx rfl rfl
theorem rX6_mark_1 (Q : Po) (h : Hp) (ls : List Value) (st : List Value) : Ex mX6_mark Q 1 ls st h = Ex mX6_mark Q 3 ls (.int 22 :: st) h := Ex_nx rfl rfl
theorem rX6_mark_3 (Q : Po) (h : Hp) (ls : List Value) (a0 : Int32) (b : Nat) : Ex mX6_mark Q 3 ls (.int a0 :: .ref b :: []) h = (gK h b = 3 ∧ Ex mX2_begins (Cont mX6_mark Q 3 ls 6 []) 0 [.ref b, .int a0] [] h) := Ex_cg (n := 2) (as := [.ref b, .int a0]) rfl rfl
theorem rX6_mark_6 (Q : Po) (h : Hp) (l1 l2 : Value) (x : Nat) (st : List Value) : Ex mX6_mark Q 6 [.ref x, l1, l2] st h = Ex mX6_mark Q 7 [.ref x, l1, l2] (.ref x :: st) h := Ex_nx rfl rfl
theorem rX6_mark_7 (Q : Po) (h : Hp) (l0 l2 : Value) (x : Nat) (st : List Value) : Ex mX6_mark Q 7 [l0, .ref x, l2] st h = Ex mX6_mark Q 8 [l0, .ref x, l2] (.ref x :: st) h := Ex_nx rfl rfl
theorem rX6_mark_8 (Q : Po) (h : Hp) (l0 l1 : Value) (x : Nat) (st : List Value) : Ex mX6_mark Q 8 [l0, l1, .ref x] st h = Ex mX6_mark Q 9 [l0, l1, .ref x] (.ref x :: st) h := Ex_nx rfl rfl
theorem rX6_mark_9 (Q : Po) (h : Hp) (ls : List Value) (a0 : Nat) (a1 : Nat) (b : Nat) : Ex mX6_mark Q 9 ls (.ref a1 :: .ref a0 :: .ref b :: []) h = (gK h b = 6 ∧ Ex mX4_mark (Cont mX6_mark Q 9 ls 12 []) 0 [.ref b, .ref a0, .ref a1] [] h) := Ex_cg (n := 3) (as := [.ref b, .ref a0, .ref a1]) rfl rfl
theorem rX6_mark_12 (Q : Po) (h : Hp) (ls : List Value) (st : List Value) : Ex mX6_mark Q 12 ls st h = Ex mX6_mark Q 15 ls (.int 1000 :: st) h := Ex_nx rfl rfl
theorem rX6_mark_15 (Q : Po) (h : Hp) (ls : List Value) (st : List Value) (x y : Int32) : Ex mX6_mark Q 15 ls (.int y :: .int x :: st) h = Ex mX6_mark Q 16 ls (.int (x - y) :: st) h := Ex_nx rfl rfl
theorem rX6_mark_16 (Q : Po) (h : Hp) (ls : List Value) (x : Int32) : Ex mX6_mark Q 16 ls [.int x] h = Q (.inl (some (.int x))) h := Ex_rt rfl rfl
theorem rX6_mark_t (Q : Po) (h : Hp) (pc n a : Nat) (ls st : List Value) : Cont mX6_mark Q pc ls n st (.inr a) h = Q (.inr a) h := rfl
/-! FishReaders$Browser.size(LFishReaders$Trail;LFishReaders$Library;)I -/
def mX4_size : Cd := ([(0, .inl (i_aload 1 1)),
  (1, .inl (i_push (.int 11) 3)),
  (3, .inr (c_V 1 6 2 3 (Mt mX2_begins 2))),
  (6, .inl (i_aload 0 7)),
  (7, .inl (i_aload 1 8)),
  (8, .inl (i_aload 2 9)),
  (9, .inr (c_D 2 12 3 [(4, (Mt mX3_size 3)), (5, (Mt mX3_size 3)), (6, (Mt mX3_size 3))])),
  (12, .inl (i_aload 0 13)),
  (13, .inl (i_aload 1 14)),
  (14, .inl (i_aload 2 15)),
  (15, .inr (c_D 2 18 3 [(4, (Mt mX4_mark 3)), (5, (Mt mX5_mark 3)), (6, (Mt mX6_mark 3))])),
  (18, .inl (i_bin (fun x y => x + y) 19)),
  (19, .inl i_iret)], noH)
theorem rX4_size_0 (Q : Po) (h : Hp) (l0 l2 : Value) (x : Nat) (st : List Value) : Ex mX4_size Q 0 [l0, .ref x, l2] st h = Ex mX4_size Q 1 [l0, .ref x, l2] (.ref x :: st) h := Ex_nx rfl rfl
theorem rX4_size_1 (Q : Po) (h : Hp) (ls : List Value) (st : List Value) : Ex mX4_size Q 1 ls st h = Ex mX4_size Q 3 ls (.int 11 :: st) h := Ex_nx rfl rfl
theorem rX4_size_3 (Q : Po) (h : Hp) (ls : List Value) (a0 : Int32) (b : Nat) : Ex mX4_size Q 3 ls (.int a0 :: .ref b :: []) h = (gK h b = 3 ∧ Ex mX2_begins (Cont mX4_size Q 3 ls 6 []) 0 [.ref b, .int a0] [] h) := Ex_cg (n := 2) (as := [.ref b, .int a0]) rfl rfl
theorem rX4_size_6 (Q : Po) (h : Hp) (l1 l2 : Value) (x : Nat) (st : List Value) : Ex mX4_size Q 6 [.ref x, l1, l2] st h = Ex mX4_size Q 7 [.ref x, l1, l2] (.ref x :: st) h := Ex_nx rfl rfl
theorem rX4_size_7 (Q : Po) (h : Hp) (l0 l2 : Value) (x : Nat) (st : List Value) : Ex mX4_size Q 7 [l0, .ref x, l2] st h = Ex mX4_size Q 8 [l0, .ref x, l2] (.ref x :: st) h := Ex_nx rfl rfl
theorem rX4_size_8 (Q : Po) (h : Hp) (l0 l1 : Value) (x : Nat) (st : List Value) : Ex mX4_size Q 8 [l0, l1, .ref x] st h = Ex mX4_size Q 9 [l0, l1, .ref x] (.ref x :: st) h := Ex_nx rfl rfl
theorem rX4_size_9k4 (Q : Po) (h : Hp) (ls : List Value) (a0 : Nat) (a1 : Nat) (b : Nat) (hk : gK h b = 4) : Ex mX4_size Q 9 ls (.ref a1 :: .ref a0 :: .ref b :: []) h = Ex mX3_size (Cont mX4_size Q 9 ls 12 []) 0 [.ref b, .ref a0, .ref a1] [] h := Ex_cl (n := 3) (as := [.ref b, .ref a0, .ref a1]) rfl (by simp only [c_D, tkA, hk]; rfl)
theorem rX4_size_9k5 (Q : Po) (h : Hp) (ls : List Value) (a0 : Nat) (a1 : Nat) (b : Nat) (hk : gK h b = 5) : Ex mX4_size Q 9 ls (.ref a1 :: .ref a0 :: .ref b :: []) h = Ex mX3_size (Cont mX4_size Q 9 ls 12 []) 0 [.ref b, .ref a0, .ref a1] [] h := Ex_cl (n := 3) (as := [.ref b, .ref a0, .ref a1]) rfl (by simp only [c_D, tkA, hk]; rfl)
theorem rX4_size_9k6 (Q : Po) (h : Hp) (ls : List Value) (a0 : Nat) (a1 : Nat) (b : Nat) (hk : gK h b = 6) : Ex mX4_size Q 9 ls (.ref a1 :: .ref a0 :: .ref b :: []) h = Ex mX3_size (Cont mX4_size Q 9 ls 12 []) 0 [.ref b, .ref a0, .ref a1] [] h := Ex_cl (n := 3) (as := [.ref b, .ref a0, .ref a1]) rfl (by simp only [c_D, tkA, hk]; rfl)
theorem rX4_size_12 (Q : Po) (h : Hp) (l1 l2 : Value) (x : Nat) (st : List Value) : Ex mX4_size Q 12 [.ref x, l1, l2] st h = Ex mX4_size Q 13 [.ref x, l1, l2] (.ref x :: st) h := Ex_nx rfl rfl
theorem rX4_size_13 (Q : Po) (h : Hp) (l0 l2 : Value) (x : Nat) (st : List Value) : Ex mX4_size Q 13 [l0, .ref x, l2] st h = Ex mX4_size Q 14 [l0, .ref x, l2] (.ref x :: st) h := Ex_nx rfl rfl
theorem rX4_size_14 (Q : Po) (h : Hp) (l0 l1 : Value) (x : Nat) (st : List Value) : Ex mX4_size Q 14 [l0, l1, .ref x] st h = Ex mX4_size Q 15 [l0, l1, .ref x] (.ref x :: st) h := Ex_nx rfl rfl
theorem rX4_size_15k4 (Q : Po) (h : Hp) (ls : List Value) (a0 : Nat) (a1 : Nat) (s0 : Value) (b : Nat) (hk : gK h b = 4) : Ex mX4_size Q 15 ls (.ref a1 :: .ref a0 :: .ref b :: [s0]) h = Ex mX4_mark (Cont mX4_size Q 15 ls 18 [s0]) 0 [.ref b, .ref a0, .ref a1] [] h := Ex_cl (n := 3) (as := [.ref b, .ref a0, .ref a1]) rfl (by simp only [c_D, tkA, hk]; rfl)
theorem rX4_size_15k5 (Q : Po) (h : Hp) (ls : List Value) (a0 : Nat) (a1 : Nat) (s0 : Value) (b : Nat) (hk : gK h b = 5) : Ex mX4_size Q 15 ls (.ref a1 :: .ref a0 :: .ref b :: [s0]) h = Ex mX5_mark (Cont mX4_size Q 15 ls 18 [s0]) 0 [.ref b, .ref a0, .ref a1] [] h := Ex_cl (n := 3) (as := [.ref b, .ref a0, .ref a1]) rfl (by simp only [c_D, tkA, hk]; rfl)
theorem rX4_size_15k6 (Q : Po) (h : Hp) (ls : List Value) (a0 : Nat) (a1 : Nat) (s0 : Value) (b : Nat) (hk : gK h b = 6) : Ex mX4_size Q 15 ls (.ref a1 :: .ref a0 :: .ref b :: [s0]) h = Ex mX6_mark (Cont mX4_size Q 15 ls 18 [s0]) 0 [.ref b, .ref a0, .ref a1] [] h := Ex_cl (n := 3) (as := [.ref b, .ref a0, .ref a1]) rfl (by simp only [c_D, tkA, hk]; rfl)
theorem rX4_size_18 (Q : Po) (h : Hp) (ls : List Value) (st : List Value) (x y : Int32) : Ex mX4_size Q 18 ls (.int y :: .int x :: st) h = Ex mX4_size Q 19 ls (.int (x + y) :: st) h := Ex_nx rfl rfl
theorem rX4_size_19 (Q : Po) (h : Hp) (ls : List Value) (x : Int32) : Ex mX4_size Q 19 ls [.int x] h = Q (.inl (some (.int x))) h := Ex_rt rfl rfl
theorem rX4_size_t (Q : Po) (h : Hp) (pc n a : Nat) (ls st : List Value) : Cont mX4_size Q pc ls n st (.inr a) h = Q (.inr a) h := rfl
/-! FishReaders$Poet.size(LFishReaders$Trail;LFishReaders$Library;)I -/
def mX5_size : Cd := ([(0, .inl (i_aload 1 1)),
  (1, .inl (i_push (.int 12) 3)),
  (3, .inr (c_V 1 6 2 3 (Mt mX2_begins 2))),
  (6, .inl (i_aload 0 7)),
  (7, .inl (i_aload 1 8)),
  (8, .inl (i_aload 2 9)),
  (9, .inr (c_V 2 12 3 5 (Mt mX4_size 3))),
  (12, .inl (i_un (fun x => -x) 13)),
  (13, .inl i_iret)], noH)
theorem rX5_size_0 (Q : Po) (h : Hp) (l0 l2 : Value) (x : Nat) (st : List Value) : Ex mX5_size Q 0 [l0, .ref x, l2] st h = Ex mX5_size Q 1 [l0, .ref x, l2] (.ref x :: st) h := Ex_nx rfl rfl
theorem rX5_size_1 (Q : Po) (h : Hp) (ls : List Value) (st : List Value) : Ex mX5_size Q 1 ls st h = Ex mX5_size Q 3 ls (.int 12 :: st) h := Ex_nx rfl rfl
theorem rX5_size_3 (Q : Po) (h : Hp) (ls : List Value) (a0 : Int32) (b : Nat) : Ex mX5_size Q 3 ls (.int a0 :: .ref b :: []) h = (gK h b = 3 ∧ Ex mX2_begins (Cont mX5_size Q 3 ls 6 []) 0 [.ref b, .int a0] [] h) := Ex_cg (n := 2) (as := [.ref b, .int a0]) rfl rfl
theorem rX5_size_6 (Q : Po) (h : Hp) (l1 l2 : Value) (x : Nat) (st : List Value) : Ex mX5_size Q 6 [.ref x, l1, l2] st h = Ex mX5_size Q 7 [.ref x, l1, l2] (.ref x :: st) h := Ex_nx rfl rfl
theorem rX5_size_7 (Q : Po) (h : Hp) (l0 l2 : Value) (x : Nat) (st : List Value) : Ex mX5_size Q 7 [l0, .ref x, l2] st h = Ex mX5_size Q 8 [l0, .ref x, l2] (.ref x :: st) h := Ex_nx rfl rfl
theorem rX5_size_8 (Q : Po) (h : Hp) (l0 l1 : Value) (x : Nat) (st : List Value) : Ex mX5_size Q 8 [l0, l1, .ref x] st h = Ex mX5_size Q 9 [l0, l1, .ref x] (.ref x :: st) h := Ex_nx rfl rfl
theorem rX5_size_9 (Q : Po) (h : Hp) (ls : List Value) (a0 : Nat) (a1 : Nat) (b : Nat) : Ex mX5_size Q 9 ls (.ref a1 :: .ref a0 :: .ref b :: []) h = (gK h b = 5 ∧ Ex mX4_size (Cont mX5_size Q 9 ls 12 []) 0 [.ref b, .ref a0, .ref a1] [] h) := Ex_cg (n := 3) (as := [.ref b, .ref a0, .ref a1]) rfl rfl
theorem rX5_size_12 (Q : Po) (h : Hp) (ls : List Value) (st : List Value) (x : Int32) : Ex mX5_size Q 12 ls (.int x :: st) h = Ex mX5_size Q 13 ls (.int (-x) :: st) h := Ex_nx rfl rfl
theorem rX5_size_13 (Q : Po) (h : Hp) (ls : List Value) (x : Int32) : Ex mX5_size Q 13 ls [.int x] h = Q (.inl (some (.int x))) h := Ex_rt rfl rfl
theorem rX5_size_t (Q : Po) (h : Hp) (pc n a : Nat) (ls st : List Value) : Cont mX5_size Q pc ls n st (.inr a) h = Q (.inr a) h := rfl
/-! FishReaders$Wanderer.size(LFishReaders$Trail;LFishReaders$Library;)I -/
def mX7_size : Cd := ([(0, .inl (i_aload 1 1)),
  (1, .inl (i_push (.int 13) 3)),
  (3, .inr (c_V 1 6 2 3 (Mt mX2_begins 2))),
  (6, .inl (i_aload 0 7)),
  (7, .inl (i_aload 1 8)),
  (8, .inl (i_aload 2 9)),
  (9, .inr (c_D 2 12 3 [(7, (Mt mX3_size 3)), (8, (Mt mX3_size 3))])),
  (12, .inl (i_push (.int 100) 14)),
  (14, .inl (i_bin (fun x y => x - y) 15)),
  (15, .inl i_iret)], noH)
theorem rX7_size_0 (Q : Po) (h : Hp) (l0 l2 : Value) (x : Nat) (st : List Value) : Ex mX7_size Q 0 [l0, .ref x, l2] st h = Ex mX7_size Q 1 [l0, .ref x, l2] (.ref x :: st) h := Ex_nx rfl rfl
theorem rX7_size_1 (Q : Po) (h : Hp) (ls : List Value) (st : List Value) : Ex mX7_size Q 1 ls st h = Ex mX7_size Q 3 ls (.int 13 :: st) h := Ex_nx rfl rfl
theorem rX7_size_3 (Q : Po) (h : Hp) (ls : List Value) (a0 : Int32) (b : Nat) : Ex mX7_size Q 3 ls (.int a0 :: .ref b :: []) h = (gK h b = 3 ∧ Ex mX2_begins (Cont mX7_size Q 3 ls 6 []) 0 [.ref b, .int a0] [] h) := Ex_cg (n := 2) (as := [.ref b, .int a0]) rfl rfl
theorem rX7_size_6 (Q : Po) (h : Hp) (l1 l2 : Value) (x : Nat) (st : List Value) : Ex mX7_size Q 6 [.ref x, l1, l2] st h = Ex mX7_size Q 7 [.ref x, l1, l2] (.ref x :: st) h := Ex_nx rfl rfl
theorem rX7_size_7 (Q : Po) (h : Hp) (l0 l2 : Value) (x : Nat) (st : List Value) : Ex mX7_size Q 7 [l0, .ref x, l2] st h = Ex mX7_size Q 8 [l0, .ref x, l2] (.ref x :: st) h := Ex_nx rfl rfl
theorem rX7_size_8 (Q : Po) (h : Hp) (l0 l1 : Value) (x : Nat) (st : List Value) : Ex mX7_size Q 8 [l0, l1, .ref x] st h = Ex mX7_size Q 9 [l0, l1, .ref x] (.ref x :: st) h := Ex_nx rfl rfl
theorem rX7_size_9k7 (Q : Po) (h : Hp) (ls : List Value) (a0 : Nat) (a1 : Nat) (b : Nat) (hk : gK h b = 7) : Ex mX7_size Q 9 ls (.ref a1 :: .ref a0 :: .ref b :: []) h = Ex mX3_size (Cont mX7_size Q 9 ls 12 []) 0 [.ref b, .ref a0, .ref a1] [] h := Ex_cl (n := 3) (as := [.ref b, .ref a0, .ref a1]) rfl (by simp only [c_D, tkA, hk]; rfl)
theorem rX7_size_9k8 (Q : Po) (h : Hp) (ls : List Value) (a0 : Nat) (a1 : Nat) (b : Nat) (hk : gK h b = 8) : Ex mX7_size Q 9 ls (.ref a1 :: .ref a0 :: .ref b :: []) h = Ex mX3_size (Cont mX7_size Q 9 ls 12 []) 0 [.ref b, .ref a0, .ref a1] [] h := Ex_cl (n := 3) (as := [.ref b, .ref a0, .ref a1]) rfl (by simp only [c_D, tkA, hk]; rfl)
theorem rX7_size_12 (Q : Po) (h : Hp) (ls : List Value) (st : List Value) : Ex mX7_size Q 12 ls st h = Ex mX7_size Q 14 ls (.int 100 :: st) h := Ex_nx rfl rfl
theorem rX7_size_14 (Q : Po) (h : Hp) (ls : List Value) (st : List Value) (x y : Int32) : Ex mX7_size Q 14 ls (.int y :: .int x :: st) h = Ex mX7_size Q 15 ls (.int (x - y) :: st) h := Ex_nx rfl rfl
theorem rX7_size_15 (Q : Po) (h : Hp) (ls : List Value) (x : Int32) : Ex mX7_size Q 15 ls [.int x] h = Q (.inl (some (.int x))) h := Ex_rt rfl rfl
theorem rX7_size_t (Q : Po) (h : Hp) (pc n a : Nat) (ls st : List Value) : Cont mX7_size Q pc ls n st (.inr a) h = Q (.inr a) h := rfl
/-! FishReaders$Scholar.size(LFishReaders$Trail;LFishReaders$Library;)I -/
def mX8_size : Cd := ([(0, .inl (i_aload 1 1)),
  (1, .inl (i_push (.int 14) 3)),
  (3, .inr (c_V 1 6 2 3 (Mt mX2_begins 2))),
  (6, .inl (i_push (.int 2) 7)),
  (7, .inl (i_aload 0 8)),
  (8, .inl (i_aload 1 9)),
  (9, .inl (i_aload 2 10)),
  (10, .inr (c_V 2 13 3 8 (Mt mX7_size 3))),
  (13, .inl (i_bin (fun x y => x * y) 14)),
  (14, .inl i_iret)], noH)
theorem rX8_size_0 (Q : Po) (h : Hp) (l0 l2 : Value) (x : Nat) (st : List Value) : Ex mX8_size Q 0 [l0, .ref x, l2] st h = Ex mX8_size Q 1 [l0, .ref x, l2] (.ref x :: st) h := Ex_nx rfl rfl
theorem rX8_size_1 (Q : Po) (h : Hp) (ls : List Value) (st : List Value) : Ex mX8_size Q 1 ls st h = Ex mX8_size Q 3 ls (.int 14 :: st) h := Ex_nx rfl rfl
theorem rX8_size_3 (Q : Po) (h : Hp) (ls : List Value) (a0 : Int32) (b : Nat) : Ex mX8_size Q 3 ls (.int a0 :: .ref b :: []) h = (gK h b = 3 ∧ Ex mX2_begins (Cont mX8_size Q 3 ls 6 []) 0 [.ref b, .int a0] [] h) := Ex_cg (n := 2) (as := [.ref b, .int a0]) rfl rfl
theorem rX8_size_6 (Q : Po) (h : Hp) (ls : List Value) (st : List Value) : Ex mX8_size Q 6 ls st h = Ex mX8_size Q 7 ls (.int 2 :: st) h := Ex_nx rfl rfl
theorem rX8_size_7 (Q : Po) (h : Hp) (l1 l2 : Value) (x : Nat) (st : List Value) : Ex mX8_size Q 7 [.ref x, l1, l2] st h = Ex mX8_size Q 8 [.ref x, l1, l2] (.ref x :: st) h := Ex_nx rfl rfl
theorem rX8_size_8 (Q : Po) (h : Hp) (l0 l2 : Value) (x : Nat) (st : List Value) : Ex mX8_size Q 8 [l0, .ref x, l2] st h = Ex mX8_size Q 9 [l0, .ref x, l2] (.ref x :: st) h := Ex_nx rfl rfl
theorem rX8_size_9 (Q : Po) (h : Hp) (l0 l1 : Value) (x : Nat) (st : List Value) : Ex mX8_size Q 9 [l0, l1, .ref x] st h = Ex mX8_size Q 10 [l0, l1, .ref x] (.ref x :: st) h := Ex_nx rfl rfl
theorem rX8_size_10 (Q : Po) (h : Hp) (ls : List Value) (a0 : Nat) (a1 : Nat) (s0 : Value) (b : Nat) : Ex mX8_size Q 10 ls (.ref a1 :: .ref a0 :: .ref b :: [s0]) h = (gK h b = 8 ∧ Ex mX7_size (Cont mX8_size Q 10 ls 13 [s0]) 0 [.ref b, .ref a0, .ref a1] [] h) := Ex_cg (n := 3) (as := [.ref b, .ref a0, .ref a1]) rfl rfl
theorem rX8_size_13 (Q : Po) (h : Hp) (ls : List Value) (st : List Value) (x y : Int32) : Ex mX8_size Q 13 ls (.int y :: .int x :: st) h = Ex mX8_size Q 14 ls (.int (x * y) :: st) h := Ex_nx rfl rfl
theorem rX8_size_14 (Q : Po) (h : Hp) (ls : List Value) (x : Int32) : Ex mX8_size Q 14 ls [.int x] h = Q (.inl (some (.int x))) h := Ex_rt rfl rfl
theorem rX8_size_t (Q : Po) (h : Hp) (pc n a : Nat) (ls st : List Value) : Cont mX8_size Q pc ls n st (.inr a) h = Q (.inr a) h := rfl
/-! FishReaders$Wanderer.mark(LFishReaders$Trail;LFishReaders$Library;)I -/
def mX7_mark : Cd := ([(0, .inl (i_aload 1 1)),
  (1, .inl (i_push (.int 23) 3)),
  (3, .inr (c_V 1 6 2 3 (Mt mX2_begins 2))),
  (6, .inl (i_aload 0 7)),
  (7, .inl (i_aload 1 8)),
  (8, .inl (i_aload 2 9)),
  (9, .inr (c_D 2 12 3 [(7, (Mt mX14_mark 3)), (8, (Mt mX14_mark 3))])),
  (12, .inl (i_aload 0 13)),
  (13, .inl (i_aload 1 14)),
  (14, .inl (i_aload 2 15)),
  (15, .inr (c_D 2 18 3 [(7, (Mt mX7_size 3)), (8, (Mt mX8_size 3))])),
  (18, .inl (i_bin (fun x y => x - y) 19)),
  (19, .inl i_iret)], noH)
theorem rX7_mark_0 (Q : Po) (h : Hp) (l0 l2 : Value) (x : Nat) (st : List Value) : Ex mX7_mark Q 0 [l0, .ref x, l2] st h = Ex mX7_mark Q 1 [l0, .ref x, l2] (.ref x :: st) h := Ex_nx rfl rfl
theorem rX7_mark_1 (Q : Po) (h : Hp) (ls : List Value) (st : List Value) : Ex mX7_mark Q 1 ls st h = Ex mX7_mark Q 3 ls (.int 23 :: st) h := Ex_nx rfl rfl
theorem rX7_mark_3 (Q : Po) (h : Hp) (ls : List Value) (a0 : Int32) (b : Nat) : Ex mX7_mark Q 3 ls (.int a0 :: .ref b :: []) h = (gK h b = 3 ∧ Ex mX2_begins (Cont mX7_mark Q 3 ls 6 []) 0 [.ref b, .int a0] [] h) := Ex_cg (n := 2) (as := [.ref b, .int a0]) rfl rfl
theorem rX7_mark_6 (Q : Po) (h : Hp) (l1 l2 : Value) (x : Nat) (st : List Value) : Ex mX7_mark Q 6 [.ref x, l1, l2] st h = Ex mX7_mark Q 7 [.ref x, l1, l2] (.ref x :: st) h := Ex_nx rfl rfl
theorem rX7_mark_7 (Q : Po) (h : Hp) (l0 l2 : Value) (x : Nat) (st : List Value) : Ex mX7_mark Q 7 [l0, .ref x, l2] st h = Ex mX7_mark Q 8 [l0, .ref x, l2] (.ref x :: st) h := Ex_nx rfl rfl
theorem rX7_mark_8 (Q : Po) (h : Hp) (l0 l1 : Value) (x : Nat) (st : List Value) : Ex mX7_mark Q 8 [l0, l1, .ref x] st h = Ex mX7_mark Q 9 [l0, l1, .ref x] (.ref x :: st) h := Ex_nx rfl rfl
theorem rX7_mark_9k7 (Q : Po) (h : Hp) (ls : List Value) (a0 : Nat) (a1 : Nat) (b : Nat) (hk : gK h b = 7) : Ex mX7_mark Q 9 ls (.ref a1 :: .ref a0 :: .ref b :: []) h = Ex mX14_mark (Cont mX7_mark Q 9 ls 12 []) 0 [.ref b, .ref a0, .ref a1] [] h := Ex_cl (n := 3) (as := [.ref b, .ref a0, .ref a1]) rfl (by simp only [c_D, tkA, hk]; rfl)
theorem rX7_mark_9k8 (Q : Po) (h : Hp) (ls : List Value) (a0 : Nat) (a1 : Nat) (b : Nat) (hk : gK h b = 8) : Ex mX7_mark Q 9 ls (.ref a1 :: .ref a0 :: .ref b :: []) h = Ex mX14_mark (Cont mX7_mark Q 9 ls 12 []) 0 [.ref b, .ref a0, .ref a1] [] h := Ex_cl (n := 3) (as := [.ref b, .ref a0, .ref a1]) rfl (by simp only [c_D, tkA, hk]; rfl)
theorem rX7_mark_12 (Q : Po) (h : Hp) (l1 l2 : Value) (x : Nat) (st : List Value) : Ex mX7_mark Q 12 [.ref x, l1, l2] st h = Ex mX7_mark Q 13 [.ref x, l1, l2] (.ref x :: st) h := Ex_nx rfl rfl
theorem rX7_mark_13 (Q : Po) (h : Hp) (l0 l2 : Value) (x : Nat) (st : List Value) : Ex mX7_mark Q 13 [l0, .ref x, l2] st h = Ex mX7_mark Q 14 [l0, .ref x, l2] (.ref x :: st) h := Ex_nx rfl rfl
theorem rX7_mark_14 (Q : Po) (h : Hp) (l0 l1 : Value) (x : Nat) (st : List Value) : Ex mX7_mark Q 14 [l0, l1, .ref x] st h = Ex mX7_mark Q 15 [l0, l1, .ref x] (.ref x :: st) h := Ex_nx rfl rfl
theorem rX7_mark_15k7 (Q : Po) (h : Hp) (ls : List Value) (a0 : Nat) (a1 : Nat) (s0 : Value) (b : Nat) (hk : gK h b = 7) : Ex mX7_mark Q 15 ls (.ref a1 :: .ref a0 :: .ref b :: [s0]) h = Ex mX7_size (Cont mX7_mark Q 15 ls 18 [s0]) 0 [.ref b, .ref a0, .ref a1] [] h := Ex_cl (n := 3) (as := [.ref b, .ref a0, .ref a1]) rfl (by simp only [c_D, tkA, hk]; rfl)
theorem rX7_mark_15k8 (Q : Po) (h : Hp) (ls : List Value) (a0 : Nat) (a1 : Nat) (s0 : Value) (b : Nat) (hk : gK h b = 8) : Ex mX7_mark Q 15 ls (.ref a1 :: .ref a0 :: .ref b :: [s0]) h = Ex mX8_size (Cont mX7_mark Q 15 ls 18 [s0]) 0 [.ref b, .ref a0, .ref a1] [] h := Ex_cl (n := 3) (as := [.ref b, .ref a0, .ref a1]) rfl (by simp only [c_D, tkA, hk]; rfl)
theorem rX7_mark_18 (Q : Po) (h : Hp) (ls : List Value) (st : List Value) (x y : Int32) : Ex mX7_mark Q 18 ls (.int y :: .int x :: st) h = Ex mX7_mark Q 19 ls (.int (x - y) :: st) h := Ex_nx rfl rfl
theorem rX7_mark_19 (Q : Po) (h : Hp) (ls : List Value) (x : Int32) : Ex mX7_mark Q 19 ls [.int x] h = Q (.inl (some (.int x))) h := Ex_rt rfl rfl
theorem rX7_mark_t (Q : Po) (h : Hp) (pc n a : Nat) (ls st : List Value) : Cont mX7_mark Q pc ls n st (.inr a) h = Q (.inr a) h := rfl
/-! FishReaders.ask(II)I -/
def mX0_ask : Cd := ([(0, .inl (i_aload 0 1)),
  (1, .inl (i_iload 1 2)),
  (2, .inr (c_V 1 5 2 1 (Mt mX0_isFish 2))),
  (5, .inl (i_if (fun x => x = 0) 15 8)),
  (8, .inl (i_iload 2 9)),
  (9, .inr (c_S 1 12 1 (Mt mX0_isHalf 1))),
  (12, .inl (i_if (fun x => ¬ x = 0) 18 15)),
  (15, .inl (i_push (.int (-1000001)) 17)),
  (17, .inl i_iret),
  (18, .inl (i_aload 0 19)),
  (19, .inl (i_new 3 2 22)),
  (22, .inl (i_dup 23)),
  (23, .inr (c_I 0 26 1 (Mt mX2_init 1))),
  (26, .inl (i_putR 21 [1] 29)),
  (29, .inl (i_aload 0 30)),
  (30, .inl (i_getf 11 [1] 33)),
  (33, .inl (i_getf 51 [2] 36)),
  (36, .inl (i_iload 1 37)),
  (37, .inr (c_V 1 42 2 14 (Mt mJ2_get 2))),
  (42, .inl (i_cast [4, 5, 6, 7, 8] 45)),
  (45, .inl (i_astore 3 46)),
  (46, .inl (i_iload 2 47)),
  (47, .inl (i_if (fun x => ¬ x = 0) 65 50)),
  (50, .inl (i_aload 3 51)),
  (51, .inl (i_aload 0 52)),
  (52, .inl (i_getf 21 [1] 55)),
  (55, .inl (i_aload 0 56)),
  (56, .inl (i_getf 11 [1] 59)),
  (59, .inr (c_D 2 62 3 [(4, (Mt mX4_size 3)), (5, (Mt mX5_size 3)), (6, (Mt mX4_size 3)), (7, (Mt mX7_size 3)), (8, (Mt mX8_size 3))])),
  (62, .inl (i_goto 77)),
  (65, .inl (i_aload 3 66)),
  (66, .inl (i_aload 0 67)),
  (67, .inl (i_getf 21 [1] 70)),
  (70, .inl (i_aload 0 71)),
  (71, .inl (i_getf 11 [1] 74)),
  (74, .inr (c_D 2 77 3 [(4, (Mt mX4_mark 3)), (5, (Mt mX5_mark 3)), (6, (Mt mX6_mark 3)), (7, (Mt mX7_mark 3)), (8, (Mt mX7_mark 3))])),
  (77, .inl i_iret)], noH)
theorem rX0_ask_0 (Q : Po) (h : Hp) (l1 l2 l3 : Value) (x : Nat) (st : List Value) : Ex mX0_ask Q 0 [.ref x, l1, l2, l3] st h = Ex mX0_ask Q 1 [.ref x, l1, l2, l3] (.ref x :: st) h := Ex_nx rfl rfl
theorem rX0_ask_1 (Q : Po) (h : Hp) (l0 l2 l3 : Value) (x : Int32) (st : List Value) : Ex mX0_ask Q 1 [l0, .int x, l2, l3] st h = Ex mX0_ask Q 2 [l0, .int x, l2, l3] (.int x :: st) h := Ex_nx rfl rfl
theorem rX0_ask_2 (Q : Po) (h : Hp) (ls : List Value) (a0 : Int32) (b : Nat) : Ex mX0_ask Q 2 ls (.int a0 :: .ref b :: []) h = (gK h b = 1 ∧ Ex mX0_isFish (Cont mX0_ask Q 2 ls 5 []) 0 [.ref b, .int a0] [] h) := Ex_cg (n := 2) (as := [.ref b, .int a0]) rfl rfl
theorem rX0_ask_5 (Q : Po) (h : Hp) (ls : List Value) (st : List Value) (x : Int32) : Ex mX0_ask Q 5 ls (.int x :: st) h = if x = 0 then Ex mX0_ask Q 15 ls st h else Ex mX0_ask Q 8 ls st h := Ex_br rfl rfl
theorem rX0_ask_8 (Q : Po) (h : Hp) (l0 l1 l3 : Value) (x : Int32) (st : List Value) : Ex mX0_ask Q 8 [l0, l1, .int x, l3] st h = Ex mX0_ask Q 9 [l0, l1, .int x, l3] (.int x :: st) h := Ex_nx rfl rfl
theorem rX0_ask_9 (Q : Po) (h : Hp) (ls : List Value) (a0 : Int32) : Ex mX0_ask Q 9 ls (.int a0 :: []) h = Ex mX0_isHalf (Cont mX0_ask Q 9 ls 12 []) 0 [.int a0] [] h := Ex_cl (n := 1) (as := [.int a0]) rfl rfl
theorem rX0_ask_12 (Q : Po) (h : Hp) (ls : List Value) (st : List Value) (x : Int32) : Ex mX0_ask Q 12 ls (.int x :: st) h = if ¬ x = 0 then Ex mX0_ask Q 18 ls st h else Ex mX0_ask Q 15 ls st h := Ex_br rfl rfl
theorem rX0_ask_15 (Q : Po) (h : Hp) (ls : List Value) (st : List Value) : Ex mX0_ask Q 15 ls st h = Ex mX0_ask Q 17 ls (.int (-1000001) :: st) h := Ex_nx rfl rfl
theorem rX0_ask_17 (Q : Po) (h : Hp) (ls : List Value) (x : Int32) : Ex mX0_ask Q 17 ls [.int x] h = Q (.inl (some (.int x))) h := Ex_rt rfl rfl
theorem rX0_ask_18 (Q : Po) (h : Hp) (l1 l2 l3 : Value) (x : Nat) (st : List Value) : Ex mX0_ask Q 18 [.ref x, l1, l2, l3] st h = Ex mX0_ask Q 19 [.ref x, l1, l2, l3] (.ref x :: st) h := Ex_nx rfl rfl
theorem rX0_ask_19 (Q : Po) (h : Hp) (ls : List Value) (st : List Value) : Ex mX0_ask Q 19 ls st h = ((1 ≤ gC h ∧ 2 ≤ gS h) ∧ Ex mX0_ask Q 22 ls (.ref (gN h) :: st) (nO h 3 2)) := Ex_gd rfl rfl
theorem rX0_ask_22 (Q : Po) (h : Hp) (ls : List Value) (st : List Value) (x : Nat) : Ex mX0_ask Q 22 ls (.ref x :: st) h = Ex mX0_ask Q 23 ls (.ref x :: .ref x :: st) h := Ex_nx rfl rfl
theorem rX0_ask_23 (Q : Po) (h : Hp) (ls : List Value) (s0 s1 : Value) (b : Nat) : Ex mX0_ask Q 23 ls (.ref b :: [s0, s1]) h = Ex mX2_init (Cont mX0_ask Q 23 ls 26 [s0, s1]) 0 [.ref b] [] h := Ex_cl (n := 1) (as := [.ref b]) rfl rfl
theorem rX0_ask_26 (Q : Po) (h : Hp) (ls : List Value) (st : List Value) (x a : Nat) : Ex mX0_ask Q 26 ls (.ref x :: .ref a :: st) h = (gK h a ∈ ([1] : List Nat) ∧ Ex mX0_ask Q 29 ls st (pF h 21 a (.ref x))) := Ex_gd rfl rfl
theorem rX0_ask_26n (Q : Po) (h : Hp) (ls : List Value) (st : List Value) (a : Nat) : Ex mX0_ask Q 26 ls (.null :: .ref a :: st) h = (gK h a ∈ ([1] : List Nat) ∧ Ex mX0_ask Q 29 ls st (pF h 21 a .null)) := Ex_gd rfl rfl
theorem rX0_ask_29 (Q : Po) (h : Hp) (l1 l2 l3 : Value) (x : Nat) (st : List Value) : Ex mX0_ask Q 29 [.ref x, l1, l2, l3] st h = Ex mX0_ask Q 30 [.ref x, l1, l2, l3] (.ref x :: st) h := Ex_nx rfl rfl
theorem rX0_ask_30 (Q : Po) (h : Hp) (ls : List Value) (st : List Value) (a : Nat) : Ex mX0_ask Q 30 ls (.ref a :: st) h = (gK h a ∈ ([1] : List Nat) ∧ Ex mX0_ask Q 33 ls (gF h 11 a :: st) h) := Ex_gd rfl rfl
theorem rX0_ask_33 (Q : Po) (h : Hp) (ls : List Value) (st : List Value) (a : Nat) : Ex mX0_ask Q 33 ls (.ref a :: st) h = (gK h a ∈ ([2] : List Nat) ∧ Ex mX0_ask Q 36 ls (gF h 51 a :: st) h) := Ex_gd rfl rfl
theorem rX0_ask_36 (Q : Po) (h : Hp) (l0 l2 l3 : Value) (x : Int32) (st : List Value) : Ex mX0_ask Q 36 [l0, .int x, l2, l3] st h = Ex mX0_ask Q 37 [l0, .int x, l2, l3] (.int x :: st) h := Ex_nx rfl rfl
theorem rX0_ask_37 (Q : Po) (h : Hp) (ls : List Value) (a0 : Int32) (b : Nat) : Ex mX0_ask Q 37 ls (.int a0 :: .ref b :: []) h = (gK h b = 14 ∧ Ex mJ2_get (Cont mX0_ask Q 37 ls 42 []) 0 [.ref b, .int a0] [] h) := Ex_cg (n := 2) (as := [.ref b, .int a0]) rfl rfl
theorem rX0_ask_42 (Q : Po) (h : Hp) (ls : List Value) (st : List Value) (a : Nat) : Ex mX0_ask Q 42 ls (.ref a :: st) h = (gK h a ∈ ([4, 5, 6, 7, 8] : List Nat) ∧ Ex mX0_ask Q 45 ls (.ref a :: st) h) := Ex_gd rfl rfl
theorem rX0_ask_45 (Q : Po) (h : Hp) (l0 l1 l2 l3 : Value) (x : Nat) (st : List Value) : Ex mX0_ask Q 45 [l0, l1, l2, l3] (.ref x :: st) h = Ex mX0_ask Q 46 [l0, l1, l2, .ref x] st h := Ex_nx rfl rfl
theorem rX0_ask_46 (Q : Po) (h : Hp) (l0 l1 l3 : Value) (x : Int32) (st : List Value) : Ex mX0_ask Q 46 [l0, l1, .int x, l3] st h = Ex mX0_ask Q 47 [l0, l1, .int x, l3] (.int x :: st) h := Ex_nx rfl rfl
theorem rX0_ask_47 (Q : Po) (h : Hp) (ls : List Value) (st : List Value) (x : Int32) : Ex mX0_ask Q 47 ls (.int x :: st) h = if ¬ x = 0 then Ex mX0_ask Q 65 ls st h else Ex mX0_ask Q 50 ls st h := Ex_br rfl rfl
theorem rX0_ask_50 (Q : Po) (h : Hp) (l0 l1 l2 : Value) (x : Nat) (st : List Value) : Ex mX0_ask Q 50 [l0, l1, l2, .ref x] st h = Ex mX0_ask Q 51 [l0, l1, l2, .ref x] (.ref x :: st) h := Ex_nx rfl rfl
theorem rX0_ask_51 (Q : Po) (h : Hp) (l1 l2 l3 : Value) (x : Nat) (st : List Value) : Ex mX0_ask Q 51 [.ref x, l1, l2, l3] st h = Ex mX0_ask Q 52 [.ref x, l1, l2, l3] (.ref x :: st) h := Ex_nx rfl rfl
theorem rX0_ask_52 (Q : Po) (h : Hp) (ls : List Value) (st : List Value) (a : Nat) : Ex mX0_ask Q 52 ls (.ref a :: st) h = (gK h a ∈ ([1] : List Nat) ∧ Ex mX0_ask Q 55 ls (gF h 21 a :: st) h) := Ex_gd rfl rfl
theorem rX0_ask_55 (Q : Po) (h : Hp) (l1 l2 l3 : Value) (x : Nat) (st : List Value) : Ex mX0_ask Q 55 [.ref x, l1, l2, l3] st h = Ex mX0_ask Q 56 [.ref x, l1, l2, l3] (.ref x :: st) h := Ex_nx rfl rfl
theorem rX0_ask_56 (Q : Po) (h : Hp) (ls : List Value) (st : List Value) (a : Nat) : Ex mX0_ask Q 56 ls (.ref a :: st) h = (gK h a ∈ ([1] : List Nat) ∧ Ex mX0_ask Q 59 ls (gF h 11 a :: st) h) := Ex_gd rfl rfl
theorem rX0_ask_59k4 (Q : Po) (h : Hp) (ls : List Value) (a0 : Nat) (a1 : Nat) (b : Nat) (hk : gK h b = 4) : Ex mX0_ask Q 59 ls (.ref a1 :: .ref a0 :: .ref b :: []) h = Ex mX4_size (Cont mX0_ask Q 59 ls 62 []) 0 [.ref b, .ref a0, .ref a1] [] h := Ex_cl (n := 3) (as := [.ref b, .ref a0, .ref a1]) rfl (by simp only [c_D, tkA, hk]; rfl)
theorem rX0_ask_59k5 (Q : Po) (h : Hp) (ls : List Value) (a0 : Nat) (a1 : Nat) (b : Nat) (hk : gK h b = 5) : Ex mX0_ask Q 59 ls (.ref a1 :: .ref a0 :: .ref b :: []) h = Ex mX5_size (Cont mX0_ask Q 59 ls 62 []) 0 [.ref b, .ref a0, .ref a1] [] h := Ex_cl (n := 3) (as := [.ref b, .ref a0, .ref a1]) rfl (by simp only [c_D, tkA, hk]; rfl)
theorem rX0_ask_59k6 (Q : Po) (h : Hp) (ls : List Value) (a0 : Nat) (a1 : Nat) (b : Nat) (hk : gK h b = 6) : Ex mX0_ask Q 59 ls (.ref a1 :: .ref a0 :: .ref b :: []) h = Ex mX4_size (Cont mX0_ask Q 59 ls 62 []) 0 [.ref b, .ref a0, .ref a1] [] h := Ex_cl (n := 3) (as := [.ref b, .ref a0, .ref a1]) rfl (by simp only [c_D, tkA, hk]; rfl)
theorem rX0_ask_59k7 (Q : Po) (h : Hp) (ls : List Value) (a0 : Nat) (a1 : Nat) (b : Nat) (hk : gK h b = 7) : Ex mX0_ask Q 59 ls (.ref a1 :: .ref a0 :: .ref b :: []) h = Ex mX7_size (Cont mX0_ask Q 59 ls 62 []) 0 [.ref b, .ref a0, .ref a1] [] h := Ex_cl (n := 3) (as := [.ref b, .ref a0, .ref a1]) rfl (by simp only [c_D, tkA, hk]; rfl)
theorem rX0_ask_59k8 (Q : Po) (h : Hp) (ls : List Value) (a0 : Nat) (a1 : Nat) (b : Nat) (hk : gK h b = 8) : Ex mX0_ask Q 59 ls (.ref a1 :: .ref a0 :: .ref b :: []) h = Ex mX8_size (Cont mX0_ask Q 59 ls 62 []) 0 [.ref b, .ref a0, .ref a1] [] h := Ex_cl (n := 3) (as := [.ref b, .ref a0, .ref a1]) rfl (by simp only [c_D, tkA, hk]; rfl)
theorem rX0_ask_62 (Q : Po) (h : Hp) (ls : List Value) (st : List Value) : Ex mX0_ask Q 62 ls st h = Ex mX0_ask Q 77 ls st h := Ex_nx rfl rfl
theorem rX0_ask_65 (Q : Po) (h : Hp) (l0 l1 l2 : Value) (x : Nat) (st : List Value) : Ex mX0_ask Q 65 [l0, l1, l2, .ref x] st h = Ex mX0_ask Q 66 [l0, l1, l2, .ref x] (.ref x :: st) h := Ex_nx rfl rfl
theorem rX0_ask_66 (Q : Po) (h : Hp) (l1 l2 l3 : Value) (x : Nat) (st : List Value) : Ex mX0_ask Q 66 [.ref x, l1, l2, l3] st h = Ex mX0_ask Q 67 [.ref x, l1, l2, l3] (.ref x :: st) h := Ex_nx rfl rfl
theorem rX0_ask_67 (Q : Po) (h : Hp) (ls : List Value) (st : List Value) (a : Nat) : Ex mX0_ask Q 67 ls (.ref a :: st) h = (gK h a ∈ ([1] : List Nat) ∧ Ex mX0_ask Q 70 ls (gF h 21 a :: st) h) := Ex_gd rfl rfl
theorem rX0_ask_70 (Q : Po) (h : Hp) (l1 l2 l3 : Value) (x : Nat) (st : List Value) : Ex mX0_ask Q 70 [.ref x, l1, l2, l3] st h = Ex mX0_ask Q 71 [.ref x, l1, l2, l3] (.ref x :: st) h := Ex_nx rfl rfl
theorem rX0_ask_71 (Q : Po) (h : Hp) (ls : List Value) (st : List Value) (a : Nat) : Ex mX0_ask Q 71 ls (.ref a :: st) h = (gK h a ∈ ([1] : List Nat) ∧ Ex mX0_ask Q 74 ls (gF h 11 a :: st) h) := Ex_gd rfl rfl
theorem rX0_ask_74k4 (Q : Po) (h : Hp) (ls : List Value) (a0 : Nat) (a1 : Nat) (b : Nat) (hk : gK h b = 4) : Ex mX0_ask Q 74 ls (.ref a1 :: .ref a0 :: .ref b :: []) h = Ex mX4_mark (Cont mX0_ask Q 74 ls 77 []) 0 [.ref b, .ref a0, .ref a1] [] h := Ex_cl (n := 3) (as := [.ref b, .ref a0, .ref a1]) rfl (by simp only [c_D, tkA, hk]; rfl)
theorem rX0_ask_74k5 (Q : Po) (h : Hp) (ls : List Value) (a0 : Nat) (a1 : Nat) (b : Nat) (hk : gK h b = 5) : Ex mX0_ask Q 74 ls (.ref a1 :: .ref a0 :: .ref b :: []) h = Ex mX5_mark (Cont mX0_ask Q 74 ls 77 []) 0 [.ref b, .ref a0, .ref a1] [] h := Ex_cl (n := 3) (as := [.ref b, .ref a0, .ref a1]) rfl (by simp only [c_D, tkA, hk]; rfl)
theorem rX0_ask_74k6 (Q : Po) (h : Hp) (ls : List Value) (a0 : Nat) (a1 : Nat) (b : Nat) (hk : gK h b = 6) : Ex mX0_ask Q 74 ls (.ref a1 :: .ref a0 :: .ref b :: []) h = Ex mX6_mark (Cont mX0_ask Q 74 ls 77 []) 0 [.ref b, .ref a0, .ref a1] [] h := Ex_cl (n := 3) (as := [.ref b, .ref a0, .ref a1]) rfl (by simp only [c_D, tkA, hk]; rfl)
theorem rX0_ask_74k7 (Q : Po) (h : Hp) (ls : List Value) (a0 : Nat) (a1 : Nat) (b : Nat) (hk : gK h b = 7) : Ex mX0_ask Q 74 ls (.ref a1 :: .ref a0 :: .ref b :: []) h = Ex mX7_mark (Cont mX0_ask Q 74 ls 77 []) 0 [.ref b, .ref a0, .ref a1] [] h := Ex_cl (n := 3) (as := [.ref b, .ref a0, .ref a1]) rfl (by simp only [c_D, tkA, hk]; rfl)
theorem rX0_ask_74k8 (Q : Po) (h : Hp) (ls : List Value) (a0 : Nat) (a1 : Nat) (b : Nat) (hk : gK h b = 8) : Ex mX0_ask Q 74 ls (.ref a1 :: .ref a0 :: .ref b :: []) h = Ex mX7_mark (Cont mX0_ask Q 74 ls 77 []) 0 [.ref b, .ref a0, .ref a1] [] h := Ex_cl (n := 3) (as := [.ref b, .ref a0, .ref a1]) rfl (by simp only [c_D, tkA, hk]; rfl)
theorem rX0_ask_77 (Q : Po) (h : Hp) (ls : List Value) (x : Int32) : Ex mX0_ask Q 77 ls [.int x] h = Q (.inl (some (.int x))) h := Ex_rt rfl rfl
theorem rX0_ask_t (Q : Po) (h : Hp) (pc n a : Nat) (ls st : List Value) : Cont mX0_ask Q pc ls n st (.inr a) h = Q (.inr a) h := rfl
/-! FishReaders.trace(I)I -/
def mX0_trace : Cd := ([(0, .inl (i_iload 1 1)),
  (1, .inl (i_i2l 2)),
  (2, .inl (i_push (.long 0) 3)),
  (3, .inl (i_aload 0 4)),
  (4, .inl (i_getf 21 [1] 7)),
  (7, .inl (i_getf 66 [3] 10)),
  (10, .inl (i_push (.int 1) 11)),
  (11, .inl (i_bin (fun x y => x - y) 12)),
  (12, .inl (i_i2l 13)),
  (13, .inr (c_S 3 16 6 (Mt mX0_isIn 6))),
  (16, .inl (i_if (fun x => x = 0) 31 19)),
  (19, .inl (i_aload 0 20)),
  (20, .inl (i_getf 21 [1] 23)),
  (23, .inl (i_getf 65 [3] 26)),
  (26, .inl (i_iload 1 27)),
  (27, .inl (i_iald 51 28)),
  (28, .inl (i_goto 34)),
  (31, .inl (i_push (.int (-1000000)) 34)),
  (34, .inl i_iret)], noH)
theorem rX0_trace_0 (Q : Po) (h : Hp) (l0 : Value) (x : Int32) (st : List Value) : Ex mX0_trace Q 0 [l0, .int x] st h = Ex mX0_trace Q 1 [l0, .int x] (.int x :: st) h := Ex_nx rfl rfl
theorem rX0_trace_1 (Q : Po) (h : Hp) (ls : List Value) (st : List Value) (x : Int32) : Ex mX0_trace Q 1 ls (.int x :: st) h = Ex mX0_trace Q 2 ls (.long x.toInt64 :: st) h := Ex_nx rfl rfl
theorem rX0_trace_2 (Q : Po) (h : Hp) (ls : List Value) (st : List Value) : Ex mX0_trace Q 2 ls st h = Ex mX0_trace Q 3 ls (.long 0 :: st) h := Ex_nx rfl rfl
theorem rX0_trace_3 (Q : Po) (h : Hp) (l1 : Value) (x : Nat) (st : List Value) : Ex mX0_trace Q 3 [.ref x, l1] st h = Ex mX0_trace Q 4 [.ref x, l1] (.ref x :: st) h := Ex_nx rfl rfl
theorem rX0_trace_4 (Q : Po) (h : Hp) (ls : List Value) (st : List Value) (a : Nat) : Ex mX0_trace Q 4 ls (.ref a :: st) h = (gK h a ∈ ([1] : List Nat) ∧ Ex mX0_trace Q 7 ls (gF h 21 a :: st) h) := Ex_gd rfl rfl
theorem rX0_trace_7 (Q : Po) (h : Hp) (ls : List Value) (st : List Value) (a : Nat) : Ex mX0_trace Q 7 ls (.ref a :: st) h = (gK h a ∈ ([3] : List Nat) ∧ Ex mX0_trace Q 10 ls (gF h 66 a :: st) h) := Ex_gd rfl rfl
theorem rX0_trace_10 (Q : Po) (h : Hp) (ls : List Value) (st : List Value) : Ex mX0_trace Q 10 ls st h = Ex mX0_trace Q 11 ls (.int 1 :: st) h := Ex_nx rfl rfl
theorem rX0_trace_11 (Q : Po) (h : Hp) (ls : List Value) (st : List Value) (x y : Int32) : Ex mX0_trace Q 11 ls (.int y :: .int x :: st) h = Ex mX0_trace Q 12 ls (.int (x - y) :: st) h := Ex_nx rfl rfl
theorem rX0_trace_12 (Q : Po) (h : Hp) (ls : List Value) (st : List Value) (x : Int32) : Ex mX0_trace Q 12 ls (.int x :: st) h = Ex mX0_trace Q 13 ls (.long x.toInt64 :: st) h := Ex_nx rfl rfl
theorem rX0_trace_13 (Q : Po) (h : Hp) (ls : List Value) (a0 : Int64) (a1 : Int64) (a2 : Int64) : Ex mX0_trace Q 13 ls (.long a2 :: .long a1 :: .long a0 :: []) h = Ex mX0_isIn (Cont mX0_trace Q 13 ls 16 []) 0 [.long a0, .retAddr 1, .long a1, .retAddr 1, .long a2, .retAddr 1] [] h := Ex_cl (n := 6) (as := [.long a0, .long a1, .long a2]) rfl rfl
theorem rX0_trace_16 (Q : Po) (h : Hp) (ls : List Value) (st : List Value) (x : Int32) : Ex mX0_trace Q 16 ls (.int x :: st) h = if x = 0 then Ex mX0_trace Q 31 ls st h else Ex mX0_trace Q 19 ls st h := Ex_br rfl rfl
theorem rX0_trace_19 (Q : Po) (h : Hp) (l1 : Value) (x : Nat) (st : List Value) : Ex mX0_trace Q 19 [.ref x, l1] st h = Ex mX0_trace Q 20 [.ref x, l1] (.ref x :: st) h := Ex_nx rfl rfl
theorem rX0_trace_20 (Q : Po) (h : Hp) (ls : List Value) (st : List Value) (a : Nat) : Ex mX0_trace Q 20 ls (.ref a :: st) h = (gK h a ∈ ([1] : List Nat) ∧ Ex mX0_trace Q 23 ls (gF h 21 a :: st) h) := Ex_gd rfl rfl
theorem rX0_trace_23 (Q : Po) (h : Hp) (ls : List Value) (st : List Value) (a : Nat) : Ex mX0_trace Q 23 ls (.ref a :: st) h = (gK h a ∈ ([3] : List Nat) ∧ Ex mX0_trace Q 26 ls (gF h 65 a :: st) h) := Ex_gd rfl rfl
theorem rX0_trace_26 (Q : Po) (h : Hp) (l0 : Value) (x : Int32) (st : List Value) : Ex mX0_trace Q 26 [l0, .int x] st h = Ex mX0_trace Q 27 [l0, .int x] (.int x :: st) h := Ex_nx rfl rfl
theorem rX0_trace_27 (Q : Po) (h : Hp) (ls : List Value) (st : List Value) (a : Nat) (i : Int32) : Ex mX0_trace Q 27 ls (.int i :: .ref a :: st) h = ((gK h a = 51 ∧ ¬ (i < 0 ∨ gL h a ≤ i.toNatClampNeg)) ∧ Ex mX0_trace Q 28 ls (.int (gI h a i.toNatClampNeg) :: st) h) := Ex_gd rfl rfl
theorem rX0_trace_28 (Q : Po) (h : Hp) (ls : List Value) (st : List Value) : Ex mX0_trace Q 28 ls st h = Ex mX0_trace Q 34 ls st h := Ex_nx rfl rfl
theorem rX0_trace_31 (Q : Po) (h : Hp) (ls : List Value) (st : List Value) : Ex mX0_trace Q 31 ls st h = Ex mX0_trace Q 34 ls (.int (-1000000) :: st) h := Ex_nx rfl rfl
theorem rX0_trace_34 (Q : Po) (h : Hp) (ls : List Value) (x : Int32) : Ex mX0_trace Q 34 ls [.int x] h = Q (.inl (some (.int x))) h := Ex_rt rfl rfl
theorem rX0_trace_t (Q : Po) (h : Hp) (pc n a : Nat) (ls st : List Value) : Cont mX0_trace Q pc ls n st (.inr a) h = Q (.inr a) h := rfl
/-! FishReaders$Library.dusts()I -/
def mX1_dusts : Cd := ([(0, .inl (i_push (.int 0) 1)),
  (1, .inl (i_istore 1 2)),
  (2, .inl (i_push (.int 0) 3)),
  (3, .inl (i_istore 2 4)),
  (4, .inl (i_iload 2 5)),
  (5, .inl (i_aload 0 6)),
  (6, .inr (c_V 0 9 1 2 (Mt mX1_many 1))),
  (9, .inl (i_icmp (fun x y => y ≤ x) 27 12)),
  (12, .inl (i_iload 1 13)),
  (13, .inl (i_aload 0 14)),
  (14, .inl (i_getf 55 [2] 17)),
  (17, .inl (i_iload 2 18)),
  (18, .inl (i_iald 51 19)),
  (19, .inl (i_bin (fun x y => x + y) 20)),
  (20, .inl (i_istore 1 21)),
  (21, .inl (i_iinc 2 1 24)),
  (24, .inl (i_goto 4)),
  (27, .inl (i_iload 1 28)),
  (28, .inl i_iret)], noH)
theorem rX1_dusts_0 (Q : Po) (h : Hp) (ls : List Value) (st : List Value) : Ex mX1_dusts Q 0 ls st h = Ex mX1_dusts Q 1 ls (.int 0 :: st) h := Ex_nx rfl rfl
theorem rX1_dusts_1 (Q : Po) (h : Hp) (l0 l1 l2 : Value) (x : Int32) (st : List Value) : Ex mX1_dusts Q 1 [l0, l1, l2] (.int x :: st) h = Ex mX1_dusts Q 2 [l0, .int x, l2] st h := Ex_nx rfl rfl
theorem rX1_dusts_2 (Q : Po) (h : Hp) (ls : List Value) (st : List Value) : Ex mX1_dusts Q 2 ls st h = Ex mX1_dusts Q 3 ls (.int 0 :: st) h := Ex_nx rfl rfl
theorem rX1_dusts_3 (Q : Po) (h : Hp) (l0 l1 l2 : Value) (x : Int32) (st : List Value) : Ex mX1_dusts Q 3 [l0, l1, l2] (.int x :: st) h = Ex mX1_dusts Q 4 [l0, l1, .int x] st h := Ex_nx rfl rfl
theorem rX1_dusts_4 (Q : Po) (h : Hp) (l0 l1 : Value) (x : Int32) (st : List Value) : Ex mX1_dusts Q 4 [l0, l1, .int x] st h = Ex mX1_dusts Q 5 [l0, l1, .int x] (.int x :: st) h := Ex_nx rfl rfl
theorem rX1_dusts_5 (Q : Po) (h : Hp) (l1 l2 : Value) (x : Nat) (st : List Value) : Ex mX1_dusts Q 5 [.ref x, l1, l2] st h = Ex mX1_dusts Q 6 [.ref x, l1, l2] (.ref x :: st) h := Ex_nx rfl rfl
theorem rX1_dusts_6 (Q : Po) (h : Hp) (ls : List Value) (s0 : Value) (b : Nat) : Ex mX1_dusts Q 6 ls (.ref b :: [s0]) h = (gK h b = 2 ∧ Ex mX1_many (Cont mX1_dusts Q 6 ls 9 [s0]) 0 [.ref b] [] h) := Ex_cg (n := 1) (as := [.ref b]) rfl rfl
theorem rX1_dusts_9 (Q : Po) (h : Hp) (ls : List Value) (st : List Value) (x y : Int32) : Ex mX1_dusts Q 9 ls (.int y :: .int x :: st) h = if y ≤ x then Ex mX1_dusts Q 27 ls st h else Ex mX1_dusts Q 12 ls st h := Ex_br rfl rfl
theorem rX1_dusts_12 (Q : Po) (h : Hp) (l0 l2 : Value) (x : Int32) (st : List Value) : Ex mX1_dusts Q 12 [l0, .int x, l2] st h = Ex mX1_dusts Q 13 [l0, .int x, l2] (.int x :: st) h := Ex_nx rfl rfl
theorem rX1_dusts_13 (Q : Po) (h : Hp) (l1 l2 : Value) (x : Nat) (st : List Value) : Ex mX1_dusts Q 13 [.ref x, l1, l2] st h = Ex mX1_dusts Q 14 [.ref x, l1, l2] (.ref x :: st) h := Ex_nx rfl rfl
theorem rX1_dusts_14 (Q : Po) (h : Hp) (ls : List Value) (st : List Value) (a : Nat) : Ex mX1_dusts Q 14 ls (.ref a :: st) h = (gK h a ∈ ([2] : List Nat) ∧ Ex mX1_dusts Q 17 ls (gF h 55 a :: st) h) := Ex_gd rfl rfl
theorem rX1_dusts_17 (Q : Po) (h : Hp) (l0 l1 : Value) (x : Int32) (st : List Value) : Ex mX1_dusts Q 17 [l0, l1, .int x] st h = Ex mX1_dusts Q 18 [l0, l1, .int x] (.int x :: st) h := Ex_nx rfl rfl
theorem rX1_dusts_18 (Q : Po) (h : Hp) (ls : List Value) (st : List Value) (a : Nat) (i : Int32) : Ex mX1_dusts Q 18 ls (.int i :: .ref a :: st) h = ((gK h a = 51 ∧ ¬ (i < 0 ∨ gL h a ≤ i.toNatClampNeg)) ∧ Ex mX1_dusts Q 19 ls (.int (gI h a i.toNatClampNeg) :: st) h) := Ex_gd rfl rfl
theorem rX1_dusts_19 (Q : Po) (h : Hp) (ls : List Value) (st : List Value) (x y : Int32) : Ex mX1_dusts Q 19 ls (.int y :: .int x :: st) h = Ex mX1_dusts Q 20 ls (.int (x + y) :: st) h := Ex_nx rfl rfl
theorem rX1_dusts_20 (Q : Po) (h : Hp) (l0 l1 l2 : Value) (x : Int32) (st : List Value) : Ex mX1_dusts Q 20 [l0, l1, l2] (.int x :: st) h = Ex mX1_dusts Q 21 [l0, .int x, l2] st h := Ex_nx rfl rfl
theorem rX1_dusts_21 (Q : Po) (h : Hp) (l0 l1 : Value) (x : Int32) (st : List Value) : Ex mX1_dusts Q 21 [l0, l1, .int x] st h = Ex mX1_dusts Q 24 [l0, l1, .int (x + 1)] st h := Ex_nx rfl rfl
theorem rX1_dusts_24 (Q : Po) (h : Hp) (ls : List Value) (st : List Value) : Ex mX1_dusts Q 24 ls st h = Ex mX1_dusts Q 4 ls st h := Ex_nx rfl rfl
theorem rX1_dusts_27 (Q : Po) (h : Hp) (l0 l2 : Value) (x : Int32) (st : List Value) : Ex mX1_dusts Q 27 [l0, .int x, l2] st h = Ex mX1_dusts Q 28 [l0, .int x, l2] (.int x :: st) h := Ex_nx rfl rfl
theorem rX1_dusts_28 (Q : Po) (h : Hp) (ls : List Value) (x : Int32) : Ex mX1_dusts Q 28 ls [.int x] h = Q (.inl (some (.int x))) h := Ex_rt rfl rfl
theorem rX1_dusts_t (Q : Po) (h : Hp) (pc n a : Nat) (ls st : List Value) : Cont mX1_dusts Q pc ls n st (.inr a) h = Q (.inr a) h := rfl
/-! FishReaders.count(I)I -/
def mX0_count : Cd := ([(0, .inl (i_push (.int 0) 1)),
  (1, .inl (i_istore 2 2)),
  (2, .inl (i_iload 1 3)),
  (3, .inl (i_tsw 0 [48, 81, 89, 97, 105, 117, 125, 130] 135)),
  (48, .inl (i_push (.int 0) 49)),
  (49, .inl (i_istore 3 50)),
  (50, .inl (i_iload 3 51)),
  (51, .inl (i_push (.int 8) 53)),
  (53, .inl (i_icmp (fun x y => y ≤ x) 79 56)),
  (56, .inl (i_iload 2 57)),
  (57, .inl (i_aload 0 58)),
  (58, .inl (i_getf 3 [1] 61)),
  (61, .inl (i_iload 3 62)),
  (62, .inl (i_aald 54 63)),
  (63, .inl (i_ifn 66 70)),
  (66, .inl (i_push (.int 0) 67)),
  (67, .inl (i_goto 71)),
  (70, .inl (i_push (.int 1) 71)),
  (71, .inl (i_bin (fun x y => x + y) 72)),
  (72, .inl (i_istore 2 73)),
  (73, .inl (i_iinc 3 1 76)),
  (76, .inl (i_goto 50)),
  (79, .inl (i_iload 2 80)),
  (80, .inl i_iret),
  (81, .inl (i_aload 0 82)),
  (82, .inl (i_getf 11 [1] 85)),
  (85, .inl (i_getf 36 [2] 88)),
  (88, .inl i_iret),
  (89, .inl (i_aload 0 90)),
  (90, .inl (i_getf 11 [1] 93)),
  (93, .inr (c_V 0 96 1 2 (Mt mX1_many 1))),
  (96, .inl i_iret),
  (97, .inl (i_aload 0 98)),
  (98, .inl (i_getf 11 [1] 101)),
  (101, .inl (i_getf 58 [2] 104)),
  (104, .inl i_iret),
  (105, .inl (i_aload 0 106)),
  (106, .inl (i_getf 11 [1] 109)),
  (109, .inl (i_aload 0 110)),
  (110, .inr (c_V 0 113 1 1 (Mt mX0_allBooks 1))),
  (113, .inr (c_V 1 116 4 2 (Mt mX1_left 4))),
  (116, .inl i_iret),
  (117, .inl (i_aload 0 118)),
  (118, .inl (i_getf 11 [1] 121)),
  (121, .inr (c_V 0 124 3 2 (Mt mX1_dusts 3))),
  (124, .inl i_iret),
  (125, .inl (i_aload 0 126)),
  (126, .inl (i_getf 16 [1] 129)),
  (129, .inl i_iret),
  (130, .inl (i_aload 0 131)),
  (131, .inl (i_getf 6 [1] 134)),
  (134, .inl i_iret),
  (135, .inl (i_push (.int (-1000001)) 137)),
  (137, .inl i_iret)], noH)
theorem rX0_count_0 (Q : Po) (h : Hp) (ls : List Value) (st : List Value) : Ex mX0_count Q 0 ls st h = Ex mX0_count Q 1 ls (.int 0 :: st) h := Ex_nx rfl rfl
theorem rX0_count_1 (Q : Po) (h : Hp) (l0 l1 l2 l3 : Value) (x : Int32) (st : List Value) : Ex mX0_count Q 1 [l0, l1, l2, l3] (.int x :: st) h = Ex mX0_count Q 2 [l0, l1, .int x, l3] st h := Ex_nx rfl rfl
theorem rX0_count_2 (Q : Po) (h : Hp) (l0 l2 l3 : Value) (x : Int32) (st : List Value) : Ex mX0_count Q 2 [l0, .int x, l2, l3] st h = Ex mX0_count Q 3 [l0, .int x, l2, l3] (.int x :: st) h := Ex_nx rfl rfl
theorem rX0_count_3 (Q : Po) (h : Hp) (ls : List Value) (st : List Value) (x : Int32) : Ex mX0_count Q 3 ls (.int x :: st) h = Ex mX0_count Q (tswT 0 [48, 81, 89, 97, 105, 117, 125, 130] 135 x) ls st h := Ex_nx rfl rfl
theorem rX0_count_48 (Q : Po) (h : Hp) (ls : List Value) (st : List Value) : Ex mX0_count Q 48 ls st h = Ex mX0_count Q 49 ls (.int 0 :: st) h := Ex_nx rfl rfl
theorem rX0_count_49 (Q : Po) (h : Hp) (l0 l1 l2 l3 : Value) (x : Int32) (st : List Value) : Ex mX0_count Q 49 [l0, l1, l2, l3] (.int x :: st) h = Ex mX0_count Q 50 [l0, l1, l2, .int x] st h := Ex_nx rfl rfl
theorem rX0_count_50 (Q : Po) (h : Hp) (l0 l1 l2 : Value) (x : Int32) (st : List Value) : Ex mX0_count Q 50 [l0, l1, l2, .int x] st h = Ex mX0_count Q 51 [l0, l1, l2, .int x] (.int x :: st) h := Ex_nx rfl rfl
theorem rX0_count_51 (Q : Po) (h : Hp) (ls : List Value) (st : List Value) : Ex mX0_count Q 51 ls st h = Ex mX0_count Q 53 ls (.int 8 :: st) h := Ex_nx rfl rfl
theorem rX0_count_53 (Q : Po) (h : Hp) (ls : List Value) (st : List Value) (x y : Int32) : Ex mX0_count Q 53 ls (.int y :: .int x :: st) h = if y ≤ x then Ex mX0_count Q 79 ls st h else Ex mX0_count Q 56 ls st h := Ex_br rfl rfl
theorem rX0_count_56 (Q : Po) (h : Hp) (l0 l1 l3 : Value) (x : Int32) (st : List Value) : Ex mX0_count Q 56 [l0, l1, .int x, l3] st h = Ex mX0_count Q 57 [l0, l1, .int x, l3] (.int x :: st) h := Ex_nx rfl rfl
theorem rX0_count_57 (Q : Po) (h : Hp) (l1 l2 l3 : Value) (x : Nat) (st : List Value) : Ex mX0_count Q 57 [.ref x, l1, l2, l3] st h = Ex mX0_count Q 58 [.ref x, l1, l2, l3] (.ref x :: st) h := Ex_nx rfl rfl
theorem rX0_count_58 (Q : Po) (h : Hp) (ls : List Value) (st : List Value) (a : Nat) : Ex mX0_count Q 58 ls (.ref a :: st) h = (gK h a ∈ ([1] : List Nat) ∧ Ex mX0_count Q 61 ls (gF h 3 a :: st) h) := Ex_gd rfl rfl
theorem rX0_count_61 (Q : Po) (h : Hp) (l0 l1 l2 : Value) (x : Int32) (st : List Value) : Ex mX0_count Q 61 [l0, l1, l2, .int x] st h = Ex mX0_count Q 62 [l0, l1, l2, .int x] (.int x :: st) h := Ex_nx rfl rfl
theorem rX0_count_62 (Q : Po) (h : Hp) (ls : List Value) (st : List Value) (a : Nat) (i : Int32) : Ex mX0_count Q 62 ls (.int i :: .ref a :: st) h = ((gK h a = 54 ∧ ¬ (i < 0 ∨ gL h a ≤ i.toNatClampNeg)) ∧ Ex mX0_count Q 63 ls (va_rf (gR h a i.toNatClampNeg) :: st) h) := Ex_gd rfl rfl
theorem rX0_count_63n (Q : Po) (h : Hp) (ls : List Value) (st : List Value) : Ex mX0_count Q 63 ls (.null :: st) h = Ex mX0_count Q 66 ls st h := Ex_nx rfl rfl
theorem rX0_count_63 (Q : Po) (h : Hp) (ls : List Value) (st : List Value) (x : Nat) : Ex mX0_count Q 63 ls (.ref x :: st) h = Ex mX0_count Q 70 ls st h := Ex_nx rfl rfl
theorem rX0_count_66 (Q : Po) (h : Hp) (ls : List Value) (st : List Value) : Ex mX0_count Q 66 ls st h = Ex mX0_count Q 67 ls (.int 0 :: st) h := Ex_nx rfl rfl
theorem rX0_count_67 (Q : Po) (h : Hp) (ls : List Value) (st : List Value) : Ex mX0_count Q 67 ls st h = Ex mX0_count Q 71 ls st h := Ex_nx rfl rfl
theorem rX0_count_70 (Q : Po) (h : Hp) (ls : List Value) (st : List Value) : Ex mX0_count Q 70 ls st h = Ex mX0_count Q 71 ls (.int 1 :: st) h := Ex_nx rfl rfl
theorem rX0_count_71 (Q : Po) (h : Hp) (ls : List Value) (st : List Value) (x y : Int32) : Ex mX0_count Q 71 ls (.int y :: .int x :: st) h = Ex mX0_count Q 72 ls (.int (x + y) :: st) h := Ex_nx rfl rfl
theorem rX0_count_72 (Q : Po) (h : Hp) (l0 l1 l2 l3 : Value) (x : Int32) (st : List Value) : Ex mX0_count Q 72 [l0, l1, l2, l3] (.int x :: st) h = Ex mX0_count Q 73 [l0, l1, .int x, l3] st h := Ex_nx rfl rfl
theorem rX0_count_73 (Q : Po) (h : Hp) (l0 l1 l2 : Value) (x : Int32) (st : List Value) : Ex mX0_count Q 73 [l0, l1, l2, .int x] st h = Ex mX0_count Q 76 [l0, l1, l2, .int (x + 1)] st h := Ex_nx rfl rfl
theorem rX0_count_76 (Q : Po) (h : Hp) (ls : List Value) (st : List Value) : Ex mX0_count Q 76 ls st h = Ex mX0_count Q 50 ls st h := Ex_nx rfl rfl
theorem rX0_count_79 (Q : Po) (h : Hp) (l0 l1 l3 : Value) (x : Int32) (st : List Value) : Ex mX0_count Q 79 [l0, l1, .int x, l3] st h = Ex mX0_count Q 80 [l0, l1, .int x, l3] (.int x :: st) h := Ex_nx rfl rfl
theorem rX0_count_80 (Q : Po) (h : Hp) (ls : List Value) (x : Int32) : Ex mX0_count Q 80 ls [.int x] h = Q (.inl (some (.int x))) h := Ex_rt rfl rfl
theorem rX0_count_81 (Q : Po) (h : Hp) (l1 l2 l3 : Value) (x : Nat) (st : List Value) : Ex mX0_count Q 81 [.ref x, l1, l2, l3] st h = Ex mX0_count Q 82 [.ref x, l1, l2, l3] (.ref x :: st) h := Ex_nx rfl rfl
theorem rX0_count_82 (Q : Po) (h : Hp) (ls : List Value) (st : List Value) (a : Nat) : Ex mX0_count Q 82 ls (.ref a :: st) h = (gK h a ∈ ([1] : List Nat) ∧ Ex mX0_count Q 85 ls (gF h 11 a :: st) h) := Ex_gd rfl rfl
theorem rX0_count_85 (Q : Po) (h : Hp) (ls : List Value) (st : List Value) (a : Nat) : Ex mX0_count Q 85 ls (.ref a :: st) h = (gK h a ∈ ([2] : List Nat) ∧ Ex mX0_count Q 88 ls (gF h 36 a :: st) h) := Ex_gd rfl rfl
theorem rX0_count_88 (Q : Po) (h : Hp) (ls : List Value) (x : Int32) : Ex mX0_count Q 88 ls [.int x] h = Q (.inl (some (.int x))) h := Ex_rt rfl rfl
theorem rX0_count_89 (Q : Po) (h : Hp) (l1 l2 l3 : Value) (x : Nat) (st : List Value) : Ex mX0_count Q 89 [.ref x, l1, l2, l3] st h = Ex mX0_count Q 90 [.ref x, l1, l2, l3] (.ref x :: st) h := Ex_nx rfl rfl
theorem rX0_count_90 (Q : Po) (h : Hp) (ls : List Value) (st : List Value) (a : Nat) : Ex mX0_count Q 90 ls (.ref a :: st) h = (gK h a ∈ ([1] : List Nat) ∧ Ex mX0_count Q 93 ls (gF h 11 a :: st) h) := Ex_gd rfl rfl
theorem rX0_count_93 (Q : Po) (h : Hp) (ls : List Value) (b : Nat) : Ex mX0_count Q 93 ls (.ref b :: []) h = (gK h b = 2 ∧ Ex mX1_many (Cont mX0_count Q 93 ls 96 []) 0 [.ref b] [] h) := Ex_cg (n := 1) (as := [.ref b]) rfl rfl
theorem rX0_count_96 (Q : Po) (h : Hp) (ls : List Value) (x : Int32) : Ex mX0_count Q 96 ls [.int x] h = Q (.inl (some (.int x))) h := Ex_rt rfl rfl
theorem rX0_count_97 (Q : Po) (h : Hp) (l1 l2 l3 : Value) (x : Nat) (st : List Value) : Ex mX0_count Q 97 [.ref x, l1, l2, l3] st h = Ex mX0_count Q 98 [.ref x, l1, l2, l3] (.ref x :: st) h := Ex_nx rfl rfl
theorem rX0_count_98 (Q : Po) (h : Hp) (ls : List Value) (st : List Value) (a : Nat) : Ex mX0_count Q 98 ls (.ref a :: st) h = (gK h a ∈ ([1] : List Nat) ∧ Ex mX0_count Q 101 ls (gF h 11 a :: st) h) := Ex_gd rfl rfl
theorem rX0_count_101 (Q : Po) (h : Hp) (ls : List Value) (st : List Value) (a : Nat) : Ex mX0_count Q 101 ls (.ref a :: st) h = (gK h a ∈ ([2] : List Nat) ∧ Ex mX0_count Q 104 ls (gF h 58 a :: st) h) := Ex_gd rfl rfl
theorem rX0_count_104 (Q : Po) (h : Hp) (ls : List Value) (x : Int32) : Ex mX0_count Q 104 ls [.int x] h = Q (.inl (some (.int x))) h := Ex_rt rfl rfl
theorem rX0_count_105 (Q : Po) (h : Hp) (l1 l2 l3 : Value) (x : Nat) (st : List Value) : Ex mX0_count Q 105 [.ref x, l1, l2, l3] st h = Ex mX0_count Q 106 [.ref x, l1, l2, l3] (.ref x :: st) h := Ex_nx rfl rfl
theorem rX0_count_106 (Q : Po) (h : Hp) (ls : List Value) (st : List Value) (a : Nat) : Ex mX0_count Q 106 ls (.ref a :: st) h = (gK h a ∈ ([1] : List Nat) ∧ Ex mX0_count Q 109 ls (gF h 11 a :: st) h) := Ex_gd rfl rfl
theorem rX0_count_109 (Q : Po) (h : Hp) (l1 l2 l3 : Value) (x : Nat) (st : List Value) : Ex mX0_count Q 109 [.ref x, l1, l2, l3] st h = Ex mX0_count Q 110 [.ref x, l1, l2, l3] (.ref x :: st) h := Ex_nx rfl rfl
theorem rX0_count_110 (Q : Po) (h : Hp) (ls : List Value) (s0 : Value) (b : Nat) : Ex mX0_count Q 110 ls (.ref b :: [s0]) h = (gK h b = 1 ∧ Ex mX0_allBooks (Cont mX0_count Q 110 ls 113 [s0]) 0 [.ref b] [] h) := Ex_cg (n := 1) (as := [.ref b]) rfl rfl
theorem rX0_count_113 (Q : Po) (h : Hp) (ls : List Value) (a0 : Int32) (b : Nat) : Ex mX0_count Q 113 ls (.int a0 :: .ref b :: []) h = (gK h b = 2 ∧ Ex mX1_left (Cont mX0_count Q 113 ls 116 []) 0 [.ref b, .int a0, .retAddr 0, .retAddr 0] [] h) := Ex_cg (n := 4) (as := [.ref b, .int a0]) rfl rfl
theorem rX0_count_116 (Q : Po) (h : Hp) (ls : List Value) (x : Int32) : Ex mX0_count Q 116 ls [.int x] h = Q (.inl (some (.int x))) h := Ex_rt rfl rfl
theorem rX0_count_117 (Q : Po) (h : Hp) (l1 l2 l3 : Value) (x : Nat) (st : List Value) : Ex mX0_count Q 117 [.ref x, l1, l2, l3] st h = Ex mX0_count Q 118 [.ref x, l1, l2, l3] (.ref x :: st) h := Ex_nx rfl rfl
theorem rX0_count_118 (Q : Po) (h : Hp) (ls : List Value) (st : List Value) (a : Nat) : Ex mX0_count Q 118 ls (.ref a :: st) h = (gK h a ∈ ([1] : List Nat) ∧ Ex mX0_count Q 121 ls (gF h 11 a :: st) h) := Ex_gd rfl rfl
theorem rX0_count_121 (Q : Po) (h : Hp) (ls : List Value) (b : Nat) : Ex mX0_count Q 121 ls (.ref b :: []) h = (gK h b = 2 ∧ Ex mX1_dusts (Cont mX0_count Q 121 ls 124 []) 0 [.ref b, .retAddr 0, .retAddr 0] [] h) := Ex_cg (n := 3) (as := [.ref b]) rfl rfl
theorem rX0_count_124 (Q : Po) (h : Hp) (ls : List Value) (x : Int32) : Ex mX0_count Q 124 ls [.int x] h = Q (.inl (some (.int x))) h := Ex_rt rfl rfl
theorem rX0_count_125 (Q : Po) (h : Hp) (l1 l2 l3 : Value) (x : Nat) (st : List Value) : Ex mX0_count Q 125 [.ref x, l1, l2, l3] st h = Ex mX0_count Q 126 [.ref x, l1, l2, l3] (.ref x :: st) h := Ex_nx rfl rfl
theorem rX0_count_126 (Q : Po) (h : Hp) (ls : List Value) (st : List Value) (a : Nat) : Ex mX0_count Q 126 ls (.ref a :: st) h = (gK h a ∈ ([1] : List Nat) ∧ Ex mX0_count Q 129 ls (gF h 16 a :: st) h) := Ex_gd rfl rfl
theorem rX0_count_129 (Q : Po) (h : Hp) (ls : List Value) (x : Int32) : Ex mX0_count Q 129 ls [.int x] h = Q (.inl (some (.int x))) h := Ex_rt rfl rfl
theorem rX0_count_130 (Q : Po) (h : Hp) (l1 l2 l3 : Value) (x : Nat) (st : List Value) : Ex mX0_count Q 130 [.ref x, l1, l2, l3] st h = Ex mX0_count Q 131 [.ref x, l1, l2, l3] (.ref x :: st) h := Ex_nx rfl rfl
theorem rX0_count_131 (Q : Po) (h : Hp) (ls : List Value) (st : List Value) (a : Nat) : Ex mX0_count Q 131 ls (.ref a :: st) h = (gK h a ∈ ([1] : List Nat) ∧ Ex mX0_count Q 134 ls (gF h 6 a :: st) h) := Ex_gd rfl rfl
theorem rX0_count_134 (Q : Po) (h : Hp) (ls : List Value) (x : Int32) : Ex mX0_count Q 134 ls [.int x] h = Q (.inl (some (.int x))) h := Ex_rt rfl rfl
theorem rX0_count_135 (Q : Po) (h : Hp) (ls : List Value) (st : List Value) : Ex mX0_count Q 135 ls st h = Ex mX0_count Q 137 ls (.int (-1000001) :: st) h := Ex_nx rfl rfl
theorem rX0_count_137 (Q : Po) (h : Hp) (ls : List Value) (x : Int32) : Ex mX0_count Q 137 ls [.int x] h = Q (.inl (some (.int x))) h := Ex_rt rfl rfl
theorem rX0_count_t (Q : Po) (h : Hp) (pc n a : Nat) (ls st : List Value) : Cont mX0_count Q pc ls n st (.inr a) h = Q (.inr a) h := rfl
/-! FishReaders.status()I -/
def mX0_status : Cd := ([(0, .inl (i_aload 0 1)),
  (1, .inl (i_getf 22 [1] 4)),
  (4, .inl i_iret)], noH)
theorem rX0_status_0 (Q : Po) (h : Hp) (x : Nat) (st : List Value) : Ex mX0_status Q 0 [.ref x] st h = Ex mX0_status Q 1 [.ref x] (.ref x :: st) h := Ex_nx rfl rfl
theorem rX0_status_1 (Q : Po) (h : Hp) (ls : List Value) (st : List Value) (a : Nat) : Ex mX0_status Q 1 ls (.ref a :: st) h = (gK h a ∈ ([1] : List Nat) ∧ Ex mX0_status Q 4 ls (gF h 22 a :: st) h) := Ex_gd rfl rfl
theorem rX0_status_4 (Q : Po) (h : Hp) (ls : List Value) (x : Int32) : Ex mX0_status Q 4 ls [.int x] h = Q (.inl (some (.int x))) h := Ex_rt rfl rfl
theorem rX0_status_t (Q : Po) (h : Hp) (pc n a : Nat) (ls st : List Value) : Cont mX0_status Q pc ls n st (.inr a) h = Q (.inr a) h := rfl
