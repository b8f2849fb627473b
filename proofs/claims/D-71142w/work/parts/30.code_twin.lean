set_option maxRecDepth 100000
/-! FishReadersModel.<init>()V -/
def mX9_init : Cd := ([(0, .inl (i_aload 0 1)),
  (1, .inl (i_oini 4)),
  (4, .inl (i_aload 0 5)),
  (5, .inl (i_push (.int 8) 7)),
  (7, .inl (i_newa 51 9)),
  (9, .inl (i_putR 71 [9] 12)),
  (12, .inl (i_aload 0 13)),
  (13, .inl (i_push (.int 8) 15)),
  (15, .inl (i_newa 51 17)),
  (17, .inl (i_putR 73 [9] 20)),
  (20, .inl (i_aload 0 21)),
  (21, .inl (i_push (.int 320) 24)),
  (24, .inl (i_newa 51 26)),
  (26, .inl (i_putR 75 [9] 29)),
  (29, .inl (i_aload 0 30)),
  (30, .inl (i_push (.int 41) 32)),
  (32, .inl (i_newa 51 34)),
  (34, .inl (i_putR 81 [9] 37)),
  (37, .inl (i_aload 0 38)),
  (38, .inl (i_push (.int 40) 40)),
  (40, .inl (i_newa 51 42)),
  (42, .inl (i_putR 83 [9] 45)),
  (45, .inl (i_aload 0 46)),
  (46, .inl (i_push (.int 120) 48)),
  (48, .inl (i_newa 51 50)),
  (50, .inl (i_putR 85 [9] 53)),
  (53, .inl (i_aload 0 54)),
  (54, .inl (i_push (.int 41) 56)),
  (56, .inl (i_newa 51 58)),
  (58, .inl (i_putR 101 [9] 61)),
  (61, .inl (i_aload 0 62)),
  (62, .inl (i_push (.int 5) 63)),
  (63, .inl (i_newa 51 65)),
  (65, .inl (i_putR 103 [9] 68)),
  (68, .inl (i_aload 0 69)),
  (69, .inl (i_push (.int 984) 72)),
  (72, .inl (i_newa 51 74)),
  (74, .inl (i_putR 105 [9] 77)),
  (77, .inl (i_aload 0 78)),
  (78, .inl (i_push (.int 41) 80)),
  (80, .inl (i_newa 51 82)),
  (82, .inl (i_putR 109 [9] 85)),
  (85, .inl (i_aload 0 86)),
  (86, .inl (i_push (.int 6) 88)),
  (88, .inl (i_newa 51 90)),
  (90, .inl (i_putR 111 [9] 93)),
  (93, .inl (i_aload 0 94)),
  (94, .inl (i_push (.int 6) 96)),
  (96, .inl (i_newa 51 98)),
  (98, .inl (i_putR 113 [9] 101)),
  (101, .inl (i_aload 0 102)),
  (102, .inl (i_push (.int 2) 103)),
  (103, .inl (i_newa 53 105)),
  (105, .inl (i_putR 115 [9] 108)),
  (108, .inl (i_aload 0 109)),
  (109, .inl (i_push (.int 82) 111)),
  (111, .inl (i_newa 51 113)),
  (113, .inl (i_putR 117 [9] 116)),
  (116, .inl (i_aload 0 117)),
  (117, .inl (i_push (.int 16) 119)),
  (119, .inl (i_newa 51 121)),
  (121, .inl (i_putR 119 [9] 124)),
  (124, .inl (i_push (.int 0) 125)),
  (125, .inl (i_istore 1 126)),
  (126, .inl (i_iload 1 127)),
  (127, .inl (i_push (.int 8) 129)),
  (129, .inl (i_icmp (fun x y => y ≤ x) 145 132)),
  (132, .inl (i_aload 0 133)),
  (133, .inl (i_getf 73 [9] 136)),
  (136, .inl (i_iload 1 137)),
  (137, .inl (i_push (.int (-1)) 138)),
  (138, .inl (i_iast 51 (fun x => x) 139)),
  (139, .inl (i_iinc 1 1 142)),
  (142, .inl (i_goto 126)),
  (145, .inl i_vret)], noH)
theorem rX9_init_0 (Q : Po) (h : Hp) (l1 : Value) (x : Nat) (st : List Value) : Ex mX9_init Q 0 [.ref x, l1] st h = Ex mX9_init Q 1 [.ref x, l1] (.ref x :: st) h := Ex_nx rfl rfl
theorem rX9_init_1 (Q : Po) (h : Hp) (ls : List Value) (a : Nat) : Ex mX9_init Q 1 ls (.ref a :: []) h = Ex mX9_init Q 4 ls [] h := Ex_nx rfl rfl
theorem rX9_init_4 (Q : Po) (h : Hp) (l1 : Value) (x : Nat) (st : List Value) : Ex mX9_init Q 4 [.ref x, l1] st h = Ex mX9_init Q 5 [.ref x, l1] (.ref x :: st) h := Ex_nx rfl rfl
theorem rX9_init_5 (Q : Po) (h : Hp) (ls : List Value) (st : List Value) : Ex mX9_init Q 5 ls st h = Ex mX9_init Q 7 ls (.int 8 :: st) h := Ex_nx rfl rfl
theorem rX9_init_7 (Q : Po) (h : Hp) (ls : List Value) (st : List Value) (x : Int32) : Ex mX9_init Q 7 ls (.int x :: st) h = ((¬ x < 0 ∧ x.toNatClampNeg ≤ 65536 ∧ 1 ≤ gC h ∧ x.toNatClampNeg ≤ gS h) ∧ Ex mX9_init Q 9 ls (.ref (gN h) :: st) (nA h 51 x.toNatClampNeg)) := Ex_gd rfl rfl
theorem rX9_init_9 (Q : Po) (h : Hp) (ls : List Value) (st : List Value) (x a : Nat) : Ex mX9_init Q 9 ls (.ref x :: .ref a :: st) h = (gK h a ∈ ([9] : List Nat) ∧ Ex mX9_init Q 12 ls st (pF h 71 a (.ref x))) := Ex_gd rfl rfl
theorem rX9_init_9n (Q : Po) (h : Hp) (ls : List Value) (st : List Value) (a : Nat) : Ex mX9_init Q 9 ls (.null :: .ref a :: st) h = (gK h a ∈ ([9] : List Nat) ∧ Ex mX9_init Q 12 ls st (pF h 71 a .null)) := Ex_gd rfl rfl
theorem rX9_init_12 (Q : Po) (h : Hp) (l1 : Value) (x : Nat) (st : List Value) : Ex mX9_init Q 12 [.ref x, l1] st h = Ex mX9_init Q 13 [.ref x, l1] (.ref x :: st) h := Ex_nx rfl rfl
theorem rX9_init_13 (Q : Po) (h : Hp) (ls : List Value) (st : List Value) : Ex mX9_init Q 13 ls st h = Ex mX9_init Q 15 ls (.int 8 :: st) h := Ex_nx rfl rfl
theorem rX9_init_15 (Q : Po) (h : Hp) (ls : List Value) (st : List Value) (x : Int32) : Ex mX9_init Q 15 ls (.int x :: st) h = ((¬ x < 0 ∧ x.toNatClampNeg ≤ 65536 ∧ 1 ≤ gC h ∧ x.toNatClampNeg ≤ gS h) ∧ Ex mX9_init Q 17 ls (.ref (gN h) :: st) (nA h 51 x.toNatClampNeg)) := Ex_gd rfl rfl
theorem rX9_init_17 (Q : Po) (h : Hp) (ls : List Value) (st : List Value) (x a : Nat) : Ex mX9_init Q 17 ls (.ref x :: .ref a :: st) h = (gK h a ∈ ([9] : List Nat) ∧ Ex mX9_init Q 20 ls st (pF h 73 a (.ref x))) := Ex_gd rfl rfl
theorem rX9_init_17n (Q : Po) (h : Hp) (ls : List Value) (st : List Value) (a : Nat) : Ex mX9_init Q 17 ls (.null :: .ref a :: st) h = (gK h a ∈ ([9] : List Nat) ∧ Ex mX9_init Q 20 ls st (pF h 73 a .null)) := Ex_gd rfl rfl
theorem rX9_init_20 (Q : Po) (h : Hp) (l1 : Value) (x : Nat) (st : List Value) : Ex mX9_init Q 20 [.ref x, l1] st h = Ex mX9_init Q 21 [.ref x, l1] (.ref x :: st) h := Ex_nx rfl rfl
theorem rX9_init_21 (Q : Po) (h : Hp) (ls : List Value) (st : List Value) : Ex mX9_init Q 21 ls st h = Ex mX9_init Q 24 ls (.int 320 :: st) h := Ex_nx rfl rfl
theorem rX9_init_24 (Q : Po) (h : Hp) (ls : List Value) (st : List Value) (x : Int32) : Ex mX9_init Q 24 ls (.int x :: st) h = ((¬ x < 0 ∧ x.toNatClampNeg ≤ 65536 ∧ 1 ≤ gC h ∧ x.toNatClampNeg ≤ gS h) ∧ Ex mX9_init Q 26 ls (.ref (gN h) :: st) (nA h 51 x.toNatClampNeg)) := Ex_gd rfl rfl
theorem rX9_init_26 (Q : Po) (h : Hp) (ls : List Value) (st : List Value) (x a : Nat) : Ex mX9_init Q 26 ls (.ref x :: .ref a :: st) h = (gK h a ∈ ([9] : List Nat) ∧ Ex mX9_init Q 29 ls st (pF h 75 a (.ref x))) := Ex_gd rfl rfl
theorem rX9_init_26n (Q : Po) (h : Hp) (ls : List Value) (st : List Value) (a : Nat) : Ex mX9_init Q 26 ls (.null :: .ref a :: st) h = (gK h a ∈ ([9] : List Nat) ∧ Ex mX9_init Q 29 ls st (pF h 75 a .null)) := Ex_gd rfl rfl
theorem rX9_init_29 (Q : Po) (h : Hp) (l1 : Value) (x : Nat) (st : List Value) : Ex mX9_init Q 29 [.ref x, l1] st h = Ex mX9_init Q 30 [.ref x, l1] (.ref x :: st) h := Ex_nx rfl rfl
theorem rX9_init_30 (Q : Po) (h : Hp) (ls : List Value) (st : List Value) : Ex mX9_init Q 30 ls st h = Ex mX9_init Q 32 ls (.int 41 :: st) h := Ex_nx rfl rfl
theorem rX9_init_32 (Q : Po) (h : Hp) (ls : List Value) (st : List Value) (x : Int32) : Ex mX9_init Q 32 ls (.int x :: st) h = ((¬ x < 0 ∧ x.toNatClampNeg ≤ 65536 ∧ 1 ≤ gC h ∧ x.toNatClampNeg ≤ gS h) ∧ Ex mX9_init Q 34 ls (.ref (gN h) :: st) (nA h 51 x.toNatClampNeg)) := Ex_gd rfl rfl
theorem rX9_init_34 (Q : Po) (h : Hp) (ls : List Value) (st : List Value) (x a : Nat) : Ex mX9_init Q 34 ls (.ref x :: .ref a :: st) h = (gK h a ∈ ([9] : List Nat) ∧ Ex mX9_init Q 37 ls st (pF h 81 a (.ref x))) := Ex_gd rfl rfl
theorem rX9_init_34n (Q : Po) (h : Hp) (ls : List Value) (st : List Value) (a : Nat) : Ex mX9_init Q 34 ls (.null :: .ref a :: st) h = (gK h a ∈ ([9] : List Nat) ∧ Ex mX9_init Q 37 ls st (pF h 81 a .null)) := Ex_gd rfl rfl
theorem rX9_init_37 (Q : Po) (h : Hp) (l1 : Value) (x : Nat) (st : List Value) : Ex mX9_init Q 37 [.ref x, l1] st h = Ex mX9_init Q 38 [.ref x, l1] (.ref x :: st) h := Ex_nx rfl rfl
theorem rX9_init_38 (Q : Po) (h : Hp) (ls : List Value) (st : List Value) : Ex mX9_init Q 38 ls st h = Ex mX9_init Q 40 ls (.int 40 :: st) h := Ex_nx rfl rfl
theorem rX9_init_40 (Q : Po) (h : Hp) (ls : List Value) (st : List Value) (x : Int32) : Ex mX9_init Q 40 ls (.int x :: st) h = ((¬ x < 0 ∧ x.toNatClampNeg ≤ 65536 ∧ 1 ≤ gC h ∧ x.toNatClampNeg ≤ gS h) ∧ Ex mX9_init Q 42 ls (.ref (gN h) :: st) (nA h 51 x.toNatClampNeg)) := Ex_gd rfl rfl
theorem rX9_init_42 (Q : Po) (h : Hp) (ls : List Value) (st : List Value) (x a : Nat) : Ex mX9_init Q 42 ls (.ref x :: .ref a :: st) h = (gK h a ∈ ([9] : List Nat) ∧ Ex mX9_init Q 45 ls st (pF h 83 a (.ref x))) := Ex_gd rfl rfl
theorem rX9_init_42n (Q : Po) (h : Hp) (ls : List Value) (st : List Value) (a : Nat) : Ex mX9_init Q 42 ls (.null :: .ref a :: st) h = (gK h a ∈ ([9] : List Nat) ∧ Ex mX9_init Q 45 ls st (pF h 83 a .null)) := Ex_gd rfl rfl
theorem rX9_init_45 (Q : Po) (h : Hp) (l1 : Value) (x : Nat) (st : List Value) : Ex mX9_init Q 45 [.ref x, l1] st h = Ex mX9_init Q 46 [.ref x, l1] (.ref x :: st) h := Ex_nx rfl rfl
theorem rX9_init_46 (Q : Po) (h : Hp) (ls : List Value) (st : List Value) : Ex mX9_init Q 46 ls st h = Ex mX9_init Q 48 ls (.int 120 :: st) h := Ex_nx rfl rfl
theorem rX9_init_48 (Q : Po) (h : Hp) (ls : List Value) (st : List Value) (x : Int32) : Ex mX9_init Q 48 ls (.int x :: st) h = ((¬ x < 0 ∧ x.toNatClampNeg ≤ 65536 ∧ 1 ≤ gC h ∧ x.toNatClampNeg ≤ gS h) ∧ Ex mX9_init Q 50 ls (.ref (gN h) :: st) (nA h 51 x.toNatClampNeg)) := Ex_gd rfl rfl
theorem rX9_init_50 (Q : Po) (h : Hp) (ls : List Value) (st : List Value) (x a : Nat) : Ex mX9_init Q 50 ls (.ref x :: .ref a :: st) h = (gK h a ∈ ([9] : List Nat) ∧ Ex mX9_init Q 53 ls st (pF h 85 a (.ref x))) := Ex_gd rfl rfl
theorem rX9_init_50n (Q : Po) (h : Hp) (ls : List Value) (st : List Value) (a : Nat) : Ex mX9_init Q 50 ls (.null :: .ref a :: st) h = (gK h a ∈ ([9] : List Nat) ∧ Ex mX9_init Q 53 ls st (pF h 85 a .null)) := Ex_gd rfl rfl
theorem rX9_init_53 (Q : Po) (h : Hp) (l1 : Value) (x : Nat) (st : List Value) : Ex mX9_init Q 53 [.ref x, l1] st h = Ex mX9_init Q 54 [.ref x, l1] (.ref x :: st) h := Ex_nx rfl rfl
theorem rX9_init_54 (Q : Po) (h : Hp) (ls : List Value) (st : List Value) : Ex mX9_init Q 54 ls st h = Ex mX9_init Q 56 ls (.int 41 :: st) h := Ex_nx rfl rfl
theorem rX9_init_56 (Q : Po) (h : Hp) (ls : List Value) (st : List Value) (x : Int32) : Ex mX9_init Q 56 ls (.int x :: st) h = ((¬ x < 0 ∧ x.toNatClampNeg ≤ 65536 ∧ 1 ≤ gC h ∧ x.toNatClampNeg ≤ gS h) ∧ Ex mX9_init Q 58 ls (.ref (gN h) :: st) (nA h 51 x.toNatClampNeg)) := Ex_gd rfl rfl
theorem rX9_init_58 (Q : Po) (h : Hp) (ls : List Value) (st : List Value) (x a : Nat) : Ex mX9_init Q 58 ls (.ref x :: .ref a :: st) h = (gK h a ∈ ([9] : List Nat) ∧ Ex mX9_init Q 61 ls st (pF h 101 a (.ref x))) := Ex_gd rfl rfl
theorem rX9_init_58n (Q : Po) (h : Hp) (ls : List Value) (st : List Value) (a : Nat) : Ex mX9_init Q 58 ls (.null :: .ref a :: st) h = (gK h a ∈ ([9] : List Nat) ∧ Ex mX9_init Q 61 ls st (pF h 101 a .null)) := Ex_gd rfl rfl
theorem rX9_init_61 (Q : Po) (h : Hp) (l1 : Value) (x : Nat) (st : List Value) : Ex mX9_init Q 61 [.ref x, l1] st h = Ex mX9_init Q 62 [.ref x, l1] (.ref x :: st) h := Ex_nx rfl rfl
theorem rX9_init_62 (Q : Po) (h : Hp) (ls : List Value) (st : List Value) : Ex mX9_init Q 62 ls st h = Ex mX9_init Q 63 ls (.int 5 :: st) h := Ex_nx rfl rfl
theorem rX9_init_63 (Q : Po) (h : Hp) (ls : List Value) (st : List Value) (x : Int32) : Ex mX9_init Q 63 ls (.int x :: st) h = ((¬ x < 0 ∧ x.toNatClampNeg ≤ 65536 ∧ 1 ≤ gC h ∧ x.toNatClampNeg ≤ gS h) ∧ Ex mX9_init Q 65 ls (.ref (gN h) :: st) (nA h 51 x.toNatClampNeg)) := Ex_gd rfl rfl
theorem rX9_init_65 (Q : Po) (h : Hp) (ls : List Value) (st : List Value) (x a : Nat) : Ex mX9_init Q 65 ls (.ref x :: .ref a :: st) h = (gK h a ∈ ([9] : List Nat) ∧ Ex mX9_init Q 68 ls st (pF h 103 a (.ref x))) := Ex_gd rfl rfl
theorem rX9_init_65n (Q : Po) (h : Hp) (ls : List Value) (st : List Value) (a : Nat) : Ex mX9_init Q 65 ls (.null :: .ref a :: st) h = (gK h a ∈ ([9] : List Nat) ∧ Ex mX9_init Q 68 ls st (pF h 103 a .null)) := Ex_gd rfl rfl
theorem rX9_init_68 (Q : Po) (h : Hp) (l1 : Value) (x : Nat) (st : List Value) : Ex mX9_init Q 68 [.ref x, l1] st h = Ex mX9_init Q 69 [.ref x, l1] (.ref x :: st) h := Ex_nx rfl rfl
theorem rX9_init_69 (Q : Po) (h : Hp) (ls : List Value) (st : List Value) : Ex mX9_init Q 69 ls st h = Ex mX9_init Q 72 ls (.int 984 :: st) h := Ex_nx rfl rfl
theorem rX9_init_72 (Q : Po) (h : Hp) (ls : List Value) (st : List Value) (x : Int32) : Ex mX9_init Q 72 ls (.int x :: st) h = ((¬ x < 0 ∧ x.toNatClampNeg ≤ 65536 ∧ 1 ≤ gC h ∧ x.toNatClampNeg ≤ gS h) ∧ Ex mX9_init Q 74 ls (.ref (gN h) :: st) (nA h 51 x.toNatClampNeg)) := Ex_gd rfl rfl
theorem rX9_init_74 (Q : Po) (h : Hp) (ls : List Value) (st : List Value) (x a : Nat) : Ex mX9_init Q 74 ls (.ref x :: .ref a :: st) h = (gK h a ∈ ([9] : List Nat) ∧ Ex mX9_init Q 77 ls st (pF h 105 a (.ref x))) := Ex_gd rfl rfl
theorem rX9_init_74n (Q : Po) (h : Hp) (ls : List Value) (st : List Value) (a : Nat) : Ex mX9_init Q 74 ls (.null :: .ref a :: st) h = (gK h a ∈ ([9] : List Nat) ∧ Ex mX9_init Q 77 ls st (pF h 105 a .null)) := Ex_gd rfl rfl
theorem rX9_init_77 (Q : Po) (h : Hp) (l1 : Value) (x : Nat) (st : List Value) : Ex mX9_init Q 77 [.ref x, l1] st h = Ex mX9_init Q 78 [.ref x, l1] (.ref x :: st) h := Ex_nx rfl rfl
theorem rX9_init_78 (Q : Po) (h : Hp) (ls : List Value) (st : List Value) : Ex mX9_init Q 78 ls st h = Ex mX9_init Q 80 ls (.int 41 :: st) h := Ex_nx rfl rfl
theorem rX9_init_80 (Q : Po) (h : Hp) (ls : List Value) (st : List Value) (x : Int32) : Ex mX9_init Q 80 ls (.int x :: st) h = ((¬ x < 0 ∧ x.toNatClampNeg ≤ 65536 ∧ 1 ≤ gC h ∧ x.toNatClampNeg ≤ gS h) ∧ Ex mX9_init Q 82 ls (.ref (gN h) :: st) (nA h 51 x.toNatClampNeg)) := Ex_gd rfl rfl
theorem rX9_init_82 (Q : Po) (h : Hp) (ls : List Value) (st : List Value) (x a : Nat) : Ex mX9_init Q 82 ls (.ref x :: .ref a :: st) h = (gK h a ∈ ([9] : List Nat) ∧ Ex mX9_init Q 85 ls st (pF h 109 a (.ref x))) := Ex_gd rfl rfl
theorem rX9_init_82n (Q : Po) (h : Hp) (ls : List Value) (st : List Value) (a : Nat) : Ex mX9_init Q 82 ls (.null :: .ref a :: st) h = (gK h a ∈ ([9] : List Nat) ∧ Ex mX9_init Q 85 ls st (pF h 109 a .null)) := Ex_gd rfl rfl
theorem rX9_init_85 (Q : Po) (h : Hp) (l1 : Value) (x : Nat) (st : List Value) : Ex mX9_init Q 85 [.ref x, l1] st h = Ex mX9_init Q 86 [.ref x, l1] (.ref x :: st) h := Ex_nx rfl rfl
theorem rX9_init_86 (Q : Po) (h : Hp) (ls : List Value) (st : List Value) : Ex mX9_init Q 86 ls st h = Ex mX9_init Q 88 ls (.int 6 :: st) h := Ex_nx rfl rfl
theorem rX9_init_88 (Q : Po) (h : Hp) (ls : List Value) (st : List Value) (x : Int32) : Ex mX9_init Q 88 ls (.int x :: st) h = ((¬ x < 0 ∧ x.toNatClampNeg ≤ 65536 ∧ 1 ≤ gC h ∧ x.toNatClampNeg ≤ gS h) ∧ Ex mX9_init Q 90 ls (.ref (gN h) :: st) (nA h 51 x.toNatClampNeg)) := Ex_gd rfl rfl
theorem rX9_init_90 (Q : Po) (h : Hp) (ls : List Value) (st : List Value) (x a : Nat) : Ex mX9_init Q 90 ls (.ref x :: .ref a :: st) h = (gK h a ∈ ([9] : List Nat) ∧ Ex mX9_init Q 93 ls st (pF h 111 a (.ref x))) := Ex_gd rfl rfl
theorem rX9_init_90n (Q : Po) (h : Hp) (ls : List Value) (st : List Value) (a : Nat) : Ex mX9_init Q 90 ls (.null :: .ref a :: st) h = (gK h a ∈ ([9] : List Nat) ∧ Ex mX9_init Q 93 ls st (pF h 111 a .null)) := Ex_gd rfl rfl
theorem rX9_init_93 (Q : Po) (h : Hp) (l1 : Value) (x : Nat) (st : List Value) : Ex mX9_init Q 93 [.ref x, l1] st h = Ex mX9_init Q 94 [.ref x, l1] (.ref x :: st) h := Ex_nx rfl rfl
theorem rX9_init_94 (Q : Po) (h : Hp) (ls : List Value) (st : List Value) : Ex mX9_init Q 94 ls st h = Ex mX9_init Q 96 ls (.int 6 :: st) h := Ex_nx rfl rfl
theorem rX9_init_96 (Q : Po) (h : Hp) (ls : List Value) (st : List Value) (x : Int32) : Ex mX9_init Q 96 ls (.int x :: st) h = ((¬ x < 0 ∧ x.toNatClampNeg ≤ 65536 ∧ 1 ≤ gC h ∧ x.toNatClampNeg ≤ gS h) ∧ Ex mX9_init Q 98 ls (.ref (gN h) :: st) (nA h 51 x.toNatClampNeg)) := Ex_gd rfl rfl
theorem rX9_init_98 (Q : Po) (h : Hp) (ls : List Value) (st : List Value) (x a : Nat) : Ex mX9_init Q 98 ls (.ref x :: .ref a :: st) h = (gK h a ∈ ([9] : List Nat) ∧ Ex mX9_init Q 101 ls st (pF h 113 a (.ref x))) := Ex_gd rfl rfl
theorem rX9_init_98n (Q : Po) (h : Hp) (ls : List Value) (st : List Value) (a : Nat) : Ex mX9_init Q 98 ls (.null :: .ref a :: st) h = (gK h a ∈ ([9] : List Nat) ∧ Ex mX9_init Q 101 ls st (pF h 113 a .null)) := Ex_gd rfl rfl
theorem rX9_init_101 (Q : Po) (h : Hp) (l1 : Value) (x : Nat) (st : List Value) : Ex mX9_init Q 101 [.ref x, l1] st h = Ex mX9_init Q 102 [.ref x, l1] (.ref x :: st) h := Ex_nx rfl rfl
theorem rX9_init_102 (Q : Po) (h : Hp) (ls : List Value) (st : List Value) : Ex mX9_init Q 102 ls st h = Ex mX9_init Q 103 ls (.int 2 :: st) h := Ex_nx rfl rfl
theorem rX9_init_103 (Q : Po) (h : Hp) (ls : List Value) (st : List Value) (x : Int32) : Ex mX9_init Q 103 ls (.int x :: st) h = ((¬ x < 0 ∧ x.toNatClampNeg ≤ 65536 ∧ 1 ≤ gC h ∧ x.toNatClampNeg ≤ gS h) ∧ Ex mX9_init Q 105 ls (.ref (gN h) :: st) (nA h 53 x.toNatClampNeg)) := Ex_gd rfl rfl
theorem rX9_init_105 (Q : Po) (h : Hp) (ls : List Value) (st : List Value) (x a : Nat) : Ex mX9_init Q 105 ls (.ref x :: .ref a :: st) h = (gK h a ∈ ([9] : List Nat) ∧ Ex mX9_init Q 108 ls st (pF h 115 a (.ref x))) := Ex_gd rfl rfl
theorem rX9_init_105n (Q : Po) (h : Hp) (ls : List Value) (st : List Value) (a : Nat) : Ex mX9_init Q 105 ls (.null :: .ref a :: st) h = (gK h a ∈ ([9] : List Nat) ∧ Ex mX9_init Q 108 ls st (pF h 115 a .null)) := Ex_gd rfl rfl
theorem rX9_init_108 (Q : Po) (h : Hp) (l1 : Value) (x : Nat) (st : List Value) : Ex mX9_init Q 108 [.ref x, l1] st h = Ex mX9_init Q 109 [.ref x, l1] (.ref x :: st) h := Ex_nx rfl rfl
theorem rX9_init_109 (Q : Po) (h : Hp) (ls : List Value) (st : List Value) : Ex mX9_init Q 109 ls st h = Ex mX9_init Q 111 ls (.int 82 :: st) h := Ex_nx rfl rfl
theorem rX9_init_111 (Q : Po) (h : Hp) (ls : List Value) (st : List Value) (x : Int32) : Ex mX9_init Q 111 ls (.int x :: st) h = ((¬ x < 0 ∧ x.toNatClampNeg ≤ 65536 ∧ 1 ≤ gC h ∧ x.toNatClampNeg ≤ gS h) ∧ Ex mX9_init Q 113 ls (.ref (gN h) :: st) (nA h 51 x.toNatClampNeg)) := Ex_gd rfl rfl
theorem rX9_init_113 (Q : Po) (h : Hp) (ls : List Value) (st : List Value) (x a : Nat) : Ex mX9_init Q 113 ls (.ref x :: .ref a :: st) h = (gK h a ∈ ([9] : List Nat) ∧ Ex mX9_init Q 116 ls st (pF h 117 a (.ref x))) := Ex_gd rfl rfl
theorem rX9_init_113n (Q : Po) (h : Hp) (ls : List Value) (st : List Value) (a : Nat) : Ex mX9_init Q 113 ls (.null :: .ref a :: st) h = (gK h a ∈ ([9] : List Nat) ∧ Ex mX9_init Q 116 ls st (pF h 117 a .null)) := Ex_gd rfl rfl
theorem rX9_init_116 (Q : Po) (h : Hp) (l1 : Value) (x : Nat) (st : List Value) : Ex mX9_init Q 116 [.ref x, l1] st h = Ex mX9_init Q 117 [.ref x, l1] (.ref x :: st) h := Ex_nx rfl rfl
theorem rX9_init_117 (Q : Po) (h : Hp) (ls : List Value) (st : List Value) : Ex mX9_init Q 117 ls st h = Ex mX9_init Q 119 ls (.int 16 :: st) h := Ex_nx rfl rfl
theorem rX9_init_119 (Q : Po) (h : Hp) (ls : List Value) (st : List Value) (x : Int32) : Ex mX9_init Q 119 ls (.int x :: st) h = ((¬ x < 0 ∧ x.toNatClampNeg ≤ 65536 ∧ 1 ≤ gC h ∧ x.toNatClampNeg ≤ gS h) ∧ Ex mX9_init Q 121 ls (.ref (gN h) :: st) (nA h 51 x.toNatClampNeg)) := Ex_gd rfl rfl
theorem rX9_init_121 (Q : Po) (h : Hp) (ls : List Value) (st : List Value) (x a : Nat) : Ex mX9_init Q 121 ls (.ref x :: .ref a :: st) h = (gK h a ∈ ([9] : List Nat) ∧ Ex mX9_init Q 124 ls st (pF h 119 a (.ref x))) := Ex_gd rfl rfl
theorem rX9_init_121n (Q : Po) (h : Hp) (ls : List Value) (st : List Value) (a : Nat) : Ex mX9_init Q 121 ls (.null :: .ref a :: st) h = (gK h a ∈ ([9] : List Nat) ∧ Ex mX9_init Q 124 ls st (pF h 119 a .null)) := Ex_gd rfl rfl
theorem rX9_init_124 (Q : Po) (h : Hp) (ls : List Value) (st : List Value) : Ex mX9_init Q 124 ls st h = Ex mX9_init Q 125 ls (.int 0 :: st) h := Ex_nx rfl rfl
theorem rX9_init_125 (Q : Po) (h : Hp) (l0 l1 : Value) (x : Int32) (st : List Value) : Ex mX9_init Q 125 [l0, l1] (.int x :: st) h = Ex mX9_init Q 126 [l0, .int x] st h := Ex_nx rfl rfl
theorem rX9_init_126 (Q : Po) (h : Hp) (l0 : Value) (x : Int32) (st : List Value) : Ex mX9_init Q 126 [l0, .int x] st h = Ex mX9_init Q 127 [l0, .int x] (.int x :: st) h := Ex_nx rfl rfl
theorem rX9_init_127 (Q : Po) (h : Hp) (ls : List Value) (st : List Value) : Ex mX9_init Q 127 ls st h = Ex mX9_init Q 129 ls (.int 8 :: st) h := Ex_nx rfl rfl
theorem rX9_init_129 (Q : Po) (h : Hp) (ls : List Value) (st : List Value) (x y : Int32) : Ex mX9_init Q 129 ls (.int y :: .int x :: st) h = if y ≤ x then Ex mX9_init Q 145 ls st h else Ex mX9_init Q 132 ls st h := Ex_br rfl rfl
theorem rX9_init_132 (Q : Po) (h : Hp) (l1 : Value) (x : Nat) (st : List Value) : Ex mX9_init Q 132 [.ref x, l1] st h = Ex mX9_init Q 133 [.ref x, l1] (.ref x :: st) h := Ex_nx rfl rfl
theorem rX9_init_133 (Q : Po) (h : Hp) (ls : List Value) (st : List Value) (a : Nat) : Ex mX9_init Q 133 ls (.ref a :: st) h = (gK h a ∈ ([9] : List Nat) ∧ Ex mX9_init Q 136 ls (gF h 73 a :: st) h) := Ex_gd rfl rfl
theorem rX9_init_136 (Q : Po) (h : Hp) (l0 : Value) (x : Int32) (st : List Value) : Ex mX9_init Q 136 [l0, .int x] st h = Ex mX9_init Q 137 [l0, .int x] (.int x :: st) h := Ex_nx rfl rfl
theorem rX9_init_137 (Q : Po) (h : Hp) (ls : List Value) (st : List Value) : Ex mX9_init Q 137 ls st h = Ex mX9_init Q 138 ls (.int (-1) :: st) h := Ex_nx rfl rfl
theorem rX9_init_138 (Q : Po) (h : Hp) (ls : List Value) (st : List Value) (a : Nat) (i x : Int32) : Ex mX9_init Q 138 ls (.int x :: .int i :: .ref a :: st) h = ((gK h a = 51 ∧ ¬ (i < 0 ∨ gL h a ≤ i.toNatClampNeg)) ∧ Ex mX9_init Q 139 ls st (pI h a i.toNatClampNeg (x))) := Ex_gd rfl rfl
theorem rX9_init_139 (Q : Po) (h : Hp) (l0 : Value) (x : Int32) (st : List Value) : Ex mX9_init Q 139 [l0, .int x] st h = Ex mX9_init Q 142 [l0, .int (x + 1)] st h := Ex_nx rfl rfl
theorem rX9_init_142 (Q : Po) (h : Hp) (ls : List Value) (st : List Value) : Ex mX9_init Q 142 ls st h = Ex mX9_init Q 126 ls st h := Ex_nx rfl rfl
theorem rX9_init_145 (Q : Po) (h : Hp) (ls : List Value) : Ex mX9_init Q 145 ls [] h = Q (.inl none) h := Ex_rt rfl rfl
theorem rX9_init_t (Q : Po) (h : Hp) (pc n a : Nat) (ls st : List Value) : Cont mX9_init Q pc ls n st (.inr a) h = Q (.inr a) h := rfl
/-! FishReadersModel.in(JJJ)Z -/
def mX9_in : Cd := ([(0, .inl (i_lload 0 1)),
  (1, .inl (i_lload 2 2)),
  (2, .inl (i_lcmp 3)),
  (3, .inl (i_if (fun x => x < 0) 17 6)),
  (6, .inl (i_lload 0 7)),
  (7, .inl (i_lload 4 9)),
  (9, .inl (i_lcmp 10)),
  (10, .inl (i_if (fun x => 0 < x) 17 13)),
  (13, .inl (i_push (.int 1) 14)),
  (14, .inl (i_goto 18)),
  (17, .inl (i_push (.int 0) 18)),
  (18, .inl i_zret)], noH)
theorem rX9_in_0 (Q : Po) (h : Hp) (l2 l3 l4 l5 : Value) (x : Int64) (st : List Value) : Ex mX9_in Q 0 [.long x, .retAddr 1, l2, l3, l4, l5] st h = Ex mX9_in Q 1 [.long x, .retAddr 1, l2, l3, l4, l5] (.long x :: st) h := Ex_nx rfl rfl
theorem rX9_in_1 (Q : Po) (h : Hp) (l0 l1 l4 l5 : Value) (x : Int64) (st : List Value) : Ex mX9_in Q 1 [l0, l1, .long x, .retAddr 1, l4, l5] st h = Ex mX9_in Q 2 [l0, l1, .long x, .retAddr 1, l4, l5] (.long x :: st) h := Ex_nx rfl rfl
theorem rX9_in_2 (Q : Po) (h : Hp) (ls : List Value) (st : List Value) (x y : Int64) : Ex mX9_in Q 2 ls (.long y :: .long x :: st) h = Ex mX9_in Q 3 ls (.int (lg_cmp x y) :: st) h := Ex_nx rfl rfl
theorem rX9_in_3 (Q : Po) (h : Hp) (ls : List Value) (st : List Value) (x : Int32) : Ex mX9_in Q 3 ls (.int x :: st) h = if x < 0 then Ex mX9_in Q 17 ls st h else Ex mX9_in Q 6 ls st h := Ex_br rfl rfl
theorem rX9_in_6 (Q : Po) (h : Hp) (l2 l3 l4 l5 : Value) (x : Int64) (st : List Value) : Ex mX9_in Q 6 [.long x, .retAddr 1, l2, l3, l4, l5] st h = Ex mX9_in Q 7 [.long x, .retAddr 1, l2, l3, l4, l5] (.long x :: st) h := Ex_nx rfl rfl
theorem rX9_in_7 (Q : Po) (h : Hp) (l0 l1 l2 l3 : Value) (x : Int64) (st : List Value) : Ex mX9_in Q 7 [l0, l1, l2, l3, .long x, .retAddr 1] st h = Ex mX9_in Q 9 [l0, l1, l2, l3, .long x, .retAddr 1] (.long x :: st) h := Ex_nx rfl rfl
theorem rX9_in_9 (Q : Po) (h : Hp) (ls : List Value) (st : List Value) (x y : Int64) : Ex mX9_in Q 9 ls (.long y :: .long x :: st) h = Ex mX9_in Q 10 ls (.int (lg_cmp x y) :: st) h := Ex_nx rfl rfl
theorem rX9_in_10 (Q : Po) (h : Hp) (ls : List Value) (st : List Value) (x : Int32) : Ex mX9_in Q 10 ls (.int x :: st) h = if 0 < x then Ex mX9_in Q 17 ls st h else Ex mX9_in Q 13 ls st h := Ex_br rfl rfl
theorem rX9_in_13 (Q : Po) (h : Hp) (ls : List Value) (st : List Value) : Ex mX9_in Q 13 ls st h = Ex mX9_in Q 14 ls (.int 1 :: st) h := Ex_nx rfl rfl
theorem rX9_in_14 (Q : Po) (h : Hp) (ls : List Value) (st : List Value) : Ex mX9_in Q 14 ls st h = Ex mX9_in Q 18 ls st h := Ex_nx rfl rfl
theorem rX9_in_17 (Q : Po) (h : Hp) (ls : List Value) (st : List Value) : Ex mX9_in Q 17 ls st h = Ex mX9_in Q 18 ls (.int 0 :: st) h := Ex_nx rfl rfl
theorem rX9_in_18 (Q : Po) (h : Hp) (ls : List Value) (x : Int32) : Ex mX9_in Q 18 ls [.int x] h = ((x = 0 ∨ x = 1) ∧ Q (.inl (some (.int x))) h) := Ex_rg rfl rfl
theorem rX9_in_t (Q : Po) (h : Hp) (pc n a : Nat) (ls st : List Value) : Cont mX9_in Q pc ls n st (.inr a) h = Q (.inr a) h := rfl
/-! FishReadersModel.isRow(I)Z -/
def mX9_isRow : Cd := ([(0, .inl (i_iload 0 1)),
  (1, .inl (i_i2l 2)),
  (2, .inl (i_push (.long 0) 3)),
  (3, .inl (i_push (.long 7) 6)),
  (6, .inr (c_S 3 9 6 (Mt mX9_in 6))),
  (9, .inl i_zret)], noH)
theorem rX9_isRow_0 (Q : Po) (h : Hp) (x : Int32) (st : List Value) : Ex mX9_isRow Q 0 [.int x] st h = Ex mX9_isRow Q 1 [.int x] (.int x :: st) h := Ex_nx rfl rfl
theorem rX9_isRow_1 (Q : Po) (h : Hp) (ls : List Value) (st : List Value) (x : Int32) : Ex mX9_isRow Q 1 ls (.int x :: st) h = Ex mX9_isRow Q 2 ls (.long x.toInt64 :: st) h := Ex_nx rfl rfl
theorem rX9_isRow_2 (Q : Po) (h : Hp) (ls : List Value) (st : List Value) : Ex mX9_isRow Q 2 ls st h = Ex mX9_isRow Q 3 ls (.long 0 :: st) h := Ex_nx rfl rfl
theorem rX9_isRow_3 (Q : Po) (h : Hp) (ls : List Value) (st : List Value) : Ex mX9_isRow Q 3 ls st h = Ex mX9_isRow Q 6 ls (.long 7 :: st) h := Ex_nx rfl rfl
theorem rX9_isRow_6 (Q : Po) (h : Hp) (ls : List Value) (a0 : Int64) (a1 : Int64) (a2 : Int64) : Ex mX9_isRow Q 6 ls (.long a2 :: .long a1 :: .long a0 :: []) h = Ex mX9_in (Cont mX9_isRow Q 6 ls 9 []) 0 [.long a0, .retAddr 1, .long a1, .retAddr 1, .long a2, .retAddr 1] [] h := Ex_cl (n := 6) (as := [.long a0, .long a1, .long a2]) rfl rfl
theorem rX9_isRow_9 (Q : Po) (h : Hp) (ls : List Value) (x : Int32) : Ex mX9_isRow Q 9 ls [.int x] h = ((x = 0 ∨ x = 1) ∧ Q (.inl (some (.int x))) h) := Ex_rg rfl rfl
theorem rX9_isRow_t (Q : Po) (h : Hp) (pc n a : Nat) (ls st : List Value) : Cont mX9_isRow Q pc ls n st (.inr a) h = Q (.inr a) h := rfl
/-! FishReadersModel.find(I)I -/
def mX9_find : Cd := ([(0, .inl (i_aload 0 1)),
  (1, .inl (i_iload 1 2)),
  (2, .inl (i_putI 76 [9] 5)),
  (5, .inl (i_push (.int (-1000010)) 7)),
  (7, .inl (i_iload 1 8)),
  (8, .inl (i_bin (fun x y => x - y) 9)),
  (9, .inl i_iret)], noH)
theorem rX9_find_0 (Q : Po) (h : Hp) (l1 : Value) (x : Nat) (st : List Value) : Ex mX9_find Q 0 [.ref x, l1] st h = Ex mX9_find Q 1 [.ref x, l1] (.ref x :: st) h := Ex_nx rfl rfl
theorem rX9_find_1 (Q : Po) (h : Hp) (l0 : Value) (x : Int32) (st : List Value) : Ex mX9_find Q 1 [l0, .int x] st h = Ex mX9_find Q 2 [l0, .int x] (.int x :: st) h := Ex_nx rfl rfl
theorem rX9_find_2 (Q : Po) (h : Hp) (ls : List Value) (st : List Value) (x : Int32) (a : Nat) : Ex mX9_find Q 2 ls (.int x :: .ref a :: st) h = (gK h a ∈ ([9] : List Nat) ∧ Ex mX9_find Q 5 ls st (pF h 76 a (.int x))) := Ex_gd rfl rfl
theorem rX9_find_5 (Q : Po) (h : Hp) (ls : List Value) (st : List Value) : Ex mX9_find Q 5 ls st h = Ex mX9_find Q 7 ls (.int (-1000010) :: st) h := Ex_nx rfl rfl
theorem rX9_find_7 (Q : Po) (h : Hp) (l0 : Value) (x : Int32) (st : List Value) : Ex mX9_find Q 7 [l0, .int x] st h = Ex mX9_find Q 8 [l0, .int x] (.int x :: st) h := Ex_nx rfl rfl
theorem rX9_find_8 (Q : Po) (h : Hp) (ls : List Value) (st : List Value) (x y : Int32) : Ex mX9_find Q 8 ls (.int y :: .int x :: st) h = Ex mX9_find Q 9 ls (.int (x - y) :: st) h := Ex_nx rfl rfl
theorem rX9_find_9 (Q : Po) (h : Hp) (ls : List Value) (x : Int32) : Ex mX9_find Q 9 ls [.int x] h = Q (.inl (some (.int x))) h := Ex_rt rfl rfl
theorem rX9_find_t (Q : Po) (h : Hp) (pc n a : Nat) (ls st : List Value) : Cont mX9_find Q pc ls n st (.inr a) h = Q (.inr a) h := rfl
/-! FishReadersModel.well(I)I -/
def mX9_well : Cd := ([(0, .inl (i_aload 0 1)),
  (1, .inl (i_push (.int 0) 2)),
  (2, .inl (i_putI 76 [9] 5)),
  (5, .inl (i_iload 1 6)),
  (6, .inl i_iret)], noH)
theorem rX9_well_0 (Q : Po) (h : Hp) (l1 : Value) (x : Nat) (st : List Value) : Ex mX9_well Q 0 [.ref x, l1] st h = Ex mX9_well Q 1 [.ref x, l1] (.ref x :: st) h := Ex_nx rfl rfl
theorem rX9_well_1 (Q : Po) (h : Hp) (ls : List Value) (st : List Value) : Ex mX9_well Q 1 ls st h = Ex mX9_well Q 2 ls (.int 0 :: st) h := Ex_nx rfl rfl
theorem rX9_well_2 (Q : Po) (h : Hp) (ls : List Value) (st : List Value) (x : Int32) (a : Nat) : Ex mX9_well Q 2 ls (.int x :: .ref a :: st) h = (gK h a ∈ ([9] : List Nat) ∧ Ex mX9_well Q 5 ls st (pF h 76 a (.int x))) := Ex_gd rfl rfl
theorem rX9_well_5 (Q : Po) (h : Hp) (l0 : Value) (x : Int32) (st : List Value) : Ex mX9_well Q 5 [l0, .int x] st h = Ex mX9_well Q 6 [l0, .int x] (.int x :: st) h := Ex_nx rfl rfl
theorem rX9_well_6 (Q : Po) (h : Hp) (ls : List Value) (x : Int32) : Ex mX9_well Q 6 ls [.int x] h = Q (.inl (some (.int x))) h := Ex_rt rfl rfl
theorem rX9_well_t (Q : Po) (h : Hp) (pc n a : Nat) (ls st : List Value) : Cont mX9_well Q pc ls n st (.inr a) h = Q (.inr a) h := rfl
/-! FishReadersModel.row(III)I -/
def mX9_row : Cd := ([(0, .inl (i_iload 1 1)),
  (1, .inr (c_S 1 4 1 (Mt mX9_isRow 1))),
  (4, .inl (i_if (fun x => x = 0) 25 7)),
  (7, .inl (i_iload 2 8)),
  (8, .inl (i_i2l 9)),
  (9, .inl (i_push (.long 0) 10)),
  (10, .inl (i_push (.long 2) 13)),
  (13, .inr (c_S 3 16 6 (Mt mX9_in 6))),
  (16, .inl (i_if (fun x => x = 0) 25 19)),
  (19, .inl (i_iload 3 20)),
  (20, .inl (i_push (.int 40) 22)),
  (22, .inl (i_icmp (fun x y => x ≤ y) 28 25)),
  (25, .inl (i_push (.int (-1000001)) 27)),
  (27, .inl i_iret),
  (28, .inl (i_iload 3 29)),
  (29, .inl (i_if (fun x => 0 ≤ x) 38 32)),
  (32, .inl (i_aload 0 33)),
  (33, .inl (i_push (.int 4) 34)),
  (34, .inr (c_V 1 37 2 9 (Mt mX9_find 2))),
  (37, .inl i_iret),
  (38, .inl (i_aload 0 39)),
  (39, .inl (i_getf 71 [9] 42)),
  (42, .inl (i_iload 1 43)),
  (43, .inl (i_iload 2 44)),
  (44, .inl (i_iast 51 (fun x => x) 45)),
  (45, .inl (i_aload 0 46)),
  (46, .inl (i_getf 73 [9] 49)),
  (49, .inl (i_iload 1 50)),
  (50, .inl (i_iload 3 51)),
  (51, .inl (i_iast 51 (fun x => x) 52)),
  (52, .inl (i_push (.int 0) 53)),
  (53, .inl (i_istore 4 55)),
  (55, .inl (i_iload 4 57)),
  (57, .inl (i_push (.int 40) 59)),
  (59, .inl (i_icmp (fun x y => y ≤ x) 81 62)),
  (62, .inl (i_aload 0 63)),
  (63, .inl (i_getf 75 [9] 66)),
  (66, .inl (i_push (.int 40) 68)),
  (68, .inl (i_iload 1 69)),
  (69, .inl (i_bin (fun x y => x * y) 70)),
  (70, .inl (i_iload 4 72)),
  (72, .inl (i_bin (fun x y => x + y) 73)),
  (73, .inl (i_push (.int 0) 74)),
  (74, .inl (i_iast 51 (fun x => x) 75)),
  (75, .inl (i_iinc 4 1 78)),
  (78, .inl (i_goto 55)),
  (81, .inl (i_aload 0 82)),
  (82, .inl (i_iload 3 83)),
  (83, .inr (c_V 1 86 2 9 (Mt mX9_well 2))),
  (86, .inl i_iret)], noH)
theorem rX9_row_0 (Q : Po) (h : Hp) (l0 l2 l3 l4 : Value) (x : Int32) (st : List Value) : Ex mX9_row Q 0 [l0, .int x, l2, l3, l4] st h = Ex mX9_row Q 1 [l0, .int x, l2, l3, l4] (.int x :: st) h := Ex_nx rfl rfl
theorem rX9_row_1 (Q : Po) (h : Hp) (ls : List Value) (a0 : Int32) : Ex mX9_row Q 1 ls (.int a0 :: []) h = Ex mX9_isRow (Cont mX9_row Q 1 ls 4 []) 0 [.int a0] [] h := Ex_cl (n := 1) (as := [.int a0]) rfl rfl
theorem rX9_row_4 (Q : Po) (h : Hp) (ls : List Value) (st : List Value) (x : Int32) : Ex mX9_row Q 4 ls (.int x :: st) h = if x = 0 then Ex mX9_row Q 25 ls st h else Ex mX9_row Q 7 ls st h := Ex_br rfl rfl
theorem rX9_row_7 (Q : Po) (h : Hp) (l0 l1 l3 l4 : Value) (x : Int32) (st : List Value) : Ex mX9_row Q 7 [l0, l1, .int x, l3, l4] st h = Ex mX9_row Q 8 [l0, l1, .int x, l3, l4] (.int x :: st) h := Ex_nx rfl rfl
theorem rX9_row_8 (Q : Po) (h : Hp) (ls : List Value) (st : List Value) (x : Int32) : Ex mX9_row Q 8 ls (.int x :: st) h = Ex mX9_row Q 9 ls (.long x.toInt64 :: st) h := Ex_nx rfl rfl
theorem rX9_row_9 (Q : Po) (h : Hp) (ls : List Value) (st : List Value) : Ex mX9_row Q 9 ls st h = Ex mX9_row Q 10 ls (.long 0 :: st) h := Ex_nx rfl rfl
theorem rX9_row_10 (Q : Po) (h : Hp) (ls : List Value) (st : List Value) : Ex mX9_row Q 10 ls st h = Ex mX9_row Q 13 ls (.long 2 :: st) h := Ex_nx rfl rfl
theorem rX9_row_13 (Q : Po) (h : Hp) (ls : List Value) (a0 : Int64) (a1 : Int64) (a2 : Int64) : Ex mX9_row Q 13 ls (.long a2 :: .long a1 :: .long a0 :: []) h = Ex mX9_in (Cont mX9_row Q 13 ls 16 []) 0 [.long a0, .retAddr 1, .long a1, .retAddr 1, .long a2, .retAddr 1] [] h := Ex_cl (n := 6) (as := [.long a0, .long a1, .long a2]) rfl rfl
theorem rX9_row_16 (Q : Po) (h : Hp) (ls : List Value) (st : List Value) (x : Int32) : Ex mX9_row Q 16 ls (.int x :: st) h = if x = 0 then Ex mX9_row Q 25 ls st h else Ex mX9_row Q 19 ls st h := Ex_br rfl rfl
theorem rX9_row_19 (Q : Po) (h : Hp) (l0 l1 l2 l4 : Value) (x : Int32) (st : List Value) : Ex mX9_row Q 19 [l0, l1, l2, .int x, l4] st h = Ex mX9_row Q 20 [l0, l1, l2, .int x, l4] (.int x :: st) h := Ex_nx rfl rfl
theorem rX9_row_20 (Q : Po) (h : Hp) (ls : List Value) (st : List Value) : Ex mX9_row Q 20 ls st h = Ex mX9_row Q 22 ls (.int 40 :: st) h := Ex_nx rfl rfl
theorem rX9_row_22 (Q : Po) (h : Hp) (ls : List Value) (st : List Value) (x y : Int32) : Ex mX9_row Q 22 ls (.int y :: .int x :: st) h = if x ≤ y then Ex mX9_row Q 28 ls st h else Ex mX9_row Q 25 ls st h := Ex_br rfl rfl
theorem rX9_row_25 (Q : Po) (h : Hp) (ls : List Value) (st : List Value) : Ex mX9_row Q 25 ls st h = Ex mX9_row Q 27 ls (.int (-1000001) :: st) h := Ex_nx rfl rfl
theorem rX9_row_27 (Q : Po) (h : Hp) (ls : List Value) (x : Int32) : Ex mX9_row Q 27 ls [.int x] h = Q (.inl (some (.int x))) h := Ex_rt rfl rfl
theorem rX9_row_28 (Q : Po) (h : Hp) (l0 l1 l2 l4 : Value) (x : Int32) (st : List Value) : Ex mX9_row Q 28 [l0, l1, l2, .int x, l4] st h = Ex mX9_row Q 29 [l0, l1, l2, .int x, l4] (.int x :: st) h := Ex_nx rfl rfl
theorem rX9_row_29 (Q : Po) (h : Hp) (ls : List Value) (st : List Value) (x : Int32) : Ex mX9_row Q 29 ls (.int x :: st) h = if 0 ≤ x then Ex mX9_row Q 38 ls st h else Ex mX9_row Q 32 ls st h := Ex_br rfl rfl
theorem rX9_row_32 (Q : Po) (h : Hp) (l1 l2 l3 l4 : Value) (x : Nat) (st : List Value) : Ex mX9_row Q 32 [.ref x, l1, l2, l3, l4] st h = Ex mX9_row Q 33 [.ref x, l1, l2, l3, l4] (.ref x :: st) h := Ex_nx rfl rfl
theorem rX9_row_33 (Q : Po) (h : Hp) (ls : List Value) (st : List Value) : Ex mX9_row Q 33 ls st h = Ex mX9_row Q 34 ls (.int 4 :: st) h := Ex_nx rfl rfl
theorem rX9_row_34 (Q : Po) (h : Hp) (ls : List Value) (a0 : Int32) (b : Nat) : Ex mX9_row Q 34 ls (.int a0 :: .ref b :: []) h = (gK h b = 9 ∧ Ex mX9_find (Cont mX9_row Q 34 ls 37 []) 0 [.ref b, .int a0] [] h) := Ex_cg (n := 2) (as := [.ref b, .int a0]) rfl rfl
theorem rX9_row_37 (Q : Po) (h : Hp) (ls : List Value) (x : Int32) : Ex mX9_row Q 37 ls [.int x] h = Q (.inl (some (.int x))) h := Ex_rt rfl rfl
theorem rX9_row_38 (Q : Po) (h : Hp) (l1 l2 l3 l4 : Value) (x : Nat) (st : List Value) : Ex mX9_row Q 38 [.ref x, l1, l2, l3, l4] st h = Ex mX9_row Q 39 [.ref x, l1, l2, l3, l4] (.ref x :: st) h := Ex_nx rfl rfl
theorem rX9_row_39 (Q : Po) (h : Hp) (ls : List Value) (st : List Value) (a : Nat) : Ex mX9_row Q 39 ls (.ref a :: st) h = (gK h a ∈ ([9] : List Nat) ∧ Ex mX9_row Q 42 ls (gF h 71 a :: st) h) := Ex_gd rfl rfl
theorem rX9_row_42 (Q : Po) (h : Hp) (l0 l2 l3 l4 : Value) (x : Int32) (st : List Value) : Ex mX9_row Q 42 [l0, .int x, l2, l3, l4] st h = Ex mX9_row Q 43 [l0, .int x, l2, l3, l4] (.int x :: st) h := Ex_nx rfl rfl
theorem rX9_row_43 (Q : Po) (h : Hp) (l0 l1 l3 l4 : Value) (x : Int32) (st : List Value) : Ex mX9_row Q 43 [l0, l1, .int x, l3, l4] st h = Ex mX9_row Q 44 [l0, l1, .int x, l3, l4] (.int x :: st) h := Ex_nx rfl rfl
theorem rX9_row_44 (Q : Po) (h : Hp) (ls : List Value) (st : List Value) (a : Nat) (i x : Int32) : Ex mX9_row Q 44 ls (.int x :: .int i :: .ref a :: st) h = ((gK h a = 51 ∧ ¬ (i < 0 ∨ gL h a ≤ i.toNatClampNeg)) ∧ Ex mX9_row Q 45 ls st (pI h a i.toNatClampNeg (x))) := Ex_gd rfl rfl
theorem rX9_row_45 (Q : Po) (h : Hp) (l1 l2 l3 l4 : Value) (x : Nat) (st : List Value) : Ex mX9_row Q 45 [.ref x, l1, l2, l3, l4] st h = Ex mX9_row Q 46 [.ref x, l1, l2, l3, l4] (.ref x :: st) h := Ex_nx rfl rfl
theorem rX9_row_46 (Q : Po) (h : Hp) (ls : List Value) (st : List Value) (a : Nat) : Ex mX9_row Q 46 ls (.ref a :: st) h = (gK h a ∈ ([9] : List Nat) ∧ Ex mX9_row Q 49 ls (gF h 73 a :: st) h) := Ex_gd rfl rfl
theorem rX9_row_49 (Q : Po) (h : Hp) (l0 l2 l3 l4 : Value) (x : Int32) (st : List Value) : Ex mX9_row Q 49 [l0, .int x, l2, l3, l4] st h = Ex mX9_row Q 50 [l0, .int x, l2, l3, l4] (.int x :: st) h := Ex_nx rfl rfl
theorem rX9_row_50 (Q : Po) (h : Hp) (l0 l1 l2 l4 : Value) (x : Int32) (st : List Value) : Ex mX9_row Q 50 [l0, l1, l2, .int x, l4] st h = Ex mX9_row Q 51 [l0, l1, l2, .int x, l4] (.int x :: st) h := Ex_nx rfl rfl
theorem rX9_row_51 (Q : Po) (h : Hp) (ls : List Value) (st : List Value) (a : Nat) (i x : Int32) : Ex mX9_row Q 51 ls (.int x :: .int i :: .ref a :: st) h = ((gK h a = 51 ∧ ¬ (i < 0 ∨ gL h a ≤ i.toNatClampNeg)) ∧ Ex mX9_row Q 52 ls st (pI h a i.toNatClampNeg (x))) := Ex_gd rfl rfl
theorem rX9_row_52 (Q : Po) (h : Hp) (ls : List Value) (st : List Value) : Ex mX9_row Q 52 ls st h = Ex mX9_row Q 53 ls (.int 0 :: st) h := Ex_nx rfl rfl
theorem rX9_row_53 (Q : Po) (h : Hp) (l0 l1 l2 l3 l4 : Value) (x : Int32) (st : List Value) : Ex mX9_row Q 53 [l0, l1, l2, l3, l4] (.int x :: st) h = Ex mX9_row Q 55 [l0, l1, l2, l3, .int x] st h := Ex_nx rfl rfl
theorem rX9_row_55 (Q : Po) (h : Hp) (l0 l1 l2 l3 : Value) (x : Int32) (st : List Value) : Ex mX9_row Q 55 [l0, l1, l2, l3, .int x] st h = Ex mX9_row Q 57 [l0, l1, l2, l3, .int x] (.int x :: st) h := Ex_nx rfl rfl
theorem rX9_row_57 (Q : Po) (h : Hp) (ls : List Value) (st : List Value) : Ex mX9_row Q 57 ls st h = Ex mX9_row Q 59 ls (.int 40 :: st) h := Ex_nx rfl rfl
theorem rX9_row_59 (Q : Po) (h : Hp) (ls : List Value) (st : List Value) (x y : Int32) : Ex mX9_row Q 59 ls (.int y :: .int x :: st) h = if y ≤ x then Ex mX9_row Q 81 ls st h else Ex mX9_row Q 62 ls st h := Ex_br rfl rfl
theorem rX9_row_62 (Q : Po) (h : Hp) (l1 l2 l3 l4 : Value) (x : Nat) (st : List Value) : Ex mX9_row Q 62 [.ref x, l1, l2, l3, l4] st h = Ex mX9_row Q 63 [.ref x, l1, l2, l3, l4] (.ref x :: st) h := Ex_nx rfl rfl
theorem rX9_row_63 (Q : Po) (h : Hp) (ls : List Value) (st : List Value) (a : Nat) : Ex mX9_row Q 63 ls (.ref a :: st) h = (gK h a ∈ ([9] : List Nat) ∧ Ex mX9_row Q 66 ls (gF h 75 a :: st) h) := Ex_gd rfl rfl
theorem rX9_row_66 (Q : Po) (h : Hp) (ls : List Value) (st : List Value) : Ex mX9_row Q 66 ls st h = Ex mX9_row Q 68 ls (.int 40 :: st) h := Ex_nx rfl rfl
theorem rX9_row_68 (Q : Po) (h : Hp) (l0 l2 l3 l4 : Value) (x : Int32) (st : List Value) : Ex mX9_row Q 68 [l0, .int x, l2, l3, l4] st h = Ex mX9_row Q 69 [l0, .int x, l2, l3, l4] (.int x :: st) h := Ex_nx rfl rfl
theorem rX9_row_69 (Q : Po) (h : Hp) (ls : List Value) (st : List Value) (x y : Int32) : Ex mX9_row Q 69 ls (.int y :: .int x :: st) h = Ex mX9_row Q 70 ls (.int (x * y) :: st) h := Ex_nx rfl rfl
theorem rX9_row_70 (Q : Po) (h : Hp) (l0 l1 l2 l3 : Value) (x : Int32) (st : List Value) : Ex mX9_row Q 70 [l0, l1, l2, l3, .int x] st h = Ex mX9_row Q 72 [l0, l1, l2, l3, .int x] (.int x :: st) h := Ex_nx rfl rfl
theorem rX9_row_72 (Q : Po) (h : Hp) (ls : List Value) (st : List Value) (x y : Int32) : Ex mX9_row Q 72 ls (.int y :: .int x :: st) h = Ex mX9_row Q 73 ls (.int (x + y) :: st) h := Ex_nx rfl rfl
theorem rX9_row_73 (Q : Po) (h : Hp) (ls : List Value) (st : List Value) : Ex mX9_row Q 73 ls st h = Ex mX9_row Q 74 ls (.int 0 :: st) h := Ex_nx rfl rfl
theorem rX9_row_74 (Q : Po) (h : Hp) (ls : List Value) (st : List Value) (a : Nat) (i x : Int32) : Ex mX9_row Q 74 ls (.int x :: .int i :: .ref a :: st) h = ((gK h a = 51 ∧ ¬ (i < 0 ∨ gL h a ≤ i.toNatClampNeg)) ∧ Ex mX9_row Q 75 ls st (pI h a i.toNatClampNeg (x))) := Ex_gd rfl rfl
theorem rX9_row_75 (Q : Po) (h : Hp) (l0 l1 l2 l3 : Value) (x : Int32) (st : List Value) : Ex mX9_row Q 75 [l0, l1, l2, l3, .int x] st h = Ex mX9_row Q 78 [l0, l1, l2, l3, .int (x + 1)] st h := Ex_nx rfl rfl
theorem rX9_row_78 (Q : Po) (h : Hp) (ls : List Value) (st : List Value) : Ex mX9_row Q 78 ls st h = Ex mX9_row Q 55 ls st h := Ex_nx rfl rfl
theorem rX9_row_81 (Q : Po) (h : Hp) (l1 l2 l3 l4 : Value) (x : Nat) (st : List Value) : Ex mX9_row Q 81 [.ref x, l1, l2, l3, l4] st h = Ex mX9_row Q 82 [.ref x, l1, l2, l3, l4] (.ref x :: st) h := Ex_nx rfl rfl
theorem rX9_row_82 (Q : Po) (h : Hp) (l0 l1 l2 l4 : Value) (x : Int32) (st : List Value) : Ex mX9_row Q 82 [l0, l1, l2, .int x, l4] st h = Ex mX9_row Q 83 [l0, l1, l2, .int x, l4] (.int x :: st) h := Ex_nx rfl rfl
theorem rX9_row_83 (Q : Po) (h : Hp) (ls : List Value) (a0 : Int32) (b : Nat) : Ex mX9_row Q 83 ls (.int a0 :: .ref b :: []) h = (gK h b = 9 ∧ Ex mX9_well (Cont mX9_row Q 83 ls 86 []) 0 [.ref b, .int a0] [] h) := Ex_cg (n := 2) (as := [.ref b, .int a0]) rfl rfl
theorem rX9_row_86 (Q : Po) (h : Hp) (ls : List Value) (x : Int32) : Ex mX9_row Q 86 ls [.int x] h = Q (.inl (some (.int x))) h := Ex_rt rfl rfl
theorem rX9_row_t (Q : Po) (h : Hp) (pc n a : Nat) (ls st : List Value) : Cont mX9_row Q pc ls n st (.inr a) h = Q (.inr a) h := rfl
/-! FishReadersModel.asLane(II)I -/
def mX9_asLane : Cd := ([(0, .inl (i_iload 0 1)),
  (1, .inl (i_if (fun x => ¬ x = 0) 14 4)),
  (4, .inl (i_iload 1 5)),
  (5, .inl (i_push (.int 24) 7)),
  (7, .inl (i_bin (fun x y => x <<< (y &&& 31)) 8)),
  (8, .inl (i_push (.int 24) 10)),
  (10, .inl (i_bin (fun x y => x >>> (y &&& 31)) 11)),
  (11, .inl (i_goto 30)),
  (14, .inl (i_iload 0 15)),
  (15, .inl (i_push (.int 1) 16)),
  (16, .inl (i_icmp (fun x y => ¬ x = y) 29 19)),
  (19, .inl (i_iload 1 20)),
  (20, .inl (i_push (.int 16) 22)),
  (22, .inl (i_bin (fun x y => x <<< (y &&& 31)) 23)),
  (23, .inl (i_push (.int 16) 25)),
  (25, .inl (i_bin (fun x y => x >>> (y &&& 31)) 26)),
  (26, .inl (i_goto 30)),
  (29, .inl (i_iload 1 30)),
  (30, .inl i_iret)], noH)
theorem rX9_asLane_0 (Q : Po) (h : Hp) (l1 : Value) (x : Int32) (st : List Value) : Ex mX9_asLane Q 0 [.int x, l1] st h = Ex mX9_asLane Q 1 [.int x, l1] (.int x :: st) h := Ex_nx rfl rfl
theorem rX9_asLane_1 (Q : Po) (h : Hp) (ls : List Value) (st : List Value) (x : Int32) : Ex mX9_asLane Q 1 ls (.int x :: st) h = if ¬ x = 0 then Ex mX9_asLane Q 14 ls st h else Ex mX9_asLane Q 4 ls st h := Ex_br rfl rfl
theorem rX9_asLane_4 (Q : Po) (h : Hp) (l0 : Value) (x : Int32) (st : List Value) : Ex mX9_asLane Q 4 [l0, .int x] st h = Ex mX9_asLane Q 5 [l0, .int x] (.int x :: st) h := Ex_nx rfl rfl
theorem rX9_asLane_5 (Q : Po) (h : Hp) (ls : List Value) (st : List Value) : Ex mX9_asLane Q 5 ls st h = Ex mX9_asLane Q 7 ls (.int 24 :: st) h := Ex_nx rfl rfl
theorem rX9_asLane_7 (Q : Po) (h : Hp) (ls : List Value) (st : List Value) (x y : Int32) : Ex mX9_asLane Q 7 ls (.int y :: .int x :: st) h = Ex mX9_asLane Q 8 ls (.int (x <<< (y &&& 31)) :: st) h := Ex_nx rfl rfl
theorem rX9_asLane_8 (Q : Po) (h : Hp) (ls : List Value) (st : List Value) : Ex mX9_asLane Q 8 ls st h = Ex mX9_asLane Q 10 ls (.int 24 :: st) h := Ex_nx rfl rfl
theorem rX9_asLane_10 (Q : Po) (h : Hp) (ls : List Value) (st : List Value) (x y : Int32) : Ex mX9_asLane Q 10 ls (.int y :: .int x :: st) h = Ex mX9_asLane Q 11 ls (.int (x >>> (y &&& 31)) :: st) h := Ex_nx rfl rfl
theorem rX9_asLane_11 (Q : Po) (h : Hp) (ls : List Value) (st : List Value) : Ex mX9_asLane Q 11 ls st h = Ex mX9_asLane Q 30 ls st h := Ex_nx rfl rfl
theorem rX9_asLane_14 (Q : Po) (h : Hp) (l1 : Value) (x : Int32) (st : List Value) : Ex mX9_asLane Q 14 [.int x, l1] st h = Ex mX9_asLane Q 15 [.int x, l1] (.int x :: st) h := Ex_nx rfl rfl
theorem rX9_asLane_15 (Q : Po) (h : Hp) (ls : List Value) (st : List Value) : Ex mX9_asLane Q 15 ls st h = Ex mX9_asLane Q 16 ls (.int 1 :: st) h := Ex_nx rfl rfl
theorem rX9_asLane_16 (Q : Po) (h : Hp) (ls : List Value) (st : List Value) (x y : Int32) : Ex mX9_asLane Q 16 ls (.int y :: .int x :: st) h = if ¬ x = y then Ex mX9_asLane Q 29 ls st h else Ex mX9_asLane Q 19 ls st h := Ex_br rfl rfl
theorem rX9_asLane_19 (Q : Po) (h : Hp) (l0 : Value) (x : Int32) (st : List Value) : Ex mX9_asLane Q 19 [l0, .int x] st h = Ex mX9_asLane Q 20 [l0, .int x] (.int x :: st) h := Ex_nx rfl rfl
theorem rX9_asLane_20 (Q : Po) (h : Hp) (ls : List Value) (st : List Value) : Ex mX9_asLane Q 20 ls st h = Ex mX9_asLane Q 22 ls (.int 16 :: st) h := Ex_nx rfl rfl
theorem rX9_asLane_22 (Q : Po) (h : Hp) (ls : List Value) (st : List Value) (x y : Int32) : Ex mX9_asLane Q 22 ls (.int y :: .int x :: st) h = Ex mX9_asLane Q 23 ls (.int (x <<< (y &&& 31)) :: st) h := Ex_nx rfl rfl
theorem rX9_asLane_23 (Q : Po) (h : Hp) (ls : List Value) (st : List Value) : Ex mX9_asLane Q 23 ls st h = Ex mX9_asLane Q 25 ls (.int 16 :: st) h := Ex_nx rfl rfl
theorem rX9_asLane_25 (Q : Po) (h : Hp) (ls : List Value) (st : List Value) (x y : Int32) : Ex mX9_asLane Q 25 ls (.int y :: .int x :: st) h = Ex mX9_asLane Q 26 ls (.int (x >>> (y &&& 31)) :: st) h := Ex_nx rfl rfl
theorem rX9_asLane_26 (Q : Po) (h : Hp) (ls : List Value) (st : List Value) : Ex mX9_asLane Q 26 ls st h = Ex mX9_asLane Q 30 ls st h := Ex_nx rfl rfl
theorem rX9_asLane_29 (Q : Po) (h : Hp) (l0 : Value) (x : Int32) (st : List Value) : Ex mX9_asLane Q 29 [l0, .int x] st h = Ex mX9_asLane Q 30 [l0, .int x] (.int x :: st) h := Ex_nx rfl rfl
theorem rX9_asLane_30 (Q : Po) (h : Hp) (ls : List Value) (x : Int32) : Ex mX9_asLane Q 30 ls [.int x] h = Q (.inl (some (.int x))) h := Ex_rt rfl rfl
theorem rX9_asLane_t (Q : Po) (h : Hp) (pc n a : Nat) (ls st : List Value) : Cont mX9_asLane Q pc ls n st (.inr a) h = Q (.inr a) h := rfl
/-! FishReadersModel.set(III)I -/
def mX9_set : Cd := ([(0, .inl (i_iload 1 1)),
  (1, .inr (c_S 1 4 1 (Mt mX9_isRow 1))),
  (4, .inl (i_if (fun x => ¬ x = 0) 10 7)),
  (7, .inl (i_push (.int (-1000001)) 9)),
  (9, .inl i_iret),
  (10, .inl (i_aload 0 11)),
  (11, .inl (i_getf 73 [9] 14)),
  (14, .inl (i_iload 1 15)),
  (15, .inl (i_iald 51 16)),
  (16, .inl (i_if (fun x => 0 ≤ x) 25 19)),
  (19, .inl (i_aload 0 20)),
  (20, .inl (i_push (.int 1) 21)),
  (21, .inr (c_V 1 24 2 9 (Mt mX9_find 2))),
  (24, .inl i_iret),
  (25, .inl (i_iload 2 26)),
  (26, .inl (i_i2l 27)),
  (27, .inl (i_push (.long 0) 28)),
  (28, .inl (i_aload 0 29)),
  (29, .inl (i_getf 73 [9] 32)),
  (32, .inl (i_iload 1 33)),
  (33, .inl (i_iald 51 34)),
  (34, .inl (i_push (.int 1) 35)),
  (35, .inl (i_bin (fun x y => x - y) 36)),
  (36, .inl (i_i2l 37)),
  (37, .inr (c_S 3 40 6 (Mt mX9_in 6))),
  (40, .inl (i_if (fun x => ¬ x = 0) 49 43)),
  (43, .inl (i_aload 0 44)),
  (44, .inl (i_push (.int 2) 45)),
  (45, .inr (c_V 1 48 2 9 (Mt mX9_find 2))),
  (48, .inl i_iret),
  (49, .inl (i_aload 0 50)),
  (50, .inl (i_getf 75 [9] 53)),
  (53, .inl (i_push (.int 40) 55)),
  (55, .inl (i_iload 1 56)),
  (56, .inl (i_bin (fun x y => x * y) 57)),
  (57, .inl (i_iload 2 58)),
  (58, .inl (i_bin (fun x y => x + y) 59)),
  (59, .inl (i_aload 0 60)),
  (60, .inl (i_getf 71 [9] 63)),
  (63, .inl (i_iload 1 64)),
  (64, .inl (i_iald 51 65)),
  (65, .inl (i_iload 3 66)),
  (66, .inr (c_S 2 69 2 (Mt mX9_asLane 2))),
  (69, .inl (i_iast 51 (fun x => x) 70)),
  (70, .inl (i_aload 0 71)),
  (71, .inl (i_aload 0 72)),
  (72, .inl (i_getf 75 [9] 75)),
  (75, .inl (i_push (.int 40) 77)),
  (77, .inl (i_iload 1 78)),
  (78, .inl (i_bin (fun x y => x * y) 79)),
  (79, .inl (i_iload 2 80)),
  (80, .inl (i_bin (fun x y => x + y) 81)),
  (81, .inl (i_iald 51 82)),
  (82, .inr (c_V 1 85 2 9 (Mt mX9_well 2))),
  (85, .inl i_iret)], noH)
theorem rX9_set_0 (Q : Po) (h : Hp) (l0 l2 l3 : Value) (x : Int32) (st : List Value) : Ex mX9_set Q 0 [l0, .int x, l2, l3] st h = Ex mX9_set Q 1 [l0, .int x, l2, l3] (.int x :: st) h := Ex_nx rfl rfl
theorem rX9_set_1 (Q : Po) (h : Hp) (ls : List Value) (a0 : Int32) : Ex mX9_set Q 1 ls (.int a0 :: []) h = Ex mX9_isRow (Cont mX9_set Q 1 ls 4 []) 0 [.int a0] [] h := Ex_cl (n := 1) (as := [.int a0]) rfl rfl
theorem rX9_set_4 (Q : Po) (h : Hp) (ls : List Value) (st : List Value) (x : Int32) : Ex mX9_set Q 4 ls (.int x :: st) h = if ¬ x = 0 then Ex mX9_set Q 10 ls st h else Ex mX9_set Q 7 ls st h := Ex_br rfl rfl
theorem rX9_set_7 (Q : Po) (h : Hp) (ls : List Value) (st : List Value) : Ex mX9_set Q 7 ls st h = Ex mX9_set Q 9 ls (.int (-1000001) :: st) h := Ex_nx rfl rfl
theorem rX9_set_9 (Q : Po) (h : Hp) (ls : List Value) (x : Int32) : Ex mX9_set Q 9 ls [.int x] h = Q (.inl (some (.int x))) h := Ex_rt rfl rfl
theorem rX9_set_10 (Q : Po) (h : Hp) (l1 l2 l3 : Value) (x : Nat) (st : List Value) : Ex mX9_set Q 10 [.ref x, l1, l2, l3] st h = Ex mX9_set Q 11 [.ref x, l1, l2, l3] (.ref x :: st) h := Ex_nx rfl rfl
theorem rX9_set_11 (Q : Po) (h : Hp) (ls : List Value) (st : List Value) (a : Nat) : Ex mX9_set Q 11 ls (.ref a :: st) h = (gK h a ∈ ([9] : List Nat) ∧ Ex mX9_set Q 14 ls (gF h 73 a :: st) h) := Ex_gd rfl rfl
theorem rX9_set_14 (Q : Po) (h : Hp) (l0 l2 l3 : Value) (x : Int32) (st : List Value) : Ex mX9_set Q 14 [l0, .int x, l2, l3] st h = Ex mX9_set Q 15 [l0, .int x, l2, l3] (.int x :: st) h := Ex_nx rfl rfl
theorem rX9_set_15 (Q : Po) (h : Hp) (ls : List Value) (st : List Value) (a : Nat) (i : Int32) : Ex mX9_set Q 15 ls (.int i :: .ref a :: st) h = ((gK h a = 51 ∧ ¬ (i < 0 ∨ gL h a ≤ i.toNatClampNeg)) ∧ Ex mX9_set Q 16 ls (.int (gI h a i.toNatClampNeg) :: st) h) := Ex_gd rfl rfl
theorem rX9_set_16 (Q : Po) (h : Hp) (ls : List Value) (st : List Value) (x : Int32) : Ex mX9_set Q 16 ls (.int x :: st) h = if 0 ≤ x then Ex mX9_set Q 25 ls st h else Ex mX9_set Q 19 ls st h := Ex_br rfl rfl
theorem rX9_set_19 (Q : Po) (h : Hp) (l1 l2 l3 : Value) (x : Nat) (st : List Value) : Ex mX9_set Q 19 [.ref x, l1, l2, l3] st h = Ex mX9_set Q 20 [.ref x, l1, l2, l3] (.ref x :: st) h := Ex_nx rfl rfl
theorem rX9_set_20 (Q : Po) (h : Hp) (ls : List Value) (st : List Value) : Ex mX9_set Q 20 ls st h = Ex mX9_set Q 21 ls (.int 1 :: st) h := Ex_nx rfl rfl
theorem rX9_set_21 (Q : Po) (h : Hp) (ls : List Value) (a0 : Int32) (b : Nat) : Ex mX9_set Q 21 ls (.int a0 :: .ref b :: []) h = (gK h b = 9 ∧ Ex mX9_find (Cont mX9_set Q 21 ls 24 []) 0 [.ref b, .int a0] [] h) := Ex_cg (n := 2) (as := [.ref b, .int a0]) rfl rfl
theorem rX9_set_24 (Q : Po) (h : Hp) (ls : List Value) (x : Int32) : Ex mX9_set Q 24 ls [.int x] h = Q (.inl (some (.int x))) h := Ex_rt rfl rfl
theorem rX9_set_25 (Q : Po) (h : Hp) (l0 l1 l3 : Value) (x : Int32) (st : List Value) : Ex mX9_set Q 25 [l0, l1, .int x, l3] st h = Ex mX9_set Q 26 [l0, l1, .int x, l3] (.int x :: st) h := Ex_nx rfl rfl
theorem rX9_set_26 (Q : Po) (h : Hp) (ls : List Value) (st : List Value) (x : Int32) : Ex mX9_set Q 26 ls (.int x :: st) h = Ex mX9_set Q 27 ls (.long x.toInt64 :: st) h := Ex_nx rfl rfl
theorem rX9_set_27 (Q : Po) (h : Hp) (ls : List Value) (st : List Value) : Ex mX9_set Q 27 ls st h = Ex mX9_set Q 28 ls (.long 0 :: st) h := Ex_nx rfl rfl
theorem rX9_set_28 (Q : Po) (h : Hp) (l1 l2 l3 : Value) (x : Nat) (st : List Value) : Ex mX9_set Q 28 [.ref x, l1, l2, l3] st h = Ex mX9_set Q 29 [.ref x, l1, l2, l3] (.ref x :: st) h := Ex_nx rfl rfl
theorem rX9_set_29 (Q : Po) (h : Hp) (ls : List Value) (st : List Value) (a : Nat) : Ex mX9_set Q 29 ls (.ref a :: st) h = (gK h a ∈ ([9] : List Nat) ∧ Ex mX9_set Q 32 ls (gF h 73 a :: st) h) := Ex_gd rfl rfl
theorem rX9_set_32 (Q : Po) (h : Hp) (l0 l2 l3 : Value) (x : Int32) (st : List Value) : Ex mX9_set Q 32 [l0, .int x, l2, l3] st h = Ex mX9_set Q 33 [l0, .int x, l2, l3] (.int x :: st) h := Ex_nx rfl rfl
theorem rX9_set_33 (Q : Po) (h : Hp) (ls : List Value) (st : List Value) (a : Nat) (i : Int32) : Ex mX9_set Q 33 ls (.int i :: .ref a :: st) h = ((gK h a = 51 ∧ ¬ (i < 0 ∨ gL h a ≤ i.toNatClampNeg)) ∧ Ex mX9_set Q 34 ls (.int (gI h a i.toNatClampNeg) :: st) h) := Ex_gd rfl rfl
theorem rX9_set_34 (Q : Po) (h : Hp) (ls : List Value) (st : List Value) : Ex mX9_set Q 34 ls st h = Ex mX9_set Q 35 ls (.int 1 :: st) h := Ex_nx rfl rfl
theorem rX9_set_35 (Q : Po) (h : Hp) (ls : List Value) (st : List Value) (x y : Int32) : Ex mX9_set Q 35 ls (.int y :: .int x :: st) h = Ex mX9_set Q 36 ls (.int (x - y) :: st) h := Ex_nx rfl rfl
theorem rX9_set_36 (Q : Po) (h : Hp) (ls : List Value) (st : List Value) (x : Int32) : Ex mX9_set Q 36 ls (.int x :: st) h = Ex mX9_set Q 37 ls (.long x.toInt64 :: st) h := Ex_nx rfl rfl
theorem rX9_set_37 (Q : Po) (h : Hp) (ls : List Value) (a0 : Int64) (a1 : Int64) (a2 : Int64) : Ex mX9_set Q 37 ls (.long a2 :: .long a1 :: .long a0 :: []) h = Ex mX9_in (Cont mX9_set Q 37 ls 40 []) 0 [.long a0, .retAddr 1, .long a1, .retAddr 1, .long a2, .retAddr 1] [] h := Ex_cl (n := 6) (as := [.long a0, .long a1, .long a2]) rfl rfl
theorem rX9_set_40 (Q : Po) (h : Hp) (ls : List Value) (st : List Value) (x : Int32) : Ex mX9_set Q 40 ls (.int x :: st) h = if ¬ x = 0 then Ex mX9_set Q 49 ls st h else Ex mX9_set Q 43 ls st h := Ex_br rfl rfl
theorem rX9_set_43 (Q : Po) (h : Hp) (l1 l2 l3 : Value) (x : Nat) (st : List Value) : Ex mX9_set Q 43 [.ref x, l1, l2, l3] st h = Ex mX9_set Q 44 [.ref x, l1, l2, l3] (.ref x :: st) h := Ex_nx rfl rfl
theorem rX9_set_44 (Q : Po) (h : Hp) (ls : List Value) (st : List Value) : Ex mX9_set Q 44 ls st h = Ex mX9_set Q 45 ls (.int 2 :: st) h := Ex_nx rfl rfl
theorem rX9_set_45 (Q : Po) (h : Hp) (ls : List Value) (a0 : Int32) (b : Nat) : Ex mX9_set Q 45 ls (.int a0 :: .ref b :: []) h = (gK h b = 9 ∧ Ex mX9_find (Cont mX9_set Q 45 ls 48 []) 0 [.ref b, .int a0] [] h) := Ex_cg (n := 2) (as := [.ref b, .int a0]) rfl rfl
theorem rX9_set_48 (Q : Po) (h : Hp) (ls : List Value) (x : Int32) : Ex mX9_set Q 48 ls [.int x] h = Q (.inl (some (.int x))) h := Ex_rt rfl rfl
theorem rX9_set_49 (Q : Po) (h : Hp) (l1 l2 l3 : Value) (x : Nat) (st : List Value) : Ex mX9_set Q 49 [.ref x, l1, l2, l3] st h = Ex mX9_set Q 50 [.ref x, l1, l2, l3] (.ref x :: st) h := Ex_nx rfl rfl
theorem rX9_set_50 (Q : Po) (h : Hp) (ls : List Value) (st : List Value) (a : Nat) : Ex mX9_set Q 50 ls (.ref a :: st) h = (gK h a ∈ ([9] : List Nat) ∧ Ex mX9_set Q 53 ls (gF h 75 a :: st) h) := Ex_gd rfl rfl
theorem rX9_set_53 (Q : Po) (h : Hp) (ls : List Value) (st : List Value) : Ex mX9_set Q 53 ls st h = Ex mX9_set Q 55 ls (.int 40 :: st) h := Ex_nx rfl rfl
theorem rX9_set_55 (Q : Po) (h : Hp) (l0 l2 l3 : Value) (x : Int32) (st : List Value) : Ex mX9_set Q 55 [l0, .int x, l2, l3] st h = Ex mX9_set Q 56 [l0, .int x, l2, l3] (.int x :: st) h := Ex_nx rfl rfl
theorem rX9_set_56 (Q : Po) (h : Hp) (ls : List Value) (st : List Value) (x y : Int32) : Ex mX9_set Q 56 ls (.int y :: .int x :: st) h = Ex mX9_set Q 57 ls (.int (x * y) :: st) h := Ex_nx rfl rfl
theorem rX9_set_57 (Q : Po) (h : Hp) (l0 l1 l3 : Value) (x : Int32) (st : List Value) : Ex mX9_set Q 57 [l0, l1, .int x, l3] st h = Ex mX9_set Q 58 [l0, l1, .int x, l3] (.int x :: st) h := Ex_nx rfl rfl
theorem rX9_set_58 (Q : Po) (h : Hp) (ls : List Value) (st : List Value) (x y : Int32) : Ex mX9_set Q 58 ls (.int y :: .int x :: st) h = Ex mX9_set Q 59 ls (.int (x + y) :: st) h := Ex_nx rfl rfl
theorem rX9_set_59 (Q : Po) (h : Hp) (l1 l2 l3 : Value) (x : Nat) (st : List Value) : Ex mX9_set Q 59 [.ref x, l1, l2, l3] st h = Ex mX9_set Q 60 [.ref x, l1, l2, l3] (.ref x :: st) h := Ex_nx rfl rfl
theorem rX9_set_60 (Q : Po) (h : Hp) (ls : List Value) (st : List Value) (a : Nat) : Ex mX9_set Q 60 ls (.ref a :: st) h = (gK h a ∈ ([9] : List Nat) ∧ Ex mX9_set Q 63 ls (gF h 71 a :: st) h) := Ex_gd rfl rfl
theorem rX9_set_63 (Q : Po) (h : Hp) (l0 l2 l3 : Value) (x : Int32) (st : List Value) : Ex mX9_set Q 63 [l0, .int x, l2, l3] st h = Ex mX9_set Q 64 [l0, .int x, l2, l3] (.int x :: st) h := Ex_nx rfl rfl
theorem rX9_set_64 (Q : Po) (h : Hp) (ls : List Value) (st : List Value) (a : Nat) (i : Int32) : Ex mX9_set Q 64 ls (.int i :: .ref a :: st) h = ((gK h a = 51 ∧ ¬ (i < 0 ∨ gL h a ≤ i.toNatClampNeg)) ∧ Ex mX9_set Q 65 ls (.int (gI h a i.toNatClampNeg) :: st) h) := Ex_gd rfl rfl
theorem rX9_set_65 (Q : Po) (h : Hp) (l0 l1 l2 : Value) (x : Int32) (st : List Value) : Ex mX9_set Q 65 [l0, l1, l2, .int x] st h = Ex mX9_set Q 66 [l0, l1, l2, .int x] (.int x :: st) h := Ex_nx rfl rfl
theorem rX9_set_66 (Q : Po) (h : Hp) (ls : List Value) (a0 : Int32) (a1 : Int32) (s0 s1 : Value) : Ex mX9_set Q 66 ls (.int a1 :: .int a0 :: [s0, s1]) h = Ex mX9_asLane (Cont mX9_set Q 66 ls 69 [s0, s1]) 0 [.int a0, .int a1] [] h := Ex_cl (n := 2) (as := [.int a0, .int a1]) rfl rfl
theorem rX9_set_69 (Q : Po) (h : Hp) (ls : List Value) (st : List Value) (a : Nat) (i x : Int32) : Ex mX9_set Q 69 ls (.int x :: .int i :: .ref a :: st) h = ((gK h a = 51 ∧ ¬ (i < 0 ∨ gL h a ≤ i.toNatClampNeg)) ∧ Ex mX9_set Q 70 ls st (pI h a i.toNatClampNeg (x))) := Ex_gd rfl rfl
theorem rX9_set_70 (Q : Po) (h : Hp) (l1 l2 l3 : Value) (x : Nat) (st : List Value) : Ex mX9_set Q 70 [.ref x, l1, l2, l3] st h = Ex mX9_set Q 71 [.ref x, l1, l2, l3] (.ref x :: st) h := Ex_nx rfl rfl
theorem rX9_set_71 (Q : Po) (h : Hp) (l1 l2 l3 : Value) (x : Nat) (st : List Value) : Ex mX9_set Q 71 [.ref x, l1, l2, l3] st h = Ex mX9_set Q 72 [.ref x, l1, l2, l3] (.ref x :: st) h := Ex_nx rfl rfl
theorem rX9_set_72 (Q : Po) (h : Hp) (ls : List Value) (st : List Value) (a : Nat) : Ex mX9_set Q 72 ls (.ref a :: st) h = (gK h a ∈ ([9] : List Nat) ∧ Ex mX9_set Q 75 ls (gF h 75 a :: st) h) := Ex_gd rfl rfl
theorem rX9_set_75 (Q : Po) (h : Hp) (ls : List Value) (st : List Value) : Ex mX9_set Q 75 ls st h = Ex mX9_set Q 77 ls (.int 40 :: st) h := Ex_nx rfl rfl
theorem rX9_set_77 (Q : Po) (h : Hp) (l0 l2 l3 : Value) (x : Int32) (st : List Value) : Ex mX9_set Q 77 [l0, .int x, l2, l3] st h = Ex mX9_set Q 78 [l0, .int x, l2, l3] (.int x :: st) h := Ex_nx rfl rfl
theorem rX9_set_78 (Q : Po) (h : Hp) (ls : List Value) (st : List Value) (x y : Int32) : Ex mX9_set Q 78 ls (.int y :: .int x :: st) h = Ex mX9_set Q 79 ls (.int (x * y) :: st) h := Ex_nx rfl rfl
theorem rX9_set_79 (Q : Po) (h : Hp) (l0 l1 l3 : Value) (x : Int32) (st : List Value) : Ex mX9_set Q 79 [l0, l1, .int x, l3] st h = Ex mX9_set Q 80 [l0, l1, .int x, l3] (.int x :: st) h := Ex_nx rfl rfl
theorem rX9_set_80 (Q : Po) (h : Hp) (ls : List Value) (st : List Value) (x y : Int32) : Ex mX9_set Q 80 ls (.int y :: .int x :: st) h = Ex mX9_set Q 81 ls (.int (x + y) :: st) h := Ex_nx rfl rfl
theorem rX9_set_81 (Q : Po) (h : Hp) (ls : List Value) (st : List Value) (a : Nat) (i : Int32) : Ex mX9_set Q 81 ls (.int i :: .ref a :: st) h = ((gK h a = 51 ∧ ¬ (i < 0 ∨ gL h a ≤ i.toNatClampNeg)) ∧ Ex mX9_set Q 82 ls (.int (gI h a i.toNatClampNeg) :: st) h) := Ex_gd rfl rfl
theorem rX9_set_82 (Q : Po) (h : Hp) (ls : List Value) (a0 : Int32) (b : Nat) : Ex mX9_set Q 82 ls (.int a0 :: .ref b :: []) h = (gK h b = 9 ∧ Ex mX9_well (Cont mX9_set Q 82 ls 85 []) 0 [.ref b, .int a0] [] h) := Ex_cg (n := 2) (as := [.ref b, .int a0]) rfl rfl
theorem rX9_set_85 (Q : Po) (h : Hp) (ls : List Value) (x : Int32) : Ex mX9_set Q 85 ls [.int x] h = Q (.inl (some (.int x))) h := Ex_rt rfl rfl
theorem rX9_set_t (Q : Po) (h : Hp) (pc n a : Nat) (ls st : List Value) : Cont mX9_set Q pc ls n st (.inr a) h = Q (.inr a) h := rfl
/-! FishReadersModel.copy(IIIII)I -/
def mX9_copy : Cd := ([(0, .inl (i_iload 1 1)),
  (1, .inr (c_S 1 4 1 (Mt mX9_isRow 1))),
  (4, .inl (i_if (fun x => x = 0) 14 7)),
  (7, .inl (i_iload 3 8)),
  (8, .inr (c_S 1 11 1 (Mt mX9_isRow 1))),
  (11, .inl (i_if (fun x => ¬ x = 0) 17 14)),
  (14, .inl (i_push (.int (-1000001)) 16)),
  (16, .inl i_iret),
  (17, .inl (i_aload 0 18)),
  (18, .inl (i_getf 73 [9] 21)),
  (21, .inl (i_iload 1 22)),
  (22, .inl (i_iald 51 23)),
  (23, .inl (i_if (fun x => x < 0) 35 26)),
  (26, .inl (i_aload 0 27)),
  (27, .inl (i_getf 73 [9] 30)),
  (30, .inl (i_iload 3 31)),
  (31, .inl (i_iald 51 32)),
  (32, .inl (i_if (fun x => 0 ≤ x) 41 35)),
  (35, .inl (i_aload 0 36)),
  (36, .inl (i_push (.int 1) 37)),
  (37, .inr (c_V 1 40 2 9 (Mt mX9_find 2))),
  (40, .inl i_iret),
  (41, .inl (i_aload 0 42)),
  (42, .inl (i_getf 71 [9] 45)),
  (45, .inl (i_iload 1 46)),
  (46, .inl (i_iald 51 47)),
  (47, .inl (i_aload 0 48)),
  (48, .inl (i_getf 71 [9] 51)),
  (51, .inl (i_iload 3 52)),
  (52, .inl (i_iald 51 53)),
  (53, .inl (i_icmp (fun x y => x = y) 62 56)),
  (56, .inl (i_aload 0 57)),
  (57, .inl (i_push (.int 5) 58)),
  (58, .inr (c_V 1 61 2 9 (Mt mX9_find 2))),
  (61, .inl i_iret),
  (62, .inl (i_iload 5 64)),
  (64, .inl (i_if (fun x => x < 0) 108 67)),
  (67, .inl (i_iload 2 68)),
  (68, .inl (i_i2l 69)),
  (69, .inl (i_push (.long 0) 70)),
  (70, .inl (i_aload 0 71)),
  (71, .inl (i_getf 73 [9] 74)),
  (74, .inl (i_iload 1 75)),
  (75, .inl (i_iald 51 76)),
  (76, .inl (i_i2l 77)),
  (77, .inl (i_iload 5 79)),
  (79, .inl (i_i2l 80)),
  (80, .inl (i_lbin (fun x y => x - y) 81)),
  (81, .inr (c_S 3 84 6 (Mt mX9_in 6))),
  (84, .inl (i_if (fun x => x = 0) 108 87)),
  (87, .inl (i_iload 4 89)),
  (89, .inl (i_i2l 90)),
  (90, .inl (i_push (.long 0) 91)),
  (91, .inl (i_aload 0 92)),
  (92, .inl (i_getf 73 [9] 95)),
  (95, .inl (i_iload 3 96)),
  (96, .inl (i_iald 51 97)),
  (97, .inl (i_i2l 98)),
  (98, .inl (i_iload 5 100)),
  (100, .inl (i_i2l 101)),
  (101, .inl (i_lbin (fun x y => x - y) 102)),
  (102, .inr (c_S 3 105 6 (Mt mX9_in 6))),
  (105, .inl (i_if (fun x => ¬ x = 0) 114 108)),
  (108, .inl (i_aload 0 109)),
  (109, .inl (i_push (.int 2) 110)),
  (110, .inr (c_V 1 113 2 9 (Mt mX9_find 2))),
  (113, .inl i_iret),
  (114, .inl (i_push (.int 0) 115)),
  (115, .inl (i_istore 6 117)),
  (117, .inl (i_iload 6 119)),
  (119, .inl (i_iload 5 121)),
  (121, .inl (i_icmp (fun x y => y ≤ x) 151 124)),
  (124, .inl (i_aload 0 125)),
  (125, .inl (i_getf 83 [9] 128)),
  (128, .inl (i_iload 6 130)),
  (130, .inl (i_aload 0 131)),
  (131, .inl (i_getf 75 [9] 134)),
  (134, .inl (i_push (.int 40) 136)),
  (136, .inl (i_iload 1 137)),
  (137, .inl (i_bin (fun x y => x * y) 138)),
  (138, .inl (i_iload 2 139)),
  (139, .inl (i_bin (fun x y => x + y) 140)),
  (140, .inl (i_iload 6 142)),
  (142, .inl (i_bin (fun x y => x + y) 143)),
  (143, .inl (i_iald 51 144)),
  (144, .inl (i_iast 51 (fun x => x) 145)),
  (145, .inl (i_iinc 6 1 148)),
  (148, .inl (i_goto 117)),
  (151, .inl (i_push (.int 0) 152)),
  (152, .inl (i_istore 6 154)),
  (154, .inl (i_iload 6 156)),
  (156, .inl (i_iload 5 158)),
  (158, .inl (i_icmp (fun x y => y ≤ x) 189 161)),
  (161, .inl (i_aload 0 162)),
  (162, .inl (i_getf 75 [9] 165)),
  (165, .inl (i_push (.int 40) 167)),
  (167, .inl (i_iload 3 168)),
  (168, .inl (i_bin (fun x y => x * y) 169)),
  (169, .inl (i_iload 4 171)),
  (171, .inl (i_bin (fun x y => x + y) 172)),
  (172, .inl (i_iload 6 174)),
  (174, .inl (i_bin (fun x y => x + y) 175)),
  (175, .inl (i_aload 0 176)),
  (176, .inl (i_getf 83 [9] 179)),
  (179, .inl (i_iload 6 181)),
  (181, .inl (i_iald 51 182)),
  (182, .inl (i_iast 51 (fun x => x) 183)),
  (183, .inl (i_iinc 6 1 186)),
  (186, .inl (i_goto 154)),
  (189, .inl (i_aload 0 190)),
  (190, .inl (i_iload 5 192)),
  (192, .inr (c_V 1 195 2 9 (Mt mX9_well 2))),
  (195, .inl i_iret)], noH)
theorem rX9_copy_0 (Q : Po) (h : Hp) (l0 l2 l3 l4 l5 l6 : Value) (x : Int32) (st : List Value) : Ex mX9_copy Q 0 [l0, .int x, l2, l3, l4, l5, l6] st h = Ex mX9_copy Q 1 [l0, .int x, l2, l3, l4, l5, l6] (.int x :: st) h := Ex_nx rfl rfl
theorem rX9_copy_1 (Q : Po) (h : Hp) (ls : List Value) (a0 : Int32) : Ex mX9_copy Q 1 ls (.int a0 :: []) h = Ex mX9_isRow (Cont mX9_copy Q 1 ls 4 []) 0 [.int a0] [] h := Ex_cl (n := 1) (as := [.int a0]) rfl rfl
theorem rX9_copy_4 (Q : Po) (h : Hp) (ls : List Value) (st : List Value) (x : Int32) : Ex mX9_copy Q 4 ls (.int x :: st) h = if x = 0 then Ex mX9_copy Q 14 ls st h else Ex mX9_copy Q 7 ls st h := Ex_br rfl rfl
theorem rX9_copy_7 (Q : Po) (h : Hp) (l0 l1 l2 l4 l5 l6 : Value) (x : Int32) (st : List Value) : Ex mX9_copy Q 7 [l0, l1, l2, .int x, l4, l5, l6] st h = Ex mX9_copy Q 8 [l0, l1, l2, .int x, l4, l5, l6] (.int x :: st) h := Ex_nx rfl rfl
theorem rX9_copy_8 (Q : Po) (h : Hp) (ls : List Value) (a0 : Int32) : Ex mX9_copy Q 8 ls (.int a0 :: []) h = Ex mX9_isRow (Cont mX9_copy Q 8 ls 11 []) 0 [.int a0] [] h := Ex_cl (n := 1) (as := [.int a0]) rfl rfl
theorem rX9_copy_11 (Q : Po) (h : Hp) (ls : List Value) (st : List Value) (x : Int32) : Ex mX9_copy Q 11 ls (.int x :: st) h = if ¬ x = 0 then Ex mX9_copy Q 17 ls st h else Ex mX9_copy Q 14 ls st h := Ex_br rfl rfl
theorem rX9_copy_14 (Q : Po) (h : Hp) (ls : List Value) (st : List Value) : Ex mX9_copy Q 14 ls st h = Ex mX9_copy Q 16 ls (.int (-1000001) :: st) h := Ex_nx rfl rfl
theorem rX9_copy_16 (Q : Po) (h : Hp) (ls : List Value) (x : Int32) : Ex mX9_copy Q 16 ls [.int x] h = Q (.inl (some (.int x))) h := Ex_rt rfl rfl
theorem rX9_copy_17 (Q : Po) (h : Hp) (l1 l2 l3 l4 l5 l6 : Value) (x : Nat) (st : List Value) : Ex mX9_copy Q 17 [.ref x, l1, l2, l3, l4, l5, l6] st h = Ex mX9_copy Q 18 [.ref x, l1, l2, l3, l4, l5, l6] (.ref x :: st) h := Ex_nx rfl rfl
theorem rX9_copy_18 (Q : Po) (h : Hp) (ls : List Value) (st : List Value) (a : Nat) : Ex mX9_copy Q 18 ls (.ref a :: st) h = (gK h a ∈ ([9] : List Nat) ∧ Ex mX9_copy Q 21 ls (gF h 73 a :: st) h) := Ex_gd rfl rfl
theorem rX9_copy_21 (Q : Po) (h : Hp) (l0 l2 l3 l4 l5 l6 : Value) (x : Int32) (st : List Value) : Ex mX9_copy Q 21 [l0, .int x, l2, l3, l4, l5, l6] st h = Ex mX9_copy Q 22 [l0, .int x, l2, l3, l4, l5, l6] (.int x :: st) h := Ex_nx rfl rfl
theorem rX9_copy_22 (Q : Po) (h : Hp) (ls : List Value) (st : List Value) (a : Nat) (i : Int32) : Ex mX9_copy Q 22 ls (.int i :: .ref a :: st) h = ((gK h a = 51 ∧ ¬ (i < 0 ∨ gL h a ≤ i.toNatClampNeg)) ∧ Ex mX9_copy Q 23 ls (.int (gI h a i.toNatClampNeg) :: st) h) := Ex_gd rfl rfl
theorem rX9_copy_23 (Q : Po) (h : Hp) (ls : List Value) (st : List Value) (x : Int32) : Ex mX9_copy Q 23 ls (.int x :: st) h = if x < 0 then Ex mX9_copy Q 35 ls st h else Ex mX9_copy Q 26 ls st h := Ex_br rfl rfl
theorem rX9_copy_26 (Q : Po) (h : Hp) (l1 l2 l3 l4 l5 l6 : Value) (x : Nat) (st : List Value) : Ex mX9_copy Q 26 [.ref x, l1, l2, l3, l4, l5, l6] st h = Ex mX9_copy Q 27 [.ref x, l1, l2, l3, l4, l5, l6] (.ref x :: st) h := Ex_nx rfl rfl
theorem rX9_copy_27 (Q : Po) (h : Hp) (ls : List Value) (st : List Value) (a : Nat) : Ex mX9_copy Q 27 ls (.ref a :: st) h = (gK h a ∈ ([9] : List Nat) ∧ Ex mX9_copy Q 30 ls (gF h 73 a :: st) h) := Ex_gd rfl rfl
theorem rX9_copy_30 (Q : Po) (h : Hp) (l0 l1 l2 l4 l5 l6 : Value) (x : Int32) (st : List Value) : Ex mX9_copy Q 30 [l0, l1, l2, .int x, l4, l5, l6] st h = Ex mX9_copy Q 31 [l0, l1, l2, .int x, l4, l5, l6] (.int x :: st) h := Ex_nx rfl rfl
theorem rX9_copy_31 (Q : Po) (h : Hp) (ls : List Value) (st : List Value) (a : Nat) (i : Int32) : Ex mX9_copy Q 31 ls (.int i :: .ref a :: st) h = ((gK h a = 51 ∧ ¬ (i < 0 ∨ gL h a ≤ i.toNatClampNeg)) ∧ Ex mX9_copy Q 32 ls (.int (gI h a i.toNatClampNeg) :: st) h) := Ex_gd rfl rfl
theorem rX9_copy_32 (Q : Po) (h : Hp) (ls : List Value) (st : List Value) (x : Int32) : Ex mX9_copy Q 32 ls (.int x :: st) h = if 0 ≤ x then Ex mX9_copy Q 41 ls st h else Ex mX9_copy Q 35 ls st h := Ex_br rfl rfl
theorem rX9_copy_35 (Q : Po) (h : Hp) (l1 l2 l3 l4 l5 l6 : Value) (x : Nat) (st : List Value) : Ex mX9_copy Q 35 [.ref x, l1, l2, l3, l4, l5, l6] st h = Ex mX9_copy Q 36 [.ref x, l1, l2, l3, l4, l5, l6] (.ref x :: st) h := Ex_nx rfl rfl
theorem rX9_copy_36 (Q : Po) (h : Hp) (ls : List Value) (st : List Value) : Ex mX9_copy Q 36 ls st h = Ex mX9_copy Q 37 ls (.int 1 :: st) h := Ex_nx rfl rfl
theorem rX9_copy_37 (Q : Po) (h : Hp) (ls : List Value) (a0 : Int32) (b : Nat) : Ex mX9_copy Q 37 ls (.int a0 :: .ref b :: []) h = (gK h b = 9 ∧ Ex mX9_find (Cont mX9_copy Q 37 ls 40 []) 0 [.ref b, .int a0] [] h) := Ex_cg (n := 2) (as := [.ref b, .int a0]) rfl rfl
theorem rX9_copy_40 (Q : Po) (h : Hp) (ls : List Value) (x : Int32) : Ex mX9_copy Q 40 ls [.int x] h = Q (.inl (some (.int x))) h := Ex_rt rfl rfl
theorem rX9_copy_41 (Q : Po) (h : Hp) (l1 l2 l3 l4 l5 l6 : Value) (x : Nat) (st : List Value) : Ex mX9_copy Q 41 [.ref x, l1, l2, l3, l4, l5, l6] st h = Ex mX9_copy Q 42 [.ref x, l1, l2, l3, l4, l5, l6] (.ref x :: st) h := Ex_nx rfl rfl
theorem rX9_copy_42 (Q : Po) (h : Hp) (ls : List Value) (st : List Value) (a : Nat) : Ex mX9_copy Q 42 ls (.ref a :: st) h = (gK h a ∈ ([9] : List Nat) ∧ Ex mX9_copy Q 45 ls (gF h 71 a :: st) h) := Ex_gd rfl rfl
theorem rX9_copy_45 (Q : Po) (h : Hp) (l0 l2 l3 l4 l5 l6 : Value) (x : Int32) (st : List Value) : Ex mX9_copy Q 45 [l0, .int x, l2, l3, l4, l5, l6] st h = Ex mX9_copy Q 46 [l0, .int x, l2, l3, l4, l5, l6] (.int x :: st) h := Ex_nx rfl rfl
theorem rX9_copy_46 (Q : Po) (h : Hp) (ls : List Value) (st : List Value) (a : Nat) (i : Int32) : Ex mX9_copy Q 46 ls (.int i :: .ref a :: st) h = ((gK h a = 51 ∧ ¬ (i < 0 ∨ gL h a ≤ i.toNatClampNeg)) ∧ Ex mX9_copy Q 47 ls (.int (gI h a i.toNatClampNeg) :: st) h) := Ex_gd rfl rfl
theorem rX9_copy_47 (Q : Po) (h : Hp) (l1 l2 l3 l4 l5 l6 : Value) (x : Nat) (st : List Value) : Ex mX9_copy Q 47 [.ref x, l1, l2, l3, l4, l5, l6] st h = Ex mX9_copy Q 48 [.ref x, l1, l2, l3, l4, l5, l6] (.ref x :: st) h := Ex_nx rfl rfl
theorem rX9_copy_48 (Q : Po) (h : Hp) (ls : List Value) (st : List Value) (a : Nat) : Ex mX9_copy Q 48 ls (.ref a :: st) h = (gK h a ∈ ([9] : List Nat) ∧ Ex mX9_copy Q 51 ls (gF h 71 a :: st) h) := Ex_gd rfl rfl
theorem rX9_copy_51 (Q : Po) (h : Hp) (l0 l1 l2 l4 l5 l6 : Value) (x : Int32) (st : List Value) : Ex mX9_copy Q 51 [l0, l1, l2, .int x, l4, l5, l6] st h = Ex mX9_copy Q 52 [l0, l1, l2, .int x, l4, l5, l6] (.int x :: st) h := Ex_nx rfl rfl
theorem rX9_copy_52 (Q : Po) (h : Hp) (ls : List Value) (st : List Value) (a : Nat) (i : Int32) : Ex mX9_copy Q 52 ls (.int i :: .ref a :: st) h = ((gK h a = 51 ∧ ¬ (i < 0 ∨ gL h a ≤ i.toNatClampNeg)) ∧ Ex mX9_copy Q 53 ls (.int (gI h a i.toNatClampNeg) :: st) h) := Ex_gd rfl rfl
theorem rX9_copy_53 (Q : Po) (h : Hp) (ls : List Value) (st : List Value) (x y : Int32) : Ex mX9_copy Q 53 ls (.int y :: .int x :: st) h = if x = y then Ex mX9_copy Q 62 ls st h else Ex mX9_copy Q 56 ls st h := Ex_br rfl rfl
theorem rX9_copy_56 (Q : Po) (h : Hp) (l1 l2 l3 l4 l5 l6 : Value) (x : Nat) (st : List Value) : Ex mX9_copy Q 56 [.ref x, l1, l2, l3, l4, l5, l6] st h = Ex mX9_copy Q 57 [.ref x, l1, l2, l3, l4, l5, l6] (.ref x :: st) h := Ex_nx rfl rfl
theorem rX9_copy_57 (Q : Po) (h : Hp) (ls : List Value) (st : List Value) : Ex mX9_copy Q 57 ls st h = Ex mX9_copy Q 58 ls (.int 5 :: st) h := Ex_nx rfl rfl
theorem rX9_copy_58 (Q : Po) (h : Hp) (ls : List Value) (a0 : Int32) (b : Nat) : Ex mX9_copy Q 58 ls (.int a0 :: .ref b :: []) h = (gK h b = 9 ∧ Ex mX9_find (Cont mX9_copy Q 58 ls 61 []) 0 [.ref b, .int a0] [] h) := Ex_cg (n := 2) (as := [.ref b, .int a0]) rfl rfl
theorem rX9_copy_61 (Q : Po) (h : Hp) (ls : List Value) (x : Int32) : Ex mX9_copy Q 61 ls [.int x] h = Q (.inl (some (.int x))) h := Ex_rt rfl rfl
theorem rX9_copy_62 (Q : Po) (h : Hp) (l0 l1 l2 l3 l4 l6 : Value) (x : Int32) (st : List Value) : Ex mX9_copy Q 62 [l0, l1, l2, l3, l4, .int x, l6] st h = Ex mX9_copy Q 64 [l0, l1, l2, l3, l4, .int x, l6] (.int x :: st) h := Ex_nx rfl rfl
theorem rX9_copy_64 (Q : Po) (h : Hp) (ls : List Value) (st : List Value) (x : Int32) : Ex mX9_copy Q 64 ls (.int x :: st) h = if x < 0 then Ex mX9_copy Q 108 ls st h else Ex mX9_copy Q 67 ls st h := Ex_br rfl rfl
theorem rX9_copy_67 (Q : Po) (h : Hp) (l0 l1 l3 l4 l5 l6 : Value) (x : Int32) (st : List Value) : Ex mX9_copy Q 67 [l0, l1, .int x, l3, l4, l5, l6] st h = Ex mX9_copy Q 68 [l0, l1, .int x, l3, l4, l5, l6] (.int x :: st) h := Ex_nx rfl rfl
theorem rX9_copy_68 (Q : Po) (h : Hp) (ls : List Value) (st : List Value) (x : Int32) : Ex mX9_copy Q 68 ls (.int x :: st) h = Ex mX9_copy Q 69 ls (.long x.toInt64 :: st) h := Ex_nx rfl rfl
theorem rX9_copy_69 (Q : Po) (h : Hp) (ls : List Value) (st : List Value) : Ex mX9_copy Q 69 ls st h = Ex mX9_copy Q 70 ls (.long 0 :: st) h := Ex_nx rfl rfl
theorem rX9_copy_70 (Q : Po) (h : Hp) (l1 l2 l3 l4 l5 l6 : Value) (x : Nat) (st : List Value) : Ex mX9_copy Q 70 [.ref x, l1, l2, l3, l4, l5, l6] st h = Ex mX9_copy Q 71 [.ref x, l1, l2, l3, l4, l5, l6] (.ref x :: st) h := Ex_nx rfl rfl
theorem rX9_copy_71 (Q : Po) (h : Hp) (ls : List Value) (st : List Value) (a : Nat) : Ex mX9_copy Q 71 ls (.ref a :: st) h = (gK h a ∈ ([9] : List Nat) ∧ Ex mX9_copy Q 74 ls (gF h 73 a :: st) h) := Ex_gd rfl rfl
theorem rX9_copy_74 (Q : Po) (h : Hp) (l0 l2 l3 l4 l5 l6 : Value) (x : Int32) (st : List Value) : Ex mX9_copy Q 74 [l0, .int x, l2, l3, l4, l5, l6] st h = Ex mX9_copy Q 75 [l0, .int x, l2, l3, l4, l5, l6] (.int x :: st) h := Ex_nx rfl rfl
theorem rX9_copy_75 (Q : Po) (h : Hp) (ls : List Value) (st : List Value) (a : Nat) (i : Int32) : Ex mX9_copy Q 75 ls (.int i :: .ref a :: st) h = ((gK h a = 51 ∧ ¬ (i < 0 ∨ gL h a ≤ i.toNatClampNeg)) ∧ Ex mX9_copy Q 76 ls (.int (gI h a i.toNatClampNeg) :: st) h) := Ex_gd rfl rfl
theorem rX9_copy_76 (Q : Po) (h : Hp) (ls : List Value) (st : List Value) (x : Int32) : Ex mX9_copy Q 76 ls (.int x :: st) h = Ex mX9_copy Q 77 ls (.long x.toInt64 :: st) h := Ex_nx rfl rfl
theorem rX9_copy_77 (Q : Po) (h : Hp) (l0 l1 l2 l3 l4 l6 : Value) (x : Int32) (st : List Value) : Ex mX9_copy Q 77 [l0, l1, l2, l3, l4, .int x, l6] st h = Ex mX9_copy Q 79 [l0, l1, l2, l3, l4, .int x, l6] (.int x :: st) h := Ex_nx rfl rfl
theorem rX9_copy_79 (Q : Po) (h : Hp) (ls : List Value) (st : List Value) (x : Int32) : Ex mX9_copy Q 79 ls (.int x :: st) h = Ex mX9_copy Q 80 ls (.long x.toInt64 :: st) h := Ex_nx rfl rfl
theorem rX9_copy_80 (Q : Po) (h : Hp) (ls : List Value) (st : List Value) (x y : Int64) : Ex mX9_copy Q 80 ls (.long y :: .long x :: st) h = Ex mX9_copy Q 81 ls (.long (x - y) :: st) h := Ex_nx rfl rfl
theorem rX9_copy_81 (Q : Po) (h : Hp) (ls : List Value) (a0 : Int64) (a1 : Int64) (a2 : Int64) : Ex mX9_copy Q 81 ls (.long a2 :: .long a1 :: .long a0 :: []) h = Ex mX9_in (Cont mX9_copy Q 81 ls 84 []) 0 [.long a0, .retAddr 1, .long a1, .retAddr 1, .long a2, .retAddr 1] [] h := Ex_cl (n := 6) (as := [.long a0, .long a1, .long a2]) rfl rfl
theorem rX9_copy_84 (Q : Po) (h : Hp) (ls : List Value) (st : List Value) (x : Int32) : Ex mX9_copy Q 84 ls (.int x :: st) h = if x = 0 then Ex mX9_copy Q 108 ls st h else Ex mX9_copy Q 87 ls st h := Ex_br rfl rfl
theorem rX9_copy_87 (Q : Po) (h : Hp) (l0 l1 l2 l3 l5 l6 : Value) (x : Int32) (st : List Value) : Ex mX9_copy Q 87 [l0, l1, l2, l3, .int x, l5, l6] st h = Ex mX9_copy Q 89 [l0, l1, l2, l3, .int x, l5, l6] (.int x :: st) h := Ex_nx rfl rfl
theorem rX9_copy_89 (Q : Po) (h : Hp) (ls : List Value) (st : List Value) (x : Int32) : Ex mX9_copy Q 89 ls (.int x :: st) h = Ex mX9_copy Q 90 ls (.long x.toInt64 :: st) h := Ex_nx rfl rfl
theorem rX9_copy_90 (Q : Po) (h : Hp) (ls : List Value) (st : List Value) : Ex mX9_copy Q 90 ls st h = Ex mX9_copy Q 91 ls (.long 0 :: st) h := Ex_nx rfl rfl
theorem rX9_copy_91 (Q : Po) (h : Hp) (l1 l2 l3 l4 l5 l6 : Value) (x : Nat) (st : List Value) : Ex mX9_copy Q 91 [.ref x, l1, l2, l3, l4, l5, l6] st h = Ex mX9_copy Q 92 [.ref x, l1, l2, l3, l4, l5, l6] (.ref x :: st) h := Ex_nx rfl rfl
theorem rX9_copy_92 (Q : Po) (h : Hp) (ls : List Value) (st : List Value) (a : Nat) : Ex mX9_copy Q 92 ls (.ref a :: st) h = (gK h a ∈ ([9] : List Nat) ∧ Ex mX9_copy Q 95 ls (gF h 73 a :: st) h) := Ex_gd rfl rfl
theorem rX9_copy_95 (Q : Po) (h : Hp) (l0 l1 l2 l4 l5 l6 : Value) (x : Int32) (st : List Value) : Ex mX9_copy Q 95 [l0, l1, l2, .int x, l4, l5, l6] st h = Ex mX9_copy Q 96 [l0, l1, l2, .int x, l4, l5, l6] (.int x :: st) h := Ex_nx rfl rfl
theorem rX9_copy_96 (Q : Po) (h : Hp) (ls : List Value) (st : List Value) (a : Nat) (i : Int32) : Ex mX9_copy Q 96 ls (.int i :: .ref a :: st) h = ((gK h a = 51 ∧ ¬ (i < 0 ∨ gL h a ≤ i.toNatClampNeg)) ∧ Ex mX9_copy Q 97 ls (.int (gI h a i.toNatClampNeg) :: st) h) := Ex_gd rfl rfl
theorem rX9_copy_97 (Q : Po) (h : Hp) (ls : List Value) (st : List Value) (x : Int32) : Ex mX9_copy Q 97 ls (.int x :: st) h = Ex mX9_copy Q 98 ls (.long x.toInt64 :: st) h := Ex_nx rfl rfl
theorem rX9_copy_98 (Q : Po) (h : Hp) (l0 l1 l2 l3 l4 l6 : Value) (x : Int32) (st : List Value) : Ex mX9_copy Q 98 [l0, l1, l2, l3, l4, .int x, l6] st h = Ex mX9_copy Q 100 [l0, l1, l2, l3, l4, .int x, l6] (.int x :: st) h := Ex_nx rfl rfl
theorem rX9_copy_100 (Q : Po) (h : Hp) (ls : List Value) (st : List Value) (x : Int32) : Ex mX9_copy Q 100 ls (.int x :: st) h = Ex mX9_copy Q 101 ls (.long x.toInt64 :: st) h := Ex_nx rfl rfl
theorem rX9_copy_101 (Q : Po) (h : Hp) (ls : List Value) (st : List Value) (x y : Int64) : Ex mX9_copy Q 101 ls (.long y :: .long x :: st) h = Ex mX9_copy Q 102 ls (.long (x - y) :: st) h := Ex_nx rfl rfl
theorem rX9_copy_102 (Q : Po) (h : Hp) (ls : List Value) (a0 : Int64) (a1 : Int64) (a2 : Int64) : Ex mX9_copy Q 102 ls (.long a2 :: .long a1 :: .long a0 :: []) h = Ex mX9_in (Cont mX9_copy Q 102 ls 105 []) 0 [.long a0, .retAddr 1, .long a1, .retAddr 1, .long a2, .retAddr 1] [] h := Ex_cl (n := 6) (as := [.long a0, .long a1, .long a2]) rfl rfl
theorem rX9_copy_105 (Q : Po) (h : Hp) (ls : List Value) (st : List Value) (x : Int32) : Ex mX9_copy Q 105 ls (.int x :: st) h = if ¬ x = 0 then Ex mX9_copy Q 114 ls st h else Ex mX9_copy Q 108 ls st h := Ex_br rfl rfl
theorem rX9_copy_108 (Q : Po) (h : Hp) (l1 l2 l3 l4 l5 l6 : Value) (x : Nat) (st : List Value) : Ex mX9_copy Q 108 [.ref x, l1, l2, l3, l4, l5, l6] st h = Ex mX9_copy Q 109 [.ref x, l1, l2, l3, l4, l5, l6] (.ref x :: st) h := Ex_nx rfl rfl
theorem rX9_copy_109 (Q : Po) (h : Hp) (ls : List Value) (st : List Value) : Ex mX9_copy Q 109 ls st h = Ex mX9_copy Q 110 ls (.int 2 :: st) h := Ex_nx rfl rfl
theorem rX9_copy_110 (Q : Po) (h : Hp) (ls : List Value) (a0 : Int32) (b : Nat) : Ex mX9_copy Q 110 ls (.int a0 :: .ref b :: []) h = (gK h b = 9 ∧ Ex mX9_find (Cont mX9_copy Q 110 ls 113 []) 0 [.ref b, .int a0] [] h) := Ex_cg (n := 2) (as := [.ref b, .int a0]) rfl rfl
theorem rX9_copy_113 (Q : Po) (h : Hp) (ls : List Value) (x : Int32) : Ex mX9_copy Q 113 ls [.int x] h = Q (.inl (some (.int x))) h := Ex_rt rfl rfl
theorem rX9_copy_114 (Q : Po) (h : Hp) (ls : List Value) (st : List Value) : Ex mX9_copy Q 114 ls st h = Ex mX9_copy Q 115 ls (.int 0 :: st) h := Ex_nx rfl rfl
theorem rX9_copy_115 (Q : Po) (h : Hp) (l0 l1 l2 l3 l4 l5 l6 : Value) (x : Int32) (st : List Value) : Ex mX9_copy Q 115 [l0, l1, l2, l3, l4, l5, l6] (.int x :: st) h = Ex mX9_copy Q 117 [l0, l1, l2, l3, l4, l5, .int x] st h := Ex_nx rfl rfl
theorem rX9_copy_117 (Q : Po) (h : Hp) (l0 l1 l2 l3 l4 l5 : Value) (x : Int32) (st : List Value) : Ex mX9_copy Q 117 [l0, l1, l2, l3, l4, l5, .int x] st h = Ex mX9_copy Q 119 [l0, l1, l2, l3, l4, l5, .int x] (.int x :: st) h := Ex_nx rfl rfl
theorem rX9_copy_119 (Q : Po) (h : Hp) (l0 l1 l2 l3 l4 l6 : Value) (x : Int32) (st : List Value) : Ex mX9_copy Q 119 [l0, l1, l2, l3, l4, .int x, l6] st h = Ex mX9_copy Q 121 [l0, l1, l2, l3, l4, .int x, l6] (.int x :: st) h := Ex_nx rfl rfl
theorem rX9_copy_121 (Q : Po) (h : Hp) (ls : List Value) (st : List Value) (x y : Int32) : Ex mX9_copy Q 121 ls (.int y :: .int x :: st) h = if y ≤ x then Ex mX9_copy Q 151 ls st h else Ex mX9_copy Q 124 ls st h := Ex_br rfl rfl
theorem rX9_copy_124 (Q : Po) (h : Hp) (l1 l2 l3 l4 l5 l6 : Value) (x : Nat) (st : List Value) : Ex mX9_copy Q 124 [.ref x, l1, l2, l3, l4, l5, l6] st h = Ex mX9_copy Q 125 [.ref x, l1, l2, l3, l4, l5, l6] (.ref x :: st) h := Ex_nx rfl rfl
theorem rX9_copy_125 (Q : Po) (h : Hp) (ls : List Value) (st : List Value) (a : Nat) : Ex mX9_copy Q 125 ls (.ref a :: st) h = (gK h a ∈ ([9] : List Nat) ∧ Ex mX9_copy Q 128 ls (gF h 83 a :: st) h) := Ex_gd rfl rfl
theorem rX9_copy_128 (Q : Po) (h : Hp) (l0 l1 l2 l3 l4 l5 : Value) (x : Int32) (st : List Value) : Ex mX9_copy Q 128 [l0, l1, l2, l3, l4, l5, .int x] st h = Ex mX9_copy Q 130 [l0, l1, l2, l3, l4, l5, .int x] (.int x :: st) h := Ex_nx rfl rfl
theorem rX9_copy_130 (Q : Po) (h : Hp) (l1 l2 l3 l4 l5 l6 : Value) (x : Nat) (st : List Value) : Ex mX9_copy Q 130 [.ref x, l1, l2, l3, l4, l5, l6] st h = Ex mX9_copy Q 131 [.ref x, l1, l2, l3, l4, l5, l6] (.ref x :: st) h := Ex_nx rfl rfl
theorem rX9_copy_131 (Q : Po) (h : Hp) (ls : List Value) (st : List Value) (a : Nat) : Ex mX9_copy Q 131 ls (.ref a :: st) h = (gK h a ∈ ([9] : List Nat) ∧ Ex mX9_copy Q 134 ls (gF h 75 a :: st) h) := Ex_gd rfl rfl
theorem rX9_copy_134 (Q : Po) (h : Hp) (ls : List Value) (st : List Value) : Ex mX9_copy Q 134 ls st h = Ex mX9_copy Q 136 ls (.int 40 :: st) h := Ex_nx rfl rfl
theorem rX9_copy_136 (Q : Po) (h : Hp) (l0 l2 l3 l4 l5 l6 : Value) (x : Int32) (st : List Value) : Ex mX9_copy Q 136 [l0, .int x, l2, l3, l4, l5, l6] st h = Ex mX9_copy Q 137 [l0, .int x, l2, l3, l4, l5, l6] (.int x :: st) h := Ex_nx rfl rfl
theorem rX9_copy_137 (Q : Po) (h : Hp) (ls : List Value) (st : List Value) (x y : Int32) : Ex mX9_copy Q 137 ls (.int y :: .int x :: st) h = Ex mX9_copy Q 138 ls (.int (x * y) :: st) h := Ex_nx rfl rfl
theorem rX9_copy_138 (Q : Po) (h : Hp) (l0 l1 l3 l4 l5 l6 : Value) (x : Int32) (st : List Value) : Ex mX9_copy Q 138 [l0, l1, .int x, l3, l4, l5, l6] st h = Ex mX9_copy Q 139 [l0, l1, .int x, l3, l4, l5, l6] (.int x :: st) h := Ex_nx rfl rfl
theorem rX9_copy_139 (Q : Po) (h : Hp) (ls : List Value) (st : List Value) (x y : Int32) : Ex mX9_copy Q 139 ls (.int y :: .int x :: st) h = Ex mX9_copy Q 140 ls (.int (x + y) :: st) h := Ex_nx rfl rfl
theorem rX9_copy_140 (Q : Po) (h : Hp) (l0 l1 l2 l3 l4 l5 : Value) (x : Int32) (st : List Value) : Ex mX9_copy Q 140 [l0, l1, l2, l3, l4, l5, .int x] st h = Ex mX9_copy Q 142 [l0, l1, l2, l3, l4, l5, .int x] (.int x :: st) h := Ex_nx rfl rfl
theorem rX9_copy_142 (Q : Po) (h : Hp) (ls : List Value) (st : List Value) (x y : Int32) : Ex mX9_copy Q 142 ls (.int y :: .int x :: st) h = Ex mX9_copy Q 143 ls (.int (x + y) :: st) h := Ex_nx rfl rfl
theorem rX9_copy_143 (Q : Po) (h : Hp) (ls : List Value) (st : List Value) (a : Nat) (i : Int32) : Ex mX9_copy Q 143 ls (.int i :: .ref a :: st) h = ((gK h a = 51 ∧ ¬ (i < 0 ∨ gL h a ≤ i.toNatClampNeg)) ∧ Ex mX9_copy Q 144 ls (.int (gI h a i.toNatClampNeg) :: st) h) := Ex_gd rfl rfl
theorem rX9_copy_144 (Q : Po) (h : Hp) (ls : List Value) (st : List Value) (a : Nat) (i x : Int32) : Ex mX9_copy Q 144 ls (.int x :: .int i :: .ref a :: st) h = ((gK h a = 51 ∧ ¬ (i < 0 ∨ gL h a ≤ i.toNatClampNeg)) ∧ Ex mX9_copy Q 145 ls st (pI h a i.toNatClampNeg (x))) := Ex_gd rfl rfl
theorem rX9_copy_145 (Q : Po) (h : Hp) (l0 l1 l2 l3 l4 l5 : Value) (x : Int32) (st : List Value) : Ex mX9_copy Q 145 [l0, l1, l2, l3, l4, l5, .int x] st h = Ex mX9_copy Q 148 [l0, l1, l2, l3, l4, l5, .int (x + 1)] st h := Ex_nx rfl rfl
theorem rX9_copy_148 (Q : Po) (h : Hp) (ls : List Value) (st : List Value) : Ex mX9_copy Q 148 ls st h = Ex mX9_copy Q 117 ls st h := Ex_nx rfl rfl
theorem rX9_copy_151 (Q : Po) (h : Hp) (ls : List Value) (st : List Value) : Ex mX9_copy Q 151 ls st h = Ex mX9_copy Q 152 ls (.int 0 :: st) h := Ex_nx rfl rfl
theorem rX9_copy_152 (Q : Po) (h : Hp) (l0 l1 l2 l3 l4 l5 l6 : Value) (x : Int32) (st : List Value) : Ex mX9_copy Q 152 [l0, l1, l2, l3, l4, l5, l6] (.int x :: st) h = Ex mX9_copy Q 154 [l0, l1, l2, l3, l4, l5, .int x] st h := Ex_nx rfl rfl
theorem rX9_copy_154 (Q : Po) (h : Hp) (l0 l1 l2 l3 l4 l5 : Value) (x : Int32) (st : List Value) : Ex mX9_copy Q 154 [l0, l1, l2, l3, l4, l5, .int x] st h = Ex mX9_copy Q 156 [l0, l1, l2, l3, l4, l5, .int x] (.int x :: st) h := Ex_nx rfl rfl
theorem rX9_copy_156 (Q : Po) (h : Hp) (l0 l1 l2 l3 l4 l6 : Value) (x : Int32) (st : List Value) : Ex mX9_copy Q 156 [l0, l1, l2, l3, l4, .int x, l6] st h = Ex mX9_copy Q 158 [l0, l1, l2, l3, l4, .int x, l6] (.int x :: st) h := Ex_nx rfl rfl
theorem rX9_copy_158 (Q : Po) (h : Hp) (ls : List Value) (st : List Value) (x y : Int32) : Ex mX9_copy Q 158 ls (.int y :: .int x :: st) h = if y ≤ x then Ex mX9_copy Q 189 ls st h else Ex mX9_copy Q 161 ls st h := Ex_br rfl rfl
theorem rX9_copy_161 (Q : Po) (h : Hp) (l1 l2 l3 l4 l5 l6 : Value) (x : Nat) (st : List Value) : Ex mX9_copy Q 161 [.ref x, l1, l2, l3, l4, l5, l6] st h = Ex mX9_copy Q 162 [.ref x, l1, l2, l3, l4, l5, l6] (.ref x :: st) h := Ex_nx rfl rfl
theorem rX9_copy_162 (Q : Po) (h : Hp) (ls : List Value) (st : List Value) (a : Nat) : Ex mX9_copy Q 162 ls (.ref a :: st) h = (gK h a ∈ ([9] : List Nat) ∧ Ex mX9_copy Q 165 ls (gF h 75 a :: st) h) := Ex_gd rfl rfl
theorem rX9_copy_165 (Q : Po) (h : Hp) (ls : List Value) (st : List Value) : Ex mX9_copy Q 165 ls st h = Ex mX9_copy Q 167 ls (.int 40 :: st) h := Ex_nx rfl rfl
theorem rX9_copy_167 (Q : Po) (h : Hp) (l0 l1 l2 l4 l5 l6 : Value) (x : Int32) (st : List Value) : Ex mX9_copy Q 167 [l0, l1, l2, .int x, l4, l5, l6] st h = Ex mX9_copy Q 168 [l0, l1, l2, .int x, l4, l5, l6] (.int x :: st) h := Ex_nx rfl rfl
theorem rX9_copy_168 (Q : Po) (h : Hp) (ls : List Value) (st : List Value) (x y : Int32) : Ex mX9_copy Q 168 ls (.int y :: .int x :: st) h = Ex mX9_copy Q 169 ls (.int (x * y) :: st) h := Ex_nx rfl rfl
theorem rX9_copy_169 (Q : Po) (h : Hp) (l0 l1 l2 l3 l5 l6 : Value) (x : Int32) (st : List Value) : Ex mX9_copy Q 169 [l0, l1, l2, l3, .int x, l5, l6] st h = Ex mX9_copy Q 171 [l0, l1, l2, l3, .int x, l5, l6] (.int x :: st) h := Ex_nx rfl rfl
theorem rX9_copy_171 (Q : Po) (h : Hp) (ls : List Value) (st : List Value) (x y : Int32) : Ex mX9_copy Q 171 ls (.int y :: .int x :: st) h = Ex mX9_copy Q 172 ls (.int (x + y) :: st) h := Ex_nx rfl rfl
theorem rX9_copy_172 (Q : Po) (h : Hp) (l0 l1 l2 l3 l4 l5 : Value) (x : Int32) (st : List Value) : Ex mX9_copy Q 172 [l0, l1, l2, l3, l4, l5, .int x] st h = Ex mX9_copy Q 174 [l0, l1, l2, l3, l4, l5, .int x] (.int x :: st) h := Ex_nx rfl rfl
theorem rX9_copy_174 (Q : Po) (h : Hp) (ls : List Value) (st : List Value) (x y : Int32) : Ex mX9_copy Q 174 ls (.int y :: .int x :: st) h = Ex mX9_copy Q 175 ls (.int (x + y) :: st) h := Ex_nx rfl rfl
theorem rX9_copy_175 (Q : Po) (h : Hp) (l1 l2 l3 l4 l5 l6 : Value) (x : Nat) (st : List Value) : Ex mX9_copy Q 175 [.ref x, l1, l2, l3, l4, l5, l6] st h = Ex mX9_copy Q 176 [.ref x, l1, l2, l3, l4, l5, l6] (.ref x :: st) h := Ex_nx rfl rfl
theorem rX9_copy_176 (Q : Po) (h : Hp) (ls : List Value) (st : List Value) (a : Nat) : Ex mX9_copy Q 176 ls (.ref a :: st) h = (gK h a ∈ ([9] : List Nat) ∧ Ex mX9_copy Q 179 ls (gF h 83 a :: st) h) := Ex_gd rfl rfl
theorem rX9_copy_179 (Q : Po) (h : Hp) (l0 l1 l2 l3 l4 l5 : Value) (x : Int32) (st : List Value) : Ex mX9_copy Q 179 [l0, l1, l2, l3, l4, l5, .int x] st h = Ex mX9_copy Q 181 [l0, l1, l2, l3, l4, l5, .int x] (.int x :: st) h := Ex_nx rfl rfl
theorem rX9_copy_181 (Q : Po) (h : Hp) (ls : List Value) (st : List Value) (a : Nat) (i : Int32) : Ex mX9_copy Q 181 ls (.int i :: .ref a :: st) h = ((gK h a = 51 ∧ ¬ (i < 0 ∨ gL h a ≤ i.toNatClampNeg)) ∧ Ex mX9_copy Q 182 ls (.int (gI h a i.toNatClampNeg) :: st) h) := Ex_gd rfl rfl
theorem rX9_copy_182 (Q : Po) (h : Hp) (ls : List Value) (st : List Value) (a : Nat) (i x : Int32) : Ex mX9_copy Q 182 ls (.int x :: .int i :: .ref a :: st) h = ((gK h a = 51 ∧ ¬ (i < 0 ∨ gL h a ≤ i.toNatClampNeg)) ∧ Ex mX9_copy Q 183 ls st (pI h a i.toNatClampNeg (x))) := Ex_gd rfl rfl
theorem rX9_copy_183 (Q : Po) (h : Hp) (l0 l1 l2 l3 l4 l5 : Value) (x : Int32) (st : List Value) : Ex mX9_copy Q 183 [l0, l1, l2, l3, l4, l5, .int x] st h = Ex mX9_copy Q 186 [l0, l1, l2, l3, l4, l5, .int (x + 1)] st h := Ex_nx rfl rfl
theorem rX9_copy_186 (Q : Po) (h : Hp) (ls : List Value) (st : List Value) : Ex mX9_copy Q 186 ls st h = Ex mX9_copy Q 154 ls st h := Ex_nx rfl rfl
theorem rX9_copy_189 (Q : Po) (h : Hp) (l1 l2 l3 l4 l5 l6 : Value) (x : Nat) (st : List Value) : Ex mX9_copy Q 189 [.ref x, l1, l2, l3, l4, l5, l6] st h = Ex mX9_copy Q 190 [.ref x, l1, l2, l3, l4, l5, l6] (.ref x :: st) h := Ex_nx rfl rfl
theorem rX9_copy_190 (Q : Po) (h : Hp) (l0 l1 l2 l3 l4 l6 : Value) (x : Int32) (st : List Value) : Ex mX9_copy Q 190 [l0, l1, l2, l3, l4, .int x, l6] st h = Ex mX9_copy Q 192 [l0, l1, l2, l3, l4, .int x, l6] (.int x :: st) h := Ex_nx rfl rfl
theorem rX9_copy_192 (Q : Po) (h : Hp) (ls : List Value) (a0 : Int32) (b : Nat) : Ex mX9_copy Q 192 ls (.int a0 :: .ref b :: []) h = (gK h b = 9 ∧ Ex mX9_well (Cont mX9_copy Q 192 ls 195 []) 0 [.ref b, .int a0] [] h) := Ex_cg (n := 2) (as := [.ref b, .int a0]) rfl rfl
theorem rX9_copy_195 (Q : Po) (h : Hp) (ls : List Value) (x : Int32) : Ex mX9_copy Q 195 ls [.int x] h = Q (.inl (some (.int x))) h := Ex_rt rfl rfl
theorem rX9_copy_t (Q : Po) (h : Hp) (pc n a : Nat) (ls st : List Value) : Cont mX9_copy Q pc ls n st (.inr a) h = Q (.inr a) h := rfl
/-! FishReadersModel.drop(I)I -/
def mX9_drop : Cd := ([(0, .inl (i_iload 1 1)),
  (1, .inr (c_S 1 4 1 (Mt mX9_isRow 1))),
  (4, .inl (i_if (fun x => ¬ x = 0) 10 7)),
  (7, .inl (i_push (.int (-1000001)) 9)),
  (9, .inl i_iret),
  (10, .inl (i_aload 0 11)),
  (11, .inl (i_getf 73 [9] 14)),
  (14, .inl (i_iload 1 15)),
  (15, .inl (i_iald 51 16)),
  (16, .inl (i_if (fun x => 0 ≤ x) 25 19)),
  (19, .inl (i_aload 0 20)),
  (20, .inl (i_push (.int 1) 21)),
  (21, .inr (c_V 1 24 2 9 (Mt mX9_find 2))),
  (24, .inl i_iret),
  (25, .inl (i_aload 0 26)),
  (26, .inl (i_getf 73 [9] 29)),
  (29, .inl (i_iload 1 30)),
  (30, .inl (i_iald 51 31)),
  (31, .inl (i_istore 2 32)),
  (32, .inl (i_aload 0 33)),
  (33, .inl (i_getf 73 [9] 36)),
  (36, .inl (i_iload 1 37)),
  (37, .inl (i_push (.int (-1)) 38)),
  (38, .inl (i_iast 51 (fun x => x) 39)),
  (39, .inl (i_aload 0 40)),
  (40, .inl (i_iload 2 41)),
  (41, .inr (c_V 1 44 2 9 (Mt mX9_well 2))),
  (44, .inl i_iret)], noH)
theorem rX9_drop_0 (Q : Po) (h : Hp) (l0 l2 : Value) (x : Int32) (st : List Value) : Ex mX9_drop Q 0 [l0, .int x, l2] st h = Ex mX9_drop Q 1 [l0, .int x, l2] (.int x :: st) h := Ex_nx rfl rfl
theorem rX9_drop_1 (Q : Po) (h : Hp) (ls : List Value) (a0 : Int32) : Ex mX9_drop Q 1 ls (.int a0 :: []) h = Ex mX9_isRow (Cont mX9_drop Q 1 ls 4 []) 0 [.int a0] [] h := Ex_cl (n := 1) (as := [.int a0]) rfl rfl
theorem rX9_drop_4 (Q : Po) (h : Hp) (ls : List Value) (st : List Value) (x : Int32) : Ex mX9_drop Q 4 ls (.int x :: st) h = if ¬ x = 0 then Ex mX9_drop Q 10 ls st h else Ex mX9_drop Q 7 ls st h := Ex_br rfl rfl
theorem rX9_drop_7 (Q : Po) (h : Hp) (ls : List Value) (st : List Value) : Ex mX9_drop Q 7 ls st h = Ex mX9_drop Q 9 ls (.int (-1000001) :: st) h := Ex_nx rfl rfl
theorem rX9_drop_9 (Q : Po) (h : Hp) (ls : List Value) (x : Int32) : Ex mX9_drop Q 9 ls [.int x] h = Q (.inl (some (.int x))) h := Ex_rt rfl rfl
theorem rX9_drop_10 (Q : Po) (h : Hp) (l1 l2 : Value) (x : Nat) (st : List Value) : Ex mX9_drop Q 10 [.ref x, l1, l2] st h = Ex mX9_drop Q 11 [.ref x, l1, l2] (.ref x :: st) h := Ex_nx rfl rfl
theorem rX9_drop_11 (Q : Po) (h : Hp) (ls : List Value) (st : List Value) (a : Nat) : Ex mX9_drop Q 11 ls (.ref a :: st) h = (gK h a ∈ ([9] : List Nat) ∧ Ex mX9_drop Q 14 ls (gF h 73 a :: st) h) := Ex_gd rfl rfl
theorem rX9_drop_14 (Q : Po) (h : Hp) (l0 l2 : Value) (x : Int32) (st : List Value) : Ex mX9_drop Q 14 [l0, .int x, l2] st h = Ex mX9_drop Q 15 [l0, .int x, l2] (.int x :: st) h := Ex_nx rfl rfl
theorem rX9_drop_15 (Q : Po) (h : Hp) (ls : List Value) (st : List Value) (a : Nat) (i : Int32) : Ex mX9_drop Q 15 ls (.int i :: .ref a :: st) h = ((gK h a = 51 ∧ ¬ (i < 0 ∨ gL h a ≤ i.toNatClampNeg)) ∧ Ex mX9_drop Q 16 ls (.int (gI h a i.toNatClampNeg) :: st) h) := Ex_gd rfl rfl
theorem rX9_drop_16 (Q : Po) (h : Hp) (ls : List Value) (st : List Value) (x : Int32) : Ex mX9_drop Q 16 ls (.int x :: st) h = if 0 ≤ x then Ex mX9_drop Q 25 ls st h else Ex mX9_drop Q 19 ls st h := Ex_br rfl rfl
theorem rX9_drop_19 (Q : Po) (h : Hp) (l1 l2 : Value) (x : Nat) (st : List Value) : Ex mX9_drop Q 19 [.ref x, l1, l2] st h = Ex mX9_drop Q 20 [.ref x, l1, l2] (.ref x :: st) h := Ex_nx rfl rfl
theorem rX9_drop_20 (Q : Po) (h : Hp) (ls : List Value) (st : List Value) : Ex mX9_drop Q 20 ls st h = Ex mX9_drop Q 21 ls (.int 1 :: st) h := Ex_nx rfl rfl
theorem rX9_drop_21 (Q : Po) (h : Hp) (ls : List Value) (a0 : Int32) (b : Nat) : Ex mX9_drop Q 21 ls (.int a0 :: .ref b :: []) h = (gK h b = 9 ∧ Ex mX9_find (Cont mX9_drop Q 21 ls 24 []) 0 [.ref b, .int a0] [] h) := Ex_cg (n := 2) (as := [.ref b, .int a0]) rfl rfl
theorem rX9_drop_24 (Q : Po) (h : Hp) (ls : List Value) (x : Int32) : Ex mX9_drop Q 24 ls [.int x] h = Q (.inl (some (.int x))) h := Ex_rt rfl rfl
theorem rX9_drop_25 (Q : Po) (h : Hp) (l1 l2 : Value) (x : Nat) (st : List Value) : Ex mX9_drop Q 25 [.ref x, l1, l2] st h = Ex mX9_drop Q 26 [.ref x, l1, l2] (.ref x :: st) h := Ex_nx rfl rfl
theorem rX9_drop_26 (Q : Po) (h : Hp) (ls : List Value) (st : List Value) (a : Nat) : Ex mX9_drop Q 26 ls (.ref a :: st) h = (gK h a ∈ ([9] : List Nat) ∧ Ex mX9_drop Q 29 ls (gF h 73 a :: st) h) := Ex_gd rfl rfl
theorem rX9_drop_29 (Q : Po) (h : Hp) (l0 l2 : Value) (x : Int32) (st : List Value) : Ex mX9_drop Q 29 [l0, .int x, l2] st h = Ex mX9_drop Q 30 [l0, .int x, l2] (.int x :: st) h := Ex_nx rfl rfl
theorem rX9_drop_30 (Q : Po) (h : Hp) (ls : List Value) (st : List Value) (a : Nat) (i : Int32) : Ex mX9_drop Q 30 ls (.int i :: .ref a :: st) h = ((gK h a = 51 ∧ ¬ (i < 0 ∨ gL h a ≤ i.toNatClampNeg)) ∧ Ex mX9_drop Q 31 ls (.int (gI h a i.toNatClampNeg) :: st) h) := Ex_gd rfl rfl
theorem rX9_drop_31 (Q : Po) (h : Hp) (l0 l1 l2 : Value) (x : Int32) (st : List Value) : Ex mX9_drop Q 31 [l0, l1, l2] (.int x :: st) h = Ex mX9_drop Q 32 [l0, l1, .int x] st h := Ex_nx rfl rfl
theorem rX9_drop_32 (Q : Po) (h : Hp) (l1 l2 : Value) (x : Nat) (st : List Value) : Ex mX9_drop Q 32 [.ref x, l1, l2] st h = Ex mX9_drop Q 33 [.ref x, l1, l2] (.ref x :: st) h := Ex_nx rfl rfl
theorem rX9_drop_33 (Q : Po) (h : Hp) (ls : List Value) (st : List Value) (a : Nat) : Ex mX9_drop Q 33 ls (.ref a :: st) h = (gK h a ∈ ([9] : List Nat) ∧ Ex mX9_drop Q 36 ls (gF h 73 a :: st) h) := Ex_gd rfl rfl
theorem rX9_drop_36 (Q : Po) (h : Hp) (l0 l2 : Value) (x : Int32) (st : List Value) : Ex mX9_drop Q 36 [l0, .int x, l2] st h = Ex mX9_drop Q 37 [l0, .int x, l2] (.int x :: st) h := Ex_nx rfl rfl
theorem rX9_drop_37 (Q : Po) (h : Hp) (ls : List Value) (st : List Value) : Ex mX9_drop Q 37 ls st h = Ex mX9_drop Q 38 ls (.int (-1) :: st) h := Ex_nx rfl rfl
theorem rX9_drop_38 (Q : Po) (h : Hp) (ls : List Value) (st : List Value) (a : Nat) (i x : Int32) : Ex mX9_drop Q 38 ls (.int x :: .int i :: .ref a :: st) h = ((gK h a = 51 ∧ ¬ (i < 0 ∨ gL h a ≤ i.toNatClampNeg)) ∧ Ex mX9_drop Q 39 ls st (pI h a i.toNatClampNeg (x))) := Ex_gd rfl rfl
theorem rX9_drop_39 (Q : Po) (h : Hp) (l1 l2 : Value) (x : Nat) (st : List Value) : Ex mX9_drop Q 39 [.ref x, l1, l2] st h = Ex mX9_drop Q 40 [.ref x, l1, l2] (.ref x :: st) h := Ex_nx rfl rfl
theorem rX9_drop_40 (Q : Po) (h : Hp) (l0 l1 : Value) (x : Int32) (st : List Value) : Ex mX9_drop Q 40 [l0, l1, .int x] st h = Ex mX9_drop Q 41 [l0, l1, .int x] (.int x :: st) h := Ex_nx rfl rfl
theorem rX9_drop_41 (Q : Po) (h : Hp) (ls : List Value) (a0 : Int32) (b : Nat) : Ex mX9_drop Q 41 ls (.int a0 :: .ref b :: []) h = (gK h b = 9 ∧ Ex mX9_well (Cont mX9_drop Q 41 ls 44 []) 0 [.ref b, .int a0] [] h) := Ex_cg (n := 2) (as := [.ref b, .int a0]) rfl rfl
theorem rX9_drop_44 (Q : Po) (h : Hp) (ls : List Value) (x : Int32) : Ex mX9_drop Q 44 ls [.int x] h = Q (.inl (some (.int x))) h := Ex_rt rfl rfl
theorem rX9_drop_t (Q : Po) (h : Hp) (pc n a : Nat) (ls st : List Value) : Cont mX9_drop Q pc ls n st (.inr a) h = Q (.inr a) h := rfl
/-! FishReadersModel.feed(I)I -/
def mX9_feed : Cd := ([(0, .inl (i_iload 1 1)),
  (1, .inl (i_i2l 2)),
  (2, .inl (i_push (.long 0) 3)),
  (3, .inl (i_push (.long 255) 6)),
  (6, .inr (c_S 3 9 6 (Mt mX9_in 6))),
  (9, .inl (i_if (fun x => ¬ x = 0) 15 12)),
  (12, .inl (i_push (.int (-1000001)) 14)),
  (14, .inl i_iret),
  (15, .inl (i_aload 0 16)),
  (16, .inl (i_getf 86 [9] 19)),
  (19, .inl (i_push (.int 120) 21)),
  (21, .inl (i_icmp (fun x y => ¬ x = y) 27 24)),
  (24, .inl (i_push (.int (-1000003)) 26)),
  (26, .inl i_iret),
  (27, .inl (i_aload 0 28)),
  (28, .inl (i_getf 85 [9] 31)),
  (31, .inl (i_aload 0 32)),
  (32, .inl (i_getf 86 [9] 35)),
  (35, .inl (i_iload 1 36)),
  (36, .inl (i_iast 51 (fun x => x) 37)),
  (37, .inl (i_aload 0 38)),
  (38, .inl (i_dup 39)),
  (39, .inl (i_getf 86 [9] 42)),
  (42, .inl (i_push (.int 1) 43)),
  (43, .inl (i_bin (fun x y => x + y) 44)),
  (44, .inl (i_putI 86 [9] 47)),
  (47, .inl (i_aload 0 48)),
  (48, .inl (i_getf 86 [9] 51)),
  (51, .inl i_iret)], noH)
theorem rX9_feed_0 (Q : Po) (h : Hp) (l0 : Value) (x : Int32) (st : List Value) : Ex mX9_feed Q 0 [l0, .int x] st h = Ex mX9_feed Q 1 [l0, .int x] (.int x :: st) h := Ex_nx rfl rfl
theorem rX9_feed_1 (Q : Po) (h : Hp) (ls : List Value) (st : List Value) (x : Int32) : Ex mX9_feed Q 1 ls (.int x :: st) h = Ex mX9_feed Q 2 ls (.long x.toInt64 :: st) h := Ex_nx rfl rfl
theorem rX9_feed_2 (Q : Po) (h : Hp) (ls : List Value) (st : List Value) : Ex mX9_feed Q 2 ls st h = Ex mX9_feed Q 3 ls (.long 0 :: st) h := Ex_nx rfl rfl
theorem rX9_feed_3 (Q : Po) (h : Hp) (ls : List Value) (st : List Value) : Ex mX9_feed Q 3 ls st h = Ex mX9_feed Q 6 ls (.long 255 :: st) h := Ex_nx rfl rfl
theorem rX9_feed_6 (Q : Po) (h : Hp) (ls : List Value) (a0 : Int64) (a1 : Int64) (a2 : Int64) : Ex mX9_feed Q 6 ls (.long a2 :: .long a1 :: .long a0 :: []) h = Ex mX9_in (Cont mX9_feed Q 6 ls 9 []) 0 [.long a0, .retAddr 1, .long a1, .retAddr 1, .long a2, .retAddr 1] [] h := Ex_cl (n := 6) (as := [.long a0, .long a1, .long a2]) rfl rfl
theorem rX9_feed_9 (Q : Po) (h : Hp) (ls : List Value) (st : List Value) (x : Int32) : Ex mX9_feed Q 9 ls (.int x :: st) h = if ¬ x = 0 then Ex mX9_feed Q 15 ls st h else Ex mX9_feed Q 12 ls st h := Ex_br rfl rfl
theorem rX9_feed_12 (Q : Po) (h : Hp) (ls : List Value) (st : List Value) : Ex mX9_feed Q 12 ls st h = Ex mX9_feed Q 14 ls (.int (-1000001) :: st) h := Ex_nx rfl rfl
theorem rX9_feed_14 (Q : Po) (h : Hp) (ls : List Value) (x : Int32) : Ex mX9_feed Q 14 ls [.int x] h = Q (.inl (some (.int x))) h := Ex_rt rfl rfl
theorem rX9_feed_15 (Q : Po) (h : Hp) (l1 : Value) (x : Nat) (st : List Value) : Ex mX9_feed Q 15 [.ref x, l1] st h = Ex mX9_feed Q 16 [.ref x, l1] (.ref x :: st) h := Ex_nx rfl rfl
theorem rX9_feed_16 (Q : Po) (h : Hp) (ls : List Value) (st : List Value) (a : Nat) : Ex mX9_feed Q 16 ls (.ref a :: st) h = (gK h a ∈ ([9] : List Nat) ∧ Ex mX9_feed Q 19 ls (gF h 86 a :: st) h) := Ex_gd rfl rfl
theorem rX9_feed_19 (Q : Po) (h : Hp) (ls : List Value) (st : List Value) : Ex mX9_feed Q 19 ls st h = Ex mX9_feed Q 21 ls (.int 120 :: st) h := Ex_nx rfl rfl
theorem rX9_feed_21 (Q : Po) (h : Hp) (ls : List Value) (st : List Value) (x y : Int32) : Ex mX9_feed Q 21 ls (.int y :: .int x :: st) h = if ¬ x = y then Ex mX9_feed Q 27 ls st h else Ex mX9_feed Q 24 ls st h := Ex_br rfl rfl
theorem rX9_feed_24 (Q : Po) (h : Hp) (ls : List Value) (st : List Value) : Ex mX9_feed Q 24 ls st h = Ex mX9_feed Q 26 ls (.int (-1000003) :: st) h := Ex_nx rfl rfl
theorem rX9_feed_26 (Q : Po) (h : Hp) (ls : List Value) (x : Int32) : Ex mX9_feed Q 26 ls [.int x] h = Q (.inl (some (.int x))) h := Ex_rt rfl rfl
theorem rX9_feed_27 (Q : Po) (h : Hp) (l1 : Value) (x : Nat) (st : List Value) : Ex mX9_feed Q 27 [.ref x, l1] st h = Ex mX9_feed Q 28 [.ref x, l1] (.ref x :: st) h := Ex_nx rfl rfl
theorem rX9_feed_28 (Q : Po) (h : Hp) (ls : List Value) (st : List Value) (a : Nat) : Ex mX9_feed Q 28 ls (.ref a :: st) h = (gK h a ∈ ([9] : List Nat) ∧ Ex mX9_feed Q 31 ls (gF h 85 a :: st) h) := Ex_gd rfl rfl
theorem rX9_feed_31 (Q : Po) (h : Hp) (l1 : Value) (x : Nat) (st : List Value) : Ex mX9_feed Q 31 [.ref x, l1] st h = Ex mX9_feed Q 32 [.ref x, l1] (.ref x :: st) h := Ex_nx rfl rfl
theorem rX9_feed_32 (Q : Po) (h : Hp) (ls : List Value) (st : List Value) (a : Nat) : Ex mX9_feed Q 32 ls (.ref a :: st) h = (gK h a ∈ ([9] : List Nat) ∧ Ex mX9_feed Q 35 ls (gF h 86 a :: st) h) := Ex_gd rfl rfl
theorem rX9_feed_35 (Q : Po) (h : Hp) (l0 : Value) (x : Int32) (st : List Value) : Ex mX9_feed Q 35 [l0, .int x] st h = Ex mX9_feed Q 36 [l0, .int x] (.int x :: st) h := Ex_nx rfl rfl
theorem rX9_feed_36 (Q : Po) (h : Hp) (ls : List Value) (st : List Value) (a : Nat) (i x : Int32) : Ex mX9_feed Q 36 ls (.int x :: .int i :: .ref a :: st) h = ((gK h a = 51 ∧ ¬ (i < 0 ∨ gL h a ≤ i.toNatClampNeg)) ∧ Ex mX9_feed Q 37 ls st (pI h a i.toNatClampNeg (x))) := Ex_gd rfl rfl
theorem rX9_feed_37 (Q : Po) (h : Hp) (l1 : Value) (x : Nat) (st : List Value) : Ex mX9_feed Q 37 [.ref x, l1] st h = Ex mX9_feed Q 38 [.ref x, l1] (.ref x :: st) h := Ex_nx rfl rfl
theorem rX9_feed_38 (Q : Po) (h : Hp) (ls : List Value) (st : List Value) (x : Nat) : Ex mX9_feed Q 38 ls (.ref x :: st) h = Ex mX9_feed Q 39 ls (.ref x :: .ref x :: st) h := Ex_nx rfl rfl
theorem rX9_feed_39 (Q : Po) (h : Hp) (ls : List Value) (st : List Value) (a : Nat) : Ex mX9_feed Q 39 ls (.ref a :: st) h = (gK h a ∈ ([9] : List Nat) ∧ Ex mX9_feed Q 42 ls (gF h 86 a :: st) h) := Ex_gd rfl rfl
theorem rX9_feed_42 (Q : Po) (h : Hp) (ls : List Value) (st : List Value) : Ex mX9_feed Q 42 ls st h = Ex mX9_feed Q 43 ls (.int 1 :: st) h := Ex_nx rfl rfl
theorem rX9_feed_43 (Q : Po) (h : Hp) (ls : List Value) (st : List Value) (x y : Int32) : Ex mX9_feed Q 43 ls (.int y :: .int x :: st) h = Ex mX9_feed Q 44 ls (.int (x + y) :: st) h := Ex_nx rfl rfl
theorem rX9_feed_44 (Q : Po) (h : Hp) (ls : List Value) (st : List Value) (x : Int32) (a : Nat) : Ex mX9_feed Q 44 ls (.int x :: .ref a :: st) h = (gK h a ∈ ([9] : List Nat) ∧ Ex mX9_feed Q 47 ls st (pF h 86 a (.int x))) := Ex_gd rfl rfl
theorem rX9_feed_47 (Q : Po) (h : Hp) (l1 : Value) (x : Nat) (st : List Value) : Ex mX9_feed Q 47 [.ref x, l1] st h = Ex mX9_feed Q 48 [.ref x, l1] (.ref x :: st) h := Ex_nx rfl rfl
theorem rX9_feed_48 (Q : Po) (h : Hp) (ls : List Value) (st : List Value) (a : Nat) : Ex mX9_feed Q 48 ls (.ref a :: st) h = (gK h a ∈ ([9] : List Nat) ∧ Ex mX9_feed Q 51 ls (gF h 86 a :: st) h) := Ex_gd rfl rfl
theorem rX9_feed_51 (Q : Po) (h : Hp) (ls : List Value) (x : Int32) : Ex mX9_feed Q 51 ls [.int x] h = Q (.inl (some (.int x))) h := Ex_rt rfl rfl
theorem rX9_feed_t (Q : Po) (h : Hp) (pc n a : Nat) (ls st : List Value) : Cont mX9_feed Q pc ls n st (.inr a) h = Q (.inr a) h := rfl
/-! FishReadersModel.nextToken()V -/
def mX9_nextToken : Cd := ([(0, .inl (i_aload 0 1)),
  (1, .inl (i_aload 0 2)),
  (2, .inl (i_getf 90 [9] 5)),
  (5, .inl (i_putI 96 [9] 8)),
  (8, .inl (i_aload 0 9)),
  (9, .inl (i_aload 0 10)),
  (10, .inl (i_getf 90 [9] 13)),
  (13, .inl (i_aload 0 14)),
  (14, .inl (i_getf 86 [9] 17)),
  (17, .inl (i_icmp (fun x y => ¬ x = y) 24 20)),
  (20, .inl (i_push (.int 3) 21)),
  (21, .inl (i_goto 25)),
  (24, .inl (i_push (.int 0) 25)),
  (25, .inl (i_putI 92 [9] 28)),
  (28, .inl (i_aload 0 29)),
  (29, .inl (i_push (.int 0) 30)),
  (30, .inl (i_putI 94 [9] 33)),
  (33, .inl (i_aload 0 34)),
  (34, .inl (i_getf 90 [9] 37)),
  (37, .inl (i_aload 0 38)),
  (38, .inl (i_getf 86 [9] 41)),
  (41, .inl (i_icmp (fun x y => y ≤ x) 119 44)),
  (44, .inl (i_aload 0 45)),
  (45, .inl (i_getf 85 [9] 48)),
  (48, .inl (i_aload 0 49)),
  (49, .inl (i_getf 90 [9] 52)),
  (52, .inl (i_iald 51 53)),
  (53, .inl (i_i2l 54)),
  (54, .inl (i_push (.long 48) 57)),
  (57, .inl (i_push (.long 57) 60)),
  (60, .inr (c_S 3 63 6 (Mt mX9_in 6))),
  (63, .inl (i_if (fun x => x = 0) 119 66)),
  (66, .inl (i_aload 0 67)),
  (67, .inl (i_aload 0 68)),
  (68, .inl (i_getf 94 [9] 71)),
  (71, .inl (i_push (.int 99) 73)),
  (73, .inl (i_icmp (fun x y => x ≤ y) 83 76)),
  (76, .inl (i_aload 0 77)),
  (77, .inl (i_getf 94 [9] 80)),
  (80, .inl (i_goto 103)),
  (83, .inl (i_push (.int 10) 85)),
  (85, .inl (i_aload 0 86)),
  (86, .inl (i_getf 94 [9] 89)),
  (89, .inl (i_bin (fun x y => x * y) 90)),
  (90, .inl (i_aload 0 91)),
  (91, .inl (i_getf 85 [9] 94)),
  (94, .inl (i_aload 0 95)),
  (95, .inl (i_getf 90 [9] 98)),
  (98, .inl (i_iald 51 99)),
  (99, .inl (i_bin (fun x y => x + y) 100)),
  (100, .inl (i_push (.int 48) 102)),
  (102, .inl (i_bin (fun x y => x - y) 103)),
  (103, .inl (i_putI 94 [9] 106)),
  (106, .inl (i_aload 0 107)),
  (107, .inl (i_dup 108)),
  (108, .inl (i_getf 90 [9] 111)),
  (111, .inl (i_push (.int 1) 112)),
  (112, .inl (i_bin (fun x y => x + y) 113)),
  (113, .inl (i_putI 90 [9] 116)),
  (116, .inl (i_goto 33)),
  (119, .inl (i_aload 0 120)),
  (120, .inl (i_getf 90 [9] 123)),
  (123, .inl (i_aload 0 124)),
  (124, .inl (i_getf 96 [9] 127)),
  (127, .inl (i_icmp (fun x y => x ≤ y) 155 130)),
  (130, .inl (i_aload 0 131)),
  (131, .inl (i_aload 0 132)),
  (132, .inl (i_getf 90 [9] 135)),
  (135, .inl (i_aload 0 136)),
  (136, .inl (i_getf 96 [9] 139)),
  (139, .inl (i_bin (fun x y => x - y) 140)),
  (140, .inl (i_push (.int 2) 141)),
  (141, .inl (i_icmp (fun x y => x ≤ y) 148 144)),
  (144, .inl (i_push (.int 0) 145)),
  (145, .inl (i_goto 149)),
  (148, .inl (i_push (.int 2) 149)),
  (149, .inl (i_putI 92 [9] 152)),
  (152, .inl (i_goto 229)),
  (155, .inl (i_aload 0 156)),
  (156, .inl (i_getf 92 [9] 159)),
  (159, .inl (i_if (fun x => ¬ x = 0) 229 162)),
  (162, .inl (i_aload 0 163)),
  (163, .inl (i_aload 0 164)),
  (164, .inl (i_getf 85 [9] 167)),
  (167, .inl (i_aload 0 168)),
  (168, .inl (i_getf 90 [9] 171)),
  (171, .inl (i_iald 51 172)),
  (172, .inl (i_putI 94 [9] 175)),
  (175, .inl (i_aload 0 176)),
  (176, .inl (i_aload 0 177)),
  (177, .inl (i_getf 94 [9] 180)),
  (180, .inl (i_i2l 181)),
  (181, .inl (i_push (.long 97) 184)),
  (184, .inl (i_push (.long 122) 187)),
  (187, .inr (c_S 3 190 6 (Mt mX9_in 6))),
  (190, .inl (i_if (fun x => ¬ x = 0) 211 193)),
  (193, .inl (i_aload 0 194)),
  (194, .inl (i_getf 94 [9] 197)),
  (197, .inl (i_push (.int 44) 199)),
  (199, .inl (i_icmp (fun x y => x = y) 211 202)),
  (202, .inl (i_aload 0 203)),
  (203, .inl (i_getf 94 [9] 206)),
  (206, .inl (i_push (.int 59) 208)),
  (208, .inl (i_icmp (fun x y => ¬ x = y) 215 211)),
  (211, .inl (i_push (.int 1) 212)),
  (212, .inl (i_goto 216)),
  (215, .inl (i_push (.int 0) 216)),
  (216, .inl (i_putI 92 [9] 219)),
  (219, .inl (i_aload 0 220)),
  (220, .inl (i_dup 221)),
  (221, .inl (i_getf 90 [9] 224)),
  (224, .inl (i_push (.int 1) 225)),
  (225, .inl (i_bin (fun x y => x + y) 226)),
  (226, .inl (i_putI 90 [9] 229)),
  (229, .inl i_vret)], noH)
theorem rX9_nextToken_0 (Q : Po) (h : Hp) (x : Nat) (st : List Value) : Ex mX9_nextToken Q 0 [.ref x] st h = Ex mX9_nextToken Q 1 [.ref x] (.ref x :: st) h := Ex_nx rfl rfl
theorem rX9_nextToken_1 (Q : Po) (h : Hp) (x : Nat) (st : List Value) : Ex mX9_nextToken Q 1 [.ref x] st h = Ex mX9_nextToken Q 2 [.ref x] (.ref x :: st) h := Ex_nx rfl rfl
theorem rX9_nextToken_2 (Q : Po) (h : Hp) (ls : List Value) (st : List Value) (a : Nat) : Ex mX9_nextToken Q 2 ls (.ref a :: st) h = (gK h a ∈ ([9] : List Nat) ∧ Ex mX9_nextToken Q 5 ls (gF h 90 a :: st) h) := Ex_gd rfl rfl
theorem rX9_nextToken_5 (Q : Po) (h : Hp) (ls : List Value) (st : List Value) (x : Int32) (a : Nat) : Ex mX9_nextToken Q 5 ls (.int x :: .ref a :: st) h = (gK h a ∈ ([9] : List Nat) ∧ Ex mX9_nextToken Q 8 ls st (pF h 96 a (.int x))) := Ex_gd rfl rfl
theorem rX9_nextToken_8 (Q : Po) (h : Hp) (x : Nat) (st : List Value) : Ex mX9_nextToken Q 8 [.ref x] st h = Ex mX9_nextToken Q 9 [.ref x] (.ref x :: st) h := Ex_nx rfl rfl
theorem rX9_nextToken_9 (Q : Po) (h : Hp) (x : Nat) (st : List Value) : Ex mX9_nextToken Q 9 [.ref x] st h = Ex mX9_nextToken Q 10 [.ref x] (.ref x :: st) h := Ex_nx rfl rfl
theorem rX9_nextToken_10 (Q : Po) (h : Hp) (ls : List Value) (st : List Value) (a : Nat) : Ex mX9_nextToken Q 10 ls (.ref a :: st) h = (gK h a ∈ ([9] : List Nat) ∧ Ex mX9_nextToken Q 13 ls (gF h 90 a :: st) h) := Ex_gd rfl rfl
theorem rX9_nextToken_13 (Q : Po) (h : Hp) (x : Nat) (st : List Value) : Ex mX9_nextToken Q 13 [.ref x] st h = Ex mX9_nextToken Q 14 [.ref x] (.ref x :: st) h := Ex_nx rfl rfl
theorem rX9_nextToken_14 (Q : Po) (h : Hp) (ls : List Value) (st : List Value) (a : Nat) : Ex mX9_nextToken Q 14 ls (.ref a :: st) h = (gK h a ∈ ([9] : List Nat) ∧ Ex mX9_nextToken Q 17 ls (gF h 86 a :: st) h) := Ex_gd rfl rfl
theorem rX9_nextToken_17 (Q : Po) (h : Hp) (ls : List Value) (st : List Value) (x y : Int32) : Ex mX9_nextToken Q 17 ls (.int y :: .int x :: st) h = if ¬ x = y then Ex mX9_nextToken Q 24 ls st h else Ex mX9_nextToken Q 20 ls st h := Ex_br rfl rfl
theorem rX9_nextToken_20 (Q : Po) (h : Hp) (ls : List Value) (st : List Value) : Ex mX9_nextToken Q 20 ls st h = Ex mX9_nextToken Q 21 ls (.int 3 :: st) h := Ex_nx rfl rfl
theorem rX9_nextToken_21 (Q : Po) (h : Hp) (ls : List Value) (st : List Value) : Ex mX9_nextToken Q 21 ls st h = Ex mX9_nextToken Q 25 ls st h := Ex_nx rfl rfl
theorem rX9_nextToken_24 (Q : Po) (h : Hp) (ls : List Value) (st : List Value) : Ex mX9_nextToken Q 24 ls st h = Ex mX9_nextToken Q 25 ls (.int 0 :: st) h := Ex_nx rfl rfl
theorem rX9_nextToken_25 (Q : Po) (h : Hp) (ls : List Value) (st : List Value) (x : Int32) (a : Nat) : Ex mX9_nextToken Q 25 ls (.int x :: .ref a :: st) h = (gK h a ∈ ([9] : List Nat) ∧ Ex mX9_nextToken Q 28 ls st (pF h 92 a (.int x))) := Ex_gd rfl rfl
theorem rX9_nextToken_28 (Q : Po) (h : Hp) (x : Nat) (st : List Value) : Ex mX9_nextToken Q 28 [.ref x] st h = Ex mX9_nextToken Q 29 [.ref x] (.ref x :: st) h := Ex_nx rfl rfl
theorem rX9_nextToken_29 (Q : Po) (h : Hp) (ls : List Value) (st : List Value) : Ex mX9_nextToken Q 29 ls st h = Ex mX9_nextToken Q 30 ls (.int 0 :: st) h := Ex_nx rfl rfl
theorem rX9_nextToken_30 (Q : Po) (h : Hp) (ls : List Value) (st : List Value) (x : Int32) (a : Nat) : Ex mX9_nextToken Q 30 ls (.int x :: .ref a :: st) h = (gK h a ∈ ([9] : List Nat) ∧ Ex mX9_nextToken Q 33 ls st (pF h 94 a (.int x))) := Ex_gd rfl rfl
theorem rX9_nextToken_33 (Q : Po) (h : Hp) (x : Nat) (st : List Value) : Ex mX9_nextToken Q 33 [.ref x] st h = Ex mX9_nextToken Q 34 [.ref x] (.ref x :: st) h := Ex_nx rfl rfl
theorem rX9_nextToken_34 (Q : Po) (h : Hp) (ls : List Value) (st : List Value) (a : Nat) : Ex mX9_nextToken Q 34 ls (.ref a :: st) h = (gK h a ∈ ([9] : List Nat) ∧ Ex mX9_nextToken Q 37 ls (gF h 90 a :: st) h) := Ex_gd rfl rfl
theorem rX9_nextToken_37 (Q : Po) (h : Hp) (x : Nat) (st : List Value) : Ex mX9_nextToken Q 37 [.ref x] st h = Ex mX9_nextToken Q 38 [.ref x] (.ref x :: st) h := Ex_nx rfl rfl
theorem rX9_nextToken_38 (Q : Po) (h : Hp) (ls : List Value) (st : List Value) (a : Nat) : Ex mX9_nextToken Q 38 ls (.ref a :: st) h = (gK h a ∈ ([9] : List Nat) ∧ Ex mX9_nextToken Q 41 ls (gF h 86 a :: st) h) := Ex_gd rfl rfl
theorem rX9_nextToken_41 (Q : Po) (h : Hp) (ls : List Value) (st : List Value) (x y : Int32) : Ex mX9_nextToken Q 41 ls (.int y :: .int x :: st) h = if y ≤ x then Ex mX9_nextToken Q 119 ls st h else Ex mX9_nextToken Q 44 ls st h := Ex_br rfl rfl
theorem rX9_nextToken_44 (Q : Po) (h : Hp) (x : Nat) (st : List Value) : Ex mX9_nextToken Q 44 [.ref x] st h = Ex mX9_nextToken Q 45 [.ref x] (.ref x :: st) h := Ex_nx rfl rfl
theorem rX9_nextToken_45 (Q : Po) (h : Hp) (ls : List Value) (st : List Value) (a : Nat) : Ex mX9_nextToken Q 45 ls (.ref a :: st) h = (gK h a ∈ ([9] : List Nat) ∧ Ex mX9_nextToken Q 48 ls (gF h 85 a :: st) h) := Ex_gd rfl rfl
theorem rX9_nextToken_48 (Q : Po) (h : Hp) (x : Nat) (st : List Value) : Ex mX9_nextToken Q 48 [.ref x] st h = Ex mX9_nextToken Q 49 [.ref x] (.ref x :: st) h := Ex_nx rfl rfl
theorem rX9_nextToken_49 (Q : Po) (h : Hp) (ls : List Value) (st : List Value) (a : Nat) : Ex mX9_nextToken Q 49 ls (.ref a :: st) h = (gK h a ∈ ([9] : List Nat) ∧ Ex mX9_nextToken Q 52 ls (gF h 90 a :: st) h) := Ex_gd rfl rfl
theorem rX9_nextToken_52 (Q : Po) (h : Hp) (ls : List Value) (st : List Value) (a : Nat) (i : Int32) : Ex mX9_nextToken Q 52 ls (.int i :: .ref a :: st) h = ((gK h a = 51 ∧ ¬ (i < 0 ∨ gL h a ≤ i.toNatClampNeg)) ∧ Ex mX9_nextToken Q 53 ls (.int (gI h a i.toNatClampNeg) :: st) h) := Ex_gd rfl rfl
theorem rX9_nextToken_53 (Q : Po) (h : Hp) (ls : List Value) (st : List Value) (x : Int32) : Ex mX9_nextToken Q 53 ls (.int x :: st) h = Ex mX9_nextToken Q 54 ls (.long x.toInt64 :: st) h := Ex_nx rfl rfl
theorem rX9_nextToken_54 (Q : Po) (h : Hp) (ls : List Value) (st : List Value) : Ex mX9_nextToken Q 54 ls st h = Ex mX9_nextToken Q 57 ls (.long 48 :: st) h := Ex_nx rfl rfl
theorem rX9_nextToken_57 (Q : Po) (h : Hp) (ls : List Value) (st : List Value) : Ex mX9_nextToken Q 57 ls st h = Ex mX9_nextToken Q 60 ls (.long 57 :: st) h := Ex_nx rfl rfl
theorem rX9_nextToken_60 (Q : Po) (h : Hp) (ls : List Value) (a0 : Int64) (a1 : Int64) (a2 : Int64) : Ex mX9_nextToken Q 60 ls (.long a2 :: .long a1 :: .long a0 :: []) h = Ex mX9_in (Cont mX9_nextToken Q 60 ls 63 []) 0 [.long a0, .retAddr 1, .long a1, .retAddr 1, .long a2, .retAddr 1] [] h := Ex_cl (n := 6) (as := [.long a0, .long a1, .long a2]) rfl rfl
theorem rX9_nextToken_63 (Q : Po) (h : Hp) (ls : List Value) (st : List Value) (x : Int32) : Ex mX9_nextToken Q 63 ls (.int x :: st) h = if x = 0 then Ex mX9_nextToken Q 119 ls st h else Ex mX9_nextToken Q 66 ls st h := Ex_br rfl rfl
theorem rX9_nextToken_66 (Q : Po) (h : Hp) (x : Nat) (st : List Value) : Ex mX9_nextToken Q 66 [.ref x] st h = Ex mX9_nextToken Q 67 [.ref x] (.ref x :: st) h := Ex_nx rfl rfl
theorem rX9_nextToken_67 (Q : Po) (h : Hp) (x : Nat) (st : List Value) : Ex mX9_nextToken Q 67 [.ref x] st h = Ex mX9_nextToken Q 68 [.ref x] (.ref x :: st) h := Ex_nx rfl rfl
theorem rX9_nextToken_68 (Q : Po) (h : Hp) (ls : List Value) (st : List Value) (a : Nat) : Ex mX9_nextToken Q 68 ls (.ref a :: st) h = (gK h a ∈ ([9] : List Nat) ∧ Ex mX9_nextToken Q 71 ls (gF h 94 a :: st) h) := Ex_gd rfl rfl
theorem rX9_nextToken_71 (Q : Po) (h : Hp) (ls : List Value) (st : List Value) : Ex mX9_nextToken Q 71 ls st h = Ex mX9_nextToken Q 73 ls (.int 99 :: st) h := Ex_nx rfl rfl
theorem rX9_nextToken_73 (Q : Po) (h : Hp) (ls : List Value) (st : List Value) (x y : Int32) : Ex mX9_nextToken Q 73 ls (.int y :: .int x :: st) h = if x ≤ y then Ex mX9_nextToken Q 83 ls st h else Ex mX9_nextToken Q 76 ls st h := Ex_br rfl rfl
theorem rX9_nextToken_76 (Q : Po) (h : Hp) (x : Nat) (st : List Value) : Ex mX9_nextToken Q 76 [.ref x] st h = Ex mX9_nextToken Q 77 [.ref x] (.ref x :: st) h := Ex_nx rfl rfl
theorem rX9_nextToken_77 (Q : Po) (h : Hp) (ls : List Value) (st : List Value) (a : Nat) : Ex mX9_nextToken Q 77 ls (.ref a :: st) h = (gK h a ∈ ([9] : List Nat) ∧ Ex mX9_nextToken Q 80 ls (gF h 94 a :: st) h) := Ex_gd rfl rfl
theorem rX9_nextToken_80 (Q : Po) (h : Hp) (ls : List Value) (st : List Value) : Ex mX9_nextToken Q 80 ls st h = Ex mX9_nextToken Q 103 ls st h := Ex_nx rfl rfl
theorem rX9_nextToken_83 (Q : Po) (h : Hp) (ls : List Value) (st : List Value) : Ex mX9_nextToken Q 83 ls st h = Ex mX9_nextToken Q 85 ls (.int 10 :: st) h := Ex_nx rfl rfl
theorem rX9_nextToken_85 (Q : Po) (h : Hp) (x : Nat) (st : List Value) : Ex mX9_nextToken Q 85 [.ref x] st h = Ex mX9_nextToken Q 86 [.ref x] (.ref x :: st) h := Ex_nx rfl rfl
theorem rX9_nextToken_86 (Q : Po) (h : Hp) (ls : List Value) (st : List Value) (a : Nat) : Ex mX9_nextToken Q 86 ls (.ref a :: st) h = (gK h a ∈ ([9] : List Nat) ∧ Ex mX9_nextToken Q 89 ls (gF h 94 a :: st) h) := Ex_gd rfl rfl
theorem rX9_nextToken_89 (Q : Po) (h : Hp) (ls : List Value) (st : List Value) (x y : Int32) : Ex mX9_nextToken Q 89 ls (.int y :: .int x :: st) h = Ex mX9_nextToken Q 90 ls (.int (x * y) :: st) h := Ex_nx rfl rfl
theorem rX9_nextToken_90 (Q : Po) (h : Hp) (x : Nat) (st : List Value) : Ex mX9_nextToken Q 90 [.ref x] st h = Ex mX9_nextToken Q 91 [.ref x] (.ref x :: st) h := Ex_nx rfl rfl
theorem rX9_nextToken_91 (Q : Po) (h : Hp) (ls : List Value) (st : List Value) (a : Nat) : Ex mX9_nextToken Q 91 ls (.ref a :: st) h = (gK h a ∈ ([9] : List Nat) ∧ Ex mX9_nextToken Q 94 ls (gF h 85 a :: st) h) := Ex_gd rfl rfl
theorem rX9_nextToken_94 (Q : Po) (h : Hp) (x : Nat) (st : List Value) : Ex mX9_nextToken Q 94 [.ref x] st h = Ex mX9_nextToken Q 95 [.ref x] (.ref x :: st) h := Ex_nx rfl rfl
theorem rX9_nextToken_95 (Q : Po) (h : Hp) (ls : List Value) (st : List Value) (a : Nat) : Ex mX9_nextToken Q 95 ls (.ref a :: st) h = (gK h a ∈ ([9] : List Nat) ∧ Ex mX9_nextToken Q 98 ls (gF h 90 a :: st) h) := Ex_gd rfl rfl
theorem rX9_nextToken_98 (Q : Po) (h : Hp) (ls : List Value) (st : List Value) (a : Nat) (i : Int32) : Ex mX9_nextToken Q 98 ls (.int i :: .ref a :: st) h = ((gK h a = 51 ∧ ¬ (i < 0 ∨ gL h a ≤ i.toNatClampNeg)) ∧ Ex mX9_nextToken Q 99 ls (.int (gI h a i.toNatClampNeg) :: st) h) := Ex_gd rfl rfl
theorem rX9_nextToken_99 (Q : Po) (h : Hp) (ls : List Value) (st : List Value) (x y : Int32) : Ex mX9_nextToken Q 99 ls (.int y :: .int x :: st) h = Ex mX9_nextToken Q 100 ls (.int (x + y) :: st) h := Ex_nx rfl rfl
theorem rX9_nextToken_100 (Q : Po) (h : Hp) (ls : List Value) (st : List Value) : Ex mX9_nextToken Q 100 ls st h = Ex mX9_nextToken Q 102 ls (.int 48 :: st) h := Ex_nx rfl rfl
theorem rX9_nextToken_102 (Q : Po) (h : Hp) (ls : List Value) (st : List Value) (x y : Int32) : Ex mX9_nextToken Q 102 ls (.int y :: .int x :: st) h = Ex mX9_nextToken Q 103 ls (.int (x - y) :: st) h := Ex_nx rfl rfl
theorem rX9_nextToken_103 (Q : Po) (h : Hp) (ls : List Value) (st : List Value) (x : Int32) (a : Nat) : Ex mX9_nextToken Q 103 ls (.int x :: .ref a :: st) h = (gK h a ∈ ([9] : List Nat) ∧ Ex mX9_nextToken Q 106 ls st (pF h 94 a (.int x))) := Ex_gd rfl rfl
theorem rX9_nextToken_106 (Q : Po) (h : Hp) (x : Nat) (st : List Value) : Ex mX9_nextToken Q 106 [.ref x] st h = Ex mX9_nextToken Q 107 [.ref x] (.ref x :: st) h := Ex_nx rfl rfl
theorem rX9_nextToken_107 (Q : Po) (h : Hp) (ls : List Value) (st : List Value) (x : Nat) : Ex mX9_nextToken Q 107 ls (.ref x :: st) h = Ex mX9_nextToken Q 108 ls (.ref x :: .ref x :: st) h := Ex_nx rfl rfl
theorem rX9_nextToken_108 (Q : Po) (h : Hp) (ls : List Value) (st : List Value) (a : Nat) : Ex mX9_nextToken Q 108 ls (.ref a :: st) h = (gK h a ∈ ([9] : List Nat) ∧ Ex mX9_nextToken Q 111 ls (gF h 90 a :: st) h) := Ex_gd rfl rfl
theorem rX9_nextToken_111 (Q : Po) (h : Hp) (ls : List Value) (st : List Value) : Ex mX9_nextToken Q 111 ls st h = Ex mX9_nextToken Q 112 ls (.int 1 :: st) h := Ex_nx rfl rfl
theorem rX9_nextToken_112 (Q : Po) (h : Hp) (ls : List Value) (st : List Value) (x y : Int32) : Ex mX9_nextToken Q 112 ls (.int y :: .int x :: st) h = Ex mX9_nextToken Q 113 ls (.int (x + y) :: st) h := Ex_nx rfl rfl
theorem rX9_nextToken_113 (Q : Po) (h : Hp) (ls : List Value) (st : List Value) (x : Int32) (a : Nat) : Ex mX9_nextToken Q 113 ls (.int x :: .ref a :: st) h = (gK h a ∈ ([9] : List Nat) ∧ Ex mX9_nextToken Q 116 ls st (pF h 90 a (.int x))) := Ex_gd rfl rfl
theorem rX9_nextToken_116 (Q : Po) (h : Hp) (ls : List Value) (st : List Value) : Ex mX9_nextToken Q 116 ls st h = Ex mX9_nextToken Q 33 ls st h := Ex_nx rfl rfl
theorem rX9_nextToken_119 (Q : Po) (h : Hp) (x : Nat) (st : List Value) : Ex mX9_nextToken Q 119 [.ref x] st h = Ex mX9_nextToken Q 120 [.ref x] (.ref x :: st) h := Ex_nx rfl rfl
theorem rX9_nextToken_120 (Q : Po) (h : Hp) (ls : List Value) (st : List Value) (a : Nat) : Ex mX9_nextToken Q 120 ls (.ref a :: st) h = (gK h a ∈ ([9] : List Nat) ∧ Ex mX9_nextToken Q 123 ls (gF h 90 a :: st) h) := Ex_gd rfl rfl
theorem rX9_nextToken_123 (Q : Po) (h : Hp) (x : Nat) (st : List Value) : Ex mX9_nextToken Q 123 [.ref x] st h = Ex mX9_nextToken Q 124 [.ref x] (.ref x :: st) h := Ex_nx rfl rfl
theorem rX9_nextToken_124 (Q : Po) (h : Hp) (ls : List Value) (st : List Value) (a : Nat) : Ex mX9_nextToken Q 124 ls (.ref a :: st) h = (gK h a ∈ ([9] : List Nat) ∧ Ex mX9_nextToken Q 127 ls (gF h 96 a :: st) h) := Ex_gd rfl rfl
theorem rX9_nextToken_127 (Q : Po) (h : Hp) (ls : List Value) (st : List Value) (x y : Int32) : Ex mX9_nextToken Q 127 ls (.int y :: .int x :: st) h = if x ≤ y then Ex mX9_nextToken Q 155 ls st h else Ex mX9_nextToken Q 130 ls st h := Ex_br rfl rfl
theorem rX9_nextToken_130 (Q : Po) (h : Hp) (x : Nat) (st : List Value) : Ex mX9_nextToken Q 130 [.ref x] st h = Ex mX9_nextToken Q 131 [.ref x] (.ref x :: st) h := Ex_nx rfl rfl
theorem rX9_nextToken_131 (Q : Po) (h : Hp) (x : Nat) (st : List Value) : Ex mX9_nextToken Q 131 [.ref x] st h = Ex mX9_nextToken Q 132 [.ref x] (.ref x :: st) h := Ex_nx rfl rfl
theorem rX9_nextToken_132 (Q : Po) (h : Hp) (ls : List Value) (st : List Value) (a : Nat) : Ex mX9_nextToken Q 132 ls (.ref a :: st) h = (gK h a ∈ ([9] : List Nat) ∧ Ex mX9_nextToken Q 135 ls (gF h 90 a :: st) h) := Ex_gd rfl rfl
theorem rX9_nextToken_135 (Q : Po) (h : Hp) (x : Nat) (st : List Value) : Ex mX9_nextToken Q 135 [.ref x] st h = Ex mX9_nextToken Q 136 [.ref x] (.ref x :: st) h := Ex_nx rfl rfl
theorem rX9_nextToken_136 (Q : Po) (h : Hp) (ls : List Value) (st : List Value) (a : Nat) : Ex mX9_nextToken Q 136 ls (.ref a :: st) h = (gK h a ∈ ([9] : List Nat) ∧ Ex mX9_nextToken Q 139 ls (gF h 96 a :: st) h) := Ex_gd rfl rfl
theorem rX9_nextToken_139 (Q : Po) (h : Hp) (ls : List Value) (st : List Value) (x y : Int32) : Ex mX9_nextToken Q 139 ls (.int y :: .int x :: st) h = Ex mX9_nextToken Q 140 ls (.int (x - y) :: st) h := Ex_nx rfl rfl
theorem rX9_nextToken_140 (Q : Po) (h : Hp) (ls : List Value) (st : List Value) : Ex mX9_nextToken Q 140 ls st h = Ex mX9_nextToken Q 141 ls (.int 2 :: st) h := Ex_nx rfl rfl
theorem rX9_nextToken_141 (Q : Po) (h : Hp) (ls : List Value) (st : List Value) (x y : Int32) : Ex mX9_nextToken Q 141 ls (.int y :: .int x :: st) h = if x ≤ y then Ex mX9_nextToken Q 148 ls st h else Ex mX9_nextToken Q 144 ls st h := Ex_br rfl rfl
theorem rX9_nextToken_144 (Q : Po) (h : Hp) (ls : List Value) (st : List Value) : Ex mX9_nextToken Q 144 ls st h = Ex mX9_nextToken Q 145 ls (.int 0 :: st) h := Ex_nx rfl rfl
theorem rX9_nextToken_145 (Q : Po) (h : Hp) (ls : List Value) (st : List Value) : Ex mX9_nextToken Q 145 ls st h = Ex mX9_nextToken Q 149 ls st h := Ex_nx rfl rfl
theorem rX9_nextToken_148 (Q : Po) (h : Hp) (ls : List Value) (st : List Value) : Ex mX9_nextToken Q 148 ls st h = Ex mX9_nextToken Q 149 ls (.int 2 :: st) h := Ex_nx rfl rfl
theorem rX9_nextToken_149 (Q : Po) (h : Hp) (ls : List Value) (st : List Value) (x : Int32) (a : Nat) : Ex mX9_nextToken Q 149 ls (.int x :: .ref a :: st) h = (gK h a ∈ ([9] : List Nat) ∧ Ex mX9_nextToken Q 152 ls st (pF h 92 a (.int x))) := Ex_gd rfl rfl
theorem rX9_nextToken_152 (Q : Po) (h : Hp) (ls : List Value) (st : List Value) : Ex mX9_nextToken Q 152 ls st h = Ex mX9_nextToken Q 229 ls st h := Ex_nx rfl rfl
theorem rX9_nextToken_155 (Q : Po) (h : Hp) (x : Nat) (st : List Value) : Ex mX9_nextToken Q 155 [.ref x] st h = Ex mX9_nextToken Q 156 [.ref x] (.ref x :: st) h := Ex_nx rfl rfl
theorem rX9_nextToken_156 (Q : Po) (h : Hp) (ls : List Value) (st : List Value) (a : Nat) : Ex mX9_nextToken Q 156 ls (.ref a :: st) h = (gK h a ∈ ([9] : List Nat) ∧ Ex mX9_nextToken Q 159 ls (gF h 92 a :: st) h) := Ex_gd rfl rfl
theorem rX9_nextToken_159 (Q : Po) (h : Hp) (ls : List Value) (st : List Value) (x : Int32) : Ex mX9_nextToken Q 159 ls (.int x :: st) h = if ¬ x = 0 then Ex mX9_nextToken Q 229 ls st h else Ex mX9_nextToken Q 162 ls st h := Ex_br rfl rfl
theorem rX9_nextToken_162 (Q : Po) (h : Hp) (x : Nat) (st : List Value) : Ex mX9_nextToken Q 162 [.ref x] st h = Ex mX9_nextToken Q 163 [.ref x] (.ref x :: st) h := Ex_nx rfl rfl
theorem rX9_nextToken_163 (Q : Po) (h : Hp) (x : Nat) (st : List Value) : Ex mX9_nextToken Q 163 [.ref x] st h = Ex mX9_nextToken Q 164 [.ref x] (.ref x :: st) h := Ex_nx rfl rfl
theorem rX9_nextToken_164 (Q : Po) (h : Hp) (ls : List Value) (st : List Value) (a : Nat) : Ex mX9_nextToken Q 164 ls (.ref a :: st) h = (gK h a ∈ ([9] : List Nat) ∧ Ex mX9_nextToken Q 167 ls (gF h 85 a :: st) h) := Ex_gd rfl rfl
theorem rX9_nextToken_167 (Q : Po) (h : Hp) (x : Nat) (st : List Value) : Ex mX9_nextToken Q 167 [.ref x] st h = Ex mX9_nextToken Q 168 [.ref x] (.ref x :: st) h := Ex_nx rfl rfl
theorem rX9_nextToken_168 (Q : Po) (h : Hp) (ls : List Value) (st : List Value) (a : Nat) : Ex mX9_nextToken Q 168 ls (.ref a :: st) h = (gK h a ∈ ([9] : List Nat) ∧ Ex mX9_nextToken Q 171 ls (gF h 90 a :: st) h) := Ex_gd rfl rfl
theorem rX9_nextToken_171 (Q : Po) (h : Hp) (ls : List Value) (st : List Value) (a : Nat) (i : Int32) : Ex mX9_nextToken Q 171 ls (.int i :: .ref a :: st) h = ((gK h a = 51 ∧ ¬ (i < 0 ∨ gL h a ≤ i.toNatClampNeg)) ∧ Ex mX9_nextToken Q 172 ls (.int (gI h a i.toNatClampNeg) :: st) h) := Ex_gd rfl rfl
theorem rX9_nextToken_172 (Q : Po) (h : Hp) (ls : List Value) (st : List Value) (x : Int32) (a : Nat) : Ex mX9_nextToken Q 172 ls (.int x :: .ref a :: st) h = (gK h a ∈ ([9] : List Nat) ∧ Ex mX9_nextToken Q 175 ls st (pF h 94 a (.int x))) := Ex_gd rfl rfl
theorem rX9_nextToken_175 (Q : Po) (h : Hp) (x : Nat) (st : List Value) : Ex mX9_nextToken Q 175 [.ref x] st h = Ex mX9_nextToken Q 176 [.ref x] (.ref x :: st) h := Ex_nx rfl rfl
theorem rX9_nextToken_176 (Q : Po) (h : Hp) (x : Nat) (st : List Value) : Ex mX9_nextToken Q 176 [.ref x] st h = Ex mX9_nextToken Q 177 [.ref x] (.ref x :: st) h := Ex_nx rfl rfl
theorem rX9_nextToken_177 (Q : Po) (h : Hp) (ls : List Value) (st : List Value) (a : Nat) : Ex mX9_nextToken Q 177 ls (.ref a :: st) h = (gK h a ∈ ([9] : List Nat) ∧ Ex mX9_nextToken Q 180 ls (gF h 94 a :: st) h) := Ex_gd rfl rfl
theorem rX9_nextToken_180 (Q : Po) (h : Hp) (ls : List Value) (st : List Value) (x : Int32) : Ex mX9_nextToken Q 180 ls (.int x :: st) h = Ex mX9_nextToken Q 181 ls (.long x.toInt64 :: st) h := Ex_nx rfl rfl
theorem rX9_nextToken_181 (Q : Po) (h : Hp) (ls : List Value) (st : List Value) : Ex mX9_nextToken Q 181 ls st h = Ex mX9_nextToken Q 184 ls (.long 97 :: st) h := Ex_nx rfl rfl
theorem rX9_nextToken_184 (Q : Po) (h : Hp) (ls : List Value) (st : List Value) : Ex mX9_nextToken Q 184 ls st h = Ex mX9_nextToken Q 187 ls (.long 122 :: st) h := Ex_nx rfl rfl
theorem rX9_nextToken_187 (Q : Po) (h : Hp) (ls : List Value) (a0 : Int64) (a1 : Int64) (a2 : Int64) (s0 : Value) : Ex mX9_nextToken Q 187 ls (.long a2 :: .long a1 :: .long a0 :: [s0]) h = Ex mX9_in (Cont mX9_nextToken Q 187 ls 190 [s0]) 0 [.long a0, .retAddr 1, .long a1, .retAddr 1, .long a2, .retAddr 1] [] h := Ex_cl (n := 6) (as := [.long a0, .long a1, .long a2]) rfl rfl
theorem rX9_nextToken_190 (Q : Po) (h : Hp) (ls : List Value) (st : List Value) (x : Int32) : Ex mX9_nextToken Q 190 ls (.int x :: st) h = if ¬ x = 0 then Ex mX9_nextToken Q 211 ls st h else Ex mX9_nextToken Q 193 ls st h := Ex_br rfl rfl
theorem rX9_nextToken_193 (Q : Po) (h : Hp) (x : Nat) (st : List Value) : Ex mX9_nextToken Q 193 [.ref x] st h = Ex mX9_nextToken Q 194 [.ref x] (.ref x :: st) h := Ex_nx rfl rfl
theorem rX9_nextToken_194 (Q : Po) (h : Hp) (ls : List Value) (st : List Value) (a : Nat) : Ex mX9_nextToken Q 194 ls (.ref a :: st) h = (gK h a ∈ ([9] : List Nat) ∧ Ex mX9_nextToken Q 197 ls (gF h 94 a :: st) h) := Ex_gd rfl rfl
theorem rX9_nextToken_197 (Q : Po) (h : Hp) (ls : List Value) (st : List Value) : Ex mX9_nextToken Q 197 ls st h = Ex mX9_nextToken Q 199 ls (.int 44 :: st) h := Ex_nx rfl rfl
theorem rX9_nextToken_199 (Q : Po) (h : Hp) (ls : List Value) (st : List Value) (x y : Int32) : Ex mX9_nextToken Q 199 ls (.int y :: .int x :: st) h = if x = y then Ex mX9_nextToken Q 211 ls st h else Ex mX9_nextToken Q 202 ls st h := Ex_br rfl rfl
theorem rX9_nextToken_202 (Q : Po) (h : Hp) (x : Nat) (st : List Value) : Ex mX9_nextToken Q 202 [.ref x] st h = Ex mX9_nextToken Q 203 [.ref x] (.ref x :: st) h := Ex_nx rfl rfl
theorem rX9_nextToken_203 (Q : Po) (h : Hp) (ls : List Value) (st : List Value) (a : Nat) : Ex mX9_nextToken Q 203 ls (.ref a :: st) h = (gK h a ∈ ([9] : List Nat) ∧ Ex mX9_nextToken Q 206 ls (gF h 94 a :: st) h) := Ex_gd rfl rfl
theorem rX9_nextToken_206 (Q : Po) (h : Hp) (ls : List Value) (st : List Value) : Ex mX9_nextToken Q 206 ls st h = Ex mX9_nextToken Q 208 ls (.int 59 :: st) h := Ex_nx rfl rfl
theorem rX9_nextToken_208 (Q : Po) (h : Hp) (ls : List Value) (st : List Value) (x y : Int32) : Ex mX9_nextToken Q 208 ls (.int y :: .int x :: st) h = if ¬ x = y then Ex mX9_nextToken Q 215 ls st h else Ex mX9_nextToken Q 211 ls st h := Ex_br rfl rfl
theorem rX9_nextToken_211 (Q : Po) (h : Hp) (ls : List Value) (st : List Value) : Ex mX9_nextToken Q 211 ls st h = Ex mX9_nextToken Q 212 ls (.int 1 :: st) h := Ex_nx rfl rfl
theorem rX9_nextToken_212 (Q : Po) (h : Hp) (ls : List Value) (st : List Value) : Ex mX9_nextToken Q 212 ls st h = Ex mX9_nextToken Q 216 ls st h := Ex_nx rfl rfl
theorem rX9_nextToken_215 (Q : Po) (h : Hp) (ls : List Value) (st : List Value) : Ex mX9_nextToken Q 215 ls st h = Ex mX9_nextToken Q 216 ls (.int 0 :: st) h := Ex_nx rfl rfl
theorem rX9_nextToken_216 (Q : Po) (h : Hp) (ls : List Value) (st : List Value) (x : Int32) (a : Nat) : Ex mX9_nextToken Q 216 ls (.int x :: .ref a :: st) h = (gK h a ∈ ([9] : List Nat) ∧ Ex mX9_nextToken Q 219 ls st (pF h 92 a (.int x))) := Ex_gd rfl rfl
theorem rX9_nextToken_219 (Q : Po) (h : Hp) (x : Nat) (st : List Value) : Ex mX9_nextToken Q 219 [.ref x] st h = Ex mX9_nextToken Q 220 [.ref x] (.ref x :: st) h := Ex_nx rfl rfl
theorem rX9_nextToken_220 (Q : Po) (h : Hp) (ls : List Value) (st : List Value) (x : Nat) : Ex mX9_nextToken Q 220 ls (.ref x :: st) h = Ex mX9_nextToken Q 221 ls (.ref x :: .ref x :: st) h := Ex_nx rfl rfl
theorem rX9_nextToken_221 (Q : Po) (h : Hp) (ls : List Value) (st : List Value) (a : Nat) : Ex mX9_nextToken Q 221 ls (.ref a :: st) h = (gK h a ∈ ([9] : List Nat) ∧ Ex mX9_nextToken Q 224 ls (gF h 90 a :: st) h) := Ex_gd rfl rfl
theorem rX9_nextToken_224 (Q : Po) (h : Hp) (ls : List Value) (st : List Value) : Ex mX9_nextToken Q 224 ls st h = Ex mX9_nextToken Q 225 ls (.int 1 :: st) h := Ex_nx rfl rfl
theorem rX9_nextToken_225 (Q : Po) (h : Hp) (ls : List Value) (st : List Value) (x y : Int32) : Ex mX9_nextToken Q 225 ls (.int y :: .int x :: st) h = Ex mX9_nextToken Q 226 ls (.int (x + y) :: st) h := Ex_nx rfl rfl
theorem rX9_nextToken_226 (Q : Po) (h : Hp) (ls : List Value) (st : List Value) (x : Int32) (a : Nat) : Ex mX9_nextToken Q 226 ls (.int x :: .ref a :: st) h = (gK h a ∈ ([9] : List Nat) ∧ Ex mX9_nextToken Q 229 ls st (pF h 90 a (.int x))) := Ex_gd rfl rfl
theorem rX9_nextToken_229 (Q : Po) (h : Hp) (ls : List Value) : Ex mX9_nextToken Q 229 ls [] h = Q (.inl none) h := Ex_rt rfl rfl
theorem rX9_nextToken_t (Q : Po) (h : Hp) (pc n a : Nat) (ls st : List Value) : Cont mX9_nextToken Q pc ls n st (.inr a) h = Q (.inr a) h := rfl
/-! FishReadersModel.isLetter(I)Z -/
def mX9_isLetter : Cd := ([(0, .inl (i_aload 0 1)),
  (1, .inl (i_getf 92 [9] 4)),
  (4, .inl (i_push (.int 1) 5)),
  (5, .inl (i_icmp (fun x y => ¬ x = y) 20 8)),
  (8, .inl (i_aload 0 9)),
  (9, .inl (i_getf 94 [9] 12)),
  (12, .inl (i_iload 1 13)),
  (13, .inl (i_icmp (fun x y => ¬ x = y) 20 16)),
  (16, .inl (i_push (.int 1) 17)),
  (17, .inl (i_goto 21)),
  (20, .inl (i_push (.int 0) 21)),
  (21, .inl i_zret)], noH)
theorem rX9_isLetter_0 (Q : Po) (h : Hp) (l1 : Value) (x : Nat) (st : List Value) : Ex mX9_isLetter Q 0 [.ref x, l1] st h = Ex mX9_isLetter Q 1 [.ref x, l1] (.ref x :: st) h := Ex_nx rfl rfl
theorem rX9_isLetter_1 (Q : Po) (h : Hp) (ls : List Value) (st : List Value) (a : Nat) : Ex mX9_isLetter Q 1 ls (.ref a :: st) h = (gK h a ∈ ([9] : List Nat) ∧ Ex mX9_isLetter Q 4 ls (gF h 92 a :: st) h) := Ex_gd rfl rfl
theorem rX9_isLetter_4 (Q : Po) (h : Hp) (ls : List Value) (st : List Value) : Ex mX9_isLetter Q 4 ls st h = Ex mX9_isLetter Q 5 ls (.int 1 :: st) h := Ex_nx rfl rfl
theorem rX9_isLetter_5 (Q : Po) (h : Hp) (ls : List Value) (st : List Value) (x y : Int32) : Ex mX9_isLetter Q 5 ls (.int y :: .int x :: st) h = if ¬ x = y then Ex mX9_isLetter Q 20 ls st h else Ex mX9_isLetter Q 8 ls st h := Ex_br rfl rfl
theorem rX9_isLetter_8 (Q : Po) (h : Hp) (l1 : Value) (x : Nat) (st : List Value) : Ex mX9_isLetter Q 8 [.ref x, l1] st h = Ex mX9_isLetter Q 9 [.ref x, l1] (.ref x :: st) h := Ex_nx rfl rfl
theorem rX9_isLetter_9 (Q : Po) (h : Hp) (ls : List Value) (st : List Value) (a : Nat) : Ex mX9_isLetter Q 9 ls (.ref a :: st) h = (gK h a ∈ ([9] : List Nat) ∧ Ex mX9_isLetter Q 12 ls (gF h 94 a :: st) h) := Ex_gd rfl rfl
theorem rX9_isLetter_12 (Q : Po) (h : Hp) (l0 : Value) (x : Int32) (st : List Value) : Ex mX9_isLetter Q 12 [l0, .int x] st h = Ex mX9_isLetter Q 13 [l0, .int x] (.int x :: st) h := Ex_nx rfl rfl
theorem rX9_isLetter_13 (Q : Po) (h : Hp) (ls : List Value) (st : List Value) (x y : Int32) : Ex mX9_isLetter Q 13 ls (.int y :: .int x :: st) h = if ¬ x = y then Ex mX9_isLetter Q 20 ls st h else Ex mX9_isLetter Q 16 ls st h := Ex_br rfl rfl
theorem rX9_isLetter_16 (Q : Po) (h : Hp) (ls : List Value) (st : List Value) : Ex mX9_isLetter Q 16 ls st h = Ex mX9_isLetter Q 17 ls (.int 1 :: st) h := Ex_nx rfl rfl
theorem rX9_isLetter_17 (Q : Po) (h : Hp) (ls : List Value) (st : List Value) : Ex mX9_isLetter Q 17 ls st h = Ex mX9_isLetter Q 21 ls st h := Ex_nx rfl rfl
theorem rX9_isLetter_20 (Q : Po) (h : Hp) (ls : List Value) (st : List Value) : Ex mX9_isLetter Q 20 ls st h = Ex mX9_isLetter Q 21 ls (.int 0 :: st) h := Ex_nx rfl rfl
theorem rX9_isLetter_21 (Q : Po) (h : Hp) (ls : List Value) (x : Int32) : Ex mX9_isLetter Q 21 ls [.int x] h = ((x = 0 ∨ x = 1) ∧ Q (.inl (some (.int x))) h) := Ex_rg rfl rfl
theorem rX9_isLetter_t (Q : Po) (h : Hp) (pc n a : Nat) (ls st : List Value) : Cont mX9_isLetter Q pc ls n st (.inr a) h = Q (.inr a) h := rfl
/-! FishReadersModel.faults(I)Z -/
def mX9_faults : Cd := ([(0, .inl (i_aload 0 1)),
  (1, .inl (i_iload 1 2)),
  (2, .inl (i_putI 98 [9] 5)),
  (5, .inl (i_push (.int 0) 6)),
  (6, .inl i_zret)], noH)
theorem rX9_faults_0 (Q : Po) (h : Hp) (l1 : Value) (x : Nat) (st : List Value) : Ex mX9_faults Q 0 [.ref x, l1] st h = Ex mX9_faults Q 1 [.ref x, l1] (.ref x :: st) h := Ex_nx rfl rfl
theorem rX9_faults_1 (Q : Po) (h : Hp) (l0 : Value) (x : Int32) (st : List Value) : Ex mX9_faults Q 1 [l0, .int x] st h = Ex mX9_faults Q 2 [l0, .int x] (.int x :: st) h := Ex_nx rfl rfl
theorem rX9_faults_2 (Q : Po) (h : Hp) (ls : List Value) (st : List Value) (x : Int32) (a : Nat) : Ex mX9_faults Q 2 ls (.int x :: .ref a :: st) h = (gK h a ∈ ([9] : List Nat) ∧ Ex mX9_faults Q 5 ls st (pF h 98 a (.int x))) := Ex_gd rfl rfl
theorem rX9_faults_5 (Q : Po) (h : Hp) (ls : List Value) (st : List Value) : Ex mX9_faults Q 5 ls st h = Ex mX9_faults Q 6 ls (.int 0 :: st) h := Ex_nx rfl rfl
theorem rX9_faults_6 (Q : Po) (h : Hp) (ls : List Value) (x : Int32) : Ex mX9_faults Q 6 ls [.int x] h = ((x = 0 ∨ x = 1) ∧ Q (.inl (some (.int x))) h) := Ex_rg rfl rfl
theorem rX9_faults_t (Q : Po) (h : Hp) (pc n a : Nat) (ls st : List Value) : Cont mX9_faults Q pc ls n st (.inr a) h = Q (.inr a) h := rfl
/-! FishReadersModel.takes(I)Z -/
def mX9_takes : Cd := ([(0, .inl (i_aload 0 1)),
  (1, .inl (i_iload 1 2)),
  (2, .inr (c_V 1 5 2 9 (Mt mX9_isLetter 2))),
  (5, .inl (i_if (fun x => ¬ x = 0) 14 8)),
  (8, .inl (i_aload 0 9)),
  (9, .inl (i_push (.int 1) 10)),
  (10, .inr (c_V 1 13 2 9 (Mt mX9_faults 2))),
  (13, .inl i_zret),
  (14, .inl (i_aload 0 15)),
  (15, .inr (c_V 0 18 1 9 (Mt mX9_nextToken 1))),
  (18, .inl (i_push (.int 1) 19)),
  (19, .inl i_zret)], noH)
theorem rX9_takes_0 (Q : Po) (h : Hp) (l1 : Value) (x : Nat) (st : List Value) : Ex mX9_takes Q 0 [.ref x, l1] st h = Ex mX9_takes Q 1 [.ref x, l1] (.ref x :: st) h := Ex_nx rfl rfl
theorem rX9_takes_1 (Q : Po) (h : Hp) (l0 : Value) (x : Int32) (st : List Value) : Ex mX9_takes Q 1 [l0, .int x] st h = Ex mX9_takes Q 2 [l0, .int x] (.int x :: st) h := Ex_nx rfl rfl
theorem rX9_takes_2 (Q : Po) (h : Hp) (ls : List Value) (a0 : Int32) (b : Nat) : Ex mX9_takes Q 2 ls (.int a0 :: .ref b :: []) h = (gK h b = 9 ∧ Ex mX9_isLetter (Cont mX9_takes Q 2 ls 5 []) 0 [.ref b, .int a0] [] h) := Ex_cg (n := 2) (as := [.ref b, .int a0]) rfl rfl
theorem rX9_takes_5 (Q : Po) (h : Hp) (ls : List Value) (st : List Value) (x : Int32) : Ex mX9_takes Q 5 ls (.int x :: st) h = if ¬ x = 0 then Ex mX9_takes Q 14 ls st h else Ex mX9_takes Q 8 ls st h := Ex_br rfl rfl
theorem rX9_takes_8 (Q : Po) (h : Hp) (l1 : Value) (x : Nat) (st : List Value) : Ex mX9_takes Q 8 [.ref x, l1] st h = Ex mX9_takes Q 9 [.ref x, l1] (.ref x :: st) h := Ex_nx rfl rfl
theorem rX9_takes_9 (Q : Po) (h : Hp) (ls : List Value) (st : List Value) : Ex mX9_takes Q 9 ls st h = Ex mX9_takes Q 10 ls (.int 1 :: st) h := Ex_nx rfl rfl
theorem rX9_takes_10 (Q : Po) (h : Hp) (ls : List Value) (a0 : Int32) (b : Nat) : Ex mX9_takes Q 10 ls (.int a0 :: .ref b :: []) h = (gK h b = 9 ∧ Ex mX9_faults (Cont mX9_takes Q 10 ls 13 []) 0 [.ref b, .int a0] [] h) := Ex_cg (n := 2) (as := [.ref b, .int a0]) rfl rfl
theorem rX9_takes_13 (Q : Po) (h : Hp) (ls : List Value) (x : Int32) : Ex mX9_takes Q 13 ls [.int x] h = ((x = 0 ∨ x = 1) ∧ Q (.inl (some (.int x))) h) := Ex_rg rfl rfl
theorem rX9_takes_14 (Q : Po) (h : Hp) (l1 : Value) (x : Nat) (st : List Value) : Ex mX9_takes Q 14 [.ref x, l1] st h = Ex mX9_takes Q 15 [.ref x, l1] (.ref x :: st) h := Ex_nx rfl rfl
theorem rX9_takes_15 (Q : Po) (h : Hp) (ls : List Value) (b : Nat) : Ex mX9_takes Q 15 ls (.ref b :: []) h = (gK h b = 9 ∧ Ex mX9_nextToken (Cont mX9_takes Q 15 ls 18 []) 0 [.ref b] [] h) := Ex_cg (n := 1) (as := [.ref b]) rfl rfl
theorem rX9_takes_18 (Q : Po) (h : Hp) (ls : List Value) (st : List Value) : Ex mX9_takes Q 18 ls st h = Ex mX9_takes Q 19 ls (.int 1 :: st) h := Ex_nx rfl rfl
theorem rX9_takes_19 (Q : Po) (h : Hp) (ls : List Value) (x : Int32) : Ex mX9_takes Q 19 ls [.int x] h = ((x = 0 ∨ x = 1) ∧ Q (.inl (some (.int x))) h) := Ex_rg rfl rfl
theorem rX9_takes_t (Q : Po) (h : Hp) (pc n a : Nat) (ls st : List Value) : Cont mX9_takes Q pc ls n st (.inr a) h = Q (.inr a) h := rfl
/-! FishReadersModel.takesNumber(IIII)Z -/
def mX9_takesNumber : Cd := ([(0, .inl (i_aload 0 1)),
  (1, .inl (i_getf 92 [9] 4)),
  (4, .inl (i_push (.int 2) 5)),
  (5, .inl (i_icmp (fun x y => ¬ x = y) 23 8)),
  (8, .inl (i_aload 0 9)),
  (9, .inl (i_getf 94 [9] 12)),
  (12, .inl (i_i2l 13)),
  (13, .inl (i_iload 1 14)),
  (14, .inl (i_i2l 15)),
  (15, .inl (i_iload 2 16)),
  (16, .inl (i_i2l 17)),
  (17, .inr (c_S 3 20 6 (Mt mX9_in 6))),
  (20, .inl (i_if (fun x => ¬ x = 0) 41 23)),
  (23, .inl (i_aload 0 24)),
  (24, .inl (i_aload 0 25)),
  (25, .inl (i_getf 92 [9] 28)),
  (28, .inl (i_push (.int 2) 29)),
  (29, .inl (i_icmp (fun x y => ¬ x = y) 36 32)),
  (32, .inl (i_push (.int 2) 33)),
  (33, .inl (i_goto 37)),
  (36, .inl (i_push (.int 1) 37)),
  (37, .inr (c_V 1 40 2 9 (Mt mX9_faults 2))),
  (40, .inl i_zret),
  (41, .inl (i_aload 0 42)),
  (42, .inl (i_getf 101 [9] 45)),
  (45, .inl (i_iload 3 46)),
  (46, .inl (i_aload 0 47)),
  (47, .inl (i_getf 94 [9] 50)),
  (50, .inl (i_iast 51 (fun x => x) 51)),
  (51, .inl (i_aload 0 52)),
  (52, .inr (c_V 0 55 1 9 (Mt mX9_nextToken 1))),
  (55, .inl (i_aload 0 56)),
  (56, .inl (i_iload 4 58)),
  (58, .inr (c_V 1 61 2 9 (Mt mX9_takes 2))),
  (61, .inl i_zret)], noH)
theorem rX9_takesNumber_0 (Q : Po) (h : Hp) (l1 l2 l3 l4 : Value) (x : Nat) (st : List Value) : Ex mX9_takesNumber Q 0 [.ref x, l1, l2, l3, l4] st h = Ex mX9_takesNumber Q 1 [.ref x, l1, l2, l3, l4] (.ref x :: st) h := Ex_nx rfl rfl
theorem rX9_takesNumber_1 (Q : Po) (h : Hp) (ls : List Value) (st : List Value) (a : Nat) : Ex mX9_takesNumber Q 1 ls (.ref a :: st) h = (gK h a ∈ ([9] : List Nat) ∧ Ex mX9_takesNumber Q 4 ls (gF h 92 a :: st) h) := Ex_gd rfl rfl
theorem rX9_takesNumber_4 (Q : Po) (h : Hp) (ls : List Value) (st : List Value) : Ex mX9_takesNumber Q 4 ls st h = Ex mX9_takesNumber Q 5 ls (.int 2 :: st) h := Ex_nx rfl rfl
theorem rX9_takesNumber_5 (Q : Po) (h : Hp) (ls : List Value) (st : List Value) (x y : Int32) : Ex mX9_takesNumber Q 5 ls (.int y :: .int x :: st) h = if ¬ x = y then Ex mX9_takesNumber Q 23 ls st h else Ex mX9_takesNumber Q 8 ls st h := Ex_br rfl rfl
theorem rX9_takesNumber_8 (Q : Po) (h : Hp) (l1 l2 l3 l4 : Value) (x : Nat) (st : List Value) : Ex mX9_takesNumber Q 8 [.ref x, l1, l2, l3, l4] st h = Ex mX9_takesNumber Q 9 [.ref x, l1, l2, l3, l4] (.ref x :: st) h := Ex_nx rfl rfl
theorem rX9_takesNumber_9 (Q : Po) (h : Hp) (ls : List Value) (st : List Value) (a : Nat) : Ex mX9_takesNumber Q 9 ls (.ref a :: st) h = (gK h a ∈ ([9] : List Nat) ∧ Ex mX9_takesNumber Q 12 ls (gF h 94 a :: st) h) := Ex_gd rfl rfl
theorem rX9_takesNumber_12 (Q : Po) (h : Hp) (ls : List Value) (st : List Value) (x : Int32) : Ex mX9_takesNumber Q 12 ls (.int x :: st) h = Ex mX9_takesNumber Q 13 ls (.long x.toInt64 :: st) h := Ex_nx rfl rfl
theorem rX9_takesNumber_13 (Q : Po) (h : Hp) (l0 l2 l3 l4 : Value) (x : Int32) (st : List Value) : Ex mX9_takesNumber Q 13 [l0, .int x, l2, l3, l4] st h = Ex mX9_takesNumber Q 14 [l0, .int x, l2, l3, l4] (.int x :: st) h := Ex_nx rfl rfl
theorem rX9_takesNumber_14 (Q : Po) (h : Hp) (ls : List Value) (st : List Value) (x : Int32) : Ex mX9_takesNumber Q 14 ls (.int x :: st) h = Ex mX9_takesNumber Q 15 ls (.long x.toInt64 :: st) h := Ex_nx rfl rfl
theorem rX9_takesNumber_15 (Q : Po) (h : Hp) (l0 l1 l3 l4 : Value) (x : Int32) (st : List Value) : Ex mX9_takesNumber Q 15 [l0, l1, .int x, l3, l4] st h = Ex mX9_takesNumber Q 16 [l0, l1, .int x, l3, l4] (.int x :: st) h := Ex_nx rfl rfl
theorem rX9_takesNumber_16 (Q : Po) (h : Hp) (ls : List Value) (st : List Value) (x : Int32) : Ex mX9_takesNumber Q 16 ls (.int x :: st) h = Ex mX9_takesNumber Q 17 ls (.long x.toInt64 :: st) h := Ex_nx rfl rfl
theorem rX9_takesNumber_17 (Q : Po) (h : Hp) (ls : List Value) (a0 : Int64) (a1 : Int64) (a2 : Int64) : Ex mX9_takesNumber Q 17 ls (.long a2 :: .long a1 :: .long a0 :: []) h = Ex mX9_in (Cont mX9_takesNumber Q 17 ls 20 []) 0 [.long a0, .retAddr 1, .long a1, .retAddr 1, .long a2, .retAddr 1] [] h := Ex_cl (n := 6) (as := [.long a0, .long a1, .long a2]) rfl rfl
theorem rX9_takesNumber_20 (Q : Po) (h : Hp) (ls : List Value) (st : List Value) (x : Int32) : Ex mX9_takesNumber Q 20 ls (.int x :: st) h = if ¬ x = 0 then Ex mX9_takesNumber Q 41 ls st h else Ex mX9_takesNumber Q 23 ls st h := Ex_br rfl rfl
theorem rX9_takesNumber_23 (Q : Po) (h : Hp) (l1 l2 l3 l4 : Value) (x : Nat) (st : List Value) : Ex mX9_takesNumber Q 23 [.ref x, l1, l2, l3, l4] st h = Ex mX9_takesNumber Q 24 [.ref x, l1, l2, l3, l4] (.ref x :: st) h := Ex_nx rfl rfl
theorem rX9_takesNumber_24 (Q : Po) (h : Hp) (l1 l2 l3 l4 : Value) (x : Nat) (st : List Value) : Ex mX9_takesNumber Q 24 [.ref x, l1, l2, l3, l4] st h = Ex mX9_takesNumber Q 25 [.ref x, l1, l2, l3, l4] (.ref x :: st) h := Ex_nx rfl rfl
theorem rX9_takesNumber_25 (Q : Po) (h : Hp) (ls : List Value) (st : List Value) (a : Nat) : Ex mX9_takesNumber Q 25 ls (.ref a :: st) h = (gK h a ∈ ([9] : List Nat) ∧ Ex mX9_takesNumber Q 28 ls (gF h 92 a :: st) h) := Ex_gd rfl rfl
theorem rX9_takesNumber_28 (Q : Po) (h : Hp) (ls : List Value) (st : List Value) : Ex mX9_takesNumber Q 28 ls st h = Ex mX9_takesNumber Q 29 ls (.int 2 :: st) h := Ex_nx rfl rfl
theorem rX9_takesNumber_29 (Q : Po) (h : Hp) (ls : List Value) (st : List Value) (x y : Int32) : Ex mX9_takesNumber Q 29 ls (.int y :: .int x :: st) h = if ¬ x = y then Ex mX9_takesNumber Q 36 ls st h else Ex mX9_takesNumber Q 32 ls st h := Ex_br rfl rfl
theorem rX9_takesNumber_32 (Q : Po) (h : Hp) (ls : List Value) (st : List Value) : Ex mX9_takesNumber Q 32 ls st h = Ex mX9_takesNumber Q 33 ls (.int 2 :: st) h := Ex_nx rfl rfl
theorem rX9_takesNumber_33 (Q : Po) (h : Hp) (ls : List Value) (st : List Value) : Ex mX9_takesNumber Q 33 ls st h = Ex mX9_takesNumber Q 37 ls st h := Ex_nx rfl rfl
theorem rX9_takesNumber_36 (Q : Po) (h : Hp) (ls : List Value) (st : List Value) : Ex mX9_takesNumber Q 36 ls st h = Ex mX9_takesNumber Q 37 ls (.int 1 :: st) h := Ex_nx rfl rfl
theorem rX9_takesNumber_37 (Q : Po) (h : Hp) (ls : List Value) (a0 : Int32) (b : Nat) : Ex mX9_takesNumber Q 37 ls (.int a0 :: .ref b :: []) h = (gK h b = 9 ∧ Ex mX9_faults (Cont mX9_takesNumber Q 37 ls 40 []) 0 [.ref b, .int a0] [] h) := Ex_cg (n := 2) (as := [.ref b, .int a0]) rfl rfl
theorem rX9_takesNumber_40 (Q : Po) (h : Hp) (ls : List Value) (x : Int32) : Ex mX9_takesNumber Q 40 ls [.int x] h = ((x = 0 ∨ x = 1) ∧ Q (.inl (some (.int x))) h) := Ex_rg rfl rfl
theorem rX9_takesNumber_41 (Q : Po) (h : Hp) (l1 l2 l3 l4 : Value) (x : Nat) (st : List Value) : Ex mX9_takesNumber Q 41 [.ref x, l1, l2, l3, l4] st h = Ex mX9_takesNumber Q 42 [.ref x, l1, l2, l3, l4] (.ref x :: st) h := Ex_nx rfl rfl
theorem rX9_takesNumber_42 (Q : Po) (h : Hp) (ls : List Value) (st : List Value) (a : Nat) : Ex mX9_takesNumber Q 42 ls (.ref a :: st) h = (gK h a ∈ ([9] : List Nat) ∧ Ex mX9_takesNumber Q 45 ls (gF h 101 a :: st) h) := Ex_gd rfl rfl
theorem rX9_takesNumber_45 (Q : Po) (h : Hp) (l0 l1 l2 l4 : Value) (x : Int32) (st : List Value) : Ex mX9_takesNumber Q 45 [l0, l1, l2, .int x, l4] st h = Ex mX9_takesNumber Q 46 [l0, l1, l2, .int x, l4] (.int x :: st) h := Ex_nx rfl rfl
theorem rX9_takesNumber_46 (Q : Po) (h : Hp) (l1 l2 l3 l4 : Value) (x : Nat) (st : List Value) : Ex mX9_takesNumber Q 46 [.ref x, l1, l2, l3, l4] st h = Ex mX9_takesNumber Q 47 [.ref x, l1, l2, l3, l4] (.ref x :: st) h := Ex_nx rfl rfl
theorem rX9_takesNumber_47 (Q : Po) (h : Hp) (ls : List Value) (st : List Value) (a : Nat) : Ex mX9_takesNumber Q 47 ls (.ref a :: st) h = (gK h a ∈ ([9] : List Nat) ∧ Ex mX9_takesNumber Q 50 ls (gF h 94 a :: st) h) := Ex_gd rfl rfl
theorem rX9_takesNumber_50 (Q : Po) (h : Hp) (ls : List Value) (st : List Value) (a : Nat) (i x : Int32) : Ex mX9_takesNumber Q 50 ls (.int x :: .int i :: .ref a :: st) h = ((gK h a = 51 ∧ ¬ (i < 0 ∨ gL h a ≤ i.toNatClampNeg)) ∧ Ex mX9_takesNumber Q 51 ls st (pI h a i.toNatClampNeg (x))) := Ex_gd rfl rfl
theorem rX9_takesNumber_51 (Q : Po) (h : Hp) (l1 l2 l3 l4 : Value) (x : Nat) (st : List Value) : Ex mX9_takesNumber Q 51 [.ref x, l1, l2, l3, l4] st h = Ex mX9_takesNumber Q 52 [.ref x, l1, l2, l3, l4] (.ref x :: st) h := Ex_nx rfl rfl
theorem rX9_takesNumber_52 (Q : Po) (h : Hp) (ls : List Value) (b : Nat) : Ex mX9_takesNumber Q 52 ls (.ref b :: []) h = (gK h b = 9 ∧ Ex mX9_nextToken (Cont mX9_takesNumber Q 52 ls 55 []) 0 [.ref b] [] h) := Ex_cg (n := 1) (as := [.ref b]) rfl rfl
theorem rX9_takesNumber_55 (Q : Po) (h : Hp) (l1 l2 l3 l4 : Value) (x : Nat) (st : List Value) : Ex mX9_takesNumber Q 55 [.ref x, l1, l2, l3, l4] st h = Ex mX9_takesNumber Q 56 [.ref x, l1, l2, l3, l4] (.ref x :: st) h := Ex_nx rfl rfl
theorem rX9_takesNumber_56 (Q : Po) (h : Hp) (l0 l1 l2 l3 : Value) (x : Int32) (st : List Value) : Ex mX9_takesNumber Q 56 [l0, l1, l2, l3, .int x] st h = Ex mX9_takesNumber Q 58 [l0, l1, l2, l3, .int x] (.int x :: st) h := Ex_nx rfl rfl
theorem rX9_takesNumber_58 (Q : Po) (h : Hp) (ls : List Value) (a0 : Int32) (b : Nat) : Ex mX9_takesNumber Q 58 ls (.int a0 :: .ref b :: []) h = (gK h b = 9 ∧ Ex mX9_takes (Cont mX9_takesNumber Q 58 ls 61 []) 0 [.ref b, .int a0] [] h) := Ex_cg (n := 2) (as := [.ref b, .int a0]) rfl rfl
theorem rX9_takesNumber_61 (Q : Po) (h : Hp) (ls : List Value) (x : Int32) : Ex mX9_takesNumber Q 61 ls [.int x] h = ((x = 0 ∨ x = 1) ∧ Q (.inl (some (.int x))) h) := Ex_rg rfl rfl
theorem rX9_takesNumber_t (Q : Po) (h : Hp) (pc n a : Nat) (ls st : List Value) : Cont mX9_takesNumber Q pc ls n st (.inr a) h = Q (.inr a) h := rfl
/-! FishReadersModel.kindBy(I)I -/
def mX9_kindBy : Cd := ([(0, .inl (i_iload 0 1)),
  (1, .inl (i_push (.int 114) 3)),
  (3, .inl (i_icmp (fun x y => ¬ x = y) 10 6)),
  (6, .inl (i_push (.int 1) 7)),
  (7, .inl (i_goto 51)),
  (10, .inl (i_iload 0 11)),
  (11, .inl (i_push (.int 112) 13)),
  (13, .inl (i_icmp (fun x y => ¬ x = y) 20 16)),
  (16, .inl (i_push (.int 2) 17)),
  (17, .inl (i_goto 51)),
  (20, .inl (i_iload 0 21)),
  (21, .inl (i_push (.int 99) 23)),
  (23, .inl (i_icmp (fun x y => ¬ x = y) 30 26)),
  (26, .inl (i_push (.int 3) 27)),
  (27, .inl (i_goto 51)),
  (30, .inl (i_iload 0 31)),
  (31, .inl (i_push (.int 119) 33)),
  (33, .inl (i_icmp (fun x y => ¬ x = y) 40 36)),
  (36, .inl (i_push (.int 4) 37)),
  (37, .inl (i_goto 51)),
  (40, .inl (i_iload 0 41)),
  (41, .inl (i_push (.int 115) 43)),
  (43, .inl (i_icmp (fun x y => ¬ x = y) 50 46)),
  (46, .inl (i_push (.int 5) 47)),
  (47, .inl (i_goto 51)),
  (50, .inl (i_push (.int 0) 51)),
  (51, .inl i_iret)], noH)
theorem rX9_kindBy_0 (Q : Po) (h : Hp) (x : Int32) (st : List Value) : Ex mX9_kindBy Q 0 [.int x] st h = Ex mX9_kindBy Q 1 [.int x] (.int x :: st) h := Ex_nx rfl rfl
theorem rX9_kindBy_1 (Q : Po) (h : Hp) (ls : List Value) (st : List Value) : Ex mX9_kindBy Q 1 ls st h = Ex mX9_kindBy Q 3 ls (.int 114 :: st) h := Ex_nx rfl rfl
theorem rX9_kindBy_3 (Q : Po) (h : Hp) (ls : List Value) (st : List Value) (x y : Int32) : Ex mX9_kindBy Q 3 ls (.int y :: .int x :: st) h = if ¬ x = y then Ex mX9_kindBy Q 10 ls st h else Ex mX9_kindBy Q 6 ls st h := Ex_br rfl rfl
theorem rX9_kindBy_6 (Q : Po) (h : Hp) (ls : List Value) (st : List Value) : Ex mX9_kindBy Q 6 ls st h = Ex mX9_kindBy Q 7 ls (.int 1 :: st) h := Ex_nx rfl rfl
theorem rX9_kindBy_7 (Q : Po) (h : Hp) (ls : List Value) (st : List Value) : Ex mX9_kindBy Q 7 ls st h = Ex mX9_kindBy Q 51 ls st h := Ex_nx rfl rfl
theorem rX9_kindBy_10 (Q : Po) (h : Hp) (x : Int32) (st : List Value) : Ex mX9_kindBy Q 10 [.int x] st h = Ex mX9_kindBy Q 11 [.int x] (.int x :: st) h := Ex_nx rfl rfl
theorem rX9_kindBy_11 (Q : Po) (h : Hp) (ls : List Value) (st : List Value) : Ex mX9_kindBy Q 11 ls st h = Ex mX9_kindBy Q 13 ls (.int 112 :: st) h := Ex_nx rfl rfl
theorem rX9_kindBy_13 (Q : Po) (h : Hp) (ls : List Value) (st : List Value) (x y : Int32) : Ex mX9_kindBy Q 13 ls (.int y :: .int x :: st) h = if ¬ x = y then Ex mX9_kindBy Q 20 ls st h else Ex mX9_kindBy Q 16 ls st h := Ex_br rfl rfl
theorem rX9_kindBy_16 (Q : Po) (h : Hp) (ls : List Value) (st : List Value) : Ex mX9_kindBy Q 16 ls st h = Ex mX9_kindBy Q 17 ls (.int 2 :: st) h := Ex_nx rfl rfl
theorem rX9_kindBy_17 (Q : Po) (h : Hp) (ls : List Value) (st : List Value) : Ex mX9_kindBy Q 17 ls st h = Ex mX9_kindBy Q 51 ls st h := Ex_nx rfl rfl
theorem rX9_kindBy_20 (Q : Po) (h : Hp) (x : Int32) (st : List Value) : Ex mX9_kindBy Q 20 [.int x] st h = Ex mX9_kindBy Q 21 [.int x] (.int x :: st) h := Ex_nx rfl rfl
theorem rX9_kindBy_21 (Q : Po) (h : Hp) (ls : List Value) (st : List Value) : Ex mX9_kindBy Q 21 ls st h = Ex mX9_kindBy Q 23 ls (.int 99 :: st) h := Ex_nx rfl rfl
theorem rX9_kindBy_23 (Q : Po) (h : Hp) (ls : List Value) (st : List Value) (x y : Int32) : Ex mX9_kindBy Q 23 ls (.int y :: .int x :: st) h = if ¬ x = y then Ex mX9_kindBy Q 30 ls st h else Ex mX9_kindBy Q 26 ls st h := Ex_br rfl rfl
theorem rX9_kindBy_26 (Q : Po) (h : Hp) (ls : List Value) (st : List Value) : Ex mX9_kindBy Q 26 ls st h = Ex mX9_kindBy Q 27 ls (.int 3 :: st) h := Ex_nx rfl rfl
theorem rX9_kindBy_27 (Q : Po) (h : Hp) (ls : List Value) (st : List Value) : Ex mX9_kindBy Q 27 ls st h = Ex mX9_kindBy Q 51 ls st h := Ex_nx rfl rfl
theorem rX9_kindBy_30 (Q : Po) (h : Hp) (x : Int32) (st : List Value) : Ex mX9_kindBy Q 30 [.int x] st h = Ex mX9_kindBy Q 31 [.int x] (.int x :: st) h := Ex_nx rfl rfl
theorem rX9_kindBy_31 (Q : Po) (h : Hp) (ls : List Value) (st : List Value) : Ex mX9_kindBy Q 31 ls st h = Ex mX9_kindBy Q 33 ls (.int 119 :: st) h := Ex_nx rfl rfl
theorem rX9_kindBy_33 (Q : Po) (h : Hp) (ls : List Value) (st : List Value) (x y : Int32) : Ex mX9_kindBy Q 33 ls (.int y :: .int x :: st) h = if ¬ x = y then Ex mX9_kindBy Q 40 ls st h else Ex mX9_kindBy Q 36 ls st h := Ex_br rfl rfl
theorem rX9_kindBy_36 (Q : Po) (h : Hp) (ls : List Value) (st : List Value) : Ex mX9_kindBy Q 36 ls st h = Ex mX9_kindBy Q 37 ls (.int 4 :: st) h := Ex_nx rfl rfl
theorem rX9_kindBy_37 (Q : Po) (h : Hp) (ls : List Value) (st : List Value) : Ex mX9_kindBy Q 37 ls st h = Ex mX9_kindBy Q 51 ls st h := Ex_nx rfl rfl
theorem rX9_kindBy_40 (Q : Po) (h : Hp) (x : Int32) (st : List Value) : Ex mX9_kindBy Q 40 [.int x] st h = Ex mX9_kindBy Q 41 [.int x] (.int x :: st) h := Ex_nx rfl rfl
theorem rX9_kindBy_41 (Q : Po) (h : Hp) (ls : List Value) (st : List Value) : Ex mX9_kindBy Q 41 ls st h = Ex mX9_kindBy Q 43 ls (.int 115 :: st) h := Ex_nx rfl rfl
theorem rX9_kindBy_43 (Q : Po) (h : Hp) (ls : List Value) (st : List Value) (x y : Int32) : Ex mX9_kindBy Q 43 ls (.int y :: .int x :: st) h = if ¬ x = y then Ex mX9_kindBy Q 50 ls st h else Ex mX9_kindBy Q 46 ls st h := Ex_br rfl rfl
theorem rX9_kindBy_46 (Q : Po) (h : Hp) (ls : List Value) (st : List Value) : Ex mX9_kindBy Q 46 ls st h = Ex mX9_kindBy Q 47 ls (.int 5 :: st) h := Ex_nx rfl rfl
theorem rX9_kindBy_47 (Q : Po) (h : Hp) (ls : List Value) (st : List Value) : Ex mX9_kindBy Q 47 ls st h = Ex mX9_kindBy Q 51 ls st h := Ex_nx rfl rfl
theorem rX9_kindBy_50 (Q : Po) (h : Hp) (ls : List Value) (st : List Value) : Ex mX9_kindBy Q 50 ls st h = Ex mX9_kindBy Q 51 ls (.int 0 :: st) h := Ex_nx rfl rfl
theorem rX9_kindBy_51 (Q : Po) (h : Hp) (ls : List Value) (x : Int32) : Ex mX9_kindBy Q 51 ls [.int x] h = Q (.inl (some (.int x))) h := Ex_rt rfl rfl
theorem rX9_kindBy_t (Q : Po) (h : Hp) (pc n a : Nat) (ls st : List Value) : Cont mX9_kindBy Q pc ls n st (.inr a) h = Q (.inr a) h := rfl
/-! FishReadersModel.readFish(I)Z -/
def mX9_readFish : Cd := ([(0, .inl (i_aload 0 1)),
  (1, .inl (i_getf 101 [9] 4)),
  (4, .inl (i_push (.int 1) 5)),
  (5, .inl (i_iald 51 6)),
  (6, .inl (i_istore 2 7)),
  (7, .inl (i_aload 0 8)),
  (8, .inl (i_getf 101 [9] 11)),
  (11, .inl (i_push (.int 0) 12)),
  (12, .inl (i_iald 51 13)),
  (13, .inl (i_if (fun x => x = 0) 21 16)),
  (16, .inl (i_iload 2 17)),
  (17, .inl (i_push (.int 5) 18)),
  (18, .inl (i_icmp (fun x y => ¬ x = y) 40 21)),
  (21, .inl (i_aload 0 22)),
  (22, .inl (i_aload 0 23)),
  (23, .inl (i_getf 101 [9] 26)),
  (26, .inl (i_push (.int 0) 27)),
  (27, .inl (i_iald 51 28)),
  (28, .inl (i_if (fun x => ¬ x = 0) 35 31)),
  (31, .inl (i_push (.int 1) 32)),
  (32, .inl (i_goto 36)),
  (35, .inl (i_push (.int 3) 36)),
  (36, .inr (c_V 1 39 2 9 (Mt mX9_faults 2))),
  (39, .inl i_zret),
  (40, .inl (i_aload 0 41)),
  (41, .inr (c_V 0 44 1 9 (Mt mX9_nextToken 1))),
  (44, .inl (i_aload 0 45)),
  (45, .inl (i_getf 101 [9] 48)),
  (48, .inl (i_push (.int 26) 50)),
  (50, .inl (i_iload 2 51)),
  (51, .inl (i_bin (fun x y => x + y) 52)),
  (52, .inl (i_iload 1 53)),
  (53, .inl (i_iast 51 (fun x => x) 54)),
  (54, .inl (i_aload 0 55)),
  (55, .inl (i_getf 101 [9] 58)),
  (58, .inl (i_push (.int 1) 59)),
  (59, .inl (i_dup2 60)),
  (60, .inl (i_iald 51 61)),
  (61, .inl (i_push (.int 1) 62)),
  (62, .inl (i_bin (fun x y => x + y) 63)),
  (63, .inl (i_iast 51 (fun x => x) 64)),
  (64, .inl (i_aload 0 65)),
  (65, .inl (i_push (.int 0) 66)),
  (66, .inl (i_aload 0 67)),
  (67, .inl (i_getf 101 [9] 70)),
  (70, .inl (i_push (.int 0) 71)),
  (71, .inl (i_iald 51 72)),
  (72, .inl (i_push (.int 1) 73)),
  (73, .inl (i_bin (fun x y => x - y) 74)),
  (74, .inl (i_push (.int 31) 76)),
  (76, .inl (i_iload 2 77)),
  (77, .inl (i_bin (fun x y => x + y) 78)),
  (78, .inl (i_push (.int 59) 80)),
  (80, .inr (c_V 4 83 5 9 (Mt mX9_takesNumber 5))),
  (83, .inl i_zret)], noH)
theorem rX9_readFish_0 (Q : Po) (h : Hp) (l1 l2 : Value) (x : Nat) (st : List Value) : Ex mX9_readFish Q 0 [.ref x, l1, l2] st h = Ex mX9_readFish Q 1 [.ref x, l1, l2] (.ref x :: st) h := Ex_nx rfl rfl
theorem rX9_readFish_1 (Q : Po) (h : Hp) (ls : List Value) (st : List Value) (a : Nat) : Ex mX9_readFish Q 1 ls (.ref a :: st) h = (gK h a ∈ ([9] : List Nat) ∧ Ex mX9_readFish Q 4 ls (gF h 101 a :: st) h) := Ex_gd rfl rfl
theorem rX9_readFish_4 (Q : Po) (h : Hp) (ls : List Value) (st : List Value) : Ex mX9_readFish Q 4 ls st h = Ex mX9_readFish Q 5 ls (.int 1 :: st) h := Ex_nx rfl rfl
theorem rX9_readFish_5 (Q : Po) (h : Hp) (ls : List Value) (st : List Value) (a : Nat) (i : Int32) : Ex mX9_readFish Q 5 ls (.int i :: .ref a :: st) h = ((gK h a = 51 ∧ ¬ (i < 0 ∨ gL h a ≤ i.toNatClampNeg)) ∧ Ex mX9_readFish Q 6 ls (.int (gI h a i.toNatClampNeg) :: st) h) := Ex_gd rfl rfl
theorem rX9_readFish_6 (Q : Po) (h : Hp) (l0 l1 l2 : Value) (x : Int32) (st : List Value) : Ex mX9_readFish Q 6 [l0, l1, l2] (.int x :: st) h = Ex mX9_readFish Q 7 [l0, l1, .int x] st h := Ex_nx rfl rfl
theorem rX9_readFish_7 (Q : Po) (h : Hp) (l1 l2 : Value) (x : Nat) (st : List Value) : Ex mX9_readFish Q 7 [.ref x, l1, l2] st h = Ex mX9_readFish Q 8 [.ref x, l1, l2] (.ref x :: st) h := Ex_nx rfl rfl
theorem rX9_readFish_8 (Q : Po) (h : Hp) (ls : List Value) (st : List Value) (a : Nat) : Ex mX9_readFish Q 8 ls (.ref a :: st) h = (gK h a ∈ ([9] : List Nat) ∧ Ex mX9_readFish Q 11 ls (gF h 101 a :: st) h) := Ex_gd rfl rfl
theorem rX9_readFish_11 (Q : Po) (h : Hp) (ls : List Value) (st : List Value) : Ex mX9_readFish Q 11 ls st h = Ex mX9_readFish Q 12 ls (.int 0 :: st) h := Ex_nx rfl rfl
theorem rX9_readFish_12 (Q : Po) (h : Hp) (ls : List Value) (st : List Value) (a : Nat) (i : Int32) : Ex mX9_readFish Q 12 ls (.int i :: .ref a :: st) h = ((gK h a = 51 ∧ ¬ (i < 0 ∨ gL h a ≤ i.toNatClampNeg)) ∧ Ex mX9_readFish Q 13 ls (.int (gI h a i.toNatClampNeg) :: st) h) := Ex_gd rfl rfl
theorem rX9_readFish_13 (Q : Po) (h : Hp) (ls : List Value) (st : List Value) (x : Int32) : Ex mX9_readFish Q 13 ls (.int x :: st) h = if x = 0 then Ex mX9_readFish Q 21 ls st h else Ex mX9_readFish Q 16 ls st h := Ex_br rfl rfl
theorem rX9_readFish_16 (Q : Po) (h : Hp) (l0 l1 : Value) (x : Int32) (st : List Value) : Ex mX9_readFish Q 16 [l0, l1, .int x] st h = Ex mX9_readFish Q 17 [l0, l1, .int x] (.int x :: st) h := Ex_nx rfl rfl
theorem rX9_readFish_17 (Q : Po) (h : Hp) (ls : List Value) (st : List Value) : Ex mX9_readFish Q 17 ls st h = Ex mX9_readFish Q 18 ls (.int 5 :: st) h := Ex_nx rfl rfl
theorem rX9_readFish_18 (Q : Po) (h : Hp) (ls : List Value) (st : List Value) (x y : Int32) : Ex mX9_readFish Q 18 ls (.int y :: .int x :: st) h = if ¬ x = y then Ex mX9_readFish Q 40 ls st h else Ex mX9_readFish Q 21 ls st h := Ex_br rfl rfl
theorem rX9_readFish_21 (Q : Po) (h : Hp) (l1 l2 : Value) (x : Nat) (st : List Value) : Ex mX9_readFish Q 21 [.ref x, l1, l2] st h = Ex mX9_readFish Q 22 [.ref x, l1, l2] (.ref x :: st) h := Ex_nx rfl rfl
theorem rX9_readFish_22 (Q : Po) (h : Hp) (l1 l2 : Value) (x : Nat) (st : List Value) : Ex mX9_readFish Q 22 [.ref x, l1, l2] st h = Ex mX9_readFish Q 23 [.ref x, l1, l2] (.ref x :: st) h := Ex_nx rfl rfl
theorem rX9_readFish_23 (Q : Po) (h : Hp) (ls : List Value) (st : List Value) (a : Nat) : Ex mX9_readFish Q 23 ls (.ref a :: st) h = (gK h a ∈ ([9] : List Nat) ∧ Ex mX9_readFish Q 26 ls (gF h 101 a :: st) h) := Ex_gd rfl rfl
theorem rX9_readFish_26 (Q : Po) (h : Hp) (ls : List Value) (st : List Value) : Ex mX9_readFish Q 26 ls st h = Ex mX9_readFish Q 27 ls (.int 0 :: st) h := Ex_nx rfl rfl
theorem rX9_readFish_27 (Q : Po) (h : Hp) (ls : List Value) (st : List Value) (a : Nat) (i : Int32) : Ex mX9_readFish Q 27 ls (.int i :: .ref a :: st) h = ((gK h a = 51 ∧ ¬ (i < 0 ∨ gL h a ≤ i.toNatClampNeg)) ∧ Ex mX9_readFish Q 28 ls (.int (gI h a i.toNatClampNeg) :: st) h) := Ex_gd rfl rfl
theorem rX9_readFish_28 (Q : Po) (h : Hp) (ls : List Value) (st : List Value) (x : Int32) : Ex mX9_readFish Q 28 ls (.int x :: st) h = if ¬ x = 0 then Ex mX9_readFish Q 35 ls st h else Ex mX9_readFish Q 31 ls st h := Ex_br rfl rfl
theorem rX9_readFish_31 (Q : Po) (h : Hp) (ls : List Value) (st : List Value) : Ex mX9_readFish Q 31 ls st h = Ex mX9_readFish Q 32 ls (.int 1 :: st) h := Ex_nx rfl rfl
theorem rX9_readFish_32 (Q : Po) (h : Hp) (ls : List Value) (st : List Value) : Ex mX9_readFish Q 32 ls st h = Ex mX9_readFish Q 36 ls st h := Ex_nx rfl rfl
theorem rX9_readFish_35 (Q : Po) (h : Hp) (ls : List Value) (st : List Value) : Ex mX9_readFish Q 35 ls st h = Ex mX9_readFish Q 36 ls (.int 3 :: st) h := Ex_nx rfl rfl
theorem rX9_readFish_36 (Q : Po) (h : Hp) (ls : List Value) (a0 : Int32) (b : Nat) : Ex mX9_readFish Q 36 ls (.int a0 :: .ref b :: []) h = (gK h b = 9 ∧ Ex mX9_faults (Cont mX9_readFish Q 36 ls 39 []) 0 [.ref b, .int a0] [] h) := Ex_cg (n := 2) (as := [.ref b, .int a0]) rfl rfl
theorem rX9_readFish_39 (Q : Po) (h : Hp) (ls : List Value) (x : Int32) : Ex mX9_readFish Q 39 ls [.int x] h = ((x = 0 ∨ x = 1) ∧ Q (.inl (some (.int x))) h) := Ex_rg rfl rfl
theorem rX9_readFish_40 (Q : Po) (h : Hp) (l1 l2 : Value) (x : Nat) (st : List Value) : Ex mX9_readFish Q 40 [.ref x, l1, l2] st h = Ex mX9_readFish Q 41 [.ref x, l1, l2] (.ref x :: st) h := Ex_nx rfl rfl
theorem rX9_readFish_41 (Q : Po) (h : Hp) (ls : List Value) (b : Nat) : Ex mX9_readFish Q 41 ls (.ref b :: []) h = (gK h b = 9 ∧ Ex mX9_nextToken (Cont mX9_readFish Q 41 ls 44 []) 0 [.ref b] [] h) := Ex_cg (n := 1) (as := [.ref b]) rfl rfl
theorem rX9_readFish_44 (Q : Po) (h : Hp) (l1 l2 : Value) (x : Nat) (st : List Value) : Ex mX9_readFish Q 44 [.ref x, l1, l2] st h = Ex mX9_readFish Q 45 [.ref x, l1, l2] (.ref x :: st) h := Ex_nx rfl rfl
theorem rX9_readFish_45 (Q : Po) (h : Hp) (ls : List Value) (st : List Value) (a : Nat) : Ex mX9_readFish Q 45 ls (.ref a :: st) h = (gK h a ∈ ([9] : List Nat) ∧ Ex mX9_readFish Q 48 ls (gF h 101 a :: st) h) := Ex_gd rfl rfl
theorem rX9_readFish_48 (Q : Po) (h : Hp) (ls : List Value) (st : List Value) : Ex mX9_readFish Q 48 ls st h = Ex mX9_readFish Q 50 ls (.int 26 :: st) h := Ex_nx rfl rfl
theorem rX9_readFish_50 (Q : Po) (h : Hp) (l0 l1 : Value) (x : Int32) (st : List Value) : Ex mX9_readFish Q 50 [l0, l1, .int x] st h = Ex mX9_readFish Q 51 [l0, l1, .int x] (.int x :: st) h := Ex_nx rfl rfl
theorem rX9_readFish_51 (Q : Po) (h : Hp) (ls : List Value) (st : List Value) (x y : Int32) : Ex mX9_readFish Q 51 ls (.int y :: .int x :: st) h = Ex mX9_readFish Q 52 ls (.int (x + y) :: st) h := Ex_nx rfl rfl
theorem rX9_readFish_52 (Q : Po) (h : Hp) (l0 l2 : Value) (x : Int32) (st : List Value) : Ex mX9_readFish Q 52 [l0, .int x, l2] st h = Ex mX9_readFish Q 53 [l0, .int x, l2] (.int x :: st) h := Ex_nx rfl rfl
theorem rX9_readFish_53 (Q : Po) (h : Hp) (ls : List Value) (st : List Value) (a : Nat) (i x : Int32) : Ex mX9_readFish Q 53 ls (.int x :: .int i :: .ref a :: st) h = ((gK h a = 51 ∧ ¬ (i < 0 ∨ gL h a ≤ i.toNatClampNeg)) ∧ Ex mX9_readFish Q 54 ls st (pI h a i.toNatClampNeg (x))) := Ex_gd rfl rfl
theorem rX9_readFish_54 (Q : Po) (h : Hp) (l1 l2 : Value) (x : Nat) (st : List Value) : Ex mX9_readFish Q 54 [.ref x, l1, l2] st h = Ex mX9_readFish Q 55 [.ref x, l1, l2] (.ref x :: st) h := Ex_nx rfl rfl
theorem rX9_readFish_55 (Q : Po) (h : Hp) (ls : List Value) (st : List Value) (a : Nat) : Ex mX9_readFish Q 55 ls (.ref a :: st) h = (gK h a ∈ ([9] : List Nat) ∧ Ex mX9_readFish Q 58 ls (gF h 101 a :: st) h) := Ex_gd rfl rfl
theorem rX9_readFish_58 (Q : Po) (h : Hp) (ls : List Value) (st : List Value) : Ex mX9_readFish Q 58 ls st h = Ex mX9_readFish Q 59 ls (.int 1 :: st) h := Ex_nx rfl rfl
theorem rX9_readFish_59 (Q : Po) (h : Hp) (ls : List Value) (st : List Value) (x : Int32) (y : Nat) : Ex mX9_readFish Q 59 ls (.int x :: .ref y :: st) h = Ex mX9_readFish Q 60 ls (.int x :: .ref y :: .int x :: .ref y :: st) h := Ex_nx rfl rfl
theorem rX9_readFish_60 (Q : Po) (h : Hp) (ls : List Value) (st : List Value) (a : Nat) (i : Int32) : Ex mX9_readFish Q 60 ls (.int i :: .ref a :: st) h = ((gK h a = 51 ∧ ¬ (i < 0 ∨ gL h a ≤ i.toNatClampNeg)) ∧ Ex mX9_readFish Q 61 ls (.int (gI h a i.toNatClampNeg) :: st) h) := Ex_gd rfl rfl
theorem rX9_readFish_61 (Q : Po) (h : Hp) (ls : List Value) (st : List Value) : Ex mX9_readFish Q 61 ls st h = Ex mX9_readFish Q 62 ls (.int 1 :: st) h := Ex_nx rfl rfl
theorem rX9_readFish_62 (Q : Po) (h : Hp) (ls : List Value) (st : List Value) (x y : Int32) : Ex mX9_readFish Q 62 ls (.int y :: .int x :: st) h = Ex mX9_readFish Q 63 ls (.int (x + y) :: st) h := Ex_nx rfl rfl
theorem rX9_readFish_63 (Q : Po) (h : Hp) (ls : List Value) (st : List Value) (a : Nat) (i x : Int32) : Ex mX9_readFish Q 63 ls (.int x :: .int i :: .ref a :: st) h = ((gK h a = 51 ∧ ¬ (i < 0 ∨ gL h a ≤ i.toNatClampNeg)) ∧ Ex mX9_readFish Q 64 ls st (pI h a i.toNatClampNeg (x))) := Ex_gd rfl rfl
theorem rX9_readFish_64 (Q : Po) (h : Hp) (l1 l2 : Value) (x : Nat) (st : List Value) : Ex mX9_readFish Q 64 [.ref x, l1, l2] st h = Ex mX9_readFish Q 65 [.ref x, l1, l2] (.ref x :: st) h := Ex_nx rfl rfl
theorem rX9_readFish_65 (Q : Po) (h : Hp) (ls : List Value) (st : List Value) : Ex mX9_readFish Q 65 ls st h = Ex mX9_readFish Q 66 ls (.int 0 :: st) h := Ex_nx rfl rfl
theorem rX9_readFish_66 (Q : Po) (h : Hp) (l1 l2 : Value) (x : Nat) (st : List Value) : Ex mX9_readFish Q 66 [.ref x, l1, l2] st h = Ex mX9_readFish Q 67 [.ref x, l1, l2] (.ref x :: st) h := Ex_nx rfl rfl
theorem rX9_readFish_67 (Q : Po) (h : Hp) (ls : List Value) (st : List Value) (a : Nat) : Ex mX9_readFish Q 67 ls (.ref a :: st) h = (gK h a ∈ ([9] : List Nat) ∧ Ex mX9_readFish Q 70 ls (gF h 101 a :: st) h) := Ex_gd rfl rfl
theorem rX9_readFish_70 (Q : Po) (h : Hp) (ls : List Value) (st : List Value) : Ex mX9_readFish Q 70 ls st h = Ex mX9_readFish Q 71 ls (.int 0 :: st) h := Ex_nx rfl rfl
theorem rX9_readFish_71 (Q : Po) (h : Hp) (ls : List Value) (st : List Value) (a : Nat) (i : Int32) : Ex mX9_readFish Q 71 ls (.int i :: .ref a :: st) h = ((gK h a = 51 ∧ ¬ (i < 0 ∨ gL h a ≤ i.toNatClampNeg)) ∧ Ex mX9_readFish Q 72 ls (.int (gI h a i.toNatClampNeg) :: st) h) := Ex_gd rfl rfl
theorem rX9_readFish_72 (Q : Po) (h : Hp) (ls : List Value) (st : List Value) : Ex mX9_readFish Q 72 ls st h = Ex mX9_readFish Q 73 ls (.int 1 :: st) h := Ex_nx rfl rfl
theorem rX9_readFish_73 (Q : Po) (h : Hp) (ls : List Value) (st : List Value) (x y : Int32) : Ex mX9_readFish Q 73 ls (.int y :: .int x :: st) h = Ex mX9_readFish Q 74 ls (.int (x - y) :: st) h := Ex_nx rfl rfl
theorem rX9_readFish_74 (Q : Po) (h : Hp) (ls : List Value) (st : List Value) : Ex mX9_readFish Q 74 ls st h = Ex mX9_readFish Q 76 ls (.int 31 :: st) h := Ex_nx rfl rfl
theorem rX9_readFish_76 (Q : Po) (h : Hp) (l0 l1 : Value) (x : Int32) (st : List Value) : Ex mX9_readFish Q 76 [l0, l1, .int x] st h = Ex mX9_readFish Q 77 [l0, l1, .int x] (.int x :: st) h := Ex_nx rfl rfl
theorem rX9_readFish_77 (Q : Po) (h : Hp) (ls : List Value) (st : List Value) (x y : Int32) : Ex mX9_readFish Q 77 ls (.int y :: .int x :: st) h = Ex mX9_readFish Q 78 ls (.int (x + y) :: st) h := Ex_nx rfl rfl
theorem rX9_readFish_78 (Q : Po) (h : Hp) (ls : List Value) (st : List Value) : Ex mX9_readFish Q 78 ls st h = Ex mX9_readFish Q 80 ls (.int 59 :: st) h := Ex_nx rfl rfl
theorem rX9_readFish_80 (Q : Po) (h : Hp) (ls : List Value) (a0 : Int32) (a1 : Int32) (a2 : Int32) (a3 : Int32) (b : Nat) : Ex mX9_readFish Q 80 ls (.int a3 :: .int a2 :: .int a1 :: .int a0 :: .ref b :: []) h = (gK h b = 9 ∧ Ex mX9_takesNumber (Cont mX9_readFish Q 80 ls 83 []) 0 [.ref b, .int a0, .int a1, .int a2, .int a3] [] h) := Ex_cg (n := 5) (as := [.ref b, .int a0, .int a1, .int a2, .int a3]) rfl rfl
theorem rX9_readFish_83 (Q : Po) (h : Hp) (ls : List Value) (x : Int32) : Ex mX9_readFish Q 83 ls [.int x] h = ((x = 0 ∨ x = 1) ∧ Q (.inl (some (.int x))) h) := Ex_rg rfl rfl
theorem rX9_readFish_t (Q : Po) (h : Hp) (pc n a : Nat) (ls st : List Value) : Cont mX9_readFish Q pc ls n st (.inr a) h = Q (.inr a) h := rfl
/-! FishReadersModel.readBook()Z -/
def mX9_readBook : Cd := ([(0, .inl (i_aload 0 1)),
  (1, .inl (i_getf 101 [9] 4)),
  (4, .inl (i_push (.int 0) 5)),
  (5, .inl (i_iald 51 6)),
  (6, .inl (i_istore 1 7)),
  (7, .inl (i_aload 0 8)),
  (8, .inl (i_getf 101 [9] 11)),
  (11, .inl (i_push (.int 1) 12)),
  (12, .inl (i_iald 51 13)),
  (13, .inl (i_if (fun x => 0 < x) 22 16)),
  (16, .inl (i_iload 1 17)),
  (17, .inl (i_push (.int 6) 19)),
  (19, .inl (i_icmp (fun x y => ¬ x = y) 41 22)),
  (22, .inl (i_aload 0 23)),
  (23, .inl (i_aload 0 24)),
  (24, .inl (i_getf 101 [9] 27)),
  (27, .inl (i_push (.int 1) 28)),
  (28, .inl (i_iald 51 29)),
  (29, .inl (i_if (fun x => x ≤ 0) 36 32)),
  (32, .inl (i_push (.int 1) 33)),
  (33, .inl (i_goto 37)),
  (36, .inl (i_push (.int 3) 37)),
  (37, .inr (c_V 1 40 2 9 (Mt mX9_faults 2))),
  (40, .inl i_zret),
  (41, .inl (i_aload 0 42)),
  (42, .inr (c_V 0 45 1 9 (Mt mX9_nextToken 1))),
  (45, .inl (i_aload 0 46)),
  (46, .inl (i_getf 101 [9] 49)),
  (49, .inl (i_push (.int 20) 51)),
  (51, .inl (i_iload 1 52)),
  (52, .inl (i_bin (fun x y => x + y) 53)),
  (53, .inl (i_iload 1 54)),
  (54, .inl (i_iast 51 (fun x => x) 55)),
  (55, .inl (i_aload 0 56)),
  (56, .inl (i_getf 101 [9] 59)),
  (59, .inl (i_push (.int 0) 60)),
  (60, .inl (i_dup2 61)),
  (61, .inl (i_iald 51 62)),
  (62, .inl (i_push (.int 1) 63)),
  (63, .inl (i_bin (fun x y => x + y) 64)),
  (64, .inl (i_iast 51 (fun x => x) 65)),
  (65, .inl (i_aload 0 66)),
  (66, .inl (i_push (.int 0) 67)),
  (67, .inl (i_push (.int 99) 69)),
  (69, .inl (i_push (.int 8) 71)),
  (71, .inl (i_iload 1 72)),
  (72, .inl (i_bin (fun x y => x + y) 73)),
  (73, .inl (i_push (.int 44) 75)),
  (75, .inr (c_V 4 78 5 9 (Mt mX9_takesNumber 5))),
  (78, .inl (i_if (fun x => x = 0) 101 81)),
  (81, .inl (i_aload 0 82)),
  (82, .inl (i_push (.int 0) 83)),
  (83, .inl (i_push (.int 9) 85)),
  (85, .inl (i_push (.int 14) 87)),
  (87, .inl (i_iload 1 88)),
  (88, .inl (i_bin (fun x y => x + y) 89)),
  (89, .inl (i_push (.int 59) 91)),
  (91, .inr (c_V 4 94 5 9 (Mt mX9_takesNumber 5))),
  (94, .inl (i_if (fun x => x = 0) 101 97)),
  (97, .inl (i_push (.int 1) 98)),
  (98, .inl (i_goto 102)),
  (101, .inl (i_push (.int 0) 102)),
  (102, .inl i_zret)], noH)
theorem rX9_readBook_0 (Q : Po) (h : Hp) (l1 : Value) (x : Nat) (st : List Value) : Ex mX9_readBook Q 0 [.ref x, l1] st h = Ex mX9_readBook Q 1 [.ref x, l1] (.ref x :: st) h := Ex_nx rfl rfl
theorem rX9_readBook_1 (Q : Po) (h : Hp) (ls : List Value) (st : List Value) (a : Nat) : Ex mX9_readBook Q 1 ls (.ref a :: st) h = (gK h a ∈ ([9] : List Nat) ∧ Ex mX9_readBook Q 4 ls (gF h 101 a :: st) h) := Ex_gd rfl rfl
theorem rX9_readBook_4 (Q : Po) (h : Hp) (ls : List Value) (st : List Value) : Ex mX9_readBook Q 4 ls st h = Ex mX9_readBook Q 5 ls (.int 0 :: st) h := Ex_nx rfl rfl
theorem rX9_readBook_5 (Q : Po) (h : Hp) (ls : List Value) (st : List Value) (a : Nat) (i : Int32) : Ex mX9_readBook Q 5 ls (.int i :: .ref a :: st) h = ((gK h a = 51 ∧ ¬ (i < 0 ∨ gL h a ≤ i.toNatClampNeg)) ∧ Ex mX9_readBook Q 6 ls (.int (gI h a i.toNatClampNeg) :: st) h) := Ex_gd rfl rfl
theorem rX9_readBook_6 (Q : Po) (h : Hp) (l0 l1 : Value) (x : Int32) (st : List Value) : Ex mX9_readBook Q 6 [l0, l1] (.int x :: st) h = Ex mX9_readBook Q 7 [l0, .int x] st h := Ex_nx rfl rfl
theorem rX9_readBook_7 (Q : Po) (h : Hp) (l1 : Value) (x : Nat) (st : List Value) : Ex mX9_readBook Q 7 [.ref x, l1] st h = Ex mX9_readBook Q 8 [.ref x, l1] (.ref x :: st) h := Ex_nx rfl rfl
theorem rX9_readBook_8 (Q : Po) (h : Hp) (ls : List Value) (st : List Value) (a : Nat) : Ex mX9_readBook Q 8 ls (.ref a :: st) h = (gK h a ∈ ([9] : List Nat) ∧ Ex mX9_readBook Q 11 ls (gF h 101 a :: st) h) := Ex_gd rfl rfl
theorem rX9_readBook_11 (Q : Po) (h : Hp) (ls : List Value) (st : List Value) : Ex mX9_readBook Q 11 ls st h = Ex mX9_readBook Q 12 ls (.int 1 :: st) h := Ex_nx rfl rfl
theorem rX9_readBook_12 (Q : Po) (h : Hp) (ls : List Value) (st : List Value) (a : Nat) (i : Int32) : Ex mX9_readBook Q 12 ls (.int i :: .ref a :: st) h = ((gK h a = 51 ∧ ¬ (i < 0 ∨ gL h a ≤ i.toNatClampNeg)) ∧ Ex mX9_readBook Q 13 ls (.int (gI h a i.toNatClampNeg) :: st) h) := Ex_gd rfl rfl
theorem rX9_readBook_13 (Q : Po) (h : Hp) (ls : List Value) (st : List Value) (x : Int32) : Ex mX9_readBook Q 13 ls (.int x :: st) h = if 0 < x then Ex mX9_readBook Q 22 ls st h else Ex mX9_readBook Q 16 ls st h := Ex_br rfl rfl
theorem rX9_readBook_16 (Q : Po) (h : Hp) (l0 : Value) (x : Int32) (st : List Value) : Ex mX9_readBook Q 16 [l0, .int x] st h = Ex mX9_readBook Q 17 [l0, .int x] (.int x :: st) h := Ex_nx rfl rfl
theorem rX9_readBook_17 (Q : Po) (h : Hp) (ls : List Value) (st : List Value) : Ex mX9_readBook Q 17 ls st h = Ex mX9_readBook Q 19 ls (.int 6 :: st) h := Ex_nx rfl rfl
theorem rX9_readBook_19 (Q : Po) (h : Hp) (ls : List Value) (st : List Value) (x y : Int32) : Ex mX9_readBook Q 19 ls (.int y :: .int x :: st) h = if ¬ x = y then Ex mX9_readBook Q 41 ls st h else Ex mX9_readBook Q 22 ls st h := Ex_br rfl rfl
theorem rX9_readBook_22 (Q : Po) (h : Hp) (l1 : Value) (x : Nat) (st : List Value) : Ex mX9_readBook Q 22 [.ref x, l1] st h = Ex mX9_readBook Q 23 [.ref x, l1] (.ref x :: st) h := Ex_nx rfl rfl
theorem rX9_readBook_23 (Q : Po) (h : Hp) (l1 : Value) (x : Nat) (st : List Value) : Ex mX9_readBook Q 23 [.ref x, l1] st h = Ex mX9_readBook Q 24 [.ref x, l1] (.ref x :: st) h := Ex_nx rfl rfl
theorem rX9_readBook_24 (Q : Po) (h : Hp) (ls : List Value) (st : List Value) (a : Nat) : Ex mX9_readBook Q 24 ls (.ref a :: st) h = (gK h a ∈ ([9] : List Nat) ∧ Ex mX9_readBook Q 27 ls (gF h 101 a :: st) h) := Ex_gd rfl rfl
theorem rX9_readBook_27 (Q : Po) (h : Hp) (ls : List Value) (st : List Value) : Ex mX9_readBook Q 27 ls st h = Ex mX9_readBook Q 28 ls (.int 1 :: st) h := Ex_nx rfl rfl
theorem rX9_readBook_28 (Q : Po) (h : Hp) (ls : List Value) (st : List Value) (a : Nat) (i : Int32) : Ex mX9_readBook Q 28 ls (.int i :: .ref a :: st) h = ((gK h a = 51 ∧ ¬ (i < 0 ∨ gL h a ≤ i.toNatClampNeg)) ∧ Ex mX9_readBook Q 29 ls (.int (gI h a i.toNatClampNeg) :: st) h) := Ex_gd rfl rfl
theorem rX9_readBook_29 (Q : Po) (h : Hp) (ls : List Value) (st : List Value) (x : Int32) : Ex mX9_readBook Q 29 ls (.int x :: st) h = if x ≤ 0 then Ex mX9_readBook Q 36 ls st h else Ex mX9_readBook Q 32 ls st h := Ex_br rfl rfl
theorem rX9_readBook_32 (Q : Po) (h : Hp) (ls : List Value) (st : List Value) : Ex mX9_readBook Q 32 ls st h = Ex mX9_readBook Q 33 ls (.int 1 :: st) h := Ex_nx rfl rfl
theorem rX9_readBook_33 (Q : Po) (h : Hp) (ls : List Value) (st : List Value) : Ex mX9_readBook Q 33 ls st h = Ex mX9_readBook Q 37 ls st h := Ex_nx rfl rfl
theorem rX9_readBook_36 (Q : Po) (h : Hp) (ls : List Value) (st : List Value) : Ex mX9_readBook Q 36 ls st h = Ex mX9_readBook Q 37 ls (.int 3 :: st) h := Ex_nx rfl rfl
theorem rX9_readBook_37 (Q : Po) (h : Hp) (ls : List Value) (a0 : Int32) (b : Nat) : Ex mX9_readBook Q 37 ls (.int a0 :: .ref b :: []) h = (gK h b = 9 ∧ Ex mX9_faults (Cont mX9_readBook Q 37 ls 40 []) 0 [.ref b, .int a0] [] h) := Ex_cg (n := 2) (as := [.ref b, .int a0]) rfl rfl
theorem rX9_readBook_40 (Q : Po) (h : Hp) (ls : List Value) (x : Int32) : Ex mX9_readBook Q 40 ls [.int x] h = ((x = 0 ∨ x = 1) ∧ Q (.inl (some (.int x))) h) := Ex_rg rfl rfl
theorem rX9_readBook_41 (Q : Po) (h : Hp) (l1 : Value) (x : Nat) (st : List Value) : Ex mX9_readBook Q 41 [.ref x, l1] st h = Ex mX9_readBook Q 42 [.ref x, l1] (.ref x :: st) h := Ex_nx rfl rfl
theorem rX9_readBook_42 (Q : Po) (h : Hp) (ls : List Value) (b : Nat) : Ex mX9_readBook Q 42 ls (.ref b :: []) h = (gK h b = 9 ∧ Ex mX9_nextToken (Cont mX9_readBook Q 42 ls 45 []) 0 [.ref b] [] h) := Ex_cg (n := 1) (as := [.ref b]) rfl rfl
theorem rX9_readBook_45 (Q : Po) (h : Hp) (l1 : Value) (x : Nat) (st : List Value) : Ex mX9_readBook Q 45 [.ref x, l1] st h = Ex mX9_readBook Q 46 [.ref x, l1] (.ref x :: st) h := Ex_nx rfl rfl
theorem rX9_readBook_46 (Q : Po) (h : Hp) (ls : List Value) (st : List Value) (a : Nat) : Ex mX9_readBook Q 46 ls (.ref a :: st) h = (gK h a ∈ ([9] : List Nat) ∧ Ex mX9_readBook Q 49 ls (gF h 101 a :: st) h) := Ex_gd rfl rfl
theorem rX9_readBook_49 (Q : Po) (h : Hp) (ls : List Value) (st : List Value) : Ex mX9_readBook Q 49 ls st h = Ex mX9_readBook Q 51 ls (.int 20 :: st) h := Ex_nx rfl rfl
theorem rX9_readBook_51 (Q : Po) (h : Hp) (l0 : Value) (x : Int32) (st : List Value) : Ex mX9_readBook Q 51 [l0, .int x] st h = Ex mX9_readBook Q 52 [l0, .int x] (.int x :: st) h := Ex_nx rfl rfl
theorem rX9_readBook_52 (Q : Po) (h : Hp) (ls : List Value) (st : List Value) (x y : Int32) : Ex mX9_readBook Q 52 ls (.int y :: .int x :: st) h = Ex mX9_readBook Q 53 ls (.int (x + y) :: st) h := Ex_nx rfl rfl
theorem rX9_readBook_53 (Q : Po) (h : Hp) (l0 : Value) (x : Int32) (st : List Value) : Ex mX9_readBook Q 53 [l0, .int x] st h = Ex mX9_readBook Q 54 [l0, .int x] (.int x :: st) h := Ex_nx rfl rfl
theorem rX9_readBook_54 (Q : Po) (h : Hp) (ls : List Value) (st : List Value) (a : Nat) (i x : Int32) : Ex mX9_readBook Q 54 ls (.int x :: .int i :: .ref a :: st) h = ((gK h a = 51 ∧ ¬ (i < 0 ∨ gL h a ≤ i.toNatClampNeg)) ∧ Ex mX9_readBook Q 55 ls st (pI h a i.toNatClampNeg (x))) := Ex_gd rfl rfl
theorem rX9_readBook_55 (Q : Po) (h : Hp) (l1 : Value) (x : Nat) (st : List Value) : Ex mX9_readBook Q 55 [.ref x, l1] st h = Ex mX9_readBook Q 56 [.ref x, l1] (.ref x :: st) h := Ex_nx rfl rfl
theorem rX9_readBook_56 (Q : Po) (h : Hp) (ls : List Value) (st : List Value) (a : Nat) : Ex mX9_readBook Q 56 ls (.ref a :: st) h = (gK h a ∈ ([9] : List Nat) ∧ Ex mX9_readBook Q 59 ls (gF h 101 a :: st) h) := Ex_gd rfl rfl
theorem rX9_readBook_59 (Q : Po) (h : Hp) (ls : List Value) (st : List Value) : Ex mX9_readBook Q 59 ls st h = Ex mX9_readBook Q 60 ls (.int 0 :: st) h := Ex_nx rfl rfl
theorem rX9_readBook_60 (Q : Po) (h : Hp) (ls : List Value) (st : List Value) (x : Int32) (y : Nat) : Ex mX9_readBook Q 60 ls (.int x :: .ref y :: st) h = Ex mX9_readBook Q 61 ls (.int x :: .ref y :: .int x :: .ref y :: st) h := Ex_nx rfl rfl
theorem rX9_readBook_61 (Q : Po) (h : Hp) (ls : List Value) (st : List Value) (a : Nat) (i : Int32) : Ex mX9_readBook Q 61 ls (.int i :: .ref a :: st) h = ((gK h a = 51 ∧ ¬ (i < 0 ∨ gL h a ≤ i.toNatClampNeg)) ∧ Ex mX9_readBook Q 62 ls (.int (gI h a i.toNatClampNeg) :: st) h) := Ex_gd rfl rfl
theorem rX9_readBook_62 (Q : Po) (h : Hp) (ls : List Value) (st : List Value) : Ex mX9_readBook Q 62 ls st h = Ex mX9_readBook Q 63 ls (.int 1 :: st) h := Ex_nx rfl rfl
theorem rX9_readBook_63 (Q : Po) (h : Hp) (ls : List Value) (st : List Value) (x y : Int32) : Ex mX9_readBook Q 63 ls (.int y :: .int x :: st) h = Ex mX9_readBook Q 64 ls (.int (x + y) :: st) h := Ex_nx rfl rfl
theorem rX9_readBook_64 (Q : Po) (h : Hp) (ls : List Value) (st : List Value) (a : Nat) (i x : Int32) : Ex mX9_readBook Q 64 ls (.int x :: .int i :: .ref a :: st) h = ((gK h a = 51 ∧ ¬ (i < 0 ∨ gL h a ≤ i.toNatClampNeg)) ∧ Ex mX9_readBook Q 65 ls st (pI h a i.toNatClampNeg (x))) := Ex_gd rfl rfl
theorem rX9_readBook_65 (Q : Po) (h : Hp) (l1 : Value) (x : Nat) (st : List Value) : Ex mX9_readBook Q 65 [.ref x, l1] st h = Ex mX9_readBook Q 66 [.ref x, l1] (.ref x :: st) h := Ex_nx rfl rfl
theorem rX9_readBook_66 (Q : Po) (h : Hp) (ls : List Value) (st : List Value) : Ex mX9_readBook Q 66 ls st h = Ex mX9_readBook Q 67 ls (.int 0 :: st) h := Ex_nx rfl rfl
theorem rX9_readBook_67 (Q : Po) (h : Hp) (ls : List Value) (st : List Value) : Ex mX9_readBook Q 67 ls st h = Ex mX9_readBook Q 69 ls (.int 99 :: st) h := Ex_nx rfl rfl
theorem rX9_readBook_69 (Q : Po) (h : Hp) (ls : List Value) (st : List Value) : Ex mX9_readBook Q 69 ls st h = Ex mX9_readBook Q 71 ls (.int 8 :: st) h := Ex_nx rfl rfl
theorem rX9_readBook_71 (Q : Po) (h : Hp) (l0 : Value) (x : Int32) (st : List Value) : Ex mX9_readBook Q 71 [l0, .int x] st h = Ex mX9_readBook Q 72 [l0, .int x] (.int x :: st) h := Ex_nx rfl rfl
theorem rX9_readBook_72 (Q : Po) (h : Hp) (ls : List Value) (st : List Value) (x y : Int32) : Ex mX9_readBook Q 72 ls (.int y :: .int x :: st) h = Ex mX9_readBook Q 73 ls (.int (x + y) :: st) h := Ex_nx rfl rfl
theorem rX9_readBook_73 (Q : Po) (h : Hp) (ls : List Value) (st : List Value) : Ex mX9_readBook Q 73 ls st h = Ex mX9_readBook Q 75 ls (.int 44 :: st) h := Ex_nx rfl rfl
theorem rX9_readBook_75 (Q : Po) (h : Hp) (ls : List Value) (a0 : Int32) (a1 : Int32) (a2 : Int32) (a3 : Int32) (b : Nat) : Ex mX9_readBook Q 75 ls (.int a3 :: .int a2 :: .int a1 :: .int a0 :: .ref b :: []) h = (gK h b = 9 ∧ Ex mX9_takesNumber (Cont mX9_readBook Q 75 ls 78 []) 0 [.ref b, .int a0, .int a1, .int a2, .int a3] [] h) := Ex_cg (n := 5) (as := [.ref b, .int a0, .int a1, .int a2, .int a3]) rfl rfl
theorem rX9_readBook_78 (Q : Po) (h : Hp) (ls : List Value) (st : List Value) (x : Int32) : Ex mX9_readBook Q 78 ls (.int x :: st) h = if x = 0 then Ex mX9_readBook Q 101 ls st h else Ex mX9_readBook Q 81 ls st h := Ex_br rfl rfl
theorem rX9_readBook_81 (Q : Po) (h : Hp) (l1 : Value) (x : Nat) (st : List Value) : Ex mX9_readBook Q 81 [.ref x, l1] st h = Ex mX9_readBook Q 82 [.ref x, l1] (.ref x :: st) h := Ex_nx rfl rfl
theorem rX9_readBook_82 (Q : Po) (h : Hp) (ls : List Value) (st : List Value) : Ex mX9_readBook Q 82 ls st h = Ex mX9_readBook Q 83 ls (.int 0 :: st) h := Ex_nx rfl rfl
theorem rX9_readBook_83 (Q : Po) (h : Hp) (ls : List Value) (st : List Value) : Ex mX9_readBook Q 83 ls st h = Ex mX9_readBook Q 85 ls (.int 9 :: st) h := Ex_nx rfl rfl
theorem rX9_readBook_85 (Q : Po) (h : Hp) (ls : List Value) (st : List Value) : Ex mX9_readBook Q 85 ls st h = Ex mX9_readBook Q 87 ls (.int 14 :: st) h := Ex_nx rfl rfl
theorem rX9_readBook_87 (Q : Po) (h : Hp) (l0 : Value) (x : Int32) (st : List Value) : Ex mX9_readBook Q 87 [l0, .int x] st h = Ex mX9_readBook Q 88 [l0, .int x] (.int x :: st) h := Ex_nx rfl rfl
theorem rX9_readBook_88 (Q : Po) (h : Hp) (ls : List Value) (st : List Value) (x y : Int32) : Ex mX9_readBook Q 88 ls (.int y :: .int x :: st) h = Ex mX9_readBook Q 89 ls (.int (x + y) :: st) h := Ex_nx rfl rfl
theorem rX9_readBook_89 (Q : Po) (h : Hp) (ls : List Value) (st : List Value) : Ex mX9_readBook Q 89 ls st h = Ex mX9_readBook Q 91 ls (.int 59 :: st) h := Ex_nx rfl rfl
theorem rX9_readBook_91 (Q : Po) (h : Hp) (ls : List Value) (a0 : Int32) (a1 : Int32) (a2 : Int32) (a3 : Int32) (b : Nat) : Ex mX9_readBook Q 91 ls (.int a3 :: .int a2 :: .int a1 :: .int a0 :: .ref b :: []) h = (gK h b = 9 ∧ Ex mX9_takesNumber (Cont mX9_readBook Q 91 ls 94 []) 0 [.ref b, .int a0, .int a1, .int a2, .int a3] [] h) := Ex_cg (n := 5) (as := [.ref b, .int a0, .int a1, .int a2, .int a3]) rfl rfl
theorem rX9_readBook_94 (Q : Po) (h : Hp) (ls : List Value) (st : List Value) (x : Int32) : Ex mX9_readBook Q 94 ls (.int x :: st) h = if x = 0 then Ex mX9_readBook Q 101 ls st h else Ex mX9_readBook Q 97 ls st h := Ex_br rfl rfl
theorem rX9_readBook_97 (Q : Po) (h : Hp) (ls : List Value) (st : List Value) : Ex mX9_readBook Q 97 ls st h = Ex mX9_readBook Q 98 ls (.int 1 :: st) h := Ex_nx rfl rfl
theorem rX9_readBook_98 (Q : Po) (h : Hp) (ls : List Value) (st : List Value) : Ex mX9_readBook Q 98 ls st h = Ex mX9_readBook Q 102 ls st h := Ex_nx rfl rfl
theorem rX9_readBook_101 (Q : Po) (h : Hp) (ls : List Value) (st : List Value) : Ex mX9_readBook Q 101 ls st h = Ex mX9_readBook Q 102 ls (.int 0 :: st) h := Ex_nx rfl rfl
theorem rX9_readBook_102 (Q : Po) (h : Hp) (ls : List Value) (x : Int32) : Ex mX9_readBook Q 102 ls [.int x] h = ((x = 0 ∨ x = 1) ∧ Q (.inl (some (.int x))) h) := Ex_rg rfl rfl
theorem rX9_readBook_t (Q : Po) (h : Hp) (pc n a : Nat) (ls st : List Value) : Cont mX9_readBook Q pc ls n st (.inr a) h = Q (.inr a) h := rfl
/-! FishReadersModel.readLibrary()Z -/
def mX9_readLibrary : Cd := ([(0, .inl (i_aload 0 1)),
  (1, .inl (i_push (.int 0) 2)),
  (2, .inl (i_putI 90 [9] 5)),
  (5, .inl (i_push (.int 0) 6)),
  (6, .inl (i_istore 1 7)),
  (7, .inl (i_iload 1 8)),
  (8, .inl (i_push (.int 41) 10)),
  (10, .inl (i_icmp (fun x y => y ≤ x) 26 13)),
  (13, .inl (i_aload 0 14)),
  (14, .inl (i_getf 101 [9] 17)),
  (17, .inl (i_iload 1 18)),
  (18, .inl (i_push (.int 0) 19)),
  (19, .inl (i_iast 51 (fun x => x) 20)),
  (20, .inl (i_iinc 1 1 23)),
  (23, .inl (i_goto 7)),
  (26, .inl (i_aload 0 27)),
  (27, .inr (c_V 0 30 1 9 (Mt mX9_nextToken 1))),
  (30, .inl (i_aload 0 31)),
  (31, .inl (i_push (.int 108) 33)),
  (33, .inr (c_V 1 36 2 9 (Mt mX9_takes 2))),
  (36, .inl (i_if (fun x => x = 0) 65 39)),
  (39, .inl (i_aload 0 40)),
  (40, .inl (i_push (.int 1) 41)),
  (41, .inl (i_push (.int 9) 43)),
  (43, .inl (i_push (.int 2) 44)),
  (44, .inl (i_push (.int 44) 46)),
  (46, .inr (c_V 4 49 5 9 (Mt mX9_takesNumber 5))),
  (49, .inl (i_if (fun x => x = 0) 65 52)),
  (52, .inl (i_aload 0 53)),
  (53, .inl (i_push (.int 0) 54)),
  (54, .inl (i_push (.int 8) 56)),
  (56, .inl (i_push (.int 3) 57)),
  (57, .inl (i_push (.int 59) 59)),
  (59, .inr (c_V 4 62 5 9 (Mt mX9_takesNumber 5))),
  (62, .inl (i_if (fun x => ¬ x = 0) 67 65)),
  (65, .inl (i_push (.int 0) 66)),
  (66, .inl i_zret),
  (67, .inl (i_push (.int 1) 68)),
  (68, .inl (i_istore 1 69)),
  (69, .inl (i_iload 1 70)),
  (70, .inl (i_if (fun x => x = 0) 147 73)),
  (73, .inl (i_aload 0 74)),
  (74, .inl (i_getf 92 [9] 77)),
  (77, .inl (i_push (.int 3) 78)),
  (78, .inl (i_icmp (fun x y => ¬ x = y) 90 81)),
  (81, .inl (i_aload 0 82)),
  (82, .inl (i_getf 101 [9] 85)),
  (85, .inl (i_push (.int 1) 86)),
  (86, .inl (i_iald 51 87)),
  (87, .inl (i_if (fun x => ¬ x = 0) 147 90)),
  (90, .inl (i_aload 0 91)),
  (91, .inl (i_getf 92 [9] 94)),
  (94, .inl (i_push (.int 1) 95)),
  (95, .inl (i_icmp (fun x y => ¬ x = y) 108 98)),
  (98, .inl (i_aload 0 99)),
  (99, .inl (i_getf 94 [9] 102)),
  (102, .inr (c_S 1 105 1 (Mt mX9_kindBy 1))),
  (105, .inl (i_goto 109)),
  (108, .inl (i_push (.int 0) 109)),
  (109, .inl (i_istore 2 110)),
  (110, .inl (i_iload 2 111)),
  (111, .inl (i_if (fun x => x ≤ 0) 122 114)),
  (114, .inl (i_aload 0 115)),
  (115, .inl (i_iload 2 116)),
  (116, .inr (c_V 1 119 3 9 (Mt mX9_readFish 3))),
  (119, .inl (i_goto 143)),
  (122, .inl (i_aload 0 123)),
  (123, .inl (i_push (.int 98) 125)),
  (125, .inr (c_V 1 128 2 9 (Mt mX9_isLetter 2))),
  (128, .inl (i_if (fun x => x = 0) 138 131)),
  (131, .inl (i_aload 0 132)),
  (132, .inr (c_V 0 135 2 9 (Mt mX9_readBook 2))),
  (135, .inl (i_goto 143)),
  (138, .inl (i_aload 0 139)),
  (139, .inl (i_push (.int 1) 140)),
  (140, .inr (c_V 1 143 2 9 (Mt mX9_faults 2))),
  (143, .inl (i_istore 1 144)),
  (144, .inl (i_goto 69)),
  (147, .inl (i_iload 1 148)),
  (148, .inl i_zret)], noH)
theorem rX9_readLibrary_0 (Q : Po) (h : Hp) (l1 l2 : Value) (x : Nat) (st : List Value) : Ex mX9_readLibrary Q 0 [.ref x, l1, l2] st h = Ex mX9_readLibrary Q 1 [.ref x, l1, l2] (.ref x :: st) h := Ex_nx rfl rfl
theorem rX9_readLibrary_1 (Q : Po) (h : Hp) (ls : List Value) (st : List Value) : Ex mX9_readLibrary Q 1 ls st h = Ex mX9_readLibrary Q 2 ls (.int 0 :: st) h := Ex_nx rfl rfl
theorem rX9_readLibrary_2 (Q : Po) (h : Hp) (ls : List Value) (st : List Value) (x : Int32) (a : Nat) : Ex mX9_readLibrary Q 2 ls (.int x :: .ref a :: st) h = (gK h a ∈ ([9] : List Nat) ∧ Ex mX9_readLibrary Q 5 ls st (pF h 90 a (.int x))) := Ex_gd rfl rfl
theorem rX9_readLibrary_5 (Q : Po) (h : Hp) (ls : List Value) (st : List Value) : Ex mX9_readLibrary Q 5 ls st h = Ex mX9_readLibrary Q 6 ls (.int 0 :: st) h := Ex_nx rfl rfl
theorem rX9_readLibrary_6 (Q : Po) (h : Hp) (l0 l1 l2 : Value) (x : Int32) (st : List Value) : Ex mX9_readLibrary Q 6 [l0, l1, l2] (.int x :: st) h = Ex mX9_readLibrary Q 7 [l0, .int x, l2] st h := Ex_nx rfl rfl
theorem rX9_readLibrary_7 (Q : Po) (h : Hp) (l0 l2 : Value) (x : Int32) (st : List Value) : Ex mX9_readLibrary Q 7 [l0, .int x, l2] st h = Ex mX9_readLibrary Q 8 [l0, .int x, l2] (.int x :: st) h := Ex_nx rfl rfl
theorem rX9_readLibrary_8 (Q : Po) (h : Hp) (ls : List Value) (st : List Value) : Ex mX9_readLibrary Q 8 ls st h = Ex mX9_readLibrary Q 10 ls (.int 41 :: st) h := Ex_nx rfl rfl
theorem rX9_readLibrary_10 (Q : Po) (h : Hp) (ls : List Value) (st : List Value) (x y : Int32) : Ex mX9_readLibrary Q 10 ls (.int y :: .int x :: st) h = if y ≤ x then Ex mX9_readLibrary Q 26 ls st h else Ex mX9_readLibrary Q 13 ls st h := Ex_br rfl rfl
theorem rX9_readLibrary_13 (Q : Po) (h : Hp) (l1 l2 : Value) (x : Nat) (st : List Value) : Ex mX9_readLibrary Q 13 [.ref x, l1, l2] st h = Ex mX9_readLibrary Q 14 [.ref x, l1, l2] (.ref x :: st) h := Ex_nx rfl rfl
theorem rX9_readLibrary_14 (Q : Po) (h : Hp) (ls : List Value) (st : List Value) (a : Nat) : Ex mX9_readLibrary Q 14 ls (.ref a :: st) h = (gK h a ∈ ([9] : List Nat) ∧ Ex mX9_readLibrary Q 17 ls (gF h 101 a :: st) h) := Ex_gd rfl rfl
theorem rX9_readLibrary_17 (Q : Po) (h : Hp) (l0 l2 : Value) (x : Int32) (st : List Value) : Ex mX9_readLibrary Q 17 [l0, .int x, l2] st h = Ex mX9_readLibrary Q 18 [l0, .int x, l2] (.int x :: st) h := Ex_nx rfl rfl
theorem rX9_readLibrary_18 (Q : Po) (h : Hp) (ls : List Value) (st : List Value) : Ex mX9_readLibrary Q 18 ls st h = Ex mX9_readLibrary Q 19 ls (.int 0 :: st) h := Ex_nx rfl rfl
theorem rX9_readLibrary_19 (Q : Po) (h : Hp) (ls : List Value) (st : List Value) (a : Nat) (i x : Int32) : Ex mX9_readLibrary Q 19 ls (.int x :: .int i :: .ref a :: st) h = ((gK h a = 51 ∧ ¬ (i < 0 ∨ gL h a ≤ i.toNatClampNeg)) ∧ Ex mX9_readLibrary Q 20 ls st (pI h a i.toNatClampNeg (x))) := Ex_gd rfl rfl
theorem rX9_readLibrary_20 (Q : Po) (h : Hp) (l0 l2 : Value) (x : Int32) (st : List Value) : Ex mX9_readLibrary Q 20 [l0, .int x, l2] st h = Ex mX9_readLibrary Q 23 [l0, .int (x + 1), l2] st h := Ex_nx rfl rfl
theorem rX9_readLibrary_23 (Q : Po) (h : Hp) (ls : List Value) (st : List Value) : Ex mX9_readLibrary Q 23 ls st h = Ex mX9_readLibrary Q 7 ls st h := Ex_nx rfl rfl
theorem rX9_readLibrary_26 (Q : Po) (h : Hp) (l1 l2 : Value) (x : Nat) (st : List Value) : Ex mX9_readLibrary Q 26 [.ref x, l1, l2] st h = Ex mX9_readLibrary Q 27 [.ref x, l1, l2] (.ref x :: st) h := Ex_nx rfl rfl
theorem rX9_readLibrary_27 (Q : Po) (h : Hp) (ls : List Value) (b : Nat) : Ex mX9_readLibrary Q 27 ls (.ref b :: []) h = (gK h b = 9 ∧ Ex mX9_nextToken (Cont mX9_readLibrary Q 27 ls 30 []) 0 [.ref b] [] h) := Ex_cg (n := 1) (as := [.ref b]) rfl rfl
theorem rX9_readLibrary_30 (Q : Po) (h : Hp) (l1 l2 : Value) (x : Nat) (st : List Value) : Ex mX9_readLibrary Q 30 [.ref x, l1, l2] st h = Ex mX9_readLibrary Q 31 [.ref x, l1, l2] (.ref x :: st) h := Ex_nx rfl rfl
theorem rX9_readLibrary_31 (Q : Po) (h : Hp) (ls : List Value) (st : List Value) : Ex mX9_readLibrary Q 31 ls st h = Ex mX9_readLibrary Q 33 ls (.int 108 :: st) h := Ex_nx rfl rfl
theorem rX9_readLibrary_33 (Q : Po) (h : Hp) (ls : List Value) (a0 : Int32) (b : Nat) : Ex mX9_readLibrary Q 33 ls (.int a0 :: .ref b :: []) h = (gK h b = 9 ∧ Ex mX9_takes (Cont mX9_readLibrary Q 33 ls 36 []) 0 [.ref b, .int a0] [] h) := Ex_cg (n := 2) (as := [.ref b, .int a0]) rfl rfl
theorem rX9_readLibrary_36 (Q : Po) (h : Hp) (ls : List Value) (st : List Value) (x : Int32) : Ex mX9_readLibrary Q 36 ls (.int x :: st) h = if x = 0 then Ex mX9_readLibrary Q 65 ls st h else Ex mX9_readLibrary Q 39 ls st h := Ex_br rfl rfl
theorem rX9_readLibrary_39 (Q : Po) (h : Hp) (l1 l2 : Value) (x : Nat) (st : List Value) : Ex mX9_readLibrary Q 39 [.ref x, l1, l2] st h = Ex mX9_readLibrary Q 40 [.ref x, l1, l2] (.ref x :: st) h := Ex_nx rfl rfl
theorem rX9_readLibrary_40 (Q : Po) (h : Hp) (ls : List Value) (st : List Value) : Ex mX9_readLibrary Q 40 ls st h = Ex mX9_readLibrary Q 41 ls (.int 1 :: st) h := Ex_nx rfl rfl
theorem rX9_readLibrary_41 (Q : Po) (h : Hp) (ls : List Value) (st : List Value) : Ex mX9_readLibrary Q 41 ls st h = Ex mX9_readLibrary Q 43 ls (.int 9 :: st) h := Ex_nx rfl rfl
theorem rX9_readLibrary_43 (Q : Po) (h : Hp) (ls : List Value) (st : List Value) : Ex mX9_readLibrary Q 43 ls st h = Ex mX9_readLibrary Q 44 ls (.int 2 :: st) h := Ex_nx rfl rfl
theorem rX9_readLibrary_44 (Q : Po) (h : Hp) (ls : List Value) (st : List Value) : Ex mX9_readLibrary Q 44 ls st h = Ex mX9_readLibrary Q 46 ls (.int 44 :: st) h := Ex_nx rfl rfl
theorem rX9_readLibrary_46 (Q : Po) (h : Hp) (ls : List Value) (a0 : Int32) (a1 : Int32) (a2 : Int32) (a3 : Int32) (b : Nat) : Ex mX9_readLibrary Q 46 ls (.int a3 :: .int a2 :: .int a1 :: .int a0 :: .ref b :: []) h = (gK h b = 9 ∧ Ex mX9_takesNumber (Cont mX9_readLibrary Q 46 ls 49 []) 0 [.ref b, .int a0, .int a1, .int a2, .int a3] [] h) := Ex_cg (n := 5) (as := [.ref b, .int a0, .int a1, .int a2, .int a3]) rfl rfl
theorem rX9_readLibrary_49 (Q : Po) (h : Hp) (ls : List Value) (st : List Value) (x : Int32) : Ex mX9_readLibrary Q 49 ls (.int x :: st) h = if x = 0 then Ex mX9_readLibrary Q 65 ls st h else Ex mX9_readLibrary Q 52 ls st h := Ex_br rfl rfl
theorem rX9_readLibrary_52 (Q : Po) (h : Hp) (l1 l2 : Value) (x : Nat) (st : List Value) : Ex mX9_readLibrary Q 52 [.ref x, l1, l2] st h = Ex mX9_readLibrary Q 53 [.ref x, l1, l2] (.ref x :: st) h := Ex_nx rfl rfl
theorem rX9_readLibrary_53 (Q : Po) (h : Hp) (ls : List Value) (st : List Value) : Ex mX9_readLibrary Q 53 ls st h = Ex mX9_readLibrary Q 54 ls (.int 0 :: st) h := Ex_nx rfl rfl
theorem rX9_readLibrary_54 (Q : Po) (h : Hp) (ls : List Value) (st : List Value) : Ex mX9_readLibrary Q 54 ls st h = Ex mX9_readLibrary Q 56 ls (.int 8 :: st) h := Ex_nx rfl rfl
theorem rX9_readLibrary_56 (Q : Po) (h : Hp) (ls : List Value) (st : List Value) : Ex mX9_readLibrary Q 56 ls st h = Ex mX9_readLibrary Q 57 ls (.int 3 :: st) h := Ex_nx rfl rfl
theorem rX9_readLibrary_57 (Q : Po) (h : Hp) (ls : List Value) (st : List Value) : Ex mX9_readLibrary Q 57 ls st h = Ex mX9_readLibrary Q 59 ls (.int 59 :: st) h := Ex_nx rfl rfl
theorem rX9_readLibrary_59 (Q : Po) (h : Hp) (ls : List Value) (a0 : Int32) (a1 : Int32) (a2 : Int32) (a3 : Int32) (b : Nat) : Ex mX9_readLibrary Q 59 ls (.int a3 :: .int a2 :: .int a1 :: .int a0 :: .ref b :: []) h = (gK h b = 9 ∧ Ex mX9_takesNumber (Cont mX9_readLibrary Q 59 ls 62 []) 0 [.ref b, .int a0, .int a1, .int a2, .int a3] [] h) := Ex_cg (n := 5) (as := [.ref b, .int a0, .int a1, .int a2, .int a3]) rfl rfl
theorem rX9_readLibrary_62 (Q : Po) (h : Hp) (ls : List Value) (st : List Value) (x : Int32) : Ex mX9_readLibrary Q 62 ls (.int x :: st) h = if ¬ x = 0 then Ex mX9_readLibrary Q 67 ls st h else Ex mX9_readLibrary Q 65 ls st h := Ex_br rfl rfl
theorem rX9_readLibrary_65 (Q : Po) (h : Hp) (ls : List Value) (st : List Value) : Ex mX9_readLibrary Q 65 ls st h = Ex mX9_readLibrary Q 66 ls (.int 0 :: st) h := Ex_nx rfl rfl
theorem rX9_readLibrary_66 (Q : Po) (h : Hp) (ls : List Value) (x : Int32) : Ex mX9_readLibrary Q 66 ls [.int x] h = ((x = 0 ∨ x = 1) ∧ Q (.inl (some (.int x))) h) := Ex_rg rfl rfl
theorem rX9_readLibrary_67 (Q : Po) (h : Hp) (ls : List Value) (st : List Value) : Ex mX9_readLibrary Q 67 ls st h = Ex mX9_readLibrary Q 68 ls (.int 1 :: st) h := Ex_nx rfl rfl
theorem rX9_readLibrary_68 (Q : Po) (h : Hp) (l0 l1 l2 : Value) (x : Int32) (st : List Value) : Ex mX9_readLibrary Q 68 [l0, l1, l2] (.int x :: st) h = Ex mX9_readLibrary Q 69 [l0, .int x, l2] st h := Ex_nx rfl rfl
theorem rX9_readLibrary_69 (Q : Po) (h : Hp) (l0 l2 : Value) (x : Int32) (st : List Value) : Ex mX9_readLibrary Q 69 [l0, .int x, l2] st h = Ex mX9_readLibrary Q 70 [l0, .int x, l2] (.int x :: st) h := Ex_nx rfl rfl
theorem rX9_readLibrary_70 (Q : Po) (h : Hp) (ls : List Value) (st : List Value) (x : Int32) : Ex mX9_readLibrary Q 70 ls (.int x :: st) h = if x = 0 then Ex mX9_readLibrary Q 147 ls st h else Ex mX9_readLibrary Q 73 ls st h := Ex_br rfl rfl
theorem rX9_readLibrary_73 (Q : Po) (h : Hp) (l1 l2 : Value) (x : Nat) (st : List Value) : Ex mX9_readLibrary Q 73 [.ref x, l1, l2] st h = Ex mX9_readLibrary Q 74 [.ref x, l1, l2] (.ref x :: st) h := Ex_nx rfl rfl
theorem rX9_readLibrary_74 (Q : Po) (h : Hp) (ls : List Value) (st : List Value) (a : Nat) : Ex mX9_readLibrary Q 74 ls (.ref a :: st) h = (gK h a ∈ ([9] : List Nat) ∧ Ex mX9_readLibrary Q 77 ls (gF h 92 a :: st) h) := Ex_gd rfl rfl
theorem rX9_readLibrary_77 (Q : Po) (h : Hp) (ls : List Value) (st : List Value) : Ex mX9_readLibrary Q 77 ls st h = Ex mX9_readLibrary Q 78 ls (.int 3 :: st) h := Ex_nx rfl rfl
theorem rX9_readLibrary_78 (Q : Po) (h : Hp) (ls : List Value) (st : List Value) (x y : Int32) : Ex mX9_readLibrary Q 78 ls (.int y :: .int x :: st) h = if ¬ x = y then Ex mX9_readLibrary Q 90 ls st h else Ex mX9_readLibrary Q 81 ls st h := Ex_br rfl rfl
theorem rX9_readLibrary_81 (Q : Po) (h : Hp) (l1 l2 : Value) (x : Nat) (st : List Value) : Ex mX9_readLibrary Q 81 [.ref x, l1, l2] st h = Ex mX9_readLibrary Q 82 [.ref x, l1, l2] (.ref x :: st) h := Ex_nx rfl rfl
theorem rX9_readLibrary_82 (Q : Po) (h : Hp) (ls : List Value) (st : List Value) (a : Nat) : Ex mX9_readLibrary Q 82 ls (.ref a :: st) h = (gK h a ∈ ([9] : List Nat) ∧ Ex mX9_readLibrary Q 85 ls (gF h 101 a :: st) h) := Ex_gd rfl rfl
theorem rX9_readLibrary_85 (Q : Po) (h : Hp) (ls : List Value) (st : List Value) : Ex mX9_readLibrary Q 85 ls st h = Ex mX9_readLibrary Q 86 ls (.int 1 :: st) h := Ex_nx rfl rfl
theorem rX9_readLibrary_86 (Q : Po) (h : Hp) (ls : List Value) (st : List Value) (a : Nat) (i : Int32) : Ex mX9_readLibrary Q 86 ls (.int i :: .ref a :: st) h = ((gK h a = 51 ∧ ¬ (i < 0 ∨ gL h a ≤ i.toNatClampNeg)) ∧ Ex mX9_readLibrary Q 87 ls (.int (gI h a i.toNatClampNeg) :: st) h) := Ex_gd rfl rfl
theorem rX9_readLibrary_87 (Q : Po) (h : Hp) (ls : List Value) (st : List Value) (x : Int32) : Ex mX9_readLibrary Q 87 ls (.int x :: st) h = if ¬ x = 0 then Ex mX9_readLibrary Q 147 ls st h else Ex mX9_readLibrary Q 90 ls st h := Ex_br rfl rfl
theorem rX9_readLibrary_90 (Q : Po) (h : Hp) (l1 l2 : Value) (x : Nat) (st : List Value) : Ex mX9_readLibrary Q 90 [.ref x, l1, l2] st h = Ex mX9_readLibrary Q 91 [.ref x, l1, l2] (.ref x :: st) h := Ex_nx rfl rfl
theorem rX9_readLibrary_91 (Q : Po) (h : Hp) (ls : List Value) (st : List Value) (a : Nat) : Ex mX9_readLibrary Q 91 ls (.ref a :: st) h = (gK h a ∈ ([9] : List Nat) ∧ Ex mX9_readLibrary Q 94 ls (gF h 92 a :: st) h) := Ex_gd rfl rfl
theorem rX9_readLibrary_94 (Q : Po) (h : Hp) (ls : List Value) (st : List Value) : Ex mX9_readLibrary Q 94 ls st h = Ex mX9_readLibrary Q 95 ls (.int 1 :: st) h := Ex_nx rfl rfl
theorem rX9_readLibrary_95 (Q : Po) (h : Hp) (ls : List Value) (st : List Value) (x y : Int32) : Ex mX9_readLibrary Q 95 ls (.int y :: .int x :: st) h = if ¬ x = y then Ex mX9_readLibrary Q 108 ls st h else Ex mX9_readLibrary Q 98 ls st h := Ex_br rfl rfl
theorem rX9_readLibrary_98 (Q : Po) (h : Hp) (l1 l2 : Value) (x : Nat) (st : List Value) : Ex mX9_readLibrary Q 98 [.ref x, l1, l2] st h = Ex mX9_readLibrary Q 99 [.ref x, l1, l2] (.ref x :: st) h := Ex_nx rfl rfl
theorem rX9_readLibrary_99 (Q : Po) (h : Hp) (ls : List Value) (st : List Value) (a : Nat) : Ex mX9_readLibrary Q 99 ls (.ref a :: st) h = (gK h a ∈ ([9] : List Nat) ∧ Ex mX9_readLibrary Q 102 ls (gF h 94 a :: st) h) := Ex_gd rfl rfl
theorem rX9_readLibrary_102 (Q : Po) (h : Hp) (ls : List Value) (a0 : Int32) : Ex mX9_readLibrary Q 102 ls (.int a0 :: []) h = Ex mX9_kindBy (Cont mX9_readLibrary Q 102 ls 105 []) 0 [.int a0] [] h := Ex_cl (n := 1) (as := [.int a0]) rfl rfl
theorem rX9_readLibrary_105 (Q : Po) (h : Hp) (ls : List Value) (st : List Value) : Ex mX9_readLibrary Q 105 ls st h = Ex mX9_readLibrary Q 109 ls st h := Ex_nx rfl rfl
theorem rX9_readLibrary_108 (Q : Po) (h : Hp) (ls : List Value) (st : List Value) : Ex mX9_readLibrary Q 108 ls st h = Ex mX9_readLibrary Q 109 ls (.int 0 :: st) h := Ex_nx rfl rfl
theorem rX9_readLibrary_109 (Q : Po) (h : Hp) (l0 l1 l2 : Value) (x : Int32) (st : List Value) : Ex mX9_readLibrary Q 109 [l0, l1, l2] (.int x :: st) h = Ex mX9_readLibrary Q 110 [l0, l1, .int x] st h := Ex_nx rfl rfl
theorem rX9_readLibrary_110 (Q : Po) (h : Hp) (l0 l1 : Value) (x : Int32) (st : List Value) : Ex mX9_readLibrary Q 110 [l0, l1, .int x] st h = Ex mX9_readLibrary Q 111 [l0, l1, .int x] (.int x :: st) h := Ex_nx rfl rfl
theorem rX9_readLibrary_111 (Q : Po) (h : Hp) (ls : List Value) (st : List Value) (x : Int32) : Ex mX9_readLibrary Q 111 ls (.int x :: st) h = if x ≤ 0 then Ex mX9_readLibrary Q 122 ls st h else Ex mX9_readLibrary Q 114 ls st h := Ex_br rfl rfl
theorem rX9_readLibrary_114 (Q : Po) (h : Hp) (l1 l2 : Value) (x : Nat) (st : List Value) : Ex mX9_readLibrary Q 114 [.ref x, l1, l2] st h = Ex mX9_readLibrary Q 115 [.ref x, l1, l2] (.ref x :: st) h := Ex_nx rfl rfl
theorem rX9_readLibrary_115 (Q : Po) (h : Hp) (l0 l1 : Value) (x : Int32) (st : List Value) : Ex mX9_readLibrary Q 115 [l0, l1, .int x] st h = Ex mX9_readLibrary Q 116 [l0, l1, .int x] (.int x :: st) h := Ex_nx rfl rfl
theorem rX9_readLibrary_116 (Q : Po) (h : Hp) (ls : List Value) (a0 : Int32) (b : Nat) : Ex mX9_readLibrary Q 116 ls (.int a0 :: .ref b :: []) h = (gK h b = 9 ∧ Ex mX9_readFish (Cont mX9_readLibrary Q 116 ls 119 []) 0 [.ref b, .int a0, .retAddr 0] [] h) := Ex_cg (n := 3) (as := [.ref b, .int a0]) rfl rfl
theorem rX9_readLibrary_119 (Q : Po) (h : Hp) (ls : List Value) (st : List Value) : Ex mX9_readLibrary Q 119 ls st h = Ex mX9_readLibrary Q 143 ls st h := Ex_nx rfl rfl
theorem rX9_readLibrary_122 (Q : Po) (h : Hp) (l1 l2 : Value) (x : Nat) (st : List Value) : Ex mX9_readLibrary Q 122 [.ref x, l1, l2] st h = Ex mX9_readLibrary Q 123 [.ref x, l1, l2] (.ref x :: st) h := Ex_nx rfl rfl
theorem rX9_readLibrary_123 (Q : Po) (h : Hp) (ls : List Value) (st : List Value) : Ex mX9_readLibrary Q 123 ls st h = Ex mX9_readLibrary Q 125 ls (.int 98 :: st) h := Ex_nx rfl rfl
theorem rX9_readLibrary_125 (Q : Po) (h : Hp) (ls : List Value) (a0 : Int32) (b : Nat) : Ex mX9_readLibrary Q 125 ls (.int a0 :: .ref b :: []) h = (gK h b = 9 ∧ Ex mX9_isLetter (Cont mX9_readLibrary Q 125 ls 128 []) 0 [.ref b, .int a0] [] h) := Ex_cg (n := 2) (as := [.ref b, .int a0]) rfl rfl
theorem rX9_readLibrary_128 (Q : Po) (h : Hp) (ls : List Value) (st : List Value) (x : Int32) : Ex mX9_readLibrary Q 128 ls (.int x :: st) h = if x = 0 then Ex mX9_readLibrary Q 138 ls st h else Ex mX9_readLibrary Q 131 ls st h := Ex_br rfl rfl
theorem rX9_readLibrary_131 (Q : Po) (h : Hp) (l1 l2 : Value) (x : Nat) (st : List Value) : Ex mX9_readLibrary Q 131 [.ref x, l1, l2] st h = Ex mX9_readLibrary Q 132 [.ref x, l1, l2] (.ref x :: st) h := Ex_nx rfl rfl
theorem rX9_readLibrary_132 (Q : Po) (h : Hp) (ls : List Value) (b : Nat) : Ex mX9_readLibrary Q 132 ls (.ref b :: []) h = (gK h b = 9 ∧ Ex mX9_readBook (Cont mX9_readLibrary Q 132 ls 135 []) 0 [.ref b, .retAddr 0] [] h) := Ex_cg (n := 2) (as := [.ref b]) rfl rfl
theorem rX9_readLibrary_135 (Q : Po) (h : Hp) (ls : List Value) (st : List Value) : Ex mX9_readLibrary Q 135 ls st h = Ex mX9_readLibrary Q 143 ls st h := Ex_nx rfl rfl
theorem rX9_readLibrary_138 (Q : Po) (h : Hp) (l1 l2 : Value) (x : Nat) (st : List Value) : Ex mX9_readLibrary Q 138 [.ref x, l1, l2] st h = Ex mX9_readLibrary Q 139 [.ref x, l1, l2] (.ref x :: st) h := Ex_nx rfl rfl
theorem rX9_readLibrary_139 (Q : Po) (h : Hp) (ls : List Value) (st : List Value) : Ex mX9_readLibrary Q 139 ls st h = Ex mX9_readLibrary Q 140 ls (.int 1 :: st) h := Ex_nx rfl rfl
theorem rX9_readLibrary_140 (Q : Po) (h : Hp) (ls : List Value) (a0 : Int32) (b : Nat) : Ex mX9_readLibrary Q 140 ls (.int a0 :: .ref b :: []) h = (gK h b = 9 ∧ Ex mX9_faults (Cont mX9_readLibrary Q 140 ls 143 []) 0 [.ref b, .int a0] [] h) := Ex_cg (n := 2) (as := [.ref b, .int a0]) rfl rfl
theorem rX9_readLibrary_143 (Q : Po) (h : Hp) (l0 l1 l2 : Value) (x : Int32) (st : List Value) : Ex mX9_readLibrary Q 143 [l0, l1, l2] (.int x :: st) h = Ex mX9_readLibrary Q 144 [l0, .int x, l2] st h := Ex_nx rfl rfl
theorem rX9_readLibrary_144 (Q : Po) (h : Hp) (ls : List Value) (st : List Value) : Ex mX9_readLibrary Q 144 ls st h = Ex mX9_readLibrary Q 69 ls st h := Ex_nx rfl rfl
theorem rX9_readLibrary_147 (Q : Po) (h : Hp) (l0 l2 : Value) (x : Int32) (st : List Value) : Ex mX9_readLibrary Q 147 [l0, .int x, l2] st h = Ex mX9_readLibrary Q 148 [l0, .int x, l2] (.int x :: st) h := Ex_nx rfl rfl
theorem rX9_readLibrary_148 (Q : Po) (h : Hp) (ls : List Value) (x : Int32) : Ex mX9_readLibrary Q 148 ls [.int x] h = ((x = 0 ∨ x = 1) ∧ Q (.inl (some (.int x))) h) := Ex_rg rfl rfl
theorem rX9_readLibrary_t (Q : Po) (h : Hp) (pc n a : Nat) (ls st : List Value) : Cont mX9_readLibrary Q pc ls n st (.inr a) h = Q (.inr a) h := rfl
/-! FishReadersModel.library()I -/
def mX9_library : Cd := ([(0, .inl (i_aload 0 1)),
  (1, .inr (c_V 0 4 3 9 (Mt mX9_readLibrary 3))),
  (4, .inl (i_istore 1 5)),
  (5, .inl (i_aload 0 6)),
  (6, .inl (i_push (.int 0) 7)),
  (7, .inl (i_putI 86 [9] 10)),
  (10, .inl (i_iload 1 11)),
  (11, .inl (i_if (fun x => ¬ x = 0) 30 14)),
  (14, .inl (i_aload 0 15)),
  (15, .inl (i_aload 0 16)),
  (16, .inl (i_getf 98 [9] 19)),
  (19, .inl (i_putI 88 [9] 22)),
  (22, .inl (i_push (.int (-1000100)) 24)),
  (24, .inl (i_aload 0 25)),
  (25, .inl (i_getf 96 [9] 28)),
  (28, .inl (i_bin (fun x y => x - y) 29)),
  (29, .inl i_iret),
  (30, .inl (i_push (.int 0) 31)),
  (31, .inl (i_istore 2 32)),
  (32, .inl (i_iload 2 33)),
  (33, .inl (i_push (.int 41) 35)),
  (35, .inl (i_icmp (fun x y => y ≤ x) 56 38)),
  (38, .inl (i_aload 0 39)),
  (39, .inl (i_getf 81 [9] 42)),
  (42, .inl (i_iload 2 43)),
  (43, .inl (i_aload 0 44)),
  (44, .inl (i_getf 101 [9] 47)),
  (47, .inl (i_iload 2 48)),
  (48, .inl (i_iald 51 49)),
  (49, .inl (i_iast 51 (fun x => x) 50)),
  (50, .inl (i_iinc 2 1 53)),
  (53, .inl (i_goto 32)),
  (56, .inl (i_aload 0 57)),
  (57, .inl (i_push (.int 1) 58)),
  (58, .inl (i_putZ 78 [9] 61)),
  (61, .inl (i_aload 0 62)),
  (62, .inl (i_push (.int 0) 63)),
  (63, .inl (i_putI 106 [9] 66)),
  (66, .inl (i_aload 0 67)),
  (67, .inl (i_getf 81 [9] 70)),
  (70, .inl (i_push (.int 1) 71)),
  (71, .inl (i_iald 51 72)),
  (72, .inl i_iret)], noH)
theorem rX9_library_0 (Q : Po) (h : Hp) (l1 l2 : Value) (x : Nat) (st : List Value) : Ex mX9_library Q 0 [.ref x, l1, l2] st h = Ex mX9_library Q 1 [.ref x, l1, l2] (.ref x :: st) h := Ex_nx rfl rfl
theorem rX9_library_1 (Q : Po) (h : Hp) (ls : List Value) (b : Nat) : Ex mX9_library Q 1 ls (.ref b :: []) h = (gK h b = 9 ∧ Ex mX9_readLibrary (Cont mX9_library Q 1 ls 4 []) 0 [.ref b, .retAddr 0, .retAddr 0] [] h) := Ex_cg (n := 3) (as := [.ref b]) rfl rfl
theorem rX9_library_4 (Q : Po) (h : Hp) (l0 l1 l2 : Value) (x : Int32) (st : List Value) : Ex mX9_library Q 4 [l0, l1, l2] (.int x :: st) h = Ex mX9_library Q 5 [l0, .int x, l2] st h := Ex_nx rfl rfl
theorem rX9_library_5 (Q : Po) (h : Hp) (l1 l2 : Value) (x : Nat) (st : List Value) : Ex mX9_library Q 5 [.ref x, l1, l2] st h = Ex mX9_library Q 6 [.ref x, l1, l2] (.ref x :: st) h := Ex_nx rfl rfl
theorem rX9_library_6 (Q : Po) (h : Hp) (ls : List Value) (st : List Value) : Ex mX9_library Q 6 ls st h = Ex mX9_library Q 7 ls (.int 0 :: st) h := Ex_nx rfl rfl
theorem rX9_library_7 (Q : Po) (h : Hp) (ls : List Value) (st : List Value) (x : Int32) (a : Nat) : Ex mX9_library Q 7 ls (.int x :: .ref a :: st) h = (gK h a ∈ ([9] : List Nat) ∧ Ex mX9_library Q 10 ls st (pF h 86 a (.int x))) := Ex_gd rfl rfl
theorem rX9_library_10 (Q : Po) (h : Hp) (l0 l2 : Value) (x : Int32) (st : List Value) : Ex mX9_library Q 10 [l0, .int x, l2] st h = Ex mX9_library Q 11 [l0, .int x, l2] (.int x :: st) h := Ex_nx rfl rfl
theorem rX9_library_11 (Q : Po) (h : Hp) (ls : List Value) (st : List Value) (x : Int32) : Ex mX9_library Q 11 ls (.int x :: st) h = if ¬ x = 0 then Ex mX9_library Q 30 ls st h else Ex mX9_library Q 14 ls st h := Ex_br rfl rfl
theorem rX9_library_14 (Q : Po) (h : Hp) (l1 l2 : Value) (x : Nat) (st : List Value) : Ex mX9_library Q 14 [.ref x, l1, l2] st h = Ex mX9_library Q 15 [.ref x, l1, l2] (.ref x :: st) h := Ex_nx rfl rfl
theorem rX9_library_15 (Q : Po) (h : Hp) (l1 l2 : Value) (x : Nat) (st : List Value) : Ex mX9_library Q 15 [.ref x, l1, l2] st h = Ex mX9_library Q 16 [.ref x, l1, l2] (.ref x :: st) h := Ex_nx rfl rfl
theorem rX9_library_16 (Q : Po) (h : Hp) (ls : List Value) (st : List Value) (a : Nat) : Ex mX9_library Q 16 ls (.ref a :: st) h = (gK h a ∈ ([9] : List Nat) ∧ Ex mX9_library Q 19 ls (gF h 98 a :: st) h) := Ex_gd rfl rfl
theorem rX9_library_19 (Q : Po) (h : Hp) (ls : List Value) (st : List Value) (x : Int32) (a : Nat) : Ex mX9_library Q 19 ls (.int x :: .ref a :: st) h = (gK h a ∈ ([9] : List Nat) ∧ Ex mX9_library Q 22 ls st (pF h 88 a (.int x))) := Ex_gd rfl rfl
theorem rX9_library_22 (Q : Po) (h : Hp) (ls : List Value) (st : List Value) : Ex mX9_library Q 22 ls st h = Ex mX9_library Q 24 ls (.int (-1000100) :: st) h := Ex_nx rfl rfl
theorem rX9_library_24 (Q : Po) (h : Hp) (l1 l2 : Value) (x : Nat) (st : List Value) : Ex mX9_library Q 24 [.ref x, l1, l2] st h = Ex mX9_library Q 25 [.ref x, l1, l2] (.ref x :: st) h := Ex_nx rfl rfl
theorem rX9_library_25 (Q : Po) (h : Hp) (ls : List Value) (st : List Value) (a : Nat) : Ex mX9_library Q 25 ls (.ref a :: st) h = (gK h a ∈ ([9] : List Nat) ∧ Ex mX9_library Q 28 ls (gF h 96 a :: st) h) := Ex_gd rfl rfl
theorem rX9_library_28 (Q : Po) (h : Hp) (ls : List Value) (st : List Value) (x y : Int32) : Ex mX9_library Q 28 ls (.int y :: .int x :: st) h = Ex mX9_library Q 29 ls (.int (x - y) :: st) h := Ex_nx rfl rfl
theorem rX9_library_29 (Q : Po) (h : Hp) (ls : List Value) (x : Int32) : Ex mX9_library Q 29 ls [.int x] h = Q (.inl (some (.int x))) h := Ex_rt rfl rfl
theorem rX9_library_30 (Q : Po) (h : Hp) (ls : List Value) (st : List Value) : Ex mX9_library Q 30 ls st h = Ex mX9_library Q 31 ls (.int 0 :: st) h := Ex_nx rfl rfl
theorem rX9_library_31 (Q : Po) (h : Hp) (l0 l1 l2 : Value) (x : Int32) (st : List Value) : Ex mX9_library Q 31 [l0, l1, l2] (.int x :: st) h = Ex mX9_library Q 32 [l0, l1, .int x] st h := Ex_nx rfl rfl
theorem rX9_library_32 (Q : Po) (h : Hp) (l0 l1 : Value) (x : Int32) (st : List Value) : Ex mX9_library Q 32 [l0, l1, .int x] st h = Ex mX9_library Q 33 [l0, l1, .int x] (.int x :: st) h := Ex_nx rfl rfl
theorem rX9_library_33 (Q : Po) (h : Hp) (ls : List Value) (st : List Value) : Ex mX9_library Q 33 ls st h = Ex mX9_library Q 35 ls (.int 41 :: st) h := Ex_nx rfl rfl
theorem rX9_library_35 (Q : Po) (h : Hp) (ls : List Value) (st : List Value) (x y : Int32) : Ex mX9_library Q 35 ls (.int y :: .int x :: st) h = if y ≤ x then Ex mX9_library Q 56 ls st h else Ex mX9_library Q 38 ls st h := Ex_br rfl rfl
theorem rX9_library_38 (Q : Po) (h : Hp) (l1 l2 : Value) (x : Nat) (st : List Value) : Ex mX9_library Q 38 [.ref x, l1, l2] st h = Ex mX9_library Q 39 [.ref x, l1, l2] (.ref x :: st) h := Ex_nx rfl rfl
theorem rX9_library_39 (Q : Po) (h : Hp) (ls : List Value) (st : List Value) (a : Nat) : Ex mX9_library Q 39 ls (.ref a :: st) h = (gK h a ∈ ([9] : List Nat) ∧ Ex mX9_library Q 42 ls (gF h 81 a :: st) h) := Ex_gd rfl rfl
theorem rX9_library_42 (Q : Po) (h : Hp) (l0 l1 : Value) (x : Int32) (st : List Value) : Ex mX9_library Q 42 [l0, l1, .int x] st h = Ex mX9_library Q 43 [l0, l1, .int x] (.int x :: st) h := Ex_nx rfl rfl
theorem rX9_library_43 (Q : Po) (h : Hp) (l1 l2 : Value) (x : Nat) (st : List Value) : Ex mX9_library Q 43 [.ref x, l1, l2] st h = Ex mX9_library Q 44 [.ref x, l1, l2] (.ref x :: st) h := Ex_nx rfl rfl
theorem rX9_library_44 (Q : Po) (h : Hp) (ls : List Value) (st : List Value) (a : Nat) : Ex mX9_library Q 44 ls (.ref a :: st) h = (gK h a ∈ ([9] : List Nat) ∧ Ex mX9_library Q 47 ls (gF h 101 a :: st) h) := Ex_gd rfl rfl
theorem rX9_library_47 (Q : Po) (h : Hp) (l0 l1 : Value) (x : Int32) (st : List Value) : Ex mX9_library Q 47 [l0, l1, .int x] st h = Ex mX9_library Q 48 [l0, l1, .int x] (.int x :: st) h := Ex_nx rfl rfl
theorem rX9_library_48 (Q : Po) (h : Hp) (ls : List Value) (st : List Value) (a : Nat) (i : Int32) : Ex mX9_library Q 48 ls (.int i :: .ref a :: st) h = ((gK h a = 51 ∧ ¬ (i < 0 ∨ gL h a ≤ i.toNatClampNeg)) ∧ Ex mX9_library Q 49 ls (.int (gI h a i.toNatClampNeg) :: st) h) := Ex_gd rfl rfl
theorem rX9_library_49 (Q : Po) (h : Hp) (ls : List Value) (st : List Value) (a : Nat) (i x : Int32) : Ex mX9_library Q 49 ls (.int x :: .int i :: .ref a :: st) h = ((gK h a = 51 ∧ ¬ (i < 0 ∨ gL h a ≤ i.toNatClampNeg)) ∧ Ex mX9_library Q 50 ls st (pI h a i.toNatClampNeg (x))) := Ex_gd rfl rfl
theorem rX9_library_50 (Q : Po) (h : Hp) (l0 l1 : Value) (x : Int32) (st : List Value) : Ex mX9_library Q 50 [l0, l1, .int x] st h = Ex mX9_library Q 53 [l0, l1, .int (x + 1)] st h := Ex_nx rfl rfl
theorem rX9_library_53 (Q : Po) (h : Hp) (ls : List Value) (st : List Value) : Ex mX9_library Q 53 ls st h = Ex mX9_library Q 32 ls st h := Ex_nx rfl rfl
theorem rX9_library_56 (Q : Po) (h : Hp) (l1 l2 : Value) (x : Nat) (st : List Value) : Ex mX9_library Q 56 [.ref x, l1, l2] st h = Ex mX9_library Q 57 [.ref x, l1, l2] (.ref x :: st) h := Ex_nx rfl rfl
theorem rX9_library_57 (Q : Po) (h : Hp) (ls : List Value) (st : List Value) : Ex mX9_library Q 57 ls st h = Ex mX9_library Q 58 ls (.int 1 :: st) h := Ex_nx rfl rfl
theorem rX9_library_58 (Q : Po) (h : Hp) (ls : List Value) (st : List Value) (x : Int32) (a : Nat) : Ex mX9_library Q 58 ls (.int x :: .ref a :: st) h = ((gK h a ∈ ([9] : List Nat) ∧ (x = 0 ∨ x = 1)) ∧ Ex mX9_library Q 61 ls st (pF h 78 a (.int x))) := Ex_gd rfl rfl
theorem rX9_library_61 (Q : Po) (h : Hp) (l1 l2 : Value) (x : Nat) (st : List Value) : Ex mX9_library Q 61 [.ref x, l1, l2] st h = Ex mX9_library Q 62 [.ref x, l1, l2] (.ref x :: st) h := Ex_nx rfl rfl
theorem rX9_library_62 (Q : Po) (h : Hp) (ls : List Value) (st : List Value) : Ex mX9_library Q 62 ls st h = Ex mX9_library Q 63 ls (.int 0 :: st) h := Ex_nx rfl rfl
theorem rX9_library_63 (Q : Po) (h : Hp) (ls : List Value) (st : List Value) (x : Int32) (a : Nat) : Ex mX9_library Q 63 ls (.int x :: .ref a :: st) h = (gK h a ∈ ([9] : List Nat) ∧ Ex mX9_library Q 66 ls st (pF h 106 a (.int x))) := Ex_gd rfl rfl
theorem rX9_library_66 (Q : Po) (h : Hp) (l1 l2 : Value) (x : Nat) (st : List Value) : Ex mX9_library Q 66 [.ref x, l1, l2] st h = Ex mX9_library Q 67 [.ref x, l1, l2] (.ref x :: st) h := Ex_nx rfl rfl
theorem rX9_library_67 (Q : Po) (h : Hp) (ls : List Value) (st : List Value) (a : Nat) : Ex mX9_library Q 67 ls (.ref a :: st) h = (gK h a ∈ ([9] : List Nat) ∧ Ex mX9_library Q 70 ls (gF h 81 a :: st) h) := Ex_gd rfl rfl
theorem rX9_library_70 (Q : Po) (h : Hp) (ls : List Value) (st : List Value) : Ex mX9_library Q 70 ls st h = Ex mX9_library Q 71 ls (.int 1 :: st) h := Ex_nx rfl rfl
theorem rX9_library_71 (Q : Po) (h : Hp) (ls : List Value) (st : List Value) (a : Nat) (i : Int32) : Ex mX9_library Q 71 ls (.int i :: .ref a :: st) h = ((gK h a = 51 ∧ ¬ (i < 0 ∨ gL h a ≤ i.toNatClampNeg)) ∧ Ex mX9_library Q 72 ls (.int (gI h a i.toNatClampNeg) :: st) h) := Ex_gd rfl rfl
theorem rX9_library_72 (Q : Po) (h : Hp) (ls : List Value) (x : Int32) : Ex mX9_library Q 72 ls [.int x] h = Q (.inl (some (.int x))) h := Ex_rt rfl rfl
theorem rX9_library_t (Q : Po) (h : Hp) (pc n a : Nat) (ls st : List Value) : Cont mX9_library Q pc ls n st (.inr a) h = Q (.inr a) h := rfl
/-! FishReadersModel.fault()I -/
def mX9_fault : Cd := ([(0, .inl (i_aload 0 1)),
  (1, .inl (i_getf 88 [9] 4)),
  (4, .inl i_iret)], noH)
theorem rX9_fault_0 (Q : Po) (h : Hp) (x : Nat) (st : List Value) : Ex mX9_fault Q 0 [.ref x] st h = Ex mX9_fault Q 1 [.ref x] (.ref x :: st) h := Ex_nx rfl rfl
theorem rX9_fault_1 (Q : Po) (h : Hp) (ls : List Value) (st : List Value) (a : Nat) : Ex mX9_fault Q 1 ls (.ref a :: st) h = (gK h a ∈ ([9] : List Nat) ∧ Ex mX9_fault Q 4 ls (gF h 88 a :: st) h) := Ex_gd rfl rfl
theorem rX9_fault_4 (Q : Po) (h : Hp) (ls : List Value) (x : Int32) : Ex mX9_fault Q 4 ls [.int x] h = Q (.inl (some (.int x))) h := Ex_rt rfl rfl
theorem rX9_fault_t (Q : Po) (h : Hp) (pc n a : Nat) (ls st : List Value) : Cont mX9_fault Q pc ls n st (.inr a) h = Q (.inr a) h := rfl
/-! FishReadersModel.undo()I -/
def mX9_undo : Cd := ([(0, .inl (i_aload 0 1)),
  (1, .inl (i_getf 106 [9] 4)),
  (4, .inl (i_if (fun x => ¬ x = 0) 10 7)),
  (7, .inl (i_push (.int (-1000002)) 9)),
  (9, .inl i_iret),
  (10, .inl (i_aload 0 11)),
  (11, .inl (i_dup 12)),
  (12, .inl (i_getf 106 [9] 15)),
  (15, .inl (i_push (.int 1) 16)),
  (16, .inl (i_bin (fun x y => x - y) 17)),
  (17, .inl (i_putI 106 [9] 20)),
  (20, .inl (i_push (.int 0) 21)),
  (21, .inl (i_istore 1 22)),
  (22, .inl (i_iload 1 23)),
  (23, .inl (i_push (.int 41) 25)),
  (25, .inl (i_icmp (fun x y => y ≤ x) 54 28)),
  (28, .inl (i_aload 0 29)),
  (29, .inl (i_getf 81 [9] 32)),
  (32, .inl (i_iload 1 33)),
  (33, .inl (i_aload 0 34)),
  (34, .inl (i_getf 105 [9] 37)),
  (37, .inl (i_push (.int 41) 39)),
  (39, .inl (i_aload 0 40)),
  (40, .inl (i_getf 106 [9] 43)),
  (43, .inl (i_bin (fun x y => x * y) 44)),
  (44, .inl (i_iload 1 45)),
  (45, .inl (i_bin (fun x y => x + y) 46)),
  (46, .inl (i_iald 51 47)),
  (47, .inl (i_iast 51 (fun x => x) 48)),
  (48, .inl (i_iinc 1 1 51)),
  (51, .inl (i_goto 22)),
  (54, .inl (i_aload 0 55)),
  (55, .inl (i_getf 106 [9] 58)),
  (58, .inl i_iret)], noH)
theorem rX9_undo_0 (Q : Po) (h : Hp) (l1 : Value) (x : Nat) (st : List Value) : Ex mX9_undo Q 0 [.ref x, l1] st h = Ex mX9_undo Q 1 [.ref x, l1] (.ref x :: st) h := Ex_nx rfl rfl
theorem rX9_undo_1 (Q : Po) (h : Hp) (ls : List Value) (st : List Value) (a : Nat) : Ex mX9_undo Q 1 ls (.ref a :: st) h = (gK h a ∈ ([9] : List Nat) ∧ Ex mX9_undo Q 4 ls (gF h 106 a :: st) h) := Ex_gd rfl rfl
theorem rX9_undo_4 (Q : Po) (h : Hp) (ls : List Value) (st : List Value) (x : Int32) : Ex mX9_undo Q 4 ls (.int x :: st) h = if ¬ x = 0 then Ex mX9_undo Q 10 ls st h else Ex mX9_undo Q 7 ls st h := Ex_br rfl rfl
theorem rX9_undo_7 (Q : Po) (h : Hp) (ls : List Value) (st : List Value) : Ex mX9_undo Q 7 ls st h = Ex mX9_undo Q 9 ls (.int (-1000002) :: st) h := Ex_nx rfl rfl
theorem rX9_undo_9 (Q : Po) (h : Hp) (ls : List Value) (x : Int32) : Ex mX9_undo Q 9 ls [.int x] h = Q (.inl (some (.int x))) h := Ex_rt rfl rfl
theorem rX9_undo_10 (Q : Po) (h : Hp) (l1 : Value) (x : Nat) (st : List Value) : Ex mX9_undo Q 10 [.ref x, l1] st h = Ex mX9_undo Q 11 [.ref x, l1] (.ref x :: st) h := Ex_nx rfl rfl
theorem rX9_undo_11 (Q : Po) (h : Hp) (ls : List Value) (st : List Value) (x : Nat) : Ex mX9_undo Q 11 ls (.ref x :: st) h = Ex mX9_undo Q 12 ls (.ref x :: .ref x :: st) h := Ex_nx rfl rfl
theorem rX9_undo_12 (Q : Po) (h : Hp) (ls : List Value) (st : List Value) (a : Nat) : Ex mX9_undo Q 12 ls (.ref a :: st) h = (gK h a ∈ ([9] : List Nat) ∧ Ex mX9_undo Q 15 ls (gF h 106 a :: st) h) := Ex_gd rfl rfl
theorem rX9_undo_15 (Q : Po) (h : Hp) (ls : List Value) (st : List Value) : Ex mX9_undo Q 15 ls st h = Ex mX9_undo Q 16 ls (.int 1 :: st) h := Ex_nx rfl rfl
theorem rX9_undo_16 (Q : Po) (h : Hp) (ls : List Value) (st : List Value) (x y : Int32) : Ex mX9_undo Q 16 ls (.int y :: .int x :: st) h = Ex mX9_undo Q 17 ls (.int (x - y) :: st) h := Ex_nx rfl rfl
theorem rX9_undo_17 (Q : Po) (h : Hp) (ls : List Value) (st : List Value) (x : Int32) (a : Nat) : Ex mX9_undo Q 17 ls (.int x :: .ref a :: st) h = (gK h a ∈ ([9] : List Nat) ∧ Ex mX9_undo Q 20 ls st (pF h 106 a (.int x))) := Ex_gd rfl rfl
theorem rX9_undo_20 (Q : Po) (h : Hp) (ls : List Value) (st : List Value) : Ex mX9_undo Q 20 ls st h = Ex mX9_undo Q 21 ls (.int 0 :: st) h := Ex_nx rfl rfl
theorem rX9_undo_21 (Q : Po) (h : Hp) (l0 l1 : Value) (x : Int32) (st : List Value) : Ex mX9_undo Q 21 [l0, l1] (.int x :: st) h = Ex mX9_undo Q 22 [l0, .int x] st h := Ex_nx rfl rfl
theorem rX9_undo_22 (Q : Po) (h : Hp) (l0 : Value) (x : Int32) (st : List Value) : Ex mX9_undo Q 22 [l0, .int x] st h = Ex mX9_undo Q 23 [l0, .int x] (.int x :: st) h := Ex_nx rfl rfl
theorem rX9_undo_23 (Q : Po) (h : Hp) (ls : List Value) (st : List Value) : Ex mX9_undo Q 23 ls st h = Ex mX9_undo Q 25 ls (.int 41 :: st) h := Ex_nx rfl rfl
theorem rX9_undo_25 (Q : Po) (h : Hp) (ls : List Value) (st : List Value) (x y : Int32) : Ex mX9_undo Q 25 ls (.int y :: .int x :: st) h = if y ≤ x then Ex mX9_undo Q 54 ls st h else Ex mX9_undo Q 28 ls st h := Ex_br rfl rfl
theorem rX9_undo_28 (Q : Po) (h : Hp) (l1 : Value) (x : Nat) (st : List Value) : Ex mX9_undo Q 28 [.ref x, l1] st h = Ex mX9_undo Q 29 [.ref x, l1] (.ref x :: st) h := Ex_nx rfl rfl
theorem rX9_undo_29 (Q : Po) (h : Hp) (ls : List Value) (st : List Value) (a : Nat) : Ex mX9_undo Q 29 ls (.ref a :: st) h = (gK h a ∈ ([9] : List Nat) ∧ Ex mX9_undo Q 32 ls (gF h 81 a :: st) h) := Ex_gd rfl rfl
theorem rX9_undo_32 (Q : Po) (h : Hp) (l0 : Value) (x : Int32) (st : List Value) : Ex mX9_undo Q 32 [l0, .int x] st h = Ex mX9_undo Q 33 [l0, .int x] (.int x :: st) h := Ex_nx rfl rfl
theorem rX9_undo_33 (Q : Po) (h : Hp) (l1 : Value) (x : Nat) (st : List Value) : Ex mX9_undo Q 33 [.ref x, l1] st h = Ex mX9_undo Q 34 [.ref x, l1] (.ref x :: st) h := Ex_nx rfl rfl
theorem rX9_undo_34 (Q : Po) (h : Hp) (ls : List Value) (st : List Value) (a : Nat) : Ex mX9_undo Q 34 ls (.ref a :: st) h = (gK h a ∈ ([9] : List Nat) ∧ Ex mX9_undo Q 37 ls (gF h 105 a :: st) h) := Ex_gd rfl rfl
theorem rX9_undo_37 (Q : Po) (h : Hp) (ls : List Value) (st : List Value) : Ex mX9_undo Q 37 ls st h = Ex mX9_undo Q 39 ls (.int 41 :: st) h := Ex_nx rfl rfl
theorem rX9_undo_39 (Q : Po) (h : Hp) (l1 : Value) (x : Nat) (st : List Value) : Ex mX9_undo Q 39 [.ref x, l1] st h = Ex mX9_undo Q 40 [.ref x, l1] (.ref x :: st) h := Ex_nx rfl rfl
theorem rX9_undo_40 (Q : Po) (h : Hp) (ls : List Value) (st : List Value) (a : Nat) : Ex mX9_undo Q 40 ls (.ref a :: st) h = (gK h a ∈ ([9] : List Nat) ∧ Ex mX9_undo Q 43 ls (gF h 106 a :: st) h) := Ex_gd rfl rfl
theorem rX9_undo_43 (Q : Po) (h : Hp) (ls : List Value) (st : List Value) (x y : Int32) : Ex mX9_undo Q 43 ls (.int y :: .int x :: st) h = Ex mX9_undo Q 44 ls (.int (x * y) :: st) h := Ex_nx rfl rfl
theorem rX9_undo_44 (Q : Po) (h : Hp) (l0 : Value) (x : Int32) (st : List Value) : Ex mX9_undo Q 44 [l0, .int x] st h = Ex mX9_undo Q 45 [l0, .int x] (.int x :: st) h := Ex_nx rfl rfl
theorem rX9_undo_45 (Q : Po) (h : Hp) (ls : List Value) (st : List Value) (x y : Int32) : Ex mX9_undo Q 45 ls (.int y :: .int x :: st) h = Ex mX9_undo Q 46 ls (.int (x + y) :: st) h := Ex_nx rfl rfl
theorem rX9_undo_46 (Q : Po) (h : Hp) (ls : List Value) (st : List Value) (a : Nat) (i : Int32) : Ex mX9_undo Q 46 ls (.int i :: .ref a :: st) h = ((gK h a = 51 ∧ ¬ (i < 0 ∨ gL h a ≤ i.toNatClampNeg)) ∧ Ex mX9_undo Q 47 ls (.int (gI h a i.toNatClampNeg) :: st) h) := Ex_gd rfl rfl
theorem rX9_undo_47 (Q : Po) (h : Hp) (ls : List Value) (st : List Value) (a : Nat) (i x : Int32) : Ex mX9_undo Q 47 ls (.int x :: .int i :: .ref a :: st) h = ((gK h a = 51 ∧ ¬ (i < 0 ∨ gL h a ≤ i.toNatClampNeg)) ∧ Ex mX9_undo Q 48 ls st (pI h a i.toNatClampNeg (x))) := Ex_gd rfl rfl
theorem rX9_undo_48 (Q : Po) (h : Hp) (l0 : Value) (x : Int32) (st : List Value) : Ex mX9_undo Q 48 [l0, .int x] st h = Ex mX9_undo Q 51 [l0, .int (x + 1)] st h := Ex_nx rfl rfl
theorem rX9_undo_51 (Q : Po) (h : Hp) (ls : List Value) (st : List Value) : Ex mX9_undo Q 51 ls st h = Ex mX9_undo Q 22 ls st h := Ex_nx rfl rfl
theorem rX9_undo_54 (Q : Po) (h : Hp) (l1 : Value) (x : Nat) (st : List Value) : Ex mX9_undo Q 54 [.ref x, l1] st h = Ex mX9_undo Q 55 [.ref x, l1] (.ref x :: st) h := Ex_nx rfl rfl
theorem rX9_undo_55 (Q : Po) (h : Hp) (ls : List Value) (st : List Value) (a : Nat) : Ex mX9_undo Q 55 ls (.ref a :: st) h = (gK h a ∈ ([9] : List Nat) ∧ Ex mX9_undo Q 58 ls (gF h 106 a :: st) h) := Ex_gd rfl rfl
theorem rX9_undo_58 (Q : Po) (h : Hp) (ls : List Value) (x : Int32) : Ex mX9_undo Q 58 ls [.int x] h = Q (.inl (some (.int x))) h := Ex_rt rfl rfl
theorem rX9_undo_t (Q : Po) (h : Hp) (pc n a : Nat) (ls st : List Value) : Cont mX9_undo Q pc ls n st (.inr a) h = Q (.inr a) h := rfl
/-! FishReadersModel.note()V -/
def mX9_note : Cd := ([(0, .inl (i_aload 0 1)),
  (1, .inl (i_getf 106 [9] 4)),
  (4, .inl (i_push (.int 24) 6)),
  (6, .inl (i_icmp (fun x y => ¬ x = y) 49 9)),
  (9, .inl (i_push (.int 0) 10)),
  (10, .inl (i_istore 1 11)),
  (11, .inl (i_iload 1 12)),
  (12, .inl (i_push (.int 943) 15)),
  (15, .inl (i_icmp (fun x y => y ≤ x) 39 18)),
  (18, .inl (i_aload 0 19)),
  (19, .inl (i_getf 105 [9] 22)),
  (22, .inl (i_iload 1 23)),
  (23, .inl (i_aload 0 24)),
  (24, .inl (i_getf 105 [9] 27)),
  (27, .inl (i_iload 1 28)),
  (28, .inl (i_push (.int 41) 30)),
  (30, .inl (i_bin (fun x y => x + y) 31)),
  (31, .inl (i_iald 51 32)),
  (32, .inl (i_iast 51 (fun x => x) 33)),
  (33, .inl (i_iinc 1 1 36)),
  (36, .inl (i_goto 11)),
  (39, .inl (i_aload 0 40)),
  (40, .inl (i_dup 41)),
  (41, .inl (i_getf 106 [9] 44)),
  (44, .inl (i_push (.int 1) 45)),
  (45, .inl (i_bin (fun x y => x - y) 46)),
  (46, .inl (i_putI 106 [9] 49)),
  (49, .inl (i_push (.int 0) 50)),
  (50, .inl (i_istore 1 51)),
  (51, .inl (i_iload 1 52)),
  (52, .inl (i_push (.int 41) 54)),
  (54, .inl (i_icmp (fun x y => y ≤ x) 83 57)),
  (57, .inl (i_aload 0 58)),
  (58, .inl (i_getf 105 [9] 61)),
  (61, .inl (i_push (.int 41) 63)),
  (63, .inl (i_aload 0 64)),
  (64, .inl (i_getf 106 [9] 67)),
  (67, .inl (i_bin (fun x y => x * y) 68)),
  (68, .inl (i_iload 1 69)),
  (69, .inl (i_bin (fun x y => x + y) 70)),
  (70, .inl (i_aload 0 71)),
  (71, .inl (i_getf 81 [9] 74)),
  (74, .inl (i_iload 1 75)),
  (75, .inl (i_iald 51 76)),
  (76, .inl (i_iast 51 (fun x => x) 77)),
  (77, .inl (i_iinc 1 1 80)),
  (80, .inl (i_goto 51)),
  (83, .inl (i_aload 0 84)),
  (84, .inl (i_dup 85)),
  (85, .inl (i_getf 106 [9] 88)),
  (88, .inl (i_push (.int 1) 89)),
  (89, .inl (i_bin (fun x y => x + y) 90)),
  (90, .inl (i_putI 106 [9] 93)),
  (93, .inl i_vret)], noH)
theorem rX9_note_0 (Q : Po) (h : Hp) (l1 : Value) (x : Nat) (st : List Value) : Ex mX9_note Q 0 [.ref x, l1] st h = Ex mX9_note Q 1 [.ref x, l1] (.ref x :: st) h := Ex_nx rfl rfl
theorem rX9_note_1 (Q : Po) (h : Hp) (ls : List Value) (st : List Value) (a : Nat) : Ex mX9_note Q 1 ls (.ref a :: st) h = (gK h a ∈ ([9] : List Nat) ∧ Ex mX9_note Q 4 ls (gF h 106 a :: st) h) := Ex_gd rfl rfl
theorem rX9_note_4 (Q : Po) (h : Hp) (ls : List Value) (st : List Value) : Ex mX9_note Q 4 ls st h = Ex mX9_note Q 6 ls (.int 24 :: st) h := Ex_nx rfl rfl
theorem rX9_note_6 (Q : Po) (h : Hp) (ls : List Value) (st : List Value) (x y : Int32) : Ex mX9_note Q 6 ls (.int y :: .int x :: st) h = if ¬ x = y then Ex mX9_note Q 49 ls st h else Ex mX9_note Q 9 ls st h := Ex_br rfl rfl
theorem rX9_note_9 (Q : Po) (h : Hp) (ls : List Value) (st : List Value) : Ex mX9_note Q 9 ls st h = Ex mX9_note Q 10 ls (.int 0 :: st) h := Ex_nx rfl rfl
theorem rX9_note_10 (Q : Po) (h : Hp) (l0 l1 : Value) (x : Int32) (st : List Value) : Ex mX9_note Q 10 [l0, l1] (.int x :: st) h = Ex mX9_note Q 11 [l0, .int x] st h := Ex_nx rfl rfl
theorem rX9_note_11 (Q : Po) (h : Hp) (l0 : Value) (x : Int32) (st : List Value) : Ex mX9_note Q 11 [l0, .int x] st h = Ex mX9_note Q 12 [l0, .int x] (.int x :: st) h := Ex_nx rfl rfl
theorem rX9_note_12 (Q : Po) (h : Hp) (ls : List Value) (st : List Value) : Ex mX9_note Q 12 ls st h = Ex mX9_note Q 15 ls (.int 943 :: st) h := Ex_nx rfl rfl
theorem rX9_note_15 (Q : Po) (h : Hp) (ls : List Value) (st : List Value) (x y : Int32) : Ex mX9_note Q 15 ls (.int y :: .int x :: st) h = if y ≤ x then Ex mX9_note Q 39 ls st h else Ex mX9_note Q 18 ls st h := Ex_br rfl rfl
theorem rX9_note_18 (Q : Po) (h : Hp) (l1 : Value) (x : Nat) (st : List Value) : Ex mX9_note Q 18 [.ref x, l1] st h = Ex mX9_note Q 19 [.ref x, l1] (.ref x :: st) h := Ex_nx rfl rfl
theorem rX9_note_19 (Q : Po) (h : Hp) (ls : List Value) (st : List Value) (a : Nat) : Ex mX9_note Q 19 ls (.ref a :: st) h = (gK h a ∈ ([9] : List Nat) ∧ Ex mX9_note Q 22 ls (gF h 105 a :: st) h) := Ex_gd rfl rfl
theorem rX9_note_22 (Q : Po) (h : Hp) (l0 : Value) (x : Int32) (st : List Value) : Ex mX9_note Q 22 [l0, .int x] st h = Ex mX9_note Q 23 [l0, .int x] (.int x :: st) h := Ex_nx rfl rfl
theorem rX9_note_23 (Q : Po) (h : Hp) (l1 : Value) (x : Nat) (st : List Value) : Ex mX9_note Q 23 [.ref x, l1] st h = Ex mX9_note Q 24 [.ref x, l1] (.ref x :: st) h := Ex_nx rfl rfl
theorem rX9_note_24 (Q : Po) (h : Hp) (ls : List Value) (st : List Value) (a : Nat) : Ex mX9_note Q 24 ls (.ref a :: st) h = (gK h a ∈ ([9] : List Nat) ∧ Ex mX9_note Q 27 ls (gF h 105 a :: st) h) := Ex_gd rfl rfl
theorem rX9_note_27 (Q : Po) (h : Hp) (l0 : Value) (x : Int32) (st : List Value) : Ex mX9_note Q 27 [l0, .int x] st h = Ex mX9_note Q 28 [l0, .int x] (.int x :: st) h := Ex_nx rfl rfl
theorem rX9_note_28 (Q : Po) (h : Hp) (ls : List Value) (st : List Value) : Ex mX9_note Q 28 ls st h = Ex mX9_note Q 30 ls (.int 41 :: st) h := Ex_nx rfl rfl
theorem rX9_note_30 (Q : Po) (h : Hp) (ls : List Value) (st : List Value) (x y : Int32) : Ex mX9_note Q 30 ls (.int y :: .int x :: st) h = Ex mX9_note Q 31 ls (.int (x + y) :: st) h := Ex_nx rfl rfl
theorem rX9_note_31 (Q : Po) (h : Hp) (ls : List Value) (st : List Value) (a : Nat) (i : Int32) : Ex mX9_note Q 31 ls (.int i :: .ref a :: st) h = ((gK h a = 51 ∧ ¬ (i < 0 ∨ gL h a ≤ i.toNatClampNeg)) ∧ Ex mX9_note Q 32 ls (.int (gI h a i.toNatClampNeg) :: st) h) := Ex_gd rfl rfl
theorem rX9_note_32 (Q : Po) (h : Hp) (ls : List Value) (st : List Value) (a : Nat) (i x : Int32) : Ex mX9_note Q 32 ls (.int x :: .int i :: .ref a :: st) h = ((gK h a = 51 ∧ ¬ (i < 0 ∨ gL h a ≤ i.toNatClampNeg)) ∧ Ex mX9_note Q 33 ls st (pI h a i.toNatClampNeg (x))) := Ex_gd rfl rfl
theorem rX9_note_33 (Q : Po) (h : Hp) (l0 : Value) (x : Int32) (st : List Value) : Ex mX9_note Q 33 [l0, .int x] st h = Ex mX9_note Q 36 [l0, .int (x + 1)] st h := Ex_nx rfl rfl
theorem rX9_note_36 (Q : Po) (h : Hp) (ls : List Value) (st : List Value) : Ex mX9_note Q 36 ls st h = Ex mX9_note Q 11 ls st h := Ex_nx rfl rfl
theorem rX9_note_39 (Q : Po) (h : Hp) (l1 : Value) (x : Nat) (st : List Value) : Ex mX9_note Q 39 [.ref x, l1] st h = Ex mX9_note Q 40 [.ref x, l1] (.ref x :: st) h := Ex_nx rfl rfl
theorem rX9_note_40 (Q : Po) (h : Hp) (ls : List Value) (st : List Value) (x : Nat) : Ex mX9_note Q 40 ls (.ref x :: st) h = Ex mX9_note Q 41 ls (.ref x :: .ref x :: st) h := Ex_nx rfl rfl
theorem rX9_note_41 (Q : Po) (h : Hp) (ls : List Value) (st : List Value) (a : Nat) : Ex mX9_note Q 41 ls (.ref a :: st) h = (gK h a ∈ ([9] : List Nat) ∧ Ex mX9_note Q 44 ls (gF h 106 a :: st) h) := Ex_gd rfl rfl
theorem rX9_note_44 (Q : Po) (h : Hp) (ls : List Value) (st : List Value) : Ex mX9_note Q 44 ls st h = Ex mX9_note Q 45 ls (.int 1 :: st) h := Ex_nx rfl rfl
theorem rX9_note_45 (Q : Po) (h : Hp) (ls : List Value) (st : List Value) (x y : Int32) : Ex mX9_note Q 45 ls (.int y :: .int x :: st) h = Ex mX9_note Q 46 ls (.int (x - y) :: st) h := Ex_nx rfl rfl
theorem rX9_note_46 (Q : Po) (h : Hp) (ls : List Value) (st : List Value) (x : Int32) (a : Nat) : Ex mX9_note Q 46 ls (.int x :: .ref a :: st) h = (gK h a ∈ ([9] : List Nat) ∧ Ex mX9_note Q 49 ls st (pF h 106 a (.int x))) := Ex_gd rfl rfl
theorem rX9_note_49 (Q : Po) (h : Hp) (ls : List Value) (st : List Value) : Ex mX9_note Q 49 ls st h = Ex mX9_note Q 50 ls (.int 0 :: st) h := Ex_nx rfl rfl
theorem rX9_note_50 (Q : Po) (h : Hp) (l0 l1 : Value) (x : Int32) (st : List Value) : Ex mX9_note Q 50 [l0, l1] (.int x :: st) h = Ex mX9_note Q 51 [l0, .int x] st h := Ex_nx rfl rfl
theorem rX9_note_51 (Q : Po) (h : Hp) (l0 : Value) (x : Int32) (st : List Value) : Ex mX9_note Q 51 [l0, .int x] st h = Ex mX9_note Q 52 [l0, .int x] (.int x :: st) h := Ex_nx rfl rfl
theorem rX9_note_52 (Q : Po) (h : Hp) (ls : List Value) (st : List Value) : Ex mX9_note Q 52 ls st h = Ex mX9_note Q 54 ls (.int 41 :: st) h := Ex_nx rfl rfl
theorem rX9_note_54 (Q : Po) (h : Hp) (ls : List Value) (st : List Value) (x y : Int32) : Ex mX9_note Q 54 ls (.int y :: .int x :: st) h = if y ≤ x then Ex mX9_note Q 83 ls st h else Ex mX9_note Q 57 ls st h := Ex_br rfl rfl
theorem rX9_note_57 (Q : Po) (h : Hp) (l1 : Value) (x : Nat) (st : List Value) : Ex mX9_note Q 57 [.ref x, l1] st h = Ex mX9_note Q 58 [.ref x, l1] (.ref x :: st) h := Ex_nx rfl rfl
theorem rX9_note_58 (Q : Po) (h : Hp) (ls : List Value) (st : List Value) (a : Nat) : Ex mX9_note Q 58 ls (.ref a :: st) h = (gK h a ∈ ([9] : List Nat) ∧ Ex mX9_note Q 61 ls (gF h 105 a :: st) h) := Ex_gd rfl rfl
theorem rX9_note_61 (Q : Po) (h : Hp) (ls : List Value) (st : List Value) : Ex mX9_note Q 61 ls st h = Ex mX9_note Q 63 ls (.int 41 :: st) h := Ex_nx rfl rfl
theorem rX9_note_63 (Q : Po) (h : Hp) (l1 : Value) (x : Nat) (st : List Value) : Ex mX9_note Q 63 [.ref x, l1] st h = Ex mX9_note Q 64 [.ref x, l1] (.ref x :: st) h := Ex_nx rfl rfl
theorem rX9_note_64 (Q : Po) (h : Hp) (ls : List Value) (st : List Value) (a : Nat) : Ex mX9_note Q 64 ls (.ref a :: st) h = (gK h a ∈ ([9] : List Nat) ∧ Ex mX9_note Q 67 ls (gF h 106 a :: st) h) := Ex_gd rfl rfl
theorem rX9_note_67 (Q : Po) (h : Hp) (ls : List Value) (st : List Value) (x y : Int32) : Ex mX9_note Q 67 ls (.int y :: .int x :: st) h = Ex mX9_note Q 68 ls (.int (x * y) :: st) h := Ex_nx rfl rfl
theorem rX9_note_68 (Q : Po) (h : Hp) (l0 : Value) (x : Int32) (st : List Value) : Ex mX9_note Q 68 [l0, .int x] st h = Ex mX9_note Q 69 [l0, .int x] (.int x :: st) h := Ex_nx rfl rfl
theorem rX9_note_69 (Q : Po) (h : Hp) (ls : List Value) (st : List Value) (x y : Int32) : Ex mX9_note Q 69 ls (.int y :: .int x :: st) h = Ex mX9_note Q 70 ls (.int (x + y) :: st) h := Ex_nx rfl rfl
theorem rX9_note_70 (Q : Po) (h : Hp) (l1 : Value) (x : Nat) (st : List Value) : Ex mX9_note Q 70 [.ref x, l1] st h = Ex mX9_note Q 71 [.ref x, l1] (.ref x :: st) h := Ex_nx rfl rfl
theorem rX9_note_71 (Q : Po) (h : Hp) (ls : List Value) (st : List Value) (a : Nat) : Ex mX9_note Q 71 ls (.ref a :: st) h = (gK h a ∈ ([9] : List Nat) ∧ Ex mX9_note Q 74 ls (gF h 81 a :: st) h) := Ex_gd rfl rfl
theorem rX9_note_74 (Q : Po) (h : Hp) (l0 : Value) (x : Int32) (st : List Value) : Ex mX9_note Q 74 [l0, .int x] st h = Ex mX9_note Q 75 [l0, .int x] (.int x :: st) h := Ex_nx rfl rfl
theorem rX9_note_75 (Q : Po) (h : Hp) (ls : List Value) (st : List Value) (a : Nat) (i : Int32) : Ex mX9_note Q 75 ls (.int i :: .ref a :: st) h = ((gK h a = 51 ∧ ¬ (i < 0 ∨ gL h a ≤ i.toNatClampNeg)) ∧ Ex mX9_note Q 76 ls (.int (gI h a i.toNatClampNeg) :: st) h) := Ex_gd rfl rfl
theorem rX9_note_76 (Q : Po) (h : Hp) (ls : List Value) (st : List Value) (a : Nat) (i x : Int32) : Ex mX9_note Q 76 ls (.int x :: .int i :: .ref a :: st) h = ((gK h a = 51 ∧ ¬ (i < 0 ∨ gL h a ≤ i.toNatClampNeg)) ∧ Ex mX9_note Q 77 ls st (pI h a i.toNatClampNeg (x))) := Ex_gd rfl rfl
theorem rX9_note_77 (Q : Po) (h : Hp) (l0 : Value) (x : Int32) (st : List Value) : Ex mX9_note Q 77 [l0, .int x] st h = Ex mX9_note Q 80 [l0, .int (x + 1)] st h := Ex_nx rfl rfl
theorem rX9_note_80 (Q : Po) (h : Hp) (ls : List Value) (st : List Value) : Ex mX9_note Q 80 ls st h = Ex mX9_note Q 51 ls st h := Ex_nx rfl rfl
theorem rX9_note_83 (Q : Po) (h : Hp) (l1 : Value) (x : Nat) (st : List Value) : Ex mX9_note Q 83 [.ref x, l1] st h = Ex mX9_note Q 84 [.ref x, l1] (.ref x :: st) h := Ex_nx rfl rfl
theorem rX9_note_84 (Q : Po) (h : Hp) (ls : List Value) (st : List Value) (x : Nat) : Ex mX9_note Q 84 ls (.ref x :: st) h = Ex mX9_note Q 85 ls (.ref x :: .ref x :: st) h := Ex_nx rfl rfl
theorem rX9_note_85 (Q : Po) (h : Hp) (ls : List Value) (st : List Value) (a : Nat) : Ex mX9_note Q 85 ls (.ref a :: st) h = (gK h a ∈ ([9] : List Nat) ∧ Ex mX9_note Q 88 ls (gF h 106 a :: st) h) := Ex_gd rfl rfl
theorem rX9_note_88 (Q : Po) (h : Hp) (ls : List Value) (st : List Value) : Ex mX9_note Q 88 ls st h = Ex mX9_note Q 89 ls (.int 1 :: st) h := Ex_nx rfl rfl
theorem rX9_note_89 (Q : Po) (h : Hp) (ls : List Value) (st : List Value) (x y : Int32) : Ex mX9_note Q 89 ls (.int y :: .int x :: st) h = Ex mX9_note Q 90 ls (.int (x + y) :: st) h := Ex_nx rfl rfl
theorem rX9_note_90 (Q : Po) (h : Hp) (ls : List Value) (st : List Value) (x : Int32) (a : Nat) : Ex mX9_note Q 90 ls (.int x :: .ref a :: st) h = (gK h a ∈ ([9] : List Nat) ∧ Ex mX9_note Q 93 ls st (pF h 106 a (.int x))) := Ex_gd rfl rfl
theorem rX9_note_93 (Q : Po) (h : Hp) (ls : List Value) : Ex mX9_note Q 93 ls [] h = Q (.inl none) h := Ex_rt rfl rfl
theorem rX9_note_t (Q : Po) (h : Hp) (pc n a : Nat) (ls st : List Value) : Cont mX9_note Q pc ls n st (.inr a) h = Q (.inr a) h := rfl
/-! FishReadersModel.has(II)Z -/
def mX9_has : Cd := ([(0, .inl (i_iload 0 1)),
  (1, .inl (i_iload 1 2)),
  (2, .inl (i_bin (fun x y => x >>> (y &&& 31)) 3)),
  (3, .inl (i_push (.int 1) 4)),
  (4, .inl (i_bin (fun x y => x &&& y) 5)),
  (5, .inl (i_push (.int 1) 6)),
  (6, .inl (i_icmp (fun x y => ¬ x = y) 13 9)),
  (9, .inl (i_push (.int 1) 10)),
  (10, .inl (i_goto 14)),
  (13, .inl (i_push (.int 0) 14)),
  (14, .inl i_zret)], noH)
theorem rX9_has_0 (Q : Po) (h : Hp) (l1 : Value) (x : Int32) (st : List Value) : Ex mX9_has Q 0 [.int x, l1] st h = Ex mX9_has Q 1 [.int x, l1] (.int x :: st) h := Ex_nx rfl rfl
theorem rX9_has_1 (Q : Po) (h : Hp) (l0 : Value) (x : Int32) (st : List Value) : Ex mX9_has Q 1 [l0, .int x] st h = Ex mX9_has Q 2 [l0, .int x] (.int x :: st) h := Ex_nx rfl rfl
theorem rX9_has_2 (Q : Po) (h : Hp) (ls : List Value) (st : List Value) (x y : Int32) : Ex mX9_has Q 2 ls (.int y :: .int x :: st) h = Ex mX9_has Q 3 ls (.int (x >>> (y &&& 31)) :: st) h := Ex_nx rfl rfl
theorem rX9_has_3 (Q : Po) (h : Hp) (ls : List Value) (st : List Value) : Ex mX9_has Q 3 ls st h = Ex mX9_has Q 4 ls (.int 1 :: st) h := Ex_nx rfl rfl
theorem rX9_has_4 (Q : Po) (h : Hp) (ls : List Value) (st : List Value) (x y : Int32) : Ex mX9_has Q 4 ls (.int y :: .int x :: st) h = Ex mX9_has Q 5 ls (.int (x &&& y) :: st) h := Ex_nx rfl rfl
theorem rX9_has_5 (Q : Po) (h : Hp) (ls : List Value) (st : List Value) : Ex mX9_has Q 5 ls st h = Ex mX9_has Q 6 ls (.int 1 :: st) h := Ex_nx rfl rfl
theorem rX9_has_6 (Q : Po) (h : Hp) (ls : List Value) (st : List Value) (x y : Int32) : Ex mX9_has Q 6 ls (.int y :: .int x :: st) h = if ¬ x = y then Ex mX9_has Q 13 ls st h else Ex mX9_has Q 9 ls st h := Ex_br rfl rfl
theorem rX9_has_9 (Q : Po) (h : Hp) (ls : List Value) (st : List Value) : Ex mX9_has Q 9 ls st h = Ex mX9_has Q 10 ls (.int 1 :: st) h := Ex_nx rfl rfl
theorem rX9_has_10 (Q : Po) (h : Hp) (ls : List Value) (st : List Value) : Ex mX9_has Q 10 ls st h = Ex mX9_has Q 14 ls st h := Ex_nx rfl rfl
theorem rX9_has_13 (Q : Po) (h : Hp) (ls : List Value) (st : List Value) : Ex mX9_has Q 13 ls st h = Ex mX9_has Q 14 ls (.int 0 :: st) h := Ex_nx rfl rfl
theorem rX9_has_14 (Q : Po) (h : Hp) (ls : List Value) (x : Int32) : Ex mX9_has Q 14 ls [.int x] h = ((x = 0 ∨ x = 1) ∧ Q (.inl (some (.int x))) h) := Ex_rg rfl rfl
theorem rX9_has_t (Q : Po) (h : Hp) (pc n a : Nat) (ls st : List Value) : Cont mX9_has Q pc ls n st (.inr a) h = Q (.inr a) h := rfl
/-! FishReadersModel.isCaught(I)Z -/
def mX9_isCaught : Cd := ([(0, .inl (i_aload 0 1)),
  (1, .inl (i_getf 81 [9] 4)),
  (4, .inl (i_push (.int 7) 6)),
  (6, .inl (i_iald 51 7)),
  (7, .inl (i_iload 1 8)),
  (8, .inr (c_S 2 11 2 (Mt mX9_has 2))),
  (11, .inl i_zret)], noH)
theorem rX9_isCaught_0 (Q : Po) (h : Hp) (l1 : Value) (x : Nat) (st : List Value) : Ex mX9_isCaught Q 0 [.ref x, l1] st h = Ex mX9_isCaught Q 1 [.ref x, l1] (.ref x :: st) h := Ex_nx rfl rfl
theorem rX9_isCaught_1 (Q : Po) (h : Hp) (ls : List Value) (st : List Value) (a : Nat) : Ex mX9_isCaught Q 1 ls (.ref a :: st) h = (gK h a ∈ ([9] : List Nat) ∧ Ex mX9_isCaught Q 4 ls (gF h 81 a :: st) h) := Ex_gd rfl rfl
theorem rX9_isCaught_4 (Q : Po) (h : Hp) (ls : List Value) (st : List Value) : Ex mX9_isCaught Q 4 ls st h = Ex mX9_isCaught Q 6 ls (.int 7 :: st) h := Ex_nx rfl rfl
theorem rX9_isCaught_6 (Q : Po) (h : Hp) (ls : List Value) (st : List Value) (a : Nat) (i : Int32) : Ex mX9_isCaught Q 6 ls (.int i :: .ref a :: st) h = ((gK h a = 51 ∧ ¬ (i < 0 ∨ gL h a ≤ i.toNatClampNeg)) ∧ Ex mX9_isCaught Q 7 ls (.int (gI h a i.toNatClampNeg) :: st) h) := Ex_gd rfl rfl
theorem rX9_isCaught_7 (Q : Po) (h : Hp) (l0 : Value) (x : Int32) (st : List Value) : Ex mX9_isCaught Q 7 [l0, .int x] st h = Ex mX9_isCaught Q 8 [l0, .int x] (.int x :: st) h := Ex_nx rfl rfl
theorem rX9_isCaught_8 (Q : Po) (h : Hp) (ls : List Value) (a0 : Int32) (a1 : Int32) : Ex mX9_isCaught Q 8 ls (.int a1 :: .int a0 :: []) h = Ex mX9_has (Cont mX9_isCaught Q 8 ls 11 []) 0 [.int a0, .int a1] [] h := Ex_cl (n := 2) (as := [.int a0, .int a1]) rfl rfl
theorem rX9_isCaught_11 (Q : Po) (h : Hp) (ls : List Value) (x : Int32) : Ex mX9_isCaught Q 11 ls [.int x] h = ((x = 0 ∨ x = 1) ∧ Q (.inl (some (.int x))) h) := Ex_rg rfl rfl
theorem rX9_isCaught_t (Q : Po) (h : Hp) (pc n a : Nat) (ls st : List Value) : Cont mX9_isCaught Q pc ls n st (.inr a) h = Q (.inr a) h := rfl
/-! FishReadersModel.bookAt(I)I -/
def mX9_bookAt : Cd := ([(0, .inl (i_push (.int 0) 1)),
  (1, .inl (i_istore 2 2)),
  (2, .inl (i_aload 0 3)),
  (3, .inl (i_getf 81 [9] 6)),
  (6, .inl (i_push (.int 20) 8)),
  (8, .inl (i_iload 2 9)),
  (9, .inl (i_bin (fun x y => x + y) 10)),
  (10, .inl (i_iald 51 11)),
  (11, .inl (i_iload 1 12)),
  (12, .inl (i_icmp (fun x y => x = y) 21 15)),
  (15, .inl (i_iinc 2 1 18)),
  (18, .inl (i_goto 2)),
  (21, .inl (i_iload 2 22)),
  (22, .inl i_iret)], noH)
theorem rX9_bookAt_0 (Q : Po) (h : Hp) (ls : List Value) (st : List Value) : Ex mX9_bookAt Q 0 ls st h = Ex mX9_bookAt Q 1 ls (.int 0 :: st) h := Ex_nx rfl rfl
theorem rX9_bookAt_1 (Q : Po) (h : Hp) (l0 l1 l2 : Value) (x : Int32) (st : List Value) : Ex mX9_bookAt Q 1 [l0, l1, l2] (.int x :: st) h = Ex mX9_bookAt Q 2 [l0, l1, .int x] st h := Ex_nx rfl rfl
theorem rX9_bookAt_2 (Q : Po) (h : Hp) (l1 l2 : Value) (x : Nat) (st : List Value) : Ex mX9_bookAt Q 2 [.ref x, l1, l2] st h = Ex mX9_bookAt Q 3 [.ref x, l1, l2] (.ref x :: st) h := Ex_nx rfl rfl
theorem rX9_bookAt_3 (Q : Po) (h : Hp) (ls : List Value) (st : List Value) (a : Nat) : Ex mX9_bookAt Q 3 ls (.ref a :: st) h = (gK h a ∈ ([9] : List Nat) ∧ Ex mX9_bookAt Q 6 ls (gF h 81 a :: st) h) := Ex_gd rfl rfl
theorem rX9_bookAt_6 (Q : Po) (h : Hp) (ls : List Value) (st : List Value) : Ex mX9_bookAt Q 6 ls st h = Ex mX9_bookAt Q 8 ls (.int 20 :: st) h := Ex_nx rfl rfl
theorem rX9_bookAt_8 (Q : Po) (h : Hp) (l0 l1 : Value) (x : Int32) (st : List Value) : Ex mX9_bookAt Q 8 [l0, l1, .int x] st h = Ex mX9_bookAt Q 9 [l0, l1, .int x] (.int x :: st) h := Ex_nx rfl rfl
theorem rX9_bookAt_9 (Q : Po) (h : Hp) (ls : List Value) (st : List Value) (x y : Int32) : Ex mX9_bookAt Q 9 ls (.int y :: .int x :: st) h = Ex mX9_bookAt Q 10 ls (.int (x + y) :: st) h := Ex_nx rfl rfl
theorem rX9_bookAt_10 (Q : Po) (h : Hp) (ls : List Value) (st : List Value) (a : Nat) (i : Int32) : Ex mX9_bookAt Q 10 ls (.int i :: .ref a :: st) h = ((gK h a = 51 ∧ ¬ (i < 0 ∨ gL h a ≤ i.toNatClampNeg)) ∧ Ex mX9_bookAt Q 11 ls (.int (gI h a i.toNatClampNeg) :: st) h) := Ex_gd rfl rfl
theorem rX9_bookAt_11 (Q : Po) (h : Hp) (l0 l2 : Value) (x : Int32) (st : List Value) : Ex mX9_bookAt Q 11 [l0, .int x, l2] st h = Ex mX9_bookAt Q 12 [l0, .int x, l2] (.int x :: st) h := Ex_nx rfl rfl
theorem rX9_bookAt_12 (Q : Po) (h : Hp) (ls : List Value) (st : List Value) (x y : Int32) : Ex mX9_bookAt Q 12 ls (.int y :: .int x :: st) h = if x = y then Ex mX9_bookAt Q 21 ls st h else Ex mX9_bookAt Q 15 ls st h := Ex_br rfl rfl
theorem rX9_bookAt_15 (Q : Po) (h : Hp) (l0 l1 : Value) (x : Int32) (st : List Value) : Ex mX9_bookAt Q 15 [l0, l1, .int x] st h = Ex mX9_bookAt Q 18 [l0, l1, .int (x + 1)] st h := Ex_nx rfl rfl
theorem rX9_bookAt_18 (Q : Po) (h : Hp) (ls : List Value) (st : List Value) : Ex mX9_bookAt Q 18 ls st h = Ex mX9_bookAt Q 2 ls st h := Ex_nx rfl rfl
theorem rX9_bookAt_21 (Q : Po) (h : Hp) (l0 l1 : Value) (x : Int32) (st : List Value) : Ex mX9_bookAt Q 21 [l0, l1, .int x] st h = Ex mX9_bookAt Q 22 [l0, l1, .int x] (.int x :: st) h := Ex_nx rfl rfl
theorem rX9_bookAt_22 (Q : Po) (h : Hp) (ls : List Value) (x : Int32) : Ex mX9_bookAt Q 22 ls [.int x] h = Q (.inl (some (.int x))) h := Ex_rt rfl rfl
theorem rX9_bookAt_t (Q : Po) (h : Hp) (pc n a : Nat) (ls st : List Value) : Cont mX9_bookAt Q pc ls n st (.inr a) h = Q (.inr a) h := rfl
/-! FishReadersModel.likes(II)I -/
def mX9_likes : Cd := ([(0, .inl (i_aload 0 1)),
  (1, .inl (i_getf 81 [9] 4)),
  (4, .inl (i_push (.int 20) 6)),
  (6, .inl (i_iload 2 7)),
  (7, .inl (i_bin (fun x y => x + y) 8)),
  (8, .inl (i_iald 51 9)),
  (9, .inl (i_aload 0 10)),
  (10, .inl (i_getf 81 [9] 13)),
  (13, .inl (i_push (.int 31) 15)),
  (15, .inl (i_iload 1 16)),
  (16, .inl (i_bin (fun x y => x + y) 17)),
  (17, .inl (i_iald 51 18)),
  (18, .inl (i_bin (fun x y => x - y) 19)),
  (19, .inl (i_istore 3 20)),
  (20, .inl (i_aload 0 21)),
  (21, .inl (i_getf 81 [9] 24)),
  (24, .inl (i_push (.int 26) 26)),
  (26, .inl (i_iload 1 27)),
  (27, .inl (i_bin (fun x y => x + y) 28)),
  (28, .inl (i_iald 51 29)),
  (29, .inl (i_push (.int 2) 30)),
  (30, .inl (i_icmp (fun x y => ¬ x = y) 47 33)),
  (33, .inl (i_push (.int 2) 34)),
  (34, .inl (i_aload 0 35)),
  (35, .inl (i_getf 81 [9] 38)),
  (38, .inl (i_push (.int 14) 40)),
  (40, .inl (i_iload 2 41)),
  (41, .inl (i_bin (fun x y => x + y) 42)),
  (42, .inl (i_iald 51 43)),
  (43, .inl (i_bin (fun x y => x * y) 44)),
  (44, .inl (i_goto 56)),
  (47, .inl (i_aload 0 48)),
  (48, .inl (i_getf 81 [9] 51)),
  (51, .inl (i_push (.int 14) 53)),
  (53, .inl (i_iload 2 54)),
  (54, .inl (i_bin (fun x y => x + y) 55)),
  (55, .inl (i_iald 51 56)),
  (56, .inl (i_istore 4 58)),
  (58, .inl (i_iload 4 60)),
  (60, .inl (i_aload 0 61)),
  (61, .inl (i_getf 81 [9] 64)),
  (64, .inl (i_push (.int 8) 66)),
  (66, .inl (i_iload 2 67)),
  (67, .inl (i_bin (fun x y => x + y) 68)),
  (68, .inl (i_iald 51 69)),
  (69, .inl (i_push (.int 10) 71)),
  (71, .inl (i_bing (fun x y => x / y) 72)),
  (72, .inl (i_bin (fun x y => x + y) 73)),
  (73, .inl (i_iload 3 74)),
  (74, .inl (i_if (fun x => 0 ≤ x) 82 77)),
  (77, .inl (i_iload 3 78)),
  (78, .inl (i_un (fun x => -x) 79)),
  (79, .inl (i_goto 83)),
  (82, .inl (i_iload 3 83)),
  (83, .inl (i_bin (fun x y => x - y) 84)),
  (84, .inl i_iret)], noH)
theorem rX9_likes_0 (Q : Po) (h : Hp) (l1 l2 l3 l4 : Value) (x : Nat) (st : List Value) : Ex mX9_likes Q 0 [.ref x, l1, l2, l3, l4] st h = Ex mX9_likes Q 1 [.ref x, l1, l2, l3, l4] (.ref x :: st) h := Ex_nx rfl rfl
theorem rX9_likes_1 (Q : Po) (h : Hp) (ls : List Value) (st : List Value) (a : Nat) : Ex mX9_likes Q 1 ls (.ref a :: st) h = (gK h a ∈ ([9] : List Nat) ∧ Ex mX9_likes Q 4 ls (gF h 81 a :: st) h) := Ex_gd rfl rfl
theorem rX9_likes_4 (Q : Po) (h : Hp) (ls : List Value) (st : List Value) : Ex mX9_likes Q 4 ls st h = Ex mX9_likes Q 6 ls (.int 20 :: st) h := Ex_nx rfl rfl
theorem rX9_likes_6 (Q : Po) (h : Hp) (l0 l1 l3 l4 : Value) (x : Int32) (st : List Value) : Ex mX9_likes Q 6 [l0, l1, .int x, l3, l4] st h = Ex mX9_likes Q 7 [l0, l1, .int x, l3, l4] (.int x :: st) h := Ex_nx rfl rfl
theorem rX9_likes_7 (Q : Po) (h : Hp) (ls : List Value) (st : List Value) (x y : Int32) : Ex mX9_likes Q 7 ls (.int y :: .int x :: st) h = Ex mX9_likes Q 8 ls (.int (x + y) :: st) h := Ex_nx rfl rfl
theorem rX9_likes_8 (Q : Po) (h : Hp) (ls : List Value) (st : List Value) (a : Nat) (i : Int32) : Ex mX9_likes Q 8 ls (.int i :: .ref a :: st) h = ((gK h a = 51 ∧ ¬ (i < 0 ∨ gL h a ≤ i.toNatClampNeg)) ∧ Ex mX9_likes Q 9 ls (.int (gI h a i.toNatClampNeg) :: st) h) := Ex_gd rfl rfl
theorem rX9_likes_9 (Q : Po) (h : Hp) (l1 l2 l3 l4 : Value) (x : Nat) (st : List Value) : Ex mX9_likes Q 9 [.ref x, l1, l2, l3, l4] st h = Ex mX9_likes Q 10 [.ref x, l1, l2, l3, l4] (.ref x :: st) h := Ex_nx rfl rfl
theorem rX9_likes_10 (Q : Po) (h : Hp) (ls : List Value) (st : List Value) (a : Nat) : Ex mX9_likes Q 10 ls (.ref a :: st) h = (gK h a ∈ ([9] : List Nat) ∧ Ex mX9_likes Q 13 ls (gF h 81 a :: st) h) := Ex_gd rfl rfl
theorem rX9_likes_13 (Q : Po) (h : Hp) (ls : List Value) (st : List Value) : Ex mX9_likes Q 13 ls st h = Ex mX9_likes Q 15 ls (.int 31 :: st) h := Ex_nx rfl rfl
theorem rX9_likes_15 (Q : Po) (h : Hp) (l0 l2 l3 l4 : Value) (x : Int32) (st : List Value) : Ex mX9_likes Q 15 [l0, .int x, l2, l3, l4] st h = Ex mX9_likes Q 16 [l0, .int x, l2, l3, l4] (.int x :: st) h := Ex_nx rfl rfl
theorem rX9_likes_16 (Q : Po) (h : Hp) (ls : List Value) (st : List Value) (x y : Int32) : Ex mX9_likes Q 16 ls (.int y :: .int x :: st) h = Ex mX9_likes Q 17 ls (.int (x + y) :: st) h := Ex_nx rfl rfl
theorem rX9_likes_17 (Q : Po) (h : Hp) (ls : List Value) (st : List Value) (a : Nat) (i : Int32) : Ex mX9_likes Q 17 ls (.int i :: .ref a :: st) h = ((gK h a = 51 ∧ ¬ (i < 0 ∨ gL h a ≤ i.toNatClampNeg)) ∧ Ex mX9_likes Q 18 ls (.int (gI h a i.toNatClampNeg) :: st) h) := Ex_gd rfl rfl
theorem rX9_likes_18 (Q : Po) (h : Hp) (ls : List Value) (st : List Value) (x y : Int32) : Ex mX9_likes Q 18 ls (.int y :: .int x :: st) h = Ex mX9_likes Q 19 ls (.int (x - y) :: st) h := Ex_nx rfl rfl
theorem rX9_likes_19 (Q : Po) (h : Hp) (l0 l1 l2 l3 l4 : Value) (x : Int32) (st : List Value) : Ex mX9_likes Q 19 [l0, l1, l2, l3, l4] (.int x :: st) h = Ex mX9_likes Q 20 [l0, l1, l2, .int x, l4] st h := Ex_nx rfl rfl
theorem rX9_likes_20 (Q : Po) (h : Hp) (l1 l2 l3 l4 : Value) (x : Nat) (st : List Value) : Ex mX9_likes Q 20 [.ref x, l1, l2, l3, l4] st h = Ex mX9_likes Q 21 [.ref x, l1, l2, l3, l4] (.ref x :: st) h := Ex_nx rfl rfl
theorem rX9_likes_21 (Q : Po) (h : Hp) (ls : List Value) (st : List Value) (a : Nat) : Ex mX9_likes Q 21 ls (.ref a :: st) h = (gK h a ∈ ([9] : List Nat) ∧ Ex mX9_likes Q 24 ls (gF h 81 a :: st) h) := Ex_gd rfl rfl
theorem rX9_likes_24 (Q : Po) (h : Hp) (ls : List Value) (st : List Value) : Ex mX9_likes Q 24 ls st h = Ex mX9_likes Q 26 ls (.int 26 :: st) h := Ex_nx rfl rfl
theorem rX9_likes_26 (Q : Po) (h : Hp) (l0 l2 l3 l4 : Value) (x : Int32) (st : List Value) : Ex mX9_likes Q 26 [l0, .int x, l2, l3, l4] st h = Ex mX9_likes Q 27 [l0, .int x, l2, l3, l4] (.int x :: st) h := Ex_nx rfl rfl
theorem rX9_likes_27 (Q : Po) (h : Hp) (ls : List Value) (st : List Value) (x y : Int32) : Ex mX9_likes Q 27 ls (.int y :: .int x :: st) h = Ex mX9_likes Q 28 ls (.int (x + y) :: st) h := Ex_nx rfl rfl
theorem rX9_likes_28 (Q : Po) (h : Hp) (ls : List Value) (st : List Value) (a : Nat) (i : Int32) : Ex mX9_likes Q 28 ls (.int i :: .ref a :: st) h = ((gK h a = 51 ∧ ¬ (i < 0 ∨ gL h a ≤ i.toNatClampNeg)) ∧ Ex mX9_likes Q 29 ls (.int (gI h a i.toNatClampNeg) :: st) h) := Ex_gd rfl rfl
theorem rX9_likes_29 (Q : Po) (h : Hp) (ls : List Value) (st : List Value) : Ex mX9_likes Q 29 ls st h = Ex mX9_likes Q 30 ls (.int 2 :: st) h := Ex_nx rfl rfl
theorem rX9_likes_30 (Q : Po) (h : Hp) (ls : List Value) (st : List Value) (x y : Int32) : Ex mX9_likes Q 30 ls (.int y :: .int x :: st) h = if ¬ x = y then Ex mX9_likes Q 47 ls st h else Ex mX9_likes Q 33 ls st h := Ex_br rfl rfl
theorem rX9_likes_33 (Q : Po) (h : Hp) (ls : List Value) (st : List Value) : Ex mX9_likes Q 33 ls st h = Ex mX9_likes Q 34 ls (.int 2 :: st) h := Ex_nx rfl rfl
theorem rX9_likes_34 (Q : Po) (h : Hp) (l1 l2 l3 l4 : Value) (x : Nat) (st : List Value) : Ex mX9_likes Q 34 [.ref x, l1, l2, l3, l4] st h = Ex mX9_likes Q 35 [.ref x, l1, l2, l3, l4] (.ref x :: st) h := Ex_nx rfl rfl
theorem rX9_likes_35 (Q : Po) (h : Hp) (ls : List Value) (st : List Value) (a : Nat) : Ex mX9_likes Q 35 ls (.ref a :: st) h = (gK h a ∈ ([9] : List Nat) ∧ Ex mX9_likes Q 38 ls (gF h 81 a :: st) h) := Ex_gd rfl rfl
theorem rX9_likes_38 (Q : Po) (h : Hp) (ls : List Value) (st : List Value) : Ex mX9_likes Q 38 ls st h = Ex mX9_likes Q 40 ls (.int 14 :: st) h := Ex_nx rfl rfl
theorem rX9_likes_40 (Q : Po) (h : Hp) (l0 l1 l3 l4 : Value) (x : Int32) (st : List Value) : Ex mX9_likes Q 40 [l0, l1, .int x, l3, l4] st h = Ex mX9_likes Q 41 [l0, l1, .int x, l3, l4] (.int x :: st) h := Ex_nx rfl rfl
theorem rX9_likes_41 (Q : Po) (h : Hp) (ls : List Value) (st : List Value) (x y : Int32) : Ex mX9_likes Q 41 ls (.int y :: .int x :: st) h = Ex mX9_likes Q 42 ls (.int (x + y) :: st) h := Ex_nx rfl rfl
theorem rX9_likes_42 (Q : Po) (h : Hp) (ls : List Value) (st : List Value) (a : Nat) (i : Int32) : Ex mX9_likes Q 42 ls (.int i :: .ref a :: st) h = ((gK h a = 51 ∧ ¬ (i < 0 ∨ gL h a ≤ i.toNatClampNeg)) ∧ Ex mX9_likes Q 43 ls (.int (gI h a i.toNatClampNeg) :: st) h) := Ex_gd rfl rfl
theorem rX9_likes_43 (Q : Po) (h : Hp) (ls : List Value) (st : List Value) (x y : Int32) : Ex mX9_likes Q 43 ls (.int y :: .int x :: st) h = Ex mX9_likes Q 44 ls (.int (x * y) :: st) h := Ex_nx rfl rfl
theorem rX9_likes_44 (Q : Po) (h : Hp) (ls : List Value) (st : List Value) : Ex mX9_likes Q 44 ls st h = Ex mX9_likes Q 56 ls st h := Ex_nx rfl rfl
theorem rX9_likes_47 (Q : Po) (h : Hp) (l1 l2 l3 l4 : Value) (x : Nat) (st : List Value) : Ex mX9_likes Q 47 [.ref x, l1, l2, l3, l4] st h = Ex mX9_likes Q 48 [.ref x, l1, l2, l3, l4] (.ref x :: st) h := Ex_nx rfl rfl
theorem rX9_likes_48 (Q : Po) (h : Hp) (ls : List Value) (st : List Value) (a : Nat) : Ex mX9_likes Q 48 ls (.ref a :: st) h = (gK h a ∈ ([9] : List Nat) ∧ Ex mX9_likes Q 51 ls (gF h 81 a :: st) h) := Ex_gd rfl rfl
theorem rX9_likes_51 (Q : Po) (h : Hp) (ls : List Value) (st : List Value) : Ex mX9_likes Q 51 ls st h = Ex mX9_likes Q 53 ls (.int 14 :: st) h := Ex_nx rfl rfl
theorem rX9_likes_53 (Q : Po) (h : Hp) (l0 l1 l3 l4 : Value) (x : Int32) (st : List Value) : Ex mX9_likes Q 53 [l0, l1, .int x, l3, l4] st h = Ex mX9_likes Q 54 [l0, l1, .int x, l3, l4] (.int x :: st) h := Ex_nx rfl rfl
theorem rX9_likes_54 (Q : Po) (h : Hp) (ls : List Value) (st : List Value) (x y : Int32) : Ex mX9_likes Q 54 ls (.int y :: .int x :: st) h = Ex mX9_likes Q 55 ls (.int (x + y) :: st) h := Ex_nx rfl rfl
theorem rX9_likes_55 (Q : Po) (h : Hp) (ls : List Value) (st : List Value) (a : Nat) (i : Int32) : Ex mX9_likes Q 55 ls (.int i :: .ref a :: st) h = ((gK h a = 51 ∧ ¬ (i < 0 ∨ gL h a ≤ i.toNatClampNeg)) ∧ Ex mX9_likes Q 56 ls (.int (gI h a i.toNatClampNeg) :: st) h) := Ex_gd rfl rfl
theorem rX9_likes_56 (Q : Po) (h : Hp) (l0 l1 l2 l3 l4 : Value) (x : Int32) (st : List Value) : Ex mX9_likes Q 56 [l0, l1, l2, l3, l4] (.int x :: st) h = Ex mX9_likes Q 58 [l0, l1, l2, l3, .int x] st h := Ex_nx rfl rfl
theorem rX9_likes_58 (Q : Po) (h : Hp) (l0 l1 l2 l3 : Value) (x : Int32) (st : List Value) : Ex mX9_likes Q 58 [l0, l1, l2, l3, .int x] st h = Ex mX9_likes Q 60 [l0, l1, l2, l3, .int x] (.int x :: st) h := Ex_nx rfl rfl
theorem rX9_likes_60 (Q : Po) (h : Hp) (l1 l2 l3 l4 : Value) (x : Nat) (st : List Value) : Ex mX9_likes Q 60 [.ref x, l1, l2, l3, l4] st h = Ex mX9_likes Q 61 [.ref x, l1, l2, l3, l4] (.ref x :: st) h := Ex_nx rfl rfl
theorem rX9_likes_61 (Q : Po) (h : Hp) (ls : List Value) (st : List Value) (a : Nat) : Ex mX9_likes Q 61 ls (.ref a :: st) h = (gK h a ∈ ([9] : List Nat) ∧ Ex mX9_likes Q 64 ls (gF h 81 a :: st) h) := Ex_gd rfl rfl
theorem rX9_likes_64 (Q : Po) (h : Hp) (ls : List Value) (st : List Value) : Ex mX9_likes Q 64 ls st h = Ex mX9_likes Q 66 ls (.int 8 :: st) h := Ex_nx rfl rfl
theorem rX9_likes_66 (Q : Po) (h : Hp) (l0 l1 l3 l4 : Value) (x : Int32) (st : List Value) : Ex mX9_likes Q 66 [l0, l1, .int x, l3, l4] st h = Ex mX9_likes Q 67 [l0, l1, .int x, l3, l4] (.int x :: st) h := Ex_nx rfl rfl
theorem rX9_likes_67 (Q : Po) (h : Hp) (ls : List Value) (st : List Value) (x y : Int32) : Ex mX9_likes Q 67 ls (.int y :: .int x :: st) h = Ex mX9_likes Q 68 ls (.int (x + y) :: st) h := Ex_nx rfl rfl
theorem rX9_likes_68 (Q : Po) (h : Hp) (ls : List Value) (st : List Value) (a : Nat) (i : Int32) : Ex mX9_likes Q 68 ls (.int i :: .ref a :: st) h = ((gK h a = 51 ∧ ¬ (i < 0 ∨ gL h a ≤ i.toNatClampNeg)) ∧ Ex mX9_likes Q 69 ls (.int (gI h a i.toNatClampNeg) :: st) h) := Ex_gd rfl rfl
theorem rX9_likes_69 (Q : Po) (h : Hp) (ls : List Value) (st : List Value) : Ex mX9_likes Q 69 ls st h = Ex mX9_likes Q 71 ls (.int 10 :: st) h := Ex_nx rfl rfl
theorem rX9_likes_71 (Q : Po) (h : Hp) (ls : List Value) (st : List Value) (x y : Int32) : Ex mX9_likes Q 71 ls (.int y :: .int x :: st) h = (¬ y = 0 ∧ Ex mX9_likes Q 72 ls (.int (x / y) :: st) h) := Ex_gd rfl rfl
theorem rX9_likes_72 (Q : Po) (h : Hp) (ls : List Value) (st : List Value) (x y : Int32) : Ex mX9_likes Q 72 ls (.int y :: .int x :: st) h = Ex mX9_likes Q 73 ls (.int (x + y) :: st) h := Ex_nx rfl rfl
theorem rX9_likes_73 (Q : Po) (h : Hp) (l0 l1 l2 l4 : Value) (x : Int32) (st : List Value) : Ex mX9_likes Q 73 [l0, l1, l2, .int x, l4] st h = Ex mX9_likes Q 74 [l0, l1, l2, .int x, l4] (.int x :: st) h := Ex_nx rfl rfl
theorem rX9_likes_74 (Q : Po) (h : Hp) (ls : List Value) (st : List Value) (x : Int32) : Ex mX9_likes Q 74 ls (.int x :: st) h = if 0 ≤ x then Ex mX9_likes Q 82 ls st h else Ex mX9_likes Q 77 ls st h := Ex_br rfl rfl
theorem rX9_likes_77 (Q : Po) (h : Hp) (l0 l1 l2 l4 : Value) (x : Int32) (st : List Value) : Ex mX9_likes Q 77 [l0, l1, l2, .int x, l4] st h = Ex mX9_likes Q 78 [l0, l1, l2, .int x, l4] (.int x :: st) h := Ex_nx rfl rfl
theorem rX9_likes_78 (Q : Po) (h : Hp) (ls : List Value) (st : List Value) (x : Int32) : Ex mX9_likes Q 78 ls (.int x :: st) h = Ex mX9_likes Q 79 ls (.int (-x) :: st) h := Ex_nx rfl rfl
theorem rX9_likes_79 (Q : Po) (h : Hp) (ls : List Value) (st : List Value) : Ex mX9_likes Q 79 ls st h = Ex mX9_likes Q 83 ls st h := Ex_nx rfl rfl
theorem rX9_likes_82 (Q : Po) (h : Hp) (l0 l1 l2 l4 : Value) (x : Int32) (st : List Value) : Ex mX9_likes Q 82 [l0, l1, l2, .int x, l4] st h = Ex mX9_likes Q 83 [l0, l1, l2, .int x, l4] (.int x :: st) h := Ex_nx rfl rfl
theorem rX9_likes_83 (Q : Po) (h : Hp) (ls : List Value) (st : List Value) (x y : Int32) : Ex mX9_likes Q 83 ls (.int y :: .int x :: st) h = Ex mX9_likes Q 84 ls (.int (x - y) :: st) h := Ex_nx rfl rfl
theorem rX9_likes_84 (Q : Po) (h : Hp) (ls : List Value) (x : Int32) : Ex mX9_likes Q 84 ls [.int x] h = Q (.inl (some (.int x))) h := Ex_rt rfl rfl
theorem rX9_likes_t (Q : Po) (h : Hp) (pc n a : Nat) (ls st : List Value) : Cont mX9_likes Q pc ls n st (.inr a) h = Q (.inr a) h := rfl
/-! FishReadersModel.isShut(I)Z -/
def mX9_isShut : Cd := ([(0, .inl (i_aload 0 1)),
  (1, .inl (i_getf 81 [9] 4)),
  (4, .inl (i_push (.int 5) 5)),
  (5, .inl (i_iald 51 6)),
  (6, .inl (i_aload 0 7)),
  (7, .inl (i_getf 81 [9] 10)),
  (10, .inl (i_push (.int 6) 12)),
  (12, .inl (i_iald 51 13)),
  (13, .inl (i_bin (fun x y => x ||| y) 14)),
  (14, .inl (i_iload 1 15)),
  (15, .inr (c_S 2 18 2 (Mt mX9_has 2))),
  (18, .inl i_zret)], noH)
theorem rX9_isShut_0 (Q : Po) (h : Hp) (l1 : Value) (x : Nat) (st : List Value) : Ex mX9_isShut Q 0 [.ref x, l1] st h = Ex mX9_isShut Q 1 [.ref x, l1] (.ref x :: st) h := Ex_nx rfl rfl
theorem rX9_isShut_1 (Q : Po) (h : Hp) (ls : List Value) (st : List Value) (a : Nat) : Ex mX9_isShut Q 1 ls (.ref a :: st) h = (gK h a ∈ ([9] : List Nat) ∧ Ex mX9_isShut Q 4 ls (gF h 81 a :: st) h) := Ex_gd rfl rfl
theorem rX9_isShut_4 (Q : Po) (h : Hp) (ls : List Value) (st : List Value) : Ex mX9_isShut Q 4 ls st h = Ex mX9_isShut Q 5 ls (.int 5 :: st) h := Ex_nx rfl rfl
theorem rX9_isShut_5 (Q : Po) (h : Hp) (ls : List Value) (st : List Value) (a : Nat) (i : Int32) : Ex mX9_isShut Q 5 ls (.int i :: .ref a :: st) h = ((gK h a = 51 ∧ ¬ (i < 0 ∨ gL h a ≤ i.toNatClampNeg)) ∧ Ex mX9_isShut Q 6 ls (.int (gI h a i.toNatClampNeg) :: st) h) := Ex_gd rfl rfl
theorem rX9_isShut_6 (Q : Po) (h : Hp) (l1 : Value) (x : Nat) (st : List Value) : Ex mX9_isShut Q 6 [.ref x, l1] st h = Ex mX9_isShut Q 7 [.ref x, l1] (.ref x :: st) h := Ex_nx rfl rfl
theorem rX9_isShut_7 (Q : Po) (h : Hp) (ls : List Value) (st : List Value) (a : Nat) : Ex mX9_isShut Q 7 ls (.ref a :: st) h = (gK h a ∈ ([9] : List Nat) ∧ Ex mX9_isShut Q 10 ls (gF h 81 a :: st) h) := Ex_gd rfl rfl
theorem rX9_isShut_10 (Q : Po) (h : Hp) (ls : List Value) (st : List Value) : Ex mX9_isShut Q 10 ls st h = Ex mX9_isShut Q 12 ls (.int 6 :: st) h := Ex_nx rfl rfl
theorem rX9_isShut_12 (Q : Po) (h : Hp) (ls : List Value) (st : List Value) (a : Nat) (i : Int32) : Ex mX9_isShut Q 12 ls (.int i :: .ref a :: st) h = ((gK h a = 51 ∧ ¬ (i < 0 ∨ gL h a ≤ i.toNatClampNeg)) ∧ Ex mX9_isShut Q 13 ls (.int (gI h a i.toNatClampNeg) :: st) h) := Ex_gd rfl rfl
theorem rX9_isShut_13 (Q : Po) (h : Hp) (ls : List Value) (st : List Value) (x y : Int32) : Ex mX9_isShut Q 13 ls (.int y :: .int x :: st) h = Ex mX9_isShut Q 14 ls (.int (x ||| y) :: st) h := Ex_nx rfl rfl
theorem rX9_isShut_14 (Q : Po) (h : Hp) (l0 : Value) (x : Int32) (st : List Value) : Ex mX9_isShut Q 14 [l0, .int x] st h = Ex mX9_isShut Q 15 [l0, .int x] (.int x :: st) h := Ex_nx rfl rfl
theorem rX9_isShut_15 (Q : Po) (h : Hp) (ls : List Value) (a0 : Int32) (a1 : Int32) : Ex mX9_isShut Q 15 ls (.int a1 :: .int a0 :: []) h = Ex mX9_has (Cont mX9_isShut Q 15 ls 18 []) 0 [.int a0, .int a1] [] h := Ex_cl (n := 2) (as := [.int a0, .int a1]) rfl rfl
theorem rX9_isShut_18 (Q : Po) (h : Hp) (ls : List Value) (x : Int32) : Ex mX9_isShut Q 18 ls [.int x] h = ((x = 0 ∨ x = 1) ∧ Q (.inl (some (.int x))) h) := Ex_rg rfl rfl
theorem rX9_isShut_t (Q : Po) (h : Hp) (pc n a : Nat) (ls st : List Value) : Cont mX9_isShut Q pc ls n st (.inr a) h = Q (.inr a) h := rfl
/-! FishReadersModel.likedBy(I)I -/
def mX9_likedBy : Cd := ([(0, .inl (i_push (.int (-1000000)) 2)),
  (2, .inl (i_istore 2 3)),
  (3, .inl (i_push (.int 0) 4)),
  (4, .inl (i_istore 3 5)),
  (5, .inl (i_push (.int 0) 6)),
  (6, .inl (i_istore 4 8)),
  (8, .inl (i_iload 4 10)),
  (10, .inl (i_aload 0 11)),
  (11, .inl (i_getf 81 [9] 14)),
  (14, .inl (i_push (.int 0) 15)),
  (15, .inl (i_iald 51 16)),
  (16, .inl (i_icmp (fun x y => y ≤ x) 93 19)),
  (19, .inl (i_aload 0 20)),
  (20, .inl (i_getf 81 [9] 23)),
  (23, .inl (i_push (.int 26) 25)),
  (25, .inl (i_iload 1 26)),
  (26, .inl (i_bin (fun x y => x + y) 27)),
  (27, .inl (i_iald 51 28)),
  (28, .inl (i_push (.int 4) 29)),
  (29, .inl (i_icmp (fun x y => y ≤ x) 93 32)),
  (32, .inl (i_aload 0 33)),
  (33, .inl (i_iload 4 35)),
  (35, .inr (c_V 1 38 3 9 (Mt mX9_bookAt 3))),
  (38, .inl (i_istore 5 40)),
  (40, .inl (i_aload 0 41)),
  (41, .inl (i_iload 1 42)),
  (42, .inl (i_iload 5 44)),
  (44, .inr (c_V 2 47 5 9 (Mt mX9_likes 5))),
  (47, .inl (i_istore 6 49)),
  (49, .inl (i_aload 0 50)),
  (50, .inl (i_iload 5 52)),
  (52, .inr (c_V 1 55 2 9 (Mt mX9_isShut 2))),
  (55, .inl (i_if (fun x => ¬ x = 0) 87 58)),
  (58, .inl (i_aload 0 59)),
  (59, .inl (i_getf 81 [9] 62)),
  (62, .inl (i_push (.int 8) 64)),
  (64, .inl (i_iload 5 66)),
  (66, .inl (i_bin (fun x y => x + y) 67)),
  (67, .inl (i_iald 51 68)),
  (68, .inl (i_if (fun x => x ≤ 0) 87 71)),
  (71, .inl (i_iload 2 72)),
  (72, .inl (i_if (fun x => x < 0) 81 75)),
  (75, .inl (i_iload 6 77)),
  (77, .inl (i_iload 3 78)),
  (78, .inl (i_icmp (fun x y => x ≤ y) 87 81)),
  (81, .inl (i_iload 4 83)),
  (83, .inl (i_istore 2 84)),
  (84, .inl (i_iload 6 86)),
  (86, .inl (i_istore 3 87)),
  (87, .inl (i_iinc 4 1 90)),
  (90, .inl (i_goto 8)),
  (93, .inl (i_iload 2 94)),
  (94, .inl i_iret)], noH)
theorem rX9_likedBy_0 (Q : Po) (h : Hp) (ls : List Value) (st : List Value) : Ex mX9_likedBy Q 0 ls st h = Ex mX9_likedBy Q 2 ls (.int (-1000000) :: st) h := Ex_nx rfl rfl
theorem rX9_likedBy_2 (Q : Po) (h : Hp) (l0 l1 l2 l3 l4 l5 l6 : Value) (x : Int32) (st : List Value) : Ex mX9_likedBy Q 2 [l0, l1, l2, l3, l4, l5, l6] (.int x :: st) h = Ex mX9_likedBy Q 3 [l0, l1, .int x, l3, l4, l5, l6] st h := Ex_nx rfl rfl
theorem rX9_likedBy_3 (Q : Po) (h : Hp) (ls : List Value) (st : List Value) : Ex mX9_likedBy Q 3 ls st h = Ex mX9_likedBy Q 4 ls (.int 0 :: st) h := Ex_nx rfl rfl
theorem rX9_likedBy_4 (Q : Po) (h : Hp) (l0 l1 l2 l3 l4 l5 l6 : Value) (x : Int32) (st : List Value) : Ex mX9_likedBy Q 4 [l0, l1, l2, l3, l4, l5, l6] (.int x :: st) h = Ex mX9_likedBy Q 5 [l0, l1, l2, .int x, l4, l5, l6] st h := Ex_nx rfl rfl
theorem rX9_likedBy_5 (Q : Po) (h : Hp) (ls : List Value) (st : List Value) : Ex mX9_likedBy Q 5 ls st h = Ex mX9_likedBy Q 6 ls (.int 0 :: st) h := Ex_nx rfl rfl
theorem rX9_likedBy_6 (Q : Po) (h : Hp) (l0 l1 l2 l3 l4 l5 l6 : Value) (x : Int32) (st : List Value) : Ex mX9_likedBy Q 6 [l0, l1, l2, l3, l4, l5, l6] (.int x :: st) h = Ex mX9_likedBy Q 8 [l0, l1, l2, l3, .int x, l5, l6] st h := Ex_nx rfl rfl
theorem rX9_likedBy_8 (Q : Po) (h : Hp) (l0 l1 l2 l3 l5 l6 : Value) (x : Int32) (st : List Value) : Ex mX9_likedBy Q 8 [l0, l1, l2, l3, .int x, l5, l6] st h = Ex mX9_likedBy Q 10 [l0, l1, l2, l3, .int x, l5, l6] (.int x :: st) h := Ex_nx rfl rfl
theorem rX9_likedBy_10 (Q : Po) (h : Hp) (l1 l2 l3 l4 l5 l6 : Value) (x : Nat) (st : List Value) : Ex mX9_likedBy Q 10 [.ref x, l1, l2, l3, l4, l5, l6] st h = Ex mX9_likedBy Q 11 [.ref x, l1, l2, l3, l4, l5, l6] (.ref x :: st) h := Ex_nx rfl rfl
theorem rX9_likedBy_11 (Q : Po) (h : Hp) (ls : List Value) (st : List Value) (a : Nat) : Ex mX9_likedBy Q 11 ls (.ref a :: st) h = (gK h a ∈ ([9] : List Nat) ∧ Ex mX9_likedBy Q 14 ls (gF h 81 a :: st) h) := Ex_gd rfl rfl
theorem rX9_likedBy_14 (Q : Po) (h : Hp) (ls : List Value) (st : List Value) : Ex mX9_likedBy Q 14 ls st h = Ex mX9_likedBy Q 15 ls (.int 0 :: st) h := Ex_nx rfl rfl
theorem rX9_likedBy_15 (Q : Po) (h : Hp) (ls : List Value) (st : List Value) (a : Nat) (i : Int32) : Ex mX9_likedBy Q 15 ls (.int i :: .ref a :: st) h = ((gK h a = 51 ∧ ¬ (i < 0 ∨ gL h a ≤ i.toNatClampNeg)) ∧ Ex mX9_likedBy Q 16 ls (.int (gI h a i.toNatClampNeg) :: st) h) := Ex_gd rfl rfl
theorem rX9_likedBy_16 (Q : Po) (h : Hp) (ls : List Value) (st : List Value) (x y : Int32) : Ex mX9_likedBy Q 16 ls (.int y :: .int x :: st) h = if y ≤ x then Ex mX9_likedBy Q 93 ls st h else Ex mX9_likedBy Q 19 ls st h := Ex_br rfl rfl
theorem rX9_likedBy_19 (Q : Po) (h : Hp) (l1 l2 l3 l4 l5 l6 : Value) (x : Nat) (st : List Value) : Ex mX9_likedBy Q 19 [.ref x, l1, l2, l3, l4, l5, l6] st h = Ex mX9_likedBy Q 20 [.ref x, l1, l2, l3, l4, l5, l6] (.ref x :: st) h := Ex_nx rfl rfl
theorem rX9_likedBy_20 (Q : Po) (h : Hp) (ls : List Value) (st : List Value) (a : Nat) : Ex mX9_likedBy Q 20 ls (.ref a :: st) h = (gK h a ∈ ([9] : List Nat) ∧ Ex mX9_likedBy Q 23 ls (gF h 81 a :: st) h) := Ex_gd rfl rfl
theorem rX9_likedBy_23 (Q : Po) (h : Hp) (ls : List Value) (st : List Value) : Ex mX9_likedBy Q 23 ls st h = Ex mX9_likedBy Q 25 ls (.int 26 :: st) h := Ex_nx rfl rfl
theorem rX9_likedBy_25 (Q : Po) (h : Hp) (l0 l2 l3 l4 l5 l6 : Value) (x : Int32) (st : List Value) : Ex mX9_likedBy Q 25 [l0, .int x, l2, l3, l4, l5, l6] st h = Ex mX9_likedBy Q 26 [l0, .int x, l2, l3, l4, l5, l6] (.int x :: st) h := Ex_nx rfl rfl
theorem rX9_likedBy_26 (Q : Po) (h : Hp) (ls : List Value) (st : List Value) (x y : Int32) : Ex mX9_likedBy Q 26 ls (.int y :: .int x :: st) h = Ex mX9_likedBy Q 27 ls (.int (x + y) :: st) h := Ex_nx rfl rfl
theorem rX9_likedBy_27 (Q : Po) (h : Hp) (ls : List Value) (st : List Value) (a : Nat) (i : Int32) : Ex mX9_likedBy Q 27 ls (.int i :: .ref a :: st) h = ((gK h a = 51 ∧ ¬ (i < 0 ∨ gL h a ≤ i.toNatClampNeg)) ∧ Ex mX9_likedBy Q 28 ls (.int (gI h a i.toNatClampNeg) :: st) h) := Ex_gd rfl rfl
theorem rX9_likedBy_28 (Q : Po) (h : Hp) (ls : List Value) (st : List Value) : Ex mX9_likedBy Q 28 ls st h = Ex mX9_likedBy Q 29 ls (.int 4 :: st) h := Ex_nx rfl rfl
theorem rX9_likedBy_29 (Q : Po) (h : Hp) (ls : List Value) (st : List Value) (x y : Int32) : Ex mX9_likedBy Q 29 ls (.int y :: .int x :: st) h = if y ≤ x then Ex mX9_likedBy Q 93 ls st h else Ex mX9_likedBy Q 32 ls st h := Ex_br rfl rfl
theorem rX9_likedBy_32 (Q : Po) (h : Hp) (l1 l2 l3 l4 l5 l6 : Value) (x : Nat) (st : List Value) : Ex mX9_likedBy Q 32 [.ref x, l1, l2, l3, l4, l5, l6] st h = Ex mX9_likedBy Q 33 [.ref x, l1, l2, l3, l4, l5, l6] (.ref x :: st) h := Ex_nx rfl rfl
theorem rX9_likedBy_33 (Q : Po) (h : Hp) (l0 l1 l2 l3 l5 l6 : Value) (x : Int32) (st : List Value) : Ex mX9_likedBy Q 33 [l0, l1, l2, l3, .int x, l5, l6] st h = Ex mX9_likedBy Q 35 [l0, l1, l2, l3, .int x, l5, l6] (.int x :: st) h := Ex_nx rfl rfl
theorem rX9_likedBy_35 (Q : Po) (h : Hp) (ls : List Value) (a0 : Int32) (b : Nat) : Ex mX9_likedBy Q 35 ls (.int a0 :: .ref b :: []) h = (gK h b = 9 ∧ Ex mX9_bookAt (Cont mX9_likedBy Q 35 ls 38 []) 0 [.ref b, .int a0, .retAddr 0] [] h) := Ex_cg (n := 3) (as := [.ref b, .int a0]) rfl rfl
theorem rX9_likedBy_38 (Q : Po) (h : Hp) (l0 l1 l2 l3 l4 l5 l6 : Value) (x : Int32) (st : List Value) : Ex mX9_likedBy Q 38 [l0, l1, l2, l3, l4, l5, l6] (.int x :: st) h = Ex mX9_likedBy Q 40 [l0, l1, l2, l3, l4, .int x, l6] st h := Ex_nx rfl rfl
theorem rX9_likedBy_40 (Q : Po) (h : Hp) (l1 l2 l3 l4 l5 l6 : Value) (x : Nat) (st : List Value) : Ex mX9_likedBy Q 40 [.ref x, l1, l2, l3, l4, l5, l6] st h = Ex mX9_likedBy Q 41 [.ref x, l1, l2, l3, l4, l5, l6] (.ref x :: st) h := Ex_nx rfl rfl
theorem rX9_likedBy_41 (Q : Po) (h : Hp) (l0 l2 l3 l4 l5 l6 : Value) (x : Int32) (st : List Value) : Ex mX9_likedBy Q 41 [l0, .int x, l2, l3, l4, l5, l6] st h = Ex mX9_likedBy Q 42 [l0, .int x, l2, l3, l4, l5, l6] (.int x :: st) h := Ex_nx rfl rfl
theorem rX9_likedBy_42 (Q : Po) (h : Hp) (l0 l1 l2 l3 l4 l6 : Value) (x : Int32) (st : List Value) : Ex mX9_likedBy Q 42 [l0, l1, l2, l3, l4, .int x, l6] st h = Ex mX9_likedBy Q 44 [l0, l1, l2, l3, l4, .int x, l6] (.int x :: st) h := Ex_nx rfl rfl
theorem rX9_likedBy_44 (Q : Po) (h : Hp) (ls : List Value) (a0 : Int32) (a1 : Int32) (b : Nat) : Ex mX9_likedBy Q 44 ls (.int a1 :: .int a0 :: .ref b :: []) h = (gK h b = 9 ∧ Ex mX9_likes (Cont mX9_likedBy Q 44 ls 47 []) 0 [.ref b, .int a0, .int a1, .retAddr 0, .retAddr 0] [] h) := Ex_cg (n := 5) (as := [.ref b, .int a0, .int a1]) rfl rfl
theorem rX9_likedBy_47 (Q : Po) (h : Hp) (l0 l1 l2 l3 l4 l5 l6 : Value) (x : Int32) (st : List Value) : Ex mX9_likedBy Q 47 [l0, l1, l2, l3, l4, l5, l6] (.int x :: st) h = Ex mX9_likedBy Q 49 [l0, l1, l2, l3, l4, l5, .int x] st h := Ex_nx rfl rfl
theorem rX9_likedBy_49 (Q : Po) (h : Hp) (l1 l2 l3 l4 l5 l6 : Value) (x : Nat) (st : List Value) : Ex mX9_likedBy Q 49 [.ref x, l1, l2, l3, l4, l5, l6] st h = Ex mX9_likedBy Q 50 [.ref x, l1, l2, l3, l4, l5, l6] (.ref x :: st) h := Ex_nx rfl rfl
theorem rX9_likedBy_50 (Q : Po) (h : Hp) (l0 l1 l2 l3 l4 l6 : Value) (x : Int32) (st : List Value) : Ex mX9_likedBy Q 50 [l0, l1, l2, l3, l4, .int x, l6] st h = Ex mX9_likedBy Q 52 [l0, l1, l2, l3, l4, .int x, l6] (.int x :: st) h := Ex_nx rfl rfl
theorem rX9_likedBy_52 (Q : Po) (h : Hp) (ls : List Value) (a0 : Int32) (b : Nat) : Ex mX9_likedBy Q 52 ls (.int a0 :: .ref b :: []) h = (gK h b = 9 ∧ Ex mX9_isShut (Cont mX9_likedBy Q 52 ls 55 []) 0 [.ref b, .int a0] [] h) := Ex_cg (n := 2) (as := [.ref b, .int a0]) rfl rfl
theorem rX9_likedBy_55 (Q : Po) (h : Hp) (ls : List Value) (st : List Value) (x : Int32) : Ex mX9_likedBy Q 55 ls (.int x :: st) h = if ¬ x = 0 then Ex mX9_likedBy Q 87 ls st h else Ex mX9_likedBy Q 58 ls st h := Ex_br rfl rfl
theorem rX9_likedBy_58 (Q : Po) (h : Hp) (l1 l2 l3 l4 l5 l6 : Value) (x : Nat) (st : List Value) : Ex mX9_likedBy Q 58 [.ref x, l1, l2, l3, l4, l5, l6] st h = Ex mX9_likedBy Q 59 [.ref x, l1, l2, l3, l4, l5, l6] (.ref x :: st) h := Ex_nx rfl rfl
theorem rX9_likedBy_59 (Q : Po) (h : Hp) (ls : List Value) (st : List Value) (a : Nat) : Ex mX9_likedBy Q 59 ls (.ref a :: st) h = (gK h a ∈ ([9] : List Nat) ∧ Ex mX9_likedBy Q 62 ls (gF h 81 a :: st) h) := Ex_gd rfl rfl
theorem rX9_likedBy_62 (Q : Po) (h : Hp) (ls : List Value) (st : List Value) : Ex mX9_likedBy Q 62 ls st h = Ex mX9_likedBy Q 64 ls (.int 8 :: st) h := Ex_nx rfl rfl
theorem rX9_likedBy_64 (Q : Po) (h : Hp) (l0 l1 l2 l3 l4 l6 : Value) (x : Int32) (st : List Value) : Ex mX9_likedBy Q 64 [l0, l1, l2, l3, l4, .int x, l6] st h = Ex mX9_likedBy Q 66 [l0, l1, l2, l3, l4, .int x, l6] (.int x :: st) h := Ex_nx rfl rfl
theorem rX9_likedBy_66 (Q : Po) (h : Hp) (ls : List Value) (st : List Value) (x y : Int32) : Ex mX9_likedBy Q 66 ls (.int y :: .int x :: st) h = Ex mX9_likedBy Q 67 ls (.int (x + y) :: st) h := Ex_nx rfl rfl
theorem rX9_likedBy_67 (Q : Po) (h : Hp) (ls : List Value) (st : List Value) (a : Nat) (i : Int32) : Ex mX9_likedBy Q 67 ls (.int i :: .ref a :: st) h = ((gK h a = 51 ∧ ¬ (i < 0 ∨ gL h a ≤ i.toNatClampNeg)) ∧ Ex mX9_likedBy Q 68 ls (.int (gI h a i.toNatClampNeg) :: st) h) := Ex_gd rfl rfl
theorem rX9_likedBy_68 (Q : Po) (h : Hp) (ls : List Value) (st : List Value) (x : Int32) : Ex mX9_likedBy Q 68 ls (.int x :: st) h = if x ≤ 0 then Ex mX9_likedBy Q 87 ls st h else Ex mX9_likedBy Q 71 ls st h := Ex_br rfl rfl
theorem rX9_likedBy_71 (Q : Po) (h : Hp) (l0 l1 l3 l4 l5 l6 : Value) (x : Int32) (st : List Value) : Ex mX9_likedBy Q 71 [l0, l1, .int x, l3, l4, l5, l6] st h = Ex mX9_likedBy Q 72 [l0, l1, .int x, l3, l4, l5, l6] (.int x :: st) h := Ex_nx rfl rfl
theorem rX9_likedBy_72 (Q : Po) (h : Hp) (ls : List Value) (st : List Value) (x : Int32) : Ex mX9_likedBy Q 72 ls (.int x :: st) h = if x < 0 then Ex mX9_likedBy Q 81 ls st h else Ex mX9_likedBy Q 75 ls st h := Ex_br rfl rfl
theorem rX9_likedBy_75 (Q : Po) (h : Hp) (l0 l1 l2 l3 l4 l5 : Value) (x : Int32) (st : List Value) : Ex mX9_likedBy Q 75 [l0, l1, l2, l3, l4, l5, .int x] st h = Ex mX9_likedBy Q 77 [l0, l1, l2, l3, l4, l5, .int x] (.int x :: st) h := Ex_nx rfl rfl
theorem rX9_likedBy_77 (Q : Po) (h : Hp) (l0 l1 l2 l4 l5 l6 : Value) (x : Int32) (st : List Value) : Ex mX9_likedBy Q 77 [l0, l1, l2, .int x, l4, l5, l6] st h = Ex mX9_likedBy Q 78 [l0, l1, l2, .int x, l4, l5, l6] (.int x :: st) h := Ex_nx rfl rfl
theorem rX9_likedBy_78 (Q : Po) (h : Hp) (ls : List Value) (st : List Value) (x y : Int32) : Ex mX9_likedBy Q 78 ls (.int y :: .int x :: st) h = if x ≤ y then Ex mX9_likedBy Q 87 ls st h else Ex mX9_likedBy Q 81 ls st h := Ex_br rfl rfl
theorem rX9_likedBy_81 (Q : Po) (h : Hp) (l0 l1 l2 l3 l5 l6 : Value) (x : Int32) (st : List Value) : Ex mX9_likedBy Q 81 [l0, l1, l2, l3, .int x, l5, l6] st h = Ex mX9_likedBy Q 83 [l0, l1, l2, l3, .int x, l5, l6] (.int x :: st) h := Ex_nx rfl rfl
theorem rX9_likedBy_83 (Q : Po) (h : Hp) (l0 l1 l2 l3 l4 l5 l6 : Value) (x : Int32) (st : List Value) : Ex mX9_likedBy Q 83 [l0, l1, l2, l3, l4, l5, l6] (.int x :: st) h = Ex mX9_likedBy Q 84 [l0, l1, .int x, l3, l4, l5, l6] st h := Ex_nx rfl rfl
theorem rX9_likedBy_84 (Q : Po) (h : Hp) (l0 l1 l2 l3 l4 l5 : Value) (x : Int32) (st : List Value) : Ex mX9_likedBy Q 84 [l0, l1, l2, l3, l4, l5, .int x] st h = Ex mX9_likedBy Q 86 [l0, l1, l2, l3, l4, l5, .int x] (.int x :: st) h := Ex_nx rfl rfl
theorem rX9_likedBy_86 (Q : Po) (h : Hp) (l0 l1 l2 l3 l4 l5 l6 : Value) (x : Int32) (st : List Value) : Ex mX9_likedBy Q 86 [l0, l1, l2, l3, l4, l5, l6] (.int x :: st) h = Ex mX9_likedBy Q 87 [l0, l1, l2, .int x, l4, l5, l6] st h := Ex_nx rfl rfl
theorem rX9_likedBy_87 (Q : Po) (h : Hp) (l0 l1 l2 l3 l5 l6 : Value) (x : Int32) (st : List Value) : Ex mX9_likedBy Q 87 [l0, l1, l2, l3, .int x, l5, l6] st h = Ex mX9_likedBy Q 90 [l0, l1, l2, l3, .int (x + 1), l5, l6] st h := Ex_nx rfl rfl
theorem rX9_likedBy_90 (Q : Po) (h : Hp) (ls : List Value) (st : List Value) : Ex mX9_likedBy Q 90 ls st h = Ex mX9_likedBy Q 8 ls st h := Ex_nx rfl rfl
theorem rX9_likedBy_93 (Q : Po) (h : Hp) (l0 l1 l3 l4 l5 l6 : Value) (x : Int32) (st : List Value) : Ex mX9_likedBy Q 93 [l0, l1, .int x, l3, l4, l5, l6] st h = Ex mX9_likedBy Q 94 [l0, l1, .int x, l3, l4, l5, l6] (.int x :: st) h := Ex_nx rfl rfl
theorem rX9_likedBy_94 (Q : Po) (h : Hp) (ls : List Value) (x : Int32) : Ex mX9_likedBy Q 94 ls [.int x] h = Q (.inl (some (.int x))) h := Ex_rt rfl rfl
theorem rX9_likedBy_t (Q : Po) (h : Hp) (pc n a : Nat) (ls st : List Value) : Cont mX9_likedBy Q pc ls n st (.inr a) h = Q (.inr a) h := rfl
/-! FishReadersModel.goesTo(I)I -/
def mX9_goesTo : Cd := ([(0, .inl (i_aload 0 1)),
  (1, .inl (i_getf 81 [9] 4)),
  (4, .inl (i_push (.int 31) 6)),
  (6, .inl (i_iload 1 7)),
  (7, .inl (i_bin (fun x y => x + y) 8)),
  (8, .inl (i_iald 51 9)),
  (9, .inl (i_istore 2 10)),
  (10, .inl (i_aload 0 11)),
  (11, .inl (i_iload 2 12)),
  (12, .inr (c_V 1 15 3 9 (Mt mX9_bookAt 3))),
  (15, .inl (i_istore 3 16)),
  (16, .inl (i_aload 0 17)),
  (17, .inl (i_getf 81 [9] 20)),
  (20, .inl (i_push (.int 26) 22)),
  (22, .inl (i_iload 1 23)),
  (23, .inl (i_bin (fun x y => x + y) 24)),
  (24, .inl (i_iald 51 25)),
  (25, .inl (i_istore 4 27)),
  (27, .inl (i_iload 4 29)),
  (29, .inl (i_push (.int 3) 30)),
  (30, .inl (i_icmp (fun x y => ¬ x = y) 57 33)),
  (33, .inl (i_aload 0 34)),
  (34, .inl (i_getf 81 [9] 37)),
  (37, .inl (i_push (.int 5) 38)),
  (38, .inl (i_iald 51 39)),
  (39, .inl (i_iload 3 40)),
  (40, .inr (c_S 2 43 2 (Mt mX9_has 2))),
  (43, .inl (i_if (fun x => x = 0) 57 46)),
  (46, .inl (i_iload 2 47)),
  (47, .inl (i_push (.int 2) 48)),
  (48, .inl (i_bin (fun x y => x + y) 49)),
  (49, .inl (i_aload 0 50)),
  (50, .inl (i_getf 81 [9] 53)),
  (53, .inl (i_push (.int 0) 54)),
  (54, .inl (i_iald 51 55)),
  (55, .inl (i_bing (fun x y => x - x / y * y) 56)),
  (56, .inl i_iret),
  (57, .inl (i_iload 4 59)),
  (59, .inl (i_push (.int 4) 60)),
  (60, .inl (i_icmp (fun x y => y ≤ x) 101 63)),
  (63, .inl (i_aload 0 64)),
  (64, .inl (i_iload 1 65)),
  (65, .inr (c_V 1 68 7 9 (Mt mX9_likedBy 7))),
  (68, .inl (i_istore 5 70)),
  (70, .inl (i_iload 5 72)),
  (72, .inl (i_if (fun x => x < 0) 81 75)),
  (75, .inl (i_iload 5 77)),
  (77, .inl (i_iload 2 78)),
  (78, .inl (i_icmp (fun x y => ¬ x = y) 85 81)),
  (81, .inl (i_iload 2 82)),
  (82, .inl (i_goto 100)),
  (85, .inl (i_iload 5 87)),
  (87, .inl (i_iload 2 88)),
  (88, .inl (i_icmp (fun x y => x ≤ y) 97 91)),
  (91, .inl (i_iload 2 92)),
  (92, .inl (i_push (.int 1) 93)),
  (93, .inl (i_bin (fun x y => x + y) 94)),
  (94, .inl (i_goto 100)),
  (97, .inl (i_iload 2 98)),
  (98, .inl (i_push (.int 1) 99)),
  (99, .inl (i_bin (fun x y => x - y) 100)),
  (100, .inl i_iret),
  (101, .inl (i_iload 4 103)),
  (103, .inl (i_push (.int 4) 104)),
  (104, .inl (i_icmp (fun x y => x = y) 127 107)),
  (107, .inl (i_aload 0 108)),
  (108, .inl (i_iload 3 109)),
  (109, .inr (c_V 1 112 2 9 (Mt mX9_isShut 2))),
  (112, .inl (i_if (fun x => ¬ x = 0) 127 115)),
  (115, .inl (i_aload 0 116)),
  (116, .inl (i_getf 81 [9] 119)),
  (119, .inl (i_push (.int 8) 121)),
  (121, .inl (i_iload 3 122)),
  (122, .inl (i_bin (fun x y => x + y) 123)),
  (123, .inl (i_iald 51 124)),
  (124, .inl (i_if (fun x => ¬ x = 0) 140 127)),
  (127, .inl (i_iload 2 128)),
  (128, .inl (i_push (.int 1) 129)),
  (129, .inl (i_bin (fun x y => x + y) 130)),
  (130, .inl (i_aload 0 131)),
  (131, .inl (i_getf 81 [9] 134)),
  (134, .inl (i_push (.int 0) 135)),
  (135, .inl (i_iald 51 136)),
  (136, .inl (i_bing (fun x y => x - x / y * y) 137)),
  (137, .inl (i_goto 141)),
  (140, .inl (i_iload 2 141)),
  (141, .inl i_iret)], noH)
theorem rX9_goesTo_0 (Q : Po) (h : Hp) (l1 l2 l3 l4 l5 : Value) (x : Nat) (st : List Value) : Ex mX9_goesTo Q 0 [.ref x, l1, l2, l3, l4, l5] st h = Ex mX9_goesTo Q 1 [.ref x, l1, l2, l3, l4, l5] (.ref x :: st) h := Ex_nx rfl rfl
theorem rX9_goesTo_1 (Q : Po) (h : Hp) (ls : List Value) (st : List Value) (a : Nat) : Ex mX9_goesTo Q 1 ls (.ref a :: st) h = (gK h a ∈ ([9] : List Nat) ∧ Ex mX9_goesTo Q 4 ls (gF h 81 a :: st) h) := Ex_gd rfl rfl
theorem rX9_goesTo_4 (Q : Po) (h : Hp) (ls : List Value) (st : List Value) : Ex mX9_goesTo Q 4 ls st h = Ex mX9_goesTo Q 6 ls (.int 31 :: st) h := Ex_nx rfl rfl
theorem rX9_goesTo_6 (Q : Po) (h : Hp) (l0 l2 l3 l4 l5 : Value) (x : Int32) (st : List Value) : Ex mX9_goesTo Q 6 [l0, .int x, l2, l3, l4, l5] st h = Ex mX9_goesTo Q 7 [l0, .int x, l2, l3, l4, l5] (.int x :: st) h := Ex_nx rfl rfl
theorem rX9_goesTo_7 (Q : Po) (h : Hp) (ls : List Value) (st : List Value) (x y : Int32) : Ex mX9_goesTo Q 7 ls (.int y :: .int x :: st) h = Ex mX9_goesTo Q 8 ls (.int (x + y) :: st) h := Ex_nx rfl rfl
theorem rX9_goesTo_8 (Q : Po) (h : Hp) (ls : List Value) (st : List Value) (a : Nat) (i : Int32) : Ex mX9_goesTo Q 8 ls (.int i :: .ref a :: st) h = ((gK h a = 51 ∧ ¬ (i < 0 ∨ gL h a ≤ i.toNatClampNeg)) ∧ Ex mX9_goesTo Q 9 ls (.int (gI h a i.toNatClampNeg) :: st) h) := Ex_gd rfl rfl
theorem rX9_goesTo_9 (Q : Po) (h : Hp) (l0 l1 l2 l3 l4 l5 : Value) (x : Int32) (st : List Value) : Ex mX9_goesTo Q 9 [l0, l1, l2, l3, l4, l5] (.int x :: st) h = Ex mX9_goesTo Q 10 [l0, l1, .int x, l3, l4, l5] st h := Ex_nx rfl rfl
theorem rX9_goesTo_10 (Q : Po) (h : Hp) (l1 l2 l3 l4 l5 : Value) (x : Nat) (st : List Value) : Ex mX9_goesTo Q 10 [.ref x, l1, l2, l3, l4, l5] st h = Ex mX9_goesTo Q 11 [.ref x, l1, l2, l3, l4, l5] (.ref x :: st) h := Ex_nx rfl rfl
theorem rX9_goesTo_11 (Q : Po) (h : Hp) (l0 l1 l3 l4 l5 : Value) (x : Int32) (st : List Value) : Ex mX9_goesTo Q 11 [l0, l1, .int x, l3, l4, l5] st h = Ex mX9_goesTo Q 12 [l0, l1, .int x, l3, l4, l5] (.int x :: st) h := Ex_nx rfl rfl
theorem rX9_goesTo_12 (Q : Po) (h : Hp) (ls : List Value) (a0 : Int32) (b : Nat) : Ex mX9_goesTo Q 12 ls (.int a0 :: .ref b :: []) h = (gK h b = 9 ∧ Ex mX9_bookAt (Cont mX9_goesTo Q 12 ls 15 []) 0 [.ref b, .int a0, .retAddr 0] [] h) := Ex_cg (n := 3) (as := [.ref b, .int a0]) rfl rfl
theorem rX9_goesTo_15 (Q : Po) (h : Hp) (l0 l1 l2 l3 l4 l5 : Value) (x : Int32) (st : List Value) : Ex mX9_goesTo Q 15 [l0, l1, l2, l3, l4, l5] (.int x :: st) h = Ex mX9_goesTo Q 16 [l0, l1, l2, .int x, l4, l5] st h := Ex_nx rfl rfl
theorem rX9_goesTo_16 (Q : Po) (h : Hp) (l1 l2 l3 l4 l5 : Value) (x : Nat) (st : List Value) : Ex mX9_goesTo Q 16 [.ref x, l1, l2, l3, l4, l5] st h = Ex mX9_goesTo Q 17 [.ref x, l1, l2, l3, l4, l5] (.ref x :: st) h := Ex_nx rfl rfl
theorem rX9_goesTo_17 (Q : Po) (h : Hp) (ls : List Value) (st : List Value) (a : Nat) : Ex mX9_goesTo Q 17 ls (.ref a :: st) h = (gK h a ∈ ([9] : List Nat) ∧ Ex mX9_goesTo Q 20 ls (gF h 81 a :: st) h) := Ex_gd rfl rfl
theorem rX9_goesTo_20 (Q : Po) (h : Hp) (ls : List Value) (st : List Value) : Ex mX9_goesTo Q 20 ls st h = Ex mX9_goesTo Q 22 ls (.int 26 :: st) h := Ex_nx rfl rfl
theorem rX9_goesTo_22 (Q : Po) (h : Hp) (l0 l2 l3 l4 l5 : Value) (x : Int32) (st : List Value) : Ex mX9_goesTo Q 22 [l0, .int x, l2, l3, l4, l5] st h = Ex mX9_goesTo Q 23 [l0, .int x, l2, l3, l4, l5] (.int x :: st) h := Ex_nx rfl rfl
theorem rX9_goesTo_23 (Q : Po) (h : Hp) (ls : List Value) (st : List Value) (x y : Int32) : Ex mX9_goesTo Q 23 ls (.int y :: .int x :: st) h = Ex mX9_goesTo Q 24 ls (.int (x + y) :: st) h := Ex_nx rfl rfl
theorem rX9_goesTo_24 (Q : Po) (h : Hp) (ls : List Value) (st : List Value) (a : Nat) (i : Int32) : Ex mX9_goesTo Q 24 ls (.int i :: .ref a :: st) h = ((gK h a = 51 ∧ ¬ (i < 0 ∨ gL h a ≤ i.toNatClampNeg)) ∧ Ex mX9_goesTo Q 25 ls (.int (gI h a i.toNatClampNeg) :: st) h) := Ex_gd rfl rfl
theorem rX9_goesTo_25 (Q : Po) (h : Hp) (l0 l1 l2 l3 l4 l5 : Value) (x : Int32) (st : List Value) : Ex mX9_goesTo Q 25 [l0, l1, l2, l3, l4, l5] (.int x :: st) h = Ex mX9_goesTo Q 27 [l0, l1, l2, l3, .int x, l5] st h := Ex_nx rfl rfl
theorem rX9_goesTo_27 (Q : Po) (h : Hp) (l0 l1 l2 l3 l5 : Value) (x : Int32) (st : List Value) : Ex mX9_goesTo Q 27 [l0, l1, l2, l3, .int x, l5] st h = Ex mX9_goesTo Q 29 [l0, l1, l2, l3, .int x, l5] (.int x :: st) h := Ex_nx rfl rfl
theorem rX9_goesTo_29 (Q : Po) (h : Hp) (ls : List Value) (st : List Value) : Ex mX9_goesTo Q 29 ls st h = Ex mX9_goesTo Q 30 ls (.int 3 :: st) h := Ex_nx rfl rfl
theorem rX9_goesTo_30 (Q : Po) (h : Hp) (ls : List Value) (st : List Value) (x y : Int32) : Ex mX9_goesTo Q 30 ls (.int y :: .int x :: st) h = if ¬ x = y then Ex mX9_goesTo Q 57 ls st h else Ex mX9_goesTo Q 33 ls st h := Ex_br rfl rfl
theorem rX9_goesTo_33 (Q : Po) (h : Hp) (l1 l2 l3 l4 l5 : Value) (x : Nat) (st : List Value) : Ex mX9_goesTo Q 33 [.ref x, l1, l2, l3, l4, l5] st h = Ex mX9_goesTo Q 34 [.ref x, l1, l2, l3, l4, l5] (.ref x :: st) h := Ex_nx rfl rfl
theorem rX9_goesTo_34 (Q : Po) (h : Hp) (ls : List Value) (st : List Value) (a : Nat) : Ex mX9_goesTo Q 34 ls (.ref a :: st) h = (gK h a ∈ ([9] : List Nat) ∧ Ex mX9_goesTo Q 37 ls (gF h 81 a :: st) h) := Ex_gd rfl rfl
theorem rX9_goesTo_37 (Q : Po) (h : Hp) (ls : List Value) (st : List Value) : Ex mX9_goesTo Q 37 ls st h = Ex mX9_goesTo Q 38 ls (.int 5 :: st) h := Ex_nx rfl rfl
theorem rX9_goesTo_38 (Q : Po) (h : Hp) (ls : List Value) (st : List Value) (a : Nat) (i : Int32) : Ex mX9_goesTo Q 38 ls (.int i :: .ref a :: st) h = ((gK h a = 51 ∧ ¬ (i < 0 ∨ gL h a ≤ i.toNatClampNeg)) ∧ Ex mX9_goesTo Q 39 ls (.int (gI h a i.toNatClampNeg) :: st) h) := Ex_gd rfl rfl
theorem rX9_goesTo_39 (Q : Po) (h : Hp) (l0 l1 l2 l4 l5 : Value) (x : Int32) (st : List Value) : Ex mX9_goesTo Q 39 [l0, l1, l2, .int x, l4, l5] st h = Ex mX9_goesTo Q 40 [l0, l1, l2, .int x, l4, l5] (.int x :: st) h := Ex_nx rfl rfl
theorem rX9_goesTo_40 (Q : Po) (h : Hp) (ls : List Value) (a0 : Int32) (a1 : Int32) : Ex mX9_goesTo Q 40 ls (.int a1 :: .int a0 :: []) h = Ex mX9_has (Cont mX9_goesTo Q 40 ls 43 []) 0 [.int a0, .int a1] [] h := Ex_cl (n := 2) (as := [.int a0, .int a1]) rfl rfl
theorem rX9_goesTo_43 (Q : Po) (h : Hp) (ls : List Value) (st : List Value) (x : Int32) : Ex mX9_goesTo Q 43 ls (.int x :: st) h = if x = 0 then Ex mX9_goesTo Q 57 ls st h else Ex mX9_goesTo Q 46 ls st h := Ex_br rfl rfl
theorem rX9_goesTo_46 (Q : Po) (h : Hp) (l0 l1 l3 l4 l5 : Value) (x : Int32) (st : List Value) : Ex mX9_goesTo Q 46 [l0, l1, .int x, l3, l4, l5] st h = Ex mX9_goesTo Q 47 [l0, l1, .int x, l3, l4, l5] (.int x :: st) h := Ex_nx rfl rfl
theorem rX9_goesTo_47 (Q : Po) (h : Hp) (ls : List Value) (st : List Value) : Ex mX9_goesTo Q 47 ls st h = Ex mX9_goesTo Q 48 ls (.int 2 :: st) h := Ex_nx rfl rfl
theorem rX9_goesTo_48 (Q : Po) (h : Hp) (ls : List Value) (st : List Value) (x y : Int32) : Ex mX9_goesTo Q 48 ls (.int y :: .int x :: st) h = Ex mX9_goesTo Q 49 ls (.int (x + y) :: st) h := Ex_nx rfl rfl
theorem rX9_goesTo_49 (Q : Po) (h : Hp) (l1 l2 l3 l4 l5 : Value) (x : Nat) (st : List Value) : Ex mX9_goesTo Q 49 [.ref x, l1, l2, l3, l4, l5] st h = Ex mX9_goesTo Q 50 [.ref x, l1, l2, l3, l4, l5] (.ref x :: st) h := Ex_nx rfl rfl
theorem rX9_goesTo_50 (Q : Po) (h : Hp) (ls : List Value) (st : List Value) (a : Nat) : Ex mX9_goesTo Q 50 ls (.ref a :: st) h = (gK h a ∈ ([9] : List Nat) ∧ Ex mX9_goesTo Q 53 ls (gF h 81 a :: st) h) := Ex_gd rfl rfl
theorem rX9_goesTo_53 (Q : Po) (h : Hp) (ls : List Value) (st : List Value) : Ex mX9_goesTo Q 53 ls st h = Ex mX9_goesTo Q 54 ls (.int 0 :: st) h := Ex_nx rfl rfl
theorem rX9_goesTo_54 (Q : Po) (h : Hp) (ls : List Value) (st : List Value) (a : Nat) (i : Int32) : Ex mX9_goesTo Q 54 ls (.int i :: .ref a :: st) h = ((gK h a = 51 ∧ ¬ (i < 0 ∨ gL h a ≤ i.toNatClampNeg)) ∧ Ex mX9_goesTo Q 55 ls (.int (gI h a i.toNatClampNeg) :: st) h) := Ex_gd rfl rfl
theorem rX9_goesTo_55 (Q : Po) (h : Hp) (ls : List Value) (st : List Value) (x y : Int32) : Ex mX9_goesTo Q 55 ls (.int y :: .int x :: st) h = (¬ y = 0 ∧ Ex mX9_goesTo Q 56 ls (.int (x - x / y * y) :: st) h) := Ex_gd rfl rfl
theorem rX9_goesTo_56 (Q : Po) (h : Hp) (ls : List Value) (x : Int32) : Ex mX9_goesTo Q 56 ls [.int x] h = Q (.inl (some (.int x))) h := Ex_rt rfl rfl
theorem rX9_goesTo_57 (Q : Po) (h : Hp) (l0 l1 l2 l3 l5 : Value) (x : Int32) (st : List Value) : Ex mX9_goesTo Q 57 [l0, l1, l2, l3, .int x, l5] st h = Ex mX9_goesTo Q 59 [l0, l1, l2, l3, .int x, l5] (.int x :: st) h := Ex_nx rfl rfl
theorem rX9_goesTo_59 (Q : Po) (h : Hp) (ls : List Value) (st : List Value) : Ex mX9_goesTo Q 59 ls st h = Ex mX9_goesTo Q 60 ls (.int 4 :: st) h := Ex_nx rfl rfl
theorem rX9_goesTo_60 (Q : Po) (h : Hp) (ls : List Value) (st : List Value) (x y : Int32) : Ex mX9_goesTo Q 60 ls (.int y :: .int x :: st) h = if y ≤ x then Ex mX9_goesTo Q 101 ls st h else Ex mX9_goesTo Q 63 ls st h := Ex_br rfl rfl
theorem rX9_goesTo_63 (Q : Po) (h : Hp) (l1 l2 l3 l4 l5 : Value) (x : Nat) (st : List Value) : Ex mX9_goesTo Q 63 [.ref x, l1, l2, l3, l4, l5] st h = Ex mX9_goesTo Q 64 [.ref x, l1, l2, l3, l4, l5] (.ref x :: st) h := Ex_nx rfl rfl
theorem rX9_goesTo_64 (Q : Po) (h : Hp) (l0 l2 l3 l4 l5 : Value) (x : Int32) (st : List Value) : Ex mX9_goesTo Q 64 [l0, .int x, l2, l3, l4, l5] st h = Ex mX9_goesTo Q 65 [l0, .int x, l2, l3, l4, l5] (.int x :: st) h := Ex_nx rfl rfl
theorem rX9_goesTo_65 (Q : Po) (h : Hp) (ls : List Value) (a0 : Int32) (b : Nat) : Ex mX9_goesTo Q 65 ls (.int a0 :: .ref b :: []) h = (gK h b = 9 ∧ Ex mX9_likedBy (Cont mX9_goesTo Q 65 ls 68 []) 0 [.ref b, .int a0, .retAddr 0, .retAddr 0, .retAddr 0, .retAddr 0, .retAddr 0] [] h) := Ex_cg (n := 7) (as := [.ref b, .int a0]) rfl rfl
theorem rX9_goesTo_68 (Q : Po) (h : Hp) (l0 l1 l2 l3 l4 l5 : Value) (x : Int32) (st : List Value) : Ex mX9_goesTo Q 68 [l0, l1, l2, l3, l4, l5] (.int x :: st) h = Ex mX9_goesTo Q 70 [l0, l1, l2, l3, l4, .int x] st h := Ex_nx rfl rfl
theorem rX9_goesTo_70 (Q : Po) (h : Hp) (l0 l1 l2 l3 l4 : Value) (x : Int32) (st : List Value) : Ex mX9_goesTo Q 70 [l0, l1, l2, l3, l4, .int x] st h = Ex mX9_goesTo Q 72 [l0, l1, l2, l3, l4, .int x] (.int x :: st) h := Ex_nx rfl rfl
theorem rX9_goesTo_72 (Q : Po) (h : Hp) (ls : List Value) (st : List Value) (x : Int32) : Ex mX9_goesTo Q 72 ls (.int x :: st) h = if x < 0 then Ex mX9_goesTo Q 81 ls st h else Ex mX9_goesTo Q 75 ls st h := Ex_br rfl rfl
theorem rX9_goesTo_75 (Q : Po) (h : Hp) (l0 l1 l2 l3 l4 : Value) (x : Int32) (st : List Value) : Ex mX9_goesTo Q 75 [l0, l1, l2, l3, l4, .int x] st h = Ex mX9_goesTo Q 77 [l0, l1, l2, l3, l4, .int x] (.int x :: st) h := Ex_nx rfl rfl
theorem rX9_goesTo_77 (Q : Po) (h : Hp) (l0 l1 l3 l4 l5 : Value) (x : Int32) (st : List Value) : Ex mX9_goesTo Q 77 [l0, l1, .int x, l3, l4, l5] st h = Ex mX9_goesTo Q 78 [l0, l1, .int x, l3, l4, l5] (.int x :: st) h := Ex_nx rfl rfl
theorem rX9_goesTo_78 (Q : Po) (h : Hp) (ls : List Value) (st : List Value) (x y : Int32) : Ex mX9_goesTo Q 78 ls (.int y :: .int x :: st) h = if ¬ x = y then Ex mX9_goesTo Q 85 ls st h else Ex mX9_goesTo Q 81 ls st h := Ex_br rfl rfl
theorem rX9_goesTo_81 (Q : Po) (h : Hp) (l0 l1 l3 l4 l5 : Value) (x : Int32) (st : List Value) : Ex mX9_goesTo Q 81 [l0, l1, .int x, l3, l4, l5] st h = Ex mX9_goesTo Q 82 [l0, l1, .int x, l3, l4, l5] (.int x :: st) h := Ex_nx rfl rfl
theorem rX9_goesTo_82 (Q : Po) (h : Hp) (ls : List Value) (st : List Value) : Ex mX9_goesTo Q 82 ls st h = Ex mX9_goesTo Q 100 ls st h := Ex_nx rfl rfl
theorem rX9_goesTo_85 (Q : Po) (h : Hp) (l0 l1 l2 l3 l4 : Value) (x : Int32) (st : List Value) : Ex mX9_goesTo Q 85 [l0, l1, l2, l3, l4, .int x] st h = Ex mX9_goesTo Q 87 [l0, l1, l2, l3, l4, .int x] (.int x :: st) h := Ex_nx rfl rfl
theorem rX9_goesTo_87 (Q : Po) (h : Hp) (l0 l1 l3 l4 l5 : Value) (x : Int32) (st : List Value) : Ex mX9_goesTo Q 87 [l0, l1, .int x, l3, l4, l5] st h = Ex mX9_goesTo Q 88 [l0, l1, .int x, l3, l4, l5] (.int x :: st) h := Ex_nx rfl rfl
theorem rX9_goesTo_88 (Q : Po) (h : Hp) (ls : List Value) (st : List Value) (x y : Int32) : Ex mX9_goesTo Q 88 ls (.int y :: .int x :: st) h = if x ≤ y then Ex mX9_goesTo Q 97 ls st h else Ex mX9_goesTo Q 91 ls st h := Ex_br rfl rfl
theorem rX9_goesTo_91 (Q : Po) (h : Hp) (l0 l1 l3 l4 l5 : Value) (x : Int32) (st : List Value) : Ex mX9_goesTo Q 91 [l0, l1, .int x, l3, l4, l5] st h = Ex mX9_goesTo Q 92 [l0, l1, .int x, l3, l4, l5] (.int x :: st) h := Ex_nx rfl rfl
theorem rX9_goesTo_92 (Q : Po) (h : Hp) (ls : List Value) (st : List Value) : Ex mX9_goesTo Q 92 ls st h = Ex mX9_goesTo Q 93 ls (.int 1 :: st) h := Ex_nx rfl rfl
theorem rX9_goesTo_93 (Q : Po) (h : Hp) (ls : List Value) (st : List Value) (x y : Int32) : Ex mX9_goesTo Q 93 ls (.int y :: .int x :: st) h = Ex mX9_goesTo Q 94 ls (.int (x + y) :: st) h := Ex_nx rfl rfl
theorem rX9_goesTo_94 (Q : Po) (h : Hp) (ls : List Value) (st : List Value) : Ex mX9_goesTo Q 94 ls st h = Ex mX9_goesTo Q 100 ls st h := Ex_nx rfl rfl
theorem rX9_goesTo_97 (Q : Po) (h : Hp) (l0 l1 l3 l4 l5 : Value) (x : Int32) (st : List Value) : Ex mX9_goesTo Q 97 [l0, l1, .int x, l3, l4, l5] st h = Ex mX9_goesTo Q 98 [l0, l1, .int x, l3, l4, l5] (.int x :: st) h := Ex_nx rfl rfl
theorem rX9_goesTo_98 (Q : Po) (h : Hp) (ls : List Value) (st : List Value) : Ex mX9_goesTo Q 98 ls st h = Ex mX9_goesTo Q 99 ls (.int 1 :: st) h := Ex_nx rfl rfl
theorem rX9_goesTo_99 (Q : Po) (h : Hp) (ls : List Value) (st : List Value) (x y : Int32) : Ex mX9_goesTo Q 99 ls (.int y :: .int x :: st) h = Ex mX9_goesTo Q 100 ls (.int (x - y) :: st) h := Ex_nx rfl rfl
theorem rX9_goesTo_100 (Q : Po) (h : Hp) (ls : List Value) (x : Int32) : Ex mX9_goesTo Q 100 ls [.int x] h = Q (.inl (some (.int x))) h := Ex_rt rfl rfl
theorem rX9_goesTo_101 (Q : Po) (h : Hp) (l0 l1 l2 l3 l5 : Value) (x : Int32) (st : List Value) : Ex mX9_goesTo Q 101 [l0, l1, l2, l3, .int x, l5] st h = Ex mX9_goesTo Q 103 [l0, l1, l2, l3, .int x, l5] (.int x :: st) h := Ex_nx rfl rfl
theorem rX9_goesTo_103 (Q : Po) (h : Hp) (ls : List Value) (st : List Value) : Ex mX9_goesTo Q 103 ls st h = Ex mX9_goesTo Q 104 ls (.int 4 :: st) h := Ex_nx rfl rfl
theorem rX9_goesTo_104 (Q : Po) (h : Hp) (ls : List Value) (st : List Value) (x y : Int32) : Ex mX9_goesTo Q 104 ls (.int y :: .int x :: st) h = if x = y then Ex mX9_goesTo Q 127 ls st h else Ex mX9_goesTo Q 107 ls st h := Ex_br rfl rfl
theorem rX9_goesTo_107 (Q : Po) (h : Hp) (l1 l2 l3 l4 l5 : Value) (x : Nat) (st : List Value) : Ex mX9_goesTo Q 107 [.ref x, l1, l2, l3, l4, l5] st h = Ex mX9_goesTo Q 108 [.ref x, l1, l2, l3, l4, l5] (.ref x :: st) h := Ex_nx rfl rfl
theorem rX9_goesTo_108 (Q : Po) (h : Hp) (l0 l1 l2 l4 l5 : Value) (x : Int32) (st : List Value) : Ex mX9_goesTo Q 108 [l0, l1, l2, .int x, l4, l5] st h = Ex mX9_goesTo Q 109 [l0, l1, l2, .int x, l4, l5] (.int x :: st) h := Ex_nx rfl rfl
theorem rX9_goesTo_109 (Q : Po) (h : Hp) (ls : List Value) (a0 : Int32) (b : Nat) : Ex mX9_goesTo Q 109 ls (.int a0 :: .ref b :: []) h = (gK h b = 9 ∧ Ex mX9_isShut (Cont mX9_goesTo Q 109 ls 112 []) 0 [.ref b, .int a0] [] h) := Ex_cg (n := 2) (as := [.ref b, .int a0]) rfl rfl
theorem rX9_goesTo_112 (Q : Po) (h : Hp) (ls : List Value) (st : List Value) (x : Int32) : Ex mX9_goesTo Q 112 ls (.int x :: st) h = if ¬ x = 0 then Ex mX9_goesTo Q 127 ls st h else Ex mX9_goesTo Q 115 ls st h := Ex_br rfl rfl
theorem rX9_goesTo_115 (Q : Po) (h : Hp) (l1 l2 l3 l4 l5 : Value) (x : Nat) (st : List Value) : Ex mX9_goesTo Q 115 [.ref x, l1, l2, l3, l4, l5] st h = Ex mX9_goesTo Q 116 [.ref x, l1, l2, l3, l4, l5] (.ref x :: st) h := Ex_nx rfl rfl
theorem rX9_goesTo_116 (Q : Po) (h : Hp) (ls : List Value) (st : List Value) (a : Nat) : Ex mX9_goesTo Q 116 ls (.ref a :: st) h = (gK h a ∈ ([9] : List Nat) ∧ Ex mX9_goesTo Q 119 ls (gF h 81 a :: st) h) := Ex_gd rfl rfl
theorem rX9_goesTo_119 (Q : Po) (h : Hp) (ls : List Value) (st : List Value) : Ex mX9_goesTo Q 119 ls st h = Ex mX9_goesTo Q 121 ls (.int 8 :: st) h := Ex_nx rfl rfl
theorem rX9_goesTo_121 (Q : Po) (h : Hp) (l0 l1 l2 l4 l5 : Value) (x : Int32) (st : List Value) : Ex mX9_goesTo Q 121 [l0, l1, l2, .int x, l4, l5] st h = Ex mX9_goesTo Q 122 [l0, l1, l2, .int x, l4, l5] (.int x :: st) h := Ex_nx rfl rfl
theorem rX9_goesTo_122 (Q : Po) (h : Hp) (ls : List Value) (st : List Value) (x y : Int32) : Ex mX9_goesTo Q 122 ls (.int y :: .int x :: st) h = Ex mX9_goesTo Q 123 ls (.int (x + y) :: st) h := Ex_nx rfl rfl
theorem rX9_goesTo_123 (Q : Po) (h : Hp) (ls : List Value) (st : List Value) (a : Nat) (i : Int32) : Ex mX9_goesTo Q 123 ls (.int i :: .ref a :: st) h = ((gK h a = 51 ∧ ¬ (i < 0 ∨ gL h a ≤ i.toNatClampNeg)) ∧ Ex mX9_goesTo Q 124 ls (.int (gI h a i.toNatClampNeg) :: st) h) := Ex_gd rfl rfl
theorem rX9_goesTo_124 (Q : Po) (h : Hp) (ls : List Value) (st : List Value) (x : Int32) : Ex mX9_goesTo Q 124 ls (.int x :: st) h = if ¬ x = 0 then Ex mX9_goesTo Q 140 ls st h else Ex mX9_goesTo Q 127 ls st h := Ex_br rfl rfl
theorem rX9_goesTo_127 (Q : Po) (h : Hp) (l0 l1 l3 l4 l5 : Value) (x : Int32) (st : List Value) : Ex mX9_goesTo Q 127 [l0, l1, .int x, l3, l4, l5] st h = Ex mX9_goesTo Q 128 [l0, l1, .int x, l3, l4, l5] (.int x :: st) h := Ex_nx rfl rfl
theorem rX9_goesTo_128 (Q : Po) (h : Hp) (ls : List Value) (st : List Value) : Ex mX9_goesTo Q 128 ls st h = Ex mX9_goesTo Q 129 ls (.int 1 :: st) h := Ex_nx rfl rfl
theorem rX9_goesTo_129 (Q : Po) (h : Hp) (ls : List Value) (st : List Value) (x y : Int32) : Ex mX9_goesTo Q 129 ls (.int y :: .int x :: st) h = Ex mX9_goesTo Q 130 ls (.int (x + y) :: st) h := Ex_nx rfl rfl
theorem rX9_goesTo_130 (Q : Po) (h : Hp) (l1 l2 l3 l4 l5 : Value) (x : Nat) (st : List Value) : Ex mX9_goesTo Q 130 [.ref x, l1, l2, l3, l4, l5] st h = Ex mX9_goesTo Q 131 [.ref x, l1, l2, l3, l4, l5] (.ref x :: st) h := Ex_nx rfl rfl
theorem rX9_goesTo_131 (Q : Po) (h : Hp) (ls : List Value) (st : List Value) (a : Nat) : Ex mX9_goesTo Q 131 ls (.ref a :: st) h = (gK h a ∈ ([9] : List Nat) ∧ Ex mX9_goesTo Q 134 ls (gF h 81 a :: st) h) := Ex_gd rfl rfl
theorem rX9_goesTo_134 (Q : Po) (h : Hp) (ls : List Value) (st : List Value) : Ex mX9_goesTo Q 134 ls st h = Ex mX9_goesTo Q 135 ls (.int 0 :: st) h := Ex_nx rfl rfl
theorem rX9_goesTo_135 (Q : Po) (h : Hp) (ls : List Value) (st : List Value) (a : Nat) (i : Int32) : Ex mX9_goesTo Q 135 ls (.int i :: .ref a :: st) h = ((gK h a = 51 ∧ ¬ (i < 0 ∨ gL h a ≤ i.toNatClampNeg)) ∧ Ex mX9_goesTo Q 136 ls (.int (gI h a i.toNatClampNeg) :: st) h) := Ex_gd rfl rfl
theorem rX9_goesTo_136 (Q : Po) (h : Hp) (ls : List Value) (st : List Value) (x y : Int32) : Ex mX9_goesTo Q 136 ls (.int y :: .int x :: st) h = (¬ y = 0 ∧ Ex mX9_goesTo Q 137 ls (.int (x - x / y * y) :: st) h) := Ex_gd rfl rfl
theorem rX9_goesTo_137 (Q : Po) (h : Hp) (ls : List Value) (st : List Value) : Ex mX9_goesTo Q 137 ls st h = Ex mX9_goesTo Q 141 ls st h := Ex_nx rfl rfl
theorem rX9_goesTo_140 (Q : Po) (h : Hp) (l0 l1 l3 l4 l5 : Value) (x : Int32) (st : List Value) : Ex mX9_goesTo Q 140 [l0, l1, .int x, l3, l4, l5] st h = Ex mX9_goesTo Q 141 [l0, l1, .int x, l3, l4, l5] (.int x :: st) h := Ex_nx rfl rfl
theorem rX9_goesTo_141 (Q : Po) (h : Hp) (ls : List Value) (x : Int32) : Ex mX9_goesTo Q 141 ls [.int x] h = Q (.inl (some (.int x))) h := Ex_rt rfl rfl
theorem rX9_goesTo_t (Q : Po) (h : Hp) (pc n a : Nat) (ls st : List Value) : Cont mX9_goesTo Q pc ls n st (.inr a) h = Q (.inr a) h := rfl
/-! FishReadersModel.eats(I)V -/
def mX9_eats : Cd := ([(0, .inl (i_aload 0 1)),
  (1, .inl (i_aload 0 2)),
  (2, .inl (i_getf 81 [9] 5)),
  (5, .inl (i_push (.int 31) 7)),
  (7, .inl (i_iload 1 8)),
  (8, .inl (i_bin (fun x y => x + y) 9)),
  (9, .inl (i_iald 51 10)),
  (10, .inr (c_V 1 13 3 9 (Mt mX9_bookAt 3))),
  (13, .inl (i_istore 2 14)),
  (14, .inl (i_aload 0 15)),
  (15, .inl (i_iload 2 16)),
  (16, .inr (c_V 1 19 2 9 (Mt mX9_isShut 2))),
  (19, .inl (i_if (fun x => x = 0) 26 22)),
  (22, .inl (i_push (.int 0) 23)),
  (23, .inl (i_goto 62)),
  (26, .inl (i_aload 0 27)),
  (27, .inl (i_getf 81 [9] 30)),
  (30, .inl (i_push (.int 8) 32)),
  (32, .inl (i_iload 2 33)),
  (33, .inl (i_bin (fun x y => x + y) 34)),
  (34, .inl (i_iald 51 35)),
  (35, .inl (i_aload 0 36)),
  (36, .inl (i_getf 81 [9] 39)),
  (39, .inl (i_push (.int 2) 40)),
  (40, .inl (i_iald 51 41)),
  (41, .inl (i_icmp (fun x y => y ≤ x) 56 44)),
  (44, .inl (i_aload 0 45)),
  (45, .inl (i_getf 81 [9] 48)),
  (48, .inl (i_push (.int 8) 50)),
  (50, .inl (i_iload 2 51)),
  (51, .inl (i_bin (fun x y => x + y) 52)),
  (52, .inl (i_iald 51 53)),
  (53, .inl (i_goto 62)),
  (56, .inl (i_aload 0 57)),
  (57, .inl (i_getf 81 [9] 60)),
  (60, .inl (i_push (.int 2) 61)),
  (61, .inl (i_iald 51 62)),
  (62, .inl (i_istore 3 63)),
  (63, .inl (i_aload 0 64)),
  (64, .inl (i_getf 81 [9] 67)),
  (67, .inl (i_push (.int 8) 69)),
  (69, .inl (i_iload 2 70)),
  (70, .inl (i_bin (fun x y => x + y) 71)),
  (71, .inl (i_dup2 72)),
  (72, .inl (i_iald 51 73)),
  (73, .inl (i_iload 3 74)),
  (74, .inl (i_bin (fun x y => x - y) 75)),
  (75, .inl (i_iast 51 (fun x => x) 76)),
  (76, .inl (i_aload 0 77)),
  (77, .inl (i_getf 81 [9] 80)),
  (80, .inl (i_push (.int 36) 82)),
  (82, .inl (i_iload 1 83)),
  (83, .inl (i_bin (fun x y => x + y) 84)),
  (84, .inl (i_aload 0 85)),
  (85, .inl (i_getf 81 [9] 88)),
  (88, .inl (i_push (.int 36) 90)),
  (90, .inl (i_iload 1 91)),
  (91, .inl (i_bin (fun x y => x + y) 92)),
  (92, .inl (i_iald 51 93)),
  (93, .inl (i_iload 3 94)),
  (94, .inl (i_bin (fun x y => x + y) 95)),
  (95, .inl (i_push (.int 999) 98)),
  (98, .inl (i_icmp (fun x y => x ≤ y) 107 101)),
  (101, .inl (i_push (.int 999) 104)),
  (104, .inl (i_goto 118)),
  (107, .inl (i_aload 0 108)),
  (108, .inl (i_getf 81 [9] 111)),
  (111, .inl (i_push (.int 36) 113)),
  (113, .inl (i_iload 1 114)),
  (114, .inl (i_bin (fun x y => x + y) 115)),
  (115, .inl (i_iald 51 116)),
  (116, .inl (i_iload 3 117)),
  (117, .inl (i_bin (fun x y => x + y) 118)),
  (118, .inl (i_iast 51 (fun x => x) 119)),
  (119, .inl (i_aload 0 120)),
  (120, .inl (i_getf 103 [9] 123)),
  (123, .inl (i_iload 1 124)),
  (124, .inl (i_dup2 125)),
  (125, .inl (i_iald 51 126)),
  (126, .inl (i_iload 3 127)),
  (127, .inl (i_if (fun x => x ≤ 0) 136 130)),
  (130, .inl (i_push (.int 1) 131)),
  (131, .inl (i_iload 2 132)),
  (132, .inl (i_bin (fun x y => x <<< (y &&& 31)) 133)),
  (133, .inl (i_goto 137)),
  (136, .inl (i_push (.int 0) 137)),
  (137, .inl (i_bin (fun x y => x ||| y) 138)),
  (138, .inl (i_iast 51 (fun x => x) 139)),
  (139, .inl i_vret)], noH)
theorem rX9_eats_0 (Q : Po) (h : Hp) (l1 l2 l3 : Value) (x : Nat) (st : List Value) : Ex mX9_eats Q 0 [.ref x, l1, l2, l3] st h = Ex mX9_eats Q 1 [.ref x, l1, l2, l3] (.ref x :: st) h := Ex_nx rfl rfl
theorem rX9_eats_1 (Q : Po) (h : Hp) (l1 l2 l3 : Value) (x : Nat) (st : List Value) : Ex mX9_eats Q 1 [.ref x, l1, l2, l3] st h = Ex mX9_eats Q 2 [.ref x, l1, l2, l3] (.ref x :: st) h := Ex_nx rfl rfl
theorem rX9_eats_2 (Q : Po) (h : Hp) (ls : List Value) (st : List Value) (a : Nat) : Ex mX9_eats Q 2 ls (.ref a :: st) h = (gK h a ∈ ([9] : List Nat) ∧ Ex mX9_eats Q 5 ls (gF h 81 a :: st) h) := Ex_gd rfl rfl
theorem rX9_eats_5 (Q : Po) (h : Hp) (ls : List Value) (st : List Value) : Ex mX9_eats Q 5 ls st h = Ex mX9_eats Q 7 ls (.int 31 :: st) h := Ex_nx rfl rfl
theorem rX9_eats_7 (Q : Po) (h : Hp) (l0 l2 l3 : Value) (x : Int32) (st : List Value) : Ex mX9_eats Q 7 [l0, .int x, l2, l3] st h = Ex mX9_eats Q 8 [l0, .int x, l2, l3] (.int x :: st) h := Ex_nx rfl rfl
theorem rX9_eats_8 (Q : Po) (h : Hp) (ls : List Value) (st : List Value) (x y : Int32) : Ex mX9_eats Q 8 ls (.int y :: .int x :: st) h = Ex mX9_eats Q 9 ls (.int (x + y) :: st) h := Ex_nx rfl rfl
theorem rX9_eats_9 (Q : Po) (h : Hp) (ls : List Value) (st : List Value) (a : Nat) (i : Int32) : Ex mX9_eats Q 9 ls (.int i :: .ref a :: st) h = ((gK h a = 51 ∧ ¬ (i < 0 ∨ gL h a ≤ i.toNatClampNeg)) ∧ Ex mX9_eats Q 10 ls (.int (gI h a i.toNatClampNeg) :: st) h) := Ex_gd rfl rfl
theorem rX9_eats_10 (Q : Po) (h : Hp) (ls : List Value) (a0 : Int32) (b : Nat) : Ex mX9_eats Q 10 ls (.int a0 :: .ref b :: []) h = (gK h b = 9 ∧ Ex mX9_bookAt (Cont mX9_eats Q 10 ls 13 []) 0 [.ref b, .int a0, .retAddr 0] [] h) := Ex_cg (n := 3) (as := [.ref b, .int a0]) rfl rfl
theorem rX9_eats_13 (Q : Po) (h : Hp) (l0 l1 l2 l3 : Value) (x : Int32) (st : List Value) : Ex mX9_eats Q 13 [l0, l1, l2, l3] (.int x :: st) h = Ex mX9_eats Q 14 [l0, l1, .int x, l3] st h := Ex_nx rfl rfl
theorem rX9_eats_14 (Q : Po) (h : Hp) (l1 l2 l3 : Value) (x : Nat) (st : List Value) : Ex mX9_eats Q 14 [.ref x, l1, l2, l3] st h = Ex mX9_eats Q 15 [.ref x, l1, l2, l3] (.ref x :: st) h := Ex_nx rfl rfl
theorem rX9_eats_15 (Q : Po) (h : Hp) (l0 l1 l3 : Value) (x : Int32) (st : List Value) : Ex mX9_eats Q 15 [l0, l1, .int x, l3] st h = Ex mX9_eats Q 16 [l0, l1, .int x, l3] (.int x :: st) h := Ex_nx rfl rfl
theorem rX9_eats_16 (Q : Po) (h : Hp) (ls : List Value) (a0 : Int32) (b : Nat) : Ex mX9_eats Q 16 ls (.int a0 :: .ref b :: []) h = (gK h b = 9 ∧ Ex mX9_isShut (Cont mX9_eats Q 16 ls 19 []) 0 [.ref b, .int a0] [] h) := Ex_cg (n := 2) (as := [.ref b, .int a0]) rfl rfl
theorem rX9_eats_19 (Q : Po) (h : Hp) (ls : List Value) (st : List Value) (x : Int32) : Ex mX9_eats Q 19 ls (.int x :: st) h = if x = 0 then Ex mX9_eats Q 26 ls st h else Ex mX9_eats Q 22 ls st h := Ex_br rfl rfl
theorem rX9_eats_22 (Q : Po) (h : Hp) (ls : List Value) (st : List Value) : Ex mX9_eats Q 22 ls st h = Ex mX9_eats Q 23 ls (.int 0 :: st) h := Ex_nx rfl rfl
theorem rX9_eats_23 (Q : Po) (h : Hp) (ls : List Value) (st : List Value) : Ex mX9_eats Q 23 ls st h = Ex mX9_eats Q 62 ls st h := Ex_nx rfl rfl
theorem rX9_eats_26 (Q : Po) (h : Hp) (l1 l2 l3 : Value) (x : Nat) (st : List Value) : Ex mX9_eats Q 26 [.ref x, l1, l2, l3] st h = Ex mX9_eats Q 27 [.ref x, l1, l2, l3] (.ref x :: st) h := Ex_nx rfl rfl
theorem rX9_eats_27 (Q : Po) (h : Hp) (ls : List Value) (st : List Value) (a : Nat) : Ex mX9_eats Q 27 ls (.ref a :: st) h = (gK h a ∈ ([9] : List Nat) ∧ Ex mX9_eats Q 30 ls (gF h 81 a :: st) h) := Ex_gd rfl rfl
theorem rX9_eats_30 (Q : Po) (h : Hp) (ls : List Value) (st : List Value) : Ex mX9_eats Q 30 ls st h = Ex mX9_eats Q 32 ls (.int 8 :: st) h := Ex_nx rfl rfl
theorem rX9_eats_32 (Q : Po) (h : Hp) (l0 l1 l3 : Value) (x : Int32) (st : List Value) : Ex mX9_eats Q 32 [l0, l1, .int x, l3] st h = Ex mX9_eats Q 33 [l0, l1, .int x, l3] (.int x :: st) h := Ex_nx rfl rfl
theorem rX9_eats_33 (Q : Po) (h : Hp) (ls : List Value) (st : List Value) (x y : Int32) : Ex mX9_eats Q 33 ls (.int y :: .int x :: st) h = Ex mX9_eats Q 34 ls (.int (x + y) :: st) h := Ex_nx rfl rfl
theorem rX9_eats_34 (Q : Po) (h : Hp) (ls : List Value) (st : List Value) (a : Nat) (i : Int32) : Ex mX9_eats Q 34 ls (.int i :: .ref a :: st) h = ((gK h a = 51 ∧ ¬ (i < 0 ∨ gL h a ≤ i.toNatClampNeg)) ∧ Ex mX9_eats Q 35 ls (.int (gI h a i.toNatClampNeg) :: st) h) := Ex_gd rfl rfl
theorem rX9_eats_35 (Q : Po) (h : Hp) (l1 l2 l3 : Value) (x : Nat) (st : List Value) : Ex mX9_eats Q 35 [.ref x, l1, l2, l3] st h = Ex mX9_eats Q 36 [.ref x, l1, l2, l3] (.ref x :: st) h := Ex_nx rfl rfl
theorem rX9_eats_36 (Q : Po) (h : Hp) (ls : List Value) (st : List Value) (a : Nat) : Ex mX9_eats Q 36 ls (.ref a :: st) h = (gK h a ∈ ([9] : List Nat) ∧ Ex mX9_eats Q 39 ls (gF h 81 a :: st) h) := Ex_gd rfl rfl
theorem rX9_eats_39 (Q : Po) (h : Hp) (ls : List Value) (st : List Value) : Ex mX9_eats Q 39 ls st h = Ex mX9_eats Q 40 ls (.int 2 :: st) h := Ex_nx rfl rfl
theorem rX9_eats_40 (Q : Po) (h : Hp) (ls : List Value) (st : List Value) (a : Nat) (i : Int32) : Ex mX9_eats Q 40 ls (.int i :: .ref a :: st) h = ((gK h a = 51 ∧ ¬ (i < 0 ∨ gL h a ≤ i.toNatClampNeg)) ∧ Ex mX9_eats Q 41 ls (.int (gI h a i.toNatClampNeg) :: st) h) := Ex_gd rfl rfl
theorem rX9_eats_41 (Q : Po) (h : Hp) (ls : List Value) (st : List Value) (x y : Int32) : Ex mX9_eats Q 41 ls (.int y :: .int x :: st) h = if y ≤ x then Ex mX9_eats Q 56 ls st h else Ex mX9_eats Q 44 ls st h := Ex_br rfl rfl
theorem rX9_eats_44 (Q : Po) (h : Hp) (l1 l2 l3 : Value) (x : Nat) (st : List Value) : Ex mX9_eats Q 44 [.ref x, l1, l2, l3] st h = Ex mX9_eats Q 45 [.ref x, l1, l2, l3] (.ref x :: st) h := Ex_nx rfl rfl
theorem rX9_eats_45 (Q : Po) (h : Hp) (ls : List Value) (st : List Value) (a : Nat) : Ex mX9_eats Q 45 ls (.ref a :: st) h = (gK h a ∈ ([9] : List Nat) ∧ Ex mX9_eats Q 48 ls (gF h 81 a :: st) h) := Ex_gd rfl rfl
theorem rX9_eats_48 (Q : Po) (h : Hp) (ls : List Value) (st : List Value) : Ex mX9_eats Q 48 ls st h = Ex mX9_eats Q 50 ls (.int 8 :: st) h := Ex_nx rfl rfl
theorem rX9_eats_50 (Q : Po) (h : Hp) (l0 l1 l3 : Value) (x : Int32) (st : List Value) : Ex mX9_eats Q 50 [l0, l1, .int x, l3] st h = Ex mX9_eats Q 51 [l0, l1, .int x, l3] (.int x :: st) h := Ex_nx rfl rfl
theorem rX9_eats_51 (Q : Po) (h : Hp) (ls : List Value) (st : List Value) (x y : Int32) : Ex mX9_eats Q 51 ls (.int y :: .int x :: st) h = Ex mX9_eats Q 52 ls (.int (x + y) :: st) h := Ex_nx rfl rfl
theorem rX9_eats_52 (Q : Po) (h : Hp) (ls : List Value) (st : List Value) (a : Nat) (i : Int32) : Ex mX9_eats Q 52 ls (.int i :: .ref a :: st) h = ((gK h a = 51 ∧ ¬ (i < 0 ∨ gL h a ≤ i.toNatClampNeg)) ∧ Ex mX9_eats Q 53 ls (.int (gI h a i.toNatClampNeg) :: st) h) := Ex_gd rfl rfl
theorem rX9_eats_53 (Q : Po) (h : Hp) (ls : List Value) (st : List Value) : Ex mX9_eats Q 53 ls st h = Ex mX9_eats Q 62 ls st h := Ex_nx rfl rfl
theorem rX9_eats_56 (Q : Po) (h : Hp) (l1 l2 l3 : Value) (x : Nat) (st : List Value) : Ex mX9_eats Q 56 [.ref x, l1, l2, l3] st h = Ex mX9_eats Q 57 [.ref x, l1, l2, l3] (.ref x :: st) h := Ex_nx rfl rfl
theorem rX9_eats_57 (Q : Po) (h : Hp) (ls : List Value) (st : List Value) (a : Nat) : Ex mX9_eats Q 57 ls (.ref a :: st) h = (gK h a ∈ ([9] : List Nat) ∧ Ex mX9_eats Q 60 ls (gF h 81 a :: st) h) := Ex_gd rfl rfl
theorem rX9_eats_60 (Q : Po) (h : Hp) (ls : List Value) (st : List Value) : Ex mX9_eats Q 60 ls st h = Ex mX9_eats Q 61 ls (.int 2 :: st) h := Ex_nx rfl rfl
theorem rX9_eats_61 (Q : Po) (h : Hp) (ls : List Value) (st : List Value) (a : Nat) (i : Int32) : Ex mX9_eats Q 61 ls (.int i :: .ref a :: st) h = ((gK h a = 51 ∧ ¬ (i < 0 ∨ gL h a ≤ i.toNatClampNeg)) ∧ Ex mX9_eats Q 62 ls (.int (gI h a i.toNatClampNeg) :: st) h) := Ex_gd rfl rfl
theorem rX9_eats_62 (Q : Po) (h : Hp) (l0 l1 l2 l3 : Value) (x : Int32) (st : List Value) : Ex mX9_eats Q 62 [l0, l1, l2, l3] (.int x :: st) h = Ex mX9_eats Q 63 [l0, l1, l2, .int x] st h := Ex_nx rfl rfl
theorem rX9_eats_63 (Q : Po) (h : Hp) (l1 l2 l3 : Value) (x : Nat) (st : List Value) : Ex mX9_eats Q 63 [.ref x, l1, l2, l3] st h = Ex mX9_eats Q 64 [.ref x, l1, l2, l3] (.ref x :: st) h := Ex_nx rfl rfl
theorem rX9_eats_64 (Q : Po) (h : Hp) (ls : List Value) (st : List Value) (a : Nat) : Ex mX9_eats Q 64 ls (.ref a :: st) h = (gK h a ∈ ([9] : List Nat) ∧ Ex mX9_eats Q 67 ls (gF h 81 a :: st) h) := Ex_gd rfl rfl
theorem rX9_eats_67 (Q : Po) (h : Hp) (ls : List Value) (st : List Value) : Ex mX9_eats Q 67 ls st h = Ex mX9_eats Q 69 ls (.int 8 :: st) h := Ex_nx rfl rfl
theorem rX9_eats_69 (Q : Po) (h : Hp) (l0 l1 l3 : Value) (x : Int32) (st : List Value) : Ex mX9_eats Q 69 [l0, l1, .int x, l3] st h = Ex mX9_eats Q 70 [l0, l1, .int x, l3] (.int x :: st) h := Ex_nx rfl rfl
theorem rX9_eats_70 (Q : Po) (h : Hp) (ls : List Value) (st : List Value) (x y : Int32) : Ex mX9_eats Q 70 ls (.int y :: .int x :: st) h = Ex mX9_eats Q 71 ls (.int (x + y) :: st) h := Ex_nx rfl rfl
theorem rX9_eats_71 (Q : Po) (h : Hp) (ls : List Value) (st : List Value) (x : Int32) (y : Nat) : Ex mX9_eats Q 71 ls (.int x :: .ref y :: st) h = Ex mX9_eats Q 72 ls (.int x :: .ref y :: .int x :: .ref y :: st) h := Ex_nx rfl rfl
theorem rX9_eats_72 (Q : Po) (h : Hp) (ls : List Value) (st : List Value) (a : Nat) (i : Int32) : Ex mX9_eats Q 72 ls (.int i :: .ref a :: st) h = ((gK h a = 51 ∧ ¬ (i < 0 ∨ gL h a ≤ i.toNatClampNeg)) ∧ Ex mX9_eats Q 73 ls (.int (gI h a i.toNatClampNeg) :: st) h) := Ex_gd rfl rfl
theorem rX9_eats_73 (Q : Po) (h : Hp) (l0 l1 l2 : Value) (x : Int32) (st : List Value) : Ex mX9_eats Q 73 [l0, l1, l2, .int x] st h = Ex mX9_eats Q 74 [l0, l1, l2, .int x] (.int x :: st) h := Ex_nx rfl rfl
theorem rX9_eats_74 (Q : Po) (h : Hp) (ls : List Value) (st : List Value) (x y : Int32) : Ex mX9_eats Q 74 ls (.int y :: .int x :: st) h = Ex mX9_eats Q 75 ls (.int (x - y) :: st) h := Ex_nx rfl rfl
theorem rX9_eats_75 (Q : Po) (h : Hp) (ls : List Value) (st : List Value) (a : Nat) (i x : Int32) : Ex mX9_eats Q 75 ls (.int x :: .int i :: .ref a :: st) h = ((gK h a = 51 ∧ ¬ (i < 0 ∨ gL h a ≤ i.toNatClampNeg)) ∧ Ex mX9_eats Q 76 ls st (pI h a i.toNatClampNeg (x))) := Ex_gd rfl rfl
theorem rX9_eats_76 (Q : Po) (h : Hp) (l1 l2 l3 : Value) (x : Nat) (st : List Value) : Ex mX9_eats Q 76 [.ref x, l1, l2, l3] st h = Ex mX9_eats Q 77 [.ref x, l1, l2, l3] (.ref x :: st) h := Ex_nx rfl rfl
theorem rX9_eats_77 (Q : Po) (h : Hp) (ls : List Value) (st : List Value) (a : Nat) : Ex mX9_eats Q 77 ls (.ref a :: st) h = (gK h a ∈ ([9] : List Nat) ∧ Ex mX9_eats Q 80 ls (gF h 81 a :: st) h) := Ex_gd rfl rfl
theorem rX9_eats_80 (Q : Po) (h : Hp) (ls : List Value) (st : List Value) : Ex mX9_eats Q 80 ls st h = Ex mX9_eats Q 82 ls (.int 36 :: st) h := Ex_nx rfl rfl
theorem rX9_eats_82 (Q : Po) (h : Hp) (l0 l2 l3 : Value) (x : Int32) (st : List Value) : Ex mX9_eats Q 82 [l0, .int x, l2, l3] st h = Ex mX9_eats Q 83 [l0, .int x, l2, l3] (.int x :: st) h := Ex_nx rfl rfl
theorem rX9_eats_83 (Q : Po) (h : Hp) (ls : List Value) (st : List Value) (x y : Int32) : Ex mX9_eats Q 83 ls (.int y :: .int x :: st) h = Ex mX9_eats Q 84 ls (.int (x + y) :: st) h := Ex_nx rfl rfl
theorem rX9_eats_84 (Q : Po) (h : Hp) (l1 l2 l3 : Value) (x : Nat) (st : List Value) : Ex mX9_eats Q 84 [.ref x, l1, l2, l3] st h = Ex mX9_eats Q 85 [.ref x, l1, l2, l3] (.ref x :: st) h := Ex_nx rfl rfl
theorem rX9_eats_85 (Q : Po) (h : Hp) (ls : List Value) (st : List Value) (a : Nat) : Ex mX9_eats Q 85 ls (.ref a :: st) h = (gK h a ∈ ([9] : List Nat) ∧ Ex mX9_eats Q 88 ls (gF h 81 a :: st) h) := Ex_gd rfl rfl
theorem rX9_eats_88 (Q : Po) (h : Hp) (ls : List Value) (st : List Value) : Ex mX9_eats Q 88 ls st h = Ex mX9_eats Q 90 ls (.int 36 :: st) h := Ex_nx rfl rfl
theorem rX9_eats_90 (Q : Po) (h : Hp) (l0 l2 l3 : Value) (x : Int32) (st : List Value) : Ex mX9_eats Q 90 [l0, .int x, l2, l3] st h = Ex mX9_eats Q 91 [l0, .int x, l2, l3] (.int x :: st) h := Ex_nx rfl rfl
theorem rX9_eats_91 (Q : Po) (h : Hp) (ls : List Value) (st : List Value) (x y : Int32) : Ex mX9_eats Q 91 ls (.int y :: .int x :: st) h = Ex mX9_eats Q 92 ls (.int (x + y) :: st) h := Ex_nx rfl rfl
theorem rX9_eats_92 (Q : Po) (h : Hp) (ls : List Value) (st : List Value) (a : Nat) (i : Int32) : Ex mX9_eats Q 92 ls (.int i :: .ref a :: st) h = ((gK h a = 51 ∧ ¬ (i < 0 ∨ gL h a ≤ i.toNatClampNeg)) ∧ Ex mX9_eats Q 93 ls (.int (gI h a i.toNatClampNeg) :: st) h) := Ex_gd rfl rfl
theorem rX9_eats_93 (Q : Po) (h : Hp) (l0 l1 l2 : Value) (x : Int32) (st : List Value) : Ex mX9_eats Q 93 [l0, l1, l2, .int x] st h = Ex mX9_eats Q 94 [l0, l1, l2, .int x] (.int x :: st) h := Ex_nx rfl rfl
theorem rX9_eats_94 (Q : Po) (h : Hp) (ls : List Value) (st : List Value) (x y : Int32) : Ex mX9_eats Q 94 ls (.int y :: .int x :: st) h = Ex mX9_eats Q 95 ls (.int (x + y) :: st) h := Ex_nx rfl rfl
theorem rX9_eats_95 (Q : Po) (h : Hp) (ls : List Value) (st : List Value) : Ex mX9_eats Q 95 ls st h = Ex mX9_eats Q 98 ls (.int 999 :: st) h := Ex_nx rfl rfl
theorem rX9_eats_98 (Q : Po) (h : Hp) (ls : List Value) (st : List Value) (x y : Int32) : Ex mX9_eats Q 98 ls (.int y :: .int x :: st) h = if x ≤ y then Ex mX9_eats Q 107 ls st h else Ex mX9_eats Q 101 ls st h := Ex_br rfl rfl
theorem rX9_eats_101 (Q : Po) (h : Hp) (ls : List Value) (st : List Value) : Ex mX9_eats Q 101 ls st h = Ex mX9_eats Q 104 ls (.int 999 :: st) h := Ex_nx rfl rfl
theorem rX9_eats_104 (Q : Po) (h : Hp) (ls : List Value) (st : List Value) : Ex mX9_eats Q 104 ls st h = Ex mX9_eats Q 118 ls st h := Ex_nx rfl rfl
theorem rX9_eats_107 (Q : Po) (h : Hp) (l1 l2 l3 : Value) (x : Nat) (st : List Value) : Ex mX9_eats Q 107 [.ref x, l1, l2, l3] st h = Ex mX9_eats Q 108 [.ref x, l1, l2, l3] (.ref x :: st) h := Ex_nx rfl rfl
theorem rX9_eats_108 (Q : Po) (h : Hp) (ls : List Value) (st : List Value) (a : Nat) : Ex mX9_eats Q 108 ls (.ref a :: st) h = (gK h a ∈ ([9] : List Nat) ∧ Ex mX9_eats Q 111 ls (gF h 81 a :: st) h) := Ex_gd rfl rfl
theorem rX9_eats_111 (Q : Po) (h : Hp) (ls : List Value) (st : List Value) : Ex mX9_eats Q 111 ls st h = Ex mX9_eats Q 113 ls (.int 36 :: st) h := Ex_nx rfl rfl
theorem rX9_eats_113 (Q : Po) (h : Hp) (l0 l2 l3 : Value) (x : Int32) (st : List Value) : Ex mX9_eats Q 113 [l0, .int x, l2, l3] st h = Ex mX9_eats Q 114 [l0, .int x, l2, l3] (.int x :: st) h := Ex_nx rfl rfl
theorem rX9_eats_114 (Q : Po) (h : Hp) (ls : List Value) (st : List Value) (x y : Int32) : Ex mX9_eats Q 114 ls (.int y :: .int x :: st) h = Ex mX9_eats Q 115 ls (.int (x + y) :: st) h := Ex_nx rfl rfl
theorem rX9_eats_115 (Q : Po) (h : Hp) (ls : List Value) (st : List Value) (a : Nat) (i : Int32) : Ex mX9_eats Q 115 ls (.int i :: .ref a :: st) h = ((gK h a = 51 ∧ ¬ (i < 0 ∨ gL h a ≤ i.toNatClampNeg)) ∧ Ex mX9_eats Q 116 ls (.int (gI h a i.toNatClampNeg) :: st) h) := Ex_gd rfl rfl
theorem rX9_eats_116 (Q : Po) (h : Hp) (l0 l1 l2 : Value) (x : Int32) (st : List Value) : Ex mX9_eats Q 116 [l0, l1, l2, .int x] st h = Ex mX9_eats Q 117 [l0, l1, l2, .int x] (.int x :: st) h := Ex_nx rfl rfl
theorem rX9_eats_117 (Q : Po) (h : Hp) (ls : List Value) (st : List Value) (x y : Int32) : Ex mX9_eats Q 117 ls (.int y :: .int x :: st) h = Ex mX9_eats Q 118 ls (.int (x + y) :: st) h := Ex_nx rfl rfl
theorem rX9_eats_118 (Q : Po) (h : Hp) (ls : List Value) (st : List Value) (a : Nat) (i x : Int32) : Ex mX9_eats Q 118 ls (.int x :: .int i :: .ref a :: st) h = ((gK h a = 51 ∧ ¬ (i < 0 ∨ gL h a ≤ i.toNatClampNeg)) ∧ Ex mX9_eats Q 119 ls st (pI h a i.toNatClampNeg (x))) := Ex_gd rfl rfl
theorem rX9_eats_119 (Q : Po) (h : Hp) (l1 l2 l3 : Value) (x : Nat) (st : List Value) : Ex mX9_eats Q 119 [.ref x, l1, l2, l3] st h = Ex mX9_eats Q 120 [.ref x, l1, l2, l3] (.ref x :: st) h := Ex_nx rfl rfl
theorem rX9_eats_120 (Q : Po) (h : Hp) (ls : List Value) (st : List Value) (a : Nat) : Ex mX9_eats Q 120 ls (.ref a :: st) h = (gK h a ∈ ([9] : List Nat) ∧ Ex mX9_eats Q 123 ls (gF h 103 a :: st) h) := Ex_gd rfl rfl
theorem rX9_eats_123 (Q : Po) (h : Hp) (l0 l2 l3 : Value) (x : Int32) (st : List Value) : Ex mX9_eats Q 123 [l0, .int x, l2, l3] st h = Ex mX9_eats Q 124 [l0, .int x, l2, l3] (.int x :: st) h := Ex_nx rfl rfl
theorem rX9_eats_124 (Q : Po) (h : Hp) (ls : List Value) (st : List Value) (x : Int32) (y : Nat) : Ex mX9_eats Q 124 ls (.int x :: .ref y :: st) h = Ex mX9_eats Q 125 ls (.int x :: .ref y :: .int x :: .ref y :: st) h := Ex_nx rfl rfl
theorem rX9_eats_125 (Q : Po) (h : Hp) (ls : List Value) (st : List Value) (a : Nat) (i : Int32) : Ex mX9_eats Q 125 ls (.int i :: .ref a :: st) h = ((gK h a = 51 ∧ ¬ (i < 0 ∨ gL h a ≤ i.toNatClampNeg)) ∧ Ex mX9_eats Q 126 ls (.int (gI h a i.toNatClampNeg) :: st) h) := Ex_gd rfl rfl
theorem rX9_eats_126 (Q : Po) (h : Hp) (l0 l1 l2 : Value) (x : Int32) (st : List Value) : Ex mX9_eats Q 126 [l0, l1, l2, .int x] st h = Ex mX9_eats Q 127 [l0, l1, l2, .int x] (.int x :: st) h := Ex_nx rfl rfl
theorem rX9_eats_127 (Q : Po) (h : Hp) (ls : List Value) (st : List Value) (x : Int32) : Ex mX9_eats Q 127 ls (.int x :: st) h = if x ≤ 0 then Ex mX9_eats Q 136 ls st h else Ex mX9_eats Q 130 ls st h := Ex_br rfl rfl
theorem rX9_eats_130 (Q : Po) (h : Hp) (ls : List Value) (st : List Value) : Ex mX9_eats Q 130 ls st h = Ex mX9_eats Q 131 ls (.int 1 :: st) h := Ex_nx rfl rfl
theorem rX9_eats_131 (Q : Po) (h : Hp) (l0 l1 l3 : Value) (x : Int32) (st : List Value) : Ex mX9_eats Q 131 [l0, l1, .int x, l3] st h = Ex mX9_eats Q 132 [l0, l1, .int x, l3] (.int x :: st) h := Ex_nx rfl rfl
theorem rX9_eats_132 (Q : Po) (h : Hp) (ls : List Value) (st : List Value) (x y : Int32) : Ex mX9_eats Q 132 ls (.int y :: .int x :: st) h = Ex mX9_eats Q 133 ls (.int (x <<< (y &&& 31)) :: st) h := Ex_nx rfl rfl
theorem rX9_eats_133 (Q : Po) (h : Hp) (ls : List Value) (st : List Value) : Ex mX9_eats Q 133 ls st h = Ex mX9_eats Q 137 ls st h := Ex_nx rfl rfl
theorem rX9_eats_136 (Q : Po) (h : Hp) (ls : List Value) (st : List Value) : Ex mX9_eats Q 136 ls st h = Ex mX9_eats Q 137 ls (.int 0 :: st) h := Ex_nx rfl rfl
theorem rX9_eats_137 (Q : Po) (h : Hp) (ls : List Value) (st : List Value) (x y : Int32) : Ex mX9_eats Q 137 ls (.int y :: .int x :: st) h = Ex mX9_eats Q 138 ls (.int (x ||| y) :: st) h := Ex_nx rfl rfl
theorem rX9_eats_138 (Q : Po) (h : Hp) (ls : List Value) (st : List Value) (a : Nat) (i x : Int32) : Ex mX9_eats Q 138 ls (.int x :: .int i :: .ref a :: st) h = ((gK h a = 51 ∧ ¬ (i < 0 ∨ gL h a ≤ i.toNatClampNeg)) ∧ Ex mX9_eats Q 139 ls st (pI h a i.toNatClampNeg (x))) := Ex_gd rfl rfl
theorem rX9_eats_139 (Q : Po) (h : Hp) (ls : List Value) : Ex mX9_eats Q 139 ls [] h = Q (.inl none) h := Ex_rt rfl rfl
theorem rX9_eats_t (Q : Po) (h : Hp) (pc n a : Nat) (ls st : List Value) : Cont mX9_eats Q pc ls n st (.inr a) h = Q (.inr a) h := rfl
/-! FishReadersModel.oneNight()V -/
def mX9_oneNight : Cd := ([(0, .inl (i_push (.int 0) 1)),
  (1, .inl (i_istore 1 2)),
  (2, .inl (i_iload 1 3)),
  (3, .inl (i_aload 0 4)),
  (4, .inl (i_getf 81 [9] 7)),
  (7, .inl (i_push (.int 1) 8)),
  (8, .inl (i_iald 51 9)),
  (9, .inl (i_icmp (fun x y => y ≤ x) 45 12)),
  (12, .inl (i_aload 0 13)),
  (13, .inl (i_iload 1 14)),
  (14, .inr (c_V 1 17 2 9 (Mt mX9_isCaught 2))),
  (17, .inl (i_if (fun x => ¬ x = 0) 39 20)),
  (20, .inl (i_aload 0 21)),
  (21, .inl (i_getf 81 [9] 24)),
  (24, .inl (i_push (.int 31) 26)),
  (26, .inl (i_iload 1 27)),
  (27, .inl (i_bin (fun x y => x + y) 28)),
  (28, .inl (i_aload 0 29)),
  (29, .inl (i_iload 1 30)),
  (30, .inr (c_V 1 33 6 9 (Mt mX9_goesTo 6))),
  (33, .inl (i_iast 51 (fun x => x) 34)),
  (34, .inl (i_aload 0 35)),
  (35, .inl (i_iload 1 36)),
  (36, .inr (c_V 1 39 4 9 (Mt mX9_eats 4))),
  (39, .inl (i_iinc 1 1 42)),
  (42, .inl (i_goto 2)),
  (45, .inl (i_push (.int 0) 46)),
  (46, .inl (i_istore 1 47)),
  (47, .inl (i_iload 1 48)),
  (48, .inl (i_aload 0 49)),
  (49, .inl (i_getf 81 [9] 52)),
  (52, .inl (i_push (.int 0) 53)),
  (53, .inl (i_iald 51 54)),
  (54, .inl (i_icmp (fun x y => y ≤ x) 116 57)),
  (57, .inl (i_aload 0 58)),
  (58, .inl (i_getf 81 [9] 61)),
  (61, .inl (i_push (.int 4) 62)),
  (62, .inl (i_iald 51 63)),
  (63, .inl (i_push (.int 4) 64)),
  (64, .inl (i_bing (fun x y => x - x / y * y) 65)),
  (65, .inl (i_push (.int 3) 66)),
  (66, .inl (i_icmp (fun x y => ¬ x = y) 116 69)),
  (69, .inl (i_aload 0 70)),
  (70, .inl (i_getf 81 [9] 73)),
  (73, .inl (i_push (.int 6) 75)),
  (75, .inl (i_iald 51 76)),
  (76, .inl (i_iload 1 77)),
  (77, .inr (c_S 2 80 2 (Mt mX9_has 2))),
  (80, .inl (i_if (fun x => ¬ x = 0) 110 83)),
  (83, .inl (i_aload 0 84)),
  (84, .inl (i_getf 81 [9] 87)),
  (87, .inl (i_push (.int 14) 89)),
  (89, .inl (i_iload 1 90)),
  (90, .inl (i_bin (fun x y => x + y) 91)),
  (91, .inl (i_iald 51 92)),
  (92, .inl (i_push (.int 9) 94)),
  (94, .inl (i_icmp (fun x y => y ≤ x) 110 97)),
  (97, .inl (i_aload 0 98)),
  (98, .inl (i_getf 81 [9] 101)),
  (101, .inl (i_push (.int 14) 103)),
  (103, .inl (i_iload 1 104)),
  (104, .inl (i_bin (fun x y => x + y) 105)),
  (105, .inl (i_dup2 106)),
  (106, .inl (i_iald 51 107)),
  (107, .inl (i_push (.int 1) 108)),
  (108, .inl (i_bin (fun x y => x + y) 109)),
  (109, .inl (i_iast 51 (fun x => x) 110)),
  (110, .inl (i_iinc 1 1 113)),
  (113, .inl (i_goto 47)),
  (116, .inl (i_aload 0 117)),
  (117, .inl (i_getf 81 [9] 120)),
  (120, .inl (i_push (.int 4) 121)),
  (121, .inl (i_dup2 122)),
  (122, .inl (i_iald 51 123)),
  (123, .inl (i_push (.int 1) 124)),
  (124, .inl (i_bin (fun x y => x + y) 125)),
  (125, .inl (i_iast 51 (fun x => x) 126)),
  (126, .inl i_vret)], noH)
theorem rX9_oneNight_0 (Q : Po) (h : Hp) (ls : List Value) (st : List Value) : Ex mX9_oneNight Q 0 ls st h = Ex mX9_oneNight Q 1 ls (.int 0 :: st) h := Ex_nx rfl rfl
theorem rX9_oneNight_1 (Q : Po) (h : Hp) (l0 l1 : Value) (x : Int32) (st : List Value) : Ex mX9_oneNight Q 1 [l0, l1] (.int x :: st) h = Ex mX9_oneNight Q 2 [l0, .int x] st h := Ex_nx rfl rfl
theorem rX9_oneNight_2 (Q : Po) (h : Hp) (l0 : Value) (x : Int32) (st : List Value) : Ex mX9_oneNight Q 2 [l0, .int x] st h = Ex mX9_oneNight Q 3 [l0, .int x] (.int x :: st) h := Ex_nx rfl rfl
theorem rX9_oneNight_3 (Q : Po) (h : Hp) (l1 : Value) (x : Nat) (st : List Value) : Ex mX9_oneNight Q 3 [.ref x, l1] st h = Ex mX9_oneNight Q 4 [.ref x, l1] (.ref x :: st) h := Ex_nx rfl rfl
theorem rX9_oneNight_4 (Q : Po) (h : Hp) (ls : List Value) (st : List Value) (a : Nat) : Ex mX9_oneNight Q 4 ls (.ref a :: st) h = (gK h a ∈ ([9] : List Nat) ∧ Ex mX9_oneNight Q 7 ls (gF h 81 a :: st) h) := Ex_gd rfl rfl
theorem rX9_oneNight_7 (Q : Po) (h : Hp) (ls : List Value) (st : List Value) : Ex mX9_oneNight Q 7 ls st h = Ex mX9_oneNight Q 8 ls (.int 1 :: st) h := Ex_nx rfl rfl
theorem rX9_oneNight_8 (Q : Po) (h : Hp) (ls : List Value) (st : List Value) (a : Nat) (i : Int32) : Ex mX9_oneNight Q 8 ls (.int i :: .ref a :: st) h = ((gK h a = 51 ∧ ¬ (i < 0 ∨ gL h a ≤ i.toNatClampNeg)) ∧ Ex mX9_oneNight Q 9 ls (.int (gI h a i.toNatClampNeg) :: st) h) := Ex_gd rfl rfl
theorem rX9_oneNight_9 (Q : Po) (h : Hp) (ls : List Value) (st : List Value) (x y : Int32) : Ex mX9_oneNight Q 9 ls (.int y :: .int x :: st) h = if y ≤ x then Ex mX9_oneNight Q 45 ls st h else Ex mX9_oneNight Q 12 ls st h := Ex_br rfl rfl
theorem rX9_oneNight_12 (Q : Po) (h : Hp) (l1 : Value) (x : Nat) (st : List Value) : Ex mX9_oneNight Q 12 [.ref x, l1] st h = Ex mX9_oneNight Q 13 [.ref x, l1] (.ref x :: st) h := Ex_nx rfl rfl
theorem rX9_oneNight_13 (Q : Po) (h : Hp) (l0 : Value) (x : Int32) (st : List Value) : Ex mX9_oneNight Q 13 [l0, .int x] st h = Ex mX9_oneNight Q 14 [l0, .int x] (.int x :: st) h := Ex_nx rfl rfl
theorem rX9_oneNight_14 (Q : Po) (h : Hp) (ls : List Value) (a0 : Int32) (b : Nat) : Ex mX9_oneNight Q 14 ls (.int a0 :: .ref b :: []) h = (gK h b = 9 ∧ Ex mX9_isCaught (Cont mX9_oneNight Q 14 ls 17 []) 0 [.ref b, .int a0] [] h) := Ex_cg (n := 2) (as := [.ref b, .int a0]) rfl rfl
theorem rX9_oneNight_17 (Q : Po) (h : Hp) (ls : List Value) (st : List Value) (x : Int32) : Ex mX9_oneNight Q 17 ls (.int x :: st) h = if ¬ x = 0 then Ex mX9_oneNight Q 39 ls st h else Ex mX9_oneNight Q 20 ls st h := Ex_br rfl rfl
theorem rX9_oneNight_20 (Q : Po) (h : Hp) (l1 : Value) (x : Nat) (st : List Value) : Ex mX9_oneNight Q 20 [.ref x, l1] st h = Ex mX9_oneNight Q 21 [.ref x, l1] (.ref x :: st) h := Ex_nx rfl rfl
theorem rX9_oneNight_21 (Q : Po) (h : Hp) (ls : List Value) (st : List Value) (a : Nat) : Ex mX9_oneNight Q 21 ls (.ref a :: st) h = (gK h a ∈ ([9] : List Nat) ∧ Ex mX9_oneNight Q 24 ls (gF h 81 a :: st) h) := Ex_gd rfl rfl
theorem rX9_oneNight_24 (Q : Po) (h : Hp) (ls : List Value) (st : List Value) : Ex mX9_oneNight Q 24 ls st h = Ex mX9_oneNight Q 26 ls (.int 31 :: st) h := Ex_nx rfl rfl
theorem rX9_oneNight_26 (Q : Po) (h : Hp) (l0 : Value) (x : Int32) (st : List Value) : Ex mX9_oneNight Q 26 [l0, .int x] st h = Ex mX9_oneNight Q 27 [l0, .int x] (.int x :: st) h := Ex_nx rfl rfl
theorem rX9_oneNight_27 (Q : Po) (h : Hp) (ls : List Value) (st : List Value) (x y : Int32) : Ex mX9_oneNight Q 27 ls (.int y :: .int x :: st) h = Ex mX9_oneNight Q 28 ls (.int (x + y) :: st) h := Ex_nx rfl rfl
theorem rX9_oneNight_28 (Q : Po) (h : Hp) (l1 : Value) (x : Nat) (st : List Value) : Ex mX9_oneNight Q 28 [.ref x, l1] st h = Ex mX9_oneNight Q 29 [.ref x, l1] (.ref x :: st) h := Ex_nx rfl rfl
theorem rX9_oneNight_29 (Q : Po) (h : Hp) (l0 : Value) (x : Int32) (st : List Value) : Ex mX9_oneNight Q 29 [l0, .int x] st h = Ex mX9_oneNight Q 30 [l0, .int x] (.int x :: st) h := Ex_nx rfl rfl
theorem rX9_oneNight_30 (Q : Po) (h : Hp) (ls : List Value) (a0 : Int32) (s0 s1 : Value) (b : Nat) : Ex mX9_oneNight Q 30 ls (.int a0 :: .ref b :: [s0, s1]) h = (gK h b = 9 ∧ Ex mX9_goesTo (Cont mX9_oneNight Q 30 ls 33 [s0, s1]) 0 [.ref b, .int a0, .retAddr 0, .retAddr 0, .retAddr 0, .retAddr 0] [] h) := Ex_cg (n := 6) (as := [.ref b, .int a0]) rfl rfl
theorem rX9_oneNight_33 (Q : Po) (h : Hp) (ls : List Value) (st : List Value) (a : Nat) (i x : Int32) : Ex mX9_oneNight Q 33 ls (.int x :: .int i :: .ref a :: st) h = ((gK h a = 51 ∧ ¬ (i < 0 ∨ gL h a ≤ i.toNatClampNeg)) ∧ Ex mX9_oneNight Q 34 ls st (pI h a i.toNatClampNeg (x))) := Ex_gd rfl rfl
theorem rX9_oneNight_34 (Q : Po) (h : Hp) (l1 : Value) (x : Nat) (st : List Value) : Ex mX9_oneNight Q 34 [.ref x, l1] st h = Ex mX9_oneNight Q 35 [.ref x, l1] (.ref x :: st) h := Ex_nx rfl rfl
theorem rX9_oneNight_35 (Q : Po) (h : Hp) (l0 : Value) (x : Int32) (st : List Value) : Ex mX9_oneNight Q 35 [l0, .int x] st h = Ex mX9_oneNight Q 36 [l0, .int x] (.int x :: st) h := Ex_nx rfl rfl
theorem rX9_oneNight_36 (Q : Po) (h : Hp) (ls : List Value) (a0 : Int32) (b : Nat) : Ex mX9_oneNight Q 36 ls (.int a0 :: .ref b :: []) h = (gK h b = 9 ∧ Ex mX9_eats (Cont mX9_oneNight Q 36 ls 39 []) 0 [.ref b, .int a0, .retAddr 0, .retAddr 0] [] h) := Ex_cg (n := 4) (as := [.ref b, .int a0]) rfl rfl
theorem rX9_oneNight_39 (Q : Po) (h : Hp) (l0 : Value) (x : Int32) (st : List Value) : Ex mX9_oneNight Q 39 [l0, .int x] st h = Ex mX9_oneNight Q 42 [l0, .int (x + 1)] st h := Ex_nx rfl rfl
theorem rX9_oneNight_42 (Q : Po) (h : Hp) (ls : List Value) (st : List Value) : Ex mX9_oneNight Q 42 ls st h = Ex mX9_oneNight Q 2 ls st h := Ex_nx rfl rfl
theorem rX9_oneNight_45 (Q : Po) (h : Hp) (ls : List Value) (st : List Value) : Ex mX9_oneNight Q 45 ls st h = Ex mX9_oneNight Q 46 ls (.int 0 :: st) h := Ex_nx rfl rfl
theorem rX9_oneNight_46 (Q : Po) (h : Hp) (l0 l1 : Value) (x : Int32) (st : List Value) : Ex mX9_oneNight Q 46 [l0, l1] (.int x :: st) h = Ex mX9_oneNight Q 47 [l0, .int x] st h := Ex_nx rfl rfl
theorem rX9_oneNight_47 (Q : Po) (h : Hp) (l0 : Value) (x : Int32) (st : List Value) : Ex mX9_oneNight Q 47 [l0, .int x] st h = Ex mX9_oneNight Q 48 [l0, .int x] (.int x :: st) h := Ex_nx rfl rfl
theorem rX9_oneNight_48 (Q : Po) (h : Hp) (l1 : Value) (x : Nat) (st : List Value) : Ex mX9_oneNight Q 48 [.ref x, l1] st h = Ex mX9_oneNight Q 49 [.ref x, l1] (.ref x :: st) h := Ex_nx rfl rfl
theorem rX9_oneNight_49 (Q : Po) (h : Hp) (ls : List Value) (st : List Value) (a : Nat) : Ex mX9_oneNight Q 49 ls (.ref a :: st) h = (gK h a ∈ ([9] : List Nat) ∧ Ex mX9_oneNight Q 52 ls (gF h 81 a :: st) h) := Ex_gd rfl rfl
theorem rX9_oneNight_52 (Q : Po) (h : Hp) (ls : List Value) (st : List Value) : Ex mX9_oneNight Q 52 ls st h = Ex mX9_oneNight Q 53 ls (.int 0 :: st) h := Ex_nx rfl rfl
theorem rX9_oneNight_53 (Q : Po) (h : Hp) (ls : List Value) (st : List Value) (a : Nat) (i : Int32) : Ex mX9_oneNight Q 53 ls (.int i :: .ref a :: st) h = ((gK h a = 51 ∧ ¬ (i < 0 ∨ gL h a ≤ i.toNatClampNeg)) ∧ Ex mX9_oneNight Q 54 ls (.int (gI h a i.toNatClampNeg) :: st) h) := Ex_gd rfl rfl
theorem rX9_oneNight_54 (Q : Po) (h : Hp) (ls : List Value) (st : List Value) (x y : Int32) : Ex mX9_oneNight Q 54 ls (.int y :: .int x :: st) h = if y ≤ x then Ex mX9_oneNight Q 116 ls st h else Ex mX9_oneNight Q 57 ls st h := Ex_br rfl rfl
theorem rX9_oneNight_57 (Q : Po) (h : Hp) (l1 : Value) (x : Nat) (st : List Value) : Ex mX9_oneNight Q 57 [.ref x, l1] st h = Ex mX9_oneNight Q 58 [.ref x, l1] (.ref x :: st) h := Ex_nx rfl rfl
theorem rX9_oneNight_58 (Q : Po) (h : Hp) (ls : List Value) (st : List Value) (a : Nat) : Ex mX9_oneNight Q 58 ls (.ref a :: st) h = (gK h a ∈ ([9] : List Nat) ∧ Ex mX9_oneNight Q 61 ls (gF h 81 a :: st) h) := Ex_gd rfl rfl
theorem rX9_oneNight_61 (Q : Po) (h : Hp) (ls : List Value) (st : List Value) : Ex mX9_oneNight Q 61 ls st h = Ex mX9_oneNight Q 62 ls (.int 4 :: st) h := Ex_nx rfl rfl
theorem rX9_oneNight_62 (Q : Po) (h : Hp) (ls : List Value) (st : List Value) (a : Nat) (i : Int32) : Ex mX9_oneNight Q 62 ls (.int i :: .ref a :: st) h = ((gK h a = 51 ∧ ¬ (i < 0 ∨ gL h a ≤ i.toNatClampNeg)) ∧ Ex mX9_oneNight Q 63 ls (.int (gI h a i.toNatClampNeg) :: st) h) := Ex_gd rfl rfl
theorem rX9_oneNight_63 (Q : Po) (h : Hp) (ls : List Value) (st : List Value) : Ex mX9_oneNight Q 63 ls st h = Ex mX9_oneNight Q 64 ls (.int 4 :: st) h := Ex_nx rfl rfl
theorem rX9_oneNight_64 (Q : Po) (h : Hp) (ls : List Value) (st : List Value) (x y : Int32) : Ex mX9_oneNight Q 64 ls (.int y :: .int x :: st) h = (¬ y = 0 ∧ Ex mX9_oneNight Q 65 ls (.int (x - x / y * y) :: st) h) := Ex_gd rfl rfl
theorem rX9_oneNight_65 (Q : Po) (h : Hp) (ls : List Value) (st : List Value) : Ex mX9_oneNight Q 65 ls st h = Ex mX9_oneNight Q 66 ls (.int 3 :: st) h := Ex_nx rfl rfl
theorem rX9_oneNight_66 (Q : Po) (h : Hp) (ls : List Value) (st : List Value) (x y : Int32) : Ex mX9_oneNight Q 66 ls (.int y :: .int x :: st) h = if ¬ x = y then Ex mX9_oneNight Q 116 ls st h else Ex mX9_oneNight Q 69 ls st h := Ex_br rfl rfl
theorem rX9_oneNight_69 (Q : Po) (h : Hp) (l1 : Value) (x : Nat) (st : List Value) : Ex mX9_oneNight Q 69 [.ref x, l1] st h = Ex mX9_oneNight Q 70 [.ref x, l1] (.ref x :: st) h := Ex_nx rfl rfl
theorem rX9_oneNight_70 (Q : Po) (h : Hp) (ls : List Value) (st : List Value) (a : Nat) : Ex mX9_oneNight Q 70 ls (.ref a :: st) h = (gK h a ∈ ([9] : List Nat) ∧ Ex mX9_oneNight Q 73 ls (gF h 81 a :: st) h) := Ex_gd rfl rfl
theorem rX9_oneNight_73 (Q : Po) (h : Hp) (ls : List Value) (st : List Value) : Ex mX9_oneNight Q 73 ls st h = Ex mX9_oneNight Q 75 ls (.int 6 :: st) h := Ex_nx rfl rfl
theorem rX9_oneNight_75 (Q : Po) (h : Hp) (ls : List Value) (st : List Value) (a : Nat) (i : Int32) : Ex mX9_oneNight Q 75 ls (.int i :: .ref a :: st) h = ((gK h a = 51 ∧ ¬ (i < 0 ∨ gL h a ≤ i.toNatClampNeg)) ∧ Ex mX9_oneNight Q 76 ls (.int (gI h a i.toNatClampNeg) :: st) h) := Ex_gd rfl rfl
theorem rX9_oneNight_76 (Q : Po) (h : Hp) (l0 : Value) (x : Int32) (st : List Value) : Ex mX9_oneNight Q 76 [l0, .int x] st h = Ex mX9_oneNight Q 77 [l0, .int x] (.int x :: st) h := Ex_nx rfl rfl
theorem rX9_oneNight_77 (Q : Po) (h : Hp) (ls : List Value) (a0 : Int32) (a1 : Int32) : Ex mX9_oneNight Q 77 ls (.int a1 :: .int a0 :: []) h = Ex mX9_has (Cont mX9_oneNight Q 77 ls 80 []) 0 [.int a0, .int a1] [] h := Ex_cl (n := 2) (as := [.int a0, .int a1]) rfl rfl
theorem rX9_oneNight_80 (Q : Po) (h : Hp) (ls : List Value) (st : List Value) (x : Int32) : Ex mX9_oneNight Q 80 ls (.int x :: st) h = if ¬ x = 0 then Ex mX9_oneNight Q 110 ls st h else Ex mX9_oneNight Q 83 ls st h := Ex_br rfl rfl
theorem rX9_oneNight_83 (Q : Po) (h : Hp) (l1 : Value) (x : Nat) (st : List Value) : Ex mX9_oneNight Q 83 [.ref x, l1] st h = Ex mX9_oneNight Q 84 [.ref x, l1] (.ref x :: st) h := Ex_nx rfl rfl
theorem rX9_oneNight_84 (Q : Po) (h : Hp) (ls : List Value) (st : List Value) (a : Nat) : Ex mX9_oneNight Q 84 ls (.ref a :: st) h = (gK h a ∈ ([9] : List Nat) ∧ Ex mX9_oneNight Q 87 ls (gF h 81 a :: st) h) := Ex_gd rfl rfl
theorem rX9_oneNight_87 (Q : Po) (h : Hp) (ls : List Value) (st : List Value) : Ex mX9_oneNight Q 87 ls st h = Ex mX9_oneNight Q 89 ls (.int 14 :: st) h := Ex_nx rfl rfl
theorem rX9_oneNight_89 (Q : Po) (h : Hp) (l0 : Value) (x : Int32) (st : List Value) : Ex mX9_oneNight Q 89 [l0, .int x] st h = Ex mX9_oneNight Q 90 [l0, .int x] (.int x :: st) h := Ex_nx rfl rfl
theorem rX9_oneNight_90 (Q : Po) (h : Hp) (ls : List Value) (st : List Value) (x y : Int32) : Ex mX9_oneNight Q 90 ls (.int y :: .int x :: st) h = Ex mX9_oneNight Q 91 ls (.int (x + y) :: st) h := Ex_nx rfl rfl
theorem rX9_oneNight_91 (Q : Po) (h : Hp) (ls : List Value) (st : List Value) (a : Nat) (i : Int32) : Ex mX9_oneNight Q 91 ls (.int i :: .ref a :: st) h = ((gK h a = 51 ∧ ¬ (i < 0 ∨ gL h a ≤ i.toNatClampNeg)) ∧ Ex mX9_oneNight Q 92 ls (.int (gI h a i.toNatClampNeg) :: st) h) := Ex_gd rfl rfl
theorem rX9_oneNight_92 (Q : Po) (h : Hp) (ls : List Value) (st : List Value) : Ex mX9_oneNight Q 92 ls st h = Ex mX9_oneNight Q 94 ls (.int 9 :: st) h := Ex_nx rfl rfl
theorem rX9_oneNight_94 (Q : Po) (h : Hp) (ls : List Value) (st : List Value) (x y : Int32) : Ex mX9_oneNight Q 94 ls (.int y :: .int x :: st) h = if y ≤ x then Ex mX9_oneNight Q 110 ls st h else Ex mX9_oneNight Q 97 ls st h := Ex_br rfl rfl
theorem rX9_oneNight_97 (Q : Po) (h : Hp) (l1 : Value) (x : Nat) (st : List Value) : Ex mX9_oneNight Q 97 [.ref x, l1] st h = Ex mX9_oneNight Q 98 [.ref x, l1] (.ref x :: st) h := Ex_nx rfl rfl
theorem rX9_oneNight_98 (Q : Po) (h : Hp) (ls : List Value) (st : List Value) (a : Nat) : Ex mX9_oneNight Q 98 ls (.ref a :: st) h = (gK h a ∈ ([9] : List Nat) ∧ Ex mX9_oneNight Q 101 ls (gF h 81 a :: st) h) := Ex_gd rfl rfl
theorem rX9_oneNight_101 (Q : Po) (h : Hp) (ls : List Value) (st : List Value) : Ex mX9_oneNight Q 101 ls st h = Ex mX9_oneNight Q 103 ls (.int 14 :: st) h := Ex_nx rfl rfl
theorem rX9_oneNight_103 (Q : Po) (h : Hp) (l0 : Value) (x : Int32) (st : List Value) : Ex mX9_oneNight Q 103 [l0, .int x] st h = Ex mX9_oneNight Q 104 [l0, .int x] (.int x :: st) h := Ex_nx rfl rfl
theorem rX9_oneNight_104 (Q : Po) (h : Hp) (ls : List Value) (st : List Value) (x y : Int32) : Ex mX9_oneNight Q 104 ls (.int y :: .int x :: st) h = Ex mX9_oneNight Q 105 ls (.int (x + y) :: st) h := Ex_nx rfl rfl
theorem rX9_oneNight_105 (Q : Po) (h : Hp) (ls : List Value) (st : List Value) (x : Int32) (y : Nat) : Ex mX9_oneNight Q 105 ls (.int x :: .ref y :: st) h = Ex mX9_oneNight Q 106 ls (.int x :: .ref y :: .int x :: .ref y :: st) h := Ex_nx rfl rfl
theorem rX9_oneNight_106 (Q : Po) (h : Hp) (ls : List Value) (st : List Value) (a : Nat) (i : Int32) : Ex mX9_oneNight Q 106 ls (.int i :: .ref a :: st) h = ((gK h a = 51 ∧ ¬ (i < 0 ∨ gL h a ≤ i.toNatClampNeg)) ∧ Ex mX9_oneNight Q 107 ls (.int (gI h a i.toNatClampNeg) :: st) h) := Ex_gd rfl rfl
theorem rX9_oneNight_107 (Q : Po) (h : Hp) (ls : List Value) (st : List Value) : Ex mX9_oneNight Q 107 ls st h = Ex mX9_oneNight Q 108 ls (.int 1 :: st) h := Ex_nx rfl rfl
theorem rX9_oneNight_108 (Q : Po) (h : Hp) (ls : List Value) (st : List Value) (x y : Int32) : Ex mX9_oneNight Q 108 ls (.int y :: .int x :: st) h = Ex mX9_oneNight Q 109 ls (.int (x + y) :: st) h := Ex_nx rfl rfl
theorem rX9_oneNight_109 (Q : Po) (h : Hp) (ls : List Value) (st : List Value) (a : Nat) (i x : Int32) : Ex mX9_oneNight Q 109 ls (.int x :: .int i :: .ref a :: st) h = ((gK h a = 51 ∧ ¬ (i < 0 ∨ gL h a ≤ i.toNatClampNeg)) ∧ Ex mX9_oneNight Q 110 ls st (pI h a i.toNatClampNeg (x))) := Ex_gd rfl rfl
theorem rX9_oneNight_110 (Q : Po) (h : Hp) (l0 : Value) (x : Int32) (st : List Value) : Ex mX9_oneNight Q 110 [l0, .int x] st h = Ex mX9_oneNight Q 113 [l0, .int (x + 1)] st h := Ex_nx rfl rfl
theorem rX9_oneNight_113 (Q : Po) (h : Hp) (ls : List Value) (st : List Value) : Ex mX9_oneNight Q 113 ls st h = Ex mX9_oneNight Q 47 ls st h := Ex_nx rfl rfl
theorem rX9_oneNight_116 (Q : Po) (h : Hp) (l1 : Value) (x : Nat) (st : List Value) : Ex mX9_oneNight Q 116 [.ref x, l1] st h = Ex mX9_oneNight Q 117 [.ref x, l1] (.ref x :: st) h := Ex_nx rfl rfl
theorem rX9_oneNight_117 (Q : Po) (h : Hp) (ls : List Value) (st : List Value) (a : Nat) : Ex mX9_oneNight Q 117 ls (.ref a :: st) h = (gK h a ∈ ([9] : List Nat) ∧ Ex mX9_oneNight Q 120 ls (gF h 81 a :: st) h) := Ex_gd rfl rfl
theorem rX9_oneNight_120 (Q : Po) (h : Hp) (ls : List Value) (st : List Value) : Ex mX9_oneNight Q 120 ls st h = Ex mX9_oneNight Q 121 ls (.int 4 :: st) h := Ex_nx rfl rfl
theorem rX9_oneNight_121 (Q : Po) (h : Hp) (ls : List Value) (st : List Value) (x : Int32) (y : Nat) : Ex mX9_oneNight Q 121 ls (.int x :: .ref y :: st) h = Ex mX9_oneNight Q 122 ls (.int x :: .ref y :: .int x :: .ref y :: st) h := Ex_nx rfl rfl
theorem rX9_oneNight_122 (Q : Po) (h : Hp) (ls : List Value) (st : List Value) (a : Nat) (i : Int32) : Ex mX9_oneNight Q 122 ls (.int i :: .ref a :: st) h = ((gK h a = 51 ∧ ¬ (i < 0 ∨ gL h a ≤ i.toNatClampNeg)) ∧ Ex mX9_oneNight Q 123 ls (.int (gI h a i.toNatClampNeg) :: st) h) := Ex_gd rfl rfl
theorem rX9_oneNight_123 (Q : Po) (h : Hp) (ls : List Value) (st : List Value) : Ex mX9_oneNight Q 123 ls st h = Ex mX9_oneNight Q 124 ls (.int 1 :: st) h := Ex_nx rfl rfl
theorem rX9_oneNight_124 (Q : Po) (h : Hp) (ls : List Value) (st : List Value) (x y : Int32) : Ex mX9_oneNight Q 124 ls (.int y :: .int x :: st) h = Ex mX9_oneNight Q 125 ls (.int (x + y) :: st) h := Ex_nx rfl rfl
theorem rX9_oneNight_125 (Q : Po) (h : Hp) (ls : List Value) (st : List Value) (a : Nat) (i x : Int32) : Ex mX9_oneNight Q 125 ls (.int x :: .int i :: .ref a :: st) h = ((gK h a = 51 ∧ ¬ (i < 0 ∨ gL h a ≤ i.toNatClampNeg)) ∧ Ex mX9_oneNight Q 126 ls st (pI h a i.toNatClampNeg (x))) := Ex_gd rfl rfl
theorem rX9_oneNight_126 (Q : Po) (h : Hp) (ls : List Value) : Ex mX9_oneNight Q 126 ls [] h = Q (.inl none) h := Ex_rt rfl rfl
theorem rX9_oneNight_t (Q : Po) (h : Hp) (pc n a : Nat) (ls st : List Value) : Cont mX9_oneNight Q pc ls n st (.inr a) h = Q (.inr a) h := rfl
/-! FishReadersModel.allPages()I -/
def mX9_allPages : Cd := ([(0, .inl (i_push (.int 0) 1)),
  (1, .inl (i_istore 1 2)),
  (2, .inl (i_push (.int 0) 3)),
  (3, .inl (i_istore 2 4)),
  (4, .inl (i_iload 2 5)),
  (5, .inl (i_aload 0 6)),
  (6, .inl (i_getf 81 [9] 9)),
  (9, .inl (i_push (.int 0) 10)),
  (10, .inl (i_iald 51 11)),
  (11, .inl (i_icmp (fun x y => y ≤ x) 32 14)),
  (14, .inl (i_iload 1 15)),
  (15, .inl (i_aload 0 16)),
  (16, .inl (i_getf 81 [9] 19)),
  (19, .inl (i_push (.int 8) 21)),
  (21, .inl (i_iload 2 22)),
  (22, .inl (i_bin (fun x y => x + y) 23)),
  (23, .inl (i_iald 51 24)),
  (24, .inl (i_bin (fun x y => x + y) 25)),
  (25, .inl (i_istore 1 26)),
  (26, .inl (i_iinc 2 1 29)),
  (29, .inl (i_goto 4)),
  (32, .inl (i_iload 1 33)),
  (33, .inl i_iret)], noH)
theorem rX9_allPages_0 (Q : Po) (h : Hp) (ls : List Value) (st : List Value) : Ex mX9_allPages Q 0 ls st h = Ex mX9_allPages Q 1 ls (.int 0 :: st) h := Ex_nx rfl rfl
theorem rX9_allPages_1 (Q : Po) (h : Hp) (l0 l1 l2 : Value) (x : Int32) (st : List Value) : Ex mX9_allPages Q 1 [l0, l1, l2] (.int x :: st) h = Ex mX9_allPages Q 2 [l0, .int x, l2] st h := Ex_nx rfl rfl
theorem rX9_allPages_2 (Q : Po) (h : Hp) (ls : List Value) (st : List Value) : Ex mX9_allPages Q 2 ls st h = Ex mX9_allPages Q 3 ls (.int 0 :: st) h := Ex_nx rfl rfl
theorem rX9_allPages_3 (Q : Po) (h : Hp) (l0 l1 l2 : Value) (x : Int32) (st : List Value) : Ex mX9_allPages Q 3 [l0, l1, l2] (.int x :: st) h = Ex mX9_allPages Q 4 [l0, l1, .int x] st h := Ex_nx rfl rfl
theorem rX9_allPages_4 (Q : Po) (h : Hp) (l0 l1 : Value) (x : Int32) (st : List Value) : Ex mX9_allPages Q 4 [l0, l1, .int x] st h = Ex mX9_allPages Q 5 [l0, l1, .int x] (.int x :: st) h := Ex_nx rfl rfl
theorem rX9_allPages_5 (Q : Po) (h : Hp) (l1 l2 : Value) (x : Nat) (st : List Value) : Ex mX9_allPages Q 5 [.ref x, l1, l2] st h = Ex mX9_allPages Q 6 [.ref x, l1, l2] (.ref x :: st) h := Ex_nx rfl rfl
theorem rX9_allPages_6 (Q : Po) (h : Hp) (ls : List Value) (st : List Value) (a : Nat) : Ex mX9_allPages Q 6 ls (.ref a :: st) h = (gK h a ∈ ([9] : List Nat) ∧ Ex mX9_allPages Q 9 ls (gF h 81 a :: st) h) := Ex_gd rfl rfl
theorem rX9_allPages_9 (Q : Po) (h : Hp) (ls : List Value) (st : List Value) : Ex mX9_allPages Q 9 ls st h = Ex mX9_allPages Q 10 ls (.int 0 :: st) h := Ex_nx rfl rfl
theorem rX9_allPages_10 (Q : Po) (h : Hp) (ls : List Value) (st : List Value) (a : Nat) (i : Int32) : Ex mX9_allPages Q 10 ls (.int i :: .ref a :: st) h = ((gK h a = 51 ∧ ¬ (i < 0 ∨ gL h a ≤ i.toNatClampNeg)) ∧ Ex mX9_allPages Q 11 ls (.int (gI h a i.toNatClampNeg) :: st) h) := Ex_gd rfl rfl
theorem rX9_allPages_11 (Q : Po) (h : Hp) (ls : List Value) (st : List Value) (x y : Int32) : Ex mX9_allPages Q 11 ls (.int y :: .int x :: st) h = if y ≤ x then Ex mX9_allPages Q 32 ls st h else Ex mX9_allPages Q 14 ls st h := Ex_br rfl rfl
theorem rX9_allPages_14 (Q : Po) (h : Hp) (l0 l2 : Value) (x : Int32) (st : List Value) : Ex mX9_allPages Q 14 [l0, .int x, l2] st h = Ex mX9_allPages Q 15 [l0, .int x, l2] (.int x :: st) h := Ex_nx rfl rfl
theorem rX9_allPages_15 (Q : Po) (h : Hp) (l1 l2 : Value) (x : Nat) (st : List Value) : Ex mX9_allPages Q 15 [.ref x, l1, l2] st h = Ex mX9_allPages Q 16 [.ref x, l1, l2] (.ref x :: st) h := Ex_nx rfl rfl
theorem rX9_allPages_16 (Q : Po) (h : Hp) (ls : List Value) (st : List Value) (a : Nat) : Ex mX9_allPages Q 16 ls (.ref a :: st) h = (gK h a ∈ ([9] : List Nat) ∧ Ex mX9_allPages Q 19 ls (gF h 81 a :: st) h) := Ex_gd rfl rfl
theorem rX9_allPages_19 (Q : Po) (h : Hp) (ls : List Value) (st : List Value) : Ex mX9_allPages Q 19 ls st h = Ex mX9_allPages Q 21 ls (.int 8 :: st) h := Ex_nx rfl rfl
theorem rX9_allPages_21 (Q : Po) (h : Hp) (l0 l1 : Value) (x : Int32) (st : List Value) : Ex mX9_allPages Q 21 [l0, l1, .int x] st h = Ex mX9_allPages Q 22 [l0, l1, .int x] (.int x :: st) h := Ex_nx rfl rfl
theorem rX9_allPages_22 (Q : Po) (h : Hp) (ls : List Value) (st : List Value) (x y : Int32) : Ex mX9_allPages Q 22 ls (.int y :: .int x :: st) h = Ex mX9_allPages Q 23 ls (.int (x + y) :: st) h := Ex_nx rfl rfl
theorem rX9_allPages_23 (Q : Po) (h : Hp) (ls : List Value) (st : List Value) (a : Nat) (i : Int32) : Ex mX9_allPages Q 23 ls (.int i :: .ref a :: st) h = ((gK h a = 51 ∧ ¬ (i < 0 ∨ gL h a ≤ i.toNatClampNeg)) ∧ Ex mX9_allPages Q 24 ls (.int (gI h a i.toNatClampNeg) :: st) h) := Ex_gd rfl rfl
theorem rX9_allPages_24 (Q : Po) (h : Hp) (ls : List Value) (st : List Value) (x y : Int32) : Ex mX9_allPages Q 24 ls (.int y :: .int x :: st) h = Ex mX9_allPages Q 25 ls (.int (x + y) :: st) h := Ex_nx rfl rfl
theorem rX9_allPages_25 (Q : Po) (h : Hp) (l0 l1 l2 : Value) (x : Int32) (st : List Value) : Ex mX9_allPages Q 25 [l0, l1, l2] (.int x :: st) h = Ex mX9_allPages Q 26 [l0, .int x, l2] st h := Ex_nx rfl rfl
theorem rX9_allPages_26 (Q : Po) (h : Hp) (l0 l1 : Value) (x : Int32) (st : List Value) : Ex mX9_allPages Q 26 [l0, l1, .int x] st h = Ex mX9_allPages Q 29 [l0, l1, .int (x + 1)] st h := Ex_nx rfl rfl
theorem rX9_allPages_29 (Q : Po) (h : Hp) (ls : List Value) (st : List Value) : Ex mX9_allPages Q 29 ls st h = Ex mX9_allPages Q 4 ls st h := Ex_nx rfl rfl
theorem rX9_allPages_32 (Q : Po) (h : Hp) (l0 l2 : Value) (x : Int32) (st : List Value) : Ex mX9_allPages Q 32 [l0, .int x, l2] st h = Ex mX9_allPages Q 33 [l0, .int x, l2] (.int x :: st) h := Ex_nx rfl rfl
theorem rX9_allPages_33 (Q : Po) (h : Hp) (ls : List Value) (x : Int32) : Ex mX9_allPages Q 33 ls [.int x] h = Q (.inl (some (.int x))) h := Ex_rt rfl rfl
theorem rX9_allPages_t (Q : Po) (h : Hp) (pc n a : Nat) (ls st : List Value) : Cont mX9_allPages Q pc ls n st (.inr a) h = Q (.inr a) h := rfl
/-! FishReadersModel.nights(I)I -/
def mX9_nights : Cd := ([(0, .inl (i_aload 0 1)),
  (1, .inl (i_getf 78 [9] 4)),
  (4, .inl (i_if (fun x => ¬ x = 0) 10 7)),
  (7, .inl (i_push (.int (-1000002)) 9)),
  (9, .inl i_iret),
  (10, .inl (i_iload 1 11)),
  (11, .inl (i_i2l 12)),
  (12, .inl (i_push (.long 1) 13)),
  (13, .inl (i_push (.long 24) 16)),
  (16, .inr (c_S 3 19 6 (Mt mX9_in 6))),
  (19, .inl (i_if (fun x => ¬ x = 0) 25 22)),
  (22, .inl (i_push (.int (-1000001)) 24)),
  (24, .inl i_iret),
  (25, .inl (i_aload 0 26)),
  (26, .inl (i_getf 81 [9] 29)),
  (29, .inl (i_push (.int 4) 30)),
  (30, .inl (i_iald 51 31)),
  (31, .inl (i_iload 1 32)),
  (32, .inl (i_bin (fun x y => x + y) 33)),
  (33, .inl (i_push (.int 999) 36)),
  (36, .inl (i_icmp (fun x y => x ≤ y) 42 39)),
  (39, .inl (i_push (.int (-1000003)) 41)),
  (41, .inl i_iret),
  (42, .inl (i_push (.int 0) 43)),
  (43, .inl (i_istore 2 44)),
  (44, .inl (i_iload 2 45)),
  (45, .inl (i_iload 1 46)),
  (46, .inl (i_icmp (fun x y => y ≤ x) 63 49)),
  (49, .inl (i_aload 0 50)),
  (50, .inr (c_V 0 53 2 9 (Mt mX9_note 2))),
  (53, .inl (i_aload 0 54)),
  (54, .inr (c_V 0 57 2 9 (Mt mX9_oneNight 2))),
  (57, .inl (i_iinc 2 1 60)),
  (60, .inl (i_goto 44)),
  (63, .inl (i_aload 0 64)),
  (64, .inr (c_V 0 67 3 9 (Mt mX9_allPages 3))),
  (67, .inl i_iret)], noH)
theorem rX9_nights_0 (Q : Po) (h : Hp) (l1 l2 : Value) (x : Nat) (st : List Value) : Ex mX9_nights Q 0 [.ref x, l1, l2] st h = Ex mX9_nights Q 1 [.ref x, l1, l2] (.ref x :: st) h := Ex_nx rfl rfl
theorem rX9_nights_1 (Q : Po) (h : Hp) (ls : List Value) (st : List Value) (a : Nat) : Ex mX9_nights Q 1 ls (.ref a :: st) h = (gK h a ∈ ([9] : List Nat) ∧ Ex mX9_nights Q 4 ls (gF h 78 a :: st) h) := Ex_gd rfl rfl
theorem rX9_nights_4 (Q : Po) (h : Hp) (ls : List Value) (st : List Value) (x : Int32) : Ex mX9_nights Q 4 ls (.int x :: st) h = if ¬ x = 0 then Ex mX9_nights Q 10 ls st h else Ex mX9_nights Q 7 ls st h := Ex_br rfl rfl
theorem rX9_nights_7 (Q : Po) (h : Hp) (ls : List Value) (st : List Value) : Ex mX9_nights Q 7 ls st h = Ex mX9_nights Q 9 ls (.int (-1000002) :: st) h := Ex_nx rfl rfl
theorem rX9_nights_9 (Q : Po) (h : Hp) (ls : List Value) (x : Int32) : Ex mX9_nights Q 9 ls [.int x] h = Q (.inl (some (.int x))) h := Ex_rt rfl rfl
theorem rX9_nights_10 (Q : Po) (h : Hp) (l0 l2 : Value) (x : Int32) (st : List Value) : Ex mX9_nights Q 10 [l0, .int x, l2] st h = Ex mX9_nights Q 11 [l0, .int x, l2] (.int x :: st) h := Ex_nx rfl rfl
theorem rX9_nights_11 (Q : Po) (h : Hp) (ls : List Value) (st : List Value) (x : Int32) : Ex mX9_nights Q 11 ls (.int x :: st) h = Ex mX9_nights Q 12 ls (.long x.toInt64 :: st) h := Ex_nx rfl rfl
theorem rX9_nights_12 (Q : Po) (h : Hp) (ls : List Value) (st : List Value) : Ex mX9_nights Q 12 ls st h = Ex mX9_nights Q 13 ls (.long 1 :: st) h := Ex_nx rfl rfl
theorem rX9_nights_13 (Q : Po) (h : Hp) (ls : List Value) (st : List Value) : Ex mX9_nights Q 13 ls st h = Ex mX9_nights Q 16 ls (.long 24 :: st) h := Ex_nx rfl rfl
theorem rX9_nights_16 (Q : Po) (h : Hp) (ls : List Value) (a0 : Int64) (a1 : Int64) (a2 : Int64) : Ex mX9_nights Q 16 ls (.long a2 :: .long a1 :: .long a0 :: []) h = Ex mX9_in (Cont mX9_nights Q 16 ls 19 []) 0 [.long a0, .retAddr 1, .long a1, .retAddr 1, .long a2, .retAddr 1] [] h := Ex_cl (n := 6) (as := [.long a0, .long a1, .long a2]) rfl rfl
theorem rX9_nights_19 (Q : Po) (h : Hp) (ls : List Value) (st : List Value) (x : Int32) : Ex mX9_nights Q 19 ls (.int x :: st) h = if ¬ x = 0 then Ex mX9_nights Q 25 ls st h else Ex mX9_nights Q 22 ls st h := Ex_br rfl rfl
theorem rX9_nights_22 (Q : Po) (h : Hp) (ls : List Value) (st : List Value) : Ex mX9_nights Q 22 ls st h = Ex mX9_nights Q 24 ls (.int (-1000001) :: st) h := Ex_nx rfl rfl
theorem rX9_nights_24 (Q : Po) (h : Hp) (ls : List Value) (x : Int32) : Ex mX9_nights Q 24 ls [.int x] h = Q (.inl (some (.int x))) h := Ex_rt rfl rfl
theorem rX9_nights_25 (Q : Po) (h : Hp) (l1 l2 : Value) (x : Nat) (st : List Value) : Ex mX9_nights Q 25 [.ref x, l1, l2] st h = Ex mX9_nights Q 26 [.ref x, l1, l2] (.ref x :: st) h := Ex_nx rfl rfl
theorem rX9_nights_26 (Q : Po) (h : Hp) (ls : List Value) (st : List Value) (a : Nat) : Ex mX9_nights Q 26 ls (.ref a :: st) h = (gK h a ∈ ([9] : List Nat) ∧ Ex mX9_nights Q 29 ls (gF h 81 a :: st) h) := Ex_gd rfl rfl
theorem rX9_nights_29 (Q : Po) (h : Hp) (ls : List Value) (st : List Value) : Ex mX9_nights Q 29 ls st h = Ex mX9_nights Q 30 ls (.int 4 :: st) h := Ex_nx rfl rfl
theorem rX9_nights_30 (Q : Po) (h : Hp) (ls : List Value) (st : List Value) (a : Nat) (i : Int32) : Ex mX9_nights Q 30 ls (.int i :: .ref a :: st) h = ((gK h a = 51 ∧ ¬ (i < 0 ∨ gL h a ≤ i.toNatClampNeg)) ∧ Ex mX9_nights Q 31 ls (.int (gI h a i.toNatClampNeg) :: st) h) := Ex_gd rfl rfl
theorem rX9_nights_31 (Q : Po) (h : Hp) (l0 l2 : Value) (x : Int32) (st : List Value) : Ex mX9_nights Q 31 [l0, .int x, l2] st h = Ex mX9_nights Q 32 [l0, .int x, l2] (.int x :: st) h := Ex_nx rfl rfl
theorem rX9_nights_32 (Q : Po) (h : Hp) (ls : List Value) (st : List Value) (x y : Int32) : Ex mX9_nights Q 32 ls (.int y :: .int x :: st) h = Ex mX9_nights Q 33 ls (.int (x + y) :: st) h := Ex_nx rfl rfl
theorem rX9_nights_33 (Q : Po) (h : Hp) (ls : List Value) (st : List Value) : Ex mX9_nights Q 33 ls st h = Ex mX9_nights Q 36 ls (.int 999 :: st) h := Ex_nx rfl rfl
theorem rX9_nights_36 (Q : Po) (h : Hp) (ls : List Value) (st : List Value) (x y : Int32) : Ex mX9_nights Q 36 ls (.int y :: .int x :: st) h = if x ≤ y then Ex mX9_nights Q 42 ls st h else Ex mX9_nights Q 39 ls st h := Ex_br rfl rfl
theorem rX9_nights_39 (Q : Po) (h : Hp) (ls : List Value) (st : List Value) : Ex mX9_nights Q 39 ls st h = Ex mX9_nights Q 41 ls (.int (-1000003) :: st) h := Ex_nx rfl rfl
theorem rX9_nights_41 (Q : Po) (h : Hp) (ls : List Value) (x : Int32) : Ex mX9_nights Q 41 ls [.int x] h = Q (.inl (some (.int x))) h := Ex_rt rfl rfl
theorem rX9_nights_42 (Q : Po) (h : Hp) (ls : List Value) (st : List Value) : Ex mX9_nights Q 42 ls st h = Ex mX9_nights Q 43 ls (.int 0 :: st) h := Ex_nx rfl rfl
theorem rX9_nights_43 (Q : Po) (h : Hp) (l0 l1 l2 : Value) (x : Int32) (st : List Value) : Ex mX9_nights Q 43 [l0, l1, l2] (.int x :: st) h = Ex mX9_nights Q 44 [l0, l1, .int x] st h := Ex_nx rfl rfl
theorem rX9_nights_44 (Q : Po) (h : Hp) (l0 l1 : Value) (x : Int32) (st : List Value) : Ex mX9_nights Q 44 [l0, l1, .int x] st h = Ex mX9_nights Q 45 [l0, l1, .int x] (.int x :: st) h := Ex_nx rfl rfl
theorem rX9_nights_45 (Q : Po) (h : Hp) (l0 l2 : Value) (x : Int32) (st : List Value) : Ex mX9_nights Q 45 [l0, .int x, l2] st h = Ex mX9_nights Q 46 [l0, .int x, l2] (.int x :: st) h := Ex_nx rfl rfl
theorem rX9_nights_46 (Q : Po) (h : Hp) (ls : List Value) (st : List Value) (x y : Int32) : Ex mX9_nights Q 46 ls (.int y :: .int x :: st) h = if y ≤ x then Ex mX9_nights Q 63 ls st h else Ex mX9_nights Q 49 ls st h := Ex_br rfl rfl
theorem rX9_nights_49 (Q : Po) (h : Hp) (l1 l2 : Value) (x : Nat) (st : List Value) : Ex mX9_nights Q 49 [.ref x, l1, l2] st h = Ex mX9_nights Q 50 [.ref x, l1, l2] (.ref x :: st) h := Ex_nx rfl rfl
theorem rX9_nights_50 (Q : Po) (h : Hp) (ls : List Value) (b : Nat) : Ex mX9_nights Q 50 ls (.ref b :: []) h = (gK h b = 9 ∧ Ex mX9_note (Cont mX9_nights Q 50 ls 53 []) 0 [.ref b, .retAddr 0] [] h) := Ex_cg (n := 2) (as := [.ref b]) rfl rfl
theorem rX9_nights_53 (Q : Po) (h : Hp) (l1 l2 : Value) (x : Nat) (st : List Value) : Ex mX9_nights Q 53 [.ref x, l1, l2] st h = Ex mX9_nights Q 54 [.ref x, l1, l2] (.ref x :: st) h := Ex_nx rfl rfl
theorem rX9_nights_54 (Q : Po) (h : Hp) (ls : List Value) (b : Nat) : Ex mX9_nights Q 54 ls (.ref b :: []) h = (gK h b = 9 ∧ Ex mX9_oneNight (Cont mX9_nights Q 54 ls 57 []) 0 [.ref b, .retAddr 0] [] h) := Ex_cg (n := 2) (as := [.ref b]) rfl rfl
theorem rX9_nights_57 (Q : Po) (h : Hp) (l0 l1 : Value) (x : Int32) (st : List Value) : Ex mX9_nights Q 57 [l0, l1, .int x] st h = Ex mX9_nights Q 60 [l0, l1, .int (x + 1)] st h := Ex_nx rfl rfl
theorem rX9_nights_60 (Q : Po) (h : Hp) (ls : List Value) (st : List Value) : Ex mX9_nights Q 60 ls st h = Ex mX9_nights Q 44 ls st h := Ex_nx rfl rfl
theorem rX9_nights_63 (Q : Po) (h : Hp) (l1 l2 : Value) (x : Nat) (st : List Value) : Ex mX9_nights Q 63 [.ref x, l1, l2] st h = Ex mX9_nights Q 64 [.ref x, l1, l2] (.ref x :: st) h := Ex_nx rfl rfl
theorem rX9_nights_64 (Q : Po) (h : Hp) (ls : List Value) (b : Nat) : Ex mX9_nights Q 64 ls (.ref b :: []) h = (gK h b = 9 ∧ Ex mX9_allPages (Cont mX9_nights Q 64 ls 67 []) 0 [.ref b, .retAddr 0, .retAddr 0] [] h) := Ex_cg (n := 3) (as := [.ref b]) rfl rfl
theorem rX9_nights_67 (Q : Po) (h : Hp) (ls : List Value) (x : Int32) : Ex mX9_nights Q 67 ls [.int x] h = Q (.inl (some (.int x))) h := Ex_rt rfl rfl
theorem rX9_nights_t (Q : Po) (h : Hp) (pc n a : Nat) (ls st : List Value) : Cont mX9_nights Q pc ls n st (.inr a) h = Q (.inr a) h := rfl
/-! FishReadersModel.isBook(I)Z -/
def mX9_isBook : Cd := ([(0, .inl (i_iload 1 1)),
  (1, .inl (i_i2l 2)),
  (2, .inl (i_push (.long 0) 3)),
  (3, .inl (i_aload 0 4)),
  (4, .inl (i_getf 81 [9] 7)),
  (7, .inl (i_push (.int 0) 8)),
  (8, .inl (i_iald 51 9)),
  (9, .inl (i_push (.int 1) 10)),
  (10, .inl (i_bin (fun x y => x - y) 11)),
  (11, .inl (i_i2l 12)),
  (12, .inr (c_S 3 15 6 (Mt mX9_in 6))),
  (15, .inl i_zret)], noH)
theorem rX9_isBook_0 (Q : Po) (h : Hp) (l0 : Value) (x : Int32) (st : List Value) : Ex mX9_isBook Q 0 [l0, .int x] st h = Ex mX9_isBook Q 1 [l0, .int x] (.int x :: st) h := Ex_nx rfl rfl
theorem rX9_isBook_1 (Q : Po) (h : Hp) (ls : List Value) (st : List Value) (x : Int32) : Ex mX9_isBook Q 1 ls (.int x :: st) h = Ex mX9_isBook Q 2 ls (.long x.toInt64 :: st) h := Ex_nx rfl rfl
theorem rX9_isBook_2 (Q : Po) (h : Hp) (ls : List Value) (st : List Value) : Ex mX9_isBook Q 2 ls st h = Ex mX9_isBook Q 3 ls (.long 0 :: st) h := Ex_nx rfl rfl
theorem rX9_isBook_3 (Q : Po) (h : Hp) (l1 : Value) (x : Nat) (st : List Value) : Ex mX9_isBook Q 3 [.ref x, l1] st h = Ex mX9_isBook Q 4 [.ref x, l1] (.ref x :: st) h := Ex_nx rfl rfl
theorem rX9_isBook_4 (Q : Po) (h : Hp) (ls : List Value) (st : List Value) (a : Nat) : Ex mX9_isBook Q 4 ls (.ref a :: st) h = (gK h a ∈ ([9] : List Nat) ∧ Ex mX9_isBook Q 7 ls (gF h 81 a :: st) h) := Ex_gd rfl rfl
theorem rX9_isBook_7 (Q : Po) (h : Hp) (ls : List Value) (st : List Value) : Ex mX9_isBook Q 7 ls st h = Ex mX9_isBook Q 8 ls (.int 0 :: st) h := Ex_nx rfl rfl
theorem rX9_isBook_8 (Q : Po) (h : Hp) (ls : List Value) (st : List Value) (a : Nat) (i : Int32) : Ex mX9_isBook Q 8 ls (.int i :: .ref a :: st) h = ((gK h a = 51 ∧ ¬ (i < 0 ∨ gL h a ≤ i.toNatClampNeg)) ∧ Ex mX9_isBook Q 9 ls (.int (gI h a i.toNatClampNeg) :: st) h) := Ex_gd rfl rfl
theorem rX9_isBook_9 (Q : Po) (h : Hp) (ls : List Value) (st : List Value) : Ex mX9_isBook Q 9 ls st h = Ex mX9_isBook Q 10 ls (.int 1 :: st) h := Ex_nx rfl rfl
theorem rX9_isBook_10 (Q : Po) (h : Hp) (ls : List Value) (st : List Value) (x y : Int32) : Ex mX9_isBook Q 10 ls (.int y :: .int x :: st) h = Ex mX9_isBook Q 11 ls (.int (x - y) :: st) h := Ex_nx rfl rfl
theorem rX9_isBook_11 (Q : Po) (h : Hp) (ls : List Value) (st : List Value) (x : Int32) : Ex mX9_isBook Q 11 ls (.int x :: st) h = Ex mX9_isBook Q 12 ls (.long x.toInt64 :: st) h := Ex_nx rfl rfl
theorem rX9_isBook_12 (Q : Po) (h : Hp) (ls : List Value) (a0 : Int64) (a1 : Int64) (a2 : Int64) : Ex mX9_isBook Q 12 ls (.long a2 :: .long a1 :: .long a0 :: []) h = Ex mX9_in (Cont mX9_isBook Q 12 ls 15 []) 0 [.long a0, .retAddr 1, .long a1, .retAddr 1, .long a2, .retAddr 1] [] h := Ex_cl (n := 6) (as := [.long a0, .long a1, .long a2]) rfl rfl
theorem rX9_isBook_15 (Q : Po) (h : Hp) (ls : List Value) (x : Int32) : Ex mX9_isBook Q 15 ls [.int x] h = ((x = 0 ∨ x = 1) ∧ Q (.inl (some (.int x))) h) := Ex_rg rfl rfl
theorem rX9_isBook_t (Q : Po) (h : Hp) (pc n a : Nat) (ls st : List Value) : Cont mX9_isBook Q pc ls n st (.inr a) h = Q (.inr a) h := rfl
/-! FishReadersModel.ones(I)I -/
def mX9_ones : Cd := ([(0, .inl (i_push (.int 0) 1)),
  (1, .inl (i_istore 1 2)),
  (2, .inl (i_iload 0 3)),
  (3, .inl (i_istore 2 4)),
  (4, .inl (i_iload 2 5)),
  (5, .inl (i_if (fun x => x = 0) 20 8)),
  (8, .inl (i_iinc 1 1 11)),
  (11, .inl (i_iload 2 12)),
  (12, .inl (i_iload 2 13)),
  (13, .inl (i_push (.int 1) 14)),
  (14, .inl (i_bin (fun x y => x - y) 15)),
  (15, .inl (i_bin (fun x y => x &&& y) 16)),
  (16, .inl (i_istore 2 17)),
  (17, .inl (i_goto 4)),
  (20, .inl (i_iload 1 21)),
  (21, .inl i_iret)], noH)
theorem rX9_ones_0 (Q : Po) (h : Hp) (ls : List Value) (st : List Value) : Ex mX9_ones Q 0 ls st h = Ex mX9_ones Q 1 ls (.int 0 :: st) h := Ex_nx rfl rfl
theorem rX9_ones_1 (Q : Po) (h : Hp) (l0 l1 l2 : Value) (x : Int32) (st : List Value) : Ex mX9_ones Q 1 [l0, l1, l2] (.int x :: st) h = Ex mX9_ones Q 2 [l0, .int x, l2] st h := Ex_nx rfl rfl
theorem rX9_ones_2 (Q : Po) (h : Hp) (l1 l2 : Value) (x : Int32) (st : List Value) : Ex mX9_ones Q 2 [.int x, l1, l2] st h = Ex mX9_ones Q 3 [.int x, l1, l2] (.int x :: st) h := Ex_nx rfl rfl
theorem rX9_ones_3 (Q : Po) (h : Hp) (l0 l1 l2 : Value) (x : Int32) (st : List Value) : Ex mX9_ones Q 3 [l0, l1, l2] (.int x :: st) h = Ex mX9_ones Q 4 [l0, l1, .int x] st h := Ex_nx rfl rfl
theorem rX9_ones_4 (Q : Po) (h : Hp) (l0 l1 : Value) (x : Int32) (st : List Value) : Ex mX9_ones Q 4 [l0, l1, .int x] st h = Ex mX9_ones Q 5 [l0, l1, .int x] (.int x :: st) h := Ex_nx rfl rfl
theorem rX9_ones_5 (Q : Po) (h : Hp) (ls : List Value) (st : List Value) (x : Int32) : Ex mX9_ones Q 5 ls (.int x :: st) h = if x = 0 then Ex mX9_ones Q 20 ls st h else Ex mX9_ones Q 8 ls st h := Ex_br rfl rfl
theorem rX9_ones_8 (Q : Po) (h : Hp) (l0 l2 : Value) (x : Int32) (st : List Value) : Ex mX9_ones Q 8 [l0, .int x, l2] st h = Ex mX9_ones Q 11 [l0, .int (x + 1), l2] st h := Ex_nx rfl rfl
theorem rX9_ones_11 (Q : Po) (h : Hp) (l0 l1 : Value) (x : Int32) (st : List Value) : Ex mX9_ones Q 11 [l0, l1, .int x] st h = Ex mX9_ones Q 12 [l0, l1, .int x] (.int x :: st) h := Ex_nx rfl rfl
theorem rX9_ones_12 (Q : Po) (h : Hp) (l0 l1 : Value) (x : Int32) (st : List Value) : Ex mX9_ones Q 12 [l0, l1, .int x] st h = Ex mX9_ones Q 13 [l0, l1, .int x] (.int x :: st) h := Ex_nx rfl rfl
theorem rX9_ones_13 (Q : Po) (h : Hp) (ls : List Value) (st : List Value) : Ex mX9_ones Q 13 ls st h = Ex mX9_ones Q 14 ls (.int 1 :: st) h := Ex_nx rfl rfl
theorem rX9_ones_14 (Q : Po) (h : Hp) (ls : List Value) (st : List Value) (x y : Int32) : Ex mX9_ones Q 14 ls (.int y :: .int x :: st) h = Ex mX9_ones Q 15 ls (.int (x - y) :: st) h := Ex_nx rfl rfl
theorem rX9_ones_15 (Q : Po) (h : Hp) (ls : List Value) (st : List Value) (x y : Int32) : Ex mX9_ones Q 15 ls (.int y :: .int x :: st) h = Ex mX9_ones Q 16 ls (.int (x &&& y) :: st) h := Ex_nx rfl rfl
theorem rX9_ones_16 (Q : Po) (h : Hp) (l0 l1 l2 : Value) (x : Int32) (st : List Value) : Ex mX9_ones Q 16 [l0, l1, l2] (.int x :: st) h = Ex mX9_ones Q 17 [l0, l1, .int x] st h := Ex_nx rfl rfl
theorem rX9_ones_17 (Q : Po) (h : Hp) (ls : List Value) (st : List Value) : Ex mX9_ones Q 17 ls st h = Ex mX9_ones Q 4 ls st h := Ex_nx rfl rfl
theorem rX9_ones_20 (Q : Po) (h : Hp) (l0 l2 : Value) (x : Int32) (st : List Value) : Ex mX9_ones Q 20 [l0, .int x, l2] st h = Ex mX9_ones Q 21 [l0, .int x, l2] (.int x :: st) h := Ex_nx rfl rfl
theorem rX9_ones_21 (Q : Po) (h : Hp) (ls : List Value) (x : Int32) : Ex mX9_ones Q 21 ls [.int x] h = Q (.inl (some (.int x))) h := Ex_rt rfl rfl
theorem rX9_ones_t (Q : Po) (h : Hp) (pc n a : Nat) (ls st : List Value) : Cont mX9_ones Q pc ls n st (.inr a) h = Q (.inr a) h := rfl
/-! FishReadersModel.light(II)I -/
def mX9_light : Cd := ([(0, .inl (i_aload 0 1)),
  (1, .inl (i_iload 1 2)),
  (2, .inr (c_V 1 5 2 9 (Mt mX9_isBook 2))),
  (5, .inl (i_if (fun x => x = 0) 18 8)),
  (8, .inl (i_iload 2 9)),
  (9, .inl (i_i2l 10)),
  (10, .inl (i_push (.long 0) 11)),
  (11, .inl (i_push (.long 1) 12)),
  (12, .inr (c_S 3 15 6 (Mt mX9_in 6))),
  (15, .inl (i_if (fun x => ¬ x = 0) 21 18)),
  (18, .inl (i_push (.int (-1000001)) 20)),
  (20, .inl i_iret),
  (21, .inl (i_aload 0 22)),
  (22, .inl (i_getf 81 [9] 25)),
  (25, .inl (i_push (.int 5) 26)),
  (26, .inl (i_iald 51 27)),
  (27, .inl (i_iload 1 28)),
  (28, .inr (c_S 2 31 2 (Mt mX9_has 2))),
  (31, .inl (i_iload 2 32)),
  (32, .inl (i_push (.int 1) 33)),
  (33, .inl (i_icmp (fun x y => ¬ x = y) 40 36)),
  (36, .inl (i_push (.int 1) 37)),
  (37, .inl (i_goto 41)),
  (40, .inl (i_push (.int 0) 41)),
  (41, .inl (i_icmp (fun x y => x = y) 67 44)),
  (44, .inl (i_iload 2 45)),
  (45, .inl (i_push (.int 1) 46)),
  (46, .inl (i_icmp (fun x y => ¬ x = y) 70 49)),
  (49, .inl (i_aload 0 50)),
  (50, .inl (i_getf 81 [9] 53)),
  (53, .inl (i_push (.int 5) 54)),
  (54, .inl (i_iald 51 55)),
  (55, .inr (c_S 1 58 3 (Mt mX9_ones 3))),
  (58, .inl (i_aload 0 59)),
  (59, .inl (i_getf 81 [9] 62)),
  (62, .inl (i_push (.int 3) 63)),
  (63, .inl (i_iald 51 64)),
  (64, .inl (i_icmp (fun x y => x < y) 70 67)),
  (67, .inl (i_push (.int (-1000002)) 69)),
  (69, .inl i_iret),
  (70, .inl (i_aload 0 71)),
  (71, .inr (c_V 0 74 2 9 (Mt mX9_note 2))),
  (74, .inl (i_aload 0 75)),
  (75, .inl (i_getf 81 [9] 78)),
  (78, .inl (i_push (.int 5) 79)),
  (79, .inl (i_dup2 80)),
  (80, .inl (i_iald 51 81)),
  (81, .inl (i_push (.int 1) 82)),
  (82, .inl (i_iload 1 83)),
  (83, .inl (i_bin (fun x y => x <<< (y &&& 31)) 84)),
  (84, .inl (i_bin (fun x y => x ^^^ y) 85)),
  (85, .inl (i_iast 51 (fun x => x) 86)),
  (86, .inl (i_aload 0 87)),
  (87, .inl (i_getf 81 [9] 90)),
  (90, .inl (i_push (.int 5) 91)),
  (91, .inl (i_iald 51 92)),
  (92, .inl i_iret)], noH)
theorem rX9_light_0 (Q : Po) (h : Hp) (l1 l2 : Value) (x : Nat) (st : List Value) : Ex mX9_light Q 0 [.ref x, l1, l2] st h = Ex mX9_light Q 1 [.ref x, l1, l2] (.ref x :: st) h := Ex_nx rfl rfl
theorem rX9_light_1 (Q : Po) (h : Hp) (l0 l2 : Value) (x : Int32) (st : List Value) : Ex mX9_light Q 1 [l0, .int x, l2] st h = Ex mX9_light Q 2 [l0, .int x, l2] (.int x :: st) h := Ex_nx rfl rfl
theorem rX9_light_2 (Q : Po) (h : Hp) (ls : List Value) (a0 : Int32) (b : Nat) : Ex mX9_light Q 2 ls (.int a0 :: .ref b :: []) h = (gK h b = 9 ∧ Ex mX9_isBook (Cont mX9_light Q 2 ls 5 []) 0 [.ref b, .int a0] [] h) := Ex_cg (n := 2) (as := [.ref b, .int a0]) rfl rfl
theorem rX9_light_5 (Q : Po) (h : Hp) (ls : List Value) (st : List Value) (x : Int32) : Ex mX9_light Q 5 ls (.int x :: st) h = if x = 0 then Ex mX9_light Q 18 ls st h else Ex mX9_light Q 8 ls st h := Ex_br rfl rfl
theorem rX9_light_8 (Q : Po) (h : Hp) (l0 l1 : Value) (x : Int32) (st : List Value) : Ex mX9_light Q 8 [l0, l1, .int x] st h = Ex mX9_light Q 9 [l0, l1, .int x] (.int x :: st) h := Ex_nx rfl rfl
theorem rX9_light_9 (Q : Po) (h : Hp) (ls : List Value) (st : List Value) (x : Int32) : Ex mX9_light Q 9 ls (.int x :: st) h = Ex mX9_light Q 10 ls (.long x.toInt64 :: st) h := Ex_nx rfl rfl
theorem rX9_light_10 (Q : Po) (h : Hp) (ls : List Value) (st : List Value) : Ex mX9_light Q 10 ls st h = Ex mX9_light Q 11 ls (.long 0 :: st) h := Ex_nx rfl rfl
theorem rX9_light_11 (Q : Po) (h : Hp) (ls : List Value) (st : List Value) : Ex mX9_light Q 11 ls st h = Ex mX9_light Q 12 ls (.long 1 :: st) h := Ex_nx rfl rfl
theorem rX9_light_12 (Q : Po) (h : Hp) (ls : List Value) (a0 : Int64) (a1 : Int64) (a2 : Int64) : Ex mX9_light Q 12 ls (.long a2 :: .long a1 :: .long a0 :: []) h = Ex mX9_in (Cont mX9_light Q 12 ls 15 []) 0 [.long a0, .retAddr 1, .long a1, .retAddr 1, .long a2, .retAddr 1] [] h := Ex_cl (n := 6) (as := [.long a0, .long a1, .long a2]) rfl rfl
theorem rX9_light_15 (Q : Po) (h : Hp) (ls : List Value) (st : List Value) (x : Int32) : Ex mX9_light Q 15 ls (.int x :: st) h = if ¬ x = 0 then Ex mX9_light Q 21 ls st h else Ex mX9_light Q 18 ls st h := Ex_br rfl rfl
theorem rX9_light_18 (Q : Po) (h : Hp) (ls : List Value) (st : List Value) : Ex mX9_light Q 18 ls st h = Ex mX9_light Q 20 ls (.int (-1000001) :: st) h := Ex_nx rfl rfl
theorem rX9_light_20 (Q : Po) (h : Hp) (ls : List Value) (x : Int32) : Ex mX9_light Q 20 ls [.int x] h = Q (.inl (some (.int x))) h := Ex_rt rfl rfl
theorem rX9_light_21 (Q : Po) (h : Hp) (l1 l2 : Value) (x : Nat) (st : List Value) : Ex mX9_light Q 21 [.ref x, l1, l2] st h = Ex mX9_light Q 22 [.ref x, l1, l2] (.ref x :: st) h := Ex_nx rfl rfl
theorem rX9_light_22 (Q : Po) (h : Hp) (ls : List Value) (st : List Value) (a : Nat) : Ex mX9_light Q 22 ls (.ref a :: st) h = (gK h a ∈ ([9] : List Nat) ∧ Ex mX9_light Q 25 ls (gF h 81 a :: st) h) := Ex_gd rfl rfl
theorem rX9_light_25 (Q : Po) (h : Hp) (ls : List Value) (st : List Value) : Ex mX9_light Q 25 ls st h = Ex mX9_light Q 26 ls (.int 5 :: st) h := Ex_nx rfl rfl
theorem rX9_light_26 (Q : Po) (h : Hp) (ls : List Value) (st : List Value) (a : Nat) (i : Int32) : Ex mX9_light Q 26 ls (.int i :: .ref a :: st) h = ((gK h a = 51 ∧ ¬ (i < 0 ∨ gL h a ≤ i.toNatClampNeg)) ∧ Ex mX9_light Q 27 ls (.int (gI h a i.toNatClampNeg) :: st) h) := Ex_gd rfl rfl
theorem rX9_light_27 (Q : Po) (h : Hp) (l0 l2 : Value) (x : Int32) (st : List Value) : Ex mX9_light Q 27 [l0, .int x, l2] st h = Ex mX9_light Q 28 [l0, .int x, l2] (.int x :: st) h := Ex_nx rfl rfl
theorem rX9_light_28 (Q : Po) (h : Hp) (ls : List Value) (a0 : Int32) (a1 : Int32) : Ex mX9_light Q 28 ls (.int a1 :: .int a0 :: []) h = Ex mX9_has (Cont mX9_light Q 28 ls 31 []) 0 [.int a0, .int a1] [] h := Ex_cl (n := 2) (as := [.int a0, .int a1]) rfl rfl
theorem rX9_light_31 (Q : Po) (h : Hp) (l0 l1 : Value) (x : Int32) (st : List Value) : Ex mX9_light Q 31 [l0, l1, .int x] st h = Ex mX9_light Q 32 [l0, l1, .int x] (.int x :: st) h := Ex_nx rfl rfl
theorem rX9_light_32 (Q : Po) (h : Hp) (ls : List Value) (st : List Value) : Ex mX9_light Q 32 ls st h = Ex mX9_light Q 33 ls (.int 1 :: st) h := Ex_nx rfl rfl
theorem rX9_light_33 (Q : Po) (h : Hp) (ls : List Value) (st : List Value) (x y : Int32) : Ex mX9_light Q 33 ls (.int y :: .int x :: st) h = if ¬ x = y then Ex mX9_light Q 40 ls st h else Ex mX9_light Q 36 ls st h := Ex_br rfl rfl
theorem rX9_light_36 (Q : Po) (h : Hp) (ls : List Value) (st : List Value) : Ex mX9_light Q 36 ls st h = Ex mX9_light Q 37 ls (.int 1 :: st) h := Ex_nx rfl rfl
theorem rX9_light_37 (Q : Po) (h : Hp) (ls : List Value) (st : List Value) : Ex mX9_light Q 37 ls st h = Ex mX9_light Q 41 ls st h := Ex_nx rfl rfl
theorem rX9_light_40 (Q : Po) (h : Hp) (ls : List Value) (st : List Value) : Ex mX9_light Q 40 ls st h = Ex mX9_light Q 41 ls (.int 0 :: st) h := Ex_nx rfl rfl
theorem rX9_light_41 (Q : Po) (h : Hp) (ls : List Value) (st : List Value) (x y : Int32) : Ex mX9_light Q 41 ls (.int y :: .int x :: st) h = if x = y then Ex mX9_light Q 67 ls st h else Ex mX9_light Q 44 ls st h := Ex_br rfl rfl
theorem rX9_light_44 (Q : Po) (h : Hp) (l0 l1 : Value) (x : Int32) (st : List Value) : Ex mX9_light Q 44 [l0, l1, .int x] st h = Ex mX9_light Q 45 [l0, l1, .int x] (.int x :: st) h := Ex_nx rfl rfl
theorem rX9_light_45 (Q : Po) (h : Hp) (ls : List Value) (st : List Value) : Ex mX9_light Q 45 ls st h = Ex mX9_light Q 46 ls (.int 1 :: st) h := Ex_nx rfl rfl
theorem rX9_light_46 (Q : Po) (h : Hp) (ls : List Value) (st : List Value) (x y : Int32) : Ex mX9_light Q 46 ls (.int y :: .int x :: st) h = if ¬ x = y then Ex mX9_light Q 70 ls st h else Ex mX9_light Q 49 ls st h := Ex_br rfl rfl
theorem rX9_light_49 (Q : Po) (h : Hp) (l1 l2 : Value) (x : Nat) (st : List Value) : Ex mX9_light Q 49 [.ref x, l1, l2] st h = Ex mX9_light Q 50 [.ref x, l1, l2] (.ref x :: st) h := Ex_nx rfl rfl
theorem rX9_light_50 (Q : Po) (h : Hp) (ls : List Value) (st : List Value) (a : Nat) : Ex mX9_light Q 50 ls (.ref a :: st) h = (gK h a ∈ ([9] : List Nat) ∧ Ex mX9_light Q 53 ls (gF h 81 a :: st) h) := Ex_gd rfl rfl
theorem rX9_light_53 (Q : Po) (h : Hp) (ls : List Value) (st : List Value) : Ex mX9_light Q 53 ls st h = Ex mX9_light Q 54 ls (.int 5 :: st) h := Ex_nx rfl rfl
theorem rX9_light_54 (Q : Po) (h : Hp) (ls : List Value) (st : List Value) (a : Nat) (i : Int32) : Ex mX9_light Q 54 ls (.int i :: .ref a :: st) h = ((gK h a = 51 ∧ ¬ (i < 0 ∨ gL h a ≤ i.toNatClampNeg)) ∧ Ex mX9_light Q 55 ls (.int (gI h a i.toNatClampNeg) :: st) h) := Ex_gd rfl rfl
theorem rX9_light_55 (Q : Po) (h : Hp) (ls : List Value) (a0 : Int32) : Ex mX9_light Q 55 ls (.int a0 :: []) h = Ex mX9_ones (Cont mX9_light Q 55 ls 58 []) 0 [.int a0, .retAddr 0, .retAddr 0] [] h := Ex_cl (n := 3) (as := [.int a0]) rfl rfl
theorem rX9_light_58 (Q : Po) (h : Hp) (l1 l2 : Value) (x : Nat) (st : List Value) : Ex mX9_light Q 58 [.ref x, l1, l2] st h = Ex mX9_light Q 59 [.ref x, l1, l2] (.ref x :: st) h := Ex_nx rfl rfl
theorem rX9_light_59 (Q : Po) (h : Hp) (ls : List Value) (st : List Value) (a : Nat) : Ex mX9_light Q 59 ls (.ref a :: st) h = (gK h a ∈ ([9] : List Nat) ∧ Ex mX9_light Q 62 ls (gF h 81 a :: st) h) := Ex_gd rfl rfl
theorem rX9_light_62 (Q : Po) (h : Hp) (ls : List Value) (st : List Value) : Ex mX9_light Q 62 ls st h = Ex mX9_light Q 63 ls (.int 3 :: st) h := Ex_nx rfl rfl
theorem rX9_light_63 (Q : Po) (h : Hp) (ls : List Value) (st : List Value) (a : Nat) (i : Int32) : Ex mX9_light Q 63 ls (.int i :: .ref a :: st) h = ((gK h a = 51 ∧ ¬ (i < 0 ∨ gL h a ≤ i.toNatClampNeg)) ∧ Ex mX9_light Q 64 ls (.int (gI h a i.toNatClampNeg) :: st) h) := Ex_gd rfl rfl
theorem rX9_light_64 (Q : Po) (h : Hp) (ls : List Value) (st : List Value) (x y : Int32) : Ex mX9_light Q 64 ls (.int y :: .int x :: st) h = if x < y then Ex mX9_light Q 70 ls st h else Ex mX9_light Q 67 ls st h := Ex_br rfl rfl
theorem rX9_light_67 (Q : Po) (h : Hp) (ls : List Value) (st : List Value) : Ex mX9_light Q 67 ls st h = Ex mX9_light Q 69 ls (.int (-1000002) :: st) h := Ex_nx rfl rfl
theorem rX9_light_69 (Q : Po) (h : Hp) (ls : List Value) (x : Int32) : Ex mX9_light Q 69 ls [.int x] h = Q (.inl (some (.int x))) h := Ex_rt rfl rfl
theorem rX9_light_70 (Q : Po) (h : Hp) (l1 l2 : Value) (x : Nat) (st : List Value) : Ex mX9_light Q 70 [.ref x, l1, l2] st h = Ex mX9_light Q 71 [.ref x, l1, l2] (.ref x :: st) h := Ex_nx rfl rfl
theorem rX9_light_71 (Q : Po) (h : Hp) (ls : List Value) (b : Nat) : Ex mX9_light Q 71 ls (.ref b :: []) h = (gK h b = 9 ∧ Ex mX9_note (Cont mX9_light Q 71 ls 74 []) 0 [.ref b, .retAddr 0] [] h) := Ex_cg (n := 2) (as := [.ref b]) rfl rfl
theorem rX9_light_74 (Q : Po) (h : Hp) (l1 l2 : Value) (x : Nat) (st : List Value) : Ex mX9_light Q 74 [.ref x, l1, l2] st h = Ex mX9_light Q 75 [.ref x, l1, l2] (.ref x :: st) h := Ex_nx rfl rfl
theorem rX9_light_75 (Q : Po) (h : Hp) (ls : List Value) (st : List Value) (a : Nat) : Ex mX9_light Q 75 ls (.ref a :: st) h = (gK h a ∈ ([9] : List Nat) ∧ Ex mX9_light Q 78 ls (gF h 81 a :: st) h) := Ex_gd rfl rfl
theorem rX9_light_78 (Q : Po) (h : Hp) (ls : List Value) (st : List Value) : Ex mX9_light Q 78 ls st h = Ex mX9_light Q 79 ls (.int 5 :: st) h := Ex_nx rfl rfl
theorem rX9_light_79 (Q : Po) (h : Hp) (ls : List Value) (st : List Value) (x : Int32) (y : Nat) : Ex mX9_light Q 79 ls (.int x :: .ref y :: st) h = Ex mX9_light Q 80 ls (.int x :: .ref y :: .int x :: .ref y :: st) h := Ex_nx rfl rfl
theorem rX9_light_80 (Q : Po) (h : Hp) (ls : List Value) (st : List Value) (a : Nat) (i : Int32) : Ex mX9_light Q 80 ls (.int i :: .ref a :: st) h = ((gK h a = 51 ∧ ¬ (i < 0 ∨ gL h a ≤ i.toNatClampNeg)) ∧ Ex mX9_light Q 81 ls (.int (gI h a i.toNatClampNeg) :: st) h) := Ex_gd rfl rfl
theorem rX9_light_81 (Q : Po) (h : Hp) (ls : List Value) (st : List Value) : Ex mX9_light Q 81 ls st h = Ex mX9_light Q 82 ls (.int 1 :: st) h := Ex_nx rfl rfl
theorem rX9_light_82 (Q : Po) (h : Hp) (l0 l2 : Value) (x : Int32) (st : List Value) : Ex mX9_light Q 82 [l0, .int x, l2] st h = Ex mX9_light Q 83 [l0, .int x, l2] (.int x :: st) h := Ex_nx rfl rfl
theorem rX9_light_83 (Q : Po) (h : Hp) (ls : List Value) (st : List Value) (x y : Int32) : Ex mX9_light Q 83 ls (.int y :: .int x :: st) h = Ex mX9_light Q 84 ls (.int (x <<< (y &&& 31)) :: st) h := Ex_nx rfl rfl
theorem rX9_light_84 (Q : Po) (h : Hp) (ls : List Value) (st : List Value) (x y : Int32) : Ex mX9_light Q 84 ls (.int y :: .int x :: st) h = Ex mX9_light Q 85 ls (.int (x ^^^ y) :: st) h := Ex_nx rfl rfl
theorem rX9_light_85 (Q : Po) (h : Hp) (ls : List Value) (st : List Value) (a : Nat) (i x : Int32) : Ex mX9_light Q 85 ls (.int x :: .int i :: .ref a :: st) h = ((gK h a = 51 ∧ ¬ (i < 0 ∨ gL h a ≤ i.toNatClampNeg)) ∧ Ex mX9_light Q 86 ls st (pI h a i.toNatClampNeg (x))) := Ex_gd rfl rfl
theorem rX9_light_86 (Q : Po) (h : Hp) (l1 l2 : Value) (x : Nat) (st : List Value) : Ex mX9_light Q 86 [.ref x, l1, l2] st h = Ex mX9_light Q 87 [.ref x, l1, l2] (.ref x :: st) h := Ex_nx rfl rfl
theorem rX9_light_87 (Q : Po) (h : Hp) (ls : List Value) (st : List Value) (a : Nat) : Ex mX9_light Q 87 ls (.ref a :: st) h = (gK h a ∈ ([9] : List Nat) ∧ Ex mX9_light Q 90 ls (gF h 81 a :: st) h) := Ex_gd rfl rfl
theorem rX9_light_90 (Q : Po) (h : Hp) (ls : List Value) (st : List Value) : Ex mX9_light Q 90 ls st h = Ex mX9_light Q 91 ls (.int 5 :: st) h := Ex_nx rfl rfl
theorem rX9_light_91 (Q : Po) (h : Hp) (ls : List Value) (st : List Value) (a : Nat) (i : Int32) : Ex mX9_light Q 91 ls (.int i :: .ref a :: st) h = ((gK h a = 51 ∧ ¬ (i < 0 ∨ gL h a ≤ i.toNatClampNeg)) ∧ Ex mX9_light Q 92 ls (.int (gI h a i.toNatClampNeg) :: st) h) := Ex_gd rfl rfl
theorem rX9_light_92 (Q : Po) (h : Hp) (ls : List Value) (x : Int32) : Ex mX9_light Q 92 ls [.int x] h = Q (.inl (some (.int x))) h := Ex_rt rfl rfl
theorem rX9_light_t (Q : Po) (h : Hp) (pc n a : Nat) (ls st : List Value) : Cont mX9_light Q pc ls n st (.inr a) h = Q (.inr a) h := rfl
/-! FishReadersModel.keepIt(II)I -/
def mX9_keepIt : Cd := ([(0, .inl (i_aload 0 1)),
  (1, .inl (i_iload 1 2)),
  (2, .inr (c_V 1 5 2 9 (Mt mX9_isBook 2))),
  (5, .inl (i_if (fun x => x = 0) 18 8)),
  (8, .inl (i_iload 2 9)),
  (9, .inl (i_i2l 10)),
  (10, .inl (i_push (.long 0) 11)),
  (11, .inl (i_push (.long 1) 12)),
  (12, .inr (c_S 3 15 6 (Mt mX9_in 6))),
  (15, .inl (i_if (fun x => ¬ x = 0) 21 18)),
  (18, .inl (i_push (.int (-1000001)) 20)),
  (20, .inl i_iret),
  (21, .inl (i_aload 0 22)),
  (22, .inl (i_getf 81 [9] 25)),
  (25, .inl (i_push (.int 6) 27)),
  (27, .inl (i_iald 51 28)),
  (28, .inl (i_iload 1 29)),
  (29, .inr (c_S 2 32 2 (Mt mX9_has 2))),
  (32, .inl (i_iload 2 33)),
  (33, .inl (i_push (.int 1) 34)),
  (34, .inl (i_icmp (fun x y => ¬ x = y) 41 37)),
  (37, .inl (i_push (.int 1) 38)),
  (38, .inl (i_goto 42)),
  (41, .inl (i_push (.int 0) 42)),
  (42, .inl (i_icmp (fun x y => ¬ x = y) 48 45)),
  (45, .inl (i_push (.int (-1000002)) 47)),
  (47, .inl i_iret),
  (48, .inl (i_aload 0 49)),
  (49, .inr (c_V 0 52 2 9 (Mt mX9_note 2))),
  (52, .inl (i_aload 0 53)),
  (53, .inl (i_getf 81 [9] 56)),
  (56, .inl (i_push (.int 6) 58)),
  (58, .inl (i_dup2 59)),
  (59, .inl (i_iald 51 60)),
  (60, .inl (i_push (.int 1) 61)),
  (61, .inl (i_iload 1 62)),
  (62, .inl (i_bin (fun x y => x <<< (y &&& 31)) 63)),
  (63, .inl (i_bin (fun x y => x ^^^ y) 64)),
  (64, .inl (i_iast 51 (fun x => x) 65)),
  (65, .inl (i_aload 0 66)),
  (66, .inl (i_getf 81 [9] 69)),
  (69, .inl (i_push (.int 6) 71)),
  (71, .inl (i_iald 51 72)),
  (72, .inl i_iret)], noH)
theorem rX9_keepIt_0 (Q : Po) (h : Hp) (l1 l2 : Value) (x : Nat) (st : List Value) : Ex mX9_keepIt Q 0 [.ref x, l1, l2] st h = Ex mX9_keepIt Q 1 [.ref x, l1, l2] (.ref x :: st) h := Ex_nx rfl rfl
theorem rX9_keepIt_1 (Q : Po) (h : Hp) (l0 l2 : Value) (x : Int32) (st : List Value) : Ex mX9_keepIt Q 1 [l0, .int x, l2] st h = Ex mX9_keepIt Q 2 [l0, .int x, l2] (.int x :: st) h := Ex_nx rfl rfl
theorem rX9_keepIt_2 (Q : Po) (h : Hp) (ls : List Value) (a0 : Int32) (b : Nat) : Ex mX9_keepIt Q 2 ls (.int a0 :: .ref b :: []) h = (gK h b = 9 ∧ Ex mX9_isBook (Cont mX9_keepIt Q 2 ls 5 []) 0 [.ref b, .int a0] [] h) := Ex_cg (n := 2) (as := [.ref b, .int a0]) rfl rfl
theorem rX9_keepIt_5 (Q : Po) (h : Hp) (ls : List Value) (st : List Value) (x : Int32) : Ex mX9_keepIt Q 5 ls (.int x :: st) h = if x = 0 then Ex mX9_keepIt Q 18 ls st h else Ex mX9_keepIt Q 8 ls st h := Ex_br rfl rfl
theorem rX9_keepIt_8 (Q : Po) (h : Hp) (l0 l1 : Value) (x : Int32) (st : List Value) : Ex mX9_keepIt Q 8 [l0, l1, .int x] st h = Ex mX9_keepIt Q 9 [l0, l1, .int x] (.int x :: st) h := Ex_nx rfl rfl
theorem rX9_keepIt_9 (Q : Po) (h : Hp) (ls : List Value) (st : List Value) (x : Int32) : Ex mX9_keepIt Q 9 ls (.int x :: st) h = Ex mX9_keepIt Q 10 ls (.long x.toInt64 :: st) h := Ex_nx rfl rfl
theorem rX9_keepIt_10 (Q : Po) (h : Hp) (ls : List Value) (st : List Value) : Ex mX9_keepIt Q 10 ls st h = Ex mX9_keepIt Q 11 ls (.long 0 :: st) h := Ex_nx rfl rfl
theorem rX9_keepIt_11 (Q : Po) (h : Hp) (ls : List Value) (st : List Value) : Ex mX9_keepIt Q 11 ls st h = Ex mX9_keepIt Q 12 ls (.long 1 :: st) h := Ex_nx rfl rfl
theorem rX9_keepIt_12 (Q : Po) (h : Hp) (ls : List Value) (a0 : Int64) (a1 : Int64) (a2 : Int64) : Ex mX9_keepIt Q 12 ls (.long a2 :: .long a1 :: .long a0 :: []) h = Ex mX9_in (Cont mX9_keepIt Q 12 ls 15 []) 0 [.long a0, .retAddr 1, .long a1, .retAddr 1, .long a2, .retAddr 1] [] h := Ex_cl (n := 6) (as := [.long a0, .long a1, .long a2]) rfl rfl
theorem rX9_keepIt_15 (Q : Po) (h : Hp) (ls : List Value) (st : List Value) (x : Int32) : Ex mX9_keepIt Q 15 ls (.int x :: st) h = if ¬ x = 0 then Ex mX9_keepIt Q 21 ls st h else Ex mX9_keepIt Q 18 ls st h := Ex_br rfl rfl
theorem rX9_keepIt_18 (Q : Po) (h : Hp) (ls : List Value) (st : List Value) : Ex mX9_keepIt Q 18 ls st h = Ex mX9_keepIt Q 20 ls (.int (-1000001) :: st) h := Ex_nx rfl rfl
theorem rX9_keepIt_20 (Q : Po) (h : Hp) (ls : List Value) (x : Int32) : Ex mX9_keepIt Q 20 ls [.int x] h = Q (.inl (some (.int x))) h := Ex_rt rfl rfl
theorem rX9_keepIt_21 (Q : Po) (h : Hp) (l1 l2 : Value) (x : Nat) (st : List Value) : Ex mX9_keepIt Q 21 [.ref x, l1, l2] st h = Ex mX9_keepIt Q 22 [.ref x, l1, l2] (.ref x :: st) h := Ex_nx rfl rfl
theorem rX9_keepIt_22 (Q : Po) (h : Hp) (ls : List Value) (st : List Value) (a : Nat) : Ex mX9_keepIt Q 22 ls (.ref a :: st) h = (gK h a ∈ ([9] : List Nat) ∧ Ex mX9_keepIt Q 25 ls (gF h 81 a :: st) h) := Ex_gd rfl rfl
theorem rX9_keepIt_25 (Q : Po) (h : Hp) (ls : List Value) (st : List Value) : Ex mX9_keepIt Q 25 ls st h = Ex mX9_keepIt Q 27 ls (.int 6 :: st) h := Ex_nx rfl rfl
theorem rX9_keepIt_27 (Q : Po) (h : Hp) (ls : List Value) (st : List Value) (a : Nat) (i : Int32) : Ex mX9_keepIt Q 27 ls (.int i :: .ref a :: st) h = ((gK h a = 51 ∧ ¬ (i < 0 ∨ gL h a ≤ i.toNatClampNeg)) ∧ Ex mX9_keepIt Q 28 ls (.int (gI h a i.toNatClampNeg) :: st) h) := Ex_gd rfl rfl
theorem rX9_keepIt_28 (Q : Po) (h : Hp) (l0 l2 : Value) (x : Int32) (st : List Value) : Ex mX9_keepIt Q 28 [l0, .int x, l2] st h = Ex mX9_keepIt Q 29 [l0, .int x, l2] (.int x :: st) h := Ex_nx rfl rfl
theorem rX9_keepIt_29 (Q : Po) (h : Hp) (ls : List Value) (a0 : Int32) (a1 : Int32) : Ex mX9_keepIt Q 29 ls (.int a1 :: .int a0 :: []) h = Ex mX9_has (Cont mX9_keepIt Q 29 ls 32 []) 0 [.int a0, .int a1] [] h := Ex_cl (n := 2) (as := [.int a0, .int a1]) rfl rfl
theorem rX9_keepIt_32 (Q : Po) (h : Hp) (l0 l1 : Value) (x : Int32) (st : List Value) : Ex mX9_keepIt Q 32 [l0, l1, .int x] st h = Ex mX9_keepIt Q 33 [l0, l1, .int x] (.int x :: st) h := Ex_nx rfl rfl
theorem rX9_keepIt_33 (Q : Po) (h : Hp) (ls : List Value) (st : List Value) : Ex mX9_keepIt Q 33 ls st h = Ex mX9_keepIt Q 34 ls (.int 1 :: st) h := Ex_nx rfl rfl
theorem rX9_keepIt_34 (Q : Po) (h : Hp) (ls : List Value) (st : List Value) (x y : Int32) : Ex mX9_keepIt Q 34 ls (.int y :: .int x :: st) h = if ¬ x = y then Ex mX9_keepIt Q 41 ls st h else Ex mX9_keepIt Q 37 ls st h := Ex_br rfl rfl
theorem rX9_keepIt_37 (Q : Po) (h : Hp) (ls : List Value) (st : List Value) : Ex mX9_keepIt Q 37 ls st h = Ex mX9_keepIt Q 38 ls (.int 1 :: st) h := Ex_nx rfl rfl
theorem rX9_keepIt_38 (Q : Po) (h : Hp) (ls : List Value) (st : List Value) : Ex mX9_keepIt Q 38 ls st h = Ex mX9_keepIt Q 42 ls st h := Ex_nx rfl rfl
theorem rX9_keepIt_41 (Q : Po) (h : Hp) (ls : List Value) (st : List Value) : Ex mX9_keepIt Q 41 ls st h = Ex mX9_keepIt Q 42 ls (.int 0 :: st) h := Ex_nx rfl rfl
theorem rX9_keepIt_42 (Q : Po) (h : Hp) (ls : List Value) (st : List Value) (x y : Int32) : Ex mX9_keepIt Q 42 ls (.int y :: .int x :: st) h = if ¬ x = y then Ex mX9_keepIt Q 48 ls st h else Ex mX9_keepIt Q 45 ls st h := Ex_br rfl rfl
theorem rX9_keepIt_45 (Q : Po) (h : Hp) (ls : List Value) (st : List Value) : Ex mX9_keepIt Q 45 ls st h = Ex mX9_keepIt Q 47 ls (.int (-1000002) :: st) h := Ex_nx rfl rfl
theorem rX9_keepIt_47 (Q : Po) (h : Hp) (ls : List Value) (x : Int32) : Ex mX9_keepIt Q 47 ls [.int x] h = Q (.inl (some (.int x))) h := Ex_rt rfl rfl
theorem rX9_keepIt_48 (Q : Po) (h : Hp) (l1 l2 : Value) (x : Nat) (st : List Value) : Ex mX9_keepIt Q 48 [.ref x, l1, l2] st h = Ex mX9_keepIt Q 49 [.ref x, l1, l2] (.ref x :: st) h := Ex_nx rfl rfl
theorem rX9_keepIt_49 (Q : Po) (h : Hp) (ls : List Value) (b : Nat) : Ex mX9_keepIt Q 49 ls (.ref b :: []) h = (gK h b = 9 ∧ Ex mX9_note (Cont mX9_keepIt Q 49 ls 52 []) 0 [.ref b, .retAddr 0] [] h) := Ex_cg (n := 2) (as := [.ref b]) rfl rfl
theorem rX9_keepIt_52 (Q : Po) (h : Hp) (l1 l2 : Value) (x : Nat) (st : List Value) : Ex mX9_keepIt Q 52 [.ref x, l1, l2] st h = Ex mX9_keepIt Q 53 [.ref x, l1, l2] (.ref x :: st) h := Ex_nx rfl rfl
theorem rX9_keepIt_53 (Q : Po) (h : Hp) (ls : List Value) (st : List Value) (a : Nat) : Ex mX9_keepIt Q 53 ls (.ref a :: st) h = (gK h a ∈ ([9] : List Nat) ∧ Ex mX9_keepIt Q 56 ls (gF h 81 a :: st) h) := Ex_gd rfl rfl
theorem rX9_keepIt_56 (Q : Po) (h : Hp) (ls : List Value) (st : List Value) : Ex mX9_keepIt Q 56 ls st h = Ex mX9_keepIt Q 58 ls (.int 6 :: st) h := Ex_nx rfl rfl
theorem rX9_keepIt_58 (Q : Po) (h : Hp) (ls : List Value) (st : List Value) (x : Int32) (y : Nat) : Ex mX9_keepIt Q 58 ls (.int x :: .ref y :: st) h = Ex mX9_keepIt Q 59 ls (.int x :: .ref y :: .int x :: .ref y :: st) h := Ex_nx rfl rfl
theorem rX9_keepIt_59 (Q : Po) (h : Hp) (ls : List Value) (st : List Value) (a : Nat) (i : Int32) : Ex mX9_keepIt Q 59 ls (.int i :: .ref a :: st) h = ((gK h a = 51 ∧ ¬ (i < 0 ∨ gL h a ≤ i.toNatClampNeg)) ∧ Ex mX9_keepIt Q 60 ls (.int (gI h a i.toNatClampNeg) :: st) h) := Ex_gd rfl rfl
theorem rX9_keepIt_60 (Q : Po) (h : Hp) (ls : List Value) (st : List Value) : Ex mX9_keepIt Q 60 ls st h = Ex mX9_keepIt Q 61 ls (.int 1 :: st) h := Ex_nx rfl rfl
theorem rX9_keepIt_61 (Q : Po) (h : Hp) (l0 l2 : Value) (x : Int32) (st : List Value) : Ex mX9_keepIt Q 61 [l0, .int x, l2] st h = Ex mX9_keepIt Q 62 [l0, .int x, l2] (.int x :: st) h := Ex_nx rfl rfl
theorem rX9_keepIt_62 (Q : Po) (h : Hp) (ls : List Value) (st : List Value) (x y : Int32) : Ex mX9_keepIt Q 62 ls (.int y :: .int x :: st) h = Ex mX9_keepIt Q 63 ls (.int (x <<< (y &&& 31)) :: st) h := Ex_nx rfl rfl
theorem rX9_keepIt_63 (Q : Po) (h : Hp) (ls : List Value) (st : List Value) (x y : Int32) : Ex mX9_keepIt Q 63 ls (.int y :: .int x :: st) h = Ex mX9_keepIt Q 64 ls (.int (x ^^^ y) :: st) h := Ex_nx rfl rfl
theorem rX9_keepIt_64 (Q : Po) (h : Hp) (ls : List Value) (st : List Value) (a : Nat) (i x : Int32) : Ex mX9_keepIt Q 64 ls (.int x :: .int i :: .ref a :: st) h = ((gK h a = 51 ∧ ¬ (i < 0 ∨ gL h a ≤ i.toNatClampNeg)) ∧ Ex mX9_keepIt Q 65 ls st (pI h a i.toNatClampNeg (x))) := Ex_gd rfl rfl
theorem rX9_keepIt_65 (Q : Po) (h : Hp) (l1 l2 : Value) (x : Nat) (st : List Value) : Ex mX9_keepIt Q 65 [.ref x, l1, l2] st h = Ex mX9_keepIt Q 66 [.ref x, l1, l2] (.ref x :: st) h := Ex_nx rfl rfl
theorem rX9_keepIt_66 (Q : Po) (h : Hp) (ls : List Value) (st : List Value) (a : Nat) : Ex mX9_keepIt Q 66 ls (.ref a :: st) h = (gK h a ∈ ([9] : List Nat) ∧ Ex mX9_keepIt Q 69 ls (gF h 81 a :: st) h) := Ex_gd rfl rfl
theorem rX9_keepIt_69 (Q : Po) (h : Hp) (ls : List Value) (st : List Value) : Ex mX9_keepIt Q 69 ls st h = Ex mX9_keepIt Q 71 ls (.int 6 :: st) h := Ex_nx rfl rfl
theorem rX9_keepIt_71 (Q : Po) (h : Hp) (ls : List Value) (st : List Value) (a : Nat) (i : Int32) : Ex mX9_keepIt Q 71 ls (.int i :: .ref a :: st) h = ((gK h a = 51 ∧ ¬ (i < 0 ∨ gL h a ≤ i.toNatClampNeg)) ∧ Ex mX9_keepIt Q 72 ls (.int (gI h a i.toNatClampNeg) :: st) h) := Ex_gd rfl rfl
theorem rX9_keepIt_72 (Q : Po) (h : Hp) (ls : List Value) (x : Int32) : Ex mX9_keepIt Q 72 ls [.int x] h = Q (.inl (some (.int x))) h := Ex_rt rfl rfl
theorem rX9_keepIt_t (Q : Po) (h : Hp) (pc n a : Nat) (ls st : List Value) : Cont mX9_keepIt Q pc ls n st (.inr a) h = Q (.inr a) h := rfl
/-! FishReadersModel.change(II)I -/
def mX9_change : Cd := ([(0, .inl (i_aload 0 1)),
  (1, .inl (i_iload 1 2)),
  (2, .inr (c_V 1 5 2 9 (Mt mX9_isBook 2))),
  (5, .inl (i_if (fun x => x = 0) 21 8)),
  (8, .inl (i_aload 0 9)),
  (9, .inl (i_iload 2 10)),
  (10, .inr (c_V 1 13 2 9 (Mt mX9_isBook 2))),
  (13, .inl (i_if (fun x => x = 0) 21 16)),
  (16, .inl (i_iload 1 17)),
  (17, .inl (i_iload 2 18)),
  (18, .inl (i_icmp (fun x y => ¬ x = y) 24 21)),
  (21, .inl (i_push (.int (-1000001)) 23)),
  (23, .inl i_iret),
  (24, .inl (i_aload 0 25)),
  (25, .inr (c_V 0 28 2 9 (Mt mX9_note 2))),
  (28, .inl (i_aload 0 29)),
  (29, .inl (i_getf 81 [9] 32)),
  (32, .inl (i_push (.int 20) 34)),
  (34, .inl (i_iload 1 35)),
  (35, .inl (i_bin (fun x y => x + y) 36)),
  (36, .inl (i_iald 51 37)),
  (37, .inl (i_istore 3 38)),
  (38, .inl (i_aload 0 39)),
  (39, .inl (i_getf 81 [9] 42)),
  (42, .inl (i_push (.int 20) 44)),
  (44, .inl (i_iload 1 45)),
  (45, .inl (i_bin (fun x y => x + y) 46)),
  (46, .inl (i_aload 0 47)),
  (47, .inl (i_getf 81 [9] 50)),
  (50, .inl (i_push (.int 20) 52)),
  (52, .inl (i_iload 2 53)),
  (53, .inl (i_bin (fun x y => x + y) 54)),
  (54, .inl (i_iald 51 55)),
  (55, .inl (i_iast 51 (fun x => x) 56)),
  (56, .inl (i_aload 0 57)),
  (57, .inl (i_getf 81 [9] 60)),
  (60, .inl (i_push (.int 20) 62)),
  (62, .inl (i_iload 2 63)),
  (63, .inl (i_bin (fun x y => x + y) 64)),
  (64, .inl (i_iload 3 65)),
  (65, .inl (i_iast 51 (fun x => x) 66)),
  (66, .inl (i_aload 0 67)),
  (67, .inl (i_getf 81 [9] 70)),
  (70, .inl (i_push (.int 20) 72)),
  (72, .inl (i_iload 1 73)),
  (73, .inl (i_bin (fun x y => x + y) 74)),
  (74, .inl (i_iald 51 75)),
  (75, .inl i_iret)], noH)
theorem rX9_change_0 (Q : Po) (h : Hp) (l1 l2 l3 : Value) (x : Nat) (st : List Value) : Ex mX9_change Q 0 [.ref x, l1, l2, l3] st h = Ex mX9_change Q 1 [.ref x, l1, l2, l3] (.ref x :: st) h := Ex_nx rfl rfl
theorem rX9_change_1 (Q : Po) (h : Hp) (l0 l2 l3 : Value) (x : Int32) (st : List Value) : Ex mX9_change Q 1 [l0, .int x, l2, l3] st h = Ex mX9_change Q 2 [l0, .int x, l2, l3] (.int x :: st) h := Ex_nx rfl rfl
theorem rX9_change_2 (Q : Po) (h : Hp) (ls : List Value) (a0 : Int32) (b : Nat) : Ex mX9_change Q 2 ls (.int a0 :: .ref b :: []) h = (gK h b = 9 ∧ Ex mX9_isBook (Cont mX9_change Q 2 ls 5 []) 0 [.ref b, .int a0] [] h) := Ex_cg (n := 2) (as := [.ref b, .int a0]) rfl rfl
theorem rX9_change_5 (Q : Po) (h : Hp) (ls : List Value) (st : List Value) (x : Int32) : Ex mX9_change Q 5 ls (.int x :: st) h = if x = 0 then Ex mX9_change Q 21 ls st h else Ex mX9_change Q 8 ls st h := Ex_br rfl rfl
theorem rX9_change_8 (Q : Po) (h : Hp) (l1 l2 l3 : Value) (x : Nat) (st : List Value) : Ex mX9_change Q 8 [.ref x, l1, l2, l3] st h = Ex mX9_change Q 9 [.ref x, l1, l2, l3] (.ref x :: st) h := Ex_nx rfl rfl
theorem rX9_change_9 (Q : Po) (h : Hp) (l0 l1 l3 : Value) (x : Int32) (st : List Value) : Ex mX9_change Q 9 [l0, l1, .int x, l3] st h = Ex mX9_change Q 10 [l0, l1, .int x, l3] (.int x :: st) h := Ex_nx rfl rfl
theorem rX9_change_10 (Q : Po) (h : Hp) (ls : List Value) (a0 : Int32) (b : Nat) : Ex mX9_change Q 10 ls (.int a0 :: .ref b :: []) h = (gK h b = 9 ∧ Ex mX9_isBook (Cont mX9_change Q 10 ls 13 []) 0 [.ref b, .int a0] [] h) := Ex_cg (n := 2) (as := [.ref b, .int a0]) rfl rfl
theorem rX9_change_13 (Q : Po) (h : Hp) (ls : List Value) (st : List Value) (x : Int32) : Ex mX9_change Q 13 ls (.int x :: st) h = if x = 0 then Ex mX9_change Q 21 ls st h else Ex mX9_change Q 16 ls st h := Ex_br rfl rfl
theorem rX9_change_16 (Q : Po) (h : Hp) (l0 l2 l3 : Value) (x : Int32) (st : List Value) : Ex mX9_change Q 16 [l0, .int x, l2, l3] st h = Ex mX9_change Q 17 [l0, .int x, l2, l3] (.int x :: st) h := Ex_nx rfl rfl
theorem rX9_change_17 (Q : Po) (h : Hp) (l0 l1 l3 : Value) (x : Int32) (st : List Value) : Ex mX9_change Q 17 [l0, l1, .int x, l3] st h = Ex mX9_change Q 18 [l0, l1, .int x, l3] (.int x :: st) h := Ex_nx rfl rfl
theorem rX9_change_18 (Q : Po) (h : Hp) (ls : List Value) (st : List Value) (x y : Int32) : Ex mX9_change Q 18 ls (.int y :: .int x :: st) h = if ¬ x = y then Ex mX9_change Q 24 ls st h else Ex mX9_change Q 21 ls st h := Ex_br rfl rfl
theorem rX9_change_21 (Q : Po) (h : Hp) (ls : List Value) (st : List Value) : Ex mX9_change Q 21 ls st h = Ex mX9_change Q 23 ls (.int (-1000001) :: st) h := Ex_nx rfl rfl
theorem rX9_change_23 (Q : Po) (h : Hp) (ls : List Value) (x : Int32) : Ex mX9_change Q 23 ls [.int x] h = Q (.inl (some (.int x))) h := Ex_rt rfl rfl
theorem rX9_change_24 (Q : Po) (h : Hp) (l1 l2 l3 : Value) (x : Nat) (st : List Value) : Ex mX9_change Q 24 [.ref x, l1, l2, l3] st h = Ex mX9_change Q 25 [.ref x, l1, l2, l3] (.ref x :: st) h := Ex_nx rfl rfl
theorem rX9_change_25 (Q : Po) (h : Hp) (ls : List Value) (b : Nat) : Ex mX9_change Q 25 ls (.ref b :: []) h = (gK h b = 9 ∧ Ex mX9_note (Cont mX9_change Q 25 ls 28 []) 0 [.ref b, .retAddr 0] [] h) := Ex_cg (n := 2) (as := [.ref b]) rfl rfl
theorem rX9_change_28 (Q : Po) (h : Hp) (l1 l2 l3 : Value) (x : Nat) (st : List Value) : Ex mX9_change Q 28 [.ref x, l1, l2, l3] st h = Ex mX9_change Q 29 [.ref x, l1, l2, l3] (.ref x :: st) h := Ex_nx rfl rfl
theorem rX9_change_29 (Q : Po) (h : Hp) (ls : List Value) (st : List Value) (a : Nat) : Ex mX9_change Q 29 ls (.ref a :: st) h = (gK h a ∈ ([9] : List Nat) ∧ Ex mX9_change Q 32 ls (gF h 81 a :: st) h) := Ex_gd rfl rfl
theorem rX9_change_32 (Q : Po) (h : Hp) (ls : List Value) (st : List Value) : Ex mX9_change Q 32 ls st h = Ex mX9_change Q 34 ls (.int 20 :: st) h := Ex_nx rfl rfl
theorem rX9_change_34 (Q : Po) (h : Hp) (l0 l2 l3 : Value) (x : Int32) (st : List Value) : Ex mX9_change Q 34 [l0, .int x, l2, l3] st h = Ex mX9_change Q 35 [l0, .int x, l2, l3] (.int x :: st) h := Ex_nx rfl rfl
theorem rX9_change_35 (Q : Po) (h : Hp) (ls : List Value) (st : List Value) (x y : Int32) : Ex mX9_change Q 35 ls (.int y :: .int x :: st) h = Ex mX9_change Q 36 ls (.int (x + y) :: st) h := Ex_nx rfl rfl
theorem rX9_change_36 (Q : Po) (h : Hp) (ls : List Value) (st : List Value) (a : Nat) (i : Int32) : Ex mX9_change Q 36 ls (.int i :: .ref a :: st) h = ((gK h a = 51 ∧ ¬ (i < 0 ∨ gL h a ≤ i.toNatClampNeg)) ∧ Ex mX9_change Q 37 ls (.int (gI h a i.toNatClampNeg) :: st) h) := Ex_gd rfl rfl
theorem rX9_change_37 (Q : Po) (h : Hp) (l0 l1 l2 l3 : Value) (x : Int32) (st : List Value) : Ex mX9_change Q 37 [l0, l1, l2, l3] (.int x :: st) h = Ex mX9_change Q 38 [l0, l1, l2, .int x] st h := Ex_nx rfl rfl
theorem rX9_change_38 (Q : Po) (h : Hp) (l1 l2 l3 : Value) (x : Nat) (st : List Value) : Ex mX9_change Q 38 [.ref x, l1, l2, l3] st h = Ex mX9_change Q 39 [.ref x, l1, l2, l3] (.ref x :: st) h := Ex_nx rfl rfl
theorem rX9_change_39 (Q : Po) (h : Hp) (ls : List Value) (st : List Value) (a : Nat) : Ex mX9_change Q 39 ls (.ref a :: st) h = (gK h a ∈ ([9] : List Nat) ∧ Ex mX9_change Q 42 ls (gF h 81 a :: st) h) := Ex_gd rfl rfl
theorem rX9_change_42 (Q : Po) (h : Hp) (ls : List Value) (st : List Value) : Ex mX9_change Q 42 ls st h = Ex mX9_change Q 44 ls (.int 20 :: st) h := Ex_nx rfl rfl
theorem rX9_change_44 (Q : Po) (h : Hp) (l0 l2 l3 : Value) (x : Int32) (st : List Value) : Ex mX9_change Q 44 [l0, .int x, l2, l3] st h = Ex mX9_change Q 45 [l0, .int x, l2, l3] (.int x :: st) h := Ex_nx rfl rfl
theorem rX9_change_45 (Q : Po) (h : Hp) (ls : List Value) (st : List Value) (x y : Int32) : Ex mX9_change Q 45 ls (.int y :: .int x :: st) h = Ex mX9_change Q 46 ls (.int (x + y) :: st) h := Ex_nx rfl rfl
theorem rX9_change_46 (Q : Po) (h : Hp) (l1 l2 l3 : Value) (x : Nat) (st : List Value) : Ex mX9_change Q 46 [.ref x, l1, l2, l3] st h = Ex mX9_change Q 47 [.ref x, l1, l2, l3] (.ref x :: st) h := Ex_nx rfl rfl
theorem rX9_change_47 (Q : Po) (h : Hp) (ls : List Value) (st : List Value) (a : Nat) : Ex mX9_change Q 47 ls (.ref a :: st) h = (gK h a ∈ ([9] : List Nat) ∧ Ex mX9_change Q 50 ls (gF h 81 a :: st) h) := Ex_gd rfl rfl
theorem rX9_change_50 (Q : Po) (h : Hp) (ls : List Value) (st : List Value) : Ex mX9_change Q 50 ls st h = Ex mX9_change Q 52 ls (.int 20 :: st) h := Ex_nx rfl rfl
theorem rX9_change_52 (Q : Po) (h : Hp) (l0 l1 l3 : Value) (x : Int32) (st : List Value) : Ex mX9_change Q 52 [l0, l1, .int x, l3] st h = Ex mX9_change Q 53 [l0, l1, .int x, l3] (.int x :: st) h := Ex_nx rfl rfl
theorem rX9_change_53 (Q : Po) (h : Hp) (ls : List Value) (st : List Value) (x y : Int32) : Ex mX9_change Q 53 ls (.int y :: .int x :: st) h = Ex mX9_change Q 54 ls (.int (x + y) :: st) h := Ex_nx rfl rfl
theorem rX9_change_54 (Q : Po) (h : Hp) (ls : List Value) (st : List Value) (a : Nat) (i : Int32) : Ex mX9_change Q 54 ls (.int i :: .ref a :: st) h = ((gK h a = 51 ∧ ¬ (i < 0 ∨ gL h a ≤ i.toNatClampNeg)) ∧ Ex mX9_change Q 55 ls (.int (gI h a i.toNatClampNeg) :: st) h) := Ex_gd rfl rfl
theorem rX9_change_55 (Q : Po) (h : Hp) (ls : List Value) (st : List Value) (a : Nat) (i x : Int32) : Ex mX9_change Q 55 ls (.int x :: .int i :: .ref a :: st) h = ((gK h a = 51 ∧ ¬ (i < 0 ∨ gL h a ≤ i.toNatClampNeg)) ∧ Ex mX9_change Q 56 ls st (pI h a i.toNatClampNeg (x))) := Ex_gd rfl rfl
theorem rX9_change_56 (Q : Po) (h : Hp) (l1 l2 l3 : Value) (x : Nat) (st : List Value) : Ex mX9_change Q 56 [.ref x, l1, l2, l3] st h = Ex mX9_change Q 57 [.ref x, l1, l2, l3] (.ref x :: st) h := Ex_nx rfl rfl
theorem rX9_change_57 (Q : Po) (h : Hp) (ls : List Value) (st : List Value) (a : Nat) : Ex mX9_change Q 57 ls (.ref a :: st) h = (gK h a ∈ ([9] : List Nat) ∧ Ex mX9_change Q 60 ls (gF h 81 a :: st) h) := Ex_gd rfl rfl
theorem rX9_change_60 (Q : Po) (h : Hp) (ls : List Value) (st : List Value) : Ex mX9_change Q 60 ls st h = Ex mX9_change Q 62 ls (.int 20 :: st) h := Ex_nx rfl rfl
theorem rX9_change_62 (Q : Po) (h : Hp) (l0 l1 l3 : Value) (x : Int32) (st : List Value) : Ex mX9_change Q 62 [l0, l1, .int x, l3] st h = Ex mX9_change Q 63 [l0, l1, .int x, l3] (.int x :: st) h := Ex_nx rfl rfl
theorem rX9_change_63 (Q : Po) (h : Hp) (ls : List Value) (st : List Value) (x y : Int32) : Ex mX9_change Q 63 ls (.int y :: .int x :: st) h = Ex mX9_change Q 64 ls (.int (x + y) :: st) h := Ex_nx rfl rfl
theorem rX9_change_64 (Q : Po) (h : Hp) (l0 l1 l2 : Value) (x : Int32) (st : List Value) : Ex mX9_change Q 64 [l0, l1, l2, .int x] st h = Ex mX9_change Q 65 [l0, l1, l2, .int x] (.int x :: st) h := Ex_nx rfl rfl
theorem rX9_change_65 (Q : Po) (h : Hp) (ls : List Value) (st : List Value) (a : Nat) (i x : Int32) : Ex mX9_change Q 65 ls (.int x :: .int i :: .ref a :: st) h = ((gK h a = 51 ∧ ¬ (i < 0 ∨ gL h a ≤ i.toNatClampNeg)) ∧ Ex mX9_change Q 66 ls st (pI h a i.toNatClampNeg (x))) := Ex_gd rfl rfl
theorem rX9_change_66 (Q : Po) (h : Hp) (l1 l2 l3 : Value) (x : Nat) (st : List Value) : Ex mX9_change Q 66 [.ref x, l1, l2, l3] st h = Ex mX9_change Q 67 [.ref x, l1, l2, l3] (.ref x :: st) h := Ex_nx rfl rfl
theorem rX9_change_67 (Q : Po) (h : Hp) (ls : List Value) (st : List Value) (a : Nat) : Ex mX9_change Q 67 ls (.ref a :: st) h = (gK h a ∈ ([9] : List Nat) ∧ Ex mX9_change Q 70 ls (gF h 81 a :: st) h) := Ex_gd rfl rfl
theorem rX9_change_70 (Q : Po) (h : Hp) (ls : List Value) (st : List Value) : Ex mX9_change Q 70 ls st h = Ex mX9_change Q 72 ls (.int 20 :: st) h := Ex_nx rfl rfl
theorem rX9_change_72 (Q : Po) (h : Hp) (l0 l2 l3 : Value) (x : Int32) (st : List Value) : Ex mX9_change Q 72 [l0, .int x, l2, l3] st h = Ex mX9_change Q 73 [l0, .int x, l2, l3] (.int x :: st) h := Ex_nx rfl rfl
theorem rX9_change_73 (Q : Po) (h : Hp) (ls : List Value) (st : List Value) (x y : Int32) : Ex mX9_change Q 73 ls (.int y :: .int x :: st) h = Ex mX9_change Q 74 ls (.int (x + y) :: st) h := Ex_nx rfl rfl
theorem rX9_change_74 (Q : Po) (h : Hp) (ls : List Value) (st : List Value) (a : Nat) (i : Int32) : Ex mX9_change Q 74 ls (.int i :: .ref a :: st) h = ((gK h a = 51 ∧ ¬ (i < 0 ∨ gL h a ≤ i.toNatClampNeg)) ∧ Ex mX9_change Q 75 ls (.int (gI h a i.toNatClampNeg) :: st) h) := Ex_gd rfl rfl
theorem rX9_change_75 (Q : Po) (h : Hp) (ls : List Value) (x : Int32) : Ex mX9_change Q 75 ls [.int x] h = Q (.inl (some (.int x))) h := Ex_rt rfl rfl
theorem rX9_change_t (Q : Po) (h : Hp) (pc n a : Nat) (ls st : List Value) : Cont mX9_change Q pc ls n st (.inr a) h = Q (.inr a) h := rfl
/-! FishReadersModel.isFish(I)Z -/
def mX9_isFish : Cd := ([(0, .inl (i_iload 1 1)),
  (1, .inl (i_i2l 2)),
  (2, .inl (i_push (.long 0) 3)),
  (3, .inl (i_aload 0 4)),
  (4, .inl (i_getf 81 [9] 7)),
  (7, .inl (i_push (.int 1) 8)),
  (8, .inl (i_iald 51 9)),
  (9, .inl (i_push (.int 1) 10)),
  (10, .inl (i_bin (fun x y => x - y) 11)),
  (11, .inl (i_i2l 12)),
  (12, .inr (c_S 3 15 6 (Mt mX9_in 6))),
  (15, .inl i_zret)], noH)
theorem rX9_isFish_0 (Q : Po) (h : Hp) (l0 : Value) (x : Int32) (st : List Value) : Ex mX9_isFish Q 0 [l0, .int x] st h = Ex mX9_isFish Q 1 [l0, .int x] (.int x :: st) h := Ex_nx rfl rfl
theorem rX9_isFish_1 (Q : Po) (h : Hp) (ls : List Value) (st : List Value) (x : Int32) : Ex mX9_isFish Q 1 ls (.int x :: st) h = Ex mX9_isFish Q 2 ls (.long x.toInt64 :: st) h := Ex_nx rfl rfl
theorem rX9_isFish_2 (Q : Po) (h : Hp) (ls : List Value) (st : List Value) : Ex mX9_isFish Q 2 ls st h = Ex mX9_isFish Q 3 ls (.long 0 :: st) h := Ex_nx rfl rfl
theorem rX9_isFish_3 (Q : Po) (h : Hp) (l1 : Value) (x : Nat) (st : List Value) : Ex mX9_isFish Q 3 [.ref x, l1] st h = Ex mX9_isFish Q 4 [.ref x, l1] (.ref x :: st) h := Ex_nx rfl rfl
theorem rX9_isFish_4 (Q : Po) (h : Hp) (ls : List Value) (st : List Value) (a : Nat) : Ex mX9_isFish Q 4 ls (.ref a :: st) h = (gK h a ∈ ([9] : List Nat) ∧ Ex mX9_isFish Q 7 ls (gF h 81 a :: st) h) := Ex_gd rfl rfl
theorem rX9_isFish_7 (Q : Po) (h : Hp) (ls : List Value) (st : List Value) : Ex mX9_isFish Q 7 ls st h = Ex mX9_isFish Q 8 ls (.int 1 :: st) h := Ex_nx rfl rfl
theorem rX9_isFish_8 (Q : Po) (h : Hp) (ls : List Value) (st : List Value) (a : Nat) (i : Int32) : Ex mX9_isFish Q 8 ls (.int i :: .ref a :: st) h = ((gK h a = 51 ∧ ¬ (i < 0 ∨ gL h a ≤ i.toNatClampNeg)) ∧ Ex mX9_isFish Q 9 ls (.int (gI h a i.toNatClampNeg) :: st) h) := Ex_gd rfl rfl
theorem rX9_isFish_9 (Q : Po) (h : Hp) (ls : List Value) (st : List Value) : Ex mX9_isFish Q 9 ls st h = Ex mX9_isFish Q 10 ls (.int 1 :: st) h := Ex_nx rfl rfl
theorem rX9_isFish_10 (Q : Po) (h : Hp) (ls : List Value) (st : List Value) (x y : Int32) : Ex mX9_isFish Q 10 ls (.int y :: .int x :: st) h = Ex mX9_isFish Q 11 ls (.int (x - y) :: st) h := Ex_nx rfl rfl
theorem rX9_isFish_11 (Q : Po) (h : Hp) (ls : List Value) (st : List Value) (x : Int32) : Ex mX9_isFish Q 11 ls (.int x :: st) h = Ex mX9_isFish Q 12 ls (.long x.toInt64 :: st) h := Ex_nx rfl rfl
theorem rX9_isFish_12 (Q : Po) (h : Hp) (ls : List Value) (a0 : Int64) (a1 : Int64) (a2 : Int64) : Ex mX9_isFish Q 12 ls (.long a2 :: .long a1 :: .long a0 :: []) h = Ex mX9_in (Cont mX9_isFish Q 12 ls 15 []) 0 [.long a0, .retAddr 1, .long a1, .retAddr 1, .long a2, .retAddr 1] [] h := Ex_cl (n := 6) (as := [.long a0, .long a1, .long a2]) rfl rfl
theorem rX9_isFish_15 (Q : Po) (h : Hp) (ls : List Value) (x : Int32) : Ex mX9_isFish Q 15 ls [.int x] h = ((x = 0 ∨ x = 1) ∧ Q (.inl (some (.int x))) h) := Ex_rg rfl rfl
theorem rX9_isFish_t (Q : Po) (h : Hp) (pc n a : Nat) (ls st : List Value) : Cont mX9_isFish Q pc ls n st (.inr a) h = Q (.inr a) h := rfl
/-! FishReadersModel.move(II)I -/
def mX9_move : Cd := ([(0, .inl (i_aload 0 1)),
  (1, .inl (i_iload 1 2)),
  (2, .inr (c_V 1 5 2 9 (Mt mX9_isFish 2))),
  (5, .inl (i_if (fun x => x = 0) 16 8)),
  (8, .inl (i_aload 0 9)),
  (9, .inl (i_iload 2 10)),
  (10, .inr (c_V 1 13 2 9 (Mt mX9_isBook 2))),
  (13, .inl (i_if (fun x => ¬ x = 0) 19 16)),
  (16, .inl (i_push (.int (-1000001)) 18)),
  (18, .inl i_iret),
  (19, .inl (i_aload 0 20)),
  (20, .inl (i_getf 81 [9] 23)),
  (23, .inl (i_push (.int 31) 25)),
  (25, .inl (i_iload 1 26)),
  (26, .inl (i_bin (fun x y => x + y) 27)),
  (27, .inl (i_iald 51 28)),
  (28, .inl (i_istore 3 29)),
  (29, .inl (i_aload 0 30)),
  (30, .inl (i_iload 1 31)),
  (31, .inr (c_V 1 34 2 9 (Mt mX9_isCaught 2))),
  (34, .inl (i_if (fun x => ¬ x = 0) 42 37)),
  (37, .inl (i_iload 3 38)),
  (38, .inl (i_iload 2 39)),
  (39, .inl (i_icmp (fun x y => ¬ x = y) 45 42)),
  (42, .inl (i_push (.int (-1000002)) 44)),
  (44, .inl i_iret),
  (45, .inl (i_aload 0 46)),
  (46, .inr (c_V 0 49 2 9 (Mt mX9_note 2))),
  (49, .inl (i_aload 0 50)),
  (50, .inl (i_getf 81 [9] 53)),
  (53, .inl (i_push (.int 31) 55)),
  (55, .inl (i_iload 1 56)),
  (56, .inl (i_bin (fun x y => x + y) 57)),
  (57, .inl (i_iload 2 58)),
  (58, .inl (i_iast 51 (fun x => x) 59)),
  (59, .inl (i_iload 3 60)),
  (60, .inl i_iret)], noH)
theorem rX9_move_0 (Q : Po) (h : Hp) (l1 l2 l3 : Value) (x : Nat) (st : List Value) : Ex mX9_move Q 0 [.ref x, l1, l2, l3] st h = Ex mX9_move Q 1 [.ref x, l1, l2, l3] (.ref x :: st) h := Ex_nx rfl rfl
theorem rX9_move_1 (Q : Po) (h : Hp) (l0 l2 l3 : Value) (x : Int32) (st : List Value) : Ex mX9_move Q 1 [l0, .int x, l2, l3] st h = Ex mX9_move Q 2 [l0, .int x, l2, l3] (.int x :: st) h := Ex_nx rfl rfl
theorem rX9_move_2 (Q : Po) (h : Hp) (ls : List Value) (a0 : Int32) (b : Nat) : Ex mX9_move Q 2 ls (.int a0 :: .ref b :: []) h = (gK h b = 9 ∧ Ex mX9_isFish (Cont mX9_move Q 2 ls 5 []) 0 [.ref b, .int a0] [] h) := Ex_cg (n := 2) (as := [.ref b, .int a0]) rfl rfl
theorem rX9_move_5 (Q : Po) (h : Hp) (ls : List Value) (st : List Value) (x : Int32) : Ex mX9_move Q 5 ls (.int x :: st) h = if x = 0 then Ex mX9_move Q 16 ls st h else Ex mX9_move Q 8 ls st h := Ex_br rfl rfl
theorem rX9_move_8 (Q : Po) (h : Hp) (l1 l2 l3 : Value) (x : Nat) (st : List Value) : Ex mX9_move Q 8 [.ref x, l1, l2, l3] st h = Ex mX9_move Q 9 [.ref x, l1, l2, l3] (.ref x :: st) h := Ex_nx rfl rfl
theorem rX9_move_9 (Q : Po) (h : Hp) (l0 l1 l3 : Value) (x : Int32) (st : List Value) : Ex mX9_move Q 9 [l0, l1, .int x, l3] st h = Ex mX9_move Q 10 [l0, l1, .int x, l3] (.int x :: st) h := Ex_nx rfl rfl
theorem rX9_move_10 (Q : Po) (h : Hp) (ls : List Value) (a0 : Int32) (b : Nat) : Ex mX9_move Q 10 ls (.int a0 :: .ref b :: []) h = (gK h b = 9 ∧ Ex mX9_isBook (Cont mX9_move Q 10 ls 13 []) 0 [.ref b, .int a0] [] h) := Ex_cg (n := 2) (as := [.ref b, .int a0]) rfl rfl
theorem rX9_move_13 (Q : Po) (h : Hp) (ls : List Value) (st : List Value) (x : Int32) : Ex mX9_move Q 13 ls (.int x :: st) h = if ¬ x = 0 then Ex mX9_move Q 19 ls st h else Ex mX9_move Q 16 ls st h := Ex_br rfl rfl
theorem rX9_move_16 (Q : Po) (h : Hp) (ls : List Value) (st : List Value) : Ex mX9_move Q 16 ls st h = Ex mX9_move Q 18 ls (.int (-1000001) :: st) h := Ex_nx rfl rfl
theorem rX9_move_18 (Q : Po) (h : Hp) (ls : List Value) (x : Int32) : Ex mX9_move Q 18 ls [.int x] h = Q (.inl (some (.int x))) h := Ex_rt rfl rfl
theorem rX9_move_19 (Q : Po) (h : Hp) (l1 l2 l3 : Value) (x : Nat) (st : List Value) : Ex mX9_move Q 19 [.ref x, l1, l2, l3] st h = Ex mX9_move Q 20 [.ref x, l1, l2, l3] (.ref x :: st) h := Ex_nx rfl rfl
theorem rX9_move_20 (Q : Po) (h : Hp) (ls : List Value) (st : List Value) (a : Nat) : Ex mX9_move Q 20 ls (.ref a :: st) h = (gK h a ∈ ([9] : List Nat) ∧ Ex mX9_move Q 23 ls (gF h 81 a :: st) h) := Ex_gd rfl rfl
theorem rX9_move_23 (Q : Po) (h : Hp) (ls : List Value) (st : List Value) : Ex mX9_move Q 23 ls st h = Ex mX9_move Q 25 ls (.int 31 :: st) h := Ex_nx rfl rfl
theorem rX9_move_25 (Q : Po) (h : Hp) (l0 l2 l3 : Value) (x : Int32) (st : List Value) : Ex mX9_move Q 25 [l0, .int x, l2, l3] st h = Ex mX9_move Q 26 [l0, .int x, l2, l3] (.int x :: st) h := Ex_nx rfl rfl
theorem rX9_move_26 (Q : Po) (h : Hp) (ls : List Value) (st : List Value) (x y : Int32) : Ex mX9_move Q 26 ls (.int y :: .int x :: st) h = Ex mX9_move Q 27 ls (.int (x + y) :: st) h := Ex_nx rfl rfl
theorem rX9_move_27 (Q : Po) (h : Hp) (ls : List Value) (st : List Value) (a : Nat) (i : Int32) : Ex mX9_move Q 27 ls (.int i :: .ref a :: st) h = ((gK h a = 51 ∧ ¬ (i < 0 ∨ gL h a ≤ i.toNatClampNeg)) ∧ Ex mX9_move Q 28 ls (.int (gI h a i.toNatClampNeg) :: st) h) := Ex_gd rfl rfl
theorem rX9_move_28 (Q : Po) (h : Hp) (l0 l1 l2 l3 : Value) (x : Int32) (st : List Value) : Ex mX9_move Q 28 [l0, l1, l2, l3] (.int x :: st) h = Ex mX9_move Q 29 [l0, l1, l2, .int x] st h := Ex_nx rfl rfl
theorem rX9_move_29 (Q : Po) (h : Hp) (l1 l2 l3 : Value) (x : Nat) (st : List Value) : Ex mX9_move Q 29 [.ref x, l1, l2, l3] st h = Ex mX9_move Q 30 [.ref x, l1, l2, l3] (.ref x :: st) h := Ex_nx rfl rfl
theorem rX9_move_30 (Q : Po) (h : Hp) (l0 l2 l3 : Value) (x : Int32) (st : List Value) : Ex mX9_move Q 30 [l0, .int x, l2, l3] st h = Ex mX9_move Q 31 [l0, .int x, l2, l3] (.int x :: st) h := Ex_nx rfl rfl
theorem rX9_move_31 (Q : Po) (h : Hp) (ls : List Value) (a0 : Int32) (b : Nat) : Ex mX9_move Q 31 ls (.int a0 :: .ref b :: []) h = (gK h b = 9 ∧ Ex mX9_isCaught (Cont mX9_move Q 31 ls 34 []) 0 [.ref b, .int a0] [] h) := Ex_cg (n := 2) (as := [.ref b, .int a0]) rfl rfl
theorem rX9_move_34 (Q : Po) (h : Hp) (ls : List Value) (st : List Value) (x : Int32) : Ex mX9_move Q 34 ls (.int x :: st) h = if ¬ x = 0 then Ex mX9_move Q 42 ls st h else Ex mX9_move Q 37 ls st h := Ex_br rfl rfl
theorem rX9_move_37 (Q : Po) (h : Hp) (l0 l1 l2 : Value) (x : Int32) (st : List Value) : Ex mX9_move Q 37 [l0, l1, l2, .int x] st h = Ex mX9_move Q 38 [l0, l1, l2, .int x] (.int x :: st) h := Ex_nx rfl rfl
theorem rX9_move_38 (Q : Po) (h : Hp) (l0 l1 l3 : Value) (x : Int32) (st : List Value) : Ex mX9_move Q 38 [l0, l1, .int x, l3] st h = Ex mX9_move Q 39 [l0, l1, .int x, l3] (.int x :: st) h := Ex_nx rfl rfl
theorem rX9_move_39 (Q : Po) (h : Hp) (ls : List Value) (st : List Value) (x y : Int32) : Ex mX9_move Q 39 ls (.int y :: .int x :: st) h = if ¬ x = y then Ex mX9_move Q 45 ls st h else Ex mX9_move Q 42 ls st h := Ex_br rfl rfl
theorem rX9_move_42 (Q : Po) (h : Hp) (ls : List Value) (st : List Value) : Ex mX9_move Q 42 ls st h = Ex mX9_move Q 44 ls (.int (-1000002) :: st) h := Ex_nx rfl rfl
theorem rX9_move_44 (Q : Po) (h : Hp) (ls : List Value) (x : Int32) : Ex mX9_move Q 44 ls [.int x] h = Q (.inl (some (.int x))) h := Ex_rt rfl rfl
theorem rX9_move_45 (Q : Po) (h : Hp) (l1 l2 l3 : Value) (x : Nat) (st : List Value) : Ex mX9_move Q 45 [.ref x, l1, l2, l3] st h = Ex mX9_move Q 46 [.ref x, l1, l2, l3] (.ref x :: st) h := Ex_nx rfl rfl
theorem rX9_move_46 (Q : Po) (h : Hp) (ls : List Value) (b : Nat) : Ex mX9_move Q 46 ls (.ref b :: []) h = (gK h b = 9 ∧ Ex mX9_note (Cont mX9_move Q 46 ls 49 []) 0 [.ref b, .retAddr 0] [] h) := Ex_cg (n := 2) (as := [.ref b]) rfl rfl
theorem rX9_move_49 (Q : Po) (h : Hp) (l1 l2 l3 : Value) (x : Nat) (st : List Value) : Ex mX9_move Q 49 [.ref x, l1, l2, l3] st h = Ex mX9_move Q 50 [.ref x, l1, l2, l3] (.ref x :: st) h := Ex_nx rfl rfl
theorem rX9_move_50 (Q : Po) (h : Hp) (ls : List Value) (st : List Value) (a : Nat) : Ex mX9_move Q 50 ls (.ref a :: st) h = (gK h a ∈ ([9] : List Nat) ∧ Ex mX9_move Q 53 ls (gF h 81 a :: st) h) := Ex_gd rfl rfl
theorem rX9_move_53 (Q : Po) (h : Hp) (ls : List Value) (st : List Value) : Ex mX9_move Q 53 ls st h = Ex mX9_move Q 55 ls (.int 31 :: st) h := Ex_nx rfl rfl
theorem rX9_move_55 (Q : Po) (h : Hp) (l0 l2 l3 : Value) (x : Int32) (st : List Value) : Ex mX9_move Q 55 [l0, .int x, l2, l3] st h = Ex mX9_move Q 56 [l0, .int x, l2, l3] (.int x :: st) h := Ex_nx rfl rfl
theorem rX9_move_56 (Q : Po) (h : Hp) (ls : List Value) (st : List Value) (x y : Int32) : Ex mX9_move Q 56 ls (.int y :: .int x :: st) h = Ex mX9_move Q 57 ls (.int (x + y) :: st) h := Ex_nx rfl rfl
theorem rX9_move_57 (Q : Po) (h : Hp) (l0 l1 l3 : Value) (x : Int32) (st : List Value) : Ex mX9_move Q 57 [l0, l1, .int x, l3] st h = Ex mX9_move Q 58 [l0, l1, .int x, l3] (.int x :: st) h := Ex_nx rfl rfl
theorem rX9_move_58 (Q : Po) (h : Hp) (ls : List Value) (st : List Value) (a : Nat) (i x : Int32) : Ex mX9_move Q 58 ls (.int x :: .int i :: .ref a :: st) h = ((gK h a = 51 ∧ ¬ (i < 0 ∨ gL h a ≤ i.toNatClampNeg)) ∧ Ex mX9_move Q 59 ls st (pI h a i.toNatClampNeg (x))) := Ex_gd rfl rfl
theorem rX9_move_59 (Q : Po) (h : Hp) (l0 l1 l2 : Value) (x : Int32) (st : List Value) : Ex mX9_move Q 59 [l0, l1, l2, .int x] st h = Ex mX9_move Q 60 [l0, l1, l2, .int x] (.int x :: st) h := Ex_nx rfl rfl
theorem rX9_move_60 (Q : Po) (h : Hp) (ls : List Value) (x : Int32) : Ex mX9_move Q 60 ls [.int x] h = Q (.inl (some (.int x))) h := Ex_rt rfl rfl
theorem rX9_move_t (Q : Po) (h : Hp) (pc n a : Nat) (ls st : List Value) : Cont mX9_move Q pc ls n st (.inr a) h = Q (.inr a) h := rfl
/-! FishReadersModel.catchIt(I)I -/
def mX9_catchIt : Cd := ([(0, .inl (i_aload 0 1)),
  (1, .inl (i_iload 1 2)),
  (2, .inr (c_V 1 5 2 9 (Mt mX9_isFish 2))),
  (5, .inl (i_if (fun x => ¬ x = 0) 11 8)),
  (8, .inl (i_push (.int (-1000001)) 10)),
  (10, .inl i_iret),
  (11, .inl (i_aload 0 12)),
  (12, .inl (i_iload 1 13)),
  (13, .inr (c_V 1 16 2 9 (Mt mX9_isCaught 2))),
  (16, .inl (i_if (fun x => x = 0) 22 19)),
  (19, .inl (i_push (.int (-1000002)) 21)),
  (21, .inl i_iret),
  (22, .inl (i_aload 0 23)),
  (23, .inr (c_V 0 26 2 9 (Mt mX9_note 2))),
  (26, .inl (i_aload 0 27)),
  (27, .inl (i_getf 81 [9] 30)),
  (30, .inl (i_push (.int 7) 32)),
  (32, .inl (i_dup2 33)),
  (33, .inl (i_iald 51 34)),
  (34, .inl (i_push (.int 1) 35)),
  (35, .inl (i_iload 1 36)),
  (36, .inl (i_bin (fun x y => x <<< (y &&& 31)) 37)),
  (37, .inl (i_bin (fun x y => x ||| y) 38)),
  (38, .inl (i_iast 51 (fun x => x) 39)),
  (39, .inl (i_aload 0 40)),
  (40, .inl (i_getf 81 [9] 43)),
  (43, .inl (i_push (.int 7) 45)),
  (45, .inl (i_iald 51 46)),
  (46, .inl i_iret)], noH)
theorem rX9_catchIt_0 (Q : Po) (h : Hp) (l1 : Value) (x : Nat) (st : List Value) : Ex mX9_catchIt Q 0 [.ref x, l1] st h = Ex mX9_catchIt Q 1 [.ref x, l1] (.ref x :: st) h := Ex_nx rfl rfl
theorem rX9_catchIt_1 (Q : Po) (h : Hp) (l0 : Value) (x : Int32) (st : List Value) : Ex mX9_catchIt Q 1 [l0, .int x] st h = Ex mX9_catchIt Q 2 [l0, .int x] (.int x :: st) h := Ex_nx rfl rfl
theorem rX9_catchIt_2 (Q : Po) (h : Hp) (ls : List Value) (a0 : Int32) (b : Nat) : Ex mX9_catchIt Q 2 ls (.int a0 :: .ref b :: []) h = (gK h b = 9 ∧ Ex mX9_isFish (Cont mX9_catchIt Q 2 ls 5 []) 0 [.ref b, .int a0] [] h) := Ex_cg (n := 2) (as := [.ref b, .int a0]) rfl rfl
theorem rX9_catchIt_5 (Q : Po) (h : Hp) (ls : List Value) (st : List Value) (x : Int32) : Ex mX9_catchIt Q 5 ls (.int x :: st) h = if ¬ x = 0 then Ex mX9_catchIt Q 11 ls st h else Ex mX9_catchIt Q 8 ls st h := Ex_br rfl rfl
theorem rX9_catchIt_8 (Q : Po) (h : Hp) (ls : List Value) (st : List Value) : Ex mX9_catchIt Q 8 ls st h = Ex mX9_catchIt Q 10 ls (.int (-1000001) :: st) h := Ex_nx rfl rfl
theorem rX9_catchIt_10 (Q : Po) (h : Hp) (ls : List Value) (x : Int32) : Ex mX9_catchIt Q 10 ls [.int x] h = Q (.inl (some (.int x))) h := Ex_rt rfl rfl
theorem rX9_catchIt_11 (Q : Po) (h : Hp) (l1 : Value) (x : Nat) (st : List Value) : Ex mX9_catchIt Q 11 [.ref x, l1] st h = Ex mX9_catchIt Q 12 [.ref x, l1] (.ref x :: st) h := Ex_nx rfl rfl
theorem rX9_catchIt_12 (Q : Po) (h : Hp) (l0 : Value) (x : Int32) (st : List Value) : Ex mX9_catchIt Q 12 [l0, .int x] st h = Ex mX9_catchIt Q 13 [l0, .int x] (.int x :: st) h := Ex_nx rfl rfl
theorem rX9_catchIt_13 (Q : Po) (h : Hp) (ls : List Value) (a0 : Int32) (b : Nat) : Ex mX9_catchIt Q 13 ls (.int a0 :: .ref b :: []) h = (gK h b = 9 ∧ Ex mX9_isCaught (Cont mX9_catchIt Q 13 ls 16 []) 0 [.ref b, .int a0] [] h) := Ex_cg (n := 2) (as := [.ref b, .int a0]) rfl rfl
theorem rX9_catchIt_16 (Q : Po) (h : Hp) (ls : List Value) (st : List Value) (x : Int32) : Ex mX9_catchIt Q 16 ls (.int x :: st) h = if x = 0 then Ex mX9_catchIt Q 22 ls st h else Ex mX9_catchIt Q 19 ls st h := Ex_br rfl rfl
theorem rX9_catchIt_19 (Q : Po) (h : Hp) (ls : List Value) (st : List Value) : Ex mX9_catchIt Q 19 ls st h = Ex mX9_catchIt Q 21 ls (.int (-1000002) :: st) h := Ex_nx rfl rfl
theorem rX9_catchIt_21 (Q : Po) (h : Hp) (ls : List Value) (x : Int32) : Ex mX9_catchIt Q 21 ls [.int x] h = Q (.inl (some (.int x))) h := Ex_rt rfl rfl
theorem rX9_catchIt_22 (Q : Po) (h : Hp) (l1 : Value) (x : Nat) (st : List Value) : Ex mX9_catchIt Q 22 [.ref x, l1] st h = Ex mX9_catchIt Q 23 [.ref x, l1] (.ref x :: st) h := Ex_nx rfl rfl
theorem rX9_catchIt_23 (Q : Po) (h : Hp) (ls : List Value) (b : Nat) : Ex mX9_catchIt Q 23 ls (.ref b :: []) h = (gK h b = 9 ∧ Ex mX9_note (Cont mX9_catchIt Q 23 ls 26 []) 0 [.ref b, .retAddr 0] [] h) := Ex_cg (n := 2) (as := [.ref b]) rfl rfl
theorem rX9_catchIt_26 (Q : Po) (h : Hp) (l1 : Value) (x : Nat) (st : List Value) : Ex mX9_catchIt Q 26 [.ref x, l1] st h = Ex mX9_catchIt Q 27 [.ref x, l1] (.ref x :: st) h := Ex_nx rfl rfl
theorem rX9_catchIt_27 (Q : Po) (h : Hp) (ls : List Value) (st : List Value) (a : Nat) : Ex mX9_catchIt Q 27 ls (.ref a :: st) h = (gK h a ∈ ([9] : List Nat) ∧ Ex mX9_catchIt Q 30 ls (gF h 81 a :: st) h) := Ex_gd rfl rfl
theorem rX9_catchIt_30 (Q : Po) (h : Hp) (ls : List Value) (st : List Value) : Ex mX9_catchIt Q 30 ls st h = Ex mX9_catchIt Q 32 ls (.int 7 :: st) h := Ex_nx rfl rfl
theorem rX9_catchIt_32 (Q : Po) (h : Hp) (ls : List Value) (st : List Value) (x : Int32) (y : Nat) : Ex mX9_catchIt Q 32 ls (.int x :: .ref y :: st) h = Ex mX9_catchIt Q 33 ls (.int x :: .ref y :: .int x :: .ref y :: st) h := Ex_nx rfl rfl
theorem rX9_catchIt_33 (Q : Po) (h : Hp) (ls : List Value) (st : List Value) (a : Nat) (i : Int32) : Ex mX9_catchIt Q 33 ls (.int i :: .ref a :: st) h = ((gK h a = 51 ∧ ¬ (i < 0 ∨ gL h a ≤ i.toNatClampNeg)) ∧ Ex mX9_catchIt Q 34 ls (.int (gI h a i.toNatClampNeg) :: st) h) := Ex_gd rfl rfl
theorem rX9_catchIt_34 (Q : Po) (h : Hp) (ls : List Value) (st : List Value) : Ex mX9_catchIt Q 34 ls st h = Ex mX9_catchIt Q 35 ls (.int 1 :: st) h := Ex_nx rfl rfl
theorem rX9_catchIt_35 (Q : Po) (h : Hp) (l0 : Value) (x : Int32) (st : List Value) : Ex mX9_catchIt Q 35 [l0, .int x] st h = Ex mX9_catchIt Q 36 [l0, .int x] (.int x :: st) h := Ex_nx rfl rfl
theorem rX9_catchIt_36 (Q : Po) (h : Hp) (ls : List Value) (st : List Value) (x y : Int32) : Ex mX9_catchIt Q 36 ls (.int y :: .int x :: st) h = Ex mX9_catchIt Q 37 ls (.int (x <<< (y &&& 31)) :: st) h := Ex_nx rfl rfl
theorem rX9_catchIt_37 (Q : Po) (h : Hp) (ls : List Value) (st : List Value) (x y : Int32) : Ex mX9_catchIt Q 37 ls (.int y :: .int x :: st) h = Ex mX9_catchIt Q 38 ls (.int (x ||| y) :: st) h := Ex_nx rfl rfl
theorem rX9_catchIt_38 (Q : Po) (h : Hp) (ls : List Value) (st : List Value) (a : Nat) (i x : Int32) : Ex mX9_catchIt Q 38 ls (.int x :: .int i :: .ref a :: st) h = ((gK h a = 51 ∧ ¬ (i < 0 ∨ gL h a ≤ i.toNatClampNeg)) ∧ Ex mX9_catchIt Q 39 ls st (pI h a i.toNatClampNeg (x))) := Ex_gd rfl rfl
theorem rX9_catchIt_39 (Q : Po) (h : Hp) (l1 : Value) (x : Nat) (st : List Value) : Ex mX9_catchIt Q 39 [.ref x, l1] st h = Ex mX9_catchIt Q 40 [.ref x, l1] (.ref x :: st) h := Ex_nx rfl rfl
theorem rX9_catchIt_40 (Q : Po) (h : Hp) (ls : List Value) (st : List Value) (a : Nat) : Ex mX9_catchIt Q 40 ls (.ref a :: st) h = (gK h a ∈ ([9] : List Nat) ∧ Ex mX9_catchIt Q 43 ls (gF h 81 a :: st) h) := Ex_gd rfl rfl
theorem rX9_catchIt_43 (Q : Po) (h : Hp) (ls : List Value) (st : List Value) : Ex mX9_catchIt Q 43 ls st h = Ex mX9_catchIt Q 45 ls (.int 7 :: st) h := Ex_nx rfl rfl
theorem rX9_catchIt_45 (Q : Po) (h : Hp) (ls : List Value) (st : List Value) (a : Nat) (i : Int32) : Ex mX9_catchIt Q 45 ls (.int i :: .ref a :: st) h = ((gK h a = 51 ∧ ¬ (i < 0 ∨ gL h a ≤ i.toNatClampNeg)) ∧ Ex mX9_catchIt Q 46 ls (.int (gI h a i.toNatClampNeg) :: st) h) := Ex_gd rfl rfl
theorem rX9_catchIt_46 (Q : Po) (h : Hp) (ls : List Value) (x : Int32) : Ex mX9_catchIt Q 46 ls [.int x] h = Q (.inl (some (.int x))) h := Ex_rt rfl rfl
theorem rX9_catchIt_t (Q : Po) (h : Hp) (pc n a : Nat) (ls st : List Value) : Cont mX9_catchIt Q pc ls n st (.inr a) h = Q (.inr a) h := rfl
/-! FishReadersModel.fishAt(I)I -/
def mX9_fishAt : Cd := ([(0, .inl (i_push (.int 0) 1)),
  (1, .inl (i_istore 2 2)),
  (2, .inl (i_push (.int 0) 3)),
  (3, .inl (i_istore 3 4)),
  (4, .inl (i_iload 3 5)),
  (5, .inl (i_aload 0 6)),
  (6, .inl (i_getf 81 [9] 9)),
  (9, .inl (i_push (.int 1) 10)),
  (10, .inl (i_iald 51 11)),
  (11, .inl (i_icmp (fun x y => y ≤ x) 51 14)),
  (14, .inl (i_iload 2 15)),
  (15, .inl (i_aload 0 16)),
  (16, .inl (i_iload 3 17)),
  (17, .inr (c_V 1 20 2 9 (Mt mX9_isCaught 2))),
  (20, .inl (i_if (fun x => ¬ x = 0) 42 23)),
  (23, .inl (i_aload 0 24)),
  (24, .inl (i_getf 81 [9] 27)),
  (27, .inl (i_push (.int 31) 29)),
  (29, .inl (i_iload 3 30)),
  (30, .inl (i_bin (fun x y => x + y) 31)),
  (31, .inl (i_iald 51 32)),
  (32, .inl (i_iload 1 33)),
  (33, .inl (i_icmp (fun x y => ¬ x = y) 42 36)),
  (36, .inl (i_push (.int 1) 37)),
  (37, .inl (i_iload 3 38)),
  (38, .inl (i_bin (fun x y => x <<< (y &&& 31)) 39)),
  (39, .inl (i_goto 43)),
  (42, .inl (i_push (.int 0) 43)),
  (43, .inl (i_bin (fun x y => x ||| y) 44)),
  (44, .inl (i_istore 2 45)),
  (45, .inl (i_iinc 3 1 48)),
  (48, .inl (i_goto 4)),
  (51, .inl (i_iload 2 52)),
  (52, .inl i_iret)], noH)
theorem rX9_fishAt_0 (Q : Po) (h : Hp) (ls : List Value) (st : List Value) : Ex mX9_fishAt Q 0 ls st h = Ex mX9_fishAt Q 1 ls (.int 0 :: st) h := Ex_nx rfl rfl
theorem rX9_fishAt_1 (Q : Po) (h : Hp) (l0 l1 l2 l3 : Value) (x : Int32) (st : List Value) : Ex mX9_fishAt Q 1 [l0, l1, l2, l3] (.int x :: st) h = Ex mX9_fishAt Q 2 [l0, l1, .int x, l3] st h := Ex_nx rfl rfl
theorem rX9_fishAt_2 (Q : Po) (h : Hp) (ls : List Value) (st : List Value) : Ex mX9_fishAt Q 2 ls st h = Ex mX9_fishAt Q 3 ls (.int 0 :: st) h := Ex_nx rfl rfl
theorem rX9_fishAt_3 (Q : Po) (h : Hp) (l0 l1 l2 l3 : Value) (x : Int32) (st : List Value) : Ex mX9_fishAt Q 3 [l0, l1, l2, l3] (.int x :: st) h = Ex mX9_fishAt Q 4 [l0, l1, l2, .int x] st h := Ex_nx rfl rfl
theorem rX9_fishAt_4 (Q : Po) (h : Hp) (l0 l1 l2 : Value) (x : Int32) (st : List Value) : Ex mX9_fishAt Q 4 [l0, l1, l2, .int x] st h = Ex mX9_fishAt Q 5 [l0, l1, l2, .int x] (.int x :: st) h := Ex_nx rfl rfl
theorem rX9_fishAt_5 (Q : Po) (h : Hp) (l1 l2 l3 : Value) (x : Nat) (st : List Value) : Ex mX9_fishAt Q 5 [.ref x, l1, l2, l3] st h = Ex mX9_fishAt Q 6 [.ref x, l1, l2, l3] (.ref x :: st) h := Ex_nx rfl rfl
theorem rX9_fishAt_6 (Q : Po) (h : Hp) (ls : List Value) (st : List Value) (a : Nat) : Ex mX9_fishAt Q 6 ls (.ref a :: st) h = (gK h a ∈ ([9] : List Nat) ∧ Ex mX9_fishAt Q 9 ls (gF h 81 a :: st) h) := Ex_gd rfl rfl
theorem rX9_fishAt_9 (Q : Po) (h : Hp) (ls : List Value) (st : List Value) : Ex mX9_fishAt Q 9 ls st h = Ex mX9_fishAt Q 10 ls (.int 1 :: st) h := Ex_nx rfl rfl
theorem rX9_fishAt_10 (Q : Po) (h : Hp) (ls : List Value) (st : List Value) (a : Nat) (i : Int32) : Ex mX9_fishAt Q 10 ls (.int i :: .ref a :: st) h = ((gK h a = 51 ∧ ¬ (i < 0 ∨ gL h a ≤ i.toNatClampNeg)) ∧ Ex mX9_fishAt Q 11 ls (.int (gI h a i.toNatClampNeg) :: st) h) := Ex_gd rfl rfl
theorem rX9_fishAt_11 (Q : Po) (h : Hp) (ls : List Value) (st : List Value) (x y : Int32) : Ex mX9_fishAt Q 11 ls (.int y :: .int x :: st) h = if y ≤ x then Ex mX9_fishAt Q 51 ls st h else Ex mX9_fishAt Q 14 ls st h := Ex_br rfl rfl
theorem rX9_fishAt_14 (Q : Po) (h : Hp) (l0 l1 l3 : Value) (x : Int32) (st : List Value) : Ex mX9_fishAt Q 14 [l0, l1, .int x, l3] st h = Ex mX9_fishAt Q 15 [l0, l1, .int x, l3] (.int x :: st) h := Ex_nx rfl rfl
theorem rX9_fishAt_15 (Q : Po) (h : Hp) (l1 l2 l3 : Value) (x : Nat) (st : List Value) : Ex mX9_fishAt Q 15 [.ref x, l1, l2, l3] st h = Ex mX9_fishAt Q 16 [.ref x, l1, l2, l3] (.ref x :: st) h := Ex_nx rfl rfl
theorem rX9_fishAt_16 (Q : Po) (h : Hp) (l0 l1 l2 : Value) (x : Int32) (st : List Value) : Ex mX9_fishAt Q 16 [l0, l1, l2, .int x] st h = Ex mX9_fishAt Q 17 [l0, l1, l2, .int x] (.int x :: st) h := Ex_nx rfl rfl
theorem rX9_fishAt_17 (Q : Po) (h : Hp) (ls : List Value) (a0 : Int32) (s0 : Value) (b : Nat) : Ex mX9_fishAt Q 17 ls (.int a0 :: .ref b :: [s0]) h = (gK h b = 9 ∧ Ex mX9_isCaught (Cont mX9_fishAt Q 17 ls 20 [s0]) 0 [.ref b, .int a0] [] h) := Ex_cg (n := 2) (as := [.ref b, .int a0]) rfl rfl
theorem rX9_fishAt_20 (Q : Po) (h : Hp) (ls : List Value) (st : List Value) (x : Int32) : Ex mX9_fishAt Q 20 ls (.int x :: st) h = if ¬ x = 0 then Ex mX9_fishAt Q 42 ls st h else Ex mX9_fishAt Q 23 ls st h := Ex_br rfl rfl
theorem rX9_fishAt_23 (Q : Po) (h : Hp) (l1 l2 l3 : Value) (x : Nat) (st : List Value) : Ex mX9_fishAt Q 23 [.ref x, l1, l2, l3] st h = Ex mX9_fishAt Q 24 [.ref x, l1, l2, l3] (.ref x :: st) h := Ex_nx rfl rfl
theorem rX9_fishAt_24 (Q : Po) (h : Hp) (ls : List Value) (st : List Value) (a : Nat) : Ex mX9_fishAt Q 24 ls (.ref a :: st) h = (gK h a ∈ ([9] : List Nat) ∧ Ex mX9_fishAt Q 27 ls (gF h 81 a :: st) h) := Ex_gd rfl rfl
theorem rX9_fishAt_27 (Q : Po) (h : Hp) (ls : List Value) (st : List Value) : Ex mX9_fishAt Q 27 ls st h = Ex mX9_fishAt Q 29 ls (.int 31 :: st) h := Ex_nx rfl rfl
theorem rX9_fishAt_29 (Q : Po) (h : Hp) (l0 l1 l2 : Value) (x : Int32) (st : List Value) : Ex mX9_fishAt Q 29 [l0, l1, l2, .int x] st h = Ex mX9_fishAt Q 30 [l0, l1, l2, .int x] (.int x :: st) h := Ex_nx rfl rfl
theorem rX9_fishAt_30 (Q : Po) (h : Hp) (ls : List Value) (st : List Value) (x y : Int32) : Ex mX9_fishAt Q 30 ls (.int y :: .int x :: st) h = Ex mX9_fishAt Q 31 ls (.int (x + y) :: st) h := Ex_nx rfl rfl
theorem rX9_fishAt_31 (Q : Po) (h : Hp) (ls : List Value) (st : List Value) (a : Nat) (i : Int32) : Ex mX9_fishAt Q 31 ls (.int i :: .ref a :: st) h = ((gK h a = 51 ∧ ¬ (i < 0 ∨ gL h a ≤ i.toNatClampNeg)) ∧ Ex mX9_fishAt Q 32 ls (.int (gI h a i.toNatClampNeg) :: st) h) := Ex_gd rfl rfl
theorem rX9_fishAt_32 (Q : Po) (h : Hp) (l0 l2 l3 : Value) (x : Int32) (st : List Value) : Ex mX9_fishAt Q 32 [l0, .int x, l2, l3] st h = Ex mX9_fishAt Q 33 [l0, .int x, l2, l3] (.int x :: st) h := Ex_nx rfl rfl
theorem rX9_fishAt_33 (Q : Po) (h : Hp) (ls : List Value) (st : List Value) (x y : Int32) : Ex mX9_fishAt Q 33 ls (.int y :: .int x :: st) h = if ¬ x = y then Ex mX9_fishAt Q 42 ls st h else Ex mX9_fishAt Q 36 ls st h := Ex_br rfl rfl
theorem rX9_fishAt_36 (Q : Po) (h : Hp) (ls : List Value) (st : List Value) : Ex mX9_fishAt Q 36 ls st h = Ex mX9_fishAt Q 37 ls (.int 1 :: st) h := Ex_nx rfl rfl
theorem rX9_fishAt_37 (Q : Po) (h : Hp) (l0 l1 l2 : Value) (x : Int32) (st : List Value) : Ex mX9_fishAt Q 37 [l0, l1, l2, .int x] st h = Ex mX9_fishAt Q 38 [l0, l1, l2, .int x] (.int x :: st) h := Ex_nx rfl rfl
theorem rX9_fishAt_38 (Q : Po) (h : Hp) (ls : List Value) (st : List Value) (x y : Int32) : Ex mX9_fishAt Q 38 ls (.int y :: .int x :: st) h = Ex mX9_fishAt Q 39 ls (.int (x <<< (y &&& 31)) :: st) h := Ex_nx rfl rfl
theorem rX9_fishAt_39 (Q : Po) (h : Hp) (ls : List Value) (st : List Value) : Ex mX9_fishAt Q 39 ls st h = Ex mX9_fishAt Q 43 ls st h := Ex_nx rfl rfl
theorem rX9_fishAt_42 (Q : Po) (h : Hp) (ls : List Value) (st : List Value) : Ex mX9_fishAt Q 42 ls st h = Ex mX9_fishAt Q 43 ls (.int 0 :: st) h := Ex_nx rfl rfl
theorem rX9_fishAt_43 (Q : Po) (h : Hp) (ls : List Value) (st : List Value) (x y : Int32) : Ex mX9_fishAt Q 43 ls (.int y :: .int x :: st) h = Ex mX9_fishAt Q 44 ls (.int (x ||| y) :: st) h := Ex_nx rfl rfl
theorem rX9_fishAt_44 (Q : Po) (h : Hp) (l0 l1 l2 l3 : Value) (x : Int32) (st : List Value) : Ex mX9_fishAt Q 44 [l0, l1, l2, l3] (.int x :: st) h = Ex mX9_fishAt Q 45 [l0, l1, .int x, l3] st h := Ex_nx rfl rfl
theorem rX9_fishAt_45 (Q : Po) (h : Hp) (l0 l1 l2 : Value) (x : Int32) (st : List Value) : Ex mX9_fishAt Q 45 [l0, l1, l2, .int x] st h = Ex mX9_fishAt Q 48 [l0, l1, l2, .int (x + 1)] st h := Ex_nx rfl rfl
theorem rX9_fishAt_48 (Q : Po) (h : Hp) (ls : List Value) (st : List Value) : Ex mX9_fishAt Q 48 ls st h = Ex mX9_fishAt Q 4 ls st h := Ex_nx rfl rfl
theorem rX9_fishAt_51 (Q : Po) (h : Hp) (l0 l1 l3 : Value) (x : Int32) (st : List Value) : Ex mX9_fishAt Q 51 [l0, l1, .int x, l3] st h = Ex mX9_fishAt Q 52 [l0, l1, .int x, l3] (.int x :: st) h := Ex_nx rfl rfl
theorem rX9_fishAt_52 (Q : Po) (h : Hp) (ls : List Value) (x : Int32) : Ex mX9_fishAt Q 52 ls [.int x] h = Q (.inl (some (.int x))) h := Ex_rt rfl rfl
theorem rX9_fishAt_t (Q : Po) (h : Hp) (pc n a : Nat) (ls st : List Value) : Cont mX9_fishAt Q pc ls n st (.inr a) h = Q (.inr a) h := rfl
/-! FishReadersModel.book(II)I -/
def mX9_book : Cd := ([(0, .inl (i_aload 0 1)),
  (1, .inl (i_iload 1 2)),
  (2, .inr (c_V 1 5 2 9 (Mt mX9_isBook 2))),
  (5, .inl (i_if (fun x => ¬ x = 0) 11 8)),
  (8, .inl (i_push (.int (-1000001)) 10)),
  (10, .inl i_iret),
  (11, .inl (i_iload 2 12)),
  (12, .inl (i_tsw 0 [52, 62, 72, 82, 101, 121] 135)),
  (52, .inl (i_aload 0 53)),
  (53, .inl (i_getf 81 [9] 56)),
  (56, .inl (i_push (.int 8) 58)),
  (58, .inl (i_iload 1 59)),
  (59, .inl (i_bin (fun x y => x + y) 60)),
  (60, .inl (i_iald 51 61)),
  (61, .inl i_iret),
  (62, .inl (i_aload 0 63)),
  (63, .inl (i_getf 81 [9] 66)),
  (66, .inl (i_push (.int 14) 68)),
  (68, .inl (i_iload 1 69)),
  (69, .inl (i_bin (fun x y => x + y) 70)),
  (70, .inl (i_iald 51 71)),
  (71, .inl i_iret),
  (72, .inl (i_aload 0 73)),
  (73, .inl (i_getf 81 [9] 76)),
  (76, .inl (i_push (.int 20) 78)),
  (78, .inl (i_iload 1 79)),
  (79, .inl (i_bin (fun x y => x + y) 80)),
  (80, .inl (i_iald 51 81)),
  (81, .inl i_iret),
  (82, .inl (i_aload 0 83)),
  (83, .inl (i_getf 81 [9] 86)),
  (86, .inl (i_push (.int 5) 87)),
  (87, .inl (i_iald 51 88)),
  (88, .inl (i_iload 1 89)),
  (89, .inr (c_S 2 92 2 (Mt mX9_has 2))),
  (92, .inl (i_if (fun x => x = 0) 99 95)),
  (95, .inl (i_push (.int 1) 96)),
  (96, .inl (i_goto 100)),
  (99, .inl (i_push (.int 0) 100)),
  (100, .inl i_iret),
  (101, .inl (i_aload 0 102)),
  (102, .inl (i_getf 81 [9] 105)),
  (105, .inl (i_push (.int 6) 107)),
  (107, .inl (i_iald 51 108)),
  (108, .inl (i_iload 1 109)),
  (109, .inr (c_S 2 112 2 (Mt mX9_has 2))),
  (112, .inl (i_if (fun x => x = 0) 119 115)),
  (115, .inl (i_push (.int 1) 116)),
  (116, .inl (i_goto 120)),
  (119, .inl (i_push (.int 0) 120)),
  (120, .inl i_iret),
  (121, .inl (i_aload 0 122)),
  (122, .inl (i_aload 0 123)),
  (123, .inl (i_getf 81 [9] 126)),
  (126, .inl (i_push (.int 20) 128)),
  (128, .inl (i_iload 1 129)),
  (129, .inl (i_bin (fun x y => x + y) 130)),
  (130, .inl (i_iald 51 131)),
  (131, .inr (c_V 1 134 4 9 (Mt mX9_fishAt 4))),
  (134, .inl i_iret),
  (135, .inl (i_push (.int (-1000001)) 137)),
  (137, .inl i_iret)], noH)
theorem rX9_book_0 (Q : Po) (h : Hp) (l1 l2 : Value) (x : Nat) (st : List Value) : Ex mX9_book Q 0 [.ref x, l1, l2] st h = Ex mX9_book Q 1 [.ref x, l1, l2] (.ref x :: st) h := Ex_nx rfl rfl
theorem rX9_book_1 (Q : Po) (h : Hp) (l0 l2 : Value) (x : Int32) (st : List Value) : Ex mX9_book Q 1 [l0, .int x, l2] st h = Ex mX9_book Q 2 [l0, .int x, l2] (.int x :: st) h := Ex_nx rfl rfl
theorem rX9_book_2 (Q : Po) (h : Hp) (ls : List Value) (a0 : Int32) (b : Nat) : Ex mX9_book Q 2 ls (.int a0 :: .ref b :: []) h = (gK h b = 9 ∧ Ex mX9_isBook (Cont mX9_book Q 2 ls 5 []) 0 [.ref b, .int a0] [] h) := Ex_cg (n := 2) (as := [.ref b, .int a0]) rfl rfl
theorem rX9_book_5 (Q : Po) (h : Hp) (ls : List Value) (st : List Value) (x : Int32) : Ex mX9_book Q 5 ls (.int x :: st) h = if ¬ x = 0 then Ex mX9_book Q 11 ls st h else Ex mX9_book Q 8 ls st h := Ex_br rfl rfl
theorem rX9_book_8 (Q : Po) (h : Hp) (ls : List Value) (st : List Value) : Ex mX9_book Q 8 ls st h = Ex mX9_book Q 10 ls (.int (-1000001) :: st) h := Ex_nx rfl rfl
theorem rX9_book_10 (Q : Po) (h : Hp) (ls : List Value) (x : Int32) : Ex mX9_book Q 10 ls [.int x] h = Q (.inl (some (.int x))) h := Ex_rt rfl rfl
theorem rX9_book_11 (Q : Po) (h : Hp) (l0 l1 : Value) (x : Int32) (st : List Value) : Ex mX9_book Q 11 [l0, l1, .int x] st h = Ex mX9_book Q 12 [l0, l1, .int x] (.int x :: st) h := Ex_nx rfl rfl
theorem rX9_book_12 (Q : Po) (h : Hp) (ls : List Value) (st : List Value) (x : Int32) : Ex mX9_book Q 12 ls (.int x :: st) h = Ex mX9_book Q (tswT 0 [52, 62, 72, 82, 101, 121] 135 x) ls st h := Ex_nx rfl rfl
theorem rX9_book_52 (Q : Po) (h : Hp) (l1 l2 : Value) (x : Nat) (st : List Value) : Ex mX9_book Q 52 [.ref x, l1, l2] st h = Ex mX9_book Q 53 [.ref x, l1, l2] (.ref x :: st) h := Ex_nx rfl rfl
theorem rX9_book_53 (Q : Po) (h : Hp) (ls : List Value) (st : List Value) (a : Nat) : Ex mX9_book Q 53 ls (.ref a :: st) h = (gK h a ∈ ([9] : List Nat) ∧ Ex mX9_book Q 56 ls (gF h 81 a :: st) h) := Ex_gd rfl rfl
theorem rX9_book_56 (Q : Po) (h : Hp) (ls : List Value) (st : List Value) : Ex mX9_book Q 56 ls st h = Ex mX9_book Q 58 ls (.int 8 :: st) h := Ex_nx rfl rfl
theorem rX9_book_58 (Q : Po) (h : Hp) (l0 l2 : Value) (x : Int32) (st : List Value) : Ex mX9_book Q 58 [l0, .int x, l2] st h = Ex mX9_book Q 59 [l0, .int x, l2] (.int x :: st) h := Ex_nx rfl rfl
theorem rX9_book_59 (Q : Po) (h : Hp) (ls : List Value) (st : List Value) (x y : Int32) : Ex mX9_book Q 59 ls (.int y :: .int x :: st) h = Ex mX9_book Q 60 ls (.int (x + y) :: st) h := Ex_nx rfl rfl
theorem rX9_book_60 (Q : Po) (h : Hp) (ls : List Value) (st : List Value) (a : Nat) (i : Int32) : Ex mX9_book Q 60 ls (.int i :: .ref a :: st) h = ((gK h a = 51 ∧ ¬ (i < 0 ∨ gL h a ≤ i.toNatClampNeg)) ∧ Ex mX9_book Q 61 ls (.int (gI h a i.toNatClampNeg) :: st) h) := Ex_gd rfl rfl
theorem rX9_book_61 (Q : Po) (h : Hp) (ls : List Value) (x : Int32) : Ex mX9_book Q 61 ls [.int x] h = Q (.inl (some (.int x))) h := Ex_rt rfl rfl
theorem rX9_book_62 (Q : Po) (h : Hp) (l1 l2 : Value) (x : Nat) (st : List Value) : Ex mX9_book Q 62 [.ref x, l1, l2] st h = Ex mX9_book Q 63 [.ref x, l1, l2] (.ref x :: st) h := Ex_nx rfl rfl
theorem rX9_book_63 (Q : Po) (h : Hp) (ls : List Value) (st : List Value) (a : Nat) : Ex mX9_book Q 63 ls (.ref a :: st) h = (gK h a ∈ ([9] : List Nat) ∧ Ex mX9_book Q 66 ls (gF h 81 a :: st) h) := Ex_gd rfl rfl
theorem rX9_book_66 (Q : Po) (h : Hp) (ls : List Value) (st : List Value) : Ex mX9_book Q 66 ls st h = Ex mX9_book Q 68 ls (.int 14 :: st) h := Ex_nx rfl rfl
theorem rX9_book_68 (Q : Po) (h : Hp) (l0 l2 : Value) (x : Int32) (st : List Value) : Ex mX9_book Q 68 [l0, .int x, l2] st h = Ex mX9_book Q 69 [l0, .int x, l2] (.int x :: st) h := Ex_nx rfl rfl
theorem rX9_book_69 (Q : Po) (h : Hp) (ls : List Value) (st : List Value) (x y : Int32) : Ex mX9_book Q 69 ls (.int y :: .int x :: st) h = Ex mX9_book Q 70 ls (.int (x + y) :: st) h := Ex_nx rfl rfl
theorem rX9_book_70 (Q : Po) (h : Hp) (ls : List Value) (st : List Value) (a : Nat) (i : Int32) : Ex mX9_book Q 70 ls (.int i :: .ref a :: st) h = ((gK h a = 51 ∧ ¬ (i < 0 ∨ gL h a ≤ i.toNatClampNeg)) ∧ Ex mX9_book Q 71 ls (.int (gI h a i.toNatClampNeg) :: st) h) := Ex_gd rfl rfl
theorem rX9_book_71 (Q : Po) (h : Hp) (ls : List Value) (x : Int32) : Ex mX9_book Q 71 ls [.int x] h = Q (.inl (some (.int x))) h := Ex_rt rfl rfl
theorem rX9_book_72 (Q : Po) (h : Hp) (l1 l2 : Value) (x : Nat) (st : List Value) : Ex mX9_book Q 72 [.ref x, l1, l2] st h = Ex mX9_book Q 73 [.ref x, l1, l2] (.ref x :: st) h := Ex_nx rfl rfl
theorem rX9_book_73 (Q : Po) (h : Hp) (ls : List Value) (st : List Value) (a : Nat) : Ex mX9_book Q 73 ls (.ref a :: st) h = (gK h a ∈ ([9] : List Nat) ∧ Ex mX9_book Q 76 ls (gF h 81 a :: st) h) := Ex_gd rfl rfl
theorem rX9_book_76 (Q : Po) (h : Hp) (ls : List Value) (st : List Value) : Ex mX9_book Q 76 ls st h = Ex mX9_book Q 78 ls (.int 20 :: st) h := Ex_nx rfl rfl
theorem rX9_book_78 (Q : Po) (h : Hp) (l0 l2 : Value) (x : Int32) (st : List Value) : Ex mX9_book Q 78 [l0, .int x, l2] st h = Ex mX9_book Q 79 [l0, .int x, l2] (.int x :: st) h := Ex_nx rfl rfl
theorem rX9_book_79 (Q : Po) (h : Hp) (ls : List Value) (st : List Value) (x y : Int32) : Ex mX9_book Q 79 ls (.int y :: .int x :: st) h = Ex mX9_book Q 80 ls (.int (x + y) :: st) h := Ex_nx rfl rfl
theorem rX9_book_80 (Q : Po) (h : Hp) (ls : List Value) (st : List Value) (a : Nat) (i : Int32) : Ex mX9_book Q 80 ls (.int i :: .ref a :: st) h = ((gK h a = 51 ∧ ¬ (i < 0 ∨ gL h a ≤ i.toNatClampNeg)) ∧ Ex mX9_book Q 81 ls (.int (gI h a i.toNatClampNeg) :: st) h) := Ex_gd rfl rfl
theorem rX9_book_81 (Q : Po) (h : Hp) (ls : List Value) (x : Int32) : Ex mX9_book Q 81 ls [.int x] h = Q (.inl (some (.int x))) h := Ex_rt rfl rfl
theorem rX9_book_82 (Q : Po) (h : Hp) (l1 l2 : Value) (x : Nat) (st : List Value) : Ex mX9_book Q 82 [.ref x, l1, l2] st h = Ex mX9_book Q 83 [.ref x, l1, l2] (.ref x :: st) h := Ex_nx rfl rfl
theorem rX9_book_83 (Q : Po) (h : Hp) (ls : List Value) (st : List Value) (a : Nat) : Ex mX9_book Q 83 ls (.ref a :: st) h = (gK h a ∈ ([9] : List Nat) ∧ Ex mX9_book Q 86 ls (gF h 81 a :: st) h) := Ex_gd rfl rfl
theorem rX9_book_86 (Q : Po) (h : Hp) (ls : List Value) (st : List Value) : Ex mX9_book Q 86 ls st h = Ex mX9_book Q 87 ls (.int 5 :: st) h := Ex_nx rfl rfl
theorem rX9_book_87 (Q : Po) (h : Hp) (ls : List Value) (st : List Value) (a : Nat) (i : Int32) : Ex mX9_book Q 87 ls (.int i :: .ref a :: st) h = ((gK h a = 51 ∧ ¬ (i < 0 ∨ gL h a ≤ i.toNatClampNeg)) ∧ Ex mX9_book Q 88 ls (.int (gI h a i.toNatClampNeg) :: st) h) := Ex_gd rfl rfl
theorem rX9_book_88 (Q : Po) (h : Hp) (l0 l2 : Value) (x : Int32) (st : List Value) : Ex mX9_book Q 88 [l0, .int x, l2] st h = Ex mX9_book Q 89 [l0, .int x, l2] (.int x :: st) h := Ex_nx rfl rfl
theorem rX9_book_89 (Q : Po) (h : Hp) (ls : List Value) (a0 : Int32) (a1 : Int32) : Ex mX9_book Q 89 ls (.int a1 :: .int a0 :: []) h = Ex mX9_has (Cont mX9_book Q 89 ls 92 []) 0 [.int a0, .int a1] [] h := Ex_cl (n := 2) (as := [.int a0, .int a1]) rfl rfl
theorem rX9_book_92 (Q : Po) (h : Hp) (ls : List Value) (st : List Value) (x : Int32) : Ex mX9_book Q 92 ls (.int x :: st) h = if x = 0 then Ex mX9_book Q 99 ls st h else Ex mX9_book Q 95 ls st h := Ex_br rfl rfl
theorem rX9_book_95 (Q : Po) (h : Hp) (ls : List Value) (st : List Value) : Ex mX9_book Q 95 ls st h = Ex mX9_book Q 96 ls (.int 1 :: st) h := Ex_nx rfl rfl
theorem rX9_book_96 (Q : Po) (h : Hp) (ls : List Value) (st : List Value) : Ex mX9_book Q 96 ls st h = Ex mX9_book Q 100 ls st h := Ex_nx rfl rfl
theorem rX9_book_99 (Q : Po) (h : Hp) (ls : List Value) (st : List Value) : Ex mX9_book Q 99 ls st h = Ex mX9_book Q 100 ls (.int 0 :: st) h := Ex_nx rfl rfl
theorem rX9_book_100 (Q : Po) (h : Hp) (ls : List Value) (x : Int32) : Ex mX9_book Q 100 ls [.int x] h = Q (.inl (some (.int x))) h := Ex_rt rfl rfl
theorem rX9_book_101 (Q : Po) (h : Hp) (l1 l2 : Value) (x : Nat) (st : List Value) : Ex mX9_book Q 101 [.ref x, l1, l2] st h = Ex mX9_book Q 102 [.ref x, l1, l2] (.ref x :: st) h := Ex_nx rfl rfl
theorem rX9_book_102 (Q : Po) (h : Hp) (ls : List Value) (st : List Value) (a : Nat) : Ex mX9_book Q 102 ls (.ref a :: st) h = (gK h a ∈ ([9] : List Nat) ∧ Ex mX9_book Q 105 ls (gF h 81 a :: st) h) := Ex_gd rfl rfl
theorem rX9_book_105 (Q : Po) (h : Hp) (ls : List Value) (st : List Value) : Ex mX9_book Q 105 ls st h = Ex mX9_book Q 107 ls (.int 6 :: st) h := Ex_nx rfl rfl
theorem rX9_book_107 (Q : Po) (h : Hp) (ls : List Value) (st : List Value) (a : Nat) (i : Int32) : Ex mX9_book Q 107 ls (.int i :: .ref a :: st) h = ((gK h a = 51 ∧ ¬ (i < 0 ∨ gL h a ≤ i.toNatClampNeg)) ∧ Ex mX9_book Q 108 ls (.int (gI h a i.toNatClampNeg) :: st) h) := Ex_gd rfl rfl
theorem rX9_book_108 (Q : Po) (h : Hp) (l0 l2 : Value) (x : Int32) (st : List Value) : Ex mX9_book Q 108 [l0, .int x, l2] st h = Ex mX9_book Q 109 [l0, .int x, l2] (.int x :: st) h := Ex_nx rfl rfl
theorem rX9_book_109 (Q : Po) (h : Hp) (ls : List Value) (a0 : Int32) (a1 : Int32) : Ex mX9_book Q 109 ls (.int a1 :: .int a0 :: []) h = Ex mX9_has (Cont mX9_book Q 109 ls 112 []) 0 [.int a0, .int a1] [] h := Ex_cl (n := 2) (as := [.int a0, .int a1]) rfl rfl
theorem rX9_book_112 (Q : Po) (h : Hp) (ls : List Value) (st : List Value) (x : Int32) : Ex mX9_book Q 112 ls (.int x :: st) h = if x = 0 then Ex mX9_book Q 119 ls st h else Ex mX9_book Q 115 ls st h := Ex_br rfl rfl
theorem rX9_book_115 (Q : Po) (h : Hp) (ls : List Value) (st : List Value) : Ex mX9_book Q 115 ls st h = Ex mX9_book Q 116 ls (.int 1 :: st) h := Ex_nx rfl rfl
theorem rX9_book_116 (Q : Po) (h : Hp) (ls : List Value) (st : List Value) : Ex mX9_book Q 116 ls st h = Ex mX9_book Q 120 ls st h := Ex_nx rfl rfl
theorem rX9_book_119 (Q : Po) (h : Hp) (ls : List Value) (st : List Value) : Ex mX9_book Q 119 ls st h = Ex mX9_book Q 120 ls (.int 0 :: st) h := Ex_nx rfl rfl
theorem rX9_book_120 (Q : Po) (h : Hp) (ls : List Value) (x : Int32) : Ex mX9_book Q 120 ls [.int x] h = Q (.inl (some (.int x))) h := Ex_rt rfl rfl
theorem rX9_book_121 (Q : Po) (h : Hp) (l1 l2 : Value) (x : Nat) (st : List Value) : Ex mX9_book Q 121 [.ref x, l1, l2] st h = Ex mX9_book Q 122 [.ref x, l1, l2] (.ref x :: st) h := Ex_nx rfl rfl
theorem rX9_book_122 (Q : Po) (h : Hp) (l1 l2 : Value) (x : Nat) (st : List Value) : Ex mX9_book Q 122 [.ref x, l1, l2] st h = Ex mX9_book Q 123 [.ref x, l1, l2] (.ref x :: st) h := Ex_nx rfl rfl
theorem rX9_book_123 (Q : Po) (h : Hp) (ls : List Value) (st : List Value) (a : Nat) : Ex mX9_book Q 123 ls (.ref a :: st) h = (gK h a ∈ ([9] : List Nat) ∧ Ex mX9_book Q 126 ls (gF h 81 a :: st) h) := Ex_gd rfl rfl
theorem rX9_book_126 (Q : Po) (h : Hp) (ls : List Value) (st : List Value) : Ex mX9_book Q 126 ls st h = Ex mX9_book Q 128 ls (.int 20 :: st) h := Ex_nx rfl rfl
theorem rX9_book_128 (Q : Po) (h : Hp) (l0 l2 : Value) (x : Int32) (st : List Value) : Ex mX9_book Q 128 [l0, .int x, l2] st h = Ex mX9_book Q 129 [l0, .int x, l2] (.int x :: st) h := Ex_nx rfl rfl
theorem rX9_book_129 (Q : Po) (h : Hp) (ls : List Value) (st : List Value) (x y : Int32) : Ex mX9_book Q 129 ls (.int y :: .int x :: st) h = Ex mX9_book Q 130 ls (.int (x + y) :: st) h := Ex_nx rfl rfl
theorem rX9_book_130 (Q : Po) (h : Hp) (ls : List Value) (st : List Value) (a : Nat) (i : Int32) : Ex mX9_book Q 130 ls (.int i :: .ref a :: st) h = ((gK h a = 51 ∧ ¬ (i < 0 ∨ gL h a ≤ i.toNatClampNeg)) ∧ Ex mX9_book Q 131 ls (.int (gI h a i.toNatClampNeg) :: st) h) := Ex_gd rfl rfl
theorem rX9_book_131 (Q : Po) (h : Hp) (ls : List Value) (a0 : Int32) (b : Nat) : Ex mX9_book Q 131 ls (.int a0 :: .ref b :: []) h = (gK h b = 9 ∧ Ex mX9_fishAt (Cont mX9_book Q 131 ls 134 []) 0 [.ref b, .int a0, .retAddr 0, .retAddr 0] [] h) := Ex_cg (n := 4) (as := [.ref b, .int a0]) rfl rfl
theorem rX9_book_134 (Q : Po) (h : Hp) (ls : List Value) (x : Int32) : Ex mX9_book Q 134 ls [.int x] h = Q (.inl (some (.int x))) h := Ex_rt rfl rfl
theorem rX9_book_135 (Q : Po) (h : Hp) (ls : List Value) (st : List Value) : Ex mX9_book Q 135 ls st h = Ex mX9_book Q 137 ls (.int (-1000001) :: st) h := Ex_nx rfl rfl
theorem rX9_book_137 (Q : Po) (h : Hp) (ls : List Value) (x : Int32) : Ex mX9_book Q 137 ls [.int x] h = Q (.inl (some (.int x))) h := Ex_rt rfl rfl
theorem rX9_book_t (Q : Po) (h : Hp) (pc n a : Nat) (ls st : List Value) : Cont mX9_book Q pc ls n st (.inr a) h = Q (.inr a) h := rfl
/-! FishReadersModel.fish(II)I -/
def mX9_fish : Cd := ([(0, .inl (i_aload 0 1)),
  (1, .inl (i_iload 1 2)),
  (2, .inr (c_V 1 5 2 9 (Mt mX9_isFish 2))),
  (5, .inl (i_if (fun x => x = 0) 20 8)),
  (8, .inl (i_iload 2 9)),
  (9, .inl (i_i2l 10)),
  (10, .inl (i_push (.long 0) 11)),
  (11, .inl (i_push (.long 3) 14)),
  (14, .inr (c_S 3 17 6 (Mt mX9_in 6))),
  (17, .inl (i_if (fun x => ¬ x = 0) 23 20)),
  (20, .inl (i_push (.int (-1000001)) 22)),
  (22, .inl i_iret),
  (23, .inl (i_iload 2 24)),
  (24, .inl (i_push (.int 1) 25)),
  (25, .inl (i_icmp (fun x y => ¬ x = y) 38 28)),
  (28, .inl (i_aload 0 29)),
  (29, .inl (i_getf 81 [9] 32)),
  (32, .inl (i_push (.int 36) 34)),
  (34, .inl (i_iload 1 35)),
  (35, .inl (i_bin (fun x y => x + y) 36)),
  (36, .inl (i_iald 51 37)),
  (37, .inl i_iret),
  (38, .inl (i_aload 0 39)),
  (39, .inl (i_iload 1 40)),
  (40, .inr (c_V 1 43 2 9 (Mt mX9_isCaught 2))),
  (43, .inl (i_if (fun x => x = 0) 49 46)),
  (46, .inl (i_push (.int (-1000000)) 48)),
  (48, .inl i_iret),
  (49, .inl (i_iload 2 50)),
  (50, .inl (i_if (fun x => ¬ x = 0) 65 53)),
  (53, .inl (i_aload 0 54)),
  (54, .inl (i_getf 81 [9] 57)),
  (57, .inl (i_push (.int 31) 59)),
  (59, .inl (i_iload 1 60)),
  (60, .inl (i_bin (fun x y => x + y) 61)),
  (61, .inl (i_iald 51 62)),
  (62, .inl (i_goto 91)),
  (65, .inl (i_iload 2 66)),
  (66, .inl (i_push (.int 2) 67)),
  (67, .inl (i_icmp (fun x y => ¬ x = y) 78 70)),
  (70, .inl (i_aload 0 71)),
  (71, .inl (i_iload 1 72)),
  (72, .inr (c_V 1 75 7 9 (Mt mX9_likedBy 7))),
  (75, .inl (i_goto 91)),
  (78, .inl (i_aload 0 79)),
  (79, .inl (i_aload 0 80)),
  (80, .inl (i_getf 81 [9] 83)),
  (83, .inl (i_push (.int 31) 85)),
  (85, .inl (i_iload 1 86)),
  (86, .inl (i_bin (fun x y => x + y) 87)),
  (87, .inl (i_iald 51 88)),
  (88, .inr (c_V 1 91 3 9 (Mt mX9_bookAt 3))),
  (91, .inl i_iret)], noH)
theorem rX9_fish_0 (Q : Po) (h : Hp) (l1 l2 : Value) (x : Nat) (st : List Value) : Ex mX9_fish Q 0 [.ref x, l1, l2] st h = Ex mX9_fish Q 1 [.ref x, l1, l2] (.ref x :: st) h := Ex_nx rfl rfl
theorem rX9_fish_1 (Q : Po) (h : Hp) (l0 l2 : Value) (x : Int32) (st : List Value) : Ex mX9_fish Q 1 [l0, .int x, l2] st h = Ex mX9_fish Q 2 [l0, .int x, l2] (.int x :: st) h := Ex_nx rfl rfl
theorem rX9_fish_2 (Q : Po) (h : Hp) (ls : List Value) (a0 : Int32) (b : Nat) : Ex mX9_fish Q 2 ls (.int a0 :: .ref b :: []) h = (gK h b = 9 ∧ Ex mX9_isFish (Cont mX9_fish Q 2 ls 5 []) 0 [.ref b, .int a0] [] h) := Ex_cg (n := 2) (as := [.ref b, .int a0]) rfl rfl
theorem rX9_fish_5 (Q : Po) (h : Hp) (ls : List Value) (st : List Value) (x : Int32) : Ex mX9_fish Q 5 ls (.int x :: st) h = if x = 0 then Ex mX9_fish Q 20 ls st h else Ex mX9_fish Q 8 ls st h := Ex_br rfl rfl
theorem rX9_fish_8 (Q : Po) (h : Hp) (l0 l1 : Value) (x : Int32) (st : List Value) : Ex mX9_fish Q 8 [l0, l1, .int x] st h = Ex mX9_fish Q 9 [l0, l1, .int x] (.int x :: st) h := Ex_nx rfl rfl
theorem rX9_fish_9 (Q : Po) (h : Hp) (ls : List Value) (st : List Value) (x : Int32) : Ex mX9_fish Q 9 ls (.int x :: st) h = Ex mX9_fish Q 10 ls (.long x.toInt64 :: st) h := Ex_nx rfl rfl
theorem rX9_fish_10 (Q : Po) (h : Hp) (ls : List Value) (st : List Value) : Ex mX9_fish Q 10 ls st h = Ex mX9_fish Q 11 ls (.long 0 :: st) h := Ex_nx rfl rfl
theorem rX9_fish_11 (Q : Po) (h : Hp) (ls : List Value) (st : List Value) : Ex mX9_fish Q 11 ls st h = Ex mX9_fish Q 14 ls (.long 3 :: st) h := Ex_nx rfl rfl
theorem rX9_fish_14 (Q : Po) (h : Hp) (ls : List Value) (a0 : Int64) (a1 : Int64) (a2 : Int64) : Ex mX9_fish Q 14 ls (.long a2 :: .long a1 :: .long a0 :: []) h = Ex mX9_in (Cont mX9_fish Q 14 ls 17 []) 0 [.long a0, .retAddr 1, .long a1, .retAddr 1, .long a2, .retAddr 1] [] h := Ex_cl (n := 6) (as := [.long a0, .long a1, .long a2]) rfl rfl
theorem rX9_fish_17 (Q : Po) (h : Hp) (ls : List Value) (st : List Value) (x : Int32) : Ex mX9_fish Q 17 ls (.int x :: st) h = if ¬ x = 0 then Ex mX9_fish Q 23 ls st h else Ex mX9_fish Q 20 ls st h := Ex_br rfl rfl
theorem rX9_fish_20 (Q : Po) (h : Hp) (ls : List Value) (st : List Value) : Ex mX9_fish Q 20 ls st h = Ex mX9_fish Q 22 ls (.int (-1000001) :: st) h := Ex_nx rfl rfl
theorem rX9_fish_22 (Q : Po) (h : Hp) (ls : List Value) (x : Int32) : Ex mX9_fish Q 22 ls [.int x] h = Q (.inl (some (.int x))) h := Ex_rt rfl rfl
theorem rX9_fish_23 (Q : Po) (h : Hp) (l0 l1 : Value) (x : Int32) (st : List Value) : Ex mX9_fish Q 23 [l0, l1, .int x] st h = Ex mX9_fish Q 24 [l0, l1, .int x] (.int x :: st) h := Ex_nx rfl rfl
theorem rX9_fish_24 (Q : Po) (h : Hp) (ls : List Value) (st : List Value) : Ex mX9_fish Q 24 ls st h = Ex mX9_fish Q 25 ls (.int 1 :: st) h := Ex_nx rfl rfl
theorem rX9_fish_25 (Q : Po) (h : Hp) (ls : List Value) (st : List Value) (x y : Int32) : Ex mX9_fish Q 25 ls (.int y :: .int x :: st) h = if ¬ x = y then Ex mX9_fish Q 38 ls st h else Ex mX9_fish Q 28 ls st h := Ex_br rfl rfl
theorem rX9_fish_28 (Q : Po) (h : Hp) (l1 l2 : Value) (x : Nat) (st : List Value) : Ex mX9_fish Q 28 [.ref x, l1, l2] st h = Ex mX9_fish Q 29 [.ref x, l1, l2] (.ref x :: st) h := Ex_nx rfl rfl
theorem rX9_fish_29 (Q : Po) (h : Hp) (ls : List Value) (st : List Value) (a : Nat) : Ex mX9_fish Q 29 ls (.ref a :: st) h = (gK h a ∈ ([9] : List Nat) ∧ Ex mX9_fish Q 32 ls (gF h 81 a :: st) h) := Ex_gd rfl rfl
theorem rX9_fish_32 (Q : Po) (h : Hp) (ls : List Value) (st : List Value) : Ex mX9_fish Q 32 ls st h = Ex mX9_fish Q 34 ls (.int 36 :: st) h := Ex_nx rfl rfl
theorem rX9_fish_34 (Q : Po) (h : Hp) (l0 l2 : Value) (x : Int32) (st : List Value) : Ex mX9_fish Q 34 [l0, .int x, l2] st h = Ex mX9_fish Q 35 [l0, .int x, l2] (.int x :: st) h := Ex_nx rfl rfl
theorem rX9_fish_35 (Q : Po) (h : Hp) (ls : List Value) (st : List Value) (x y : Int32) : Ex mX9_fish Q 35 ls (.int y :: .int x :: st) h = Ex mX9_fish Q 36 ls (.int (x + y) :: st) h := Ex_nx rfl rfl
theorem rX9_fish_36 (Q : Po) (h : Hp) (ls : List Value) (st : List Value) (a : Nat) (i : Int32) : Ex mX9_fish Q 36 ls (.int i :: .ref a :: st) h = ((gK h a = 51 ∧ ¬ (i < 0 ∨ gL h a ≤ i.toNatClampNeg)) ∧ Ex mX9_fish Q 37 ls (.int (gI h a i.toNatClampNeg) :: st) h) := Ex_gd rfl rfl
theorem rX9_fish_37 (Q : Po) (h : Hp) (ls : List Value) (x : Int32) : Ex mX9_fish Q 37 ls [.int x] h = Q (.inl (some (.int x))) h := Ex_rt rfl rfl
theorem rX9_fish_38 (Q : Po) (h : Hp) (l1 l2 : Value) (x : Nat) (st : List Value) : Ex mX9_fish Q 38 [.ref x, l1, l2] st h = Ex mX9_fish Q 39 [.ref x, l1, l2] (.ref x :: st) h := Ex_nx rfl rfl
theorem rX9_fish_39 (Q : Po) (h : Hp) (l0 l2 : Value) (x : Int32) (st : List Value) : Ex mX9_fish Q 39 [l0, .int x, l2] st h = Ex mX9_fish Q 40 [l0, .int x, l2] (.int x :: st) h := Ex_nx rfl rfl
theorem rX9_fish_40 (Q : Po) (h : Hp) (ls : List Value) (a0 : Int32) (b : Nat) : Ex mX9_fish Q 40 ls (.int a0 :: .ref b :: []) h = (gK h b = 9 ∧ Ex mX9_isCaught (Cont mX9_fish Q 40 ls 43 []) 0 [.ref b, .int a0] [] h) := Ex_cg (n := 2) (as := [.ref b, .int a0]) rfl rfl
theorem rX9_fish_43 (Q : Po) (h : Hp) (ls : List Value) (st : List Value) (x : Int32) : Ex mX9_fish Q 43 ls (.int x :: st) h = if x = 0 then Ex mX9_fish Q 49 ls st h else Ex mX9_fish Q 46 ls st h := Ex_br rfl rfl
theorem rX9_fish_46 (Q : Po) (h : Hp) (ls : List Value) (st : List Value) : Ex mX9_fish Q 46 ls st h = Ex mX9_fish Q 48 ls (.int (-1000000) :: st) h := Ex_nx rfl rfl
theorem rX9_fish_48 (Q : Po) (h : Hp) (ls : List Value) (x : Int32) : Ex mX9_fish Q 48 ls [.int x] h = Q (.inl (some (.int x))) h := Ex_rt rfl rfl
theorem rX9_fish_49 (Q : Po) (h : Hp) (l0 l1 : Value) (x : Int32) (st : List Value) : Ex mX9_fish Q 49 [l0, l1, .int x] st h = Ex mX9_fish Q 50 [l0, l1, .int x] (.int x :: st) h := Ex_nx rfl rfl
theorem rX9_fish_50 (Q : Po) (h : Hp) (ls : List Value) (st : List Value) (x : Int32) : Ex mX9_fish Q 50 ls (.int x :: st) h = if ¬ x = 0 then Ex mX9_fish Q 65 ls st h else Ex mX9_fish Q 53 ls st h := Ex_br rfl rfl
theorem rX9_fish_53 (Q : Po) (h : Hp) (l1 l2 : Value) (x : Nat) (st : List Value) : Ex mX9_fish Q 53 [.ref x, l1, l2] st h = Ex mX9_fish Q 54 [.ref x, l1, l2] (.ref x :: st) h := Ex_nx rfl rfl
theorem rX9_fish_54 (Q : Po) (h : Hp) (ls : List Value) (st : List Value) (a : Nat) : Ex mX9_fish Q 54 ls (.ref a :: st) h = (gK h a ∈ ([9] : List Nat) ∧ Ex mX9_fish Q 57 ls (gF h 81 a :: st) h) := Ex_gd rfl rfl
theorem rX9_fish_57 (Q : Po) (h : Hp) (ls : List Value) (st : List Value) : Ex mX9_fish Q 57 ls st h = Ex mX9_fish Q 59 ls (.int 31 :: st) h := Ex_nx rfl rfl
theorem rX9_fish_59 (Q : Po) (h : Hp) (l0 l2 : Value) (x : Int32) (st : List Value) : Ex mX9_fish Q 59 [l0, .int x, l2] st h = Ex mX9_fish Q 60 [l0, .int x, l2] (.int x :: st) h := Ex_nx rfl rfl
theorem rX9_fish_60 (Q : Po) (h : Hp) (ls : List Value) (st : List Value) (x y : Int32) : Ex mX9_fish Q 60 ls (.int y :: .int x :: st) h = Ex mX9_fish Q 61 ls (.int (x + y) :: st) h := Ex_nx rfl rfl
theorem rX9_fish_61 (Q : Po) (h : Hp) (ls : List Value) (st : List Value) (a : Nat) (i : Int32) : Ex mX9_fish Q 61 ls (.int i :: .ref a :: st) h = ((gK h a = 51 ∧ ¬ (i < 0 ∨ gL h a ≤ i.toNatClampNeg)) ∧ Ex mX9_fish Q 62 ls (.int (gI h a i.toNatClampNeg) :: st) h) := Ex_gd rfl rfl
theorem rX9_fish_62 (Q : Po) (h : Hp) (ls : List Value) (st : List Value) : Ex mX9_fish Q 62 ls st h = Ex mX9_fish Q 91 ls st h := Ex_nx rfl rfl
theorem rX9_fish_65 (Q : Po) (h : Hp) (l0 l1 : Value) (x : Int32) (st : List Value) : Ex mX9_fish Q 65 [l0, l1, .int x] st h = Ex mX9_fish Q 66 [l0, l1, .int x] (.int x :: st) h := Ex_nx rfl rfl
theorem rX9_fish_66 (Q : Po) (h : Hp) (ls : List Value) (st : List Value) : Ex mX9_fish Q 66 ls st h = Ex mX9_fish Q 67 ls (.int 2 :: st) h := Ex_nx rfl rfl
theorem rX9_fish_67 (Q : Po) (h : Hp) (ls : List Value) (st : List Value) (x y : Int32) : Ex mX9_fish Q 67 ls (.int y :: .int x :: st) h = if ¬ x = y then Ex mX9_fish Q 78 ls st h else Ex mX9_fish Q 70 ls st h := Ex_br rfl rfl
theorem rX9_fish_70 (Q : Po) (h : Hp) (l1 l2 : Value) (x : Nat) (st : List Value) : Ex mX9_fish Q 70 [.ref x, l1, l2] st h = Ex mX9_fish Q 71 [.ref x, l1, l2] (.ref x :: st) h := Ex_nx rfl rfl
theorem rX9_fish_71 (Q : Po) (h : Hp) (l0 l2 : Value) (x : Int32) (st : List Value) : Ex mX9_fish Q 71 [l0, .int x, l2] st h = Ex mX9_fish Q 72 [l0, .int x, l2] (.int x :: st) h := Ex_nx rfl rfl
theorem rX9_fish_72 (Q : Po) (h : Hp) (ls : List Value) (a0 : Int32) (b : Nat) : Ex mX9_fish Q 72 ls (.int a0 :: .ref b :: []) h = (gK h b = 9 ∧ Ex mX9_likedBy (Cont mX9_fish Q 72 ls 75 []) 0 [.ref b, .int a0, .retAddr 0, .retAddr 0, .retAddr 0, .retAddr 0, .retAddr 0] [] h) := Ex_cg (n := 7) (as := [.ref b, .int a0]) rfl rfl
theorem rX9_fish_75 (Q : Po) (h : Hp) (ls : List Value) (st : List Value) : Ex mX9_fish Q 75 ls st h = Ex mX9_fish Q 91 ls st h := Ex_nx rfl rfl
theorem rX9_fish_78 (Q : Po) (h : Hp) (l1 l2 : Value) (x : Nat) (st : List Value) : Ex mX9_fish Q 78 [.ref x, l1, l2] st h = Ex mX9_fish Q 79 [.ref x, l1, l2] (.ref x :: st) h := Ex_nx rfl rfl
theorem rX9_fish_79 (Q : Po) (h : Hp) (l1 l2 : Value) (x : Nat) (st : List Value) : Ex mX9_fish Q 79 [.ref x, l1, l2] st h = Ex mX9_fish Q 80 [.ref x, l1, l2] (.ref x :: st) h := Ex_nx rfl rfl
theorem rX9_fish_80 (Q : Po) (h : Hp) (ls : List Value) (st : List Value) (a : Nat) : Ex mX9_fish Q 80 ls (.ref a :: st) h = (gK h a ∈ ([9] : List Nat) ∧ Ex mX9_fish Q 83 ls (gF h 81 a :: st) h) := Ex_gd rfl rfl
theorem rX9_fish_83 (Q : Po) (h : Hp) (ls : List Value) (st : List Value) : Ex mX9_fish Q 83 ls st h = Ex mX9_fish Q 85 ls (.int 31 :: st) h := Ex_nx rfl rfl
theorem rX9_fish_85 (Q : Po) (h : Hp) (l0 l2 : Value) (x : Int32) (st : List Value) : Ex mX9_fish Q 85 [l0, .int x, l2] st h = Ex mX9_fish Q 86 [l0, .int x, l2] (.int x :: st) h := Ex_nx rfl rfl
theorem rX9_fish_86 (Q : Po) (h : Hp) (ls : List Value) (st : List Value) (x y : Int32) : Ex mX9_fish Q 86 ls (.int y :: .int x :: st) h = Ex mX9_fish Q 87 ls (.int (x + y) :: st) h := Ex_nx rfl rfl
theorem rX9_fish_87 (Q : Po) (h : Hp) (ls : List Value) (st : List Value) (a : Nat) (i : Int32) : Ex mX9_fish Q 87 ls (.int i :: .ref a :: st) h = ((gK h a = 51 ∧ ¬ (i < 0 ∨ gL h a ≤ i.toNatClampNeg)) ∧ Ex mX9_fish Q 88 ls (.int (gI h a i.toNatClampNeg) :: st) h) := Ex_gd rfl rfl
theorem rX9_fish_88 (Q : Po) (h : Hp) (ls : List Value) (a0 : Int32) (b : Nat) : Ex mX9_fish Q 88 ls (.int a0 :: .ref b :: []) h = (gK h b = 9 ∧ Ex mX9_bookAt (Cont mX9_fish Q 88 ls 91 []) 0 [.ref b, .int a0, .retAddr 0] [] h) := Ex_cg (n := 3) (as := [.ref b, .int a0]) rfl rfl
theorem rX9_fish_91 (Q : Po) (h : Hp) (ls : List Value) (x : Int32) : Ex mX9_fish Q 91 ls [.int x] h = Q (.inl (some (.int x))) h := Ex_rt rfl rfl
theorem rX9_fish_t (Q : Po) (h : Hp) (pc n a : Nat) (ls st : List Value) : Cont mX9_fish Q pc ls n st (.inr a) h = Q (.inr a) h := rfl
/-! FishReadersModel.stand(I)I -/
def mX9_stand : Cd := ([(0, .inl (i_aload 0 1)),
  (1, .inl (i_getf 78 [9] 4)),
  (4, .inl (i_if (fun x => ¬ x = 0) 10 7)),
  (7, .inl (i_push (.int (-1000002)) 9)),
  (9, .inl i_iret),
  (10, .inl (i_iload 1 11)),
  (11, .inl (i_tsw 0 [48, 55, 63, 71, 76, 83] 90)),
  (48, .inl (i_aload 0 49)),
  (49, .inl (i_getf 81 [9] 52)),
  (52, .inl (i_push (.int 5) 53)),
  (53, .inl (i_iald 51 54)),
  (54, .inl i_iret),
  (55, .inl (i_aload 0 56)),
  (56, .inl (i_getf 81 [9] 59)),
  (59, .inl (i_push (.int 6) 61)),
  (61, .inl (i_iald 51 62)),
  (62, .inl i_iret),
  (63, .inl (i_aload 0 64)),
  (64, .inl (i_getf 81 [9] 67)),
  (67, .inl (i_push (.int 7) 69)),
  (69, .inl (i_iald 51 70)),
  (70, .inl i_iret),
  (71, .inl (i_aload 0 72)),
  (72, .inr (c_V 0 75 3 9 (Mt mX9_allPages 3))),
  (75, .inl i_iret),
  (76, .inl (i_aload 0 77)),
  (77, .inl (i_getf 81 [9] 80)),
  (80, .inl (i_push (.int 2) 81)),
  (81, .inl (i_iald 51 82)),
  (82, .inl i_iret),
  (83, .inl (i_aload 0 84)),
  (84, .inl (i_getf 81 [9] 87)),
  (87, .inl (i_push (.int 3) 88)),
  (88, .inl (i_iald 51 89)),
  (89, .inl i_iret),
  (90, .inl (i_push (.int (-1000001)) 92)),
  (92, .inl i_iret)], noH)
theorem rX9_stand_0 (Q : Po) (h : Hp) (l1 : Value) (x : Nat) (st : List Value) : Ex mX9_stand Q 0 [.ref x, l1] st h = Ex mX9_stand Q 1 [.ref x, l1] (.ref x :: st) h := Ex_nx rfl rfl
theorem rX9_stand_1 (Q : Po) (h : Hp) (ls : List Value) (st : List Value) (a : Nat) : Ex mX9_stand Q 1 ls (.ref a :: st) h = (gK h a ∈ ([9] : List Nat) ∧ Ex mX9_stand Q 4 ls (gF h 78 a :: st) h) := Ex_gd rfl rfl
theorem rX9_stand_4 (Q : Po) (h : Hp) (ls : List Value) (st : List Value) (x : Int32) : Ex mX9_stand Q 4 ls (.int x :: st) h = if ¬ x = 0 then Ex mX9_stand Q 10 ls st h else Ex mX9_stand Q 7 ls st h := Ex_br rfl rfl
theorem rX9_stand_7 (Q : Po) (h : Hp) (ls : List Value) (st : List Value) : Ex mX9_stand Q 7 ls st h = Ex mX9_stand Q 9 ls (.int (-1000002) :: st) h := Ex_nx rfl rfl
theorem rX9_stand_9 (Q : Po) (h : Hp) (ls : List Value) (x : Int32) : Ex mX9_stand Q 9 ls [.int x] h = Q (.inl (some (.int x))) h := Ex_rt rfl rfl
theorem rX9_stand_10 (Q : Po) (h : Hp) (l0 : Value) (x : Int32) (st : List Value) : Ex mX9_stand Q 10 [l0, .int x] st h = Ex mX9_stand Q 11 [l0, .int x] (.int x :: st) h := Ex_nx rfl rfl
theorem rX9_stand_11 (Q : Po) (h : Hp) (ls : List Value) (st : List Value) (x : Int32) : Ex mX9_stand Q 11 ls (.int x :: st) h = Ex mX9_stand Q (tswT 0 [48, 55, 63, 71, 76, 83] 90 x) ls st h := Ex_nx rfl rfl
theorem rX9_stand_48 (Q : Po) (h : Hp) (l1 : Value) (x : Nat) (st : List Value) : Ex mX9_stand Q 48 [.ref x, l1] st h = Ex mX9_stand Q 49 [.ref x, l1] (.ref x :: st) h := Ex_nx rfl rfl
theorem rX9_stand_49 (Q : Po) (h : Hp) (ls : List Value) (st : List Value) (a : Nat) : Ex mX9_stand Q 49 ls (.ref a :: st) h = (gK h a ∈ ([9] : List Nat) ∧ Ex mX9_stand Q 52 ls (gF h 81 a :: st) h) := Ex_gd rfl rfl
theorem rX9_stand_52 (Q : Po) (h : Hp) (ls : List Value) (st : List Value) : Ex mX9_stand Q 52 ls st h = Ex mX9_stand Q 53 ls (.int 5 :: st) h := Ex_nx rfl rfl
theorem rX9_stand_53 (Q : Po) (h : Hp) (ls : List Value) (st : List Value) (a : Nat) (i : Int32) : Ex mX9_stand Q 53 ls (.int i :: .ref a :: st) h = ((gK h a = 51 ∧ ¬ (i < 0 ∨ gL h a ≤ i.toNatClampNeg)) ∧ Ex mX9_stand Q 54 ls (.int (gI h a i.toNatClampNeg) :: st) h) := Ex_gd rfl rfl
theorem rX9_stand_54 (Q : Po) (h : Hp) (ls : List Value) (x : Int32) : Ex mX9_stand Q 54 ls [.int x] h = Q (.inl (some (.int x))) h := Ex_rt rfl rfl
theorem rX9_stand_55 (Q : Po) (h : Hp) (l1 : Value) (x : Nat) (st : List Value) : Ex mX9_stand Q 55 [.ref x, l1] st h = Ex mX9_stand Q 56 [.ref x, l1] (.ref x :: st) h := Ex_nx rfl rfl
theorem rX9_stand_56 (Q : Po) (h : Hp) (ls : List Value) (st : List Value) (a : Nat) : Ex mX9_stand Q 56 ls (.ref a :: st) h = (gK h a ∈ ([9] : List Nat) ∧ Ex mX9_stand Q 59 ls (gF h 81 a :: st) h) := Ex_gd rfl rfl
theorem rX9_stand_59 (Q : Po) (h : Hp) (ls : List Value) (st : List Value) : Ex mX9_stand Q 59 ls st h = Ex mX9_stand Q 61 ls (.int 6 :: st) h := Ex_nx rfl rfl
theorem rX9_stand_61 (Q : Po) (h : Hp) (ls : List Value) (st : List Value) (a : Nat) (i : Int32) : Ex mX9_stand Q 61 ls (.int i :: .ref a :: st) h = ((gK h a = 51 ∧ ¬ (i < 0 ∨ gL h a ≤ i.toNatClampNeg)) ∧ Ex mX9_stand Q 62 ls (.int (gI h a i.toNatClampNeg) :: st) h) := Ex_gd rfl rfl
theorem rX9_stand_62 (Q : Po) (h : Hp) (ls : List Value) (x : Int32) : Ex mX9_stand Q 62 ls [.int x] h = Q (.inl (some (.int x))) h := Ex_rt rfl rfl
theorem rX9_stand_63 (Q : Po) (h : Hp) (l1 : Value) (x : Nat) (st : List Value) : Ex mX9_stand Q 63 [.ref x, l1] st h = Ex mX9_stand Q 64 [.ref x, l1] (.ref x :: st) h := Ex_nx rfl rfl
theorem rX9_stand_64 (Q : Po) (h : Hp) (ls : List Value) (st : List Value) (a : Nat) : Ex mX9_stand Q 64 ls (.ref a :: st) h = (gK h a ∈ ([9] : List Nat) ∧ Ex mX9_stand Q 67 ls (gF h 81 a :: st) h) := Ex_gd rfl rfl
theorem rX9_stand_67 (Q : Po) (h : Hp) (ls : List Value) (st : List Value) : Ex mX9_stand Q 67 ls st h = Ex mX9_stand Q 69 ls (.int 7 :: st) h := Ex_nx rfl rfl
theorem rX9_stand_69 (Q : Po) (h : Hp) (ls : List Value) (st : List Value) (a : Nat) (i : Int32) : Ex mX9_stand Q 69 ls (.int i :: .ref a :: st) h = ((gK h a = 51 ∧ ¬ (i < 0 ∨ gL h a ≤ i.toNatClampNeg)) ∧ Ex mX9_stand Q 70 ls (.int (gI h a i.toNatClampNeg) :: st) h) := Ex_gd rfl rfl
theorem rX9_stand_70 (Q : Po) (h : Hp) (ls : List Value) (x : Int32) : Ex mX9_stand Q 70 ls [.int x] h = Q (.inl (some (.int x))) h := Ex_rt rfl rfl
theorem rX9_stand_71 (Q : Po) (h : Hp) (l1 : Value) (x : Nat) (st : List Value) : Ex mX9_stand Q 71 [.ref x, l1] st h = Ex mX9_stand Q 72 [.ref x, l1] (.ref x :: st) h := Ex_nx rfl rfl
theorem rX9_stand_72 (Q : Po) (h : Hp) (ls : List Value) (b : Nat) : Ex mX9_stand Q 72 ls (.ref b :: []) h = (gK h b = 9 ∧ Ex mX9_allPages (Cont mX9_stand Q 72 ls 75 []) 0 [.ref b, .retAddr 0, .retAddr 0] [] h) := Ex_cg (n := 3) (as := [.ref b]) rfl rfl
theorem rX9_stand_75 (Q : Po) (h : Hp) (ls : List Value) (x : Int32) : Ex mX9_stand Q 75 ls [.int x] h = Q (.inl (some (.int x))) h := Ex_rt rfl rfl
theorem rX9_stand_76 (Q : Po) (h : Hp) (l1 : Value) (x : Nat) (st : List Value) : Ex mX9_stand Q 76 [.ref x, l1] st h = Ex mX9_stand Q 77 [.ref x, l1] (.ref x :: st) h := Ex_nx rfl rfl
theorem rX9_stand_77 (Q : Po) (h : Hp) (ls : List Value) (st : List Value) (a : Nat) : Ex mX9_stand Q 77 ls (.ref a :: st) h = (gK h a ∈ ([9] : List Nat) ∧ Ex mX9_stand Q 80 ls (gF h 81 a :: st) h) := Ex_gd rfl rfl
theorem rX9_stand_80 (Q : Po) (h : Hp) (ls : List Value) (st : List Value) : Ex mX9_stand Q 80 ls st h = Ex mX9_stand Q 81 ls (.int 2 :: st) h := Ex_nx rfl rfl
theorem rX9_stand_81 (Q : Po) (h : Hp) (ls : List Value) (st : List Value) (a : Nat) (i : Int32) : Ex mX9_stand Q 81 ls (.int i :: .ref a :: st) h = ((gK h a = 51 ∧ ¬ (i < 0 ∨ gL h a ≤ i.toNatClampNeg)) ∧ Ex mX9_stand Q 82 ls (.int (gI h a i.toNatClampNeg) :: st) h) := Ex_gd rfl rfl
theorem rX9_stand_82 (Q : Po) (h : Hp) (ls : List Value) (x : Int32) : Ex mX9_stand Q 82 ls [.int x] h = Q (.inl (some (.int x))) h := Ex_rt rfl rfl
theorem rX9_stand_83 (Q : Po) (h : Hp) (l1 : Value) (x : Nat) (st : List Value) : Ex mX9_stand Q 83 [.ref x, l1] st h = Ex mX9_stand Q 84 [.ref x, l1] (.ref x :: st) h := Ex_nx rfl rfl
theorem rX9_stand_84 (Q : Po) (h : Hp) (ls : List Value) (st : List Value) (a : Nat) : Ex mX9_stand Q 84 ls (.ref a :: st) h = (gK h a ∈ ([9] : List Nat) ∧ Ex mX9_stand Q 87 ls (gF h 81 a :: st) h) := Ex_gd rfl rfl
theorem rX9_stand_87 (Q : Po) (h : Hp) (ls : List Value) (st : List Value) : Ex mX9_stand Q 87 ls st h = Ex mX9_stand Q 88 ls (.int 3 :: st) h := Ex_nx rfl rfl
theorem rX9_stand_88 (Q : Po) (h : Hp) (ls : List Value) (st : List Value) (a : Nat) (i : Int32) : Ex mX9_stand Q 88 ls (.int i :: .ref a :: st) h = ((gK h a = 51 ∧ ¬ (i < 0 ∨ gL h a ≤ i.toNatClampNeg)) ∧ Ex mX9_stand Q 89 ls (.int (gI h a i.toNatClampNeg) :: st) h) := Ex_gd rfl rfl
theorem rX9_stand_89 (Q : Po) (h : Hp) (ls : List Value) (x : Int32) : Ex mX9_stand Q 89 ls [.int x] h = Q (.inl (some (.int x))) h := Ex_rt rfl rfl
theorem rX9_stand_90 (Q : Po) (h : Hp) (ls : List Value) (st : List Value) : Ex mX9_stand Q 90 ls st h = Ex mX9_stand Q 92 ls (.int (-1000001) :: st) h := Ex_nx rfl rfl
theorem rX9_stand_92 (Q : Po) (h : Hp) (ls : List Value) (x : Int32) : Ex mX9_stand Q 92 ls [.int x] h = Q (.inl (some (.int x))) h := Ex_rt rfl rfl
theorem rX9_stand_t (Q : Po) (h : Hp) (pc n a : Nat) (ls st : List Value) : Cont mX9_stand Q pc ls n st (.inr a) h = Q (.inr a) h := rfl
/-! FishReadersModel.isWhat(I)Z -/
def mX9_isWhat : Cd := ([(0, .inl (i_iload 0 1)),
  (1, .inl (i_i2l 2)),
  (2, .inl (i_push (.long 0) 3)),
  (3, .inl (i_push (.long 1) 4)),
  (4, .inr (c_S 3 7 6 (Mt mX9_in 6))),
  (7, .inl i_zret)], noH)
theorem rX9_isWhat_0 (Q : Po) (h : Hp) (x : Int32) (st : List Value) : Ex mX9_isWhat Q 0 [.int x] st h = Ex mX9_isWhat Q 1 [.int x] (.int x :: st) h := Ex_nx rfl rfl
theorem rX9_isWhat_1 (Q : Po) (h : Hp) (ls : List Value) (st : List Value) (x : Int32) : Ex mX9_isWhat Q 1 ls (.int x :: st) h = Ex mX9_isWhat Q 2 ls (.long x.toInt64 :: st) h := Ex_nx rfl rfl
theorem rX9_isWhat_2 (Q : Po) (h : Hp) (ls : List Value) (st : List Value) : Ex mX9_isWhat Q 2 ls st h = Ex mX9_isWhat Q 3 ls (.long 0 :: st) h := Ex_nx rfl rfl
theorem rX9_isWhat_3 (Q : Po) (h : Hp) (ls : List Value) (st : List Value) : Ex mX9_isWhat Q 3 ls st h = Ex mX9_isWhat Q 4 ls (.long 1 :: st) h := Ex_nx rfl rfl
theorem rX9_isWhat_4 (Q : Po) (h : Hp) (ls : List Value) (a0 : Int64) (a1 : Int64) (a2 : Int64) : Ex mX9_isWhat Q 4 ls (.long a2 :: .long a1 :: .long a0 :: []) h = Ex mX9_in (Cont mX9_isWhat Q 4 ls 7 []) 0 [.long a0, .retAddr 1, .long a1, .retAddr 1, .long a2, .retAddr 1] [] h := Ex_cl (n := 6) (as := [.long a0, .long a1, .long a2]) rfl rfl
theorem rX9_isWhat_7 (Q : Po) (h : Hp) (ls : List Value) (x : Int32) : Ex mX9_isWhat Q 7 ls [.int x] h = ((x = 0 ∨ x = 1) ∧ Q (.inl (some (.int x))) h) := Ex_rg rfl rfl
theorem rX9_isWhat_t (Q : Po) (h : Hp) (pc n a : Nat) (ls st : List Value) : Cont mX9_isWhat Q pc ls n st (.inr a) h = Q (.inr a) h := rfl
/-! FishReadersModel.putAside()V -/
def mX9_putAside : Cd := ([(0, .inl (i_push (.int 0) 1)),
  (1, .inl (i_istore 1 2)),
  (2, .inl (i_iload 1 3)),
  (3, .inl (i_push (.int 41) 5)),
  (5, .inl (i_icmp (fun x y => y ≤ x) 26 8)),
  (8, .inl (i_aload 0 9)),
  (9, .inl (i_getf 109 [9] 12)),
  (12, .inl (i_iload 1 13)),
  (13, .inl (i_aload 0 14)),
  (14, .inl (i_getf 81 [9] 17)),
  (17, .inl (i_iload 1 18)),
  (18, .inl (i_iald 51 19)),
  (19, .inl (i_iast 51 (fun x => x) 20)),
  (20, .inl (i_iinc 1 1 23)),
  (23, .inl (i_goto 2)),
  (26, .inl i_vret)], noH)
theorem rX9_putAside_0 (Q : Po) (h : Hp) (ls : List Value) (st : List Value) : Ex mX9_putAside Q 0 ls st h = Ex mX9_putAside Q 1 ls (.int 0 :: st) h := Ex_nx rfl rfl
theorem rX9_putAside_1 (Q : Po) (h : Hp) (l0 l1 : Value) (x : Int32) (st : List Value) : Ex mX9_putAside Q 1 [l0, l1] (.int x :: st) h = Ex mX9_putAside Q 2 [l0, .int x] st h := Ex_nx rfl rfl
theorem rX9_putAside_2 (Q : Po) (h : Hp) (l0 : Value) (x : Int32) (st : List Value) : Ex mX9_putAside Q 2 [l0, .int x] st h = Ex mX9_putAside Q 3 [l0, .int x] (.int x :: st) h := Ex_nx rfl rfl
theorem rX9_putAside_3 (Q : Po) (h : Hp) (ls : List Value) (st : List Value) : Ex mX9_putAside Q 3 ls st h = Ex mX9_putAside Q 5 ls (.int 41 :: st) h := Ex_nx rfl rfl
theorem rX9_putAside_5 (Q : Po) (h : Hp) (ls : List Value) (st : List Value) (x y : Int32) : Ex mX9_putAside Q 5 ls (.int y :: .int x :: st) h = if y ≤ x then Ex mX9_putAside Q 26 ls st h else Ex mX9_putAside Q 8 ls st h := Ex_br rfl rfl
theorem rX9_putAside_8 (Q : Po) (h : Hp) (l1 : Value) (x : Nat) (st : List Value) : Ex mX9_putAside Q 8 [.ref x, l1] st h = Ex mX9_putAside Q 9 [.ref x, l1] (.ref x :: st) h := Ex_nx rfl rfl
theorem rX9_putAside_9 (Q : Po) (h : Hp) (ls : List Value) (st : List Value) (a : Nat) : Ex mX9_putAside Q 9 ls (.ref a :: st) h = (gK h a ∈ ([9] : List Nat) ∧ Ex mX9_putAside Q 12 ls (gF h 109 a :: st) h) := Ex_gd rfl rfl
theorem rX9_putAside_12 (Q : Po) (h : Hp) (l0 : Value) (x : Int32) (st : List Value) : Ex mX9_putAside Q 12 [l0, .int x] st h = Ex mX9_putAside Q 13 [l0, .int x] (.int x :: st) h := Ex_nx rfl rfl
theorem rX9_putAside_13 (Q : Po) (h : Hp) (l1 : Value) (x : Nat) (st : List Value) : Ex mX9_putAside Q 13 [.ref x, l1] st h = Ex mX9_putAside Q 14 [.ref x, l1] (.ref x :: st) h := Ex_nx rfl rfl
theorem rX9_putAside_14 (Q : Po) (h : Hp) (ls : List Value) (st : List Value) (a : Nat) : Ex mX9_putAside Q 14 ls (.ref a :: st) h = (gK h a ∈ ([9] : List Nat) ∧ Ex mX9_putAside Q 17 ls (gF h 81 a :: st) h) := Ex_gd rfl rfl
theorem rX9_putAside_17 (Q : Po) (h : Hp) (l0 : Value) (x : Int32) (st : List Value) : Ex mX9_putAside Q 17 [l0, .int x] st h = Ex mX9_putAside Q 18 [l0, .int x] (.int x :: st) h := Ex_nx rfl rfl
theorem rX9_putAside_18 (Q : Po) (h : Hp) (ls : List Value) (st : List Value) (a : Nat) (i : Int32) : Ex mX9_putAside Q 18 ls (.int i :: .ref a :: st) h = ((gK h a = 51 ∧ ¬ (i < 0 ∨ gL h a ≤ i.toNatClampNeg)) ∧ Ex mX9_putAside Q 19 ls (.int (gI h a i.toNatClampNeg) :: st) h) := Ex_gd rfl rfl
theorem rX9_putAside_19 (Q : Po) (h : Hp) (ls : List Value) (st : List Value) (a : Nat) (i x : Int32) : Ex mX9_putAside Q 19 ls (.int x :: .int i :: .ref a :: st) h = ((gK h a = 51 ∧ ¬ (i < 0 ∨ gL h a ≤ i.toNatClampNeg)) ∧ Ex mX9_putAside Q 20 ls st (pI h a i.toNatClampNeg (x))) := Ex_gd rfl rfl
theorem rX9_putAside_20 (Q : Po) (h : Hp) (l0 : Value) (x : Int32) (st : List Value) : Ex mX9_putAside Q 20 [l0, .int x] st h = Ex mX9_putAside Q 23 [l0, .int (x + 1)] st h := Ex_nx rfl rfl
theorem rX9_putAside_23 (Q : Po) (h : Hp) (ls : List Value) (st : List Value) : Ex mX9_putAside Q 23 ls st h = Ex mX9_putAside Q 2 ls st h := Ex_nx rfl rfl
theorem rX9_putAside_26 (Q : Po) (h : Hp) (ls : List Value) : Ex mX9_putAside Q 26 ls [] h = Q (.inl none) h := Ex_rt rfl rfl
theorem rX9_putAside_t (Q : Po) (h : Hp) (pc n a : Nat) (ls st : List Value) : Cont mX9_putAside Q pc ls n st (.inr a) h = Q (.inr a) h := rfl
/-! FishReadersModel.goOn(I)V -/
def mX9_goOn : Cd := ([(0, .inl (i_push (.int 0) 1)),
  (1, .inl (i_istore 2 2)),
  (2, .inl (i_iload 2 3)),
  (3, .inl (i_iload 1 4)),
  (4, .inl (i_icmp (fun x y => y ≤ x) 17 7)),
  (7, .inl (i_aload 0 8)),
  (8, .inr (c_V 0 11 2 9 (Mt mX9_oneNight 2))),
  (11, .inl (i_iinc 2 1 14)),
  (14, .inl (i_goto 2)),
  (17, .inl i_vret)], noH)
theorem rX9_goOn_0 (Q : Po) (h : Hp) (ls : List Value) (st : List Value) : Ex mX9_goOn Q 0 ls st h = Ex mX9_goOn Q 1 ls (.int 0 :: st) h := Ex_nx rfl rfl
theorem rX9_goOn_1 (Q : Po) (h : Hp) (l0 l1 l2 : Value) (x : Int32) (st : List Value) : Ex mX9_goOn Q 1 [l0, l1, l2] (.int x :: st) h = Ex mX9_goOn Q 2 [l0, l1, .int x] st h := Ex_nx rfl rfl
theorem rX9_goOn_2 (Q : Po) (h : Hp) (l0 l1 : Value) (x : Int32) (st : List Value) : Ex mX9_goOn Q 2 [l0, l1, .int x] st h = Ex mX9_goOn Q 3 [l0, l1, .int x] (.int x :: st) h := Ex_nx rfl rfl
theorem rX9_goOn_3 (Q : Po) (h : Hp) (l0 l2 : Value) (x : Int32) (st : List Value) : Ex mX9_goOn Q 3 [l0, .int x, l2] st h = Ex mX9_goOn Q 4 [l0, .int x, l2] (.int x :: st) h := Ex_nx rfl rfl
theorem rX9_goOn_4 (Q : Po) (h : Hp) (ls : List Value) (st : List Value) (x y : Int32) : Ex mX9_goOn Q 4 ls (.int y :: .int x :: st) h = if y ≤ x then Ex mX9_goOn Q 17 ls st h else Ex mX9_goOn Q 7 ls st h := Ex_br rfl rfl
theorem rX9_goOn_7 (Q : Po) (h : Hp) (l1 l2 : Value) (x : Nat) (st : List Value) : Ex mX9_goOn Q 7 [.ref x, l1, l2] st h = Ex mX9_goOn Q 8 [.ref x, l1, l2] (.ref x :: st) h := Ex_nx rfl rfl
theorem rX9_goOn_8 (Q : Po) (h : Hp) (ls : List Value) (b : Nat) : Ex mX9_goOn Q 8 ls (.ref b :: []) h = (gK h b = 9 ∧ Ex mX9_oneNight (Cont mX9_goOn Q 8 ls 11 []) 0 [.ref b, .retAddr 0] [] h) := Ex_cg (n := 2) (as := [.ref b]) rfl rfl
theorem rX9_goOn_11 (Q : Po) (h : Hp) (l0 l1 : Value) (x : Int32) (st : List Value) : Ex mX9_goOn Q 11 [l0, l1, .int x] st h = Ex mX9_goOn Q 14 [l0, l1, .int (x + 1)] st h := Ex_nx rfl rfl
theorem rX9_goOn_14 (Q : Po) (h : Hp) (ls : List Value) (st : List Value) : Ex mX9_goOn Q 14 ls st h = Ex mX9_goOn Q 2 ls st h := Ex_nx rfl rfl
theorem rX9_goOn_17 (Q : Po) (h : Hp) (ls : List Value) : Ex mX9_goOn Q 17 ls [] h = Q (.inl none) h := Ex_rt rfl rfl
theorem rX9_goOn_t (Q : Po) (h : Hp) (pc n a : Nat) (ls st : List Value) : Cont mX9_goOn Q pc ls n st (.inr a) h = Q (.inr a) h := rfl
/-! FishReadersModel.takeBack()V -/
def mX9_takeBack : Cd := ([(0, .inl (i_push (.int 0) 1)),
  (1, .inl (i_istore 1 2)),
  (2, .inl (i_iload 1 3)),
  (3, .inl (i_push (.int 41) 5)),
  (5, .inl (i_icmp (fun x y => y ≤ x) 26 8)),
  (8, .inl (i_aload 0 9)),
  (9, .inl (i_getf 81 [9] 12)),
  (12, .inl (i_iload 1 13)),
  (13, .inl (i_aload 0 14)),
  (14, .inl (i_getf 109 [9] 17)),
  (17, .inl (i_iload 1 18)),
  (18, .inl (i_iald 51 19)),
  (19, .inl (i_iast 51 (fun x => x) 20)),
  (20, .inl (i_iinc 1 1 23)),
  (23, .inl (i_goto 2)),
  (26, .inl i_vret)], noH)
theorem rX9_takeBack_0 (Q : Po) (h : Hp) (ls : List Value) (st : List Value) : Ex mX9_takeBack Q 0 ls st h = Ex mX9_takeBack Q 1 ls (.int 0 :: st) h := Ex_nx rfl rfl
theorem rX9_takeBack_1 (Q : Po) (h : Hp) (l0 l1 : Value) (x : Int32) (st : List Value) : Ex mX9_takeBack Q 1 [l0, l1] (.int x :: st) h = Ex mX9_takeBack Q 2 [l0, .int x] st h := Ex_nx rfl rfl
theorem rX9_takeBack_2 (Q : Po) (h : Hp) (l0 : Value) (x : Int32) (st : List Value) : Ex mX9_takeBack Q 2 [l0, .int x] st h = Ex mX9_takeBack Q 3 [l0, .int x] (.int x :: st) h := Ex_nx rfl rfl
theorem rX9_takeBack_3 (Q : Po) (h : Hp) (ls : List Value) (st : List Value) : Ex mX9_takeBack Q 3 ls st h = Ex mX9_takeBack Q 5 ls (.int 41 :: st) h := Ex_nx rfl rfl
theorem rX9_takeBack_5 (Q : Po) (h : Hp) (ls : List Value) (st : List Value) (x y : Int32) : Ex mX9_takeBack Q 5 ls (.int y :: .int x :: st) h = if y ≤ x then Ex mX9_takeBack Q 26 ls st h else Ex mX9_takeBack Q 8 ls st h := Ex_br rfl rfl
theorem rX9_takeBack_8 (Q : Po) (h : Hp) (l1 : Value) (x : Nat) (st : List Value) : Ex mX9_takeBack Q 8 [.ref x, l1] st h = Ex mX9_takeBack Q 9 [.ref x, l1] (.ref x :: st) h := Ex_nx rfl rfl
theorem rX9_takeBack_9 (Q : Po) (h : Hp) (ls : List Value) (st : List Value) (a : Nat) : Ex mX9_takeBack Q 9 ls (.ref a :: st) h = (gK h a ∈ ([9] : List Nat) ∧ Ex mX9_takeBack Q 12 ls (gF h 81 a :: st) h) := Ex_gd rfl rfl
theorem rX9_takeBack_12 (Q : Po) (h : Hp) (l0 : Value) (x : Int32) (st : List Value) : Ex mX9_takeBack Q 12 [l0, .int x] st h = Ex mX9_takeBack Q 13 [l0, .int x] (.int x :: st) h := Ex_nx rfl rfl
theorem rX9_takeBack_13 (Q : Po) (h : Hp) (l1 : Value) (x : Nat) (st : List Value) : Ex mX9_takeBack Q 13 [.ref x, l1] st h = Ex mX9_takeBack Q 14 [.ref x, l1] (.ref x :: st) h := Ex_nx rfl rfl
theorem rX9_takeBack_14 (Q : Po) (h : Hp) (ls : List Value) (st : List Value) (a : Nat) : Ex mX9_takeBack Q 14 ls (.ref a :: st) h = (gK h a ∈ ([9] : List Nat) ∧ Ex mX9_takeBack Q 17 ls (gF h 109 a :: st) h) := Ex_gd rfl rfl
theorem rX9_takeBack_17 (Q : Po) (h : Hp) (l0 : Value) (x : Int32) (st : List Value) : Ex mX9_takeBack Q 17 [l0, .int x] st h = Ex mX9_takeBack Q 18 [l0, .int x] (.int x :: st) h := Ex_nx rfl rfl
theorem rX9_takeBack_18 (Q : Po) (h : Hp) (ls : List Value) (st : List Value) (a : Nat) (i : Int32) : Ex mX9_takeBack Q 18 ls (.int i :: .ref a :: st) h = ((gK h a = 51 ∧ ¬ (i < 0 ∨ gL h a ≤ i.toNatClampNeg)) ∧ Ex mX9_takeBack Q 19 ls (.int (gI h a i.toNatClampNeg) :: st) h) := Ex_gd rfl rfl
theorem rX9_takeBack_19 (Q : Po) (h : Hp) (ls : List Value) (st : List Value) (a : Nat) (i x : Int32) : Ex mX9_takeBack Q 19 ls (.int x :: .int i :: .ref a :: st) h = ((gK h a = 51 ∧ ¬ (i < 0 ∨ gL h a ≤ i.toNatClampNeg)) ∧ Ex mX9_takeBack Q 20 ls st (pI h a i.toNatClampNeg (x))) := Ex_gd rfl rfl
theorem rX9_takeBack_20 (Q : Po) (h : Hp) (l0 : Value) (x : Int32) (st : List Value) : Ex mX9_takeBack Q 20 [l0, .int x] st h = Ex mX9_takeBack Q 23 [l0, .int (x + 1)] st h := Ex_nx rfl rfl
theorem rX9_takeBack_23 (Q : Po) (h : Hp) (ls : List Value) (st : List Value) : Ex mX9_takeBack Q 23 ls st h = Ex mX9_takeBack Q 2 ls st h := Ex_nx rfl rfl
theorem rX9_takeBack_26 (Q : Po) (h : Hp) (ls : List Value) : Ex mX9_takeBack Q 26 ls [] h = Q (.inl none) h := Ex_rt rfl rfl
theorem rX9_takeBack_t (Q : Po) (h : Hp) (pc n a : Nat) (ls st : List Value) : Cont mX9_takeBack Q pc ls n st (.inr a) h = Q (.inr a) h := rfl
/-! FishReadersModel.ahead(III)I -/
def mX9_ahead : Cd := ([(0, .inl (i_aload 0 1)),
  (1, .inl (i_iload 1 2)),
  (2, .inr (c_V 1 5 2 9 (Mt mX9_isBook 2))),
  (5, .inl (i_if (fun x => x = 0) 27 8)),
  (8, .inl (i_iload 2 9)),
  (9, .inl (i_i2l 10)),
  (10, .inl (i_push (.long 0) 11)),
  (11, .inl (i_push (.long 60) 14)),
  (14, .inr (c_S 3 17 6 (Mt mX9_in 6))),
  (17, .inl (i_if (fun x => x = 0) 27 20)),
  (20, .inl (i_iload 3 21)),
  (21, .inr (c_S 1 24 1 (Mt mX9_isWhat 1))),
  (24, .inl (i_if (fun x => ¬ x = 0) 30 27)),
  (27, .inl (i_push (.int (-1000001)) 29)),
  (29, .inl i_iret),
  (30, .inl (i_aload 0 31)),
  (31, .inr (c_V 0 34 2 9 (Mt mX9_putAside 2))),
  (34, .inl (i_aload 0 35)),
  (35, .inl (i_iload 2 36)),
  (36, .inr (c_V 1 39 3 9 (Mt mX9_goOn 3))),
  (39, .inl (i_iload 3 40)),
  (40, .inl (i_if (fun x => ¬ x = 0) 55 43)),
  (43, .inl (i_aload 0 44)),
  (44, .inl (i_getf 81 [9] 47)),
  (47, .inl (i_push (.int 8) 49)),
  (49, .inl (i_iload 1 50)),
  (50, .inl (i_bin (fun x y => x + y) 51)),
  (51, .inl (i_iald 51 52)),
  (52, .inl (i_goto 64)),
  (55, .inl (i_aload 0 56)),
  (56, .inl (i_getf 81 [9] 59)),
  (59, .inl (i_push (.int 14) 61)),
  (61, .inl (i_iload 1 62)),
  (62, .inl (i_bin (fun x y => x + y) 63)),
  (63, .inl (i_iald 51 64)),
  (64, .inl (i_istore 4 66)),
  (66, .inl (i_aload 0 67)),
  (67, .inr (c_V 0 70 2 9 (Mt mX9_takeBack 2))),
  (70, .inl (i_iload 4 72)),
  (72, .inl i_iret)], noH)
theorem rX9_ahead_0 (Q : Po) (h : Hp) (l1 l2 l3 l4 : Value) (x : Nat) (st : List Value) : Ex mX9_ahead Q 0 [.ref x, l1, l2, l3, l4] st h = Ex mX9_ahead Q 1 [.ref x, l1, l2, l3, l4] (.ref x :: st) h := Ex_nx rfl rfl
theorem rX9_ahead_1 (Q : Po) (h : Hp) (l0 l2 l3 l4 : Value) (x : Int32) (st : List Value) : Ex mX9_ahead Q 1 [l0, .int x, l2, l3, l4] st h = Ex mX9_ahead Q 2 [l0, .int x, l2, l3, l4] (.int x :: st) h := Ex_nx rfl rfl
theorem rX9_ahead_2 (Q : Po) (h : Hp) (ls : List Value) (a0 : Int32) (b : Nat) : Ex mX9_ahead Q 2 ls (.int a0 :: .ref b :: []) h = (gK h b = 9 ∧ Ex mX9_isBook (Cont mX9_ahead Q 2 ls 5 []) 0 [.ref b, .int a0] [] h) := Ex_cg (n := 2) (as := [.ref b, .int a0]) rfl rfl
theorem rX9_ahead_5 (Q : Po) (h : Hp) (ls : List Value) (st : List Value) (x : Int32) : Ex mX9_ahead Q 5 ls (.int x :: st) h = if x = 0 then Ex mX9_ahead Q 27 ls st h else Ex mX9_ahead Q 8 ls st h := Ex_br rfl rfl
theorem rX9_ahead_8 (Q : Po) (h : Hp) (l0 l1 l3 l4 : Value) (x : Int32) (st : List Value) : Ex mX9_ahead Q 8 [l0, l1, .int x, l3, l4] st h = Ex mX9_ahead Q 9 [l0, l1, .int x, l3, l4] (.int x :: st) h := Ex_nx rfl rfl
theorem rX9_ahead_9 (Q : Po) (h : Hp) (ls : List Value) (st : List Value) (x : Int32) : Ex mX9_ahead Q 9 ls (.int x :: st) h = Ex mX9_ahead Q 10 ls (.long x.toInt64 :: st) h := Ex_nx rfl rfl
theorem rX9_ahead_10 (Q : Po) (h : Hp) (ls : List Value) (st : List Value) : Ex mX9_ahead Q 10 ls st h = Ex mX9_ahead Q 11 ls (.long 0 :: st) h := Ex_nx rfl rfl
theorem rX9_ahead_11 (Q : Po) (h : Hp) (ls : List Value) (st : List Value) : Ex mX9_ahead Q 11 ls st h = Ex mX9_ahead Q 14 ls (.long 60 :: st) h := Ex_nx rfl rfl
theorem rX9_ahead_14 (Q : Po) (h : Hp) (ls : List Value) (a0 : Int64) (a1 : Int64) (a2 : Int64) : Ex mX9_ahead Q 14 ls (.long a2 :: .long a1 :: .long a0 :: []) h = Ex mX9_in (Cont mX9_ahead Q 14 ls 17 []) 0 [.long a0, .retAddr 1, .long a1, .retAddr 1, .long a2, .retAddr 1] [] h := Ex_cl (n := 6) (as := [.long a0, .long a1, .long a2]) rfl rfl
theorem rX9_ahead_17 (Q : Po) (h : Hp) (ls : List Value) (st : List Value) (x : Int32) : Ex mX9_ahead Q 17 ls (.int x :: st) h = if x = 0 then Ex mX9_ahead Q 27 ls st h else Ex mX9_ahead Q 20 ls st h := Ex_br rfl rfl
theorem rX9_ahead_20 (Q : Po) (h : Hp) (l0 l1 l2 l4 : Value) (x : Int32) (st : List Value) : Ex mX9_ahead Q 20 [l0, l1, l2, .int x, l4] st h = Ex mX9_ahead Q 21 [l0, l1, l2, .int x, l4] (.int x :: st) h := Ex_nx rfl rfl
theorem rX9_ahead_21 (Q : Po) (h : Hp) (ls : List Value) (a0 : Int32) : Ex mX9_ahead Q 21 ls (.int a0 :: []) h = Ex mX9_isWhat (Cont mX9_ahead Q 21 ls 24 []) 0 [.int a0] [] h := Ex_cl (n := 1) (as := [.int a0]) rfl rfl
theorem rX9_ahead_24 (Q : Po) (h : Hp) (ls : List Value) (st : List Value) (x : Int32) : Ex mX9_ahead Q 24 ls (.int x :: st) h = if ¬ x = 0 then Ex mX9_ahead Q 30 ls st h else Ex mX9_ahead Q 27 ls st h := Ex_br rfl rfl
theorem rX9_ahead_27 (Q : Po) (h : Hp) (ls : List Value) (st : List Value) : Ex mX9_ahead Q 27 ls st h = Ex mX9_ahead Q 29 ls (.int (-1000001) :: st) h := Ex_nx rfl rfl
theorem rX9_ahead_29 (Q : Po) (h : Hp) (ls : List Value) (x : Int32) : Ex mX9_ahead Q 29 ls [.int x] h = Q (.inl (some (.int x))) h := Ex_rt rfl rfl
theorem rX9_ahead_30 (Q : Po) (h : Hp) (l1 l2 l3 l4 : Value) (x : Nat) (st : List Value) : Ex mX9_ahead Q 30 [.ref x, l1, l2, l3, l4] st h = Ex mX9_ahead Q 31 [.ref x, l1, l2, l3, l4] (.ref x :: st) h := Ex_nx rfl rfl
theorem rX9_ahead_31 (Q : Po) (h : Hp) (ls : List Value) (b : Nat) : Ex mX9_ahead Q 31 ls (.ref b :: []) h = (gK h b = 9 ∧ Ex mX9_putAside (Cont mX9_ahead Q 31 ls 34 []) 0 [.ref b, .retAddr 0] [] h) := Ex_cg (n := 2) (as := [.ref b]) rfl rfl
theorem rX9_ahead_34 (Q : Po) (h : Hp) (l1 l2 l3 l4 : Value) (x : Nat) (st : List Value) : Ex mX9_ahead Q 34 [.ref x, l1, l2, l3, l4] st h = Ex mX9_ahead Q 35 [.ref x, l1, l2, l3, l4] (.ref x :: st) h := Ex_nx rfl rfl
theorem rX9_ahead_35 (Q : Po) (h : Hp) (l0 l1 l3 l4 : Value) (x : Int32) (st : List Value) : Ex mX9_ahead Q 35 [l0, l1, .int x, l3, l4] st h = Ex mX9_ahead Q 36 [l0, l1, .int x, l3, l4] (.int x :: st) h := Ex_nx rfl rfl
theorem rX9_ahead_36 (Q : Po) (h : Hp) (ls : List Value) (a0 : Int32) (b : Nat) : Ex mX9_ahead Q 36 ls (.int a0 :: .ref b :: []) h = (gK h b = 9 ∧ Ex mX9_goOn (Cont mX9_ahead Q 36 ls 39 []) 0 [.ref b, .int a0, .retAddr 0] [] h) := Ex_cg (n := 3) (as := [.ref b, .int a0]) rfl rfl
theorem rX9_ahead_39 (Q : Po) (h : Hp) (l0 l1 l2 l4 : Value) (x : Int32) (st : List Value) : Ex mX9_ahead Q 39 [l0, l1, l2, .int x, l4] st h = Ex mX9_ahead Q 40 [l0, l1, l2, .int x, l4] (.int x :: st) h := Ex_nx rfl rfl
theorem rX9_ahead_40 (Q : Po) (h : Hp) (ls : List Value) (st : List Value) (x : Int32) : Ex mX9_ahead Q 40 ls (.int x :: st) h = if ¬ x = 0 then Ex mX9_ahead Q 55 ls st h else Ex mX9_ahead Q 43 ls st h := Ex_br rfl rfl
theorem rX9_ahead_43 (Q : Po) (h : Hp) (l1 l2 l3 l4 : Value) (x : Nat) (st : List Value) : Ex mX9_ahead Q 43 [.ref x, l1, l2, l3, l4] st h = Ex mX9_ahead Q 44 [.ref x, l1, l2, l3, l4] (.ref x :: st) h := Ex_nx rfl rfl
theorem rX9_ahead_44 (Q : Po) (h : Hp) (ls : List Value) (st : List Value) (a : Nat) : Ex mX9_ahead Q 44 ls (.ref a :: st) h = (gK h a ∈ ([9] : List Nat) ∧ Ex mX9_ahead Q 47 ls (gF h 81 a :: st) h) := Ex_gd rfl rfl
theorem rX9_ahead_47 (Q : Po) (h : Hp) (ls : List Value) (st : List Value) : Ex mX9_ahead Q 47 ls st h = Ex mX9_ahead Q 49 ls (.int 8 :: st) h := Ex_nx rfl rfl
theorem rX9_ahead_49 (Q : Po) (h : Hp) (l0 l2 l3 l4 : Value) (x : Int32) (st : List Value) : Ex mX9_ahead Q 49 [l0, .int x, l2, l3, l4] st h = Ex mX9_ahead Q 50 [l0, .int x, l2, l3, l4] (.int x :: st) h := Ex_nx rfl rfl
theorem rX9_ahead_50 (Q : Po) (h : Hp) (ls : List Value) (st : List Value) (x y : Int32) : Ex mX9_ahead Q 50 ls (.int y :: .int x :: st) h = Ex mX9_ahead Q 51 ls (.int (x + y) :: st) h := Ex_nx rfl rfl
theorem rX9_ahead_51 (Q : Po) (h : Hp) (ls : List Value) (st : List Value) (a : Nat) (i : Int32) : Ex mX9_ahead Q 51 ls (.int i :: .ref a :: st) h = ((gK h a = 51 ∧ ¬ (i < 0 ∨ gL h a ≤ i.toNatClampNeg)) ∧ Ex mX9_ahead Q 52 ls (.int (gI h a i.toNatClampNeg) :: st) h) := Ex_gd rfl rfl
theorem rX9_ahead_52 (Q : Po) (h : Hp) (ls : List Value) (st : List Value) : Ex mX9_ahead Q 52 ls st h = Ex mX9_ahead Q 64 ls st h := Ex_nx rfl rfl
theorem rX9_ahead_55 (Q : Po) (h : Hp) (l1 l2 l3 l4 : Value) (x : Nat) (st : List Value) : Ex mX9_ahead Q 55 [.ref x, l1, l2, l3, l4] st h = Ex mX9_ahead Q 56 [.ref x, l1, l2, l3, l4] (.ref x :: st) h := Ex_nx rfl rfl
theorem rX9_ahead_56 (Q : Po) (h : Hp) (ls : List Value) (st : List Value) (a : Nat) : Ex mX9_ahead Q 56 ls (.ref a :: st) h = (gK h a ∈ ([9] : List Nat) ∧ Ex mX9_ahead Q 59 ls (gF h 81 a :: st) h) := Ex_gd rfl rfl
theorem rX9_ahead_59 (Q : Po) (h : Hp) (ls : List Value) (st : List Value) : Ex mX9_ahead Q 59 ls st h = Ex mX9_ahead Q 61 ls (.int 14 :: st) h := Ex_nx rfl rfl
theorem rX9_ahead_61 (Q : Po) (h : Hp) (l0 l2 l3 l4 : Value) (x : Int32) (st : List Value) : Ex mX9_ahead Q 61 [l0, .int x, l2, l3, l4] st h = Ex mX9_ahead Q 62 [l0, .int x, l2, l3, l4] (.int x :: st) h := Ex_nx rfl rfl
theorem rX9_ahead_62 (Q : Po) (h : Hp) (ls : List Value) (st : List Value) (x y : Int32) : Ex mX9_ahead Q 62 ls (.int y :: .int x :: st) h = Ex mX9_ahead Q 63 ls (.int (x + y) :: st) h := Ex_nx rfl rfl
theorem rX9_ahead_63 (Q : Po) (h : Hp) (ls : List Value) (st : List Value) (a : Nat) (i : Int32) : Ex mX9_ahead Q 63 ls (.int i :: .ref a :: st) h = ((gK h a = 51 ∧ ¬ (i < 0 ∨ gL h a ≤ i.toNatClampNeg)) ∧ Ex mX9_ahead Q 64 ls (.int (gI h a i.toNatClampNeg) :: st) h) := Ex_gd rfl rfl
theorem rX9_ahead_64 (Q : Po) (h : Hp) (l0 l1 l2 l3 l4 : Value) (x : Int32) (st : List Value) : Ex mX9_ahead Q 64 [l0, l1, l2, l3, l4] (.int x :: st) h = Ex mX9_ahead Q 66 [l0, l1, l2, l3, .int x] st h := Ex_nx rfl rfl
theorem rX9_ahead_66 (Q : Po) (h : Hp) (l1 l2 l3 l4 : Value) (x : Nat) (st : List Value) : Ex mX9_ahead Q 66 [.ref x, l1, l2, l3, l4] st h = Ex mX9_ahead Q 67 [.ref x, l1, l2, l3, l4] (.ref x :: st) h := Ex_nx rfl rfl
theorem rX9_ahead_67 (Q : Po) (h : Hp) (ls : List Value) (b : Nat) : Ex mX9_ahead Q 67 ls (.ref b :: []) h = (gK h b = 9 ∧ Ex mX9_takeBack (Cont mX9_ahead Q 67 ls 70 []) 0 [.ref b, .retAddr 0] [] h) := Ex_cg (n := 2) (as := [.ref b]) rfl rfl
theorem rX9_ahead_70 (Q : Po) (h : Hp) (l0 l1 l2 l3 : Value) (x : Int32) (st : List Value) : Ex mX9_ahead Q 70 [l0, l1, l2, l3, .int x] st h = Ex mX9_ahead Q 72 [l0, l1, l2, l3, .int x] (.int x :: st) h := Ex_nx rfl rfl
theorem rX9_ahead_72 (Q : Po) (h : Hp) (ls : List Value) (x : Int32) : Ex mX9_ahead Q 72 ls [.int x] h = Q (.inl (some (.int x))) h := Ex_rt rfl rfl
theorem rX9_ahead_t (Q : Po) (h : Hp) (pc n a : Nat) (ls st : List Value) : Cont mX9_ahead Q pc ls n st (.inr a) h = Q (.inr a) h := rfl
/-! FishReadersModel.later(III)I -/
def mX9_later : Cd := ([(0, .inl (i_aload 0 1)),
  (1, .inl (i_iload 1 2)),
  (2, .inr (c_V 1 5 2 9 (Mt mX9_isFish 2))),
  (5, .inl (i_if (fun x => x = 0) 27 8)),
  (8, .inl (i_iload 2 9)),
  (9, .inl (i_i2l 10)),
  (10, .inl (i_push (.long 0) 11)),
  (11, .inl (i_push (.long 60) 14)),
  (14, .inr (c_S 3 17 6 (Mt mX9_in 6))),
  (17, .inl (i_if (fun x => x = 0) 27 20)),
  (20, .inl (i_iload 3 21)),
  (21, .inr (c_S 1 24 1 (Mt mX9_isWhat 1))),
  (24, .inl (i_if (fun x => ¬ x = 0) 30 27)),
  (27, .inl (i_push (.int (-1000001)) 29)),
  (29, .inl i_iret),
  (30, .inl (i_aload 0 31)),
  (31, .inr (c_V 0 34 2 9 (Mt mX9_putAside 2))),
  (34, .inl (i_aload 0 35)),
  (35, .inl (i_iload 2 36)),
  (36, .inr (c_V 1 39 3 9 (Mt mX9_goOn 3))),
  (39, .inl (i_iload 3 40)),
  (40, .inl (i_push (.int 1) 41)),
  (41, .inl (i_icmp (fun x y => ¬ x = y) 56 44)),
  (44, .inl (i_aload 0 45)),
  (45, .inl (i_getf 81 [9] 48)),
  (48, .inl (i_push (.int 36) 50)),
  (50, .inl (i_iload 1 51)),
  (51, .inl (i_bin (fun x y => x + y) 52)),
  (52, .inl (i_iald 51 53)),
  (53, .inl (i_goto 78)),
  (56, .inl (i_aload 0 57)),
  (57, .inl (i_iload 1 58)),
  (58, .inr (c_V 1 61 2 9 (Mt mX9_isCaught 2))),
  (61, .inl (i_if (fun x => x = 0) 69 64)),
  (64, .inl (i_push (.int (-1000000)) 66)),
  (66, .inl (i_goto 78)),
  (69, .inl (i_aload 0 70)),
  (70, .inl (i_getf 81 [9] 73)),
  (73, .inl (i_push (.int 31) 75)),
  (75, .inl (i_iload 1 76)),
  (76, .inl (i_bin (fun x y => x + y) 77)),
  (77, .inl (i_iald 51 78)),
  (78, .inl (i_istore 4 80)),
  (80, .inl (i_aload 0 81)),
  (81, .inr (c_V 0 84 2 9 (Mt mX9_takeBack 2))),
  (84, .inl (i_iload 4 86)),
  (86, .inl i_iret)], noH)
theorem rX9_later_0 (Q : Po) (h : Hp) (l1 l2 l3 l4 : Value) (x : Nat) (st : List Value) : Ex mX9_later Q 0 [.ref x, l1, l2, l3, l4] st h = Ex mX9_later Q 1 [.ref x, l1, l2, l3, l4] (.ref x :: st) h := Ex_nx rfl rfl
theorem rX9_later_1 (Q : Po) (h : Hp) (l0 l2 l3 l4 : Value) (x : Int32) (st : List Value) : Ex mX9_later Q 1 [l0, .int x, l2, l3, l4] st h = Ex mX9_later Q 2 [l0, .int x, l2, l3, l4] (.int x :: st) h := Ex_nx rfl rfl
theorem rX9_later_2 (Q : Po) (h : Hp) (ls : List Value) (a0 : Int32) (b : Nat) : Ex mX9_later Q 2 ls (.int a0 :: .ref b :: []) h = (gK h b = 9 ∧ Ex mX9_isFish (Cont mX9_later Q 2 ls 5 []) 0 [.ref b, .int a0] [] h) := Ex_cg (n := 2) (as := [.ref b, .int a0]) rfl rfl
theorem rX9_later_5 (Q : Po) (h : Hp) (ls : List Value) (st : List Value) (x : Int32) : Ex mX9_later Q 5 ls (.int x :: st) h = if x = 0 then Ex mX9_later Q 27 ls st h else Ex mX9_later Q 8 ls st h := Ex_br rfl rfl
theorem rX9_later_8 (Q : Po) (h : Hp) (l0 l1 l3 l4 : Value) (x : Int32) (st : List Value) : Ex mX9_later Q 8 [l0, l1, .int x, l3, l4] st h = Ex mX9_later Q 9 [l0, l1, .int x, l3, l4] (.int x :: st) h := Ex_nx rfl rfl
theorem rX9_later_9 (Q : Po) (h : Hp) (ls : List Value) (st : List Value) (x : Int32) : Ex mX9_later Q 9 ls (.int x :: st) h = Ex mX9_later Q 10 ls (.long x.toInt64 :: st) h := Ex_nx rfl rfl
theorem rX9_later_10 (Q : Po) (h : Hp) (ls : List Value) (st : List Value) : Ex mX9_later Q 10 ls st h = Ex mX9_later Q 11 ls (.long 0 :: st) h := Ex_nx rfl rfl
theorem rX9_later_11 (Q : Po) (h : Hp) (ls : List Value) (st : List Value) : Ex mX9_later Q 11 ls st h = Ex mX9_later Q 14 ls (.long 60 :: st) h := Ex_nx rfl rfl
theorem rX9_later_14 (Q : Po) (h : Hp) (ls : List Value) (a0 : Int64) (a1 : Int64) (a2 : Int64) : Ex mX9_later Q 14 ls (.long a2 :: .long a1 :: .long a0 :: []) h = Ex mX9_in (Cont mX9_later Q 14 ls 17 []) 0 [.long a0, .retAddr 1, .long a1, .retAddr 1, .long a2, .retAddr 1] [] h := Ex_cl (n := 6) (as := [.long a0, .long a1, .long a2]) rfl rfl
theorem rX9_later_17 (Q : Po) (h : Hp) (ls : List Value) (st : List Value) (x : Int32) : Ex mX9_later Q 17 ls (.int x :: st) h = if x = 0 then Ex mX9_later Q 27 ls st h else Ex mX9_later Q 20 ls st h := Ex_br rfl rfl
theorem rX9_later_20 (Q : Po) (h : Hp) (l0 l1 l2 l4 : Value) (x : Int32) (st : List Value) : Ex mX9_later Q 20 [l0, l1, l2, .int x, l4] st h = Ex mX9_later Q 21 [l0, l1, l2, .int x, l4] (.int x :: st) h := Ex_nx rfl rfl
theorem rX9_later_21 (Q : Po) (h : Hp) (ls : List Value) (a0 : Int32) : Ex mX9_later Q 21 ls (.int a0 :: []) h = Ex mX9_isWhat (Cont mX9_later Q 21 ls 24 []) 0 [.int a0] [] h := Ex_cl (n := 1) (as := [.int a0]) rfl rfl
theorem rX9_later_24 (Q : Po) (h : Hp) (ls : List Value) (st : List Value) (x : Int32) : Ex mX9_later Q 24 ls (.int x :: st) h = if ¬ x = 0 then Ex mX9_later Q 30 ls st h else Ex mX9_later Q 27 ls st h := Ex_br rfl rfl
theorem rX9_later_27 (Q : Po) (h : Hp) (ls : List Value) (st : List Value) : Ex mX9_later Q 27 ls st h = Ex mX9_later Q 29 ls (.int (-1000001) :: st) h := Ex_nx rfl rfl
theorem rX9_later_29 (Q : Po) (h : Hp) (ls : List Value) (x : Int32) : Ex mX9_later Q 29 ls [.int x] h = Q (.inl (some (.int x))) h := Ex_rt rfl rfl
theorem rX9_later_30 (Q : Po) (h : Hp) (l1 l2 l3 l4 : Value) (x : Nat) (st : List Value) : Ex mX9_later Q 30 [.ref x, l1, l2, l3, l4] st h = Ex mX9_later Q 31 [.ref x, l1, l2, l3, l4] (.ref x :: st) h := Ex_nx rfl rfl
theorem rX9_later_31 (Q : Po) (h : Hp) (ls : List Value) (b : Nat) : Ex mX9_later Q 31 ls (.ref b :: []) h = (gK h b = 9 ∧ Ex mX9_putAside (Cont mX9_later Q 31 ls 34 []) 0 [.ref b, .retAddr 0] [] h) := Ex_cg (n := 2) (as := [.ref b]) rfl rfl
theorem rX9_later_34 (Q : Po) (h : Hp) (l1 l2 l3 l4 : Value) (x : Nat) (st : List Value) : Ex mX9_later Q 34 [.ref x, l1, l2, l3, l4] st h = Ex mX9_later Q 35 [.ref x, l1, l2, l3, l4] (.ref x :: st) h := Ex_nx rfl rfl
theorem rX9_later_35 (Q : Po) (h : Hp) (l0 l1 l3 l4 : Value) (x : Int32) (st : List Value) : Ex mX9_later Q 35 [l0, l1, .int x, l3, l4] st h = Ex mX9_later Q 36 [l0, l1, .int x, l3, l4] (.int x :: st) h := Ex_nx rfl rfl
theorem rX9_later_36 (Q : Po) (h : Hp) (ls : List Value) (a0 : Int32) (b : Nat) : Ex mX9_later Q 36 ls (.int a0 :: .ref b :: []) h = (gK h b = 9 ∧ Ex mX9_goOn (Cont mX9_later Q 36 ls 39 []) 0 [.ref b, .int a0, .retAddr 0] [] h) := Ex_cg (n := 3) (as := [.ref b, .int a0]) rfl rfl
theorem rX9_later_39 (Q : Po) (h : Hp) (l0 l1 l2 l4 : Value) (x : Int32) (st : List Value) : Ex mX9_later Q 39 [l0, l1, l2, .int x, l4] st h = Ex mX9_later Q 40 [l0, l1, l2, .int x, l4] (.int x :: st) h := Ex_nx rfl rfl
theorem rX9_later_40 (Q : Po) (h : Hp) (ls : List Value) (st : List Value) : Ex mX9_later Q 40 ls st h = Ex mX9_later Q 41 ls (.int 1 :: st) h := Ex_nx rfl rfl
theorem rX9_later_41 (Q : Po) (h : Hp) (ls : List Value) (st : List Value) (x y : Int32) : Ex mX9_later Q 41 ls (.int y :: .int x :: st) h = if ¬ x = y then Ex mX9_later Q 56 ls st h else Ex mX9_later Q 44 ls st h := Ex_br rfl rfl
theorem rX9_later_44 (Q : Po) (h : Hp) (l1 l2 l3 l4 : Value) (x : Nat) (st : List Value) : Ex mX9_later Q 44 [.ref x, l1, l2, l3, l4] st h = Ex mX9_later Q 45 [.ref x, l1, l2, l3, l4] (.ref x :: st) h := Ex_nx rfl rfl
theorem rX9_later_45 (Q : Po) (h : Hp) (ls : List Value) (st : List Value) (a : Nat) : Ex mX9_later Q 45 ls (.ref a :: st) h = (gK h a ∈ ([9] : List Nat) ∧ Ex mX9_later Q 48 ls (gF h 81 a :: st) h) := Ex_gd rfl rfl
theorem rX9_later_48 (Q : Po) (h : Hp) (ls : List Value) (st : List Value) : Ex mX9_later Q 48 ls st h = Ex mX9_later Q 50 ls (.int 36 :: st) h := Ex_nx rfl rfl
theorem rX9_later_50 (Q : Po) (h : Hp) (l0 l2 l3 l4 : Value) (x : Int32) (st : List Value) : Ex mX9_later Q 50 [l0, .int x, l2, l3, l4] st h = Ex mX9_later Q 51 [l0, .int x, l2, l3, l4] (.int x :: st) h := Ex_nx rfl rfl
theorem rX9_later_51 (Q : Po) (h : Hp) (ls : List Value) (st : List Value) (x y : Int32) : Ex mX9_later Q 51 ls (.int y :: .int x :: st) h = Ex mX9_later Q 52 ls (.int (x + y) :: st) h := Ex_nx rfl rfl
theorem rX9_later_52 (Q : Po) (h : Hp) (ls : List Value) (st : List Value) (a : Nat) (i : Int32) : Ex mX9_later Q 52 ls (.int i :: .ref a :: st) h = ((gK h a = 51 ∧ ¬ (i < 0 ∨ gL h a ≤ i.toNatClampNeg)) ∧ Ex mX9_later Q 53 ls (.int (gI h a i.toNatClampNeg) :: st) h) := Ex_gd rfl rfl
theorem rX9_later_53 (Q : Po) (h : Hp) (ls : List Value) (st : List Value) : Ex mX9_later Q 53 ls st h = Ex mX9_later Q 78 ls st h := Ex_nx rfl rfl
theorem rX9_later_56 (Q : Po) (h : Hp) (l1 l2 l3 l4 : Value) (x : Nat) (st : List Value) : Ex mX9_later Q 56 [.ref x, l1, l2, l3, l4] st h = Ex mX9_later Q 57 [.ref x, l1, l2, l3, l4] (.ref x :: st) h := Ex_nx rfl rfl
theorem rX9_later_57 (Q : Po) (h : Hp) (l0 l2 l3 l4 : Value) (x : Int32) (st : List Value) : Ex mX9_later Q 57 [l0, .int x, l2, l3, l4] st h = Ex mX9_later Q 58 [l0, .int x, l2, l3, l4] (.int x :: st) h := Ex_nx rfl rfl
theorem rX9_later_58 (Q : Po) (h : Hp) (ls : List Value) (a0 : Int32) (b : Nat) : Ex mX9_later Q 58 ls (.int a0 :: .ref b :: []) h = (gK h b = 9 ∧ Ex mX9_isCaught (Cont mX9_later Q 58 ls 61 []) 0 [.ref b, .int a0] [] h) := Ex_cg (n := 2) (as := [.ref b, .int a0]) rfl rfl
theorem rX9_later_61 (Q : Po) (h : Hp) (ls : List Value) (st : List Value) (x : Int32) : Ex mX9_later Q 61 ls (.int x :: st) h = if x = 0 then Ex mX9_later Q 69 ls st h else Ex mX9_later Q 64 ls st h := Ex_br rfl rfl
theorem rX9_later_64 (Q : Po) (h : Hp) (ls : List Value) (st : List Value) : Ex mX9_later Q 64 ls st h = Ex mX9_later Q 66 ls (.int (-1000000) :: st) h := Ex_nx rfl rfl
theorem rX9_later_66 (Q : Po) (h : Hp) (ls : List Value) (st : List Value) : Ex mX9_later Q 66 ls st h = Ex mX9_later Q 78 ls st h := Ex_nx rfl rfl
theorem rX9_later_69 (Q : Po) (h : Hp) (l1 l2 l3 l4 : Value) (x : Nat) (st : List Value) : Ex mX9_later Q 69 [.ref x, l1, l2, l3, l4] st h = Ex mX9_later Q 70 [.ref x, l1, l2, l3, l4] (.ref x :: st) h := Ex_nx rfl rfl
theorem rX9_later_70 (Q : Po) (h : Hp) (ls : List Value) (st : List Value) (a : Nat) : Ex mX9_later Q 70 ls (.ref a :: st) h = (gK h a ∈ ([9] : List Nat) ∧ Ex mX9_later Q 73 ls (gF h 81 a :: st) h) := Ex_gd rfl rfl
theorem rX9_later_73 (Q : Po) (h : Hp) (ls : List Value) (st : List Value) : Ex mX9_later Q 73 ls st h = Ex mX9_later Q 75 ls (.int 31 :: st) h := Ex_nx rfl rfl
theorem rX9_later_75 (Q : Po) (h : Hp) (l0 l2 l3 l4 : Value) (x : Int32) (st : List Value) : Ex mX9_later Q 75 [l0, .int x, l2, l3, l4] st h = Ex mX9_later Q 76 [l0, .int x, l2, l3, l4] (.int x :: st) h := Ex_nx rfl rfl
theorem rX9_later_76 (Q : Po) (h : Hp) (ls : List Value) (st : List Value) (x y : Int32) : Ex mX9_later Q 76 ls (.int y :: .int x :: st) h = Ex mX9_later Q 77 ls (.int (x + y) :: st) h := Ex_nx rfl rfl
theorem rX9_later_77 (Q : Po) (h : Hp) (ls : List Value) (st : List Value) (a : Nat) (i : Int32) : Ex mX9_later Q 77 ls (.int i :: .ref a :: st) h = ((gK h a = 51 ∧ ¬ (i < 0 ∨ gL h a ≤ i.toNatClampNeg)) ∧ Ex mX9_later Q 78 ls (.int (gI h a i.toNatClampNeg) :: st) h) := Ex_gd rfl rfl
theorem rX9_later_78 (Q : Po) (h : Hp) (l0 l1 l2 l3 l4 : Value) (x : Int32) (st : List Value) : Ex mX9_later Q 78 [l0, l1, l2, l3, l4] (.int x :: st) h = Ex mX9_later Q 80 [l0, l1, l2, l3, .int x] st h := Ex_nx rfl rfl
theorem rX9_later_80 (Q : Po) (h : Hp) (l1 l2 l3 l4 : Value) (x : Nat) (st : List Value) : Ex mX9_later Q 80 [.ref x, l1, l2, l3, l4] st h = Ex mX9_later Q 81 [.ref x, l1, l2, l3, l4] (.ref x :: st) h := Ex_nx rfl rfl
theorem rX9_later_81 (Q : Po) (h : Hp) (ls : List Value) (b : Nat) : Ex mX9_later Q 81 ls (.ref b :: []) h = (gK h b = 9 ∧ Ex mX9_takeBack (Cont mX9_later Q 81 ls 84 []) 0 [.ref b, .retAddr 0] [] h) := Ex_cg (n := 2) (as := [.ref b]) rfl rfl
theorem rX9_later_84 (Q : Po) (h : Hp) (l0 l1 l2 l3 : Value) (x : Int32) (st : List Value) : Ex mX9_later Q 84 [l0, l1, l2, l3, .int x] st h = Ex mX9_later Q 86 [l0, l1, l2, l3, .int x] (.int x :: st) h := Ex_nx rfl rfl
theorem rX9_later_86 (Q : Po) (h : Hp) (ls : List Value) (x : Int32) : Ex mX9_later Q 86 ls [.int x] h = Q (.inl (some (.int x))) h := Ex_rt rfl rfl
theorem rX9_later_t (Q : Po) (h : Hp) (pc n a : Nat) (ls st : List Value) : Cont mX9_later Q pc ls n st (.inr a) h = Q (.inr a) h := rfl
/-! FishReadersModel.when(I)I -/
def mX9_when : Cd := ([(0, .inl (i_aload 0 1)),
  (1, .inl (i_iload 1 2)),
  (2, .inr (c_V 1 5 2 9 (Mt mX9_isBook 2))),
  (5, .inl (i_if (fun x => ¬ x = 0) 11 8)),
  (8, .inl (i_push (.int (-1000001)) 10)),
  (10, .inl i_iret),
  (11, .inl (i_aload 0 12)),
  (12, .inr (c_V 0 15 2 9 (Mt mX9_putAside 2))),
  (15, .inl (i_push (.int 0) 16)),
  (16, .inl (i_istore 2 17)),
  (17, .inl (i_aload 0 18)),
  (18, .inl (i_getf 81 [9] 21)),
  (21, .inl (i_push (.int 8) 23)),
  (23, .inl (i_iload 1 24)),
  (24, .inl (i_bin (fun x y => x + y) 25)),
  (25, .inl (i_iald 51 26)),
  (26, .inl (i_if (fun x => x ≤ 0) 45 29)),
  (29, .inl (i_iload 2 30)),
  (30, .inl (i_push (.int 60) 32)),
  (32, .inl (i_icmp (fun x y => y ≤ x) 45 35)),
  (35, .inl (i_aload 0 36)),
  (36, .inr (c_V 0 39 2 9 (Mt mX9_oneNight 2))),
  (39, .inl (i_iinc 2 1 42)),
  (42, .inl (i_goto 17)),
  (45, .inl (i_aload 0 46)),
  (46, .inl (i_getf 81 [9] 49)),
  (49, .inl (i_push (.int 8) 51)),
  (51, .inl (i_iload 1 52)),
  (52, .inl (i_bin (fun x y => x + y) 53)),
  (53, .inl (i_iald 51 54)),
  (54, .inl (i_if (fun x => ¬ x = 0) 61 57)),
  (57, .inl (i_push (.int 1) 58)),
  (58, .inl (i_goto 62)),
  (61, .inl (i_push (.int 0) 62)),
  (62, .inl (i_istore 3 63)),
  (63, .inl (i_aload 0 64)),
  (64, .inr (c_V 0 67 2 9 (Mt mX9_takeBack 2))),
  (67, .inl (i_iload 3 68)),
  (68, .inl (i_if (fun x => x = 0) 75 71)),
  (71, .inl (i_iload 2 72)),
  (72, .inl (i_goto 77)),
  (75, .inl (i_push (.int (-1000000)) 77)),
  (77, .inl i_iret)], noH)
theorem rX9_when_0 (Q : Po) (h : Hp) (l1 l2 l3 : Value) (x : Nat) (st : List Value) : Ex mX9_when Q 0 [.ref x, l1, l2, l3] st h = Ex mX9_when Q 1 [.ref x, l1, l2, l3] (.ref x :: st) h := Ex_nx rfl rfl
theorem rX9_when_1 (Q : Po) (h : Hp) (l0 l2 l3 : Value) (x : Int32) (st : List Value) : Ex mX9_when Q 1 [l0, .int x, l2, l3] st h = Ex mX9_when Q 2 [l0, .int x, l2, l3] (.int x :: st) h := Ex_nx rfl rfl
theorem rX9_when_2 (Q : Po) (h : Hp) (ls : List Value) (a0 : Int32) (b : Nat) : Ex mX9_when Q 2 ls (.int a0 :: .ref b :: []) h = (gK h b = 9 ∧ Ex mX9_isBook (Cont mX9_when Q 2 ls 5 []) 0 [.ref b, .int a0] [] h) := Ex_cg (n := 2) (as := [.ref b, .int a0]) rfl rfl
theorem rX9_when_5 (Q : Po) (h : Hp) (ls : List Value) (st : List Value) (x : Int32) : Ex mX9_when Q 5 ls (.int x :: st) h = if ¬ x = 0 then Ex mX9_when Q 11 ls st h else Ex mX9_when Q 8 ls st h := Ex_br rfl rfl
theorem rX9_when_8 (Q : Po) (h : Hp) (ls : List Value) (st : List Value) : Ex mX9_when Q 8 ls st h = Ex mX9_when Q 10 ls (.int (-1000001) :: st) h := Ex_nx rfl rfl
theorem rX9_when_10 (Q : Po) (h : Hp) (ls : List Value) (x : Int32) : Ex mX9_when Q 10 ls [.int x] h = Q (.inl (some (.int x))) h := Ex_rt rfl rfl
theorem rX9_when_11 (Q : Po) (h : Hp) (l1 l2 l3 : Value) (x : Nat) (st : List Value) : Ex mX9_when Q 11 [.ref x, l1, l2, l3] st h = Ex mX9_when Q 12 [.ref x, l1, l2, l3] (.ref x :: st) h := Ex_nx rfl rfl
theorem rX9_when_12 (Q : Po) (h : Hp) (ls : List Value) (b : Nat) : Ex mX9_when Q 12 ls (.ref b :: []) h = (gK h b = 9 ∧ Ex mX9_putAside (Cont mX9_when Q 12 ls 15 []) 0 [.ref b, .retAddr 0] [] h) := Ex_cg (n := 2) (as := [.ref b]) rfl rfl
theorem rX9_when_15 (Q : Po) (h : Hp) (ls : List Value) (st : List Value) : Ex mX9_when Q 15 ls st h = Ex mX9_when Q 16 ls (.int 0 :: st) h := Ex_nx rfl rfl
theorem rX9_when_16 (Q : Po) (h : Hp) (l0 l1 l2 l3 : Value) (x : Int32) (st : List Value) : Ex mX9_when Q 16 [l0, l1, l2, l3] (.int x :: st) h = Ex mX9_when Q 17 [l0, l1, .int x, l3] st h := Ex_nx rfl rfl
theorem rX9_when_17 (Q : Po) (h : Hp) (l1 l2 l3 : Value) (x : Nat) (st : List Value) : Ex mX9_when Q 17 [.ref x, l1, l2, l3] st h = Ex mX9_when Q 18 [.ref x, l1, l2, l3] (.ref x :: st) h := Ex_nx rfl rfl
theorem rX9_when_18 (Q : Po) (h : Hp) (ls : List Value) (st : List Value) (a : Nat) : Ex mX9_when Q 18 ls (.ref a :: st) h = (gK h a ∈ ([9] : List Nat) ∧ Ex mX9_when Q 21 ls (gF h 81 a :: st) h) := Ex_gd rfl rfl
theorem rX9_when_21 (Q : Po) (h : Hp) (ls : List Value) (st : List Value) : Ex mX9_when Q 21 ls st h = Ex mX9_when Q 23 ls (.int 8 :: st) h := Ex_nx rfl rfl
theorem rX9_when_23 (Q : Po) (h : Hp) (l0 l2 l3 : Value) (x : Int32) (st : List Value) : Ex mX9_when Q 23 [l0, .int x, l2, l3] st h = Ex mX9_when Q 24 [l0, .int x, l2, l3] (.int x :: st) h := Ex_nx rfl rfl
theorem rX9_when_24 (Q : Po) (h : Hp) (ls : List Value) (st : List Value) (x y : Int32) : Ex mX9_when Q 24 ls (.int y :: .int x :: st) h = Ex mX9_when Q 25 ls (.int (x + y) :: st) h := Ex_nx rfl rfl
theorem rX9_when_25 (Q : Po) (h : Hp) (ls : List Value) (st : List Value) (a : Nat) (i : Int32) : Ex mX9_when Q 25 ls (.int i :: .ref a :: st) h = ((gK h a = 51 ∧ ¬ (i < 0 ∨ gL h a ≤ i.toNatClampNeg)) ∧ Ex mX9_when Q 26 ls (.int (gI h a i.toNatClampNeg) :: st) h) := Ex_gd rfl rfl
theorem rX9_when_26 (Q : Po) (h : Hp) (ls : List Value) (st : List Value) (x : Int32) : Ex mX9_when Q 26 ls (.int x :: st) h = if x ≤ 0 then Ex mX9_when Q 45 ls st h else Ex mX9_when Q 29 ls st h := Ex_br rfl rfl
theorem rX9_when_29 (Q : Po) (h : Hp) (l0 l1 l3 : Value) (x : Int32) (st : List Value) : Ex mX9_when Q 29 [l0, l1, .int x, l3] st h = Ex mX9_when Q 30 [l0, l1, .int x, l3] (.int x :: st) h := Ex_nx rfl rfl
theorem rX9_when_30 (Q : Po) (h : Hp) (ls : List Value) (st : List Value) : Ex mX9_when Q 30 ls st h = Ex mX9_when Q 32 ls (.int 60 :: st) h := Ex_nx rfl rfl
theorem rX9_when_32 (Q : Po) (h : Hp) (ls : List Value) (st : List Value) (x y : Int32) : Ex mX9_when Q 32 ls (.int y :: .int x :: st) h = if y ≤ x then Ex mX9_when Q 45 ls st h else Ex mX9_when Q 35 ls st h := Ex_br rfl rfl
theorem rX9_when_35 (Q : Po) (h : Hp) (l1 l2 l3 : Value) (x : Nat) (st : List Value) : Ex mX9_when Q 35 [.ref x, l1, l2, l3] st h = Ex mX9_when Q 36 [.ref x, l1, l2, l3] (.ref x :: st) h := Ex_nx rfl rfl
theorem rX9_when_36 (Q : Po) (h : Hp) (ls : List Value) (b : Nat) : Ex mX9_when Q 36 ls (.ref b :: []) h = (gK h b = 9 ∧ Ex mX9_oneNight (Cont mX9_when Q 36 ls 39 []) 0 [.ref b, .retAddr 0] [] h) := Ex_cg (n := 2) (as := [.ref b]) rfl rfl
theorem rX9_when_39 (Q : Po) (h : Hp) (l0 l1 l3 : Value) (x : Int32) (st : List Value) : Ex mX9_when Q 39 [l0, l1, .int x, l3] st h = Ex mX9_when Q 42 [l0, l1, .int (x + 1), l3] st h := Ex_nx rfl rfl
theorem rX9_when_42 (Q : Po) (h : Hp) (ls : List Value) (st : List Value) : Ex mX9_when Q 42 ls st h = Ex mX9_when Q 17 ls st h := Ex_nx rfl rfl
theorem rX9_when_45 (Q : Po) (h : Hp) (l1 l2 l3 : Value) (x : Nat) (st : List Value) : Ex mX9_when Q 45 [.ref x, l1, l2, l3] st h = Ex mX9_when Q 46 [.ref x, l1, l2, l3] (.ref x :: st) h := Ex_nx rfl rfl
theorem rX9_when_46 (Q : Po) (h : Hp) (ls : List Value) (st : List Value) (a : Nat) : Ex mX9_when Q 46 ls (.ref a :: st) h = (gK h a ∈ ([9] : List Nat) ∧ Ex mX9_when Q 49 ls (gF h 81 a :: st) h) := Ex_gd rfl rfl
theorem rX9_when_49 (Q : Po) (h : Hp) (ls : List Value) (st : List Value) : Ex mX9_when Q 49 ls st h = Ex mX9_when Q 51 ls (.int 8 :: st) h := Ex_nx rfl rfl
theorem rX9_when_51 (Q : Po) (h : Hp) (l0 l2 l3 : Value) (x : Int32) (st : List Value) : Ex mX9_when Q 51 [l0, .int x, l2, l3] st h = Ex mX9_when Q 52 [l0, .int x, l2, l3] (.int x :: st) h := Ex_nx rfl rfl
theorem rX9_when_52 (Q : Po) (h : Hp) (ls : List Value) (st : List Value) (x y : Int32) : Ex mX9_when Q 52 ls (.int y :: .int x :: st) h = Ex mX9_when Q 53 ls (.int (x + y) :: st) h := Ex_nx rfl rfl
theorem rX9_when_53 (Q : Po) (h : Hp) (ls : List Value) (st : List Value) (a : Nat) (i : Int32) : Ex mX9_when Q 53 ls (.int i :: .ref a :: st) h = ((gK h a = 51 ∧ ¬ (i < 0 ∨ gL h a ≤ i.toNatClampNeg)) ∧ Ex mX9_when Q 54 ls (.int (gI h a i.toNatClampNeg) :: st) h) := Ex_gd rfl rfl
theorem rX9_when_54 (Q : Po) (h : Hp) (ls : List Value) (st : List Value) (x : Int32) : Ex mX9_when Q 54 ls (.int x :: st) h = if ¬ x = 0 then Ex mX9_when Q 61 ls st h else Ex mX9_when Q 57 ls st h := Ex_br rfl rfl
theorem rX9_when_57 (Q : Po) (h : Hp) (ls : List Value) (st : List Value) : Ex mX9_when Q 57 ls st h = Ex mX9_when Q 58 ls (.int 1 :: st) h := Ex_nx rfl rfl
theorem rX9_when_58 (Q : Po) (h : Hp) (ls : List Value) (st : List Value) : Ex mX9_when Q 58 ls st h = Ex mX9_when Q 62 ls st h := Ex_nx rfl rfl
theorem rX9_when_61 (Q : Po) (h : Hp) (ls : List Value) (st : List Value) : Ex mX9_when Q 61 ls st h = Ex mX9_when Q 62 ls (.int 0 :: st) h := Ex_nx rfl rfl
theorem rX9_when_62 (Q : Po) (h : Hp) (l0 l1 l2 l3 : Value) (x : Int32) (st : List Value) : Ex mX9_when Q 62 [l0, l1, l2, l3] (.int x :: st) h = Ex mX9_when Q 63 [l0, l1, l2, .int x] st h := Ex_nx rfl rfl
theorem rX9_when_63 (Q : Po) (h : Hp) (l1 l2 l3 : Value) (x : Nat) (st : List Value) : Ex mX9_when Q 63 [.ref x, l1, l2, l3] st h = Ex mX9_when Q 64 [.ref x, l1, l2, l3] (.ref x :: st) h := Ex_nx rfl rfl
theorem rX9_when_64 (Q : Po) (h : Hp) (ls : List Value) (b : Nat) : Ex mX9_when Q 64 ls (.ref b :: []) h = (gK h b = 9 ∧ Ex mX9_takeBack (Cont mX9_when Q 64 ls 67 []) 0 [.ref b, .retAddr 0] [] h) := Ex_cg (n := 2) (as := [.ref b]) rfl rfl
theorem rX9_when_67 (Q : Po) (h : Hp) (l0 l1 l2 : Value) (x : Int32) (st : List Value) : Ex mX9_when Q 67 [l0, l1, l2, .int x] st h = Ex mX9_when Q 68 [l0, l1, l2, .int x] (.int x :: st) h := Ex_nx rfl rfl
theorem rX9_when_68 (Q : Po) (h : Hp) (ls : List Value) (st : List Value) (x : Int32) : Ex mX9_when Q 68 ls (.int x :: st) h = if x = 0 then Ex mX9_when Q 75 ls st h else Ex mX9_when Q 71 ls st h := Ex_br rfl rfl
theorem rX9_when_71 (Q : Po) (h : Hp) (l0 l1 l3 : Value) (x : Int32) (st : List Value) : Ex mX9_when Q 71 [l0, l1, .int x, l3] st h = Ex mX9_when Q 72 [l0, l1, .int x, l3] (.int x :: st) h := Ex_nx rfl rfl
theorem rX9_when_72 (Q : Po) (h : Hp) (ls : List Value) (st : List Value) : Ex mX9_when Q 72 ls st h = Ex mX9_when Q 77 ls st h := Ex_nx rfl rfl
theorem rX9_when_75 (Q : Po) (h : Hp) (ls : List Value) (st : List Value) : Ex mX9_when Q 75 ls st h = Ex mX9_when Q 77 ls (.int (-1000000) :: st) h := Ex_nx rfl rfl
theorem rX9_when_77 (Q : Po) (h : Hp) (ls : List Value) (x : Int32) : Ex mX9_when Q 77 ls [.int x] h = Q (.inl (some (.int x))) h := Ex_rt rfl rfl
theorem rX9_when_t (Q : Po) (h : Hp) (pc n a : Nat) (ls st : List Value) : Cont mX9_when Q pc ls n st (.inr a) h = Q (.inr a) h := rfl
/-! FishReadersModel.emptySet()I -/
def mX9_emptySet : Cd := ([(0, .inl (i_push (.int 0) 1)),
  (1, .inl (i_istore 1 2)),
  (2, .inl (i_push (.int 0) 3)),
  (3, .inl (i_istore 2 4)),
  (4, .inl (i_iload 2 5)),
  (5, .inl (i_aload 0 6)),
  (6, .inl (i_getf 81 [9] 9)),
  (9, .inl (i_push (.int 0) 10)),
  (10, .inl (i_iald 51 11)),
  (11, .inl (i_icmp (fun x y => y ≤ x) 42 14)),
  (14, .inl (i_iload 1 15)),
  (15, .inl (i_aload 0 16)),
  (16, .inl (i_getf 81 [9] 19)),
  (19, .inl (i_push (.int 8) 21)),
  (21, .inl (i_iload 2 22)),
  (22, .inl (i_bin (fun x y => x + y) 23)),
  (23, .inl (i_iald 51 24)),
  (24, .inl (i_if (fun x => ¬ x = 0) 33 27)),
  (27, .inl (i_push (.int 1) 28)),
  (28, .inl (i_iload 2 29)),
  (29, .inl (i_bin (fun x y => x <<< (y &&& 31)) 30)),
  (30, .inl (i_goto 34)),
  (33, .inl (i_push (.int 0) 34)),
  (34, .inl (i_bin (fun x y => x ||| y) 35)),
  (35, .inl (i_istore 1 36)),
  (36, .inl (i_iinc 2 1 39)),
  (39, .inl (i_goto 4)),
  (42, .inl (i_iload 1 43)),
  (43, .inl i_iret)], noH)
theorem rX9_emptySet_0 (Q : Po) (h : Hp) (ls : List Value) (st : List Value) : Ex mX9_emptySet Q 0 ls st h = Ex mX9_emptySet Q 1 ls (.int 0 :: st) h := Ex_nx rfl rfl
theorem rX9_emptySet_1 (Q : Po) (h : Hp) (l0 l1 l2 : Value) (x : Int32) (st : List Value) : Ex mX9_emptySet Q 1 [l0, l1, l2] (.int x :: st) h = Ex mX9_emptySet Q 2 [l0, .int x, l2] st h := Ex_nx rfl rfl
theorem rX9_emptySet_2 (Q : Po) (h : Hp) (ls : List Value) (st : List Value) : Ex mX9_emptySet Q 2 ls st h = Ex mX9_emptySet Q 3 ls (.int 0 :: st) h := Ex_nx rfl rfl
theorem rX9_emptySet_3 (Q : Po) (h : Hp) (l0 l1 l2 : Value) (x : Int32) (st : List Value) : Ex mX9_emptySet Q 3 [l0, l1, l2] (.int x :: st) h = Ex mX9_emptySet Q 4 [l0, l1, .int x] st h := Ex_nx rfl rfl
theorem rX9_emptySet_4 (Q : Po) (h : Hp) (l0 l1 : Value) (x : Int32) (st : List Value) : Ex mX9_emptySet Q 4 [l0, l1, .int x] st h = Ex mX9_emptySet Q 5 [l0, l1, .int x] (.int x :: st) h := Ex_nx rfl rfl
theorem rX9_emptySet_5 (Q : Po) (h : Hp) (l1 l2 : Value) (x : Nat) (st : List Value) : Ex mX9_emptySet Q 5 [.ref x, l1, l2] st h = Ex mX9_emptySet Q 6 [.ref x, l1, l2] (.ref x :: st) h := Ex_nx rfl rfl
theorem rX9_emptySet_6 (Q : Po) (h : Hp) (ls : List Value) (st : List Value) (a : Nat) : Ex mX9_emptySet Q 6 ls (.ref a :: st) h = (gK h a ∈ ([9] : List Nat) ∧ Ex mX9_emptySet Q 9 ls (gF h 81 a :: st) h) := Ex_gd rfl rfl
theorem rX9_emptySet_9 (Q : Po) (h : Hp) (ls : List Value) (st : List Value) : Ex mX9_emptySet Q 9 ls st h = Ex mX9_emptySet Q 10 ls (.int 0 :: st) h := Ex_nx rfl rfl
theorem rX9_emptySet_10 (Q : Po) (h : Hp) (ls : List Value) (st : List Value) (a : Nat) (i : Int32) : Ex mX9_emptySet Q 10 ls (.int i :: .ref a :: st) h = ((gK h a = 51 ∧ ¬ (i < 0 ∨ gL h a ≤ i.toNatClampNeg)) ∧ Ex mX9_emptySet Q 11 ls (.int (gI h a i.toNatClampNeg) :: st) h) := Ex_gd rfl rfl
theorem rX9_emptySet_11 (Q : Po) (h : Hp) (ls : List Value) (st : List Value) (x y : Int32) : Ex mX9_emptySet Q 11 ls (.int y :: .int x :: st) h = if y ≤ x then Ex mX9_emptySet Q 42 ls st h else Ex mX9_emptySet Q 14 ls st h := Ex_br rfl rfl
theorem rX9_emptySet_14 (Q : Po) (h : Hp) (l0 l2 : Value) (x : Int32) (st : List Value) : Ex mX9_emptySet Q 14 [l0, .int x, l2] st h = Ex mX9_emptySet Q 15 [l0, .int x, l2] (.int x :: st) h := Ex_nx rfl rfl
theorem rX9_emptySet_15 (Q : Po) (h : Hp) (l1 l2 : Value) (x : Nat) (st : List Value) : Ex mX9_emptySet Q 15 [.ref x, l1, l2] st h = Ex mX9_emptySet Q 16 [.ref x, l1, l2] (.ref x :: st) h := Ex_nx rfl rfl
theorem rX9_emptySet_16 (Q : Po) (h : Hp) (ls : List Value) (st : List Value) (a : Nat) : Ex mX9_emptySet Q 16 ls (.ref a :: st) h = (gK h a ∈ ([9] : List Nat) ∧ Ex mX9_emptySet Q 19 ls (gF h 81 a :: st) h) := Ex_gd rfl rfl
theorem rX9_emptySet_19 (Q : Po) (h : Hp) (ls : List Value) (st : List Value) : Ex mX9_emptySet Q 19 ls st h = Ex mX9_emptySet Q 21 ls (.int 8 :: st) h := Ex_nx rfl rfl
theorem rX9_emptySet_21 (Q : Po) (h : Hp) (l0 l1 : Value) (x : Int32) (st : List Value) : Ex mX9_emptySet Q 21 [l0, l1, .int x] st h = Ex mX9_emptySet Q 22 [l0, l1, .int x] (.int x :: st) h := Ex_nx rfl rfl
theorem rX9_emptySet_22 (Q : Po) (h : Hp) (ls : List Value) (st : List Value) (x y : Int32) : Ex mX9_emptySet Q 22 ls (.int y :: .int x :: st) h = Ex mX9_emptySet Q 23 ls (.int (x + y) :: st) h := Ex_nx rfl rfl
theorem rX9_emptySet_23 (Q : Po) (h : Hp) (ls : List Value) (st : List Value) (a : Nat) (i : Int32) : Ex mX9_emptySet Q 23 ls (.int i :: .ref a :: st) h = ((gK h a = 51 ∧ ¬ (i < 0 ∨ gL h a ≤ i.toNatClampNeg)) ∧ Ex mX9_emptySet Q 24 ls (.int (gI h a i.toNatClampNeg) :: st) h) := Ex_gd rfl rfl
theorem rX9_emptySet_24 (Q : Po) (h : Hp) (ls : List Value) (st : List Value) (x : Int32) : Ex mX9_emptySet Q 24 ls (.int x :: st) h = if ¬ x = 0 then Ex mX9_emptySet Q 33 ls st h else Ex mX9_emptySet Q 27 ls st h := Ex_br rfl rfl
theorem rX9_emptySet_27 (Q : Po) (h : Hp) (ls : List Value) (st : List Value) : Ex mX9_emptySet Q 27 ls st h = Ex mX9_emptySet Q 28 ls (.int 1 :: st) h := Ex_nx rfl rfl
theorem rX9_emptySet_28 (Q : Po) (h : Hp) (l0 l1 : Value) (x : Int32) (st : List Value) : Ex mX9_emptySet Q 28 [l0, l1, .int x] st h = Ex mX9_emptySet Q 29 [l0, l1, .int x] (.int x :: st) h := Ex_nx rfl rfl
theorem rX9_emptySet_29 (Q : Po) (h : Hp) (ls : List Value) (st : List Value) (x y : Int32) : Ex mX9_emptySet Q 29 ls (.int y :: .int x :: st) h = Ex mX9_emptySet Q 30 ls (.int (x <<< (y &&& 31)) :: st) h := Ex_nx rfl rfl
theorem rX9_emptySet_30 (Q : Po) (h : Hp) (ls : List Value) (st : List Value) : Ex mX9_emptySet Q 30 ls st h = Ex mX9_emptySet Q 34 ls st h := Ex_nx rfl rfl
theorem rX9_emptySet_33 (Q : Po) (h : Hp) (ls : List Value) (st : List Value) : Ex mX9_emptySet Q 33 ls st h = Ex mX9_emptySet Q 34 ls (.int 0 :: st) h := Ex_nx rfl rfl
theorem rX9_emptySet_34 (Q : Po) (h : Hp) (ls : List Value) (st : List Value) (x y : Int32) : Ex mX9_emptySet Q 34 ls (.int y :: .int x :: st) h = Ex mX9_emptySet Q 35 ls (.int (x ||| y) :: st) h := Ex_nx rfl rfl
theorem rX9_emptySet_35 (Q : Po) (h : Hp) (l0 l1 l2 : Value) (x : Int32) (st : List Value) : Ex mX9_emptySet Q 35 [l0, l1, l2] (.int x :: st) h = Ex mX9_emptySet Q 36 [l0, .int x, l2] st h := Ex_nx rfl rfl
theorem rX9_emptySet_36 (Q : Po) (h : Hp) (l0 l1 : Value) (x : Int32) (st : List Value) : Ex mX9_emptySet Q 36 [l0, l1, .int x] st h = Ex mX9_emptySet Q 39 [l0, l1, .int (x + 1)] st h := Ex_nx rfl rfl
theorem rX9_emptySet_39 (Q : Po) (h : Hp) (ls : List Value) (st : List Value) : Ex mX9_emptySet Q 39 ls st h = Ex mX9_emptySet Q 4 ls st h := Ex_nx rfl rfl
theorem rX9_emptySet_42 (Q : Po) (h : Hp) (l0 l2 : Value) (x : Int32) (st : List Value) : Ex mX9_emptySet Q 42 [l0, .int x, l2] st h = Ex mX9_emptySet Q 43 [l0, .int x, l2] (.int x :: st) h := Ex_nx rfl rfl
theorem rX9_emptySet_43 (Q : Po) (h : Hp) (ls : List Value) (x : Int32) : Ex mX9_emptySet Q 43 ls [.int x] h = Q (.inl (some (.int x))) h := Ex_rt rfl rfl
theorem rX9_emptySet_t (Q : Po) (h : Hp) (pc n a : Nat) (ls st : List Value) : Cont mX9_emptySet Q pc ls n st (.inr a) h = Q (.inr a) h := rfl
/-! FishReadersModel.least(I)I -/
def mX9_least : Cd := ([(0, .inl (i_push (.int 0) 1)),
  (1, .inl (i_istore 1 2)),
  (2, .inl (i_iload 0 3)),
  (3, .inl (i_iload 1 4)),
  (4, .inr (c_S 2 7 2 (Mt mX9_has 2))),
  (7, .inl (i_if (fun x => ¬ x = 0) 16 10)),
  (10, .inl (i_iinc 1 1 13)),
  (13, .inl (i_goto 2)),
  (16, .inl (i_iload 1 17)),
  (17, .inl i_iret)], noH)
theorem rX9_least_0 (Q : Po) (h : Hp) (ls : List Value) (st : List Value) : Ex mX9_least Q 0 ls st h = Ex mX9_least Q 1 ls (.int 0 :: st) h := Ex_nx rfl rfl
theorem rX9_least_1 (Q : Po) (h : Hp) (l0 l1 : Value) (x : Int32) (st : List Value) : Ex mX9_least Q 1 [l0, l1] (.int x :: st) h = Ex mX9_least Q 2 [l0, .int x] st h := Ex_nx rfl rfl
theorem rX9_least_2 (Q : Po) (h : Hp) (l1 : Value) (x : Int32) (st : List Value) : Ex mX9_least Q 2 [.int x, l1] st h = Ex mX9_least Q 3 [.int x, l1] (.int x :: st) h := Ex_nx rfl rfl
theorem rX9_least_3 (Q : Po) (h : Hp) (l0 : Value) (x : Int32) (st : List Value) : Ex mX9_least Q 3 [l0, .int x] st h = Ex mX9_least Q 4 [l0, .int x] (.int x :: st) h := Ex_nx rfl rfl
theorem rX9_least_4 (Q : Po) (h : Hp) (ls : List Value) (a0 : Int32) (a1 : Int32) : Ex mX9_least Q 4 ls (.int a1 :: .int a0 :: []) h = Ex mX9_has (Cont mX9_least Q 4 ls 7 []) 0 [.int a0, .int a1] [] h := Ex_cl (n := 2) (as := [.int a0, .int a1]) rfl rfl
theorem rX9_least_7 (Q : Po) (h : Hp) (ls : List Value) (st : List Value) (x : Int32) : Ex mX9_least Q 7 ls (.int x :: st) h = if ¬ x = 0 then Ex mX9_least Q 16 ls st h else Ex mX9_least Q 10 ls st h := Ex_br rfl rfl
theorem rX9_least_10 (Q : Po) (h : Hp) (l0 : Value) (x : Int32) (st : List Value) : Ex mX9_least Q 10 [l0, .int x] st h = Ex mX9_least Q 13 [l0, .int (x + 1)] st h := Ex_nx rfl rfl
theorem rX9_least_13 (Q : Po) (h : Hp) (ls : List Value) (st : List Value) : Ex mX9_least Q 13 ls st h = Ex mX9_least Q 2 ls st h := Ex_nx rfl rfl
theorem rX9_least_16 (Q : Po) (h : Hp) (l0 : Value) (x : Int32) (st : List Value) : Ex mX9_least Q 16 [l0, .int x] st h = Ex mX9_least Q 17 [l0, .int x] (.int x :: st) h := Ex_nx rfl rfl
theorem rX9_least_17 (Q : Po) (h : Hp) (ls : List Value) (x : Int32) : Ex mX9_least Q 17 ls [.int x] h = Q (.inl (some (.int x))) h := Ex_rt rfl rfl
theorem rX9_least_t (Q : Po) (h : Hp) (pc n a : Nat) (ls st : List Value) : Cont mX9_least Q pc ls n st (.inr a) h = Q (.inr a) h := rfl
/-! FishReadersModel.first(I)I -/
def mX9_first : Cd := ([(0, .inl (i_aload 0 1)),
  (1, .inl (i_getf 78 [9] 4)),
  (4, .inl (i_if (fun x => ¬ x = 0) 10 7)),
  (7, .inl (i_push (.int (-1000002)) 9)),
  (9, .inl i_iret),
  (10, .inl (i_iload 1 11)),
  (11, .inr (c_S 1 14 1 (Mt mX9_isWhat 1))),
  (14, .inl (i_if (fun x => ¬ x = 0) 20 17)),
  (17, .inl (i_push (.int (-1000001)) 19)),
  (19, .inl i_iret),
  (20, .inl (i_aload 0 21)),
  (21, .inr (c_V 0 24 2 9 (Mt mX9_putAside 2))),
  (24, .inl (i_aload 0 25)),
  (25, .inr (c_V 0 28 3 9 (Mt mX9_emptySet 3))),
  (28, .inl (i_istore 2 29)),
  (29, .inl (i_push (.int 0) 30)),
  (30, .inl (i_istore 3 31)),
  (31, .inl (i_aload 0 32)),
  (32, .inr (c_V 0 35 3 9 (Mt mX9_emptySet 3))),
  (35, .inl (i_iload 2 36)),
  (36, .inl (i_icmp (fun x y => ¬ x = y) 55 39)),
  (39, .inl (i_iload 3 40)),
  (40, .inl (i_push (.int 60) 42)),
  (42, .inl (i_icmp (fun x y => y ≤ x) 55 45)),
  (45, .inl (i_aload 0 46)),
  (46, .inr (c_V 0 49 2 9 (Mt mX9_oneNight 2))),
  (49, .inl (i_iinc 3 1 52)),
  (52, .inl (i_goto 31)),
  (55, .inl (i_aload 0 56)),
  (56, .inr (c_V 0 59 3 9 (Mt mX9_emptySet 3))),
  (59, .inl (i_iload 2 60)),
  (60, .inl (i_push (.int (-1)) 61)),
  (61, .inl (i_bin (fun x y => x ^^^ y) 62)),
  (62, .inl (i_bin (fun x y => x &&& y) 63)),
  (63, .inl (i_istore 4 65)),
  (65, .inl (i_aload 0 66)),
  (66, .inr (c_V 0 69 2 9 (Mt mX9_takeBack 2))),
  (69, .inl (i_iload 4 71)),
  (71, .inl (i_if (fun x => ¬ x = 0) 79 74)),
  (74, .inl (i_push (.int (-1000000)) 76)),
  (76, .inl (i_goto 92)),
  (79, .inl (i_iload 1 80)),
  (80, .inl (i_if (fun x => ¬ x = 0) 91 83)),
  (83, .inl (i_iload 4 85)),
  (85, .inr (c_S 1 88 2 (Mt mX9_least 2))),
  (88, .inl (i_goto 92)),
  (91, .inl (i_iload 3 92)),
  (92, .inl i_iret)], noH)
theorem rX9_first_0 (Q : Po) (h : Hp) (l1 l2 l3 l4 : Value) (x : Nat) (st : List Value) : Ex mX9_first Q 0 [.ref x, l1, l2, l3, l4] st h = Ex mX9_first Q 1 [.ref x, l1, l2, l3, l4] (.ref x :: st) h := Ex_nx rfl rfl
theorem rX9_first_1 (Q : Po) (h : Hp) (ls : List Value) (st : List Value) (a : Nat) : Ex mX9_first Q 1 ls (.ref a :: st) h = (gK h a ∈ ([9] : List Nat) ∧ Ex mX9_first Q 4 ls (gF h 78 a :: st) h) := Ex_gd rfl rfl
theorem rX9_first_4 (Q : Po) (h : Hp) (ls : List Value) (st : List Value) (x : Int32) : Ex mX9_first Q 4 ls (.int x :: st) h = if ¬ x = 0 then Ex mX9_first Q 10 ls st h else Ex mX9_first Q 7 ls st h := Ex_br rfl rfl
theorem rX9_first_7 (Q : Po) (h : Hp) (ls : List Value) (st : List Value) : Ex mX9_first Q 7 ls st h = Ex mX9_first Q 9 ls (.int (-1000002) :: st) h := Ex_nx rfl rfl
theorem rX9_first_9 (Q : Po) (h : Hp) (ls : List Value) (x : Int32) : Ex mX9_first Q 9 ls [.int x] h = Q (.inl (some (.int x))) h := Ex_rt rfl rfl
theorem rX9_first_10 (Q : Po) (h : Hp) (l0 l2 l3 l4 : Value) (x : Int32) (st : List Value) : Ex mX9_first Q 10 [l0, .int x, l2, l3, l4] st h = Ex mX9_first Q 11 [l0, .int x, l2, l3, l4] (.int x :: st) h := Ex_nx rfl rfl
theorem rX9_first_11 (Q : Po) (h : Hp) (ls : List Value) (a0 : Int32) : Ex mX9_first Q 11 ls (.int a0 :: []) h = Ex mX9_isWhat (Cont mX9_first Q 11 ls 14 []) 0 [.int a0] [] h := Ex_cl (n := 1) (as := [.int a0]) rfl rfl
theorem rX9_first_14 (Q : Po) (h : Hp) (ls : List Value) (st : List Value) (x : Int32) : Ex mX9_first Q 14 ls (.int x :: st) h = if ¬ x = 0 then Ex mX9_first Q 20 ls st h else Ex mX9_first Q 17 ls st h := Ex_br rfl rfl
theorem rX9_first_17 (Q : Po) (h : Hp) (ls : List Value) (st : List Value) : Ex mX9_first Q 17 ls st h = Ex mX9_first Q 19 ls (.int (-1000001) :: st) h := Ex_nx rfl rfl
theorem rX9_first_19 (Q : Po) (h : Hp) (ls : List Value) (x : Int32) : Ex mX9_first Q 19 ls [.int x] h = Q (.inl (some (.int x))) h := Ex_rt rfl rfl
theorem rX9_first_20 (Q : Po) (h : Hp) (l1 l2 l3 l4 : Value) (x : Nat) (st : List Value) : Ex mX9_first Q 20 [.ref x, l1, l2, l3, l4] st h = Ex mX9_first Q 21 [.ref x, l1, l2, l3, l4] (.ref x :: st) h := Ex_nx rfl rfl
theorem rX9_first_21 (Q : Po) (h : Hp) (ls : List Value) (b : Nat) : Ex mX9_first Q 21 ls (.ref b :: []) h = (gK h b = 9 ∧ Ex mX9_putAside (Cont mX9_first Q 21 ls 24 []) 0 [.ref b, .retAddr 0] [] h) := Ex_cg (n := 2) (as := [.ref b]) rfl rfl
theorem rX9_first_24 (Q : Po) (h : Hp) (l1 l2 l3 l4 : Value) (x : Nat) (st : List Value) : Ex mX9_first Q 24 [.ref x, l1, l2, l3, l4] st h = Ex mX9_first Q 25 [.ref x, l1, l2, l3, l4] (.ref x :: st) h := Ex_nx rfl rfl
theorem rX9_first_25 (Q : Po) (h : Hp) (ls : List Value) (b : Nat) : Ex mX9_first Q 25 ls (.ref b :: []) h = (gK h b = 9 ∧ Ex mX9_emptySet (Cont mX9_first Q 25 ls 28 []) 0 [.ref b, .retAddr 0, .retAddr 0] [] h) := Ex_cg (n := 3) (as := [.ref b]) rfl rfl
theorem rX9_first_28 (Q : Po) (h : Hp) (l0 l1 l2 l3 l4 : Value) (x : Int32) (st : List Value) : Ex mX9_first Q 28 [l0, l1, l2, l3, l4] (.int x :: st) h = Ex mX9_first Q 29 [l0, l1, .int x, l3, l4] st h := Ex_nx rfl rfl
theorem rX9_first_29 (Q : Po) (h : Hp) (ls : List Value) (st : List Value) : Ex mX9_first Q 29 ls st h = Ex mX9_first Q 30 ls (.int 0 :: st) h := Ex_nx rfl rfl
theorem rX9_first_30 (Q : Po) (h : Hp) (l0 l1 l2 l3 l4 : Value) (x : Int32) (st : List Value) : Ex mX9_first Q 30 [l0, l1, l2, l3, l4] (.int x :: st) h = Ex mX9_first Q 31 [l0, l1, l2, .int x, l4] st h := Ex_nx rfl rfl
theorem rX9_first_31 (Q : Po) (h : Hp) (l1 l2 l3 l4 : Value) (x : Nat) (st : List Value) : Ex mX9_first Q 31 [.ref x, l1, l2, l3, l4] st h = Ex mX9_first Q 32 [.ref x, l1, l2, l3, l4] (.ref x :: st) h := Ex_nx rfl rfl
theorem rX9_first_32 (Q : Po) (h : Hp) (ls : List Value) (b : Nat) : Ex mX9_first Q 32 ls (.ref b :: []) h = (gK h b = 9 ∧ Ex mX9_emptySet (Cont mX9_first Q 32 ls 35 []) 0 [.ref b, .retAddr 0, .retAddr 0] [] h) := Ex_cg (n := 3) (as := [.ref b]) rfl rfl
theorem rX9_first_35 (Q : Po) (h : Hp) (l0 l1 l3 l4 : Value) (x : Int32) (st : List Value) : Ex mX9_first Q 35 [l0, l1, .int x, l3, l4] st h = Ex mX9_first Q 36 [l0, l1, .int x, l3, l4] (.int x :: st) h := Ex_nx rfl rfl
theorem rX9_first_36 (Q : Po) (h : Hp) (ls : List Value) (st : List Value) (x y : Int32) : Ex mX9_first Q 36 ls (.int y :: .int x :: st) h = if ¬ x = y then Ex mX9_first Q 55 ls st h else Ex mX9_first Q 39 ls st h := Ex_br rfl rfl
theorem rX9_first_39 (Q : Po) (h : Hp) (l0 l1 l2 l4 : Value) (x : Int32) (st : List Value) : Ex mX9_first Q 39 [l0, l1, l2, .int x, l4] st h = Ex mX9_first Q 40 [l0, l1, l2, .int x, l4] (.int x :: st) h := Ex_nx rfl rfl
theorem rX9_first_40 (Q : Po) (h : Hp) (ls : List Value) (st : List Value) : Ex mX9_first Q 40 ls st h = Ex mX9_first Q 42 ls (.int 60 :: st) h := Ex_nx rfl rfl
theorem rX9_first_42 (Q : Po) (h : Hp) (ls : List Value) (st : List Value) (x y : Int32) : Ex mX9_first Q 42 ls (.int y :: .int x :: st) h = if y ≤ x then Ex mX9_first Q 55 ls st h else Ex mX9_first Q 45 ls st h := Ex_br rfl rfl
theorem rX9_first_45 (Q : Po) (h : Hp) (l1 l2 l3 l4 : Value) (x : Nat) (st : List Value) : Ex mX9_first Q 45 [.ref x, l1, l2, l3, l4] st h = Ex mX9_first Q 46 [.ref x, l1, l2, l3, l4] (.ref x :: st) h := Ex_nx rfl rfl
theorem rX9_first_46 (Q : Po) (h : Hp) (ls : List Value) (b : Nat) : Ex mX9_first Q 46 ls (.ref b :: []) h = (gK h b = 9 ∧ Ex mX9_oneNight (Cont mX9_first Q 46 ls 49 []) 0 [.ref b, .retAddr 0] [] h) := Ex_cg (n := 2) (as := [.ref b]) rfl rfl
theorem rX9_first_49 (Q : Po) (h : Hp) (l0 l1 l2 l4 : Value) (x : Int32) (st : List Value) : Ex mX9_first Q 49 [l0, l1, l2, .int x, l4] st h = Ex mX9_first Q 52 [l0, l1, l2, .int (x + 1), l4] st h := Ex_nx rfl rfl
theorem rX9_first_52 (Q : Po) (h : Hp) (ls : List Value) (st : List Value) : Ex mX9_first Q 52 ls st h = Ex mX9_first Q 31 ls st h := Ex_nx rfl rfl
theorem rX9_first_55 (Q : Po) (h : Hp) (l1 l2 l3 l4 : Value) (x : Nat) (st : List Value) : Ex mX9_first Q 55 [.ref x, l1, l2, l3, l4] st h = Ex mX9_first Q 56 [.ref x, l1, l2, l3, l4] (.ref x :: st) h := Ex_nx rfl rfl
theorem rX9_first_56 (Q : Po) (h : Hp) (ls : List Value) (b : Nat) : Ex mX9_first Q 56 ls (.ref b :: []) h = (gK h b = 9 ∧ Ex mX9_emptySet (Cont mX9_first Q 56 ls 59 []) 0 [.ref b, .retAddr 0, .retAddr 0] [] h) := Ex_cg (n := 3) (as := [.ref b]) rfl rfl
theorem rX9_first_59 (Q : Po) (h : Hp) (l0 l1 l3 l4 : Value) (x : Int32) (st : List Value) : Ex mX9_first Q 59 [l0, l1, .int x, l3, l4] st h = Ex mX9_first Q 60 [l0, l1, .int x, l3, l4] (.int x :: st) h := Ex_nx rfl rfl
theorem rX9_first_60 (Q : Po) (h : Hp) (ls : List Value) (st : List Value) : Ex mX9_first Q 60 ls st h = Ex mX9_first Q 61 ls (.int (-1) :: st) h := Ex_nx rfl rfl
theorem rX9_first_61 (Q : Po) (h : Hp) (ls : List Value) (st : List Value) (x y : Int32) : Ex mX9_first Q 61 ls (.int y :: .int x :: st) h = Ex mX9_first Q 62 ls (.int (x ^^^ y) :: st) h := Ex_nx rfl rfl
theorem rX9_first_62 (Q : Po) (h : Hp) (ls : List Value) (st : List Value) (x y : Int32) : Ex mX9_first Q 62 ls (.int y :: .int x :: st) h = Ex mX9_first Q 63 ls (.int (x &&& y) :: st) h := Ex_nx rfl rfl
theorem rX9_first_63 (Q : Po) (h : Hp) (l0 l1 l2 l3 l4 : Value) (x : Int32) (st : List Value) : Ex mX9_first Q 63 [l0, l1, l2, l3, l4] (.int x :: st) h = Ex mX9_first Q 65 [l0, l1, l2, l3, .int x] st h := Ex_nx rfl rfl
theorem rX9_first_65 (Q : Po) (h : Hp) (l1 l2 l3 l4 : Value) (x : Nat) (st : List Value) : Ex mX9_first Q 65 [.ref x, l1, l2, l3, l4] st h = Ex mX9_first Q 66 [.ref x, l1, l2, l3, l4] (.ref x :: st) h := Ex_nx rfl rfl
theorem rX9_first_66 (Q : Po) (h : Hp) (ls : List Value) (b : Nat) : Ex mX9_first Q 66 ls (.ref b :: []) h = (gK h b = 9 ∧ Ex mX9_takeBack (Cont mX9_first Q 66 ls 69 []) 0 [.ref b, .retAddr 0] [] h) := Ex_cg (n := 2) (as := [.ref b]) rfl rfl
theorem rX9_first_69 (Q : Po) (h : Hp) (l0 l1 l2 l3 : Value) (x : Int32) (st : List Value) : Ex mX9_first Q 69 [l0, l1, l2, l3, .int x] st h = Ex mX9_first Q 71 [l0, l1, l2, l3, .int x] (.int x :: st) h := Ex_nx rfl rfl
theorem rX9_first_71 (Q : Po) (h : Hp) (ls : List Value) (st : List Value) (x : Int32) : Ex mX9_first Q 71 ls (.int x :: st) h = if ¬ x = 0 then Ex mX9_first Q 79 ls st h else Ex mX9_first Q 74 ls st h := Ex_br rfl rfl
theorem rX9_first_74 (Q : Po) (h : Hp) (ls : List Value) (st : List Value) : Ex mX9_first Q 74 ls st h = Ex mX9_first Q 76 ls (.int (-1000000) :: st) h := Ex_nx rfl rfl
theorem rX9_first_76 (Q : Po) (h : Hp) (ls : List Value) (st : List Value) : Ex mX9_first Q 76 ls st h = Ex mX9_first Q 92 ls st h := Ex_nx rfl rfl
theorem rX9_first_79 (Q : Po) (h : Hp) (l0 l2 l3 l4 : Value) (x : Int32) (st : List Value) : Ex mX9_first Q 79 [l0, .int x, l2, l3, l4] st h = Ex mX9_first Q 80 [l0, .int x, l2, l3, l4] (.int x :: st) h := Ex_nx rfl rfl
theorem rX9_first_80 (Q : Po) (h : Hp) (ls : List Value) (st : List Value) (x : Int32) : Ex mX9_first Q 80 ls (.int x :: st) h = if ¬ x = 0 then Ex mX9_first Q 91 ls st h else Ex mX9_first Q 83 ls st h := Ex_br rfl rfl
theorem rX9_first_83 (Q : Po) (h : Hp) (l0 l1 l2 l3 : Value) (x : Int32) (st : List Value) : Ex mX9_first Q 83 [l0, l1, l2, l3, .int x] st h = Ex mX9_first Q 85 [l0, l1, l2, l3, .int x] (.int x :: st) h := Ex_nx rfl rfl
theorem rX9_first_85 (Q : Po) (h : Hp) (ls : List Value) (a0 : Int32) : Ex mX9_first Q 85 ls (.int a0 :: []) h = Ex mX9_least (Cont mX9_first Q 85 ls 88 []) 0 [.int a0, .retAddr 0] [] h := Ex_cl (n := 2) (as := [.int a0]) rfl rfl
theorem rX9_first_88 (Q : Po) (h : Hp) (ls : List Value) (st : List Value) : Ex mX9_first Q 88 ls st h = Ex mX9_first Q 92 ls st h := Ex_nx rfl rfl
theorem rX9_first_91 (Q : Po) (h : Hp) (l0 l1 l2 l4 : Value) (x : Int32) (st : List Value) : Ex mX9_first Q 91 [l0, l1, l2, .int x, l4] st h = Ex mX9_first Q 92 [l0, l1, l2, .int x, l4] (.int x :: st) h := Ex_nx rfl rfl
theorem rX9_first_92 (Q : Po) (h : Hp) (ls : List Value) (x : Int32) : Ex mX9_first Q 92 ls [.int x] h = Q (.inl (some (.int x))) h := Ex_rt rfl rfl
theorem rX9_first_t (Q : Po) (h : Hp) (pc n a : Nat) (ls st : List Value) : Cont mX9_first Q pc ls n st (.inr a) h = Q (.inr a) h := rfl
/-! FishReadersModel.hole(II)I -/
def mX9_hole : Cd := ([(0, .inl (i_aload 0 1)),
  (1, .inl (i_iload 1 2)),
  (2, .inr (c_V 1 5 2 9 (Mt mX9_isFish 2))),
  (5, .inl (i_if (fun x => x = 0) 20 8)),
  (8, .inl (i_iload 2 9)),
  (9, .inl (i_i2l 10)),
  (10, .inl (i_push (.long 0) 11)),
  (11, .inl (i_push (.long 60) 14)),
  (14, .inr (c_S 3 17 6 (Mt mX9_in 6))),
  (17, .inl (i_if (fun x => ¬ x = 0) 23 20)),
  (20, .inl (i_push (.int (-1000001)) 22)),
  (22, .inl i_iret),
  (23, .inl (i_aload 0 24)),
  (24, .inr (c_V 0 27 2 9 (Mt mX9_putAside 2))),
  (27, .inl (i_aload 0 28)),
  (28, .inl (i_getf 103 [9] 31)),
  (31, .inl (i_iload 1 32)),
  (32, .inl (i_push (.int 0) 33)),
  (33, .inl (i_iast 51 (fun x => x) 34)),
  (34, .inl (i_aload 0 35)),
  (35, .inl (i_iload 2 36)),
  (36, .inr (c_V 1 39 3 9 (Mt mX9_goOn 3))),
  (39, .inl (i_aload 0 40)),
  (40, .inr (c_V 0 43 2 9 (Mt mX9_takeBack 2))),
  (43, .inl (i_aload 0 44)),
  (44, .inl (i_getf 103 [9] 47)),
  (47, .inl (i_iload 1 48)),
  (48, .inl (i_iald 51 49)),
  (49, .inl i_iret)], noH)
theorem rX9_hole_0 (Q : Po) (h : Hp) (l1 l2 : Value) (x : Nat) (st : List Value) : Ex mX9_hole Q 0 [.ref x, l1, l2] st h = Ex mX9_hole Q 1 [.ref x, l1, l2] (.ref x :: st) h := Ex_nx rfl rfl
theorem rX9_hole_1 (Q : Po) (h : Hp) (l0 l2 : Value) (x : Int32) (st : List Value) : Ex mX9_hole Q 1 [l0, .int x, l2] st h = Ex mX9_hole Q 2 [l0, .int x, l2] (.int x :: st) h := Ex_nx rfl rfl
theorem rX9_hole_2 (Q : Po) (h : Hp) (ls : List Value) (a0 : Int32) (b : Nat) : Ex mX9_hole Q 2 ls (.int a0 :: .ref b :: []) h = (gK h b = 9 ∧ Ex mX9_isFish (Cont mX9_hole Q 2 ls 5 []) 0 [.ref b, .int a0] [] h) := Ex_cg (n := 2) (as := [.ref b, .int a0]) rfl rfl
theorem rX9_hole_5 (Q : Po) (h : Hp) (ls : List Value) (st : List Value) (x : Int32) : Ex mX9_hole Q 5 ls (.int x :: st) h = if x = 0 then Ex mX9_hole Q 20 ls st h else Ex mX9_hole Q 8 ls st h := Ex_br rfl rfl
theorem rX9_hole_8 (Q : Po) (h : Hp) (l0 l1 : Value) (x : Int32) (st : List Value) : Ex mX9_hole Q 8 [l0, l1, .int x] st h = Ex mX9_hole Q 9 [l0, l1, .int x] (.int x :: st) h := Ex_nx rfl rfl
theorem rX9_hole_9 (Q : Po) (h : Hp) (ls : List Value) (st : List Value) (x : Int32) : Ex mX9_hole Q 9 ls (.int x :: st) h = Ex mX9_hole Q 10 ls (.long x.toInt64 :: st) h := Ex_nx rfl rfl
theorem rX9_hole_10 (Q : Po) (h : Hp) (ls : List Value) (st : List Value) : Ex mX9_hole Q 10 ls st h = Ex mX9_hole Q 11 ls (.long 0 :: st) h := Ex_nx rfl rfl
theorem rX9_hole_11 (Q : Po) (h : Hp) (ls : List Value) (st : List Value) : Ex mX9_hole Q 11 ls st h = Ex mX9_hole Q 14 ls (.long 60 :: st) h := Ex_nx rfl rfl
theorem rX9_hole_14 (Q : Po) (h : Hp) (ls : List Value) (a0 : Int64) (a1 : Int64) (a2 : Int64) : Ex mX9_hole Q 14 ls (.long a2 :: .long a1 :: .long a0 :: []) h = Ex mX9_in (Cont mX9_hole Q 14 ls 17 []) 0 [.long a0, .retAddr 1, .long a1, .retAddr 1, .long a2, .retAddr 1] [] h := Ex_cl (n := 6) (as := [.long a0, .long a1, .long a2]) rfl rfl
theorem rX9_hole_17 (Q : Po) (h : Hp) (ls : List Value) (st : List Value) (x : Int32) : Ex mX9_hole Q 17 ls (.int x :: st) h = if ¬ x = 0 then Ex mX9_hole Q 23 ls st h else Ex mX9_hole Q 20 ls st h := Ex_br rfl rfl
theorem rX9_hole_20 (Q : Po) (h : Hp) (ls : List Value) (st : List Value) : Ex mX9_hole Q 20 ls st h = Ex mX9_hole Q 22 ls (.int (-1000001) :: st) h := Ex_nx rfl rfl
theorem rX9_hole_22 (Q : Po) (h : Hp) (ls : List Value) (x : Int32) : Ex mX9_hole Q 22 ls [.int x] h = Q (.inl (some (.int x))) h := Ex_rt rfl rfl
theorem rX9_hole_23 (Q : Po) (h : Hp) (l1 l2 : Value) (x : Nat) (st : List Value) : Ex mX9_hole Q 23 [.ref x, l1, l2] st h = Ex mX9_hole Q 24 [.ref x, l1, l2] (.ref x :: st) h := Ex_nx rfl rfl
theorem rX9_hole_24 (Q : Po) (h : Hp) (ls : List Value) (b : Nat) : Ex mX9_hole Q 24 ls (.ref b :: []) h = (gK h b = 9 ∧ Ex mX9_putAside (Cont mX9_hole Q 24 ls 27 []) 0 [.ref b, .retAddr 0] [] h) := Ex_cg (n := 2) (as := [.ref b]) rfl rfl
theorem rX9_hole_27 (Q : Po) (h : Hp) (l1 l2 : Value) (x : Nat) (st : List Value) : Ex mX9_hole Q 27 [.ref x, l1, l2] st h = Ex mX9_hole Q 28 [.ref x, l1, l2] (.ref x :: st) h := Ex_nx rfl rfl
theorem rX9_hole_28 (Q : Po) (h : Hp) (ls : List Value) (st : List Value) (a : Nat) : Ex mX9_hole Q 28 ls (.ref a :: st) h = (gK h a ∈ ([9] : List Nat) ∧ Ex mX9_hole Q 31 ls (gF h 103 a :: st) h) := Ex_gd rfl rfl
theorem rX9_hole_31 (Q : Po) (h : Hp) (l0 l2 : Value) (x : Int32) (st : List Value) : Ex mX9_hole Q 31 [l0, .int x, l2] st h = Ex mX9_hole Q 32 [l0, .int x, l2] (.int x :: st) h := Ex_nx rfl rfl
theorem rX9_hole_32 (Q : Po) (h : Hp) (ls : List Value) (st : List Value) : Ex mX9_hole Q 32 ls st h = Ex mX9_hole Q 33 ls (.int 0 :: st) h := Ex_nx rfl rfl
theorem rX9_hole_33 (Q : Po) (h : Hp) (ls : List Value) (st : List Value) (a : Nat) (i x : Int32) : Ex mX9_hole Q 33 ls (.int x :: .int i :: .ref a :: st) h = ((gK h a = 51 ∧ ¬ (i < 0 ∨ gL h a ≤ i.toNatClampNeg)) ∧ Ex mX9_hole Q 34 ls st (pI h a i.toNatClampNeg (x))) := Ex_gd rfl rfl
theorem rX9_hole_34 (Q : Po) (h : Hp) (l1 l2 : Value) (x : Nat) (st : List Value) : Ex mX9_hole Q 34 [.ref x, l1, l2] st h = Ex mX9_hole Q 35 [.ref x, l1, l2] (.ref x :: st) h := Ex_nx rfl rfl
theorem rX9_hole_35 (Q : Po) (h : Hp) (l0 l1 : Value) (x : Int32) (st : List Value) : Ex mX9_hole Q 35 [l0, l1, .int x] st h = Ex mX9_hole Q 36 [l0, l1, .int x] (.int x :: st) h := Ex_nx rfl rfl
theorem rX9_hole_36 (Q : Po) (h : Hp) (ls : List Value) (a0 : Int32) (b : Nat) : Ex mX9_hole Q 36 ls (.int a0 :: .ref b :: []) h = (gK h b = 9 ∧ Ex mX9_goOn (Cont mX9_hole Q 36 ls 39 []) 0 [.ref b, .int a0, .retAddr 0] [] h) := Ex_cg (n := 3) (as := [.ref b, .int a0]) rfl rfl
theorem rX9_hole_39 (Q : Po) (h : Hp) (l1 l2 : Value) (x : Nat) (st : List Value) : Ex mX9_hole Q 39 [.ref x, l1, l2] st h = Ex mX9_hole Q 40 [.ref x, l1, l2] (.ref x :: st) h := Ex_nx rfl rfl
theorem rX9_hole_40 (Q : Po) (h : Hp) (ls : List Value) (b : Nat) : Ex mX9_hole Q 40 ls (.ref b :: []) h = (gK h b = 9 ∧ Ex mX9_takeBack (Cont mX9_hole Q 40 ls 43 []) 0 [.ref b, .retAddr 0] [] h) := Ex_cg (n := 2) (as := [.ref b]) rfl rfl
theorem rX9_hole_43 (Q : Po) (h : Hp) (l1 l2 : Value) (x : Nat) (st : List Value) : Ex mX9_hole Q 43 [.ref x, l1, l2] st h = Ex mX9_hole Q 44 [.ref x, l1, l2] (.ref x :: st) h := Ex_nx rfl rfl
theorem rX9_hole_44 (Q : Po) (h : Hp) (ls : List Value) (st : List Value) (a : Nat) : Ex mX9_hole Q 44 ls (.ref a :: st) h = (gK h a ∈ ([9] : List Nat) ∧ Ex mX9_hole Q 47 ls (gF h 103 a :: st) h) := Ex_gd rfl rfl
theorem rX9_hole_47 (Q : Po) (h : Hp) (l0 l2 : Value) (x : Int32) (st : List Value) : Ex mX9_hole Q 47 [l0, .int x, l2] st h = Ex mX9_hole Q 48 [l0, .int x, l2] (.int x :: st) h := Ex_nx rfl rfl
theorem rX9_hole_48 (Q : Po) (h : Hp) (ls : List Value) (st : List Value) (a : Nat) (i : Int32) : Ex mX9_hole Q 48 ls (.int i :: .ref a :: st) h = ((gK h a = 51 ∧ ¬ (i < 0 ∨ gL h a ≤ i.toNatClampNeg)) ∧ Ex mX9_hole Q 49 ls (.int (gI h a i.toNatClampNeg) :: st) h) := Ex_gd rfl rfl
theorem rX9_hole_49 (Q : Po) (h : Hp) (ls : List Value) (x : Int32) : Ex mX9_hole Q 49 ls [.int x] h = Q (.inl (some (.int x))) h := Ex_rt rfl rfl
theorem rX9_hole_t (Q : Po) (h : Hp) (pc n a : Nat) (ls st : List Value) : Cont mX9_hole Q pc ls n st (.inr a) h = Q (.inr a) h := rfl
/-! FishReadersModel.pagesOf(I)I -/
def mX9_pagesOf : Cd := ([(0, .inl (i_push (.int 0) 1)),
  (1, .inl (i_istore 2 2)),
  (2, .inl (i_push (.int 0) 3)),
  (3, .inl (i_istore 3 4)),
  (4, .inl (i_iload 3 5)),
  (5, .inl (i_aload 0 6)),
  (6, .inl (i_getf 81 [9] 9)),
  (9, .inl (i_push (.int 0) 10)),
  (10, .inl (i_iald 51 11)),
  (11, .inl (i_icmp (fun x y => y ≤ x) 44 14)),
  (14, .inl (i_iload 2 15)),
  (15, .inl (i_iload 1 16)),
  (16, .inl (i_iload 3 17)),
  (17, .inr (c_S 2 20 2 (Mt mX9_has 2))),
  (20, .inl (i_if (fun x => x = 0) 35 23)),
  (23, .inl (i_aload 0 24)),
  (24, .inl (i_getf 81 [9] 27)),
  (27, .inl (i_push (.int 8) 29)),
  (29, .inl (i_iload 3 30)),
  (30, .inl (i_bin (fun x y => x + y) 31)),
  (31, .inl (i_iald 51 32)),
  (32, .inl (i_goto 36)),
  (35, .inl (i_push (.int 0) 36)),
  (36, .inl (i_bin (fun x y => x + y) 37)),
  (37, .inl (i_istore 2 38)),
  (38, .inl (i_iinc 3 1 41)),
  (41, .inl (i_goto 4)),
  (44, .inl (i_iload 2 45)),
  (45, .inl i_iret)], noH)
theorem rX9_pagesOf_0 (Q : Po) (h : Hp) (ls : List Value) (st : List Value) : Ex mX9_pagesOf Q 0 ls st h = Ex mX9_pagesOf Q 1 ls (.int 0 :: st) h := Ex_nx rfl rfl
theorem rX9_pagesOf_1 (Q : Po) (h : Hp) (l0 l1 l2 l3 : Value) (x : Int32) (st : List Value) : Ex mX9_pagesOf Q 1 [l0, l1, l2, l3] (.int x :: st) h = Ex mX9_pagesOf Q 2 [l0, l1, .int x, l3] st h := Ex_nx rfl rfl
theorem rX9_pagesOf_2 (Q : Po) (h : Hp) (ls : List Value) (st : List Value) : Ex mX9_pagesOf Q 2 ls st h = Ex mX9_pagesOf Q 3 ls (.int 0 :: st) h := Ex_nx rfl rfl
theorem rX9_pagesOf_3 (Q : Po) (h : Hp) (l0 l1 l2 l3 : Value) (x : Int32) (st : List Value) : Ex mX9_pagesOf Q 3 [l0, l1, l2, l3] (.int x :: st) h = Ex mX9_pagesOf Q 4 [l0, l1, l2, .int x] st h := Ex_nx rfl rfl
theorem rX9_pagesOf_4 (Q : Po) (h : Hp) (l0 l1 l2 : Value) (x : Int32) (st : List Value) : Ex mX9_pagesOf Q 4 [l0, l1, l2, .int x] st h = Ex mX9_pagesOf Q 5 [l0, l1, l2, .int x] (.int x :: st) h := Ex_nx rfl rfl
theorem rX9_pagesOf_5 (Q : Po) (h : Hp) (l1 l2 l3 : Value) (x : Nat) (st : List Value) : Ex mX9_pagesOf Q 5 [.ref x, l1, l2, l3] st h = Ex mX9_pagesOf Q 6 [.ref x, l1, l2, l3] (.ref x :: st) h := Ex_nx rfl rfl
theorem rX9_pagesOf_6 (Q : Po) (h : Hp) (ls : List Value) (st : List Value) (a : Nat) : Ex mX9_pagesOf Q 6 ls (.ref a :: st) h = (gK h a ∈ ([9] : List Nat) ∧ Ex mX9_pagesOf Q 9 ls (gF h 81 a :: st) h) := Ex_gd rfl rfl
theorem rX9_pagesOf_9 (Q : Po) (h : Hp) (ls : List Value) (st : List Value) : Ex mX9_pagesOf Q 9 ls st h = Ex mX9_pagesOf Q 10 ls (.int 0 :: st) h := Ex_nx rfl rfl
theorem rX9_pagesOf_10 (Q : Po) (h : Hp) (ls : List Value) (st : List Value) (a : Nat) (i : Int32) : Ex mX9_pagesOf Q 10 ls (.int i :: .ref a :: st) h = ((gK h a = 51 ∧ ¬ (i < 0 ∨ gL h a ≤ i.toNatClampNeg)) ∧ Ex mX9_pagesOf Q 11 ls (.int (gI h a i.toNatClampNeg) :: st) h) := Ex_gd rfl rfl
theorem rX9_pagesOf_11 (Q : Po) (h : Hp) (ls : List Value) (st : List Value) (x y : Int32) : Ex mX9_pagesOf Q 11 ls (.int y :: .int x :: st) h = if y ≤ x then Ex mX9_pagesOf Q 44 ls st h else Ex mX9_pagesOf Q 14 ls st h := Ex_br rfl rfl
theorem rX9_pagesOf_14 (Q : Po) (h : Hp) (l0 l1 l3 : Value) (x : Int32) (st : List Value) : Ex mX9_pagesOf Q 14 [l0, l1, .int x, l3] st h = Ex mX9_pagesOf Q 15 [l0, l1, .int x, l3] (.int x :: st) h := Ex_nx rfl rfl
theorem rX9_pagesOf_15 (Q : Po) (h : Hp) (l0 l2 l3 : Value) (x : Int32) (st : List Value) : Ex mX9_pagesOf Q 15 [l0, .int x, l2, l3] st h = Ex mX9_pagesOf Q 16 [l0, .int x, l2, l3] (.int x :: st) h := Ex_nx rfl rfl
theorem rX9_pagesOf_16 (Q : Po) (h : Hp) (l0 l1 l2 : Value) (x : Int32) (st : List Value) : Ex mX9_pagesOf Q 16 [l0, l1, l2, .int x] st h = Ex mX9_pagesOf Q 17 [l0, l1, l2, .int x] (.int x :: st) h := Ex_nx rfl rfl
theorem rX9_pagesOf_17 (Q : Po) (h : Hp) (ls : List Value) (a0 : Int32) (a1 : Int32) (s0 : Value) : Ex mX9_pagesOf Q 17 ls (.int a1 :: .int a0 :: [s0]) h = Ex mX9_has (Cont mX9_pagesOf Q 17 ls 20 [s0]) 0 [.int a0, .int a1] [] h := Ex_cl (n := 2) (as := [.int a0, .int a1]) rfl rfl
theorem rX9_pagesOf_20 (Q : Po) (h : Hp) (ls : List Value) (st : List Value) (x : Int32) : Ex mX9_pagesOf Q 20 ls (.int x :: st) h = if x = 0 then Ex mX9_pagesOf Q 35 ls st h else Ex mX9_pagesOf Q 23 ls st h := Ex_br rfl rfl
theorem rX9_pagesOf_23 (Q : Po) (h : Hp) (l1 l2 l3 : Value) (x : Nat) (st : List Value) : Ex mX9_pagesOf Q 23 [.ref x, l1, l2, l3] st h = Ex mX9_pagesOf Q 24 [.ref x, l1, l2, l3] (.ref x :: st) h := Ex_nx rfl rfl
theorem rX9_pagesOf_24 (Q : Po) (h : Hp) (ls : List Value) (st : List Value) (a : Nat) : Ex mX9_pagesOf Q 24 ls (.ref a :: st) h = (gK h a ∈ ([9] : List Nat) ∧ Ex mX9_pagesOf Q 27 ls (gF h 81 a :: st) h) := Ex_gd rfl rfl
theorem rX9_pagesOf_27 (Q : Po) (h : Hp) (ls : List Value) (st : List Value) : Ex mX9_pagesOf Q 27 ls st h = Ex mX9_pagesOf Q 29 ls (.int 8 :: st) h := Ex_nx rfl rfl
theorem rX9_pagesOf_29 (Q : Po) (h : Hp) (l0 l1 l2 : Value) (x : Int32) (st : List Value) : Ex mX9_pagesOf Q 29 [l0, l1, l2, .int x] st h = Ex mX9_pagesOf Q 30 [l0, l1, l2, .int x] (.int x :: st) h := Ex_nx rfl rfl
theorem rX9_pagesOf_30 (Q : Po) (h : Hp) (ls : List Value) (st : List Value) (x y : Int32) : Ex mX9_pagesOf Q 30 ls (.int y :: .int x :: st) h = Ex mX9_pagesOf Q 31 ls (.int (x + y) :: st) h := Ex_nx rfl rfl
theorem rX9_pagesOf_31 (Q : Po) (h : Hp) (ls : List Value) (st : List Value) (a : Nat) (i : Int32) : Ex mX9_pagesOf Q 31 ls (.int i :: .ref a :: st) h = ((gK h a = 51 ∧ ¬ (i < 0 ∨ gL h a ≤ i.toNatClampNeg)) ∧ Ex mX9_pagesOf Q 32 ls (.int (gI h a i.toNatClampNeg) :: st) h) := Ex_gd rfl rfl
theorem rX9_pagesOf_32 (Q : Po) (h : Hp) (ls : List Value) (st : List Value) : Ex mX9_pagesOf Q 32 ls st h = Ex mX9_pagesOf Q 36 ls st h := Ex_nx rfl rfl
theorem rX9_pagesOf_35 (Q : Po) (h : Hp) (ls : List Value) (st : List Value) : Ex mX9_pagesOf Q 35 ls st h = Ex mX9_pagesOf Q 36 ls (.int 0 :: st) h := Ex_nx rfl rfl
theorem rX9_pagesOf_36 (Q : Po) (h : Hp) (ls : List Value) (st : List Value) (x y : Int32) : Ex mX9_pagesOf Q 36 ls (.int y :: .int x :: st) h = Ex mX9_pagesOf Q 37 ls (.int (x + y) :: st) h := Ex_nx rfl rfl
theorem rX9_pagesOf_37 (Q : Po) (h : Hp) (l0 l1 l2 l3 : Value) (x : Int32) (st : List Value) : Ex mX9_pagesOf Q 37 [l0, l1, l2, l3] (.int x :: st) h = Ex mX9_pagesOf Q 38 [l0, l1, .int x, l3] st h := Ex_nx rfl rfl
theorem rX9_pagesOf_38 (Q : Po) (h : Hp) (l0 l1 l2 : Value) (x : Int32) (st : List Value) : Ex mX9_pagesOf Q 38 [l0, l1, l2, .int x] st h = Ex mX9_pagesOf Q 41 [l0, l1, l2, .int (x + 1)] st h := Ex_nx rfl rfl
theorem rX9_pagesOf_41 (Q : Po) (h : Hp) (ls : List Value) (st : List Value) : Ex mX9_pagesOf Q 41 ls st h = Ex mX9_pagesOf Q 4 ls st h := Ex_nx rfl rfl
theorem rX9_pagesOf_44 (Q : Po) (h : Hp) (l0 l1 l3 : Value) (x : Int32) (st : List Value) : Ex mX9_pagesOf Q 44 [l0, l1, .int x, l3] st h = Ex mX9_pagesOf Q 45 [l0, l1, .int x, l3] (.int x :: st) h := Ex_nx rfl rfl
theorem rX9_pagesOf_45 (Q : Po) (h : Hp) (ls : List Value) (x : Int32) : Ex mX9_pagesOf Q 45 ls [.int x] h = Q (.inl (some (.int x))) h := Ex_rt rfl rfl
theorem rX9_pagesOf_t (Q : Po) (h : Hp) (pc n a : Nat) (ls st : List Value) : Cont mX9_pagesOf Q pc ls n st (.inr a) h = Q (.inr a) h := rfl
/-! FishReadersModel.exchange(II)V -/
def mX9_exchange : Cd := ([(0, .inl (i_aload 0 1)),
  (1, .inl (i_getf 111 [9] 4)),
  (4, .inl (i_iload 1 5)),
  (5, .inl (i_iald 51 6)),
  (6, .inl (i_istore 3 7)),
  (7, .inl (i_aload 0 8)),
  (8, .inl (i_getf 111 [9] 11)),
  (11, .inl (i_iload 1 12)),
  (12, .inl (i_aload 0 13)),
  (13, .inl (i_getf 111 [9] 16)),
  (16, .inl (i_iload 2 17)),
  (17, .inl (i_iald 51 18)),
  (18, .inl (i_iast 51 (fun x => x) 19)),
  (19, .inl (i_aload 0 20)),
  (20, .inl (i_getf 111 [9] 23)),
  (23, .inl (i_iload 2 24)),
  (24, .inl (i_iload 3 25)),
  (25, .inl (i_iast 51 (fun x => x) 26)),
  (26, .inl i_vret)], noH)
theorem rX9_exchange_0 (Q : Po) (h : Hp) (l1 l2 l3 : Value) (x : Nat) (st : List Value) : Ex mX9_exchange Q 0 [.ref x, l1, l2, l3] st h = Ex mX9_exchange Q 1 [.ref x, l1, l2, l3] (.ref x :: st) h := Ex_nx rfl rfl
theorem rX9_exchange_1 (Q : Po) (h : Hp) (ls : List Value) (st : List Value) (a : Nat) : Ex mX9_exchange Q 1 ls (.ref a :: st) h = (gK h a ∈ ([9] : List Nat) ∧ Ex mX9_exchange Q 4 ls (gF h 111 a :: st) h) := Ex_gd rfl rfl
theorem rX9_exchange_4 (Q : Po) (h : Hp) (l0 l2 l3 : Value) (x : Int32) (st : List Value) : Ex mX9_exchange Q 4 [l0, .int x, l2, l3] st h = Ex mX9_exchange Q 5 [l0, .int x, l2, l3] (.int x :: st) h := Ex_nx rfl rfl
theorem rX9_exchange_5 (Q : Po) (h : Hp) (ls : List Value) (st : List Value) (a : Nat) (i : Int32) : Ex mX9_exchange Q 5 ls (.int i :: .ref a :: st) h = ((gK h a = 51 ∧ ¬ (i < 0 ∨ gL h a ≤ i.toNatClampNeg)) ∧ Ex mX9_exchange Q 6 ls (.int (gI h a i.toNatClampNeg) :: st) h) := Ex_gd rfl rfl
theorem rX9_exchange_6 (Q : Po) (h : Hp) (l0 l1 l2 l3 : Value) (x : Int32) (st : List Value) : Ex mX9_exchange Q 6 [l0, l1, l2, l3] (.int x :: st) h = Ex mX9_exchange Q 7 [l0, l1, l2, .int x] st h := Ex_nx rfl rfl
theorem rX9_exchange_7 (Q : Po) (h : Hp) (l1 l2 l3 : Value) (x : Nat) (st : List Value) : Ex mX9_exchange Q 7 [.ref x, l1, l2, l3] st h = Ex mX9_exchange Q 8 [.ref x, l1, l2, l3] (.ref x :: st) h := Ex_nx rfl rfl
theorem rX9_exchange_8 (Q : Po) (h : Hp) (ls : List Value) (st : List Value) (a : Nat) : Ex mX9_exchange Q 8 ls (.ref a :: st) h = (gK h a ∈ ([9] : List Nat) ∧ Ex mX9_exchange Q 11 ls (gF h 111 a :: st) h) := Ex_gd rfl rfl
theorem rX9_exchange_11 (Q : Po) (h : Hp) (l0 l2 l3 : Value) (x : Int32) (st : List Value) : Ex mX9_exchange Q 11 [l0, .int x, l2, l3] st h = Ex mX9_exchange Q 12 [l0, .int x, l2, l3] (.int x :: st) h := Ex_nx rfl rfl
theorem rX9_exchange_12 (Q : Po) (h : Hp) (l1 l2 l3 : Value) (x : Nat) (st : List Value) : Ex mX9_exchange Q 12 [.ref x, l1, l2, l3] st h = Ex mX9_exchange Q 13 [.ref x, l1, l2, l3] (.ref x :: st) h := Ex_nx rfl rfl
theorem rX9_exchange_13 (Q : Po) (h : Hp) (ls : List Value) (st : List Value) (a : Nat) : Ex mX9_exchange Q 13 ls (.ref a :: st) h = (gK h a ∈ ([9] : List Nat) ∧ Ex mX9_exchange Q 16 ls (gF h 111 a :: st) h) := Ex_gd rfl rfl
theorem rX9_exchange_16 (Q : Po) (h : Hp) (l0 l1 l3 : Value) (x : Int32) (st : List Value) : Ex mX9_exchange Q 16 [l0, l1, .int x, l3] st h = Ex mX9_exchange Q 17 [l0, l1, .int x, l3] (.int x :: st) h := Ex_nx rfl rfl
theorem rX9_exchange_17 (Q : Po) (h : Hp) (ls : List Value) (st : List Value) (a : Nat) (i : Int32) : Ex mX9_exchange Q 17 ls (.int i :: .ref a :: st) h = ((gK h a = 51 ∧ ¬ (i < 0 ∨ gL h a ≤ i.toNatClampNeg)) ∧ Ex mX9_exchange Q 18 ls (.int (gI h a i.toNatClampNeg) :: st) h) := Ex_gd rfl rfl
theorem rX9_exchange_18 (Q : Po) (h : Hp) (ls : List Value) (st : List Value) (a : Nat) (i x : Int32) : Ex mX9_exchange Q 18 ls (.int x :: .int i :: .ref a :: st) h = ((gK h a = 51 ∧ ¬ (i < 0 ∨ gL h a ≤ i.toNatClampNeg)) ∧ Ex mX9_exchange Q 19 ls st (pI h a i.toNatClampNeg (x))) := Ex_gd rfl rfl
theorem rX9_exchange_19 (Q : Po) (h : Hp) (l1 l2 l3 : Value) (x : Nat) (st : List Value) : Ex mX9_exchange Q 19 [.ref x, l1, l2, l3] st h = Ex mX9_exchange Q 20 [.ref x, l1, l2, l3] (.ref x :: st) h := Ex_nx rfl rfl
theorem rX9_exchange_20 (Q : Po) (h : Hp) (ls : List Value) (st : List Value) (a : Nat) : Ex mX9_exchange Q 20 ls (.ref a :: st) h = (gK h a ∈ ([9] : List Nat) ∧ Ex mX9_exchange Q 23 ls (gF h 111 a :: st) h) := Ex_gd rfl rfl
theorem rX9_exchange_23 (Q : Po) (h : Hp) (l0 l1 l3 : Value) (x : Int32) (st : List Value) : Ex mX9_exchange Q 23 [l0, l1, .int x, l3] st h = Ex mX9_exchange Q 24 [l0, l1, .int x, l3] (.int x :: st) h := Ex_nx rfl rfl
theorem rX9_exchange_24 (Q : Po) (h : Hp) (l0 l1 l2 : Value) (x : Int32) (st : List Value) : Ex mX9_exchange Q 24 [l0, l1, l2, .int x] st h = Ex mX9_exchange Q 25 [l0, l1, l2, .int x] (.int x :: st) h := Ex_nx rfl rfl
theorem rX9_exchange_25 (Q : Po) (h : Hp) (ls : List Value) (st : List Value) (a : Nat) (i x : Int32) : Ex mX9_exchange Q 25 ls (.int x :: .int i :: .ref a :: st) h = ((gK h a = 51 ∧ ¬ (i < 0 ∨ gL h a ≤ i.toNatClampNeg)) ∧ Ex mX9_exchange Q 26 ls st (pI h a i.toNatClampNeg (x))) := Ex_gd rfl rfl
theorem rX9_exchange_26 (Q : Po) (h : Hp) (ls : List Value) : Ex mX9_exchange Q 26 ls [] h = Q (.inl none) h := Ex_rt rfl rfl
theorem rX9_exchange_t (Q : Po) (h : Hp) (pc n a : Nat) (ls st : List Value) : Cont mX9_exchange Q pc ls n st (.inr a) h = Q (.inr a) h := rfl
/-! FishReadersModel.isNext(I)Z -/
def mX9_isNext : Cd := ([(0, .inl (i_iload 1 1)),
  (1, .inl (i_push (.int 2) 2)),
  (2, .inl (i_bin (fun x y => x - y) 3)),
  (3, .inl (i_istore 2 4)),
  (4, .inl (i_iload 2 5)),
  (5, .inl (i_if (fun x => x < 0) 31 8)),
  (8, .inl (i_aload 0 9)),
  (9, .inl (i_getf 111 [9] 12)),
  (12, .inl (i_iload 2 13)),
  (13, .inl (i_iald 51 14)),
  (14, .inl (i_aload 0 15)),
  (15, .inl (i_getf 111 [9] 18)),
  (18, .inl (i_iload 2 19)),
  (19, .inl (i_push (.int 1) 20)),
  (20, .inl (i_bin (fun x y => x + y) 21)),
  (21, .inl (i_iald 51 22)),
  (22, .inl (i_icmp (fun x y => x ≤ y) 31 25)),
  (25, .inl (i_iinc 2 (-1) 28)),
  (28, .inl (i_goto 4)),
  (31, .inl (i_iload 2 32)),
  (32, .inl (i_if (fun x => 0 ≤ x) 37 35)),
  (35, .inl (i_push (.int 0) 36)),
  (36, .inl i_zret),
  (37, .inl (i_iload 1 38)),
  (38, .inl (i_push (.int 1) 39)),
  (39, .inl (i_bin (fun x y => x - y) 40)),
  (40, .inl (i_istore 3 41)),
  (41, .inl (i_aload 0 42)),
  (42, .inl (i_getf 111 [9] 45)),
  (45, .inl (i_iload 3 46)),
  (46, .inl (i_iald 51 47)),
  (47, .inl (i_aload 0 48)),
  (48, .inl (i_getf 111 [9] 51)),
  (51, .inl (i_iload 2 52)),
  (52, .inl (i_iald 51 53)),
  (53, .inl (i_icmp (fun x y => y ≤ x) 62 56)),
  (56, .inl (i_iinc 3 (-1) 59)),
  (59, .inl (i_goto 41)),
  (62, .inl (i_aload 0 63)),
  (63, .inl (i_iload 2 64)),
  (64, .inl (i_iload 3 65)),
  (65, .inr (c_V 2 68 4 9 (Mt mX9_exchange 4))),
  (68, .inl (i_iload 2 69)),
  (69, .inl (i_push (.int 1) 70)),
  (70, .inl (i_bin (fun x y => x + y) 71)),
  (71, .inl (i_istore 4 73)),
  (73, .inl (i_iload 1 74)),
  (74, .inl (i_push (.int 1) 75)),
  (75, .inl (i_bin (fun x y => x - y) 76)),
  (76, .inl (i_istore 5 78)),
  (78, .inl (i_iload 4 80)),
  (80, .inl (i_iload 5 82)),
  (82, .inl (i_icmp (fun x y => y ≤ x) 102 85)),
  (85, .inl (i_aload 0 86)),
  (86, .inl (i_iload 4 88)),
  (88, .inl (i_iload 5 90)),
  (90, .inr (c_V 2 93 4 9 (Mt mX9_exchange 4))),
  (93, .inl (i_iinc 4 1 96)),
  (96, .inl (i_iinc 5 (-1) 99)),
  (99, .inl (i_goto 78)),
  (102, .inl (i_push (.int 1) 103)),
  (103, .inl i_zret)], noH)
theorem rX9_isNext_0 (Q : Po) (h : Hp) (l0 l2 l3 l4 l5 : Value) (x : Int32) (st : List Value) : Ex mX9_isNext Q 0 [l0, .int x, l2, l3, l4, l5] st h = Ex mX9_isNext Q 1 [l0, .int x, l2, l3, l4, l5] (.int x :: st) h := Ex_nx rfl rfl
theorem rX9_isNext_1 (Q : Po) (h : Hp) (ls : List Value) (st : List Value) : Ex mX9_isNext Q 1 ls st h = Ex mX9_isNext Q 2 ls (.int 2 :: st) h := Ex_nx rfl rfl
theorem rX9_isNext_2 (Q : Po) (h : Hp) (ls : List Value) (st : List Value) (x y : Int32) : Ex mX9_isNext Q 2 ls (.int y :: .int x :: st) h = Ex mX9_isNext Q 3 ls (.int (x - y) :: st) h := Ex_nx rfl rfl
theorem rX9_isNext_3 (Q : Po) (h : Hp) (l0 l1 l2 l3 l4 l5 : Value) (x : Int32) (st : List Value) : Ex mX9_isNext Q 3 [l0, l1, l2, l3, l4, l5] (.int x :: st) h = Ex mX9_isNext Q 4 [l0, l1, .int x, l3, l4, l5] st h := Ex_nx rfl rfl
theorem rX9_isNext_4 (Q : Po) (h : Hp) (l0 l1 l3 l4 l5 : Value) (x : Int32) (st : List Value) : Ex mX9_isNext Q 4 [l0, l1, .int x, l3, l4, l5] st h = Ex mX9_isNext Q 5 [l0, l1, .int x, l3, l4, l5] (.int x :: st) h := Ex_nx rfl rfl
theorem rX9_isNext_5 (Q : Po) (h : Hp) (ls : List Value) (st : List Value) (x : Int32) : Ex mX9_isNext Q 5 ls (.int x :: st) h = if x < 0 then Ex mX9_isNext Q 31 ls st h else Ex mX9_isNext Q 8 ls st h := Ex_br rfl rfl
theorem rX9_isNext_8 (Q : Po) (h : Hp) (l1 l2 l3 l4 l5 : Value) (x : Nat) (st : List Value) : Ex mX9_isNext Q 8 [.ref x, l1, l2, l3, l4, l5] st h = Ex mX9_isNext Q 9 [.ref x, l1, l2, l3, l4, l5] (.ref x :: st) h := Ex_nx rfl rfl
theorem rX9_isNext_9 (Q : Po) (h : Hp) (ls : List Value) (st : List Value) (a : Nat) : Ex mX9_isNext Q 9 ls (.ref a :: st) h = (gK h a ∈ ([9] : List Nat) ∧ Ex mX9_isNext Q 12 ls (gF h 111 a :: st) h) := Ex_gd rfl rfl
theorem rX9_isNext_12 (Q : Po) (h : Hp) (l0 l1 l3 l4 l5 : Value) (x : Int32) (st : List Value) : Ex mX9_isNext Q 12 [l0, l1, .int x, l3, l4, l5] st h = Ex mX9_isNext Q 13 [l0, l1, .int x, l3, l4, l5] (.int x :: st) h := Ex_nx rfl rfl
theorem rX9_isNext_13 (Q : Po) (h : Hp) (ls : List Value) (st : List Value) (a : Nat) (i : Int32) : Ex mX9_isNext Q 13 ls (.int i :: .ref a :: st) h = ((gK h a = 51 ∧ ¬ (i < 0 ∨ gL h a ≤ i.toNatClampNeg)) ∧ Ex mX9_isNext Q 14 ls (.int (gI h a i.toNatClampNeg) :: st) h) := Ex_gd rfl rfl
theorem rX9_isNext_14 (Q : Po) (h : Hp) (l1 l2 l3 l4 l5 : Value) (x : Nat) (st : List Value) : Ex mX9_isNext Q 14 [.ref x, l1, l2, l3, l4, l5] st h = Ex mX9_isNext Q 15 [.ref x, l1, l2, l3, l4, l5] (.ref x :: st) h := Ex_nx rfl rfl
theorem rX9_isNext_15 (Q : Po) (h : Hp) (ls : List Value) (st : List Value) (a : Nat) : Ex mX9_isNext Q 15 ls (.ref a :: st) h = (gK h a ∈ ([9] : List Nat) ∧ Ex mX9_isNext Q 18 ls (gF h 111 a :: st) h) := Ex_gd rfl rfl
theorem rX9_isNext_18 (Q : Po) (h : Hp) (l0 l1 l3 l4 l5 : Value) (x : Int32) (st : List Value) : Ex mX9_isNext Q 18 [l0, l1, .int x, l3, l4, l5] st h = Ex mX9_isNext Q 19 [l0, l1, .int x, l3, l4, l5] (.int x :: st) h := Ex_nx rfl rfl
theorem rX9_isNext_19 (Q : Po) (h : Hp) (ls : List Value) (st : List Value) : Ex mX9_isNext Q 19 ls st h = Ex mX9_isNext Q 20 ls (.int 1 :: st) h := Ex_nx rfl rfl
theorem rX9_isNext_20 (Q : Po) (h : Hp) (ls : List Value) (st : List Value) (x y : Int32) : Ex mX9_isNext Q 20 ls (.int y :: .int x :: st) h = Ex mX9_isNext Q 21 ls (.int (x + y) :: st) h := Ex_nx rfl rfl
theorem rX9_isNext_21 (Q : Po) (h : Hp) (ls : List Value) (st : List Value) (a : Nat) (i : Int32) : Ex mX9_isNext Q 21 ls (.int i :: .ref a :: st) h = ((gK h a = 51 ∧ ¬ (i < 0 ∨ gL h a ≤ i.toNatClampNeg)) ∧ Ex mX9_isNext Q 22 ls (.int (gI h a i.toNatClampNeg) :: st) h) := Ex_gd rfl rfl
theorem rX9_isNext_22 (Q : Po) (h : Hp) (ls : List Value) (st : List Value) (x y : Int32) : Ex mX9_isNext Q 22 ls (.int y :: .int x :: st) h = if x ≤ y then Ex mX9_isNext Q 31 ls st h else Ex mX9_isNext Q 25 ls st h := Ex_br rfl rfl
theorem rX9_isNext_25 (Q : Po) (h : Hp) (l0 l1 l3 l4 l5 : Value) (x : Int32) (st : List Value) : Ex mX9_isNext Q 25 [l0, l1, .int x, l3, l4, l5] st h = Ex mX9_isNext Q 28 [l0, l1, .int (x + (-1)), l3, l4, l5] st h := Ex_nx rfl rfl
theorem rX9_isNext_28 (Q : Po) (h : Hp) (ls : List Value) (st : List Value) : Ex mX9_isNext Q 28 ls st h = Ex mX9_isNext Q 4 ls st h := Ex_nx rfl rfl
theorem rX9_isNext_31 (Q : Po) (h : Hp) (l0 l1 l3 l4 l5 : Value) (x : Int32) (st : List Value) : Ex mX9_isNext Q 31 [l0, l1, .int x, l3, l4, l5] st h = Ex mX9_isNext Q 32 [l0, l1, .int x, l3, l4, l5] (.int x :: st) h := Ex_nx rfl rfl
theorem rX9_isNext_32 (Q : Po) (h : Hp) (ls : List Value) (st : List Value) (x : Int32) : Ex mX9_isNext Q 32 ls (.int x :: st) h = if 0 ≤ x then Ex mX9_isNext Q 37 ls st h else Ex mX9_isNext Q 35 ls st h := Ex_br rfl rfl
theorem rX9_isNext_35 (Q : Po) (h : Hp) (ls : List Value) (st : List Value) : Ex mX9_isNext Q 35 ls st h = Ex mX9_isNext Q 36 ls (.int 0 :: st) h := Ex_nx rfl rfl
theorem rX9_isNext_36 (Q : Po) (h : Hp) (ls : List Value) (x : Int32) : Ex mX9_isNext Q 36 ls [.int x] h = ((x = 0 ∨ x = 1) ∧ Q (.inl (some (.int x))) h) := Ex_rg rfl rfl
theorem rX9_isNext_37 (Q : Po) (h : Hp) (l0 l2 l3 l4 l5 : Value) (x : Int32) (st : List Value) : Ex mX9_isNext Q 37 [l0, .int x, l2, l3, l4, l5] st h = Ex mX9_isNext Q 38 [l0, .int x, l2, l3, l4, l5] (.int x :: st) h := Ex_nx rfl rfl
theorem rX9_isNext_38 (Q : Po) (h : Hp) (ls : List Value) (st : List Value) : Ex mX9_isNext Q 38 ls st h = Ex mX9_isNext Q 39 ls (.int 1 :: st) h := Ex_nx rfl rfl
theorem rX9_isNext_39 (Q : Po) (h : Hp) (ls : List Value) (st : List Value) (x y : Int32) : Ex mX9_isNext Q 39 ls (.int y :: .int x :: st) h = Ex mX9_isNext Q 40 ls (.int (x - y) :: st) h := Ex_nx rfl rfl
theorem rX9_isNext_40 (Q : Po) (h : Hp) (l0 l1 l2 l3 l4 l5 : Value) (x : Int32) (st : List Value) : Ex mX9_isNext Q 40 [l0, l1, l2, l3, l4, l5] (.int x :: st) h = Ex mX9_isNext Q 41 [l0, l1, l2, .int x, l4, l5] st h := Ex_nx rfl rfl
theorem rX9_isNext_41 (Q : Po) (h : Hp) (l1 l2 l3 l4 l5 : Value) (x : Nat) (st : List Value) : Ex mX9_isNext Q 41 [.ref x, l1, l2, l3, l4, l5] st h = Ex mX9_isNext Q 42 [.ref x, l1, l2, l3, l4, l5] (.ref x :: st) h := Ex_nx rfl rfl
theorem rX9_isNext_42 (Q : Po) (h : Hp) (ls : List Value) (st : List Value) (a : Nat) : Ex mX9_isNext Q 42 ls (.ref a :: st) h = (gK h a ∈ ([9] : List Nat) ∧ Ex mX9_isNext Q 45 ls (gF h 111 a :: st) h) := Ex_gd rfl rfl
theorem rX9_isNext_45 (Q : Po) (h : Hp) (l0 l1 l2 l4 l5 : Value) (x : Int32) (st : List Value) : Ex mX9_isNext Q 45 [l0, l1, l2, .int x, l4, l5] st h = Ex mX9_isNext Q 46 [l0, l1, l2, .int x, l4, l5] (.int x :: st) h := Ex_nx rfl rfl
theorem rX9_isNext_46 (Q : Po) (h : Hp) (ls : List Value) (st : List Value) (a : Nat) (i : Int32) : Ex mX9_isNext Q 46 ls (.int i :: .ref a :: st) h = ((gK h a = 51 ∧ ¬ (i < 0 ∨ gL h a ≤ i.toNatClampNeg)) ∧ Ex mX9_isNext Q 47 ls (.int (gI h a i.toNatClampNeg) :: st) h) := Ex_gd rfl rfl
theorem rX9_isNext_47 (Q : Po) (h : Hp) (l1 l2 l3 l4 l5 : Value) (x : Nat) (st : List Value) : Ex mX9_isNext Q 47 [.ref x, l1, l2, l3, l4, l5] st h = Ex mX9_isNext Q 48 [.ref x, l1, l2, l3, l4, l5] (.ref x :: st) h := Ex_nx rfl rfl
theorem rX9_isNext_48 (Q : Po) (h : Hp) (ls : List Value) (st : List Value) (a : Nat) : Ex mX9_isNext Q 48 ls (.ref a :: st) h = (gK h a ∈ ([9] : List Nat) ∧ Ex mX9_isNext Q 51 ls (gF h 111 a :: st) h) := Ex_gd rfl rfl
theorem rX9_isNext_51 (Q : Po) (h : Hp) (l0 l1 l3 l4 l5 : Value) (x : Int32) (st : List Value) : Ex mX9_isNext Q 51 [l0, l1, .int x, l3, l4, l5] st h = Ex mX9_isNext Q 52 [l0, l1, .int x, l3, l4, l5] (.int x :: st) h := Ex_nx rfl rfl
theorem rX9_isNext_52 (Q : Po) (h : Hp) (ls : List Value) (st : List Value) (a : Nat) (i : Int32) : Ex mX9_isNext Q 52 ls (.int i :: .ref a :: st) h = ((gK h a = 51 ∧ ¬ (i < 0 ∨ gL h a ≤ i.toNatClampNeg)) ∧ Ex mX9_isNext Q 53 ls (.int (gI h a i.toNatClampNeg) :: st) h) := Ex_gd rfl rfl
theorem rX9_isNext_53 (Q : Po) (h : Hp) (ls : List Value) (st : List Value) (x y : Int32) : Ex mX9_isNext Q 53 ls (.int y :: .int x :: st) h = if y ≤ x then Ex mX9_isNext Q 62 ls st h else Ex mX9_isNext Q 56 ls st h := Ex_br rfl rfl
theorem rX9_isNext_56 (Q : Po) (h : Hp) (l0 l1 l2 l4 l5 : Value) (x : Int32) (st : List Value) : Ex mX9_isNext Q 56 [l0, l1, l2, .int x, l4, l5] st h = Ex mX9_isNext Q 59 [l0, l1, l2, .int (x + (-1)), l4, l5] st h := Ex_nx rfl rfl
theorem rX9_isNext_59 (Q : Po) (h : Hp) (ls : List Value) (st : List Value) : Ex mX9_isNext Q 59 ls st h = Ex mX9_isNext Q 41 ls st h := Ex_nx rfl rfl
theorem rX9_isNext_62 (Q : Po) (h : Hp) (l1 l2 l3 l4 l5 : Value) (x : Nat) (st : List Value) : Ex mX9_isNext Q 62 [.ref x, l1, l2, l3, l4, l5] st h = Ex mX9_isNext Q 63 [.ref x, l1, l2, l3, l4, l5] (.ref x :: st) h := Ex_nx rfl rfl
theorem rX9_isNext_63 (Q : Po) (h : Hp) (l0 l1 l3 l4 l5 : Value) (x : Int32) (st : List Value) : Ex mX9_isNext Q 63 [l0, l1, .int x, l3, l4, l5] st h = Ex mX9_isNext Q 64 [l0, l1, .int x, l3, l4, l5] (.int x :: st) h := Ex_nx rfl rfl
theorem rX9_isNext_64 (Q : Po) (h : Hp) (l0 l1 l2 l4 l5 : Value) (x : Int32) (st : List Value) : Ex mX9_isNext Q 64 [l0, l1, l2, .int x, l4, l5] st h = Ex mX9_isNext Q 65 [l0, l1, l2, .int x, l4, l5] (.int x :: st) h := Ex_nx rfl rfl
theorem rX9_isNext_65 (Q : Po) (h : Hp) (ls : List Value) (a0 : Int32) (a1 : Int32) (b : Nat) : Ex mX9_isNext Q 65 ls (.int a1 :: .int a0 :: .ref b :: []) h = (gK h b = 9 ∧ Ex mX9_exchange (Cont mX9_isNext Q 65 ls 68 []) 0 [.ref b, .int a0, .int a1, .retAddr 0] [] h) := Ex_cg (n := 4) (as := [.ref b, .int a0, .int a1]) rfl rfl
theorem rX9_isNext_68 (Q : Po) (h : Hp) (l0 l1 l3 l4 l5 : Value) (x : Int32) (st : List Value) : Ex mX9_isNext Q 68 [l0, l1, .int x, l3, l4, l5] st h = Ex mX9_isNext Q 69 [l0, l1, .int x, l3, l4, l5] (.int x :: st) h := Ex_nx rfl rfl
theorem rX9_isNext_69 (Q : Po) (h : Hp) (ls : List Value) (st : List Value) : Ex mX9_isNext Q 69 ls st h = Ex mX9_isNext Q 70 ls (.int 1 :: st) h := Ex_nx rfl rfl
theorem rX9_isNext_70 (Q : Po) (h : Hp) (ls : List Value) (st : List Value) (x y : Int32) : Ex mX9_isNext Q 70 ls (.int y :: .int x :: st) h = Ex mX9_isNext Q 71 ls (.int (x + y) :: st) h := Ex_nx rfl rfl
theorem rX9_isNext_71 (Q : Po) (h : Hp) (l0 l1 l2 l3 l4 l5 : Value) (x : Int32) (st : List Value) : Ex mX9_isNext Q 71 [l0, l1, l2, l3, l4, l5] (.int x :: st) h = Ex mX9_isNext Q 73 [l0, l1, l2, l3, .int x, l5] st h := Ex_nx rfl rfl
theorem rX9_isNext_73 (Q : Po) (h : Hp) (l0 l2 l3 l4 l5 : Value) (x : Int32) (st : List Value) : Ex mX9_isNext Q 73 [l0, .int x, l2, l3, l4, l5] st h = Ex mX9_isNext Q 74 [l0, .int x, l2, l3, l4, l5] (.int x :: st) h := Ex_nx rfl rfl
theorem rX9_isNext_74 (Q : Po) (h : Hp) (ls : List Value) (st : List Value) : Ex mX9_isNext Q 74 ls st h = Ex mX9_isNext Q 75 ls (.int 1 :: st) h := Ex_nx rfl rfl
theorem rX9_isNext_75 (Q : Po) (h : Hp) (ls : List Value) (st : List Value) (x y : Int32) : Ex mX9_isNext Q 75 ls (.int y :: .int x :: st) h = Ex mX9_isNext Q 76 ls (.int (x - y) :: st) h := Ex_nx rfl rfl
theorem rX9_isNext_76 (Q : Po) (h : Hp) (l0 l1 l2 l3 l4 l5 : Value) (x : Int32) (st : List Value) : Ex mX9_isNext Q 76 [l0, l1, l2, l3, l4, l5] (.int x :: st) h = Ex mX9_isNext Q 78 [l0, l1, l2, l3, l4, .int x] st h := Ex_nx rfl rfl
theorem rX9_isNext_78 (Q : Po) (h : Hp) (l0 l1 l2 l3 l5 : Value) (x : Int32) (st : List Value) : Ex mX9_isNext Q 78 [l0, l1, l2, l3, .int x, l5] st h = Ex mX9_isNext Q 80 [l0, l1, l2, l3, .int x, l5] (.int x :: st) h := Ex_nx rfl rfl
theorem rX9_isNext_80 (Q : Po) (h : Hp) (l0 l1 l2 l3 l4 : Value) (x : Int32) (st : List Value) : Ex mX9_isNext Q 80 [l0, l1, l2, l3, l4, .int x] st h = Ex mX9_isNext Q 82 [l0, l1, l2, l3, l4, .int x] (.int x :: st) h := Ex_nx rfl rfl
theorem rX9_isNext_82 (Q : Po) (h : Hp) (ls : List Value) (st : List Value) (x y : Int32) : Ex mX9_isNext Q 82 ls (.int y :: .int x :: st) h = if y ≤ x then Ex mX9_isNext Q 102 ls st h else Ex mX9_isNext Q 85 ls st h := Ex_br rfl rfl
theorem rX9_isNext_85 (Q : Po) (h : Hp) (l1 l2 l3 l4 l5 : Value) (x : Nat) (st : List Value) : Ex mX9_isNext Q 85 [.ref x, l1, l2, l3, l4, l5] st h = Ex mX9_isNext Q 86 [.ref x, l1, l2, l3, l4, l5] (.ref x :: st) h := Ex_nx rfl rfl
theorem rX9_isNext_86 (Q : Po) (h : Hp) (l0 l1 l2 l3 l5 : Value) (x : Int32) (st : List Value) : Ex mX9_isNext Q 86 [l0, l1, l2, l3, .int x, l5] st h = Ex mX9_isNext Q 88 [l0, l1, l2, l3, .int x, l5] (.int x :: st) h := Ex_nx rfl rfl
theorem rX9_isNext_88 (Q : Po) (h : Hp) (l0 l1 l2 l3 l4 : Value) (x : Int32) (st : List Value) : Ex mX9_isNext Q 88 [l0, l1, l2, l3, l4, .int x] st h = Ex mX9_isNext Q 90 [l0, l1, l2, l3, l4, .int x] (.int x :: st) h := Ex_nx rfl rfl
theorem rX9_isNext_90 (Q : Po) (h : Hp) (ls : List Value) (a0 : Int32) (a1 : Int32) (b : Nat) : Ex mX9_isNext Q 90 ls (.int a1 :: .int a0 :: .ref b :: []) h = (gK h b = 9 ∧ Ex mX9_exchange (Cont mX9_isNext Q 90 ls 93 []) 0 [.ref b, .int a0, .int a1, .retAddr 0] [] h) := Ex_cg (n := 4) (as := [.ref b, .int a0, .int a1]) rfl rfl
theorem rX9_isNext_93 (Q : Po) (h : Hp) (l0 l1 l2 l3 l5 : Value) (x : Int32) (st : List Value) : Ex mX9_isNext Q 93 [l0, l1, l2, l3, .int x, l5] st h = Ex mX9_isNext Q 96 [l0, l1, l2, l3, .int (x + 1), l5] st h := Ex_nx rfl rfl
theorem rX9_isNext_96 (Q : Po) (h : Hp) (l0 l1 l2 l3 l4 : Value) (x : Int32) (st : List Value) : Ex mX9_isNext Q 96 [l0, l1, l2, l3, l4, .int x] st h = Ex mX9_isNext Q 99 [l0, l1, l2, l3, l4, .int (x + (-1))] st h := Ex_nx rfl rfl
theorem rX9_isNext_99 (Q : Po) (h : Hp) (ls : List Value) (st : List Value) : Ex mX9_isNext Q 99 ls st h = Ex mX9_isNext Q 78 ls st h := Ex_nx rfl rfl
theorem rX9_isNext_102 (Q : Po) (h : Hp) (ls : List Value) (st : List Value) : Ex mX9_isNext Q 102 ls st h = Ex mX9_isNext Q 103 ls (.int 1 :: st) h := Ex_nx rfl rfl
theorem rX9_isNext_103 (Q : Po) (h : Hp) (ls : List Value) (x : Int32) : Ex mX9_isNext Q 103 ls [.int x] h = ((x = 0 ∨ x = 1) ∧ Q (.inl (some (.int x))) h) := Ex_rg rfl rfl
theorem rX9_isNext_t (Q : Po) (h : Hp) (pc n a : Nat) (ls st : List Value) : Cont mX9_isNext Q pc ls n st (.inr a) h = Q (.inr a) h := rfl
/-! FishReadersModel.order(III)I -/
def mX9_order : Cd := ([(0, .inl (i_aload 0 1)),
  (1, .inl (i_getf 78 [9] 4)),
  (4, .inl (i_if (fun x => ¬ x = 0) 10 7)),
  (7, .inl (i_push (.int (-1000002)) 9)),
  (9, .inl i_iret),
  (10, .inl (i_iload 1 11)),
  (11, .inl (i_i2l 12)),
  (12, .inl (i_push (.long 0) 13)),
  (13, .inl (i_push (.int 1) 14)),
  (14, .inl (i_aload 0 15)),
  (15, .inl (i_getf 81 [9] 18)),
  (18, .inl (i_push (.int 0) 19)),
  (19, .inl (i_iald 51 20)),
  (20, .inl (i_bin (fun x y => x <<< (y &&& 31)) 21)),
  (21, .inl (i_push (.int 1) 22)),
  (22, .inl (i_bin (fun x y => x - y) 23)),
  (23, .inl (i_i2l 24)),
  (24, .inr (c_S 3 27 6 (Mt mX9_in 6))),
  (27, .inl (i_if (fun x => x = 0) 62 30)),
  (30, .inl (i_iload 2 31)),
  (31, .inl (i_i2l 32)),
  (32, .inl (i_push (.long 1) 33)),
  (33, .inl (i_push (.long 12) 36)),
  (36, .inr (c_S 3 39 6 (Mt mX9_in 6))),
  (39, .inl (i_if (fun x => x = 0) 62 42)),
  (42, .inl (i_iload 3 43)),
  (43, .inl (i_i2l 44)),
  (44, .inl (i_push (.long (-1)) 47)),
  (47, .inl (i_aload 0 48)),
  (48, .inl (i_getf 81 [9] 51)),
  (51, .inl (i_push (.int 0) 52)),
  (52, .inl (i_iald 51 53)),
  (53, .inl (i_push (.int 1) 54)),
  (54, .inl (i_bin (fun x y => x - y) 55)),
  (55, .inl (i_i2l 56)),
  (56, .inr (c_S 3 59 6 (Mt mX9_in 6))),
  (59, .inl (i_if (fun x => ¬ x = 0) 65 62)),
  (62, .inl (i_push (.int (-1000001)) 64)),
  (64, .inl i_iret),
  (65, .inl (i_aload 0 66)),
  (66, .inr (c_V 0 69 2 9 (Mt mX9_putAside 2))),
  (69, .inl (i_push (.int 0) 70)),
  (70, .inl (i_istore 4 72)),
  (72, .inl (i_iload 4 74)),
  (74, .inl (i_aload 0 75)),
  (75, .inl (i_getf 81 [9] 78)),
  (78, .inl (i_push (.int 0) 79)),
  (79, .inl (i_iald 51 80)),
  (80, .inl (i_icmp (fun x y => y ≤ x) 98 83)),
  (83, .inl (i_aload 0 84)),
  (84, .inl (i_getf 111 [9] 87)),
  (87, .inl (i_iload 4 89)),
  (89, .inl (i_iload 4 91)),
  (91, .inl (i_iast 51 (fun x => x) 92)),
  (92, .inl (i_iinc 4 1 95)),
  (95, .inl (i_goto 72)),
  (98, .inl (i_push (.int (-1)) 99)),
  (99, .inl (i_istore 4 101)),
  (101, .inl (i_push (.int 1) 102)),
  (102, .inl (i_istore 5 104)),
  (104, .inl (i_iload 5 106)),
  (106, .inl (i_if (fun x => x = 0) 222 109)),
  (109, .inl (i_push (.int 0) 110)),
  (110, .inl (i_istore 6 112)),
  (112, .inl (i_iload 6 114)),
  (114, .inl (i_aload 0 115)),
  (115, .inl (i_getf 81 [9] 118)),
  (118, .inl (i_push (.int 0) 119)),
  (119, .inl (i_iald 51 120)),
  (120, .inl (i_icmp (fun x y => y ≤ x) 146 123)),
  (123, .inl (i_aload 0 124)),
  (124, .inl (i_getf 81 [9] 127)),
  (127, .inl (i_push (.int 20) 129)),
  (129, .inl (i_aload 0 130)),
  (130, .inl (i_getf 111 [9] 133)),
  (133, .inl (i_iload 6 135)),
  (135, .inl (i_iald 51 136)),
  (136, .inl (i_bin (fun x y => x + y) 137)),
  (137, .inl (i_iload 6 139)),
  (139, .inl (i_iast 51 (fun x => x) 140)),
  (140, .inl (i_iinc 6 1 143)),
  (143, .inl (i_goto 112)),
  (146, .inl (i_aload 0 147)),
  (147, .inl (i_iload 2 148)),
  (148, .inr (c_V 1 151 3 9 (Mt mX9_goOn 3))),
  (151, .inl (i_aload 0 152)),
  (152, .inl (i_iload 1 153)),
  (153, .inr (c_V 1 156 4 9 (Mt mX9_pagesOf 4))),
  (156, .inl (i_istore 6 158)),
  (158, .inl (i_aload 0 159)),
  (159, .inr (c_V 0 162 2 9 (Mt mX9_takeBack 2))),
  (162, .inl (i_iload 6 164)),
  (164, .inl (i_iload 4 166)),
  (166, .inl (i_icmp (fun x y => x ≤ y) 207 169)),
  (169, .inl (i_iload 6 171)),
  (171, .inl (i_istore 4 173)),
  (173, .inl (i_push (.int 0) 174)),
  (174, .inl (i_istore 7 176)),
  (176, .inl (i_iload 7 178)),
  (178, .inl (i_aload 0 179)),
  (179, .inl (i_getf 81 [9] 182)),
  (182, .inl (i_push (.int 0) 183)),
  (183, .inl (i_iald 51 184)),
  (184, .inl (i_icmp (fun x y => y ≤ x) 207 187)),
  (187, .inl (i_aload 0 188)),
  (188, .inl (i_getf 113 [9] 191)),
  (191, .inl (i_iload 7 193)),
  (193, .inl (i_aload 0 194)),
  (194, .inl (i_getf 111 [9] 197)),
  (197, .inl (i_iload 7 199)),
  (199, .inl (i_iald 51 200)),
  (200, .inl (i_iast 51 (fun x => x) 201)),
  (201, .inl (i_iinc 7 1 204)),
  (204, .inl (i_goto 176)),
  (207, .inl (i_aload 0 208)),
  (208, .inl (i_aload 0 209)),
  (209, .inl (i_getf 81 [9] 212)),
  (212, .inl (i_push (.int 0) 213)),
  (213, .inl (i_iald 51 214)),
  (214, .inr (c_V 1 217 6 9 (Mt mX9_isNext 6))),
  (217, .inl (i_istore 5 219)),
  (219, .inl (i_goto 104)),
  (222, .inl (i_iload 3 223)),
  (223, .inl (i_if (fun x => 0 ≤ x) 231 226)),
  (226, .inl (i_iload 4 228)),
  (228, .inl (i_goto 237)),
  (231, .inl (i_aload 0 232)),
  (232, .inl (i_getf 113 [9] 235)),
  (235, .inl (i_iload 3 236)),
  (236, .inl (i_iald 51 237)),
  (237, .inl i_iret)], noH)
theorem rX9_order_0 (Q : Po) (h : Hp) (l1 l2 l3 l4 l5 l6 l7 : Value) (x : Nat) (st : List Value) : Ex mX9_order Q 0 [.ref x, l1, l2, l3, l4, l5, l6, l7] st h = Ex mX9_order Q 1 [.ref x, l1, l2, l3, l4, l5, l6, l7] (.ref x :: st) h := Ex_nx rfl rfl
theorem rX9_order_1 (Q : Po) (h : Hp) (ls : List Value) (st : List Value) (a : Nat) : Ex mX9_order Q 1 ls (.ref a :: st) h = (gK h a ∈ ([9] : List Nat) ∧ Ex mX9_order Q 4 ls (gF h 78 a :: st) h) := Ex_gd rfl rfl
theorem rX9_order_4 (Q : Po) (h : Hp) (ls : List Value) (st : List Value) (x : Int32) : Ex mX9_order Q 4 ls (.int x :: st) h = if ¬ x = 0 then Ex mX9_order Q 10 ls st h else Ex mX9_order Q 7 ls st h := Ex_br rfl rfl
theorem rX9_order_7 (Q : Po) (h : Hp) (ls : List Value) (st : List Value) : Ex mX9_order Q 7 ls st h = Ex mX9_order Q 9 ls (.int (-1000002) :: st) h := Ex_nx rfl rfl
theorem rX9_order_9 (Q : Po) (h : Hp) (ls : List Value) (x : Int32) : Ex mX9_order Q 9 ls [.int x] h = Q (.inl (some (.int x))) h := Ex_rt rfl rfl
theorem rX9_order_10 (Q : Po) (h : Hp) (l0 l2 l3 l4 l5 l6 l7 : Value) (x : Int32) (st : List Value) : Ex mX9_order Q 10 [l0, .int x, l2, l3, l4, l5, l6, l7] st h = Ex mX9_order Q 11 [l0, .int x, l2, l3, l4, l5, l6, l7] (.int x :: st) h := Ex_nx rfl rfl
theorem rX9_order_11 (Q : Po) (h : Hp) (ls : List Value) (st : List Value) (x : Int32) : Ex mX9_order Q 11 ls (.int x :: st) h = Ex mX9_order Q 12 ls (.long x.toInt64 :: st) h := Ex_nx rfl rfl
theorem rX9_order_12 (Q : Po) (h : Hp) (ls : List Value) (st : List Value) : Ex mX9_order Q 12 ls st h = Ex mX9_order Q 13 ls (.long 0 :: st) h := Ex_nx rfl rfl
theorem rX9_order_13 (Q : Po) (h : Hp) (ls : List Value) (st : List Value) : Ex mX9_order Q 13 ls st h = Ex mX9_order Q 14 ls (.int 1 :: st) h := Ex_nx rfl rfl
theorem rX9_order_14 (Q : Po) (h : Hp) (l1 l2 l3 l4 l5 l6 l7 : Value) (x : Nat) (st : List Value) : Ex mX9_order Q 14 [.ref x, l1, l2, l3, l4, l5, l6, l7] st h = Ex mX9_order Q 15 [.ref x, l1, l2, l3, l4, l5, l6, l7] (.ref x :: st) h := Ex_nx rfl rfl
theorem rX9_order_15 (Q : Po) (h : Hp) (ls : List Value) (st : List Value) (a : Nat) : Ex mX9_order Q 15 ls (.ref a :: st) h = (gK h a ∈ ([9] : List Nat) ∧ Ex mX9_order Q 18 ls (gF h 81 a :: st) h) := Ex_gd rfl rfl
theorem rX9_order_18 (Q : Po) (h : Hp) (ls : List Value) (st : List Value) : Ex mX9_order Q 18 ls st h = Ex mX9_order Q 19 ls (.int 0 :: st) h := Ex_nx rfl rfl
theorem rX9_order_19 (Q : Po) (h : Hp) (ls : List Value) (st : List Value) (a : Nat) (i : Int32) : Ex mX9_order Q 19 ls (.int i :: .ref a :: st) h = ((gK h a = 51 ∧ ¬ (i < 0 ∨ gL h a ≤ i.toNatClampNeg)) ∧ Ex mX9_order Q 20 ls (.int (gI h a i.toNatClampNeg) :: st) h) := Ex_gd rfl rfl
theorem rX9_order_20 (Q : Po) (h : Hp) (ls : List Value) (st : List Value) (x y : Int32) : Ex mX9_order Q 20 ls (.int y :: .int x :: st) h = Ex mX9_order Q 21 ls (.int (x <<< (y &&& 31)) :: st) h := Ex_nx rfl rfl
theorem rX9_order_21 (Q : Po) (h : Hp) (ls : List Value) (st : List Value) : Ex mX9_order Q 21 ls st h = Ex mX9_order Q 22 ls (.int 1 :: st) h := Ex_nx rfl rfl
theorem rX9_order_22 (Q : Po) (h : Hp) (ls : List Value) (st : List Value) (x y : Int32) : Ex mX9_order Q 22 ls (.int y :: .int x :: st) h = Ex mX9_order Q 23 ls (.int (x - y) :: st) h := Ex_nx rfl rfl
theorem rX9_order_23 (Q : Po) (h : Hp) (ls : List Value) (st : List Value) (x : Int32) : Ex mX9_order Q 23 ls (.int x :: st) h = Ex mX9_order Q 24 ls (.long x.toInt64 :: st) h := Ex_nx rfl rfl
theorem rX9_order_24 (Q : Po) (h : Hp) (ls : List Value) (a0 : Int64) (a1 : Int64) (a2 : Int64) : Ex mX9_order Q 24 ls (.long a2 :: .long a1 :: .long a0 :: []) h = Ex mX9_in (Cont mX9_order Q 24 ls 27 []) 0 [.long a0, .retAddr 1, .long a1, .retAddr 1, .long a2, .retAddr 1] [] h := Ex_cl (n := 6) (as := [.long a0, .long a1, .long a2]) rfl rfl
theorem rX9_order_27 (Q : Po) (h : Hp) (ls : List Value) (st : List Value) (x : Int32) : Ex mX9_order Q 27 ls (.int x :: st) h = if x = 0 then Ex mX9_order Q 62 ls st h else Ex mX9_order Q 30 ls st h := Ex_br rfl rfl
theorem rX9_order_30 (Q : Po) (h : Hp) (l0 l1 l3 l4 l5 l6 l7 : Value) (x : Int32) (st : List Value) : Ex mX9_order Q 30 [l0, l1, .int x, l3, l4, l5, l6, l7] st h = Ex mX9_order Q 31 [l0, l1, .int x, l3, l4, l5, l6, l7] (.int x :: st) h := Ex_nx rfl rfl
theorem rX9_order_31 (Q : Po) (h : Hp) (ls : List Value) (st : List Value) (x : Int32) : Ex mX9_order Q 31 ls (.int x :: st) h = Ex mX9_order Q 32 ls (.long x.toInt64 :: st) h := Ex_nx rfl rfl
theorem rX9_order_32 (Q : Po) (h : Hp) (ls : List Value) (st : List Value) : Ex mX9_order Q 32 ls st h = Ex mX9_order Q 33 ls (.long 1 :: st) h := Ex_nx rfl rfl
theorem rX9_order_33 (Q : Po) (h : Hp) (ls : List Value) (st : List Value) : Ex mX9_order Q 33 ls st h = Ex mX9_order Q 36 ls (.long 12 :: st) h := Ex_nx rfl rfl
theorem rX9_order_36 (Q : Po) (h : Hp) (ls : List Value) (a0 : Int64) (a1 : Int64) (a2 : Int64) : Ex mX9_order Q 36 ls (.long a2 :: .long a1 :: .long a0 :: []) h = Ex mX9_in (Cont mX9_order Q 36 ls 39 []) 0 [.long a0, .retAddr 1, .long a1, .retAddr 1, .long a2, .retAddr 1] [] h := Ex_cl (n := 6) (as := [.long a0, .long a1, .long a2]) rfl rfl
theorem rX9_order_39 (Q : Po) (h : Hp) (ls : List Value) (st : List Value) (x : Int32) : Ex mX9_order Q 39 ls (.int x :: st) h = if x = 0 then Ex mX9_order Q 62 ls st h else Ex mX9_order Q 42 ls st h := Ex_br rfl rfl
theorem rX9_order_42 (Q : Po) (h : Hp) (l0 l1 l2 l4 l5 l6 l7 : Value) (x : Int32) (st : List Value) : Ex mX9_order Q 42 [l0, l1, l2, .int x, l4, l5, l6, l7] st h = Ex mX9_order Q 43 [l0, l1, l2, .int x, l4, l5, l6, l7] (.int x :: st) h := Ex_nx rfl rfl
theorem rX9_order_43 (Q : Po) (h : Hp) (ls : List Value) (st : List Value) (x : Int32) : Ex mX9_order Q 43 ls (.int x :: st) h = Ex mX9_order Q 44 ls (.long x.toInt64 :: st) h := Ex_nx rfl rfl
theorem rX9_order_44 (Q : Po) (h : Hp) (ls : List Value) (st : List Value) : Ex mX9_order Q 44 ls st h = Ex mX9_order Q 47 ls (.long (-1) :: st) h := Ex_nx rfl rfl
theorem rX9_order_47 (Q : Po) (h : Hp) (l1 l2 l3 l4 l5 l6 l7 : Value) (x : Nat) (st : List Value) : Ex mX9_order Q 47 [.ref x, l1, l2, l3, l4, l5, l6, l7] st h = Ex mX9_order Q 48 [.ref x, l1, l2, l3, l4, l5, l6, l7] (.ref x :: st) h := Ex_nx rfl rfl
theorem rX9_order_48 (Q : Po) (h : Hp) (ls : List Value) (st : List Value) (a : Nat) : Ex mX9_order Q 48 ls (.ref a :: st) h = (gK h a ∈ ([9] : List Nat) ∧ Ex mX9_order Q 51 ls (gF h 81 a :: st) h) := Ex_gd rfl rfl
theorem rX9_order_51 (Q : Po) (h : Hp) (ls : List Value) (st : List Value) : Ex mX9_order Q 51 ls st h = Ex mX9_order Q 52 ls (.int 0 :: st) h := Ex_nx rfl rfl
theorem rX9_order_52 (Q : Po) (h : Hp) (ls : List Value) (st : List Value) (a : Nat) (i : Int32) : Ex mX9_order Q 52 ls (.int i :: .ref a :: st) h = ((gK h a = 51 ∧ ¬ (i < 0 ∨ gL h a ≤ i.toNatClampNeg)) ∧ Ex mX9_order Q 53 ls (.int (gI h a i.toNatClampNeg) :: st) h) := Ex_gd rfl rfl
theorem rX9_order_53 (Q : Po) (h : Hp) (ls : List Value) (st : List Value) : Ex mX9_order Q 53 ls st h = Ex mX9_order Q 54 ls (.int 1 :: st) h := Ex_nx rfl rfl
theorem rX9_order_54 (Q : Po) (h : Hp) (ls : List Value) (st : List Value) (x y : Int32) : Ex mX9_order Q 54 ls (.int y :: .int x :: st) h = Ex mX9_order Q 55 ls (.int (x - y) :: st) h := Ex_nx rfl rfl
theorem rX9_order_55 (Q : Po) (h : Hp) (ls : List Value) (st : List Value) (x : Int32) : Ex mX9_order Q 55 ls (.int x :: st) h = Ex mX9_order Q 56 ls (.long x.toInt64 :: st) h := Ex_nx rfl rfl
theorem rX9_order_56 (Q : Po) (h : Hp) (ls : List Value) (a0 : Int64) (a1 : Int64) (a2 : Int64) : Ex mX9_order Q 56 ls (.long a2 :: .long a1 :: .long a0 :: []) h = Ex mX9_in (Cont mX9_order Q 56 ls 59 []) 0 [.long a0, .retAddr 1, .long a1, .retAddr 1, .long a2, .retAddr 1] [] h := Ex_cl (n := 6) (as := [.long a0, .long a1, .long a2]) rfl rfl
theorem rX9_order_59 (Q : Po) (h : Hp) (ls : List Value) (st : List Value) (x : Int32) : Ex mX9_order Q 59 ls (.int x :: st) h = if ¬ x = 0 then Ex mX9_order Q 65 ls st h else Ex mX9_order Q 62 ls st h := Ex_br rfl rfl
theorem rX9_order_62 (Q : Po) (h : Hp) (ls : List Value) (st : List Value) : Ex mX9_order Q 62 ls st h = Ex mX9_order Q 64 ls (.int (-1000001) :: st) h := Ex_nx rfl rfl
theorem rX9_order_64 (Q : Po) (h : Hp) (ls : List Value) (x : Int32) : Ex mX9_order Q 64 ls [.int x] h = Q (.inl (some (.int x))) h := Ex_rt rfl rfl
theorem rX9_order_65 (Q : Po) (h : Hp) (l1 l2 l3 l4 l5 l6 l7 : Value) (x : Nat) (st : List Value) : Ex mX9_order Q 65 [.ref x, l1, l2, l3, l4, l5, l6, l7] st h = Ex mX9_order Q 66 [.ref x, l1, l2, l3, l4, l5, l6, l7] (.ref x :: st) h := Ex_nx rfl rfl
theorem rX9_order_66 (Q : Po) (h : Hp) (ls : List Value) (b : Nat) : Ex mX9_order Q 66 ls (.ref b :: []) h = (gK h b = 9 ∧ Ex mX9_putAside (Cont mX9_order Q 66 ls 69 []) 0 [.ref b, .retAddr 0] [] h) := Ex_cg (n := 2) (as := [.ref b]) rfl rfl
theorem rX9_order_69 (Q : Po) (h : Hp) (ls : List Value) (st : List Value) : Ex mX9_order Q 69 ls st h = Ex mX9_order Q 70 ls (.int 0 :: st) h := Ex_nx rfl rfl
theorem rX9_order_70 (Q : Po) (h : Hp) (l0 l1 l2 l3 l4 l5 l6 l7 : Value) (x : Int32) (st : List Value) : Ex mX9_order Q 70 [l0, l1, l2, l3, l4, l5, l6, l7] (.int x :: st) h = Ex mX9_order Q 72 [l0, l1, l2, l3, .int x, l5, l6, l7] st h := Ex_nx rfl rfl
theorem rX9_order_72 (Q : Po) (h : Hp) (l0 l1 l2 l3 l5 l6 l7 : Value) (x : Int32) (st : List Value) : Ex mX9_order Q 72 [l0, l1, l2, l3, .int x, l5, l6, l7] st h = Ex mX9_order Q 74 [l0, l1, l2, l3, .int x, l5, l6, l7] (.int x :: st) h := Ex_nx rfl rfl
theorem rX9_order_74 (Q : Po) (h : Hp) (l1 l2 l3 l4 l5 l6 l7 : Value) (x : Nat) (st : List Value) : Ex mX9_order Q 74 [.ref x, l1, l2, l3, l4, l5, l6, l7] st h = Ex mX9_order Q 75 [.ref x, l1, l2, l3, l4, l5, l6, l7] (.ref x :: st) h := Ex_nx rfl rfl
theorem rX9_order_75 (Q : Po) (h : Hp) (ls : List Value) (st : List Value) (a : Nat) : Ex mX9_order Q 75 ls (.ref a :: st) h = (gK h a ∈ ([9] : List Nat) ∧ Ex mX9_order Q 78 ls (gF h 81 a :: st) h) := Ex_gd rfl rfl
theorem rX9_order_78 (Q : Po) (h : Hp) (ls : List Value) (st : List Value) : Ex mX9_order Q 78 ls st h = Ex mX9_order Q 79 ls (.int 0 :: st) h := Ex_nx rfl rfl
theorem rX9_order_79 (Q : Po) (h : Hp) (ls : List Value) (st : List Value) (a : Nat) (i : Int32) : Ex mX9_order Q 79 ls (.int i :: .ref a :: st) h = ((gK h a = 51 ∧ ¬ (i < 0 ∨ gL h a ≤ i.toNatClampNeg)) ∧ Ex mX9_order Q 80 ls (.int (gI h a i.toNatClampNeg) :: st) h) := Ex_gd rfl rfl
theorem rX9_order_80 (Q : Po) (h : Hp) (ls : List Value) (st : List Value) (x y : Int32) : Ex mX9_order Q 80 ls (.int y :: .int x :: st) h = if y ≤ x then Ex mX9_order Q 98 ls st h else Ex mX9_order Q 83 ls st h := Ex_br rfl rfl
theorem rX9_order_83 (Q : Po) (h : Hp) (l1 l2 l3 l4 l5 l6 l7 : Value) (x : Nat) (st : List Value) : Ex mX9_order Q 83 [.ref x, l1, l2, l3, l4, l5, l6, l7] st h = Ex mX9_order Q 84 [.ref x, l1, l2, l3, l4, l5, l6, l7] (.ref x :: st) h := Ex_nx rfl rfl
theorem rX9_order_84 (Q : Po) (h : Hp) (ls : List Value) (st : List Value) (a : Nat) : Ex mX9_order Q 84 ls (.ref a :: st) h = (gK h a ∈ ([9] : List Nat) ∧ Ex mX9_order Q 87 ls (gF h 111 a :: st) h) := Ex_gd rfl rfl
theorem rX9_order_87 (Q : Po) (h : Hp) (l0 l1 l2 l3 l5 l6 l7 : Value) (x : Int32) (st : List Value) : Ex mX9_order Q 87 [l0, l1, l2, l3, .int x, l5, l6, l7] st h = Ex mX9_order Q 89 [l0, l1, l2, l3, .int x, l5, l6, l7] (.int x :: st) h := Ex_nx rfl rfl
theorem rX9_order_89 (Q : Po) (h : Hp) (l0 l1 l2 l3 l5 l6 l7 : Value) (x : Int32) (st : List Value) : Ex mX9_order Q 89 [l0, l1, l2, l3, .int x, l5, l6, l7] st h = Ex mX9_order Q 91 [l0, l1, l2, l3, .int x, l5, l6, l7] (.int x :: st) h := Ex_nx rfl rfl
theorem rX9_order_91 (Q : Po) (h : Hp) (ls : List Value) (st : List Value) (a : Nat) (i x : Int32) : Ex mX9_order Q 91 ls (.int x :: .int i :: .ref a :: st) h = ((gK h a = 51 ∧ ¬ (i < 0 ∨ gL h a ≤ i.toNatClampNeg)) ∧ Ex mX9_order Q 92 ls st (pI h a i.toNatClampNeg (x))) := Ex_gd rfl rfl
theorem rX9_order_92 (Q : Po) (h : Hp) (l0 l1 l2 l3 l5 l6 l7 : Value) (x : Int32) (st : List Value) : Ex mX9_order Q 92 [l0, l1, l2, l3, .int x, l5, l6, l7] st h = Ex mX9_order Q 95 [l0, l1, l2, l3, .int (x + 1), l5, l6, l7] st h := Ex_nx rfl rfl
theorem rX9_order_95 (Q : Po) (h : Hp) (ls : List Value) (st : List Value) : Ex mX9_order Q 95 ls st h = Ex mX9_order Q 72 ls st h := Ex_nx rfl rfl
theorem rX9_order_98 (Q : Po) (h : Hp) (ls : List Value) (st : List Value) : Ex mX9_order Q 98 ls st h = Ex mX9_order Q 99 ls (.int (-1) :: st) h := Ex_nx rfl rfl
theorem rX9_order_99 (Q : Po) (h : Hp) (l0 l1 l2 l3 l4 l5 l6 l7 : Value) (x : Int32) (st : List Value) : Ex mX9_order Q 99 [l0, l1, l2, l3, l4, l5, l6, l7] (.int x :: st) h = Ex mX9_order Q 101 [l0, l1, l2, l3, .int x, l5, l6, l7] st h := Ex_nx rfl rfl
theorem rX9_order_101 (Q : Po) (h : Hp) (ls : List Value) (st : List Value) : Ex mX9_order Q 101 ls st h = Ex mX9_order Q 102 ls (.int 1 :: st) h := Ex_nx rfl rfl
theorem rX9_order_102 (Q : Po) (h : Hp) (l0 l1 l2 l3 l4 l5 l6 l7 : Value) (x : Int32) (st : List Value) : Ex mX9_order Q 102 [l0, l1, l2, l3, l4, l5, l6, l7] (.int x :: st) h = Ex mX9_order Q 104 [l0, l1, l2, l3, l4, .int x, l6, l7] st h := Ex_nx rfl rfl
theorem rX9_order_104 (Q : Po) (h : Hp) (l0 l1 l2 l3 l4 l6 l7 : Value) (x : Int32) (st : List Value) : Ex mX9_order Q 104 [l0, l1, l2, l3, l4, .int x, l6, l7] st h = Ex mX9_order Q 106 [l0, l1, l2, l3, l4, .int x, l6, l7] (.int x :: st) h := Ex_nx rfl rfl
theorem rX9_order_106 (Q : Po) (h : Hp) (ls : List Value) (st : List Value) (x : Int32) : Ex mX9_order Q 106 ls (.int x :: st) h = if x = 0 then Ex mX9_order Q 222 ls st h else Ex mX9_order Q 109 ls st h := Ex_br rfl rfl
theorem rX9_order_109 (Q : Po) (h : Hp) (ls : List Value) (st : List Value) : Ex mX9_order Q 109 ls st h = Ex mX9_order Q 110 ls (.int 0 :: st) h := Ex_nx rfl rfl
theorem rX9_order_110 (Q : Po) (h : Hp) (l0 l1 l2 l3 l4 l5 l6 l7 : Value) (x : Int32) (st : List Value) : Ex mX9_order Q 110 [l0, l1, l2, l3, l4, l5, l6, l7] (.int x :: st) h = Ex mX9_order Q 112 [l0, l1, l2, l3, l4, l5, .int x, l7] st h := Ex_nx rfl rfl
theorem rX9_order_112 (Q : Po) (h : Hp) (l0 l1 l2 l3 l4 l5 l7 : Value) (x : Int32) (st : List Value) : Ex mX9_order Q 112 [l0, l1, l2, l3, l4, l5, .int x, l7] st h = Ex mX9_order Q 114 [l0, l1, l2, l3, l4, l5, .int x, l7] (.int x :: st) h := Ex_nx rfl rfl
theorem rX9_order_114 (Q : Po) (h : Hp) (l1 l2 l3 l4 l5 l6 l7 : Value) (x : Nat) (st : List Value) : Ex mX9_order Q 114 [.ref x, l1, l2, l3, l4, l5, l6, l7] st h = Ex mX9_order Q 115 [.ref x, l1, l2, l3, l4, l5, l6, l7] (.ref x :: st) h := Ex_nx rfl rfl
theorem rX9_order_115 (Q : Po) (h : Hp) (ls : List Value) (st : List Value) (a : Nat) : Ex mX9_order Q 115 ls (.ref a :: st) h = (gK h a ∈ ([9] : List Nat) ∧ Ex mX9_order Q 118 ls (gF h 81 a :: st) h) := Ex_gd rfl rfl
theorem rX9_order_118 (Q : Po) (h : Hp) (ls : List Value) (st : List Value) : Ex mX9_order Q 118 ls st h = Ex mX9_order Q 119 ls (.int 0 :: st) h := Ex_nx rfl rfl
theorem rX9_order_119 (Q : Po) (h : Hp) (ls : List Value) (st : List Value) (a : Nat) (i : Int32) : Ex mX9_order Q 119 ls (.int i :: .ref a :: st) h = ((gK h a = 51 ∧ ¬ (i < 0 ∨ gL h a ≤ i.toNatClampNeg)) ∧ Ex mX9_order Q 120 ls (.int (gI h a i.toNatClampNeg) :: st) h) := Ex_gd rfl rfl
theorem rX9_order_120 (Q : Po) (h : Hp) (ls : List Value) (st : List Value) (x y : Int32) : Ex mX9_order Q 120 ls (.int y :: .int x :: st) h = if y ≤ x then Ex mX9_order Q 146 ls st h else Ex mX9_order Q 123 ls st h := Ex_br rfl rfl
theorem rX9_order_123 (Q : Po) (h : Hp) (l1 l2 l3 l4 l5 l6 l7 : Value) (x : Nat) (st : List Value) : Ex mX9_order Q 123 [.ref x, l1, l2, l3, l4, l5, l6, l7] st h = Ex mX9_order Q 124 [.ref x, l1, l2, l3, l4, l5, l6, l7] (.ref x :: st) h := Ex_nx rfl rfl
theorem rX9_order_124 (Q : Po) (h : Hp) (ls : List Value) (st : List Value) (a : Nat) : Ex mX9_order Q 124 ls (.ref a :: st) h = (gK h a ∈ ([9] : List Nat) ∧ Ex mX9_order Q 127 ls (gF h 81 a :: st) h) := Ex_gd rfl rfl
theorem rX9_order_127 (Q : Po) (h : Hp) (ls : List Value) (st : List Value) : Ex mX9_order Q 127 ls st h = Ex mX9_order Q 129 ls (.int 20 :: st) h := Ex_nx rfl rfl
theorem rX9_order_129 (Q : Po) (h : Hp) (l1 l2 l3 l4 l5 l6 l7 : Value) (x : Nat) (st : List Value) : Ex mX9_order Q 129 [.ref x, l1, l2, l3, l4, l5, l6, l7] st h = Ex mX9_order Q 130 [.ref x, l1, l2, l3, l4, l5, l6, l7] (.ref x :: st) h := Ex_nx rfl rfl
theorem rX9_order_130 (Q : Po) (h : Hp) (ls : List Value) (st : List Value) (a : Nat) : Ex mX9_order Q 130 ls (.ref a :: st) h = (gK h a ∈ ([9] : List Nat) ∧ Ex mX9_order Q 133 ls (gF h 111 a :: st) h) := Ex_gd rfl rfl
theorem rX9_order_133 (Q : Po) (h : Hp) (l0 l1 l2 l3 l4 l5 l7 : Value) (x : Int32) (st : List Value) : Ex mX9_order Q 133 [l0, l1, l2, l3, l4, l5, .int x, l7] st h = Ex mX9_order Q 135 [l0, l1, l2, l3, l4, l5, .int x, l7] (.int x :: st) h := Ex_nx rfl rfl
theorem rX9_order_135 (Q : Po) (h : Hp) (ls : List Value) (st : List Value) (a : Nat) (i : Int32) : Ex mX9_order Q 135 ls (.int i :: .ref a :: st) h = ((gK h a = 51 ∧ ¬ (i < 0 ∨ gL h a ≤ i.toNatClampNeg)) ∧ Ex mX9_order Q 136 ls (.int (gI h a i.toNatClampNeg) :: st) h) := Ex_gd rfl rfl
theorem rX9_order_136 (Q : Po) (h : Hp) (ls : List Value) (st : List Value) (x y : Int32) : Ex mX9_order Q 136 ls (.int y :: .int x :: st) h = Ex mX9_order Q 137 ls (.int (x + y) :: st) h := Ex_nx rfl rfl
theorem rX9_order_137 (Q : Po) (h : Hp) (l0 l1 l2 l3 l4 l5 l7 : Value) (x : Int32) (st : List Value) : Ex mX9_order Q 137 [l0, l1, l2, l3, l4, l5, .int x, l7] st h = Ex mX9_order Q 139 [l0, l1, l2, l3, l4, l5, .int x, l7] (.int x :: st) h := Ex_nx rfl rfl
theorem rX9_order_139 (Q : Po) (h : Hp) (ls : List Value) (st : List Value) (a : Nat) (i x : Int32) : Ex mX9_order Q 139 ls (.int x :: .int i :: .ref a :: st) h = ((gK h a = 51 ∧ ¬ (i < 0 ∨ gL h a ≤ i.toNatClampNeg)) ∧ Ex mX9_order Q 140 ls st (pI h a i.toNatClampNeg (x))) := Ex_gd rfl rfl
theorem rX9_order_140 (Q : Po) (h : Hp) (l0 l1 l2 l3 l4 l5 l7 : Value) (x : Int32) (st : List Value) : Ex mX9_order Q 140 [l0, l1, l2, l3, l4, l5, .int x, l7] st h = Ex mX9_order Q 143 [l0, l1, l2, l3, l4, l5, .int (x + 1), l7] st h := Ex_nx rfl rfl
theorem rX9_order_143 (Q : Po) (h : Hp) (ls : List Value) (st : List Value) : Ex mX9_order Q 143 ls st h = Ex mX9_order Q 112 ls st h := Ex_nx rfl rfl
theorem rX9_order_146 (Q : Po) (h : Hp) (l1 l2 l3 l4 l5 l6 l7 : Value) (x : Nat) (st : List Value) : Ex mX9_order Q 146 [.ref x, l1, l2, l3, l4, l5, l6, l7] st h = Ex mX9_order Q 147 [.ref x, l1, l2, l3, l4, l5, l6, l7] (.ref x :: st) h := Ex_nx rfl rfl
theorem rX9_order_147 (Q : Po) (h : Hp) (l0 l1 l3 l4 l5 l6 l7 : Value) (x : Int32) (st : List Value) : Ex mX9_order Q 147 [l0, l1, .int x, l3, l4, l5, l6, l7] st h = Ex mX9_order Q 148 [l0, l1, .int x, l3, l4, l5, l6, l7] (.int x :: st) h := Ex_nx rfl rfl
theorem rX9_order_148 (Q : Po) (h : Hp) (ls : List Value) (a0 : Int32) (b : Nat) : Ex mX9_order Q 148 ls (.int a0 :: .ref b :: []) h = (gK h b = 9 ∧ Ex mX9_goOn (Cont mX9_order Q 148 ls 151 []) 0 [.ref b, .int a0, .retAddr 0] [] h) := Ex_cg (n := 3) (as := [.ref b, .int a0]) rfl rfl
theorem rX9_order_151 (Q : Po) (h : Hp) (l1 l2 l3 l4 l5 l6 l7 : Value) (x : Nat) (st : List Value) : Ex mX9_order Q 151 [.ref x, l1, l2, l3, l4, l5, l6, l7] st h = Ex mX9_order Q 152 [.ref x, l1, l2, l3, l4, l5, l6, l7] (.ref x :: st) h := Ex_nx rfl rfl
theorem rX9_order_152 (Q : Po) (h : Hp) (l0 l2 l3 l4 l5 l6 l7 : Value) (x : Int32) (st : List Value) : Ex mX9_order Q 152 [l0, .int x, l2, l3, l4, l5, l6, l7] st h = Ex mX9_order Q 153 [l0, .int x, l2, l3, l4, l5, l6, l7] (.int x :: st) h := Ex_nx rfl rfl
theorem rX9_order_153 (Q : Po) (h : Hp) (ls : List Value) (a0 : Int32) (b : Nat) : Ex mX9_order Q 153 ls (.int a0 :: .ref b :: []) h = (gK h b = 9 ∧ Ex mX9_pagesOf (Cont mX9_order Q 153 ls 156 []) 0 [.ref b, .int a0, .retAddr 0, .retAddr 0] [] h) := Ex_cg (n := 4) (as := [.ref b, .int a0]) rfl rfl
theorem rX9_order_156 (Q : Po) (h : Hp) (l0 l1 l2 l3 l4 l5 l6 l7 : Value) (x : Int32) (st : List Value) : Ex mX9_order Q 156 [l0, l1, l2, l3, l4, l5, l6, l7] (.int x :: st) h = Ex mX9_order Q 158 [l0, l1, l2, l3, l4, l5, .int x, l7] st h := Ex_nx rfl rfl
theorem rX9_order_158 (Q : Po) (h : Hp) (l1 l2 l3 l4 l5 l6 l7 : Value) (x : Nat) (st : List Value) : Ex mX9_order Q 158 [.ref x, l1, l2, l3, l4, l5, l6, l7] st h = Ex mX9_order Q 159 [.ref x, l1, l2, l3, l4, l5, l6, l7] (.ref x :: st) h := Ex_nx rfl rfl
theorem rX9_order_159 (Q : Po) (h : Hp) (ls : List Value) (b : Nat) : Ex mX9_order Q 159 ls (.ref b :: []) h = (gK h b = 9 ∧ Ex mX9_takeBack (Cont mX9_order Q 159 ls 162 []) 0 [.ref b, .retAddr 0] [] h) := Ex_cg (n := 2) (as := [.ref b]) rfl rfl
theorem rX9_order_162 (Q : Po) (h : Hp) (l0 l1 l2 l3 l4 l5 l7 : Value) (x : Int32) (st : List Value) : Ex mX9_order Q 162 [l0, l1, l2, l3, l4, l5, .int x, l7] st h = Ex mX9_order Q 164 [l0, l1, l2, l3, l4, l5, .int x, l7] (.int x :: st) h := Ex_nx rfl rfl
theorem rX9_order_164 (Q : Po) (h : Hp) (l0 l1 l2 l3 l5 l6 l7 : Value) (x : Int32) (st : List Value) : Ex mX9_order Q 164 [l0, l1, l2, l3, .int x, l5, l6, l7] st h = Ex mX9_order Q 166 [l0, l1, l2, l3, .int x, l5, l6, l7] (.int x :: st) h := Ex_nx rfl rfl
theorem rX9_order_166 (Q : Po) (h : Hp) (ls : List Value) (st : List Value) (x y : Int32) : Ex mX9_order Q 166 ls (.int y :: .int x :: st) h = if x ≤ y then Ex mX9_order Q 207 ls st h else Ex mX9_order Q 169 ls st h := Ex_br rfl rfl
theorem rX9_order_169 (Q : Po) (h : Hp) (l0 l1 l2 l3 l4 l5 l7 : Value) (x : Int32) (st : List Value) : Ex mX9_order Q 169 [l0, l1, l2, l3, l4, l5, .int x, l7] st h = Ex mX9_order Q 171 [l0, l1, l2, l3, l4, l5, .int x, l7] (.int x :: st) h := Ex_nx rfl rfl
theorem rX9_order_171 (Q : Po) (h : Hp) (l0 l1 l2 l3 l4 l5 l6 l7 : Value) (x : Int32) (st : List Value) : Ex mX9_order Q 171 [l0, l1, l2, l3, l4, l5, l6, l7] (.int x :: st) h = Ex mX9_order Q 173 [l0, l1, l2, l3, .int x, l5, l6, l7] st h := Ex_nx rfl rfl
theorem rX9_order_173 (Q : Po) (h : Hp) (ls : List Value) (st : List Value) : Ex mX9_order Q 173 ls st h = Ex mX9_order Q 174 ls (.int 0 :: st) h := Ex_nx rfl rfl
theorem rX9_order_174 (Q : Po) (h : Hp) (l0 l1 l2 l3 l4 l5 l6 l7 : Value) (x : Int32) (st : List Value) : Ex mX9_order Q 174 [l0, l1, l2, l3, l4, l5, l6, l7] (.int x :: st) h = Ex mX9_order Q 176 [l0, l1, l2, l3, l4, l5, l6, .int x] st h := Ex_nx rfl rfl
theorem rX9_order_176 (Q : Po) (h : Hp) (l0 l1 l2 l3 l4 l5 l6 : Value) (x : Int32) (st : List Value) : Ex mX9_order Q 176 [l0, l1, l2, l3, l4, l5, l6, .int x] st h = Ex mX9_order Q 178 [l0, l1, l2, l3, l4, l5, l6, .int x] (.int x :: st) h := Ex_nx rfl rfl
theorem rX9_order_178 (Q : Po) (h : Hp) (l1 l2 l3 l4 l5 l6 l7 : Value) (x : Nat) (st : List Value) : Ex mX9_order Q 178 [.ref x, l1, l2, l3, l4, l5, l6, l7] st h = Ex mX9_order Q 179 [.ref x, l1, l2, l3, l4, l5, l6, l7] (.ref x :: st) h := Ex_nx rfl rfl
theorem rX9_order_179 (Q : Po) (h : Hp) (ls : List Value) (st : List Value) (a : Nat) : Ex mX9_order Q 179 ls (.ref a :: st) h = (gK h a ∈ ([9] : List Nat) ∧ Ex mX9_order Q 182 ls (gF h 81 a :: st) h) := Ex_gd rfl rfl
theorem rX9_order_182 (Q : Po) (h : Hp) (ls : List Value) (st : List Value) : Ex mX9_order Q 182 ls st h = Ex mX9_order Q 183 ls (.int 0 :: st) h := Ex_nx rfl rfl
theorem rX9_order_183 (Q : Po) (h : Hp) (ls : List Value) (st : List Value) (a : Nat) (i : Int32) : Ex mX9_order Q 183 ls (.int i :: .ref a :: st) h = ((gK h a = 51 ∧ ¬ (i < 0 ∨ gL h a ≤ i.toNatClampNeg)) ∧ Ex mX9_order Q 184 ls (.int (gI h a i.toNatClampNeg) :: st) h) := Ex_gd rfl rfl
theorem rX9_order_184 (Q : Po) (h : Hp) (ls : List Value) (st : List Value) (x y : Int32) : Ex mX9_order Q 184 ls (.int y :: .int x :: st) h = if y ≤ x then Ex mX9_order Q 207 ls st h else Ex mX9_order Q 187 ls st h := Ex_br rfl rfl
theorem rX9_order_187 (Q : Po) (h : Hp) (l1 l2 l3 l4 l5 l6 l7 : Value) (x : Nat) (st : List Value) : Ex mX9_order Q 187 [.ref x, l1, l2, l3, l4, l5, l6, l7] st h = Ex mX9_order Q 188 [.ref x, l1, l2, l3, l4, l5, l6, l7] (.ref x :: st) h := Ex_nx rfl rfl
theorem rX9_order_188 (Q : Po) (h : Hp) (ls : List Value) (st : List Value) (a : Nat) : Ex mX9_order Q 188 ls (.ref a :: st) h = (gK h a ∈ ([9] : List Nat) ∧ Ex mX9_order Q 191 ls (gF h 113 a :: st) h) := Ex_gd rfl rfl
theorem rX9_order_191 (Q : Po) (h : Hp) (l0 l1 l2 l3 l4 l5 l6 : Value) (x : Int32) (st : List Value) : Ex mX9_order Q 191 [l0, l1, l2, l3, l4, l5, l6, .int x] st h = Ex mX9_order Q 193 [l0, l1, l2, l3, l4, l5, l6, .int x] (.int x :: st) h := Ex_nx rfl rfl
theorem rX9_order_193 (Q : Po) (h : Hp) (l1 l2 l3 l4 l5 l6 l7 : Value) (x : Nat) (st : List Value) : Ex mX9_order Q 193 [.ref x, l1, l2, l3, l4, l5, l6, l7] st h = Ex mX9_order Q 194 [.ref x, l1, l2, l3, l4, l5, l6, l7] (.ref x :: st) h := Ex_nx rfl rfl
theorem rX9_order_194 (Q : Po) (h : Hp) (ls : List Value) (st : List Value) (a : Nat) : Ex mX9_order Q 194 ls (.ref a :: st) h = (gK h a ∈ ([9] : List Nat) ∧ Ex mX9_order Q 197 ls (gF h 111 a :: st) h) := Ex_gd rfl rfl
theorem rX9_order_197 (Q : Po) (h : Hp) (l0 l1 l2 l3 l4 l5 l6 : Value) (x : Int32) (st : List Value) : Ex mX9_order Q 197 [l0, l1, l2, l3, l4, l5, l6, .int x] st h = Ex mX9_order Q 199 [l0, l1, l2, l3, l4, l5, l6, .int x] (.int x :: st) h := Ex_nx rfl rfl
theorem rX9_order_199 (Q : Po) (h : Hp) (ls : List Value) (st : List Value) (a : Nat) (i : Int32) : Ex mX9_order Q 199 ls (.int i :: .ref a :: st) h = ((gK h a = 51 ∧ ¬ (i < 0 ∨ gL h a ≤ i.toNatClampNeg)) ∧ Ex mX9_order Q 200 ls (.int (gI h a i.toNatClampNeg) :: st) h) := Ex_gd rfl rfl
theorem rX9_order_200 (Q : Po) (h : Hp) (ls : List Value) (st : List Value) (a : Nat) (i x : Int32) : Ex mX9_order Q 200 ls (.int x :: .int i :: .ref a :: st) h = ((gK h a = 51 ∧ ¬ (i < 0 ∨ gL h a ≤ i.toNatClampNeg)) ∧ Ex mX9_order Q 201 ls st (pI h a i.toNatClampNeg (x))) := Ex_gd rfl rfl
theorem rX9_order_201 (Q : Po) (h : Hp) (l0 l1 l2 l3 l4 l5 l6 : Value) (x : Int32) (st : List Value) : Ex mX9_order Q 201 [l0, l1, l2, l3, l4, l5, l6, .int x] st h = Ex mX9_order Q 204 [l0, l1, l2, l3, l4, l5, l6, .int (x + 1)] st h := Ex_nx rfl rfl
theorem rX9_order_204 (Q : Po) (h : Hp) (ls : List Value) (st : List Value) : Ex mX9_order Q 204 ls st h = Ex mX9_order Q 176 ls st h := Ex_nx rfl rfl
theorem rX9_order_207 (Q : Po) (h : Hp) (l1 l2 l3 l4 l5 l6 l7 : Value) (x : Nat) (st : List Value) : Ex mX9_order Q 207 [.ref x, l1, l2, l3, l4, l5, l6, l7] st h = Ex mX9_order Q 208 [.ref x, l1, l2, l3, l4, l5, l6, l7] (.ref x :: st) h := Ex_nx rfl rfl
theorem rX9_order_208 (Q : Po) (h : Hp) (l1 l2 l3 l4 l5 l6 l7 : Value) (x : Nat) (st : List Value) : Ex mX9_order Q 208 [.ref x, l1, l2, l3, l4, l5, l6, l7] st h = Ex mX9_order Q 209 [.ref x, l1, l2, l3, l4, l5, l6, l7] (.ref x :: st) h := Ex_nx rfl rfl
theorem rX9_order_209 (Q : Po) (h : Hp) (ls : List Value) (st : List Value) (a : Nat) : Ex mX9_order Q 209 ls (.ref a :: st) h = (gK h a ∈ ([9] : List Nat) ∧ Ex mX9_order Q 212 ls (gF h 81 a :: st) h) := Ex_gd rfl rfl
theorem rX9_order_212 (Q : Po) (h : Hp) (ls : List Value) (st : List Value) : Ex mX9_order Q 212 ls st h = Ex mX9_order Q 213 ls (.int 0 :: st) h := Ex_nx rfl rfl
theorem rX9_order_213 (Q : Po) (h : Hp) (ls : List Value) (st : List Value) (a : Nat) (i : Int32) : Ex mX9_order Q 213 ls (.int i :: .ref a :: st) h = ((gK h a = 51 ∧ ¬ (i < 0 ∨ gL h a ≤ i.toNatClampNeg)) ∧ Ex mX9_order Q 214 ls (.int (gI h a i.toNatClampNeg) :: st) h) := Ex_gd rfl rfl
theorem rX9_order_214 (Q : Po) (h : Hp) (ls : List Value) (a0 : Int32) (b : Nat) : Ex mX9_order Q 214 ls (.int a0 :: .ref b :: []) h = (gK h b = 9 ∧ Ex mX9_isNext (Cont mX9_order Q 214 ls 217 []) 0 [.ref b, .int a0, .retAddr 0, .retAddr 0, .retAddr 0, .retAddr 0] [] h) := Ex_cg (n := 6) (as := [.ref b, .int a0]) rfl rfl
theorem rX9_order_217 (Q : Po) (h : Hp) (l0 l1 l2 l3 l4 l5 l6 l7 : Value) (x : Int32) (st : List Value) : Ex mX9_order Q 217 [l0, l1, l2, l3, l4, l5, l6, l7] (.int x :: st) h = Ex mX9_order Q 219 [l0, l1, l2, l3, l4, .int x, l6, l7] st h := Ex_nx rfl rfl
theorem rX9_order_219 (Q : Po) (h : Hp) (ls : List Value) (st : List Value) : Ex mX9_order Q 219 ls st h = Ex mX9_order Q 104 ls st h := Ex_nx rfl rfl
theorem rX9_order_222 (Q : Po) (h : Hp) (l0 l1 l2 l4 l5 l6 l7 : Value) (x : Int32) (st : List Value) : Ex mX9_order Q 222 [l0, l1, l2, .int x, l4, l5, l6, l7] st h = Ex mX9_order Q 223 [l0, l1, l2, .int x, l4, l5, l6, l7] (.int x :: st) h := Ex_nx rfl rfl
theorem rX9_order_223 (Q : Po) (h : Hp) (ls : List Value) (st : List Value) (x : Int32) : Ex mX9_order Q 223 ls (.int x :: st) h = if 0 ≤ x then Ex mX9_order Q 231 ls st h else Ex mX9_order Q 226 ls st h := Ex_br rfl rfl
theorem rX9_order_226 (Q : Po) (h : Hp) (l0 l1 l2 l3 l5 l6 l7 : Value) (x : Int32) (st : List Value) : Ex mX9_order Q 226 [l0, l1, l2, l3, .int x, l5, l6, l7] st h = Ex mX9_order Q 228 [l0, l1, l2, l3, .int x, l5, l6, l7] (.int x :: st) h := Ex_nx rfl rfl
theorem rX9_order_228 (Q : Po) (h : Hp) (ls : List Value) (st : List Value) : Ex mX9_order Q 228 ls st h = Ex mX9_order Q 237 ls st h := Ex_nx rfl rfl
theorem rX9_order_231 (Q : Po) (h : Hp) (l1 l2 l3 l4 l5 l6 l7 : Value) (x : Nat) (st : List Value) : Ex mX9_order Q 231 [.ref x, l1, l2, l3, l4, l5, l6, l7] st h = Ex mX9_order Q 232 [.ref x, l1, l2, l3, l4, l5, l6, l7] (.ref x :: st) h := Ex_nx rfl rfl
theorem rX9_order_232 (Q : Po) (h : Hp) (ls : List Value) (st : List Value) (a : Nat) : Ex mX9_order Q 232 ls (.ref a :: st) h = (gK h a ∈ ([9] : List Nat) ∧ Ex mX9_order Q 235 ls (gF h 113 a :: st) h) := Ex_gd rfl rfl
theorem rX9_order_235 (Q : Po) (h : Hp) (l0 l1 l2 l4 l5 l6 l7 : Value) (x : Int32) (st : List Value) : Ex mX9_order Q 235 [l0, l1, l2, .int x, l4, l5, l6, l7] st h = Ex mX9_order Q 236 [l0, l1, l2, .int x, l4, l5, l6, l7] (.int x :: st) h := Ex_nx rfl rfl
theorem rX9_order_236 (Q : Po) (h : Hp) (ls : List Value) (st : List Value) (a : Nat) (i : Int32) : Ex mX9_order Q 236 ls (.int i :: .ref a :: st) h = ((gK h a = 51 ∧ ¬ (i < 0 ∨ gL h a ≤ i.toNatClampNeg)) ∧ Ex mX9_order Q 237 ls (.int (gI h a i.toNatClampNeg) :: st) h) := Ex_gd rfl rfl
theorem rX9_order_237 (Q : Po) (h : Hp) (ls : List Value) (x : Int32) : Ex mX9_order Q 237 ls [.int x] h = Q (.inl (some (.int x))) h := Ex_rt rfl rfl
theorem rX9_order_t (Q : Po) (h : Hp) (pc n a : Nat) (ls st : List Value) : Cont mX9_order Q pc ls n st (.inr a) h = Q (.inr a) h := rfl
/-! FishReadersModel.pagesBehind(II)I -/
def mX9_pagesBehind : Cd := ([(0, .inl (i_aload 0 1)),
  (1, .inl (i_iload 2 2)),
  (2, .inr (c_V 1 5 3 9 (Mt mX9_goOn 3))),
  (5, .inl (i_aload 0 6)),
  (6, .inl (i_getf 81 [9] 9)),
  (9, .inl (i_push (.int 8) 11)),
  (11, .inl (i_iload 1 12)),
  (12, .inl (i_bin (fun x y => x + y) 13)),
  (13, .inl (i_iald 51 14)),
  (14, .inl (i_istore 3 15)),
  (15, .inl (i_aload 0 16)),
  (16, .inr (c_V 0 19 2 9 (Mt mX9_takeBack 2))),
  (19, .inl (i_iload 3 20)),
  (20, .inl i_iret)], noH)
theorem rX9_pagesBehind_0 (Q : Po) (h : Hp) (l1 l2 l3 : Value) (x : Nat) (st : List Value) : Ex mX9_pagesBehind Q 0 [.ref x, l1, l2, l3] st h = Ex mX9_pagesBehind Q 1 [.ref x, l1, l2, l3] (.ref x :: st) h := Ex_nx rfl rfl
theorem rX9_pagesBehind_1 (Q : Po) (h : Hp) (l0 l1 l3 : Value) (x : Int32) (st : List Value) : Ex mX9_pagesBehind Q 1 [l0, l1, .int x, l3] st h = Ex mX9_pagesBehind Q 2 [l0, l1, .int x, l3] (.int x :: st) h := Ex_nx rfl rfl
theorem rX9_pagesBehind_2 (Q : Po) (h : Hp) (ls : List Value) (a0 : Int32) (b : Nat) : Ex mX9_pagesBehind Q 2 ls (.int a0 :: .ref b :: []) h = (gK h b = 9 ∧ Ex mX9_goOn (Cont mX9_pagesBehind Q 2 ls 5 []) 0 [.ref b, .int a0, .retAddr 0] [] h) := Ex_cg (n := 3) (as := [.ref b, .int a0]) rfl rfl
theorem rX9_pagesBehind_5 (Q : Po) (h : Hp) (l1 l2 l3 : Value) (x : Nat) (st : List Value) : Ex mX9_pagesBehind Q 5 [.ref x, l1, l2, l3] st h = Ex mX9_pagesBehind Q 6 [.ref x, l1, l2, l3] (.ref x :: st) h := Ex_nx rfl rfl
theorem rX9_pagesBehind_6 (Q : Po) (h : Hp) (ls : List Value) (st : List Value) (a : Nat) : Ex mX9_pagesBehind Q 6 ls (.ref a :: st) h = (gK h a ∈ ([9] : List Nat) ∧ Ex mX9_pagesBehind Q 9 ls (gF h 81 a :: st) h) := Ex_gd rfl rfl
theorem rX9_pagesBehind_9 (Q : Po) (h : Hp) (ls : List Value) (st : List Value) : Ex mX9_pagesBehind Q 9 ls st h = Ex mX9_pagesBehind Q 11 ls (.int 8 :: st) h := Ex_nx rfl rfl
theorem rX9_pagesBehind_11 (Q : Po) (h : Hp) (l0 l2 l3 : Value) (x : Int32) (st : List Value) : Ex mX9_pagesBehind Q 11 [l0, .int x, l2, l3] st h = Ex mX9_pagesBehind Q 12 [l0, .int x, l2, l3] (.int x :: st) h := Ex_nx rfl rfl
theorem rX9_pagesBehind_12 (Q : Po) (h : Hp) (ls : List Value) (st : List Value) (x y : Int32) : Ex mX9_pagesBehind Q 12 ls (.int y :: .int x :: st) h = Ex mX9_pagesBehind Q 13 ls (.int (x + y) :: st) h := Ex_nx rfl rfl
theorem rX9_pagesBehind_13 (Q : Po) (h : Hp) (ls : List Value) (st : List Value) (a : Nat) (i : Int32) : Ex mX9_pagesBehind Q 13 ls (.int i :: .ref a :: st) h = ((gK h a = 51 ∧ ¬ (i < 0 ∨ gL h a ≤ i.toNatClampNeg)) ∧ Ex mX9_pagesBehind Q 14 ls (.int (gI h a i.toNatClampNeg) :: st) h) := Ex_gd rfl rfl
theorem rX9_pagesBehind_14 (Q : Po) (h : Hp) (l0 l1 l2 l3 : Value) (x : Int32) (st : List Value) : Ex mX9_pagesBehind Q 14 [l0, l1, l2, l3] (.int x :: st) h = Ex mX9_pagesBehind Q 15 [l0, l1, l2, .int x] st h := Ex_nx rfl rfl
theorem rX9_pagesBehind_15 (Q : Po) (h : Hp) (l1 l2 l3 : Value) (x : Nat) (st : List Value) : Ex mX9_pagesBehind Q 15 [.ref x, l1, l2, l3] st h = Ex mX9_pagesBehind Q 16 [.ref x, l1, l2, l3] (.ref x :: st) h := Ex_nx rfl rfl
theorem rX9_pagesBehind_16 (Q : Po) (h : Hp) (ls : List Value) (b : Nat) : Ex mX9_pagesBehind Q 16 ls (.ref b :: []) h = (gK h b = 9 ∧ Ex mX9_takeBack (Cont mX9_pagesBehind Q 16 ls 19 []) 0 [.ref b, .retAddr 0] [] h) := Ex_cg (n := 2) (as := [.ref b]) rfl rfl
theorem rX9_pagesBehind_19 (Q : Po) (h : Hp) (l0 l1 l2 : Value) (x : Int32) (st : List Value) : Ex mX9_pagesBehind Q 19 [l0, l1, l2, .int x] st h = Ex mX9_pagesBehind Q 20 [l0, l1, l2, .int x] (.int x :: st) h := Ex_nx rfl rfl
theorem rX9_pagesBehind_20 (Q : Po) (h : Hp) (ls : List Value) (x : Int32) : Ex mX9_pagesBehind Q 20 ls [.int x] h = Q (.inl (some (.int x))) h := Ex_rt rfl rfl
theorem rX9_pagesBehind_t (Q : Po) (h : Hp) (pc n a : Nat) (ls st : List Value) : Cont mX9_pagesBehind Q pc ls n st (.inr a) h = Q (.inr a) h := rfl
/-! FishReadersModel.lamp(III)I -/
def mX9_lamp : Cd := ([(0, .inl (i_aload 0 1)),
  (1, .inl (i_iload 1 2)),
  (2, .inr (c_V 1 5 2 9 (Mt mX9_isBook 2))),
  (5, .inl (i_if (fun x => x = 0) 27 8)),
  (8, .inl (i_iload 2 9)),
  (9, .inl (i_i2l 10)),
  (10, .inl (i_push (.long 1) 11)),
  (11, .inl (i_push (.long 60) 14)),
  (14, .inr (c_S 3 17 6 (Mt mX9_in 6))),
  (17, .inl (i_if (fun x => x = 0) 27 20)),
  (20, .inl (i_iload 3 21)),
  (21, .inr (c_S 1 24 1 (Mt mX9_isWhat 1))),
  (24, .inl (i_if (fun x => ¬ x = 0) 30 27)),
  (27, .inl (i_push (.int (-1000001)) 29)),
  (29, .inl i_iret),
  (30, .inl (i_aload 0 31)),
  (31, .inr (c_V 0 34 2 9 (Mt mX9_putAside 2))),
  (34, .inl (i_push (.int 0) 35)),
  (35, .inl (i_istore 4 37)),
  (37, .inl (i_push (.int (-1)) 38)),
  (38, .inl (i_istore 5 40)),
  (40, .inl (i_push (.int 0) 41)),
  (41, .inl (i_istore 6 43)),
  (43, .inl (i_iload 6 45)),
  (45, .inl (i_push (.int 1) 46)),
  (46, .inl (i_aload 0 47)),
  (47, .inl (i_getf 81 [9] 50)),
  (50, .inl (i_push (.int 0) 51)),
  (51, .inl (i_iald 51 52)),
  (52, .inl (i_bin (fun x y => x <<< (y &&& 31)) 53)),
  (53, .inl (i_icmp (fun x y => y ≤ x) 127 56)),
  (56, .inl (i_iload 6 58)),
  (58, .inr (c_S 1 61 3 (Mt mX9_ones 3))),
  (61, .inl (i_aload 0 62)),
  (62, .inl (i_getf 81 [9] 65)),
  (65, .inl (i_push (.int 3) 66)),
  (66, .inl (i_iald 51 67)),
  (67, .inl (i_icmp (fun x y => y < x) 121 70)),
  (70, .inl (i_aload 0 71)),
  (71, .inl (i_getf 81 [9] 74)),
  (74, .inl (i_push (.int 5) 75)),
  (75, .inl (i_iload 6 77)),
  (77, .inl (i_iast 51 (fun x => x) 78)),
  (78, .inl (i_aload 0 79)),
  (79, .inl (i_iload 1 80)),
  (80, .inl (i_iload 2 81)),
  (81, .inr (c_V 2 84 4 9 (Mt mX9_pagesBehind 4))),
  (84, .inl (i_istore 7 86)),
  (86, .inl (i_iload 7 88)),
  (88, .inl (i_iload 5 90)),
  (90, .inl (i_icmp (fun x y => y < x) 113 93)),
  (93, .inl (i_iload 7 95)),
  (95, .inl (i_iload 5 97)),
  (97, .inl (i_icmp (fun x y => ¬ x = y) 121 100)),
  (100, .inl (i_iload 6 102)),
  (102, .inr (c_S 1 105 3 (Mt mX9_ones 3))),
  (105, .inl (i_iload 4 107)),
  (107, .inr (c_S 1 110 3 (Mt mX9_ones 3))),
  (110, .inl (i_icmp (fun x y => y ≤ x) 121 113)),
  (113, .inl (i_iload 6 115)),
  (115, .inl (i_istore 4 117)),
  (117, .inl (i_iload 7 119)),
  (119, .inl (i_istore 5 121)),
  (121, .inl (i_iinc 6 1 124)),
  (124, .inl (i_goto 43)),
  (127, .inl (i_iload 3 128)),
  (128, .inl (i_if (fun x => ¬ x = 0) 136 131)),
  (131, .inl (i_iload 5 133)),
  (133, .inl (i_goto 138)),
  (136, .inl (i_iload 4 138)),
  (138, .inl i_iret)], noH)
theorem rX9_lamp_0 (Q : Po) (h : Hp) (l1 l2 l3 l4 l5 l6 l7 : Value) (x : Nat) (st : List Value) : Ex mX9_lamp Q 0 [.ref x, l1, l2, l3, l4, l5, l6, l7] st h = Ex mX9_lamp Q 1 [.ref x, l1, l2, l3, l4, l5, l6, l7] (.ref x :: st) h := Ex_nx rfl rfl
theorem rX9_lamp_1 (Q : Po) (h : Hp) (l0 l2 l3 l4 l5 l6 l7 : Value) (x : Int32) (st : List Value) : Ex mX9_lamp Q 1 [l0, .int x, l2, l3, l4, l5, l6, l7] st h = Ex mX9_lamp Q 2 [l0, .int x, l2, l3, l4, l5, l6, l7] (.int x :: st) h := Ex_nx rfl rfl
theorem rX9_lamp_2 (Q : Po) (h : Hp) (ls : List Value) (a0 : Int32) (b : Nat) : Ex mX9_lamp Q 2 ls (.int a0 :: .ref b :: []) h = (gK h b = 9 ∧ Ex mX9_isBook (Cont mX9_lamp Q 2 ls 5 []) 0 [.ref b, .int a0] [] h) := Ex_cg (n := 2) (as := [.ref b, .int a0]) rfl rfl
theorem rX9_lamp_5 (Q : Po) (h : Hp) (ls : List Value) (st : List Value) (x : Int32) : Ex mX9_lamp Q 5 ls (.int x :: st) h = if x = 0 then Ex mX9_lamp Q 27 ls st h else Ex mX9_lamp Q 8 ls st h := Ex_br rfl rfl
theorem rX9_lamp_8 (Q : Po) (h : Hp) (l0 l1 l3 l4 l5 l6 l7 : Value) (x : Int32) (st : List Value) : Ex mX9_lamp Q 8 [l0, l1, .int x, l3, l4, l5, l6, l7] st h = Ex mX9_lamp Q 9 [l0, l1, .int x, l3, l4, l5, l6, l7] (.int x :: st) h := Ex_nx rfl rfl
theorem rX9_lamp_9 (Q : Po) (h : Hp) (ls : List Value) (st : List Value) (x : Int32) : Ex mX9_lamp Q 9 ls (.int x :: st) h = Ex mX9_lamp Q 10 ls (.long x.toInt64 :: st) h := Ex_nx rfl rfl
theorem rX9_lamp_10 (Q : Po) (h : Hp) (ls : List Value) (st : List Value) : Ex mX9_lamp Q 10 ls st h = Ex mX9_lamp Q 11 ls (.long 1 :: st) h := Ex_nx rfl rfl
theorem rX9_lamp_11 (Q : Po) (h : Hp) (ls : List Value) (st : List Value) : Ex mX9_lamp Q 11 ls st h = Ex mX9_lamp Q 14 ls (.long 60 :: st) h := Ex_nx rfl rfl
theorem rX9_lamp_14 (Q : Po) (h : Hp) (ls : List Value) (a0 : Int64) (a1 : Int64) (a2 : Int64) : Ex mX9_lamp Q 14 ls (.long a2 :: .long a1 :: .long a0 :: []) h = Ex mX9_in (Cont mX9_lamp Q 14 ls 17 []) 0 [.long a0, .retAddr 1, .long a1, .retAddr 1, .long a2, .retAddr 1] [] h := Ex_cl (n := 6) (as := [.long a0, .long a1, .long a2]) rfl rfl
theorem rX9_lamp_17 (Q : Po) (h : Hp) (ls : List Value) (st : List Value) (x : Int32) : Ex mX9_lamp Q 17 ls (.int x :: st) h = if x = 0 then Ex mX9_lamp Q 27 ls st h else Ex mX9_lamp Q 20 ls st h := Ex_br rfl rfl
theorem rX9_lamp_20 (Q : Po) (h : Hp) (l0 l1 l2 l4 l5 l6 l7 : Value) (x : Int32) (st : List Value) : Ex mX9_lamp Q 20 [l0, l1, l2, .int x, l4, l5, l6, l7] st h = Ex mX9_lamp Q 21 [l0, l1, l2, .int x, l4, l5, l6, l7] (.int x :: st) h := Ex_nx rfl rfl
theorem rX9_lamp_21 (Q : Po) (h : Hp) (ls : List Value) (a0 : Int32) : Ex mX9_lamp Q 21 ls (.int a0 :: []) h = Ex mX9_isWhat (Cont mX9_lamp Q 21 ls 24 []) 0 [.int a0] [] h := Ex_cl (n := 1) (as := [.int a0]) rfl rfl
theorem rX9_lamp_24 (Q : Po) (h : Hp) (ls : List Value) (st : List Value) (x : Int32) : Ex mX9_lamp Q 24 ls (.int x :: st) h = if ¬ x = 0 then Ex mX9_lamp Q 30 ls st h else Ex mX9_lamp Q 27 ls st h := Ex_br rfl rfl
theorem rX9_lamp_27 (Q : Po) (h : Hp) (ls : List Value) (st : List Value) : Ex mX9_lamp Q 27 ls st h = Ex mX9_lamp Q 29 ls (.int (-1000001) :: st) h := Ex_nx rfl rfl
theorem rX9_lamp_29 (Q : Po) (h : Hp) (ls : List Value) (x : Int32) : Ex mX9_lamp Q 29 ls [.int x] h = Q (.inl (some (.int x))) h := Ex_rt rfl rfl
theorem rX9_lamp_30 (Q : Po) (h : Hp) (l1 l2 l3 l4 l5 l6 l7 : Value) (x : Nat) (st : List Value) : Ex mX9_lamp Q 30 [.ref x, l1, l2, l3, l4, l5, l6, l7] st h = Ex mX9_lamp Q 31 [.ref x, l1, l2, l3, l4, l5, l6, l7] (.ref x :: st) h := Ex_nx rfl rfl
theorem rX9_lamp_31 (Q : Po) (h : Hp) (ls : List Value) (b : Nat) : Ex mX9_lamp Q 31 ls (.ref b :: []) h = (gK h b = 9 ∧ Ex mX9_putAside (Cont mX9_lamp Q 31 ls 34 []) 0 [.ref b, .retAddr 0] [] h) := Ex_cg (n := 2) (as := [.ref b]) rfl rfl
theorem rX9_lamp_34 (Q : Po) (h : Hp) (ls : List Value) (st : List Value) : Ex mX9_lamp Q 34 ls st h = Ex mX9_lamp Q 35 ls (.int 0 :: st) h := Ex_nx rfl rfl
theorem rX9_lamp_35 (Q : Po) (h : Hp) (l0 l1 l2 l3 l4 l5 l6 l7 : Value) (x : Int32) (st : List Value) : Ex mX9_lamp Q 35 [l0, l1, l2, l3, l4, l5, l6, l7] (.int x :: st) h = Ex mX9_lamp Q 37 [l0, l1, l2, l3, .int x, l5, l6, l7] st h := Ex_nx rfl rfl
theorem rX9_lamp_37 (Q : Po) (h : Hp) (ls : List Value) (st : List Value) : Ex mX9_lamp Q 37 ls st h = Ex mX9_lamp Q 38 ls (.int (-1) :: st) h := Ex_nx rfl rfl
theorem rX9_lamp_38 (Q : Po) (h : Hp) (l0 l1 l2 l3 l4 l5 l6 l7 : Value) (x : Int32) (st : List Value) : Ex mX9_lamp Q 38 [l0, l1, l2, l3, l4, l5, l6, l7] (.int x :: st) h = Ex mX9_lamp Q 40 [l0, l1, l2, l3, l4, .int x, l6, l7] st h := Ex_nx rfl rfl
theorem rX9_lamp_40 (Q : Po) (h : Hp) (ls : List Value) (st : List Value) : Ex mX9_lamp Q 40 ls st h = Ex mX9_lamp Q 41 ls (.int 0 :: st) h := Ex_nx rfl rfl
theorem rX9_lamp_41 (Q : Po) (h : Hp) (l0 l1 l2 l3 l4 l5 l6 l7 : Value) (x : Int32) (st : List Value) : Ex mX9_lamp Q 41 [l0, l1, l2, l3, l4, l5, l6, l7] (.int x :: st) h = Ex mX9_lamp Q 43 [l0, l1, l2, l3, l4, l5, .int x, l7] st h := Ex_nx rfl rfl
theorem rX9_lamp_43 (Q : Po) (h : Hp) (l0 l1 l2 l3 l4 l5 l7 : Value) (x : Int32) (st : List Value) : Ex mX9_lamp Q 43 [l0, l1, l2, l3, l4, l5, .int x, l7] st h = Ex mX9_lamp Q 45 [l0, l1, l2, l3, l4, l5, .int x, l7] (.int x :: st) h := Ex_nx rfl rfl
theorem rX9_lamp_45 (Q : Po) (h : Hp) (ls : List Value) (st : List Value) : Ex mX9_lamp Q 45 ls st h = Ex mX9_lamp Q 46 ls (.int 1 :: st) h := Ex_nx rfl rfl
theorem rX9_lamp_46 (Q : Po) (h : Hp) (l1 l2 l3 l4 l5 l6 l7 : Value) (x : Nat) (st : List Value) : Ex mX9_lamp Q 46 [.ref x, l1, l2, l3, l4, l5, l6, l7] st h = Ex mX9_lamp Q 47 [.ref x, l1, l2, l3, l4, l5, l6, l7] (.ref x :: st) h := Ex_nx rfl rfl
theorem rX9_lamp_47 (Q : Po) (h : Hp) (ls : List Value) (st : List Value) (a : Nat) : Ex mX9_lamp Q 47 ls (.ref a :: st) h = (gK h a ∈ ([9] : List Nat) ∧ Ex mX9_lamp Q 50 ls (gF h 81 a :: st) h) := Ex_gd rfl rfl
theorem rX9_lamp_50 (Q : Po) (h : Hp) (ls : List Value) (st : List Value) : Ex mX9_lamp Q 50 ls st h = Ex mX9_lamp Q 51 ls (.int 0 :: st) h := Ex_nx rfl rfl
theorem rX9_lamp_51 (Q : Po) (h : Hp) (ls : List Value) (st : List Value) (a : Nat) (i : Int32) : Ex mX9_lamp Q 51 ls (.int i :: .ref a :: st) h = ((gK h a = 51 ∧ ¬ (i < 0 ∨ gL h a ≤ i.toNatClampNeg)) ∧ Ex mX9_lamp Q 52 ls (.int (gI h a i.toNatClampNeg) :: st) h) := Ex_gd rfl rfl
theorem rX9_lamp_52 (Q : Po) (h : Hp) (ls : List Value) (st : List Value) (x y : Int32) : Ex mX9_lamp Q 52 ls (.int y :: .int x :: st) h = Ex mX9_lamp Q 53 ls (.int (x <<< (y &&& 31)) :: st) h := Ex_nx rfl rfl
theorem rX9_lamp_53 (Q : Po) (h : Hp) (ls : List Value) (st : List Value) (x y : Int32) : Ex mX9_lamp Q 53 ls (.int y :: .int x :: st) h = if y ≤ x then Ex mX9_lamp Q 127 ls st h else Ex mX9_lamp Q 56 ls st h := Ex_br rfl rfl
theorem rX9_lamp_56 (Q : Po) (h : Hp) (l0 l1 l2 l3 l4 l5 l7 : Value) (x : Int32) (st : List Value) : Ex mX9_lamp Q 56 [l0, l1, l2, l3, l4, l5, .int x, l7] st h = Ex mX9_lamp Q 58 [l0, l1, l2, l3, l4, l5, .int x, l7] (.int x :: st) h := Ex_nx rfl rfl
theorem rX9_lamp_58 (Q : Po) (h : Hp) (ls : List Value) (a0 : Int32) : Ex mX9_lamp Q 58 ls (.int a0 :: []) h = Ex mX9_ones (Cont mX9_lamp Q 58 ls 61 []) 0 [.int a0, .retAddr 0, .retAddr 0] [] h := Ex_cl (n := 3) (as := [.int a0]) rfl rfl
theorem rX9_lamp_61 (Q : Po) (h : Hp) (l1 l2 l3 l4 l5 l6 l7 : Value) (x : Nat) (st : List Value) : Ex mX9_lamp Q 61 [.ref x, l1, l2, l3, l4, l5, l6, l7] st h = Ex mX9_lamp Q 62 [.ref x, l1, l2, l3, l4, l5, l6, l7] (.ref x :: st) h := Ex_nx rfl rfl
theorem rX9_lamp_62 (Q : Po) (h : Hp) (ls : List Value) (st : List Value) (a : Nat) : Ex mX9_lamp Q 62 ls (.ref a :: st) h = (gK h a ∈ ([9] : List Nat) ∧ Ex mX9_lamp Q 65 ls (gF h 81 a :: st) h) := Ex_gd rfl rfl
theorem rX9_lamp_65 (Q : Po) (h : Hp) (ls : List Value) (st : List Value) : Ex mX9_lamp Q 65 ls st h = Ex mX9_lamp Q 66 ls (.int 3 :: st) h := Ex_nx rfl rfl
theorem rX9_lamp_66 (Q : Po) (h : Hp) (ls : List Value) (st : List Value) (a : Nat) (i : Int32) : Ex mX9_lamp Q 66 ls (.int i :: .ref a :: st) h = ((gK h a = 51 ∧ ¬ (i < 0 ∨ gL h a ≤ i.toNatClampNeg)) ∧ Ex mX9_lamp Q 67 ls (.int (gI h a i.toNatClampNeg) :: st) h) := Ex_gd rfl rfl
theorem rX9_lamp_67 (Q : Po) (h : Hp) (ls : List Value) (st : List Value) (x y : Int32) : Ex mX9_lamp Q 67 ls (.int y :: .int x :: st) h = if y < x then Ex mX9_lamp Q 121 ls st h else Ex mX9_lamp Q 70 ls st h := Ex_br rfl rfl
theorem rX9_lamp_70 (Q : Po) (h : Hp) (l1 l2 l3 l4 l5 l6 l7 : Value) (x : Nat) (st : List Value) : Ex mX9_lamp Q 70 [.ref x, l1, l2, l3, l4, l5, l6, l7] st h = Ex mX9_lamp Q 71 [.ref x, l1, l2, l3, l4, l5, l6, l7] (.ref x :: st) h := Ex_nx rfl rfl
theorem rX9_lamp_71 (Q : Po) (h : Hp) (ls : List Value) (st : List Value) (a : Nat) : Ex mX9_lamp Q 71 ls (.ref a :: st) h = (gK h a ∈ ([9] : List Nat) ∧ Ex mX9_lamp Q 74 ls (gF h 81 a :: st) h) := Ex_gd rfl rfl
theorem rX9_lamp_74 (Q : Po) (h : Hp) (ls : List Value) (st : List Value) : Ex mX9_lamp Q 74 ls st h = Ex mX9_lamp Q 75 ls (.int 5 :: st) h := Ex_nx rfl rfl
theorem rX9_lamp_75 (Q : Po) (h : Hp) (l0 l1 l2 l3 l4 l5 l7 : Value) (x : Int32) (st : List Value) : Ex mX9_lamp Q 75 [l0, l1, l2, l3, l4, l5, .int x, l7] st h = Ex mX9_lamp Q 77 [l0, l1, l2, l3, l4, l5, .int x, l7] (.int x :: st) h := Ex_nx rfl rfl
theorem rX9_lamp_77 (Q : Po) (h : Hp) (ls : List Value) (st : List Value) (a : Nat) (i x : Int32) : Ex mX9_lamp Q 77 ls (.int x :: .int i :: .ref a :: st) h = ((gK h a = 51 ∧ ¬ (i < 0 ∨ gL h a ≤ i.toNatClampNeg)) ∧ Ex mX9_lamp Q 78 ls st (pI h a i.toNatClampNeg (x))) := Ex_gd rfl rfl
theorem rX9_lamp_78 (Q : Po) (h : Hp) (l1 l2 l3 l4 l5 l6 l7 : Value) (x : Nat) (st : List Value) : Ex mX9_lamp Q 78 [.ref x, l1, l2, l3, l4, l5, l6, l7] st h = Ex mX9_lamp Q 79 [.ref x, l1, l2, l3, l4, l5, l6, l7] (.ref x :: st) h := Ex_nx rfl rfl
theorem rX9_lamp_79 (Q : Po) (h : Hp) (l0 l2 l3 l4 l5 l6 l7 : Value) (x : Int32) (st : List Value) : Ex mX9_lamp Q 79 [l0, .int x, l2, l3, l4, l5, l6, l7] st h = Ex mX9_lamp Q 80 [l0, .int x, l2, l3, l4, l5, l6, l7] (.int x :: st) h := Ex_nx rfl rfl
theorem rX9_lamp_80 (Q : Po) (h : Hp) (l0 l1 l3 l4 l5 l6 l7 : Value) (x : Int32) (st : List Value) : Ex mX9_lamp Q 80 [l0, l1, .int x, l3, l4, l5, l6, l7] st h = Ex mX9_lamp Q 81 [l0, l1, .int x, l3, l4, l5, l6, l7] (.int x :: st) h := Ex_nx rfl rfl
theorem rX9_lamp_81 (Q : Po) (h : Hp) (ls : List Value) (a0 : Int32) (a1 : Int32) (b : Nat) : Ex mX9_lamp Q 81 ls (.int a1 :: .int a0 :: .ref b :: []) h = (gK h b = 9 ∧ Ex mX9_pagesBehind (Cont mX9_lamp Q 81 ls 84 []) 0 [.ref b, .int a0, .int a1, .retAddr 0] [] h) := Ex_cg (n := 4) (as := [.ref b, .int a0, .int a1]) rfl rfl
theorem rX9_lamp_84 (Q : Po) (h : Hp) (l0 l1 l2 l3 l4 l5 l6 l7 : Value) (x : Int32) (st : List Value) : Ex mX9_lamp Q 84 [l0, l1, l2, l3, l4, l5, l6, l7] (.int x :: st) h = Ex mX9_lamp Q 86 [l0, l1, l2, l3, l4, l5, l6, .int x] st h := Ex_nx rfl rfl
theorem rX9_lamp_86 (Q : Po) (h : Hp) (l0 l1 l2 l3 l4 l5 l6 : Value) (x : Int32) (st : List Value) : Ex mX9_lamp Q 86 [l0, l1, l2, l3, l4, l5, l6, .int x] st h = Ex mX9_lamp Q 88 [l0, l1, l2, l3, l4, l5, l6, .int x] (.int x :: st) h := Ex_nx rfl rfl
theorem rX9_lamp_88 (Q : Po) (h : Hp) (l0 l1 l2 l3 l4 l6 l7 : Value) (x : Int32) (st : List Value) : Ex mX9_lamp Q 88 [l0, l1, l2, l3, l4, .int x, l6, l7] st h = Ex mX9_lamp Q 90 [l0, l1, l2, l3, l4, .int x, l6, l7] (.int x :: st) h := Ex_nx rfl rfl
theorem rX9_lamp_90 (Q : Po) (h : Hp) (ls : List Value) (st : List Value) (x y : Int32) : Ex mX9_lamp Q 90 ls (.int y :: .int x :: st) h = if y < x then Ex mX9_lamp Q 113 ls st h else Ex mX9_lamp Q 93 ls st h := Ex_br rfl rfl
theorem rX9_lamp_93 (Q : Po) (h : Hp) (l0 l1 l2 l3 l4 l5 l6 : Value) (x : Int32) (st : List Value) : Ex mX9_lamp Q 93 [l0, l1, l2, l3, l4, l5, l6, .int x] st h = Ex mX9_lamp Q 95 [l0, l1, l2, l3, l4, l5, l6, .int x] (.int x :: st) h := Ex_nx rfl rfl
theorem rX9_lamp_95 (Q : Po) (h : Hp) (l0 l1 l2 l3 l4 l6 l7 : Value) (x : Int32) (st : List Value) : Ex mX9_lamp Q 95 [l0, l1, l2, l3, l4, .int x, l6, l7] st h = Ex mX9_lamp Q 97 [l0, l1, l2, l3, l4, .int x, l6, l7] (.int x :: st) h := Ex_nx rfl rfl
theorem rX9_lamp_97 (Q : Po) (h : Hp) (ls : List Value) (st : List Value) (x y : Int32) : Ex mX9_lamp Q 97 ls (.int y :: .int x :: st) h = if ¬ x = y then Ex mX9_lamp Q 121 ls st h else Ex mX9_lamp Q 100 ls st h := Ex_br rfl rfl
theorem rX9_lamp_100 (Q : Po) (h : Hp) (l0 l1 l2 l3 l4 l5 l7 : Value) (x : Int32) (st : List Value) : Ex mX9_lamp Q 100 [l0, l1, l2, l3, l4, l5, .int x, l7] st h = Ex mX9_lamp Q 102 [l0, l1, l2, l3, l4, l5, .int x, l7] (.int x :: st) h := Ex_nx rfl rfl
theorem rX9_lamp_102 (Q : Po) (h : Hp) (ls : List Value) (a0 : Int32) : Ex mX9_lamp Q 102 ls (.int a0 :: []) h = Ex mX9_ones (Cont mX9_lamp Q 102 ls 105 []) 0 [.int a0, .retAddr 0, .retAddr 0] [] h := Ex_cl (n := 3) (as := [.int a0]) rfl rfl
theorem rX9_lamp_105 (Q : Po) (h : Hp) (l0 l1 l2 l3 l5 l6 l7 : Value) (x : Int32) (st : List Value) : Ex mX9_lamp Q 105 [l0, l1, l2, l3, .int x, l5, l6, l7] st h = Ex mX9_lamp Q 107 [l0, l1, l2, l3, .int x, l5, l6, l7] (.int x :: st) h := Ex_nx rfl rfl
theorem rX9_lamp_107 (Q : Po) (h : Hp) (ls : List Value) (a0 : Int32) (s0 : Value) : Ex mX9_lamp Q 107 ls (.int a0 :: [s0]) h = Ex mX9_ones (Cont mX9_lamp Q 107 ls 110 [s0]) 0 [.int a0, .retAddr 0, .retAddr 0] [] h := Ex_cl (n := 3) (as := [.int a0]) rfl rfl
theorem rX9_lamp_110 (Q : Po) (h : Hp) (ls : List Value) (st : List Value) (x y : Int32) : Ex mX9_lamp Q 110 ls (.int y :: .int x :: st) h = if y ≤ x then Ex mX9_lamp Q 121 ls st h else Ex mX9_lamp Q 113 ls st h := Ex_br rfl rfl
theorem rX9_lamp_113 (Q : Po) (h : Hp) (l0 l1 l2 l3 l4 l5 l7 : Value) (x : Int32) (st : List Value) : Ex mX9_lamp Q 113 [l0, l1, l2, l3, l4, l5, .int x, l7] st h = Ex mX9_lamp Q 115 [l0, l1, l2, l3, l4, l5, .int x, l7] (.int x :: st) h := Ex_nx rfl rfl
theorem rX9_lamp_115 (Q : Po) (h : Hp) (l0 l1 l2 l3 l4 l5 l6 l7 : Value) (x : Int32) (st : List Value) : Ex mX9_lamp Q 115 [l0, l1, l2, l3, l4, l5, l6, l7] (.int x :: st) h = Ex mX9_lamp Q 117 [l0, l1, l2, l3, .int x, l5, l6, l7] st h := Ex_nx rfl rfl
theorem rX9_lamp_117 (Q : Po) (h : Hp) (l0 l1 l2 l3 l4 l5 l6 : Value) (x : Int32) (st : List Value) : Ex mX9_lamp Q 117 [l0, l1, l2, l3, l4, l5, l6, .int x] st h = Ex mX9_lamp Q 119 [l0, l1, l2, l3, l4, l5, l6, .int x] (.int x :: st) h := Ex_nx rfl rfl
theorem rX9_lamp_119 (Q : Po) (h : Hp) (l0 l1 l2 l3 l4 l5 l6 l7 : Value) (x : Int32) (st : List Value) : Ex mX9_lamp Q 119 [l0, l1, l2, l3, l4, l5, l6, l7] (.int x :: st) h = Ex mX9_lamp Q 121 [l0, l1, l2, l3, l4, .int x, l6, l7] st h := Ex_nx rfl rfl
theorem rX9_lamp_121 (Q : Po) (h : Hp) (l0 l1 l2 l3 l4 l5 l7 : Value) (x : Int32) (st : List Value) : Ex mX9_lamp Q 121 [l0, l1, l2, l3, l4, l5, .int x, l7] st h = Ex mX9_lamp Q 124 [l0, l1, l2, l3, l4, l5, .int (x + 1), l7] st h := Ex_nx rfl rfl
theorem rX9_lamp_124 (Q : Po) (h : Hp) (ls : List Value) (st : List Value) : Ex mX9_lamp Q 124 ls st h = Ex mX9_lamp Q 43 ls st h := Ex_nx rfl rfl
theorem rX9_lamp_127 (Q : Po) (h : Hp) (l0 l1 l2 l4 l5 l6 l7 : Value) (x : Int32) (st : List Value) : Ex mX9_lamp Q 127 [l0, l1, l2, .int x, l4, l5, l6, l7] st h = Ex mX9_lamp Q 128 [l0, l1, l2, .int x, l4, l5, l6, l7] (.int x :: st) h := Ex_nx rfl rfl
theorem rX9_lamp_128 (Q : Po) (h : Hp) (ls : List Value) (st : List Value) (x : Int32) : Ex mX9_lamp Q 128 ls (.int x :: st) h = if ¬ x = 0 then Ex mX9_lamp Q 136 ls st h else Ex mX9_lamp Q 131 ls st h := Ex_br rfl rfl
theorem rX9_lamp_131 (Q : Po) (h : Hp) (l0 l1 l2 l3 l4 l6 l7 : Value) (x : Int32) (st : List Value) : Ex mX9_lamp Q 131 [l0, l1, l2, l3, l4, .int x, l6, l7] st h = Ex mX9_lamp Q 133 [l0, l1, l2, l3, l4, .int x, l6, l7] (.int x :: st) h := Ex_nx rfl rfl
theorem rX9_lamp_133 (Q : Po) (h : Hp) (ls : List Value) (st : List Value) : Ex mX9_lamp Q 133 ls st h = Ex mX9_lamp Q 138 ls st h := Ex_nx rfl rfl
theorem rX9_lamp_136 (Q : Po) (h : Hp) (l0 l1 l2 l3 l5 l6 l7 : Value) (x : Int32) (st : List Value) : Ex mX9_lamp Q 136 [l0, l1, l2, l3, .int x, l5, l6, l7] st h = Ex mX9_lamp Q 138 [l0, l1, l2, l3, .int x, l5, l6, l7] (.int x :: st) h := Ex_nx rfl rfl
theorem rX9_lamp_138 (Q : Po) (h : Hp) (ls : List Value) (x : Int32) : Ex mX9_lamp Q 138 ls [.int x] h = Q (.inl (some (.int x))) h := Ex_rt rfl rfl
theorem rX9_lamp_t (Q : Po) (h : Hp) (pc n a : Nat) (ls st : List Value) : Cont mX9_lamp Q pc ls n st (.inr a) h = Q (.inr a) h := rfl
/-! FishReadersModel.caught(III)I -/
def mX9_caught : Cd := ([(0, .inl (i_aload 0 1)),
  (1, .inl (i_iload 1 2)),
  (2, .inr (c_V 1 5 2 9 (Mt mX9_isBook 2))),
  (5, .inl (i_if (fun x => x = 0) 27 8)),
  (8, .inl (i_iload 2 9)),
  (9, .inl (i_i2l 10)),
  (10, .inl (i_push (.long 1) 11)),
  (11, .inl (i_push (.long 60) 14)),
  (14, .inr (c_S 3 17 6 (Mt mX9_in 6))),
  (17, .inl (i_if (fun x => x = 0) 27 20)),
  (20, .inl (i_iload 3 21)),
  (21, .inr (c_S 1 24 1 (Mt mX9_isWhat 1))),
  (24, .inl (i_if (fun x => ¬ x = 0) 30 27)),
  (27, .inl (i_push (.int (-1000001)) 29)),
  (29, .inl i_iret),
  (30, .inl (i_aload 0 31)),
  (31, .inr (c_V 0 34 2 9 (Mt mX9_putAside 2))),
  (34, .inl (i_push (.int (-1000000)) 36)),
  (36, .inl (i_istore 4 38)),
  (38, .inl (i_push (.int 0) 39)),
  (39, .inl (i_istore 5 41)),
  (41, .inl (i_iload 5 43)),
  (43, .inl (i_push (.int 1) 44)),
  (44, .inl (i_aload 0 45)),
  (45, .inl (i_getf 81 [9] 48)),
  (48, .inl (i_push (.int 1) 49)),
  (49, .inl (i_iald 51 50)),
  (50, .inl (i_bin (fun x y => x <<< (y &&& 31)) 51)),
  (51, .inl (i_icmp (fun x y => y ≤ x) 130 54)),
  (54, .inl (i_iload 5 56)),
  (56, .inl (i_aload 0 57)),
  (57, .inl (i_getf 81 [9] 60)),
  (60, .inl (i_push (.int 7) 62)),
  (62, .inl (i_iald 51 63)),
  (63, .inl (i_bin (fun x y => x &&& y) 64)),
  (64, .inl (i_if (fun x => ¬ x = 0) 124 67)),
  (67, .inl (i_iload 4 69)),
  (69, .inl (i_if (fun x => x < 0) 85 72)),
  (72, .inl (i_iload 5 74)),
  (74, .inr (c_S 1 77 3 (Mt mX9_ones 3))),
  (77, .inl (i_iload 4 79)),
  (79, .inr (c_S 1 82 3 (Mt mX9_ones 3))),
  (82, .inl (i_icmp (fun x y => y ≤ x) 124 85)),
  (85, .inl (i_aload 0 86)),
  (86, .inl (i_getf 81 [9] 89)),
  (89, .inl (i_push (.int 7) 91)),
  (91, .inl (i_dup2 92)),
  (92, .inl (i_iald 51 93)),
  (93, .inl (i_iload 5 95)),
  (95, .inl (i_bin (fun x y => x ||| y) 96)),
  (96, .inl (i_iast 51 (fun x => x) 97)),
  (97, .inl (i_aload 0 98)),
  (98, .inl (i_iload 1 99)),
  (99, .inl (i_iload 2 100)),
  (100, .inr (c_V 2 103 4 9 (Mt mX9_pagesBehind 4))),
  (103, .inl (i_aload 0 104)),
  (104, .inl (i_getf 109 [9] 107)),
  (107, .inl (i_push (.int 8) 109)),
  (109, .inl (i_iload 1 110)),
  (110, .inl (i_bin (fun x y => x + y) 111)),
  (111, .inl (i_iald 51 112)),
  (112, .inl (i_icmp (fun x y => ¬ x = y) 120 115)),
  (115, .inl (i_iload 5 117)),
  (117, .inl (i_goto 122)),
  (120, .inl (i_iload 4 122)),
  (122, .inl (i_istore 4 124)),
  (124, .inl (i_iinc 5 1 127)),
  (127, .inl (i_goto 41)),
  (130, .inl (i_iload 3 131)),
  (131, .inl (i_if (fun x => ¬ x = 0) 142 134)),
  (134, .inl (i_iload 4 136)),
  (136, .inr (c_S 1 139 3 (Mt mX9_ones 3))),
  (139, .inl (i_goto 144)),
  (142, .inl (i_iload 4 144)),
  (144, .inl i_iret)], noH)
theorem rX9_caught_0 (Q : Po) (h : Hp) (l1 l2 l3 l4 l5 : Value) (x : Nat) (st : List Value) : Ex mX9_caught Q 0 [.ref x, l1, l2, l3, l4, l5] st h = Ex mX9_caught Q 1 [.ref x, l1, l2, l3, l4, l5] (.ref x :: st) h := Ex_nx rfl rfl
theorem rX9_caught_1 (Q : Po) (h : Hp) (l0 l2 l3 l4 l5 : Value) (x : Int32) (st : List Value) : Ex mX9_caught Q 1 [l0, .int x, l2, l3, l4, l5] st h = Ex mX9_caught Q 2 [l0, .int x, l2, l3, l4, l5] (.int x :: st) h := Ex_nx rfl rfl
theorem rX9_caught_2 (Q : Po) (h : Hp) (ls : List Value) (a0 : Int32) (b : Nat) : Ex mX9_caught Q 2 ls (.int a0 :: .ref b :: []) h = (gK h b = 9 ∧ Ex mX9_isBook (Cont mX9_caught Q 2 ls 5 []) 0 [.ref b, .int a0] [] h) := Ex_cg (n := 2) (as := [.ref b, .int a0]) rfl rfl
theorem rX9_caught_5 (Q : Po) (h : Hp) (ls : List Value) (st : List Value) (x : Int32) : Ex mX9_caught Q 5 ls (.int x :: st) h = if x = 0 then Ex mX9_caught Q 27 ls st h else Ex mX9_caught Q 8 ls st h := Ex_br rfl rfl
theorem rX9_caught_8 (Q : Po) (h : Hp) (l0 l1 l3 l4 l5 : Value) (x : Int32) (st : List Value) : Ex mX9_caught Q 8 [l0, l1, .int x, l3, l4, l5] st h = Ex mX9_caught Q 9 [l0, l1, .int x, l3, l4, l5] (.int x :: st) h := Ex_nx rfl rfl
theorem rX9_caught_9 (Q : Po) (h : Hp) (ls : List Value) (st : List Value) (x : Int32) : Ex mX9_caught Q 9 ls (.int x :: st) h = Ex mX9_caught Q 10 ls (.long x.toInt64 :: st) h := Ex_nx rfl rfl
theorem rX9_caught_10 (Q : Po) (h : Hp) (ls : List Value) (st : List Value) : Ex mX9_caught Q 10 ls st h = Ex mX9_caught Q 11 ls (.long 1 :: st) h := Ex_nx rfl rfl
theorem rX9_caught_11 (Q : Po) (h : Hp) (ls : List Value) (st : List Value) : Ex mX9_caught Q 11 ls st h = Ex mX9_caught Q 14 ls (.long 60 :: st) h := Ex_nx rfl rfl
theorem rX9_caught_14 (Q : Po) (h : Hp) (ls : List Value) (a0 : Int64) (a1 : Int64) (a2 : Int64) : Ex mX9_caught Q 14 ls (.long a2 :: .long a1 :: .long a0 :: []) h = Ex mX9_in (Cont mX9_caught Q 14 ls 17 []) 0 [.long a0, .retAddr 1, .long a1, .retAddr 1, .long a2, .retAddr 1] [] h := Ex_cl (n := 6) (as := [.long a0, .long a1, .long a2]) rfl rfl
theorem rX9_caught_17 (Q : Po) (h : Hp) (ls : List Value) (st : List Value) (x : Int32) : Ex mX9_caught Q 17 ls (.int x :: st) h = if x = 0 then Ex mX9_caught Q 27 ls st h else Ex mX9_caught Q 20 ls st h := Ex_br rfl rfl
theorem rX9_caught_20 (Q : Po) (h : Hp) (l0 l1 l2 l4 l5 : Value) (x : Int32) (st : List Value) : Ex mX9_caught Q 20 [l0, l1, l2, .int x, l4, l5] st h = Ex mX9_caught Q 21 [l0, l1, l2, .int x, l4, l5] (.int x :: st) h := Ex_nx rfl rfl
theorem rX9_caught_21 (Q : Po) (h : Hp) (ls : List Value) (a0 : Int32) : Ex mX9_caught Q 21 ls (.int a0 :: []) h = Ex mX9_isWhat (Cont mX9_caught Q 21 ls 24 []) 0 [.int a0] [] h := Ex_cl (n := 1) (as := [.int a0]) rfl rfl
theorem rX9_caught_24 (Q : Po) (h : Hp) (ls : List Value) (st : List Value) (x : Int32) : Ex mX9_caught Q 24 ls (.int x :: st) h = if ¬ x = 0 then Ex mX9_caught Q 30 ls st h else Ex mX9_caught Q 27 ls st h := Ex_br rfl rfl
theorem rX9_caught_27 (Q : Po) (h : Hp) (ls : List Value) (st : List Value) : Ex mX9_caught Q 27 ls st h = Ex mX9_caught Q 29 ls (.int (-1000001) :: st) h := Ex_nx rfl rfl
theorem rX9_caught_29 (Q : Po) (h : Hp) (ls : List Value) (x : Int32) : Ex mX9_caught Q 29 ls [.int x] h = Q (.inl (some (.int x))) h := Ex_rt rfl rfl
theorem rX9_caught_30 (Q : Po) (h : Hp) (l1 l2 l3 l4 l5 : Value) (x : Nat) (st : List Value) : Ex mX9_caught Q 30 [.ref x, l1, l2, l3, l4, l5] st h = Ex mX9_caught Q 31 [.ref x, l1, l2, l3, l4, l5] (.ref x :: st) h := Ex_nx rfl rfl
theorem rX9_caught_31 (Q : Po) (h : Hp) (ls : List Value) (b : Nat) : Ex mX9_caught Q 31 ls (.ref b :: []) h = (gK h b = 9 ∧ Ex mX9_putAside (Cont mX9_caught Q 31 ls 34 []) 0 [.ref b, .retAddr 0] [] h) := Ex_cg (n := 2) (as := [.ref b]) rfl rfl
theorem rX9_caught_34 (Q : Po) (h : Hp) (ls : List Value) (st : List Value) : Ex mX9_caught Q 34 ls st h = Ex mX9_caught Q 36 ls (.int (-1000000) :: st) h := Ex_nx rfl rfl
theorem rX9_caught_36 (Q : Po) (h : Hp) (l0 l1 l2 l3 l4 l5 : Value) (x : Int32) (st : List Value) : Ex mX9_caught Q 36 [l0, l1, l2, l3, l4, l5] (.int x :: st) h = Ex mX9_caught Q 38 [l0, l1, l2, l3, .int x, l5] st h := Ex_nx rfl rfl
theorem rX9_caught_38 (Q : Po) (h : Hp) (ls : List Value) (st : List Value) : Ex mX9_caught Q 38 ls st h = Ex mX9_caught Q 39 ls (.int 0 :: st) h := Ex_nx rfl rfl
theorem rX9_caught_39 (Q : Po) (h : Hp) (l0 l1 l2 l3 l4 l5 : Value) (x : Int32) (st : List Value) : Ex mX9_caught Q 39 [l0, l1, l2, l3, l4, l5] (.int x :: st) h = Ex mX9_caught Q 41 [l0, l1, l2, l3, l4, .int x] st h := Ex_nx rfl rfl
theorem rX9_caught_41 (Q : Po) (h : Hp) (l0 l1 l2 l3 l4 : Value) (x : Int32) (st : List Value) : Ex mX9_caught Q 41 [l0, l1, l2, l3, l4, .int x] st h = Ex mX9_caught Q 43 [l0, l1, l2, l3, l4, .int x] (.int x :: st) h := Ex_nx rfl rfl
theorem rX9_caught_43 (Q : Po) (h : Hp) (ls : List Value) (st : List Value) : Ex mX9_caught Q 43 ls st h = Ex mX9_caught Q 44 ls (.int 1 :: st) h := Ex_nx rfl rfl
theorem rX9_caught_44 (Q : Po) (h : Hp) (l1 l2 l3 l4 l5 : Value) (x : Nat) (st : List Value) : Ex mX9_caught Q 44 [.ref x, l1, l2, l3, l4, l5] st h = Ex mX9_caught Q 45 [.ref x, l1, l2, l3, l4, l5] (.ref x :: st) h := Ex_nx rfl rfl
theorem rX9_caught_45 (Q : Po) (h : Hp) (ls : List Value) (st : List Value) (a : Nat) : Ex mX9_caught Q 45 ls (.ref a :: st) h = (gK h a ∈ ([9] : List Nat) ∧ Ex mX9_caught Q 48 ls (gF h 81 a :: st) h) := Ex_gd rfl rfl
theorem rX9_caught_48 (Q : Po) (h : Hp) (ls : List Value) (st : List Value) : Ex mX9_caught Q 48 ls st h = Ex mX9_caught Q 49 ls (.int 1 :: st) h := Ex_nx rfl rfl
theorem rX9_caught_49 (Q : Po) (h : Hp) (ls : List Value) (st : List Value) (a : Nat) (i : Int32) : Ex mX9_caught Q 49 ls (.int i :: .ref a :: st) h = ((gK h a = 51 ∧ ¬ (i < 0 ∨ gL h a ≤ i.toNatClampNeg)) ∧ Ex mX9_caught Q 50 ls (.int (gI h a i.toNatClampNeg) :: st) h) := Ex_gd rfl rfl
theorem rX9_caught_50 (Q : Po) (h : Hp) (ls : List Value) (st : List Value) (x y : Int32) : Ex mX9_caught Q 50 ls (.int y :: .int x :: st) h = Ex mX9_caught Q 51 ls (.int (x <<< (y &&& 31)) :: st) h := Ex_nx rfl rfl
theorem rX9_caught_51 (Q : Po) (h : Hp) (ls : List Value) (st : List Value) (x y : Int32) : Ex mX9_caught Q 51 ls (.int y :: .int x :: st) h = if y ≤ x then Ex mX9_caught Q 130 ls st h else Ex mX9_caught Q 54 ls st h := Ex_br rfl rfl
theorem rX9_caught_54 (Q : Po) (h : Hp) (l0 l1 l2 l3 l4 : Value) (x : Int32) (st : List Value) : Ex mX9_caught Q 54 [l0, l1, l2, l3, l4, .int x] st h = Ex mX9_caught Q 56 [l0, l1, l2, l3, l4, .int x] (.int x :: st) h := Ex_nx rfl rfl
theorem rX9_caught_56 (Q : Po) (h : Hp) (l1 l2 l3 l4 l5 : Value) (x : Nat) (st : List Value) : Ex mX9_caught Q 56 [.ref x, l1, l2, l3, l4, l5] st h = Ex mX9_caught Q 57 [.ref x, l1, l2, l3, l4, l5] (.ref x :: st) h := Ex_nx rfl rfl
theorem rX9_caught_57 (Q : Po) (h : Hp) (ls : List Value) (st : List Value) (a : Nat) : Ex mX9_caught Q 57 ls (.ref a :: st) h = (gK h a ∈ ([9] : List Nat) ∧ Ex mX9_caught Q 60 ls (gF h 81 a :: st) h) := Ex_gd rfl rfl
theorem rX9_caught_60 (Q : Po) (h : Hp) (ls : List Value) (st : List Value) : Ex mX9_caught Q 60 ls st h = Ex mX9_caught Q 62 ls (.int 7 :: st) h := Ex_nx rfl rfl
theorem rX9_caught_62 (Q : Po) (h : Hp) (ls : List Value) (st : List Value) (a : Nat) (i : Int32) : Ex mX9_caught Q 62 ls (.int i :: .ref a :: st) h = ((gK h a = 51 ∧ ¬ (i < 0 ∨ gL h a ≤ i.toNatClampNeg)) ∧ Ex mX9_caught Q 63 ls (.int (gI h a i.toNatClampNeg) :: st) h) := Ex_gd rfl rfl
theorem rX9_caught_63 (Q : Po) (h : Hp) (ls : List Value) (st : List Value) (x y : Int32) : Ex mX9_caught Q 63 ls (.int y :: .int x :: st) h = Ex mX9_caught Q 64 ls (.int (x &&& y) :: st) h := Ex_nx rfl rfl
theorem rX9_caught_64 (Q : Po) (h : Hp) (ls : List Value) (st : List Value) (x : Int32) : Ex mX9_caught Q 64 ls (.int x :: st) h = if ¬ x = 0 then Ex mX9_caught Q 124 ls st h else Ex mX9_caught Q 67 ls st h := Ex_br rfl rfl
theorem rX9_caught_67 (Q : Po) (h : Hp) (l0 l1 l2 l3 l5 : Value) (x : Int32) (st : List Value) : Ex mX9_caught Q 67 [l0, l1, l2, l3, .int x, l5] st h = Ex mX9_caught Q 69 [l0, l1, l2, l3, .int x, l5] (.int x :: st) h := Ex_nx rfl rfl
theorem rX9_caught_69 (Q : Po) (h : Hp) (ls : List Value) (st : List Value) (x : Int32) : Ex mX9_caught Q 69 ls (.int x :: st) h = if x < 0 then Ex mX9_caught Q 85 ls st h else Ex mX9_caught Q 72 ls st h := Ex_br rfl rfl
theorem rX9_caught_72 (Q : Po) (h : Hp) (l0 l1 l2 l3 l4 : Value) (x : Int32) (st : List Value) : Ex mX9_caught Q 72 [l0, l1, l2, l3, l4, .int x] st h = Ex mX9_caught Q 74 [l0, l1, l2, l3, l4, .int x] (.int x :: st) h := Ex_nx rfl rfl
theorem rX9_caught_74 (Q : Po) (h : Hp) (ls : List Value) (a0 : Int32) : Ex mX9_caught Q 74 ls (.int a0 :: []) h = Ex mX9_ones (Cont mX9_caught Q 74 ls 77 []) 0 [.int a0, .retAddr 0, .retAddr 0] [] h := Ex_cl (n := 3) (as := [.int a0]) rfl rfl
theorem rX9_caught_77 (Q : Po) (h : Hp) (l0 l1 l2 l3 l5 : Value) (x : Int32) (st : List Value) : Ex mX9_caught Q 77 [l0, l1, l2, l3, .int x, l5] st h = Ex mX9_caught Q 79 [l0, l1, l2, l3, .int x, l5] (.int x :: st) h := Ex_nx rfl rfl
theorem rX9_caught_79 (Q : Po) (h : Hp) (ls : List Value) (a0 : Int32) (s0 : Value) : Ex mX9_caught Q 79 ls (.int a0 :: [s0]) h = Ex mX9_ones (Cont mX9_caught Q 79 ls 82 [s0]) 0 [.int a0, .retAddr 0, .retAddr 0] [] h := Ex_cl (n := 3) (as := [.int a0]) rfl rfl
theorem rX9_caught_82 (Q : Po) (h : Hp) (ls : List Value) (st : List Value) (x y : Int32) : Ex mX9_caught Q 82 ls (.int y :: .int x :: st) h = if y ≤ x then Ex mX9_caught Q 124 ls st h else Ex mX9_caught Q 85 ls st h := Ex_br rfl rfl
theorem rX9_caught_85 (Q : Po) (h : Hp) (l1 l2 l3 l4 l5 : Value) (x : Nat) (st : List Value) : Ex mX9_caught Q 85 [.ref x, l1, l2, l3, l4, l5] st h = Ex mX9_caught Q 86 [.ref x, l1, l2, l3, l4, l5] (.ref x :: st) h := Ex_nx rfl rfl
theorem rX9_caught_86 (Q : Po) (h : Hp) (ls : List Value) (st : List Value) (a : Nat) : Ex mX9_caught Q 86 ls (.ref a :: st) h = (gK h a ∈ ([9] : List Nat) ∧ Ex mX9_caught Q 89 ls (gF h 81 a :: st) h) := Ex_gd rfl rfl
theorem rX9_caught_89 (Q : Po) (h : Hp) (ls : List Value) (st : List Value) : Ex mX9_caught Q 89 ls st h = Ex mX9_caught Q 91 ls (.int 7 :: st) h := Ex_nx rfl rfl
theorem rX9_caught_91 (Q : Po) (h : Hp) (ls : List Value) (st : List Value) (x : Int32) (y : Nat) : Ex mX9_caught Q 91 ls (.int x :: .ref y :: st) h = Ex mX9_caught Q 92 ls (.int x :: .ref y :: .int x :: .ref y :: st) h := Ex_nx rfl rfl
theorem rX9_caught_92 (Q : Po) (h : Hp) (ls : List Value) (st : List Value) (a : Nat) (i : Int32) : Ex mX9_caught Q 92 ls (.int i :: .ref a :: st) h = ((gK h a = 51 ∧ ¬ (i < 0 ∨ gL h a ≤ i.toNatClampNeg)) ∧ Ex mX9_caught Q 93 ls (.int (gI h a i.toNatClampNeg) :: st) h) := Ex_gd rfl rfl
theorem rX9_caught_93 (Q : Po) (h : Hp) (l0 l1 l2 l3 l4 : Value) (x : Int32) (st : List Value) : Ex mX9_caught Q 93 [l0, l1, l2, l3, l4, .int x] st h = Ex mX9_caught Q 95 [l0, l1, l2, l3, l4, .int x] (.int x :: st) h := Ex_nx rfl rfl
theorem rX9_caught_95 (Q : Po) (h : Hp) (ls : List Value) (st : List Value) (x y : Int32) : Ex mX9_caught Q 95 ls (.int y :: .int x :: st) h = Ex mX9_caught Q 96 ls (.int (x ||| y) :: st) h := Ex_nx rfl rfl
theorem rX9_caught_96 (Q : Po) (h : Hp) (ls : List Value) (st : List Value) (a : Nat) (i x : Int32) : Ex mX9_caught Q 96 ls (.int x :: .int i :: .ref a :: st) h = ((gK h a = 51 ∧ ¬ (i < 0 ∨ gL h a ≤ i.toNatClampNeg)) ∧ Ex mX9_caught Q 97 ls st (pI h a i.toNatClampNeg (x))) := Ex_gd rfl rfl
theorem rX9_caught_97 (Q : Po) (h : Hp) (l1 l2 l3 l4 l5 : Value) (x : Nat) (st : List Value) : Ex mX9_caught Q 97 [.ref x, l1, l2, l3, l4, l5] st h = Ex mX9_caught Q 98 [.ref x, l1, l2, l3, l4, l5] (.ref x :: st) h := Ex_nx rfl rfl
theorem rX9_caught_98 (Q : Po) (h : Hp) (l0 l2 l3 l4 l5 : Value) (x : Int32) (st : List Value) : Ex mX9_caught Q 98 [l0, .int x, l2, l3, l4, l5] st h = Ex mX9_caught Q 99 [l0, .int x, l2, l3, l4, l5] (.int x :: st) h := Ex_nx rfl rfl
theorem rX9_caught_99 (Q : Po) (h : Hp) (l0 l1 l3 l4 l5 : Value) (x : Int32) (st : List Value) : Ex mX9_caught Q 99 [l0, l1, .int x, l3, l4, l5] st h = Ex mX9_caught Q 100 [l0, l1, .int x, l3, l4, l5] (.int x :: st) h := Ex_nx rfl rfl
theorem rX9_caught_100 (Q : Po) (h : Hp) (ls : List Value) (a0 : Int32) (a1 : Int32) (b : Nat) : Ex mX9_caught Q 100 ls (.int a1 :: .int a0 :: .ref b :: []) h = (gK h b = 9 ∧ Ex mX9_pagesBehind (Cont mX9_caught Q 100 ls 103 []) 0 [.ref b, .int a0, .int a1, .retAddr 0] [] h) := Ex_cg (n := 4) (as := [.ref b, .int a0, .int a1]) rfl rfl
theorem rX9_caught_103 (Q : Po) (h : Hp) (l1 l2 l3 l4 l5 : Value) (x : Nat) (st : List Value) : Ex mX9_caught Q 103 [.ref x, l1, l2, l3, l4, l5] st h = Ex mX9_caught Q 104 [.ref x, l1, l2, l3, l4, l5] (.ref x :: st) h := Ex_nx rfl rfl
theorem rX9_caught_104 (Q : Po) (h : Hp) (ls : List Value) (st : List Value) (a : Nat) : Ex mX9_caught Q 104 ls (.ref a :: st) h = (gK h a ∈ ([9] : List Nat) ∧ Ex mX9_caught Q 107 ls (gF h 109 a :: st) h) := Ex_gd rfl rfl
theorem rX9_caught_107 (Q : Po) (h : Hp) (ls : List Value) (st : List Value) : Ex mX9_caught Q 107 ls st h = Ex mX9_caught Q 109 ls (.int 8 :: st) h := Ex_nx rfl rfl
theorem rX9_caught_109 (Q : Po) (h : Hp) (l0 l2 l3 l4 l5 : Value) (x : Int32) (st : List Value) : Ex mX9_caught Q 109 [l0, .int x, l2, l3, l4, l5] st h = Ex mX9_caught Q 110 [l0, .int x, l2, l3, l4, l5] (.int x :: st) h := Ex_nx rfl rfl
theorem rX9_caught_110 (Q : Po) (h : Hp) (ls : List Value) (st : List Value) (x y : Int32) : Ex mX9_caught Q 110 ls (.int y :: .int x :: st) h = Ex mX9_caught Q 111 ls (.int (x + y) :: st) h := Ex_nx rfl rfl
theorem rX9_caught_111 (Q : Po) (h : Hp) (ls : List Value) (st : List Value) (a : Nat) (i : Int32) : Ex mX9_caught Q 111 ls (.int i :: .ref a :: st) h = ((gK h a = 51 ∧ ¬ (i < 0 ∨ gL h a ≤ i.toNatClampNeg)) ∧ Ex mX9_caught Q 112 ls (.int (gI h a i.toNatClampNeg) :: st) h) := Ex_gd rfl rfl
theorem rX9_caught_112 (Q : Po) (h : Hp) (ls : List Value) (st : List Value) (x y : Int32) : Ex mX9_caught Q 112 ls (.int y :: .int x :: st) h = if ¬ x = y then Ex mX9_caught Q 120 ls st h else Ex mX9_caught Q 115 ls st h := Ex_br rfl rfl
theorem rX9_caught_115 (Q : Po) (h : Hp) (l0 l1 l2 l3 l4 : Value) (x : Int32) (st : List Value) : Ex mX9_caught Q 115 [l0, l1, l2, l3, l4, .int x] st h = Ex mX9_caught Q 117 [l0, l1, l2, l3, l4, .int x] (.int x :: st) h := Ex_nx rfl rfl
theorem rX9_caught_117 (Q : Po) (h : Hp) (ls : List Value) (st : List Value) : Ex mX9_caught Q 117 ls st h = Ex mX9_caught Q 122 ls st h := Ex_nx rfl rfl
theorem rX9_caught_120 (Q : Po) (h : Hp) (l0 l1 l2 l3 l5 : Value) (x : Int32) (st : List Value) : Ex mX9_caught Q 120 [l0, l1, l2, l3, .int x, l5] st h = Ex mX9_caught Q 122 [l0, l1, l2, l3, .int x, l5] (.int x :: st) h := Ex_nx rfl rfl
theorem rX9_caught_122 (Q : Po) (h : Hp) (l0 l1 l2 l3 l4 l5 : Value) (x : Int32) (st : List Value) : Ex mX9_caught Q 122 [l0, l1, l2, l3, l4, l5] (.int x :: st) h = Ex mX9_caught Q 124 [l0, l1, l2, l3, .int x, l5] st h := Ex_nx rfl rfl
theorem rX9_caught_124 (Q : Po) (h : Hp) (l0 l1 l2 l3 l4 : Value) (x : Int32) (st : List Value) : Ex mX9_caught Q 124 [l0, l1, l2, l3, l4, .int x] st h = Ex mX9_caught Q 127 [l0, l1, l2, l3, l4, .int (x + 1)] st h := Ex_nx rfl rfl
theorem rX9_caught_127 (Q : Po) (h : Hp) (ls : List Value) (st : List Value) : Ex mX9_caught Q 127 ls st h = Ex mX9_caught Q 41 ls st h := Ex_nx rfl rfl
theorem rX9_caught_130 (Q : Po) (h : Hp) (l0 l1 l2 l4 l5 : Value) (x : Int32) (st : List Value) : Ex mX9_caught Q 130 [l0, l1, l2, .int x, l4, l5] st h = Ex mX9_caught Q 131 [l0, l1, l2, .int x, l4, l5] (.int x :: st) h := Ex_nx rfl rfl
theorem rX9_caught_131 (Q : Po) (h : Hp) (ls : List Value) (st : List Value) (x : Int32) : Ex mX9_caught Q 131 ls (.int x :: st) h = if ¬ x = 0 then Ex mX9_caught Q 142 ls st h else Ex mX9_caught Q 134 ls st h := Ex_br rfl rfl
theorem rX9_caught_134 (Q : Po) (h : Hp) (l0 l1 l2 l3 l5 : Value) (x : Int32) (st : List Value) : Ex mX9_caught Q 134 [l0, l1, l2, l3, .int x, l5] st h = Ex mX9_caught Q 136 [l0, l1, l2, l3, .int x, l5] (.int x :: st) h := Ex_nx rfl rfl
theorem rX9_caught_136 (Q : Po) (h : Hp) (ls : List Value) (a0 : Int32) : Ex mX9_caught Q 136 ls (.int a0 :: []) h = Ex mX9_ones (Cont mX9_caught Q 136 ls 139 []) 0 [.int a0, .retAddr 0, .retAddr 0] [] h := Ex_cl (n := 3) (as := [.int a0]) rfl rfl
theorem rX9_caught_139 (Q : Po) (h : Hp) (ls : List Value) (st : List Value) : Ex mX9_caught Q 139 ls st h = Ex mX9_caught Q 144 ls st h := Ex_nx rfl rfl
theorem rX9_caught_142 (Q : Po) (h : Hp) (l0 l1 l2 l3 l5 : Value) (x : Int32) (st : List Value) : Ex mX9_caught Q 142 [l0, l1, l2, l3, .int x, l5] st h = Ex mX9_caught Q 144 [l0, l1, l2, l3, .int x, l5] (.int x :: st) h := Ex_nx rfl rfl
theorem rX9_caught_144 (Q : Po) (h : Hp) (ls : List Value) (x : Int32) : Ex mX9_caught Q 144 ls [.int x] h = Q (.inl (some (.int x))) h := Ex_rt rfl rfl
theorem rX9_caught_t (Q : Po) (h : Hp) (pc n a : Nat) (ls st : List Value) : Cont mX9_caught Q pc ls n st (.inr a) h = Q (.inr a) h := rfl
/-! FishReadersModel.dustOf(I)I -/
def mX9_dustOf : Cd := ([(0, .inl (i_aload 0 1)),
  (1, .inl (i_iload 1 2)),
  (2, .inr (c_V 1 5 2 9 (Mt mX9_isCaught 2))),
  (5, .inl (i_if (fun x => x = 0) 12 8)),
  (8, .inl (i_push (.int 0) 9)),
  (9, .inl (i_goto 21)),
  (12, .inl (i_aload 0 13)),
  (13, .inl (i_getf 81 [9] 16)),
  (16, .inl (i_push (.int 36) 18)),
  (18, .inl (i_iload 1 19)),
  (19, .inl (i_bin (fun x y => x + y) 20)),
  (20, .inl (i_iald 51 21)),
  (21, .inl i_iret)], noH)
theorem rX9_dustOf_0 (Q : Po) (h : Hp) (l1 : Value) (x : Nat) (st : List Value) : Ex mX9_dustOf Q 0 [.ref x, l1] st h = Ex mX9_dustOf Q 1 [.ref x, l1] (.ref x :: st) h := Ex_nx rfl rfl
theorem rX9_dustOf_1 (Q : Po) (h : Hp) (l0 : Value) (x : Int32) (st : List Value) : Ex mX9_dustOf Q 1 [l0, .int x] st h = Ex mX9_dustOf Q 2 [l0, .int x] (.int x :: st) h := Ex_nx rfl rfl
theorem rX9_dustOf_2 (Q : Po) (h : Hp) (ls : List Value) (a0 : Int32) (b : Nat) : Ex mX9_dustOf Q 2 ls (.int a0 :: .ref b :: []) h = (gK h b = 9 ∧ Ex mX9_isCaught (Cont mX9_dustOf Q 2 ls 5 []) 0 [.ref b, .int a0] [] h) := Ex_cg (n := 2) (as := [.ref b, .int a0]) rfl rfl
theorem rX9_dustOf_5 (Q : Po) (h : Hp) (ls : List Value) (st : List Value) (x : Int32) : Ex mX9_dustOf Q 5 ls (.int x :: st) h = if x = 0 then Ex mX9_dustOf Q 12 ls st h else Ex mX9_dustOf Q 8 ls st h := Ex_br rfl rfl
theorem rX9_dustOf_8 (Q : Po) (h : Hp) (ls : List Value) (st : List Value) : Ex mX9_dustOf Q 8 ls st h = Ex mX9_dustOf Q 9 ls (.int 0 :: st) h := Ex_nx rfl rfl
theorem rX9_dustOf_9 (Q : Po) (h : Hp) (ls : List Value) (st : List Value) : Ex mX9_dustOf Q 9 ls st h = Ex mX9_dustOf Q 21 ls st h := Ex_nx rfl rfl
theorem rX9_dustOf_12 (Q : Po) (h : Hp) (l1 : Value) (x : Nat) (st : List Value) : Ex mX9_dustOf Q 12 [.ref x, l1] st h = Ex mX9_dustOf Q 13 [.ref x, l1] (.ref x :: st) h := Ex_nx rfl rfl
theorem rX9_dustOf_13 (Q : Po) (h : Hp) (ls : List Value) (st : List Value) (a : Nat) : Ex mX9_dustOf Q 13 ls (.ref a :: st) h = (gK h a ∈ ([9] : List Nat) ∧ Ex mX9_dustOf Q 16 ls (gF h 81 a :: st) h) := Ex_gd rfl rfl
theorem rX9_dustOf_16 (Q : Po) (h : Hp) (ls : List Value) (st : List Value) : Ex mX9_dustOf Q 16 ls st h = Ex mX9_dustOf Q 18 ls (.int 36 :: st) h := Ex_nx rfl rfl
theorem rX9_dustOf_18 (Q : Po) (h : Hp) (l0 : Value) (x : Int32) (st : List Value) : Ex mX9_dustOf Q 18 [l0, .int x] st h = Ex mX9_dustOf Q 19 [l0, .int x] (.int x :: st) h := Ex_nx rfl rfl
theorem rX9_dustOf_19 (Q : Po) (h : Hp) (ls : List Value) (st : List Value) (x y : Int32) : Ex mX9_dustOf Q 19 ls (.int y :: .int x :: st) h = Ex mX9_dustOf Q 20 ls (.int (x + y) :: st) h := Ex_nx rfl rfl
theorem rX9_dustOf_20 (Q : Po) (h : Hp) (ls : List Value) (st : List Value) (a : Nat) (i : Int32) : Ex mX9_dustOf Q 20 ls (.int i :: .ref a :: st) h = ((gK h a = 51 ∧ ¬ (i < 0 ∨ gL h a ≤ i.toNatClampNeg)) ∧ Ex mX9_dustOf Q 21 ls (.int (gI h a i.toNatClampNeg) :: st) h) := Ex_gd rfl rfl
theorem rX9_dustOf_21 (Q : Po) (h : Hp) (ls : List Value) (x : Int32) : Ex mX9_dustOf Q 21 ls [.int x] h = Q (.inl (some (.int x))) h := Ex_rt rfl rfl
theorem rX9_dustOf_t (Q : Po) (h : Hp) (pc n a : Nat) (ls st : List Value) : Cont mX9_dustOf Q pc ls n st (.inr a) h = Q (.inr a) h := rfl
/-! FishReadersModel.grams(II)I -/
def mX9_grams : Cd := ([(0, .inl (i_aload 0 1)),
  (1, .inl (i_iload 1 2)),
  (2, .inr (c_V 1 5 2 9 (Mt mX9_isFish 2))),
  (5, .inl (i_if (fun x => x = 0) 20 8)),
  (8, .inl (i_iload 2 9)),
  (9, .inl (i_i2l 10)),
  (10, .inl (i_push (.long 0) 11)),
  (11, .inl (i_push (.long 999) 14)),
  (14, .inr (c_S 3 17 6 (Mt mX9_in 6))),
  (17, .inl (i_if (fun x => ¬ x = 0) 23 20)),
  (20, .inl (i_push (.int (-1000001)) 22)),
  (22, .inl i_iret),
  (23, .inl (i_push (.int 0) 24)),
  (24, .inl (i_istore 3 25)),
  (25, .inl (i_push (.int 0) 26)),
  (26, .inl (i_istore 4 28)),
  (28, .inl (i_iload 4 30)),
  (30, .inl (i_aload 0 31)),
  (31, .inl (i_getf 81 [9] 34)),
  (34, .inl (i_push (.int 1) 35)),
  (35, .inl (i_iald 51 36)),
  (36, .inl (i_icmp (fun x y => y ≤ x) 54 39)),
  (39, .inl (i_iload 3 40)),
  (40, .inl (i_aload 0 41)),
  (41, .inl (i_iload 4 43)),
  (43, .inr (c_V 1 46 2 9 (Mt mX9_dustOf 2))),
  (46, .inl (i_bin (fun x y => x + y) 47)),
  (47, .inl (i_istore 3 48)),
  (48, .inl (i_iinc 4 1 51)),
  (51, .inl (i_goto 28)),
  (54, .inl (i_iload 3 55)),
  (55, .inl (i_if (fun x => ¬ x = 0) 60 58)),
  (58, .inl (i_push (.int 0) 59)),
  (59, .inl i_iret),
  (60, .inl (i_iload 2 61)),
  (61, .inl (i_istore 4 63)),
  (63, .inl (i_push (.int 0) 64)),
  (64, .inl (i_istore 5 66)),
  (66, .inl (i_iload 5 68)),
  (68, .inl (i_aload 0 69)),
  (69, .inl (i_getf 81 [9] 72)),
  (72, .inl (i_push (.int 1) 73)),
  (73, .inl (i_iald 51 74)),
  (74, .inl (i_icmp (fun x y => y ≤ x) 98 77)),
  (77, .inl (i_iload 4 79)),
  (79, .inl (i_iload 2 80)),
  (80, .inl (i_aload 0 81)),
  (81, .inl (i_iload 5 83)),
  (83, .inr (c_V 1 86 2 9 (Mt mX9_dustOf 2))),
  (86, .inl (i_bin (fun x y => x * y) 87)),
  (87, .inl (i_iload 3 88)),
  (88, .inl (i_bing (fun x y => x / y) 89)),
  (89, .inl (i_bin (fun x y => x - y) 90)),
  (90, .inl (i_istore 4 92)),
  (92, .inl (i_iinc 5 1 95)),
  (95, .inl (i_goto 66)),
  (98, .inl (i_push (.int 0) 99)),
  (99, .inl (i_istore 5 101)),
  (101, .inl (i_push (.int 0) 102)),
  (102, .inl (i_istore 6 104)),
  (104, .inl (i_iload 6 106)),
  (106, .inl (i_iload 1 107)),
  (107, .inl (i_icmp (fun x y => y ≤ x) 135 110)),
  (110, .inl (i_iload 5 112)),
  (112, .inl (i_aload 0 113)),
  (113, .inl (i_iload 6 115)),
  (115, .inr (c_V 1 118 2 9 (Mt mX9_dustOf 2))),
  (118, .inl (i_if (fun x => x ≤ 0) 125 121)),
  (121, .inl (i_push (.int 1) 122)),
  (122, .inl (i_goto 126)),
  (125, .inl (i_push (.int 0) 126)),
  (126, .inl (i_bin (fun x y => x + y) 127)),
  (127, .inl (i_istore 5 129)),
  (129, .inl (i_iinc 6 1 132)),
  (132, .inl (i_goto 104)),
  (135, .inl (i_iload 2 136)),
  (136, .inl (i_aload 0 137)),
  (137, .inl (i_iload 1 138)),
  (138, .inr (c_V 1 141 2 9 (Mt mX9_dustOf 2))),
  (141, .inl (i_bin (fun x y => x * y) 142)),
  (142, .inl (i_iload 3 143)),
  (143, .inl (i_bing (fun x y => x / y) 144)),
  (144, .inl (i_aload 0 145)),
  (145, .inl (i_iload 1 146)),
  (146, .inr (c_V 1 149 2 9 (Mt mX9_dustOf 2))),
  (149, .inl (i_if (fun x => x ≤ 0) 163 152)),
  (152, .inl (i_iload 5 154)),
  (154, .inl (i_iload 4 156)),
  (156, .inl (i_icmp (fun x y => y ≤ x) 163 159)),
  (159, .inl (i_push (.int 1) 160)),
  (160, .inl (i_goto 164)),
  (163, .inl (i_push (.int 0) 164)),
  (164, .inl (i_bin (fun x y => x + y) 165)),
  (165, .inl i_iret)], noH)
theorem rX9_grams_0 (Q : Po) (h : Hp) (l1 l2 l3 l4 l5 l6 : Value) (x : Nat) (st : List Value) : Ex mX9_grams Q 0 [.ref x, l1, l2, l3, l4, l5, l6] st h = Ex mX9_grams Q 1 [.ref x, l1, l2, l3, l4, l5, l6] (.ref x :: st) h := Ex_nx rfl rfl
theorem rX9_grams_1 (Q : Po) (h : Hp) (l0 l2 l3 l4 l5 l6 : Value) (x : Int32) (st : List Value) : Ex mX9_grams Q 1 [l0, .int x, l2, l3, l4, l5, l6] st h = Ex mX9_grams Q 2 [l0, .int x, l2, l3, l4, l5, l6] (.int x :: st) h := Ex_nx rfl rfl
theorem rX9_grams_2 (Q : Po) (h : Hp) (ls : List Value) (a0 : Int32) (b : Nat) : Ex mX9_grams Q 2 ls (.int a0 :: .ref b :: []) h = (gK h b = 9 ∧ Ex mX9_isFish (Cont mX9_grams Q 2 ls 5 []) 0 [.ref b, .int a0] [] h) := Ex_cg (n := 2) (as := [.ref b, .int a0]) rfl rfl
theorem rX9_grams_5 (Q : Po) (h : Hp) (ls : List Value) (st : List Value) (x : Int32) : Ex mX9_grams Q 5 ls (.int x :: st) h = if x = 0 then Ex mX9_grams Q 20 ls st h else Ex mX9_grams Q 8 ls st h := Ex_br rfl rfl
theorem rX9_grams_8 (Q : Po) (h : Hp) (l0 l1 l3 l4 l5 l6 : Value) (x : Int32) (st : List Value) : Ex mX9_grams Q 8 [l0, l1, .int x, l3, l4, l5, l6] st h = Ex mX9_grams Q 9 [l0, l1, .int x, l3, l4, l5, l6] (.int x :: st) h := Ex_nx rfl rfl
theorem rX9_grams_9 (Q : Po) (h : Hp) (ls : List Value) (st : List Value) (x : Int32) : Ex mX9_grams Q 9 ls (.int x :: st) h = Ex mX9_grams Q 10 ls (.long x.toInt64 :: st) h := Ex_nx rfl rfl
theorem rX9_grams_10 (Q : Po) (h : Hp) (ls : List Value) (st : List Value) : Ex mX9_grams Q 10 ls st h = Ex mX9_grams Q 11 ls (.long 0 :: st) h := Ex_nx rfl rfl
theorem rX9_grams_11 (Q : Po) (h : Hp) (ls : List Value) (st : List Value) : Ex mX9_grams Q 11 ls st h = Ex mX9_grams Q 14 ls (.long 999 :: st) h := Ex_nx rfl rfl
theorem rX9_grams_14 (Q : Po) (h : Hp) (ls : List Value) (a0 : Int64) (a1 : Int64) (a2 : Int64) : Ex mX9_grams Q 14 ls (.long a2 :: .long a1 :: .long a0 :: []) h = Ex mX9_in (Cont mX9_grams Q 14 ls 17 []) 0 [.long a0, .retAddr 1, .long a1, .retAddr 1, .long a2, .retAddr 1] [] h := Ex_cl (n := 6) (as := [.long a0, .long a1, .long a2]) rfl rfl
theorem rX9_grams_17 (Q : Po) (h : Hp) (ls : List Value) (st : List Value) (x : Int32) : Ex mX9_grams Q 17 ls (.int x :: st) h = if ¬ x = 0 then Ex mX9_grams Q 23 ls st h else Ex mX9_grams Q 20 ls st h := Ex_br rfl rfl
theorem rX9_grams_20 (Q : Po) (h : Hp) (ls : List Value) (st : List Value) : Ex mX9_grams Q 20 ls st h = Ex mX9_grams Q 22 ls (.int (-1000001) :: st) h := Ex_nx rfl rfl
theorem rX9_grams_22 (Q : Po) (h : Hp) (ls : List Value) (x : Int32) : Ex mX9_grams Q 22 ls [.int x] h = Q (.inl (some (.int x))) h := Ex_rt rfl rfl
theorem rX9_grams_23 (Q : Po) (h : Hp) (ls : List Value) (st : List Value) : Ex mX9_grams Q 23 ls st h = Ex mX9_grams Q 24 ls (.int 0 :: st) h := Ex_nx rfl rfl
theorem rX9_grams_24 (Q : Po) (h : Hp) (l0 l1 l2 l3 l4 l5 l6 : Value) (x : Int32) (st : List Value) : Ex mX9_grams Q 24 [l0, l1, l2, l3, l4, l5, l6] (.int x :: st) h = Ex mX9_grams Q 25 [l0, l1, l2, .int x, l4, l5, l6] st h := Ex_nx rfl rfl
theorem rX9_grams_25 (Q : Po) (h : Hp) (ls : List Value) (st : List Value) : Ex mX9_grams Q 25 ls st h = Ex mX9_grams Q 26 ls (.int 0 :: st) h := Ex_nx rfl rfl
theorem rX9_grams_26 (Q : Po) (h : Hp) (l0 l1 l2 l3 l4 l5 l6 : Value) (x : Int32) (st : List Value) : Ex mX9_grams Q 26 [l0, l1, l2, l3, l4, l5, l6] (.int x :: st) h = Ex mX9_grams Q 28 [l0, l1, l2, l3, .int x, l5, l6] st h := Ex_nx rfl rfl
theorem rX9_grams_28 (Q : Po) (h : Hp) (l0 l1 l2 l3 l5 l6 : Value) (x : Int32) (st : List Value) : Ex mX9_grams Q 28 [l0, l1, l2, l3, .int x, l5, l6] st h = Ex mX9_grams Q 30 [l0, l1, l2, l3, .int x, l5, l6] (.int x :: st) h := Ex_nx rfl rfl
theorem rX9_grams_30 (Q : Po) (h : Hp) (l1 l2 l3 l4 l5 l6 : Value) (x : Nat) (st : List Value) : Ex mX9_grams Q 30 [.ref x, l1, l2, l3, l4, l5, l6] st h = Ex mX9_grams Q 31 [.ref x, l1, l2, l3, l4, l5, l6] (.ref x :: st) h := Ex_nx rfl rfl
theorem rX9_grams_31 (Q : Po) (h : Hp) (ls : List Value) (st : List Value) (a : Nat) : Ex mX9_grams Q 31 ls (.ref a :: st) h = (gK h a ∈ ([9] : List Nat) ∧ Ex mX9_grams Q 34 ls (gF h 81 a :: st) h) := Ex_gd rfl rfl
theorem rX9_grams_34 (Q : Po) (h : Hp) (ls : List Value) (st : List Value) : Ex mX9_grams Q 34 ls st h = Ex mX9_grams Q 35 ls (.int 1 :: st) h := Ex_nx rfl rfl
theorem rX9_grams_35 (Q : Po) (h : Hp) (ls : List Value) (st : List Value) (a : Nat) (i : Int32) : Ex mX9_grams Q 35 ls (.int i :: .ref a :: st) h = ((gK h a = 51 ∧ ¬ (i < 0 ∨ gL h a ≤ i.toNatClampNeg)) ∧ Ex mX9_grams Q 36 ls (.int (gI h a i.toNatClampNeg) :: st) h) := Ex_gd rfl rfl
theorem rX9_grams_36 (Q : Po) (h : Hp) (ls : List Value) (st : List Value) (x y : Int32) : Ex mX9_grams Q 36 ls (.int y :: .int x :: st) h = if y ≤ x then Ex mX9_grams Q 54 ls st h else Ex mX9_grams Q 39 ls st h := Ex_br rfl rfl
theorem rX9_grams_39 (Q : Po) (h : Hp) (l0 l1 l2 l4 l5 l6 : Value) (x : Int32) (st : List Value) : Ex mX9_grams Q 39 [l0, l1, l2, .int x, l4, l5, l6] st h = Ex mX9_grams Q 40 [l0, l1, l2, .int x, l4, l5, l6] (.int x :: st) h := Ex_nx rfl rfl
theorem rX9_grams_40 (Q : Po) (h : Hp) (l1 l2 l3 l4 l5 l6 : Value) (x : Nat) (st : List Value) : Ex mX9_grams Q 40 [.ref x, l1, l2, l3, l4, l5, l6] st h = Ex mX9_grams Q 41 [.ref x, l1, l2, l3, l4, l5, l6] (.ref x :: st) h := Ex_nx rfl rfl
theorem rX9_grams_41 (Q : Po) (h : Hp) (l0 l1 l2 l3 l5 l6 : Value) (x : Int32) (st : List Value) : Ex mX9_grams Q 41 [l0, l1, l2, l3, .int x, l5, l6] st h = Ex mX9_grams Q 43 [l0, l1, l2, l3, .int x, l5, l6] (.int x :: st) h := Ex_nx rfl rfl
theorem rX9_grams_43 (Q : Po) (h : Hp) (ls : List Value) (a0 : Int32) (s0 : Value) (b : Nat) : Ex mX9_grams Q 43 ls (.int a0 :: .ref b :: [s0]) h = (gK h b = 9 ∧ Ex mX9_dustOf (Cont mX9_grams Q 43 ls 46 [s0]) 0 [.ref b, .int a0] [] h) := Ex_cg (n := 2) (as := [.ref b, .int a0]) rfl rfl
theorem rX9_grams_46 (Q : Po) (h : Hp) (ls : List Value) (st : List Value) (x y : Int32) : Ex mX9_grams Q 46 ls (.int y :: .int x :: st) h = Ex mX9_grams Q 47 ls (.int (x + y) :: st) h := Ex_nx rfl rfl
theorem rX9_grams_47 (Q : Po) (h : Hp) (l0 l1 l2 l3 l4 l5 l6 : Value) (x : Int32) (st : List Value) : Ex mX9_grams Q 47 [l0, l1, l2, l3, l4, l5, l6] (.int x :: st) h = Ex mX9_grams Q 48 [l0, l1, l2, .int x, l4, l5, l6] st h := Ex_nx rfl rfl
theorem rX9_grams_48 (Q : Po) (h : Hp) (l0 l1 l2 l3 l5 l6 : Value) (x : Int32) (st : List Value) : Ex mX9_grams Q 48 [l0, l1, l2, l3, .int x, l5, l6] st h = Ex mX9_grams Q 51 [l0, l1, l2, l3, .int (x + 1), l5, l6] st h := Ex_nx rfl rfl
theorem rX9_grams_51 (Q : Po) (h : Hp) (ls : List Value) (st : List Value) : Ex mX9_grams Q 51 ls st h = Ex mX9_grams Q 28 ls st h := Ex_nx rfl rfl
theorem rX9_grams_54 (Q : Po) (h : Hp) (l0 l1 l2 l4 l5 l6 : Value) (x : Int32) (st : List Value) : Ex mX9_grams Q 54 [l0, l1, l2, .int x, l4, l5, l6] st h = Ex mX9_grams Q 55 [l0, l1, l2, .int x, l4, l5, l6] (.int x :: st) h := Ex_nx rfl rfl
theorem rX9_grams_55 (Q : Po) (h : Hp) (ls : List Value) (st : List Value) (x : Int32) : Ex mX9_grams Q 55 ls (.int x :: st) h = if ¬ x = 0 then Ex mX9_grams Q 60 ls st h else Ex mX9_grams Q 58 ls st h := Ex_br rfl rfl
theorem rX9_grams_58 (Q : Po) (h : Hp) (ls : List Value) (st : List Value) : Ex mX9_grams Q 58 ls st h = Ex mX9_grams Q 59 ls (.int 0 :: st) h := Ex_nx rfl rfl
theorem rX9_grams_59 (Q : Po) (h : Hp) (ls : List Value) (x : Int32) : Ex mX9_grams Q 59 ls [.int x] h = Q (.inl (some (.int x))) h := Ex_rt rfl rfl
theorem rX9_grams_60 (Q : Po) (h : Hp) (l0 l1 l3 l4 l5 l6 : Value) (x : Int32) (st : List Value) : Ex mX9_grams Q 60 [l0, l1, .int x, l3, l4, l5, l6] st h = Ex mX9_grams Q 61 [l0, l1, .int x, l3, l4, l5, l6] (.int x :: st) h := Ex_nx rfl rfl
theorem rX9_grams_61 (Q : Po) (h : Hp) (l0 l1 l2 l3 l4 l5 l6 : Value) (x : Int32) (st : List Value) : Ex mX9_grams Q 61 [l0, l1, l2, l3, l4, l5, l6] (.int x :: st) h = Ex mX9_grams Q 63 [l0, l1, l2, l3, .int x, l5, l6] st h := Ex_nx rfl rfl
theorem rX9_grams_63 (Q : Po) (h : Hp) (ls : List Value) (st : List Value) : Ex mX9_grams Q 63 ls st h = Ex mX9_grams Q 64 ls (.int 0 :: st) h := Ex_nx rfl rfl
theorem rX9_grams_64 (Q : Po) (h : Hp) (l0 l1 l2 l3 l4 l5 l6 : Value) (x : Int32) (st : List Value) : Ex mX9_grams Q 64 [l0, l1, l2, l3, l4, l5, l6] (.int x :: st) h = Ex mX9_grams Q 66 [l0, l1, l2, l3, l4, .int x, l6] st h := Ex_nx rfl rfl
theorem rX9_grams_66 (Q : Po) (h : Hp) (l0 l1 l2 l3 l4 l6 : Value) (x : Int32) (st : List Value) : Ex mX9_grams Q 66 [l0, l1, l2, l3, l4, .int x, l6] st h = Ex mX9_grams Q 68 [l0, l1, l2, l3, l4, .int x, l6] (.int x :: st) h := Ex_nx rfl rfl
theorem rX9_grams_68 (Q : Po) (h : Hp) (l1 l2 l3 l4 l5 l6 : Value) (x : Nat) (st : List Value) : Ex mX9_grams Q 68 [.ref x, l1, l2, l3, l4, l5, l6] st h = Ex mX9_grams Q 69 [.ref x, l1, l2, l3, l4, l5, l6] (.ref x :: st) h := Ex_nx rfl rfl
theorem rX9_grams_69 (Q : Po) (h : Hp) (ls : List Value) (st : List Value) (a : Nat) : Ex mX9_grams Q 69 ls (.ref a :: st) h = (gK h a ∈ ([9] : List Nat) ∧ Ex mX9_grams Q 72 ls (gF h 81 a :: st) h) := Ex_gd rfl rfl
theorem rX9_grams_72 (Q : Po) (h : Hp) (ls : List Value) (st : List Value) : Ex mX9_grams Q 72 ls st h = Ex mX9_grams Q 73 ls (.int 1 :: st) h := Ex_nx rfl rfl
theorem rX9_grams_73 (Q : Po) (h : Hp) (ls : List Value) (st : List Value) (a : Nat) (i : Int32) : Ex mX9_grams Q 73 ls (.int i :: .ref a :: st) h = ((gK h a = 51 ∧ ¬ (i < 0 ∨ gL h a ≤ i.toNatClampNeg)) ∧ Ex mX9_grams Q 74 ls (.int (gI h a i.toNatClampNeg) :: st) h) := Ex_gd rfl rfl
theorem rX9_grams_74 (Q : Po) (h : Hp) (ls : List Value) (st : List Value) (x y : Int32) : Ex mX9_grams Q 74 ls (.int y :: .int x :: st) h = if y ≤ x then Ex mX9_grams Q 98 ls st h else Ex mX9_grams Q 77 ls st h := Ex_br rfl rfl
theorem rX9_grams_77 (Q : Po) (h : Hp) (l0 l1 l2 l3 l5 l6 : Value) (x : Int32) (st : List Value) : Ex mX9_grams Q 77 [l0, l1, l2, l3, .int x, l5, l6] st h = Ex mX9_grams Q 79 [l0, l1, l2, l3, .int x, l5, l6] (.int x :: st) h := Ex_nx rfl rfl
theorem rX9_grams_79 (Q : Po) (h : Hp) (l0 l1 l3 l4 l5 l6 : Value) (x : Int32) (st : List Value) : Ex mX9_grams Q 79 [l0, l1, .int x, l3, l4, l5, l6] st h = Ex mX9_grams Q 80 [l0, l1, .int x, l3, l4, l5, l6] (.int x :: st) h := Ex_nx rfl rfl
theorem rX9_grams_80 (Q : Po) (h : Hp) (l1 l2 l3 l4 l5 l6 : Value) (x : Nat) (st : List Value) : Ex mX9_grams Q 80 [.ref x, l1, l2, l3, l4, l5, l6] st h = Ex mX9_grams Q 81 [.ref x, l1, l2, l3, l4, l5, l6] (.ref x :: st) h := Ex_nx rfl rfl
theorem rX9_grams_81 (Q : Po) (h : Hp) (l0 l1 l2 l3 l4 l6 : Value) (x : Int32) (st : List Value) : Ex mX9_grams Q 81 [l0, l1, l2, l3, l4, .int x, l6] st h = Ex mX9_grams Q 83 [l0, l1, l2, l3, l4, .int x, l6] (.int x :: st) h := Ex_nx rfl rfl
theorem rX9_grams_83 (Q : Po) (h : Hp) (ls : List Value) (a0 : Int32) (s0 s1 : Value) (b : Nat) : Ex mX9_grams Q 83 ls (.int a0 :: .ref b :: [s0, s1]) h = (gK h b = 9 ∧ Ex mX9_dustOf (Cont mX9_grams Q 83 ls 86 [s0, s1]) 0 [.ref b, .int a0] [] h) := Ex_cg (n := 2) (as := [.ref b, .int a0]) rfl rfl
theorem rX9_grams_86 (Q : Po) (h : Hp) (ls : List Value) (st : List Value) (x y : Int32) : Ex mX9_grams Q 86 ls (.int y :: .int x :: st) h = Ex mX9_grams Q 87 ls (.int (x * y) :: st) h := Ex_nx rfl rfl
theorem rX9_grams_87 (Q : Po) (h : Hp) (l0 l1 l2 l4 l5 l6 : Value) (x : Int32) (st : List Value) : Ex mX9_grams Q 87 [l0, l1, l2, .int x, l4, l5, l6] st h = Ex mX9_grams Q 88 [l0, l1, l2, .int x, l4, l5, l6] (.int x :: st) h := Ex_nx rfl rfl
theorem rX9_grams_88 (Q : Po) (h : Hp) (ls : List Value) (st : List Value) (x y : Int32) : Ex mX9_grams Q 88 ls (.int y :: .int x :: st) h = (¬ y = 0 ∧ Ex mX9_grams Q 89 ls (.int (x / y) :: st) h) := Ex_gd rfl rfl
theorem rX9_grams_89 (Q : Po) (h : Hp) (ls : List Value) (st : List Value) (x y : Int32) : Ex mX9_grams Q 89 ls (.int y :: .int x :: st) h = Ex mX9_grams Q 90 ls (.int (x - y) :: st) h := Ex_nx rfl rfl
theorem rX9_grams_90 (Q : Po) (h : Hp) (l0 l1 l2 l3 l4 l5 l6 : Value) (x : Int32) (st : List Value) : Ex mX9_grams Q 90 [l0, l1, l2, l3, l4, l5, l6] (.int x :: st) h = Ex mX9_grams Q 92 [l0, l1, l2, l3, .int x, l5, l6] st h := Ex_nx rfl rfl
theorem rX9_grams_92 (Q : Po) (h : Hp) (l0 l1 l2 l3 l4 l6 : Value) (x : Int32) (st : List Value) : Ex mX9_grams Q 92 [l0, l1, l2, l3, l4, .int x, l6] st h = Ex mX9_grams Q 95 [l0, l1, l2, l3, l4, .int (x + 1), l6] st h := Ex_nx rfl rfl
theorem rX9_grams_95 (Q : Po) (h : Hp) (ls : List Value) (st : List Value) : Ex mX9_grams Q 95 ls st h = Ex mX9_grams Q 66 ls st h := Ex_nx rfl rfl
theorem rX9_grams_98 (Q : Po) (h : Hp) (ls : List Value) (st : List Value) : Ex mX9_grams Q 98 ls st h = Ex mX9_grams Q 99 ls (.int 0 :: st) h := Ex_nx rfl rfl
theorem rX9_grams_99 (Q : Po) (h : Hp) (l0 l1 l2 l3 l4 l5 l6 : Value) (x : Int32) (st : List Value) : Ex mX9_grams Q 99 [l0, l1, l2, l3, l4, l5, l6] (.int x :: st) h = Ex mX9_grams Q 101 [l0, l1, l2, l3, l4, .int x, l6] st h := Ex_nx rfl rfl
theorem rX9_grams_101 (Q : Po) (h : Hp) (ls : List Value) (st : List Value) : Ex mX9_grams Q 101 ls st h = Ex mX9_grams Q 102 ls (.int 0 :: st) h := Ex_nx rfl rfl
theorem rX9_grams_102 (Q : Po) (h : Hp) (l0 l1 l2 l3 l4 l5 l6 : Value) (x : Int32) (st : List Value) : Ex mX9_grams Q 102 [l0, l1, l2, l3, l4, l5, l6] (.int x :: st) h = Ex mX9_grams Q 104 [l0, l1, l2, l3, l4, l5, .int x] st h := Ex_nx rfl rfl
theorem rX9_grams_104 (Q : Po) (h : Hp) (l0 l1 l2 l3 l4 l5 : Value) (x : Int32) (st : List Value) : Ex mX9_grams Q 104 [l0, l1, l2, l3, l4, l5, .int x] st h = Ex mX9_grams Q 106 [l0, l1, l2, l3, l4, l5, .int x] (.int x :: st) h := Ex_nx rfl rfl
theorem rX9_grams_106 (Q : Po) (h : Hp) (l0 l2 l3 l4 l5 l6 : Value) (x : Int32) (st : List Value) : Ex mX9_grams Q 106 [l0, .int x, l2, l3, l4, l5, l6] st h = Ex mX9_grams Q 107 [l0, .int x, l2, l3, l4, l5, l6] (.int x :: st) h := Ex_nx rfl rfl
theorem rX9_grams_107 (Q : Po) (h : Hp) (ls : List Value) (st : List Value) (x y : Int32) : Ex mX9_grams Q 107 ls (.int y :: .int x :: st) h = if y ≤ x then Ex mX9_grams Q 135 ls st h else Ex mX9_grams Q 110 ls st h := Ex_br rfl rfl
theorem rX9_grams_110 (Q : Po) (h : Hp) (l0 l1 l2 l3 l4 l6 : Value) (x : Int32) (st : List Value) : Ex mX9_grams Q 110 [l0, l1, l2, l3, l4, .int x, l6] st h = Ex mX9_grams Q 112 [l0, l1, l2, l3, l4, .int x, l6] (.int x :: st) h := Ex_nx rfl rfl
theorem rX9_grams_112 (Q : Po) (h : Hp) (l1 l2 l3 l4 l5 l6 : Value) (x : Nat) (st : List Value) : Ex mX9_grams Q 112 [.ref x, l1, l2, l3, l4, l5, l6] st h = Ex mX9_grams Q 113 [.ref x, l1, l2, l3, l4, l5, l6] (.ref x :: st) h := Ex_nx rfl rfl
theorem rX9_grams_113 (Q : Po) (h : Hp) (l0 l1 l2 l3 l4 l5 : Value) (x : Int32) (st : List Value) : Ex mX9_grams Q 113 [l0, l1, l2, l3, l4, l5, .int x] st h = Ex mX9_grams Q 115 [l0, l1, l2, l3, l4, l5, .int x] (.int x :: st) h := Ex_nx rfl rfl
theorem rX9_grams_115 (Q : Po) (h : Hp) (ls : List Value) (a0 : Int32) (s0 : Value) (b : Nat) : Ex mX9_grams Q 115 ls (.int a0 :: .ref b :: [s0]) h = (gK h b = 9 ∧ Ex mX9_dustOf (Cont mX9_grams Q 115 ls 118 [s0]) 0 [.ref b, .int a0] [] h) := Ex_cg (n := 2) (as := [.ref b, .int a0]) rfl rfl
theorem rX9_grams_118 (Q : Po) (h : Hp) (ls : List Value) (st : List Value) (x : Int32) : Ex mX9_grams Q 118 ls (.int x :: st) h = if x ≤ 0 then Ex mX9_grams Q 125 ls st h else Ex mX9_grams Q 121 ls st h := Ex_br rfl rfl
theorem rX9_grams_121 (Q : Po) (h : Hp) (ls : List Value) (st : List Value) : Ex mX9_grams Q 121 ls st h = Ex mX9_grams Q 122 ls (.int 1 :: st) h := Ex_nx rfl rfl
theorem rX9_grams_122 (Q : Po) (h : Hp) (ls : List Value) (st : List Value) : Ex mX9_grams Q 122 ls st h = Ex mX9_grams Q 126 ls st h := Ex_nx rfl rfl
theorem rX9_grams_125 (Q : Po) (h : Hp) (ls : List Value) (st : List Value) : Ex mX9_grams Q 125 ls st h = Ex mX9_grams Q 126 ls (.int 0 :: st) h := Ex_nx rfl rfl
theorem rX9_grams_126 (Q : Po) (h : Hp) (ls : List Value) (st : List Value) (x y : Int32) : Ex mX9_grams Q 126 ls (.int y :: .int x :: st) h = Ex mX9_grams Q 127 ls (.int (x + y) :: st) h := Ex_nx rfl rfl
theorem rX9_grams_127 (Q : Po) (h : Hp) (l0 l1 l2 l3 l4 l5 l6 : Value) (x : Int32) (st : List Value) : Ex mX9_grams Q 127 [l0, l1, l2, l3, l4, l5, l6] (.int x :: st) h = Ex mX9_grams Q 129 [l0, l1, l2, l3, l4, .int x, l6] st h := Ex_nx rfl rfl
theorem rX9_grams_129 (Q : Po) (h : Hp) (l0 l1 l2 l3 l4 l5 : Value) (x : Int32) (st : List Value) : Ex mX9_grams Q 129 [l0, l1, l2, l3, l4, l5, .int x] st h = Ex mX9_grams Q 132 [l0, l1, l2, l3, l4, l5, .int (x + 1)] st h := Ex_nx rfl rfl
theorem rX9_grams_132 (Q : Po) (h : Hp) (ls : List Value) (st : List Value) : Ex mX9_grams Q 132 ls st h = Ex mX9_grams Q 104 ls st h := Ex_nx rfl rfl
theorem rX9_grams_135 (Q : Po) (h : Hp) (l0 l1 l3 l4 l5 l6 : Value) (x : Int32) (st : List Value) : Ex mX9_grams Q 135 [l0, l1, .int x, l3, l4, l5, l6] st h = Ex mX9_grams Q 136 [l0, l1, .int x, l3, l4, l5, l6] (.int x :: st) h := Ex_nx rfl rfl
theorem rX9_grams_136 (Q : Po) (h : Hp) (l1 l2 l3 l4 l5 l6 : Value) (x : Nat) (st : List Value) : Ex mX9_grams Q 136 [.ref x, l1, l2, l3, l4, l5, l6] st h = Ex mX9_grams Q 137 [.ref x, l1, l2, l3, l4, l5, l6] (.ref x :: st) h := Ex_nx rfl rfl
theorem rX9_grams_137 (Q : Po) (h : Hp) (l0 l2 l3 l4 l5 l6 : Value) (x : Int32) (st : List Value) : Ex mX9_grams Q 137 [l0, .int x, l2, l3, l4, l5, l6] st h = Ex mX9_grams Q 138 [l0, .int x, l2, l3, l4, l5, l6] (.int x :: st) h := Ex_nx rfl rfl
theorem rX9_grams_138 (Q : Po) (h : Hp) (ls : List Value) (a0 : Int32) (s0 : Value) (b : Nat) : Ex mX9_grams Q 138 ls (.int a0 :: .ref b :: [s0]) h = (gK h b = 9 ∧ Ex mX9_dustOf (Cont mX9_grams Q 138 ls 141 [s0]) 0 [.ref b, .int a0] [] h) := Ex_cg (n := 2) (as := [.ref b, .int a0]) rfl rfl
theorem rX9_grams_141 (Q : Po) (h : Hp) (ls : List Value) (st : List Value) (x y : Int32) : Ex mX9_grams Q 141 ls (.int y :: .int x :: st) h = Ex mX9_grams Q 142 ls (.int (x * y) :: st) h := Ex_nx rfl rfl
theorem rX9_grams_142 (Q : Po) (h : Hp) (l0 l1 l2 l4 l5 l6 : Value) (x : Int32) (st : List Value) : Ex mX9_grams Q 142 [l0, l1, l2, .int x, l4, l5, l6] st h = Ex mX9_grams Q 143 [l0, l1, l2, .int x, l4, l5, l6] (.int x :: st) h := Ex_nx rfl rfl
theorem rX9_grams_143 (Q : Po) (h : Hp) (ls : List Value) (st : List Value) (x y : Int32) : Ex mX9_grams Q 143 ls (.int y :: .int x :: st) h = (¬ y = 0 ∧ Ex mX9_grams Q 144 ls (.int (x / y) :: st) h) := Ex_gd rfl rfl
theorem rX9_grams_144 (Q : Po) (h : Hp) (l1 l2 l3 l4 l5 l6 : Value) (x : Nat) (st : List Value) : Ex mX9_grams Q 144 [.ref x, l1, l2, l3, l4, l5, l6] st h = Ex mX9_grams Q 145 [.ref x, l1, l2, l3, l4, l5, l6] (.ref x :: st) h := Ex_nx rfl rfl
theorem rX9_grams_145 (Q : Po) (h : Hp) (l0 l2 l3 l4 l5 l6 : Value) (x : Int32) (st : List Value) : Ex mX9_grams Q 145 [l0, .int x, l2, l3, l4, l5, l6] st h = Ex mX9_grams Q 146 [l0, .int x, l2, l3, l4, l5, l6] (.int x :: st) h := Ex_nx rfl rfl
theorem rX9_grams_146 (Q : Po) (h : Hp) (ls : List Value) (a0 : Int32) (s0 : Value) (b : Nat) : Ex mX9_grams Q 146 ls (.int a0 :: .ref b :: [s0]) h = (gK h b = 9 ∧ Ex mX9_dustOf (Cont mX9_grams Q 146 ls 149 [s0]) 0 [.ref b, .int a0] [] h) := Ex_cg (n := 2) (as := [.ref b, .int a0]) rfl rfl
theorem rX9_grams_149 (Q : Po) (h : Hp) (ls : List Value) (st : List Value) (x : Int32) : Ex mX9_grams Q 149 ls (.int x :: st) h = if x ≤ 0 then Ex mX9_grams Q 163 ls st h else Ex mX9_grams Q 152 ls st h := Ex_br rfl rfl
theorem rX9_grams_152 (Q : Po) (h : Hp) (l0 l1 l2 l3 l4 l6 : Value) (x : Int32) (st : List Value) : Ex mX9_grams Q 152 [l0, l1, l2, l3, l4, .int x, l6] st h = Ex mX9_grams Q 154 [l0, l1, l2, l3, l4, .int x, l6] (.int x :: st) h := Ex_nx rfl rfl
theorem rX9_grams_154 (Q : Po) (h : Hp) (l0 l1 l2 l3 l5 l6 : Value) (x : Int32) (st : List Value) : Ex mX9_grams Q 154 [l0, l1, l2, l3, .int x, l5, l6] st h = Ex mX9_grams Q 156 [l0, l1, l2, l3, .int x, l5, l6] (.int x :: st) h := Ex_nx rfl rfl
theorem rX9_grams_156 (Q : Po) (h : Hp) (ls : List Value) (st : List Value) (x y : Int32) : Ex mX9_grams Q 156 ls (.int y :: .int x :: st) h = if y ≤ x then Ex mX9_grams Q 163 ls st h else Ex mX9_grams Q 159 ls st h := Ex_br rfl rfl
theorem rX9_grams_159 (Q : Po) (h : Hp) (ls : List Value) (st : List Value) : Ex mX9_grams Q 159 ls st h = Ex mX9_grams Q 160 ls (.int 1 :: st) h := Ex_nx rfl rfl
theorem rX9_grams_160 (Q : Po) (h : Hp) (ls : List Value) (st : List Value) : Ex mX9_grams Q 160 ls st h = Ex mX9_grams Q 164 ls st h := Ex_nx rfl rfl
theorem rX9_grams_163 (Q : Po) (h : Hp) (ls : List Value) (st : List Value) : Ex mX9_grams Q 163 ls st h = Ex mX9_grams Q 164 ls (.int 0 :: st) h := Ex_nx rfl rfl
theorem rX9_grams_164 (Q : Po) (h : Hp) (ls : List Value) (st : List Value) (x y : Int32) : Ex mX9_grams Q 164 ls (.int y :: .int x :: st) h = Ex mX9_grams Q 165 ls (.int (x + y) :: st) h := Ex_nx rfl rfl
theorem rX9_grams_165 (Q : Po) (h : Hp) (ls : List Value) (x : Int32) : Ex mX9_grams Q 165 ls [.int x] h = Q (.inl (some (.int x))) h := Ex_rt rfl rfl
theorem rX9_grams_t (Q : Po) (h : Hp) (pc n a : Nat) (ls st : List Value) : Cont mX9_grams Q pc ls n st (.inr a) h = Q (.inr a) h := rfl
/-! FishReadersModel.lacks(III)I -/
def mX9_lacks : Cd := ([(0, .inl (i_aload 0 1)),
  (1, .inl (i_getf 73 [9] 4)),
  (4, .inl (i_iload 1 5)),
  (5, .inl (i_iald 51 6)),
  (6, .inl (i_if (fun x => 0 ≤ x) 15 9)),
  (9, .inl (i_aload 0 10)),
  (10, .inl (i_push (.int 1) 11)),
  (11, .inr (c_V 1 14 2 9 (Mt mX9_find 2))),
  (14, .inl i_iret),
  (15, .inl (i_iload 2 16)),
  (16, .inl (i_i2l 17)),
  (17, .inl (i_push (.long 0) 18)),
  (18, .inl (i_aload 0 19)),
  (19, .inl (i_getf 73 [9] 22)),
  (22, .inl (i_iload 1 23)),
  (23, .inl (i_iald 51 24)),
  (24, .inl (i_iload 3 25)),
  (25, .inl (i_bin (fun x y => x - y) 26)),
  (26, .inl (i_i2l 27)),
  (27, .inr (c_S 3 30 6 (Mt mX9_in 6))),
  (30, .inl (i_if (fun x => x = 0) 37 33)),
  (33, .inl (i_push (.int 0) 34)),
  (34, .inl (i_goto 42)),
  (37, .inl (i_aload 0 38)),
  (38, .inl (i_push (.int 2) 39)),
  (39, .inr (c_V 1 42 2 9 (Mt mX9_find 2))),
  (42, .inl i_iret)], noH)
theorem rX9_lacks_0 (Q : Po) (h : Hp) (l1 l2 l3 : Value) (x : Nat) (st : List Value) : Ex mX9_lacks Q 0 [.ref x, l1, l2, l3] st h = Ex mX9_lacks Q 1 [.ref x, l1, l2, l3] (.ref x :: st) h := Ex_nx rfl rfl
theorem rX9_lacks_1 (Q : Po) (h : Hp) (ls : List Value) (st : List Value) (a : Nat) : Ex mX9_lacks Q 1 ls (.ref a :: st) h = (gK h a ∈ ([9] : List Nat) ∧ Ex mX9_lacks Q 4 ls (gF h 73 a :: st) h) := Ex_gd rfl rfl
theorem rX9_lacks_4 (Q : Po) (h : Hp) (l0 l2 l3 : Value) (x : Int32) (st : List Value) : Ex mX9_lacks Q 4 [l0, .int x, l2, l3] st h = Ex mX9_lacks Q 5 [l0, .int x, l2, l3] (.int x :: st) h := Ex_nx rfl rfl
theorem rX9_lacks_5 (Q : Po) (h : Hp) (ls : List Value) (st : List Value) (a : Nat) (i : Int32) : Ex mX9_lacks Q 5 ls (.int i :: .ref a :: st) h = ((gK h a = 51 ∧ ¬ (i < 0 ∨ gL h a ≤ i.toNatClampNeg)) ∧ Ex mX9_lacks Q 6 ls (.int (gI h a i.toNatClampNeg) :: st) h) := Ex_gd rfl rfl
theorem rX9_lacks_6 (Q : Po) (h : Hp) (ls : List Value) (st : List Value) (x : Int32) : Ex mX9_lacks Q 6 ls (.int x :: st) h = if 0 ≤ x then Ex mX9_lacks Q 15 ls st h else Ex mX9_lacks Q 9 ls st h := Ex_br rfl rfl
theorem rX9_lacks_9 (Q : Po) (h : Hp) (l1 l2 l3 : Value) (x : Nat) (st : List Value) : Ex mX9_lacks Q 9 [.ref x, l1, l2, l3] st h = Ex mX9_lacks Q 10 [.ref x, l1, l2, l3] (.ref x :: st) h := Ex_nx rfl rfl
theorem rX9_lacks_10 (Q : Po) (h : Hp) (ls : List Value) (st : List Value) : Ex mX9_lacks Q 10 ls st h = Ex mX9_lacks Q 11 ls (.int 1 :: st) h := Ex_nx rfl rfl
theorem rX9_lacks_11 (Q : Po) (h : Hp) (ls : List Value) (a0 : Int32) (b : Nat) : Ex mX9_lacks Q 11 ls (.int a0 :: .ref b :: []) h = (gK h b = 9 ∧ Ex mX9_find (Cont mX9_lacks Q 11 ls 14 []) 0 [.ref b, .int a0] [] h) := Ex_cg (n := 2) (as := [.ref b, .int a0]) rfl rfl
theorem rX9_lacks_14 (Q : Po) (h : Hp) (ls : List Value) (x : Int32) : Ex mX9_lacks Q 14 ls [.int x] h = Q (.inl (some (.int x))) h := Ex_rt rfl rfl
theorem rX9_lacks_15 (Q : Po) (h : Hp) (l0 l1 l3 : Value) (x : Int32) (st : List Value) : Ex mX9_lacks Q 15 [l0, l1, .int x, l3] st h = Ex mX9_lacks Q 16 [l0, l1, .int x, l3] (.int x :: st) h := Ex_nx rfl rfl
theorem rX9_lacks_16 (Q : Po) (h : Hp) (ls : List Value) (st : List Value) (x : Int32) : Ex mX9_lacks Q 16 ls (.int x :: st) h = Ex mX9_lacks Q 17 ls (.long x.toInt64 :: st) h := Ex_nx rfl rfl
theorem rX9_lacks_17 (Q : Po) (h : Hp) (ls : List Value) (st : List Value) : Ex mX9_lacks Q 17 ls st h = Ex mX9_lacks Q 18 ls (.long 0 :: st) h := Ex_nx rfl rfl
theorem rX9_lacks_18 (Q : Po) (h : Hp) (l1 l2 l3 : Value) (x : Nat) (st : List Value) : Ex mX9_lacks Q 18 [.ref x, l1, l2, l3] st h = Ex mX9_lacks Q 19 [.ref x, l1, l2, l3] (.ref x :: st) h := Ex_nx rfl rfl
theorem rX9_lacks_19 (Q : Po) (h : Hp) (ls : List Value) (st : List Value) (a : Nat) : Ex mX9_lacks Q 19 ls (.ref a :: st) h = (gK h a ∈ ([9] : List Nat) ∧ Ex mX9_lacks Q 22 ls (gF h 73 a :: st) h) := Ex_gd rfl rfl
theorem rX9_lacks_22 (Q : Po) (h : Hp) (l0 l2 l3 : Value) (x : Int32) (st : List Value) : Ex mX9_lacks Q 22 [l0, .int x, l2, l3] st h = Ex mX9_lacks Q 23 [l0, .int x, l2, l3] (.int x :: st) h := Ex_nx rfl rfl
theorem rX9_lacks_23 (Q : Po) (h : Hp) (ls : List Value) (st : List Value) (a : Nat) (i : Int32) : Ex mX9_lacks Q 23 ls (.int i :: .ref a :: st) h = ((gK h a = 51 ∧ ¬ (i < 0 ∨ gL h a ≤ i.toNatClampNeg)) ∧ Ex mX9_lacks Q 24 ls (.int (gI h a i.toNatClampNeg) :: st) h) := Ex_gd rfl rfl
theorem rX9_lacks_24 (Q : Po) (h : Hp) (l0 l1 l2 : Value) (x : Int32) (st : List Value) : Ex mX9_lacks Q 24 [l0, l1, l2, .int x] st h = Ex mX9_lacks Q 25 [l0, l1, l2, .int x] (.int x :: st) h := Ex_nx rfl rfl
theorem rX9_lacks_25 (Q : Po) (h : Hp) (ls : List Value) (st : List Value) (x y : Int32) : Ex mX9_lacks Q 25 ls (.int y :: .int x :: st) h = Ex mX9_lacks Q 26 ls (.int (x - y) :: st) h := Ex_nx rfl rfl
theorem rX9_lacks_26 (Q : Po) (h : Hp) (ls : List Value) (st : List Value) (x : Int32) : Ex mX9_lacks Q 26 ls (.int x :: st) h = Ex mX9_lacks Q 27 ls (.long x.toInt64 :: st) h := Ex_nx rfl rfl
theorem rX9_lacks_27 (Q : Po) (h : Hp) (ls : List Value) (a0 : Int64) (a1 : Int64) (a2 : Int64) : Ex mX9_lacks Q 27 ls (.long a2 :: .long a1 :: .long a0 :: []) h = Ex mX9_in (Cont mX9_lacks Q 27 ls 30 []) 0 [.long a0, .retAddr 1, .long a1, .retAddr 1, .long a2, .retAddr 1] [] h := Ex_cl (n := 6) (as := [.long a0, .long a1, .long a2]) rfl rfl
theorem rX9_lacks_30 (Q : Po) (h : Hp) (ls : List Value) (st : List Value) (x : Int32) : Ex mX9_lacks Q 30 ls (.int x :: st) h = if x = 0 then Ex mX9_lacks Q 37 ls st h else Ex mX9_lacks Q 33 ls st h := Ex_br rfl rfl
theorem rX9_lacks_33 (Q : Po) (h : Hp) (ls : List Value) (st : List Value) : Ex mX9_lacks Q 33 ls st h = Ex mX9_lacks Q 34 ls (.int 0 :: st) h := Ex_nx rfl rfl
theorem rX9_lacks_34 (Q : Po) (h : Hp) (ls : List Value) (st : List Value) : Ex mX9_lacks Q 34 ls st h = Ex mX9_lacks Q 42 ls st h := Ex_nx rfl rfl
theorem rX9_lacks_37 (Q : Po) (h : Hp) (l1 l2 l3 : Value) (x : Nat) (st : List Value) : Ex mX9_lacks Q 37 [.ref x, l1, l2, l3] st h = Ex mX9_lacks Q 38 [.ref x, l1, l2, l3] (.ref x :: st) h := Ex_nx rfl rfl
theorem rX9_lacks_38 (Q : Po) (h : Hp) (ls : List Value) (st : List Value) : Ex mX9_lacks Q 38 ls st h = Ex mX9_lacks Q 39 ls (.int 2 :: st) h := Ex_nx rfl rfl
theorem rX9_lacks_39 (Q : Po) (h : Hp) (ls : List Value) (a0 : Int32) (b : Nat) : Ex mX9_lacks Q 39 ls (.int a0 :: .ref b :: []) h = (gK h b = 9 ∧ Ex mX9_find (Cont mX9_lacks Q 39 ls 42 []) 0 [.ref b, .int a0] [] h) := Ex_cg (n := 2) (as := [.ref b, .int a0]) rfl rfl
theorem rX9_lacks_42 (Q : Po) (h : Hp) (ls : List Value) (x : Int32) : Ex mX9_lacks Q 42 ls [.int x] h = Q (.inl (some (.int x))) h := Ex_rt rfl rfl
theorem rX9_lacks_t (Q : Po) (h : Hp) (pc n a : Nat) (ls st : List Value) : Cont mX9_lacks Q pc ls n st (.inr a) h = Q (.inr a) h := rfl
/-! FishReadersModel.isSo(III)Z -/
def mX9_isSo : Cd := ([(0, .inl (i_push (.int 1) 1)),
  (1, .inl (i_istore 4 3)),
  (3, .inl (i_push (.int 0) 4)),
  (4, .inl (i_istore 5 6)),
  (6, .inl (i_iload 5 8)),
  (8, .inl (i_iload 3 9)),
  (9, .inl (i_icmp (fun x y => y ≤ x) 55 12)),
  (12, .inl (i_aload 0 13)),
  (13, .inr (c_V 0 16 2 9 (Mt mX9_oneNight 2))),
  (16, .inl (i_iload 4 18)),
  (18, .inl (i_if (fun x => x = 0) 46 21)),
  (21, .inl (i_aload 0 22)),
  (22, .inl (i_getf 75 [9] 25)),
  (25, .inl (i_iload 2 26)),
  (26, .inl (i_iload 5 28)),
  (28, .inl (i_bin (fun x y => x + y) 29)),
  (29, .inl (i_iald 51 30)),
  (30, .inl (i_aload 0 31)),
  (31, .inl (i_getf 81 [9] 34)),
  (34, .inl (i_push (.int 8) 36)),
  (36, .inl (i_iload 1 37)),
  (37, .inl (i_bin (fun x y => x + y) 38)),
  (38, .inl (i_iald 51 39)),
  (39, .inl (i_icmp (fun x y => ¬ x = y) 46 42)),
  (42, .inl (i_push (.int 1) 43)),
  (43, .inl (i_goto 47)),
  (46, .inl (i_push (.int 0) 47)),
  (47, .inl (i_istore 4 49)),
  (49, .inl (i_iinc 5 1 52)),
  (52, .inl (i_goto 6)),
  (55, .inl (i_aload 0 56)),
  (56, .inr (c_V 0 59 2 9 (Mt mX9_takeBack 2))),
  (59, .inl (i_iload 4 61)),
  (61, .inl i_zret)], noH)
theorem rX9_isSo_0 (Q : Po) (h : Hp) (ls : List Value) (st : List Value) : Ex mX9_isSo Q 0 ls st h = Ex mX9_isSo Q 1 ls (.int 1 :: st) h := Ex_nx rfl rfl
theorem rX9_isSo_1 (Q : Po) (h : Hp) (l0 l1 l2 l3 l4 l5 : Value) (x : Int32) (st : List Value) : Ex mX9_isSo Q 1 [l0, l1, l2, l3, l4, l5] (.int x :: st) h = Ex mX9_isSo Q 3 [l0, l1, l2, l3, .int x, l5] st h := Ex_nx rfl rfl
theorem rX9_isSo_3 (Q : Po) (h : Hp) (ls : List Value) (st : List Value) : Ex mX9_isSo Q 3 ls st h = Ex mX9_isSo Q 4 ls (.int 0 :: st) h := Ex_nx rfl rfl
theorem rX9_isSo_4 (Q : Po) (h : Hp) (l0 l1 l2 l3 l4 l5 : Value) (x : Int32) (st : List Value) : Ex mX9_isSo Q 4 [l0, l1, l2, l3, l4, l5] (.int x :: st) h = Ex mX9_isSo Q 6 [l0, l1, l2, l3, l4, .int x] st h := Ex_nx rfl rfl
theorem rX9_isSo_6 (Q : Po) (h : Hp) (l0 l1 l2 l3 l4 : Value) (x : Int32) (st : List Value) : Ex mX9_isSo Q 6 [l0, l1, l2, l3, l4, .int x] st h = Ex mX9_isSo Q 8 [l0, l1, l2, l3, l4, .int x] (.int x :: st) h := Ex_nx rfl rfl
theorem rX9_isSo_8 (Q : Po) (h : Hp) (l0 l1 l2 l4 l5 : Value) (x : Int32) (st : List Value) : Ex mX9_isSo Q 8 [l0, l1, l2, .int x, l4, l5] st h = Ex mX9_isSo Q 9 [l0, l1, l2, .int x, l4, l5] (.int x :: st) h := Ex_nx rfl rfl
theorem rX9_isSo_9 (Q : Po) (h : Hp) (ls : List Value) (st : List Value) (x y : Int32) : Ex mX9_isSo Q 9 ls (.int y :: .int x :: st) h = if y ≤ x then Ex mX9_isSo Q 55 ls st h else Ex mX9_isSo Q 12 ls st h := Ex_br rfl rfl
theorem rX9_isSo_12 (Q : Po) (h : Hp) (l1 l2 l3 l4 l5 : Value) (x : Nat) (st : List Value) : Ex mX9_isSo Q 12 [.ref x, l1, l2, l3, l4, l5] st h = Ex mX9_isSo Q 13 [.ref x, l1, l2, l3, l4, l5] (.ref x :: st) h := Ex_nx rfl rfl
theorem rX9_isSo_13 (Q : Po) (h : Hp) (ls : List Value) (b : Nat) : Ex mX9_isSo Q 13 ls (.ref b :: []) h = (gK h b = 9 ∧ Ex mX9_oneNight (Cont mX9_isSo Q 13 ls 16 []) 0 [.ref b, .retAddr 0] [] h) := Ex_cg (n := 2) (as := [.ref b]) rfl rfl
theorem rX9_isSo_16 (Q : Po) (h : Hp) (l0 l1 l2 l3 l5 : Value) (x : Int32) (st : List Value) : Ex mX9_isSo Q 16 [l0, l1, l2, l3, .int x, l5] st h = Ex mX9_isSo Q 18 [l0, l1, l2, l3, .int x, l5] (.int x :: st) h := Ex_nx rfl rfl
theorem rX9_isSo_18 (Q : Po) (h : Hp) (ls : List Value) (st : List Value) (x : Int32) : Ex mX9_isSo Q 18 ls (.int x :: st) h = if x = 0 then Ex mX9_isSo Q 46 ls st h else Ex mX9_isSo Q 21 ls st h := Ex_br rfl rfl
theorem rX9_isSo_21 (Q : Po) (h : Hp) (l1 l2 l3 l4 l5 : Value) (x : Nat) (st : List Value) : Ex mX9_isSo Q 21 [.ref x, l1, l2, l3, l4, l5] st h = Ex mX9_isSo Q 22 [.ref x, l1, l2, l3, l4, l5] (.ref x :: st) h := Ex_nx rfl rfl
theorem rX9_isSo_22 (Q : Po) (h : Hp) (ls : List Value) (st : List Value) (a : Nat) : Ex mX9_isSo Q 22 ls (.ref a :: st) h = (gK h a ∈ ([9] : List Nat) ∧ Ex mX9_isSo Q 25 ls (gF h 75 a :: st) h) := Ex_gd rfl rfl
theorem rX9_isSo_25 (Q : Po) (h : Hp) (l0 l1 l3 l4 l5 : Value) (x : Int32) (st : List Value) : Ex mX9_isSo Q 25 [l0, l1, .int x, l3, l4, l5] st h = Ex mX9_isSo Q 26 [l0, l1, .int x, l3, l4, l5] (.int x :: st) h := Ex_nx rfl rfl
theorem rX9_isSo_26 (Q : Po) (h : Hp) (l0 l1 l2 l3 l4 : Value) (x : Int32) (st : List Value) : Ex mX9_isSo Q 26 [l0, l1, l2, l3, l4, .int x] st h = Ex mX9_isSo Q 28 [l0, l1, l2, l3, l4, .int x] (.int x :: st) h := Ex_nx rfl rfl
theorem rX9_isSo_28 (Q : Po) (h : Hp) (ls : List Value) (st : List Value) (x y : Int32) : Ex mX9_isSo Q 28 ls (.int y :: .int x :: st) h = Ex mX9_isSo Q 29 ls (.int (x + y) :: st) h := Ex_nx rfl rfl
theorem rX9_isSo_29 (Q : Po) (h : Hp) (ls : List Value) (st : List Value) (a : Nat) (i : Int32) : Ex mX9_isSo Q 29 ls (.int i :: .ref a :: st) h = ((gK h a = 51 ∧ ¬ (i < 0 ∨ gL h a ≤ i.toNatClampNeg)) ∧ Ex mX9_isSo Q 30 ls (.int (gI h a i.toNatClampNeg) :: st) h) := Ex_gd rfl rfl
theorem rX9_isSo_30 (Q : Po) (h : Hp) (l1 l2 l3 l4 l5 : Value) (x : Nat) (st : List Value) : Ex mX9_isSo Q 30 [.ref x, l1, l2, l3, l4, l5] st h = Ex mX9_isSo Q 31 [.ref x, l1, l2, l3, l4, l5] (.ref x :: st) h := Ex_nx rfl rfl
theorem rX9_isSo_31 (Q : Po) (h : Hp) (ls : List Value) (st : List Value) (a : Nat) : Ex mX9_isSo Q 31 ls (.ref a :: st) h = (gK h a ∈ ([9] : List Nat) ∧ Ex mX9_isSo Q 34 ls (gF h 81 a :: st) h) := Ex_gd rfl rfl
theorem rX9_isSo_34 (Q : Po) (h : Hp) (ls : List Value) (st : List Value) : Ex mX9_isSo Q 34 ls st h = Ex mX9_isSo Q 36 ls (.int 8 :: st) h := Ex_nx rfl rfl
theorem rX9_isSo_36 (Q : Po) (h : Hp) (l0 l2 l3 l4 l5 : Value) (x : Int32) (st : List Value) : Ex mX9_isSo Q 36 [l0, .int x, l2, l3, l4, l5] st h = Ex mX9_isSo Q 37 [l0, .int x, l2, l3, l4, l5] (.int x :: st) h := Ex_nx rfl rfl
theorem rX9_isSo_37 (Q : Po) (h : Hp) (ls : List Value) (st : List Value) (x y : Int32) : Ex mX9_isSo Q 37 ls (.int y :: .int x :: st) h = Ex mX9_isSo Q 38 ls (.int (x + y) :: st) h := Ex_nx rfl rfl
theorem rX9_isSo_38 (Q : Po) (h : Hp) (ls : List Value) (st : List Value) (a : Nat) (i : Int32) : Ex mX9_isSo Q 38 ls (.int i :: .ref a :: st) h = ((gK h a = 51 ∧ ¬ (i < 0 ∨ gL h a ≤ i.toNatClampNeg)) ∧ Ex mX9_isSo Q 39 ls (.int (gI h a i.toNatClampNeg) :: st) h) := Ex_gd rfl rfl
theorem rX9_isSo_39 (Q : Po) (h : Hp) (ls : List Value) (st : List Value) (x y : Int32) : Ex mX9_isSo Q 39 ls (.int y :: .int x :: st) h = if ¬ x = y then Ex mX9_isSo Q 46 ls st h else Ex mX9_isSo Q 42 ls st h := Ex_br rfl rfl
theorem rX9_isSo_42 (Q : Po) (h : Hp) (ls : List Value) (st : List Value) : Ex mX9_isSo Q 42 ls st h = Ex mX9_isSo Q 43 ls (.int 1 :: st) h := Ex_nx rfl rfl
theorem rX9_isSo_43 (Q : Po) (h : Hp) (ls : List Value) (st : List Value) : Ex mX9_isSo Q 43 ls st h = Ex mX9_isSo Q 47 ls st h := Ex_nx rfl rfl
theorem rX9_isSo_46 (Q : Po) (h : Hp) (ls : List Value) (st : List Value) : Ex mX9_isSo Q 46 ls st h = Ex mX9_isSo Q 47 ls (.int 0 :: st) h := Ex_nx rfl rfl
theorem rX9_isSo_47 (Q : Po) (h : Hp) (l0 l1 l2 l3 l4 l5 : Value) (x : Int32) (st : List Value) : Ex mX9_isSo Q 47 [l0, l1, l2, l3, l4, l5] (.int x :: st) h = Ex mX9_isSo Q 49 [l0, l1, l2, l3, .int x, l5] st h := Ex_nx rfl rfl
theorem rX9_isSo_49 (Q : Po) (h : Hp) (l0 l1 l2 l3 l4 : Value) (x : Int32) (st : List Value) : Ex mX9_isSo Q 49 [l0, l1, l2, l3, l4, .int x] st h = Ex mX9_isSo Q 52 [l0, l1, l2, l3, l4, .int (x + 1)] st h := Ex_nx rfl rfl
theorem rX9_isSo_52 (Q : Po) (h : Hp) (ls : List Value) (st : List Value) : Ex mX9_isSo Q 52 ls st h = Ex mX9_isSo Q 6 ls st h := Ex_nx rfl rfl
theorem rX9_isSo_55 (Q : Po) (h : Hp) (l1 l2 l3 l4 l5 : Value) (x : Nat) (st : List Value) : Ex mX9_isSo Q 55 [.ref x, l1, l2, l3, l4, l5] st h = Ex mX9_isSo Q 56 [.ref x, l1, l2, l3, l4, l5] (.ref x :: st) h := Ex_nx rfl rfl
theorem rX9_isSo_56 (Q : Po) (h : Hp) (ls : List Value) (b : Nat) : Ex mX9_isSo Q 56 ls (.ref b :: []) h = (gK h b = 9 ∧ Ex mX9_takeBack (Cont mX9_isSo Q 56 ls 59 []) 0 [.ref b, .retAddr 0] [] h) := Ex_cg (n := 2) (as := [.ref b]) rfl rfl
theorem rX9_isSo_59 (Q : Po) (h : Hp) (l0 l1 l2 l3 l5 : Value) (x : Int32) (st : List Value) : Ex mX9_isSo Q 59 [l0, l1, l2, l3, .int x, l5] st h = Ex mX9_isSo Q 61 [l0, l1, l2, l3, .int x, l5] (.int x :: st) h := Ex_nx rfl rfl
theorem rX9_isSo_61 (Q : Po) (h : Hp) (ls : List Value) (x : Int32) : Ex mX9_isSo Q 61 ls [.int x] h = ((x = 0 ∨ x = 1) ∧ Q (.inl (some (.int x))) h) := Ex_rg rfl rfl
theorem rX9_isSo_t (Q : Po) (h : Hp) (pc n a : Nat) (ls st : List Value) : Cont mX9_isSo Q pc ls n st (.inr a) h = Q (.inr a) h := rfl
/-! FishReadersModel.fits(IIIIII)I -/
def mX9_fits : Cd := ([(0, .inl (i_aload 0 1)),
  (1, .inr (c_V 0 4 2 9 (Mt mX9_putAside 2))),
  (4, .inl (i_push (.int 0) 5)),
  (5, .inl (i_istore 7 7)),
  (7, .inl (i_iload 2 8)),
  (8, .inl (i_istore 8 10)),
  (10, .inl (i_iload 8 12)),
  (12, .inl (i_iload 3 13)),
  (13, .inl (i_icmp (fun x y => y < x) 56 16)),
  (16, .inl (i_aload 0 17)),
  (17, .inl (i_getf 81 [9] 20)),
  (20, .inl (i_iload 1 21)),
  (21, .inl (i_iload 8 23)),
  (23, .inl (i_iast 51 (fun x => x) 24)),
  (24, .inl (i_iload 7 26)),
  (26, .inl (i_aload 0 27)),
  (27, .inl (i_iload 4 29)),
  (29, .inl (i_iload 5 31)),
  (31, .inl (i_iload 6 33)),
  (33, .inr (c_V 3 36 6 9 (Mt mX9_isSo 6))),
  (36, .inl (i_if (fun x => x = 0) 46 39)),
  (39, .inl (i_push (.int 1) 40)),
  (40, .inl (i_iload 8 42)),
  (42, .inl (i_bin (fun x y => x <<< (y &&& 31)) 43)),
  (43, .inl (i_goto 47)),
  (46, .inl (i_push (.int 0) 47)),
  (47, .inl (i_bin (fun x y => x ||| y) 48)),
  (48, .inl (i_istore 7 50)),
  (50, .inl (i_iinc 8 1 53)),
  (53, .inl (i_goto 10)),
  (56, .inl (i_aload 0 57)),
  (57, .inl (i_iload 7 59)),
  (59, .inr (c_V 1 62 2 9 (Mt mX9_well 2))),
  (62, .inl i_iret)], noH)
theorem rX9_fits_0 (Q : Po) (h : Hp) (l1 l2 l3 l4 l5 l6 l7 l8 : Value) (x : Nat) (st : List Value) : Ex mX9_fits Q 0 [.ref x, l1, l2, l3, l4, l5, l6, l7, l8] st h = Ex mX9_fits Q 1 [.ref x, l1, l2, l3, l4, l5, l6, l7, l8] (.ref x :: st) h := Ex_nx rfl rfl
theorem rX9_fits_1 (Q : Po) (h : Hp) (ls : List Value) (b : Nat) : Ex mX9_fits Q 1 ls (.ref b :: []) h = (gK h b = 9 ∧ Ex mX9_putAside (Cont mX9_fits Q 1 ls 4 []) 0 [.ref b, .retAddr 0] [] h) := Ex_cg (n := 2) (as := [.ref b]) rfl rfl
theorem rX9_fits_4 (Q : Po) (h : Hp) (ls : List Value) (st : List Value) : Ex mX9_fits Q 4 ls st h = Ex mX9_fits Q 5 ls (.int 0 :: st) h := Ex_nx rfl rfl
theorem rX9_fits_5 (Q : Po) (h : Hp) (l0 l1 l2 l3 l4 l5 l6 l7 l8 : Value) (x : Int32) (st : List Value) : Ex mX9_fits Q 5 [l0, l1, l2, l3, l4, l5, l6, l7, l8] (.int x :: st) h = Ex mX9_fits Q 7 [l0, l1, l2, l3, l4, l5, l6, .int x, l8] st h := Ex_nx rfl rfl
theorem rX9_fits_7 (Q : Po) (h : Hp) (l0 l1 l3 l4 l5 l6 l7 l8 : Value) (x : Int32) (st : List Value) : Ex mX9_fits Q 7 [l0, l1, .int x, l3, l4, l5, l6, l7, l8] st h = Ex mX9_fits Q 8 [l0, l1, .int x, l3, l4, l5, l6, l7, l8] (.int x :: st) h := Ex_nx rfl rfl
theorem rX9_fits_8 (Q : Po) (h : Hp) (l0 l1 l2 l3 l4 l5 l6 l7 l8 : Value) (x : Int32) (st : List Value) : Ex mX9_fits Q 8 [l0, l1, l2, l3, l4, l5, l6, l7, l8] (.int x :: st) h = Ex mX9_fits Q 10 [l0, l1, l2, l3, l4, l5, l6, l7, .int x] st h := Ex_nx rfl rfl
theorem rX9_fits_10 (Q : Po) (h : Hp) (l0 l1 l2 l3 l4 l5 l6 l7 : Value) (x : Int32) (st : List Value) : Ex mX9_fits Q 10 [l0, l1, l2, l3, l4, l5, l6, l7, .int x] st h = Ex mX9_fits Q 12 [l0, l1, l2, l3, l4, l5, l6, l7, .int x] (.int x :: st) h := Ex_nx rfl rfl
theorem rX9_fits_12 (Q : Po) (h : Hp) (l0 l1 l2 l4 l5 l6 l7 l8 : Value) (x : Int32) (st : List Value) : Ex mX9_fits Q 12 [l0, l1, l2, .int x, l4, l5, l6, l7, l8] st h = Ex mX9_fits Q 13 [l0, l1, l2, .int x, l4, l5, l6, l7, l8] (.int x :: st) h := Ex_nx rfl rfl
theorem rX9_fits_13 (Q : Po) (h : Hp) (ls : List Value) (st : List Value) (x y : Int32) : Ex mX9_fits Q 13 ls (.int y :: .int x :: st) h = if y < x then Ex mX9_fits Q 56 ls st h else Ex mX9_fits Q 16 ls st h := Ex_br rfl rfl
theorem rX9_fits_16 (Q : Po) (h : Hp) (l1 l2 l3 l4 l5 l6 l7 l8 : Value) (x : Nat) (st : List Value) : Ex mX9_fits Q 16 [.ref x, l1, l2, l3, l4, l5, l6, l7, l8] st h = Ex mX9_fits Q 17 [.ref x, l1, l2, l3, l4, l5, l6, l7, l8] (.ref x :: st) h := Ex_nx rfl rfl
theorem rX9_fits_17 (Q : Po) (h : Hp) (ls : List Value) (st : List Value) (a : Nat) : Ex mX9_fits Q 17 ls (.ref a :: st) h = (gK h a ∈ ([9] : List Nat) ∧ Ex mX9_fits Q 20 ls (gF h 81 a :: st) h) := Ex_gd rfl rfl
theorem rX9_fits_20 (Q : Po) (h : Hp) (l0 l2 l3 l4 l5 l6 l7 l8 : Value) (x : Int32) (st : List Value) : Ex mX9_fits Q 20 [l0, .int x, l2, l3, l4, l5, l6, l7, l8] st h = Ex mX9_fits Q 21 [l0, .int x, l2, l3, l4, l5, l6, l7, l8] (.int x :: st) h := Ex_nx rfl rfl
theorem rX9_fits_21 (Q : Po) (h : Hp) (l0 l1 l2 l3 l4 l5 l6 l7 : Value) (x : Int32) (st : List Value) : Ex mX9_fits Q 21 [l0, l1, l2, l3, l4, l5, l6, l7, .int x] st h = Ex mX9_fits Q 23 [l0, l1, l2, l3, l4, l5, l6, l7, .int x] (.int x :: st) h := Ex_nx rfl rfl
theorem rX9_fits_23 (Q : Po) (h : Hp) (ls : List Value) (st : List Value) (a : Nat) (i x : Int32) : Ex mX9_fits Q 23 ls (.int x :: .int i :: .ref a :: st) h = ((gK h a = 51 ∧ ¬ (i < 0 ∨ gL h a ≤ i.toNatClampNeg)) ∧ Ex mX9_fits Q 24 ls st (pI h a i.toNatClampNeg (x))) := Ex_gd rfl rfl
theorem rX9_fits_24 (Q : Po) (h : Hp) (l0 l1 l2 l3 l4 l5 l6 l8 : Value) (x : Int32) (st : List Value) : Ex mX9_fits Q 24 [l0, l1, l2, l3, l4, l5, l6, .int x, l8] st h = Ex mX9_fits Q 26 [l0, l1, l2, l3, l4, l5, l6, .int x, l8] (.int x :: st) h := Ex_nx rfl rfl
theorem rX9_fits_26 (Q : Po) (h : Hp) (l1 l2 l3 l4 l5 l6 l7 l8 : Value) (x : Nat) (st : List Value) : Ex mX9_fits Q 26 [.ref x, l1, l2, l3, l4, l5, l6, l7, l8] st h = Ex mX9_fits Q 27 [.ref x, l1, l2, l3, l4, l5, l6, l7, l8] (.ref x :: st) h := Ex_nx rfl rfl
theorem rX9_fits_27 (Q : Po) (h : Hp) (l0 l1 l2 l3 l5 l6 l7 l8 : Value) (x : Int32) (st : List Value) : Ex mX9_fits Q 27 [l0, l1, l2, l3, .int x, l5, l6, l7, l8] st h = Ex mX9_fits Q 29 [l0, l1, l2, l3, .int x, l5, l6, l7, l8] (.int x :: st) h := Ex_nx rfl rfl
theorem rX9_fits_29 (Q : Po) (h : Hp) (l0 l1 l2 l3 l4 l6 l7 l8 : Value) (x : Int32) (st : List Value) : Ex mX9_fits Q 29 [l0, l1, l2, l3, l4, .int x, l6, l7, l8] st h = Ex mX9_fits Q 31 [l0, l1, l2, l3, l4, .int x, l6, l7, l8] (.int x :: st) h := Ex_nx rfl rfl
theorem rX9_fits_31 (Q : Po) (h : Hp) (l0 l1 l2 l3 l4 l5 l7 l8 : Value) (x : Int32) (st : List Value) : Ex mX9_fits Q 31 [l0, l1, l2, l3, l4, l5, .int x, l7, l8] st h = Ex mX9_fits Q 33 [l0, l1, l2, l3, l4, l5, .int x, l7, l8] (.int x :: st) h := Ex_nx rfl rfl
theorem rX9_fits_33 (Q : Po) (h : Hp) (ls : List Value) (a0 : Int32) (a1 : Int32) (a2 : Int32) (s0 : Value) (b : Nat) : Ex mX9_fits Q 33 ls (.int a2 :: .int a1 :: .int a0 :: .ref b :: [s0]) h = (gK h b = 9 ∧ Ex mX9_isSo (Cont mX9_fits Q 33 ls 36 [s0]) 0 [.ref b, .int a0, .int a1, .int a2, .retAddr 0, .retAddr 0] [] h) := Ex_cg (n := 6) (as := [.ref b, .int a0, .int a1, .int a2]) rfl rfl
theorem rX9_fits_36 (Q : Po) (h : Hp) (ls : List Value) (st : List Value) (x : Int32) : Ex mX9_fits Q 36 ls (.int x :: st) h = if x = 0 then Ex mX9_fits Q 46 ls st h else Ex mX9_fits Q 39 ls st h := Ex_br rfl rfl
theorem rX9_fits_39 (Q : Po) (h : Hp) (ls : List Value) (st : List Value) : Ex mX9_fits Q 39 ls st h = Ex mX9_fits Q 40 ls (.int 1 :: st) h := Ex_nx rfl rfl
theorem rX9_fits_40 (Q : Po) (h : Hp) (l0 l1 l2 l3 l4 l5 l6 l7 : Value) (x : Int32) (st : List Value) : Ex mX9_fits Q 40 [l0, l1, l2, l3, l4, l5, l6, l7, .int x] st h = Ex mX9_fits Q 42 [l0, l1, l2, l3, l4, l5, l6, l7, .int x] (.int x :: st) h := Ex_nx rfl rfl
theorem rX9_fits_42 (Q : Po) (h : Hp) (ls : List Value) (st : List Value) (x y : Int32) : Ex mX9_fits Q 42 ls (.int y :: .int x :: st) h = Ex mX9_fits Q 43 ls (.int (x <<< (y &&& 31)) :: st) h := Ex_nx rfl rfl
theorem rX9_fits_43 (Q : Po) (h : Hp) (ls : List Value) (st : List Value) : Ex mX9_fits Q 43 ls st h = Ex mX9_fits Q 47 ls st h := Ex_nx rfl rfl
theorem rX9_fits_46 (Q : Po) (h : Hp) (ls : List Value) (st : List Value) : Ex mX9_fits Q 46 ls st h = Ex mX9_fits Q 47 ls (.int 0 :: st) h := Ex_nx rfl rfl
theorem rX9_fits_47 (Q : Po) (h : Hp) (ls : List Value) (st : List Value) (x y : Int32) : Ex mX9_fits Q 47 ls (.int y :: .int x :: st) h = Ex mX9_fits Q 48 ls (.int (x ||| y) :: st) h := Ex_nx rfl rfl
theorem rX9_fits_48 (Q : Po) (h : Hp) (l0 l1 l2 l3 l4 l5 l6 l7 l8 : Value) (x : Int32) (st : List Value) : Ex mX9_fits Q 48 [l0, l1, l2, l3, l4, l5, l6, l7, l8] (.int x :: st) h = Ex mX9_fits Q 50 [l0, l1, l2, l3, l4, l5, l6, .int x, l8] st h := Ex_nx rfl rfl
theorem rX9_fits_50 (Q : Po) (h : Hp) (l0 l1 l2 l3 l4 l5 l6 l7 : Value) (x : Int32) (st : List Value) : Ex mX9_fits Q 50 [l0, l1, l2, l3, l4, l5, l6, l7, .int x] st h = Ex mX9_fits Q 53 [l0, l1, l2, l3, l4, l5, l6, l7, .int (x + 1)] st h := Ex_nx rfl rfl
theorem rX9_fits_53 (Q : Po) (h : Hp) (ls : List Value) (st : List Value) : Ex mX9_fits Q 53 ls st h = Ex mX9_fits Q 10 ls st h := Ex_nx rfl rfl
theorem rX9_fits_56 (Q : Po) (h : Hp) (l1 l2 l3 l4 l5 l6 l7 l8 : Value) (x : Nat) (st : List Value) : Ex mX9_fits Q 56 [.ref x, l1, l2, l3, l4, l5, l6, l7, l8] st h = Ex mX9_fits Q 57 [.ref x, l1, l2, l3, l4, l5, l6, l7, l8] (.ref x :: st) h := Ex_nx rfl rfl
theorem rX9_fits_57 (Q : Po) (h : Hp) (l0 l1 l2 l3 l4 l5 l6 l8 : Value) (x : Int32) (st : List Value) : Ex mX9_fits Q 57 [l0, l1, l2, l3, l4, l5, l6, .int x, l8] st h = Ex mX9_fits Q 59 [l0, l1, l2, l3, l4, l5, l6, .int x, l8] (.int x :: st) h := Ex_nx rfl rfl
theorem rX9_fits_59 (Q : Po) (h : Hp) (ls : List Value) (a0 : Int32) (b : Nat) : Ex mX9_fits Q 59 ls (.int a0 :: .ref b :: []) h = (gK h b = 9 ∧ Ex mX9_well (Cont mX9_fits Q 59 ls 62 []) 0 [.ref b, .int a0] [] h) := Ex_cg (n := 2) (as := [.ref b, .int a0]) rfl rfl
theorem rX9_fits_62 (Q : Po) (h : Hp) (ls : List Value) (x : Int32) : Ex mX9_fits Q 62 ls [.int x] h = Q (.inl (some (.int x))) h := Ex_rt rfl rfl
theorem rX9_fits_t (Q : Po) (h : Hp) (pc n a : Nat) (ls st : List Value) : Cont mX9_fits Q pc ls n st (.inr a) h = Q (.inr a) h := rfl
/-! FishReadersModel.who(IIIIII)I -/
def mX9_who : Cd := ([(0, .inl (i_aload 0 1)),
  (1, .inl (i_iload 1 2)),
  (2, .inr (c_V 1 5 2 9 (Mt mX9_isFish 2))),
  (5, .inl (i_if (fun x => x = 0) 47 8)),
  (8, .inl (i_iload 2 9)),
  (9, .inl (i_i2l 10)),
  (10, .inl (i_push (.long 0) 11)),
  (11, .inl (i_push (.long 1) 12)),
  (12, .inr (c_S 3 15 6 (Mt mX9_in 6))),
  (15, .inl (i_if (fun x => x = 0) 47 18)),
  (18, .inl (i_aload 0 19)),
  (19, .inl (i_iload 3 20)),
  (20, .inr (c_V 1 23 2 9 (Mt mX9_isBook 2))),
  (23, .inl (i_if (fun x => x = 0) 47 26)),
  (26, .inl (i_iload 4 28)),
  (28, .inr (c_S 1 31 1 (Mt mX9_isRow 1))),
  (31, .inl (i_if (fun x => x = 0) 47 34)),
  (34, .inl (i_iload 6 36)),
  (36, .inl (i_i2l 37)),
  (37, .inl (i_push (.long 1) 38)),
  (38, .inl (i_push (.long 12) 41)),
  (41, .inr (c_S 3 44 6 (Mt mX9_in 6))),
  (44, .inl (i_if (fun x => ¬ x = 0) 50 47)),
  (47, .inl (i_push (.int (-1000001)) 49)),
  (49, .inl i_iret),
  (50, .inl (i_aload 0 51)),
  (51, .inl (i_iload 1 52)),
  (52, .inr (c_V 1 55 2 9 (Mt mX9_isCaught 2))),
  (55, .inl (i_if (fun x => x = 0) 63 58)),
  (58, .inl (i_push (.int (-1000002)) 60)),
  (60, .inl (i_goto 73)),
  (63, .inl (i_aload 0 64)),
  (64, .inl (i_iload 4 66)),
  (66, .inl (i_iload 5 68)),
  (68, .inl (i_iload 6 70)),
  (70, .inr (c_V 3 73 4 9 (Mt mX9_lacks 4))),
  (73, .inl (i_istore 7 75)),
  (75, .inl (i_iload 7 77)),
  (77, .inl (i_if (fun x => 0 ≤ x) 83 80)),
  (80, .inl (i_iload 7 82)),
  (82, .inl i_iret),
  (83, .inl (i_iload 2 84)),
  (84, .inl (i_if (fun x => ¬ x = 0) 111 87)),
  (87, .inl (i_aload 0 88)),
  (88, .inl (i_push (.int 26) 90)),
  (90, .inl (i_iload 1 91)),
  (91, .inl (i_bin (fun x y => x + y) 92)),
  (92, .inl (i_push (.int 1) 93)),
  (93, .inl (i_push (.int 5) 94)),
  (94, .inl (i_iload 3 95)),
  (95, .inl (i_push (.int 40) 97)),
  (97, .inl (i_iload 4 99)),
  (99, .inl (i_bin (fun x y => x * y) 100)),
  (100, .inl (i_iload 5 102)),
  (102, .inl (i_bin (fun x y => x + y) 103)),
  (103, .inl (i_iload 6 105)),
  (105, .inr (c_V 6 108 9 9 (Mt mX9_fits 9))),
  (108, .inl (i_goto 139)),
  (111, .inl (i_aload 0 112)),
  (112, .inl (i_push (.int 31) 114)),
  (114, .inl (i_iload 1 115)),
  (115, .inl (i_bin (fun x y => x + y) 116)),
  (116, .inl (i_push (.int 0) 117)),
  (117, .inl (i_aload 0 118)),
  (118, .inl (i_getf 81 [9] 121)),
  (121, .inl (i_push (.int 0) 122)),
  (122, .inl (i_iald 51 123)),
  (123, .inl (i_push (.int 1) 124)),
  (124, .inl (i_bin (fun x y => x - y) 125)),
  (125, .inl (i_iload 3 126)),
  (126, .inl (i_push (.int 40) 128)),
  (128, .inl (i_iload 4 130)),
  (130, .inl (i_bin (fun x y => x * y) 131)),
  (131, .inl (i_iload 5 133)),
  (133, .inl (i_bin (fun x y => x + y) 134)),
  (134, .inl (i_iload 6 136)),
  (136, .inr (c_V 6 139 9 9 (Mt mX9_fits 9))),
  (139, .inl i_iret)], noH)
theorem rX9_who_0 (Q : Po) (h : Hp) (l1 l2 l3 l4 l5 l6 l7 : Value) (x : Nat) (st : List Value) : Ex mX9_who Q 0 [.ref x, l1, l2, l3, l4, l5, l6, l7] st h = Ex mX9_who Q 1 [.ref x, l1, l2, l3, l4, l5, l6, l7] (.ref x :: st) h := Ex_nx rfl rfl
theorem rX9_who_1 (Q : Po) (h : Hp) (l0 l2 l3 l4 l5 l6 l7 : Value) (x : Int32) (st : List Value) : Ex mX9_who Q 1 [l0, .int x, l2, l3, l4, l5, l6, l7] st h = Ex mX9_who Q 2 [l0, .int x, l2, l3, l4, l5, l6, l7] (.int x :: st) h := Ex_nx rfl rfl
theorem rX9_who_2 (Q : Po) (h : Hp) (ls : List Value) (a0 : Int32) (b : Nat) : Ex mX9_who Q 2 ls (.int a0 :: .ref b :: []) h = (gK h b = 9 ∧ Ex mX9_isFish (Cont mX9_who Q 2 ls 5 []) 0 [.ref b, .int a0] [] h) := Ex_cg (n := 2) (as := [.ref b, .int a0]) rfl rfl
theorem rX9_who_5 (Q : Po) (h : Hp) (ls : List Value) (st : List Value) (x : Int32) : Ex mX9_who Q 5 ls (.int x :: st) h = if x = 0 then Ex mX9_who Q 47 ls st h else Ex mX9_who Q 8 ls st h := Ex_br rfl rfl
theorem rX9_who_8 (Q : Po) (h : Hp) (l0 l1 l3 l4 l5 l6 l7 : Value) (x : Int32) (st : List Value) : Ex mX9_who Q 8 [l0, l1, .int x, l3, l4, l5, l6, l7] st h = Ex mX9_who Q 9 [l0, l1, .int x, l3, l4, l5, l6, l7] (.int x :: st) h := Ex_nx rfl rfl
theorem rX9_who_9 (Q : Po) (h : Hp) (ls : List Value) (st : List Value) (x : Int32) : Ex mX9_who Q 9 ls (.int x :: st) h = Ex mX9_who Q 10 ls (.long x.toInt64 :: st) h := Ex_nx rfl rfl
theorem rX9_who_10 (Q : Po) (h : Hp) (ls : List Value) (st : List Value) : Ex mX9_who Q 10 ls st h = Ex mX9_who Q 11 ls (.long 0 :: st) h := Ex_nx rfl rfl
theorem rX9_who_11 (Q : Po) (h : Hp) (ls : List Value) (st : List Value) : Ex mX9_who Q 11 ls st h = Ex mX9_who Q 12 ls (.long 1 :: st) h := Ex_nx rfl rfl
theorem rX9_who_12 (Q : Po) (h : Hp) (ls : List Value) (a0 : Int64) (a1 : Int64) (a2 : Int64) : Ex mX9_who Q 12 ls (.long a2 :: .long a1 :: .long a0 :: []) h = Ex mX9_in (Cont mX9_who Q 12 ls 15 []) 0 [.long a0, .retAddr 1, .long a1, .retAddr 1, .long a2, .retAddr 1] [] h := Ex_cl (n := 6) (as := [.long a0, .long a1, .long a2]) rfl rfl
theorem rX9_who_15 (Q : Po) (h : Hp) (ls : List Value) (st : List Value) (x : Int32) : Ex mX9_who Q 15 ls (.int x :: st) h = if x = 0 then Ex mX9_who Q 47 ls st h else Ex mX9_who Q 18 ls st h := Ex_br rfl rfl
theorem rX9_who_18 (Q : Po) (h : Hp) (l1 l2 l3 l4 l5 l6 l7 : Value) (x : Nat) (st : List Value) : Ex mX9_who Q 18 [.ref x, l1, l2, l3, l4, l5, l6, l7] st h = Ex mX9_who Q 19 [.ref x, l1, l2, l3, l4, l5, l6, l7] (.ref x :: st) h := Ex_nx rfl rfl
theorem rX9_who_19 (Q : Po) (h : Hp) (l0 l1 l2 l4 l5 l6 l7 : Value) (x : Int32) (st : List Value) : Ex mX9_who Q 19 [l0, l1, l2, .int x, l4, l5, l6, l7] st h = Ex mX9_who Q 20 [l0, l1, l2, .int x, l4, l5, l6, l7] (.int x :: st) h := Ex_nx rfl rfl
theorem rX9_who_20 (Q : Po) (h : Hp) (ls : List Value) (a0 : Int32) (b : Nat) : Ex mX9_who Q 20 ls (.int a0 :: .ref b :: []) h = (gK h b = 9 ∧ Ex mX9_isBook (Cont mX9_who Q 20 ls 23 []) 0 [.ref b, .int a0] [] h) := Ex_cg (n := 2) (as := [.ref b, .int a0]) rfl rfl
theorem rX9_who_23 (Q : Po) (h : Hp) (ls : List Value) (st : List Value) (x : Int32) : Ex mX9_who Q 23 ls (.int x :: st) h = if x = 0 then Ex mX9_who Q 47 ls st h else Ex mX9_who Q 26 ls st h := Ex_br rfl rfl
theorem rX9_who_26 (Q : Po) (h : Hp) (l0 l1 l2 l3 l5 l6 l7 : Value) (x : Int32) (st : List Value) : Ex mX9_who Q 26 [l0, l1, l2, l3, .int x, l5, l6, l7] st h = Ex mX9_who Q 28 [l0, l1, l2, l3, .int x, l5, l6, l7] (.int x :: st) h := Ex_nx rfl rfl
theorem rX9_who_28 (Q : Po) (h : Hp) (ls : List Value) (a0 : Int32) : Ex mX9_who Q 28 ls (.int a0 :: []) h = Ex mX9_isRow (Cont mX9_who Q 28 ls 31 []) 0 [.int a0] [] h := Ex_cl (n := 1) (as := [.int a0]) rfl rfl
theorem rX9_who_31 (Q : Po) (h : Hp) (ls : List Value) (st : List Value) (x : Int32) : Ex mX9_who Q 31 ls (.int x :: st) h = if x = 0 then Ex mX9_who Q 47 ls st h else Ex mX9_who Q 34 ls st h := Ex_br rfl rfl
theorem rX9_who_34 (Q : Po) (h : Hp) (l0 l1 l2 l3 l4 l5 l7 : Value) (x : Int32) (st : List Value) : Ex mX9_who Q 34 [l0, l1, l2, l3, l4, l5, .int x, l7] st h = Ex mX9_who Q 36 [l0, l1, l2, l3, l4, l5, .int x, l7] (.int x :: st) h := Ex_nx rfl rfl
theorem rX9_who_36 (Q : Po) (h : Hp) (ls : List Value) (st : List Value) (x : Int32) : Ex mX9_who Q 36 ls (.int x :: st) h = Ex mX9_who Q 37 ls (.long x.toInt64 :: st) h := Ex_nx rfl rfl
theorem rX9_who_37 (Q : Po) (h : Hp) (ls : List Value) (st : List Value) : Ex mX9_who Q 37 ls st h = Ex mX9_who Q 38 ls (.long 1 :: st) h := Ex_nx rfl rfl
theorem rX9_who_38 (Q : Po) (h : Hp) (ls : List Value) (st : List Value) : Ex mX9_who Q 38 ls st h = Ex mX9_who Q 41 ls (.long 12 :: st) h := Ex_nx rfl rfl
theorem rX9_who_41 (Q : Po) (h : Hp) (ls : List Value) (a0 : Int64) (a1 : Int64) (a2 : Int64) : Ex mX9_who Q 41 ls (.long a2 :: .long a1 :: .long a0 :: []) h = Ex mX9_in (Cont mX9_who Q 41 ls 44 []) 0 [.long a0, .retAddr 1, .long a1, .retAddr 1, .long a2, .retAddr 1] [] h := Ex_cl (n := 6) (as := [.long a0, .long a1, .long a2]) rfl rfl
theorem rX9_who_44 (Q : Po) (h : Hp) (ls : List Value) (st : List Value) (x : Int32) : Ex mX9_who Q 44 ls (.int x :: st) h = if ¬ x = 0 then Ex mX9_who Q 50 ls st h else Ex mX9_who Q 47 ls st h := Ex_br rfl rfl
theorem rX9_who_47 (Q : Po) (h : Hp) (ls : List Value) (st : List Value) : Ex mX9_who Q 47 ls st h = Ex mX9_who Q 49 ls (.int (-1000001) :: st) h := Ex_nx rfl rfl
theorem rX9_who_49 (Q : Po) (h : Hp) (ls : List Value) (x : Int32) : Ex mX9_who Q 49 ls [.int x] h = Q (.inl (some (.int x))) h := Ex_rt rfl rfl
theorem rX9_who_50 (Q : Po) (h : Hp) (l1 l2 l3 l4 l5 l6 l7 : Value) (x : Nat) (st : List Value) : Ex mX9_who Q 50 [.ref x, l1, l2, l3, l4, l5, l6, l7] st h = Ex mX9_who Q 51 [.ref x, l1, l2, l3, l4, l5, l6, l7] (.ref x :: st) h := Ex_nx rfl rfl
theorem rX9_who_51 (Q : Po) (h : Hp) (l0 l2 l3 l4 l5 l6 l7 : Value) (x : Int32) (st : List Value) : Ex mX9_who Q 51 [l0, .int x, l2, l3, l4, l5, l6, l7] st h = Ex mX9_who Q 52 [l0, .int x, l2, l3, l4, l5, l6, l7] (.int x :: st) h := Ex_nx rfl rfl
theorem rX9_who_52 (Q : Po) (h : Hp) (ls : List Value) (a0 : Int32) (b : Nat) : Ex mX9_who Q 52 ls (.int a0 :: .ref b :: []) h = (gK h b = 9 ∧ Ex mX9_isCaught (Cont mX9_who Q 52 ls 55 []) 0 [.ref b, .int a0] [] h) := Ex_cg (n := 2) (as := [.ref b, .int a0]) rfl rfl
theorem rX9_who_55 (Q : Po) (h : Hp) (ls : List Value) (st : List Value) (x : Int32) : Ex mX9_who Q 55 ls (.int x :: st) h = if x = 0 then Ex mX9_who Q 63 ls st h else Ex mX9_who Q 58 ls st h := Ex_br rfl rfl
theorem rX9_who_58 (Q : Po) (h : Hp) (ls : List Value) (st : List Value) : Ex mX9_who Q 58 ls st h = Ex mX9_who Q 60 ls (.int (-1000002) :: st) h := Ex_nx rfl rfl
theorem rX9_who_60 (Q : Po) (h : Hp) (ls : List Value) (st : List Value) : Ex mX9_who Q 60 ls st h = Ex mX9_who Q 73 ls st h := Ex_nx rfl rfl
theorem rX9_who_63 (Q : Po) (h : Hp) (l1 l2 l3 l4 l5 l6 l7 : Value) (x : Nat) (st : List Value) : Ex mX9_who Q 63 [.ref x, l1, l2, l3, l4, l5, l6, l7] st h = Ex mX9_who Q 64 [.ref x, l1, l2, l3, l4, l5, l6, l7] (.ref x :: st) h := Ex_nx rfl rfl
theorem rX9_who_64 (Q : Po) (h : Hp) (l0 l1 l2 l3 l5 l6 l7 : Value) (x : Int32) (st : List Value) : Ex mX9_who Q 64 [l0, l1, l2, l3, .int x, l5, l6, l7] st h = Ex mX9_who Q 66 [l0, l1, l2, l3, .int x, l5, l6, l7] (.int x :: st) h := Ex_nx rfl rfl
theorem rX9_who_66 (Q : Po) (h : Hp) (l0 l1 l2 l3 l4 l6 l7 : Value) (x : Int32) (st : List Value) : Ex mX9_who Q 66 [l0, l1, l2, l3, l4, .int x, l6, l7] st h = Ex mX9_who Q 68 [l0, l1, l2, l3, l4, .int x, l6, l7] (.int x :: st) h := Ex_nx rfl rfl
theorem rX9_who_68 (Q : Po) (h : Hp) (l0 l1 l2 l3 l4 l5 l7 : Value) (x : Int32) (st : List Value) : Ex mX9_who Q 68 [l0, l1, l2, l3, l4, l5, .int x, l7] st h = Ex mX9_who Q 70 [l0, l1, l2, l3, l4, l5, .int x, l7] (.int x :: st) h := Ex_nx rfl rfl
theorem rX9_who_70 (Q : Po) (h : Hp) (ls : List Value) (a0 : Int32) (a1 : Int32) (a2 : Int32) (b : Nat) : Ex mX9_who Q 70 ls (.int a2 :: .int a1 :: .int a0 :: .ref b :: []) h = (gK h b = 9 ∧ Ex mX9_lacks (Cont mX9_who Q 70 ls 73 []) 0 [.ref b, .int a0, .int a1, .int a2] [] h) := Ex_cg (n := 4) (as := [.ref b, .int a0, .int a1, .int a2]) rfl rfl
theorem rX9_who_73 (Q : Po) (h : Hp) (l0 l1 l2 l3 l4 l5 l6 l7 : Value) (x : Int32) (st : List Value) : Ex mX9_who Q 73 [l0, l1, l2, l3, l4, l5, l6, l7] (.int x :: st) h = Ex mX9_who Q 75 [l0, l1, l2, l3, l4, l5, l6, .int x] st h := Ex_nx rfl rfl
theorem rX9_who_75 (Q : Po) (h : Hp) (l0 l1 l2 l3 l4 l5 l6 : Value) (x : Int32) (st : List Value) : Ex mX9_who Q 75 [l0, l1, l2, l3, l4, l5, l6, .int x] st h = Ex mX9_who Q 77 [l0, l1, l2, l3, l4, l5, l6, .int x] (.int x :: st) h := Ex_nx rfl rfl
theorem rX9_who_77 (Q : Po) (h : Hp) (ls : List Value) (st : List Value) (x : Int32) : Ex mX9_who Q 77 ls (.int x :: st) h = if 0 ≤ x then Ex mX9_who Q 83 ls st h else Ex mX9_who Q 80 ls st h := Ex_br rfl rfl
theorem rX9_who_80 (Q : Po) (h : Hp) (l0 l1 l2 l3 l4 l5 l6 : Value) (x : Int32) (st : List Value) : Ex mX9_who Q 80 [l0, l1, l2, l3, l4, l5, l6, .int x] st h = Ex mX9_who Q 82 [l0, l1, l2, l3, l4, l5, l6, .int x] (.int x :: st) h := Ex_nx rfl rfl
theorem rX9_who_82 (Q : Po) (h : Hp) (ls : List Value) (x : Int32) : Ex mX9_who Q 82 ls [.int x] h = Q (.inl (some (.int x))) h := Ex_rt rfl rfl
theorem rX9_who_83 (Q : Po) (h : Hp) (l0 l1 l3 l4 l5 l6 l7 : Value) (x : Int32) (st : List Value) : Ex mX9_who Q 83 [l0, l1, .int x, l3, l4, l5, l6, l7] st h = Ex mX9_who Q 84 [l0, l1, .int x, l3, l4, l5, l6, l7] (.int x :: st) h := Ex_nx rfl rfl
theorem rX9_who_84 (Q : Po) (h : Hp) (ls : List Value) (st : List Value) (x : Int32) : Ex mX9_who Q 84 ls (.int x :: st) h = if ¬ x = 0 then Ex mX9_who Q 111 ls st h else Ex mX9_who Q 87 ls st h := Ex_br rfl rfl
theorem rX9_who_87 (Q : Po) (h : Hp) (l1 l2 l3 l4 l5 l6 l7 : Value) (x : Nat) (st : List Value) : Ex mX9_who Q 87 [.ref x, l1, l2, l3, l4, l5, l6, l7] st h = Ex mX9_who Q 88 [.ref x, l1, l2, l3, l4, l5, l6, l7] (.ref x :: st) h := Ex_nx rfl rfl
theorem rX9_who_88 (Q : Po) (h : Hp) (ls : List Value) (st : List Value) : Ex mX9_who Q 88 ls st h = Ex mX9_who Q 90 ls (.int 26 :: st) h := Ex_nx rfl rfl
theorem rX9_who_90 (Q : Po) (h : Hp) (l0 l2 l3 l4 l5 l6 l7 : Value) (x : Int32) (st : List Value) : Ex mX9_who Q 90 [l0, .int x, l2, l3, l4, l5, l6, l7] st h = Ex mX9_who Q 91 [l0, .int x, l2, l3, l4, l5, l6, l7] (.int x :: st) h := Ex_nx rfl rfl
theorem rX9_who_91 (Q : Po) (h : Hp) (ls : List Value) (st : List Value) (x y : Int32) : Ex mX9_who Q 91 ls (.int y :: .int x :: st) h = Ex mX9_who Q 92 ls (.int (x + y) :: st) h := Ex_nx rfl rfl
theorem rX9_who_92 (Q : Po) (h : Hp) (ls : List Value) (st : List Value) : Ex mX9_who Q 92 ls st h = Ex mX9_who Q 93 ls (.int 1 :: st) h := Ex_nx rfl rfl
theorem rX9_who_93 (Q : Po) (h : Hp) (ls : List Value) (st : List Value) : Ex mX9_who Q 93 ls st h = Ex mX9_who Q 94 ls (.int 5 :: st) h := Ex_nx rfl rfl
theorem rX9_who_94 (Q : Po) (h : Hp) (l0 l1 l2 l4 l5 l6 l7 : Value) (x : Int32) (st : List Value) : Ex mX9_who Q 94 [l0, l1, l2, .int x, l4, l5, l6, l7] st h = Ex mX9_who Q 95 [l0, l1, l2, .int x, l4, l5, l6, l7] (.int x :: st) h := Ex_nx rfl rfl
theorem rX9_who_95 (Q : Po) (h : Hp) (ls : List Value) (st : List Value) : Ex mX9_who Q 95 ls st h = Ex mX9_who Q 97 ls (.int 40 :: st) h := Ex_nx rfl rfl
theorem rX9_who_97 (Q : Po) (h : Hp) (l0 l1 l2 l3 l5 l6 l7 : Value) (x : Int32) (st : List Value) : Ex mX9_who Q 97 [l0, l1, l2, l3, .int x, l5, l6, l7] st h = Ex mX9_who Q 99 [l0, l1, l2, l3, .int x, l5, l6, l7] (.int x :: st) h := Ex_nx rfl rfl
theorem rX9_who_99 (Q : Po) (h : Hp) (ls : List Value) (st : List Value) (x y : Int32) : Ex mX9_who Q 99 ls (.int y :: .int x :: st) h = Ex mX9_who Q 100 ls (.int (x * y) :: st) h := Ex_nx rfl rfl
theorem rX9_who_100 (Q : Po) (h : Hp) (l0 l1 l2 l3 l4 l6 l7 : Value) (x : Int32) (st : List Value) : Ex mX9_who Q 100 [l0, l1, l2, l3, l4, .int x, l6, l7] st h = Ex mX9_who Q 102 [l0, l1, l2, l3, l4, .int x, l6, l7] (.int x :: st) h := Ex_nx rfl rfl
theorem rX9_who_102 (Q : Po) (h : Hp) (ls : List Value) (st : List Value) (x y : Int32) : Ex mX9_who Q 102 ls (.int y :: .int x :: st) h = Ex mX9_who Q 103 ls (.int (x + y) :: st) h := Ex_nx rfl rfl
theorem rX9_who_103 (Q : Po) (h : Hp) (l0 l1 l2 l3 l4 l5 l7 : Value) (x : Int32) (st : List Value) : Ex mX9_who Q 103 [l0, l1, l2, l3, l4, l5, .int x, l7] st h = Ex mX9_who Q 105 [l0, l1, l2, l3, l4, l5, .int x, l7] (.int x :: st) h := Ex_nx rfl rfl
theorem rX9_who_105 (Q : Po) (h : Hp) (ls : List Value) (a0 : Int32) (a1 : Int32) (a2 : Int32) (a3 : Int32) (a4 : Int32) (a5 : Int32) (b : Nat) : Ex mX9_who Q 105 ls (.int a5 :: .int a4 :: .int a3 :: .int a2 :: .int a1 :: .int a0 :: .ref b :: []) h = (gK h b = 9 ∧ Ex mX9_fits (Cont mX9_who Q 105 ls 108 []) 0 [.ref b, .int a0, .int a1, .int a2, .int a3, .int a4, .int a5, .retAddr 0, .retAddr 0] [] h) := Ex_cg (n := 9) (as := [.ref b, .int a0, .int a1, .int a2, .int a3, .int a4, .int a5]) rfl rfl
theorem rX9_who_108 (Q : Po) (h : Hp) (ls : List Value) (st : List Value) : Ex mX9_who Q 108 ls st h = Ex mX9_who Q 139 ls st h := Ex_nx rfl rfl
theorem rX9_who_111 (Q : Po) (h : Hp) (l1 l2 l3 l4 l5 l6 l7 : Value) (x : Nat) (st : List Value) : Ex mX9_who Q 111 [.ref x, l1, l2, l3, l4, l5, l6, l7] st h = Ex mX9_who Q 112 [.ref x, l1, l2, l3, l4, l5, l6, l7] (.ref x :: st) h := Ex_nx rfl rfl
theorem rX9_who_112 (Q : Po) (h : Hp) (ls : List Value) (st : List Value) : Ex mX9_who Q 112 ls st h = Ex mX9_who Q 114 ls (.int 31 :: st) h := Ex_nx rfl rfl
theorem rX9_who_114 (Q : Po) (h : Hp) (l0 l2 l3 l4 l5 l6 l7 : Value) (x : Int32) (st : List Value) : Ex mX9_who Q 114 [l0, .int x, l2, l3, l4, l5, l6, l7] st h = Ex mX9_who Q 115 [l0, .int x, l2, l3, l4, l5, l6, l7] (.int x :: st) h := Ex_nx rfl rfl
theorem rX9_who_115 (Q : Po) (h : Hp) (ls : List Value) (st : List Value) (x y : Int32) : Ex mX9_who Q 115 ls (.int y :: .int x :: st) h = Ex mX9_who Q 116 ls (.int (x + y) :: st) h := Ex_nx rfl rfl
theorem rX9_who_116 (Q : Po) (h : Hp) (ls : List Value) (st : List Value) : Ex mX9_who Q 116 ls st h = Ex mX9_who Q 117 ls (.int 0 :: st) h := Ex_nx rfl rfl
theorem rX9_who_117 (Q : Po) (h : Hp) (l1 l2 l3 l4 l5 l6 l7 : Value) (x : Nat) (st : List Value) : Ex mX9_who Q 117 [.ref x, l1, l2, l3, l4, l5, l6, l7] st h = Ex mX9_who Q 118 [.ref x, l1, l2, l3, l4, l5, l6, l7] (.ref x :: st) h := Ex_nx rfl rfl
theorem rX9_who_118 (Q : Po) (h : Hp) (ls : List Value) (st : List Value) (a : Nat) : Ex mX9_who Q 118 ls (.ref a :: st) h = (gK h a ∈ ([9] : List Nat) ∧ Ex mX9_who Q 121 ls (gF h 81 a :: st) h) := Ex_gd rfl rfl
theorem rX9_who_121 (Q : Po) (h : Hp) (ls : List Value) (st : List Value) : Ex mX9_who Q 121 ls st h = Ex mX9_who Q 122 ls (.int 0 :: st) h := Ex_nx rfl rfl
theorem rX9_who_122 (Q : Po) (h : Hp) (ls : List Value) (st : List Value) (a : Nat) (i : Int32) : Ex mX9_who Q 122 ls (.int i :: .ref a :: st) h = ((gK h a = 51 ∧ ¬ (i < 0 ∨ gL h a ≤ i.toNatClampNeg)) ∧ Ex mX9_who Q 123 ls (.int (gI h a i.toNatClampNeg) :: st) h) := Ex_gd rfl rfl
theorem rX9_who_123 (Q : Po) (h : Hp) (ls : List Value) (st : List Value) : Ex mX9_who Q 123 ls st h = Ex mX9_who Q 124 ls (.int 1 :: st) h := Ex_nx rfl rfl
theorem rX9_who_124 (Q : Po) (h : Hp) (ls : List Value) (st : List Value) (x y : Int32) : Ex mX9_who Q 124 ls (.int y :: .int x :: st) h = Ex mX9_who Q 125 ls (.int (x - y) :: st) h := Ex_nx rfl rfl
theorem rX9_who_125 (Q : Po) (h : Hp) (l0 l1 l2 l4 l5 l6 l7 : Value) (x : Int32) (st : List Value) : Ex mX9_who Q 125 [l0, l1, l2, .int x, l4, l5, l6, l7] st h = Ex mX9_who Q 126 [l0, l1, l2, .int x, l4, l5, l6, l7] (.int x :: st) h := Ex_nx rfl rfl
theorem rX9_who_126 (Q : Po) (h : Hp) (ls : List Value) (st : List Value) : Ex mX9_who Q 126 ls st h = Ex mX9_who Q 128 ls (.int 40 :: st) h := Ex_nx rfl rfl
theorem rX9_who_128 (Q : Po) (h : Hp) (l0 l1 l2 l3 l5 l6 l7 : Value) (x : Int32) (st : List Value) : Ex mX9_who Q 128 [l0, l1, l2, l3, .int x, l5, l6, l7] st h = Ex mX9_who Q 130 [l0, l1, l2, l3, .int x, l5, l6, l7] (.int x :: st) h := Ex_nx rfl rfl
theorem rX9_who_130 (Q : Po) (h : Hp) (ls : List Value) (st : List Value) (x y : Int32) : Ex mX9_who Q 130 ls (.int y :: .int x :: st) h = Ex mX9_who Q 131 ls (.int (x * y) :: st) h := Ex_nx rfl rfl
theorem rX9_who_131 (Q : Po) (h : Hp) (l0 l1 l2 l3 l4 l6 l7 : Value) (x : Int32) (st : List Value) : Ex mX9_who Q 131 [l0, l1, l2, l3, l4, .int x, l6, l7] st h = Ex mX9_who Q 133 [l0, l1, l2, l3, l4, .int x, l6, l7] (.int x :: st) h := Ex_nx rfl rfl
theorem rX9_who_133 (Q : Po) (h : Hp) (ls : List Value) (st : List Value) (x y : Int32) : Ex mX9_who Q 133 ls (.int y :: .int x :: st) h = Ex mX9_who Q 134 ls (.int (x + y) :: st) h := Ex_nx rfl rfl
theorem rX9_who_134 (Q : Po) (h : Hp) (l0 l1 l2 l3 l4 l5 l7 : Value) (x : Int32) (st : List Value) : Ex mX9_who Q 134 [l0, l1, l2, l3, l4, l5, .int x, l7] st h = Ex mX9_who Q 136 [l0, l1, l2, l3, l4, l5, .int x, l7] (.int x :: st) h := Ex_nx rfl rfl
theorem rX9_who_136 (Q : Po) (h : Hp) (ls : List Value) (a0 : Int32) (a1 : Int32) (a2 : Int32) (a3 : Int32) (a4 : Int32) (a5 : Int32) (b : Nat) : Ex mX9_who Q 136 ls (.int a5 :: .int a4 :: .int a3 :: .int a2 :: .int a1 :: .int a0 :: .ref b :: []) h = (gK h b = 9 ∧ Ex mX9_fits (Cont mX9_who Q 136 ls 139 []) 0 [.ref b, .int a0, .int a1, .int a2, .int a3, .int a4, .int a5, .retAddr 0, .retAddr 0] [] h) := Ex_cg (n := 9) (as := [.ref b, .int a0, .int a1, .int a2, .int a3, .int a4, .int a5]) rfl rfl
theorem rX9_who_139 (Q : Po) (h : Hp) (ls : List Value) (x : Int32) : Ex mX9_who Q 139 ls [.int x] h = Q (.inl (some (.int x))) h := Ex_rt rfl rfl
theorem rX9_who_t (Q : Po) (h : Hp) (pc n a : Nat) (ls st : List Value) : Cont mX9_who Q pc ls n st (.inr a) h = Q (.inr a) h := rfl
/-! FishReadersModel.paste(IIIII)I -/
def mX9_paste : Cd := ([(0, .inl (i_aload 0 1)),
  (1, .inl (i_iload 1 2)),
  (2, .inr (c_V 1 5 2 9 (Mt mX9_isBook 2))),
  (5, .inl (i_if (fun x => x = 0) 36 8)),
  (8, .inl (i_aload 0 9)),
  (9, .inl (i_iload 2 10)),
  (10, .inr (c_V 1 13 2 9 (Mt mX9_isBook 2))),
  (13, .inl (i_if (fun x => x = 0) 36 16)),
  (16, .inl (i_iload 3 17)),
  (17, .inr (c_S 1 20 1 (Mt mX9_isRow 1))),
  (20, .inl (i_if (fun x => x = 0) 36 23)),
  (23, .inl (i_iload 5 25)),
  (25, .inl (i_i2l 26)),
  (26, .inl (i_push (.long 1) 27)),
  (27, .inl (i_push (.long 12) 30)),
  (30, .inr (c_S 3 33 6 (Mt mX9_in 6))),
  (33, .inl (i_if (fun x => ¬ x = 0) 41 36)),
  (36, .inl (i_push (.int (-1000001)) 38)),
  (38, .inl (i_goto 50)),
  (41, .inl (i_aload 0 42)),
  (42, .inl (i_iload 3 43)),
  (43, .inl (i_iload 4 45)),
  (45, .inl (i_iload 5 47)),
  (47, .inr (c_V 3 50 4 9 (Mt mX9_lacks 4))),
  (50, .inl (i_istore 6 52)),
  (52, .inl (i_iload 6 54)),
  (54, .inl (i_if (fun x => 0 ≤ x) 62 57)),
  (57, .inl (i_iload 6 59)),
  (59, .inl (i_goto 83)),
  (62, .inl (i_aload 0 63)),
  (63, .inl (i_push (.int 14) 65)),
  (65, .inl (i_iload 1 66)),
  (66, .inl (i_bin (fun x y => x + y) 67)),
  (67, .inl (i_push (.int 0) 68)),
  (68, .inl (i_push (.int 9) 70)),
  (70, .inl (i_iload 2 71)),
  (71, .inl (i_push (.int 40) 73)),
  (73, .inl (i_iload 3 74)),
  (74, .inl (i_bin (fun x y => x * y) 75)),
  (75, .inl (i_iload 4 77)),
  (77, .inl (i_bin (fun x y => x + y) 78)),
  (78, .inl (i_iload 5 80)),
  (80, .inr (c_V 6 83 9 9 (Mt mX9_fits 9))),
  (83, .inl i_iret)], noH)
theorem rX9_paste_0 (Q : Po) (h : Hp) (l1 l2 l3 l4 l5 l6 : Value) (x : Nat) (st : List Value) : Ex mX9_paste Q 0 [.ref x, l1, l2, l3, l4, l5, l6] st h = Ex mX9_paste Q 1 [.ref x, l1, l2, l3, l4, l5, l6] (.ref x :: st) h := Ex_nx rfl rfl
theorem rX9_paste_1 (Q : Po) (h : Hp) (l0 l2 l3 l4 l5 l6 : Value) (x : Int32) (st : List Value) : Ex mX9_paste Q 1 [l0, .int x, l2, l3, l4, l5, l6] st h = Ex mX9_paste Q 2 [l0, .int x, l2, l3, l4, l5, l6] (.int x :: st) h := Ex_nx rfl rfl
theorem rX9_paste_2 (Q : Po) (h : Hp) (ls : List Value) (a0 : Int32) (b : Nat) : Ex mX9_paste Q 2 ls (.int a0 :: .ref b :: []) h = (gK h b = 9 ∧ Ex mX9_isBook (Cont mX9_paste Q 2 ls 5 []) 0 [.ref b, .int a0] [] h) := Ex_cg (n := 2) (as := [.ref b, .int a0]) rfl rfl
theorem rX9_paste_5 (Q : Po) (h : Hp) (ls : List Value) (st : List Value) (x : Int32) : Ex mX9_paste Q 5 ls (.int x :: st) h = if x = 0 then Ex mX9_paste Q 36 ls st h else Ex mX9_paste Q 8 ls st h := Ex_br rfl rfl
theorem rX9_paste_8 (Q : Po) (h : Hp) (l1 l2 l3 l4 l5 l6 : Value) (x : Nat) (st : List Value) : Ex mX9_paste Q 8 [.ref x, l1, l2, l3, l4, l5, l6] st h = Ex mX9_paste Q 9 [.ref x, l1, l2, l3, l4, l5, l6] (.ref x :: st) h := Ex_nx rfl rfl
theorem rX9_paste_9 (Q : Po) (h : Hp) (l0 l1 l3 l4 l5 l6 : Value) (x : Int32) (st : List Value) : Ex mX9_paste Q 9 [l0, l1, .int x, l3, l4, l5, l6] st h = Ex mX9_paste Q 10 [l0, l1, .int x, l3, l4, l5, l6] (.int x :: st) h := Ex_nx rfl rfl
theorem rX9_paste_10 (Q : Po) (h : Hp) (ls : List Value) (a0 : Int32) (b : Nat) : Ex mX9_paste Q 10 ls (.int a0 :: .ref b :: []) h = (gK h b = 9 ∧ Ex mX9_isBook (Cont mX9_paste Q 10 ls 13 []) 0 [.ref b, .int a0] [] h) := Ex_cg (n := 2) (as := [.ref b, .int a0]) rfl rfl
theorem rX9_paste_13 (Q : Po) (h : Hp) (ls : List Value) (st : List Value) (x : Int32) : Ex mX9_paste Q 13 ls (.int x :: st) h = if x = 0 then Ex mX9_paste Q 36 ls st h else Ex mX9_paste Q 16 ls st h := Ex_br rfl rfl
theorem rX9_paste_16 (Q : Po) (h : Hp) (l0 l1 l2 l4 l5 l6 : Value) (x : Int32) (st : List Value) : Ex mX9_paste Q 16 [l0, l1, l2, .int x, l4, l5, l6] st h = Ex mX9_paste Q 17 [l0, l1, l2, .int x, l4, l5, l6] (.int x :: st) h := Ex_nx rfl rfl
theorem rX9_paste_17 (Q : Po) (h : Hp) (ls : List Value) (a0 : Int32) : Ex mX9_paste Q 17 ls (.int a0 :: []) h = Ex mX9_isRow (Cont mX9_paste Q 17 ls 20 []) 0 [.int a0] [] h := Ex_cl (n := 1) (as := [.int a0]) rfl rfl
theorem rX9_paste_20 (Q : Po) (h : Hp) (ls : List Value) (st : List Value) (x : Int32) : Ex mX9_paste Q 20 ls (.int x :: st) h = if x = 0 then Ex mX9_paste Q 36 ls st h else Ex mX9_paste Q 23 ls st h := Ex_br rfl rfl
theorem rX9_paste_23 (Q : Po) (h : Hp) (l0 l1 l2 l3 l4 l6 : Value) (x : Int32) (st : List Value) : Ex mX9_paste Q 23 [l0, l1, l2, l3, l4, .int x, l6] st h = Ex mX9_paste Q 25 [l0, l1, l2, l3, l4, .int x, l6] (.int x :: st) h := Ex_nx rfl rfl
theorem rX9_paste_25 (Q : Po) (h : Hp) (ls : List Value) (st : List Value) (x : Int32) : Ex mX9_paste Q 25 ls (.int x :: st) h = Ex mX9_paste Q 26 ls (.long x.toInt64 :: st) h := Ex_nx rfl rfl
theorem rX9_paste_26 (Q : Po) (h : Hp) (ls : List Value) (st : List Value) : Ex mX9_paste Q 26 ls st h = Ex mX9_paste Q 27 ls (.long 1 :: st) h := Ex_nx rfl rfl
theorem rX9_paste_27 (Q : Po) (h : Hp) (ls : List Value) (st : List Value) : Ex mX9_paste Q 27 ls st h = Ex mX9_paste Q 30 ls (.long 12 :: st) h := Ex_nx rfl rfl
theorem rX9_paste_30 (Q : Po) (h : Hp) (ls : List Value) (a0 : Int64) (a1 : Int64) (a2 : Int64) : Ex mX9_paste Q 30 ls (.long a2 :: .long a1 :: .long a0 :: []) h = Ex mX9_in (Cont mX9_paste Q 30 ls 33 []) 0 [.long a0, .retAddr 1, .long a1, .retAddr 1, .long a2, .retAddr 1] [] h := Ex_cl (n := 6) (as := [.long a0, .long a1, .long a2]) rfl rfl
theorem rX9_paste_33 (Q : Po) (h : Hp) (ls : List Value) (st : List Value) (x : Int32) : Ex mX9_paste Q 33 ls (.int x :: st) h = if ¬ x = 0 then Ex mX9_paste Q 41 ls st h else Ex mX9_paste Q 36 ls st h := Ex_br rfl rfl
theorem rX9_paste_36 (Q : Po) (h : Hp) (ls : List Value) (st : List Value) : Ex mX9_paste Q 36 ls st h = Ex mX9_paste Q 38 ls (.int (-1000001) :: st) h := Ex_nx rfl rfl
theorem rX9_paste_38 (Q : Po) (h : Hp) (ls : List Value) (st : List Value) : Ex mX9_paste Q 38 ls st h = Ex mX9_paste Q 50 ls st h := Ex_nx rfl rfl
theorem rX9_paste_41 (Q : Po) (h : Hp) (l1 l2 l3 l4 l5 l6 : Value) (x : Nat) (st : List Value) : Ex mX9_paste Q 41 [.ref x, l1, l2, l3, l4, l5, l6] st h = Ex mX9_paste Q 42 [.ref x, l1, l2, l3, l4, l5, l6] (.ref x :: st) h := Ex_nx rfl rfl
theorem rX9_paste_42 (Q : Po) (h : Hp) (l0 l1 l2 l4 l5 l6 : Value) (x : Int32) (st : List Value) : Ex mX9_paste Q 42 [l0, l1, l2, .int x, l4, l5, l6] st h = Ex mX9_paste Q 43 [l0, l1, l2, .int x, l4, l5, l6] (.int x :: st) h := Ex_nx rfl rfl
theorem rX9_paste_43 (Q : Po) (h : Hp) (l0 l1 l2 l3 l5 l6 : Value) (x : Int32) (st : List Value) : Ex mX9_paste Q 43 [l0, l1, l2, l3, .int x, l5, l6] st h = Ex mX9_paste Q 45 [l0, l1, l2, l3, .int x, l5, l6] (.int x :: st) h := Ex_nx rfl rfl
theorem rX9_paste_45 (Q : Po) (h : Hp) (l0 l1 l2 l3 l4 l6 : Value) (x : Int32) (st : List Value) : Ex mX9_paste Q 45 [l0, l1, l2, l3, l4, .int x, l6] st h = Ex mX9_paste Q 47 [l0, l1, l2, l3, l4, .int x, l6] (.int x :: st) h := Ex_nx rfl rfl
theorem rX9_paste_47 (Q : Po) (h : Hp) (ls : List Value) (a0 : Int32) (a1 : Int32) (a2 : Int32) (b : Nat) : Ex mX9_paste Q 47 ls (.int a2 :: .int a1 :: .int a0 :: .ref b :: []) h = (gK h b = 9 ∧ Ex mX9_lacks (Cont mX9_paste Q 47 ls 50 []) 0 [.ref b, .int a0, .int a1, .int a2] [] h) := Ex_cg (n := 4) (as := [.ref b, .int a0, .int a1, .int a2]) rfl rfl
theorem rX9_paste_50 (Q : Po) (h : Hp) (l0 l1 l2 l3 l4 l5 l6 : Value) (x : Int32) (st : List Value) : Ex mX9_paste Q 50 [l0, l1, l2, l3, l4, l5, l6] (.int x :: st) h = Ex mX9_paste Q 52 [l0, l1, l2, l3, l4, l5, .int x] st h := Ex_nx rfl rfl
theorem rX9_paste_52 (Q : Po) (h : Hp) (l0 l1 l2 l3 l4 l5 : Value) (x : Int32) (st : List Value) : Ex mX9_paste Q 52 [l0, l1, l2, l3, l4, l5, .int x] st h = Ex mX9_paste Q 54 [l0, l1, l2, l3, l4, l5, .int x] (.int x :: st) h := Ex_nx rfl rfl
theorem rX9_paste_54 (Q : Po) (h : Hp) (ls : List Value) (st : List Value) (x : Int32) : Ex mX9_paste Q 54 ls (.int x :: st) h = if 0 ≤ x then Ex mX9_paste Q 62 ls st h else Ex mX9_paste Q 57 ls st h := Ex_br rfl rfl
theorem rX9_paste_57 (Q : Po) (h : Hp) (l0 l1 l2 l3 l4 l5 : Value) (x : Int32) (st : List Value) : Ex mX9_paste Q 57 [l0, l1, l2, l3, l4, l5, .int x] st h = Ex mX9_paste Q 59 [l0, l1, l2, l3, l4, l5, .int x] (.int x :: st) h := Ex_nx rfl rfl
theorem rX9_paste_59 (Q : Po) (h : Hp) (ls : List Value) (st : List Value) : Ex mX9_paste Q 59 ls st h = Ex mX9_paste Q 83 ls st h := Ex_nx rfl rfl
theorem rX9_paste_62 (Q : Po) (h : Hp) (l1 l2 l3 l4 l5 l6 : Value) (x : Nat) (st : List Value) : Ex mX9_paste Q 62 [.ref x, l1, l2, l3, l4, l5, l6] st h = Ex mX9_paste Q 63 [.ref x, l1, l2, l3, l4, l5, l6] (.ref x :: st) h := Ex_nx rfl rfl
theorem rX9_paste_63 (Q : Po) (h : Hp) (ls : List Value) (st : List Value) : Ex mX9_paste Q 63 ls st h = Ex mX9_paste Q 65 ls (.int 14 :: st) h := Ex_nx rfl rfl
theorem rX9_paste_65 (Q : Po) (h : Hp) (l0 l2 l3 l4 l5 l6 : Value) (x : Int32) (st : List Value) : Ex mX9_paste Q 65 [l0, .int x, l2, l3, l4, l5, l6] st h = Ex mX9_paste Q 66 [l0, .int x, l2, l3, l4, l5, l6] (.int x :: st) h := Ex_nx rfl rfl
theorem rX9_paste_66 (Q : Po) (h : Hp) (ls : List Value) (st : List Value) (x y : Int32) : Ex mX9_paste Q 66 ls (.int y :: .int x :: st) h = Ex mX9_paste Q 67 ls (.int (x + y) :: st) h := Ex_nx rfl rfl
theorem rX9_paste_67 (Q : Po) (h : Hp) (ls : List Value) (st : List Value) : Ex mX9_paste Q 67 ls st h = Ex mX9_paste Q 68 ls (.int 0 :: st) h := Ex_nx rfl rfl
theorem rX9_paste_68 (Q : Po) (h : Hp) (ls : List Value) (st : List Value) : Ex mX9_paste Q 68 ls st h = Ex mX9_paste Q 70 ls (.int 9 :: st) h := Ex_nx rfl rfl
theorem rX9_paste_70 (Q : Po) (h : Hp) (l0 l1 l3 l4 l5 l6 : Value) (x : Int32) (st : List Value) : Ex mX9_paste Q 70 [l0, l1, .int x, l3, l4, l5, l6] st h = Ex mX9_paste Q 71 [l0, l1, .int x, l3, l4, l5, l6] (.int x :: st) h := Ex_nx rfl rfl
theorem rX9_paste_71 (Q : Po) (h : Hp) (ls : List Value) (st : List Value) : Ex mX9_paste Q 71 ls st h = Ex mX9_paste Q 73 ls (.int 40 :: st) h := Ex_nx rfl rfl
theorem rX9_paste_73 (Q : Po) (h : Hp) (l0 l1 l2 l4 l5 l6 : Value) (x : Int32) (st : List Value) : Ex mX9_paste Q 73 [l0, l1, l2, .int x, l4, l5, l6] st h = Ex mX9_paste Q 74 [l0, l1, l2, .int x, l4, l5, l6] (.int x :: st) h := Ex_nx rfl rfl
theorem rX9_paste_74 (Q : Po) (h : Hp) (ls : List Value) (st : List Value) (x y : Int32) : Ex mX9_paste Q 74 ls (.int y :: .int x :: st) h = Ex mX9_paste Q 75 ls (.int (x * y) :: st) h := Ex_nx rfl rfl
theorem rX9_paste_75 (Q : Po) (h : Hp) (l0 l1 l2 l3 l5 l6 : Value) (x : Int32) (st : List Value) : Ex mX9_paste Q 75 [l0, l1, l2, l3, .int x, l5, l6] st h = Ex mX9_paste Q 77 [l0, l1, l2, l3, .int x, l5, l6] (.int x :: st) h := Ex_nx rfl rfl
theorem rX9_paste_77 (Q : Po) (h : Hp) (ls : List Value) (st : List Value) (x y : Int32) : Ex mX9_paste Q 77 ls (.int y :: .int x :: st) h = Ex mX9_paste Q 78 ls (.int (x + y) :: st) h := Ex_nx rfl rfl
theorem rX9_paste_78 (Q : Po) (h : Hp) (l0 l1 l2 l3 l4 l6 : Value) (x : Int32) (st : List Value) : Ex mX9_paste Q 78 [l0, l1, l2, l3, l4, .int x, l6] st h = Ex mX9_paste Q 80 [l0, l1, l2, l3, l4, .int x, l6] (.int x :: st) h := Ex_nx rfl rfl
theorem rX9_paste_80 (Q : Po) (h : Hp) (ls : List Value) (a0 : Int32) (a1 : Int32) (a2 : Int32) (a3 : Int32) (a4 : Int32) (a5 : Int32) (b : Nat) : Ex mX9_paste Q 80 ls (.int a5 :: .int a4 :: .int a3 :: .int a2 :: .int a1 :: .int a0 :: .ref b :: []) h = (gK h b = 9 ∧ Ex mX9_fits (Cont mX9_paste Q 80 ls 83 []) 0 [.ref b, .int a0, .int a1, .int a2, .int a3, .int a4, .int a5, .retAddr 0, .retAddr 0] [] h) := Ex_cg (n := 9) (as := [.ref b, .int a0, .int a1, .int a2, .int a3, .int a4, .int a5]) rfl rfl
theorem rX9_paste_83 (Q : Po) (h : Hp) (ls : List Value) (x : Int32) : Ex mX9_paste Q 83 ls [.int x] h = Q (.inl (some (.int x))) h := Ex_rt rfl rfl
theorem rX9_paste_t (Q : Po) (h : Hp) (pc n a : Nat) (ls st : List Value) : Cont mX9_paste Q pc ls n st (.inr a) h = Q (.inr a) h := rfl
/-! FishReadersModel.hungers(IIII)I -/
def mX9_hungers : Cd := ([(0, .inl (i_aload 0 1)),
  (1, .inl (i_iload 1 2)),
  (2, .inr (c_V 1 5 2 9 (Mt mX9_isBook 2))),
  (5, .inl (i_if (fun x => x = 0) 28 8)),
  (8, .inl (i_iload 2 9)),
  (9, .inr (c_S 1 12 1 (Mt mX9_isRow 1))),
  (12, .inl (i_if (fun x => x = 0) 28 15)),
  (15, .inl (i_iload 4 17)),
  (17, .inl (i_i2l 18)),
  (18, .inl (i_push (.long 1) 19)),
  (19, .inl (i_push (.long 12) 22)),
  (22, .inr (c_S 3 25 6 (Mt mX9_in 6))),
  (25, .inl (i_if (fun x => ¬ x = 0) 33 28)),
  (28, .inl (i_push (.int (-1000001)) 30)),
  (30, .inl (i_goto 41)),
  (33, .inl (i_aload 0 34)),
  (34, .inl (i_iload 2 35)),
  (35, .inl (i_iload 3 36)),
  (36, .inl (i_iload 4 38)),
  (38, .inr (c_V 3 41 4 9 (Mt mX9_lacks 4))),
  (41, .inl (i_istore 5 43)),
  (43, .inl (i_iload 5 45)),
  (45, .inl (i_if (fun x => 0 ≤ x) 53 48)),
  (48, .inl (i_iload 5 50)),
  (50, .inl (i_goto 70)),
  (53, .inl (i_aload 0 54)),
  (54, .inl (i_push (.int 2) 55)),
  (55, .inl (i_push (.int 1) 56)),
  (56, .inl (i_push (.int 9) 58)),
  (58, .inl (i_iload 1 59)),
  (59, .inl (i_push (.int 40) 61)),
  (61, .inl (i_iload 2 62)),
  (62, .inl (i_bin (fun x y => x * y) 63)),
  (63, .inl (i_iload 3 64)),
  (64, .inl (i_bin (fun x y => x + y) 65)),
  (65, .inl (i_iload 4 67)),
  (67, .inr (c_V 6 70 9 9 (Mt mX9_fits 9))),
  (70, .inl i_iret)], noH)
theorem rX9_hungers_0 (Q : Po) (h : Hp) (l1 l2 l3 l4 l5 : Value) (x : Nat) (st : List Value) : Ex mX9_hungers Q 0 [.ref x, l1, l2, l3, l4, l5] st h = Ex mX9_hungers Q 1 [.ref x, l1, l2, l3, l4, l5] (.ref x :: st) h := Ex_nx rfl rfl
theorem rX9_hungers_1 (Q : Po) (h : Hp) (l0 l2 l3 l4 l5 : Value) (x : Int32) (st : List Value) : Ex mX9_hungers Q 1 [l0, .int x, l2, l3, l4, l5] st h = Ex mX9_hungers Q 2 [l0, .int x, l2, l3, l4, l5] (.int x :: st) h := Ex_nx rfl rfl
theorem rX9_hungers_2 (Q : Po) (h : Hp) (ls : List Value) (a0 : Int32) (b : Nat) : Ex mX9_hungers Q 2 ls (.int a0 :: .ref b :: []) h = (gK h b = 9 ∧ Ex mX9_isBook (Cont mX9_hungers Q 2 ls 5 []) 0 [.ref b, .int a0] [] h) := Ex_cg (n := 2) (as := [.ref b, .int a0]) rfl rfl
theorem rX9_hungers_5 (Q : Po) (h : Hp) (ls : List Value) (st : List Value) (x : Int32) : Ex mX9_hungers Q 5 ls (.int x :: st) h = if x = 0 then Ex mX9_hungers Q 28 ls st h else Ex mX9_hungers Q 8 ls st h := Ex_br rfl rfl
theorem rX9_hungers_8 (Q : Po) (h : Hp) (l0 l1 l3 l4 l5 : Value) (x : Int32) (st : List Value) : Ex mX9_hungers Q 8 [l0, l1, .int x, l3, l4, l5] st h = Ex mX9_hungers Q 9 [l0, l1, .int x, l3, l4, l5] (.int x :: st) h := Ex_nx rfl rfl
theorem rX9_hungers_9 (Q : Po) (h : Hp) (ls : List Value) (a0 : Int32) : Ex mX9_hungers Q 9 ls (.int a0 :: []) h = Ex mX9_isRow (Cont mX9_hungers Q 9 ls 12 []) 0 [.int a0] [] h := Ex_cl (n := 1) (as := [.int a0]) rfl rfl
theorem rX9_hungers_12 (Q : Po) (h : Hp) (ls : List Value) (st : List Value) (x : Int32) : Ex mX9_hungers Q 12 ls (.int x :: st) h = if x = 0 then Ex mX9_hungers Q 28 ls st h else Ex mX9_hungers Q 15 ls st h := Ex_br rfl rfl
theorem rX9_hungers_15 (Q : Po) (h : Hp) (l0 l1 l2 l3 l5 : Value) (x : Int32) (st : List Value) : Ex mX9_hungers Q 15 [l0, l1, l2, l3, .int x, l5] st h = Ex mX9_hungers Q 17 [l0, l1, l2, l3, .int x, l5] (.int x :: st) h := Ex_nx rfl rfl
theorem rX9_hungers_17 (Q : Po) (h : Hp) (ls : List Value) (st : List Value) (x : Int32) : Ex mX9_hungers Q 17 ls (.int x :: st) h = Ex mX9_hungers Q 18 ls (.long x.toInt64 :: st) h := Ex_nx rfl rfl
theorem rX9_hungers_18 (Q : Po) (h : Hp) (ls : List Value) (st : List Value) : Ex mX9_hungers Q 18 ls st h = Ex mX9_hungers Q 19 ls (.long 1 :: st) h := Ex_nx rfl rfl
theorem rX9_hungers_19 (Q : Po) (h : Hp) (ls : List Value) (st : List Value) : Ex mX9_hungers Q 19 ls st h = Ex mX9_hungers Q 22 ls (.long 12 :: st) h := Ex_nx rfl rfl
theorem rX9_hungers_22 (Q : Po) (h : Hp) (ls : List Value) (a0 : Int64) (a1 : Int64) (a2 : Int64) : Ex mX9_hungers Q 22 ls (.long a2 :: .long a1 :: .long a0 :: []) h = Ex mX9_in (Cont mX9_hungers Q 22 ls 25 []) 0 [.long a0, .retAddr 1, .long a1, .retAddr 1, .long a2, .retAddr 1] [] h := Ex_cl (n := 6) (as := [.long a0, .long a1, .long a2]) rfl rfl
theorem rX9_hungers_25 (Q : Po) (h : Hp) (ls : List Value) (st : List Value) (x : Int32) : Ex mX9_hungers Q 25 ls (.int x :: st) h = if ¬ x = 0 then Ex mX9_hungers Q 33 ls st h else Ex mX9_hungers Q 28 ls st h := Ex_br rfl rfl
theorem rX9_hungers_28 (Q : Po) (h : Hp) (ls : List Value) (st : List Value) : Ex mX9_hungers Q 28 ls st h = Ex mX9_hungers Q 30 ls (.int (-1000001) :: st) h := Ex_nx rfl rfl
theorem rX9_hungers_30 (Q : Po) (h : Hp) (ls : List Value) (st : List Value) : Ex mX9_hungers Q 30 ls st h = Ex mX9_hungers Q 41 ls st h := Ex_nx rfl rfl
theorem rX9_hungers_33 (Q : Po) (h : Hp) (l1 l2 l3 l4 l5 : Value) (x : Nat) (st : List Value) : Ex mX9_hungers Q 33 [.ref x, l1, l2, l3, l4, l5] st h = Ex mX9_hungers Q 34 [.ref x, l1, l2, l3, l4, l5] (.ref x :: st) h := Ex_nx rfl rfl
theorem rX9_hungers_34 (Q : Po) (h : Hp) (l0 l1 l3 l4 l5 : Value) (x : Int32) (st : List Value) : Ex mX9_hungers Q 34 [l0, l1, .int x, l3, l4, l5] st h = Ex mX9_hungers Q 35 [l0, l1, .int x, l3, l4, l5] (.int x :: st) h := Ex_nx rfl rfl
theorem rX9_hungers_35 (Q : Po) (h : Hp) (l0 l1 l2 l4 l5 : Value) (x : Int32) (st : List Value) : Ex mX9_hungers Q 35 [l0, l1, l2, .int x, l4, l5] st h = Ex mX9_hungers Q 36 [l0, l1, l2, .int x, l4, l5] (.int x :: st) h := Ex_nx rfl rfl
theorem rX9_hungers_36 (Q : Po) (h : Hp) (l0 l1 l2 l3 l5 : Value) (x : Int32) (st : List Value) : Ex mX9_hungers Q 36 [l0, l1, l2, l3, .int x, l5] st h = Ex mX9_hungers Q 38 [l0, l1, l2, l3, .int x, l5] (.int x :: st) h := Ex_nx rfl rfl
theorem rX9_hungers_38 (Q : Po) (h : Hp) (ls : List Value) (a0 : Int32) (a1 : Int32) (a2 : Int32) (b : Nat) : Ex mX9_hungers Q 38 ls (.int a2 :: .int a1 :: .int a0 :: .ref b :: []) h = (gK h b = 9 ∧ Ex mX9_lacks (Cont mX9_hungers Q 38 ls 41 []) 0 [.ref b, .int a0, .int a1, .int a2] [] h) := Ex_cg (n := 4) (as := [.ref b, .int a0, .int a1, .int a2]) rfl rfl
theorem rX9_hungers_41 (Q : Po) (h : Hp) (l0 l1 l2 l3 l4 l5 : Value) (x : Int32) (st : List Value) : Ex mX9_hungers Q 41 [l0, l1, l2, l3, l4, l5] (.int x :: st) h = Ex mX9_hungers Q 43 [l0, l1, l2, l3, l4, .int x] st h := Ex_nx rfl rfl
theorem rX9_hungers_43 (Q : Po) (h : Hp) (l0 l1 l2 l3 l4 : Value) (x : Int32) (st : List Value) : Ex mX9_hungers Q 43 [l0, l1, l2, l3, l4, .int x] st h = Ex mX9_hungers Q 45 [l0, l1, l2, l3, l4, .int x] (.int x :: st) h := Ex_nx rfl rfl
theorem rX9_hungers_45 (Q : Po) (h : Hp) (ls : List Value) (st : List Value) (x : Int32) : Ex mX9_hungers Q 45 ls (.int x :: st) h = if 0 ≤ x then Ex mX9_hungers Q 53 ls st h else Ex mX9_hungers Q 48 ls st h := Ex_br rfl rfl
theorem rX9_hungers_48 (Q : Po) (h : Hp) (l0 l1 l2 l3 l4 : Value) (x : Int32) (st : List Value) : Ex mX9_hungers Q 48 [l0, l1, l2, l3, l4, .int x] st h = Ex mX9_hungers Q 50 [l0, l1, l2, l3, l4, .int x] (.int x :: st) h := Ex_nx rfl rfl
theorem rX9_hungers_50 (Q : Po) (h : Hp) (ls : List Value) (st : List Value) : Ex mX9_hungers Q 50 ls st h = Ex mX9_hungers Q 70 ls st h := Ex_nx rfl rfl
theorem rX9_hungers_53 (Q : Po) (h : Hp) (l1 l2 l3 l4 l5 : Value) (x : Nat) (st : List Value) : Ex mX9_hungers Q 53 [.ref x, l1, l2, l3, l4, l5] st h = Ex mX9_hungers Q 54 [.ref x, l1, l2, l3, l4, l5] (.ref x :: st) h := Ex_nx rfl rfl
theorem rX9_hungers_54 (Q : Po) (h : Hp) (ls : List Value) (st : List Value) : Ex mX9_hungers Q 54 ls st h = Ex mX9_hungers Q 55 ls (.int 2 :: st) h := Ex_nx rfl rfl
theorem rX9_hungers_55 (Q : Po) (h : Hp) (ls : List Value) (st : List Value) : Ex mX9_hungers Q 55 ls st h = Ex mX9_hungers Q 56 ls (.int 1 :: st) h := Ex_nx rfl rfl
theorem rX9_hungers_56 (Q : Po) (h : Hp) (ls : List Value) (st : List Value) : Ex mX9_hungers Q 56 ls st h = Ex mX9_hungers Q 58 ls (.int 9 :: st) h := Ex_nx rfl rfl
theorem rX9_hungers_58 (Q : Po) (h : Hp) (l0 l2 l3 l4 l5 : Value) (x : Int32) (st : List Value) : Ex mX9_hungers Q 58 [l0, .int x, l2, l3, l4, l5] st h = Ex mX9_hungers Q 59 [l0, .int x, l2, l3, l4, l5] (.int x :: st) h := Ex_nx rfl rfl
theorem rX9_hungers_59 (Q : Po) (h : Hp) (ls : List Value) (st : List Value) : Ex mX9_hungers Q 59 ls st h = Ex mX9_hungers Q 61 ls (.int 40 :: st) h := Ex_nx rfl rfl
theorem rX9_hungers_61 (Q : Po) (h : Hp) (l0 l1 l3 l4 l5 : Value) (x : Int32) (st : List Value) : Ex mX9_hungers Q 61 [l0, l1, .int x, l3, l4, l5] st h = Ex mX9_hungers Q 62 [l0, l1, .int x, l3, l4, l5] (.int x :: st) h := Ex_nx rfl rfl
theorem rX9_hungers_62 (Q : Po) (h : Hp) (ls : List Value) (st : List Value) (x y : Int32) : Ex mX9_hungers Q 62 ls (.int y :: .int x :: st) h = Ex mX9_hungers Q 63 ls (.int (x * y) :: st) h := Ex_nx rfl rfl
theorem rX9_hungers_63 (Q : Po) (h : Hp) (l0 l1 l2 l4 l5 : Value) (x : Int32) (st : List Value) : Ex mX9_hungers Q 63 [l0, l1, l2, .int x, l4, l5] st h = Ex mX9_hungers Q 64 [l0, l1, l2, .int x, l4, l5] (.int x :: st) h := Ex_nx rfl rfl
theorem rX9_hungers_64 (Q : Po) (h : Hp) (ls : List Value) (st : List Value) (x y : Int32) : Ex mX9_hungers Q 64 ls (.int y :: .int x :: st) h = Ex mX9_hungers Q 65 ls (.int (x + y) :: st) h := Ex_nx rfl rfl
theorem rX9_hungers_65 (Q : Po) (h : Hp) (l0 l1 l2 l3 l5 : Value) (x : Int32) (st : List Value) : Ex mX9_hungers Q 65 [l0, l1, l2, l3, .int x, l5] st h = Ex mX9_hungers Q 67 [l0, l1, l2, l3, .int x, l5] (.int x :: st) h := Ex_nx rfl rfl
theorem rX9_hungers_67 (Q : Po) (h : Hp) (ls : List Value) (a0 : Int32) (a1 : Int32) (a2 : Int32) (a3 : Int32) (a4 : Int32) (a5 : Int32) (b : Nat) : Ex mX9_hungers Q 67 ls (.int a5 :: .int a4 :: .int a3 :: .int a2 :: .int a1 :: .int a0 :: .ref b :: []) h = (gK h b = 9 ∧ Ex mX9_fits (Cont mX9_hungers Q 67 ls 70 []) 0 [.ref b, .int a0, .int a1, .int a2, .int a3, .int a4, .int a5, .retAddr 0, .retAddr 0] [] h) := Ex_cg (n := 9) (as := [.ref b, .int a0, .int a1, .int a2, .int a3, .int a4, .int a5]) rfl rfl
theorem rX9_hungers_70 (Q : Po) (h : Hp) (ls : List Value) (x : Int32) : Ex mX9_hungers Q 70 ls [.int x] h = Q (.inl (some (.int x))) h := Ex_rt rfl rfl
theorem rX9_hungers_t (Q : Po) (h : Hp) (pc n a : Nat) (ls st : List Value) : Cont mX9_hungers Q pc ls n st (.inr a) h = Q (.inr a) h := rfl
/-! FishReadersModel.dark(IIII)J -/
def mX9_dark : Cd := ([(0, .inl (i_aload 0 1)),
  (1, .inl (i_iload 1 2)),
  (2, .inr (c_V 1 5 2 9 (Mt mX9_isBook 2))),
  (5, .inl (i_if (fun x => x = 0) 40 8)),
  (8, .inl (i_iload 2 9)),
  (9, .inl (i_i2l 10)),
  (10, .inl (i_push (.long 0) 11)),
  (11, .inl (i_push (.long 60) 14)),
  (14, .inr (c_S 3 17 6 (Mt mX9_in 6))),
  (17, .inl (i_if (fun x => x = 0) 40 20)),
  (20, .inl (i_iload 3 21)),
  (21, .inl (i_i2l 22)),
  (22, .inl (i_push (.long 0) 23)),
  (23, .inl (i_push (.long 10) 26)),
  (26, .inr (c_S 3 29 6 (Mt mX9_in 6))),
  (29, .inl (i_if (fun x => x = 0) 40 32)),
  (32, .inl (i_iload 4 34)),
  (34, .inr (c_S 1 37 1 (Mt mX9_isWhat 1))),
  (37, .inl (i_if (fun x => ¬ x = 0) 44 40)),
  (40, .inl (i_push (.long (-1000001)) 43)),
  (43, .inl i_lret),
  (44, .inl (i_aload 0 45)),
  (45, .inr (c_V 0 48 2 9 (Mt mX9_putAside 2))),
  (48, .inl (i_aload 0 49)),
  (49, .inl (i_getf 81 [9] 52)),
  (52, .inl (i_push (.int 5) 53)),
  (53, .inl (i_iald 51 54)),
  (54, .inl (i_istore 5 56)),
  (56, .inl (i_push (.long 0) 57)),
  (57, .inl (i_lstore 6 59)),
  (59, .inl (i_push (.long 1) 60)),
  (60, .inl (i_lstore 8 62)),
  (62, .inl (i_iload 5 64)),
  (64, .inr (c_S 1 67 3 (Mt mX9_ones 3))),
  (67, .inl (i_istore 10 69)),
  (69, .inl (i_iload 10 71)),
  (71, .inl (i_if (fun x => x ≤ 0) 88 74)),
  (74, .inl (i_lload 8 76)),
  (76, .inl (i_push (.long 10) 79)),
  (79, .inl (i_lbin (fun x y => x * y) 80)),
  (80, .inl (i_lstore 8 82)),
  (82, .inl (i_iinc 10 (-1) 85)),
  (85, .inl (i_goto 69)),
  (88, .inl (i_push (.int 0) 89)),
  (89, .inl (i_istore 10 91)),
  (91, .inl (i_iload 10 93)),
  (93, .inl (i_iload 5 95)),
  (95, .inl (i_icmp (fun x y => y < x) 209 98)),
  (98, .inl (i_iload 10 100)),
  (100, .inl (i_iload 5 102)),
  (102, .inl (i_push (.int (-1)) 103)),
  (103, .inl (i_bin (fun x y => x ^^^ y) 104)),
  (104, .inl (i_bin (fun x y => x &&& y) 105)),
  (105, .inl (i_if (fun x => ¬ x = 0) 203 108)),
  (108, .inl (i_push (.long 1) 109)),
  (109, .inl (i_lstore 11 111)),
  (111, .inl (i_push (.int 0) 112)),
  (112, .inl (i_istore 13 114)),
  (114, .inl (i_iload 13 116)),
  (116, .inl (i_aload 0 117)),
  (117, .inl (i_getf 81 [9] 120)),
  (120, .inl (i_push (.int 0) 121)),
  (121, .inl (i_iald 51 122)),
  (122, .inl (i_icmp (fun x y => y ≤ x) 170 125)),
  (125, .inl (i_lload 11 127)),
  (127, .inl (i_iload 5 129)),
  (129, .inl (i_iload 13 131)),
  (131, .inr (c_S 2 134 2 (Mt mX9_has 2))),
  (134, .inl (i_if (fun x => ¬ x = 0) 141 137)),
  (137, .inl (i_push (.long 1) 138)),
  (138, .inl (i_goto 161)),
  (141, .inl (i_iload 10 143)),
  (143, .inl (i_iload 13 145)),
  (145, .inr (c_S 2 148 2 (Mt mX9_has 2))),
  (148, .inl (i_if (fun x => x = 0) 156 151)),
  (151, .inl (i_iload 3 152)),
  (152, .inl (i_i2l 153)),
  (153, .inl (i_goto 161)),
  (156, .inl (i_push (.int 10) 158)),
  (158, .inl (i_iload 3 159)),
  (159, .inl (i_bin (fun x y => x - y) 160)),
  (160, .inl (i_i2l 161)),
  (161, .inl (i_lbin (fun x y => x * y) 162)),
  (162, .inl (i_lstore 11 164)),
  (164, .inl (i_iinc 13 1 167)),
  (167, .inl (i_goto 114)),
  (170, .inl (i_aload 0 171)),
  (171, .inl (i_getf 81 [9] 174)),
  (174, .inl (i_push (.int 5) 175)),
  (175, .inl (i_iload 5 177)),
  (177, .inl (i_iload 10 179)),
  (179, .inl (i_push (.int (-1)) 180)),
  (180, .inl (i_bin (fun x y => x ^^^ y) 181)),
  (181, .inl (i_bin (fun x y => x &&& y) 182)),
  (182, .inl (i_iast 51 (fun x => x) 183)),
  (183, .inl (i_lload 6 185)),
  (185, .inl (i_aload 0 186)),
  (186, .inl (i_iload 1 187)),
  (187, .inl (i_iload 2 188)),
  (188, .inr (c_V 2 191 4 9 (Mt mX9_pagesBehind 4))),
  (191, .inl (i_if (fun x => x ≤ 0) 199 194)),
  (194, .inl (i_lload 11 196)),
  (196, .inl (i_goto 200)),
  (199, .inl (i_push (.long 0) 200)),
  (200, .inl (i_lbin (fun x y => x + y) 201)),
  (201, .inl (i_lstore 6 203)),
  (203, .inl (i_iinc 10 1 206)),
  (206, .inl (i_goto 91)),
  (209, .inl (i_lload 6 211)),
  (211, .inl (i_lstore 10 213)),
  (213, .inl (i_lload 8 215)),
  (215, .inl (i_lstore 12 217)),
  (217, .inl (i_lload 12 219)),
  (219, .inl (i_push (.long 0) 220)),
  (220, .inl (i_lcmp 221)),
  (221, .inl (i_if (fun x => x = 0) 242 224)),
  (224, .inl (i_lload 10 226)),
  (226, .inl (i_lload 12 228)),
  (228, .inl (i_lbing (fun x y => x - x / y * y) 229)),
  (229, .inl (i_lstore 14 231)),
  (231, .inl (i_lload 12 233)),
  (233, .inl (i_lstore 10 235)),
  (235, .inl (i_lload 14 237)),
  (237, .inl (i_lstore 12 239)),
  (239, .inl (i_goto 217)),
  (242, .inl (i_iload 4 244)),
  (244, .inl (i_if (fun x => ¬ x = 0) 255 247)),
  (247, .inl (i_lload 6 249)),
  (249, .inl (i_lload 10 251)),
  (251, .inl (i_lbing (fun x y => x / y) 252)),
  (252, .inl (i_goto 260)),
  (255, .inl (i_lload 8 257)),
  (257, .inl (i_lload 10 259)),
  (259, .inl (i_lbing (fun x y => x / y) 260)),
  (260, .inl i_lret)], noH)
theorem rX9_dark_0 (Q : Po) (h : Hp) (l1 l2 l3 l4 l5 l6 l7 l8 l9 l10 l11 l12 l13 l14 l15 : Value) (x : Nat) (st : List Value) : Ex mX9_dark Q 0 [.ref x, l1, l2, l3, l4, l5, l6, l7, l8, l9, l10, l11, l12, l13, l14, l15] st h = Ex mX9_dark Q 1 [.ref x, l1, l2, l3, l4, l5, l6, l7, l8, l9, l10, l11, l12, l13, l14, l15] (.ref x :: st) h := Ex_nx rfl rfl
theorem rX9_dark_1 (Q : Po) (h : Hp) (l0 l2 l3 l4 l5 l6 l7 l8 l9 l10 l11 l12 l13 l14 l15 : Value) (x : Int32) (st : List Value) : Ex mX9_dark Q 1 [l0, .int x, l2, l3, l4, l5, l6, l7, l8, l9, l10, l11, l12, l13, l14, l15] st h = Ex mX9_dark Q 2 [l0, .int x, l2, l3, l4, l5, l6, l7, l8, l9, l10, l11, l12, l13, l14, l15] (.int x :: st) h := Ex_nx rfl rfl
theorem rX9_dark_2 (Q : Po) (h : Hp) (ls : List Value) (a0 : Int32) (b : Nat) : Ex mX9_dark Q 2 ls (.int a0 :: .ref b :: []) h = (gK h b = 9 ∧ Ex mX9_isBook (Cont mX9_dark Q 2 ls 5 []) 0 [.ref b, .int a0] [] h) := Ex_cg (n := 2) (as := [.ref b, .int a0]) rfl rfl
theorem rX9_dark_5 (Q : Po) (h : Hp) (ls : List Value) (st : List Value) (x : Int32) : Ex mX9_dark Q 5 ls (.int x :: st) h = if x = 0 then Ex mX9_dark Q 40 ls st h else Ex mX9_dark Q 8 ls st h := Ex_br rfl rfl
theorem rX9_dark_8 (Q : Po) (h : Hp) (l0 l1 l3 l4 l5 l6 l7 l8 l9 l10 l11 l12 l13 l14 l15 : Value) (x : Int32) (st : List Value) : Ex mX9_dark Q 8 [l0, l1, .int x, l3, l4, l5, l6, l7, l8, l9, l10, l11, l12, l13, l14, l15] st h = Ex mX9_dark Q 9 [l0, l1, .int x, l3, l4, l5, l6, l7, l8, l9, l10, l11, l12, l13, l14, l15] (.int x :: st) h := Ex_nx rfl rfl
theorem rX9_dark_9 (Q : Po) (h : Hp) (ls : List Value) (st : List Value) (x : Int32) : Ex mX9_dark Q 9 ls (.int x :: st) h = Ex mX9_dark Q 10 ls (.long x.toInt64 :: st) h := Ex_nx rfl rfl
theorem rX9_dark_10 (Q : Po) (h : Hp) (ls : List Value) (st : List Value) : Ex mX9_dark Q 10 ls st h = Ex mX9_dark Q 11 ls (.long 0 :: st) h := Ex_nx rfl rfl
theorem rX9_dark_11 (Q : Po) (h : Hp) (ls : List Value) (st : List Value) : Ex mX9_dark Q 11 ls st h = Ex mX9_dark Q 14 ls (.long 60 :: st) h := Ex_nx rfl rfl
theorem rX9_dark_14 (Q : Po) (h : Hp) (ls : List Value) (a0 : Int64) (a1 : Int64) (a2 : Int64) : Ex mX9_dark Q 14 ls (.long a2 :: .long a1 :: .long a0 :: []) h = Ex mX9_in (Cont mX9_dark Q 14 ls 17 []) 0 [.long a0, .retAddr 1, .long a1, .retAddr 1, .long a2, .retAddr 1] [] h := Ex_cl (n := 6) (as := [.long a0, .long a1, .long a2]) rfl rfl
theorem rX9_dark_17 (Q : Po) (h : Hp) (ls : List Value) (st : List Value) (x : Int32) : Ex mX9_dark Q 17 ls (.int x :: st) h = if x = 0 then Ex mX9_dark Q 40 ls st h else Ex mX9_dark Q 20 ls st h := Ex_br rfl rfl
theorem rX9_dark_20 (Q : Po) (h : Hp) (l0 l1 l2 l4 l5 l6 l7 l8 l9 l10 l11 l12 l13 l14 l15 : Value) (x : Int32) (st : List Value) : Ex mX9_dark Q 20 [l0, l1, l2, .int x, l4, l5, l6, l7, l8, l9, l10, l11, l12, l13, l14, l15] st h = Ex mX9_dark Q 21 [l0, l1, l2, .int x, l4, l5, l6, l7, l8, l9, l10, l11, l12, l13, l14, l15] (.int x :: st) h := Ex_nx rfl rfl
theorem rX9_dark_21 (Q : Po) (h : Hp) (ls : List Value) (st : List Value) (x : Int32) : Ex mX9_dark Q 21 ls (.int x :: st) h = Ex mX9_dark Q 22 ls (.long x.toInt64 :: st) h := Ex_nx rfl rfl
theorem rX9_dark_22 (Q : Po) (h : Hp) (ls : List Value) (st : List Value) : Ex mX9_dark Q 22 ls st h = Ex mX9_dark Q 23 ls (.long 0 :: st) h := Ex_nx rfl rfl
theorem rX9_dark_23 (Q : Po) (h : Hp) (ls : List Value) (st : List Value) : Ex mX9_dark Q 23 ls st h = Ex mX9_dark Q 26 ls (.long 10 :: st) h := Ex_nx rfl rfl
theorem rX9_dark_26 (Q : Po) (h : Hp) (ls : List Value) (a0 : Int64) (a1 : Int64) (a2 : Int64) : Ex mX9_dark Q 26 ls (.long a2 :: .long a1 :: .long a0 :: []) h = Ex mX9_in (Cont mX9_dark Q 26 ls 29 []) 0 [.long a0, .retAddr 1, .long a1, .retAddr 1, .long a2, .retAddr 1] [] h := Ex_cl (n := 6) (as := [.long a0, .long a1, .long a2]) rfl rfl
theorem rX9_dark_29 (Q : Po) (h : Hp) (ls : List Value) (st : List Value) (x : Int32) : Ex mX9_dark Q 29 ls (.int x :: st) h = if x = 0 then Ex mX9_dark Q 40 ls st h else Ex mX9_dark Q 32 ls st h := Ex_br rfl rfl
theorem rX9_dark_32 (Q : Po) (h : Hp) (l0 l1 l2 l3 l5 l6 l7 l8 l9 l10 l11 l12 l13 l14 l15 : Value) (x : Int32) (st : List Value) : Ex mX9_dark Q 32 [l0, l1, l2, l3, .int x, l5, l6, l7, l8, l9, l10, l11, l12, l13, l14, l15] st h = Ex mX9_dark Q 34 [l0, l1, l2, l3, .int x, l5, l6, l7, l8, l9, l10, l11, l12, l13, l14, l15] (.int x :: st) h := Ex_nx rfl rfl
theorem rX9_dark_34 (Q : Po) (h : Hp) (ls : List Value) (a0 : Int32) : Ex mX9_dark Q 34 ls (.int a0 :: []) h = Ex mX9_isWhat (Cont mX9_dark Q 34 ls 37 []) 0 [.int a0] [] h := Ex_cl (n := 1) (as := [.int a0]) rfl rfl
theorem rX9_dark_37 (Q : Po) (h : Hp) (ls : List Value) (st : List Value) (x : Int32) : Ex mX9_dark Q 37 ls (.int x :: st) h = if ¬ x = 0 then Ex mX9_dark Q 44 ls st h else Ex mX9_dark Q 40 ls st h := Ex_br rfl rfl
theorem rX9_dark_40 (Q : Po) (h : Hp) (ls : List Value) (st : List Value) : Ex mX9_dark Q 40 ls st h = Ex mX9_dark Q 43 ls (.long (-1000001) :: st) h := Ex_nx rfl rfl
theorem rX9_dark_43 (Q : Po) (h : Hp) (ls : List Value) (x : Int64) : Ex mX9_dark Q 43 ls [.long x] h = Q (.inl (some (.long x))) h := Ex_rt rfl rfl
theorem rX9_dark_44 (Q : Po) (h : Hp) (l1 l2 l3 l4 l5 l6 l7 l8 l9 l10 l11 l12 l13 l14 l15 : Value) (x : Nat) (st : List Value) : Ex mX9_dark Q 44 [.ref x, l1, l2, l3, l4, l5, l6, l7, l8, l9, l10, l11, l12, l13, l14, l15] st h = Ex mX9_dark Q 45 [.ref x, l1, l2, l3, l4, l5, l6, l7, l8, l9, l10, l11, l12, l13, l14, l15] (.ref x :: st) h := Ex_nx rfl rfl
theorem rX9_dark_45 (Q : Po) (h : Hp) (ls : List Value) (b : Nat) : Ex mX9_dark Q 45 ls (.ref b :: []) h = (gK h b = 9 ∧ Ex mX9_putAside (Cont mX9_dark Q 45 ls 48 []) 0 [.ref b, .retAddr 0] [] h) := Ex_cg (n := 2) (as := [.ref b]) rfl rfl
theorem rX9_dark_48 (Q : Po) (h : Hp) (l1 l2 l3 l4 l5 l6 l7 l8 l9 l10 l11 l12 l13 l14 l15 : Value) (x : Nat) (st : List Value) : Ex mX9_dark Q 48 [.ref x, l1, l2, l3, l4, l5, l6, l7, l8, l9, l10, l11, l12, l13, l14, l15] st h = Ex mX9_dark Q 49 [.ref x, l1, l2, l3, l4, l5, l6, l7, l8, l9, l10, l11, l12, l13, l14, l15] (.ref x :: st) h := Ex_nx rfl rfl
theorem rX9_dark_49 (Q : Po) (h : Hp) (ls : List Value) (st : List Value) (a : Nat) : Ex mX9_dark Q 49 ls (.ref a :: st) h = (gK h a ∈ ([9] : List Nat) ∧ Ex mX9_dark Q 52 ls (gF h 81 a :: st) h) := Ex_gd rfl rfl
theorem rX9_dark_52 (Q : Po) (h : Hp) (ls : List Value) (st : List Value) : Ex mX9_dark Q 52 ls st h = Ex mX9_dark Q 53 ls (.int 5 :: st) h := Ex_nx rfl rfl
theorem rX9_dark_53 (Q : Po) (h : Hp) (ls : List Value) (st : List Value) (a : Nat) (i : Int32) : Ex mX9_dark Q 53 ls (.int i :: .ref a :: st) h = ((gK h a = 51 ∧ ¬ (i < 0 ∨ gL h a ≤ i.toNatClampNeg)) ∧ Ex mX9_dark Q 54 ls (.int (gI h a i.toNatClampNeg) :: st) h) := Ex_gd rfl rfl
theorem rX9_dark_54 (Q : Po) (h : Hp) (l0 l1 l2 l3 l4 l5 l6 l7 l8 l9 l10 l11 l12 l13 l14 l15 : Value) (x : Int32) (st : List Value) : Ex mX9_dark Q 54 [l0, l1, l2, l3, l4, l5, l6, l7, l8, l9, l10, l11, l12, l13, l14, l15] (.int x :: st) h = Ex mX9_dark Q 56 [l0, l1, l2, l3, l4, .int x, l6, l7, l8, l9, l10, l11, l12, l13, l14, l15] st h := Ex_nx rfl rfl
theorem rX9_dark_56 (Q : Po) (h : Hp) (ls : List Value) (st : List Value) : Ex mX9_dark Q 56 ls st h = Ex mX9_dark Q 57 ls (.long 0 :: st) h := Ex_nx rfl rfl
theorem rX9_dark_57 (Q : Po) (h : Hp) (l0 l1 l2 l3 l4 l5 l6 l7 l8 l9 l10 l11 l12 l13 l14 l15 : Value) (x : Int64) (st : List Value) : Ex mX9_dark Q 57 [l0, l1, l2, l3, l4, l5, l6, l7, l8, l9, l10, l11, l12, l13, l14, l15] (.long x :: st) h = Ex mX9_dark Q 59 [l0, l1, l2, l3, l4, l5, .long x, .retAddr 1, l8, l9, l10, l11, l12, l13, l14, l15] st h := Ex_nx rfl rfl
theorem rX9_dark_59 (Q : Po) (h : Hp) (ls : List Value) (st : List Value) : Ex mX9_dark Q 59 ls st h = Ex mX9_dark Q 60 ls (.long 1 :: st) h := Ex_nx rfl rfl
theorem rX9_dark_60 (Q : Po) (h : Hp) (l0 l1 l2 l3 l4 l5 l6 l7 l8 l9 l10 l11 l12 l13 l14 l15 : Value) (x : Int64) (st : List Value) : Ex mX9_dark Q 60 [l0, l1, l2, l3, l4, l5, l6, l7, l8, l9, l10, l11, l12, l13, l14, l15] (.long x :: st) h = Ex mX9_dark Q 62 [l0, l1, l2, l3, l4, l5, l6, l7, .long x, .retAddr 1, l10, l11, l12, l13, l14, l15] st h := Ex_nx rfl rfl
theorem rX9_dark_62 (Q : Po) (h : Hp) (l0 l1 l2 l3 l4 l6 l7 l8 l9 l10 l11 l12 l13 l14 l15 : Value) (x : Int32) (st : List Value) : Ex mX9_dark Q 62 [l0, l1, l2, l3, l4, .int x, l6, l7, l8, l9, l10, l11, l12, l13, l14, l15] st h = Ex mX9_dark Q 64 [l0, l1, l2, l3, l4, .int x, l6, l7, l8, l9, l10, l11, l12, l13, l14, l15] (.int x :: st) h := Ex_nx rfl rfl
theorem rX9_dark_64 (Q : Po) (h : Hp) (ls : List Value) (a0 : Int32) : Ex mX9_dark Q 64 ls (.int a0 :: []) h = Ex mX9_ones (Cont mX9_dark Q 64 ls 67 []) 0 [.int a0, .retAddr 0, .retAddr 0] [] h := Ex_cl (n := 3) (as := [.int a0]) rfl rfl
theorem rX9_dark_67 (Q : Po) (h : Hp) (l0 l1 l2 l3 l4 l5 l6 l7 l8 l9 l10 l11 l12 l13 l14 l15 : Value) (x : Int32) (st : List Value) : Ex mX9_dark Q 67 [l0, l1, l2, l3, l4, l5, l6, l7, l8, l9, l10, l11, l12, l13, l14, l15] (.int x :: st) h = Ex mX9_dark Q 69 [l0, l1, l2, l3, l4, l5, l6, l7, l8, l9, .int x, l11, l12, l13, l14, l15] st h := Ex_nx rfl rfl
theorem rX9_dark_69 (Q : Po) (h : Hp) (l0 l1 l2 l3 l4 l5 l6 l7 l8 l9 l11 l12 l13 l14 l15 : Value) (x : Int32) (st : List Value) : Ex mX9_dark Q 69 [l0, l1, l2, l3, l4, l5, l6, l7, l8, l9, .int x, l11, l12, l13, l14, l15] st h = Ex mX9_dark Q 71 [l0, l1, l2, l3, l4, l5, l6, l7, l8, l9, .int x, l11, l12, l13, l14, l15] (.int x :: st) h := Ex_nx rfl rfl
theorem rX9_dark_71 (Q : Po) (h : Hp) (ls : List Value) (st : List Value) (x : Int32) : Ex mX9_dark Q 71 ls (.int x :: st) h = if x ≤ 0 then Ex mX9_dark Q 88 ls st h else Ex mX9_dark Q 74 ls st h := Ex_br rfl rfl
theorem rX9_dark_74 (Q : Po) (h : Hp) (l0 l1 l2 l3 l4 l5 l6 l7 l10 l11 l12 l13 l14 l15 : Value) (x : Int64) (st : List Value) : Ex mX9_dark Q 74 [l0, l1, l2, l3, l4, l5, l6, l7, .long x, .retAddr 1, l10, l11, l12, l13, l14, l15] st h = Ex mX9_dark Q 76 [l0, l1, l2, l3, l4, l5, l6, l7, .long x, .retAddr 1, l10, l11, l12, l13, l14, l15] (.long x :: st) h := Ex_nx rfl rfl
theorem rX9_dark_76 (Q : Po) (h : Hp) (ls : List Value) (st : List Value) : Ex mX9_dark Q 76 ls st h = Ex mX9_dark Q 79 ls (.long 10 :: st) h := Ex_nx rfl rfl
theorem rX9_dark_79 (Q : Po) (h : Hp) (ls : List Value) (st : List Value) (x y : Int64) : Ex mX9_dark Q 79 ls (.long y :: .long x :: st) h = Ex mX9_dark Q 80 ls (.long (x * y) :: st) h := Ex_nx rfl rfl
theorem rX9_dark_80 (Q : Po) (h : Hp) (l0 l1 l2 l3 l4 l5 l6 l7 l8 l9 l10 l11 l12 l13 l14 l15 : Value) (x : Int64) (st : List Value) : Ex mX9_dark Q 80 [l0, l1, l2, l3, l4, l5, l6, l7, l8, l9, l10, l11, l12, l13, l14, l15] (.long x :: st) h = Ex mX9_dark Q 82 [l0, l1, l2, l3, l4, l5, l6, l7, .long x, .retAddr 1, l10, l11, l12, l13, l14, l15] st h := Ex_nx rfl rfl
theorem rX9_dark_82 (Q : Po) (h : Hp) (l0 l1 l2 l3 l4 l5 l6 l7 l8 l9 l11 l12 l13 l14 l15 : Value) (x : Int32) (st : List Value) : Ex mX9_dark Q 82 [l0, l1, l2, l3, l4, l5, l6, l7, l8, l9, .int x, l11, l12, l13, l14, l15] st h = Ex mX9_dark Q 85 [l0, l1, l2, l3, l4, l5, l6, l7, l8, l9, .int (x + (-1)), l11, l12, l13, l14, l15] st h := Ex_nx rfl rfl
theorem rX9_dark_85 (Q : Po) (h : Hp) (ls : List Value) (st : List Value) : Ex mX9_dark Q 85 ls st h = Ex mX9_dark Q 69 ls st h := Ex_nx rfl rfl
theorem rX9_dark_88 (Q : Po) (h : Hp) (ls : List Value) (st : List Value) : Ex mX9_dark Q 88 ls st h = Ex mX9_dark Q 89 ls (.int 0 :: st) h := Ex_nx rfl rfl
theorem rX9_dark_89 (Q : Po) (h : Hp) (l0 l1 l2 l3 l4 l5 l6 l7 l8 l9 l10 l11 l12 l13 l14 l15 : Value) (x : Int32) (st : List Value) : Ex mX9_dark Q 89 [l0, l1, l2, l3, l4, l5, l6, l7, l8, l9, l10, l11, l12, l13, l14, l15] (.int x :: st) h = Ex mX9_dark Q 91 [l0, l1, l2, l3, l4, l5, l6, l7, l8, l9, .int x, l11, l12, l13, l14, l15] st h := Ex_nx rfl rfl
theorem rX9_dark_91 (Q : Po) (h : Hp) (l0 l1 l2 l3 l4 l5 l6 l7 l8 l9 l11 l12 l13 l14 l15 : Value) (x : Int32) (st : List Value) : Ex mX9_dark Q 91 [l0, l1, l2, l3, l4, l5, l6, l7, l8, l9, .int x, l11, l12, l13, l14, l15] st h = Ex mX9_dark Q 93 [l0, l1, l2, l3, l4, l5, l6, l7, l8, l9, .int x, l11, l12, l13, l14, l15] (.int x :: st) h := Ex_nx rfl rfl
theorem rX9_dark_93 (Q : Po) (h : Hp) (l0 l1 l2 l3 l4 l6 l7 l8 l9 l10 l11 l12 l13 l14 l15 : Value) (x : Int32) (st : List Value) : Ex mX9_dark Q 93 [l0, l1, l2, l3, l4, .int x, l6, l7, l8, l9, l10, l11, l12, l13, l14, l15] st h = Ex mX9_dark Q 95 [l0, l1, l2, l3, l4, .int x, l6, l7, l8, l9, l10, l11, l12, l13, l14, l15] (.int x :: st) h := Ex_nx rfl rfl
theorem rX9_dark_95 (Q : Po) (h : Hp) (ls : List Value) (st : List Value) (x y : Int32) : Ex mX9_dark Q 95 ls (.int y :: .int x :: st) h = if y < x then Ex mX9_dark Q 209 ls st h else Ex mX9_dark Q 98 ls st h := Ex_br rfl rfl
theorem rX9_dark_98 (Q : Po) (h : Hp) (l0 l1 l2 l3 l4 l5 l6 l7 l8 l9 l11 l12 l13 l14 l15 : Value) (x : Int32) (st : List Value) : Ex mX9_dark Q 98 [l0, l1, l2, l3, l4, l5, l6, l7, l8, l9, .int x, l11, l12, l13, l14, l15] st h = Ex mX9_dark Q 100 [l0, l1, l2, l3, l4, l5, l6, l7, l8, l9, .int x, l11, l12, l13, l14, l15] (.int x :: st) h := Ex_nx rfl rfl
theorem rX9_dark_100 (Q : Po) (h : Hp) (l0 l1 l2 l3 l4 l6 l7 l8 l9 l10 l11 l12 l13 l14 l15 : Value) (x : Int32) (st : List Value) : Ex mX9_dark Q 100 [l0, l1, l2, l3, l4, .int x, l6, l7, l8, l9, l10, l11, l12, l13, l14, l15] st h = Ex mX9_dark Q 102 [l0, l1, l2, l3, l4, .int x, l6, l7, l8, l9, l10, l11, l12, l13, l14, l15] (.int x :: st) h := Ex_nx rfl rfl
theorem rX9_dark_102 (Q : Po) (h : Hp) (ls : List Value) (st : List Value) : Ex mX9_dark Q 102 ls st h = Ex mX9_dark Q 103 ls (.int (-1) :: st) h := Ex_nx rfl rfl
theorem rX9_dark_103 (Q : Po) (h : Hp) (ls : List Value) (st : List Value) (x y : Int32) : Ex mX9_dark Q 103 ls (.int y :: .int x :: st) h = Ex mX9_dark Q 104 ls (.int (x ^^^ y) :: st) h := Ex_nx rfl rfl
theorem rX9_dark_104 (Q : Po) (h : Hp) (ls : List Value) (st : List Value) (x y : Int32) : Ex mX9_dark Q 104 ls (.int y :: .int x :: st) h = Ex mX9_dark Q 105 ls (.int (x &&& y) :: st) h := Ex_nx rfl rfl
theorem rX9_dark_105 (Q : Po) (h : Hp) (ls : List Value) (st : List Value) (x : Int32) : Ex mX9_dark Q 105 ls (.int x :: st) h = if ¬ x = 0 then Ex mX9_dark Q 203 ls st h else Ex mX9_dark Q 108 ls st h := Ex_br rfl rfl
theorem rX9_dark_108 (Q : Po) (h : Hp) (ls : List Value) (st : List Value) : Ex mX9_dark Q 108 ls st h = Ex mX9_dark Q 109 ls (.long 1 :: st) h := Ex_nx rfl rfl
theorem rX9_dark_109 (Q : Po) (h : Hp) (l0 l1 l2 l3 l4 l5 l6 l7 l8 l9 l10 l11 l12 l13 l14 l15 : Value) (x : Int64) (st : List Value) : Ex mX9_dark Q 109 [l0, l1, l2, l3, l4, l5, l6, l7, l8, l9, l10, l11, l12, l13, l14, l15] (.long x :: st) h = Ex mX9_dark Q 111 [l0, l1, l2, l3, l4, l5, l6, l7, l8, l9, l10, .long x, .retAddr 1, l13, l14, l15] st h := Ex_nx rfl rfl
theorem rX9_dark_111 (Q : Po) (h : Hp) (ls : List Value) (st : List Value) : Ex mX9_dark Q 111 ls st h = Ex mX9_dark Q 112 ls (.int 0 :: st) h := Ex_nx rfl rfl
theorem rX9_dark_112 (Q : Po) (h : Hp) (l0 l1 l2 l3 l4 l5 l6 l7 l8 l9 l10 l11 l12 l13 l14 l15 : Value) (x : Int32) (st : List Value) : Ex mX9_dark Q 112 [l0, l1, l2, l3, l4, l5, l6, l7, l8, l9, l10, l11, l12, l13, l14, l15] (.int x :: st) h = Ex mX9_dark Q 114 [l0, l1, l2, l3, l4, l5, l6, l7, l8, l9, l10, l11, l12, .int x, l14, l15] st h := Ex_nx rfl rfl
theorem rX9_dark_114 (Q : Po) (h : Hp) (l0 l1 l2 l3 l4 l5 l6 l7 l8 l9 l10 l11 l12 l14 l15 : Value) (x : Int32) (st : List Value) : Ex mX9_dark Q 114 [l0, l1, l2, l3, l4, l5, l6, l7, l8, l9, l10, l11, l12, .int x, l14, l15] st h = Ex mX9_dark Q 116 [l0, l1, l2, l3, l4, l5, l6, l7, l8, l9, l10, l11, l12, .int x, l14, l15] (.int x :: st) h := Ex_nx rfl rfl
theorem rX9_dark_116 (Q : Po) (h : Hp) (l1 l2 l3 l4 l5 l6 l7 l8 l9 l10 l11 l12 l13 l14 l15 : Value) (x : Nat) (st : List Value) : Ex mX9_dark Q 116 [.ref x, l1, l2, l3, l4, l5, l6, l7, l8, l9, l10, l11, l12, l13, l14, l15] st h = Ex mX9_dark Q 117 [.ref x, l1, l2, l3, l4, l5, l6, l7, l8, l9, l10, l11, l12, l13, l14, l15] (.ref x :: st) h := Ex_nx rfl rfl
theorem rX9_dark_117 (Q : Po) (h : Hp) (ls : List Value) (st : List Value) (a : Nat) : Ex mX9_dark Q 117 ls (.ref a :: st) h = (gK h a ∈ ([9] : List Nat) ∧ Ex mX9_dark Q 120 ls (gF h 81 a :: st) h) := Ex_gd rfl rfl
theorem rX9_dark_120 (Q : Po) (h : Hp) (ls : List Value) (st : List Value) : Ex mX9_dark Q 120 ls st h = Ex mX9_dark Q 121 ls (.int 0 :: st) h := Ex_nx rfl rfl
theorem rX9_dark_121 (Q : Po) (h : Hp) (ls : List Value) (st : List Value) (a : Nat) (i : Int32) : Ex mX9_dark Q 121 ls (.int i :: .ref a :: st) h = ((gK h a = 51 ∧ ¬ (i < 0 ∨ gL h a ≤ i.toNatClampNeg)) ∧ Ex mX9_dark Q 122 ls (.int (gI h a i.toNatClampNeg) :: st) h) := Ex_gd rfl rfl
theorem rX9_dark_122 (Q : Po) (h : Hp) (ls : List Value) (st : List Value) (x y : Int32) : Ex mX9_dark Q 122 ls (.int y :: .int x :: st) h = if y ≤ x then Ex mX9_dark Q 170 ls st h else Ex mX9_dark Q 125 ls st h := Ex_br rfl rfl
theorem rX9_dark_125 (Q : Po) (h : Hp) (l0 l1 l2 l3 l4 l5 l6 l7 l8 l9 l10 l13 l14 l15 : Value) (x : Int64) (st : List Value) : Ex mX9_dark Q 125 [l0, l1, l2, l3, l4, l5, l6, l7, l8, l9, l10, .long x, .retAddr 1, l13, l14, l15] st h = Ex mX9_dark Q 127 [l0, l1, l2, l3, l4, l5, l6, l7, l8, l9, l10, .long x, .retAddr 1, l13, l14, l15] (.long x :: st) h := Ex_nx rfl rfl
theorem rX9_dark_127 (Q : Po) (h : Hp) (l0 l1 l2 l3 l4 l6 l7 l8 l9 l10 l11 l12 l13 l14 l15 : Value) (x : Int32) (st : List Value) : Ex mX9_dark Q 127 [l0, l1, l2, l3, l4, .int x, l6, l7, l8, l9, l10, l11, l12, l13, l14, l15] st h = Ex mX9_dark Q 129 [l0, l1, l2, l3, l4, .int x, l6, l7, l8, l9, l10, l11, l12, l13, l14, l15] (.int x :: st) h := Ex_nx rfl rfl
theorem rX9_dark_129 (Q : Po) (h : Hp) (l0 l1 l2 l3 l4 l5 l6 l7 l8 l9 l10 l11 l12 l14 l15 : Value) (x : Int32) (st : List Value) : Ex mX9_dark Q 129 [l0, l1, l2, l3, l4, l5, l6, l7, l8, l9, l10, l11, l12, .int x, l14, l15] st h = Ex mX9_dark Q 131 [l0, l1, l2, l3, l4, l5, l6, l7, l8, l9, l10, l11, l12, .int x, l14, l15] (.int x :: st) h := Ex_nx rfl rfl
theorem rX9_dark_131 (Q : Po) (h : Hp) (ls : List Value) (a0 : Int32) (a1 : Int32) (s0 : Value) : Ex mX9_dark Q 131 ls (.int a1 :: .int a0 :: [s0]) h = Ex mX9_has (Cont mX9_dark Q 131 ls 134 [s0]) 0 [.int a0, .int a1] [] h := Ex_cl (n := 2) (as := [.int a0, .int a1]) rfl rfl
theorem rX9_dark_134 (Q : Po) (h : Hp) (ls : List Value) (st : List Value) (x : Int32) : Ex mX9_dark Q 134 ls (.int x :: st) h = if ¬ x = 0 then Ex mX9_dark Q 141 ls st h else Ex mX9_dark Q 137 ls st h := Ex_br rfl rfl
theorem rX9_dark_137 (Q : Po) (h : Hp) (ls : List Value) (st : List Value) : Ex mX9_dark Q 137 ls st h = Ex mX9_dark Q 138 ls (.long 1 :: st) h := Ex_nx rfl rfl
theorem rX9_dark_138 (Q : Po) (h : Hp) (ls : List Value) (st : List Value) : Ex mX9_dark Q 138 ls st h = Ex mX9_dark Q 161 ls st h := Ex_nx rfl rfl
theorem rX9_dark_141 (Q : Po) (h : Hp) (l0 l1 l2 l3 l4 l5 l6 l7 l8 l9 l11 l12 l13 l14 l15 : Value) (x : Int32) (st : List Value) : Ex mX9_dark Q 141 [l0, l1, l2, l3, l4, l5, l6, l7, l8, l9, .int x, l11, l12, l13, l14, l15] st h = Ex mX9_dark Q 143 [l0, l1, l2, l3, l4, l5, l6, l7, l8, l9, .int x, l11, l12, l13, l14, l15] (.int x :: st) h := Ex_nx rfl rfl
theorem rX9_dark_143 (Q : Po) (h : Hp) (l0 l1 l2 l3 l4 l5 l6 l7 l8 l9 l10 l11 l12 l14 l15 : Value) (x : Int32) (st : List Value) : Ex mX9_dark Q 143 [l0, l1, l2, l3, l4, l5, l6, l7, l8, l9, l10, l11, l12, .int x, l14, l15] st h = Ex mX9_dark Q 145 [l0, l1, l2, l3, l4, l5, l6, l7, l8, l9, l10, l11, l12, .int x, l14, l15] (.int x :: st) h := Ex_nx rfl rfl
theorem rX9_dark_145 (Q : Po) (h : Hp) (ls : List Value) (a0 : Int32) (a1 : Int32) (s0 : Value) : Ex mX9_dark Q 145 ls (.int a1 :: .int a0 :: [s0]) h = Ex mX9_has (Cont mX9_dark Q 145 ls 148 [s0]) 0 [.int a0, .int a1] [] h := Ex_cl (n := 2) (as := [.int a0, .int a1]) rfl rfl
theorem rX9_dark_148 (Q : Po) (h : Hp) (ls : List Value) (st : List Value) (x : Int32) : Ex mX9_dark Q 148 ls (.int x :: st) h = if x = 0 then Ex mX9_dark Q 156 ls st h else Ex mX9_dark Q 151 ls st h := Ex_br rfl rfl
theorem rX9_dark_151 (Q : Po) (h : Hp) (l0 l1 l2 l4 l5 l6 l7 l8 l9 l10 l11 l12 l13 l14 l15 : Value) (x : Int32) (st : List Value) : Ex mX9_dark Q 151 [l0, l1, l2, .int x, l4, l5, l6, l7, l8, l9, l10, l11, l12, l13, l14, l15] st h = Ex mX9_dark Q 152 [l0, l1, l2, .int x, l4, l5, l6, l7, l8, l9, l10, l11, l12, l13, l14, l15] (.int x :: st) h := Ex_nx rfl rfl
theorem rX9_dark_152 (Q : Po) (h : Hp) (ls : List Value) (st : List Value) (x : Int32) : Ex mX9_dark Q 152 ls (.int x :: st) h = Ex mX9_dark Q 153 ls (.long x.toInt64 :: st) h := Ex_nx rfl rfl
theorem rX9_dark_153 (Q : Po) (h : Hp) (ls : List Value) (st : List Value) : Ex mX9_dark Q 153 ls st h = Ex mX9_dark Q 161 ls st h := Ex_nx rfl rfl
theorem rX9_dark_156 (Q : Po) (h : Hp) (ls : List Value) (st : List Value) : Ex mX9_dark Q 156 ls st h = Ex mX9_dark Q 158 ls (.int 10 :: st) h := Ex_nx rfl rfl
theorem rX9_dark_158 (Q : Po) (h : Hp) (l0 l1 l2 l4 l5 l6 l7 l8 l9 l10 l11 l12 l13 l14 l15 : Value) (x : Int32) (st : List Value) : Ex mX9_dark Q 158 [l0, l1, l2, .int x, l4, l5, l6, l7, l8, l9, l10, l11, l12, l13, l14, l15] st h = Ex mX9_dark Q 159 [l0, l1, l2, .int x, l4, l5, l6, l7, l8, l9, l10, l11, l12, l13, l14, l15] (.int x :: st) h := Ex_nx rfl rfl
theorem rX9_dark_159 (Q : Po) (h : Hp) (ls : List Value) (st : List Value) (x y : Int32) : Ex mX9_dark Q 159 ls (.int y :: .int x :: st) h = Ex mX9_dark Q 160 ls (.int (x - y) :: st) h := Ex_nx rfl rfl
theorem rX9_dark_160 (Q : Po) (h : Hp) (ls : List Value) (st : List Value) (x : Int32) : Ex mX9_dark Q 160 ls (.int x :: st) h = Ex mX9_dark Q 161 ls (.long x.toInt64 :: st) h := Ex_nx rfl rfl
theorem rX9_dark_161 (Q : Po) (h : Hp) (ls : List Value) (st : List Value) (x y : Int64) : Ex mX9_dark Q 161 ls (.long y :: .long x :: st) h = Ex mX9_dark Q 162 ls (.long (x * y) :: st) h := Ex_nx rfl rfl
theorem rX9_dark_162 (Q : Po) (h : Hp) (l0 l1 l2 l3 l4 l5 l6 l7 l8 l9 l10 l11 l12 l13 l14 l15 : Value) (x : Int64) (st : List Value) : Ex mX9_dark Q 162 [l0, l1, l2, l3, l4, l5, l6, l7, l8, l9, l10, l11, l12, l13, l14, l15] (.long x :: st) h = Ex mX9_dark Q 164 [l0, l1, l2, l3, l4, l5, l6, l7, l8, l9, l10, .long x, .retAddr 1, l13, l14, l15] st h := Ex_nx rfl rfl
theorem rX9_dark_164 (Q : Po) (h : Hp) (l0 l1 l2 l3 l4 l5 l6 l7 l8 l9 l10 l11 l12 l14 l15 : Value) (x : Int32) (st : List Value) : Ex mX9_dark Q 164 [l0, l1, l2, l3, l4, l5, l6, l7, l8, l9, l10, l11, l12, .int x, l14, l15] st h = Ex mX9_dark Q 167 [l0, l1, l2, l3, l4, l5, l6, l7, l8, l9, l10, l11, l12, .int (x + 1), l14, l15] st h := Ex_nx rfl rfl
theorem rX9_dark_167 (Q : Po) (h : Hp) (ls : List Value) (st : List Value) : Ex mX9_dark Q 167 ls st h = Ex mX9_dark Q 114 ls st h := Ex_nx rfl rfl
theorem rX9_dark_170 (Q : Po) (h : Hp) (l1 l2 l3 l4 l5 l6 l7 l8 l9 l10 l11 l12 l13 l14 l15 : Value) (x : Nat) (st : List Value) : Ex mX9_dark Q 170 [.ref x, l1, l2, l3, l4, l5, l6, l7, l8, l9, l10, l11, l12, l13, l14, l15] st h = Ex mX9_dark Q 171 [.ref x, l1, l2, l3, l4, l5, l6, l7, l8, l9, l10, l11, l12, l13, l14, l15] (.ref x :: st) h := Ex_nx rfl rfl
theorem rX9_dark_171 (Q : Po) (h : Hp) (ls : List Value) (st : List Value) (a : Nat) : Ex mX9_dark Q 171 ls (.ref a :: st) h = (gK h a ∈ ([9] : List Nat) ∧ Ex mX9_dark Q 174 ls (gF h 81 a :: st) h) := Ex_gd rfl rfl
theorem rX9_dark_174 (Q : Po) (h : Hp) (ls : List Value) (st : List Value) : Ex mX9_dark Q 174 ls st h = Ex mX9_dark Q 175 ls (.int 5 :: st) h := Ex_nx rfl rfl
theorem rX9_dark_175 (Q : Po) (h : Hp) (l0 l1 l2 l3 l4 l6 l7 l8 l9 l10 l11 l12 l13 l14 l15 : Value) (x : Int32) (st : List Value) : Ex mX9_dark Q 175 [l0, l1, l2, l3, l4, .int x, l6, l7, l8, l9, l10, l11, l12, l13, l14, l15] st h = Ex mX9_dark Q 177 [l0, l1, l2, l3, l4, .int x, l6, l7, l8, l9, l10, l11, l12, l13, l14, l15] (.int x :: st) h := Ex_nx rfl rfl
theorem rX9_dark_177 (Q : Po) (h : Hp) (l0 l1 l2 l3 l4 l5 l6 l7 l8 l9 l11 l12 l13 l14 l15 : Value) (x : Int32) (st : List Value) : Ex mX9_dark Q 177 [l0, l1, l2, l3, l4, l5, l6, l7, l8, l9, .int x, l11, l12, l13, l14, l15] st h = Ex mX9_dark Q 179 [l0, l1, l2, l3, l4, l5, l6, l7, l8, l9, .int x, l11, l12, l13, l14, l15] (.int x :: st) h := Ex_nx rfl rfl
theorem rX9_dark_179 (Q : Po) (h : Hp) (ls : List Value) (st : List Value) : Ex mX9_dark Q 179 ls st h = Ex mX9_dark Q 180 ls (.int (-1) :: st) h := Ex_nx rfl rfl
theorem rX9_dark_180 (Q : Po) (h : Hp) (ls : List Value) (st : List Value) (x y : Int32) : Ex mX9_dark Q 180 ls (.int y :: .int x :: st) h = Ex mX9_dark Q 181 ls (.int (x ^^^ y) :: st) h := Ex_nx rfl rfl
theorem rX9_dark_181 (Q : Po) (h : Hp) (ls : List Value) (st : List Value) (x y : Int32) : Ex mX9_dark Q 181 ls (.int y :: .int x :: st) h = Ex mX9_dark Q 182 ls (.int (x &&& y) :: st) h := Ex_nx rfl rfl
theorem rX9_dark_182 (Q : Po) (h : Hp) (ls : List Value) (st : List Value) (a : Nat) (i x : Int32) : Ex mX9_dark Q 182 ls (.int x :: .int i :: .ref a :: st) h = ((gK h a = 51 ∧ ¬ (i < 0 ∨ gL h a ≤ i.toNatClampNeg)) ∧ Ex mX9_dark Q 183 ls st (pI h a i.toNatClampNeg (x))) := Ex_gd rfl rfl
theorem rX9_dark_183 (Q : Po) (h : Hp) (l0 l1 l2 l3 l4 l5 l8 l9 l10 l11 l12 l13 l14 l15 : Value) (x : Int64) (st : List Value) : Ex mX9_dark Q 183 [l0, l1, l2, l3, l4, l5, .long x, .retAddr 1, l8, l9, l10, l11, l12, l13, l14, l15] st h = Ex mX9_dark Q 185 [l0, l1, l2, l3, l4, l5, .long x, .retAddr 1, l8, l9, l10, l11, l12, l13, l14, l15] (.long x :: st) h := Ex_nx rfl rfl
theorem rX9_dark_185 (Q : Po) (h : Hp) (l1 l2 l3 l4 l5 l6 l7 l8 l9 l10 l11 l12 l13 l14 l15 : Value) (x : Nat) (st : List Value) : Ex mX9_dark Q 185 [.ref x, l1, l2, l3, l4, l5, l6, l7, l8, l9, l10, l11, l12, l13, l14, l15] st h = Ex mX9_dark Q 186 [.ref x, l1, l2, l3, l4, l5, l6, l7, l8, l9, l10, l11, l12, l13, l14, l15] (.ref x :: st) h := Ex_nx rfl rfl
theorem rX9_dark_186 (Q : Po) (h : Hp) (l0 l2 l3 l4 l5 l6 l7 l8 l9 l10 l11 l12 l13 l14 l15 : Value) (x : Int32) (st : List Value) : Ex mX9_dark Q 186 [l0, .int x, l2, l3, l4, l5, l6, l7, l8, l9, l10, l11, l12, l13, l14, l15] st h = Ex mX9_dark Q 187 [l0, .int x, l2, l3, l4, l5, l6, l7, l8, l9, l10, l11, l12, l13, l14, l15] (.int x :: st) h := Ex_nx rfl rfl
theorem rX9_dark_187 (Q : Po) (h : Hp) (l0 l1 l3 l4 l5 l6 l7 l8 l9 l10 l11 l12 l13 l14 l15 : Value) (x : Int32) (st : List Value) : Ex mX9_dark Q 187 [l0, l1, .int x, l3, l4, l5, l6, l7, l8, l9, l10, l11, l12, l13, l14, l15] st h = Ex mX9_dark Q 188 [l0, l1, .int x, l3, l4, l5, l6, l7, l8, l9, l10, l11, l12, l13, l14, l15] (.int x :: st) h := Ex_nx rfl rfl
theorem rX9_dark_188 (Q : Po) (h : Hp) (ls : List Value) (a0 : Int32) (a1 : Int32) (s0 : Value) (b : Nat) : Ex mX9_dark Q 188 ls (.int a1 :: .int a0 :: .ref b :: [s0]) h = (gK h b = 9 ∧ Ex mX9_pagesBehind (Cont mX9_dark Q 188 ls 191 [s0]) 0 [.ref b, .int a0, .int a1, .retAddr 0] [] h) := Ex_cg (n := 4) (as := [.ref b, .int a0, .int a1]) rfl rfl
theorem rX9_dark_191 (Q : Po) (h : Hp) (ls : List Value) (st : List Value) (x : Int32) : Ex mX9_dark Q 191 ls (.int x :: st) h = if x ≤ 0 then Ex mX9_dark Q 199 ls st h else Ex mX9_dark Q 194 ls st h := Ex_br rfl rfl
theorem rX9_dark_194 (Q : Po) (h : Hp) (l0 l1 l2 l3 l4 l5 l6 l7 l8 l9 l10 l13 l14 l15 : Value) (x : Int64) (st : List Value) : Ex mX9_dark Q 194 [l0, l1, l2, l3, l4, l5, l6, l7, l8, l9, l10, .long x, .retAddr 1, l13, l14, l15] st h = Ex mX9_dark Q 196 [l0, l1, l2, l3, l4, l5, l6, l7, l8, l9, l10, .long x, .retAddr 1, l13, l14, l15] (.long x :: st) h := Ex_nx rfl rfl
theorem rX9_dark_196 (Q : Po) (h : Hp) (ls : List Value) (st : List Value) : Ex mX9_dark Q 196 ls st h = Ex mX9_dark Q 200 ls st h := Ex_nx rfl rfl
theorem rX9_dark_199 (Q : Po) (h : Hp) (ls : List Value) (st : List Value) : Ex mX9_dark Q 199 ls st h = Ex mX9_dark Q 200 ls (.long 0 :: st) h := Ex_nx rfl rfl
theorem rX9_dark_200 (Q : Po) (h : Hp) (ls : List Value) (st : List Value) (x y : Int64) : Ex mX9_dark Q 200 ls (.long y :: .long x :: st) h = Ex mX9_dark Q 201 ls (.long (x + y) :: st) h := Ex_nx rfl rfl
theorem rX9_dark_201 (Q : Po) (h : Hp) (l0 l1 l2 l3 l4 l5 l6 l7 l8 l9 l10 l11 l12 l13 l14 l15 : Value) (x : Int64) (st : List Value) : Ex mX9_dark Q 201 [l0, l1, l2, l3, l4, l5, l6, l7, l8, l9, l10, l11, l12, l13, l14, l15] (.long x :: st) h = Ex mX9_dark Q 203 [l0, l1, l2, l3, l4, l5, .long x, .retAddr 1, l8, l9, l10, l11, l12, l13, l14, l15] st h := Ex_nx rfl rfl
theorem rX9_dark_203 (Q : Po) (h : Hp) (l0 l1 l2 l3 l4 l5 l6 l7 l8 l9 l11 l12 l13 l14 l15 : Value) (x : Int32) (st : List Value) : Ex mX9_dark Q 203 [l0, l1, l2, l3, l4, l5, l6, l7, l8, l9, .int x, l11, l12, l13, l14, l15] st h = Ex mX9_dark Q 206 [l0, l1, l2, l3, l4, l5, l6, l7, l8, l9, .int (x + 1), l11, l12, l13, l14, l15] st h := Ex_nx rfl rfl
theorem rX9_dark_206 (Q : Po) (h : Hp) (ls : List Value) (st : List Value) : Ex mX9_dark Q 206 ls st h = Ex mX9_dark Q 91 ls st h := Ex_nx rfl rfl
theorem rX9_dark_209 (Q : Po) (h : Hp) (l0 l1 l2 l3 l4 l5 l8 l9 l10 l11 l12 l13 l14 l15 : Value) (x : Int64) (st : List Value) : Ex mX9_dark Q 209 [l0, l1, l2, l3, l4, l5, .long x, .retAddr 1, l8, l9, l10, l11, l12, l13, l14, l15] st h = Ex mX9_dark Q 211 [l0, l1, l2, l3, l4, l5, .long x, .retAddr 1, l8, l9, l10, l11, l12, l13, l14, l15] (.long x :: st) h := Ex_nx rfl rfl
theorem rX9_dark_211 (Q : Po) (h : Hp) (l0 l1 l2 l3 l4 l5 l6 l7 l8 l9 l10 l11 l12 l13 l14 l15 : Value) (x : Int64) (st : List Value) : Ex mX9_dark Q 211 [l0, l1, l2, l3, l4, l5, l6, l7, l8, l9, l10, l11, l12, l13, l14, l15] (.long x :: st) h = Ex mX9_dark Q 213 [l0, l1, l2, l3, l4, l5, l6, l7, l8, l9, .long x, .retAddr 1, l12, l13, l14, l15] st h := Ex_nx rfl rfl
theorem rX9_dark_213 (Q : Po) (h : Hp) (l0 l1 l2 l3 l4 l5 l6 l7 l10 l11 l12 l13 l14 l15 : Value) (x : Int64) (st : List Value) : Ex mX9_dark Q 213 [l0, l1, l2, l3, l4, l5, l6, l7, .long x, .retAddr 1, l10, l11, l12, l13, l14, l15] st h = Ex mX9_dark Q 215 [l0, l1, l2, l3, l4, l5, l6, l7, .long x, .retAddr 1, l10, l11, l12, l13, l14, l15] (.long x :: st) h := Ex_nx rfl rfl
theorem rX9_dark_215 (Q : Po) (h : Hp) (l0 l1 l2 l3 l4 l5 l6 l7 l8 l9 l10 l11 l12 l13 l14 l15 : Value) (x : Int64) (st : List Value) : Ex mX9_dark Q 215 [l0, l1, l2, l3, l4, l5, l6, l7, l8, l9, l10, l11, l12, l13, l14, l15] (.long x :: st) h = Ex mX9_dark Q 217 [l0, l1, l2, l3, l4, l5, l6, l7, l8, l9, l10, l11, .long x, .retAddr 1, l14, l15] st h := Ex_nx rfl rfl
theorem rX9_dark_217 (Q : Po) (h : Hp) (l0 l1 l2 l3 l4 l5 l6 l7 l8 l9 l10 l11 l14 l15 : Value) (x : Int64) (st : List Value) : Ex mX9_dark Q 217 [l0, l1, l2, l3, l4, l5, l6, l7, l8, l9, l10, l11, .long x, .retAddr 1, l14, l15] st h = Ex mX9_dark Q 219 [l0, l1, l2, l3, l4, l5, l6, l7, l8, l9, l10, l11, .long x, .retAddr 1, l14, l15] (.long x :: st) h := Ex_nx rfl rfl
theorem rX9_dark_219 (Q : Po) (h : Hp) (ls : List Value) (st : List Value) : Ex mX9_dark Q 219 ls st h = Ex mX9_dark Q 220 ls (.long 0 :: st) h := Ex_nx rfl rfl
theorem rX9_dark_220 (Q : Po) (h : Hp) (ls : List Value) (st : List Value) (x y : Int64) : Ex mX9_dark Q 220 ls (.long y :: .long x :: st) h = Ex mX9_dark Q 221 ls (.int (lg_cmp x y) :: st) h := Ex_nx rfl rfl
theorem rX9_dark_221 (Q : Po) (h : Hp) (ls : List Value) (st : List Value) (x : Int32) : Ex mX9_dark Q 221 ls (.int x :: st) h = if x = 0 then Ex mX9_dark Q 242 ls st h else Ex mX9_dark Q 224 ls st h := Ex_br rfl rfl
theorem rX9_dark_224 (Q : Po) (h : Hp) (l0 l1 l2 l3 l4 l5 l6 l7 l8 l9 l12 l13 l14 l15 : Value) (x : Int64) (st : List Value) : Ex mX9_dark Q 224 [l0, l1, l2, l3, l4, l5, l6, l7, l8, l9, .long x, .retAddr 1, l12, l13, l14, l15] st h = Ex mX9_dark Q 226 [l0, l1, l2, l3, l4, l5, l6, l7, l8, l9, .long x, .retAddr 1, l12, l13, l14, l15] (.long x :: st) h := Ex_nx rfl rfl
theorem rX9_dark_226 (Q : Po) (h : Hp) (l0 l1 l2 l3 l4 l5 l6 l7 l8 l9 l10 l11 l14 l15 : Value) (x : Int64) (st : List Value) : Ex mX9_dark Q 226 [l0, l1, l2, l3, l4, l5, l6, l7, l8, l9, l10, l11, .long x, .retAddr 1, l14, l15] st h = Ex mX9_dark Q 228 [l0, l1, l2, l3, l4, l5, l6, l7, l8, l9, l10, l11, .long x, .retAddr 1, l14, l15] (.long x :: st) h := Ex_nx rfl rfl
theorem rX9_dark_228 (Q : Po) (h : Hp) (ls : List Value) (st : List Value) (x y : Int64) : Ex mX9_dark Q 228 ls (.long y :: .long x :: st) h = (¬ y = 0 ∧ Ex mX9_dark Q 229 ls (.long (x - x / y * y) :: st) h) := Ex_gd rfl rfl
theorem rX9_dark_229 (Q : Po) (h : Hp) (l0 l1 l2 l3 l4 l5 l6 l7 l8 l9 l10 l11 l12 l13 l14 l15 : Value) (x : Int64) (st : List Value) : Ex mX9_dark Q 229 [l0, l1, l2, l3, l4, l5, l6, l7, l8, l9, l10, l11, l12, l13, l14, l15] (.long x :: st) h = Ex mX9_dark Q 231 [l0, l1, l2, l3, l4, l5, l6, l7, l8, l9, l10, l11, l12, l13, .long x, .retAddr 1] st h := Ex_nx rfl rfl
theorem rX9_dark_231 (Q : Po) (h : Hp) (l0 l1 l2 l3 l4 l5 l6 l7 l8 l9 l10 l11 l14 l15 : Value) (x : Int64) (st : List Value) : Ex mX9_dark Q 231 [l0, l1, l2, l3, l4, l5, l6, l7, l8, l9, l10, l11, .long x, .retAddr 1, l14, l15] st h = Ex mX9_dark Q 233 [l0, l1, l2, l3, l4, l5, l6, l7, l8, l9, l10, l11, .long x, .retAddr 1, l14, l15] (.long x :: st) h := Ex_nx rfl rfl
theorem rX9_dark_233 (Q : Po) (h : Hp) (l0 l1 l2 l3 l4 l5 l6 l7 l8 l9 l10 l11 l12 l13 l14 l15 : Value) (x : Int64) (st : List Value) : Ex mX9_dark Q 233 [l0, l1, l2, l3, l4, l5, l6, l7, l8, l9, l10, l11, l12, l13, l14, l15] (.long x :: st) h = Ex mX9_dark Q 235 [l0, l1, l2, l3, l4, l5, l6, l7, l8, l9, .long x, .retAddr 1, l12, l13, l14, l15] st h := Ex_nx rfl rfl
theorem rX9_dark_235 (Q : Po) (h : Hp) (l0 l1 l2 l3 l4 l5 l6 l7 l8 l9 l10 l11 l12 l13 : Value) (x : Int64) (st : List Value) : Ex mX9_dark Q 235 [l0, l1, l2, l3, l4, l5, l6, l7, l8, l9, l10, l11, l12, l13, .long x, .retAddr 1] st h = Ex mX9_dark Q 237 [l0, l1, l2, l3, l4, l5, l6, l7, l8, l9, l10, l11, l12, l13, .long x, .retAddr 1] (.long x :: st) h := Ex_nx rfl rfl
theorem rX9_dark_237 (Q : Po) (h : Hp) (l0 l1 l2 l3 l4 l5 l6 l7 l8 l9 l10 l11 l12 l13 l14 l15 : Value) (x : Int64) (st : List Value) : Ex mX9_dark Q 237 [l0, l1, l2, l3, l4, l5, l6, l7, l8, l9, l10, l11, l12, l13, l14, l15] (.long x :: st) h = Ex mX9_dark Q 239 [l0, l1, l2, l3, l4, l5, l6, l7, l8, l9, l10, l11, .long x, .retAddr 1, l14, l15] st h := Ex_nx rfl rfl
theorem rX9_dark_239 (Q : Po) (h : Hp) (ls : List Value) (st : List Value) : Ex mX9_dark Q 239 ls st h = Ex mX9_dark Q 217 ls st h := Ex_nx rfl rfl
theorem rX9_dark_242 (Q : Po) (h : Hp) (l0 l1 l2 l3 l5 l6 l7 l8 l9 l10 l11 l12 l13 l14 l15 : Value) (x : Int32) (st : List Value) : Ex mX9_dark Q 242 [l0, l1, l2, l3, .int x, l5, l6, l7, l8, l9, l10, l11, l12, l13, l14, l15] st h = Ex mX9_dark Q 244 [l0, l1, l2, l3, .int x, l5, l6, l7, l8, l9, l10, l11, l12, l13, l14, l15] (.int x :: st) h := Ex_nx rfl rfl
theorem rX9_dark_244 (Q : Po) (h : Hp) (ls : List Value) (st : List Value) (x : Int32) : Ex mX9_dark Q 244 ls (.int x :: st) h = if ¬ x = 0 then Ex mX9_dark Q 255 ls st h else Ex mX9_dark Q 247 ls st h := Ex_br rfl rfl
theorem rX9_dark_247 (Q : Po) (h : Hp) (l0 l1 l2 l3 l4 l5 l8 l9 l10 l11 l12 l13 l14 l15 : Value) (x : Int64) (st : List Value) : Ex mX9_dark Q 247 [l0, l1, l2, l3, l4, l5, .long x, .retAddr 1, l8, l9, l10, l11, l12, l13, l14, l15] st h = Ex mX9_dark Q 249 [l0, l1, l2, l3, l4, l5, .long x, .retAddr 1, l8, l9, l10, l11, l12, l13, l14, l15] (.long x :: st) h := Ex_nx rfl rfl
theorem rX9_dark_249 (Q : Po) (h : Hp) (l0 l1 l2 l3 l4 l5 l6 l7 l8 l9 l12 l13 l14 l15 : Value) (x : Int64) (st : List Value) : Ex mX9_dark Q 249 [l0, l1, l2, l3, l4, l5, l6, l7, l8, l9, .long x, .retAddr 1, l12, l13, l14, l15] st h = Ex mX9_dark Q 251 [l0, l1, l2, l3, l4, l5, l6, l7, l8, l9, .long x, .retAddr 1, l12, l13, l14, l15] (.long x :: st) h := Ex_nx rfl rfl
theorem rX9_dark_251 (Q : Po) (h : Hp) (ls : List Value) (st : List Value) (x y : Int64) : Ex mX9_dark Q 251 ls (.long y :: .long x :: st) h = (¬ y = 0 ∧ Ex mX9_dark Q 252 ls (.long (x / y) :: st) h) := Ex_gd rfl rfl
theorem rX9_dark_252 (Q : Po) (h : Hp) (ls : List Value) (st : List Value) : Ex mX9_dark Q 252 ls st h = Ex mX9_dark Q 260 ls st h := Ex_nx rfl rfl
theorem rX9_dark_255 (Q : Po) (h : Hp) (l0 l1 l2 l3 l4 l5 l6 l7 l10 l11 l12 l13 l14 l15 : Value) (x : Int64) (st : List Value) : Ex mX9_dark Q 255 [l0, l1, l2, l3, l4, l5, l6, l7, .long x, .retAddr 1, l10, l11, l12, l13, l14, l15] st h = Ex mX9_dark Q 257 [l0, l1, l2, l3, l4, l5, l6, l7, .long x, .retAddr 1, l10, l11, l12, l13, l14, l15] (.long x :: st) h := Ex_nx rfl rfl
theorem rX9_dark_257 (Q : Po) (h : Hp) (l0 l1 l2 l3 l4 l5 l6 l7 l8 l9 l12 l13 l14 l15 : Value) (x : Int64) (st : List Value) : Ex mX9_dark Q 257 [l0, l1, l2, l3, l4, l5, l6, l7, l8, l9, .long x, .retAddr 1, l12, l13, l14, l15] st h = Ex mX9_dark Q 259 [l0, l1, l2, l3, l4, l5, l6, l7, l8, l9, .long x, .retAddr 1, l12, l13, l14, l15] (.long x :: st) h := Ex_nx rfl rfl
theorem rX9_dark_259 (Q : Po) (h : Hp) (ls : List Value) (st : List Value) (x y : Int64) : Ex mX9_dark Q 259 ls (.long y :: .long x :: st) h = (¬ y = 0 ∧ Ex mX9_dark Q 260 ls (.long (x / y) :: st) h) := Ex_gd rfl rfl
theorem rX9_dark_260 (Q : Po) (h : Hp) (ls : List Value) (x : Int64) : Ex mX9_dark Q 260 ls [.long x] h = Q (.inl (some (.long x))) h := Ex_rt rfl rfl
theorem rX9_dark_t (Q : Po) (h : Hp) (pc n a : Nat) (ls st : List Value) : Cont mX9_dark Q pc ls n st (.inr a) h = Q (.inr a) h := rfl
/-! FishReadersModel.drawn(III)I -/
def mX9_drawn : Cd := ([(0, .inl (i_aload 0 1)),
  (1, .inl (i_getf 78 [9] 4)),
  (4, .inl (i_if (fun x => ¬ x = 0) 10 7)),
  (7, .inl (i_push (.int (-1000002)) 9)),
  (9, .inl i_iret),
  (10, .inl (i_iload 1 11)),
  (11, .inl (i_i2l 12)),
  (12, .inl (i_push (.long 0) 13)),
  (13, .inl (i_push (.long 60) 16)),
  (16, .inr (c_S 3 19 6 (Mt mX9_in 6))),
  (19, .inl (i_if (fun x => x = 0) 41 22)),
  (22, .inl (i_iload 2 23)),
  (23, .inl (i_i2l 24)),
  (24, .inl (i_push (.long 1) 25)),
  (25, .inl (i_push (.long 999999) 28)),
  (28, .inr (c_S 3 31 6 (Mt mX9_in 6))),
  (31, .inl (i_if (fun x => x = 0) 41 34)),
  (34, .inl (i_iload 3 35)),
  (35, .inr (c_S 1 38 1 (Mt mX9_isWhat 1))),
  (38, .inl (i_if (fun x => ¬ x = 0) 44 41)),
  (41, .inl (i_push (.int (-1000001)) 43)),
  (43, .inl i_iret),
  (44, .inl (i_aload 0 45)),
  (45, .inr (c_V 0 48 2 9 (Mt mX9_putAside 2))),
  (48, .inl (i_iload 2 49)),
  (49, .inl (i_i2l 50)),
  (50, .inl (i_lstore 4 52)),
  (52, .inl (i_push (.int 0) 53)),
  (53, .inl (i_istore 6 55)),
  (55, .inl (i_iload 6 57)),
  (57, .inl (i_iload 1 58)),
  (58, .inl (i_icmp (fun x y => y ≤ x) 194 61)),
  (61, .inl (i_lload 4 63)),
  (63, .inl (i_push (.long 16807) 66)),
  (66, .inl (i_lbin (fun x y => x * y) 67)),
  (67, .inl (i_push (.long 2147483647) 70)),
  (70, .inl (i_lbing (fun x y => x - x / y * y) 71)),
  (71, .inl (i_lstore 4 73)),
  (73, .inl (i_lload 4 75)),
  (75, .inl (i_aload 0 76)),
  (76, .inl (i_getf 81 [9] 79)),
  (79, .inl (i_push (.int 0) 80)),
  (80, .inl (i_iald 51 81)),
  (81, .inl (i_i2l 82)),
  (82, .inl (i_lbing (fun x y => x - x / y * y) 83)),
  (83, .inl (i_l2i 84)),
  (84, .inl (i_istore 7 86)),
  (86, .inl (i_aload 0 87)),
  (87, .inl (i_getf 81 [9] 90)),
  (90, .inl (i_push (.int 5) 91)),
  (91, .inl (i_iald 51 92)),
  (92, .inl (i_iload 7 94)),
  (94, .inr (c_S 2 97 2 (Mt mX9_has 2))),
  (97, .inl (i_if (fun x => x = 0) 142 100)),
  (100, .inl (i_aload 0 101)),
  (101, .inl (i_getf 81 [9] 104)),
  (104, .inl (i_push (.int 5) 105)),
  (105, .inl (i_lload 4 107)),
  (107, .inl (i_push (.long 5) 110)),
  (110, .inl (i_lbing (fun x y => x - x / y * y) 111)),
  (111, .inl (i_push (.long 0) 112)),
  (112, .inl (i_lcmp 113)),
  (113, .inl (i_if (fun x => ¬ x = 0) 132 116)),
  (116, .inl (i_aload 0 117)),
  (117, .inl (i_getf 81 [9] 120)),
  (120, .inl (i_push (.int 5) 121)),
  (121, .inl (i_iald 51 122)),
  (122, .inl (i_push (.int 1) 123)),
  (123, .inl (i_iload 7 125)),
  (125, .inl (i_bin (fun x y => x <<< (y &&& 31)) 126)),
  (126, .inl (i_push (.int (-1)) 127)),
  (127, .inl (i_bin (fun x y => x ^^^ y) 128)),
  (128, .inl (i_bin (fun x y => x &&& y) 129)),
  (129, .inl (i_goto 138)),
  (132, .inl (i_aload 0 133)),
  (133, .inl (i_getf 81 [9] 136)),
  (136, .inl (i_push (.int 5) 137)),
  (137, .inl (i_iald 51 138)),
  (138, .inl (i_iast 51 (fun x => x) 139)),
  (139, .inl (i_goto 184)),
  (142, .inl (i_lload 4 144)),
  (144, .inl (i_push (.long 3) 147)),
  (147, .inl (i_lbing (fun x y => x - x / y * y) 148)),
  (148, .inl (i_push (.long 0) 149)),
  (149, .inl (i_lcmp 150)),
  (150, .inl (i_if (fun x => ¬ x = 0) 184 153)),
  (153, .inl (i_aload 0 154)),
  (154, .inl (i_getf 81 [9] 157)),
  (157, .inl (i_push (.int 5) 158)),
  (158, .inl (i_iald 51 159)),
  (159, .inr (c_S 1 162 3 (Mt mX9_ones 3))),
  (162, .inl (i_aload 0 163)),
  (163, .inl (i_getf 81 [9] 166)),
  (166, .inl (i_push (.int 3) 167)),
  (167, .inl (i_iald 51 168)),
  (168, .inl (i_icmp (fun x y => y ≤ x) 184 171)),
  (171, .inl (i_aload 0 172)),
  (172, .inl (i_getf 81 [9] 175)),
  (175, .inl (i_push (.int 5) 176)),
  (176, .inl (i_dup2 177)),
  (177, .inl (i_iald 51 178)),
  (178, .inl (i_push (.int 1) 179)),
  (179, .inl (i_iload 7 181)),
  (181, .inl (i_bin (fun x y => x <<< (y &&& 31)) 182)),
  (182, .inl (i_bin (fun x y => x ||| y) 183)),
  (183, .inl (i_iast 51 (fun x => x) 184)),
  (184, .inl (i_aload 0 185)),
  (185, .inr (c_V 0 188 2 9 (Mt mX9_oneNight 2))),
  (188, .inl (i_iinc 6 1 191)),
  (191, .inl (i_goto 55)),
  (194, .inl (i_iload 3 195)),
  (195, .inl (i_if (fun x => ¬ x = 0) 205 198)),
  (198, .inl (i_aload 0 199)),
  (199, .inr (c_V 0 202 3 9 (Mt mX9_allPages 3))),
  (202, .inl (i_goto 212)),
  (205, .inl (i_aload 0 206)),
  (206, .inr (c_V 0 209 3 9 (Mt mX9_emptySet 3))),
  (209, .inr (c_S 1 212 3 (Mt mX9_ones 3))),
  (212, .inl (i_istore 6 214)),
  (214, .inl (i_aload 0 215)),
  (215, .inr (c_V 0 218 2 9 (Mt mX9_takeBack 2))),
  (218, .inl (i_iload 6 220)),
  (220, .inl i_iret)], noH)
theorem rX9_drawn_0 (Q : Po) (h : Hp) (l1 l2 l3 l4 l5 l6 l7 : Value) (x : Nat) (st : List Value) : Ex mX9_drawn Q 0 [.ref x, l1, l2, l3, l4, l5, l6, l7] st h = Ex mX9_drawn Q 1 [.ref x, l1, l2, l3, l4, l5, l6, l7] (.ref x :: st) h := Ex_nx rfl rfl
theorem rX9_drawn_1 (Q : Po) (h : Hp) (ls : List Value) (st : List Value) (a : Nat) : Ex mX9_drawn Q 1 ls (.ref a :: st) h = (gK h a ∈ ([9] : List Nat) ∧ Ex mX9_drawn Q 4 ls (gF h 78 a :: st) h) := Ex_gd rfl rfl
theorem rX9_drawn_4 (Q : Po) (h : Hp) (ls : List Value) (st : List Value) (x : Int32) : Ex mX9_drawn Q 4 ls (.int x :: st) h = if ¬ x = 0 then Ex mX9_drawn Q 10 ls st h else Ex mX9_drawn Q 7 ls st h := Ex_br rfl rfl
theorem rX9_drawn_7 (Q : Po) (h : Hp) (ls : List Value) (st : List Value) : Ex mX9_drawn Q 7 ls st h = Ex mX9_drawn Q 9 ls (.int (-1000002) :: st) h := Ex_nx rfl rfl
theorem rX9_drawn_9 (Q : Po) (h : Hp) (ls : List Value) (x : Int32) : Ex mX9_drawn Q 9 ls [.int x] h = Q (.inl (some (.int x))) h := Ex_rt rfl rfl
theorem rX9_drawn_10 (Q : Po) (h : Hp) (l0 l2 l3 l4 l5 l6 l7 : Value) (x : Int32) (st : List Value) : Ex mX9_drawn Q 10 [l0, .int x, l2, l3, l4, l5, l6, l7] st h = Ex mX9_drawn Q 11 [l0, .int x, l2, l3, l4, l5, l6, l7] (.int x :: st) h := Ex_nx rfl rfl
theorem rX9_drawn_11 (Q : Po) (h : Hp) (ls : List Value) (st : List Value) (x : Int32) : Ex mX9_drawn Q 11 ls (.int x :: st) h = Ex mX9_drawn Q 12 ls (.long x.toInt64 :: st) h := Ex_nx rfl rfl
theorem rX9_drawn_12 (Q : Po) (h : Hp) (ls : List Value) (st : List Value) : Ex mX9_drawn Q 12 ls st h = Ex mX9_drawn Q 13 ls (.long 0 :: st) h := Ex_nx rfl rfl
theorem rX9_drawn_13 (Q : Po) (h : Hp) (ls : List Value) (st : List Value) : Ex mX9_drawn Q 13 ls st h = Ex mX9_drawn Q 16 ls (.long 60 :: st) h := Ex_nx rfl rfl
theorem rX9_drawn_16 (Q : Po) (h : Hp) (ls : List Value) (a0 : Int64) (a1 : Int64) (a2 : Int64) : Ex mX9_drawn Q 16 ls (.long a2 :: .long a1 :: .long a0 :: []) h = Ex mX9_in (Cont mX9_drawn Q 16 ls 19 []) 0 [.long a0, .retAddr 1, .long a1, .retAddr 1, .long a2, .retAddr 1] [] h := Ex_cl (n := 6) (as := [.long a0, .long a1, .long a2]) rfl rfl
theorem rX9_drawn_19 (Q : Po) (h : Hp) (ls : List Value) (st : List Value) (x : Int32) : Ex mX9_drawn Q 19 ls (.int x :: st) h = if x = 0 then Ex mX9_drawn Q 41 ls st h else Ex mX9_drawn Q 22 ls st h := Ex_br rfl rfl
theorem rX9_drawn_22 (Q : Po) (h : Hp) (l0 l1 l3 l4 l5 l6 l7 : Value) (x : Int32) (st : List Value) : Ex mX9_drawn Q 22 [l0, l1, .int x, l3, l4, l5, l6, l7] st h = Ex mX9_drawn Q 23 [l0, l1, .int x, l3, l4, l5, l6, l7] (.int x :: st) h := Ex_nx rfl rfl
theorem rX9_drawn_23 (Q : Po) (h : Hp) (ls : List Value) (st : List Value) (x : Int32) : Ex mX9_drawn Q 23 ls (.int x :: st) h = Ex mX9_drawn Q 24 ls (.long x.toInt64 :: st) h := Ex_nx rfl rfl
theorem rX9_drawn_24 (Q : Po) (h : Hp) (ls : List Value) (st : List Value) : Ex mX9_drawn Q 24 ls st h = Ex mX9_drawn Q 25 ls (.long 1 :: st) h := Ex_nx rfl rfl
theorem rX9_drawn_25 (Q : Po) (h : Hp) (ls : List Value) (st : List Value) : Ex mX9_drawn Q 25 ls st h = Ex mX9_drawn Q 28 ls (.long 999999 :: st) h := Ex_nx rfl rfl
theorem rX9_drawn_28 (Q : Po) (h : Hp) (ls : List Value) (a0 : Int64) (a1 : Int64) (a2 : Int64) : Ex mX9_drawn Q 28 ls (.long a2 :: .long a1 :: .long a0 :: []) h = Ex mX9_in (Cont mX9_drawn Q 28 ls 31 []) 0 [.long a0, .retAddr 1, .long a1, .retAddr 1, .long a2, .retAddr 1] [] h := Ex_cl (n := 6) (as := [.long a0, .long a1, .long a2]) rfl rfl
theorem rX9_drawn_31 (Q : Po) (h : Hp) (ls : List Value) (st : List Value) (x : Int32) : Ex mX9_drawn Q 31 ls (.int x :: st) h = if x = 0 then Ex mX9_drawn Q 41 ls st h else Ex mX9_drawn Q 34 ls st h := Ex_br rfl rfl
theorem rX9_drawn_34 (Q : Po) (h : Hp) (l0 l1 l2 l4 l5 l6 l7 : Value) (x : Int32) (st : List Value) : Ex mX9_drawn Q 34 [l0, l1, l2, .int x, l4, l5, l6, l7] st h = Ex mX9_drawn Q 35 [l0, l1, l2, .int x, l4, l5, l6, l7] (.int x :: st) h := Ex_nx rfl rfl
theorem rX9_drawn_35 (Q : Po) (h : Hp) (ls : List Value) (a0 : Int32) : Ex mX9_drawn Q 35 ls (.int a0 :: []) h = Ex mX9_isWhat (Cont mX9_drawn Q 35 ls 38 []) 0 [.int a0] [] h := Ex_cl (n := 1) (as := [.int a0]) rfl rfl
theorem rX9_drawn_38 (Q : Po) (h : Hp) (ls : List Value) (st : List Value) (x : Int32) : Ex mX9_drawn Q 38 ls (.int x :: st) h = if ¬ x = 0 then Ex mX9_drawn Q 44 ls st h else Ex mX9_drawn Q 41 ls st h := Ex_br rfl rfl
theorem rX9_drawn_41 (Q : Po) (h : Hp) (ls : List Value) (st : List Value) : Ex mX9_drawn Q 41 ls st h = Ex mX9_drawn Q 43 ls (.int (-1000001) :: st) h := Ex_nx rfl rfl
theorem rX9_drawn_43 (Q : Po) (h : Hp) (ls : List Value) (x : Int32) : Ex mX9_drawn Q 43 ls [.int x] h = Q (.inl (some (.int x))) h := Ex_rt rfl rfl
theorem rX9_drawn_44 (Q : Po) (h : Hp) (l1 l2 l3 l4 l5 l6 l7 : Value) (x : Nat) (st : List Value) : Ex mX9_drawn Q 44 [.ref x, l1, l2, l3, l4, l5, l6, l7] st h = Ex mX9_drawn Q 45 [.ref x, l1, l2, l3, l4, l5, l6, l7] (.ref x :: st) h := Ex_nx rfl rfl
theorem rX9_drawn_45 (Q : Po) (h : Hp) (ls : List Value) (b : Nat) : Ex mX9_drawn Q 45 ls (.ref b :: []) h = (gK h b = 9 ∧ Ex mX9_putAside (Cont mX9_drawn Q 45 ls 48 []) 0 [.ref b, .retAddr 0] [] h) := Ex_cg (n := 2) (as := [.ref b]) rfl rfl
theorem rX9_drawn_48 (Q : Po) (h : Hp) (l0 l1 l3 l4 l5 l6 l7 : Value) (x : Int32) (st : List Value) : Ex mX9_drawn Q 48 [l0, l1, .int x, l3, l4, l5, l6, l7] st h = Ex mX9_drawn Q 49 [l0, l1, .int x, l3, l4, l5, l6, l7] (.int x :: st) h := Ex_nx rfl rfl
theorem rX9_drawn_49 (Q : Po) (h : Hp) (ls : List Value) (st : List Value) (x : Int32) : Ex mX9_drawn Q 49 ls (.int x :: st) h = Ex mX9_drawn Q 50 ls (.long x.toInt64 :: st) h := Ex_nx rfl rfl
theorem rX9_drawn_50 (Q : Po) (h : Hp) (l0 l1 l2 l3 l4 l5 l6 l7 : Value) (x : Int64) (st : List Value) : Ex mX9_drawn Q 50 [l0, l1, l2, l3, l4, l5, l6, l7] (.long x :: st) h = Ex mX9_drawn Q 52 [l0, l1, l2, l3, .long x, .retAddr 1, l6, l7] st h := Ex_nx rfl rfl
theorem rX9_drawn_52 (Q : Po) (h : Hp) (ls : List Value) (st : List Value) : Ex mX9_drawn Q 52 ls st h = Ex mX9_drawn Q 53 ls (.int 0 :: st) h := Ex_nx rfl rfl
theorem rX9_drawn_53 (Q : Po) (h : Hp) (l0 l1 l2 l3 l4 l5 l6 l7 : Value) (x : Int32) (st : List Value) : Ex mX9_drawn Q 53 [l0, l1, l2, l3, l4, l5, l6, l7] (.int x :: st) h = Ex mX9_drawn Q 55 [l0, l1, l2, l3, l4, l5, .int x, l7] st h := Ex_nx rfl rfl
theorem rX9_drawn_55 (Q : Po) (h : Hp) (l0 l1 l2 l3 l4 l5 l7 : Value) (x : Int32) (st : List Value) : Ex mX9_drawn Q 55 [l0, l1, l2, l3, l4, l5, .int x, l7] st h = Ex mX9_drawn Q 57 [l0, l1, l2, l3, l4, l5, .int x, l7] (.int x :: st) h := Ex_nx rfl rfl
theorem rX9_drawn_57 (Q : Po) (h : Hp) (l0 l2 l3 l4 l5 l6 l7 : Value) (x : Int32) (st : List Value) : Ex mX9_drawn Q 57 [l0, .int x, l2, l3, l4, l5, l6, l7] st h = Ex mX9_drawn Q 58 [l0, .int x, l2, l3, l4, l5, l6, l7] (.int x :: st) h := Ex_nx rfl rfl
theorem rX9_drawn_58 (Q : Po) (h : Hp) (ls : List Value) (st : List Value) (x y : Int32) : Ex mX9_drawn Q 58 ls (.int y :: .int x :: st) h = if y ≤ x then Ex mX9_drawn Q 194 ls st h else Ex mX9_drawn Q 61 ls st h := Ex_br rfl rfl
theorem rX9_drawn_61 (Q : Po) (h : Hp) (l0 l1 l2 l3 l6 l7 : Value) (x : Int64) (st : List Value) : Ex mX9_drawn Q 61 [l0, l1, l2, l3, .long x, .retAddr 1, l6, l7] st h = Ex mX9_drawn Q 63 [l0, l1, l2, l3, .long x, .retAddr 1, l6, l7] (.long x :: st) h := Ex_nx rfl rfl
theorem rX9_drawn_63 (Q : Po) (h : Hp) (ls : List Value) (st : List Value) : Ex mX9_drawn Q 63 ls st h = Ex mX9_drawn Q 66 ls (.long 16807 :: st) h := Ex_nx rfl rfl
theorem rX9_drawn_66 (Q : Po) (h : Hp) (ls : List Value) (st : List Value) (x y : Int64) : Ex mX9_drawn Q 66 ls (.long y :: .long x :: st) h = Ex mX9_drawn Q 67 ls (.long (x * y) :: st) h := Ex_nx rfl rfl
theorem rX9_drawn_67 (Q : Po) (h : Hp) (ls : List Value) (st : List Value) : Ex mX9_drawn Q 67 ls st h = Ex mX9_drawn Q 70 ls (.long 2147483647 :: st) h := Ex_nx rfl rfl
theorem rX9_drawn_70 (Q : Po) (h : Hp) (ls : List Value) (st : List Value) (x y : Int64) : Ex mX9_drawn Q 70 ls (.long y :: .long x :: st) h = (¬ y = 0 ∧ Ex mX9_drawn Q 71 ls (.long (x - x / y * y) :: st) h) := Ex_gd rfl rfl
theorem rX9_drawn_71 (Q : Po) (h : Hp) (l0 l1 l2 l3 l4 l5 l6 l7 : Value) (x : Int64) (st : List Value) : Ex mX9_drawn Q 71 [l0, l1, l2, l3, l4, l5, l6, l7] (.long x :: st) h = Ex mX9_drawn Q 73 [l0, l1, l2, l3, .long x, .retAddr 1, l6, l7] st h := Ex_nx rfl rfl
theorem rX9_drawn_73 (Q : Po) (h : Hp) (l0 l1 l2 l3 l6 l7 : Value) (x : Int64) (st : List Value) : Ex mX9_drawn Q 73 [l0, l1, l2, l3, .long x, .retAddr 1, l6, l7] st h = Ex mX9_drawn Q 75 [l0, l1, l2, l3, .long x, .retAddr 1, l6, l7] (.long x :: st) h := Ex_nx rfl rfl
theorem rX9_drawn_75 (Q : Po) (h : Hp) (l1 l2 l3 l4 l5 l6 l7 : Value) (x : Nat) (st : List Value) : Ex mX9_drawn Q 75 [.ref x, l1, l2, l3, l4, l5, l6, l7] st h = Ex mX9_drawn Q 76 [.ref x, l1, l2, l3, l4, l5, l6, l7] (.ref x :: st) h := Ex_nx rfl rfl
theorem rX9_drawn_76 (Q : Po) (h : Hp) (ls : List Value) (st : List Value) (a : Nat) : Ex mX9_drawn Q 76 ls (.ref a :: st) h = (gK h a ∈ ([9] : List Nat) ∧ Ex mX9_drawn Q 79 ls (gF h 81 a :: st) h) := Ex_gd rfl rfl
theorem rX9_drawn_79 (Q : Po) (h : Hp) (ls : List Value) (st : List Value) : Ex mX9_drawn Q 79 ls st h = Ex mX9_drawn Q 80 ls (.int 0 :: st) h := Ex_nx rfl rfl
theorem rX9_drawn_80 (Q : Po) (h : Hp) (ls : List Value) (st : List Value) (a : Nat) (i : Int32) : Ex mX9_drawn Q 80 ls (.int i :: .ref a :: st) h = ((gK h a = 51 ∧ ¬ (i < 0 ∨ gL h a ≤ i.toNatClampNeg)) ∧ Ex mX9_drawn Q 81 ls (.int (gI h a i.toNatClampNeg) :: st) h) := Ex_gd rfl rfl
theorem rX9_drawn_81 (Q : Po) (h : Hp) (ls : List Value) (st : List Value) (x : Int32) : Ex mX9_drawn Q 81 ls (.int x :: st) h = Ex mX9_drawn Q 82 ls (.long x.toInt64 :: st) h := Ex_nx rfl rfl
theorem rX9_drawn_82 (Q : Po) (h : Hp) (ls : List Value) (st : List Value) (x y : Int64) : Ex mX9_drawn Q 82 ls (.long y :: .long x :: st) h = (¬ y = 0 ∧ Ex mX9_drawn Q 83 ls (.long (x - x / y * y) :: st) h) := Ex_gd rfl rfl
theorem rX9_drawn_83 (Q : Po) (h : Hp) (ls : List Value) (st : List Value) (x : Int64) : Ex mX9_drawn Q 83 ls (.long x :: st) h = Ex mX9_drawn Q 84 ls (.int x.toInt32 :: st) h := Ex_nx rfl rfl
theorem rX9_drawn_84 (Q : Po) (h : Hp) (l0 l1 l2 l3 l4 l5 l6 l7 : Value) (x : Int32) (st : List Value) : Ex mX9_drawn Q 84 [l0, l1, l2, l3, l4, l5, l6, l7] (.int x :: st) h = Ex mX9_drawn Q 86 [l0, l1, l2, l3, l4, l5, l6, .int x] st h := Ex_nx rfl rfl
theorem rX9_drawn_86 (Q : Po) (h : Hp) (l1 l2 l3 l4 l5 l6 l7 : Value) (x : Nat) (st : List Value) : Ex mX9_drawn Q 86 [.ref x, l1, l2, l3, l4, l5, l6, l7] st h = Ex mX9_drawn Q 87 [.ref x, l1, l2, l3, l4, l5, l6, l7] (.ref x :: st) h := Ex_nx rfl rfl
theorem rX9_drawn_87 (Q : Po) (h : Hp) (ls : List Value) (st : List Value) (a : Nat) : Ex mX9_drawn Q 87 ls (.ref a :: st) h = (gK h a ∈ ([9] : List Nat) ∧ Ex mX9_drawn Q 90 ls (gF h 81 a :: st) h) := Ex_gd rfl rfl
theorem rX9_drawn_90 (Q : Po) (h : Hp) (ls : List Value) (st : List Value) : Ex mX9_drawn Q 90 ls st h = Ex mX9_drawn Q 91 ls (.int 5 :: st) h := Ex_nx rfl rfl
theorem rX9_drawn_91 (Q : Po) (h : Hp) (ls : List Value) (st : List Value) (a : Nat) (i : Int32) : Ex mX9_drawn Q 91 ls (.int i :: .ref a :: st) h = ((gK h a = 51 ∧ ¬ (i < 0 ∨ gL h a ≤ i.toNatClampNeg)) ∧ Ex mX9_drawn Q 92 ls (.int (gI h a i.toNatClampNeg) :: st) h) := Ex_gd rfl rfl
theorem rX9_drawn_92 (Q : Po) (h : Hp) (l0 l1 l2 l3 l4 l5 l6 : Value) (x : Int32) (st : List Value) : Ex mX9_drawn Q 92 [l0, l1, l2, l3, l4, l5, l6, .int x] st h = Ex mX9_drawn Q 94 [l0, l1, l2, l3, l4, l5, l6, .int x] (.int x :: st) h := Ex_nx rfl rfl
theorem rX9_drawn_94 (Q : Po) (h : Hp) (ls : List Value) (a0 : Int32) (a1 : Int32) : Ex mX9_drawn Q 94 ls (.int a1 :: .int a0 :: []) h = Ex mX9_has (Cont mX9_drawn Q 94 ls 97 []) 0 [.int a0, .int a1] [] h := Ex_cl (n := 2) (as := [.int a0, .int a1]) rfl rfl
theorem rX9_drawn_97 (Q : Po) (h : Hp) (ls : List Value) (st : List Value) (x : Int32) : Ex mX9_drawn Q 97 ls (.int x :: st) h = if x = 0 then Ex mX9_drawn Q 142 ls st h else Ex mX9_drawn Q 100 ls st h := Ex_br rfl rfl
theorem rX9_drawn_100 (Q : Po) (h : Hp) (l1 l2 l3 l4 l5 l6 l7 : Value) (x : Nat) (st : List Value) : Ex mX9_drawn Q 100 [.ref x, l1, l2, l3, l4, l5, l6, l7] st h = Ex mX9_drawn Q 101 [.ref x, l1, l2, l3, l4, l5, l6, l7] (.ref x :: st) h := Ex_nx rfl rfl
theorem rX9_drawn_101 (Q : Po) (h : Hp) (ls : List Value) (st : List Value) (a : Nat) : Ex mX9_drawn Q 101 ls (.ref a :: st) h = (gK h a ∈ ([9] : List Nat) ∧ Ex mX9_drawn Q 104 ls (gF h 81 a :: st) h) := Ex_gd rfl rfl
theorem rX9_drawn_104 (Q : Po) (h : Hp) (ls : List Value) (st : List Value) : Ex mX9_drawn Q 104 ls st h = Ex mX9_drawn Q 105 ls (.int 5 :: st) h := Ex_nx rfl rfl
theorem rX9_drawn_105 (Q : Po) (h : Hp) (l0 l1 l2 l3 l6 l7 : Value) (x : Int64) (st : List Value) : Ex mX9_drawn Q 105 [l0, l1, l2, l3, .long x, .retAddr 1, l6, l7] st h = Ex mX9_drawn Q 107 [l0, l1, l2, l3, .long x, .retAddr 1, l6, l7] (.long x :: st) h := Ex_nx rfl rfl
theorem rX9_drawn_107 (Q : Po) (h : Hp) (ls : List Value) (st : List Value) : Ex mX9_drawn Q 107 ls st h = Ex mX9_drawn Q 110 ls (.long 5 :: st) h := Ex_nx rfl rfl
theorem rX9_drawn_110 (Q : Po) (h : Hp) (ls : List Value) (st : List Value) (x y : Int64) : Ex mX9_drawn Q 110 ls (.long y :: .long x :: st) h = (¬ y = 0 ∧ Ex mX9_drawn Q 111 ls (.long (x - x / y * y) :: st) h) := Ex_gd rfl rfl
theorem rX9_drawn_111 (Q : Po) (h : Hp) (ls : List Value) (st : List Value) : Ex mX9_drawn Q 111 ls st h = Ex mX9_drawn Q 112 ls (.long 0 :: st) h := Ex_nx rfl rfl
theorem rX9_drawn_112 (Q : Po) (h : Hp) (ls : List Value) (st : List Value) (x y : Int64) : Ex mX9_drawn Q 112 ls (.long y :: .long x :: st) h = Ex mX9_drawn Q 113 ls (.int (lg_cmp x y) :: st) h := Ex_nx rfl rfl
theorem rX9_drawn_113 (Q : Po) (h : Hp) (ls : List Value) (st : List Value) (x : Int32) : Ex mX9_drawn Q 113 ls (.int x :: st) h = if ¬ x = 0 then Ex mX9_drawn Q 132 ls st h else Ex mX9_drawn Q 116 ls st h := Ex_br rfl rfl
theorem rX9_drawn_116 (Q : Po) (h : Hp) (l1 l2 l3 l4 l5 l6 l7 : Value) (x : Nat) (st : List Value) : Ex mX9_drawn Q 116 [.ref x, l1, l2, l3, l4, l5, l6, l7] st h = Ex mX9_drawn Q 117 [.ref x, l1, l2, l3, l4, l5, l6, l7] (.ref x :: st) h := Ex_nx rfl rfl
theorem rX9_drawn_117 (Q : Po) (h : Hp) (ls : List Value) (st : List Value) (a : Nat) : Ex mX9_drawn Q 117 ls (.ref a :: st) h = (gK h a ∈ ([9] : List Nat) ∧ Ex mX9_drawn Q 120 ls (gF h 81 a :: st) h) := Ex_gd rfl rfl
theorem rX9_drawn_120 (Q : Po) (h : Hp) (ls : List Value) (st : List Value) : Ex mX9_drawn Q 120 ls st h = Ex mX9_drawn Q 121 ls (.int 5 :: st) h := Ex_nx rfl rfl
theorem rX9_drawn_121 (Q : Po) (h : Hp) (ls : List Value) (st : List Value) (a : Nat) (i : Int32) : Ex mX9_drawn Q 121 ls (.int i :: .ref a :: st) h = ((gK h a = 51 ∧ ¬ (i < 0 ∨ gL h a ≤ i.toNatClampNeg)) ∧ Ex mX9_drawn Q 122 ls (.int (gI h a i.toNatClampNeg) :: st) h) := Ex_gd rfl rfl
theorem rX9_drawn_122 (Q : Po) (h : Hp) (ls : List Value) (st : List Value) : Ex mX9_drawn Q 122 ls st h = Ex mX9_drawn Q 123 ls (.int 1 :: st) h := Ex_nx rfl rfl
theorem rX9_drawn_123 (Q : Po) (h : Hp) (l0 l1 l2 l3 l4 l5 l6 : Value) (x : Int32) (st : List Value) : Ex mX9_drawn Q 123 [l0, l1, l2, l3, l4, l5, l6, .int x] st h = Ex mX9_drawn Q 125 [l0, l1, l2, l3, l4, l5, l6, .int x] (.int x :: st) h := Ex_nx rfl rfl
theorem rX9_drawn_125 (Q : Po) (h : Hp) (ls : List Value) (st : List Value) (x y : Int32) : Ex mX9_drawn Q 125 ls (.int y :: .int x :: st) h = Ex mX9_drawn Q 126 ls (.int (x <<< (y &&& 31)) :: st) h := Ex_nx rfl rfl
theorem rX9_drawn_126 (Q : Po) (h : Hp) (ls : List Value) (st : List Value) : Ex mX9_drawn Q 126 ls st h = Ex mX9_drawn Q 127 ls (.int (-1) :: st) h := Ex_nx rfl rfl
theorem rX9_drawn_127 (Q : Po) (h : Hp) (ls : List Value) (st : List Value) (x y : Int32) : Ex mX9_drawn Q 127 ls (.int y :: .int x :: st) h = Ex mX9_drawn Q 128 ls (.int (x ^^^ y) :: st) h := Ex_nx rfl rfl
theorem rX9_drawn_128 (Q : Po) (h : Hp) (ls : List Value) (st : List Value) (x y : Int32) : Ex mX9_drawn Q 128 ls (.int y :: .int x :: st) h = Ex mX9_drawn Q 129 ls (.int (x &&& y) :: st) h := Ex_nx rfl rfl
theorem rX9_drawn_129 (Q : Po) (h : Hp) (ls : List Value) (st : List Value) : Ex mX9_drawn Q 129 ls st h = Ex mX9_drawn Q 138 ls st h := Ex_nx rfl rfl
theorem rX9_drawn_132 (Q : Po) (h : Hp) (l1 l2 l3 l4 l5 l6 l7 : Value) (x : Nat) (st : List Value) : Ex mX9_drawn Q 132 [.ref x, l1, l2, l3, l4, l5, l6, l7] st h = Ex mX9_drawn Q 133 [.ref x, l1, l2, l3, l4, l5, l6, l7] (.ref x :: st) h := Ex_nx rfl rfl
theorem rX9_drawn_133 (Q : Po) (h : Hp) (ls : List Value) (st : List Value) (a : Nat) : Ex mX9_drawn Q 133 ls (.ref a :: st) h = (gK h a ∈ ([9] : List Nat) ∧ Ex mX9_drawn Q 136 ls (gF h 81 a :: st) h) := Ex_gd rfl rfl
theorem rX9_drawn_136 (Q : Po) (h : Hp) (ls : List Value) (st : List Value) : Ex mX9_drawn Q 136 ls st h = Ex mX9_drawn Q 137 ls (.int 5 :: st) h := Ex_nx rfl rfl
theorem rX9_drawn_137 (Q : Po) (h : Hp) (ls : List Value) (st : List Value) (a : Nat) (i : Int32) : Ex mX9_drawn Q 137 ls (.int i :: .ref a :: st) h = ((gK h a = 51 ∧ ¬ (i < 0 ∨ gL h a ≤ i.toNatClampNeg)) ∧ Ex mX9_drawn Q 138 ls (.int (gI h a i.toNatClampNeg) :: st) h) := Ex_gd rfl rfl
theorem rX9_drawn_138 (Q : Po) (h : Hp) (ls : List Value) (st : List Value) (a : Nat) (i x : Int32) : Ex mX9_drawn Q 138 ls (.int x :: .int i :: .ref a :: st) h = ((gK h a = 51 ∧ ¬ (i < 0 ∨ gL h a ≤ i.toNatClampNeg)) ∧ Ex mX9_drawn Q 139 ls st (pI h a i.toNatClampNeg (x))) := Ex_gd rfl rfl
theorem rX9_drawn_139 (Q : Po) (h : Hp) (ls : List Value) (st : List Value) : Ex mX9_drawn Q 139 ls st h = Ex mX9_drawn Q 184 ls st h := Ex_nx rfl rfl
theorem rX9_drawn_142 (Q : Po) (h : Hp) (l0 l1 l2 l3 l6 l7 : Value) (x : Int64) (st : List Value) : Ex mX9_drawn Q 142 [l0, l1, l2, l3, .long x, .retAddr 1, l6, l7] st h = Ex mX9_drawn Q 144 [l0, l1, l2, l3, .long x, .retAddr 1, l6, l7] (.long x :: st) h := Ex_nx rfl rfl
theorem rX9_drawn_144 (Q : Po) (h : Hp) (ls : List Value) (st : List Value) : Ex mX9_drawn Q 144 ls st h = Ex mX9_drawn Q 147 ls (.long 3 :: st) h := Ex_nx rfl rfl
theorem rX9_drawn_147 (Q : Po) (h : Hp) (ls : List Value) (st : List Value) (x y : Int64) : Ex mX9_drawn Q 147 ls (.long y :: .long x :: st) h = (¬ y = 0 ∧ Ex mX9_drawn Q 148 ls (.long (x - x / y * y) :: st) h) := Ex_gd rfl rfl
theorem rX9_drawn_148 (Q : Po) (h : Hp) (ls : List Value) (st : List Value) : Ex mX9_drawn Q 148 ls st h = Ex mX9_drawn Q 149 ls (.long 0 :: st) h := Ex_nx rfl rfl
theorem rX9_drawn_149 (Q : Po) (h : Hp) (ls : List Value) (st : List Value) (x y : Int64) : Ex mX9_drawn Q 149 ls (.long y :: .long x :: st) h = Ex mX9_drawn Q 150 ls (.int (lg_cmp x y) :: st) h := Ex_nx rfl rfl
theorem rX9_drawn_150 (Q : Po) (h : Hp) (ls : List Value) (st : List Value) (x : Int32) : Ex mX9_drawn Q 150 ls (.int x :: st) h = if ¬ x = 0 then Ex mX9_drawn Q 184 ls st h else Ex mX9_drawn Q 153 ls st h := Ex_br rfl rfl
theorem rX9_drawn_153 (Q : Po) (h : Hp) (l1 l2 l3 l4 l5 l6 l7 : Value) (x : Nat) (st : List Value) : Ex mX9_drawn Q 153 [.ref x, l1, l2, l3, l4, l5, l6, l7] st h = Ex mX9_drawn Q 154 [.ref x, l1, l2, l3, l4, l5, l6, l7] (.ref x :: st) h := Ex_nx rfl rfl
theorem rX9_drawn_154 (Q : Po) (h : Hp) (ls : List Value) (st : List Value) (a : Nat) : Ex mX9_drawn Q 154 ls (.ref a :: st) h = (gK h a ∈ ([9] : List Nat) ∧ Ex mX9_drawn Q 157 ls (gF h 81 a :: st) h) := Ex_gd rfl rfl
theorem rX9_drawn_157 (Q : Po) (h : Hp) (ls : List Value) (st : List Value) : Ex mX9_drawn Q 157 ls st h = Ex mX9_drawn Q 158 ls (.int 5 :: st) h := Ex_nx rfl rfl
theorem rX9_drawn_158 (Q : Po) (h : Hp) (ls : List Value) (st : List Value) (a : Nat) (i : Int32) : Ex mX9_drawn Q 158 ls (.int i :: .ref a :: st) h = ((gK h a = 51 ∧ ¬ (i < 0 ∨ gL h a ≤ i.toNatClampNeg)) ∧ Ex mX9_drawn Q 159 ls (.int (gI h a i.toNatClampNeg) :: st) h) := Ex_gd rfl rfl
theorem rX9_drawn_159 (Q : Po) (h : Hp) (ls : List Value) (a0 : Int32) : Ex mX9_drawn Q 159 ls (.int a0 :: []) h = Ex mX9_ones (Cont mX9_drawn Q 159 ls 162 []) 0 [.int a0, .retAddr 0, .retAddr 0] [] h := Ex_cl (n := 3) (as := [.int a0]) rfl rfl
theorem rX9_drawn_162 (Q : Po) (h : Hp) (l1 l2 l3 l4 l5 l6 l7 : Value) (x : Nat) (st : List Value) : Ex mX9_drawn Q 162 [.ref x, l1, l2, l3, l4, l5, l6, l7] st h = Ex mX9_drawn Q 163 [.ref x, l1, l2, l3, l4, l5, l6, l7] (.ref x :: st) h := Ex_nx rfl rfl
theorem rX9_drawn_163 (Q : Po) (h : Hp) (ls : List Value) (st : List Value) (a : Nat) : Ex mX9_drawn Q 163 ls (.ref a :: st) h = (gK h a ∈ ([9] : List Nat) ∧ Ex mX9_drawn Q 166 ls (gF h 81 a :: st) h) := Ex_gd rfl rfl
theorem rX9_drawn_166 (Q : Po) (h : Hp) (ls : List Value) (st : List Value) : Ex mX9_drawn Q 166 ls st h = Ex mX9_drawn Q 167 ls (.int 3 :: st) h := Ex_nx rfl rfl
theorem rX9_drawn_167 (Q : Po) (h : Hp) (ls : List Value) (st : List Value) (a : Nat) (i : Int32) : Ex mX9_drawn Q 167 ls (.int i :: .ref a :: st) h = ((gK h a = 51 ∧ ¬ (i < 0 ∨ gL h a ≤ i.toNatClampNeg)) ∧ Ex mX9_drawn Q 168 ls (.int (gI h a i.toNatClampNeg) :: st) h) := Ex_gd rfl rfl
theorem rX9_drawn_168 (Q : Po) (h : Hp) (ls : List Value) (st : List Value) (x y : Int32) : Ex mX9_drawn Q 168 ls (.int y :: .int x :: st) h = if y ≤ x then Ex mX9_drawn Q 184 ls st h else Ex mX9_drawn Q 171 ls st h := Ex_br rfl rfl
theorem rX9_drawn_171 (Q : Po) (h : Hp) (l1 l2 l3 l4 l5 l6 l7 : Value) (x : Nat) (st : List Value) : Ex mX9_drawn Q 171 [.ref x, l1, l2, l3, l4, l5, l6, l7] st h = Ex mX9_drawn Q 172 [.ref x, l1, l2, l3, l4, l5, l6, l7] (.ref x :: st) h := Ex_nx rfl rfl
theorem rX9_drawn_172 (Q : Po) (h : Hp) (ls : List Value) (st : List Value) (a : Nat) : Ex mX9_drawn Q 172 ls (.ref a :: st) h = (gK h a ∈ ([9] : List Nat) ∧ Ex mX9_drawn Q 175 ls (gF h 81 a :: st) h) := Ex_gd rfl rfl
theorem rX9_drawn_175 (Q : Po) (h : Hp) (ls : List Value) (st : List Value) : Ex mX9_drawn Q 175 ls st h = Ex mX9_drawn Q 176 ls (.int 5 :: st) h := Ex_nx rfl rfl
theorem rX9_drawn_176 (Q : Po) (h : Hp) (ls : List Value) (st : List Value) (x : Int32) (y : Nat) : Ex mX9_drawn Q 176 ls (.int x :: .ref y :: st) h = Ex mX9_drawn Q 177 ls (.int x :: .ref y :: .int x :: .ref y :: st) h := Ex_nx rfl rfl
theorem rX9_drawn_177 (Q : Po) (h : Hp) (ls : List Value) (st : List Value) (a : Nat) (i : Int32) : Ex mX9_drawn Q 177 ls (.int i :: .ref a :: st) h = ((gK h a = 51 ∧ ¬ (i < 0 ∨ gL h a ≤ i.toNatClampNeg)) ∧ Ex mX9_drawn Q 178 ls (.int (gI h a i.toNatClampNeg) :: st) h) := Ex_gd rfl rfl
theorem rX9_drawn_178 (Q : Po) (h : Hp) (ls : List Value) (st : List Value) : Ex mX9_drawn Q 178 ls st h = Ex mX9_drawn Q 179 ls (.int 1 :: st) h := Ex_nx rfl rfl
theorem rX9_drawn_179 (Q : Po) (h : Hp) (l0 l1 l2 l3 l4 l5 l6 : Value) (x : Int32) (st : List Value) : Ex mX9_drawn Q 179 [l0, l1, l2, l3, l4, l5, l6, .int x] st h = Ex mX9_drawn Q 181 [l0, l1, l2, l3, l4, l5, l6, .int x] (.int x :: st) h := Ex_nx rfl rfl
theorem rX9_drawn_181 (Q : Po) (h : Hp) (ls : List Value) (st : List Value) (x y : Int32) : Ex mX9_drawn Q 181 ls (.int y :: .int x :: st) h = Ex mX9_drawn Q 182 ls (.int (x <<< (y &&& 31)) :: st) h := Ex_nx rfl rfl
theorem rX9_drawn_182 (Q : Po) (h : Hp) (ls : List Value) (st : List Value) (x y : Int32) : Ex mX9_drawn Q 182 ls (.int y :: .int x :: st) h = Ex mX9_drawn Q 183 ls (.int (x ||| y) :: st) h := Ex_nx rfl rfl
theorem rX9_drawn_183 (Q : Po) (h : Hp) (ls : List Value) (st : List Value) (a : Nat) (i x : Int32) : Ex mX9_drawn Q 183 ls (.int x :: .int i :: .ref a :: st) h = ((gK h a = 51 ∧ ¬ (i < 0 ∨ gL h a ≤ i.toNatClampNeg)) ∧ Ex mX9_drawn Q 184 ls st (pI h a i.toNatClampNeg (x))) := Ex_gd rfl rfl
theorem rX9_drawn_184 (Q : Po) (h : Hp) (l1 l2 l3 l4 l5 l6 l7 : Value) (x : Nat) (st : List Value) : Ex mX9_drawn Q 184 [.ref x, l1, l2, l3, l4, l5, l6, l7] st h = Ex mX9_drawn Q 185 [.ref x, l1, l2, l3, l4, l5, l6, l7] (.ref x :: st) h := Ex_nx rfl rfl
theorem rX9_drawn_185 (Q : Po) (h : Hp) (ls : List Value) (b : Nat) : Ex mX9_drawn Q 185 ls (.ref b :: []) h = (gK h b = 9 ∧ Ex mX9_oneNight (Cont mX9_drawn Q 185 ls 188 []) 0 [.ref b, .retAddr 0] [] h) := Ex_cg (n := 2) (as := [.ref b]) rfl rfl
theorem rX9_drawn_188 (Q : Po) (h : Hp) (l0 l1 l2 l3 l4 l5 l7 : Value) (x : Int32) (st : List Value) : Ex mX9_drawn Q 188 [l0, l1, l2, l3, l4, l5, .int x, l7] st h = Ex mX9_drawn Q 191 [l0, l1, l2, l3, l4, l5, .int (x + 1), l7] st h := Ex_nx rfl rfl
theorem rX9_drawn_191 (Q : Po) (h : Hp) (ls : List Value) (st : List Value) : Ex mX9_drawn Q 191 ls st h = Ex mX9_drawn Q 55 ls st h := Ex_nx rfl rfl
theorem rX9_drawn_194 (Q : Po) (h : Hp) (l0 l1 l2 l4 l5 l6 l7 : Value) (x : Int32) (st : List Value) : Ex mX9_drawn Q 194 [l0, l1, l2, .int x, l4, l5, l6, l7] st h = Ex mX9_drawn Q 195 [l0, l1, l2, .int x, l4, l5, l6, l7] (.int x :: st) h := Ex_nx rfl rfl
theorem rX9_drawn_195 (Q : Po) (h : Hp) (ls : List Value) (st : List Value) (x : Int32) : Ex mX9_drawn Q 195 ls (.int x :: st) h = if ¬ x = 0 then Ex mX9_drawn Q 205 ls st h else Ex mX9_drawn Q 198 ls st h := Ex_br rfl rfl
theorem rX9_drawn_198 (Q : Po) (h : Hp) (l1 l2 l3 l4 l5 l6 l7 : Value) (x : Nat) (st : List Value) : Ex mX9_drawn Q 198 [.ref x, l1, l2, l3, l4, l5, l6, l7] st h = Ex mX9_drawn Q 199 [.ref x, l1, l2, l3, l4, l5, l6, l7] (.ref x :: st) h := Ex_nx rfl rfl
theorem rX9_drawn_199 (Q : Po) (h : Hp) (ls : List Value) (b : Nat) : Ex mX9_drawn Q 199 ls (.ref b :: []) h = (gK h b = 9 ∧ Ex mX9_allPages (Cont mX9_drawn Q 199 ls 202 []) 0 [.ref b, .retAddr 0, .retAddr 0] [] h) := Ex_cg (n := 3) (as := [.ref b]) rfl rfl
theorem rX9_drawn_202 (Q : Po) (h : Hp) (ls : List Value) (st : List Value) : Ex mX9_drawn Q 202 ls st h = Ex mX9_drawn Q 212 ls st h := Ex_nx rfl rfl
theorem rX9_drawn_205 (Q : Po) (h : Hp) (l1 l2 l3 l4 l5 l6 l7 : Value) (x : Nat) (st : List Value) : Ex mX9_drawn Q 205 [.ref x, l1, l2, l3, l4, l5, l6, l7] st h = Ex mX9_drawn Q 206 [.ref x, l1, l2, l3, l4, l5, l6, l7] (.ref x :: st) h := Ex_nx rfl rfl
theorem rX9_drawn_206 (Q : Po) (h : Hp) (ls : List Value) (b : Nat) : Ex mX9_drawn Q 206 ls (.ref b :: []) h = (gK h b = 9 ∧ Ex mX9_emptySet (Cont mX9_drawn Q 206 ls 209 []) 0 [.ref b, .retAddr 0, .retAddr 0] [] h) := Ex_cg (n := 3) (as := [.ref b]) rfl rfl
theorem rX9_drawn_209 (Q : Po) (h : Hp) (ls : List Value) (a0 : Int32) : Ex mX9_drawn Q 209 ls (.int a0 :: []) h = Ex mX9_ones (Cont mX9_drawn Q 209 ls 212 []) 0 [.int a0, .retAddr 0, .retAddr 0] [] h := Ex_cl (n := 3) (as := [.int a0]) rfl rfl
theorem rX9_drawn_212 (Q : Po) (h : Hp) (l0 l1 l2 l3 l4 l5 l6 l7 : Value) (x : Int32) (st : List Value) : Ex mX9_drawn Q 212 [l0, l1, l2, l3, l4, l5, l6, l7] (.int x :: st) h = Ex mX9_drawn Q 214 [l0, l1, l2, l3, l4, l5, .int x, l7] st h := Ex_nx rfl rfl
theorem rX9_drawn_214 (Q : Po) (h : Hp) (l1 l2 l3 l4 l5 l6 l7 : Value) (x : Nat) (st : List Value) : Ex mX9_drawn Q 214 [.ref x, l1, l2, l3, l4, l5, l6, l7] st h = Ex mX9_drawn Q 215 [.ref x, l1, l2, l3, l4, l5, l6, l7] (.ref x :: st) h := Ex_nx rfl rfl
theorem rX9_drawn_215 (Q : Po) (h : Hp) (ls : List Value) (b : Nat) : Ex mX9_drawn Q 215 ls (.ref b :: []) h = (gK h b = 9 ∧ Ex mX9_takeBack (Cont mX9_drawn Q 215 ls 218 []) 0 [.ref b, .retAddr 0] [] h) := Ex_cg (n := 2) (as := [.ref b]) rfl rfl
theorem rX9_drawn_218 (Q : Po) (h : Hp) (l0 l1 l2 l3 l4 l5 l7 : Value) (x : Int32) (st : List Value) : Ex mX9_drawn Q 218 [l0, l1, l2, l3, l4, l5, .int x, l7] st h = Ex mX9_drawn Q 220 [l0, l1, l2, l3, l4, l5, .int x, l7] (.int x :: st) h := Ex_nx rfl rfl
theorem rX9_drawn_220 (Q : Po) (h : Hp) (ls : List Value) (x : Int32) : Ex mX9_drawn Q 220 ls [.int x] h = Q (.inl (some (.int x))) h := Ex_rt rfl rfl
theorem rX9_drawn_t (Q : Po) (h : Hp) (pc n a : Nat) (ls st : List Value) : Cont mX9_drawn Q pc ls n st (.inr a) h = Q (.inr a) h := rfl
/-! FishReadersModel.image(I)I -/
def mX9_image : Cd := ([(0, .inl (i_iload 1 1)),
  (1, .inl (i_i2l 2)),
  (2, .inl (i_push (.long 0) 3)),
  (3, .inl (i_push (.long 1) 4)),
  (4, .inr (c_S 3 7 6 (Mt mX9_in 6))),
  (7, .inl (i_if (fun x => ¬ x = 0) 13 10)),
  (10, .inl (i_push (.int (-1000001)) 12)),
  (12, .inl i_iret),
  (13, .inl (i_aload 0 14)),
  (14, .inl (i_getf 78 [9] 17)),
  (17, .inl (i_if (fun x => ¬ x = 0) 23 20)),
  (20, .inl (i_push (.int (-1000002)) 22)),
  (22, .inl i_iret),
  (23, .inl (i_push (.int 0) 24)),
  (24, .inl (i_istore 2 25)),
  (25, .inl (i_iload 2 26)),
  (26, .inl (i_push (.int 41) 28)),
  (28, .inl (i_icmp (fun x y => y ≤ x) 54 31)),
  (31, .inl (i_aload 0 32)),
  (32, .inl (i_getf 117 [9] 35)),
  (35, .inl (i_push (.int 41) 37)),
  (37, .inl (i_iload 1 38)),
  (38, .inl (i_bin (fun x y => x * y) 39)),
  (39, .inl (i_iload 2 40)),
  (40, .inl (i_bin (fun x y => x + y) 41)),
  (41, .inl (i_aload 0 42)),
  (42, .inl (i_getf 81 [9] 45)),
  (45, .inl (i_iload 2 46)),
  (46, .inl (i_iald 51 47)),
  (47, .inl (i_iast 51 (fun x => x) 48)),
  (48, .inl (i_iinc 2 1 51)),
  (51, .inl (i_goto 25)),
  (54, .inl (i_aload 0 55)),
  (55, .inl (i_getf 115 [9] 58)),
  (58, .inl (i_iload 1 59)),
  (59, .inl (i_push (.int 1) 60)),
  (60, .inl (i_iast 53 (fun x => x &&& 1) 61)),
  (61, .inl (i_push (.int 1) 62)),
  (62, .inl i_iret)], noH)
theorem rX9_image_0 (Q : Po) (h : Hp) (l0 l2 : Value) (x : Int32) (st : List Value) : Ex mX9_image Q 0 [l0, .int x, l2] st h = Ex mX9_image Q 1 [l0, .int x, l2] (.int x :: st) h := Ex_nx rfl rfl
theorem rX9_image_1 (Q : Po) (h : Hp) (ls : List Value) (st : List Value) (x : Int32) : Ex mX9_image Q 1 ls (.int x :: st) h = Ex mX9_image Q 2 ls (.long x.toInt64 :: st) h := Ex_nx rfl rfl
theorem rX9_image_2 (Q : Po) (h : Hp) (ls : List Value) (st : List Value) : Ex mX9_image Q 2 ls st h = Ex mX9_image Q 3 ls (.long 0 :: st) h := Ex_nx rfl rfl
theorem rX9_image_3 (Q : Po) (h : Hp) (ls : List Value) (st : List Value) : Ex mX9_image Q 3 ls st h = Ex mX9_image Q 4 ls (.long 1 :: st) h := Ex_nx rfl rfl
theorem rX9_image_4 (Q : Po) (h : Hp) (ls : List Value) (a0 : Int64) (a1 : Int64) (a2 : Int64) : Ex mX9_image Q 4 ls (.long a2 :: .long a1 :: .long a0 :: []) h = Ex mX9_in (Cont mX9_image Q 4 ls 7 []) 0 [.long a0, .retAddr 1, .long a1, .retAddr 1, .long a2, .retAddr 1] [] h := Ex_cl (n := 6) (as := [.long a0, .long a1, .long a2]) rfl rfl
theorem rX9_image_7 (Q : Po) (h : Hp) (ls : List Value) (st : List Value) (x : Int32) : Ex mX9_image Q 7 ls (.int x :: st) h = if ¬ x = 0 then Ex mX9_image Q 13 ls st h else Ex mX9_image Q 10 ls st h := Ex_br rfl rfl
theorem rX9_image_10 (Q : Po) (h : Hp) (ls : List Value) (st : List Value) : Ex mX9_image Q 10 ls st h = Ex mX9_image Q 12 ls (.int (-1000001) :: st) h := Ex_nx rfl rfl
theorem rX9_image_12 (Q : Po) (h : Hp) (ls : List Value) (x : Int32) : Ex mX9_image Q 12 ls [.int x] h = Q (.inl (some (.int x))) h := Ex_rt rfl rfl
theorem rX9_image_13 (Q : Po) (h : Hp) (l1 l2 : Value) (x : Nat) (st : List Value) : Ex mX9_image Q 13 [.ref x, l1, l2] st h = Ex mX9_image Q 14 [.ref x, l1, l2] (.ref x :: st) h := Ex_nx rfl rfl
theorem rX9_image_14 (Q : Po) (h : Hp) (ls : List Value) (st : List Value) (a : Nat) : Ex mX9_image Q 14 ls (.ref a :: st) h = (gK h a ∈ ([9] : List Nat) ∧ Ex mX9_image Q 17 ls (gF h 78 a :: st) h) := Ex_gd rfl rfl
theorem rX9_image_17 (Q : Po) (h : Hp) (ls : List Value) (st : List Value) (x : Int32) : Ex mX9_image Q 17 ls (.int x :: st) h = if ¬ x = 0 then Ex mX9_image Q 23 ls st h else Ex mX9_image Q 20 ls st h := Ex_br rfl rfl
theorem rX9_image_20 (Q : Po) (h : Hp) (ls : List Value) (st : List Value) : Ex mX9_image Q 20 ls st h = Ex mX9_image Q 22 ls (.int (-1000002) :: st) h := Ex_nx rfl rfl
theorem rX9_image_22 (Q : Po) (h : Hp) (ls : List Value) (x : Int32) : Ex mX9_image Q 22 ls [.int x] h = Q (.inl (some (.int x))) h := Ex_rt rfl rfl
theorem rX9_image_23 (Q : Po) (h : Hp) (ls : List Value) (st : List Value) : Ex mX9_image Q 23 ls st h = Ex mX9_image Q 24 ls (.int 0 :: st) h := Ex_nx rfl rfl
theorem rX9_image_24 (Q : Po) (h : Hp) (l0 l1 l2 : Value) (x : Int32) (st : List Value) : Ex mX9_image Q 24 [l0, l1, l2] (.int x :: st) h = Ex mX9_image Q 25 [l0, l1, .int x] st h := Ex_nx rfl rfl
theorem rX9_image_25 (Q : Po) (h : Hp) (l0 l1 : Value) (x : Int32) (st : List Value) : Ex mX9_image Q 25 [l0, l1, .int x] st h = Ex mX9_image Q 26 [l0, l1, .int x] (.int x :: st) h := Ex_nx rfl rfl
theorem rX9_image_26 (Q : Po) (h : Hp) (ls : List Value) (st : List Value) : Ex mX9_image Q 26 ls st h = Ex mX9_image Q 28 ls (.int 41 :: st) h := Ex_nx rfl rfl
theorem rX9_image_28 (Q : Po) (h : Hp) (ls : List Value) (st : List Value) (x y : Int32) : Ex mX9_image Q 28 ls (.int y :: .int x :: st) h = if y ≤ x then Ex mX9_image Q 54 ls st h else Ex mX9_image Q 31 ls st h := Ex_br rfl rfl
theorem rX9_image_31 (Q : Po) (h : Hp) (l1 l2 : Value) (x : Nat) (st : List Value) : Ex mX9_image Q 31 [.ref x, l1, l2] st h = Ex mX9_image Q 32 [.ref x, l1, l2] (.ref x :: st) h := Ex_nx rfl rfl
theorem rX9_image_32 (Q : Po) (h : Hp) (ls : List Value) (st : List Value) (a : Nat) : Ex mX9_image Q 32 ls (.ref a :: st) h = (gK h a ∈ ([9] : List Nat) ∧ Ex mX9_image Q 35 ls (gF h 117 a :: st) h) := Ex_gd rfl rfl
theorem rX9_image_35 (Q : Po) (h : Hp) (ls : List Value) (st : List Value) : Ex mX9_image Q 35 ls st h = Ex mX9_image Q 37 ls (.int 41 :: st) h := Ex_nx rfl rfl
theorem rX9_image_37 (Q : Po) (h : Hp) (l0 l2 : Value) (x : Int32) (st : List Value) : Ex mX9_image Q 37 [l0, .int x, l2] st h = Ex mX9_image Q 38 [l0, .int x, l2] (.int x :: st) h := Ex_nx rfl rfl
theorem rX9_image_38 (Q : Po) (h : Hp) (ls : List Value) (st : List Value) (x y : Int32) : Ex mX9_image Q 38 ls (.int y :: .int x :: st) h = Ex mX9_image Q 39 ls (.int (x * y) :: st) h := Ex_nx rfl rfl
theorem rX9_image_39 (Q : Po) (h : Hp) (l0 l1 : Value) (x : Int32) (st : List Value) : Ex mX9_image Q 39 [l0, l1, .int x] st h = Ex mX9_image Q 40 [l0, l1, .int x] (.int x :: st) h := Ex_nx rfl rfl
theorem rX9_image_40 (Q : Po) (h : Hp) (ls : List Value) (st : List Value) (x y : Int32) : Ex mX9_image Q 40 ls (.int y :: .int x :: st) h = Ex mX9_image Q 41 ls (.int (x + y) :: st) h := Ex_nx rfl rfl
theorem rX9_image_41 (Q : Po) (h : Hp) (l1 l2 : Value) (x : Nat) (st : List Value) : Ex mX9_image Q 41 [.ref x, l1, l2] st h = Ex mX9_image Q 42 [.ref x, l1, l2] (.ref x :: st) h := Ex_nx rfl rfl
theorem rX9_image_42 (Q : Po) (h : Hp) (ls : List Value) (st : List Value) (a : Nat) : Ex mX9_image Q 42 ls (.ref a :: st) h = (gK h a ∈ ([9] : List Nat) ∧ Ex mX9_image Q 45 ls (gF h 81 a :: st) h) := Ex_gd rfl rfl
theorem rX9_image_45 (Q : Po) (h : Hp) (l0 l1 : Value) (x : Int32) (st : List Value) : Ex mX9_image Q 45 [l0, l1, .int x] st h = Ex mX9_image Q 46 [l0, l1, .int x] (.int x :: st) h := Ex_nx rfl rfl
theorem rX9_image_46 (Q : Po) (h : Hp) (ls : List Value) (st : List Value) (a : Nat) (i : Int32) : Ex mX9_image Q 46 ls (.int i :: .ref a :: st) h = ((gK h a = 51 ∧ ¬ (i < 0 ∨ gL h a ≤ i.toNatClampNeg)) ∧ Ex mX9_image Q 47 ls (.int (gI h a i.toNatClampNeg) :: st) h) := Ex_gd rfl rfl
theorem rX9_image_47 (Q : Po) (h : Hp) (ls : List Value) (st : List Value) (a : Nat) (i x : Int32) : Ex mX9_image Q 47 ls (.int x :: .int i :: .ref a :: st) h = ((gK h a = 51 ∧ ¬ (i < 0 ∨ gL h a ≤ i.toNatClampNeg)) ∧ Ex mX9_image Q 48 ls st (pI h a i.toNatClampNeg (x))) := Ex_gd rfl rfl
theorem rX9_image_48 (Q : Po) (h : Hp) (l0 l1 : Value) (x : Int32) (st : List Value) : Ex mX9_image Q 48 [l0, l1, .int x] st h = Ex mX9_image Q 51 [l0, l1, .int (x + 1)] st h := Ex_nx rfl rfl
theorem rX9_image_51 (Q : Po) (h : Hp) (ls : List Value) (st : List Value) : Ex mX9_image Q 51 ls st h = Ex mX9_image Q 25 ls st h := Ex_nx rfl rfl
theorem rX9_image_54 (Q : Po) (h : Hp) (l1 l2 : Value) (x : Nat) (st : List Value) : Ex mX9_image Q 54 [.ref x, l1, l2] st h = Ex mX9_image Q 55 [.ref x, l1, l2] (.ref x :: st) h := Ex_nx rfl rfl
theorem rX9_image_55 (Q : Po) (h : Hp) (ls : List Value) (st : List Value) (a : Nat) : Ex mX9_image Q 55 ls (.ref a :: st) h = (gK h a ∈ ([9] : List Nat) ∧ Ex mX9_image Q 58 ls (gF h 115 a :: st) h) := Ex_gd rfl rfl
theorem rX9_image_58 (Q : Po) (h : Hp) (l0 l2 : Value) (x : Int32) (st : List Value) : Ex mX9_image Q 58 [l0, .int x, l2] st h = Ex mX9_image Q 59 [l0, .int x, l2] (.int x :: st) h := Ex_nx rfl rfl
theorem rX9_image_59 (Q : Po) (h : Hp) (ls : List Value) (st : List Value) : Ex mX9_image Q 59 ls st h = Ex mX9_image Q 60 ls (.int 1 :: st) h := Ex_nx rfl rfl
theorem rX9_image_60 (Q : Po) (h : Hp) (ls : List Value) (st : List Value) (a : Nat) (i x : Int32) : Ex mX9_image Q 60 ls (.int x :: .int i :: .ref a :: st) h = ((gK h a = 53 ∧ ¬ (i < 0 ∨ gL h a ≤ i.toNatClampNeg)) ∧ Ex mX9_image Q 61 ls st (pI h a i.toNatClampNeg (x &&& 1))) := Ex_gd rfl rfl
theorem rX9_image_61 (Q : Po) (h : Hp) (ls : List Value) (st : List Value) : Ex mX9_image Q 61 ls st h = Ex mX9_image Q 62 ls (.int 1 :: st) h := Ex_nx rfl rfl
theorem rX9_image_62 (Q : Po) (h : Hp) (ls : List Value) (x : Int32) : Ex mX9_image Q 62 ls [.int x] h = Q (.inl (some (.int x))) h := Ex_rt rfl rfl
theorem rX9_image_t (Q : Po) (h : Hp) (pc n a : Nat) (ls st : List Value) : Cont mX9_image Q pc ls n st (.inr a) h = Q (.inr a) h := rfl
/-! FishReadersModel.restore(I)I -/
def mX9_restore : Cd := ([(0, .inl (i_iload 1 1)),
  (1, .inl (i_i2l 2)),
  (2, .inl (i_push (.long 0) 3)),
  (3, .inl (i_push (.long 1) 4)),
  (4, .inr (c_S 3 7 6 (Mt mX9_in 6))),
  (7, .inl (i_if (fun x => ¬ x = 0) 13 10)),
  (10, .inl (i_push (.int (-1000001)) 12)),
  (12, .inl i_iret),
  (13, .inl (i_aload 0 14)),
  (14, .inl (i_getf 115 [9] 17)),
  (17, .inl (i_iload 1 18)),
  (18, .inl (i_iald 53 19)),
  (19, .inl (i_if (fun x => ¬ x = 0) 25 22)),
  (22, .inl (i_push (.int (-1000002)) 24)),
  (24, .inl i_iret),
  (25, .inl (i_push (.int 0) 26)),
  (26, .inl (i_istore 2 27)),
  (27, .inl (i_iload 2 28)),
  (28, .inl (i_push (.int 41) 30)),
  (30, .inl (i_icmp (fun x y => y ≤ x) 56 33)),
  (33, .inl (i_aload 0 34)),
  (34, .inl (i_getf 81 [9] 37)),
  (37, .inl (i_iload 2 38)),
  (38, .inl (i_aload 0 39)),
  (39, .inl (i_getf 117 [9] 42)),
  (42, .inl (i_push (.int 41) 44)),
  (44, .inl (i_iload 1 45)),
  (45, .inl (i_bin (fun x y => x * y) 46)),
  (46, .inl (i_iload 2 47)),
  (47, .inl (i_bin (fun x y => x + y) 48)),
  (48, .inl (i_iald 51 49)),
  (49, .inl (i_iast 51 (fun x => x) 50)),
  (50, .inl (i_iinc 2 1 53)),
  (53, .inl (i_goto 27)),
  (56, .inl (i_aload 0 57)),
  (57, .inl (i_push (.int 0) 58)),
  (58, .inl (i_putI 106 [9] 61)),
  (61, .inl (i_push (.int 1) 62)),
  (62, .inl i_iret)], noH)
theorem rX9_restore_0 (Q : Po) (h : Hp) (l0 l2 : Value) (x : Int32) (st : List Value) : Ex mX9_restore Q 0 [l0, .int x, l2] st h = Ex mX9_restore Q 1 [l0, .int x, l2] (.int x :: st) h := Ex_nx rfl rfl
theorem rX9_restore_1 (Q : Po) (h : Hp) (ls : List Value) (st : List Value) (x : Int32) : Ex mX9_restore Q 1 ls (.int x :: st) h = Ex mX9_restore Q 2 ls (.long x.toInt64 :: st) h := Ex_nx rfl rfl
theorem rX9_restore_2 (Q : Po) (h : Hp) (ls : List Value) (st : List Value) : Ex mX9_restore Q 2 ls st h = Ex mX9_restore Q 3 ls (.long 0 :: st) h := Ex_nx rfl rfl
theorem rX9_restore_3 (Q : Po) (h : Hp) (ls : List Value) (st : List Value) : Ex mX9_restore Q 3 ls st h = Ex mX9_restore Q 4 ls (.long 1 :: st) h := Ex_nx rfl rfl
theorem rX9_restore_4 (Q : Po) (h : Hp) (ls : List Value) (a0 : Int64) (a1 : Int64) (a2 : Int64) : Ex mX9_restore Q 4 ls (.long a2 :: .long a1 :: .long a0 :: []) h = Ex mX9_in (Cont mX9_restore Q 4 ls 7 []) 0 [.long a0, .retAddr 1, .long a1, .retAddr 1, .long a2, .retAddr 1] [] h := Ex_cl (n := 6) (as := [.long a0, .long a1, .long a2]) rfl rfl
theorem rX9_restore_7 (Q : Po) (h : Hp) (ls : List Value) (st : List Value) (x : Int32) : Ex mX9_restore Q 7 ls (.int x :: st) h = if ¬ x = 0 then Ex mX9_restore Q 13 ls st h else Ex mX9_restore Q 10 ls st h := Ex_br rfl rfl
theorem rX9_restore_10 (Q : Po) (h : Hp) (ls : List Value) (st : List Value) : Ex mX9_restore Q 10 ls st h = Ex mX9_restore Q 12 ls (.int (-1000001) :: st) h := Ex_nx rfl rfl
theorem rX9_restore_12 (Q : Po) (h : Hp) (ls : List Value) (x : Int32) : Ex mX9_restore Q 12 ls [.int x] h = Q (.inl (some (.int x))) h := Ex_rt rfl rfl
theorem rX9_restore_13 (Q : Po) (h : Hp) (l1 l2 : Value) (x : Nat) (st : List Value) : Ex mX9_restore Q 13 [.ref x, l1, l2] st h = Ex mX9_restore Q 14 [.ref x, l1, l2] (.ref x :: st) h := Ex_nx rfl rfl
theorem rX9_restore_14 (Q : Po) (h : Hp) (ls : List Value) (st : List Value) (a : Nat) : Ex mX9_restore Q 14 ls (.ref a :: st) h = (gK h a ∈ ([9] : List Nat) ∧ Ex mX9_restore Q 17 ls (gF h 115 a :: st) h) := Ex_gd rfl rfl
theorem rX9_restore_17 (Q : Po) (h : Hp) (l0 l2 : Value) (x : Int32) (st : List Value) : Ex mX9_restore Q 17 [l0, .int x, l2] st h = Ex mX9_restore Q 18 [l0, .int x, l2] (.int x :: st) h := Ex_nx rfl rfl
theorem rX9_restore_18 (Q : Po) (h : Hp) (ls : List Value) (st : List Value) (a : Nat) (i : Int32) : Ex mX9_restore Q 18 ls (.int i :: .ref a :: st) h = ((gK h a = 53 ∧ ¬ (i < 0 ∨ gL h a ≤ i.toNatClampNeg)) ∧ Ex mX9_restore Q 19 ls (.int (gI h a i.toNatClampNeg) :: st) h) := Ex_gd rfl rfl
theorem rX9_restore_19 (Q : Po) (h : Hp) (ls : List Value) (st : List Value) (x : Int32) : Ex mX9_restore Q 19 ls (.int x :: st) h = if ¬ x = 0 then Ex mX9_restore Q 25 ls st h else Ex mX9_restore Q 22 ls st h := Ex_br rfl rfl
theorem rX9_restore_22 (Q : Po) (h : Hp) (ls : List Value) (st : List Value) : Ex mX9_restore Q 22 ls st h = Ex mX9_restore Q 24 ls (.int (-1000002) :: st) h := Ex_nx rfl rfl
theorem rX9_restore_24 (Q : Po) (h : Hp) (ls : List Value) (x : Int32) : Ex mX9_restore Q 24 ls [.int x] h = Q (.inl (some (.int x))) h := Ex_rt rfl rfl
theorem rX9_restore_25 (Q : Po) (h : Hp) (ls : List Value) (st : List Value) : Ex mX9_restore Q 25 ls st h = Ex mX9_restore Q 26 ls (.int 0 :: st) h := Ex_nx rfl rfl
theorem rX9_restore_26 (Q : Po) (h : Hp) (l0 l1 l2 : Value) (x : Int32) (st : List Value) : Ex mX9_restore Q 26 [l0, l1, l2] (.int x :: st) h = Ex mX9_restore Q 27 [l0, l1, .int x] st h := Ex_nx rfl rfl
theorem rX9_restore_27 (Q : Po) (h : Hp) (l0 l1 : Value) (x : Int32) (st : List Value) : Ex mX9_restore Q 27 [l0, l1, .int x] st h = Ex mX9_restore Q 28 [l0, l1, .int x] (.int x :: st) h := Ex_nx rfl rfl
theorem rX9_restore_28 (Q : Po) (h : Hp) (ls : List Value) (st : List Value) : Ex mX9_restore Q 28 ls st h = Ex mX9_restore Q 30 ls (.int 41 :: st) h := Ex_nx rfl rfl
theorem rX9_restore_30 (Q : Po) (h : Hp) (ls : List Value) (st : List Value) (x y : Int32) : Ex mX9_restore Q 30 ls (.int y :: .int x :: st) h = if y ≤ x then Ex mX9_restore Q 56 ls st h else Ex mX9_restore Q 33 ls st h := Ex_br rfl rfl
theorem rX9_restore_33 (Q : Po) (h : Hp) (l1 l2 : Value) (x : Nat) (st : List Value) : Ex mX9_restore Q 33 [.ref x, l1, l2] st h = Ex mX9_restore Q 34 [.ref x, l1, l2] (.ref x :: st) h := Ex_nx rfl rfl
theorem rX9_restore_34 (Q : Po) (h : Hp) (ls : List Value) (st : List Value) (a : Nat) : Ex mX9_restore Q 34 ls (.ref a :: st) h = (gK h a ∈ ([9] : List Nat) ∧ Ex mX9_restore Q 37 ls (gF h 81 a :: st) h) := Ex_gd rfl rfl
theorem rX9_restore_37 (Q : Po) (h : Hp) (l0 l1 : Value) (x : Int32) (st : List Value) : Ex mX9_restore Q 37 [l0, l1, .int x] st h = Ex mX9_restore Q 38 [l0, l1, .int x] (.int x :: st) h := Ex_nx rfl rfl
theorem rX9_restore_38 (Q : Po) (h : Hp) (l1 l2 : Value) (x : Nat) (st : List Value) : Ex mX9_restore Q 38 [.ref x, l1, l2] st h = Ex mX9_restore Q 39 [.ref x, l1, l2] (.ref x :: st) h := Ex_nx rfl rfl
theorem rX9_restore_39 (Q : Po) (h : Hp) (ls : List Value) (st : List Value) (a : Nat) : Ex mX9_restore Q 39 ls (.ref a :: st) h = (gK h a ∈ ([9] : List Nat) ∧ Ex mX9_restore Q 42 ls (gF h 117 a :: st) h) := Ex_gd rfl rfl
theorem rX9_restore_42 (Q : Po) (h : Hp) (ls : List Value) (st : List Value) : Ex mX9_restore Q 42 ls st h = Ex mX9_restore Q 44 ls (.int 41 :: st) h := Ex_nx rfl rfl
theorem rX9_restore_44 (Q : Po) (h : Hp) (l0 l2 : Value) (x : Int32) (st : List Value) : Ex mX9_restore Q 44 [l0, .int x, l2] st h = Ex mX9_restore Q 45 [l0, .int x, l2] (.int x :: st) h := Ex_nx rfl rfl
theorem rX9_restore_45 (Q : Po) (h : Hp) (ls : List Value) (st : List Value) (x y : Int32) : Ex mX9_restore Q 45 ls (.int y :: .int x :: st) h = Ex mX9_restore Q 46 ls (.int (x * y) :: st) h := Ex_nx rfl rfl
theorem rX9_restore_46 (Q : Po) (h : Hp) (l0 l1 : Value) (x : Int32) (st : List Value) : Ex mX9_restore Q 46 [l0, l1, .int x] st h = Ex mX9_restore Q 47 [l0, l1, .int x] (.int x :: st) h := Ex_nx rfl rfl
theorem rX9_restore_47 (Q : Po) (h : Hp) (ls : List Value) (st : List Value) (x y : Int32) : Ex mX9_restore Q 47 ls (.int y :: .int x :: st) h = Ex mX9_restore Q 48 ls (.int (x + y) :: st) h := Ex_nx rfl rfl
theorem rX9_restore_48 (Q : Po) (h : Hp) (ls : List Value) (st : List Value) (a : Nat) (i : Int32) : Ex mX9_restore Q 48 ls (.int i :: .ref a :: st) h = ((gK h a = 51 ∧ ¬ (i < 0 ∨ gL h a ≤ i.toNatClampNeg)) ∧ Ex mX9_restore Q 49 ls (.int (gI h a i.toNatClampNeg) :: st) h) := Ex_gd rfl rfl
theorem rX9_restore_49 (Q : Po) (h : Hp) (ls : List Value) (st : List Value) (a : Nat) (i x : Int32) : Ex mX9_restore Q 49 ls (.int x :: .int i :: .ref a :: st) h = ((gK h a = 51 ∧ ¬ (i < 0 ∨ gL h a ≤ i.toNatClampNeg)) ∧ Ex mX9_restore Q 50 ls st (pI h a i.toNatClampNeg (x))) := Ex_gd rfl rfl
theorem rX9_restore_50 (Q : Po) (h : Hp) (l0 l1 : Value) (x : Int32) (st : List Value) : Ex mX9_restore Q 50 [l0, l1, .int x] st h = Ex mX9_restore Q 53 [l0, l1, .int (x + 1)] st h := Ex_nx rfl rfl
theorem rX9_restore_53 (Q : Po) (h : Hp) (ls : List Value) (st : List Value) : Ex mX9_restore Q 53 ls st h = Ex mX9_restore Q 27 ls st h := Ex_nx rfl rfl
theorem rX9_restore_56 (Q : Po) (h : Hp) (l1 l2 : Value) (x : Nat) (st : List Value) : Ex mX9_restore Q 56 [.ref x, l1, l2] st h = Ex mX9_restore Q 57 [.ref x, l1, l2] (.ref x :: st) h := Ex_nx rfl rfl
theorem rX9_restore_57 (Q : Po) (h : Hp) (ls : List Value) (st : List Value) : Ex mX9_restore Q 57 ls st h = Ex mX9_restore Q 58 ls (.int 0 :: st) h := Ex_nx rfl rfl
theorem rX9_restore_58 (Q : Po) (h : Hp) (ls : List Value) (st : List Value) (x : Int32) (a : Nat) : Ex mX9_restore Q 58 ls (.int x :: .ref a :: st) h = (gK h a ∈ ([9] : List Nat) ∧ Ex mX9_restore Q 61 ls st (pF h 106 a (.int x))) := Ex_gd rfl rfl
theorem rX9_restore_61 (Q : Po) (h : Hp) (ls : List Value) (st : List Value) : Ex mX9_restore Q 61 ls st h = Ex mX9_restore Q 62 ls (.int 1 :: st) h := Ex_nx rfl rfl
theorem rX9_restore_62 (Q : Po) (h : Hp) (ls : List Value) (x : Int32) : Ex mX9_restore Q 62 ls [.int x] h = Q (.inl (some (.int x))) h := Ex_rt rfl rfl
theorem rX9_restore_t (Q : Po) (h : Hp) (pc n a : Nat) (ls st : List Value) : Cont mX9_restore Q pc ls n st (.inr a) h = Q (.inr a) h := rfl
/-! FishReadersModel.kind(I)I -/
def mX9_kind : Cd := ([(0, .inl (i_aload 0 1)),
  (1, .inl (i_iload 1 2)),
  (2, .inr (c_V 1 5 2 9 (Mt mX9_isFish 2))),
  (5, .inl (i_if (fun x => x = 0) 20 8)),
  (8, .inl (i_aload 0 9)),
  (9, .inl (i_getf 81 [9] 12)),
  (12, .inl (i_push (.int 26) 14)),
  (14, .inl (i_iload 1 15)),
  (15, .inl (i_bin (fun x y => x + y) 16)),
  (16, .inl (i_iald 51 17)),
  (17, .inl (i_goto 22)),
  (20, .inl (i_push (.int (-1000001)) 22)),
  (22, .inl i_iret)], noH)
theorem rX9_kind_0 (Q : Po) (h : Hp) (l1 : Value) (x : Nat) (st : List Value) : Ex mX9_kind Q 0 [.ref x, l1] st h = Ex mX9_kind Q 1 [.ref x, l1] (.ref x :: st) h := Ex_nx rfl rfl
theorem rX9_kind_1 (Q : Po) (h : Hp) (l0 : Value) (x : Int32) (st : List Value) : Ex mX9_kind Q 1 [l0, .int x] st h = Ex mX9_kind Q 2 [l0, .int x] (.int x :: st) h := Ex_nx rfl rfl
theorem rX9_kind_2 (Q : Po) (h : Hp) (ls : List Value) (a0 : Int32) (b : Nat) : Ex mX9_kind Q 2 ls (.int a0 :: .ref b :: []) h = (gK h b = 9 ∧ Ex mX9_isFish (Cont mX9_kind Q 2 ls 5 []) 0 [.ref b, .int a0] [] h) := Ex_cg (n := 2) (as := [.ref b, .int a0]) rfl rfl
theorem rX9_kind_5 (Q : Po) (h : Hp) (ls : List Value) (st : List Value) (x : Int32) : Ex mX9_kind Q 5 ls (.int x :: st) h = if x = 0 then Ex mX9_kind Q 20 ls st h else Ex mX9_kind Q 8 ls st h := Ex_br rfl rfl
theorem rX9_kind_8 (Q : Po) (h : Hp) (l1 : Value) (x : Nat) (st : List Value) : Ex mX9_kind Q 8 [.ref x, l1] st h = Ex mX9_kind Q 9 [.ref x, l1] (.ref x :: st) h := Ex_nx rfl rfl
theorem rX9_kind_9 (Q : Po) (h : Hp) (ls : List Value) (st : List Value) (a : Nat) : Ex mX9_kind Q 9 ls (.ref a :: st) h = (gK h a ∈ ([9] : List Nat) ∧ Ex mX9_kind Q 12 ls (gF h 81 a :: st) h) := Ex_gd rfl rfl
theorem rX9_kind_12 (Q : Po) (h : Hp) (ls : List Value) (st : List Value) : Ex mX9_kind Q 12 ls st h = Ex mX9_kind Q 14 ls (.int 26 :: st) h := Ex_nx rfl rfl
theorem rX9_kind_14 (Q : Po) (h : Hp) (l0 : Value) (x : Int32) (st : List Value) : Ex mX9_kind Q 14 [l0, .int x] st h = Ex mX9_kind Q 15 [l0, .int x] (.int x :: st) h := Ex_nx rfl rfl
theorem rX9_kind_15 (Q : Po) (h : Hp) (ls : List Value) (st : List Value) (x y : Int32) : Ex mX9_kind Q 15 ls (.int y :: .int x :: st) h = Ex mX9_kind Q 16 ls (.int (x + y) :: st) h := Ex_nx rfl rfl
theorem rX9_kind_16 (Q : Po) (h : Hp) (ls : List Value) (st : List Value) (a : Nat) (i : Int32) : Ex mX9_kind Q 16 ls (.int i :: .ref a :: st) h = ((gK h a = 51 ∧ ¬ (i < 0 ∨ gL h a ≤ i.toNatClampNeg)) ∧ Ex mX9_kind Q 17 ls (.int (gI h a i.toNatClampNeg) :: st) h) := Ex_gd rfl rfl
theorem rX9_kind_17 (Q : Po) (h : Hp) (ls : List Value) (st : List Value) : Ex mX9_kind Q 17 ls st h = Ex mX9_kind Q 22 ls st h := Ex_nx rfl rfl
theorem rX9_kind_20 (Q : Po) (h : Hp) (ls : List Value) (st : List Value) : Ex mX9_kind Q 20 ls st h = Ex mX9_kind Q 22 ls (.int (-1000001) :: st) h := Ex_nx rfl rfl
theorem rX9_kind_22 (Q : Po) (h : Hp) (ls : List Value) (x : Int32) : Ex mX9_kind Q 22 ls [.int x] h = Q (.inl (some (.int x))) h := Ex_rt rfl rfl
theorem rX9_kind_t (Q : Po) (h : Hp) (pc n a : Nat) (ls st : List Value) : Cont mX9_kind Q pc ls n st (.inr a) h = Q (.inr a) h := rfl
/-! FishReadersModel.isKind(II)Z -/
def mX9_isKind : Cd := ([(0, .inl (i_iload 1 1)),
  (1, .inl (i_if (fun x => x = 0) 29 4)),
  (4, .inl (i_iload 0 5)),
  (5, .inl (i_iload 1 6)),
  (6, .inl (i_icmp (fun x y => x = y) 29 9)),
  (9, .inl (i_iload 1 10)),
  (10, .inl (i_push (.int 1) 11)),
  (11, .inl (i_icmp (fun x y => ¬ x = y) 19 14)),
  (14, .inl (i_iload 0 15)),
  (15, .inl (i_push (.int 4) 16)),
  (16, .inl (i_icmp (fun x y => x < y) 29 19)),
  (19, .inl (i_iload 1 20)),
  (20, .inl (i_push (.int 4) 21)),
  (21, .inl (i_icmp (fun x y => ¬ x = y) 33 24)),
  (24, .inl (i_iload 0 25)),
  (25, .inl (i_push (.int 5) 26)),
  (26, .inl (i_icmp (fun x y => ¬ x = y) 33 29)),
  (29, .inl (i_push (.int 1) 30)),
  (30, .inl (i_goto 34)),
  (33, .inl (i_push (.int 0) 34)),
  (34, .inl i_zret)], noH)
theorem rX9_isKind_0 (Q : Po) (h : Hp) (l0 : Value) (x : Int32) (st : List Value) : Ex mX9_isKind Q 0 [l0, .int x] st h = Ex mX9_isKind Q 1 [l0, .int x] (.int x :: st) h := Ex_nx rfl rfl
theorem rX9_isKind_1 (Q : Po) (h : Hp) (ls : List Value) (st : List Value) (x : Int32) : Ex mX9_isKind Q 1 ls (.int x :: st) h = if x = 0 then Ex mX9_isKind Q 29 ls st h else Ex mX9_isKind Q 4 ls st h := Ex_br rfl rfl
theorem rX9_isKind_4 (Q : Po) (h : Hp) (l1 : Value) (x : Int32) (st : List Value) : Ex mX9_isKind Q 4 [.int x, l1] st h = Ex mX9_isKind Q 5 [.int x, l1] (.int x :: st) h := Ex_nx rfl rfl
theorem rX9_isKind_5 (Q : Po) (h : Hp) (l0 : Value) (x : Int32) (st : List Value) : Ex mX9_isKind Q 5 [l0, .int x] st h = Ex mX9_isKind Q 6 [l0, .int x] (.int x :: st) h := Ex_nx rfl rfl
theorem rX9_isKind_6 (Q : Po) (h : Hp) (ls : List Value) (st : List Value) (x y : Int32) : Ex mX9_isKind Q 6 ls (.int y :: .int x :: st) h = if x = y then Ex mX9_isKind Q 29 ls st h else Ex mX9_isKind Q 9 ls st h := Ex_br rfl rfl
theorem rX9_isKind_9 (Q : Po) (h : Hp) (l0 : Value) (x : Int32) (st : List Value) : Ex mX9_isKind Q 9 [l0, .int x] st h = Ex mX9_isKind Q 10 [l0, .int x] (.int x :: st) h := Ex_nx rfl rfl
theorem rX9_isKind_10 (Q : Po) (h : Hp) (ls : List Value) (st : List Value) : Ex mX9_isKind Q 10 ls st h = Ex mX9_isKind Q 11 ls (.int 1 :: st) h := Ex_nx rfl rfl
theorem rX9_isKind_11 (Q : Po) (h : Hp) (ls : List Value) (st : List Value) (x y : Int32) : Ex mX9_isKind Q 11 ls (.int y :: .int x :: st) h = if ¬ x = y then Ex mX9_isKind Q 19 ls st h else Ex mX9_isKind Q 14 ls st h := Ex_br rfl rfl
theorem rX9_isKind_14 (Q : Po) (h : Hp) (l1 : Value) (x : Int32) (st : List Value) : Ex mX9_isKind Q 14 [.int x, l1] st h = Ex mX9_isKind Q 15 [.int x, l1] (.int x :: st) h := Ex_nx rfl rfl
theorem rX9_isKind_15 (Q : Po) (h : Hp) (ls : List Value) (st : List Value) : Ex mX9_isKind Q 15 ls st h = Ex mX9_isKind Q 16 ls (.int 4 :: st) h := Ex_nx rfl rfl
theorem rX9_isKind_16 (Q : Po) (h : Hp) (ls : List Value) (st : List Value) (x y : Int32) : Ex mX9_isKind Q 16 ls (.int y :: .int x :: st) h = if x < y then Ex mX9_isKind Q 29 ls st h else Ex mX9_isKind Q 19 ls st h := Ex_br rfl rfl
theorem rX9_isKind_19 (Q : Po) (h : Hp) (l0 : Value) (x : Int32) (st : List Value) : Ex mX9_isKind Q 19 [l0, .int x] st h = Ex mX9_isKind Q 20 [l0, .int x] (.int x :: st) h := Ex_nx rfl rfl
theorem rX9_isKind_20 (Q : Po) (h : Hp) (ls : List Value) (st : List Value) : Ex mX9_isKind Q 20 ls st h = Ex mX9_isKind Q 21 ls (.int 4 :: st) h := Ex_nx rfl rfl
theorem rX9_isKind_21 (Q : Po) (h : Hp) (ls : List Value) (st : List Value) (x y : Int32) : Ex mX9_isKind Q 21 ls (.int y :: .int x :: st) h = if ¬ x = y then Ex mX9_isKind Q 33 ls st h else Ex mX9_isKind Q 24 ls st h := Ex_br rfl rfl
theorem rX9_isKind_24 (Q : Po) (h : Hp) (l1 : Value) (x : Int32) (st : List Value) : Ex mX9_isKind Q 24 [.int x, l1] st h = Ex mX9_isKind Q 25 [.int x, l1] (.int x :: st) h := Ex_nx rfl rfl
theorem rX9_isKind_25 (Q : Po) (h : Hp) (ls : List Value) (st : List Value) : Ex mX9_isKind Q 25 ls st h = Ex mX9_isKind Q 26 ls (.int 5 :: st) h := Ex_nx rfl rfl
theorem rX9_isKind_26 (Q : Po) (h : Hp) (ls : List Value) (st : List Value) (x y : Int32) : Ex mX9_isKind Q 26 ls (.int y :: .int x :: st) h = if ¬ x = y then Ex mX9_isKind Q 33 ls st h else Ex mX9_isKind Q 29 ls st h := Ex_br rfl rfl
theorem rX9_isKind_29 (Q : Po) (h : Hp) (ls : List Value) (st : List Value) : Ex mX9_isKind Q 29 ls st h = Ex mX9_isKind Q 30 ls (.int 1 :: st) h := Ex_nx rfl rfl
theorem rX9_isKind_30 (Q : Po) (h : Hp) (ls : List Value) (st : List Value) : Ex mX9_isKind Q 30 ls st h = Ex mX9_isKind Q 34 ls st h := Ex_nx rfl rfl
theorem rX9_isKind_33 (Q : Po) (h : Hp) (ls : List Value) (st : List Value) : Ex mX9_isKind Q 33 ls st h = Ex mX9_isKind Q 34 ls (.int 0 :: st) h := Ex_nx rfl rfl
theorem rX9_isKind_34 (Q : Po) (h : Hp) (ls : List Value) (x : Int32) : Ex mX9_isKind Q 34 ls [.int x] h = ((x = 0 ∨ x = 1) ∧ Q (.inl (some (.int x))) h) := Ex_rg rfl rfl
theorem rX9_isKind_t (Q : Po) (h : Hp) (pc n a : Nat) (ls st : List Value) : Cont mX9_isKind Q pc ls n st (.inr a) h = Q (.inr a) h := rfl
/-! FishReadersModel.as(II)I -/
def mX9_as : Cd := ([(0, .inl (i_aload 0 1)),
  (1, .inl (i_iload 1 2)),
  (2, .inr (c_V 1 5 2 9 (Mt mX9_isFish 2))),
  (5, .inl (i_if (fun x => x = 0) 20 8)),
  (8, .inl (i_iload 2 9)),
  (9, .inl (i_i2l 10)),
  (10, .inl (i_push (.long 0) 11)),
  (11, .inl (i_push (.long 5) 14)),
  (14, .inr (c_S 3 17 6 (Mt mX9_in 6))),
  (17, .inl (i_if (fun x => ¬ x = 0) 23 20)),
  (20, .inl (i_push (.int (-1000001)) 22)),
  (22, .inl i_iret),
  (23, .inl (i_aload 0 24)),
  (24, .inl (i_getf 81 [9] 27)),
  (27, .inl (i_push (.int 26) 29)),
  (29, .inl (i_iload 1 30)),
  (30, .inl (i_bin (fun x y => x + y) 31)),
  (31, .inl (i_iald 51 32)),
  (32, .inl (i_iload 2 33)),
  (33, .inr (c_S 2 36 2 (Mt mX9_isKind 2))),
  (36, .inl (i_if (fun x => x = 0) 47 39)),
  (39, .inl (i_aload 0 40)),
  (40, .inl (i_iload 1 41)),
  (41, .inr (c_V 1 44 2 9 (Mt mX9_well 2))),
  (44, .inl (i_goto 52)),
  (47, .inl (i_aload 0 48)),
  (48, .inl (i_push (.int 3) 49)),
  (49, .inr (c_V 1 52 2 9 (Mt mX9_find 2))),
  (52, .inl i_iret)], noH)
theorem rX9_as_0 (Q : Po) (h : Hp) (l1 l2 : Value) (x : Nat) (st : List Value) : Ex mX9_as Q 0 [.ref x, l1, l2] st h = Ex mX9_as Q 1 [.ref x, l1, l2] (.ref x :: st) h := Ex_nx rfl rfl
theorem rX9_as_1 (Q : Po) (h : Hp) (l0 l2 : Value) (x : Int32) (st : List Value) : Ex mX9_as Q 1 [l0, .int x, l2] st h = Ex mX9_as Q 2 [l0, .int x, l2] (.int x :: st) h := Ex_nx rfl rfl
theorem rX9_as_2 (Q : Po) (h : Hp) (ls : List Value) (a0 : Int32) (b : Nat) : Ex mX9_as Q 2 ls (.int a0 :: .ref b :: []) h = (gK h b = 9 ∧ Ex mX9_isFish (Cont mX9_as Q 2 ls 5 []) 0 [.ref b, .int a0] [] h) := Ex_cg (n := 2) (as := [.ref b, .int a0]) rfl rfl
theorem rX9_as_5 (Q : Po) (h : Hp) (ls : List Value) (st : List Value) (x : Int32) : Ex mX9_as Q 5 ls (.int x :: st) h = if x = 0 then Ex mX9_as Q 20 ls st h else Ex mX9_as Q 8 ls st h := Ex_br rfl rfl
theorem rX9_as_8 (Q : Po) (h : Hp) (l0 l1 : Value) (x : Int32) (st : List Value) : Ex mX9_as Q 8 [l0, l1, .int x] st h = Ex mX9_as Q 9 [l0, l1, .int x] (.int x :: st) h := Ex_nx rfl rfl
theorem rX9_as_9 (Q : Po) (h : Hp) (ls : List Value) (st : List Value) (x : Int32) : Ex mX9_as Q 9 ls (.int x :: st) h = Ex mX9_as Q 10 ls (.long x.toInt64 :: st) h := Ex_nx rfl rfl
theorem rX9_as_10 (Q : Po) (h : Hp) (ls : List Value) (st : List Value) : Ex mX9_as Q 10 ls st h = Ex mX9_as Q 11 ls (.long 0 :: st) h := Ex_nx rfl rfl
theorem rX9_as_11 (Q : Po) (h : Hp) (ls : List Value) (st : List Value) : Ex mX9_as Q 11 ls st h = Ex mX9_as Q 14 ls (.long 5 :: st) h := Ex_nx rfl rfl
theorem rX9_as_14 (Q : Po) (h : Hp) (ls : List Value) (a0 : Int64) (a1 : Int64) (a2 : Int64) : Ex mX9_as Q 14 ls (.long a2 :: .long a1 :: .long a0 :: []) h = Ex mX9_in (Cont mX9_as Q 14 ls 17 []) 0 [.long a0, .retAddr 1, .long a1, .retAddr 1, .long a2, .retAddr 1] [] h := Ex_cl (n := 6) (as := [.long a0, .long a1, .long a2]) rfl rfl
theorem rX9_as_17 (Q : Po) (h : Hp) (ls : List Value) (st : List Value) (x : Int32) : Ex mX9_as Q 17 ls (.int x :: st) h = if ¬ x = 0 then Ex mX9_as Q 23 ls st h else Ex mX9_as Q 20 ls st h := Ex_br rfl rfl
theorem rX9_as_20 (Q : Po) (h : Hp) (ls : List Value) (st : List Value) : Ex mX9_as Q 20 ls st h = Ex mX9_as Q 22 ls (.int (-1000001) :: st) h := Ex_nx rfl rfl
theorem rX9_as_22 (Q : Po) (h : Hp) (ls : List Value) (x : Int32) : Ex mX9_as Q 22 ls [.int x] h = Q (.inl (some (.int x))) h := Ex_rt rfl rfl
theorem rX9_as_23 (Q : Po) (h : Hp) (l1 l2 : Value) (x : Nat) (st : List Value) : Ex mX9_as Q 23 [.ref x, l1, l2] st h = Ex mX9_as Q 24 [.ref x, l1, l2] (.ref x :: st) h := Ex_nx rfl rfl
theorem rX9_as_24 (Q : Po) (h : Hp) (ls : List Value) (st : List Value) (a : Nat) : Ex mX9_as Q 24 ls (.ref a :: st) h = (gK h a ∈ ([9] : List Nat) ∧ Ex mX9_as Q 27 ls (gF h 81 a :: st) h) := Ex_gd rfl rfl
theorem rX9_as_27 (Q : Po) (h : Hp) (ls : List Value) (st : List Value) : Ex mX9_as Q 27 ls st h = Ex mX9_as Q 29 ls (.int 26 :: st) h := Ex_nx rfl rfl
theorem rX9_as_29 (Q : Po) (h : Hp) (l0 l2 : Value) (x : Int32) (st : List Value) : Ex mX9_as Q 29 [l0, .int x, l2] st h = Ex mX9_as Q 30 [l0, .int x, l2] (.int x :: st) h := Ex_nx rfl rfl
theorem rX9_as_30 (Q : Po) (h : Hp) (ls : List Value) (st : List Value) (x y : Int32) : Ex mX9_as Q 30 ls (.int y :: .int x :: st) h = Ex mX9_as Q 31 ls (.int (x + y) :: st) h := Ex_nx rfl rfl
theorem rX9_as_31 (Q : Po) (h : Hp) (ls : List Value) (st : List Value) (a : Nat) (i : Int32) : Ex mX9_as Q 31 ls (.int i :: .ref a :: st) h = ((gK h a = 51 ∧ ¬ (i < 0 ∨ gL h a ≤ i.toNatClampNeg)) ∧ Ex mX9_as Q 32 ls (.int (gI h a i.toNatClampNeg) :: st) h) := Ex_gd rfl rfl
theorem rX9_as_32 (Q : Po) (h : Hp) (l0 l1 : Value) (x : Int32) (st : List Value) : Ex mX9_as Q 32 [l0, l1, .int x] st h = Ex mX9_as Q 33 [l0, l1, .int x] (.int x :: st) h := Ex_nx rfl rfl
theorem rX9_as_33 (Q : Po) (h : Hp) (ls : List Value) (a0 : Int32) (a1 : Int32) : Ex mX9_as Q 33 ls (.int a1 :: .int a0 :: []) h = Ex mX9_isKind (Cont mX9_as Q 33 ls 36 []) 0 [.int a0, .int a1] [] h := Ex_cl (n := 2) (as := [.int a0, .int a1]) rfl rfl
theorem rX9_as_36 (Q : Po) (h : Hp) (ls : List Value) (st : List Value) (x : Int32) : Ex mX9_as Q 36 ls (.int x :: st) h = if x = 0 then Ex mX9_as Q 47 ls st h else Ex mX9_as Q 39 ls st h := Ex_br rfl rfl
theorem rX9_as_39 (Q : Po) (h : Hp) (l1 l2 : Value) (x : Nat) (st : List Value) : Ex mX9_as Q 39 [.ref x, l1, l2] st h = Ex mX9_as Q 40 [.ref x, l1, l2] (.ref x :: st) h := Ex_nx rfl rfl
theorem rX9_as_40 (Q : Po) (h : Hp) (l0 l2 : Value) (x : Int32) (st : List Value) : Ex mX9_as Q 40 [l0, .int x, l2] st h = Ex mX9_as Q 41 [l0, .int x, l2] (.int x :: st) h := Ex_nx rfl rfl
theorem rX9_as_41 (Q : Po) (h : Hp) (ls : List Value) (a0 : Int32) (b : Nat) : Ex mX9_as Q 41 ls (.int a0 :: .ref b :: []) h = (gK h b = 9 ∧ Ex mX9_well (Cont mX9_as Q 41 ls 44 []) 0 [.ref b, .int a0] [] h) := Ex_cg (n := 2) (as := [.ref b, .int a0]) rfl rfl
theorem rX9_as_44 (Q : Po) (h : Hp) (ls : List Value) (st : List Value) : Ex mX9_as Q 44 ls st h = Ex mX9_as Q 52 ls st h := Ex_nx rfl rfl
theorem rX9_as_47 (Q : Po) (h : Hp) (l1 l2 : Value) (x : Nat) (st : List Value) : Ex mX9_as Q 47 [.ref x, l1, l2] st h = Ex mX9_as Q 48 [.ref x, l1, l2] (.ref x :: st) h := Ex_nx rfl rfl
theorem rX9_as_48 (Q : Po) (h : Hp) (ls : List Value) (st : List Value) : Ex mX9_as Q 48 ls st h = Ex mX9_as Q 49 ls (.int 3 :: st) h := Ex_nx rfl rfl
theorem rX9_as_49 (Q : Po) (h : Hp) (ls : List Value) (a0 : Int32) (b : Nat) : Ex mX9_as Q 49 ls (.int a0 :: .ref b :: []) h = (gK h b = 9 ∧ Ex mX9_find (Cont mX9_as Q 49 ls 52 []) 0 [.ref b, .int a0] [] h) := Ex_cg (n := 2) (as := [.ref b, .int a0]) rfl rfl
theorem rX9_as_52 (Q : Po) (h : Hp) (ls : List Value) (x : Int32) : Ex mX9_as Q 52 ls [.int x] h = Q (.inl (some (.int x))) h := Ex_rt rfl rfl
theorem rX9_as_t (Q : Po) (h : Hp) (pc n a : Nat) (ls st : List Value) : Cont mX9_as Q pc ls n st (.inr a) h = Q (.inr a) h := rfl
/-! FishReadersModel.begin(I)V -/
def mX9_begin : Cd := ([(0, .inl (i_aload 0 1)),
  (1, .inl (i_getf 120 [9] 4)),
  (4, .inl (i_push (.int 16) 6)),
  (6, .inl (i_icmp (fun x y => y ≤ x) 29 9)),
  (9, .inl (i_aload 0 10)),
  (10, .inl (i_getf 119 [9] 13)),
  (13, .inl (i_aload 0 14)),
  (14, .inl (i_getf 120 [9] 17)),
  (17, .inl (i_iload 1 18)),
  (18, .inl (i_iast 51 (fun x => x) 19)),
  (19, .inl (i_aload 0 20)),
  (20, .inl (i_dup 21)),
  (21, .inl (i_getf 120 [9] 24)),
  (24, .inl (i_push (.int 1) 25)),
  (25, .inl (i_bin (fun x y => x + y) 26)),
  (26, .inl (i_putI 120 [9] 29)),
  (29, .inl i_vret)], noH)
theorem rX9_begin_0 (Q : Po) (h : Hp) (l1 : Value) (x : Nat) (st : List Value) : Ex mX9_begin Q 0 [.ref x, l1] st h = Ex mX9_begin Q 1 [.ref x, l1] (.ref x :: st) h := Ex_nx rfl rfl
theorem rX9_begin_1 (Q : Po) (h : Hp) (ls : List Value) (st : List Value) (a : Nat) : Ex mX9_begin Q 1 ls (.ref a :: st) h = (gK h a ∈ ([9] : List Nat) ∧ Ex mX9_begin Q 4 ls (gF h 120 a :: st) h) := Ex_gd rfl rfl
theorem rX9_begin_4 (Q : Po) (h : Hp) (ls : List Value) (st : List Value) : Ex mX9_begin Q 4 ls st h = Ex mX9_begin Q 6 ls (.int 16 :: st) h := Ex_nx rfl rfl
theorem rX9_begin_6 (Q : Po) (h : Hp) (ls : List Value) (st : List Value) (x y : Int32) : Ex mX9_begin Q 6 ls (.int y :: .int x :: st) h = if y ≤ x then Ex mX9_begin Q 29 ls st h else Ex mX9_begin Q 9 ls st h := Ex_br rfl rfl
theorem rX9_begin_9 (Q : Po) (h : Hp) (l1 : Value) (x : Nat) (st : List Value) : Ex mX9_begin Q 9 [.ref x, l1] st h = Ex mX9_begin Q 10 [.ref x, l1] (.ref x :: st) h := Ex_nx rfl rfl
theorem rX9_begin_10 (Q : Po) (h : Hp) (ls : List Value) (st : List Value) (a : Nat) : Ex mX9_begin Q 10 ls (.ref a :: st) h = (gK h a ∈ ([9] : List Nat) ∧ Ex mX9_begin Q 13 ls (gF h 119 a :: st) h) := Ex_gd rfl rfl
theorem rX9_begin_13 (Q : Po) (h : Hp) (l1 : Value) (x : Nat) (st : List Value) : Ex mX9_begin Q 13 [.ref x, l1] st h = Ex mX9_begin Q 14 [.ref x, l1] (.ref x :: st) h := Ex_nx rfl rfl
theorem rX9_begin_14 (Q : Po) (h : Hp) (ls : List Value) (st : List Value) (a : Nat) : Ex mX9_begin Q 14 ls (.ref a :: st) h = (gK h a ∈ ([9] : List Nat) ∧ Ex mX9_begin Q 17 ls (gF h 120 a :: st) h) := Ex_gd rfl rfl
theorem rX9_begin_17 (Q : Po) (h : Hp) (l0 : Value) (x : Int32) (st : List Value) : Ex mX9_begin Q 17 [l0, .int x] st h = Ex mX9_begin Q 18 [l0, .int x] (.int x :: st) h := Ex_nx rfl rfl
theorem rX9_begin_18 (Q : Po) (h : Hp) (ls : List Value) (st : List Value) (a : Nat) (i x : Int32) : Ex mX9_begin Q 18 ls (.int x :: .int i :: .ref a :: st) h = ((gK h a = 51 ∧ ¬ (i < 0 ∨ gL h a ≤ i.toNatClampNeg)) ∧ Ex mX9_begin Q 19 ls st (pI h a i.toNatClampNeg (x))) := Ex_gd rfl rfl
theorem rX9_begin_19 (Q : Po) (h : Hp) (l1 : Value) (x : Nat) (st : List Value) : Ex mX9_begin Q 19 [.ref x, l1] st h = Ex mX9_begin Q 20 [.ref x, l1] (.ref x :: st) h := Ex_nx rfl rfl
theorem rX9_begin_20 (Q : Po) (h : Hp) (ls : List Value) (st : List Value) (x : Nat) : Ex mX9_begin Q 20 ls (.ref x :: st) h = Ex mX9_begin Q 21 ls (.ref x :: .ref x :: st) h := Ex_nx rfl rfl
theorem rX9_begin_21 (Q : Po) (h : Hp) (ls : List Value) (st : List Value) (a : Nat) : Ex mX9_begin Q 21 ls (.ref a :: st) h = (gK h a ∈ ([9] : List Nat) ∧ Ex mX9_begin Q 24 ls (gF h 120 a :: st) h) := Ex_gd rfl rfl
theorem rX9_begin_24 (Q : Po) (h : Hp) (ls : List Value) (st : List Value) : Ex mX9_begin Q 24 ls st h = Ex mX9_begin Q 25 ls (.int 1 :: st) h := Ex_nx rfl rfl
theorem rX9_begin_25 (Q : Po) (h : Hp) (ls : List Value) (st : List Value) (x y : Int32) : Ex mX9_begin Q 25 ls (.int y :: .int x :: st) h = Ex mX9_begin Q 26 ls (.int (x + y) :: st) h := Ex_nx rfl rfl
theorem rX9_begin_26 (Q : Po) (h : Hp) (ls : List Value) (st : List Value) (x : Int32) (a : Nat) : Ex mX9_begin Q 26 ls (.int x :: .ref a :: st) h = (gK h a ∈ ([9] : List Nat) ∧ Ex mX9_begin Q 29 ls st (pF h 120 a (.int x))) := Ex_gd rfl rfl
theorem rX9_begin_29 (Q : Po) (h : Hp) (ls : List Value) : Ex mX9_begin Q 29 ls [] h = Q (.inl none) h := Ex_rt rfl rfl
theorem rX9_begin_t (Q : Po) (h : Hp) (pc n a : Nat) (ls st : List Value) : Cont mX9_begin Q pc ls n st (.inr a) h = Q (.inr a) h := rfl
/-! FishReadersModel.lent(II)I -/
def mX9_lent : Cd := ([(0, .inl (i_aload 0 1)),
  (1, .inl (i_iload 2 2)),
  (2, .inr (c_V 1 5 2 9 (Mt mX9_begin 2))),
  (5, .inl (i_iload 2 6)),
  (6, .inl (i_push (.int 10) 8)),
  (8, .inl (i_icmp (fun x y => ¬ x = y) 23 11)),
  (11, .inl (i_aload 0 12)),
  (12, .inl (i_getf 81 [9] 15)),
  (15, .inl (i_push (.int 36) 17)),
  (17, .inl (i_iload 1 18)),
  (18, .inl (i_bin (fun x y => x + y) 19)),
  (19, .inl (i_iald 51 20)),
  (20, .inl (i_goto 24)),
  (23, .inl (i_iload 1 24)),
  (24, .inl i_iret)], noH)
theorem rX9_lent_0 (Q : Po) (h : Hp) (l1 l2 : Value) (x : Nat) (st : List Value) : Ex mX9_lent Q 0 [.ref x, l1, l2] st h = Ex mX9_lent Q 1 [.ref x, l1, l2] (.ref x :: st) h := Ex_nx rfl rfl
theorem rX9_lent_1 (Q : Po) (h : Hp) (l0 l1 : Value) (x : Int32) (st : List Value) : Ex mX9_lent Q 1 [l0, l1, .int x] st h = Ex mX9_lent Q 2 [l0, l1, .int x] (.int x :: st) h := Ex_nx rfl rfl
theorem rX9_lent_2 (Q : Po) (h : Hp) (ls : List Value) (a0 : Int32) (b : Nat) : Ex mX9_lent Q 2 ls (.int a0 :: .ref b :: []) h = (gK h b = 9 ∧ Ex mX9_begin (Cont mX9_lent Q 2 ls 5 []) 0 [.ref b, .int a0] [] h) := Ex_cg (n := 2) (as := [.ref b, .int a0]) rfl rfl
theorem rX9_lent_5 (Q : Po) (h : Hp) (l0 l1 : Value) (x : Int32) (st : List Value) : Ex mX9_lent Q 5 [l0, l1, .int x] st h = Ex mX9_lent Q 6 [l0, l1, .int x] (.int x :: st) h := Ex_nx rfl rfl
theorem rX9_lent_6 (Q : Po) (h : Hp) (ls : List Value) (st : List Value) : Ex mX9_lent Q 6 ls st h = Ex mX9_lent Q 8 ls (.int 10 :: st) h := Ex_nx rfl rfl
theorem rX9_lent_8 (Q : Po) (h : Hp) (ls : List Value) (st : List Value) (x y : Int32) : Ex mX9_lent Q 8 ls (.int y :: .int x :: st) h = if ¬ x = y then Ex mX9_lent Q 23 ls st h else Ex mX9_lent Q 11 ls st h := Ex_br rfl rfl
theorem rX9_lent_11 (Q : Po) (h : Hp) (l1 l2 : Value) (x : Nat) (st : List Value) : Ex mX9_lent Q 11 [.ref x, l1, l2] st h = Ex mX9_lent Q 12 [.ref x, l1, l2] (.ref x :: st) h := Ex_nx rfl rfl
theorem rX9_lent_12 (Q : Po) (h : Hp) (ls : List Value) (st : List Value) (a : Nat) : Ex mX9_lent Q 12 ls (.ref a :: st) h = (gK h a ∈ ([9] : List Nat) ∧ Ex mX9_lent Q 15 ls (gF h 81 a :: st) h) := Ex_gd rfl rfl
theorem rX9_lent_15 (Q : Po) (h : Hp) (ls : List Value) (st : List Value) : Ex mX9_lent Q 15 ls st h = Ex mX9_lent Q 17 ls (.int 36 :: st) h := Ex_nx rfl rfl
theorem rX9_lent_17 (Q : Po) (h : Hp) (l0 l2 : Value) (x : Int32) (st : List Value) : Ex mX9_lent Q 17 [l0, .int x, l2] st h = Ex mX9_lent Q 18 [l0, .int x, l2] (.int x :: st) h := Ex_nx rfl rfl
theorem rX9_lent_18 (Q : Po) (h : Hp) (ls : List Value) (st : List Value) (x y : Int32) : Ex mX9_lent Q 18 ls (.int y :: .int x :: st) h = Ex mX9_lent Q 19 ls (.int (x + y) :: st) h := Ex_nx rfl rfl
theorem rX9_lent_19 (Q : Po) (h : Hp) (ls : List Value) (st : List Value) (a : Nat) (i : Int32) : Ex mX9_lent Q 19 ls (.int i :: .ref a :: st) h = ((gK h a = 51 ∧ ¬ (i < 0 ∨ gL h a ≤ i.toNatClampNeg)) ∧ Ex mX9_lent Q 20 ls (.int (gI h a i.toNatClampNeg) :: st) h) := Ex_gd rfl rfl
theorem rX9_lent_20 (Q : Po) (h : Hp) (ls : List Value) (st : List Value) : Ex mX9_lent Q 20 ls st h = Ex mX9_lent Q 24 ls st h := Ex_nx rfl rfl
theorem rX9_lent_23 (Q : Po) (h : Hp) (l0 l2 : Value) (x : Int32) (st : List Value) : Ex mX9_lent Q 23 [l0, .int x, l2] st h = Ex mX9_lent Q 24 [l0, .int x, l2] (.int x :: st) h := Ex_nx rfl rfl
theorem rX9_lent_24 (Q : Po) (h : Hp) (ls : List Value) (x : Int32) : Ex mX9_lent Q 24 ls [.int x] h = Q (.inl (some (.int x))) h := Ex_rt rfl rfl
theorem rX9_lent_t (Q : Po) (h : Hp) (pc n a : Nat) (ls st : List Value) : Cont mX9_lent Q pc ls n st (.inr a) h = Q (.inr a) h := rfl
/-! FishReadersModel.readerMark(I)I -/
def mX9_readerMark : Cd := ([(0, .inl (i_aload 0 1)),
  (1, .inl (i_push (.int 21) 3)),
  (3, .inr (c_V 1 6 2 9 (Mt mX9_begin 2))),
  (6, .inl (i_aload 0 7)),
  (7, .inl (i_iload 1 8)),
  (8, .inl (i_push (.int 20) 10)),
  (10, .inr (c_V 2 13 3 9 (Mt mX9_lent 3))),
  (13, .inl (i_aload 0 14)),
  (14, .inl (i_getf 81 [9] 17)),
  (17, .inl (i_push (.int 31) 19)),
  (19, .inl (i_iload 1 20)),
  (20, .inl (i_bin (fun x y => x + y) 21)),
  (21, .inl (i_iald 51 22)),
  (22, .inl (i_bin (fun x y => x + y) 23)),
  (23, .inl i_iret)], noH)
theorem rX9_readerMark_0 (Q : Po) (h : Hp) (l1 : Value) (x : Nat) (st : List Value) : Ex mX9_readerMark Q 0 [.ref x, l1] st h = Ex mX9_readerMark Q 1 [.ref x, l1] (.ref x :: st) h := Ex_nx rfl rfl
theorem rX9_readerMark_1 (Q : Po) (h : Hp) (ls : List Value) (st : List Value) : Ex mX9_readerMark Q 1 ls st h = Ex mX9_readerMark Q 3 ls (.int 21 :: st) h := Ex_nx rfl rfl
theorem rX9_readerMark_3 (Q : Po) (h : Hp) (ls : List Value) (a0 : Int32) (b : Nat) : Ex mX9_readerMark Q 3 ls (.int a0 :: .ref b :: []) h = (gK h b = 9 ∧ Ex mX9_begin (Cont mX9_readerMark Q 3 ls 6 []) 0 [.ref b, .int a0] [] h) := Ex_cg (n := 2) (as := [.ref b, .int a0]) rfl rfl
theorem rX9_readerMark_6 (Q : Po) (h : Hp) (l1 : Value) (x : Nat) (st : List Value) : Ex mX9_readerMark Q 6 [.ref x, l1] st h = Ex mX9_readerMark Q 7 [.ref x, l1] (.ref x :: st) h := Ex_nx rfl rfl
theorem rX9_readerMark_7 (Q : Po) (h : Hp) (l0 : Value) (x : Int32) (st : List Value) : Ex mX9_readerMark Q 7 [l0, .int x] st h = Ex mX9_readerMark Q 8 [l0, .int x] (.int x :: st) h := Ex_nx rfl rfl
theorem rX9_readerMark_8 (Q : Po) (h : Hp) (ls : List Value) (st : List Value) : Ex mX9_readerMark Q 8 ls st h = Ex mX9_readerMark Q 10 ls (.int 20 :: st) h := Ex_nx rfl rfl
theorem rX9_readerMark_10 (Q : Po) (h : Hp) (ls : List Value) (a0 : Int32) (a1 : Int32) (b : Nat) : Ex mX9_readerMark Q 10 ls (.int a1 :: .int a0 :: .ref b :: []) h = (gK h b = 9 ∧ Ex mX9_lent (Cont mX9_readerMark Q 10 ls 13 []) 0 [.ref b, .int a0, .int a1] [] h) := Ex_cg (n := 3) (as := [.ref b, .int a0, .int a1]) rfl rfl
theorem rX9_readerMark_13 (Q : Po) (h : Hp) (l1 : Value) (x : Nat) (st : List Value) : Ex mX9_readerMark Q 13 [.ref x, l1] st h = Ex mX9_readerMark Q 14 [.ref x, l1] (.ref x :: st) h := Ex_nx rfl rfl
theorem rX9_readerMark_14 (Q : Po) (h : Hp) (ls : List Value) (st : List Value) (a : Nat) : Ex mX9_readerMark Q 14 ls (.ref a :: st) h = (gK h a ∈ ([9] : List Nat) ∧ Ex mX9_readerMark Q 17 ls (gF h 81 a :: st) h) := Ex_gd rfl rfl
theorem rX9_readerMark_17 (Q : Po) (h : Hp) (ls : List Value) (st : List Value) : Ex mX9_readerMark Q 17 ls st h = Ex mX9_readerMark Q 19 ls (.int 31 :: st) h := Ex_nx rfl rfl
theorem rX9_readerMark_19 (Q : Po) (h : Hp) (l0 : Value) (x : Int32) (st : List Value) : Ex mX9_readerMark Q 19 [l0, .int x] st h = Ex mX9_readerMark Q 20 [l0, .int x] (.int x :: st) h := Ex_nx rfl rfl
theorem rX9_readerMark_20 (Q : Po) (h : Hp) (ls : List Value) (st : List Value) (x y : Int32) : Ex mX9_readerMark Q 20 ls (.int y :: .int x :: st) h = Ex mX9_readerMark Q 21 ls (.int (x + y) :: st) h := Ex_nx rfl rfl
theorem rX9_readerMark_21 (Q : Po) (h : Hp) (ls : List Value) (st : List Value) (a : Nat) (i : Int32) : Ex mX9_readerMark Q 21 ls (.int i :: .ref a :: st) h = ((gK h a = 51 ∧ ¬ (i < 0 ∨ gL h a ≤ i.toNatClampNeg)) ∧ Ex mX9_readerMark Q 22 ls (.int (gI h a i.toNatClampNeg) :: st) h) := Ex_gd rfl rfl
theorem rX9_readerMark_22 (Q : Po) (h : Hp) (ls : List Value) (st : List Value) (x y : Int32) : Ex mX9_readerMark Q 22 ls (.int y :: .int x :: st) h = Ex mX9_readerMark Q 23 ls (.int (x + y) :: st) h := Ex_nx rfl rfl
theorem rX9_readerMark_23 (Q : Po) (h : Hp) (ls : List Value) (x : Int32) : Ex mX9_readerMark Q 23 ls [.int x] h = Q (.inl (some (.int x))) h := Ex_rt rfl rfl
theorem rX9_readerMark_t (Q : Po) (h : Hp) (pc n a : Nat) (ls st : List Value) : Cont mX9_readerMark Q pc ls n st (.inr a) h = Q (.inr a) h := rfl
/-! FishReadersModel.wandererSize(I)I -/
def mX9_wandererSize : Cd := ([(0, .inl (i_aload 0 1)),
  (1, .inl (i_push (.int 13) 3)),
  (3, .inr (c_V 1 6 2 9 (Mt mX9_begin 2))),
  (6, .inl (i_aload 0 7)),
  (7, .inl (i_iload 1 8)),
  (8, .inl (i_push (.int 10) 10)),
  (10, .inr (c_V 2 13 3 9 (Mt mX9_lent 3))),
  (13, .inl (i_push (.int 100) 15)),
  (15, .inl (i_bin (fun x y => x - y) 16)),
  (16, .inl i_iret)], noH)
theorem rX9_wandererSize_0 (Q : Po) (h : Hp) (l1 : Value) (x : Nat) (st : List Value) : Ex mX9_wandererSize Q 0 [.ref x, l1] st h = Ex mX9_wandererSize Q 1 [.ref x, l1] (.ref x :: st) h := Ex_nx rfl rfl
theorem rX9_wandererSize_1 (Q : Po) (h : Hp) (ls : List Value) (st : List Value) : Ex mX9_wandererSize Q 1 ls st h = Ex mX9_wandererSize Q 3 ls (.int 13 :: st) h := Ex_nx rfl rfl
theorem rX9_wandererSize_3 (Q : Po) (h : Hp) (ls : List Value) (a0 : Int32) (b : Nat) : Ex mX9_wandererSize Q 3 ls (.int a0 :: .ref b :: []) h = (gK h b = 9 ∧ Ex mX9_begin (Cont mX9_wandererSize Q 3 ls 6 []) 0 [.ref b, .int a0] [] h) := Ex_cg (n := 2) (as := [.ref b, .int a0]) rfl rfl
theorem rX9_wandererSize_6 (Q : Po) (h : Hp) (l1 : Value) (x : Nat) (st : List Value) : Ex mX9_wandererSize Q 6 [.ref x, l1] st h = Ex mX9_wandererSize Q 7 [.ref x, l1] (.ref x :: st) h := Ex_nx rfl rfl
theorem rX9_wandererSize_7 (Q : Po) (h : Hp) (l0 : Value) (x : Int32) (st : List Value) : Ex mX9_wandererSize Q 7 [l0, .int x] st h = Ex mX9_wandererSize Q 8 [l0, .int x] (.int x :: st) h := Ex_nx rfl rfl
theorem rX9_wandererSize_8 (Q : Po) (h : Hp) (ls : List Value) (st : List Value) : Ex mX9_wandererSize Q 8 ls st h = Ex mX9_wandererSize Q 10 ls (.int 10 :: st) h := Ex_nx rfl rfl
theorem rX9_wandererSize_10 (Q : Po) (h : Hp) (ls : List Value) (a0 : Int32) (a1 : Int32) (b : Nat) : Ex mX9_wandererSize Q 10 ls (.int a1 :: .int a0 :: .ref b :: []) h = (gK h b = 9 ∧ Ex mX9_lent (Cont mX9_wandererSize Q 10 ls 13 []) 0 [.ref b, .int a0, .int a1] [] h) := Ex_cg (n := 3) (as := [.ref b, .int a0, .int a1]) rfl rfl
theorem rX9_wandererSize_13 (Q : Po) (h : Hp) (ls : List Value) (st : List Value) : Ex mX9_wandererSize Q 13 ls st h = Ex mX9_wandererSize Q 15 ls (.int 100 :: st) h := Ex_nx rfl rfl
theorem rX9_wandererSize_15 (Q : Po) (h : Hp) (ls : List Value) (st : List Value) (x y : Int32) : Ex mX9_wandererSize Q 15 ls (.int y :: .int x :: st) h = Ex mX9_wandererSize Q 16 ls (.int (x - y) :: st) h := Ex_nx rfl rfl
theorem rX9_wandererSize_16 (Q : Po) (h : Hp) (ls : List Value) (x : Int32) : Ex mX9_wandererSize Q 16 ls [.int x] h = Q (.inl (some (.int x))) h := Ex_rt rfl rfl
theorem rX9_wandererSize_t (Q : Po) (h : Hp) (pc n a : Nat) (ls st : List Value) : Cont mX9_wandererSize Q pc ls n st (.inr a) h = Q (.inr a) h := rfl
/-! FishReadersModel.sizeOfWanderer(I)I -/
def mX9_sizeOfWanderer : Cd := ([(0, .inl (i_aload 0 1)),
  (1, .inl (i_getf 81 [9] 4)),
  (4, .inl (i_push (.int 26) 6)),
  (6, .inl (i_iload 1 7)),
  (7, .inl (i_bin (fun x y => x + y) 8)),
  (8, .inl (i_iald 51 9)),
  (9, .inl (i_push (.int 5) 10)),
  (10, .inl (i_icmp (fun x y => ¬ x = y) 27 13)),
  (13, .inl (i_aload 0 14)),
  (14, .inl (i_push (.int 14) 16)),
  (16, .inr (c_V 1 19 2 9 (Mt mX9_begin 2))),
  (19, .inl (i_push (.int 2) 20)),
  (20, .inl (i_aload 0 21)),
  (21, .inl (i_iload 1 22)),
  (22, .inr (c_V 1 25 2 9 (Mt mX9_wandererSize 2))),
  (25, .inl (i_bin (fun x y => x * y) 26)),
  (26, .inl i_iret),
  (27, .inl (i_aload 0 28)),
  (28, .inl (i_iload 1 29)),
  (29, .inr (c_V 1 32 2 9 (Mt mX9_wandererSize 2))),
  (32, .inl i_iret)], noH)
theorem rX9_sizeOfWanderer_0 (Q : Po) (h : Hp) (l1 : Value) (x : Nat) (st : List Value) : Ex mX9_sizeOfWanderer Q 0 [.ref x, l1] st h = Ex mX9_sizeOfWanderer Q 1 [.ref x, l1] (.ref x :: st) h := Ex_nx rfl rfl
theorem rX9_sizeOfWanderer_1 (Q : Po) (h : Hp) (ls : List Value) (st : List Value) (a : Nat) : Ex mX9_sizeOfWanderer Q 1 ls (.ref a :: st) h = (gK h a ∈ ([9] : List Nat) ∧ Ex mX9_sizeOfWanderer Q 4 ls (gF h 81 a :: st) h) := Ex_gd rfl rfl
theorem rX9_sizeOfWanderer_4 (Q : Po) (h : Hp) (ls : List Value) (st : List Value) : Ex mX9_sizeOfWanderer Q 4 ls st h = Ex mX9_sizeOfWanderer Q 6 ls (.int 26 :: st) h := Ex_nx rfl rfl
theorem rX9_sizeOfWanderer_6 (Q : Po) (h : Hp) (l0 : Value) (x : Int32) (st : List Value) : Ex mX9_sizeOfWanderer Q 6 [l0, .int x] st h = Ex mX9_sizeOfWanderer Q 7 [l0, .int x] (.int x :: st) h := Ex_nx rfl rfl
theorem rX9_sizeOfWanderer_7 (Q : Po) (h : Hp) (ls : List Value) (st : List Value) (x y : Int32) : Ex mX9_sizeOfWanderer Q 7 ls (.int y :: .int x :: st) h = Ex mX9_sizeOfWanderer Q 8 ls (.int (x + y) :: st) h := Ex_nx rfl rfl
theorem rX9_sizeOfWanderer_8 (Q : Po) (h : Hp) (ls : List Value) (st : List Value) (a : Nat) (i : Int32) : Ex mX9_sizeOfWanderer Q 8 ls (.int i :: .ref a :: st) h = ((gK h a = 51 ∧ ¬ (i < 0 ∨ gL h a ≤ i.toNatClampNeg)) ∧ Ex mX9_sizeOfWanderer Q 9 ls (.int (gI h a i.toNatClampNeg) :: st) h) := Ex_gd rfl rfl
theorem rX9_sizeOfWanderer_9 (Q : Po) (h : Hp) (ls : List Value) (st : List Value) : Ex mX9_sizeOfWanderer Q 9 ls st h = Ex mX9_sizeOfWanderer Q 10 ls (.int 5 :: st) h := Ex_nx rfl rfl
theorem rX9_sizeOfWanderer_10 (Q : Po) (h : Hp) (ls : List Value) (st : List Value) (x y : Int32) : Ex mX9_sizeOfWanderer Q 10 ls (.int y :: .int x :: st) h = if ¬ x = y then Ex mX9_sizeOfWanderer Q 27 ls st h else Ex mX9_sizeOfWanderer Q 13 ls st h := Ex_br rfl rfl
theorem rX9_sizeOfWanderer_13 (Q : Po) (h : Hp) (l1 : Value) (x : Nat) (st : List Value) : Ex mX9_sizeOfWanderer Q 13 [.ref x, l1] st h = Ex mX9_sizeOfWanderer Q 14 [.ref x, l1] (.ref x :: st) h := Ex_nx rfl rfl
theorem rX9_sizeOfWanderer_14 (Q : Po) (h : Hp) (ls : List Value) (st : List Value) : Ex mX9_sizeOfWanderer Q 14 ls st h = Ex mX9_sizeOfWanderer Q 16 ls (.int 14 :: st) h := Ex_nx rfl rfl
theorem rX9_sizeOfWanderer_16 (Q : Po) (h : Hp) (ls : List Value) (a0 : Int32) (b : Nat) : Ex mX9_sizeOfWanderer Q 16 ls (.int a0 :: .ref b :: []) h = (gK h b = 9 ∧ Ex mX9_begin (Cont mX9_sizeOfWanderer Q 16 ls 19 []) 0 [.ref b, .int a0] [] h) := Ex_cg (n := 2) (as := [.ref b, .int a0]) rfl rfl
theorem rX9_sizeOfWanderer_19 (Q : Po) (h : Hp) (ls : List Value) (st : List Value) : Ex mX9_sizeOfWanderer Q 19 ls st h = Ex mX9_sizeOfWanderer Q 20 ls (.int 2 :: st) h := Ex_nx rfl rfl
theorem rX9_sizeOfWanderer_20 (Q : Po) (h : Hp) (l1 : Value) (x : Nat) (st : List Value) : Ex mX9_sizeOfWanderer Q 20 [.ref x, l1] st h = Ex mX9_sizeOfWanderer Q 21 [.ref x, l1] (.ref x :: st) h := Ex_nx rfl rfl
theorem rX9_sizeOfWanderer_21 (Q : Po) (h : Hp) (l0 : Value) (x : Int32) (st : List Value) : Ex mX9_sizeOfWanderer Q 21 [l0, .int x] st h = Ex mX9_sizeOfWanderer Q 22 [l0, .int x] (.int x :: st) h := Ex_nx rfl rfl
theorem rX9_sizeOfWanderer_22 (Q : Po) (h : Hp) (ls : List Value) (a0 : Int32) (s0 : Value) (b : Nat) : Ex mX9_sizeOfWanderer Q 22 ls (.int a0 :: .ref b :: [s0]) h = (gK h b = 9 ∧ Ex mX9_wandererSize (Cont mX9_sizeOfWanderer Q 22 ls 25 [s0]) 0 [.ref b, .int a0] [] h) := Ex_cg (n := 2) (as := [.ref b, .int a0]) rfl rfl
theorem rX9_sizeOfWanderer_25 (Q : Po) (h : Hp) (ls : List Value) (st : List Value) (x y : Int32) : Ex mX9_sizeOfWanderer Q 25 ls (.int y :: .int x :: st) h = Ex mX9_sizeOfWanderer Q 26 ls (.int (x * y) :: st) h := Ex_nx rfl rfl
theorem rX9_sizeOfWanderer_26 (Q : Po) (h : Hp) (ls : List Value) (x : Int32) : Ex mX9_sizeOfWanderer Q 26 ls [.int x] h = Q (.inl (some (.int x))) h := Ex_rt rfl rfl
theorem rX9_sizeOfWanderer_27 (Q : Po) (h : Hp) (l1 : Value) (x : Nat) (st : List Value) : Ex mX9_sizeOfWanderer Q 27 [.ref x, l1] st h = Ex mX9_sizeOfWanderer Q 28 [.ref x, l1] (.ref x :: st) h := Ex_nx rfl rfl
theorem rX9_sizeOfWanderer_28 (Q : Po) (h : Hp) (l0 : Value) (x : Int32) (st : List Value) : Ex mX9_sizeOfWanderer Q 28 [l0, .int x] st h = Ex mX9_sizeOfWanderer Q 29 [l0, .int x] (.int x :: st) h := Ex_nx rfl rfl
theorem rX9_sizeOfWanderer_29 (Q : Po) (h : Hp) (ls : List Value) (a0 : Int32) (b : Nat) : Ex mX9_sizeOfWanderer Q 29 ls (.int a0 :: .ref b :: []) h = (gK h b = 9 ∧ Ex mX9_wandererSize (Cont mX9_sizeOfWanderer Q 29 ls 32 []) 0 [.ref b, .int a0] [] h) := Ex_cg (n := 2) (as := [.ref b, .int a0]) rfl rfl
theorem rX9_sizeOfWanderer_32 (Q : Po) (h : Hp) (ls : List Value) (x : Int32) : Ex mX9_sizeOfWanderer Q 32 ls [.int x] h = Q (.inl (some (.int x))) h := Ex_rt rfl rfl
theorem rX9_sizeOfWanderer_t (Q : Po) (h : Hp) (pc n a : Nat) (ls st : List Value) : Cont mX9_sizeOfWanderer Q pc ls n st (.inr a) h = Q (.inr a) h := rfl
/-! FishReadersModel.markOf(I)I -/
def mX9_markOf : Cd := ([(0, .inl (i_aload 0 1)),
  (1, .inl (i_getf 81 [9] 4)),
  (4, .inl (i_push (.int 26) 6)),
  (6, .inl (i_iload 1 7)),
  (7, .inl (i_bin (fun x y => x + y) 8)),
  (8, .inl (i_iald 51 9)),
  (9, .inl (i_istore 2 10)),
  (10, .inl (i_iload 2 11)),
  (11, .inl (i_push (.int 2) 12)),
  (12, .inl (i_icmp (fun x y => ¬ x = y) 29 15)),
  (15, .inl (i_aload 0 16)),
  (16, .inl (i_push (.int 24) 18)),
  (18, .inr (c_V 1 21 2 9 (Mt mX9_begin 2))),
  (21, .inl (i_push (.int 2) 22)),
  (22, .inl (i_aload 0 23)),
  (23, .inl (i_iload 1 24)),
  (24, .inr (c_V 1 27 2 9 (Mt mX9_readerMark 2))),
  (27, .inl (i_bin (fun x y => x * y) 28)),
  (28, .inl i_iret),
  (29, .inl (i_iload 2 30)),
  (30, .inl (i_push (.int 3) 31)),
  (31, .inl (i_icmp (fun x y => ¬ x = y) 50 34)),
  (34, .inl (i_aload 0 35)),
  (35, .inl (i_push (.int 22) 37)),
  (37, .inr (c_V 1 40 2 9 (Mt mX9_begin 2))),
  (40, .inl (i_aload 0 41)),
  (41, .inl (i_iload 1 42)),
  (42, .inr (c_V 1 45 2 9 (Mt mX9_readerMark 2))),
  (45, .inl (i_push (.int 1000) 48)),
  (48, .inl (i_bin (fun x y => x - y) 49)),
  (49, .inl i_iret),
  (50, .inl (i_iload 2 51)),
  (51, .inl (i_push (.int 1) 52)),
  (52, .inl (i_icmp (fun x y => ¬ x = y) 61 55)),
  (55, .inl (i_aload 0 56)),
  (56, .inl (i_iload 1 57)),
  (57, .inr (c_V 1 60 2 9 (Mt mX9_readerMark 2))),
  (60, .inl i_iret),
  (61, .inl (i_aload 0 62)),
  (62, .inl (i_push (.int 23) 64)),
  (64, .inr (c_V 1 67 2 9 (Mt mX9_begin 2))),
  (67, .inl (i_aload 0 68)),
  (68, .inl (i_iload 1 69)),
  (69, .inl (i_push (.int 20) 71)),
  (71, .inr (c_V 2 74 3 9 (Mt mX9_lent 3))),
  (74, .inl (i_istore 3 75)),
  (75, .inl (i_iload 3 76)),
  (76, .inl (i_aload 0 77)),
  (77, .inl (i_iload 1 78)),
  (78, .inr (c_V 1 81 2 9 (Mt mX9_sizeOfWanderer 2))),
  (81, .inl (i_bin (fun x y => x - y) 82)),
  (82, .inl i_iret)], noH)
theorem rX9_markOf_0 (Q : Po) (h : Hp) (l1 l2 l3 : Value) (x : Nat) (st : List Value) : Ex mX9_markOf Q 0 [.ref x, l1, l2, l3] st h = Ex mX9_markOf Q 1 [.ref x, l1, l2, l3] (.ref x :: st) h := Ex_nx rfl rfl
theorem rX9_markOf_1 (Q : Po) (h : Hp) (ls : List Value) (st : List Value) (a : Nat) : Ex mX9_markOf Q 1 ls (.ref a :: st) h = (gK h a ∈ ([9] : List Nat) ∧ Ex mX9_markOf Q 4 ls (gF h 81 a :: st) h) := Ex_gd rfl rfl
theorem rX9_markOf_4 (Q : Po) (h : Hp) (ls : List Value) (st : List Value) : Ex mX9_markOf Q 4 ls st h = Ex mX9_markOf Q 6 ls (.int 26 :: st) h := Ex_nx rfl rfl
theorem rX9_markOf_6 (Q : Po) (h : Hp) (l0 l2 l3 : Value) (x : Int32) (st : List Value) : Ex mX9_markOf Q 6 [l0, .int x, l2, l3] st h = Ex mX9_markOf Q 7 [l0, .int x, l2, l3] (.int x :: st) h := Ex_nx rfl rfl
theorem rX9_markOf_7 (Q : Po) (h : Hp) (ls : List Value) (st : List Value) (x y : Int32) : Ex mX9_markOf Q 7 ls (.int y :: .int x :: st) h = Ex mX9_markOf Q 8 ls (.int (x + y) :: st) h := Ex_nx rfl rfl
theorem rX9_markOf_8 (Q : Po) (h : Hp) (ls : List Value) (st : List Value) (a : Nat) (i : Int32) : Ex mX9_markOf Q 8 ls (.int i :: .ref a :: st) h = ((gK h a = 51 ∧ ¬ (i < 0 ∨ gL h a ≤ i.toNatClampNeg)) ∧ Ex mX9_markOf Q 9 ls (.int (gI h a i.toNatClampNeg) :: st) h) := Ex_gd rfl rfl
theorem rX9_markOf_9 (Q : Po) (h : Hp) (l0 l1 l2 l3 : Value) (x : Int32) (st : List Value) : Ex mX9_markOf Q 9 [l0, l1, l2, l3] (.int x :: st) h = Ex mX9_markOf Q 10 [l0, l1, .int x, l3] st h := Ex_nx rfl rfl
theorem rX9_markOf_10 (Q : Po) (h : Hp) (l0 l1 l3 : Value) (x : Int32) (st : List Value) : Ex mX9_markOf Q 10 [l0, l1, .int x, l3] st h = Ex mX9_markOf Q 11 [l0, l1, .int x, l3] (.int x :: st) h := Ex_nx rfl rfl
theorem rX9_markOf_11 (Q : Po) (h : Hp) (ls : List Value) (st : List Value) : Ex mX9_markOf Q 11 ls st h = Ex mX9_markOf Q 12 ls (.int 2 :: st) h := Ex_nx rfl rfl
theorem rX9_markOf_12 (Q : Po) (h : Hp) (ls : List Value) (st : List Value) (x y : Int32) : Ex mX9_markOf Q 12 ls (.int y :: .int x :: st) h = if ¬ x = y then Ex mX9_markOf Q 29 ls st h else Ex mX9_markOf Q 15 ls st h := Ex_br rfl rfl
theorem rX9_markOf_15 (Q : Po) (h : Hp) (l1 l2 l3 : Value) (x : Nat) (st : List Value) : Ex mX9_markOf Q 15 [.ref x, l1, l2, l3] st h = Ex mX9_markOf Q 16 [.ref x, l1, l2, l3] (.ref x :: st) h := Ex_nx rfl rfl
theorem rX9_markOf_16 (Q : Po) (h : Hp) (ls : List Value) (st : List Value) : Ex mX9_markOf Q 16 ls st h = Ex mX9_markOf Q 18 ls (.int 24 :: st) h := Ex_nx rfl rfl
theorem rX9_markOf_18 (Q : Po) (h : Hp) (ls : List Value) (a0 : Int32) (b : Nat) : Ex mX9_markOf Q 18 ls (.int a0 :: .ref b :: []) h = (gK h b = 9 ∧ Ex mX9_begin (Cont mX9_markOf Q 18 ls 21 []) 0 [.ref b, .int a0] [] h) := Ex_cg (n := 2) (as := [.ref b, .int a0]) rfl rfl
theorem rX9_markOf_21 (Q : Po) (h : Hp) (ls : List Value) (st : List Value) : Ex mX9_markOf Q 21 ls st h = Ex mX9_markOf Q 22 ls (.int 2 :: st) h := Ex_nx rfl rfl
theorem rX9_markOf_22 (Q : Po) (h : Hp) (l1 l2 l3 : Value) (x : Nat) (st : List Value) : Ex mX9_markOf Q 22 [.ref x, l1, l2, l3] st h = Ex mX9_markOf Q 23 [.ref x, l1, l2, l3] (.ref x :: st) h := Ex_nx rfl rfl
theorem rX9_markOf_23 (Q : Po) (h : Hp) (l0 l2 l3 : Value) (x : Int32) (st : List Value) : Ex mX9_markOf Q 23 [l0, .int x, l2, l3] st h = Ex mX9_markOf Q 24 [l0, .int x, l2, l3] (.int x :: st) h := Ex_nx rfl rfl
theorem rX9_markOf_24 (Q : Po) (h : Hp) (ls : List Value) (a0 : Int32) (s0 : Value) (b : Nat) : Ex mX9_markOf Q 24 ls (.int a0 :: .ref b :: [s0]) h = (gK h b = 9 ∧ Ex mX9_readerMark (Cont mX9_markOf Q 24 ls 27 [s0]) 0 [.ref b, .int a0] [] h) := Ex_cg (n := 2) (as := [.ref b, .int a0]) rfl rfl
theorem rX9_markOf_27 (Q : Po) (h : Hp) (ls : List Value) (st : List Value) (x y : Int32) : Ex mX9_markOf Q 27 ls (.int y :: .int x :: st) h = Ex mX9_markOf Q 28 ls (.int (x * y) :: st) h := Ex_nx rfl rfl
theorem rX9_markOf_28 (Q : Po) (h : Hp) (ls : List Value) (x : Int32) : Ex mX9_markOf Q 28 ls [.int x] h = Q (.inl (some (.int x))) h := Ex_rt rfl rfl
theorem rX9_markOf_29 (Q : Po) (h : Hp) (l0 l1 l3 : Value) (x : Int32) (st : List Value) : Ex mX9_markOf Q 29 [l0, l1, .int x, l3] st h = Ex mX9_markOf Q 30 [l0, l1, .int x, l3] (.int x :: st) h := Ex_nx rfl rfl
theorem rX9_markOf_30 (Q : Po) (h : Hp) (ls : List Value) (st : List Value) : Ex mX9_markOf Q 30 ls st h = Ex mX9_markOf Q 31 ls (.int 3 :: st) h := Ex_nx rfl rfl
theorem rX9_markOf_31 (Q : Po) (h : Hp) (ls : List Value) (st : List Value) (x y : Int32) : Ex mX9_markOf Q 31 ls (.int y :: .int x :: st) h = if ¬ x = y then Ex mX9_markOf Q 50 ls st h else Ex mX9_markOf Q 34 ls st h := Ex_br rfl rfl
theorem rX9_markOf_34 (Q : Po) (h : Hp) (l1 l2 l3 : Value) (x : Nat) (st : List Value) : Ex mX9_markOf Q 34 [.ref x, l1, l2, l3] st h = Ex mX9_markOf Q 35 [.ref x, l1, l2, l3] (.ref x :: st) h := Ex_nx rfl rfl
theorem rX9_markOf_35 (Q : Po) (h : Hp) (ls : List Value) (st : List Value) : Ex mX9_markOf Q 35 ls st h = Ex mX9_markOf Q 37 ls (.int 22 :: st) h := Ex_nx rfl rfl
theorem rX9_markOf_37 (Q : Po) (h : Hp) (ls : List Value) (a0 : Int32) (b : Nat) : Ex mX9_markOf Q 37 ls (.int a0 :: .ref b :: []) h = (gK h b = 9 ∧ Ex mX9_begin (Cont mX9_markOf Q 37 ls 40 []) 0 [.ref b, .int a0] [] h) := Ex_cg (n := 2) (as := [.ref b, .int a0]) rfl rfl
theorem rX9_markOf_40 (Q : Po) (h : Hp) (l1 l2 l3 : Value) (x : Nat) (st : List Value) : Ex mX9_markOf Q 40 [.ref x, l1, l2, l3] st h = Ex mX9_markOf Q 41 [.ref x, l1, l2, l3] (.ref x :: st) h := Ex_nx rfl rfl
theorem rX9_markOf_41 (Q : Po) (h : Hp) (l0 l2 l3 : Value) (x : Int32) (st : List Value) : Ex mX9_markOf Q 41 [l0, .int x, l2, l3] st h = Ex mX9_markOf Q 42 [l0, .int x, l2, l3] (.int x :: st) h := Ex_nx rfl rfl
theorem rX9_markOf_42 (Q : Po) (h : Hp) (ls : List Value) (a0 : Int32) (b : Nat) : Ex mX9_markOf Q 42 ls (.int a0 :: .ref b :: []) h = (gK h b = 9 ∧ Ex mX9_readerMark (Cont mX9_markOf Q 42 ls 45 []) 0 [.ref b, .int a0] [] h) := Ex_cg (n := 2) (as := [.ref b, .int a0]) rfl rfl
theorem rX9_markOf_45 (Q : Po) (h : Hp) (ls : List Value) (st : List Value) : Ex mX9_markOf Q 45 ls st h = Ex mX9_markOf Q 48 ls (.int 1000 :: st) h := Ex_nx rfl rfl
theorem rX9_markOf_48 (Q : Po) (h : Hp) (ls : List Value) (st : List Value) (x y : Int32) : Ex mX9_markOf Q 48 ls (.int y :: .int x :: st) h = Ex mX9_markOf Q 49 ls (.int (x - y) :: st) h := Ex_nx rfl rfl
theorem rX9_markOf_49 (Q : Po) (h : Hp) (ls : List Value) (x : Int32) : Ex mX9_markOf Q 49 ls [.int x] h = Q (.inl (some (.int x))) h := Ex_rt rfl rfl
theorem rX9_markOf_50 (Q : Po) (h : Hp) (l0 l1 l3 : Value) (x : Int32) (st : List Value) : Ex mX9_markOf Q 50 [l0, l1, .int x, l3] st h = Ex mX9_markOf Q 51 [l0, l1, .int x, l3] (.int x :: st) h := Ex_nx rfl rfl
theorem rX9_markOf_51 (Q : Po) (h : Hp) (ls : List Value) (st : List Value) : Ex mX9_markOf Q 51 ls st h = Ex mX9_markOf Q 52 ls (.int 1 :: st) h := Ex_nx rfl rfl
theorem rX9_markOf_52 (Q : Po) (h : Hp) (ls : List Value) (st : List Value) (x y : Int32) : Ex mX9_markOf Q 52 ls (.int y :: .int x :: st) h = if ¬ x = y then Ex mX9_markOf Q 61 ls st h else Ex mX9_markOf Q 55 ls st h := Ex_br rfl rfl
theorem rX9_markOf_55 (Q : Po) (h : Hp) (l1 l2 l3 : Value) (x : Nat) (st : List Value) : Ex mX9_markOf Q 55 [.ref x, l1, l2, l3] st h = Ex mX9_markOf Q 56 [.ref x, l1, l2, l3] (.ref x :: st) h := Ex_nx rfl rfl
theorem rX9_markOf_56 (Q : Po) (h : Hp) (l0 l2 l3 : Value) (x : Int32) (st : List Value) : Ex mX9_markOf Q 56 [l0, .int x, l2, l3] st h = Ex mX9_markOf Q 57 [l0, .int x, l2, l3] (.int x :: st) h := Ex_nx rfl rfl
theorem rX9_markOf_57 (Q : Po) (h : Hp) (ls : List Value) (a0 : Int32) (b : Nat) : Ex mX9_markOf Q 57 ls (.int a0 :: .ref b :: []) h = (gK h b = 9 ∧ Ex mX9_readerMark (Cont mX9_markOf Q 57 ls 60 []) 0 [.ref b, .int a0] [] h) := Ex_cg (n := 2) (as := [.ref b, .int a0]) rfl rfl
theorem rX9_markOf_60 (Q : Po) (h : Hp) (ls : List Value) (x : Int32) : Ex mX9_markOf Q 60 ls [.int x] h = Q (.inl (some (.int x))) h := Ex_rt rfl rfl
theorem rX9_markOf_61 (Q : Po) (h : Hp) (l1 l2 l3 : Value) (x : Nat) (st : List Value) : Ex mX9_markOf Q 61 [.ref x, l1, l2, l3] st h = Ex mX9_markOf Q 62 [.ref x, l1, l2, l3] (.ref x :: st) h := Ex_nx rfl rfl
theorem rX9_markOf_62 (Q : Po) (h : Hp) (ls : List Value) (st : List Value) : Ex mX9_markOf Q 62 ls st h = Ex mX9_markOf Q 64 ls (.int 23 :: st) h := Ex_nx rfl rfl
theorem rX9_markOf_64 (Q : Po) (h : Hp) (ls : List Value) (a0 : Int32) (b : Nat) : Ex mX9_markOf Q 64 ls (.int a0 :: .ref b :: []) h = (gK h b = 9 ∧ Ex mX9_begin (Cont mX9_markOf Q 64 ls 67 []) 0 [.ref b, .int a0] [] h) := Ex_cg (n := 2) (as := [.ref b, .int a0]) rfl rfl
theorem rX9_markOf_67 (Q : Po) (h : Hp) (l1 l2 l3 : Value) (x : Nat) (st : List Value) : Ex mX9_markOf Q 67 [.ref x, l1, l2, l3] st h = Ex mX9_markOf Q 68 [.ref x, l1, l2, l3] (.ref x :: st) h := Ex_nx rfl rfl
theorem rX9_markOf_68 (Q : Po) (h : Hp) (l0 l2 l3 : Value) (x : Int32) (st : List Value) : Ex mX9_markOf Q 68 [l0, .int x, l2, l3] st h = Ex mX9_markOf Q 69 [l0, .int x, l2, l3] (.int x :: st) h := Ex_nx rfl rfl
theorem rX9_markOf_69 (Q : Po) (h : Hp) (ls : List Value) (st : List Value) : Ex mX9_markOf Q 69 ls st h = Ex mX9_markOf Q 71 ls (.int 20 :: st) h := Ex_nx rfl rfl
theorem rX9_markOf_71 (Q : Po) (h : Hp) (ls : List Value) (a0 : Int32) (a1 : Int32) (b : Nat) : Ex mX9_markOf Q 71 ls (.int a1 :: .int a0 :: .ref b :: []) h = (gK h b = 9 ∧ Ex mX9_lent (Cont mX9_markOf Q 71 ls 74 []) 0 [.ref b, .int a0, .int a1] [] h) := Ex_cg (n := 3) (as := [.ref b, .int a0, .int a1]) rfl rfl
theorem rX9_markOf_74 (Q : Po) (h : Hp) (l0 l1 l2 l3 : Value) (x : Int32) (st : List Value) : Ex mX9_markOf Q 74 [l0, l1, l2, l3] (.int x :: st) h = Ex mX9_markOf Q 75 [l0, l1, l2, .int x] st h := Ex_nx rfl rfl
theorem rX9_markOf_75 (Q : Po) (h : Hp) (l0 l1 l2 : Value) (x : Int32) (st : List Value) : Ex mX9_markOf Q 75 [l0, l1, l2, .int x] st h = Ex mX9_markOf Q 76 [l0, l1, l2, .int x] (.int x :: st) h := Ex_nx rfl rfl
theorem rX9_markOf_76 (Q : Po) (h : Hp) (l1 l2 l3 : Value) (x : Nat) (st : List Value) : Ex mX9_markOf Q 76 [.ref x, l1, l2, l3] st h = Ex mX9_markOf Q 77 [.ref x, l1, l2, l3] (.ref x :: st) h := Ex_nx rfl rfl
theorem rX9_markOf_77 (Q : Po) (h : Hp) (l0 l2 l3 : Value) (x : Int32) (st : List Value) : Ex mX9_markOf Q 77 [l0, .int x, l2, l3] st h = Ex mX9_markOf Q 78 [l0, .int x, l2, l3] (.int x :: st) h := Ex_nx rfl rfl
theorem rX9_markOf_78 (Q : Po) (h : Hp) (ls : List Value) (a0 : Int32) (s0 : Value) (b : Nat) : Ex mX9_markOf Q 78 ls (.int a0 :: .ref b :: [s0]) h = (gK h b = 9 ∧ Ex mX9_sizeOfWanderer (Cont mX9_markOf Q 78 ls 81 [s0]) 0 [.ref b, .int a0] [] h) := Ex_cg (n := 2) (as := [.ref b, .int a0]) rfl rfl
theorem rX9_markOf_81 (Q : Po) (h : Hp) (ls : List Value) (st : List Value) (x y : Int32) : Ex mX9_markOf Q 81 ls (.int y :: .int x :: st) h = Ex mX9_markOf Q 82 ls (.int (x - y) :: st) h := Ex_nx rfl rfl
theorem rX9_markOf_82 (Q : Po) (h : Hp) (ls : List Value) (x : Int32) : Ex mX9_markOf Q 82 ls [.int x] h = Q (.inl (some (.int x))) h := Ex_rt rfl rfl
theorem rX9_markOf_t (Q : Po) (h : Hp) (pc n a : Nat) (ls st : List Value) : Cont mX9_markOf Q pc ls n st (.inr a) h = Q (.inr a) h := rfl
/-! FishReadersModel.readerSize(I)I -/
def mX9_readerSize : Cd := ([(0, .inl (i_aload 0 1)),
  (1, .inl (i_push (.int 11) 3)),
  (3, .inr (c_V 1 6 2 9 (Mt mX9_begin 2))),
  (6, .inl (i_aload 0 7)),
  (7, .inl (i_iload 1 8)),
  (8, .inl (i_push (.int 10) 10)),
  (10, .inr (c_V 2 13 3 9 (Mt mX9_lent 3))),
  (13, .inl (i_istore 2 14)),
  (14, .inl (i_iload 2 15)),
  (15, .inl (i_aload 0 16)),
  (16, .inl (i_iload 1 17)),
  (17, .inr (c_V 1 20 4 9 (Mt mX9_markOf 4))),
  (20, .inl (i_bin (fun x y => x + y) 21)),
  (21, .inl i_iret)], noH)
theorem rX9_readerSize_0 (Q : Po) (h : Hp) (l1 l2 : Value) (x : Nat) (st : List Value) : Ex mX9_readerSize Q 0 [.ref x, l1, l2] st h = Ex mX9_readerSize Q 1 [.ref x, l1, l2] (.ref x :: st) h := Ex_nx rfl rfl
theorem rX9_readerSize_1 (Q : Po) (h : Hp) (ls : List Value) (st : List Value) : Ex mX9_readerSize Q 1 ls st h = Ex mX9_readerSize Q 3 ls (.int 11 :: st) h := Ex_nx rfl rfl
theorem rX9_readerSize_3 (Q : Po) (h : Hp) (ls : List Value) (a0 : Int32) (b : Nat) : Ex mX9_readerSize Q 3 ls (.int a0 :: .ref b :: []) h = (gK h b = 9 ∧ Ex mX9_begin (Cont mX9_readerSize Q 3 ls 6 []) 0 [.ref b, .int a0] [] h) := Ex_cg (n := 2) (as := [.ref b, .int a0]) rfl rfl
theorem rX9_readerSize_6 (Q : Po) (h : Hp) (l1 l2 : Value) (x : Nat) (st : List Value) : Ex mX9_readerSize Q 6 [.ref x, l1, l2] st h = Ex mX9_readerSize Q 7 [.ref x, l1, l2] (.ref x :: st) h := Ex_nx rfl rfl
theorem rX9_readerSize_7 (Q : Po) (h : Hp) (l0 l2 : Value) (x : Int32) (st : List Value) : Ex mX9_readerSize Q 7 [l0, .int x, l2] st h = Ex mX9_readerSize Q 8 [l0, .int x, l2] (.int x :: st) h := Ex_nx rfl rfl
theorem rX9_readerSize_8 (Q : Po) (h : Hp) (ls : List Value) (st : List Value) : Ex mX9_readerSize Q 8 ls st h = Ex mX9_readerSize Q 10 ls (.int 10 :: st) h := Ex_nx rfl rfl
theorem rX9_readerSize_10 (Q : Po) (h : Hp) (ls : List Value) (a0 : Int32) (a1 : Int32) (b : Nat) : Ex mX9_readerSize Q 10 ls (.int a1 :: .int a0 :: .ref b :: []) h = (gK h b = 9 ∧ Ex mX9_lent (Cont mX9_readerSize Q 10 ls 13 []) 0 [.ref b, .int a0, .int a1] [] h) := Ex_cg (n := 3) (as := [.ref b, .int a0, .int a1]) rfl rfl
theorem rX9_readerSize_13 (Q : Po) (h : Hp) (l0 l1 l2 : Value) (x : Int32) (st : List Value) : Ex mX9_readerSize Q 13 [l0, l1, l2] (.int x :: st) h = Ex mX9_readerSize Q 14 [l0, l1, .int x] st h := Ex_nx rfl rfl
theorem rX9_readerSize_14 (Q : Po) (h : Hp) (l0 l1 : Value) (x : Int32) (st : List Value) : Ex mX9_readerSize Q 14 [l0, l1, .int x] st h = Ex mX9_readerSize Q 15 [l0, l1, .int x] (.int x :: st) h := Ex_nx rfl rfl
theorem rX9_readerSize_15 (Q : Po) (h : Hp) (l1 l2 : Value) (x : Nat) (st : List Value) : Ex mX9_readerSize Q 15 [.ref x, l1, l2] st h = Ex mX9_readerSize Q 16 [.ref x, l1, l2] (.ref x :: st) h := Ex_nx rfl rfl
theorem rX9_readerSize_16 (Q : Po) (h : Hp) (l0 l2 : Value) (x : Int32) (st : List Value) : Ex mX9_readerSize Q 16 [l0, .int x, l2] st h = Ex mX9_readerSize Q 17 [l0, .int x, l2] (.int x :: st) h := Ex_nx rfl rfl
theorem rX9_readerSize_17 (Q : Po) (h : Hp) (ls : List Value) (a0 : Int32) (s0 : Value) (b : Nat) : Ex mX9_readerSize Q 17 ls (.int a0 :: .ref b :: [s0]) h = (gK h b = 9 ∧ Ex mX9_markOf (Cont mX9_readerSize Q 17 ls 20 [s0]) 0 [.ref b, .int a0, .retAddr 0, .retAddr 0] [] h) := Ex_cg (n := 4) (as := [.ref b, .int a0]) rfl rfl
theorem rX9_readerSize_20 (Q : Po) (h : Hp) (ls : List Value) (st : List Value) (x y : Int32) : Ex mX9_readerSize Q 20 ls (.int y :: .int x :: st) h = Ex mX9_readerSize Q 21 ls (.int (x + y) :: st) h := Ex_nx rfl rfl
theorem rX9_readerSize_21 (Q : Po) (h : Hp) (ls : List Value) (x : Int32) : Ex mX9_readerSize Q 21 ls [.int x] h = Q (.inl (some (.int x))) h := Ex_rt rfl rfl
theorem rX9_readerSize_t (Q : Po) (h : Hp) (pc n a : Nat) (ls st : List Value) : Cont mX9_readerSize Q pc ls n st (.inr a) h = Q (.inr a) h := rfl
/-! FishReadersModel.sizeOf(I)I -/
def mX9_sizeOf : Cd := ([(0, .inl (i_aload 0 1)),
  (1, .inl (i_getf 81 [9] 4)),
  (4, .inl (i_push (.int 26) 6)),
  (6, .inl (i_iload 1 7)),
  (7, .inl (i_bin (fun x y => x + y) 8)),
  (8, .inl (i_iald 51 9)),
  (9, .inl (i_istore 2 10)),
  (10, .inl (i_iload 2 11)),
  (11, .inl (i_push (.int 2) 12)),
  (12, .inl (i_icmp (fun x y => ¬ x = y) 28 15)),
  (15, .inl (i_aload 0 16)),
  (16, .inl (i_push (.int 12) 18)),
  (18, .inr (c_V 1 21 2 9 (Mt mX9_begin 2))),
  (21, .inl (i_aload 0 22)),
  (22, .inl (i_iload 1 23)),
  (23, .inr (c_V 1 26 3 9 (Mt mX9_readerSize 3))),
  (26, .inl (i_un (fun x => -x) 27)),
  (27, .inl i_iret),
  (28, .inl (i_iload 2 29)),
  (29, .inl (i_push (.int 4) 30)),
  (30, .inl (i_icmp (fun x y => x < y) 41 33)),
  (33, .inl (i_aload 0 34)),
  (34, .inl (i_iload 1 35)),
  (35, .inr (c_V 1 38 2 9 (Mt mX9_sizeOfWanderer 2))),
  (38, .inl (i_goto 46)),
  (41, .inl (i_aload 0 42)),
  (42, .inl (i_iload 1 43)),
  (43, .inr (c_V 1 46 3 9 (Mt mX9_readerSize 3))),
  (46, .inl i_iret)], noH)
theorem rX9_sizeOf_0 (Q : Po) (h : Hp) (l1 l2 : Value) (x : Nat) (st : List Value) : Ex mX9_sizeOf Q 0 [.ref x, l1, l2] st h = Ex mX9_sizeOf Q 1 [.ref x, l1, l2] (.ref x :: st) h := Ex_nx rfl rfl
theorem rX9_sizeOf_1 (Q : Po) (h : Hp) (ls : List Value) (st : List Value) (a : Nat) : Ex mX9_sizeOf Q 1 ls (.ref a :: st) h = (gK h a ∈ ([9] : List Nat) ∧ Ex mX9_sizeOf Q 4 ls (gF h 81 a :: st) h) := Ex_gd rfl rfl
theorem rX9_sizeOf_4 (Q : Po) (h : Hp) (ls : List Value) (st : List Value) : Ex mX9_sizeOf Q 4 ls st h = Ex mX9_sizeOf Q 6 ls (.int 26 :: st) h := Ex_nx rfl rfl
theorem rX9_sizeOf_6 (Q : Po) (h : Hp) (l0 l2 : Value) (x : Int32) (st : List Value) : Ex mX9_sizeOf Q 6 [l0, .int x, l2] st h = Ex mX9_sizeOf Q 7 [l0, .int x, l2] (.int x :: st) h := Ex_nx rfl rfl
theorem rX9_sizeOf_7 (Q : Po) (h : Hp) (ls : List Value) (st : List Value) (x y : Int32) : Ex mX9_sizeOf Q 7 ls (.int y :: .int x :: st) h = Ex mX9_sizeOf Q 8 ls (.int (x + y) :: st) h := Ex_nx rfl rfl
theorem rX9_sizeOf_8 (Q : Po) (h : Hp) (ls : List Value) (st : List Value) (a : Nat) (i : Int32) : Ex mX9_sizeOf Q 8 ls (.int i :: .ref a :: st) h = ((gK h a = 51 ∧ ¬ (i < 0 ∨ gL h a ≤ i.toNatClampNeg)) ∧ Ex mX9_sizeOf Q 9 ls (.int (gI h a i.toNatClampNeg) :: st) h) := Ex_gd rfl rfl
theorem rX9_sizeOf_9 (Q : Po) (h : Hp) (l0 l1 l2 : Value) (x : Int32) (st : List Value) : Ex mX9_sizeOf Q 9 [l0, l1, l2] (.int x :: st) h = Ex mX9_sizeOf Q 10 [l0, l1, .int x] st h := Ex_nx rfl rfl
theorem rX9_sizeOf_10 (Q : Po) (h : Hp) (l0 l1 : Value) (x : Int32) (st : List Value) : Ex mX9_sizeOf Q 10 [l0, l1, .int x] st h = Ex mX9_sizeOf Q 11 [l0, l1, .int x] (.int x :: st) h := Ex_nx rfl rfl
theorem rX9_sizeOf_11 (Q : Po) (h : Hp) (ls : List Value) (st : List Value) : Ex mX9_sizeOf Q 11 ls st h = Ex mX9_sizeOf Q 12 ls (.int 2 :: st) h := Ex_nx rfl rfl
theorem rX9_sizeOf_12 (Q : Po) (h : Hp) (ls : List Value) (st : List Value) (x y : Int32) : Ex mX9_sizeOf Q 12 ls (.int y :: .int x :: st) h = if ¬ x = y then Ex mX9_sizeOf Q 28 ls st h else Ex mX9_sizeOf Q 15 ls st h := Ex_br rfl rfl
theorem rX9_sizeOf_15 (Q : Po) (h : Hp) (l1 l2 : Value) (x : Nat) (st : List Value) : Ex mX9_sizeOf Q 15 [.ref x, l1, l2] st h = Ex mX9_sizeOf Q 16 [.ref x, l1, l2] (.ref x :: st) h := Ex_nx rfl rfl
theorem rX9_sizeOf_16 (Q : Po) (h : Hp) (ls : List Value) (st : List Value) : Ex mX9_sizeOf Q 16 ls st h = Ex mX9_sizeOf Q 18 ls (.int 12 :: st) h := Ex_nx rfl rfl
theorem rX9_sizeOf_18 (Q : Po) (h : Hp) (ls : List Value) (a0 : Int32) (b : Nat) : Ex mX9_sizeOf Q 18 ls (.int a0 :: .ref b :: []) h = (gK h b = 9 ∧ Ex mX9_begin (Cont mX9_sizeOf Q 18 ls 21 []) 0 [.ref b, .int a0] [] h) := Ex_cg (n := 2) (as := [.ref b, .int a0]) rfl rfl
theorem rX9_sizeOf_21 (Q : Po) (h : Hp) (l1 l2 : Value) (x : Nat) (st : List Value) : Ex mX9_sizeOf Q 21 [.ref x, l1, l2] st h = Ex mX9_sizeOf Q 22 [.ref x, l1, l2] (.ref x :: st) h := Ex_nx rfl rfl
theorem rX9_sizeOf_22 (Q : Po) (h : Hp) (l0 l2 : Value) (x : Int32) (st : List Value) : Ex mX9_sizeOf Q 22 [l0, .int x, l2] st h = Ex mX9_sizeOf Q 23 [l0, .int x, l2] (.int x :: st) h := Ex_nx rfl rfl
theorem rX9_sizeOf_23 (Q : Po) (h : Hp) (ls : List Value) (a0 : Int32) (b : Nat) : Ex mX9_sizeOf Q 23 ls (.int a0 :: .ref b :: []) h = (gK h b = 9 ∧ Ex mX9_readerSize (Cont mX9_sizeOf Q 23 ls 26 []) 0 [.ref b, .int a0, .retAddr 0] [] h) := Ex_cg (n := 3) (as := [.ref b, .int a0]) rfl rfl
theorem rX9_sizeOf_26 (Q : Po) (h : Hp) (ls : List Value) (st : List Value) (x : Int32) : Ex mX9_sizeOf Q 26 ls (.int x :: st) h = Ex mX9_sizeOf Q 27 ls (.int (-x) :: st) h := Ex_nx rfl rfl
theorem rX9_sizeOf_27 (Q : Po) (h : Hp) (ls : List Value) (x : Int32) : Ex mX9_sizeOf Q 27 ls [.int x] h = Q (.inl (some (.int x))) h := Ex_rt rfl rfl
theorem rX9_sizeOf_28 (Q : Po) (h : Hp) (l0 l1 : Value) (x : Int32) (st : List Value) : Ex mX9_sizeOf Q 28 [l0, l1, .int x] st h = Ex mX9_sizeOf Q 29 [l0, l1, .int x] (.int x :: st) h := Ex_nx rfl rfl
theorem rX9_sizeOf_29 (Q : Po) (h : Hp) (ls : List Value) (st : List Value) : Ex mX9_sizeOf Q 29 ls st h = Ex mX9_sizeOf Q 30 ls (.int 4 :: st) h := Ex_nx rfl rfl
theorem rX9_sizeOf_30 (Q : Po) (h : Hp) (ls : List Value) (st : List Value) (x y : Int32) : Ex mX9_sizeOf Q 30 ls (.int y :: .int x :: st) h = if x < y then Ex mX9_sizeOf Q 41 ls st h else Ex mX9_sizeOf Q 33 ls st h := Ex_br rfl rfl
theorem rX9_sizeOf_33 (Q : Po) (h : Hp) (l1 l2 : Value) (x : Nat) (st : List Value) : Ex mX9_sizeOf Q 33 [.ref x, l1, l2] st h = Ex mX9_sizeOf Q 34 [.ref x, l1, l2] (.ref x :: st) h := Ex_nx rfl rfl
theorem rX9_sizeOf_34 (Q : Po) (h : Hp) (l0 l2 : Value) (x : Int32) (st : List Value) : Ex mX9_sizeOf Q 34 [l0, .int x, l2] st h = Ex mX9_sizeOf Q 35 [l0, .int x, l2] (.int x :: st) h := Ex_nx rfl rfl
theorem rX9_sizeOf_35 (Q : Po) (h : Hp) (ls : List Value) (a0 : Int32) (b : Nat) : Ex mX9_sizeOf Q 35 ls (.int a0 :: .ref b :: []) h = (gK h b = 9 ∧ Ex mX9_sizeOfWanderer (Cont mX9_sizeOf Q 35 ls 38 []) 0 [.ref b, .int a0] [] h) := Ex_cg (n := 2) (as := [.ref b, .int a0]) rfl rfl
theorem rX9_sizeOf_38 (Q : Po) (h : Hp) (ls : List Value) (st : List Value) : Ex mX9_sizeOf Q 38 ls st h = Ex mX9_sizeOf Q 46 ls st h := Ex_nx rfl rfl
theorem rX9_sizeOf_41 (Q : Po) (h : Hp) (l1 l2 : Value) (x : Nat) (st : List Value) : Ex mX9_sizeOf Q 41 [.ref x, l1, l2] st h = Ex mX9_sizeOf Q 42 [.ref x, l1, l2] (.ref x :: st) h := Ex_nx rfl rfl
theorem rX9_sizeOf_42 (Q : Po) (h : Hp) (l0 l2 : Value) (x : Int32) (st : List Value) : Ex mX9_sizeOf Q 42 [l0, .int x, l2] st h = Ex mX9_sizeOf Q 43 [l0, .int x, l2] (.int x :: st) h := Ex_nx rfl rfl
theorem rX9_sizeOf_43 (Q : Po) (h : Hp) (ls : List Value) (a0 : Int32) (b : Nat) : Ex mX9_sizeOf Q 43 ls (.int a0 :: .ref b :: []) h = (gK h b = 9 ∧ Ex mX9_readerSize (Cont mX9_sizeOf Q 43 ls 46 []) 0 [.ref b, .int a0, .retAddr 0] [] h) := Ex_cg (n := 3) (as := [.ref b, .int a0]) rfl rfl
theorem rX9_sizeOf_46 (Q : Po) (h : Hp) (ls : List Value) (x : Int32) : Ex mX9_sizeOf Q 46 ls [.int x] h = Q (.inl (some (.int x))) h := Ex_rt rfl rfl
theorem rX9_sizeOf_t (Q : Po) (h : Hp) (pc n a : Nat) (ls st : List Value) : Cont mX9_sizeOf Q pc ls n st (.inr a) h = Q (.inr a) h := rfl
/-! FishReadersModel.ask(II)I -/
def mX9_ask : Cd := ([(0, .inl (i_aload 0 1)),
  (1, .inl (i_iload 1 2)),
  (2, .inr (c_V 1 5 2 9 (Mt mX9_isFish 2))),
  (5, .inl (i_if (fun x => x = 0) 18 8)),
  (8, .inl (i_iload 2 9)),
  (9, .inl (i_i2l 10)),
  (10, .inl (i_push (.long 0) 11)),
  (11, .inl (i_push (.long 1) 12)),
  (12, .inr (c_S 3 15 6 (Mt mX9_in 6))),
  (15, .inl (i_if (fun x => ¬ x = 0) 21 18)),
  (18, .inl (i_push (.int (-1000001)) 20)),
  (20, .inl i_iret),
  (21, .inl (i_aload 0 22)),
  (22, .inl (i_push (.int 0) 23)),
  (23, .inl (i_putI 120 [9] 26)),
  (26, .inl (i_iload 2 27)),
  (27, .inl (i_if (fun x => ¬ x = 0) 38 30)),
  (30, .inl (i_aload 0 31)),
  (31, .inl (i_iload 1 32)),
  (32, .inr (c_V 1 35 3 9 (Mt mX9_sizeOf 3))),
  (35, .inl (i_goto 43)),
  (38, .inl (i_aload 0 39)),
  (39, .inl (i_iload 1 40)),
  (40, .inr (c_V 1 43 4 9 (Mt mX9_markOf 4))),
  (43, .inl i_iret)], noH)
theorem rX9_ask_0 (Q : Po) (h : Hp) (l1 l2 : Value) (x : Nat) (st : List Value) : Ex mX9_ask Q 0 [.ref x, l1, l2] st h = Ex mX9_ask Q 1 [.ref x, l1, l2] (.ref x :: st) h := Ex_nx rfl rfl
theorem rX9_ask_1 (Q : Po) (h : Hp) (l0 l2 : Value) (x : Int32) (st : List Value) : Ex mX9_ask Q 1 [l0, .int x, l2] st h = Ex mX9_ask Q 2 [l0, .int x, l2] (.int x :: st) h := Ex_nx rfl rfl
theorem rX9_ask_2 (Q : Po) (h : Hp) (ls : List Value) (a0 : Int32) (b : Nat) : Ex mX9_ask Q 2 ls (.int a0 :: .ref b :: []) h = (gK h b = 9 ∧ Ex mX9_isFish (Cont mX9_ask Q 2 ls 5 []) 0 [.ref b, .int a0] [] h) := Ex_cg (n := 2) (as := [.ref b, .int a0]) rfl rfl
theorem rX9_ask_5 (Q : Po) (h : Hp) (ls : List Value) (st : List Value) (x : Int32) : Ex mX9_ask Q 5 ls (.int x :: st) h = if x = 0 then Ex mX9_ask Q 18 ls st h else Ex mX9_ask Q 8 ls st h := Ex_br rfl rfl
theorem rX9_ask_8 (Q : Po) (h : Hp) (l0 l1 : Value) (x : Int32) (st : List Value) : Ex mX9_ask Q 8 [l0, l1, .int x] st h = Ex mX9_ask Q 9 [l0, l1, .int x] (.int x :: st) h := Ex_nx rfl rfl
theorem rX9_ask_9 (Q : Po) (h : Hp) (ls : List Value) (st : List Value) (x : Int32) : Ex mX9_ask Q 9 ls (.int x :: st) h = Ex mX9_ask Q 10 ls (.long x.toInt64 :: st) h := Ex_nx rfl rfl
theorem rX9_ask_10 (Q : Po) (h : Hp) (ls : List Value) (st : List Value) : Ex mX9_ask Q 10 ls st h = Ex mX9_ask Q 11 ls (.long 0 :: st) h := Ex_nx rfl rfl
theorem rX9_ask_11 (Q : Po) (h : Hp) (ls : List Value) (st : List Value) : Ex mX9_ask Q 11 ls st h = Ex mX9_ask Q 12 ls (.long 1 :: st) h := Ex_nx rfl rfl
theorem rX9_ask_12 (Q : Po) (h : Hp) (ls : List Value) (a0 : Int64) (a1 : Int64) (a2 : Int64) : Ex mX9_ask Q 12 ls (.long a2 :: .long a1 :: .long a0 :: []) h = Ex mX9_in (Cont mX9_ask Q 12 ls 15 []) 0 [.long a0, .retAddr 1, .long a1, .retAddr 1, .long a2, .retAddr 1] [] h := Ex_cl (n := 6) (as := [.long a0, .long a1, .long a2]) rfl rfl
theorem rX9_ask_15 (Q : Po) (h : Hp) (ls : List Value) (st : List Value) (x : Int32) : Ex mX9_ask Q 15 ls (.int x :: st) h = if ¬ x = 0 then Ex mX9_ask Q 21 ls st h else Ex mX9_ask Q 18 ls st h := Ex_br rfl rfl
theorem rX9_ask_18 (Q : Po) (h : Hp) (ls : List Value) (st : List Value) : Ex mX9_ask Q 18 ls st h = Ex mX9_ask Q 20 ls (.int (-1000001) :: st) h := Ex_nx rfl rfl
theorem rX9_ask_20 (Q : Po) (h : Hp) (ls : List Value) (x : Int32) : Ex mX9_ask Q 20 ls [.int x] h = Q (.inl (some (.int x))) h := Ex_rt rfl rfl
theorem rX9_ask_21 (Q : Po) (h : Hp) (l1 l2 : Value) (x : Nat) (st : List Value) : Ex mX9_ask Q 21 [.ref x, l1, l2] st h = Ex mX9_ask Q 22 [.ref x, l1, l2] (.ref x :: st) h := Ex_nx rfl rfl
theorem rX9_ask_22 (Q : Po) (h : Hp) (ls : List Value) (st : List Value) : Ex mX9_ask Q 22 ls st h = Ex mX9_ask Q 23 ls (.int 0 :: st) h := Ex_nx rfl rfl
theorem rX9_ask_23 (Q : Po) (h : Hp) (ls : List Value) (st : List Value) (x : Int32) (a : Nat) : Ex mX9_ask Q 23 ls (.int x :: .ref a :: st) h = (gK h a ∈ ([9] : List Nat) ∧ Ex mX9_ask Q 26 ls st (pF h 120 a (.int x))) := Ex_gd rfl rfl
theorem rX9_ask_26 (Q : Po) (h : Hp) (l0 l1 : Value) (x : Int32) (st : List Value) : Ex mX9_ask Q 26 [l0, l1, .int x] st h = Ex mX9_ask Q 27 [l0, l1, .int x] (.int x :: st) h := Ex_nx rfl rfl
theorem rX9_ask_27 (Q : Po) (h : Hp) (ls : List Value) (st : List Value) (x : Int32) : Ex mX9_ask Q 27 ls (.int x :: st) h = if ¬ x = 0 then Ex mX9_ask Q 38 ls st h else Ex mX9_ask Q 30 ls st h := Ex_br rfl rfl
theorem rX9_ask_30 (Q : Po) (h : Hp) (l1 l2 : Value) (x : Nat) (st : List Value) : Ex mX9_ask Q 30 [.ref x, l1, l2] st h = Ex mX9_ask Q 31 [.ref x, l1, l2] (.ref x :: st) h := Ex_nx rfl rfl
theorem rX9_ask_31 (Q : Po) (h : Hp) (l0 l2 : Value) (x : Int32) (st : List Value) : Ex mX9_ask Q 31 [l0, .int x, l2] st h = Ex mX9_ask Q 32 [l0, .int x, l2] (.int x :: st) h := Ex_nx rfl rfl
theorem rX9_ask_32 (Q : Po) (h : Hp) (ls : List Value) (a0 : Int32) (b : Nat) : Ex mX9_ask Q 32 ls (.int a0 :: .ref b :: []) h = (gK h b = 9 ∧ Ex mX9_sizeOf (Cont mX9_ask Q 32 ls 35 []) 0 [.ref b, .int a0, .retAddr 0] [] h) := Ex_cg (n := 3) (as := [.ref b, .int a0]) rfl rfl
theorem rX9_ask_35 (Q : Po) (h : Hp) (ls : List Value) (st : List Value) : Ex mX9_ask Q 35 ls st h = Ex mX9_ask Q 43 ls st h := Ex_nx rfl rfl
theorem rX9_ask_38 (Q : Po) (h : Hp) (l1 l2 : Value) (x : Nat) (st : List Value) : Ex mX9_ask Q 38 [.ref x, l1, l2] st h = Ex mX9_ask Q 39 [.ref x, l1, l2] (.ref x :: st) h := Ex_nx rfl rfl
theorem rX9_ask_39 (Q : Po) (h : Hp) (l0 l2 : Value) (x : Int32) (st : List Value) : Ex mX9_ask Q 39 [l0, .int x, l2] st h = Ex mX9_ask Q 40 [l0, .int x, l2] (.int x :: st) h := Ex_nx rfl rfl
theorem rX9_ask_40 (Q : Po) (h : Hp) (ls : List Value) (a0 : Int32) (b : Nat) : Ex mX9_ask Q 40 ls (.int a0 :: .ref b :: []) h = (gK h b = 9 ∧ Ex mX9_markOf (Cont mX9_ask Q 40 ls 43 []) 0 [.ref b, .int a0, .retAddr 0, .retAddr 0] [] h) := Ex_cg (n := 4) (as := [.ref b, .int a0]) rfl rfl
theorem rX9_ask_43 (Q : Po) (h : Hp) (ls : List Value) (x : Int32) : Ex mX9_ask Q 43 ls [.int x] h = Q (.inl (some (.int x))) h := Ex_rt rfl rfl
theorem rX9_ask_t (Q : Po) (h : Hp) (pc n a : Nat) (ls st : List Value) : Cont mX9_ask Q pc ls n st (.inr a) h = Q (.inr a) h := rfl
/-! FishReadersModel.trace(I)I -/
def mX9_trace : Cd := ([(0, .inl (i_iload 1 1)),
  (1, .inl (i_i2l 2)),
  (2, .inl (i_push (.long 0) 3)),
  (3, .inl (i_aload 0 4)),
  (4, .inl (i_getf 120 [9] 7)),
  (7, .inl (i_push (.int 1) 8)),
  (8, .inl (i_bin (fun x y => x - y) 9)),
  (9, .inl (i_i2l 10)),
  (10, .inr (c_S 3 13 6 (Mt mX9_in 6))),
  (13, .inl (i_if (fun x => x = 0) 25 16)),
  (16, .inl (i_aload 0 17)),
  (17, .inl (i_getf 119 [9] 20)),
  (20, .inl (i_iload 1 21)),
  (21, .inl (i_iald 51 22)),
  (22, .inl (i_goto 27)),
  (25, .inl (i_push (.int (-1000000)) 27)),
  (27, .inl i_iret)], noH)
theorem rX9_trace_0 (Q : Po) (h : Hp) (l0 : Value) (x : Int32) (st : List Value) : Ex mX9_trace Q 0 [l0, .int x] st h = Ex mX9_trace Q 1 [l0, .int x] (.int x :: st) h := Ex_nx rfl rfl
theorem rX9_trace_1 (Q : Po) (h : Hp) (ls : List Value) (st : List Value) (x : Int32) : Ex mX9_trace Q 1 ls (.int x :: st) h = Ex mX9_trace Q 2 ls (.long x.toInt64 :: st) h := Ex_nx rfl rfl
theorem rX9_trace_2 (Q : Po) (h : Hp) (ls : List Value) (st : List Value) : Ex mX9_trace Q 2 ls st h = Ex mX9_trace Q 3 ls (.long 0 :: st) h := Ex_nx rfl rfl
theorem rX9_trace_3 (Q : Po) (h : Hp) (l1 : Value) (x : Nat) (st : List Value) : Ex mX9_trace Q 3 [.ref x, l1] st h = Ex mX9_trace Q 4 [.ref x, l1] (.ref x :: st) h := Ex_nx rfl rfl
theorem rX9_trace_4 (Q : Po) (h : Hp) (ls : List Value) (st : List Value) (a : Nat) : Ex mX9_trace Q 4 ls (.ref a :: st) h = (gK h a ∈ ([9] : List Nat) ∧ Ex mX9_trace Q 7 ls (gF h 120 a :: st) h) := Ex_gd rfl rfl
theorem rX9_trace_7 (Q : Po) (h : Hp) (ls : List Value) (st : List Value) : Ex mX9_trace Q 7 ls st h = Ex mX9_trace Q 8 ls (.int 1 :: st) h := Ex_nx rfl rfl
theorem rX9_trace_8 (Q : Po) (h : Hp) (ls : List Value) (st : List Value) (x y : Int32) : Ex mX9_trace Q 8 ls (.int y :: .int x :: st) h = Ex mX9_trace Q 9 ls (.int (x - y) :: st) h := Ex_nx rfl rfl
theorem rX9_trace_9 (Q : Po) (h : Hp) (ls : List Value) (st : List Value) (x : Int32) : Ex mX9_trace Q 9 ls (.int x :: st) h = Ex mX9_trace Q 10 ls (.long x.toInt64 :: st) h := Ex_nx rfl rfl
theorem rX9_trace_10 (Q : Po) (h : Hp) (ls : List Value) (a0 : Int64) (a1 : Int64) (a2 : Int64) : Ex mX9_trace Q 10 ls (.long a2 :: .long a1 :: .long a0 :: []) h = Ex mX9_in (Cont mX9_trace Q 10 ls 13 []) 0 [.long a0, .retAddr 1, .long a1, .retAddr 1, .long a2, .retAddr 1] [] h := Ex_cl (n := 6) (as := [.long a0, .long a1, .long a2]) rfl rfl
theorem rX9_trace_13 (Q : Po) (h : Hp) (ls : List Value) (st : List Value) (x : Int32) : Ex mX9_trace Q 13 ls (.int x :: st) h = if x = 0 then Ex mX9_trace Q 25 ls st h else Ex mX9_trace Q 16 ls st h := Ex_br rfl rfl
theorem rX9_trace_16 (Q : Po) (h : Hp) (l1 : Value) (x : Nat) (st : List Value) : Ex mX9_trace Q 16 [.ref x, l1] st h = Ex mX9_trace Q 17 [.ref x, l1] (.ref x :: st) h := Ex_nx rfl rfl
theorem rX9_trace_17 (Q : Po) (h : Hp) (ls : List Value) (st : List Value) (a : Nat) : Ex mX9_trace Q 17 ls (.ref a :: st) h = (gK h a ∈ ([9] : List Nat) ∧ Ex mX9_trace Q 20 ls (gF h 119 a :: st) h) := Ex_gd rfl rfl
theorem rX9_trace_20 (Q : Po) (h : Hp) (l0 : Value) (x : Int32) (st : List Value) : Ex mX9_trace Q 20 [l0, .int x] st h = Ex mX9_trace Q 21 [l0, .int x] (.int x :: st) h := Ex_nx rfl rfl
theorem rX9_trace_21 (Q : Po) (h : Hp) (ls : List Value) (st : List Value) (a : Nat) (i : Int32) : Ex mX9_trace Q 21 ls (.int i :: .ref a :: st) h = ((gK h a = 51 ∧ ¬ (i < 0 ∨ gL h a ≤ i.toNatClampNeg)) ∧ Ex mX9_trace Q 22 ls (.int (gI h a i.toNatClampNeg) :: st) h) := Ex_gd rfl rfl
theorem rX9_trace_22 (Q : Po) (h : Hp) (ls : List Value) (st : List Value) : Ex mX9_trace Q 22 ls st h = Ex mX9_trace Q 27 ls st h := Ex_nx rfl rfl
theorem rX9_trace_25 (Q : Po) (h : Hp) (ls : List Value) (st : List Value) : Ex mX9_trace Q 25 ls st h = Ex mX9_trace Q 27 ls (.int (-1000000) :: st) h := Ex_nx rfl rfl
theorem rX9_trace_27 (Q : Po) (h : Hp) (ls : List Value) (x : Int32) : Ex mX9_trace Q 27 ls [.int x] h = Q (.inl (some (.int x))) h := Ex_rt rfl rfl
theorem rX9_trace_t (Q : Po) (h : Hp) (pc n a : Nat) (ls st : List Value) : Cont mX9_trace Q pc ls n st (.inr a) h = Q (.inr a) h := rfl
/-! FishReadersModel.count(I)I -/
def mX9_count : Cd := ([(0, .inl (i_push (.int 0) 1)),
  (1, .inl (i_istore 2 2)),
  (2, .inl (i_push (.int 0) 3)),
  (3, .inl (i_istore 3 4)),
  (4, .inl (i_iload 3 5)),
  (5, .inl (i_push (.int 8) 7)),
  (7, .inl (i_icmp (fun x y => y ≤ x) 33 10)),
  (10, .inl (i_iload 2 11)),
  (11, .inl (i_aload 0 12)),
  (12, .inl (i_getf 73 [9] 15)),
  (15, .inl (i_iload 3 16)),
  (16, .inl (i_iald 51 17)),
  (17, .inl (i_if (fun x => x < 0) 24 20)),
  (20, .inl (i_push (.int 1) 21)),
  (21, .inl (i_goto 25)),
  (24, .inl (i_push (.int 0) 25)),
  (25, .inl (i_bin (fun x y => x + y) 26)),
  (26, .inl (i_istore 2 27)),
  (27, .inl (i_iinc 3 1 30)),
  (30, .inl (i_goto 4)),
  (33, .inl (i_push (.int 0) 34)),
  (34, .inl (i_istore 3 35)),
  (35, .inl (i_push (.int 0) 36)),
  (36, .inl (i_istore 4 38)),
  (38, .inl (i_iload 4 40)),
  (40, .inl (i_aload 0 41)),
  (41, .inl (i_getf 81 [9] 44)),
  (44, .inl (i_push (.int 1) 45)),
  (45, .inl (i_iald 51 46)),
  (46, .inl (i_icmp (fun x y => y ≤ x) 68 49)),
  (49, .inl (i_iload 3 50)),
  (50, .inl (i_aload 0 51)),
  (51, .inl (i_getf 81 [9] 54)),
  (54, .inl (i_push (.int 36) 56)),
  (56, .inl (i_iload 4 58)),
  (58, .inl (i_bin (fun x y => x + y) 59)),
  (59, .inl (i_iald 51 60)),
  (60, .inl (i_bin (fun x y => x + y) 61)),
  (61, .inl (i_istore 3 62)),
  (62, .inl (i_iinc 4 1 65)),
  (65, .inl (i_goto 38)),
  (68, .inl (i_iload 1 69)),
  (69, .inl (i_tsw 0 [116, 118, 125, 132, 139, 144, 146, 151] 156)),
  (116, .inl (i_iload 2 117)),
  (117, .inl i_iret),
  (118, .inl (i_aload 0 119)),
  (119, .inl (i_getf 81 [9] 122)),
  (122, .inl (i_push (.int 0) 123)),
  (123, .inl (i_iald 51 124)),
  (124, .inl i_iret),
  (125, .inl (i_aload 0 126)),
  (126, .inl (i_getf 81 [9] 129)),
  (129, .inl (i_push (.int 1) 130)),
  (130, .inl (i_iald 51 131)),
  (131, .inl i_iret),
  (132, .inl (i_aload 0 133)),
  (133, .inl (i_getf 81 [9] 136)),
  (136, .inl (i_push (.int 4) 137)),
  (137, .inl (i_iald 51 138)),
  (138, .inl i_iret),
  (139, .inl (i_aload 0 140)),
  (140, .inr (c_V 0 143 3 9 (Mt mX9_allPages 3))),
  (143, .inl i_iret),
  (144, .inl (i_iload 3 145)),
  (145, .inl i_iret),
  (146, .inl (i_aload 0 147)),
  (147, .inl (i_getf 106 [9] 150)),
  (150, .inl i_iret),
  (151, .inl (i_aload 0 152)),
  (152, .inl (i_getf 86 [9] 155)),
  (155, .inl i_iret),
  (156, .inl (i_push (.int (-1000001)) 158)),
  (158, .inl i_iret)], noH)
theorem rX9_count_0 (Q : Po) (h : Hp) (ls : List Value) (st : List Value) : Ex mX9_count Q 0 ls st h = Ex mX9_count Q 1 ls (.int 0 :: st) h := Ex_nx rfl rfl
theorem rX9_count_1 (Q : Po) (h : Hp) (l0 l1 l2 l3 l4 : Value) (x : Int32) (st : List Value) : Ex mX9_count Q 1 [l0, l1, l2, l3, l4] (.int x :: st) h = Ex mX9_count Q 2 [l0, l1, .int x, l3, l4] st h := Ex_nx rfl rfl
theorem rX9_count_2 (Q : Po) (h : Hp) (ls : List Value) (st : List Value) : Ex mX9_count Q 2 ls st h = Ex mX9_count Q 3 ls (.int 0 :: st) h := Ex_nx rfl rfl
theorem rX9_count_3 (Q : Po) (h : Hp) (l0 l1 l2 l3 l4 : Value) (x : Int32) (st : List Value) : Ex mX9_count Q 3 [l0, l1, l2, l3, l4] (.int x :: st) h = Ex mX9_count Q 4 [l0, l1, l2, .int x, l4] st h := Ex_nx rfl rfl
theorem rX9_count_4 (Q : Po) (h : Hp) (l0 l1 l2 l4 : Value) (x : Int32) (st : List Value) : Ex mX9_count Q 4 [l0, l1, l2, .int x, l4] st h = Ex mX9_count Q 5 [l0, l1, l2, .int x, l4] (.int x :: st) h := Ex_nx rfl rfl
theorem rX9_count_5 (Q : Po) (h : Hp) (ls : List Value) (st : List Value) : Ex mX9_count Q 5 ls st h = Ex mX9_count Q 7 ls (.int 8 :: st) h := Ex_nx rfl rfl
theorem rX9_count_7 (Q : Po) (h : Hp) (ls : List Value) (st : List Value) (x y : Int32) : Ex mX9_count Q 7 ls (.int y :: .int x :: st) h = if y ≤ x then Ex mX9_count Q 33 ls st h else Ex mX9_count Q 10 ls st h := Ex_br rfl rfl
theorem rX9_count_10 (Q : Po) (h : Hp) (l0 l1 l3 l4 : Value) (x : Int32) (st : List Value) : Ex mX9_count Q 10 [l0, l1, .int x, l3, l4] st h = Ex mX9_count Q 11 [l0, l1, .int x, l3, l4] (.int x :: st) h := Ex_nx rfl rfl
theorem rX9_count_11 (Q : Po) (h : Hp) (l1 l2 l3 l4 : Value) (x : Nat) (st : List Value) : Ex mX9_count Q 11 [.ref x, l1, l2, l3, l4] st h = Ex mX9_count Q 12 [.ref x, l1, l2, l3, l4] (.ref x :: st) h := Ex_nx rfl rfl
theorem rX9_count_12 (Q : Po) (h : Hp) (ls : List Value) (st : List Value) (a : Nat) : Ex mX9_count Q 12 ls (.ref a :: st) h = (gK h a ∈ ([9] : List Nat) ∧ Ex mX9_count Q 15 ls (gF h 73 a :: st) h) := Ex_gd rfl rfl
theorem rX9_count_15 (Q : Po) (h : Hp) (l0 l1 l2 l4 : Value) (x : Int32) (st : List Value) : Ex mX9_count Q 15 [l0, l1, l2, .int x, l4] st h = Ex mX9_count Q 16 [l0, l1, l2, .int x, l4] (.int x :: st) h := Ex_nx rfl rfl
theorem rX9_count_16 (Q : Po) (h : Hp) (ls : List Value) (st : List Value) (a : Nat) (i : Int32) : Ex mX9_count Q 16 ls (.int i :: .ref a :: st) h = ((gK h a = 51 ∧ ¬ (i < 0 ∨ gL h a ≤ i.toNatClampNeg)) ∧ Ex mX9_count Q 17 ls (.int (gI h a i.toNatClampNeg) :: st) h) := Ex_gd rfl rfl
theorem rX9_count_17 (Q : Po) (h : Hp) (ls : List Value) (st : List Value) (x : Int32) : Ex mX9_count Q 17 ls (.int x :: st) h = if x < 0 then Ex mX9_count Q 24 ls st h else Ex mX9_count Q 20 ls st h := Ex_br rfl rfl
theorem rX9_count_20 (Q : Po) (h : Hp) (ls : List Value) (st : List Value) : Ex mX9_count Q 20 ls st h = Ex mX9_count Q 21 ls (.int 1 :: st) h := Ex_nx rfl rfl
theorem rX9_count_21 (Q : Po) (h : Hp) (ls : List Value) (st : List Value) : Ex mX9_count Q 21 ls st h = Ex mX9_count Q 25 ls st h := Ex_nx rfl rfl
theorem rX9_count_24 (Q : Po) (h : Hp) (ls : List Value) (st : List Value) : Ex mX9_count Q 24 ls st h = Ex mX9_count Q 25 ls (.int 0 :: st) h := Ex_nx rfl rfl
theorem rX9_count_25 (Q : Po) (h : Hp) (ls : List Value) (st : List Value) (x y : Int32) : Ex mX9_count Q 25 ls (.int y :: .int x :: st) h = Ex mX9_count Q 26 ls (.int (x + y) :: st) h := Ex_nx rfl rfl
theorem rX9_count_26 (Q : Po) (h : Hp) (l0 l1 l2 l3 l4 : Value) (x : Int32) (st : List Value) : Ex mX9_count Q 26 [l0, l1, l2, l3, l4] (.int x :: st) h = Ex mX9_count Q 27 [l0, l1, .int x, l3, l4] st h := Ex_nx rfl rfl
theorem rX9_count_27 (Q : Po) (h : Hp) (l0 l1 l2 l4 : Value) (x : Int32) (st : List Value) : Ex mX9_count Q 27 [l0, l1, l2, .int x, l4] st h = Ex mX9_count Q 30 [l0, l1, l2, .int (x + 1), l4] st h := Ex_nx rfl rfl
theorem rX9_count_30 (Q : Po) (h : Hp) (ls : List Value) (st : List Value) : Ex mX9_count Q 30 ls st h = Ex mX9_count Q 4 ls st h := Ex_nx rfl rfl
theorem rX9_count_33 (Q : Po) (h : Hp) (ls : List Value) (st : List Value) : Ex mX9_count Q 33 ls st h = Ex mX9_count Q 34 ls (.int 0 :: st) h := Ex_nx rfl rfl
theorem rX9_count_34 (Q : Po) (h : Hp) (l0 l1 l2 l3 l4 : Value) (x : Int32) (st : List Value) : Ex mX9_count Q 34 [l0, l1, l2, l3, l4] (.int x :: st) h = Ex mX9_count Q 35 [l0, l1, l2, .int x, l4] st h := Ex_nx rfl rfl
theorem rX9_count_35 (Q : Po) (h : Hp) (ls : List Value) (st : List Value) : Ex mX9_count Q 35 ls st h = Ex mX9_count Q 36 ls (.int 0 :: st) h := Ex_nx rfl rfl
theorem rX9_count_36 (Q : Po) (h : Hp) (l0 l1 l2 l3 l4 : Value) (x : Int32) (st : List Value) : Ex mX9_count Q 36 [l0, l1, l2, l3, l4] (.int x :: st) h = Ex mX9_count Q 38 [l0, l1, l2, l3, .int x] st h := Ex_nx rfl rfl
theorem rX9_count_38 (Q : Po) (h : Hp) (l0 l1 l2 l3 : Value) (x : Int32) (st : List Value) : Ex mX9_count Q 38 [l0, l1, l2, l3, .int x] st h = Ex mX9_count Q 40 [l0, l1, l2, l3, .int x] (.int x :: st) h := Ex_nx rfl rfl
theorem rX9_count_40 (Q : Po) (h : Hp) (l1 l2 l3 l4 : Value) (x : Nat) (st : List Value) : Ex mX9_count Q 40 [.ref x, l1, l2, l3, l4] st h = Ex mX9_count Q 41 [.ref x, l1, l2, l3, l4] (.ref x :: st) h := Ex_nx rfl rfl
theorem rX9_count_41 (Q : Po) (h : Hp) (ls : List Value) (st : List Value) (a : Nat) : Ex mX9_count Q 41 ls (.ref a :: st) h = (gK h a ∈ ([9] : List Nat) ∧ Ex mX9_count Q 44 ls (gF h 81 a :: st) h) := Ex_gd rfl rfl
theorem rX9_count_44 (Q : Po) (h : Hp) (ls : List Value) (st : List Value) : Ex mX9_count Q 44 ls st h = Ex mX9_count Q 45 ls (.int 1 :: st) h := Ex_nx rfl rfl
theorem rX9_count_45 (Q : Po) (h : Hp) (ls : List Value) (st : List Value) (a : Nat) (i : Int32) : Ex mX9_count Q 45 ls (.int i :: .ref a :: st) h = ((gK h a = 51 ∧ ¬ (i < 0 ∨ gL h a ≤ i.toNatClampNeg)) ∧ Ex mX9_count Q 46 ls (.int (gI h a i.toNatClampNeg) :: st) h) := Ex_gd rfl rfl
theorem rX9_count_46 (Q : Po) (h : Hp) (ls : List Value) (st : List Value) (x y : Int32) : Ex mX9_count Q 46 ls (.int y :: .int x :: st) h = if y ≤ x then Ex mX9_count Q 68 ls st h else Ex mX9_count Q 49 ls st h := Ex_br rfl rfl
theorem rX9_count_49 (Q : Po) (h : Hp) (l0 l1 l2 l4 : Value) (x : Int32) (st : List Value) : Ex mX9_count Q 49 [l0, l1, l2, .int x, l4] st h = Ex mX9_count Q 50 [l0, l1, l2, .int x, l4] (.int x :: st) h := Ex_nx rfl rfl
theorem rX9_count_50 (Q : Po) (h : Hp) (l1 l2 l3 l4 : Value) (x : Nat) (st : List Value) : Ex mX9_count Q 50 [.ref x, l1, l2, l3, l4] st h = Ex mX9_count Q 51 [.ref x, l1, l2, l3, l4] (.ref x :: st) h := Ex_nx rfl rfl
theorem rX9_count_51 (Q : Po) (h : Hp) (ls : List Value) (st : List Value) (a : Nat) : Ex mX9_count Q 51 ls (.ref a :: st) h = (gK h a ∈ ([9] : List Nat) ∧ Ex mX9_count Q 54 ls (gF h 81 a :: st) h) := Ex_gd rfl rfl
theorem rX9_count_54 (Q : Po) (h : Hp) (ls : List Value) (st : List Value) : Ex mX9_count Q 54 ls st h = Ex mX9_count Q 56 ls (.int 36 :: st) h := Ex_nx rfl rfl
theorem rX9_count_56 (Q : Po) (h : Hp) (l0 l1 l2 l3 : Value) (x : Int32) (st : List Value) : Ex mX9_count Q 56 [l0, l1, l2, l3, .int x] st h = Ex mX9_count Q 58 [l0, l1, l2, l3, .int x] (.int x :: st) h := Ex_nx rfl rfl
theorem rX9_count_58 (Q : Po) (h : Hp) (ls : List Value) (st : List Value) (x y : Int32) : Ex mX9_count Q 58 ls (.int y :: .int x :: st) h = Ex mX9_count Q 59 ls (.int (x + y) :: st) h := Ex_nx rfl rfl
theorem rX9_count_59 (Q : Po) (h : Hp) (ls : List Value) (st : List Value) (a : Nat) (i : Int32) : Ex mX9_count Q 59 ls (.int i :: .ref a :: st) h = ((gK h a = 51 ∧ ¬ (i < 0 ∨ gL h a ≤ i.toNatClampNeg)) ∧ Ex mX9_count Q 60 ls (.int (gI h a i.toNatClampNeg) :: st) h) := Ex_gd rfl rfl
theorem rX9_count_60 (Q : Po) (h : Hp) (ls : List Value) (st : List Value) (x y : Int32) : Ex mX9_count Q 60 ls (.int y :: .int x :: st) h = Ex mX9_count Q 61 ls (.int (x + y) :: st) h := Ex_nx rfl rfl
theorem rX9_count_61 (Q : Po) (h : Hp) (l0 l1 l2 l3 l4 : Value) (x : Int32) (st : List Value) : Ex mX9_count Q 61 [l0, l1, l2, l3, l4] (.int x :: st) h = Ex mX9_count Q 62 [l0, l1, l2, .int x, l4] st h := Ex_nx rfl rfl
theorem rX9_count_62 (Q : Po) (h : Hp) (l0 l1 l2 l3 : Value) (x : Int32) (st : List Value) : Ex mX9_count Q 62 [l0, l1, l2, l3, .int x] st h = Ex mX9_count Q 65 [l0, l1, l2, l3, .int (x + 1)] st h := Ex_nx rfl rfl
theorem rX9_count_65 (Q : Po) (h : Hp) (ls : List Value) (st : List Value) : Ex mX9_count Q 65 ls st h = Ex mX9_count Q 38 ls st h := Ex_nx rfl rfl
theorem rX9_count_68 (Q : Po) (h : Hp) (l0 l2 l3 l4 : Value) (x : Int32) (st : List Value) : Ex mX9_count Q 68 [l0, .int x, l2, l3, l4] st h = Ex mX9_count Q 69 [l0, .int x, l2, l3, l4] (.int x :: st) h := Ex_nx rfl rfl
theorem rX9_count_69 (Q : Po) (h : Hp) (ls : List Value) (st : List Value) (x : Int32) : Ex mX9_count Q 69 ls (.int x :: st) h = Ex mX9_count Q (tswT 0 [116, 118, 125, 132, 139, 144, 146, 151] 156 x) ls st h := Ex_nx rfl rfl
theorem rX9_count_116 (Q : Po) (h : Hp) (l0 l1 l3 l4 : Value) (x : Int32) (st : List Value) : Ex mX9_count Q 116 [l0, l1, .int x, l3, l4] st h = Ex mX9_count Q 117 [l0, l1, .int x, l3, l4] (.int x :: st) h := Ex_nx rfl rfl
theorem rX9_count_117 (Q : Po) (h : Hp) (ls : List Value) (x : Int32) : Ex mX9_count Q 117 ls [.int x] h = Q (.inl (some (.int x))) h := Ex_rt rfl rfl
theorem rX9_count_118 (Q : Po) (h : Hp) (l1 l2 l3 l4 : Value) (x : Nat) (st : List Value) : Ex mX9_count Q 118 [.ref x, l1, l2, l3, l4] st h = Ex mX9_count Q 119 [.ref x, l1, l2, l3, l4] (.ref x :: st) h := Ex_nx rfl rfl
theorem rX9_count_119 (Q : Po) (h : Hp) (ls : List Value) (st : List Value) (a : Nat) : Ex mX9_count Q 119 ls (.ref a :: st) h = (gK h a ∈ ([9] : List Nat) ∧ Ex mX9_count Q 122 ls (gF h 81 a :: st) h) := Ex_gd rfl rfl
theorem rX9_count_122 (Q : Po) (h : Hp) (ls : List Value) (st : List Value) : Ex mX9_count Q 122 ls st h = Ex mX9_count Q 123 ls (.int 0 :: st) h := Ex_nx rfl rfl
theorem rX9_count_123 (Q : Po) (h : Hp) (ls : List Value) (st : List Value) (a : Nat) (i : Int32) : Ex mX9_count Q 123 ls (.int i :: .ref a :: st) h = ((gK h a = 51 ∧ ¬ (i < 0 ∨ gL h a ≤ i.toNatClampNeg)) ∧ Ex mX9_count Q 124 ls (.int (gI h a i.toNatClampNeg) :: st) h) := Ex_gd rfl rfl
theorem rX9_count_124 (Q : Po) (h : Hp) (ls : List Value) (x : Int32) : Ex mX9_count Q 124 ls [.int x] h = Q (.inl (some (.int x))) h := Ex_rt rfl rfl
theorem rX9_count_125 (Q : Po) (h : Hp) (l1 l2 l3 l4 : Value) (x : Nat) (st : List Value) : Ex mX9_count Q 125 [.ref x, l1, l2, l3, l4] st h = Ex mX9_count Q 126 [.ref x, l1, l2, l3, l4] (.ref x :: st) h := Ex_nx rfl rfl
theorem rX9_count_126 (Q : Po) (h : Hp) (ls : List Value) (st : List Value) (a : Nat) : Ex mX9_count Q 126 ls (.ref a :: st) h = (gK h a ∈ ([9] : List Nat) ∧ Ex mX9_count Q 129 ls (gF h 81 a :: st) h) := Ex_gd rfl rfl
theorem rX9_count_129 (Q : Po) (h : Hp) (ls : List Value) (st : List Value) : Ex mX9_count Q 129 ls st h = Ex mX9_count Q 130 ls (.int 1 :: st) h := Ex_nx rfl rfl
theorem rX9_count_130 (Q : Po) (h : Hp) (ls : List Value) (st : List Value) (a : Nat) (i : Int32) : Ex mX9_count Q 130 ls (.int i :: .ref a :: st) h = ((gK h a = 51 ∧ ¬ (i < 0 ∨ gL h a ≤ i.toNatClampNeg)) ∧ Ex mX9_count Q 131 ls (.int (gI h a i.toNatClampNeg) :: st) h) := Ex_gd rfl rfl
theorem rX9_count_131 (Q : Po) (h : Hp) (ls : List Value) (x : Int32) : Ex mX9_count Q 131 ls [.int x] h = Q (.inl (some (.int x))) h := Ex_rt rfl rfl
theorem rX9_count_132 (Q : Po) (h : Hp) (l1 l2 l3 l4 : Value) (x : Nat) (st : List Value) : Ex mX9_count Q 132 [.ref x, l1, l2, l3, l4] st h = Ex mX9_count Q 133 [.ref x, l1, l2, l3, l4] (.ref x :: st) h := Ex_nx rfl rfl
theorem rX9_count_133 (Q : Po) (h : Hp) (ls : List Value) (st : List Value) (a : Nat) : Ex mX9_count Q 133 ls (.ref a :: st) h = (gK h a ∈ ([9] : List Nat) ∧ Ex mX9_count Q 136 ls (gF h 81 a :: st) h) := Ex_gd rfl rfl
theorem rX9_count_136 (Q : Po) (h : Hp) (ls : List Value) (st : List Value) : Ex mX9_count Q 136 ls st h = Ex mX9_count Q 137 ls (.int 4 :: st) h := Ex_nx rfl rfl
theorem rX9_count_137 (Q : Po) (h : Hp) (ls : List Value) (st : List Value) (a : Nat) (i : Int32) : Ex mX9_count Q 137 ls (.int i :: .ref a :: st) h = ((gK h a = 51 ∧ ¬ (i < 0 ∨ gL h a ≤ i.toNatClampNeg)) ∧ Ex mX9_count Q 138 ls (.int (gI h a i.toNatClampNeg) :: st) h) := Ex_gd rfl rfl
theorem rX9_count_138 (Q : Po) (h : Hp) (ls : List Value) (x : Int32) : Ex mX9_count Q 138 ls [.int x] h = Q (.inl (some (.int x))) h := Ex_rt rfl rfl
theorem rX9_count_139 (Q : Po) (h : Hp) (l1 l2 l3 l4 : Value) (x : Nat) (st : List Value) : Ex mX9_count Q 139 [.ref x, l1, l2, l3, l4] st h = Ex mX9_count Q 140 [.ref x, l1, l2, l3, l4] (.ref x :: st) h := Ex_nx rfl rfl
theorem rX9_count_140 (Q : Po) (h : Hp) (ls : List Value) (b : Nat) : Ex mX9_count Q 140 ls (.ref b :: []) h = (gK h b = 9 ∧ Ex mX9_allPages (Cont mX9_count Q 140 ls 143 []) 0 [.ref b, .retAddr 0, .retAddr 0] [] h) := Ex_cg (n := 3) (as := [.ref b]) rfl rfl
theorem rX9_count_143 (Q : Po) (h : Hp) (ls : List Value) (x : Int32) : Ex mX9_count Q 143 ls [.int x] h = Q (.inl (some (.int x))) h := Ex_rt rfl rfl
theorem rX9_count_144 (Q : Po) (h : Hp) (l0 l1 l2 l4 : Value) (x : Int32) (st : List Value) : Ex mX9_count Q 144 [l0, l1, l2, .int x, l4] st h = Ex mX9_count Q 145 [l0, l1, l2, .int x, l4] (.int x :: st) h := Ex_nx rfl rfl
theorem rX9_count_145 (Q : Po) (h : Hp) (ls : List Value) (x : Int32) : Ex mX9_count Q 145 ls [.int x] h = Q (.inl (some (.int x))) h := Ex_rt rfl rfl
theorem rX9_count_146 (Q : Po) (h : Hp) (l1 l2 l3 l4 : Value) (x : Nat) (st : List Value) : Ex mX9_count Q 146 [.ref x, l1, l2, l3, l4] st h = Ex mX9_count Q 147 [.ref x, l1, l2, l3, l4] (.ref x :: st) h := Ex_nx rfl rfl
theorem rX9_count_147 (Q : Po) (h : Hp) (ls : List Value) (st : List Value) (a : Nat) : Ex mX9_count Q 147 ls (.ref a :: st) h = (gK h a ∈ ([9] : List Nat) ∧ Ex mX9_count Q 150 ls (gF h 106 a :: st) h) := Ex_gd rfl rfl
theorem rX9_count_150 (Q : Po) (h : Hp) (ls : List Value) (x : Int32) : Ex mX9_count Q 150 ls [.int x] h = Q (.inl (some (.int x))) h := Ex_rt rfl rfl
theorem rX9_count_151 (Q : Po) (h : Hp) (l1 l2 l3 l4 : Value) (x : Nat) (st : List Value) : Ex mX9_count Q 151 [.ref x, l1, l2, l3, l4] st h = Ex mX9_count Q 152 [.ref x, l1, l2, l3, l4] (.ref x :: st) h := Ex_nx rfl rfl
theorem rX9_count_152 (Q : Po) (h : Hp) (ls : List Value) (st : List Value) (a : Nat) : Ex mX9_count Q 152 ls (.ref a :: st) h = (gK h a ∈ ([9] : List Nat) ∧ Ex mX9_count Q 155 ls (gF h 86 a :: st) h) := Ex_gd rfl rfl
theorem rX9_count_155 (Q : Po) (h : Hp) (ls : List Value) (x : Int32) : Ex mX9_count Q 155 ls [.int x] h = Q (.inl (some (.int x))) h := Ex_rt rfl rfl
theorem rX9_count_156 (Q : Po) (h : Hp) (ls : List Value) (st : List Value) : Ex mX9_count Q 156 ls st h = Ex mX9_count Q 158 ls (.int (-1000001) :: st) h := Ex_nx rfl rfl
theorem rX9_count_158 (Q : Po) (h : Hp) (ls : List Value) (x : Int32) : Ex mX9_count Q 158 ls [.int x] h = Q (.inl (some (.int x))) h := Ex_rt rfl rfl
theorem rX9_count_t (Q : Po) (h : Hp) (pc n a : Nat) (ls st : List Value) : Cont mX9_count Q pc ls n st (.inr a) h = Q (.inr a) h := rfl
/-! FishReadersModel.status()I -/
def mX9_status : Cd := ([(0, .inl (i_aload 0 1)),
  (1, .inl (i_getf 76 [9] 4)),
  (4, .inl i_iret)], noH)
theorem rX9_status_0 (Q : Po) (h : Hp) (x : Nat) (st : List Value) : Ex mX9_status Q 0 [.ref x] st h = Ex mX9_status Q 1 [.ref x] (.ref x :: st) h := Ex_nx rfl rfl
theorem rX9_status_1 (Q : Po) (h : Hp) (ls : List Value) (st : List Value) (a : Nat) : Ex mX9_status Q 1 ls (.ref a :: st) h = (gK h a ∈ ([9] : List Nat) ∧ Ex mX9_status Q 4 ls (gF h 76 a :: st) h) := Ex_gd rfl rfl
theorem rX9_status_4 (Q : Po) (h : Hp) (ls : List Value) (x : Int32) : Ex mX9_status Q 4 ls [.int x] h = Q (.inl (some (.int x))) h := Ex_rt rfl rfl
theorem rX9_status_t (Q : Po) (h : Hp) (pc n a : Nat) (ls st : List Value) : Cont mX9_status Q pc ls n st (.inr a) h = Q (.inr a) h := rfl
