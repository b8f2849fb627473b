set_option maxRecDepth 100000
set_option maxHeartbeats 4000000
theorem fkX9_7_9 : FkZ RX9 7 71 8 0 RX9 TX9 26 tyX9 := ⟨clX9, by decide, rfl, _, Or.inl q1247, Or.inl rfl⟩
theorem fkX9_13_9 : FkZ RX9 13 73 8 1 RX9 TX9 26 tyX9 := ⟨clX9, by decide, rfl, _, Or.inl q1248, Or.inl rfl⟩
theorem fkX9_16_9 : FkZ RX9 16 75 8 2 RX9 TX9 26 tyX9 := ⟨clX9, by decide, rfl, _, Or.inl q1249, Or.inl rfl⟩
theorem fkX9_19_9 : FkZ RX9 19 81 8 5 RX9 TX9 26 tyX9 := ⟨clX9, by decide, rfl, _, Or.inl q1252, Or.inl rfl⟩
theorem fkX9_22_9 : FkZ RX9 22 83 8 6 RX9 TX9 26 tyX9 := ⟨clX9, by decide, rfl, _, Or.inl q1253, Or.inl rfl⟩
theorem fkX9_25_9 : FkZ RX9 25 85 8 7 RX9 TX9 26 tyX9 := ⟨clX9, by decide, rfl, _, Or.inl q1254, Or.inl rfl⟩
theorem fkX9_28_9 : FkZ RX9 28 101 8 15 RX9 TX9 26 tyX9 := ⟨clX9, by decide, rfl, _, Or.inl q1262, Or.inl rfl⟩
theorem fkX9_31_9 : FkZ RX9 31 103 8 16 RX9 TX9 26 tyX9 := ⟨clX9, by decide, rfl, _, Or.inl q1263, Or.inl rfl⟩
theorem fkX9_34_9 : FkZ RX9 34 105 8 17 RX9 TX9 26 tyX9 := ⟨clX9, by decide, rfl, _, Or.inl q1264, Or.inl rfl⟩
theorem fkX9_37_9 : FkZ RX9 37 109 8 19 RX9 TX9 26 tyX9 := ⟨clX9, by decide, rfl, _, Or.inl q1266, Or.inl rfl⟩
theorem fkX9_40_9 : FkZ RX9 40 111 8 20 RX9 TX9 26 tyX9 := ⟨clX9, by decide, rfl, _, Or.inl q1267, Or.inl rfl⟩
theorem fkX9_43_9 : FkZ RX9 43 113 8 21 RX9 TX9 26 tyX9 := ⟨clX9, by decide, rfl, _, Or.inl q1268, Or.inl rfl⟩
theorem fkX9_46_9 : FkZ RX9 46 115 8 22 RX9 TX9 26 tyX9 := ⟨clX9, by decide, rfl, _, Or.inl q1269, Or.inl rfl⟩
theorem fkX9_50_9 : FkZ RX9 50 117 8 23 RX9 TX9 26 tyX9 := ⟨clX9, by decide, rfl, _, Or.inl q1270, Or.inl rfl⟩
theorem fkX9_53_9 : FkZ RX9 53 119 8 24 RX9 TX9 26 tyX9 := ⟨clX9, by decide, rfl, _, Or.inl q1271, Or.inl rfl⟩
theorem fkX9_56_9 : FkZ RX9 56 76 8 3 RX9 TX9 26 tyX9 := ⟨clX9, by decide, rfl, _, Or.inl q1250, Or.inl rfl⟩
theorem fkX9_87_9 : FkZ RX9 87 86 8 8 RX9 TX9 26 tyX9 := ⟨clX9, by decide, rfl, _, Or.inl q1255, Or.inl rfl⟩
theorem fkX9_91_9 : FkZ RX9 91 90 8 10 RX9 TX9 26 tyX9 := ⟨clX9, by decide, rfl, _, Or.inl q1257, Or.inl rfl⟩
theorem fkX9_94_9 : FkZ RX9 94 96 8 13 RX9 TX9 26 tyX9 := ⟨clX9, by decide, rfl, _, Or.inl q1260, Or.inl rfl⟩
theorem fkX9_97_9 : FkZ RX9 97 92 8 11 RX9 TX9 26 tyX9 := ⟨clX9, by decide, rfl, _, Or.inl q1258, Or.inl rfl⟩
theorem fkX9_100_9 : FkZ RX9 100 94 8 12 RX9 TX9 26 tyX9 := ⟨clX9, by decide, rfl, _, Or.inl q1259, Or.inl rfl⟩
theorem fkX9_111_9 : FkZ RX9 111 98 8 14 RX9 TX9 26 tyX9 := ⟨clX9, by decide, rfl, _, Or.inl q1261, Or.inl rfl⟩
theorem fkX9_143_9 : FkZ RX9 143 88 8 9 RX9 TX9 26 tyX9 := ⟨clX9, by decide, rfl, _, Or.inl q1256, Or.inl rfl⟩
theorem fkX9_147_9 : FkZ RX9 147 78 8 4 RX9 TX9 26 tyX9 := ⟨clX9, by decide, rfl, _, Or.inl q1251, Or.inl rfl⟩
theorem fkX9_151_9 : FkZ RX9 151 106 8 18 RX9 TX9 26 tyX9 := ⟨clX9, by decide, rfl, _, Or.inl q1265, Or.inl rfl⟩
theorem fkX9_277_9 : FkZ RX9 277 120 8 25 RX9 TX9 26 tyX9 := ⟨clX9, by decide, rfl, _, Or.inl q1272, Or.inl rfl⟩
abbrev nX9_init : MI := (cX9_init, 2, none, RX9, "<init>", [], 1, 24)
theorem hyX9_init : yX9_init.cls ≠ "java/lang/invoke/MethodHandle" ∧ yX9_init.cls ≠ "java/lang/invoke/VarHandle" := by decide +kernel
theorem pnX9_init : (parseMethodDescriptor yX9_init.desc).map (fun d => d.parameters.length) = some 0 := by decide +kernel
theorem wdX9_init : CdW yX9_init (nX9_init) := ⟨Or.inl ⟨q1245, rfl⟩, rfl, rfl, plainFor_of_name (by decide +kernel)⟩
theorem eX9_init_0 : SiZ nX9_init 0 (i_aload 0 1) := s_aload_n dX9_init_0 rfl
theorem eX9_init_1 : SiZ nX9_init 1 (i_oini 4) := s_oini dX9_init_1 q1246 (by decide) (by decide)
theorem eX9_init_4 : SiZ nX9_init 4 (i_aload 0 5) := s_aload_n dX9_init_4 rfl
theorem eX9_init_5 : SiZ nX9_init 5 (i_push (.int 8) 7) := s_bipush dX9_init_5 (by decide)
theorem eX9_init_7 : SiZ nX9_init 7 (i_newa 51 9) := s_newa (j := 0) dX9_init_7 (by decide) rfl (fun _ => rfl) rfl (by decide) q153 (fun _ _ h => h)
theorem eX9_init_9 : SiZ nX9_init 9 (i_putR 71 [9] 12) := s_putR dX9_init_9 (fm_cons (⟨_, _, _, _, _, _, rfl, ⟨fkX9_7_9, ⟨_, q1247, Or.inl rfl⟩, Or.inr ⟨rfl, rfl, rfl⟩⟩, (Or.inr ⟨_, rfl⟩)⟩) (fm_nil))
theorem eX9_init_12 : SiZ nX9_init 12 (i_aload 0 13) := s_aload_n dX9_init_12 rfl
theorem eX9_init_13 : SiZ nX9_init 13 (i_push (.int 8) 15) := s_bipush dX9_init_13 (by decide)
theorem eX9_init_15 : SiZ nX9_init 15 (i_newa 51 17) := s_newa (j := 0) dX9_init_15 (by decide) rfl (fun _ => rfl) rfl (by decide) q153 (fun _ _ h => h)
theorem eX9_init_17 : SiZ nX9_init 17 (i_putR 73 [9] 20) := s_putR dX9_init_17 (fm_cons (⟨_, _, _, _, _, _, rfl, ⟨fkX9_13_9, ⟨_, q1248, Or.inl rfl⟩, Or.inr ⟨rfl, rfl, rfl⟩⟩, (Or.inr ⟨_, rfl⟩)⟩) (fm_nil))
theorem eX9_init_20 : SiZ nX9_init 20 (i_aload 0 21) := s_aload_n dX9_init_20 rfl
theorem eX9_init_21 : SiZ nX9_init 21 (i_push (.int 320) 24) := s_sipush dX9_init_21 (by decide)
theorem eX9_init_24 : SiZ nX9_init 24 (i_newa 51 26) := s_newa (j := 0) dX9_init_24 (by decide) rfl (fun _ => rfl) rfl (by decide) q153 (fun _ _ h => h)
theorem eX9_init_26 : SiZ nX9_init 26 (i_putR 75 [9] 29) := s_putR dX9_init_26 (fm_cons (⟨_, _, _, _, _, _, rfl, ⟨fkX9_16_9, ⟨_, q1249, Or.inl rfl⟩, Or.inr ⟨rfl, rfl, rfl⟩⟩, (Or.inr ⟨_, rfl⟩)⟩) (fm_nil))
theorem eX9_init_29 : SiZ nX9_init 29 (i_aload 0 30) := s_aload_n dX9_init_29 rfl
theorem eX9_init_30 : SiZ nX9_init 30 (i_push (.int 41) 32) := s_bipush dX9_init_30 (by decide)
theorem eX9_init_32 : SiZ nX9_init 32 (i_newa 51 34) := s_newa (j := 0) dX9_init_32 (by decide) rfl (fun _ => rfl) rfl (by decide) q153 (fun _ _ h => h)
theorem eX9_init_34 : SiZ nX9_init 34 (i_putR 81 [9] 37) := s_putR dX9_init_34 (fm_cons (⟨_, _, _, _, _, _, rfl, ⟨fkX9_19_9, ⟨_, q1252, Or.inl rfl⟩, Or.inr ⟨rfl, rfl, rfl⟩⟩, (Or.inr ⟨_, rfl⟩)⟩) (fm_nil))
theorem eX9_init_37 : SiZ nX9_init 37 (i_aload 0 38) := s_aload_n dX9_init_37 rfl
theorem eX9_init_38 : SiZ nX9_init 38 (i_push (.int 40) 40) := s_bipush dX9_init_38 (by decide)
theorem eX9_init_40 : SiZ nX9_init 40 (i_newa 51 42) := s_newa (j := 0) dX9_init_40 (by decide) rfl (fun _ => rfl) rfl (by decide) q153 (fun _ _ h => h)
theorem eX9_init_42 : SiZ nX9_init 42 (i_putR 83 [9] 45) := s_putR dX9_init_42 (fm_cons (⟨_, _, _, _, _, _, rfl, ⟨fkX9_22_9, ⟨_, q1253, Or.inl rfl⟩, Or.inr ⟨rfl, rfl, rfl⟩⟩, (Or.inr ⟨_, rfl⟩)⟩) (fm_nil))
theorem eX9_init_45 : SiZ nX9_init 45 (i_aload 0 46) := s_aload_n dX9_init_45 rfl
theorem eX9_init_46 : SiZ nX9_init 46 (i_push (.int 120) 48) := s_bipush dX9_init_46 (by decide)
theorem eX9_init_48 : SiZ nX9_init 48 (i_newa 51 50) := s_newa (j := 0) dX9_init_48 (by decide) rfl (fun _ => rfl) rfl (by decide) q153 (fun _ _ h => h)
theorem eX9_init_50 : SiZ nX9_init 50 (i_putR 85 [9] 53) := s_putR dX9_init_50 (fm_cons (⟨_, _, _, _, _, _, rfl, ⟨fkX9_25_9, ⟨_, q1254, Or.inl rfl⟩, Or.inr ⟨rfl, rfl, rfl⟩⟩, (Or.inr ⟨_, rfl⟩)⟩) (fm_nil))
theorem eX9_init_53 : SiZ nX9_init 53 (i_aload 0 54) := s_aload_n dX9_init_53 rfl
theorem eX9_init_54 : SiZ nX9_init 54 (i_push (.int 41) 56) := s_bipush dX9_init_54 (by decide)
theorem eX9_init_56 : SiZ nX9_init 56 (i_newa 51 58) := s_newa (j := 0) dX9_init_56 (by decide) rfl (fun _ => rfl) rfl (by decide) q153 (fun _ _ h => h)
theorem eX9_init_58 : SiZ nX9_init 58 (i_putR 101 [9] 61) := s_putR dX9_init_58 (fm_cons (⟨_, _, _, _, _, _, rfl, ⟨fkX9_28_9, ⟨_, q1262, Or.inl rfl⟩, Or.inr ⟨rfl, rfl, rfl⟩⟩, (Or.inr ⟨_, rfl⟩)⟩) (fm_nil))
theorem eX9_init_61 : SiZ nX9_init 61 (i_aload 0 62) := s_aload_n dX9_init_61 rfl
theorem eX9_init_62 : SiZ nX9_init 62 (i_push (.int 5) 63) := s_iconst dX9_init_62 (by decide)
theorem eX9_init_63 : SiZ nX9_init 63 (i_newa 51 65) := s_newa (j := 0) dX9_init_63 (by decide) rfl (fun _ => rfl) rfl (by decide) q153 (fun _ _ h => h)
theorem eX9_init_65 : SiZ nX9_init 65 (i_putR 103 [9] 68) := s_putR dX9_init_65 (fm_cons (⟨_, _, _, _, _, _, rfl, ⟨fkX9_31_9, ⟨_, q1263, Or.inl rfl⟩, Or.inr ⟨rfl, rfl, rfl⟩⟩, (Or.inr ⟨_, rfl⟩)⟩) (fm_nil))
theorem eX9_init_68 : SiZ nX9_init 68 (i_aload 0 69) := s_aload_n dX9_init_68 rfl
theorem eX9_init_69 : SiZ nX9_init 69 (i_push (.int 984) 72) := s_sipush dX9_init_69 (by decide)
theorem eX9_init_72 : SiZ nX9_init 72 (i_newa 51 74) := s_newa (j := 0) dX9_init_72 (by decide) rfl (fun _ => rfl) rfl (by decide) q153 (fun _ _ h => h)
theorem eX9_init_74 : SiZ nX9_init 74 (i_putR 105 [9] 77) := s_putR dX9_init_74 (fm_cons (⟨_, _, _, _, _, _, rfl, ⟨fkX9_34_9, ⟨_, q1264, Or.inl rfl⟩, Or.inr ⟨rfl, rfl, rfl⟩⟩, (Or.inr ⟨_, rfl⟩)⟩) (fm_nil))
theorem eX9_init_77 : SiZ nX9_init 77 (i_aload 0 78) := s_aload_n dX9_init_77 rfl
theorem eX9_init_78 : SiZ nX9_init 78 (i_push (.int 41) 80) := s_bipush dX9_init_78 (by decide)
theorem eX9_init_80 : SiZ nX9_init 80 (i_newa 51 82) := s_newa (j := 0) dX9_init_80 (by decide) rfl (fun _ => rfl) rfl (by decide) q153 (fun _ _ h => h)
theorem eX9_init_82 : SiZ nX9_init 82 (i_putR 109 [9] 85) := s_putR dX9_init_82 (fm_cons (⟨_, _, _, _, _, _, rfl, ⟨fkX9_37_9, ⟨_, q1266, Or.inl rfl⟩, Or.inr ⟨rfl, rfl, rfl⟩⟩, (Or.inr ⟨_, rfl⟩)⟩) (fm_nil))
theorem eX9_init_85 : SiZ nX9_init 85 (i_aload 0 86) := s_aload_n dX9_init_85 rfl
theorem eX9_init_86 : SiZ nX9_init 86 (i_push (.int 6) 88) := s_bipush dX9_init_86 (by decide)
theorem eX9_init_88 : SiZ nX9_init 88 (i_newa 51 90) := s_newa (j := 0) dX9_init_88 (by decide) rfl (fun _ => rfl) rfl (by decide) q153 (fun _ _ h => h)
theorem eX9_init_90 : SiZ nX9_init 90 (i_putR 111 [9] 93) := s_putR dX9_init_90 (fm_cons (⟨_, _, _, _, _, _, rfl, ⟨fkX9_40_9, ⟨_, q1267, Or.inl rfl⟩, Or.inr ⟨rfl, rfl, rfl⟩⟩, (Or.inr ⟨_, rfl⟩)⟩) (fm_nil))
theorem eX9_init_93 : SiZ nX9_init 93 (i_aload 0 94) := s_aload_n dX9_init_93 rfl
theorem eX9_init_94 : SiZ nX9_init 94 (i_push (.int 6) 96) := s_bipush dX9_init_94 (by decide)
theorem eX9_init_96 : SiZ nX9_init 96 (i_newa 51 98) := s_newa (j := 0) dX9_init_96 (by decide) rfl (fun _ => rfl) rfl (by decide) q153 (fun _ _ h => h)
theorem eX9_init_98 : SiZ nX9_init 98 (i_putR 113 [9] 101) := s_putR dX9_init_98 (fm_cons (⟨_, _, _, _, _, _, rfl, ⟨fkX9_43_9, ⟨_, q1268, Or.inl rfl⟩, Or.inr ⟨rfl, rfl, rfl⟩⟩, (Or.inr ⟨_, rfl⟩)⟩) (fm_nil))
theorem eX9_init_101 : SiZ nX9_init 101 (i_aload 0 102) := s_aload_n dX9_init_101 rfl
theorem eX9_init_102 : SiZ nX9_init 102 (i_push (.int 2) 103) := s_iconst dX9_init_102 (by decide)
theorem eX9_init_103 : SiZ nX9_init 103 (i_newa 53 105) := s_newa (j := 2) dX9_init_103 (by decide) rfl (fun _ => rfl) rfl (by decide) q1326 (fun _ _ h => h)
theorem eX9_init_105 : SiZ nX9_init 105 (i_putR 115 [9] 108) := s_putR dX9_init_105 (fm_cons (⟨_, _, _, _, _, _, rfl, ⟨fkX9_46_9, ⟨_, q1269, Or.inl rfl⟩, Or.inr ⟨rfl, rfl, rfl⟩⟩, (Or.inr ⟨_, rfl⟩)⟩) (fm_nil))
theorem eX9_init_108 : SiZ nX9_init 108 (i_aload 0 109) := s_aload_n dX9_init_108 rfl
theorem eX9_init_109 : SiZ nX9_init 109 (i_push (.int 82) 111) := s_bipush dX9_init_109 (by decide)
theorem eX9_init_111 : SiZ nX9_init 111 (i_newa 51 113) := s_newa (j := 0) dX9_init_111 (by decide) rfl (fun _ => rfl) rfl (by decide) q153 (fun _ _ h => h)
theorem eX9_init_113 : SiZ nX9_init 113 (i_putR 117 [9] 116) := s_putR dX9_init_113 (fm_cons (⟨_, _, _, _, _, _, rfl, ⟨fkX9_50_9, ⟨_, q1270, Or.inl rfl⟩, Or.inr ⟨rfl, rfl, rfl⟩⟩, (Or.inr ⟨_, rfl⟩)⟩) (fm_nil))
theorem eX9_init_116 : SiZ nX9_init 116 (i_aload 0 117) := s_aload_n dX9_init_116 rfl
theorem eX9_init_117 : SiZ nX9_init 117 (i_push (.int 16) 119) := s_bipush dX9_init_117 (by decide)
theorem eX9_init_119 : SiZ nX9_init 119 (i_newa 51 121) := s_newa (j := 0) dX9_init_119 (by decide) rfl (fun _ => rfl) rfl (by decide) q153 (fun _ _ h => h)
theorem eX9_init_121 : SiZ nX9_init 121 (i_putR 119 [9] 124) := s_putR dX9_init_121 (fm_cons (⟨_, _, _, _, _, _, rfl, ⟨fkX9_53_9, ⟨_, q1271, Or.inl rfl⟩, Or.inr ⟨rfl, rfl, rfl⟩⟩, (Or.inr ⟨_, rfl⟩)⟩) (fm_nil))
theorem eX9_init_124 : SiZ nX9_init 124 (i_push (.int 0) 125) := s_iconst dX9_init_124 (by decide)
theorem eX9_init_125 : SiZ nX9_init 125 (i_istore 1 126) := s_istore_n dX9_init_125 rfl
theorem eX9_init_126 : SiZ nX9_init 126 (i_iload 1 127) := s_iload_n dX9_init_126 rfl
theorem eX9_init_127 : SiZ nX9_init 127 (i_push (.int 8) 129) := s_bipush dX9_init_127 (by decide)
theorem eX9_init_129 : SiZ nX9_init 129 (i_icmp (fun x y => y ≤ x) 145 132) := s_icmp_ge dX9_init_129 (by decide)
theorem eX9_init_132 : SiZ nX9_init 132 (i_aload 0 133) := s_aload_n dX9_init_132 rfl
theorem eX9_init_133 : SiZ nX9_init 133 (i_getf 73 [9] 136) := s_getf dX9_init_133 (fm_cons (⟨_, _, _, _, _, _, rfl, fkX9_13_9⟩) (fm_nil))
theorem eX9_init_136 : SiZ nX9_init 136 (i_iload 1 137) := s_iload_n dX9_init_136 rfl
theorem eX9_init_137 : SiZ nX9_init 137 (i_push (.int (-1)) 138) := s_iconst dX9_init_137 (by decide)
theorem eX9_init_138 : SiZ nX9_init 138 (i_iast 51 (fun x => x) 139) := s_ast (j := 0) (by decide) (fun _ => rfl) dX9_init_138 (Or.inl ⟨rfl, rfl, rfl⟩)
theorem eX9_init_139 : SiZ nX9_init 139 (i_iinc 1 1 142) := s_iinc dX9_init_139 (by decide)
theorem eX9_init_142 : SiZ nX9_init 142 (i_goto 126) := s_goto dX9_init_142 (by decide)
theorem eX9_init_145 : SiZ nX9_init 145 i_vret := s_vret dX9_init_145 rfl
theorem aX9_init : ∀ x ∈ mX9_init.1, EnZ nX9_init x := fm_cons eX9_init_0 (fm_cons eX9_init_1 (fm_cons eX9_init_4 (fm_cons eX9_init_5 (fm_cons eX9_init_7 (fm_cons eX9_init_9 (fm_cons eX9_init_12 (fm_cons eX9_init_13 (fm_cons eX9_init_15 (fm_cons eX9_init_17 (fm_cons eX9_init_20 (fm_cons eX9_init_21 (fm_cons eX9_init_24 (fm_cons eX9_init_26 (fm_cons eX9_init_29 (fm_cons eX9_init_30 (fm_cons eX9_init_32 (fm_cons eX9_init_34 (fm_cons eX9_init_37 (fm_cons eX9_init_38 (fm_cons eX9_init_40 (fm_cons eX9_init_42 (fm_cons eX9_init_45 (fm_cons eX9_init_46 (fm_cons eX9_init_48 (fm_cons eX9_init_50 (fm_cons eX9_init_53 (fm_cons eX9_init_54 (fm_cons eX9_init_56 (fm_cons eX9_init_58 (fm_cons eX9_init_61 (fm_cons eX9_init_62 (fm_cons eX9_init_63 (fm_cons eX9_init_65 (fm_cons eX9_init_68 (fm_cons eX9_init_69 (fm_cons eX9_init_72 (fm_cons eX9_init_74 (fm_cons eX9_init_77 (fm_cons eX9_init_78 (fm_cons eX9_init_80 (fm_cons eX9_init_82 (fm_cons eX9_init_85 (fm_cons eX9_init_86 (fm_cons eX9_init_88 (fm_cons eX9_init_90 (fm_cons eX9_init_93 (fm_cons eX9_init_94 (fm_cons eX9_init_96 (fm_cons eX9_init_98 (fm_cons eX9_init_101 (fm_cons eX9_init_102 (fm_cons eX9_init_103 (fm_cons eX9_init_105 (fm_cons eX9_init_108 (fm_cons eX9_init_109 (fm_cons eX9_init_111 (fm_cons eX9_init_113 (fm_cons eX9_init_116 (fm_cons eX9_init_117 (fm_cons eX9_init_119 (fm_cons eX9_init_121 (fm_cons eX9_init_124 (fm_cons eX9_init_125 (fm_cons eX9_init_126 (fm_cons eX9_init_127 (fm_cons eX9_init_129 (fm_cons eX9_init_132 (fm_cons eX9_init_133 (fm_cons eX9_init_136 (fm_cons eX9_init_137 (fm_cons eX9_init_138 (fm_cons eX9_init_139 (fm_cons eX9_init_142 (fm_cons eX9_init_145 (fm_nil)))))))))))))))))))))))))))))))))))))))))))))))))))))))))))))))))))))))))))
theorem zX9_init : SwZ nX9_init (Mt mX9_init 2) := wholeZ (mi := nX9_init) (cd := mX9_init) aX9_init rfl (HdZ.none rfl)
abbrev nX9_in : MI := (cX9_in, 6, (some (.boolean)), RX9, "in", [], 0, 0)
theorem hyX9_in : yX9_in.cls ≠ "java/lang/invoke/MethodHandle" ∧ yX9_in.cls ≠ "java/lang/invoke/VarHandle" := by decide +kernel
theorem pnX9_in : (parseMethodDescriptor yX9_in.desc).map (fun d => d.parameters.length) = some 3 := by decide +kernel
theorem wdX9_in : CdW yX9_in (nX9_in) := ⟨Or.inl ⟨q1337, rfl⟩, rfl, rfl, plainFor_of_name (by decide +kernel)⟩
theorem eX9_in_0 : SiZ nX9_in 0 (i_lload 0 1) := s_lload_n dX9_in_0 rfl
theorem eX9_in_1 : SiZ nX9_in 1 (i_lload 2 2) := s_lload_n dX9_in_1 rfl
theorem eX9_in_2 : SiZ nX9_in 2 (i_lcmp 3) := s_lcmp dX9_in_2
theorem eX9_in_3 : SiZ nX9_in 3 (i_if (fun x => x < 0) 17 6) := s_if_lt dX9_in_3 (by decide)
theorem eX9_in_6 : SiZ nX9_in 6 (i_lload 0 7) := s_lload_n dX9_in_6 rfl
theorem eX9_in_7 : SiZ nX9_in 7 (i_lload 4 9) := s_lload dX9_in_7
theorem eX9_in_9 : SiZ nX9_in 9 (i_lcmp 10) := s_lcmp dX9_in_9
theorem eX9_in_10 : SiZ nX9_in 10 (i_if (fun x => 0 < x) 17 13) := s_if_gt dX9_in_10 (by decide)
theorem eX9_in_13 : SiZ nX9_in 13 (i_push (.int 1) 14) := s_iconst dX9_in_13 (by decide)
theorem eX9_in_14 : SiZ nX9_in 14 (i_goto 18) := s_goto dX9_in_14 (by decide)
theorem eX9_in_17 : SiZ nX9_in 17 (i_push (.int 0) 18) := s_iconst dX9_in_17 (by decide)
theorem eX9_in_18 : SiZ nX9_in 18 i_zret := s_zret dX9_in_18 rfl
theorem aX9_in : ∀ x ∈ mX9_in.1, EnZ nX9_in x := fm_cons eX9_in_0 (fm_cons eX9_in_1 (fm_cons eX9_in_2 (fm_cons eX9_in_3 (fm_cons eX9_in_6 (fm_cons eX9_in_7 (fm_cons eX9_in_9 (fm_cons eX9_in_10 (fm_cons eX9_in_13 (fm_cons eX9_in_14 (fm_cons eX9_in_17 (fm_cons eX9_in_18 (fm_nil))))))))))))
theorem zX9_in : SwZ nX9_in (Mt mX9_in 6) := wholeZ (mi := nX9_in) (cd := mX9_in) aX9_in rfl (HdZ.none rfl)
abbrev nX9_isRow : MI := (cX9_isRow, 1, (some (.boolean)), RX9, "isRow", [], 1, 29)
theorem hyX9_isRow : yX9_isRow.cls ≠ "java/lang/invoke/MethodHandle" ∧ yX9_isRow.cls ≠ "java/lang/invoke/VarHandle" := by decide +kernel
theorem pnX9_isRow : (parseMethodDescriptor yX9_isRow.desc).map (fun d => d.parameters.length) = some 1 := by decide +kernel
theorem wdX9_isRow : CdW yX9_isRow (nX9_isRow) := ⟨Or.inl ⟨q1333, rfl⟩, rfl, rfl, plainFor_of_name (by decide +kernel)⟩
theorem eX9_isRow_0 : SiZ nX9_isRow 0 (i_iload 0 1) := s_iload_n dX9_isRow_0 rfl
theorem eX9_isRow_1 : SiZ nX9_isRow 1 (i_i2l 2) := s_i2l dX9_isRow_1
theorem eX9_isRow_2 : SiZ nX9_isRow 2 (i_push (.long 0) 3) := s_lconst dX9_isRow_2 (by decide)
theorem eX9_isRow_3 : SiZ nX9_isRow 3 (i_push (.long 7) 6) := s_ldc2 dX9_isRow_3 q1334
theorem eX9_isRow_6 : ScZ nX9_isRow 6 (c_S 3 9 6 (Mt mX9_in 6)) := e_S (mi := nX9_isRow) (mi' := nX9_in) (len := 3) (fun h as rest hl => cs_S (mi := nX9_isRow) (pc := 6) (y := yX9_in) (idx := 63) dX9_isRow_6 q1335 q1336 q89 q1337 hyX9_in pnX9_in hl) wdX9_in zX9_in (Nat.le_of_ble_eq_true rfl) (Nat.le_of_ble_eq_true rfl)
theorem eX9_isRow_9 : SiZ nX9_isRow 9 i_zret := s_zret dX9_isRow_9 rfl
theorem aX9_isRow : ∀ x ∈ mX9_isRow.1, EnZ nX9_isRow x := fm_cons eX9_isRow_0 (fm_cons eX9_isRow_1 (fm_cons eX9_isRow_2 (fm_cons eX9_isRow_3 (fm_cons eX9_isRow_6 (fm_cons eX9_isRow_9 (fm_nil))))))
theorem zX9_isRow : SwZ nX9_isRow (Mt mX9_isRow 1) := wholeZ (mi := nX9_isRow) (cd := mX9_isRow) aX9_isRow rfl (HdZ.none rfl)
abbrev nX9_find : MI := (cX9_find, 2, (some (.int)), RX9, "find", [], 0, 0)
theorem hyX9_find : yX9_find.cls ≠ "java/lang/invoke/MethodHandle" ∧ yX9_find.cls ≠ "java/lang/invoke/VarHandle" := by decide +kernel
theorem pnX9_find : (parseMethodDescriptor yX9_find.desc).map (fun d => d.parameters.length) = some 1 := by decide +kernel
theorem wdX9_find : CdW yX9_find (nX9_find) := ⟨Or.inl ⟨q1343, rfl⟩, rfl, rfl, plainFor_of_name (by decide +kernel)⟩
theorem eX9_find_0 : SiZ nX9_find 0 (i_aload 0 1) := s_aload_n dX9_find_0 rfl
theorem eX9_find_1 : SiZ nX9_find 1 (i_iload 1 2) := s_iload_n dX9_find_1 rfl
theorem eX9_find_2 : SiZ nX9_find 2 (i_putI 76 [9] 5) := s_putI dX9_find_2 (fm_cons (⟨_, _, _, _, _, _, rfl, ⟨fkX9_56_9, ⟨_, q1250, Or.inl rfl⟩, Or.inl rfl⟩, rfl⟩) (fm_nil))
theorem eX9_find_5 : SiZ nX9_find 5 (i_push (.int (-1000010)) 7) := s_ldc dX9_find_5 q1344
theorem eX9_find_7 : SiZ nX9_find 7 (i_iload 1 8) := s_iload_n dX9_find_7 rfl
theorem eX9_find_8 : SiZ nX9_find 8 (i_bin (fun x y => x - y) 9) := s_isub dX9_find_8
theorem eX9_find_9 : SiZ nX9_find 9 i_iret := s_iret dX9_find_9 rfl
theorem aX9_find : ∀ x ∈ mX9_find.1, EnZ nX9_find x := fm_cons eX9_find_0 (fm_cons eX9_find_1 (fm_cons eX9_find_2 (fm_cons eX9_find_5 (fm_cons eX9_find_7 (fm_cons eX9_find_8 (fm_cons eX9_find_9 (fm_nil)))))))
theorem zX9_find : SwZ nX9_find (Mt mX9_find 2) := wholeZ (mi := nX9_find) (cd := mX9_find) aX9_find rfl (HdZ.none rfl)
abbrev nX9_well : MI := (cX9_well, 2, (some (.int)), RX9, "well", [], 0, 0)
theorem hyX9_well : yX9_well.cls ≠ "java/lang/invoke/MethodHandle" ∧ yX9_well.cls ≠ "java/lang/invoke/VarHandle" := by decide +kernel
theorem pnX9_well : (parseMethodDescriptor yX9_well.desc).map (fun d => d.parameters.length) = some 1 := by decide +kernel
theorem wdX9_well : CdW yX9_well (nX9_well) := ⟨Or.inl ⟨q1348, rfl⟩, rfl, rfl, plainFor_of_name (by decide +kernel)⟩
theorem eX9_well_0 : SiZ nX9_well 0 (i_aload 0 1) := s_aload_n dX9_well_0 rfl
theorem eX9_well_1 : SiZ nX9_well 1 (i_push (.int 0) 2) := s_iconst dX9_well_1 (by decide)
theorem eX9_well_2 : SiZ nX9_well 2 (i_putI 76 [9] 5) := s_putI dX9_well_2 (fm_cons (⟨_, _, _, _, _, _, rfl, ⟨fkX9_56_9, ⟨_, q1250, Or.inl rfl⟩, Or.inl rfl⟩, rfl⟩) (fm_nil))
theorem eX9_well_5 : SiZ nX9_well 5 (i_iload 1 6) := s_iload_n dX9_well_5 rfl
theorem eX9_well_6 : SiZ nX9_well 6 i_iret := s_iret dX9_well_6 rfl
theorem aX9_well : ∀ x ∈ mX9_well.1, EnZ nX9_well x := fm_cons eX9_well_0 (fm_cons eX9_well_1 (fm_cons eX9_well_2 (fm_cons eX9_well_5 (fm_cons eX9_well_6 (fm_nil)))))
theorem zX9_well : SwZ nX9_well (Mt mX9_well 2) := wholeZ (mi := nX9_well) (cd := mX9_well) aX9_well rfl (HdZ.none rfl)
abbrev nX9_row : MI := (cX9_row, 5, (some (.int)), RX9, "row", [], 2, 53)
theorem hyX9_row : yX9_row.cls ≠ "java/lang/invoke/MethodHandle" ∧ yX9_row.cls ≠ "java/lang/invoke/VarHandle" := by decide +kernel
theorem pnX9_row : (parseMethodDescriptor yX9_row.desc).map (fun d => d.parameters.length) = some 3 := by decide +kernel
theorem wdX9_row : CdW yX9_row (nX9_row) := ⟨Or.inl ⟨q1330, rfl⟩, rfl, rfl, plainFor_of_name (by decide +kernel)⟩
theorem eX9_row_0 : SiZ nX9_row 0 (i_iload 1 1) := s_iload_n dX9_row_0 rfl
theorem eX9_row_1 : ScZ nX9_row 1 (c_S 1 4 1 (Mt mX9_isRow 1)) := e_S (mi := nX9_row) (mi' := nX9_isRow) (len := 3) (fun h as rest hl => cs_S (mi := nX9_row) (pc := 1) (y := yX9_isRow) (idx := 67) dX9_row_1 q1331 q1332 q89 q1333 hyX9_isRow pnX9_isRow hl) wdX9_isRow zX9_isRow (Nat.le_of_ble_eq_true rfl) (Nat.le_of_ble_eq_true rfl)
theorem eX9_row_4 : SiZ nX9_row 4 (i_if (fun x => x = 0) 25 7) := s_if_eq dX9_row_4 (by decide)
theorem eX9_row_7 : SiZ nX9_row 7 (i_iload 2 8) := s_iload_n dX9_row_7 rfl
theorem eX9_row_8 : SiZ nX9_row 8 (i_i2l 9) := s_i2l dX9_row_8
theorem eX9_row_9 : SiZ nX9_row 9 (i_push (.long 0) 10) := s_lconst dX9_row_9 (by decide)
theorem eX9_row_10 : SiZ nX9_row 10 (i_push (.long 2) 13) := s_ldc2 dX9_row_10 q1338
theorem eX9_row_13 : ScZ nX9_row 13 (c_S 3 16 6 (Mt mX9_in 6)) := e_S (mi := nX9_row) (mi' := nX9_in) (len := 3) (fun h as rest hl => cs_S (mi := nX9_row) (pc := 13) (y := yX9_in) (idx := 63) dX9_row_13 q1335 q1336 q89 q1337 hyX9_in pnX9_in hl) wdX9_in zX9_in (Nat.le_of_ble_eq_true rfl) (Nat.le_of_ble_eq_true rfl)
theorem eX9_row_16 : SiZ nX9_row 16 (i_if (fun x => x = 0) 25 19) := s_if_eq dX9_row_16 (by decide)
theorem eX9_row_19 : SiZ nX9_row 19 (i_iload 3 20) := s_iload_n dX9_row_19 rfl
theorem eX9_row_20 : SiZ nX9_row 20 (i_push (.int 40) 22) := s_bipush dX9_row_20 (by decide)
theorem eX9_row_22 : SiZ nX9_row 22 (i_icmp (fun x y => x ≤ y) 28 25) := s_icmp_le dX9_row_22 (by decide)
theorem eX9_row_25 : SiZ nX9_row 25 (i_push (.int (-1000001)) 27) := s_ldc dX9_row_25 q1339
theorem eX9_row_27 : SiZ nX9_row 27 i_iret := s_iret dX9_row_27 rfl
theorem eX9_row_28 : SiZ nX9_row 28 (i_iload 3 29) := s_iload_n dX9_row_28 rfl
theorem eX9_row_29 : SiZ nX9_row 29 (i_if (fun x => 0 ≤ x) 38 32) := s_if_ge dX9_row_29 (by decide)
theorem eX9_row_32 : SiZ nX9_row 32 (i_aload 0 33) := s_aload_n dX9_row_32 rfl
theorem eX9_row_33 : SiZ nX9_row 33 (i_push (.int 4) 34) := s_iconst dX9_row_33 (by decide)
theorem eX9_row_34 : ScZ nX9_row 34 (c_V 1 37 2 9 (Mt mX9_find 2)) := e_V (mi := nX9_row) (mi' := nX9_find) (len := 3) (fun h b as rest hk hl => cs_V (ci := 8) (mi := nX9_row) (pc := 34) (y := yX9_find) (idx := 74) dX9_row_34 q1340 q1342 qs33 rfl hk hyX9_find (sigC q1343) pnX9_find hl) wdX9_find zX9_find (Nat.le_of_ble_eq_true rfl) (Nat.le_of_ble_eq_true rfl)
theorem eX9_row_37 : SiZ nX9_row 37 i_iret := s_iret dX9_row_37 rfl
theorem eX9_row_38 : SiZ nX9_row 38 (i_aload 0 39) := s_aload_n dX9_row_38 rfl
theorem eX9_row_39 : SiZ nX9_row 39 (i_getf 71 [9] 42) := s_getf dX9_row_39 (fm_cons (⟨_, _, _, _, _, _, rfl, fkX9_7_9⟩) (fm_nil))
theorem eX9_row_42 : SiZ nX9_row 42 (i_iload 1 43) := s_iload_n dX9_row_42 rfl
theorem eX9_row_43 : SiZ nX9_row 43 (i_iload 2 44) := s_iload_n dX9_row_43 rfl
theorem eX9_row_44 : SiZ nX9_row 44 (i_iast 51 (fun x => x) 45) := s_ast (j := 0) (by decide) (fun _ => rfl) dX9_row_44 (Or.inl ⟨rfl, rfl, rfl⟩)
theorem eX9_row_45 : SiZ nX9_row 45 (i_aload 0 46) := s_aload_n dX9_row_45 rfl
theorem eX9_row_46 : SiZ nX9_row 46 (i_getf 73 [9] 49) := s_getf dX9_row_46 (fm_cons (⟨_, _, _, _, _, _, rfl, fkX9_13_9⟩) (fm_nil))
theorem eX9_row_49 : SiZ nX9_row 49 (i_iload 1 50) := s_iload_n dX9_row_49 rfl
theorem eX9_row_50 : SiZ nX9_row 50 (i_iload 3 51) := s_iload_n dX9_row_50 rfl
theorem eX9_row_51 : SiZ nX9_row 51 (i_iast 51 (fun x => x) 52) := s_ast (j := 0) (by decide) (fun _ => rfl) dX9_row_51 (Or.inl ⟨rfl, rfl, rfl⟩)
theorem eX9_row_52 : SiZ nX9_row 52 (i_push (.int 0) 53) := s_iconst dX9_row_52 (by decide)
theorem eX9_row_53 : SiZ nX9_row 53 (i_istore 4 55) := s_istore dX9_row_53
theorem eX9_row_55 : SiZ nX9_row 55 (i_iload 4 57) := s_iload dX9_row_55
theorem eX9_row_57 : SiZ nX9_row 57 (i_push (.int 40) 59) := s_bipush dX9_row_57 (by decide)
theorem eX9_row_59 : SiZ nX9_row 59 (i_icmp (fun x y => y ≤ x) 81 62) := s_icmp_ge dX9_row_59 (by decide)
theorem eX9_row_62 : SiZ nX9_row 62 (i_aload 0 63) := s_aload_n dX9_row_62 rfl
theorem eX9_row_63 : SiZ nX9_row 63 (i_getf 75 [9] 66) := s_getf dX9_row_63 (fm_cons (⟨_, _, _, _, _, _, rfl, fkX9_16_9⟩) (fm_nil))
theorem eX9_row_66 : SiZ nX9_row 66 (i_push (.int 40) 68) := s_bipush dX9_row_66 (by decide)
theorem eX9_row_68 : SiZ nX9_row 68 (i_iload 1 69) := s_iload_n dX9_row_68 rfl
theorem eX9_row_69 : SiZ nX9_row 69 (i_bin (fun x y => x * y) 70) := s_imul dX9_row_69
theorem eX9_row_70 : SiZ nX9_row 70 (i_iload 4 72) := s_iload dX9_row_70
theorem eX9_row_72 : SiZ nX9_row 72 (i_bin (fun x y => x + y) 73) := s_iadd dX9_row_72
theorem eX9_row_73 : SiZ nX9_row 73 (i_push (.int 0) 74) := s_iconst dX9_row_73 (by decide)
theorem eX9_row_74 : SiZ nX9_row 74 (i_iast 51 (fun x => x) 75) := s_ast (j := 0) (by decide) (fun _ => rfl) dX9_row_74 (Or.inl ⟨rfl, rfl, rfl⟩)
theorem eX9_row_75 : SiZ nX9_row 75 (i_iinc 4 1 78) := s_iinc dX9_row_75 (by decide)
theorem eX9_row_78 : SiZ nX9_row 78 (i_goto 55) := s_goto dX9_row_78 (by decide)
theorem eX9_row_81 : SiZ nX9_row 81 (i_aload 0 82) := s_aload_n dX9_row_81 rfl
theorem eX9_row_82 : SiZ nX9_row 82 (i_iload 3 83) := s_iload_n dX9_row_82 rfl
theorem eX9_row_83 : ScZ nX9_row 83 (c_V 1 86 2 9 (Mt mX9_well 2)) := e_V (mi := nX9_row) (mi' := nX9_well) (len := 3) (fun h b as rest hk hl => cs_V (ci := 8) (mi := nX9_row) (pc := 83) (y := yX9_well) (idx := 78) dX9_row_83 q1345 q1347 qs34 rfl hk hyX9_well (sigC q1348) pnX9_well hl) wdX9_well zX9_well (Nat.le_of_ble_eq_true rfl) (Nat.le_of_ble_eq_true rfl)
theorem eX9_row_86 : SiZ nX9_row 86 i_iret := s_iret dX9_row_86 rfl
theorem aX9_row : ∀ x ∈ mX9_row.1, EnZ nX9_row x := fm_cons eX9_row_0 (fm_cons eX9_row_1 (fm_cons eX9_row_4 (fm_cons eX9_row_7 (fm_cons eX9_row_8 (fm_cons eX9_row_9 (fm_cons eX9_row_10 (fm_cons eX9_row_13 (fm_cons eX9_row_16 (fm_cons eX9_row_19 (fm_cons eX9_row_20 (fm_cons eX9_row_22 (fm_cons eX9_row_25 (fm_cons eX9_row_27 (fm_cons eX9_row_28 (fm_cons eX9_row_29 (fm_cons eX9_row_32 (fm_cons eX9_row_33 (fm_cons eX9_row_34 (fm_cons eX9_row_37 (fm_cons eX9_row_38 (fm_cons eX9_row_39 (fm_cons eX9_row_42 (fm_cons eX9_row_43 (fm_cons eX9_row_44 (fm_cons eX9_row_45 (fm_cons eX9_row_46 (fm_cons eX9_row_49 (fm_cons eX9_row_50 (fm_cons eX9_row_51 (fm_cons eX9_row_52 (fm_cons eX9_row_53 (fm_cons eX9_row_55 (fm_cons eX9_row_57 (fm_cons eX9_row_59 (fm_cons eX9_row_62 (fm_cons eX9_row_63 (fm_cons eX9_row_66 (fm_cons eX9_row_68 (fm_cons eX9_row_69 (fm_cons eX9_row_70 (fm_cons eX9_row_72 (fm_cons eX9_row_73 (fm_cons eX9_row_74 (fm_cons eX9_row_75 (fm_cons eX9_row_78 (fm_cons eX9_row_81 (fm_cons eX9_row_82 (fm_cons eX9_row_83 (fm_cons eX9_row_86 (fm_nil))))))))))))))))))))))))))))))))))))))))))))))))))
theorem zX9_row : SwZ nX9_row (Mt mX9_row 5) := wholeZ (mi := nX9_row) (cd := mX9_row) aX9_row rfl (HdZ.none rfl)
abbrev nX9_asLane : MI := (cX9_asLane, 2, (some (.int)), RX9, "asLane", [], 0, 0)
theorem hyX9_asLane : yX9_asLane.cls ≠ "java/lang/invoke/MethodHandle" ∧ yX9_asLane.cls ≠ "java/lang/invoke/VarHandle" := by decide +kernel
theorem pnX9_asLane : (parseMethodDescriptor yX9_asLane.desc).map (fun d => d.parameters.length) = some 2 := by decide +kernel
theorem wdX9_asLane : CdW yX9_asLane (nX9_asLane) := ⟨Or.inl ⟨q1355, rfl⟩, rfl, rfl, plainFor_of_name (by decide +kernel)⟩
theorem eX9_asLane_0 : SiZ nX9_asLane 0 (i_iload 0 1) := s_iload_n dX9_asLane_0 rfl
theorem eX9_asLane_1 : SiZ nX9_asLane 1 (i_if (fun x => ¬ x = 0) 14 4) := s_if_ne dX9_asLane_1 (by decide)
theorem eX9_asLane_4 : SiZ nX9_asLane 4 (i_iload 1 5) := s_iload_n dX9_asLane_4 rfl
theorem eX9_asLane_5 : SiZ nX9_asLane 5 (i_push (.int 24) 7) := s_bipush dX9_asLane_5 (by decide)
theorem eX9_asLane_7 : SiZ nX9_asLane 7 (i_bin (fun x y => x <<< (y &&& 31)) 8) := s_ishl dX9_asLane_7
theorem eX9_asLane_8 : SiZ nX9_asLane 8 (i_push (.int 24) 10) := s_bipush dX9_asLane_8 (by decide)
theorem eX9_asLane_10 : SiZ nX9_asLane 10 (i_bin (fun x y => x >>> (y &&& 31)) 11) := s_ishr dX9_asLane_10
theorem eX9_asLane_11 : SiZ nX9_asLane 11 (i_goto 30) := s_goto dX9_asLane_11 (by decide)
theorem eX9_asLane_14 : SiZ nX9_asLane 14 (i_iload 0 15) := s_iload_n dX9_asLane_14 rfl
theorem eX9_asLane_15 : SiZ nX9_asLane 15 (i_push (.int 1) 16) := s_iconst dX9_asLane_15 (by decide)
theorem eX9_asLane_16 : SiZ nX9_asLane 16 (i_icmp (fun x y => ¬ x = y) 29 19) := s_icmp_ne dX9_asLane_16 (by decide)
theorem eX9_asLane_19 : SiZ nX9_asLane 19 (i_iload 1 20) := s_iload_n dX9_asLane_19 rfl
theorem eX9_asLane_20 : SiZ nX9_asLane 20 (i_push (.int 16) 22) := s_bipush dX9_asLane_20 (by decide)
theorem eX9_asLane_22 : SiZ nX9_asLane 22 (i_bin (fun x y => x <<< (y &&& 31)) 23) := s_ishl dX9_asLane_22
theorem eX9_asLane_23 : SiZ nX9_asLane 23 (i_push (.int 16) 25) := s_bipush dX9_asLane_23 (by decide)
theorem eX9_asLane_25 : SiZ nX9_asLane 25 (i_bin (fun x y => x >>> (y &&& 31)) 26) := s_ishr dX9_asLane_25
theorem eX9_asLane_26 : SiZ nX9_asLane 26 (i_goto 30) := s_goto dX9_asLane_26 (by decide)
theorem eX9_asLane_29 : SiZ nX9_asLane 29 (i_iload 1 30) := s_iload_n dX9_asLane_29 rfl
theorem eX9_asLane_30 : SiZ nX9_asLane 30 i_iret := s_iret dX9_asLane_30 rfl
theorem aX9_asLane : ∀ x ∈ mX9_asLane.1, EnZ nX9_asLane x := fm_cons eX9_asLane_0 (fm_cons eX9_asLane_1 (fm_cons eX9_asLane_4 (fm_cons eX9_asLane_5 (fm_cons eX9_asLane_7 (fm_cons eX9_asLane_8 (fm_cons eX9_asLane_10 (fm_cons eX9_asLane_11 (fm_cons eX9_asLane_14 (fm_cons eX9_asLane_15 (fm_cons eX9_asLane_16 (fm_cons eX9_asLane_19 (fm_cons eX9_asLane_20 (fm_cons eX9_asLane_22 (fm_cons eX9_asLane_23 (fm_cons eX9_asLane_25 (fm_cons eX9_asLane_26 (fm_cons eX9_asLane_29 (fm_cons eX9_asLane_30 (fm_nil)))))))))))))))))))
theorem zX9_asLane : SwZ nX9_asLane (Mt mX9_asLane 2) := wholeZ (mi := nX9_asLane) (cd := mX9_asLane) aX9_asLane rfl (HdZ.none rfl)
abbrev nX9_set : MI := (cX9_set, 4, (some (.int)), RX9, "set", [], 2, 53)
theorem hyX9_set : yX9_set.cls ≠ "java/lang/invoke/MethodHandle" ∧ yX9_set.cls ≠ "java/lang/invoke/VarHandle" := by decide +kernel
theorem pnX9_set : (parseMethodDescriptor yX9_set.desc).map (fun d => d.parameters.length) = some 3 := by decide +kernel
theorem wdX9_set : CdW yX9_set (nX9_set) := ⟨Or.inl ⟨q1352, rfl⟩, rfl, rfl, plainFor_of_name (by decide +kernel)⟩
theorem eX9_set_0 : SiZ nX9_set 0 (i_iload 1 1) := s_iload_n dX9_set_0 rfl
theorem eX9_set_1 : ScZ nX9_set 1 (c_S 1 4 1 (Mt mX9_isRow 1)) := e_S (mi := nX9_set) (mi' := nX9_isRow) (len := 3) (fun h as rest hl => cs_S (mi := nX9_set) (pc := 1) (y := yX9_isRow) (idx := 67) dX9_set_1 q1331 q1332 q89 q1333 hyX9_isRow pnX9_isRow hl) wdX9_isRow zX9_isRow (Nat.le_of_ble_eq_true rfl) (Nat.le_of_ble_eq_true rfl)
theorem eX9_set_4 : SiZ nX9_set 4 (i_if (fun x => ¬ x = 0) 10 7) := s_if_ne dX9_set_4 (by decide)
theorem eX9_set_7 : SiZ nX9_set 7 (i_push (.int (-1000001)) 9) := s_ldc dX9_set_7 q1339
theorem eX9_set_9 : SiZ nX9_set 9 i_iret := s_iret dX9_set_9 rfl
theorem eX9_set_10 : SiZ nX9_set 10 (i_aload 0 11) := s_aload_n dX9_set_10 rfl
theorem eX9_set_11 : SiZ nX9_set 11 (i_getf 73 [9] 14) := s_getf dX9_set_11 (fm_cons (⟨_, _, _, _, _, _, rfl, fkX9_13_9⟩) (fm_nil))
theorem eX9_set_14 : SiZ nX9_set 14 (i_iload 1 15) := s_iload_n dX9_set_14 rfl
theorem eX9_set_15 : SiZ nX9_set 15 (i_iald 51 16) := s_ald (j := 0) (by decide) (fun _ => rfl) dX9_set_15 (Or.inl ⟨rfl, rfl⟩)
theorem eX9_set_16 : SiZ nX9_set 16 (i_if (fun x => 0 ≤ x) 25 19) := s_if_ge dX9_set_16 (by decide)
theorem eX9_set_19 : SiZ nX9_set 19 (i_aload 0 20) := s_aload_n dX9_set_19 rfl
theorem eX9_set_20 : SiZ nX9_set 20 (i_push (.int 1) 21) := s_iconst dX9_set_20 (by decide)
theorem eX9_set_21 : ScZ nX9_set 21 (c_V 1 24 2 9 (Mt mX9_find 2)) := e_V (mi := nX9_set) (mi' := nX9_find) (len := 3) (fun h b as rest hk hl => cs_V (ci := 8) (mi := nX9_set) (pc := 21) (y := yX9_find) (idx := 74) dX9_set_21 q1340 q1342 qs33 rfl hk hyX9_find (sigC q1343) pnX9_find hl) wdX9_find zX9_find (Nat.le_of_ble_eq_true rfl) (Nat.le_of_ble_eq_true rfl)
theorem eX9_set_24 : SiZ nX9_set 24 i_iret := s_iret dX9_set_24 rfl
theorem eX9_set_25 : SiZ nX9_set 25 (i_iload 2 26) := s_iload_n dX9_set_25 rfl
theorem eX9_set_26 : SiZ nX9_set 26 (i_i2l 27) := s_i2l dX9_set_26
theorem eX9_set_27 : SiZ nX9_set 27 (i_push (.long 0) 28) := s_lconst dX9_set_27 (by decide)
theorem eX9_set_28 : SiZ nX9_set 28 (i_aload 0 29) := s_aload_n dX9_set_28 rfl
theorem eX9_set_29 : SiZ nX9_set 29 (i_getf 73 [9] 32) := s_getf dX9_set_29 (fm_cons (⟨_, _, _, _, _, _, rfl, fkX9_13_9⟩) (fm_nil))
theorem eX9_set_32 : SiZ nX9_set 32 (i_iload 1 33) := s_iload_n dX9_set_32 rfl
theorem eX9_set_33 : SiZ nX9_set 33 (i_iald 51 34) := s_ald (j := 0) (by decide) (fun _ => rfl) dX9_set_33 (Or.inl ⟨rfl, rfl⟩)
theorem eX9_set_34 : SiZ nX9_set 34 (i_push (.int 1) 35) := s_iconst dX9_set_34 (by decide)
theorem eX9_set_35 : SiZ nX9_set 35 (i_bin (fun x y => x - y) 36) := s_isub dX9_set_35
theorem eX9_set_36 : SiZ nX9_set 36 (i_i2l 37) := s_i2l dX9_set_36
theorem eX9_set_37 : ScZ nX9_set 37 (c_S 3 40 6 (Mt mX9_in 6)) := e_S (mi := nX9_set) (mi' := nX9_in) (len := 3) (fun h as rest hl => cs_S (mi := nX9_set) (pc := 37) (y := yX9_in) (idx := 63) dX9_set_37 q1335 q1336 q89 q1337 hyX9_in pnX9_in hl) wdX9_in zX9_in (Nat.le_of_ble_eq_true rfl) (Nat.le_of_ble_eq_true rfl)
theorem eX9_set_40 : SiZ nX9_set 40 (i_if (fun x => ¬ x = 0) 49 43) := s_if_ne dX9_set_40 (by decide)
theorem eX9_set_43 : SiZ nX9_set 43 (i_aload 0 44) := s_aload_n dX9_set_43 rfl
theorem eX9_set_44 : SiZ nX9_set 44 (i_push (.int 2) 45) := s_iconst dX9_set_44 (by decide)
theorem eX9_set_45 : ScZ nX9_set 45 (c_V 1 48 2 9 (Mt mX9_find 2)) := e_V (mi := nX9_set) (mi' := nX9_find) (len := 3) (fun h b as rest hk hl => cs_V (ci := 8) (mi := nX9_set) (pc := 45) (y := yX9_find) (idx := 74) dX9_set_45 q1340 q1342 qs33 rfl hk hyX9_find (sigC q1343) pnX9_find hl) wdX9_find zX9_find (Nat.le_of_ble_eq_true rfl) (Nat.le_of_ble_eq_true rfl)
theorem eX9_set_48 : SiZ nX9_set 48 i_iret := s_iret dX9_set_48 rfl
theorem eX9_set_49 : SiZ nX9_set 49 (i_aload 0 50) := s_aload_n dX9_set_49 rfl
theorem eX9_set_50 : SiZ nX9_set 50 (i_getf 75 [9] 53) := s_getf dX9_set_50 (fm_cons (⟨_, _, _, _, _, _, rfl, fkX9_16_9⟩) (fm_nil))
theorem eX9_set_53 : SiZ nX9_set 53 (i_push (.int 40) 55) := s_bipush dX9_set_53 (by decide)
theorem eX9_set_55 : SiZ nX9_set 55 (i_iload 1 56) := s_iload_n dX9_set_55 rfl
theorem eX9_set_56 : SiZ nX9_set 56 (i_bin (fun x y => x * y) 57) := s_imul dX9_set_56
theorem eX9_set_57 : SiZ nX9_set 57 (i_iload 2 58) := s_iload_n dX9_set_57 rfl
theorem eX9_set_58 : SiZ nX9_set 58 (i_bin (fun x y => x + y) 59) := s_iadd dX9_set_58
theorem eX9_set_59 : SiZ nX9_set 59 (i_aload 0 60) := s_aload_n dX9_set_59 rfl
theorem eX9_set_60 : SiZ nX9_set 60 (i_getf 71 [9] 63) := s_getf dX9_set_60 (fm_cons (⟨_, _, _, _, _, _, rfl, fkX9_7_9⟩) (fm_nil))
theorem eX9_set_63 : SiZ nX9_set 63 (i_iload 1 64) := s_iload_n dX9_set_63 rfl
theorem eX9_set_64 : SiZ nX9_set 64 (i_iald 51 65) := s_ald (j := 0) (by decide) (fun _ => rfl) dX9_set_64 (Or.inl ⟨rfl, rfl⟩)
theorem eX9_set_65 : SiZ nX9_set 65 (i_iload 3 66) := s_iload_n dX9_set_65 rfl
theorem eX9_set_66 : ScZ nX9_set 66 (c_S 2 69 2 (Mt mX9_asLane 2)) := e_S (mi := nX9_set) (mi' := nX9_asLane) (len := 3) (fun h as rest hl => cs_S (mi := nX9_set) (pc := 66) (y := yX9_asLane) (idx := 81) dX9_set_66 q1353 q1354 q89 q1355 hyX9_asLane pnX9_asLane hl) wdX9_asLane zX9_asLane (Nat.le_of_ble_eq_true rfl) (Nat.le_of_ble_eq_true rfl)
theorem eX9_set_69 : SiZ nX9_set 69 (i_iast 51 (fun x => x) 70) := s_ast (j := 0) (by decide) (fun _ => rfl) dX9_set_69 (Or.inl ⟨rfl, rfl, rfl⟩)
theorem eX9_set_70 : SiZ nX9_set 70 (i_aload 0 71) := s_aload_n dX9_set_70 rfl
theorem eX9_set_71 : SiZ nX9_set 71 (i_aload 0 72) := s_aload_n dX9_set_71 rfl
theorem eX9_set_72 : SiZ nX9_set 72 (i_getf 75 [9] 75) := s_getf dX9_set_72 (fm_cons (⟨_, _, _, _, _, _, rfl, fkX9_16_9⟩) (fm_nil))
theorem eX9_set_75 : SiZ nX9_set 75 (i_push (.int 40) 77) := s_bipush dX9_set_75 (by decide)
theorem eX9_set_77 : SiZ nX9_set 77 (i_iload 1 78) := s_iload_n dX9_set_77 rfl
theorem eX9_set_78 : SiZ nX9_set 78 (i_bin (fun x y => x * y) 79) := s_imul dX9_set_78
theorem eX9_set_79 : SiZ nX9_set 79 (i_iload 2 80) := s_iload_n dX9_set_79 rfl
theorem eX9_set_80 : SiZ nX9_set 80 (i_bin (fun x y => x + y) 81) := s_iadd dX9_set_80
theorem eX9_set_81 : SiZ nX9_set 81 (i_iald 51 82) := s_ald (j := 0) (by decide) (fun _ => rfl) dX9_set_81 (Or.inl ⟨rfl, rfl⟩)
theorem eX9_set_82 : ScZ nX9_set 82 (c_V 1 85 2 9 (Mt mX9_well 2)) := e_V (mi := nX9_set) (mi' := nX9_well) (len := 3) (fun h b as rest hk hl => cs_V (ci := 8) (mi := nX9_set) (pc := 82) (y := yX9_well) (idx := 78) dX9_set_82 q1345 q1347 qs34 rfl hk hyX9_well (sigC q1348) pnX9_well hl) wdX9_well zX9_well (Nat.le_of_ble_eq_true rfl) (Nat.le_of_ble_eq_true rfl)
theorem eX9_set_85 : SiZ nX9_set 85 i_iret := s_iret dX9_set_85 rfl
theorem aX9_set : ∀ x ∈ mX9_set.1, EnZ nX9_set x := fm_cons eX9_set_0 (fm_cons eX9_set_1 (fm_cons eX9_set_4 (fm_cons eX9_set_7 (fm_cons eX9_set_9 (fm_cons eX9_set_10 (fm_cons eX9_set_11 (fm_cons eX9_set_14 (fm_cons eX9_set_15 (fm_cons eX9_set_16 (fm_cons eX9_set_19 (fm_cons eX9_set_20 (fm_cons eX9_set_21 (fm_cons eX9_set_24 (fm_cons eX9_set_25 (fm_cons eX9_set_26 (fm_cons eX9_set_27 (fm_cons eX9_set_28 (fm_cons eX9_set_29 (fm_cons eX9_set_32 (fm_cons eX9_set_33 (fm_cons eX9_set_34 (fm_cons eX9_set_35 (fm_cons eX9_set_36 (fm_cons eX9_set_37 (fm_cons eX9_set_40 (fm_cons eX9_set_43 (fm_cons eX9_set_44 (fm_cons eX9_set_45 (fm_cons eX9_set_48 (fm_cons eX9_set_49 (fm_cons eX9_set_50 (fm_cons eX9_set_53 (fm_cons eX9_set_55 (fm_cons eX9_set_56 (fm_cons eX9_set_57 (fm_cons eX9_set_58 (fm_cons eX9_set_59 (fm_cons eX9_set_60 (fm_cons eX9_set_63 (fm_cons eX9_set_64 (fm_cons eX9_set_65 (fm_cons eX9_set_66 (fm_cons eX9_set_69 (fm_cons eX9_set_70 (fm_cons eX9_set_71 (fm_cons eX9_set_72 (fm_cons eX9_set_75 (fm_cons eX9_set_77 (fm_cons eX9_set_78 (fm_cons eX9_set_79 (fm_cons eX9_set_80 (fm_cons eX9_set_81 (fm_cons eX9_set_82 (fm_cons eX9_set_85 (fm_nil)))))))))))))))))))))))))))))))))))))))))))))))))))))))
theorem zX9_set : SwZ nX9_set (Mt mX9_set 4) := wholeZ (mi := nX9_set) (cd := mX9_set) aX9_set rfl (HdZ.none rfl)
abbrev nX9_copy : MI := (cX9_copy, 7, (some (.int)), RX9, "copy", [], 2, 53)
theorem hyX9_copy : yX9_copy.cls ≠ "java/lang/invoke/MethodHandle" ∧ yX9_copy.cls ≠ "java/lang/invoke/VarHandle" := by decide +kernel
theorem pnX9_copy : (parseMethodDescriptor yX9_copy.desc).map (fun d => d.parameters.length) = some 5 := by decide +kernel
theorem wdX9_copy : CdW yX9_copy (nX9_copy) := ⟨Or.inl ⟨q1359, rfl⟩, rfl, rfl, plainFor_of_name (by decide +kernel)⟩
theorem eX9_copy_0 : SiZ nX9_copy 0 (i_iload 1 1) := s_iload_n dX9_copy_0 rfl
theorem eX9_copy_1 : ScZ nX9_copy 1 (c_S 1 4 1 (Mt mX9_isRow 1)) := e_S (mi := nX9_copy) (mi' := nX9_isRow) (len := 3) (fun h as rest hl => cs_S (mi := nX9_copy) (pc := 1) (y := yX9_isRow) (idx := 67) dX9_copy_1 q1331 q1332 q89 q1333 hyX9_isRow pnX9_isRow hl) wdX9_isRow zX9_isRow (Nat.le_of_ble_eq_true rfl) (Nat.le_of_ble_eq_true rfl)
theorem eX9_copy_4 : SiZ nX9_copy 4 (i_if (fun x => x = 0) 14 7) := s_if_eq dX9_copy_4 (by decide)
theorem eX9_copy_7 : SiZ nX9_copy 7 (i_iload 3 8) := s_iload_n dX9_copy_7 rfl
theorem eX9_copy_8 : ScZ nX9_copy 8 (c_S 1 11 1 (Mt mX9_isRow 1)) := e_S (mi := nX9_copy) (mi' := nX9_isRow) (len := 3) (fun h as rest hl => cs_S (mi := nX9_copy) (pc := 8) (y := yX9_isRow) (idx := 67) dX9_copy_8 q1331 q1332 q89 q1333 hyX9_isRow pnX9_isRow hl) wdX9_isRow zX9_isRow (Nat.le_of_ble_eq_true rfl) (Nat.le_of_ble_eq_true rfl)
theorem eX9_copy_11 : SiZ nX9_copy 11 (i_if (fun x => ¬ x = 0) 17 14) := s_if_ne dX9_copy_11 (by decide)
theorem eX9_copy_14 : SiZ nX9_copy 14 (i_push (.int (-1000001)) 16) := s_ldc dX9_copy_14 q1339
theorem eX9_copy_16 : SiZ nX9_copy 16 i_iret := s_iret dX9_copy_16 rfl
theorem eX9_copy_17 : SiZ nX9_copy 17 (i_aload 0 18) := s_aload_n dX9_copy_17 rfl
theorem eX9_copy_18 : SiZ nX9_copy 18 (i_getf 73 [9] 21) := s_getf dX9_copy_18 (fm_cons (⟨_, _, _, _, _, _, rfl, fkX9_13_9⟩) (fm_nil))
theorem eX9_copy_21 : SiZ nX9_copy 21 (i_iload 1 22) := s_iload_n dX9_copy_21 rfl
theorem eX9_copy_22 : SiZ nX9_copy 22 (i_iald 51 23) := s_ald (j := 0) (by decide) (fun _ => rfl) dX9_copy_22 (Or.inl ⟨rfl, rfl⟩)
theorem eX9_copy_23 : SiZ nX9_copy 23 (i_if (fun x => x < 0) 35 26) := s_if_lt dX9_copy_23 (by decide)
theorem eX9_copy_26 : SiZ nX9_copy 26 (i_aload 0 27) := s_aload_n dX9_copy_26 rfl
theorem eX9_copy_27 : SiZ nX9_copy 27 (i_getf 73 [9] 30) := s_getf dX9_copy_27 (fm_cons (⟨_, _, _, _, _, _, rfl, fkX9_13_9⟩) (fm_nil))
theorem eX9_copy_30 : SiZ nX9_copy 30 (i_iload 3 31) := s_iload_n dX9_copy_30 rfl
theorem eX9_copy_31 : SiZ nX9_copy 31 (i_iald 51 32) := s_ald (j := 0) (by decide) (fun _ => rfl) dX9_copy_31 (Or.inl ⟨rfl, rfl⟩)
theorem eX9_copy_32 : SiZ nX9_copy 32 (i_if (fun x => 0 ≤ x) 41 35) := s_if_ge dX9_copy_32 (by decide)
theorem eX9_copy_35 : SiZ nX9_copy 35 (i_aload 0 36) := s_aload_n dX9_copy_35 rfl
theorem eX9_copy_36 : SiZ nX9_copy 36 (i_push (.int 1) 37) := s_iconst dX9_copy_36 (by decide)
theorem eX9_copy_37 : ScZ nX9_copy 37 (c_V 1 40 2 9 (Mt mX9_find 2)) := e_V (mi := nX9_copy) (mi' := nX9_find) (len := 3) (fun h b as rest hk hl => cs_V (ci := 8) (mi := nX9_copy) (pc := 37) (y := yX9_find) (idx := 74) dX9_copy_37 q1340 q1342 qs33 rfl hk hyX9_find (sigC q1343) pnX9_find hl) wdX9_find zX9_find (Nat.le_of_ble_eq_true rfl) (Nat.le_of_ble_eq_true rfl)
theorem eX9_copy_40 : SiZ nX9_copy 40 i_iret := s_iret dX9_copy_40 rfl
theorem eX9_copy_41 : SiZ nX9_copy 41 (i_aload 0 42) := s_aload_n dX9_copy_41 rfl
theorem eX9_copy_42 : SiZ nX9_copy 42 (i_getf 71 [9] 45) := s_getf dX9_copy_42 (fm_cons (⟨_, _, _, _, _, _, rfl, fkX9_7_9⟩) (fm_nil))
theorem eX9_copy_45 : SiZ nX9_copy 45 (i_iload 1 46) := s_iload_n dX9_copy_45 rfl
theorem eX9_copy_46 : SiZ nX9_copy 46 (i_iald 51 47) := s_ald (j := 0) (by decide) (fun _ => rfl) dX9_copy_46 (Or.inl ⟨rfl, rfl⟩)
theorem eX9_copy_47 : SiZ nX9_copy 47 (i_aload 0 48) := s_aload_n dX9_copy_47 rfl
theorem eX9_copy_48 : SiZ nX9_copy 48 (i_getf 71 [9] 51) := s_getf dX9_copy_48 (fm_cons (⟨_, _, _, _, _, _, rfl, fkX9_7_9⟩) (fm_nil))
theorem eX9_copy_51 : SiZ nX9_copy 51 (i_iload 3 52) := s_iload_n dX9_copy_51 rfl
theorem eX9_copy_52 : SiZ nX9_copy 52 (i_iald 51 53) := s_ald (j := 0) (by decide) (fun _ => rfl) dX9_copy_52 (Or.inl ⟨rfl, rfl⟩)
theorem eX9_copy_53 : SiZ nX9_copy 53 (i_icmp (fun x y => x = y) 62 56) := s_icmp_eq dX9_copy_53 (by decide)
theorem eX9_copy_56 : SiZ nX9_copy 56 (i_aload 0 57) := s_aload_n dX9_copy_56 rfl
theorem eX9_copy_57 : SiZ nX9_copy 57 (i_push (.int 5) 58) := s_iconst dX9_copy_57 (by decide)
theorem eX9_copy_58 : ScZ nX9_copy 58 (c_V 1 61 2 9 (Mt mX9_find 2)) := e_V (mi := nX9_copy) (mi' := nX9_find) (len := 3) (fun h b as rest hk hl => cs_V (ci := 8) (mi := nX9_copy) (pc := 58) (y := yX9_find) (idx := 74) dX9_copy_58 q1340 q1342 qs33 rfl hk hyX9_find (sigC q1343) pnX9_find hl) wdX9_find zX9_find (Nat.le_of_ble_eq_true rfl) (Nat.le_of_ble_eq_true rfl)
theorem eX9_copy_61 : SiZ nX9_copy 61 i_iret := s_iret dX9_copy_61 rfl
theorem eX9_copy_62 : SiZ nX9_copy 62 (i_iload 5 64) := s_iload dX9_copy_62
theorem eX9_copy_64 : SiZ nX9_copy 64 (i_if (fun x => x < 0) 108 67) := s_if_lt dX9_copy_64 (by decide)
theorem eX9_copy_67 : SiZ nX9_copy 67 (i_iload 2 68) := s_iload_n dX9_copy_67 rfl
theorem eX9_copy_68 : SiZ nX9_copy 68 (i_i2l 69) := s_i2l dX9_copy_68
theorem eX9_copy_69 : SiZ nX9_copy 69 (i_push (.long 0) 70) := s_lconst dX9_copy_69 (by decide)
theorem eX9_copy_70 : SiZ nX9_copy 70 (i_aload 0 71) := s_aload_n dX9_copy_70 rfl
theorem eX9_copy_71 : SiZ nX9_copy 71 (i_getf 73 [9] 74) := s_getf dX9_copy_71 (fm_cons (⟨_, _, _, _, _, _, rfl, fkX9_13_9⟩) (fm_nil))
theorem eX9_copy_74 : SiZ nX9_copy 74 (i_iload 1 75) := s_iload_n dX9_copy_74 rfl
theorem eX9_copy_75 : SiZ nX9_copy 75 (i_iald 51 76) := s_ald (j := 0) (by decide) (fun _ => rfl) dX9_copy_75 (Or.inl ⟨rfl, rfl⟩)
theorem eX9_copy_76 : SiZ nX9_copy 76 (i_i2l 77) := s_i2l dX9_copy_76
theorem eX9_copy_77 : SiZ nX9_copy 77 (i_iload 5 79) := s_iload dX9_copy_77
theorem eX9_copy_79 : SiZ nX9_copy 79 (i_i2l 80) := s_i2l dX9_copy_79
theorem eX9_copy_80 : SiZ nX9_copy 80 (i_lbin (fun x y => x - y) 81) := s_lsub dX9_copy_80
theorem eX9_copy_81 : ScZ nX9_copy 81 (c_S 3 84 6 (Mt mX9_in 6)) := e_S (mi := nX9_copy) (mi' := nX9_in) (len := 3) (fun h as rest hl => cs_S (mi := nX9_copy) (pc := 81) (y := yX9_in) (idx := 63) dX9_copy_81 q1335 q1336 q89 q1337 hyX9_in pnX9_in hl) wdX9_in zX9_in (Nat.le_of_ble_eq_true rfl) (Nat.le_of_ble_eq_true rfl)
theorem eX9_copy_84 : SiZ nX9_copy 84 (i_if (fun x => x = 0) 108 87) := s_if_eq dX9_copy_84 (by decide)
theorem eX9_copy_87 : SiZ nX9_copy 87 (i_iload 4 89) := s_iload dX9_copy_87
theorem eX9_copy_89 : SiZ nX9_copy 89 (i_i2l 90) := s_i2l dX9_copy_89
theorem eX9_copy_90 : SiZ nX9_copy 90 (i_push (.long 0) 91) := s_lconst dX9_copy_90 (by decide)
theorem eX9_copy_91 : SiZ nX9_copy 91 (i_aload 0 92) := s_aload_n dX9_copy_91 rfl
theorem eX9_copy_92 : SiZ nX9_copy 92 (i_getf 73 [9] 95) := s_getf dX9_copy_92 (fm_cons (⟨_, _, _, _, _, _, rfl, fkX9_13_9⟩) (fm_nil))
theorem eX9_copy_95 : SiZ nX9_copy 95 (i_iload 3 96) := s_iload_n dX9_copy_95 rfl
theorem eX9_copy_96 : SiZ nX9_copy 96 (i_iald 51 97) := s_ald (j := 0) (by decide) (fun _ => rfl) dX9_copy_96 (Or.inl ⟨rfl, rfl⟩)
theorem eX9_copy_97 : SiZ nX9_copy 97 (i_i2l 98) := s_i2l dX9_copy_97
theorem eX9_copy_98 : SiZ nX9_copy 98 (i_iload 5 100) := s_iload dX9_copy_98
theorem eX9_copy_100 : SiZ nX9_copy 100 (i_i2l 101) := s_i2l dX9_copy_100
theorem eX9_copy_101 : SiZ nX9_copy 101 (i_lbin (fun x y => x - y) 102) := s_lsub dX9_copy_101
theorem eX9_copy_102 : ScZ nX9_copy 102 (c_S 3 105 6 (Mt mX9_in 6)) := e_S (mi := nX9_copy) (mi' := nX9_in) (len := 3) (fun h as rest hl => cs_S (mi := nX9_copy) (pc := 102) (y := yX9_in) (idx := 63) dX9_copy_102 q1335 q1336 q89 q1337 hyX9_in pnX9_in hl) wdX9_in zX9_in (Nat.le_of_ble_eq_true rfl) (Nat.le_of_ble_eq_true rfl)
theorem eX9_copy_105 : SiZ nX9_copy 105 (i_if (fun x => ¬ x = 0) 114 108) := s_if_ne dX9_copy_105 (by decide)
theorem eX9_copy_108 : SiZ nX9_copy 108 (i_aload 0 109) := s_aload_n dX9_copy_108 rfl
theorem eX9_copy_109 : SiZ nX9_copy 109 (i_push (.int 2) 110) := s_iconst dX9_copy_109 (by decide)
theorem eX9_copy_110 : ScZ nX9_copy 110 (c_V 1 113 2 9 (Mt mX9_find 2)) := e_V (mi := nX9_copy) (mi' := nX9_find) (len := 3) (fun h b as rest hk hl => cs_V (ci := 8) (mi := nX9_copy) (pc := 110) (y := yX9_find) (idx := 74) dX9_copy_110 q1340 q1342 qs33 rfl hk hyX9_find (sigC q1343) pnX9_find hl) wdX9_find zX9_find (Nat.le_of_ble_eq_true rfl) (Nat.le_of_ble_eq_true rfl)
theorem eX9_copy_113 : SiZ nX9_copy 113 i_iret := s_iret dX9_copy_113 rfl
theorem eX9_copy_114 : SiZ nX9_copy 114 (i_push (.int 0) 115) := s_iconst dX9_copy_114 (by decide)
theorem eX9_copy_115 : SiZ nX9_copy 115 (i_istore 6 117) := s_istore dX9_copy_115
theorem eX9_copy_117 : SiZ nX9_copy 117 (i_iload 6 119) := s_iload dX9_copy_117
theorem eX9_copy_119 : SiZ nX9_copy 119 (i_iload 5 121) := s_iload dX9_copy_119
theorem eX9_copy_121 : SiZ nX9_copy 121 (i_icmp (fun x y => y ≤ x) 151 124) := s_icmp_ge dX9_copy_121 (by decide)
theorem eX9_copy_124 : SiZ nX9_copy 124 (i_aload 0 125) := s_aload_n dX9_copy_124 rfl
theorem eX9_copy_125 : SiZ nX9_copy 125 (i_getf 83 [9] 128) := s_getf dX9_copy_125 (fm_cons (⟨_, _, _, _, _, _, rfl, fkX9_22_9⟩) (fm_nil))
theorem eX9_copy_128 : SiZ nX9_copy 128 (i_iload 6 130) := s_iload dX9_copy_128
theorem eX9_copy_130 : SiZ nX9_copy 130 (i_aload 0 131) := s_aload_n dX9_copy_130 rfl
theorem eX9_copy_131 : SiZ nX9_copy 131 (i_getf 75 [9] 134) := s_getf dX9_copy_131 (fm_cons (⟨_, _, _, _, _, _, rfl, fkX9_16_9⟩) (fm_nil))
theorem eX9_copy_134 : SiZ nX9_copy 134 (i_push (.int 40) 136) := s_bipush dX9_copy_134 (by decide)
theorem eX9_copy_136 : SiZ nX9_copy 136 (i_iload 1 137) := s_iload_n dX9_copy_136 rfl
theorem eX9_copy_137 : SiZ nX9_copy 137 (i_bin (fun x y => x * y) 138) := s_imul dX9_copy_137
theorem eX9_copy_138 : SiZ nX9_copy 138 (i_iload 2 139) := s_iload_n dX9_copy_138 rfl
theorem eX9_copy_139 : SiZ nX9_copy 139 (i_bin (fun x y => x + y) 140) := s_iadd dX9_copy_139
theorem eX9_copy_140 : SiZ nX9_copy 140 (i_iload 6 142) := s_iload dX9_copy_140
theorem eX9_copy_142 : SiZ nX9_copy 142 (i_bin (fun x y => x + y) 143) := s_iadd dX9_copy_142
theorem eX9_copy_143 : SiZ nX9_copy 143 (i_iald 51 144) := s_ald (j := 0) (by decide) (fun _ => rfl) dX9_copy_143 (Or.inl ⟨rfl, rfl⟩)
theorem eX9_copy_144 : SiZ nX9_copy 144 (i_iast 51 (fun x => x) 145) := s_ast (j := 0) (by decide) (fun _ => rfl) dX9_copy_144 (Or.inl ⟨rfl, rfl, rfl⟩)
theorem eX9_copy_145 : SiZ nX9_copy 145 (i_iinc 6 1 148) := s_iinc dX9_copy_145 (by decide)
theorem eX9_copy_148 : SiZ nX9_copy 148 (i_goto 117) := s_goto dX9_copy_148 (by decide)
theorem eX9_copy_151 : SiZ nX9_copy 151 (i_push (.int 0) 152) := s_iconst dX9_copy_151 (by decide)
theorem eX9_copy_152 : SiZ nX9_copy 152 (i_istore 6 154) := s_istore dX9_copy_152
theorem eX9_copy_154 : SiZ nX9_copy 154 (i_iload 6 156) := s_iload dX9_copy_154
theorem eX9_copy_156 : SiZ nX9_copy 156 (i_iload 5 158) := s_iload dX9_copy_156
theorem eX9_copy_158 : SiZ nX9_copy 158 (i_icmp (fun x y => y ≤ x) 189 161) := s_icmp_ge dX9_copy_158 (by decide)
theorem eX9_copy_161 : SiZ nX9_copy 161 (i_aload 0 162) := s_aload_n dX9_copy_161 rfl
theorem eX9_copy_162 : SiZ nX9_copy 162 (i_getf 75 [9] 165) := s_getf dX9_copy_162 (fm_cons (⟨_, _, _, _, _, _, rfl, fkX9_16_9⟩) (fm_nil))
theorem eX9_copy_165 : SiZ nX9_copy 165 (i_push (.int 40) 167) := s_bipush dX9_copy_165 (by decide)
theorem eX9_copy_167 : SiZ nX9_copy 167 (i_iload 3 168) := s_iload_n dX9_copy_167 rfl
theorem eX9_copy_168 : SiZ nX9_copy 168 (i_bin (fun x y => x * y) 169) := s_imul dX9_copy_168
theorem eX9_copy_169 : SiZ nX9_copy 169 (i_iload 4 171) := s_iload dX9_copy_169
theorem eX9_copy_171 : SiZ nX9_copy 171 (i_bin (fun x y => x + y) 172) := s_iadd dX9_copy_171
theorem eX9_copy_172 : SiZ nX9_copy 172 (i_iload 6 174) := s_iload dX9_copy_172
theorem eX9_copy_174 : SiZ nX9_copy 174 (i_bin (fun x y => x + y) 175) := s_iadd dX9_copy_174
theorem eX9_copy_175 : SiZ nX9_copy 175 (i_aload 0 176) := s_aload_n dX9_copy_175 rfl
theorem eX9_copy_176 : SiZ nX9_copy 176 (i_getf 83 [9] 179) := s_getf dX9_copy_176 (fm_cons (⟨_, _, _, _, _, _, rfl, fkX9_22_9⟩) (fm_nil))
theorem eX9_copy_179 : SiZ nX9_copy 179 (i_iload 6 181) := s_iload dX9_copy_179
theorem eX9_copy_181 : SiZ nX9_copy 181 (i_iald 51 182) := s_ald (j := 0) (by decide) (fun _ => rfl) dX9_copy_181 (Or.inl ⟨rfl, rfl⟩)
theorem eX9_copy_182 : SiZ nX9_copy 182 (i_iast 51 (fun x => x) 183) := s_ast (j := 0) (by decide) (fun _ => rfl) dX9_copy_182 (Or.inl ⟨rfl, rfl, rfl⟩)
theorem eX9_copy_183 : SiZ nX9_copy 183 (i_iinc 6 1 186) := s_iinc dX9_copy_183 (by decide)
theorem eX9_copy_186 : SiZ nX9_copy 186 (i_goto 154) := s_goto dX9_copy_186 (by decide)
theorem eX9_copy_189 : SiZ nX9_copy 189 (i_aload 0 190) := s_aload_n dX9_copy_189 rfl
theorem eX9_copy_190 : SiZ nX9_copy 190 (i_iload 5 192) := s_iload dX9_copy_190
theorem eX9_copy_192 : ScZ nX9_copy 192 (c_V 1 195 2 9 (Mt mX9_well 2)) := e_V (mi := nX9_copy) (mi' := nX9_well) (len := 3) (fun h b as rest hk hl => cs_V (ci := 8) (mi := nX9_copy) (pc := 192) (y := yX9_well) (idx := 78) dX9_copy_192 q1345 q1347 qs34 rfl hk hyX9_well (sigC q1348) pnX9_well hl) wdX9_well zX9_well (Nat.le_of_ble_eq_true rfl) (Nat.le_of_ble_eq_true rfl)
theorem eX9_copy_195 : SiZ nX9_copy 195 i_iret := s_iret dX9_copy_195 rfl
theorem aX9_copy : ∀ x ∈ mX9_copy.1, EnZ nX9_copy x := fm_cons eX9_copy_0 (fm_cons eX9_copy_1 (fm_cons eX9_copy_4 (fm_cons eX9_copy_7 (fm_cons eX9_copy_8 (fm_cons eX9_copy_11 (fm_cons eX9_copy_14 (fm_cons eX9_copy_16 (fm_cons eX9_copy_17 (fm_cons eX9_copy_18 (fm_cons eX9_copy_21 (fm_cons eX9_copy_22 (fm_cons eX9_copy_23 (fm_cons eX9_copy_26 (fm_cons eX9_copy_27 (fm_cons eX9_copy_30 (fm_cons eX9_copy_31 (fm_cons eX9_copy_32 (fm_cons eX9_copy_35 (fm_cons eX9_copy_36 (fm_cons eX9_copy_37 (fm_cons eX9_copy_40 (fm_cons eX9_copy_41 (fm_cons eX9_copy_42 (fm_cons eX9_copy_45 (fm_cons eX9_copy_46 (fm_cons eX9_copy_47 (fm_cons eX9_copy_48 (fm_cons eX9_copy_51 (fm_cons eX9_copy_52 (fm_cons eX9_copy_53 (fm_cons eX9_copy_56 (fm_cons eX9_copy_57 (fm_cons eX9_copy_58 (fm_cons eX9_copy_61 (fm_cons eX9_copy_62 (fm_cons eX9_copy_64 (fm_cons eX9_copy_67 (fm_cons eX9_copy_68 (fm_cons eX9_copy_69 (fm_cons eX9_copy_70 (fm_cons eX9_copy_71 (fm_cons eX9_copy_74 (fm_cons eX9_copy_75 (fm_cons eX9_copy_76 (fm_cons eX9_copy_77 (fm_cons eX9_copy_79 (fm_cons eX9_copy_80 (fm_cons eX9_copy_81 (fm_cons eX9_copy_84 (fm_cons eX9_copy_87 (fm_cons eX9_copy_89 (fm_cons eX9_copy_90 (fm_cons eX9_copy_91 (fm_cons eX9_copy_92 (fm_cons eX9_copy_95 (fm_cons eX9_copy_96 (fm_cons eX9_copy_97 (fm_cons eX9_copy_98 (fm_cons eX9_copy_100 (fm_cons eX9_copy_101 (fm_cons eX9_copy_102 (fm_cons eX9_copy_105 (fm_cons eX9_copy_108 (fm_cons eX9_copy_109 (fm_cons eX9_copy_110 (fm_cons eX9_copy_113 (fm_cons eX9_copy_114 (fm_cons eX9_copy_115 (fm_cons eX9_copy_117 (fm_cons eX9_copy_119 (fm_cons eX9_copy_121 (fm_cons eX9_copy_124 (fm_cons eX9_copy_125 (fm_cons eX9_copy_128 (fm_cons eX9_copy_130 (fm_cons eX9_copy_131 (fm_cons eX9_copy_134 (fm_cons eX9_copy_136 (fm_cons eX9_copy_137 (fm_cons eX9_copy_138 (fm_cons eX9_copy_139 (fm_cons eX9_copy_140 (fm_cons eX9_copy_142 (fm_cons eX9_copy_143 (fm_cons eX9_copy_144 (fm_cons eX9_copy_145 (fm_cons eX9_copy_148 (fm_cons eX9_copy_151 (fm_cons eX9_copy_152 (fm_cons eX9_copy_154 (fm_cons eX9_copy_156 (fm_cons eX9_copy_158 (fm_cons eX9_copy_161 (fm_cons eX9_copy_162 (fm_cons eX9_copy_165 (fm_cons eX9_copy_167 (fm_cons eX9_copy_168 (fm_cons eX9_copy_169 (fm_cons eX9_copy_171 (fm_cons eX9_copy_172 (fm_cons eX9_copy_174 (fm_cons eX9_copy_175 (fm_cons eX9_copy_176 (fm_cons eX9_copy_179 (fm_cons eX9_copy_181 (fm_cons eX9_copy_182 (fm_cons eX9_copy_183 (fm_cons eX9_copy_186 (fm_cons eX9_copy_189 (fm_cons eX9_copy_190 (fm_cons eX9_copy_192 (fm_cons eX9_copy_195 (fm_nil)))))))))))))))))))))))))))))))))))))))))))))))))))))))))))))))))))))))))))))))))))))))))))))))))))))))))))))))))
theorem zX9_copy : SwZ nX9_copy (Mt mX9_copy 7) := wholeZ (mi := nX9_copy) (cd := mX9_copy) aX9_copy rfl (HdZ.none rfl)
abbrev nX9_drop : MI := (cX9_drop, 3, (some (.int)), RX9, "drop", [], 2, 53)
theorem hyX9_drop : yX9_drop.cls ≠ "java/lang/invoke/MethodHandle" ∧ yX9_drop.cls ≠ "java/lang/invoke/VarHandle" := by decide +kernel
theorem pnX9_drop : (parseMethodDescriptor yX9_drop.desc).map (fun d => d.parameters.length) = some 1 := by decide +kernel
theorem wdX9_drop : CdW yX9_drop (nX9_drop) := ⟨Or.inl ⟨q1363, rfl⟩, rfl, rfl, plainFor_of_name (by decide +kernel)⟩
theorem eX9_drop_0 : SiZ nX9_drop 0 (i_iload 1 1) := s_iload_n dX9_drop_0 rfl
theorem eX9_drop_1 : ScZ nX9_drop 1 (c_S 1 4 1 (Mt mX9_isRow 1)) := e_S (mi := nX9_drop) (mi' := nX9_isRow) (len := 3) (fun h as rest hl => cs_S (mi := nX9_drop) (pc := 1) (y := yX9_isRow) (idx := 67) dX9_drop_1 q1331 q1332 q89 q1333 hyX9_isRow pnX9_isRow hl) wdX9_isRow zX9_isRow (Nat.le_of_ble_eq_true rfl) (Nat.le_of_ble_eq_true rfl)
theorem eX9_drop_4 : SiZ nX9_drop 4 (i_if (fun x => ¬ x = 0) 10 7) := s_if_ne dX9_drop_4 (by decide)
theorem eX9_drop_7 : SiZ nX9_drop 7 (i_push (.int (-1000001)) 9) := s_ldc dX9_drop_7 q1339
theorem eX9_drop_9 : SiZ nX9_drop 9 i_iret := s_iret dX9_drop_9 rfl
theorem eX9_drop_10 : SiZ nX9_drop 10 (i_aload 0 11) := s_aload_n dX9_drop_10 rfl
theorem eX9_drop_11 : SiZ nX9_drop 11 (i_getf 73 [9] 14) := s_getf dX9_drop_11 (fm_cons (⟨_, _, _, _, _, _, rfl, fkX9_13_9⟩) (fm_nil))
theorem eX9_drop_14 : SiZ nX9_drop 14 (i_iload 1 15) := s_iload_n dX9_drop_14 rfl
theorem eX9_drop_15 : SiZ nX9_drop 15 (i_iald 51 16) := s_ald (j := 0) (by decide) (fun _ => rfl) dX9_drop_15 (Or.inl ⟨rfl, rfl⟩)
theorem eX9_drop_16 : SiZ nX9_drop 16 (i_if (fun x => 0 ≤ x) 25 19) := s_if_ge dX9_drop_16 (by decide)
theorem eX9_drop_19 : SiZ nX9_drop 19 (i_aload 0 20) := s_aload_n dX9_drop_19 rfl
theorem eX9_drop_20 : SiZ nX9_drop 20 (i_push (.int 1) 21) := s_iconst dX9_drop_20 (by decide)
theorem eX9_drop_21 : ScZ nX9_drop 21 (c_V 1 24 2 9 (Mt mX9_find 2)) := e_V (mi := nX9_drop) (mi' := nX9_find) (len := 3) (fun h b as rest hk hl => cs_V (ci := 8) (mi := nX9_drop) (pc := 21) (y := yX9_find) (idx := 74) dX9_drop_21 q1340 q1342 qs33 rfl hk hyX9_find (sigC q1343) pnX9_find hl) wdX9_find zX9_find (Nat.le_of_ble_eq_true rfl) (Nat.le_of_ble_eq_true rfl)
theorem eX9_drop_24 : SiZ nX9_drop 24 i_iret := s_iret dX9_drop_24 rfl
theorem eX9_drop_25 : SiZ nX9_drop 25 (i_aload 0 26) := s_aload_n dX9_drop_25 rfl
theorem eX9_drop_26 : SiZ nX9_drop 26 (i_getf 73 [9] 29) := s_getf dX9_drop_26 (fm_cons (⟨_, _, _, _, _, _, rfl, fkX9_13_9⟩) (fm_nil))
theorem eX9_drop_29 : SiZ nX9_drop 29 (i_iload 1 30) := s_iload_n dX9_drop_29 rfl
theorem eX9_drop_30 : SiZ nX9_drop 30 (i_iald 51 31) := s_ald (j := 0) (by decide) (fun _ => rfl) dX9_drop_30 (Or.inl ⟨rfl, rfl⟩)
theorem eX9_drop_31 : SiZ nX9_drop 31 (i_istore 2 32) := s_istore_n dX9_drop_31 rfl
theorem eX9_drop_32 : SiZ nX9_drop 32 (i_aload 0 33) := s_aload_n dX9_drop_32 rfl
theorem eX9_drop_33 : SiZ nX9_drop 33 (i_getf 73 [9] 36) := s_getf dX9_drop_33 (fm_cons (⟨_, _, _, _, _, _, rfl, fkX9_13_9⟩) (fm_nil))
theorem eX9_drop_36 : SiZ nX9_drop 36 (i_iload 1 37) := s_iload_n dX9_drop_36 rfl
theorem eX9_drop_37 : SiZ nX9_drop 37 (i_push (.int (-1)) 38) := s_iconst dX9_drop_37 (by decide)
theorem eX9_drop_38 : SiZ nX9_drop 38 (i_iast 51 (fun x => x) 39) := s_ast (j := 0) (by decide) (fun _ => rfl) dX9_drop_38 (Or.inl ⟨rfl, rfl, rfl⟩)
theorem eX9_drop_39 : SiZ nX9_drop 39 (i_aload 0 40) := s_aload_n dX9_drop_39 rfl
theorem eX9_drop_40 : SiZ nX9_drop 40 (i_iload 2 41) := s_iload_n dX9_drop_40 rfl
theorem eX9_drop_41 : ScZ nX9_drop 41 (c_V 1 44 2 9 (Mt mX9_well 2)) := e_V (mi := nX9_drop) (mi' := nX9_well) (len := 3) (fun h b as rest hk hl => cs_V (ci := 8) (mi := nX9_drop) (pc := 41) (y := yX9_well) (idx := 78) dX9_drop_41 q1345 q1347 qs34 rfl hk hyX9_well (sigC q1348) pnX9_well hl) wdX9_well zX9_well (Nat.le_of_ble_eq_true rfl) (Nat.le_of_ble_eq_true rfl)
theorem eX9_drop_44 : SiZ nX9_drop 44 i_iret := s_iret dX9_drop_44 rfl
theorem aX9_drop : ∀ x ∈ mX9_drop.1, EnZ nX9_drop x := fm_cons eX9_drop_0 (fm_cons eX9_drop_1 (fm_cons eX9_drop_4 (fm_cons eX9_drop_7 (fm_cons eX9_drop_9 (fm_cons eX9_drop_10 (fm_cons eX9_drop_11 (fm_cons eX9_drop_14 (fm_cons eX9_drop_15 (fm_cons eX9_drop_16 (fm_cons eX9_drop_19 (fm_cons eX9_drop_20 (fm_cons eX9_drop_21 (fm_cons eX9_drop_24 (fm_cons eX9_drop_25 (fm_cons eX9_drop_26 (fm_cons eX9_drop_29 (fm_cons eX9_drop_30 (fm_cons eX9_drop_31 (fm_cons eX9_drop_32 (fm_cons eX9_drop_33 (fm_cons eX9_drop_36 (fm_cons eX9_drop_37 (fm_cons eX9_drop_38 (fm_cons eX9_drop_39 (fm_cons eX9_drop_40 (fm_cons eX9_drop_41 (fm_cons eX9_drop_44 (fm_nil))))))))))))))))))))))))))))
theorem zX9_drop : SwZ nX9_drop (Mt mX9_drop 3) := wholeZ (mi := nX9_drop) (cd := mX9_drop) aX9_drop rfl (HdZ.none rfl)
abbrev nX9_feed : MI := (cX9_feed, 2, (some (.int)), RX9, "feed", [], 1, 29)
theorem hyX9_feed : yX9_feed.cls ≠ "java/lang/invoke/MethodHandle" ∧ yX9_feed.cls ≠ "java/lang/invoke/VarHandle" := by decide +kernel
theorem pnX9_feed : (parseMethodDescriptor yX9_feed.desc).map (fun d => d.parameters.length) = some 1 := by decide +kernel
theorem wdX9_feed : CdW yX9_feed (nX9_feed) := ⟨Or.inl ⟨q1367, rfl⟩, rfl, rfl, plainFor_of_name (by decide +kernel)⟩
theorem eX9_feed_0 : SiZ nX9_feed 0 (i_iload 1 1) := s_iload_n dX9_feed_0 rfl
theorem eX9_feed_1 : SiZ nX9_feed 1 (i_i2l 2) := s_i2l dX9_feed_1
theorem eX9_feed_2 : SiZ nX9_feed 2 (i_push (.long 0) 3) := s_lconst dX9_feed_2 (by decide)
theorem eX9_feed_3 : SiZ nX9_feed 3 (i_push (.long 255) 6) := s_ldc2 dX9_feed_3 q1368
theorem eX9_feed_6 : ScZ nX9_feed 6 (c_S 3 9 6 (Mt mX9_in 6)) := e_S (mi := nX9_feed) (mi' := nX9_in) (len := 3) (fun h as rest hl => cs_S (mi := nX9_feed) (pc := 6) (y := yX9_in) (idx := 63) dX9_feed_6 q1335 q1336 q89 q1337 hyX9_in pnX9_in hl) wdX9_in zX9_in (Nat.le_of_ble_eq_true rfl) (Nat.le_of_ble_eq_true rfl)
theorem eX9_feed_9 : SiZ nX9_feed 9 (i_if (fun x => ¬ x = 0) 15 12) := s_if_ne dX9_feed_9 (by decide)
theorem eX9_feed_12 : SiZ nX9_feed 12 (i_push (.int (-1000001)) 14) := s_ldc dX9_feed_12 q1339
theorem eX9_feed_14 : SiZ nX9_feed 14 i_iret := s_iret dX9_feed_14 rfl
theorem eX9_feed_15 : SiZ nX9_feed 15 (i_aload 0 16) := s_aload_n dX9_feed_15 rfl
theorem eX9_feed_16 : SiZ nX9_feed 16 (i_getf 86 [9] 19) := s_getf dX9_feed_16 (fm_cons (⟨_, _, _, _, _, _, rfl, fkX9_87_9⟩) (fm_nil))
theorem eX9_feed_19 : SiZ nX9_feed 19 (i_push (.int 120) 21) := s_bipush dX9_feed_19 (by decide)
theorem eX9_feed_21 : SiZ nX9_feed 21 (i_icmp (fun x y => ¬ x = y) 27 24) := s_icmp_ne dX9_feed_21 (by decide)
theorem eX9_feed_24 : SiZ nX9_feed 24 (i_push (.int (-1000003)) 26) := s_ldc dX9_feed_24 q1369
theorem eX9_feed_26 : SiZ nX9_feed 26 i_iret := s_iret dX9_feed_26 rfl
theorem eX9_feed_27 : SiZ nX9_feed 27 (i_aload 0 28) := s_aload_n dX9_feed_27 rfl
theorem eX9_feed_28 : SiZ nX9_feed 28 (i_getf 85 [9] 31) := s_getf dX9_feed_28 (fm_cons (⟨_, _, _, _, _, _, rfl, fkX9_25_9⟩) (fm_nil))
theorem eX9_feed_31 : SiZ nX9_feed 31 (i_aload 0 32) := s_aload_n dX9_feed_31 rfl
theorem eX9_feed_32 : SiZ nX9_feed 32 (i_getf 86 [9] 35) := s_getf dX9_feed_32 (fm_cons (⟨_, _, _, _, _, _, rfl, fkX9_87_9⟩) (fm_nil))
theorem eX9_feed_35 : SiZ nX9_feed 35 (i_iload 1 36) := s_iload_n dX9_feed_35 rfl
theorem eX9_feed_36 : SiZ nX9_feed 36 (i_iast 51 (fun x => x) 37) := s_ast (j := 0) (by decide) (fun _ => rfl) dX9_feed_36 (Or.inl ⟨rfl, rfl, rfl⟩)
theorem eX9_feed_37 : SiZ nX9_feed 37 (i_aload 0 38) := s_aload_n dX9_feed_37 rfl
theorem eX9_feed_38 : SiZ nX9_feed 38 (i_dup 39) := s_dup dX9_feed_38
theorem eX9_feed_39 : SiZ nX9_feed 39 (i_getf 86 [9] 42) := s_getf dX9_feed_39 (fm_cons (⟨_, _, _, _, _, _, rfl, fkX9_87_9⟩) (fm_nil))
theorem eX9_feed_42 : SiZ nX9_feed 42 (i_push (.int 1) 43) := s_iconst dX9_feed_42 (by decide)
theorem eX9_feed_43 : SiZ nX9_feed 43 (i_bin (fun x y => x + y) 44) := s_iadd dX9_feed_43
theorem eX9_feed_44 : SiZ nX9_feed 44 (i_putI 86 [9] 47) := s_putI dX9_feed_44 (fm_cons (⟨_, _, _, _, _, _, rfl, ⟨fkX9_87_9, ⟨_, q1255, Or.inl rfl⟩, Or.inl rfl⟩, rfl⟩) (fm_nil))
theorem eX9_feed_47 : SiZ nX9_feed 47 (i_aload 0 48) := s_aload_n dX9_feed_47 rfl
theorem eX9_feed_48 : SiZ nX9_feed 48 (i_getf 86 [9] 51) := s_getf dX9_feed_48 (fm_cons (⟨_, _, _, _, _, _, rfl, fkX9_87_9⟩) (fm_nil))
theorem eX9_feed_51 : SiZ nX9_feed 51 i_iret := s_iret dX9_feed_51 rfl
theorem aX9_feed : ∀ x ∈ mX9_feed.1, EnZ nX9_feed x := fm_cons eX9_feed_0 (fm_cons eX9_feed_1 (fm_cons eX9_feed_2 (fm_cons eX9_feed_3 (fm_cons eX9_feed_6 (fm_cons eX9_feed_9 (fm_cons eX9_feed_12 (fm_cons eX9_feed_14 (fm_cons eX9_feed_15 (fm_cons eX9_feed_16 (fm_cons eX9_feed_19 (fm_cons eX9_feed_21 (fm_cons eX9_feed_24 (fm_cons eX9_feed_26 (fm_cons eX9_feed_27 (fm_cons eX9_feed_28 (fm_cons eX9_feed_31 (fm_cons eX9_feed_32 (fm_cons eX9_feed_35 (fm_cons eX9_feed_36 (fm_cons eX9_feed_37 (fm_cons eX9_feed_38 (fm_cons eX9_feed_39 (fm_cons eX9_feed_42 (fm_cons eX9_feed_43 (fm_cons eX9_feed_44 (fm_cons eX9_feed_47 (fm_cons eX9_feed_48 (fm_cons eX9_feed_51 (fm_nil)))))))))))))))))))))))))))))
theorem zX9_feed : SwZ nX9_feed (Mt mX9_feed 2) := wholeZ (mi := nX9_feed) (cd := mX9_feed) aX9_feed rfl (HdZ.none rfl)
abbrev nX9_nextToken : MI := (cX9_nextToken, 1, none, RX9, "nextToken", [], 1, 29)
theorem hyX9_nextToken : yX9_nextToken.cls ≠ "java/lang/invoke/MethodHandle" ∧ yX9_nextToken.cls ≠ "java/lang/invoke/VarHandle" := by decide +kernel
theorem pnX9_nextToken : (parseMethodDescriptor yX9_nextToken.desc).map (fun d => d.parameters.length) = some 0 := by decide +kernel
theorem wdX9_nextToken : CdW yX9_nextToken (nX9_nextToken) := ⟨Or.inl ⟨q1381, rfl⟩, rfl, rfl, plainFor_of_name (by decide +kernel)⟩
theorem eX9_nextToken_0 : SiZ nX9_nextToken 0 (i_aload 0 1) := s_aload_n dX9_nextToken_0 rfl
theorem eX9_nextToken_1 : SiZ nX9_nextToken 1 (i_aload 0 2) := s_aload_n dX9_nextToken_1 rfl
theorem eX9_nextToken_2 : SiZ nX9_nextToken 2 (i_getf 90 [9] 5) := s_getf dX9_nextToken_2 (fm_cons (⟨_, _, _, _, _, _, rfl, fkX9_91_9⟩) (fm_nil))
theorem eX9_nextToken_5 : SiZ nX9_nextToken 5 (i_putI 96 [9] 8) := s_putI dX9_nextToken_5 (fm_cons (⟨_, _, _, _, _, _, rfl, ⟨fkX9_94_9, ⟨_, q1260, Or.inl rfl⟩, Or.inl rfl⟩, rfl⟩) (fm_nil))
theorem eX9_nextToken_8 : SiZ nX9_nextToken 8 (i_aload 0 9) := s_aload_n dX9_nextToken_8 rfl
theorem eX9_nextToken_9 : SiZ nX9_nextToken 9 (i_aload 0 10) := s_aload_n dX9_nextToken_9 rfl
theorem eX9_nextToken_10 : SiZ nX9_nextToken 10 (i_getf 90 [9] 13) := s_getf dX9_nextToken_10 (fm_cons (⟨_, _, _, _, _, _, rfl, fkX9_91_9⟩) (fm_nil))
theorem eX9_nextToken_13 : SiZ nX9_nextToken 13 (i_aload 0 14) := s_aload_n dX9_nextToken_13 rfl
theorem eX9_nextToken_14 : SiZ nX9_nextToken 14 (i_getf 86 [9] 17) := s_getf dX9_nextToken_14 (fm_cons (⟨_, _, _, _, _, _, rfl, fkX9_87_9⟩) (fm_nil))
theorem eX9_nextToken_17 : SiZ nX9_nextToken 17 (i_icmp (fun x y => ¬ x = y) 24 20) := s_icmp_ne dX9_nextToken_17 (by decide)
theorem eX9_nextToken_20 : SiZ nX9_nextToken 20 (i_push (.int 3) 21) := s_iconst dX9_nextToken_20 (by decide)
theorem eX9_nextToken_21 : SiZ nX9_nextToken 21 (i_goto 25) := s_goto dX9_nextToken_21 (by decide)
theorem eX9_nextToken_24 : SiZ nX9_nextToken 24 (i_push (.int 0) 25) := s_iconst dX9_nextToken_24 (by decide)
theorem eX9_nextToken_25 : SiZ nX9_nextToken 25 (i_putI 92 [9] 28) := s_putI dX9_nextToken_25 (fm_cons (⟨_, _, _, _, _, _, rfl, ⟨fkX9_97_9, ⟨_, q1258, Or.inl rfl⟩, Or.inl rfl⟩, rfl⟩) (fm_nil))
theorem eX9_nextToken_28 : SiZ nX9_nextToken 28 (i_aload 0 29) := s_aload_n dX9_nextToken_28 rfl
theorem eX9_nextToken_29 : SiZ nX9_nextToken 29 (i_push (.int 0) 30) := s_iconst dX9_nextToken_29 (by decide)
theorem eX9_nextToken_30 : SiZ nX9_nextToken 30 (i_putI 94 [9] 33) := s_putI dX9_nextToken_30 (fm_cons (⟨_, _, _, _, _, _, rfl, ⟨fkX9_100_9, ⟨_, q1259, Or.inl rfl⟩, Or.inl rfl⟩, rfl⟩) (fm_nil))
theorem eX9_nextToken_33 : SiZ nX9_nextToken 33 (i_aload 0 34) := s_aload_n dX9_nextToken_33 rfl
theorem eX9_nextToken_34 : SiZ nX9_nextToken 34 (i_getf 90 [9] 37) := s_getf dX9_nextToken_34 (fm_cons (⟨_, _, _, _, _, _, rfl, fkX9_91_9⟩) (fm_nil))
theorem eX9_nextToken_37 : SiZ nX9_nextToken 37 (i_aload 0 38) := s_aload_n dX9_nextToken_37 rfl
theorem eX9_nextToken_38 : SiZ nX9_nextToken 38 (i_getf 86 [9] 41) := s_getf dX9_nextToken_38 (fm_cons (⟨_, _, _, _, _, _, rfl, fkX9_87_9⟩) (fm_nil))
theorem eX9_nextToken_41 : SiZ nX9_nextToken 41 (i_icmp (fun x y => y ≤ x) 119 44) := s_icmp_ge dX9_nextToken_41 (by decide)
theorem eX9_nextToken_44 : SiZ nX9_nextToken 44 (i_aload 0 45) := s_aload_n dX9_nextToken_44 rfl
theorem eX9_nextToken_45 : SiZ nX9_nextToken 45 (i_getf 85 [9] 48) := s_getf dX9_nextToken_45 (fm_cons (⟨_, _, _, _, _, _, rfl, fkX9_25_9⟩) (fm_nil))
theorem eX9_nextToken_48 : SiZ nX9_nextToken 48 (i_aload 0 49) := s_aload_n dX9_nextToken_48 rfl
theorem eX9_nextToken_49 : SiZ nX9_nextToken 49 (i_getf 90 [9] 52) := s_getf dX9_nextToken_49 (fm_cons (⟨_, _, _, _, _, _, rfl, fkX9_91_9⟩) (fm_nil))
theorem eX9_nextToken_52 : SiZ nX9_nextToken 52 (i_iald 51 53) := s_ald (j := 0) (by decide) (fun _ => rfl) dX9_nextToken_52 (Or.inl ⟨rfl, rfl⟩)
theorem eX9_nextToken_53 : SiZ nX9_nextToken 53 (i_i2l 54) := s_i2l dX9_nextToken_53
theorem eX9_nextToken_54 : SiZ nX9_nextToken 54 (i_push (.long 48) 57) := s_ldc2 dX9_nextToken_54 q1382
theorem eX9_nextToken_57 : SiZ nX9_nextToken 57 (i_push (.long 57) 60) := s_ldc2 dX9_nextToken_57 q1383
theorem eX9_nextToken_60 : ScZ nX9_nextToken 60 (c_S 3 63 6 (Mt mX9_in 6)) := e_S (mi := nX9_nextToken) (mi' := nX9_in) (len := 3) (fun h as rest hl => cs_S (mi := nX9_nextToken) (pc := 60) (y := yX9_in) (idx := 63) dX9_nextToken_60 q1335 q1336 q89 q1337 hyX9_in pnX9_in hl) wdX9_in zX9_in (Nat.le_of_ble_eq_true rfl) (Nat.le_of_ble_eq_true rfl)
theorem eX9_nextToken_63 : SiZ nX9_nextToken 63 (i_if (fun x => x = 0) 119 66) := s_if_eq dX9_nextToken_63 (by decide)
theorem eX9_nextToken_66 : SiZ nX9_nextToken 66 (i_aload 0 67) := s_aload_n dX9_nextToken_66 rfl
theorem eX9_nextToken_67 : SiZ nX9_nextToken 67 (i_aload 0 68) := s_aload_n dX9_nextToken_67 rfl
theorem eX9_nextToken_68 : SiZ nX9_nextToken 68 (i_getf 94 [9] 71) := s_getf dX9_nextToken_68 (fm_cons (⟨_, _, _, _, _, _, rfl, fkX9_100_9⟩) (fm_nil))
theorem eX9_nextToken_71 : SiZ nX9_nextToken 71 (i_push (.int 99) 73) := s_bipush dX9_nextToken_71 (by decide)
theorem eX9_nextToken_73 : SiZ nX9_nextToken 73 (i_icmp (fun x y => x ≤ y) 83 76) := s_icmp_le dX9_nextToken_73 (by decide)
theorem eX9_nextToken_76 : SiZ nX9_nextToken 76 (i_aload 0 77) := s_aload_n dX9_nextToken_76 rfl
theorem eX9_nextToken_77 : SiZ nX9_nextToken 77 (i_getf 94 [9] 80) := s_getf dX9_nextToken_77 (fm_cons (⟨_, _, _, _, _, _, rfl, fkX9_100_9⟩) (fm_nil))
theorem eX9_nextToken_80 : SiZ nX9_nextToken 80 (i_goto 103) := s_goto dX9_nextToken_80 (by decide)
theorem eX9_nextToken_83 : SiZ nX9_nextToken 83 (i_push (.int 10) 85) := s_bipush dX9_nextToken_83 (by decide)
theorem eX9_nextToken_85 : SiZ nX9_nextToken 85 (i_aload 0 86) := s_aload_n dX9_nextToken_85 rfl
theorem eX9_nextToken_86 : SiZ nX9_nextToken 86 (i_getf 94 [9] 89) := s_getf dX9_nextToken_86 (fm_cons (⟨_, _, _, _, _, _, rfl, fkX9_100_9⟩) (fm_nil))
theorem eX9_nextToken_89 : SiZ nX9_nextToken 89 (i_bin (fun x y => x * y) 90) := s_imul dX9_nextToken_89
theorem eX9_nextToken_90 : SiZ nX9_nextToken 90 (i_aload 0 91) := s_aload_n dX9_nextToken_90 rfl
theorem eX9_nextToken_91 : SiZ nX9_nextToken 91 (i_getf 85 [9] 94) := s_getf dX9_nextToken_91 (fm_cons (⟨_, _, _, _, _, _, rfl, fkX9_25_9⟩) (fm_nil))
theorem eX9_nextToken_94 : SiZ nX9_nextToken 94 (i_aload 0 95) := s_aload_n dX9_nextToken_94 rfl
theorem eX9_nextToken_95 : SiZ nX9_nextToken 95 (i_getf 90 [9] 98) := s_getf dX9_nextToken_95 (fm_cons (⟨_, _, _, _, _, _, rfl, fkX9_91_9⟩) (fm_nil))
theorem eX9_nextToken_98 : SiZ nX9_nextToken 98 (i_iald 51 99) := s_ald (j := 0) (by decide) (fun _ => rfl) dX9_nextToken_98 (Or.inl ⟨rfl, rfl⟩)
theorem eX9_nextToken_99 : SiZ nX9_nextToken 99 (i_bin (fun x y => x + y) 100) := s_iadd dX9_nextToken_99
theorem eX9_nextToken_100 : SiZ nX9_nextToken 100 (i_push (.int 48) 102) := s_bipush dX9_nextToken_100 (by decide)
theorem eX9_nextToken_102 : SiZ nX9_nextToken 102 (i_bin (fun x y => x - y) 103) := s_isub dX9_nextToken_102
theorem eX9_nextToken_103 : SiZ nX9_nextToken 103 (i_putI 94 [9] 106) := s_putI dX9_nextToken_103 (fm_cons (⟨_, _, _, _, _, _, rfl, ⟨fkX9_100_9, ⟨_, q1259, Or.inl rfl⟩, Or.inl rfl⟩, rfl⟩) (fm_nil))
theorem eX9_nextToken_106 : SiZ nX9_nextToken 106 (i_aload 0 107) := s_aload_n dX9_nextToken_106 rfl
theorem eX9_nextToken_107 : SiZ nX9_nextToken 107 (i_dup 108) := s_dup dX9_nextToken_107
theorem eX9_nextToken_108 : SiZ nX9_nextToken 108 (i_getf 90 [9] 111) := s_getf dX9_nextToken_108 (fm_cons (⟨_, _, _, _, _, _, rfl, fkX9_91_9⟩) (fm_nil))
theorem eX9_nextToken_111 : SiZ nX9_nextToken 111 (i_push (.int 1) 112) := s_iconst dX9_nextToken_111 (by decide)
theorem eX9_nextToken_112 : SiZ nX9_nextToken 112 (i_bin (fun x y => x + y) 113) := s_iadd dX9_nextToken_112
theorem eX9_nextToken_113 : SiZ nX9_nextToken 113 (i_putI 90 [9] 116) := s_putI dX9_nextToken_113 (fm_cons (⟨_, _, _, _, _, _, rfl, ⟨fkX9_91_9, ⟨_, q1257, Or.inl rfl⟩, Or.inl rfl⟩, rfl⟩) (fm_nil))
theorem eX9_nextToken_116 : SiZ nX9_nextToken 116 (i_goto 33) := s_goto dX9_nextToken_116 (by decide)
theorem eX9_nextToken_119 : SiZ nX9_nextToken 119 (i_aload 0 120) := s_aload_n dX9_nextToken_119 rfl
theorem eX9_nextToken_120 : SiZ nX9_nextToken 120 (i_getf 90 [9] 123) := s_getf dX9_nextToken_120 (fm_cons (⟨_, _, _, _, _, _, rfl, fkX9_91_9⟩) (fm_nil))
theorem eX9_nextToken_123 : SiZ nX9_nextToken 123 (i_aload 0 124) := s_aload_n dX9_nextToken_123 rfl
theorem eX9_nextToken_124 : SiZ nX9_nextToken 124 (i_getf 96 [9] 127) := s_getf dX9_nextToken_124 (fm_cons (⟨_, _, _, _, _, _, rfl, fkX9_94_9⟩) (fm_nil))
theorem eX9_nextToken_127 : SiZ nX9_nextToken 127 (i_icmp (fun x y => x ≤ y) 155 130) := s_icmp_le dX9_nextToken_127 (by decide)
theorem eX9_nextToken_130 : SiZ nX9_nextToken 130 (i_aload 0 131) := s_aload_n dX9_nextToken_130 rfl
theorem eX9_nextToken_131 : SiZ nX9_nextToken 131 (i_aload 0 132) := s_aload_n dX9_nextToken_131 rfl
theorem eX9_nextToken_132 : SiZ nX9_nextToken 132 (i_getf 90 [9] 135) := s_getf dX9_nextToken_132 (fm_cons (⟨_, _, _, _, _, _, rfl, fkX9_91_9⟩) (fm_nil))
theorem eX9_nextToken_135 : SiZ nX9_nextToken 135 (i_aload 0 136) := s_aload_n dX9_nextToken_135 rfl
theorem eX9_nextToken_136 : SiZ nX9_nextToken 136 (i_getf 96 [9] 139) := s_getf dX9_nextToken_136 (fm_cons (⟨_, _, _, _, _, _, rfl, fkX9_94_9⟩) (fm_nil))
theorem eX9_nextToken_139 : SiZ nX9_nextToken 139 (i_bin (fun x y => x - y) 140) := s_isub dX9_nextToken_139
theorem eX9_nextToken_140 : SiZ nX9_nextToken 140 (i_push (.int 2) 141) := s_iconst dX9_nextToken_140 (by decide)
theorem eX9_nextToken_141 : SiZ nX9_nextToken 141 (i_icmp (fun x y => x ≤ y) 148 144) := s_icmp_le dX9_nextToken_141 (by decide)
theorem eX9_nextToken_144 : SiZ nX9_nextToken 144 (i_push (.int 0) 145) := s_iconst dX9_nextToken_144 (by decide)
theorem eX9_nextToken_145 : SiZ nX9_nextToken 145 (i_goto 149) := s_goto dX9_nextToken_145 (by decide)
theorem eX9_nextToken_148 : SiZ nX9_nextToken 148 (i_push (.int 2) 149) := s_iconst dX9_nextToken_148 (by decide)
theorem eX9_nextToken_149 : SiZ nX9_nextToken 149 (i_putI 92 [9] 152) := s_putI dX9_nextToken_149 (fm_cons (⟨_, _, _, _, _, _, rfl, ⟨fkX9_97_9, ⟨_, q1258, Or.inl rfl⟩, Or.inl rfl⟩, rfl⟩) (fm_nil))
theorem eX9_nextToken_152 : SiZ nX9_nextToken 152 (i_goto 229) := s_goto dX9_nextToken_152 (by decide)
theorem eX9_nextToken_155 : SiZ nX9_nextToken 155 (i_aload 0 156) := s_aload_n dX9_nextToken_155 rfl
theorem eX9_nextToken_156 : SiZ nX9_nextToken 156 (i_getf 92 [9] 159) := s_getf dX9_nextToken_156 (fm_cons (⟨_, _, _, _, _, _, rfl, fkX9_97_9⟩) (fm_nil))
theorem eX9_nextToken_159 : SiZ nX9_nextToken 159 (i_if (fun x => ¬ x = 0) 229 162) := s_if_ne dX9_nextToken_159 (by decide)
theorem eX9_nextToken_162 : SiZ nX9_nextToken 162 (i_aload 0 163) := s_aload_n dX9_nextToken_162 rfl
theorem eX9_nextToken_163 : SiZ nX9_nextToken 163 (i_aload 0 164) := s_aload_n dX9_nextToken_163 rfl
theorem eX9_nextToken_164 : SiZ nX9_nextToken 164 (i_getf 85 [9] 167) := s_getf dX9_nextToken_164 (fm_cons (⟨_, _, _, _, _, _, rfl, fkX9_25_9⟩) (fm_nil))
theorem eX9_nextToken_167 : SiZ nX9_nextToken 167 (i_aload 0 168) := s_aload_n dX9_nextToken_167 rfl
theorem eX9_nextToken_168 : SiZ nX9_nextToken 168 (i_getf 90 [9] 171) := s_getf dX9_nextToken_168 (fm_cons (⟨_, _, _, _, _, _, rfl, fkX9_91_9⟩) (fm_nil))
theorem eX9_nextToken_171 : SiZ nX9_nextToken 171 (i_iald 51 172) := s_ald (j := 0) (by decide) (fun _ => rfl) dX9_nextToken_171 (Or.inl ⟨rfl, rfl⟩)
theorem eX9_nextToken_172 : SiZ nX9_nextToken 172 (i_putI 94 [9] 175) := s_putI dX9_nextToken_172 (fm_cons (⟨_, _, _, _, _, _, rfl, ⟨fkX9_100_9, ⟨_, q1259, Or.inl rfl⟩, Or.inl rfl⟩, rfl⟩) (fm_nil))
theorem eX9_nextToken_175 : SiZ nX9_nextToken 175 (i_aload 0 176) := s_aload_n dX9_nextToken_175 rfl
theorem eX9_nextToken_176 : SiZ nX9_nextToken 176 (i_aload 0 177) := s_aload_n dX9_nextToken_176 rfl
theorem eX9_nextToken_177 : SiZ nX9_nextToken 177 (i_getf 94 [9] 180) := s_getf dX9_nextToken_177 (fm_cons (⟨_, _, _, _, _, _, rfl, fkX9_100_9⟩) (fm_nil))
theorem eX9_nextToken_180 : SiZ nX9_nextToken 180 (i_i2l 181) := s_i2l dX9_nextToken_180
theorem eX9_nextToken_181 : SiZ nX9_nextToken 181 (i_push (.long 97) 184) := s_ldc2 dX9_nextToken_181 q1384
theorem eX9_nextToken_184 : SiZ nX9_nextToken 184 (i_push (.long 122) 187) := s_ldc2 dX9_nextToken_184 q1385
theorem eX9_nextToken_187 : ScZ nX9_nextToken 187 (c_S 3 190 6 (Mt mX9_in 6)) := e_S (mi := nX9_nextToken) (mi' := nX9_in) (len := 3) (fun h as rest hl => cs_S (mi := nX9_nextToken) (pc := 187) (y := yX9_in) (idx := 63) dX9_nextToken_187 q1335 q1336 q89 q1337 hyX9_in pnX9_in hl) wdX9_in zX9_in (Nat.le_of_ble_eq_true rfl) (Nat.le_of_ble_eq_true rfl)
theorem eX9_nextToken_190 : SiZ nX9_nextToken 190 (i_if (fun x => ¬ x = 0) 211 193) := s_if_ne dX9_nextToken_190 (by decide)
theorem eX9_nextToken_193 : SiZ nX9_nextToken 193 (i_aload 0 194) := s_aload_n dX9_nextToken_193 rfl
theorem eX9_nextToken_194 : SiZ nX9_nextToken 194 (i_getf 94 [9] 197) := s_getf dX9_nextToken_194 (fm_cons (⟨_, _, _, _, _, _, rfl, fkX9_100_9⟩) (fm_nil))
theorem eX9_nextToken_197 : SiZ nX9_nextToken 197 (i_push (.int 44) 199) := s_bipush dX9_nextToken_197 (by decide)
theorem eX9_nextToken_199 : SiZ nX9_nextToken 199 (i_icmp (fun x y => x = y) 211 202) := s_icmp_eq dX9_nextToken_199 (by decide)
theorem eX9_nextToken_202 : SiZ nX9_nextToken 202 (i_aload 0 203) := s_aload_n dX9_nextToken_202 rfl
theorem eX9_nextToken_203 : SiZ nX9_nextToken 203 (i_getf 94 [9] 206) := s_getf dX9_nextToken_203 (fm_cons (⟨_, _, _, _, _, _, rfl, fkX9_100_9⟩) (fm_nil))
theorem eX9_nextToken_206 : SiZ nX9_nextToken 206 (i_push (.int 59) 208) := s_bipush dX9_nextToken_206 (by decide)
theorem eX9_nextToken_208 : SiZ nX9_nextToken 208 (i_icmp (fun x y => ¬ x = y) 215 211) := s_icmp_ne dX9_nextToken_208 (by decide)
theorem eX9_nextToken_211 : SiZ nX9_nextToken 211 (i_push (.int 1) 212) := s_iconst dX9_nextToken_211 (by decide)
theorem eX9_nextToken_212 : SiZ nX9_nextToken 212 (i_goto 216) := s_goto dX9_nextToken_212 (by decide)
theorem eX9_nextToken_215 : SiZ nX9_nextToken 215 (i_push (.int 0) 216) := s_iconst dX9_nextToken_215 (by decide)
theorem eX9_nextToken_216 : SiZ nX9_nextToken 216 (i_putI 92 [9] 219) := s_putI dX9_nextToken_216 (fm_cons (⟨_, _, _, _, _, _, rfl, ⟨fkX9_97_9, ⟨_, q1258, Or.inl rfl⟩, Or.inl rfl⟩, rfl⟩) (fm_nil))
theorem eX9_nextToken_219 : SiZ nX9_nextToken 219 (i_aload 0 220) := s_aload_n dX9_nextToken_219 rfl
theorem eX9_nextToken_220 : SiZ nX9_nextToken 220 (i_dup 221) := s_dup dX9_nextToken_220
theorem eX9_nextToken_221 : SiZ nX9_nextToken 221 (i_getf 90 [9] 224) := s_getf dX9_nextToken_221 (fm_cons (⟨_, _, _, _, _, _, rfl, fkX9_91_9⟩) (fm_nil))
theorem eX9_nextToken_224 : SiZ nX9_nextToken 224 (i_push (.int 1) 225) := s_iconst dX9_nextToken_224 (by decide)
theorem eX9_nextToken_225 : SiZ nX9_nextToken 225 (i_bin (fun x y => x + y) 226) := s_iadd dX9_nextToken_225
theorem eX9_nextToken_226 : SiZ nX9_nextToken 226 (i_putI 90 [9] 229) := s_putI dX9_nextToken_226 (fm_cons (⟨_, _, _, _, _, _, rfl, ⟨fkX9_91_9, ⟨_, q1257, Or.inl rfl⟩, Or.inl rfl⟩, rfl⟩) (fm_nil))
theorem eX9_nextToken_229 : SiZ nX9_nextToken 229 i_vret := s_vret dX9_nextToken_229 rfl
theorem aX9_nextToken : ∀ x ∈ mX9_nextToken.1, EnZ nX9_nextToken x := fm_cons eX9_nextToken_0 (fm_cons eX9_nextToken_1 (fm_cons eX9_nextToken_2 (fm_cons eX9_nextToken_5 (fm_cons eX9_nextToken_8 (fm_cons eX9_nextToken_9 (fm_cons eX9_nextToken_10 (fm_cons eX9_nextToken_13 (fm_cons eX9_nextToken_14 (fm_cons eX9_nextToken_17 (fm_cons eX9_nextToken_20 (fm_cons eX9_nextToken_21 (fm_cons eX9_nextToken_24 (fm_cons eX9_nextToken_25 (fm_cons eX9_nextToken_28 (fm_cons eX9_nextToken_29 (fm_cons eX9_nextToken_30 (fm_cons eX9_nextToken_33 (fm_cons eX9_nextToken_34 (fm_cons eX9_nextToken_37 (fm_cons eX9_nextToken_38 (fm_cons eX9_nextToken_41 (fm_cons eX9_nextToken_44 (fm_cons eX9_nextToken_45 (fm_cons eX9_nextToken_48 (fm_cons eX9_nextToken_49 (fm_cons eX9_nextToken_52 (fm_cons eX9_nextToken_53 (fm_cons eX9_nextToken_54 (fm_cons eX9_nextToken_57 (fm_cons eX9_nextToken_60 (fm_cons eX9_nextToken_63 (fm_cons eX9_nextToken_66 (fm_cons eX9_nextToken_67 (fm_cons eX9_nextToken_68 (fm_cons eX9_nextToken_71 (fm_cons eX9_nextToken_73 (fm_cons eX9_nextToken_76 (fm_cons eX9_nextToken_77 (fm_cons eX9_nextToken_80 (fm_cons eX9_nextToken_83 (fm_cons eX9_nextToken_85 (fm_cons eX9_nextToken_86 (fm_cons eX9_nextToken_89 (fm_cons eX9_nextToken_90 (fm_cons eX9_nextToken_91 (fm_cons eX9_nextToken_94 (fm_cons eX9_nextToken_95 (fm_cons eX9_nextToken_98 (fm_cons eX9_nextToken_99 (fm_cons eX9_nextToken_100 (fm_cons eX9_nextToken_102 (fm_cons eX9_nextToken_103 (fm_cons eX9_nextToken_106 (fm_cons eX9_nextToken_107 (fm_cons eX9_nextToken_108 (fm_cons eX9_nextToken_111 (fm_cons eX9_nextToken_112 (fm_cons eX9_nextToken_113 (fm_cons eX9_nextToken_116 (fm_cons eX9_nextToken_119 (fm_cons eX9_nextToken_120 (fm_cons eX9_nextToken_123 (fm_cons eX9_nextToken_124 (fm_cons eX9_nextToken_127 (fm_cons eX9_nextToken_130 (fm_cons eX9_nextToken_131 (fm_cons eX9_nextToken_132 (fm_cons eX9_nextToken_135 (fm_cons eX9_nextToken_136 (fm_cons eX9_nextToken_139 (fm_cons eX9_nextToken_140 (fm_cons eX9_nextToken_141 (fm_cons eX9_nextToken_144 (fm_cons eX9_nextToken_145 (fm_cons eX9_nextToken_148 (fm_cons eX9_nextToken_149 (fm_cons eX9_nextToken_152 (fm_cons eX9_nextToken_155 (fm_cons eX9_nextToken_156 (fm_cons eX9_nextToken_159 (fm_cons eX9_nextToken_162 (fm_cons eX9_nextToken_163 (fm_cons eX9_nextToken_164 (fm_cons eX9_nextToken_167 (fm_cons eX9_nextToken_168 (fm_cons eX9_nextToken_171 (fm_cons eX9_nextToken_172 (fm_cons eX9_nextToken_175 (fm_cons eX9_nextToken_176 (fm_cons eX9_nextToken_177 (fm_cons eX9_nextToken_180 (fm_cons eX9_nextToken_181 (fm_cons eX9_nextToken_184 (fm_cons eX9_nextToken_187 (fm_cons eX9_nextToken_190 (fm_cons eX9_nextToken_193 (fm_cons eX9_nextToken_194 (fm_cons eX9_nextToken_197 (fm_cons eX9_nextToken_199 (fm_cons eX9_nextToken_202 (fm_cons eX9_nextToken_203 (fm_cons eX9_nextToken_206 (fm_cons eX9_nextToken_208 (fm_cons eX9_nextToken_211 (fm_cons eX9_nextToken_212 (fm_cons eX9_nextToken_215 (fm_cons eX9_nextToken_216 (fm_cons eX9_nextToken_219 (fm_cons eX9_nextToken_220 (fm_cons eX9_nextToken_221 (fm_cons eX9_nextToken_224 (fm_cons eX9_nextToken_225 (fm_cons eX9_nextToken_226 (fm_cons eX9_nextToken_229 (fm_nil)))))))))))))))))))))))))))))))))))))))))))))))))))))))))))))))))))))))))))))))))))))))))))))))))))))))))))))))))))
theorem zX9_nextToken : SwZ nX9_nextToken (Mt mX9_nextToken 1) := wholeZ (mi := nX9_nextToken) (cd := mX9_nextToken) aX9_nextToken rfl (HdZ.none rfl)
abbrev nX9_isLetter : MI := (cX9_isLetter, 2, (some (.boolean)), RX9, "isLetter", [], 0, 0)
theorem hyX9_isLetter : yX9_isLetter.cls ≠ "java/lang/invoke/MethodHandle" ∧ yX9_isLetter.cls ≠ "java/lang/invoke/VarHandle" := by decide +kernel
theorem pnX9_isLetter : (parseMethodDescriptor yX9_isLetter.desc).map (fun d => d.parameters.length) = some 1 := by decide +kernel
theorem wdX9_isLetter : CdW yX9_isLetter (nX9_isLetter) := ⟨Or.inl ⟨q1393, rfl⟩, rfl, rfl, plainFor_of_name (by decide +kernel)⟩
theorem eX9_isLetter_0 : SiZ nX9_isLetter 0 (i_aload 0 1) := s_aload_n dX9_isLetter_0 rfl
theorem eX9_isLetter_1 : SiZ nX9_isLetter 1 (i_getf 92 [9] 4) := s_getf dX9_isLetter_1 (fm_cons (⟨_, _, _, _, _, _, rfl, fkX9_97_9⟩) (fm_nil))
theorem eX9_isLetter_4 : SiZ nX9_isLetter 4 (i_push (.int 1) 5) := s_iconst dX9_isLetter_4 (by decide)
theorem eX9_isLetter_5 : SiZ nX9_isLetter 5 (i_icmp (fun x y => ¬ x = y) 20 8) := s_icmp_ne dX9_isLetter_5 (by decide)
theorem eX9_isLetter_8 : SiZ nX9_isLetter 8 (i_aload 0 9) := s_aload_n dX9_isLetter_8 rfl
theorem eX9_isLetter_9 : SiZ nX9_isLetter 9 (i_getf 94 [9] 12) := s_getf dX9_isLetter_9 (fm_cons (⟨_, _, _, _, _, _, rfl, fkX9_100_9⟩) (fm_nil))
theorem eX9_isLetter_12 : SiZ nX9_isLetter 12 (i_iload 1 13) := s_iload_n dX9_isLetter_12 rfl
theorem eX9_isLetter_13 : SiZ nX9_isLetter 13 (i_icmp (fun x y => ¬ x = y) 20 16) := s_icmp_ne dX9_isLetter_13 (by decide)
theorem eX9_isLetter_16 : SiZ nX9_isLetter 16 (i_push (.int 1) 17) := s_iconst dX9_isLetter_16 (by decide)
theorem eX9_isLetter_17 : SiZ nX9_isLetter 17 (i_goto 21) := s_goto dX9_isLetter_17 (by decide)
theorem eX9_isLetter_20 : SiZ nX9_isLetter 20 (i_push (.int 0) 21) := s_iconst dX9_isLetter_20 (by decide)
theorem eX9_isLetter_21 : SiZ nX9_isLetter 21 i_zret := s_zret dX9_isLetter_21 rfl
theorem aX9_isLetter : ∀ x ∈ mX9_isLetter.1, EnZ nX9_isLetter x := fm_cons eX9_isLetter_0 (fm_cons eX9_isLetter_1 (fm_cons eX9_isLetter_4 (fm_cons eX9_isLetter_5 (fm_cons eX9_isLetter_8 (fm_cons eX9_isLetter_9 (fm_cons eX9_isLetter_12 (fm_cons eX9_isLetter_13 (fm_cons eX9_isLetter_16 (fm_cons eX9_isLetter_17 (fm_cons eX9_isLetter_20 (fm_cons eX9_isLetter_21 (fm_nil))))))))))))
theorem zX9_isLetter : SwZ nX9_isLetter (Mt mX9_isLetter 2) := wholeZ (mi := nX9_isLetter) (cd := mX9_isLetter) aX9_isLetter rfl (HdZ.none rfl)
abbrev nX9_faults : MI := (cX9_faults, 2, (some (.boolean)), RX9, "faults", [], 0, 0)
theorem hyX9_faults : yX9_faults.cls ≠ "java/lang/invoke/MethodHandle" ∧ yX9_faults.cls ≠ "java/lang/invoke/VarHandle" := by decide +kernel
theorem pnX9_faults : (parseMethodDescriptor yX9_faults.desc).map (fun d => d.parameters.length) = some 1 := by decide +kernel
theorem wdX9_faults : CdW yX9_faults (nX9_faults) := ⟨Or.inl ⟨q1397, rfl⟩, rfl, rfl, plainFor_of_name (by decide +kernel)⟩
theorem eX9_faults_0 : SiZ nX9_faults 0 (i_aload 0 1) := s_aload_n dX9_faults_0 rfl
theorem eX9_faults_1 : SiZ nX9_faults 1 (i_iload 1 2) := s_iload_n dX9_faults_1 rfl
theorem eX9_faults_2 : SiZ nX9_faults 2 (i_putI 98 [9] 5) := s_putI dX9_faults_2 (fm_cons (⟨_, _, _, _, _, _, rfl, ⟨fkX9_111_9, ⟨_, q1261, Or.inl rfl⟩, Or.inl rfl⟩, rfl⟩) (fm_nil))
theorem eX9_faults_5 : SiZ nX9_faults 5 (i_push (.int 0) 6) := s_iconst dX9_faults_5 (by decide)
theorem eX9_faults_6 : SiZ nX9_faults 6 i_zret := s_zret dX9_faults_6 rfl
theorem aX9_faults : ∀ x ∈ mX9_faults.1, EnZ nX9_faults x := fm_cons eX9_faults_0 (fm_cons eX9_faults_1 (fm_cons eX9_faults_2 (fm_cons eX9_faults_5 (fm_cons eX9_faults_6 (fm_nil)))))
theorem zX9_faults : SwZ nX9_faults (Mt mX9_faults 2) := wholeZ (mi := nX9_faults) (cd := mX9_faults) aX9_faults rfl (HdZ.none rfl)
abbrev nX9_takes : MI := (cX9_takes, 2, (some (.boolean)), RX9, "takes", [], 2, 53)
theorem hyX9_takes : yX9_takes.cls ≠ "java/lang/invoke/MethodHandle" ∧ yX9_takes.cls ≠ "java/lang/invoke/VarHandle" := by decide +kernel
theorem pnX9_takes : (parseMethodDescriptor yX9_takes.desc).map (fun d => d.parameters.length) = some 1 := by decide +kernel
theorem wdX9_takes : CdW yX9_takes (nX9_takes) := ⟨Or.inl ⟨q1389, rfl⟩, rfl, rfl, plainFor_of_name (by decide +kernel)⟩
theorem eX9_takes_0 : SiZ nX9_takes 0 (i_aload 0 1) := s_aload_n dX9_takes_0 rfl
theorem eX9_takes_1 : SiZ nX9_takes 1 (i_iload 1 2) := s_iload_n dX9_takes_1 rfl
theorem eX9_takes_2 : ScZ nX9_takes 2 (c_V 1 5 2 9 (Mt mX9_isLetter 2)) := e_V (mi := nX9_takes) (mi' := nX9_isLetter) (len := 3) (fun h b as rest hk hl => cs_V (ci := 8) (mi := nX9_takes) (pc := 2) (y := yX9_isLetter) (idx := 114) dX9_takes_2 q1390 q1392 qs38 rfl hk hyX9_isLetter (sigC q1393) pnX9_isLetter hl) wdX9_isLetter zX9_isLetter (Nat.le_of_ble_eq_true rfl) (Nat.le_of_ble_eq_true rfl)
theorem eX9_takes_5 : SiZ nX9_takes 5 (i_if (fun x => ¬ x = 0) 14 8) := s_if_ne dX9_takes_5 (by decide)
theorem eX9_takes_8 : SiZ nX9_takes 8 (i_aload 0 9) := s_aload_n dX9_takes_8 rfl
theorem eX9_takes_9 : SiZ nX9_takes 9 (i_push (.int 1) 10) := s_iconst dX9_takes_9 (by decide)
theorem eX9_takes_10 : ScZ nX9_takes 10 (c_V 1 13 2 9 (Mt mX9_faults 2)) := e_V (mi := nX9_takes) (mi' := nX9_faults) (len := 3) (fun h b as rest hk hl => cs_V (ci := 8) (mi := nX9_takes) (pc := 10) (y := yX9_faults) (idx := 117) dX9_takes_10 q1394 q1396 qs39 rfl hk hyX9_faults (sigC q1397) pnX9_faults hl) wdX9_faults zX9_faults (Nat.le_of_ble_eq_true rfl) (Nat.le_of_ble_eq_true rfl)
theorem eX9_takes_13 : SiZ nX9_takes 13 i_zret := s_zret dX9_takes_13 rfl
theorem eX9_takes_14 : SiZ nX9_takes 14 (i_aload 0 15) := s_aload_n dX9_takes_14 rfl
theorem eX9_takes_15 : ScZ nX9_takes 15 (c_V 0 18 1 9 (Mt mX9_nextToken 1)) := e_V (mi := nX9_takes) (mi' := nX9_nextToken) (len := 3) (fun h b as rest hk hl => cs_V (ci := 8) (mi := nX9_takes) (pc := 15) (y := yX9_nextToken) (idx := 120) dX9_takes_15 q1378 q1380 qs36 rfl hk hyX9_nextToken (sigC q1381) pnX9_nextToken hl) wdX9_nextToken zX9_nextToken (Nat.le_of_ble_eq_true rfl) (Nat.le_of_ble_eq_true rfl)
theorem eX9_takes_18 : SiZ nX9_takes 18 (i_push (.int 1) 19) := s_iconst dX9_takes_18 (by decide)
theorem eX9_takes_19 : SiZ nX9_takes 19 i_zret := s_zret dX9_takes_19 rfl
theorem aX9_takes : ∀ x ∈ mX9_takes.1, EnZ nX9_takes x := fm_cons eX9_takes_0 (fm_cons eX9_takes_1 (fm_cons eX9_takes_2 (fm_cons eX9_takes_5 (fm_cons eX9_takes_8 (fm_cons eX9_takes_9 (fm_cons eX9_takes_10 (fm_cons eX9_takes_13 (fm_cons eX9_takes_14 (fm_cons eX9_takes_15 (fm_cons eX9_takes_18 (fm_cons eX9_takes_19 (fm_nil))))))))))))
theorem zX9_takes : SwZ nX9_takes (Mt mX9_takes 2) := wholeZ (mi := nX9_takes) (cd := mX9_takes) aX9_takes rfl (HdZ.none rfl)
abbrev nX9_takesNumber : MI := (cX9_takesNumber, 5, (some (.boolean)), RX9, "takesNumber", [], 3, 78)
theorem hyX9_takesNumber : yX9_takesNumber.cls ≠ "java/lang/invoke/MethodHandle" ∧ yX9_takesNumber.cls ≠ "java/lang/invoke/VarHandle" := by decide +kernel
theorem pnX9_takesNumber : (parseMethodDescriptor yX9_takesNumber.desc).map (fun d => d.parameters.length) = some 4 := by decide +kernel
theorem wdX9_takesNumber : CdW yX9_takesNumber (nX9_takesNumber) := ⟨Or.inl ⟨q1401, rfl⟩, rfl, rfl, plainFor_of_name (by decide +kernel)⟩
theorem eX9_takesNumber_0 : SiZ nX9_takesNumber 0 (i_aload 0 1) := s_aload_n dX9_takesNumber_0 rfl
theorem eX9_takesNumber_1 : SiZ nX9_takesNumber 1 (i_getf 92 [9] 4) := s_getf dX9_takesNumber_1 (fm_cons (⟨_, _, _, _, _, _, rfl, fkX9_97_9⟩) (fm_nil))
theorem eX9_takesNumber_4 : SiZ nX9_takesNumber 4 (i_push (.int 2) 5) := s_iconst dX9_takesNumber_4 (by decide)
theorem eX9_takesNumber_5 : SiZ nX9_takesNumber 5 (i_icmp (fun x y => ¬ x = y) 23 8) := s_icmp_ne dX9_takesNumber_5 (by decide)
theorem eX9_takesNumber_8 : SiZ nX9_takesNumber 8 (i_aload 0 9) := s_aload_n dX9_takesNumber_8 rfl
theorem eX9_takesNumber_9 : SiZ nX9_takesNumber 9 (i_getf 94 [9] 12) := s_getf dX9_takesNumber_9 (fm_cons (⟨_, _, _, _, _, _, rfl, fkX9_100_9⟩) (fm_nil))
theorem eX9_takesNumber_12 : SiZ nX9_takesNumber 12 (i_i2l 13) := s_i2l dX9_takesNumber_12
theorem eX9_takesNumber_13 : SiZ nX9_takesNumber 13 (i_iload 1 14) := s_iload_n dX9_takesNumber_13 rfl
theorem eX9_takesNumber_14 : SiZ nX9_takesNumber 14 (i_i2l 15) := s_i2l dX9_takesNumber_14
theorem eX9_takesNumber_15 : SiZ nX9_takesNumber 15 (i_iload 2 16) := s_iload_n dX9_takesNumber_15 rfl
theorem eX9_takesNumber_16 : SiZ nX9_takesNumber 16 (i_i2l 17) := s_i2l dX9_takesNumber_16
theorem eX9_takesNumber_17 : ScZ nX9_takesNumber 17 (c_S 3 20 6 (Mt mX9_in 6)) := e_S (mi := nX9_takesNumber) (mi' := nX9_in) (len := 3) (fun h as rest hl => cs_S (mi := nX9_takesNumber) (pc := 17) (y := yX9_in) (idx := 63) dX9_takesNumber_17 q1335 q1336 q89 q1337 hyX9_in pnX9_in hl) wdX9_in zX9_in (Nat.le_of_ble_eq_true rfl) (Nat.le_of_ble_eq_true rfl)
theorem eX9_takesNumber_20 : SiZ nX9_takesNumber 20 (i_if (fun x => ¬ x = 0) 41 23) := s_if_ne dX9_takesNumber_20 (by decide)
theorem eX9_takesNumber_23 : SiZ nX9_takesNumber 23 (i_aload 0 24) := s_aload_n dX9_takesNumber_23 rfl
theorem eX9_takesNumber_24 : SiZ nX9_takesNumber 24 (i_aload 0 25) := s_aload_n dX9_takesNumber_24 rfl
theorem eX9_takesNumber_25 : SiZ nX9_takesNumber 25 (i_getf 92 [9] 28) := s_getf dX9_takesNumber_25 (fm_cons (⟨_, _, _, _, _, _, rfl, fkX9_97_9⟩) (fm_nil))
theorem eX9_takesNumber_28 : SiZ nX9_takesNumber 28 (i_push (.int 2) 29) := s_iconst dX9_takesNumber_28 (by decide)
theorem eX9_takesNumber_29 : SiZ nX9_takesNumber 29 (i_icmp (fun x y => ¬ x = y) 36 32) := s_icmp_ne dX9_takesNumber_29 (by decide)
theorem eX9_takesNumber_32 : SiZ nX9_takesNumber 32 (i_push (.int 2) 33) := s_iconst dX9_takesNumber_32 (by decide)
theorem eX9_takesNumber_33 : SiZ nX9_takesNumber 33 (i_goto 37) := s_goto dX9_takesNumber_33 (by decide)
theorem eX9_takesNumber_36 : SiZ nX9_takesNumber 36 (i_push (.int 1) 37) := s_iconst dX9_takesNumber_36 (by decide)
theorem eX9_takesNumber_37 : ScZ nX9_takesNumber 37 (c_V 1 40 2 9 (Mt mX9_faults 2)) := e_V (mi := nX9_takesNumber) (mi' := nX9_faults) (len := 3) (fun h b as rest hk hl => cs_V (ci := 8) (mi := nX9_takesNumber) (pc := 37) (y := yX9_faults) (idx := 117) dX9_takesNumber_37 q1394 q1396 qs39 rfl hk hyX9_faults (sigC q1397) pnX9_faults hl) wdX9_faults zX9_faults (Nat.le_of_ble_eq_true rfl) (Nat.le_of_ble_eq_true rfl)
theorem eX9_takesNumber_40 : SiZ nX9_takesNumber 40 i_zret := s_zret dX9_takesNumber_40 rfl
theorem eX9_takesNumber_41 : SiZ nX9_takesNumber 41 (i_aload 0 42) := s_aload_n dX9_takesNumber_41 rfl
theorem eX9_takesNumber_42 : SiZ nX9_takesNumber 42 (i_getf 101 [9] 45) := s_getf dX9_takesNumber_42 (fm_cons (⟨_, _, _, _, _, _, rfl, fkX9_28_9⟩) (fm_nil))
theorem eX9_takesNumber_45 : SiZ nX9_takesNumber 45 (i_iload 3 46) := s_iload_n dX9_takesNumber_45 rfl
theorem eX9_takesNumber_46 : SiZ nX9_takesNumber 46 (i_aload 0 47) := s_aload_n dX9_takesNumber_46 rfl
theorem eX9_takesNumber_47 : SiZ nX9_takesNumber 47 (i_getf 94 [9] 50) := s_getf dX9_takesNumber_47 (fm_cons (⟨_, _, _, _, _, _, rfl, fkX9_100_9⟩) (fm_nil))
theorem eX9_takesNumber_50 : SiZ nX9_takesNumber 50 (i_iast 51 (fun x => x) 51) := s_ast (j := 0) (by decide) (fun _ => rfl) dX9_takesNumber_50 (Or.inl ⟨rfl, rfl, rfl⟩)
theorem eX9_takesNumber_51 : SiZ nX9_takesNumber 51 (i_aload 0 52) := s_aload_n dX9_takesNumber_51 rfl
theorem eX9_takesNumber_52 : ScZ nX9_takesNumber 52 (c_V 0 55 1 9 (Mt mX9_nextToken 1)) := e_V (mi := nX9_takesNumber) (mi' := nX9_nextToken) (len := 3) (fun h b as rest hk hl => cs_V (ci := 8) (mi := nX9_takesNumber) (pc := 52) (y := yX9_nextToken) (idx := 120) dX9_takesNumber_52 q1378 q1380 qs36 rfl hk hyX9_nextToken (sigC q1381) pnX9_nextToken hl) wdX9_nextToken zX9_nextToken (Nat.le_of_ble_eq_true rfl) (Nat.le_of_ble_eq_true rfl)
theorem eX9_takesNumber_55 : SiZ nX9_takesNumber 55 (i_aload 0 56) := s_aload_n dX9_takesNumber_55 rfl
theorem eX9_takesNumber_56 : SiZ nX9_takesNumber 56 (i_iload 4 58) := s_iload dX9_takesNumber_56
theorem eX9_takesNumber_58 : ScZ nX9_takesNumber 58 (c_V 1 61 2 9 (Mt mX9_takes 2)) := e_V (mi := nX9_takesNumber) (mi' := nX9_takes) (len := 3) (fun h b as rest hk hl => cs_V (ci := 8) (mi := nX9_takesNumber) (pc := 58) (y := yX9_takes) (idx := 123) dX9_takesNumber_58 q1386 q1388 qs37 rfl hk hyX9_takes (sigC q1389) pnX9_takes hl) wdX9_takes zX9_takes (Nat.le_of_ble_eq_true rfl) (Nat.le_of_ble_eq_true rfl)
theorem eX9_takesNumber_61 : SiZ nX9_takesNumber 61 i_zret := s_zret dX9_takesNumber_61 rfl
theorem aX9_takesNumber : ∀ x ∈ mX9_takesNumber.1, EnZ nX9_takesNumber x := fm_cons eX9_takesNumber_0 (fm_cons eX9_takesNumber_1 (fm_cons eX9_takesNumber_4 (fm_cons eX9_takesNumber_5 (fm_cons eX9_takesNumber_8 (fm_cons eX9_takesNumber_9 (fm_cons eX9_takesNumber_12 (fm_cons eX9_takesNumber_13 (fm_cons eX9_takesNumber_14 (fm_cons eX9_takesNumber_15 (fm_cons eX9_takesNumber_16 (fm_cons eX9_takesNumber_17 (fm_cons eX9_takesNumber_20 (fm_cons eX9_takesNumber_23 (fm_cons eX9_takesNumber_24 (fm_cons eX9_takesNumber_25 (fm_cons eX9_takesNumber_28 (fm_cons eX9_takesNumber_29 (fm_cons eX9_takesNumber_32 (fm_cons eX9_takesNumber_33 (fm_cons eX9_takesNumber_36 (fm_cons eX9_takesNumber_37 (fm_cons eX9_takesNumber_40 (fm_cons eX9_takesNumber_41 (fm_cons eX9_takesNumber_42 (fm_cons eX9_takesNumber_45 (fm_cons eX9_takesNumber_46 (fm_cons eX9_takesNumber_47 (fm_cons eX9_takesNumber_50 (fm_cons eX9_takesNumber_51 (fm_cons eX9_takesNumber_52 (fm_cons eX9_takesNumber_55 (fm_cons eX9_takesNumber_56 (fm_cons eX9_takesNumber_58 (fm_cons eX9_takesNumber_61 (fm_nil)))))))))))))))))))))))))))))))))))
theorem zX9_takesNumber : SwZ nX9_takesNumber (Mt mX9_takesNumber 5) := wholeZ (mi := nX9_takesNumber) (cd := mX9_takesNumber) aX9_takesNumber rfl (HdZ.none rfl)
abbrev nX9_kindBy : MI := (cX9_kindBy, 1, (some (.int)), RX9, "kindBy", [], 0, 0)
theorem hyX9_kindBy : yX9_kindBy.cls ≠ "java/lang/invoke/MethodHandle" ∧ yX9_kindBy.cls ≠ "java/lang/invoke/VarHandle" := by decide +kernel
theorem pnX9_kindBy : (parseMethodDescriptor yX9_kindBy.desc).map (fun d => d.parameters.length) = some 1 := by decide +kernel
theorem wdX9_kindBy : CdW yX9_kindBy (nX9_kindBy) := ⟨Or.inl ⟨q1404, rfl⟩, rfl, rfl, plainFor_of_name (by decide +kernel)⟩
theorem eX9_kindBy_0 : SiZ nX9_kindBy 0 (i_iload 0 1) := s_iload_n dX9_kindBy_0 rfl
theorem eX9_kindBy_1 : SiZ nX9_kindBy 1 (i_push (.int 114) 3) := s_bipush dX9_kindBy_1 (by decide)
theorem eX9_kindBy_3 : SiZ nX9_kindBy 3 (i_icmp (fun x y => ¬ x = y) 10 6) := s_icmp_ne dX9_kindBy_3 (by decide)
theorem eX9_kindBy_6 : SiZ nX9_kindBy 6 (i_push (.int 1) 7) := s_iconst dX9_kindBy_6 (by decide)
theorem eX9_kindBy_7 : SiZ nX9_kindBy 7 (i_goto 51) := s_goto dX9_kindBy_7 (by decide)
theorem eX9_kindBy_10 : SiZ nX9_kindBy 10 (i_iload 0 11) := s_iload_n dX9_kindBy_10 rfl
theorem eX9_kindBy_11 : SiZ nX9_kindBy 11 (i_push (.int 112) 13) := s_bipush dX9_kindBy_11 (by decide)
theorem eX9_kindBy_13 : SiZ nX9_kindBy 13 (i_icmp (fun x y => ¬ x = y) 20 16) := s_icmp_ne dX9_kindBy_13 (by decide)
theorem eX9_kindBy_16 : SiZ nX9_kindBy 16 (i_push (.int 2) 17) := s_iconst dX9_kindBy_16 (by decide)
theorem eX9_kindBy_17 : SiZ nX9_kindBy 17 (i_goto 51) := s_goto dX9_kindBy_17 (by decide)
theorem eX9_kindBy_20 : SiZ nX9_kindBy 20 (i_iload 0 21) := s_iload_n dX9_kindBy_20 rfl
theorem eX9_kindBy_21 : SiZ nX9_kindBy 21 (i_push (.int 99) 23) := s_bipush dX9_kindBy_21 (by decide)
theorem eX9_kindBy_23 : SiZ nX9_kindBy 23 (i_icmp (fun x y => ¬ x = y) 30 26) := s_icmp_ne dX9_kindBy_23 (by decide)
theorem eX9_kindBy_26 : SiZ nX9_kindBy 26 (i_push (.int 3) 27) := s_iconst dX9_kindBy_26 (by decide)
theorem eX9_kindBy_27 : SiZ nX9_kindBy 27 (i_goto 51) := s_goto dX9_kindBy_27 (by decide)
theorem eX9_kindBy_30 : SiZ nX9_kindBy 30 (i_iload 0 31) := s_iload_n dX9_kindBy_30 rfl
theorem eX9_kindBy_31 : SiZ nX9_kindBy 31 (i_push (.int 119) 33) := s_bipush dX9_kindBy_31 (by decide)
theorem eX9_kindBy_33 : SiZ nX9_kindBy 33 (i_icmp (fun x y => ¬ x = y) 40 36) := s_icmp_ne dX9_kindBy_33 (by decide)
theorem eX9_kindBy_36 : SiZ nX9_kindBy 36 (i_push (.int 4) 37) := s_iconst dX9_kindBy_36 (by decide)
theorem eX9_kindBy_37 : SiZ nX9_kindBy 37 (i_goto 51) := s_goto dX9_kindBy_37 (by decide)
theorem eX9_kindBy_40 : SiZ nX9_kindBy 40 (i_iload 0 41) := s_iload_n dX9_kindBy_40 rfl
theorem eX9_kindBy_41 : SiZ nX9_kindBy 41 (i_push (.int 115) 43) := s_bipush dX9_kindBy_41 (by decide)
theorem eX9_kindBy_43 : SiZ nX9_kindBy 43 (i_icmp (fun x y => ¬ x = y) 50 46) := s_icmp_ne dX9_kindBy_43 (by decide)
theorem eX9_kindBy_46 : SiZ nX9_kindBy 46 (i_push (.int 5) 47) := s_iconst dX9_kindBy_46 (by decide)
theorem eX9_kindBy_47 : SiZ nX9_kindBy 47 (i_goto 51) := s_goto dX9_kindBy_47 (by decide)
theorem eX9_kindBy_50 : SiZ nX9_kindBy 50 (i_push (.int 0) 51) := s_iconst dX9_kindBy_50 (by decide)
theorem eX9_kindBy_51 : SiZ nX9_kindBy 51 i_iret := s_iret dX9_kindBy_51 rfl
theorem aX9_kindBy : ∀ x ∈ mX9_kindBy.1, EnZ nX9_kindBy x := fm_cons eX9_kindBy_0 (fm_cons eX9_kindBy_1 (fm_cons eX9_kindBy_3 (fm_cons eX9_kindBy_6 (fm_cons eX9_kindBy_7 (fm_cons eX9_kindBy_10 (fm_cons eX9_kindBy_11 (fm_cons eX9_kindBy_13 (fm_cons eX9_kindBy_16 (fm_cons eX9_kindBy_17 (fm_cons eX9_kindBy_20 (fm_cons eX9_kindBy_21 (fm_cons eX9_kindBy_23 (fm_cons eX9_kindBy_26 (fm_cons eX9_kindBy_27 (fm_cons eX9_kindBy_30 (fm_cons eX9_kindBy_31 (fm_cons eX9_kindBy_33 (fm_cons eX9_kindBy_36 (fm_cons eX9_kindBy_37 (fm_cons eX9_kindBy_40 (fm_cons eX9_kindBy_41 (fm_cons eX9_kindBy_43 (fm_cons eX9_kindBy_46 (fm_cons eX9_kindBy_47 (fm_cons eX9_kindBy_50 (fm_cons eX9_kindBy_51 (fm_nil)))))))))))))))))))))))))))
theorem zX9_kindBy : SwZ nX9_kindBy (Mt mX9_kindBy 1) := wholeZ (mi := nX9_kindBy) (cd := mX9_kindBy) aX9_kindBy rfl (HdZ.none rfl)
abbrev nX9_readFish : MI := (cX9_readFish, 3, (some (.boolean)), RX9, "readFish", [], 4, 106)
theorem hyX9_readFish : yX9_readFish.cls ≠ "java/lang/invoke/MethodHandle" ∧ yX9_readFish.cls ≠ "java/lang/invoke/VarHandle" := by decide +kernel
theorem pnX9_readFish : (parseMethodDescriptor yX9_readFish.desc).map (fun d => d.parameters.length) = some 1 := by decide +kernel
theorem wdX9_readFish : CdW yX9_readFish (nX9_readFish) := ⟨Or.inl ⟨q1408, rfl⟩, rfl, rfl, plainFor_of_name (by decide +kernel)⟩
theorem eX9_readFish_0 : SiZ nX9_readFish 0 (i_aload 0 1) := s_aload_n dX9_readFish_0 rfl
theorem eX9_readFish_1 : SiZ nX9_readFish 1 (i_getf 101 [9] 4) := s_getf dX9_readFish_1 (fm_cons (⟨_, _, _, _, _, _, rfl, fkX9_28_9⟩) (fm_nil))
theorem eX9_readFish_4 : SiZ nX9_readFish 4 (i_push (.int 1) 5) := s_iconst dX9_readFish_4 (by decide)
theorem eX9_readFish_5 : SiZ nX9_readFish 5 (i_iald 51 6) := s_ald (j := 0) (by decide) (fun _ => rfl) dX9_readFish_5 (Or.inl ⟨rfl, rfl⟩)
theorem eX9_readFish_6 : SiZ nX9_readFish 6 (i_istore 2 7) := s_istore_n dX9_readFish_6 rfl
theorem eX9_readFish_7 : SiZ nX9_readFish 7 (i_aload 0 8) := s_aload_n dX9_readFish_7 rfl
theorem eX9_readFish_8 : SiZ nX9_readFish 8 (i_getf 101 [9] 11) := s_getf dX9_readFish_8 (fm_cons (⟨_, _, _, _, _, _, rfl, fkX9_28_9⟩) (fm_nil))
theorem eX9_readFish_11 : SiZ nX9_readFish 11 (i_push (.int 0) 12) := s_iconst dX9_readFish_11 (by decide)
theorem eX9_readFish_12 : SiZ nX9_readFish 12 (i_iald 51 13) := s_ald (j := 0) (by decide) (fun _ => rfl) dX9_readFish_12 (Or.inl ⟨rfl, rfl⟩)
theorem eX9_readFish_13 : SiZ nX9_readFish 13 (i_if (fun x => x = 0) 21 16) := s_if_eq dX9_readFish_13 (by decide)
theorem eX9_readFish_16 : SiZ nX9_readFish 16 (i_iload 2 17) := s_iload_n dX9_readFish_16 rfl
theorem eX9_readFish_17 : SiZ nX9_readFish 17 (i_push (.int 5) 18) := s_iconst dX9_readFish_17 (by decide)
theorem eX9_readFish_18 : SiZ nX9_readFish 18 (i_icmp (fun x y => ¬ x = y) 40 21) := s_icmp_ne dX9_readFish_18 (by decide)
theorem eX9_readFish_21 : SiZ nX9_readFish 21 (i_aload 0 22) := s_aload_n dX9_readFish_21 rfl
theorem eX9_readFish_22 : SiZ nX9_readFish 22 (i_aload 0 23) := s_aload_n dX9_readFish_22 rfl
theorem eX9_readFish_23 : SiZ nX9_readFish 23 (i_getf 101 [9] 26) := s_getf dX9_readFish_23 (fm_cons (⟨_, _, _, _, _, _, rfl, fkX9_28_9⟩) (fm_nil))
theorem eX9_readFish_26 : SiZ nX9_readFish 26 (i_push (.int 0) 27) := s_iconst dX9_readFish_26 (by decide)
theorem eX9_readFish_27 : SiZ nX9_readFish 27 (i_iald 51 28) := s_ald (j := 0) (by decide) (fun _ => rfl) dX9_readFish_27 (Or.inl ⟨rfl, rfl⟩)
theorem eX9_readFish_28 : SiZ nX9_readFish 28 (i_if (fun x => ¬ x = 0) 35 31) := s_if_ne dX9_readFish_28 (by decide)
theorem eX9_readFish_31 : SiZ nX9_readFish 31 (i_push (.int 1) 32) := s_iconst dX9_readFish_31 (by decide)
theorem eX9_readFish_32 : SiZ nX9_readFish 32 (i_goto 36) := s_goto dX9_readFish_32 (by decide)
theorem eX9_readFish_35 : SiZ nX9_readFish 35 (i_push (.int 3) 36) := s_iconst dX9_readFish_35 (by decide)
theorem eX9_readFish_36 : ScZ nX9_readFish 36 (c_V 1 39 2 9 (Mt mX9_faults 2)) := e_V (mi := nX9_readFish) (mi' := nX9_faults) (len := 3) (fun h b as rest hk hl => cs_V (ci := 8) (mi := nX9_readFish) (pc := 36) (y := yX9_faults) (idx := 117) dX9_readFish_36 q1394 q1396 qs39 rfl hk hyX9_faults (sigC q1397) pnX9_faults hl) wdX9_faults zX9_faults (Nat.le_of_ble_eq_true rfl) (Nat.le_of_ble_eq_true rfl)
theorem eX9_readFish_39 : SiZ nX9_readFish 39 i_zret := s_zret dX9_readFish_39 rfl
theorem eX9_readFish_40 : SiZ nX9_readFish 40 (i_aload 0 41) := s_aload_n dX9_readFish_40 rfl
theorem eX9_readFish_41 : ScZ nX9_readFish 41 (c_V 0 44 1 9 (Mt mX9_nextToken 1)) := e_V (mi := nX9_readFish) (mi' := nX9_nextToken) (len := 3) (fun h b as rest hk hl => cs_V (ci := 8) (mi := nX9_readFish) (pc := 41) (y := yX9_nextToken) (idx := 120) dX9_readFish_41 q1378 q1380 qs36 rfl hk hyX9_nextToken (sigC q1381) pnX9_nextToken hl) wdX9_nextToken zX9_nextToken (Nat.le_of_ble_eq_true rfl) (Nat.le_of_ble_eq_true rfl)
theorem eX9_readFish_44 : SiZ nX9_readFish 44 (i_aload 0 45) := s_aload_n dX9_readFish_44 rfl
theorem eX9_readFish_45 : SiZ nX9_readFish 45 (i_getf 101 [9] 48) := s_getf dX9_readFish_45 (fm_cons (⟨_, _, _, _, _, _, rfl, fkX9_28_9⟩) (fm_nil))
theorem eX9_readFish_48 : SiZ nX9_readFish 48 (i_push (.int 26) 50) := s_bipush dX9_readFish_48 (by decide)
theorem eX9_readFish_50 : SiZ nX9_readFish 50 (i_iload 2 51) := s_iload_n dX9_readFish_50 rfl
theorem eX9_readFish_51 : SiZ nX9_readFish 51 (i_bin (fun x y => x + y) 52) := s_iadd dX9_readFish_51
theorem eX9_readFish_52 : SiZ nX9_readFish 52 (i_iload 1 53) := s_iload_n dX9_readFish_52 rfl
theorem eX9_readFish_53 : SiZ nX9_readFish 53 (i_iast 51 (fun x => x) 54) := s_ast (j := 0) (by decide) (fun _ => rfl) dX9_readFish_53 (Or.inl ⟨rfl, rfl, rfl⟩)
theorem eX9_readFish_54 : SiZ nX9_readFish 54 (i_aload 0 55) := s_aload_n dX9_readFish_54 rfl
theorem eX9_readFish_55 : SiZ nX9_readFish 55 (i_getf 101 [9] 58) := s_getf dX9_readFish_55 (fm_cons (⟨_, _, _, _, _, _, rfl, fkX9_28_9⟩) (fm_nil))
theorem eX9_readFish_58 : SiZ nX9_readFish 58 (i_push (.int 1) 59) := s_iconst dX9_readFish_58 (by decide)
theorem eX9_readFish_59 : SiZ nX9_readFish 59 (i_dup2 60) := s_dup2 dX9_readFish_59
theorem eX9_readFish_60 : SiZ nX9_readFish 60 (i_iald 51 61) := s_ald (j := 0) (by decide) (fun _ => rfl) dX9_readFish_60 (Or.inl ⟨rfl, rfl⟩)
theorem eX9_readFish_61 : SiZ nX9_readFish 61 (i_push (.int 1) 62) := s_iconst dX9_readFish_61 (by decide)
theorem eX9_readFish_62 : SiZ nX9_readFish 62 (i_bin (fun x y => x + y) 63) := s_iadd dX9_readFish_62
theorem eX9_readFish_63 : SiZ nX9_readFish 63 (i_iast 51 (fun x => x) 64) := s_ast (j := 0) (by decide) (fun _ => rfl) dX9_readFish_63 (Or.inl ⟨rfl, rfl, rfl⟩)
theorem eX9_readFish_64 : SiZ nX9_readFish 64 (i_aload 0 65) := s_aload_n dX9_readFish_64 rfl
theorem eX9_readFish_65 : SiZ nX9_readFish 65 (i_push (.int 0) 66) := s_iconst dX9_readFish_65 (by decide)
theorem eX9_readFish_66 : SiZ nX9_readFish 66 (i_aload 0 67) := s_aload_n dX9_readFish_66 rfl
theorem eX9_readFish_67 : SiZ nX9_readFish 67 (i_getf 101 [9] 70) := s_getf dX9_readFish_67 (fm_cons (⟨_, _, _, _, _, _, rfl, fkX9_28_9⟩) (fm_nil))
theorem eX9_readFish_70 : SiZ nX9_readFish 70 (i_push (.int 0) 71) := s_iconst dX9_readFish_70 (by decide)
theorem eX9_readFish_71 : SiZ nX9_readFish 71 (i_iald 51 72) := s_ald (j := 0) (by decide) (fun _ => rfl) dX9_readFish_71 (Or.inl ⟨rfl, rfl⟩)
theorem eX9_readFish_72 : SiZ nX9_readFish 72 (i_push (.int 1) 73) := s_iconst dX9_readFish_72 (by decide)
theorem eX9_readFish_73 : SiZ nX9_readFish 73 (i_bin (fun x y => x - y) 74) := s_isub dX9_readFish_73
theorem eX9_readFish_74 : SiZ nX9_readFish 74 (i_push (.int 31) 76) := s_bipush dX9_readFish_74 (by decide)
theorem eX9_readFish_76 : SiZ nX9_readFish 76 (i_iload 2 77) := s_iload_n dX9_readFish_76 rfl
theorem eX9_readFish_77 : SiZ nX9_readFish 77 (i_bin (fun x y => x + y) 78) := s_iadd dX9_readFish_77
theorem eX9_readFish_78 : SiZ nX9_readFish 78 (i_push (.int 59) 80) := s_bipush dX9_readFish_78 (by decide)
theorem eX9_readFish_80 : ScZ nX9_readFish 80 (c_V 4 83 5 9 (Mt mX9_takesNumber 5)) := e_V (mi := nX9_readFish) (mi' := nX9_takesNumber) (len := 3) (fun h b as rest hk hl => cs_V (ci := 8) (mi := nX9_readFish) (pc := 80) (y := yX9_takesNumber) (idx := 126) dX9_readFish_80 q1398 q1400 qs40 rfl hk hyX9_takesNumber (sigC q1401) pnX9_takesNumber hl) wdX9_takesNumber zX9_takesNumber (Nat.le_of_ble_eq_true rfl) (Nat.le_of_ble_eq_true rfl)
theorem eX9_readFish_83 : SiZ nX9_readFish 83 i_zret := s_zret dX9_readFish_83 rfl
theorem aX9_readFish : ∀ x ∈ mX9_readFish.1, EnZ nX9_readFish x := fm_cons eX9_readFish_0 (fm_cons eX9_readFish_1 (fm_cons eX9_readFish_4 (fm_cons eX9_readFish_5 (fm_cons eX9_readFish_6 (fm_cons eX9_readFish_7 (fm_cons eX9_readFish_8 (fm_cons eX9_readFish_11 (fm_cons eX9_readFish_12 (fm_cons eX9_readFish_13 (fm_cons eX9_readFish_16 (fm_cons eX9_readFish_17 (fm_cons eX9_readFish_18 (fm_cons eX9_readFish_21 (fm_cons eX9_readFish_22 (fm_cons eX9_readFish_23 (fm_cons eX9_readFish_26 (fm_cons eX9_readFish_27 (fm_cons eX9_readFish_28 (fm_cons eX9_readFish_31 (fm_cons eX9_readFish_32 (fm_cons eX9_readFish_35 (fm_cons eX9_readFish_36 (fm_cons eX9_readFish_39 (fm_cons eX9_readFish_40 (fm_cons eX9_readFish_41 (fm_cons eX9_readFish_44 (fm_cons eX9_readFish_45 (fm_cons eX9_readFish_48 (fm_cons eX9_readFish_50 (fm_cons eX9_readFish_51 (fm_cons eX9_readFish_52 (fm_cons eX9_readFish_53 (fm_cons eX9_readFish_54 (fm_cons eX9_readFish_55 (fm_cons eX9_readFish_58 (fm_cons eX9_readFish_59 (fm_cons eX9_readFish_60 (fm_cons eX9_readFish_61 (fm_cons eX9_readFish_62 (fm_cons eX9_readFish_63 (fm_cons eX9_readFish_64 (fm_cons eX9_readFish_65 (fm_cons eX9_readFish_66 (fm_cons eX9_readFish_67 (fm_cons eX9_readFish_70 (fm_cons eX9_readFish_71 (fm_cons eX9_readFish_72 (fm_cons eX9_readFish_73 (fm_cons eX9_readFish_74 (fm_cons eX9_readFish_76 (fm_cons eX9_readFish_77 (fm_cons eX9_readFish_78 (fm_cons eX9_readFish_80 (fm_cons eX9_readFish_83 (fm_nil)))))))))))))))))))))))))))))))))))))))))))))))))))))))
theorem zX9_readFish : SwZ nX9_readFish (Mt mX9_readFish 3) := wholeZ (mi := nX9_readFish) (cd := mX9_readFish) aX9_readFish rfl (HdZ.none rfl)
abbrev nX9_readBook : MI := (cX9_readBook, 2, (some (.boolean)), RX9, "readBook", [], 4, 106)
theorem hyX9_readBook : yX9_readBook.cls ≠ "java/lang/invoke/MethodHandle" ∧ yX9_readBook.cls ≠ "java/lang/invoke/VarHandle" := by decide +kernel
theorem pnX9_readBook : (parseMethodDescriptor yX9_readBook.desc).map (fun d => d.parameters.length) = some 0 := by decide +kernel
theorem wdX9_readBook : CdW yX9_readBook (nX9_readBook) := ⟨Or.inl ⟨q1412, rfl⟩, rfl, rfl, plainFor_of_name (by decide +kernel)⟩
theorem eX9_readBook_0 : SiZ nX9_readBook 0 (i_aload 0 1) := s_aload_n dX9_readBook_0 rfl
theorem eX9_readBook_1 : SiZ nX9_readBook 1 (i_getf 101 [9] 4) := s_getf dX9_readBook_1 (fm_cons (⟨_, _, _, _, _, _, rfl, fkX9_28_9⟩) (fm_nil))
theorem eX9_readBook_4 : SiZ nX9_readBook 4 (i_push (.int 0) 5) := s_iconst dX9_readBook_4 (by decide)
theorem eX9_readBook_5 : SiZ nX9_readBook 5 (i_iald 51 6) := s_ald (j := 0) (by decide) (fun _ => rfl) dX9_readBook_5 (Or.inl ⟨rfl, rfl⟩)
theorem eX9_readBook_6 : SiZ nX9_readBook 6 (i_istore 1 7) := s_istore_n dX9_readBook_6 rfl
theorem eX9_readBook_7 : SiZ nX9_readBook 7 (i_aload 0 8) := s_aload_n dX9_readBook_7 rfl
theorem eX9_readBook_8 : SiZ nX9_readBook 8 (i_getf 101 [9] 11) := s_getf dX9_readBook_8 (fm_cons (⟨_, _, _, _, _, _, rfl, fkX9_28_9⟩) (fm_nil))
theorem eX9_readBook_11 : SiZ nX9_readBook 11 (i_push (.int 1) 12) := s_iconst dX9_readBook_11 (by decide)
theorem eX9_readBook_12 : SiZ nX9_readBook 12 (i_iald 51 13) := s_ald (j := 0) (by decide) (fun _ => rfl) dX9_readBook_12 (Or.inl ⟨rfl, rfl⟩)
theorem eX9_readBook_13 : SiZ nX9_readBook 13 (i_if (fun x => 0 < x) 22 16) := s_if_gt dX9_readBook_13 (by decide)
theorem eX9_readBook_16 : SiZ nX9_readBook 16 (i_iload 1 17) := s_iload_n dX9_readBook_16 rfl
theorem eX9_readBook_17 : SiZ nX9_readBook 17 (i_push (.int 6) 19) := s_bipush dX9_readBook_17 (by decide)
theorem eX9_readBook_19 : SiZ nX9_readBook 19 (i_icmp (fun x y => ¬ x = y) 41 22) := s_icmp_ne dX9_readBook_19 (by decide)
theorem eX9_readBook_22 : SiZ nX9_readBook 22 (i_aload 0 23) := s_aload_n dX9_readBook_22 rfl
theorem eX9_readBook_23 : SiZ nX9_readBook 23 (i_aload 0 24) := s_aload_n dX9_readBook_23 rfl
theorem eX9_readBook_24 : SiZ nX9_readBook 24 (i_getf 101 [9] 27) := s_getf dX9_readBook_24 (fm_cons (⟨_, _, _, _, _, _, rfl, fkX9_28_9⟩) (fm_nil))
theorem eX9_readBook_27 : SiZ nX9_readBook 27 (i_push (.int 1) 28) := s_iconst dX9_readBook_27 (by decide)
theorem eX9_readBook_28 : SiZ nX9_readBook 28 (i_iald 51 29) := s_ald (j := 0) (by decide) (fun _ => rfl) dX9_readBook_28 (Or.inl ⟨rfl, rfl⟩)
theorem eX9_readBook_29 : SiZ nX9_readBook 29 (i_if (fun x => x ≤ 0) 36 32) := s_if_le dX9_readBook_29 (by decide)
theorem eX9_readBook_32 : SiZ nX9_readBook 32 (i_push (.int 1) 33) := s_iconst dX9_readBook_32 (by decide)
theorem eX9_readBook_33 : SiZ nX9_readBook 33 (i_goto 37) := s_goto dX9_readBook_33 (by decide)
theorem eX9_readBook_36 : SiZ nX9_readBook 36 (i_push (.int 3) 37) := s_iconst dX9_readBook_36 (by decide)
theorem eX9_readBook_37 : ScZ nX9_readBook 37 (c_V 1 40 2 9 (Mt mX9_faults 2)) := e_V (mi := nX9_readBook) (mi' := nX9_faults) (len := 3) (fun h b as rest hk hl => cs_V (ci := 8) (mi := nX9_readBook) (pc := 37) (y := yX9_faults) (idx := 117) dX9_readBook_37 q1394 q1396 qs39 rfl hk hyX9_faults (sigC q1397) pnX9_faults hl) wdX9_faults zX9_faults (Nat.le_of_ble_eq_true rfl) (Nat.le_of_ble_eq_true rfl)
theorem eX9_readBook_40 : SiZ nX9_readBook 40 i_zret := s_zret dX9_readBook_40 rfl
theorem eX9_readBook_41 : SiZ nX9_readBook 41 (i_aload 0 42) := s_aload_n dX9_readBook_41 rfl
theorem eX9_readBook_42 : ScZ nX9_readBook 42 (c_V 0 45 1 9 (Mt mX9_nextToken 1)) := e_V (mi := nX9_readBook) (mi' := nX9_nextToken) (len := 3) (fun h b as rest hk hl => cs_V (ci := 8) (mi := nX9_readBook) (pc := 42) (y := yX9_nextToken) (idx := 120) dX9_readBook_42 q1378 q1380 qs36 rfl hk hyX9_nextToken (sigC q1381) pnX9_nextToken hl) wdX9_nextToken zX9_nextToken (Nat.le_of_ble_eq_true rfl) (Nat.le_of_ble_eq_true rfl)
theorem eX9_readBook_45 : SiZ nX9_readBook 45 (i_aload 0 46) := s_aload_n dX9_readBook_45 rfl
theorem eX9_readBook_46 : SiZ nX9_readBook 46 (i_getf 101 [9] 49) := s_getf dX9_readBook_46 (fm_cons (⟨_, _, _, _, _, _, rfl, fkX9_28_9⟩) (fm_nil))
theorem eX9_readBook_49 : SiZ nX9_readBook 49 (i_push (.int 20) 51) := s_bipush dX9_readBook_49 (by decide)
theorem eX9_readBook_51 : SiZ nX9_readBook 51 (i_iload 1 52) := s_iload_n dX9_readBook_51 rfl
theorem eX9_readBook_52 : SiZ nX9_readBook 52 (i_bin (fun x y => x + y) 53) := s_iadd dX9_readBook_52
theorem eX9_readBook_53 : SiZ nX9_readBook 53 (i_iload 1 54) := s_iload_n dX9_readBook_53 rfl
theorem eX9_readBook_54 : SiZ nX9_readBook 54 (i_iast 51 (fun x => x) 55) := s_ast (j := 0) (by decide) (fun _ => rfl) dX9_readBook_54 (Or.inl ⟨rfl, rfl, rfl⟩)
theorem eX9_readBook_55 : SiZ nX9_readBook 55 (i_aload 0 56) := s_aload_n dX9_readBook_55 rfl
theorem eX9_readBook_56 : SiZ nX9_readBook 56 (i_getf 101 [9] 59) := s_getf dX9_readBook_56 (fm_cons (⟨_, _, _, _, _, _, rfl, fkX9_28_9⟩) (fm_nil))
theorem eX9_readBook_59 : SiZ nX9_readBook 59 (i_push (.int 0) 60) := s_iconst dX9_readBook_59 (by decide)
theorem eX9_readBook_60 : SiZ nX9_readBook 60 (i_dup2 61) := s_dup2 dX9_readBook_60
theorem eX9_readBook_61 : SiZ nX9_readBook 61 (i_iald 51 62) := s_ald (j := 0) (by decide) (fun _ => rfl) dX9_readBook_61 (Or.inl ⟨rfl, rfl⟩)
theorem eX9_readBook_62 : SiZ nX9_readBook 62 (i_push (.int 1) 63) := s_iconst dX9_readBook_62 (by decide)
theorem eX9_readBook_63 : SiZ nX9_readBook 63 (i_bin (fun x y => x + y) 64) := s_iadd dX9_readBook_63
theorem eX9_readBook_64 : SiZ nX9_readBook 64 (i_iast 51 (fun x => x) 65) := s_ast (j := 0) (by decide) (fun _ => rfl) dX9_readBook_64 (Or.inl ⟨rfl, rfl, rfl⟩)
theorem eX9_readBook_65 : SiZ nX9_readBook 65 (i_aload 0 66) := s_aload_n dX9_readBook_65 rfl
theorem eX9_readBook_66 : SiZ nX9_readBook 66 (i_push (.int 0) 67) := s_iconst dX9_readBook_66 (by decide)
theorem eX9_readBook_67 : SiZ nX9_readBook 67 (i_push (.int 99) 69) := s_bipush dX9_readBook_67 (by decide)
theorem eX9_readBook_69 : SiZ nX9_readBook 69 (i_push (.int 8) 71) := s_bipush dX9_readBook_69 (by decide)
theorem eX9_readBook_71 : SiZ nX9_readBook 71 (i_iload 1 72) := s_iload_n dX9_readBook_71 rfl
theorem eX9_readBook_72 : SiZ nX9_readBook 72 (i_bin (fun x y => x + y) 73) := s_iadd dX9_readBook_72
theorem eX9_readBook_73 : SiZ nX9_readBook 73 (i_push (.int 44) 75) := s_bipush dX9_readBook_73 (by decide)
theorem eX9_readBook_75 : ScZ nX9_readBook 75 (c_V 4 78 5 9 (Mt mX9_takesNumber 5)) := e_V (mi := nX9_readBook) (mi' := nX9_takesNumber) (len := 3) (fun h b as rest hk hl => cs_V (ci := 8) (mi := nX9_readBook) (pc := 75) (y := yX9_takesNumber) (idx := 126) dX9_readBook_75 q1398 q1400 qs40 rfl hk hyX9_takesNumber (sigC q1401) pnX9_takesNumber hl) wdX9_takesNumber zX9_takesNumber (Nat.le_of_ble_eq_true rfl) (Nat.le_of_ble_eq_true rfl)
theorem eX9_readBook_78 : SiZ nX9_readBook 78 (i_if (fun x => x = 0) 101 81) := s_if_eq dX9_readBook_78 (by decide)
theorem eX9_readBook_81 : SiZ nX9_readBook 81 (i_aload 0 82) := s_aload_n dX9_readBook_81 rfl
theorem eX9_readBook_82 : SiZ nX9_readBook 82 (i_push (.int 0) 83) := s_iconst dX9_readBook_82 (by decide)
theorem eX9_readBook_83 : SiZ nX9_readBook 83 (i_push (.int 9) 85) := s_bipush dX9_readBook_83 (by decide)
theorem eX9_readBook_85 : SiZ nX9_readBook 85 (i_push (.int 14) 87) := s_bipush dX9_readBook_85 (by decide)
theorem eX9_readBook_87 : SiZ nX9_readBook 87 (i_iload 1 88) := s_iload_n dX9_readBook_87 rfl
theorem eX9_readBook_88 : SiZ nX9_readBook 88 (i_bin (fun x y => x + y) 89) := s_iadd dX9_readBook_88
theorem eX9_readBook_89 : SiZ nX9_readBook 89 (i_push (.int 59) 91) := s_bipush dX9_readBook_89 (by decide)
theorem eX9_readBook_91 : ScZ nX9_readBook 91 (c_V 4 94 5 9 (Mt mX9_takesNumber 5)) := e_V (mi := nX9_readBook) (mi' := nX9_takesNumber) (len := 3) (fun h b as rest hk hl => cs_V (ci := 8) (mi := nX9_readBook) (pc := 91) (y := yX9_takesNumber) (idx := 126) dX9_readBook_91 q1398 q1400 qs40 rfl hk hyX9_takesNumber (sigC q1401) pnX9_takesNumber hl) wdX9_takesNumber zX9_takesNumber (Nat.le_of_ble_eq_true rfl) (Nat.le_of_ble_eq_true rfl)
theorem eX9_readBook_94 : SiZ nX9_readBook 94 (i_if (fun x => x = 0) 101 97) := s_if_eq dX9_readBook_94 (by decide)
theorem eX9_readBook_97 : SiZ nX9_readBook 97 (i_push (.int 1) 98) := s_iconst dX9_readBook_97 (by decide)
theorem eX9_readBook_98 : SiZ nX9_readBook 98 (i_goto 102) := s_goto dX9_readBook_98 (by decide)
theorem eX9_readBook_101 : SiZ nX9_readBook 101 (i_push (.int 0) 102) := s_iconst dX9_readBook_101 (by decide)
theorem eX9_readBook_102 : SiZ nX9_readBook 102 i_zret := s_zret dX9_readBook_102 rfl
theorem aX9_readBook : ∀ x ∈ mX9_readBook.1, EnZ nX9_readBook x := fm_cons eX9_readBook_0 (fm_cons eX9_readBook_1 (fm_cons eX9_readBook_4 (fm_cons eX9_readBook_5 (fm_cons eX9_readBook_6 (fm_cons eX9_readBook_7 (fm_cons eX9_readBook_8 (fm_cons eX9_readBook_11 (fm_cons eX9_readBook_12 (fm_cons eX9_readBook_13 (fm_cons eX9_readBook_16 (fm_cons eX9_readBook_17 (fm_cons eX9_readBook_19 (fm_cons eX9_readBook_22 (fm_cons eX9_readBook_23 (fm_cons eX9_readBook_24 (fm_cons eX9_readBook_27 (fm_cons eX9_readBook_28 (fm_cons eX9_readBook_29 (fm_cons eX9_readBook_32 (fm_cons eX9_readBook_33 (fm_cons eX9_readBook_36 (fm_cons eX9_readBook_37 (fm_cons eX9_readBook_40 (fm_cons eX9_readBook_41 (fm_cons eX9_readBook_42 (fm_cons eX9_readBook_45 (fm_cons eX9_readBook_46 (fm_cons eX9_readBook_49 (fm_cons eX9_readBook_51 (fm_cons eX9_readBook_52 (fm_cons eX9_readBook_53 (fm_cons eX9_readBook_54 (fm_cons eX9_readBook_55 (fm_cons eX9_readBook_56 (fm_cons eX9_readBook_59 (fm_cons eX9_readBook_60 (fm_cons eX9_readBook_61 (fm_cons eX9_readBook_62 (fm_cons eX9_readBook_63 (fm_cons eX9_readBook_64 (fm_cons eX9_readBook_65 (fm_cons eX9_readBook_66 (fm_cons eX9_readBook_67 (fm_cons eX9_readBook_69 (fm_cons eX9_readBook_71 (fm_cons eX9_readBook_72 (fm_cons eX9_readBook_73 (fm_cons eX9_readBook_75 (fm_cons eX9_readBook_78 (fm_cons eX9_readBook_81 (fm_cons eX9_readBook_82 (fm_cons eX9_readBook_83 (fm_cons eX9_readBook_85 (fm_cons eX9_readBook_87 (fm_cons eX9_readBook_88 (fm_cons eX9_readBook_89 (fm_cons eX9_readBook_91 (fm_cons eX9_readBook_94 (fm_cons eX9_readBook_97 (fm_cons eX9_readBook_98 (fm_cons eX9_readBook_101 (fm_cons eX9_readBook_102 (fm_nil)))))))))))))))))))))))))))))))))))))))))))))))))))))))))))))))
theorem zX9_readBook : SwZ nX9_readBook (Mt mX9_readBook 2) := wholeZ (mi := nX9_readBook) (cd := mX9_readBook) aX9_readBook rfl (HdZ.none rfl)
abbrev nX9_readLibrary : MI := (cX9_readLibrary, 3, (some (.boolean)), RX9, "readLibrary", [], 5, 132)
theorem hyX9_readLibrary : yX9_readLibrary.cls ≠ "java/lang/invoke/MethodHandle" ∧ yX9_readLibrary.cls ≠ "java/lang/invoke/VarHandle" := by decide +kernel
theorem pnX9_readLibrary : (parseMethodDescriptor yX9_readLibrary.desc).map (fun d => d.parameters.length) = some 0 := by decide +kernel
theorem wdX9_readLibrary : CdW yX9_readLibrary (nX9_readLibrary) := ⟨Or.inl ⟨q1377, rfl⟩, rfl, rfl, plainFor_of_name (by decide +kernel)⟩
theorem eX9_readLibrary_0 : SiZ nX9_readLibrary 0 (i_aload 0 1) := s_aload_n dX9_readLibrary_0 rfl
theorem eX9_readLibrary_1 : SiZ nX9_readLibrary 1 (i_push (.int 0) 2) := s_iconst dX9_readLibrary_1 (by decide)
theorem eX9_readLibrary_2 : SiZ nX9_readLibrary 2 (i_putI 90 [9] 5) := s_putI dX9_readLibrary_2 (fm_cons (⟨_, _, _, _, _, _, rfl, ⟨fkX9_91_9, ⟨_, q1257, Or.inl rfl⟩, Or.inl rfl⟩, rfl⟩) (fm_nil))
theorem eX9_readLibrary_5 : SiZ nX9_readLibrary 5 (i_push (.int 0) 6) := s_iconst dX9_readLibrary_5 (by decide)
theorem eX9_readLibrary_6 : SiZ nX9_readLibrary 6 (i_istore 1 7) := s_istore_n dX9_readLibrary_6 rfl
theorem eX9_readLibrary_7 : SiZ nX9_readLibrary 7 (i_iload 1 8) := s_iload_n dX9_readLibrary_7 rfl
theorem eX9_readLibrary_8 : SiZ nX9_readLibrary 8 (i_push (.int 41) 10) := s_bipush dX9_readLibrary_8 (by decide)
theorem eX9_readLibrary_10 : SiZ nX9_readLibrary 10 (i_icmp (fun x y => y ≤ x) 26 13) := s_icmp_ge dX9_readLibrary_10 (by decide)
theorem eX9_readLibrary_13 : SiZ nX9_readLibrary 13 (i_aload 0 14) := s_aload_n dX9_readLibrary_13 rfl
theorem eX9_readLibrary_14 : SiZ nX9_readLibrary 14 (i_getf 101 [9] 17) := s_getf dX9_readLibrary_14 (fm_cons (⟨_, _, _, _, _, _, rfl, fkX9_28_9⟩) (fm_nil))
theorem eX9_readLibrary_17 : SiZ nX9_readLibrary 17 (i_iload 1 18) := s_iload_n dX9_readLibrary_17 rfl
theorem eX9_readLibrary_18 : SiZ nX9_readLibrary 18 (i_push (.int 0) 19) := s_iconst dX9_readLibrary_18 (by decide)
theorem eX9_readLibrary_19 : SiZ nX9_readLibrary 19 (i_iast 51 (fun x => x) 20) := s_ast (j := 0) (by decide) (fun _ => rfl) dX9_readLibrary_19 (Or.inl ⟨rfl, rfl, rfl⟩)
theorem eX9_readLibrary_20 : SiZ nX9_readLibrary 20 (i_iinc 1 1 23) := s_iinc dX9_readLibrary_20 (by decide)
theorem eX9_readLibrary_23 : SiZ nX9_readLibrary 23 (i_goto 7) := s_goto dX9_readLibrary_23 (by decide)
theorem eX9_readLibrary_26 : SiZ nX9_readLibrary 26 (i_aload 0 27) := s_aload_n dX9_readLibrary_26 rfl
theorem eX9_readLibrary_27 : ScZ nX9_readLibrary 27 (c_V 0 30 1 9 (Mt mX9_nextToken 1)) := e_V (mi := nX9_readLibrary) (mi' := nX9_nextToken) (len := 3) (fun h b as rest hk hl => cs_V (ci := 8) (mi := nX9_readLibrary) (pc := 27) (y := yX9_nextToken) (idx := 120) dX9_readLibrary_27 q1378 q1380 qs36 rfl hk hyX9_nextToken (sigC q1381) pnX9_nextToken hl) wdX9_nextToken zX9_nextToken (Nat.le_of_ble_eq_true rfl) (Nat.le_of_ble_eq_true rfl)
theorem eX9_readLibrary_30 : SiZ nX9_readLibrary 30 (i_aload 0 31) := s_aload_n dX9_readLibrary_30 rfl
theorem eX9_readLibrary_31 : SiZ nX9_readLibrary 31 (i_push (.int 108) 33) := s_bipush dX9_readLibrary_31 (by decide)
theorem eX9_readLibrary_33 : ScZ nX9_readLibrary 33 (c_V 1 36 2 9 (Mt mX9_takes 2)) := e_V (mi := nX9_readLibrary) (mi' := nX9_takes) (len := 3) (fun h b as rest hk hl => cs_V (ci := 8) (mi := nX9_readLibrary) (pc := 33) (y := yX9_takes) (idx := 123) dX9_readLibrary_33 q1386 q1388 qs37 rfl hk hyX9_takes (sigC q1389) pnX9_takes hl) wdX9_takes zX9_takes (Nat.le_of_ble_eq_true rfl) (Nat.le_of_ble_eq_true rfl)
theorem eX9_readLibrary_36 : SiZ nX9_readLibrary 36 (i_if (fun x => x = 0) 65 39) := s_if_eq dX9_readLibrary_36 (by decide)
theorem eX9_readLibrary_39 : SiZ nX9_readLibrary 39 (i_aload 0 40) := s_aload_n dX9_readLibrary_39 rfl
theorem eX9_readLibrary_40 : SiZ nX9_readLibrary 40 (i_push (.int 1) 41) := s_iconst dX9_readLibrary_40 (by decide)
theorem eX9_readLibrary_41 : SiZ nX9_readLibrary 41 (i_push (.int 9) 43) := s_bipush dX9_readLibrary_41 (by decide)
theorem eX9_readLibrary_43 : SiZ nX9_readLibrary 43 (i_push (.int 2) 44) := s_iconst dX9_readLibrary_43 (by decide)
theorem eX9_readLibrary_44 : SiZ nX9_readLibrary 44 (i_push (.int 44) 46) := s_bipush dX9_readLibrary_44 (by decide)
theorem eX9_readLibrary_46 : ScZ nX9_readLibrary 46 (c_V 4 49 5 9 (Mt mX9_takesNumber 5)) := e_V (mi := nX9_readLibrary) (mi' := nX9_takesNumber) (len := 3) (fun h b as rest hk hl => cs_V (ci := 8) (mi := nX9_readLibrary) (pc := 46) (y := yX9_takesNumber) (idx := 126) dX9_readLibrary_46 q1398 q1400 qs40 rfl hk hyX9_takesNumber (sigC q1401) pnX9_takesNumber hl) wdX9_takesNumber zX9_takesNumber (Nat.le_of_ble_eq_true rfl) (Nat.le_of_ble_eq_true rfl)
theorem eX9_readLibrary_49 : SiZ nX9_readLibrary 49 (i_if (fun x => x = 0) 65 52) := s_if_eq dX9_readLibrary_49 (by decide)
theorem eX9_readLibrary_52 : SiZ nX9_readLibrary 52 (i_aload 0 53) := s_aload_n dX9_readLibrary_52 rfl
theorem eX9_readLibrary_53 : SiZ nX9_readLibrary 53 (i_push (.int 0) 54) := s_iconst dX9_readLibrary_53 (by decide)
theorem eX9_readLibrary_54 : SiZ nX9_readLibrary 54 (i_push (.int 8) 56) := s_bipush dX9_readLibrary_54 (by decide)
theorem eX9_readLibrary_56 : SiZ nX9_readLibrary 56 (i_push (.int 3) 57) := s_iconst dX9_readLibrary_56 (by decide)
theorem eX9_readLibrary_57 : SiZ nX9_readLibrary 57 (i_push (.int 59) 59) := s_bipush dX9_readLibrary_57 (by decide)
theorem eX9_readLibrary_59 : ScZ nX9_readLibrary 59 (c_V 4 62 5 9 (Mt mX9_takesNumber 5)) := e_V (mi := nX9_readLibrary) (mi' := nX9_takesNumber) (len := 3) (fun h b as rest hk hl => cs_V (ci := 8) (mi := nX9_readLibrary) (pc := 59) (y := yX9_takesNumber) (idx := 126) dX9_readLibrary_59 q1398 q1400 qs40 rfl hk hyX9_takesNumber (sigC q1401) pnX9_takesNumber hl) wdX9_takesNumber zX9_takesNumber (Nat.le_of_ble_eq_true rfl) (Nat.le_of_ble_eq_true rfl)
theorem eX9_readLibrary_62 : SiZ nX9_readLibrary 62 (i_if (fun x => ¬ x = 0) 67 65) := s_if_ne dX9_readLibrary_62 (by decide)
theorem eX9_readLibrary_65 : SiZ nX9_readLibrary 65 (i_push (.int 0) 66) := s_iconst dX9_readLibrary_65 (by decide)
theorem eX9_readLibrary_66 : SiZ nX9_readLibrary 66 i_zret := s_zret dX9_readLibrary_66 rfl
theorem eX9_readLibrary_67 : SiZ nX9_readLibrary 67 (i_push (.int 1) 68) := s_iconst dX9_readLibrary_67 (by decide)
theorem eX9_readLibrary_68 : SiZ nX9_readLibrary 68 (i_istore 1 69) := s_istore_n dX9_readLibrary_68 rfl
theorem eX9_readLibrary_69 : SiZ nX9_readLibrary 69 (i_iload 1 70) := s_iload_n dX9_readLibrary_69 rfl
theorem eX9_readLibrary_70 : SiZ nX9_readLibrary 70 (i_if (fun x => x = 0) 147 73) := s_if_eq dX9_readLibrary_70 (by decide)
theorem eX9_readLibrary_73 : SiZ nX9_readLibrary 73 (i_aload 0 74) := s_aload_n dX9_readLibrary_73 rfl
theorem eX9_readLibrary_74 : SiZ nX9_readLibrary 74 (i_getf 92 [9] 77) := s_getf dX9_readLibrary_74 (fm_cons (⟨_, _, _, _, _, _, rfl, fkX9_97_9⟩) (fm_nil))
theorem eX9_readLibrary_77 : SiZ nX9_readLibrary 77 (i_push (.int 3) 78) := s_iconst dX9_readLibrary_77 (by decide)
theorem eX9_readLibrary_78 : SiZ nX9_readLibrary 78 (i_icmp (fun x y => ¬ x = y) 90 81) := s_icmp_ne dX9_readLibrary_78 (by decide)
theorem eX9_readLibrary_81 : SiZ nX9_readLibrary 81 (i_aload 0 82) := s_aload_n dX9_readLibrary_81 rfl
theorem eX9_readLibrary_82 : SiZ nX9_readLibrary 82 (i_getf 101 [9] 85) := s_getf dX9_readLibrary_82 (fm_cons (⟨_, _, _, _, _, _, rfl, fkX9_28_9⟩) (fm_nil))
theorem eX9_readLibrary_85 : SiZ nX9_readLibrary 85 (i_push (.int 1) 86) := s_iconst dX9_readLibrary_85 (by decide)
theorem eX9_readLibrary_86 : SiZ nX9_readLibrary 86 (i_iald 51 87) := s_ald (j := 0) (by decide) (fun _ => rfl) dX9_readLibrary_86 (Or.inl ⟨rfl, rfl⟩)
theorem eX9_readLibrary_87 : SiZ nX9_readLibrary 87 (i_if (fun x => ¬ x = 0) 147 90) := s_if_ne dX9_readLibrary_87 (by decide)
theorem eX9_readLibrary_90 : SiZ nX9_readLibrary 90 (i_aload 0 91) := s_aload_n dX9_readLibrary_90 rfl
theorem eX9_readLibrary_91 : SiZ nX9_readLibrary 91 (i_getf 92 [9] 94) := s_getf dX9_readLibrary_91 (fm_cons (⟨_, _, _, _, _, _, rfl, fkX9_97_9⟩) (fm_nil))
theorem eX9_readLibrary_94 : SiZ nX9_readLibrary 94 (i_push (.int 1) 95) := s_iconst dX9_readLibrary_94 (by decide)
theorem eX9_readLibrary_95 : SiZ nX9_readLibrary 95 (i_icmp (fun x y => ¬ x = y) 108 98) := s_icmp_ne dX9_readLibrary_95 (by decide)
theorem eX9_readLibrary_98 : SiZ nX9_readLibrary 98 (i_aload 0 99) := s_aload_n dX9_readLibrary_98 rfl
theorem eX9_readLibrary_99 : SiZ nX9_readLibrary 99 (i_getf 94 [9] 102) := s_getf dX9_readLibrary_99 (fm_cons (⟨_, _, _, _, _, _, rfl, fkX9_100_9⟩) (fm_nil))
theorem eX9_readLibrary_102 : ScZ nX9_readLibrary 102 (c_S 1 105 1 (Mt mX9_kindBy 1)) := e_S (mi := nX9_readLibrary) (mi' := nX9_kindBy) (len := 3) (fun h as rest hl => cs_S (mi := nX9_readLibrary) (pc := 102) (y := yX9_kindBy) (idx := 130) dX9_readLibrary_102 q1402 q1403 q89 q1404 hyX9_kindBy pnX9_kindBy hl) wdX9_kindBy zX9_kindBy (Nat.le_of_ble_eq_true rfl) (Nat.le_of_ble_eq_true rfl)
theorem eX9_readLibrary_105 : SiZ nX9_readLibrary 105 (i_goto 109) := s_goto dX9_readLibrary_105 (by decide)
theorem eX9_readLibrary_108 : SiZ nX9_readLibrary 108 (i_push (.int 0) 109) := s_iconst dX9_readLibrary_108 (by decide)
theorem eX9_readLibrary_109 : SiZ nX9_readLibrary 109 (i_istore 2 110) := s_istore_n dX9_readLibrary_109 rfl
theorem eX9_readLibrary_110 : SiZ nX9_readLibrary 110 (i_iload 2 111) := s_iload_n dX9_readLibrary_110 rfl
theorem eX9_readLibrary_111 : SiZ nX9_readLibrary 111 (i_if (fun x => x ≤ 0) 122 114) := s_if_le dX9_readLibrary_111 (by decide)
theorem eX9_readLibrary_114 : SiZ nX9_readLibrary 114 (i_aload 0 115) := s_aload_n dX9_readLibrary_114 rfl
theorem eX9_readLibrary_115 : SiZ nX9_readLibrary 115 (i_iload 2 116) := s_iload_n dX9_readLibrary_115 rfl
theorem eX9_readLibrary_116 : ScZ nX9_readLibrary 116 (c_V 1 119 3 9 (Mt mX9_readFish 3)) := e_V (mi := nX9_readLibrary) (mi' := nX9_readFish) (len := 3) (fun h b as rest hk hl => cs_V (ci := 8) (mi := nX9_readLibrary) (pc := 116) (y := yX9_readFish) (idx := 133) dX9_readLibrary_116 q1405 q1407 qs41 rfl hk hyX9_readFish (sigC q1408) pnX9_readFish hl) wdX9_readFish zX9_readFish (Nat.le_of_ble_eq_true rfl) (Nat.le_of_ble_eq_true rfl)
theorem eX9_readLibrary_119 : SiZ nX9_readLibrary 119 (i_goto 143) := s_goto dX9_readLibrary_119 (by decide)
theorem eX9_readLibrary_122 : SiZ nX9_readLibrary 122 (i_aload 0 123) := s_aload_n dX9_readLibrary_122 rfl
theorem eX9_readLibrary_123 : SiZ nX9_readLibrary 123 (i_push (.int 98) 125) := s_bipush dX9_readLibrary_123 (by decide)
theorem eX9_readLibrary_125 : ScZ nX9_readLibrary 125 (c_V 1 128 2 9 (Mt mX9_isLetter 2)) := e_V (mi := nX9_readLibrary) (mi' := nX9_isLetter) (len := 3) (fun h b as rest hk hl => cs_V (ci := 8) (mi := nX9_readLibrary) (pc := 125) (y := yX9_isLetter) (idx := 114) dX9_readLibrary_125 q1390 q1392 qs38 rfl hk hyX9_isLetter (sigC q1393) pnX9_isLetter hl) wdX9_isLetter zX9_isLetter (Nat.le_of_ble_eq_true rfl) (Nat.le_of_ble_eq_true rfl)
theorem eX9_readLibrary_128 : SiZ nX9_readLibrary 128 (i_if (fun x => x = 0) 138 131) := s_if_eq dX9_readLibrary_128 (by decide)
theorem eX9_readLibrary_131 : SiZ nX9_readLibrary 131 (i_aload 0 132) := s_aload_n dX9_readLibrary_131 rfl
theorem eX9_readLibrary_132 : ScZ nX9_readLibrary 132 (c_V 0 135 2 9 (Mt mX9_readBook 2)) := e_V (mi := nX9_readLibrary) (mi' := nX9_readBook) (len := 3) (fun h b as rest hk hl => cs_V (ci := 8) (mi := nX9_readLibrary) (pc := 132) (y := yX9_readBook) (idx := 136) dX9_readLibrary_132 q1409 q1411 qs42 rfl hk hyX9_readBook (sigC q1412) pnX9_readBook hl) wdX9_readBook zX9_readBook (Nat.le_of_ble_eq_true rfl) (Nat.le_of_ble_eq_true rfl)
theorem eX9_readLibrary_135 : SiZ nX9_readLibrary 135 (i_goto 143) := s_goto dX9_readLibrary_135 (by decide)
theorem eX9_readLibrary_138 : SiZ nX9_readLibrary 138 (i_aload 0 139) := s_aload_n dX9_readLibrary_138 rfl
theorem eX9_readLibrary_139 : SiZ nX9_readLibrary 139 (i_push (.int 1) 140) := s_iconst dX9_readLibrary_139 (by decide)
theorem eX9_readLibrary_140 : ScZ nX9_readLibrary 140 (c_V 1 143 2 9 (Mt mX9_faults 2)) := e_V (mi := nX9_readLibrary) (mi' := nX9_faults) (len := 3) (fun h b as rest hk hl => cs_V (ci := 8) (mi := nX9_readLibrary) (pc := 140) (y := yX9_faults) (idx := 117) dX9_readLibrary_140 q1394 q1396 qs39 rfl hk hyX9_faults (sigC q1397) pnX9_faults hl) wdX9_faults zX9_faults (Nat.le_of_ble_eq_true rfl) (Nat.le_of_ble_eq_true rfl)
theorem eX9_readLibrary_143 : SiZ nX9_readLibrary 143 (i_istore 1 144) := s_istore_n dX9_readLibrary_143 rfl
theorem eX9_readLibrary_144 : SiZ nX9_readLibrary 144 (i_goto 69) := s_goto dX9_readLibrary_144 (by decide)
theorem eX9_readLibrary_147 : SiZ nX9_readLibrary 147 (i_iload 1 148) := s_iload_n dX9_readLibrary_147 rfl
theorem eX9_readLibrary_148 : SiZ nX9_readLibrary 148 i_zret := s_zret dX9_readLibrary_148 rfl
theorem aX9_readLibrary : ∀ x ∈ mX9_readLibrary.1, EnZ nX9_readLibrary x := fm_cons eX9_readLibrary_0 (fm_cons eX9_readLibrary_1 (fm_cons eX9_readLibrary_2 (fm_cons eX9_readLibrary_5 (fm_cons eX9_readLibrary_6 (fm_cons eX9_readLibrary_7 (fm_cons eX9_readLibrary_8 (fm_cons eX9_readLibrary_10 (fm_cons eX9_readLibrary_13 (fm_cons eX9_readLibrary_14 (fm_cons eX9_readLibrary_17 (fm_cons eX9_readLibrary_18 (fm_cons eX9_readLibrary_19 (fm_cons eX9_readLibrary_20 (fm_cons eX9_readLibrary_23 (fm_cons eX9_readLibrary_26 (fm_cons eX9_readLibrary_27 (fm_cons eX9_readLibrary_30 (fm_cons eX9_readLibrary_31 (fm_cons eX9_readLibrary_33 (fm_cons eX9_readLibrary_36 (fm_cons eX9_readLibrary_39 (fm_cons eX9_readLibrary_40 (fm_cons eX9_readLibrary_41 (fm_cons eX9_readLibrary_43 (fm_cons eX9_readLibrary_44 (fm_cons eX9_readLibrary_46 (fm_cons eX9_readLibrary_49 (fm_cons eX9_readLibrary_52 (fm_cons eX9_readLibrary_53 (fm_cons eX9_readLibrary_54 (fm_cons eX9_readLibrary_56 (fm_cons eX9_readLibrary_57 (fm_cons eX9_readLibrary_59 (fm_cons eX9_readLibrary_62 (fm_cons eX9_readLibrary_65 (fm_cons eX9_readLibrary_66 (fm_cons eX9_readLibrary_67 (fm_cons eX9_readLibrary_68 (fm_cons eX9_readLibrary_69 (fm_cons eX9_readLibrary_70 (fm_cons eX9_readLibrary_73 (fm_cons eX9_readLibrary_74 (fm_cons eX9_readLibrary_77 (fm_cons eX9_readLibrary_78 (fm_cons eX9_readLibrary_81 (fm_cons eX9_readLibrary_82 (fm_cons eX9_readLibrary_85 (fm_cons eX9_readLibrary_86 (fm_cons eX9_readLibrary_87 (fm_cons eX9_readLibrary_90 (fm_cons eX9_readLibrary_91 (fm_cons eX9_readLibrary_94 (fm_cons eX9_readLibrary_95 (fm_cons eX9_readLibrary_98 (fm_cons eX9_readLibrary_99 (fm_cons eX9_readLibrary_102 (fm_cons eX9_readLibrary_105 (fm_cons eX9_readLibrary_108 (fm_cons eX9_readLibrary_109 (fm_cons eX9_readLibrary_110 (fm_cons eX9_readLibrary_111 (fm_cons eX9_readLibrary_114 (fm_cons eX9_readLibrary_115 (fm_cons eX9_readLibrary_116 (fm_cons eX9_readLibrary_119 (fm_cons eX9_readLibrary_122 (fm_cons eX9_readLibrary_123 (fm_cons eX9_readLibrary_125 (fm_cons eX9_readLibrary_128 (fm_cons eX9_readLibrary_131 (fm_cons eX9_readLibrary_132 (fm_cons eX9_readLibrary_135 (fm_cons eX9_readLibrary_138 (fm_cons eX9_readLibrary_139 (fm_cons eX9_readLibrary_140 (fm_cons eX9_readLibrary_143 (fm_cons eX9_readLibrary_144 (fm_cons eX9_readLibrary_147 (fm_cons eX9_readLibrary_148 (fm_nil))))))))))))))))))))))))))))))))))))))))))))))))))))))))))))))))))))))))))))))))
theorem zX9_readLibrary : SwZ nX9_readLibrary (Mt mX9_readLibrary 3) := wholeZ (mi := nX9_readLibrary) (cd := mX9_readLibrary) aX9_readLibrary rfl (HdZ.none rfl)
abbrev nX9_library : MI := (cX9_library, 3, (some (.int)), RX9, "library", [], 6, 158)
theorem hyX9_library : yX9_library.cls ≠ "java/lang/invoke/MethodHandle" ∧ yX9_library.cls ≠ "java/lang/invoke/VarHandle" := by decide +kernel
theorem pnX9_library : (parseMethodDescriptor yX9_library.desc).map (fun d => d.parameters.length) = some 0 := by decide +kernel
theorem wdX9_library : CdW yX9_library (nX9_library) := ⟨Or.inl ⟨q1373, rfl⟩, rfl, rfl, plainFor_of_name (by decide +kernel)⟩
theorem eX9_library_0 : SiZ nX9_library 0 (i_aload 0 1) := s_aload_n dX9_library_0 rfl
theorem eX9_library_1 : ScZ nX9_library 1 (c_V 0 4 3 9 (Mt mX9_readLibrary 3)) := e_V (mi := nX9_library) (mi' := nX9_readLibrary) (len := 3) (fun h b as rest hk hl => cs_V (ci := 8) (mi := nX9_library) (pc := 1) (y := yX9_readLibrary) (idx := 140) dX9_library_1 q1374 q1376 qs35 rfl hk hyX9_readLibrary (sigC q1377) pnX9_readLibrary hl) wdX9_readLibrary zX9_readLibrary (Nat.le_of_ble_eq_true rfl) (Nat.le_of_ble_eq_true rfl)
theorem eX9_library_4 : SiZ nX9_library 4 (i_istore 1 5) := s_istore_n dX9_library_4 rfl
theorem eX9_library_5 : SiZ nX9_library 5 (i_aload 0 6) := s_aload_n dX9_library_5 rfl
theorem eX9_library_6 : SiZ nX9_library 6 (i_push (.int 0) 7) := s_iconst dX9_library_6 (by decide)
theorem eX9_library_7 : SiZ nX9_library 7 (i_putI 86 [9] 10) := s_putI dX9_library_7 (fm_cons (⟨_, _, _, _, _, _, rfl, ⟨fkX9_87_9, ⟨_, q1255, Or.inl rfl⟩, Or.inl rfl⟩, rfl⟩) (fm_nil))
theorem eX9_library_10 : SiZ nX9_library 10 (i_iload 1 11) := s_iload_n dX9_library_10 rfl
theorem eX9_library_11 : SiZ nX9_library 11 (i_if (fun x => ¬ x = 0) 30 14) := s_if_ne dX9_library_11 (by decide)
theorem eX9_library_14 : SiZ nX9_library 14 (i_aload 0 15) := s_aload_n dX9_library_14 rfl
theorem eX9_library_15 : SiZ nX9_library 15 (i_aload 0 16) := s_aload_n dX9_library_15 rfl
theorem eX9_library_16 : SiZ nX9_library 16 (i_getf 98 [9] 19) := s_getf dX9_library_16 (fm_cons (⟨_, _, _, _, _, _, rfl, fkX9_111_9⟩) (fm_nil))
theorem eX9_library_19 : SiZ nX9_library 19 (i_putI 88 [9] 22) := s_putI dX9_library_19 (fm_cons (⟨_, _, _, _, _, _, rfl, ⟨fkX9_143_9, ⟨_, q1256, Or.inl rfl⟩, Or.inl rfl⟩, rfl⟩) (fm_nil))
theorem eX9_library_22 : SiZ nX9_library 22 (i_push (.int (-1000100)) 24) := s_ldc dX9_library_22 q1413
theorem eX9_library_24 : SiZ nX9_library 24 (i_aload 0 25) := s_aload_n dX9_library_24 rfl
theorem eX9_library_25 : SiZ nX9_library 25 (i_getf 96 [9] 28) := s_getf dX9_library_25 (fm_cons (⟨_, _, _, _, _, _, rfl, fkX9_94_9⟩) (fm_nil))
theorem eX9_library_28 : SiZ nX9_library 28 (i_bin (fun x y => x - y) 29) := s_isub dX9_library_28
theorem eX9_library_29 : SiZ nX9_library 29 i_iret := s_iret dX9_library_29 rfl
theorem eX9_library_30 : SiZ nX9_library 30 (i_push (.int 0) 31) := s_iconst dX9_library_30 (by decide)
theorem eX9_library_31 : SiZ nX9_library 31 (i_istore 2 32) := s_istore_n dX9_library_31 rfl
theorem eX9_library_32 : SiZ nX9_library 32 (i_iload 2 33) := s_iload_n dX9_library_32 rfl
theorem eX9_library_33 : SiZ nX9_library 33 (i_push (.int 41) 35) := s_bipush dX9_library_33 (by decide)
theorem eX9_library_35 : SiZ nX9_library 35 (i_icmp (fun x y => y ≤ x) 56 38) := s_icmp_ge dX9_library_35 (by decide)
theorem eX9_library_38 : SiZ nX9_library 38 (i_aload 0 39) := s_aload_n dX9_library_38 rfl
theorem eX9_library_39 : SiZ nX9_library 39 (i_getf 81 [9] 42) := s_getf dX9_library_39 (fm_cons (⟨_, _, _, _, _, _, rfl, fkX9_19_9⟩) (fm_nil))
theorem eX9_library_42 : SiZ nX9_library 42 (i_iload 2 43) := s_iload_n dX9_library_42 rfl
theorem eX9_library_43 : SiZ nX9_library 43 (i_aload 0 44) := s_aload_n dX9_library_43 rfl
theorem eX9_library_44 : SiZ nX9_library 44 (i_getf 101 [9] 47) := s_getf dX9_library_44 (fm_cons (⟨_, _, _, _, _, _, rfl, fkX9_28_9⟩) (fm_nil))
theorem eX9_library_47 : SiZ nX9_library 47 (i_iload 2 48) := s_iload_n dX9_library_47 rfl
theorem eX9_library_48 : SiZ nX9_library 48 (i_iald 51 49) := s_ald (j := 0) (by decide) (fun _ => rfl) dX9_library_48 (Or.inl ⟨rfl, rfl⟩)
theorem eX9_library_49 : SiZ nX9_library 49 (i_iast 51 (fun x => x) 50) := s_ast (j := 0) (by decide) (fun _ => rfl) dX9_library_49 (Or.inl ⟨rfl, rfl, rfl⟩)
theorem eX9_library_50 : SiZ nX9_library 50 (i_iinc 2 1 53) := s_iinc dX9_library_50 (by decide)
theorem eX9_library_53 : SiZ nX9_library 53 (i_goto 32) := s_goto dX9_library_53 (by decide)
theorem eX9_library_56 : SiZ nX9_library 56 (i_aload 0 57) := s_aload_n dX9_library_56 rfl
theorem eX9_library_57 : SiZ nX9_library 57 (i_push (.int 1) 58) := s_iconst dX9_library_57 (by decide)
theorem eX9_library_58 : SiZ nX9_library 58 (i_putZ 78 [9] 61) := s_putZ dX9_library_58 (fm_cons (⟨_, _, _, _, _, _, rfl, ⟨fkX9_147_9, ⟨_, q1251, Or.inl rfl⟩, Or.inl rfl⟩, rfl⟩) (fm_nil))
theorem eX9_library_61 : SiZ nX9_library 61 (i_aload 0 62) := s_aload_n dX9_library_61 rfl
theorem eX9_library_62 : SiZ nX9_library 62 (i_push (.int 0) 63) := s_iconst dX9_library_62 (by decide)
theorem eX9_library_63 : SiZ nX9_library 63 (i_putI 106 [9] 66) := s_putI dX9_library_63 (fm_cons (⟨_, _, _, _, _, _, rfl, ⟨fkX9_151_9, ⟨_, q1265, Or.inl rfl⟩, Or.inl rfl⟩, rfl⟩) (fm_nil))
theorem eX9_library_66 : SiZ nX9_library 66 (i_aload 0 67) := s_aload_n dX9_library_66 rfl
theorem eX9_library_67 : SiZ nX9_library 67 (i_getf 81 [9] 70) := s_getf dX9_library_67 (fm_cons (⟨_, _, _, _, _, _, rfl, fkX9_19_9⟩) (fm_nil))
theorem eX9_library_70 : SiZ nX9_library 70 (i_push (.int 1) 71) := s_iconst dX9_library_70 (by decide)
theorem eX9_library_71 : SiZ nX9_library 71 (i_iald 51 72) := s_ald (j := 0) (by decide) (fun _ => rfl) dX9_library_71 (Or.inl ⟨rfl, rfl⟩)
theorem eX9_library_72 : SiZ nX9_library 72 i_iret := s_iret dX9_library_72 rfl
theorem aX9_library : ∀ x ∈ mX9_library.1, EnZ nX9_library x := fm_cons eX9_library_0 (fm_cons eX9_library_1 (fm_cons eX9_library_4 (fm_cons eX9_library_5 (fm_cons eX9_library_6 (fm_cons eX9_library_7 (fm_cons eX9_library_10 (fm_cons eX9_library_11 (fm_cons eX9_library_14 (fm_cons eX9_library_15 (fm_cons eX9_library_16 (fm_cons eX9_library_19 (fm_cons eX9_library_22 (fm_cons eX9_library_24 (fm_cons eX9_library_25 (fm_cons eX9_library_28 (fm_cons eX9_library_29 (fm_cons eX9_library_30 (fm_cons eX9_library_31 (fm_cons eX9_library_32 (fm_cons eX9_library_33 (fm_cons eX9_library_35 (fm_cons eX9_library_38 (fm_cons eX9_library_39 (fm_cons eX9_library_42 (fm_cons eX9_library_43 (fm_cons eX9_library_44 (fm_cons eX9_library_47 (fm_cons eX9_library_48 (fm_cons eX9_library_49 (fm_cons eX9_library_50 (fm_cons eX9_library_53 (fm_cons eX9_library_56 (fm_cons eX9_library_57 (fm_cons eX9_library_58 (fm_cons eX9_library_61 (fm_cons eX9_library_62 (fm_cons eX9_library_63 (fm_cons eX9_library_66 (fm_cons eX9_library_67 (fm_cons eX9_library_70 (fm_cons eX9_library_71 (fm_cons eX9_library_72 (fm_nil)))))))))))))))))))))))))))))))))))))))))))
theorem zX9_library : SwZ nX9_library (Mt mX9_library 3) := wholeZ (mi := nX9_library) (cd := mX9_library) aX9_library rfl (HdZ.none rfl)
abbrev nX9_fault : MI := (cX9_fault, 1, (some (.int)), RX9, "fault", [], 0, 0)
theorem hyX9_fault : yX9_fault.cls ≠ "java/lang/invoke/MethodHandle" ∧ yX9_fault.cls ≠ "java/lang/invoke/VarHandle" := by decide +kernel
theorem pnX9_fault : (parseMethodDescriptor yX9_fault.desc).map (fun d => d.parameters.length) = some 0 := by decide +kernel
theorem wdX9_fault : CdW yX9_fault (nX9_fault) := ⟨Or.inl ⟨q1417, rfl⟩, rfl, rfl, plainFor_of_name (by decide +kernel)⟩
theorem eX9_fault_0 : SiZ nX9_fault 0 (i_aload 0 1) := s_aload_n dX9_fault_0 rfl
theorem eX9_fault_1 : SiZ nX9_fault 1 (i_getf 88 [9] 4) := s_getf dX9_fault_1 (fm_cons (⟨_, _, _, _, _, _, rfl, fkX9_143_9⟩) (fm_nil))
theorem eX9_fault_4 : SiZ nX9_fault 4 i_iret := s_iret dX9_fault_4 rfl
theorem aX9_fault : ∀ x ∈ mX9_fault.1, EnZ nX9_fault x := fm_cons eX9_fault_0 (fm_cons eX9_fault_1 (fm_cons eX9_fault_4 (fm_nil)))
theorem zX9_fault : SwZ nX9_fault (Mt mX9_fault 1) := wholeZ (mi := nX9_fault) (cd := mX9_fault) aX9_fault rfl (HdZ.none rfl)
abbrev nX9_undo : MI := (cX9_undo, 2, (some (.int)), RX9, "undo", [], 0, 0)
theorem hyX9_undo : yX9_undo.cls ≠ "java/lang/invoke/MethodHandle" ∧ yX9_undo.cls ≠ "java/lang/invoke/VarHandle" := by decide +kernel
theorem pnX9_undo : (parseMethodDescriptor yX9_undo.desc).map (fun d => d.parameters.length) = some 0 := by decide +kernel
theorem wdX9_undo : CdW yX9_undo (nX9_undo) := ⟨Or.inl ⟨q1421, rfl⟩, rfl, rfl, plainFor_of_name (by decide +kernel)⟩
theorem eX9_undo_0 : SiZ nX9_undo 0 (i_aload 0 1) := s_aload_n dX9_undo_0 rfl
theorem eX9_undo_1 : SiZ nX9_undo 1 (i_getf 106 [9] 4) := s_getf dX9_undo_1 (fm_cons (⟨_, _, _, _, _, _, rfl, fkX9_151_9⟩) (fm_nil))
theorem eX9_undo_4 : SiZ nX9_undo 4 (i_if (fun x => ¬ x = 0) 10 7) := s_if_ne dX9_undo_4 (by decide)
theorem eX9_undo_7 : SiZ nX9_undo 7 (i_push (.int (-1000002)) 9) := s_ldc dX9_undo_7 q1422
theorem eX9_undo_9 : SiZ nX9_undo 9 i_iret := s_iret dX9_undo_9 rfl
theorem eX9_undo_10 : SiZ nX9_undo 10 (i_aload 0 11) := s_aload_n dX9_undo_10 rfl
theorem eX9_undo_11 : SiZ nX9_undo 11 (i_dup 12) := s_dup dX9_undo_11
theorem eX9_undo_12 : SiZ nX9_undo 12 (i_getf 106 [9] 15) := s_getf dX9_undo_12 (fm_cons (⟨_, _, _, _, _, _, rfl, fkX9_151_9⟩) (fm_nil))
theorem eX9_undo_15 : SiZ nX9_undo 15 (i_push (.int 1) 16) := s_iconst dX9_undo_15 (by decide)
theorem eX9_undo_16 : SiZ nX9_undo 16 (i_bin (fun x y => x - y) 17) := s_isub dX9_undo_16
theorem eX9_undo_17 : SiZ nX9_undo 17 (i_putI 106 [9] 20) := s_putI dX9_undo_17 (fm_cons (⟨_, _, _, _, _, _, rfl, ⟨fkX9_151_9, ⟨_, q1265, Or.inl rfl⟩, Or.inl rfl⟩, rfl⟩) (fm_nil))
theorem eX9_undo_20 : SiZ nX9_undo 20 (i_push (.int 0) 21) := s_iconst dX9_undo_20 (by decide)
theorem eX9_undo_21 : SiZ nX9_undo 21 (i_istore 1 22) := s_istore_n dX9_undo_21 rfl
theorem eX9_undo_22 : SiZ nX9_undo 22 (i_iload 1 23) := s_iload_n dX9_undo_22 rfl
theorem eX9_undo_23 : SiZ nX9_undo 23 (i_push (.int 41) 25) := s_bipush dX9_undo_23 (by decide)
theorem eX9_undo_25 : SiZ nX9_undo 25 (i_icmp (fun x y => y ≤ x) 54 28) := s_icmp_ge dX9_undo_25 (by decide)
theorem eX9_undo_28 : SiZ nX9_undo 28 (i_aload 0 29) := s_aload_n dX9_undo_28 rfl
theorem eX9_undo_29 : SiZ nX9_undo 29 (i_getf 81 [9] 32) := s_getf dX9_undo_29 (fm_cons (⟨_, _, _, _, _, _, rfl, fkX9_19_9⟩) (fm_nil))
theorem eX9_undo_32 : SiZ nX9_undo 32 (i_iload 1 33) := s_iload_n dX9_undo_32 rfl
theorem eX9_undo_33 : SiZ nX9_undo 33 (i_aload 0 34) := s_aload_n dX9_undo_33 rfl
theorem eX9_undo_34 : SiZ nX9_undo 34 (i_getf 105 [9] 37) := s_getf dX9_undo_34 (fm_cons (⟨_, _, _, _, _, _, rfl, fkX9_34_9⟩) (fm_nil))
theorem eX9_undo_37 : SiZ nX9_undo 37 (i_push (.int 41) 39) := s_bipush dX9_undo_37 (by decide)
theorem eX9_undo_39 : SiZ nX9_undo 39 (i_aload 0 40) := s_aload_n dX9_undo_39 rfl
theorem eX9_undo_40 : SiZ nX9_undo 40 (i_getf 106 [9] 43) := s_getf dX9_undo_40 (fm_cons (⟨_, _, _, _, _, _, rfl, fkX9_151_9⟩) (fm_nil))
theorem eX9_undo_43 : SiZ nX9_undo 43 (i_bin (fun x y => x * y) 44) := s_imul dX9_undo_43
theorem eX9_undo_44 : SiZ nX9_undo 44 (i_iload 1 45) := s_iload_n dX9_undo_44 rfl
theorem eX9_undo_45 : SiZ nX9_undo 45 (i_bin (fun x y => x + y) 46) := s_iadd dX9_undo_45
theorem eX9_undo_46 : SiZ nX9_undo 46 (i_iald 51 47) := s_ald (j := 0) (by decide) (fun _ => rfl) dX9_undo_46 (Or.inl ⟨rfl, rfl⟩)
theorem eX9_undo_47 : SiZ nX9_undo 47 (i_iast 51 (fun x => x) 48) := s_ast (j := 0) (by decide) (fun _ => rfl) dX9_undo_47 (Or.inl ⟨rfl, rfl, rfl⟩)
theorem eX9_undo_48 : SiZ nX9_undo 48 (i_iinc 1 1 51) := s_iinc dX9_undo_48 (by decide)
theorem eX9_undo_51 : SiZ nX9_undo 51 (i_goto 22) := s_goto dX9_undo_51 (by decide)
theorem eX9_undo_54 : SiZ nX9_undo 54 (i_aload 0 55) := s_aload_n dX9_undo_54 rfl
theorem eX9_undo_55 : SiZ nX9_undo 55 (i_getf 106 [9] 58) := s_getf dX9_undo_55 (fm_cons (⟨_, _, _, _, _, _, rfl, fkX9_151_9⟩) (fm_nil))
theorem eX9_undo_58 : SiZ nX9_undo 58 i_iret := s_iret dX9_undo_58 rfl
theorem aX9_undo : ∀ x ∈ mX9_undo.1, EnZ nX9_undo x := fm_cons eX9_undo_0 (fm_cons eX9_undo_1 (fm_cons eX9_undo_4 (fm_cons eX9_undo_7 (fm_cons eX9_undo_9 (fm_cons eX9_undo_10 (fm_cons eX9_undo_11 (fm_cons eX9_undo_12 (fm_cons eX9_undo_15 (fm_cons eX9_undo_16 (fm_cons eX9_undo_17 (fm_cons eX9_undo_20 (fm_cons eX9_undo_21 (fm_cons eX9_undo_22 (fm_cons eX9_undo_23 (fm_cons eX9_undo_25 (fm_cons eX9_undo_28 (fm_cons eX9_undo_29 (fm_cons eX9_undo_32 (fm_cons eX9_undo_33 (fm_cons eX9_undo_34 (fm_cons eX9_undo_37 (fm_cons eX9_undo_39 (fm_cons eX9_undo_40 (fm_cons eX9_undo_43 (fm_cons eX9_undo_44 (fm_cons eX9_undo_45 (fm_cons eX9_undo_46 (fm_cons eX9_undo_47 (fm_cons eX9_undo_48 (fm_cons eX9_undo_51 (fm_cons eX9_undo_54 (fm_cons eX9_undo_55 (fm_cons eX9_undo_58 (fm_nil))))))))))))))))))))))))))))))))))
theorem zX9_undo : SwZ nX9_undo (Mt mX9_undo 2) := wholeZ (mi := nX9_undo) (cd := mX9_undo) aX9_undo rfl (HdZ.none rfl)
abbrev nX9_note : MI := (cX9_note, 2, none, RX9, "note", [], 0, 0)
theorem hyX9_note : yX9_note.cls ≠ "java/lang/invoke/MethodHandle" ∧ yX9_note.cls ≠ "java/lang/invoke/VarHandle" := by decide +kernel
theorem pnX9_note : (parseMethodDescriptor yX9_note.desc).map (fun d => d.parameters.length) = some 0 := by decide +kernel
theorem wdX9_note : CdW yX9_note (nX9_note) := ⟨Or.inl ⟨q1431, rfl⟩, rfl, rfl, plainFor_of_name (by decide +kernel)⟩
theorem eX9_note_0 : SiZ nX9_note 0 (i_aload 0 1) := s_aload_n dX9_note_0 rfl
theorem eX9_note_1 : SiZ nX9_note 1 (i_getf 106 [9] 4) := s_getf dX9_note_1 (fm_cons (⟨_, _, _, _, _, _, rfl, fkX9_151_9⟩) (fm_nil))
theorem eX9_note_4 : SiZ nX9_note 4 (i_push (.int 24) 6) := s_bipush dX9_note_4 (by decide)
theorem eX9_note_6 : SiZ nX9_note 6 (i_icmp (fun x y => ¬ x = y) 49 9) := s_icmp_ne dX9_note_6 (by decide)
theorem eX9_note_9 : SiZ nX9_note 9 (i_push (.int 0) 10) := s_iconst dX9_note_9 (by decide)
theorem eX9_note_10 : SiZ nX9_note 10 (i_istore 1 11) := s_istore_n dX9_note_10 rfl
theorem eX9_note_11 : SiZ nX9_note 11 (i_iload 1 12) := s_iload_n dX9_note_11 rfl
theorem eX9_note_12 : SiZ nX9_note 12 (i_push (.int 943) 15) := s_sipush dX9_note_12 (by decide)
theorem eX9_note_15 : SiZ nX9_note 15 (i_icmp (fun x y => y ≤ x) 39 18) := s_icmp_ge dX9_note_15 (by decide)
theorem eX9_note_18 : SiZ nX9_note 18 (i_aload 0 19) := s_aload_n dX9_note_18 rfl
theorem eX9_note_19 : SiZ nX9_note 19 (i_getf 105 [9] 22) := s_getf dX9_note_19 (fm_cons (⟨_, _, _, _, _, _, rfl, fkX9_34_9⟩) (fm_nil))
theorem eX9_note_22 : SiZ nX9_note 22 (i_iload 1 23) := s_iload_n dX9_note_22 rfl
theorem eX9_note_23 : SiZ nX9_note 23 (i_aload 0 24) := s_aload_n dX9_note_23 rfl
theorem eX9_note_24 : SiZ nX9_note 24 (i_getf 105 [9] 27) := s_getf dX9_note_24 (fm_cons (⟨_, _, _, _, _, _, rfl, fkX9_34_9⟩) (fm_nil))
theorem eX9_note_27 : SiZ nX9_note 27 (i_iload 1 28) := s_iload_n dX9_note_27 rfl
theorem eX9_note_28 : SiZ nX9_note 28 (i_push (.int 41) 30) := s_bipush dX9_note_28 (by decide)
theorem eX9_note_30 : SiZ nX9_note 30 (i_bin (fun x y => x + y) 31) := s_iadd dX9_note_30
theorem eX9_note_31 : SiZ nX9_note 31 (i_iald 51 32) := s_ald (j := 0) (by decide) (fun _ => rfl) dX9_note_31 (Or.inl ⟨rfl, rfl⟩)
theorem eX9_note_32 : SiZ nX9_note 32 (i_iast 51 (fun x => x) 33) := s_ast (j := 0) (by decide) (fun _ => rfl) dX9_note_32 (Or.inl ⟨rfl, rfl, rfl⟩)
theorem eX9_note_33 : SiZ nX9_note 33 (i_iinc 1 1 36) := s_iinc dX9_note_33 (by decide)
theorem eX9_note_36 : SiZ nX9_note 36 (i_goto 11) := s_goto dX9_note_36 (by decide)
theorem eX9_note_39 : SiZ nX9_note 39 (i_aload 0 40) := s_aload_n dX9_note_39 rfl
theorem eX9_note_40 : SiZ nX9_note 40 (i_dup 41) := s_dup dX9_note_40
theorem eX9_note_41 : SiZ nX9_note 41 (i_getf 106 [9] 44) := s_getf dX9_note_41 (fm_cons (⟨_, _, _, _, _, _, rfl, fkX9_151_9⟩) (fm_nil))
theorem eX9_note_44 : SiZ nX9_note 44 (i_push (.int 1) 45) := s_iconst dX9_note_44 (by decide)
theorem eX9_note_45 : SiZ nX9_note 45 (i_bin (fun x y => x - y) 46) := s_isub dX9_note_45
theorem eX9_note_46 : SiZ nX9_note 46 (i_putI 106 [9] 49) := s_putI dX9_note_46 (fm_cons (⟨_, _, _, _, _, _, rfl, ⟨fkX9_151_9, ⟨_, q1265, Or.inl rfl⟩, Or.inl rfl⟩, rfl⟩) (fm_nil))
theorem eX9_note_49 : SiZ nX9_note 49 (i_push (.int 0) 50) := s_iconst dX9_note_49 (by decide)
theorem eX9_note_50 : SiZ nX9_note 50 (i_istore 1 51) := s_istore_n dX9_note_50 rfl
theorem eX9_note_51 : SiZ nX9_note 51 (i_iload 1 52) := s_iload_n dX9_note_51 rfl
theorem eX9_note_52 : SiZ nX9_note 52 (i_push (.int 41) 54) := s_bipush dX9_note_52 (by decide)
theorem eX9_note_54 : SiZ nX9_note 54 (i_icmp (fun x y => y ≤ x) 83 57) := s_icmp_ge dX9_note_54 (by decide)
theorem eX9_note_57 : SiZ nX9_note 57 (i_aload 0 58) := s_aload_n dX9_note_57 rfl
theorem eX9_note_58 : SiZ nX9_note 58 (i_getf 105 [9] 61) := s_getf dX9_note_58 (fm_cons (⟨_, _, _, _, _, _, rfl, fkX9_34_9⟩) (fm_nil))
theorem eX9_note_61 : SiZ nX9_note 61 (i_push (.int 41) 63) := s_bipush dX9_note_61 (by decide)
theorem eX9_note_63 : SiZ nX9_note 63 (i_aload 0 64) := s_aload_n dX9_note_63 rfl
theorem eX9_note_64 : SiZ nX9_note 64 (i_getf 106 [9] 67) := s_getf dX9_note_64 (fm_cons (⟨_, _, _, _, _, _, rfl, fkX9_151_9⟩) (fm_nil))
theorem eX9_note_67 : SiZ nX9_note 67 (i_bin (fun x y => x * y) 68) := s_imul dX9_note_67
theorem eX9_note_68 : SiZ nX9_note 68 (i_iload 1 69) := s_iload_n dX9_note_68 rfl
theorem eX9_note_69 : SiZ nX9_note 69 (i_bin (fun x y => x + y) 70) := s_iadd dX9_note_69
theorem eX9_note_70 : SiZ nX9_note 70 (i_aload 0 71) := s_aload_n dX9_note_70 rfl
theorem eX9_note_71 : SiZ nX9_note 71 (i_getf 81 [9] 74) := s_getf dX9_note_71 (fm_cons (⟨_, _, _, _, _, _, rfl, fkX9_19_9⟩) (fm_nil))
theorem eX9_note_74 : SiZ nX9_note 74 (i_iload 1 75) := s_iload_n dX9_note_74 rfl
theorem eX9_note_75 : SiZ nX9_note 75 (i_iald 51 76) := s_ald (j := 0) (by decide) (fun _ => rfl) dX9_note_75 (Or.inl ⟨rfl, rfl⟩)
theorem eX9_note_76 : SiZ nX9_note 76 (i_iast 51 (fun x => x) 77) := s_ast (j := 0) (by decide) (fun _ => rfl) dX9_note_76 (Or.inl ⟨rfl, rfl, rfl⟩)
theorem eX9_note_77 : SiZ nX9_note 77 (i_iinc 1 1 80) := s_iinc dX9_note_77 (by decide)
theorem eX9_note_80 : SiZ nX9_note 80 (i_goto 51) := s_goto dX9_note_80 (by decide)
theorem eX9_note_83 : SiZ nX9_note 83 (i_aload 0 84) := s_aload_n dX9_note_83 rfl
theorem eX9_note_84 : SiZ nX9_note 84 (i_dup 85) := s_dup dX9_note_84
theorem eX9_note_85 : SiZ nX9_note 85 (i_getf 106 [9] 88) := s_getf dX9_note_85 (fm_cons (⟨_, _, _, _, _, _, rfl, fkX9_151_9⟩) (fm_nil))
theorem eX9_note_88 : SiZ nX9_note 88 (i_push (.int 1) 89) := s_iconst dX9_note_88 (by decide)
theorem eX9_note_89 : SiZ nX9_note 89 (i_bin (fun x y => x + y) 90) := s_iadd dX9_note_89
theorem eX9_note_90 : SiZ nX9_note 90 (i_putI 106 [9] 93) := s_putI dX9_note_90 (fm_cons (⟨_, _, _, _, _, _, rfl, ⟨fkX9_151_9, ⟨_, q1265, Or.inl rfl⟩, Or.inl rfl⟩, rfl⟩) (fm_nil))
theorem eX9_note_93 : SiZ nX9_note 93 i_vret := s_vret dX9_note_93 rfl
theorem aX9_note : ∀ x ∈ mX9_note.1, EnZ nX9_note x := fm_cons eX9_note_0 (fm_cons eX9_note_1 (fm_cons eX9_note_4 (fm_cons eX9_note_6 (fm_cons eX9_note_9 (fm_cons eX9_note_10 (fm_cons eX9_note_11 (fm_cons eX9_note_12 (fm_cons eX9_note_15 (fm_cons eX9_note_18 (fm_cons eX9_note_19 (fm_cons eX9_note_22 (fm_cons eX9_note_23 (fm_cons eX9_note_24 (fm_cons eX9_note_27 (fm_cons eX9_note_28 (fm_cons eX9_note_30 (fm_cons eX9_note_31 (fm_cons eX9_note_32 (fm_cons eX9_note_33 (fm_cons eX9_note_36 (fm_cons eX9_note_39 (fm_cons eX9_note_40 (fm_cons eX9_note_41 (fm_cons eX9_note_44 (fm_cons eX9_note_45 (fm_cons eX9_note_46 (fm_cons eX9_note_49 (fm_cons eX9_note_50 (fm_cons eX9_note_51 (fm_cons eX9_note_52 (fm_cons eX9_note_54 (fm_cons eX9_note_57 (fm_cons eX9_note_58 (fm_cons eX9_note_61 (fm_cons eX9_note_63 (fm_cons eX9_note_64 (fm_cons eX9_note_67 (fm_cons eX9_note_68 (fm_cons eX9_note_69 (fm_cons eX9_note_70 (fm_cons eX9_note_71 (fm_cons eX9_note_74 (fm_cons eX9_note_75 (fm_cons eX9_note_76 (fm_cons eX9_note_77 (fm_cons eX9_note_80 (fm_cons eX9_note_83 (fm_cons eX9_note_84 (fm_cons eX9_note_85 (fm_cons eX9_note_88 (fm_cons eX9_note_89 (fm_cons eX9_note_90 (fm_cons eX9_note_93 (fm_nil))))))))))))))))))))))))))))))))))))))))))))))))))))))
theorem zX9_note : SwZ nX9_note (Mt mX9_note 2) := wholeZ (mi := nX9_note) (cd := mX9_note) aX9_note rfl (HdZ.none rfl)
abbrev nX9_has : MI := (cX9_has, 2, (some (.boolean)), RX9, "has", [], 0, 0)
theorem hyX9_has : yX9_has.cls ≠ "java/lang/invoke/MethodHandle" ∧ yX9_has.cls ≠ "java/lang/invoke/VarHandle" := by decide +kernel
theorem pnX9_has : (parseMethodDescriptor yX9_has.desc).map (fun d => d.parameters.length) = some 2 := by decide +kernel
theorem wdX9_has : CdW yX9_has (nX9_has) := ⟨Or.inl ⟨q1442, rfl⟩, rfl, rfl, plainFor_of_name (by decide +kernel)⟩
theorem eX9_has_0 : SiZ nX9_has 0 (i_iload 0 1) := s_iload_n dX9_has_0 rfl
theorem eX9_has_1 : SiZ nX9_has 1 (i_iload 1 2) := s_iload_n dX9_has_1 rfl
theorem eX9_has_2 : SiZ nX9_has 2 (i_bin (fun x y => x >>> (y &&& 31)) 3) := s_ishr dX9_has_2
theorem eX9_has_3 : SiZ nX9_has 3 (i_push (.int 1) 4) := s_iconst dX9_has_3 (by decide)
theorem eX9_has_4 : SiZ nX9_has 4 (i_bin (fun x y => x &&& y) 5) := s_iand dX9_has_4
theorem eX9_has_5 : SiZ nX9_has 5 (i_push (.int 1) 6) := s_iconst dX9_has_5 (by decide)
theorem eX9_has_6 : SiZ nX9_has 6 (i_icmp (fun x y => ¬ x = y) 13 9) := s_icmp_ne dX9_has_6 (by decide)
theorem eX9_has_9 : SiZ nX9_has 9 (i_push (.int 1) 10) := s_iconst dX9_has_9 (by decide)
theorem eX9_has_10 : SiZ nX9_has 10 (i_goto 14) := s_goto dX9_has_10 (by decide)
theorem eX9_has_13 : SiZ nX9_has 13 (i_push (.int 0) 14) := s_iconst dX9_has_13 (by decide)
theorem eX9_has_14 : SiZ nX9_has 14 i_zret := s_zret dX9_has_14 rfl
theorem aX9_has : ∀ x ∈ mX9_has.1, EnZ nX9_has x := fm_cons eX9_has_0 (fm_cons eX9_has_1 (fm_cons eX9_has_2 (fm_cons eX9_has_3 (fm_cons eX9_has_4 (fm_cons eX9_has_5 (fm_cons eX9_has_6 (fm_cons eX9_has_9 (fm_cons eX9_has_10 (fm_cons eX9_has_13 (fm_cons eX9_has_14 (fm_nil)))))))))))
theorem zX9_has : SwZ nX9_has (Mt mX9_has 2) := wholeZ (mi := nX9_has) (cd := mX9_has) aX9_has rfl (HdZ.none rfl)
abbrev nX9_isCaught : MI := (cX9_isCaught, 2, (some (.boolean)), RX9, "isCaught", [], 1, 25)
theorem hyX9_isCaught : yX9_isCaught.cls ≠ "java/lang/invoke/MethodHandle" ∧ yX9_isCaught.cls ≠ "java/lang/invoke/VarHandle" := by decide +kernel
theorem pnX9_isCaught : (parseMethodDescriptor yX9_isCaught.desc).map (fun d => d.parameters.length) = some 1 := by decide +kernel
theorem wdX9_isCaught : CdW yX9_isCaught (nX9_isCaught) := ⟨Or.inl ⟨q1439, rfl⟩, rfl, rfl, plainFor_of_name (by decide +kernel)⟩
theorem eX9_isCaught_0 : SiZ nX9_isCaught 0 (i_aload 0 1) := s_aload_n dX9_isCaught_0 rfl
theorem eX9_isCaught_1 : SiZ nX9_isCaught 1 (i_getf 81 [9] 4) := s_getf dX9_isCaught_1 (fm_cons (⟨_, _, _, _, _, _, rfl, fkX9_19_9⟩) (fm_nil))
theorem eX9_isCaught_4 : SiZ nX9_isCaught 4 (i_push (.int 7) 6) := s_bipush dX9_isCaught_4 (by decide)
theorem eX9_isCaught_6 : SiZ nX9_isCaught 6 (i_iald 51 7) := s_ald (j := 0) (by decide) (fun _ => rfl) dX9_isCaught_6 (Or.inl ⟨rfl, rfl⟩)
theorem eX9_isCaught_7 : SiZ nX9_isCaught 7 (i_iload 1 8) := s_iload_n dX9_isCaught_7 rfl
theorem eX9_isCaught_8 : ScZ nX9_isCaught 8 (c_S 2 11 2 (Mt mX9_has 2)) := e_S (mi := nX9_isCaught) (mi' := nX9_has) (len := 3) (fun h as rest hl => cs_S (mi := nX9_isCaught) (pc := 8) (y := yX9_has) (idx := 154) dX9_isCaught_8 q1440 q1441 q89 q1442 hyX9_has pnX9_has hl) wdX9_has zX9_has (Nat.le_of_ble_eq_true rfl) (Nat.le_of_ble_eq_true rfl)
theorem eX9_isCaught_11 : SiZ nX9_isCaught 11 i_zret := s_zret dX9_isCaught_11 rfl
theorem aX9_isCaught : ∀ x ∈ mX9_isCaught.1, EnZ nX9_isCaught x := fm_cons eX9_isCaught_0 (fm_cons eX9_isCaught_1 (fm_cons eX9_isCaught_4 (fm_cons eX9_isCaught_6 (fm_cons eX9_isCaught_7 (fm_cons eX9_isCaught_8 (fm_cons eX9_isCaught_11 (fm_nil)))))))
theorem zX9_isCaught : SwZ nX9_isCaught (Mt mX9_isCaught 2) := wholeZ (mi := nX9_isCaught) (cd := mX9_isCaught) aX9_isCaught rfl (HdZ.none rfl)
abbrev nX9_bookAt : MI := (cX9_bookAt, 3, (some (.int)), RX9, "bookAt", [], 0, 0)
theorem hyX9_bookAt : yX9_bookAt.cls ≠ "java/lang/invoke/MethodHandle" ∧ yX9_bookAt.cls ≠ "java/lang/invoke/VarHandle" := by decide +kernel
theorem pnX9_bookAt : (parseMethodDescriptor yX9_bookAt.desc).map (fun d => d.parameters.length) = some 1 := by decide +kernel
theorem wdX9_bookAt : CdW yX9_bookAt (nX9_bookAt) := ⟨Or.inl ⟨q1450, rfl⟩, rfl, rfl, plainFor_of_name (by decide +kernel)⟩
theorem eX9_bookAt_0 : SiZ nX9_bookAt 0 (i_push (.int 0) 1) := s_iconst dX9_bookAt_0 (by decide)
theorem eX9_bookAt_1 : SiZ nX9_bookAt 1 (i_istore 2 2) := s_istore_n dX9_bookAt_1 rfl
theorem eX9_bookAt_2 : SiZ nX9_bookAt 2 (i_aload 0 3) := s_aload_n dX9_bookAt_2 rfl
theorem eX9_bookAt_3 : SiZ nX9_bookAt 3 (i_getf 81 [9] 6) := s_getf dX9_bookAt_3 (fm_cons (⟨_, _, _, _, _, _, rfl, fkX9_19_9⟩) (fm_nil))
theorem eX9_bookAt_6 : SiZ nX9_bookAt 6 (i_push (.int 20) 8) := s_bipush dX9_bookAt_6 (by decide)
theorem eX9_bookAt_8 : SiZ nX9_bookAt 8 (i_iload 2 9) := s_iload_n dX9_bookAt_8 rfl
theorem eX9_bookAt_9 : SiZ nX9_bookAt 9 (i_bin (fun x y => x + y) 10) := s_iadd dX9_bookAt_9
theorem eX9_bookAt_10 : SiZ nX9_bookAt 10 (i_iald 51 11) := s_ald (j := 0) (by decide) (fun _ => rfl) dX9_bookAt_10 (Or.inl ⟨rfl, rfl⟩)
theorem eX9_bookAt_11 : SiZ nX9_bookAt 11 (i_iload 1 12) := s_iload_n dX9_bookAt_11 rfl
theorem eX9_bookAt_12 : SiZ nX9_bookAt 12 (i_icmp (fun x y => x = y) 21 15) := s_icmp_eq dX9_bookAt_12 (by decide)
theorem eX9_bookAt_15 : SiZ nX9_bookAt 15 (i_iinc 2 1 18) := s_iinc dX9_bookAt_15 (by decide)
theorem eX9_bookAt_18 : SiZ nX9_bookAt 18 (i_goto 2) := s_goto dX9_bookAt_18 (by decide)
theorem eX9_bookAt_21 : SiZ nX9_bookAt 21 (i_iload 2 22) := s_iload_n dX9_bookAt_21 rfl
theorem eX9_bookAt_22 : SiZ nX9_bookAt 22 i_iret := s_iret dX9_bookAt_22 rfl
theorem aX9_bookAt : ∀ x ∈ mX9_bookAt.1, EnZ nX9_bookAt x := fm_cons eX9_bookAt_0 (fm_cons eX9_bookAt_1 (fm_cons eX9_bookAt_2 (fm_cons eX9_bookAt_3 (fm_cons eX9_bookAt_6 (fm_cons eX9_bookAt_8 (fm_cons eX9_bookAt_9 (fm_cons eX9_bookAt_10 (fm_cons eX9_bookAt_11 (fm_cons eX9_bookAt_12 (fm_cons eX9_bookAt_15 (fm_cons eX9_bookAt_18 (fm_cons eX9_bookAt_21 (fm_cons eX9_bookAt_22 (fm_nil))))))))))))))
theorem zX9_bookAt : SwZ nX9_bookAt (Mt mX9_bookAt 3) := wholeZ (mi := nX9_bookAt) (cd := mX9_bookAt) aX9_bookAt rfl (HdZ.none rfl)
abbrev nX9_likes : MI := (cX9_likes, 5, (some (.int)), RX9, "likes", [], 0, 0)
theorem hyX9_likes : yX9_likes.cls ≠ "java/lang/invoke/MethodHandle" ∧ yX9_likes.cls ≠ "java/lang/invoke/VarHandle" := by decide +kernel
theorem pnX9_likes : (parseMethodDescriptor yX9_likes.desc).map (fun d => d.parameters.length) = some 2 := by decide +kernel
theorem wdX9_likes : CdW yX9_likes (nX9_likes) := ⟨Or.inl ⟨q1459, rfl⟩, rfl, rfl, plainFor_of_name (by decide +kernel)⟩
theorem eX9_likes_0 : SiZ nX9_likes 0 (i_aload 0 1) := s_aload_n dX9_likes_0 rfl
theorem eX9_likes_1 : SiZ nX9_likes 1 (i_getf 81 [9] 4) := s_getf dX9_likes_1 (fm_cons (⟨_, _, _, _, _, _, rfl, fkX9_19_9⟩) (fm_nil))
theorem eX9_likes_4 : SiZ nX9_likes 4 (i_push (.int 20) 6) := s_bipush dX9_likes_4 (by decide)
theorem eX9_likes_6 : SiZ nX9_likes 6 (i_iload 2 7) := s_iload_n dX9_likes_6 rfl
theorem eX9_likes_7 : SiZ nX9_likes 7 (i_bin (fun x y => x + y) 8) := s_iadd dX9_likes_7
theorem eX9_likes_8 : SiZ nX9_likes 8 (i_iald 51 9) := s_ald (j := 0) (by decide) (fun _ => rfl) dX9_likes_8 (Or.inl ⟨rfl, rfl⟩)
theorem eX9_likes_9 : SiZ nX9_likes 9 (i_aload 0 10) := s_aload_n dX9_likes_9 rfl
theorem eX9_likes_10 : SiZ nX9_likes 10 (i_getf 81 [9] 13) := s_getf dX9_likes_10 (fm_cons (⟨_, _, _, _, _, _, rfl, fkX9_19_9⟩) (fm_nil))
theorem eX9_likes_13 : SiZ nX9_likes 13 (i_push (.int 31) 15) := s_bipush dX9_likes_13 (by decide)
theorem eX9_likes_15 : SiZ nX9_likes 15 (i_iload 1 16) := s_iload_n dX9_likes_15 rfl
theorem eX9_likes_16 : SiZ nX9_likes 16 (i_bin (fun x y => x + y) 17) := s_iadd dX9_likes_16
theorem eX9_likes_17 : SiZ nX9_likes 17 (i_iald 51 18) := s_ald (j := 0) (by decide) (fun _ => rfl) dX9_likes_17 (Or.inl ⟨rfl, rfl⟩)
theorem eX9_likes_18 : SiZ nX9_likes 18 (i_bin (fun x y => x - y) 19) := s_isub dX9_likes_18
theorem eX9_likes_19 : SiZ nX9_likes 19 (i_istore 3 20) := s_istore_n dX9_likes_19 rfl
theorem eX9_likes_20 : SiZ nX9_likes 20 (i_aload 0 21) := s_aload_n dX9_likes_20 rfl
theorem eX9_likes_21 : SiZ nX9_likes 21 (i_getf 81 [9] 24) := s_getf dX9_likes_21 (fm_cons (⟨_, _, _, _, _, _, rfl, fkX9_19_9⟩) (fm_nil))
theorem eX9_likes_24 : SiZ nX9_likes 24 (i_push (.int 26) 26) := s_bipush dX9_likes_24 (by decide)
theorem eX9_likes_26 : SiZ nX9_likes 26 (i_iload 1 27) := s_iload_n dX9_likes_26 rfl
theorem eX9_likes_27 : SiZ nX9_likes 27 (i_bin (fun x y => x + y) 28) := s_iadd dX9_likes_27
theorem eX9_likes_28 : SiZ nX9_likes 28 (i_iald 51 29) := s_ald (j := 0) (by decide) (fun _ => rfl) dX9_likes_28 (Or.inl ⟨rfl, rfl⟩)
theorem eX9_likes_29 : SiZ nX9_likes 29 (i_push (.int 2) 30) := s_iconst dX9_likes_29 (by decide)
theorem eX9_likes_30 : SiZ nX9_likes 30 (i_icmp (fun x y => ¬ x = y) 47 33) := s_icmp_ne dX9_likes_30 (by decide)
theorem eX9_likes_33 : SiZ nX9_likes 33 (i_push (.int 2) 34) := s_iconst dX9_likes_33 (by decide)
theorem eX9_likes_34 : SiZ nX9_likes 34 (i_aload 0 35) := s_aload_n dX9_likes_34 rfl
theorem eX9_likes_35 : SiZ nX9_likes 35 (i_getf 81 [9] 38) := s_getf dX9_likes_35 (fm_cons (⟨_, _, _, _, _, _, rfl, fkX9_19_9⟩) (fm_nil))
theorem eX9_likes_38 : SiZ nX9_likes 38 (i_push (.int 14) 40) := s_bipush dX9_likes_38 (by decide)
theorem eX9_likes_40 : SiZ nX9_likes 40 (i_iload 2 41) := s_iload_n dX9_likes_40 rfl
theorem eX9_likes_41 : SiZ nX9_likes 41 (i_bin (fun x y => x + y) 42) := s_iadd dX9_likes_41
theorem eX9_likes_42 : SiZ nX9_likes 42 (i_iald 51 43) := s_ald (j := 0) (by decide) (fun _ => rfl) dX9_likes_42 (Or.inl ⟨rfl, rfl⟩)
theorem eX9_likes_43 : SiZ nX9_likes 43 (i_bin (fun x y => x * y) 44) := s_imul dX9_likes_43
theorem eX9_likes_44 : SiZ nX9_likes 44 (i_goto 56) := s_goto dX9_likes_44 (by decide)
theorem eX9_likes_47 : SiZ nX9_likes 47 (i_aload 0 48) := s_aload_n dX9_likes_47 rfl
theorem eX9_likes_48 : SiZ nX9_likes 48 (i_getf 81 [9] 51) := s_getf dX9_likes_48 (fm_cons (⟨_, _, _, _, _, _, rfl, fkX9_19_9⟩) (fm_nil))
theorem eX9_likes_51 : SiZ nX9_likes 51 (i_push (.int 14) 53) := s_bipush dX9_likes_51 (by decide)
theorem eX9_likes_53 : SiZ nX9_likes 53 (i_iload 2 54) := s_iload_n dX9_likes_53 rfl
theorem eX9_likes_54 : SiZ nX9_likes 54 (i_bin (fun x y => x + y) 55) := s_iadd dX9_likes_54
theorem eX9_likes_55 : SiZ nX9_likes 55 (i_iald 51 56) := s_ald (j := 0) (by decide) (fun _ => rfl) dX9_likes_55 (Or.inl ⟨rfl, rfl⟩)
theorem eX9_likes_56 : SiZ nX9_likes 56 (i_istore 4 58) := s_istore dX9_likes_56
theorem eX9_likes_58 : SiZ nX9_likes 58 (i_iload 4 60) := s_iload dX9_likes_58
theorem eX9_likes_60 : SiZ nX9_likes 60 (i_aload 0 61) := s_aload_n dX9_likes_60 rfl
theorem eX9_likes_61 : SiZ nX9_likes 61 (i_getf 81 [9] 64) := s_getf dX9_likes_61 (fm_cons (⟨_, _, _, _, _, _, rfl, fkX9_19_9⟩) (fm_nil))
theorem eX9_likes_64 : SiZ nX9_likes 64 (i_push (.int 8) 66) := s_bipush dX9_likes_64 (by decide)
theorem eX9_likes_66 : SiZ nX9_likes 66 (i_iload 2 67) := s_iload_n dX9_likes_66 rfl
theorem eX9_likes_67 : SiZ nX9_likes 67 (i_bin (fun x y => x + y) 68) := s_iadd dX9_likes_67
theorem eX9_likes_68 : SiZ nX9_likes 68 (i_iald 51 69) := s_ald (j := 0) (by decide) (fun _ => rfl) dX9_likes_68 (Or.inl ⟨rfl, rfl⟩)
theorem eX9_likes_69 : SiZ nX9_likes 69 (i_push (.int 10) 71) := s_bipush dX9_likes_69 (by decide)
theorem eX9_likes_71 : SiZ nX9_likes 71 (i_bing (fun x y => x / y) 72) := s_idiv dX9_likes_71
theorem eX9_likes_72 : SiZ nX9_likes 72 (i_bin (fun x y => x + y) 73) := s_iadd dX9_likes_72
theorem eX9_likes_73 : SiZ nX9_likes 73 (i_iload 3 74) := s_iload_n dX9_likes_73 rfl
theorem eX9_likes_74 : SiZ nX9_likes 74 (i_if (fun x => 0 ≤ x) 82 77) := s_if_ge dX9_likes_74 (by decide)
theorem eX9_likes_77 : SiZ nX9_likes 77 (i_iload 3 78) := s_iload_n dX9_likes_77 rfl
theorem eX9_likes_78 : SiZ nX9_likes 78 (i_un (fun x => -x) 79) := s_ineg dX9_likes_78
theorem eX9_likes_79 : SiZ nX9_likes 79 (i_goto 83) := s_goto dX9_likes_79 (by decide)
theorem eX9_likes_82 : SiZ nX9_likes 82 (i_iload 3 83) := s_iload_n dX9_likes_82 rfl
theorem eX9_likes_83 : SiZ nX9_likes 83 (i_bin (fun x y => x - y) 84) := s_isub dX9_likes_83
theorem eX9_likes_84 : SiZ nX9_likes 84 i_iret := s_iret dX9_likes_84 rfl
theorem aX9_likes : ∀ x ∈ mX9_likes.1, EnZ nX9_likes x := fm_cons eX9_likes_0 (fm_cons eX9_likes_1 (fm_cons eX9_likes_4 (fm_cons eX9_likes_6 (fm_cons eX9_likes_7 (fm_cons eX9_likes_8 (fm_cons eX9_likes_9 (fm_cons eX9_likes_10 (fm_cons eX9_likes_13 (fm_cons eX9_likes_15 (fm_cons eX9_likes_16 (fm_cons eX9_likes_17 (fm_cons eX9_likes_18 (fm_cons eX9_likes_19 (fm_cons eX9_likes_20 (fm_cons eX9_likes_21 (fm_cons eX9_likes_24 (fm_cons eX9_likes_26 (fm_cons eX9_likes_27 (fm_cons eX9_likes_28 (fm_cons eX9_likes_29 (fm_cons eX9_likes_30 (fm_cons eX9_likes_33 (fm_cons eX9_likes_34 (fm_cons eX9_likes_35 (fm_cons eX9_likes_38 (fm_cons eX9_likes_40 (fm_cons eX9_likes_41 (fm_cons eX9_likes_42 (fm_cons eX9_likes_43 (fm_cons eX9_likes_44 (fm_cons eX9_likes_47 (fm_cons eX9_likes_48 (fm_cons eX9_likes_51 (fm_cons eX9_likes_53 (fm_cons eX9_likes_54 (fm_cons eX9_likes_55 (fm_cons eX9_likes_56 (fm_cons eX9_likes_58 (fm_cons eX9_likes_60 (fm_cons eX9_likes_61 (fm_cons eX9_likes_64 (fm_cons eX9_likes_66 (fm_cons eX9_likes_67 (fm_cons eX9_likes_68 (fm_cons eX9_likes_69 (fm_cons eX9_likes_71 (fm_cons eX9_likes_72 (fm_cons eX9_likes_73 (fm_cons eX9_likes_74 (fm_cons eX9_likes_77 (fm_cons eX9_likes_78 (fm_cons eX9_likes_79 (fm_cons eX9_likes_82 (fm_cons eX9_likes_83 (fm_cons eX9_likes_84 (fm_nil))))))))))))))))))))))))))))))))))))))))))))))))))))))))
theorem zX9_likes : SwZ nX9_likes (Mt mX9_likes 5) := wholeZ (mi := nX9_likes) (cd := mX9_likes) aX9_likes rfl (HdZ.none rfl)
abbrev nX9_isShut : MI := (cX9_isShut, 2, (some (.boolean)), RX9, "isShut", [], 1, 25)
theorem hyX9_isShut : yX9_isShut.cls ≠ "java/lang/invoke/MethodHandle" ∧ yX9_isShut.cls ≠ "java/lang/invoke/VarHandle" := by decide +kernel
theorem pnX9_isShut : (parseMethodDescriptor yX9_isShut.desc).map (fun d => d.parameters.length) = some 1 := by decide +kernel
theorem wdX9_isShut : CdW yX9_isShut (nX9_isShut) := ⟨Or.inl ⟨q1463, rfl⟩, rfl, rfl, plainFor_of_name (by decide +kernel)⟩
theorem eX9_isShut_0 : SiZ nX9_isShut 0 (i_aload 0 1) := s_aload_n dX9_isShut_0 rfl
theorem eX9_isShut_1 : SiZ nX9_isShut 1 (i_getf 81 [9] 4) := s_getf dX9_isShut_1 (fm_cons (⟨_, _, _, _, _, _, rfl, fkX9_19_9⟩) (fm_nil))
theorem eX9_isShut_4 : SiZ nX9_isShut 4 (i_push (.int 5) 5) := s_iconst dX9_isShut_4 (by decide)
theorem eX9_isShut_5 : SiZ nX9_isShut 5 (i_iald 51 6) := s_ald (j := 0) (by decide) (fun _ => rfl) dX9_isShut_5 (Or.inl ⟨rfl, rfl⟩)
theorem eX9_isShut_6 : SiZ nX9_isShut 6 (i_aload 0 7) := s_aload_n dX9_isShut_6 rfl
theorem eX9_isShut_7 : SiZ nX9_isShut 7 (i_getf 81 [9] 10) := s_getf dX9_isShut_7 (fm_cons (⟨_, _, _, _, _, _, rfl, fkX9_19_9⟩) (fm_nil))
theorem eX9_isShut_10 : SiZ nX9_isShut 10 (i_push (.int 6) 12) := s_bipush dX9_isShut_10 (by decide)
theorem eX9_isShut_12 : SiZ nX9_isShut 12 (i_iald 51 13) := s_ald (j := 0) (by decide) (fun _ => rfl) dX9_isShut_12 (Or.inl ⟨rfl, rfl⟩)
theorem eX9_isShut_13 : SiZ nX9_isShut 13 (i_bin (fun x y => x ||| y) 14) := s_ior dX9_isShut_13
theorem eX9_isShut_14 : SiZ nX9_isShut 14 (i_iload 1 15) := s_iload_n dX9_isShut_14 rfl
theorem eX9_isShut_15 : ScZ nX9_isShut 15 (c_S 2 18 2 (Mt mX9_has 2)) := e_S (mi := nX9_isShut) (mi' := nX9_has) (len := 3) (fun h as rest hl => cs_S (mi := nX9_isShut) (pc := 15) (y := yX9_has) (idx := 154) dX9_isShut_15 q1440 q1441 q89 q1442 hyX9_has pnX9_has hl) wdX9_has zX9_has (Nat.le_of_ble_eq_true rfl) (Nat.le_of_ble_eq_true rfl)
theorem eX9_isShut_18 : SiZ nX9_isShut 18 i_zret := s_zret dX9_isShut_18 rfl
theorem aX9_isShut : ∀ x ∈ mX9_isShut.1, EnZ nX9_isShut x := fm_cons eX9_isShut_0 (fm_cons eX9_isShut_1 (fm_cons eX9_isShut_4 (fm_cons eX9_isShut_5 (fm_cons eX9_isShut_6 (fm_cons eX9_isShut_7 (fm_cons eX9_isShut_10 (fm_cons eX9_isShut_12 (fm_cons eX9_isShut_13 (fm_cons eX9_isShut_14 (fm_cons eX9_isShut_15 (fm_cons eX9_isShut_18 (fm_nil))))))))))))
theorem zX9_isShut : SwZ nX9_isShut (Mt mX9_isShut 2) := wholeZ (mi := nX9_isShut) (cd := mX9_isShut) aX9_isShut rfl (HdZ.none rfl)
abbrev nX9_likedBy : MI := (cX9_likedBy, 7, (some (.int)), RX9, "likedBy", [], 2, 50)
theorem hyX9_likedBy : yX9_likedBy.cls ≠ "java/lang/invoke/MethodHandle" ∧ yX9_likedBy.cls ≠ "java/lang/invoke/VarHandle" := by decide +kernel
theorem pnX9_likedBy : (parseMethodDescriptor yX9_likedBy.desc).map (fun d => d.parameters.length) = some 1 := by decide +kernel
theorem wdX9_likedBy : CdW yX9_likedBy (nX9_likedBy) := ⟨Or.inl ⟨q1454, rfl⟩, rfl, rfl, plainFor_of_name (by decide +kernel)⟩
theorem eX9_likedBy_0 : SiZ nX9_likedBy 0 (i_push (.int (-1000000)) 2) := s_ldc dX9_likedBy_0 q1455
theorem eX9_likedBy_2 : SiZ nX9_likedBy 2 (i_istore 2 3) := s_istore_n dX9_likedBy_2 rfl
theorem eX9_likedBy_3 : SiZ nX9_likedBy 3 (i_push (.int 0) 4) := s_iconst dX9_likedBy_3 (by decide)
theorem eX9_likedBy_4 : SiZ nX9_likedBy 4 (i_istore 3 5) := s_istore_n dX9_likedBy_4 rfl
theorem eX9_likedBy_5 : SiZ nX9_likedBy 5 (i_push (.int 0) 6) := s_iconst dX9_likedBy_5 (by decide)
theorem eX9_likedBy_6 : SiZ nX9_likedBy 6 (i_istore 4 8) := s_istore dX9_likedBy_6
theorem eX9_likedBy_8 : SiZ nX9_likedBy 8 (i_iload 4 10) := s_iload dX9_likedBy_8
theorem eX9_likedBy_10 : SiZ nX9_likedBy 10 (i_aload 0 11) := s_aload_n dX9_likedBy_10 rfl
theorem eX9_likedBy_11 : SiZ nX9_likedBy 11 (i_getf 81 [9] 14) := s_getf dX9_likedBy_11 (fm_cons (⟨_, _, _, _, _, _, rfl, fkX9_19_9⟩) (fm_nil))
theorem eX9_likedBy_14 : SiZ nX9_likedBy 14 (i_push (.int 0) 15) := s_iconst dX9_likedBy_14 (by decide)
theorem eX9_likedBy_15 : SiZ nX9_likedBy 15 (i_iald 51 16) := s_ald (j := 0) (by decide) (fun _ => rfl) dX9_likedBy_15 (Or.inl ⟨rfl, rfl⟩)
theorem eX9_likedBy_16 : SiZ nX9_likedBy 16 (i_icmp (fun x y => y ≤ x) 93 19) := s_icmp_ge dX9_likedBy_16 (by decide)
theorem eX9_likedBy_19 : SiZ nX9_likedBy 19 (i_aload 0 20) := s_aload_n dX9_likedBy_19 rfl
theorem eX9_likedBy_20 : SiZ nX9_likedBy 20 (i_getf 81 [9] 23) := s_getf dX9_likedBy_20 (fm_cons (⟨_, _, _, _, _, _, rfl, fkX9_19_9⟩) (fm_nil))
theorem eX9_likedBy_23 : SiZ nX9_likedBy 23 (i_push (.int 26) 25) := s_bipush dX9_likedBy_23 (by decide)
theorem eX9_likedBy_25 : SiZ nX9_likedBy 25 (i_iload 1 26) := s_iload_n dX9_likedBy_25 rfl
theorem eX9_likedBy_26 : SiZ nX9_likedBy 26 (i_bin (fun x y => x + y) 27) := s_iadd dX9_likedBy_26
theorem eX9_likedBy_27 : SiZ nX9_likedBy 27 (i_iald 51 28) := s_ald (j := 0) (by decide) (fun _ => rfl) dX9_likedBy_27 (Or.inl ⟨rfl, rfl⟩)
theorem eX9_likedBy_28 : SiZ nX9_likedBy 28 (i_push (.int 4) 29) := s_iconst dX9_likedBy_28 (by decide)
theorem eX9_likedBy_29 : SiZ nX9_likedBy 29 (i_icmp (fun x y => y ≤ x) 93 32) := s_icmp_ge dX9_likedBy_29 (by decide)
theorem eX9_likedBy_32 : SiZ nX9_likedBy 32 (i_aload 0 33) := s_aload_n dX9_likedBy_32 rfl
theorem eX9_likedBy_33 : SiZ nX9_likedBy 33 (i_iload 4 35) := s_iload dX9_likedBy_33
theorem eX9_likedBy_35 : ScZ nX9_likedBy 35 (c_V 1 38 3 9 (Mt mX9_bookAt 3)) := e_V (mi := nX9_likedBy) (mi' := nX9_bookAt) (len := 3) (fun h b as rest hk hl => cs_V (ci := 8) (mi := nX9_likedBy) (pc := 35) (y := yX9_bookAt) (idx := 159) dX9_likedBy_35 q1447 q1449 qs47 rfl hk hyX9_bookAt (sigC q1450) pnX9_bookAt hl) wdX9_bookAt zX9_bookAt (Nat.le_of_ble_eq_true rfl) (Nat.le_of_ble_eq_true rfl)
theorem eX9_likedBy_38 : SiZ nX9_likedBy 38 (i_istore 5 40) := s_istore dX9_likedBy_38
theorem eX9_likedBy_40 : SiZ nX9_likedBy 40 (i_aload 0 41) := s_aload_n dX9_likedBy_40 rfl
theorem eX9_likedBy_41 : SiZ nX9_likedBy 41 (i_iload 1 42) := s_iload_n dX9_likedBy_41 rfl
theorem eX9_likedBy_42 : SiZ nX9_likedBy 42 (i_iload 5 44) := s_iload dX9_likedBy_42
theorem eX9_likedBy_44 : ScZ nX9_likedBy 44 (c_V 2 47 5 9 (Mt mX9_likes 5)) := e_V (mi := nX9_likedBy) (mi' := nX9_likes) (len := 3) (fun h b as rest hk hl => cs_V (ci := 8) (mi := nX9_likedBy) (pc := 44) (y := yX9_likes) (idx := 162) dX9_likedBy_44 q1456 q1458 qs49 rfl hk hyX9_likes (sigC q1459) pnX9_likes hl) wdX9_likes zX9_likes (Nat.le_of_ble_eq_true rfl) (Nat.le_of_ble_eq_true rfl)
theorem eX9_likedBy_47 : SiZ nX9_likedBy 47 (i_istore 6 49) := s_istore dX9_likedBy_47
theorem eX9_likedBy_49 : SiZ nX9_likedBy 49 (i_aload 0 50) := s_aload_n dX9_likedBy_49 rfl
theorem eX9_likedBy_50 : SiZ nX9_likedBy 50 (i_iload 5 52) := s_iload dX9_likedBy_50
theorem eX9_likedBy_52 : ScZ nX9_likedBy 52 (c_V 1 55 2 9 (Mt mX9_isShut 2)) := e_V (mi := nX9_likedBy) (mi' := nX9_isShut) (len := 3) (fun h b as rest hk hl => cs_V (ci := 8) (mi := nX9_likedBy) (pc := 52) (y := yX9_isShut) (idx := 165) dX9_likedBy_52 q1460 q1462 qs50 rfl hk hyX9_isShut (sigC q1463) pnX9_isShut hl) wdX9_isShut zX9_isShut (Nat.le_of_ble_eq_true rfl) (Nat.le_of_ble_eq_true rfl)
theorem eX9_likedBy_55 : SiZ nX9_likedBy 55 (i_if (fun x => ¬ x = 0) 87 58) := s_if_ne dX9_likedBy_55 (by decide)
theorem eX9_likedBy_58 : SiZ nX9_likedBy 58 (i_aload 0 59) := s_aload_n dX9_likedBy_58 rfl
theorem eX9_likedBy_59 : SiZ nX9_likedBy 59 (i_getf 81 [9] 62) := s_getf dX9_likedBy_59 (fm_cons (⟨_, _, _, _, _, _, rfl, fkX9_19_9⟩) (fm_nil))
theorem eX9_likedBy_62 : SiZ nX9_likedBy 62 (i_push (.int 8) 64) := s_bipush dX9_likedBy_62 (by decide)
theorem eX9_likedBy_64 : SiZ nX9_likedBy 64 (i_iload 5 66) := s_iload dX9_likedBy_64
theorem eX9_likedBy_66 : SiZ nX9_likedBy 66 (i_bin (fun x y => x + y) 67) := s_iadd dX9_likedBy_66
theorem eX9_likedBy_67 : SiZ nX9_likedBy 67 (i_iald 51 68) := s_ald (j := 0) (by decide) (fun _ => rfl) dX9_likedBy_67 (Or.inl ⟨rfl, rfl⟩)
theorem eX9_likedBy_68 : SiZ nX9_likedBy 68 (i_if (fun x => x ≤ 0) 87 71) := s_if_le dX9_likedBy_68 (by decide)
theorem eX9_likedBy_71 : SiZ nX9_likedBy 71 (i_iload 2 72) := s_iload_n dX9_likedBy_71 rfl
theorem eX9_likedBy_72 : SiZ nX9_likedBy 72 (i_if (fun x => x < 0) 81 75) := s_if_lt dX9_likedBy_72 (by decide)
theorem eX9_likedBy_75 : SiZ nX9_likedBy 75 (i_iload 6 77) := s_iload dX9_likedBy_75
theorem eX9_likedBy_77 : SiZ nX9_likedBy 77 (i_iload 3 78) := s_iload_n dX9_likedBy_77 rfl
theorem eX9_likedBy_78 : SiZ nX9_likedBy 78 (i_icmp (fun x y => x ≤ y) 87 81) := s_icmp_le dX9_likedBy_78 (by decide)
theorem eX9_likedBy_81 : SiZ nX9_likedBy 81 (i_iload 4 83) := s_iload dX9_likedBy_81
theorem eX9_likedBy_83 : SiZ nX9_likedBy 83 (i_istore 2 84) := s_istore_n dX9_likedBy_83 rfl
theorem eX9_likedBy_84 : SiZ nX9_likedBy 84 (i_iload 6 86) := s_iload dX9_likedBy_84
theorem eX9_likedBy_86 : SiZ nX9_likedBy 86 (i_istore 3 87) := s_istore_n dX9_likedBy_86 rfl
theorem eX9_likedBy_87 : SiZ nX9_likedBy 87 (i_iinc 4 1 90) := s_iinc dX9_likedBy_87 (by decide)
theorem eX9_likedBy_90 : SiZ nX9_likedBy 90 (i_goto 8) := s_goto dX9_likedBy_90 (by decide)
theorem eX9_likedBy_93 : SiZ nX9_likedBy 93 (i_iload 2 94) := s_iload_n dX9_likedBy_93 rfl
theorem eX9_likedBy_94 : SiZ nX9_likedBy 94 i_iret := s_iret dX9_likedBy_94 rfl
theorem aX9_likedBy : ∀ x ∈ mX9_likedBy.1, EnZ nX9_likedBy x := fm_cons eX9_likedBy_0 (fm_cons eX9_likedBy_2 (fm_cons eX9_likedBy_3 (fm_cons eX9_likedBy_4 (fm_cons eX9_likedBy_5 (fm_cons eX9_likedBy_6 (fm_cons eX9_likedBy_8 (fm_cons eX9_likedBy_10 (fm_cons eX9_likedBy_11 (fm_cons eX9_likedBy_14 (fm_cons eX9_likedBy_15 (fm_cons eX9_likedBy_16 (fm_cons eX9_likedBy_19 (fm_cons eX9_likedBy_20 (fm_cons eX9_likedBy_23 (fm_cons eX9_likedBy_25 (fm_cons eX9_likedBy_26 (fm_cons eX9_likedBy_27 (fm_cons eX9_likedBy_28 (fm_cons eX9_likedBy_29 (fm_cons eX9_likedBy_32 (fm_cons eX9_likedBy_33 (fm_cons eX9_likedBy_35 (fm_cons eX9_likedBy_38 (fm_cons eX9_likedBy_40 (fm_cons eX9_likedBy_41 (fm_cons eX9_likedBy_42 (fm_cons eX9_likedBy_44 (fm_cons eX9_likedBy_47 (fm_cons eX9_likedBy_49 (fm_cons eX9_likedBy_50 (fm_cons eX9_likedBy_52 (fm_cons eX9_likedBy_55 (fm_cons eX9_likedBy_58 (fm_cons eX9_likedBy_59 (fm_cons eX9_likedBy_62 (fm_cons eX9_likedBy_64 (fm_cons eX9_likedBy_66 (fm_cons eX9_likedBy_67 (fm_cons eX9_likedBy_68 (fm_cons eX9_likedBy_71 (fm_cons eX9_likedBy_72 (fm_cons eX9_likedBy_75 (fm_cons eX9_likedBy_77 (fm_cons eX9_likedBy_78 (fm_cons eX9_likedBy_81 (fm_cons eX9_likedBy_83 (fm_cons eX9_likedBy_84 (fm_cons eX9_likedBy_86 (fm_cons eX9_likedBy_87 (fm_cons eX9_likedBy_90 (fm_cons eX9_likedBy_93 (fm_cons eX9_likedBy_94 (fm_nil)))))))))))))))))))))))))))))))))))))))))))))))))))))
theorem zX9_likedBy : SwZ nX9_likedBy (Mt mX9_likedBy 7) := wholeZ (mi := nX9_likedBy) (cd := mX9_likedBy) aX9_likedBy rfl (HdZ.none rfl)
abbrev nX9_goesTo : MI := (cX9_goesTo, 6, (some (.int)), RX9, "goesTo", [], 3, 80)
theorem hyX9_goesTo : yX9_goesTo.cls ≠ "java/lang/invoke/MethodHandle" ∧ yX9_goesTo.cls ≠ "java/lang/invoke/VarHandle" := by decide +kernel
theorem pnX9_goesTo : (parseMethodDescriptor yX9_goesTo.desc).map (fun d => d.parameters.length) = some 1 := by decide +kernel
theorem wdX9_goesTo : CdW yX9_goesTo (nX9_goesTo) := ⟨Or.inl ⟨q1446, rfl⟩, rfl, rfl, plainFor_of_name (by decide +kernel)⟩
theorem eX9_goesTo_0 : SiZ nX9_goesTo 0 (i_aload 0 1) := s_aload_n dX9_goesTo_0 rfl
theorem eX9_goesTo_1 : SiZ nX9_goesTo 1 (i_getf 81 [9] 4) := s_getf dX9_goesTo_1 (fm_cons (⟨_, _, _, _, _, _, rfl, fkX9_19_9⟩) (fm_nil))
theorem eX9_goesTo_4 : SiZ nX9_goesTo 4 (i_push (.int 31) 6) := s_bipush dX9_goesTo_4 (by decide)
theorem eX9_goesTo_6 : SiZ nX9_goesTo 6 (i_iload 1 7) := s_iload_n dX9_goesTo_6 rfl
theorem eX9_goesTo_7 : SiZ nX9_goesTo 7 (i_bin (fun x y => x + y) 8) := s_iadd dX9_goesTo_7
theorem eX9_goesTo_8 : SiZ nX9_goesTo 8 (i_iald 51 9) := s_ald (j := 0) (by decide) (fun _ => rfl) dX9_goesTo_8 (Or.inl ⟨rfl, rfl⟩)
theorem eX9_goesTo_9 : SiZ nX9_goesTo 9 (i_istore 2 10) := s_istore_n dX9_goesTo_9 rfl
theorem eX9_goesTo_10 : SiZ nX9_goesTo 10 (i_aload 0 11) := s_aload_n dX9_goesTo_10 rfl
theorem eX9_goesTo_11 : SiZ nX9_goesTo 11 (i_iload 2 12) := s_iload_n dX9_goesTo_11 rfl
theorem eX9_goesTo_12 : ScZ nX9_goesTo 12 (c_V 1 15 3 9 (Mt mX9_bookAt 3)) := e_V (mi := nX9_goesTo) (mi' := nX9_bookAt) (len := 3) (fun h b as rest hk hl => cs_V (ci := 8) (mi := nX9_goesTo) (pc := 12) (y := yX9_bookAt) (idx := 159) dX9_goesTo_12 q1447 q1449 qs47 rfl hk hyX9_bookAt (sigC q1450) pnX9_bookAt hl) wdX9_bookAt zX9_bookAt (Nat.le_of_ble_eq_true rfl) (Nat.le_of_ble_eq_true rfl)
theorem eX9_goesTo_15 : SiZ nX9_goesTo 15 (i_istore 3 16) := s_istore_n dX9_goesTo_15 rfl
theorem eX9_goesTo_16 : SiZ nX9_goesTo 16 (i_aload 0 17) := s_aload_n dX9_goesTo_16 rfl
theorem eX9_goesTo_17 : SiZ nX9_goesTo 17 (i_getf 81 [9] 20) := s_getf dX9_goesTo_17 (fm_cons (⟨_, _, _, _, _, _, rfl, fkX9_19_9⟩) (fm_nil))
theorem eX9_goesTo_20 : SiZ nX9_goesTo 20 (i_push (.int 26) 22) := s_bipush dX9_goesTo_20 (by decide)
theorem eX9_goesTo_22 : SiZ nX9_goesTo 22 (i_iload 1 23) := s_iload_n dX9_goesTo_22 rfl
theorem eX9_goesTo_23 : SiZ nX9_goesTo 23 (i_bin (fun x y => x + y) 24) := s_iadd dX9_goesTo_23
theorem eX9_goesTo_24 : SiZ nX9_goesTo 24 (i_iald 51 25) := s_ald (j := 0) (by decide) (fun _ => rfl) dX9_goesTo_24 (Or.inl ⟨rfl, rfl⟩)
theorem eX9_goesTo_25 : SiZ nX9_goesTo 25 (i_istore 4 27) := s_istore dX9_goesTo_25
theorem eX9_goesTo_27 : SiZ nX9_goesTo 27 (i_iload 4 29) := s_iload dX9_goesTo_27
theorem eX9_goesTo_29 : SiZ nX9_goesTo 29 (i_push (.int 3) 30) := s_iconst dX9_goesTo_29 (by decide)
theorem eX9_goesTo_30 : SiZ nX9_goesTo 30 (i_icmp (fun x y => ¬ x = y) 57 33) := s_icmp_ne dX9_goesTo_30 (by decide)
theorem eX9_goesTo_33 : SiZ nX9_goesTo 33 (i_aload 0 34) := s_aload_n dX9_goesTo_33 rfl
theorem eX9_goesTo_34 : SiZ nX9_goesTo 34 (i_getf 81 [9] 37) := s_getf dX9_goesTo_34 (fm_cons (⟨_, _, _, _, _, _, rfl, fkX9_19_9⟩) (fm_nil))
theorem eX9_goesTo_37 : SiZ nX9_goesTo 37 (i_push (.int 5) 38) := s_iconst dX9_goesTo_37 (by decide)
theorem eX9_goesTo_38 : SiZ nX9_goesTo 38 (i_iald 51 39) := s_ald (j := 0) (by decide) (fun _ => rfl) dX9_goesTo_38 (Or.inl ⟨rfl, rfl⟩)
theorem eX9_goesTo_39 : SiZ nX9_goesTo 39 (i_iload 3 40) := s_iload_n dX9_goesTo_39 rfl
theorem eX9_goesTo_40 : ScZ nX9_goesTo 40 (c_S 2 43 2 (Mt mX9_has 2)) := e_S (mi := nX9_goesTo) (mi' := nX9_has) (len := 3) (fun h as rest hl => cs_S (mi := nX9_goesTo) (pc := 40) (y := yX9_has) (idx := 154) dX9_goesTo_40 q1440 q1441 q89 q1442 hyX9_has pnX9_has hl) wdX9_has zX9_has (Nat.le_of_ble_eq_true rfl) (Nat.le_of_ble_eq_true rfl)
theorem eX9_goesTo_43 : SiZ nX9_goesTo 43 (i_if (fun x => x = 0) 57 46) := s_if_eq dX9_goesTo_43 (by decide)
theorem eX9_goesTo_46 : SiZ nX9_goesTo 46 (i_iload 2 47) := s_iload_n dX9_goesTo_46 rfl
theorem eX9_goesTo_47 : SiZ nX9_goesTo 47 (i_push (.int 2) 48) := s_iconst dX9_goesTo_47 (by decide)
theorem eX9_goesTo_48 : SiZ nX9_goesTo 48 (i_bin (fun x y => x + y) 49) := s_iadd dX9_goesTo_48
theorem eX9_goesTo_49 : SiZ nX9_goesTo 49 (i_aload 0 50) := s_aload_n dX9_goesTo_49 rfl
theorem eX9_goesTo_50 : SiZ nX9_goesTo 50 (i_getf 81 [9] 53) := s_getf dX9_goesTo_50 (fm_cons (⟨_, _, _, _, _, _, rfl, fkX9_19_9⟩) (fm_nil))
theorem eX9_goesTo_53 : SiZ nX9_goesTo 53 (i_push (.int 0) 54) := s_iconst dX9_goesTo_53 (by decide)
theorem eX9_goesTo_54 : SiZ nX9_goesTo 54 (i_iald 51 55) := s_ald (j := 0) (by decide) (fun _ => rfl) dX9_goesTo_54 (Or.inl ⟨rfl, rfl⟩)
theorem eX9_goesTo_55 : SiZ nX9_goesTo 55 (i_bing (fun x y => x - x / y * y) 56) := s_irem dX9_goesTo_55
theorem eX9_goesTo_56 : SiZ nX9_goesTo 56 i_iret := s_iret dX9_goesTo_56 rfl
theorem eX9_goesTo_57 : SiZ nX9_goesTo 57 (i_iload 4 59) := s_iload dX9_goesTo_57
theorem eX9_goesTo_59 : SiZ nX9_goesTo 59 (i_push (.int 4) 60) := s_iconst dX9_goesTo_59 (by decide)
theorem eX9_goesTo_60 : SiZ nX9_goesTo 60 (i_icmp (fun x y => y ≤ x) 101 63) := s_icmp_ge dX9_goesTo_60 (by decide)
theorem eX9_goesTo_63 : SiZ nX9_goesTo 63 (i_aload 0 64) := s_aload_n dX9_goesTo_63 rfl
theorem eX9_goesTo_64 : SiZ nX9_goesTo 64 (i_iload 1 65) := s_iload_n dX9_goesTo_64 rfl
theorem eX9_goesTo_65 : ScZ nX9_goesTo 65 (c_V 1 68 7 9 (Mt mX9_likedBy 7)) := e_V (mi := nX9_goesTo) (mi' := nX9_likedBy) (len := 3) (fun h b as rest hk hl => cs_V (ci := 8) (mi := nX9_goesTo) (pc := 65) (y := yX9_likedBy) (idx := 168) dX9_goesTo_65 q1451 q1453 qs48 rfl hk hyX9_likedBy (sigC q1454) pnX9_likedBy hl) wdX9_likedBy zX9_likedBy (Nat.le_of_ble_eq_true rfl) (Nat.le_of_ble_eq_true rfl)
theorem eX9_goesTo_68 : SiZ nX9_goesTo 68 (i_istore 5 70) := s_istore dX9_goesTo_68
theorem eX9_goesTo_70 : SiZ nX9_goesTo 70 (i_iload 5 72) := s_iload dX9_goesTo_70
theorem eX9_goesTo_72 : SiZ nX9_goesTo 72 (i_if (fun x => x < 0) 81 75) := s_if_lt dX9_goesTo_72 (by decide)
theorem eX9_goesTo_75 : SiZ nX9_goesTo 75 (i_iload 5 77) := s_iload dX9_goesTo_75
theorem eX9_goesTo_77 : SiZ nX9_goesTo 77 (i_iload 2 78) := s_iload_n dX9_goesTo_77 rfl
theorem eX9_goesTo_78 : SiZ nX9_goesTo 78 (i_icmp (fun x y => ¬ x = y) 85 81) := s_icmp_ne dX9_goesTo_78 (by decide)
theorem eX9_goesTo_81 : SiZ nX9_goesTo 81 (i_iload 2 82) := s_iload_n dX9_goesTo_81 rfl
theorem eX9_goesTo_82 : SiZ nX9_goesTo 82 (i_goto 100) := s_goto dX9_goesTo_82 (by decide)
theorem eX9_goesTo_85 : SiZ nX9_goesTo 85 (i_iload 5 87) := s_iload dX9_goesTo_85
theorem eX9_goesTo_87 : SiZ nX9_goesTo 87 (i_iload 2 88) := s_iload_n dX9_goesTo_87 rfl
theorem eX9_goesTo_88 : SiZ nX9_goesTo 88 (i_icmp (fun x y => x ≤ y) 97 91) := s_icmp_le dX9_goesTo_88 (by decide)
theorem eX9_goesTo_91 : SiZ nX9_goesTo 91 (i_iload 2 92) := s_iload_n dX9_goesTo_91 rfl
theorem eX9_goesTo_92 : SiZ nX9_goesTo 92 (i_push (.int 1) 93) := s_iconst dX9_goesTo_92 (by decide)
theorem eX9_goesTo_93 : SiZ nX9_goesTo 93 (i_bin (fun x y => x + y) 94) := s_iadd dX9_goesTo_93
theorem eX9_goesTo_94 : SiZ nX9_goesTo 94 (i_goto 100) := s_goto dX9_goesTo_94 (by decide)
theorem eX9_goesTo_97 : SiZ nX9_goesTo 97 (i_iload 2 98) := s_iload_n dX9_goesTo_97 rfl
theorem eX9_goesTo_98 : SiZ nX9_goesTo 98 (i_push (.int 1) 99) := s_iconst dX9_goesTo_98 (by decide)
theorem eX9_goesTo_99 : SiZ nX9_goesTo 99 (i_bin (fun x y => x - y) 100) := s_isub dX9_goesTo_99
theorem eX9_goesTo_100 : SiZ nX9_goesTo 100 i_iret := s_iret dX9_goesTo_100 rfl
theorem eX9_goesTo_101 : SiZ nX9_goesTo 101 (i_iload 4 103) := s_iload dX9_goesTo_101
theorem eX9_goesTo_103 : SiZ nX9_goesTo 103 (i_push (.int 4) 104) := s_iconst dX9_goesTo_103 (by decide)
theorem eX9_goesTo_104 : SiZ nX9_goesTo 104 (i_icmp (fun x y => x = y) 127 107) := s_icmp_eq dX9_goesTo_104 (by decide)
theorem eX9_goesTo_107 : SiZ nX9_goesTo 107 (i_aload 0 108) := s_aload_n dX9_goesTo_107 rfl
theorem eX9_goesTo_108 : SiZ nX9_goesTo 108 (i_iload 3 109) := s_iload_n dX9_goesTo_108 rfl
theorem eX9_goesTo_109 : ScZ nX9_goesTo 109 (c_V 1 112 2 9 (Mt mX9_isShut 2)) := e_V (mi := nX9_goesTo) (mi' := nX9_isShut) (len := 3) (fun h b as rest hk hl => cs_V (ci := 8) (mi := nX9_goesTo) (pc := 109) (y := yX9_isShut) (idx := 165) dX9_goesTo_109 q1460 q1462 qs50 rfl hk hyX9_isShut (sigC q1463) pnX9_isShut hl) wdX9_isShut zX9_isShut (Nat.le_of_ble_eq_true rfl) (Nat.le_of_ble_eq_true rfl)
theorem eX9_goesTo_112 : SiZ nX9_goesTo 112 (i_if (fun x => ¬ x = 0) 127 115) := s_if_ne dX9_goesTo_112 (by decide)
theorem eX9_goesTo_115 : SiZ nX9_goesTo 115 (i_aload 0 116) := s_aload_n dX9_goesTo_115 rfl
theorem eX9_goesTo_116 : SiZ nX9_goesTo 116 (i_getf 81 [9] 119) := s_getf dX9_goesTo_116 (fm_cons (⟨_, _, _, _, _, _, rfl, fkX9_19_9⟩) (fm_nil))
theorem eX9_goesTo_119 : SiZ nX9_goesTo 119 (i_push (.int 8) 121) := s_bipush dX9_goesTo_119 (by decide)
theorem eX9_goesTo_121 : SiZ nX9_goesTo 121 (i_iload 3 122) := s_iload_n dX9_goesTo_121 rfl
theorem eX9_goesTo_122 : SiZ nX9_goesTo 122 (i_bin (fun x y => x + y) 123) := s_iadd dX9_goesTo_122
theorem eX9_goesTo_123 : SiZ nX9_goesTo 123 (i_iald 51 124) := s_ald (j := 0) (by decide) (fun _ => rfl) dX9_goesTo_123 (Or.inl ⟨rfl, rfl⟩)
theorem eX9_goesTo_124 : SiZ nX9_goesTo 124 (i_if (fun x => ¬ x = 0) 140 127) := s_if_ne dX9_goesTo_124 (by decide)
theorem eX9_goesTo_127 : SiZ nX9_goesTo 127 (i_iload 2 128) := s_iload_n dX9_goesTo_127 rfl
theorem eX9_goesTo_128 : SiZ nX9_goesTo 128 (i_push (.int 1) 129) := s_iconst dX9_goesTo_128 (by decide)
theorem eX9_goesTo_129 : SiZ nX9_goesTo 129 (i_bin (fun x y => x + y) 130) := s_iadd dX9_goesTo_129
theorem eX9_goesTo_130 : SiZ nX9_goesTo 130 (i_aload 0 131) := s_aload_n dX9_goesTo_130 rfl
theorem eX9_goesTo_131 : SiZ nX9_goesTo 131 (i_getf 81 [9] 134) := s_getf dX9_goesTo_131 (fm_cons (⟨_, _, _, _, _, _, rfl, fkX9_19_9⟩) (fm_nil))
theorem eX9_goesTo_134 : SiZ nX9_goesTo 134 (i_push (.int 0) 135) := s_iconst dX9_goesTo_134 (by decide)
theorem eX9_goesTo_135 : SiZ nX9_goesTo 135 (i_iald 51 136) := s_ald (j := 0) (by decide) (fun _ => rfl) dX9_goesTo_135 (Or.inl ⟨rfl, rfl⟩)
theorem eX9_goesTo_136 : SiZ nX9_goesTo 136 (i_bing (fun x y => x - x / y * y) 137) := s_irem dX9_goesTo_136
theorem eX9_goesTo_137 : SiZ nX9_goesTo 137 (i_goto 141) := s_goto dX9_goesTo_137 (by decide)
theorem eX9_goesTo_140 : SiZ nX9_goesTo 140 (i_iload 2 141) := s_iload_n dX9_goesTo_140 rfl
theorem eX9_goesTo_141 : SiZ nX9_goesTo 141 i_iret := s_iret dX9_goesTo_141 rfl
theorem aX9_goesTo : ∀ x ∈ mX9_goesTo.1, EnZ nX9_goesTo x := fm_cons eX9_goesTo_0 (fm_cons eX9_goesTo_1 (fm_cons eX9_goesTo_4 (fm_cons eX9_goesTo_6 (fm_cons eX9_goesTo_7 (fm_cons eX9_goesTo_8 (fm_cons eX9_goesTo_9 (fm_cons eX9_goesTo_10 (fm_cons eX9_goesTo_11 (fm_cons eX9_goesTo_12 (fm_cons eX9_goesTo_15 (fm_cons eX9_goesTo_16 (fm_cons eX9_goesTo_17 (fm_cons eX9_goesTo_20 (fm_cons eX9_goesTo_22 (fm_cons eX9_goesTo_23 (fm_cons eX9_goesTo_24 (fm_cons eX9_goesTo_25 (fm_cons eX9_goesTo_27 (fm_cons eX9_goesTo_29 (fm_cons eX9_goesTo_30 (fm_cons eX9_goesTo_33 (fm_cons eX9_goesTo_34 (fm_cons eX9_goesTo_37 (fm_cons eX9_goesTo_38 (fm_cons eX9_goesTo_39 (fm_cons eX9_goesTo_40 (fm_cons eX9_goesTo_43 (fm_cons eX9_goesTo_46 (fm_cons eX9_goesTo_47 (fm_cons eX9_goesTo_48 (fm_cons eX9_goesTo_49 (fm_cons eX9_goesTo_50 (fm_cons eX9_goesTo_53 (fm_cons eX9_goesTo_54 (fm_cons eX9_goesTo_55 (fm_cons eX9_goesTo_56 (fm_cons eX9_goesTo_57 (fm_cons eX9_goesTo_59 (fm_cons eX9_goesTo_60 (fm_cons eX9_goesTo_63 (fm_cons eX9_goesTo_64 (fm_cons eX9_goesTo_65 (fm_cons eX9_goesTo_68 (fm_cons eX9_goesTo_70 (fm_cons eX9_goesTo_72 (fm_cons eX9_goesTo_75 (fm_cons eX9_goesTo_77 (fm_cons eX9_goesTo_78 (fm_cons eX9_goesTo_81 (fm_cons eX9_goesTo_82 (fm_cons eX9_goesTo_85 (fm_cons eX9_goesTo_87 (fm_cons eX9_goesTo_88 (fm_cons eX9_goesTo_91 (fm_cons eX9_goesTo_92 (fm_cons eX9_goesTo_93 (fm_cons eX9_goesTo_94 (fm_cons eX9_goesTo_97 (fm_cons eX9_goesTo_98 (fm_cons eX9_goesTo_99 (fm_cons eX9_goesTo_100 (fm_cons eX9_goesTo_101 (fm_cons eX9_goesTo_103 (fm_cons eX9_goesTo_104 (fm_cons eX9_goesTo_107 (fm_cons eX9_goesTo_108 (fm_cons eX9_goesTo_109 (fm_cons eX9_goesTo_112 (fm_cons eX9_goesTo_115 (fm_cons eX9_goesTo_116 (fm_cons eX9_goesTo_119 (fm_cons eX9_goesTo_121 (fm_cons eX9_goesTo_122 (fm_cons eX9_goesTo_123 (fm_cons eX9_goesTo_124 (fm_cons eX9_goesTo_127 (fm_cons eX9_goesTo_128 (fm_cons eX9_goesTo_129 (fm_cons eX9_goesTo_130 (fm_cons eX9_goesTo_131 (fm_cons eX9_goesTo_134 (fm_cons eX9_goesTo_135 (fm_cons eX9_goesTo_136 (fm_cons eX9_goesTo_137 (fm_cons eX9_goesTo_140 (fm_cons eX9_goesTo_141 (fm_nil)))))))))))))))))))))))))))))))))))))))))))))))))))))))))))))))))))))))))))))))))))))))
theorem zX9_goesTo : SwZ nX9_goesTo (Mt mX9_goesTo 6) := wholeZ (mi := nX9_goesTo) (cd := mX9_goesTo) aX9_goesTo rfl (HdZ.none rfl)
abbrev nX9_eats : MI := (cX9_eats, 4, none, RX9, "eats", [], 2, 50)
theorem hyX9_eats : yX9_eats.cls ≠ "java/lang/invoke/MethodHandle" ∧ yX9_eats.cls ≠ "java/lang/invoke/VarHandle" := by decide +kernel
theorem pnX9_eats : (parseMethodDescriptor yX9_eats.desc).map (fun d => d.parameters.length) = some 1 := by decide +kernel
theorem wdX9_eats : CdW yX9_eats (nX9_eats) := ⟨Or.inl ⟨q1467, rfl⟩, rfl, rfl, plainFor_of_name (by decide +kernel)⟩
theorem eX9_eats_0 : SiZ nX9_eats 0 (i_aload 0 1) := s_aload_n dX9_eats_0 rfl
theorem eX9_eats_1 : SiZ nX9_eats 1 (i_aload 0 2) := s_aload_n dX9_eats_1 rfl
theorem eX9_eats_2 : SiZ nX9_eats 2 (i_getf 81 [9] 5) := s_getf dX9_eats_2 (fm_cons (⟨_, _, _, _, _, _, rfl, fkX9_19_9⟩) (fm_nil))
theorem eX9_eats_5 : SiZ nX9_eats 5 (i_push (.int 31) 7) := s_bipush dX9_eats_5 (by decide)
theorem eX9_eats_7 : SiZ nX9_eats 7 (i_iload 1 8) := s_iload_n dX9_eats_7 rfl
theorem eX9_eats_8 : SiZ nX9_eats 8 (i_bin (fun x y => x + y) 9) := s_iadd dX9_eats_8
theorem eX9_eats_9 : SiZ nX9_eats 9 (i_iald 51 10) := s_ald (j := 0) (by decide) (fun _ => rfl) dX9_eats_9 (Or.inl ⟨rfl, rfl⟩)
theorem eX9_eats_10 : ScZ nX9_eats 10 (c_V 1 13 3 9 (Mt mX9_bookAt 3)) := e_V (mi := nX9_eats) (mi' := nX9_bookAt) (len := 3) (fun h b as rest hk hl => cs_V (ci := 8) (mi := nX9_eats) (pc := 10) (y := yX9_bookAt) (idx := 159) dX9_eats_10 q1447 q1449 qs47 rfl hk hyX9_bookAt (sigC q1450) pnX9_bookAt hl) wdX9_bookAt zX9_bookAt (Nat.le_of_ble_eq_true rfl) (Nat.le_of_ble_eq_true rfl)
theorem eX9_eats_13 : SiZ nX9_eats 13 (i_istore 2 14) := s_istore_n dX9_eats_13 rfl
theorem eX9_eats_14 : SiZ nX9_eats 14 (i_aload 0 15) := s_aload_n dX9_eats_14 rfl
theorem eX9_eats_15 : SiZ nX9_eats 15 (i_iload 2 16) := s_iload_n dX9_eats_15 rfl
theorem eX9_eats_16 : ScZ nX9_eats 16 (c_V 1 19 2 9 (Mt mX9_isShut 2)) := e_V (mi := nX9_eats) (mi' := nX9_isShut) (len := 3) (fun h b as rest hk hl => cs_V (ci := 8) (mi := nX9_eats) (pc := 16) (y := yX9_isShut) (idx := 165) dX9_eats_16 q1460 q1462 qs50 rfl hk hyX9_isShut (sigC q1463) pnX9_isShut hl) wdX9_isShut zX9_isShut (Nat.le_of_ble_eq_true rfl) (Nat.le_of_ble_eq_true rfl)
theorem eX9_eats_19 : SiZ nX9_eats 19 (i_if (fun x => x = 0) 26 22) := s_if_eq dX9_eats_19 (by decide)
theorem eX9_eats_22 : SiZ nX9_eats 22 (i_push (.int 0) 23) := s_iconst dX9_eats_22 (by decide)
theorem eX9_eats_23 : SiZ nX9_eats 23 (i_goto 62) := s_goto dX9_eats_23 (by decide)
theorem eX9_eats_26 : SiZ nX9_eats 26 (i_aload 0 27) := s_aload_n dX9_eats_26 rfl
theorem eX9_eats_27 : SiZ nX9_eats 27 (i_getf 81 [9] 30) := s_getf dX9_eats_27 (fm_cons (⟨_, _, _, _, _, _, rfl, fkX9_19_9⟩) (fm_nil))
theorem eX9_eats_30 : SiZ nX9_eats 30 (i_push (.int 8) 32) := s_bipush dX9_eats_30 (by decide)
theorem eX9_eats_32 : SiZ nX9_eats 32 (i_iload 2 33) := s_iload_n dX9_eats_32 rfl
theorem eX9_eats_33 : SiZ nX9_eats 33 (i_bin (fun x y => x + y) 34) := s_iadd dX9_eats_33
theorem eX9_eats_34 : SiZ nX9_eats 34 (i_iald 51 35) := s_ald (j := 0) (by decide) (fun _ => rfl) dX9_eats_34 (Or.inl ⟨rfl, rfl⟩)
theorem eX9_eats_35 : SiZ nX9_eats 35 (i_aload 0 36) := s_aload_n dX9_eats_35 rfl
theorem eX9_eats_36 : SiZ nX9_eats 36 (i_getf 81 [9] 39) := s_getf dX9_eats_36 (fm_cons (⟨_, _, _, _, _, _, rfl, fkX9_19_9⟩) (fm_nil))
theorem eX9_eats_39 : SiZ nX9_eats 39 (i_push (.int 2) 40) := s_iconst dX9_eats_39 (by decide)
theorem eX9_eats_40 : SiZ nX9_eats 40 (i_iald 51 41) := s_ald (j := 0) (by decide) (fun _ => rfl) dX9_eats_40 (Or.inl ⟨rfl, rfl⟩)
theorem eX9_eats_41 : SiZ nX9_eats 41 (i_icmp (fun x y => y ≤ x) 56 44) := s_icmp_ge dX9_eats_41 (by decide)
theorem eX9_eats_44 : SiZ nX9_eats 44 (i_aload 0 45) := s_aload_n dX9_eats_44 rfl
theorem eX9_eats_45 : SiZ nX9_eats 45 (i_getf 81 [9] 48) := s_getf dX9_eats_45 (fm_cons (⟨_, _, _, _, _, _, rfl, fkX9_19_9⟩) (fm_nil))
theorem eX9_eats_48 : SiZ nX9_eats 48 (i_push (.int 8) 50) := s_bipush dX9_eats_48 (by decide)
theorem eX9_eats_50 : SiZ nX9_eats 50 (i_iload 2 51) := s_iload_n dX9_eats_50 rfl
theorem eX9_eats_51 : SiZ nX9_eats 51 (i_bin (fun x y => x + y) 52) := s_iadd dX9_eats_51
theorem eX9_eats_52 : SiZ nX9_eats 52 (i_iald 51 53) := s_ald (j := 0) (by decide) (fun _ => rfl) dX9_eats_52 (Or.inl ⟨rfl, rfl⟩)
theorem eX9_eats_53 : SiZ nX9_eats 53 (i_goto 62) := s_goto dX9_eats_53 (by decide)
theorem eX9_eats_56 : SiZ nX9_eats 56 (i_aload 0 57) := s_aload_n dX9_eats_56 rfl
theorem eX9_eats_57 : SiZ nX9_eats 57 (i_getf 81 [9] 60) := s_getf dX9_eats_57 (fm_cons (⟨_, _, _, _, _, _, rfl, fkX9_19_9⟩) (fm_nil))
theorem eX9_eats_60 : SiZ nX9_eats 60 (i_push (.int 2) 61) := s_iconst dX9_eats_60 (by decide)
theorem eX9_eats_61 : SiZ nX9_eats 61 (i_iald 51 62) := s_ald (j := 0) (by decide) (fun _ => rfl) dX9_eats_61 (Or.inl ⟨rfl, rfl⟩)
theorem eX9_eats_62 : SiZ nX9_eats 62 (i_istore 3 63) := s_istore_n dX9_eats_62 rfl
theorem eX9_eats_63 : SiZ nX9_eats 63 (i_aload 0 64) := s_aload_n dX9_eats_63 rfl
theorem eX9_eats_64 : SiZ nX9_eats 64 (i_getf 81 [9] 67) := s_getf dX9_eats_64 (fm_cons (⟨_, _, _, _, _, _, rfl, fkX9_19_9⟩) (fm_nil))
theorem eX9_eats_67 : SiZ nX9_eats 67 (i_push (.int 8) 69) := s_bipush dX9_eats_67 (by decide)
theorem eX9_eats_69 : SiZ nX9_eats 69 (i_iload 2 70) := s_iload_n dX9_eats_69 rfl
theorem eX9_eats_70 : SiZ nX9_eats 70 (i_bin (fun x y => x + y) 71) := s_iadd dX9_eats_70
theorem eX9_eats_71 : SiZ nX9_eats 71 (i_dup2 72) := s_dup2 dX9_eats_71
theorem eX9_eats_72 : SiZ nX9_eats 72 (i_iald 51 73) := s_ald (j := 0) (by decide) (fun _ => rfl) dX9_eats_72 (Or.inl ⟨rfl, rfl⟩)
theorem eX9_eats_73 : SiZ nX9_eats 73 (i_iload 3 74) := s_iload_n dX9_eats_73 rfl
theorem eX9_eats_74 : SiZ nX9_eats 74 (i_bin (fun x y => x - y) 75) := s_isub dX9_eats_74
theorem eX9_eats_75 : SiZ nX9_eats 75 (i_iast 51 (fun x => x) 76) := s_ast (j := 0) (by decide) (fun _ => rfl) dX9_eats_75 (Or.inl ⟨rfl, rfl, rfl⟩)
theorem eX9_eats_76 : SiZ nX9_eats 76 (i_aload 0 77) := s_aload_n dX9_eats_76 rfl
theorem eX9_eats_77 : SiZ nX9_eats 77 (i_getf 81 [9] 80) := s_getf dX9_eats_77 (fm_cons (⟨_, _, _, _, _, _, rfl, fkX9_19_9⟩) (fm_nil))
theorem eX9_eats_80 : SiZ nX9_eats 80 (i_push (.int 36) 82) := s_bipush dX9_eats_80 (by decide)
theorem eX9_eats_82 : SiZ nX9_eats 82 (i_iload 1 83) := s_iload_n dX9_eats_82 rfl
theorem eX9_eats_83 : SiZ nX9_eats 83 (i_bin (fun x y => x + y) 84) := s_iadd dX9_eats_83
theorem eX9_eats_84 : SiZ nX9_eats 84 (i_aload 0 85) := s_aload_n dX9_eats_84 rfl
theorem eX9_eats_85 : SiZ nX9_eats 85 (i_getf 81 [9] 88) := s_getf dX9_eats_85 (fm_cons (⟨_, _, _, _, _, _, rfl, fkX9_19_9⟩) (fm_nil))
theorem eX9_eats_88 : SiZ nX9_eats 88 (i_push (.int 36) 90) := s_bipush dX9_eats_88 (by decide)
theorem eX9_eats_90 : SiZ nX9_eats 90 (i_iload 1 91) := s_iload_n dX9_eats_90 rfl
theorem eX9_eats_91 : SiZ nX9_eats 91 (i_bin (fun x y => x + y) 92) := s_iadd dX9_eats_91
theorem eX9_eats_92 : SiZ nX9_eats 92 (i_iald 51 93) := s_ald (j := 0) (by decide) (fun _ => rfl) dX9_eats_92 (Or.inl ⟨rfl, rfl⟩)
theorem eX9_eats_93 : SiZ nX9_eats 93 (i_iload 3 94) := s_iload_n dX9_eats_93 rfl
theorem eX9_eats_94 : SiZ nX9_eats 94 (i_bin (fun x y => x + y) 95) := s_iadd dX9_eats_94
theorem eX9_eats_95 : SiZ nX9_eats 95 (i_push (.int 999) 98) := s_sipush dX9_eats_95 (by decide)
theorem eX9_eats_98 : SiZ nX9_eats 98 (i_icmp (fun x y => x ≤ y) 107 101) := s_icmp_le dX9_eats_98 (by decide)
theorem eX9_eats_101 : SiZ nX9_eats 101 (i_push (.int 999) 104) := s_sipush dX9_eats_101 (by decide)
theorem eX9_eats_104 : SiZ nX9_eats 104 (i_goto 118) := s_goto dX9_eats_104 (by decide)
theorem eX9_eats_107 : SiZ nX9_eats 107 (i_aload 0 108) := s_aload_n dX9_eats_107 rfl
theorem eX9_eats_108 : SiZ nX9_eats 108 (i_getf 81 [9] 111) := s_getf dX9_eats_108 (fm_cons (⟨_, _, _, _, _, _, rfl, fkX9_19_9⟩) (fm_nil))
theorem eX9_eats_111 : SiZ nX9_eats 111 (i_push (.int 36) 113) := s_bipush dX9_eats_111 (by decide)
theorem eX9_eats_113 : SiZ nX9_eats 113 (i_iload 1 114) := s_iload_n dX9_eats_113 rfl
theorem eX9_eats_114 : SiZ nX9_eats 114 (i_bin (fun x y => x + y) 115) := s_iadd dX9_eats_114
theorem eX9_eats_115 : SiZ nX9_eats 115 (i_iald 51 116) := s_ald (j := 0) (by decide) (fun _ => rfl) dX9_eats_115 (Or.inl ⟨rfl, rfl⟩)
theorem eX9_eats_116 : SiZ nX9_eats 116 (i_iload 3 117) := s_iload_n dX9_eats_116 rfl
theorem eX9_eats_117 : SiZ nX9_eats 117 (i_bin (fun x y => x + y) 118) := s_iadd dX9_eats_117
theorem eX9_eats_118 : SiZ nX9_eats 118 (i_iast 51 (fun x => x) 119) := s_ast (j := 0) (by decide) (fun _ => rfl) dX9_eats_118 (Or.inl ⟨rfl, rfl, rfl⟩)
theorem eX9_eats_119 : SiZ nX9_eats 119 (i_aload 0 120) := s_aload_n dX9_eats_119 rfl
theorem eX9_eats_120 : SiZ nX9_eats 120 (i_getf 103 [9] 123) := s_getf dX9_eats_120 (fm_cons (⟨_, _, _, _, _, _, rfl, fkX9_31_9⟩) (fm_nil))
theorem eX9_eats_123 : SiZ nX9_eats 123 (i_iload 1 124) := s_iload_n dX9_eats_123 rfl
theorem eX9_eats_124 : SiZ nX9_eats 124 (i_dup2 125) := s_dup2 dX9_eats_124
theorem eX9_eats_125 : SiZ nX9_eats 125 (i_iald 51 126) := s_ald (j := 0) (by decide) (fun _ => rfl) dX9_eats_125 (Or.inl ⟨rfl, rfl⟩)
theorem eX9_eats_126 : SiZ nX9_eats 126 (i_iload 3 127) := s_iload_n dX9_eats_126 rfl
theorem eX9_eats_127 : SiZ nX9_eats 127 (i_if (fun x => x ≤ 0) 136 130) := s_if_le dX9_eats_127 (by decide)
theorem eX9_eats_130 : SiZ nX9_eats 130 (i_push (.int 1) 131) := s_iconst dX9_eats_130 (by decide)
theorem eX9_eats_131 : SiZ nX9_eats 131 (i_iload 2 132) := s_iload_n dX9_eats_131 rfl
theorem eX9_eats_132 : SiZ nX9_eats 132 (i_bin (fun x y => x <<< (y &&& 31)) 133) := s_ishl dX9_eats_132
theorem eX9_eats_133 : SiZ nX9_eats 133 (i_goto 137) := s_goto dX9_eats_133 (by decide)
theorem eX9_eats_136 : SiZ nX9_eats 136 (i_push (.int 0) 137) := s_iconst dX9_eats_136 (by decide)
theorem eX9_eats_137 : SiZ nX9_eats 137 (i_bin (fun x y => x ||| y) 138) := s_ior dX9_eats_137
theorem eX9_eats_138 : SiZ nX9_eats 138 (i_iast 51 (fun x => x) 139) := s_ast (j := 0) (by decide) (fun _ => rfl) dX9_eats_138 (Or.inl ⟨rfl, rfl, rfl⟩)
theorem eX9_eats_139 : SiZ nX9_eats 139 i_vret := s_vret dX9_eats_139 rfl
theorem aX9_eats : ∀ x ∈ mX9_eats.1, EnZ nX9_eats x := fm_cons eX9_eats_0 (fm_cons eX9_eats_1 (fm_cons eX9_eats_2 (fm_cons eX9_eats_5 (fm_cons eX9_eats_7 (fm_cons eX9_eats_8 (fm_cons eX9_eats_9 (fm_cons eX9_eats_10 (fm_cons eX9_eats_13 (fm_cons eX9_eats_14 (fm_cons eX9_eats_15 (fm_cons eX9_eats_16 (fm_cons eX9_eats_19 (fm_cons eX9_eats_22 (fm_cons eX9_eats_23 (fm_cons eX9_eats_26 (fm_cons eX9_eats_27 (fm_cons eX9_eats_30 (fm_cons eX9_eats_32 (fm_cons eX9_eats_33 (fm_cons eX9_eats_34 (fm_cons eX9_eats_35 (fm_cons eX9_eats_36 (fm_cons eX9_eats_39 (fm_cons eX9_eats_40 (fm_cons eX9_eats_41 (fm_cons eX9_eats_44 (fm_cons eX9_eats_45 (fm_cons eX9_eats_48 (fm_cons eX9_eats_50 (fm_cons eX9_eats_51 (fm_cons eX9_eats_52 (fm_cons eX9_eats_53 (fm_cons eX9_eats_56 (fm_cons eX9_eats_57 (fm_cons eX9_eats_60 (fm_cons eX9_eats_61 (fm_cons eX9_eats_62 (fm_cons eX9_eats_63 (fm_cons eX9_eats_64 (fm_cons eX9_eats_67 (fm_cons eX9_eats_69 (fm_cons eX9_eats_70 (fm_cons eX9_eats_71 (fm_cons eX9_eats_72 (fm_cons eX9_eats_73 (fm_cons eX9_eats_74 (fm_cons eX9_eats_75 (fm_cons eX9_eats_76 (fm_cons eX9_eats_77 (fm_cons eX9_eats_80 (fm_cons eX9_eats_82 (fm_cons eX9_eats_83 (fm_cons eX9_eats_84 (fm_cons eX9_eats_85 (fm_cons eX9_eats_88 (fm_cons eX9_eats_90 (fm_cons eX9_eats_91 (fm_cons eX9_eats_92 (fm_cons eX9_eats_93 (fm_cons eX9_eats_94 (fm_cons eX9_eats_95 (fm_cons eX9_eats_98 (fm_cons eX9_eats_101 (fm_cons eX9_eats_104 (fm_cons eX9_eats_107 (fm_cons eX9_eats_108 (fm_cons eX9_eats_111 (fm_cons eX9_eats_113 (fm_cons eX9_eats_114 (fm_cons eX9_eats_115 (fm_cons eX9_eats_116 (fm_cons eX9_eats_117 (fm_cons eX9_eats_118 (fm_cons eX9_eats_119 (fm_cons eX9_eats_120 (fm_cons eX9_eats_123 (fm_cons eX9_eats_124 (fm_cons eX9_eats_125 (fm_cons eX9_eats_126 (fm_cons eX9_eats_127 (fm_cons eX9_eats_130 (fm_cons eX9_eats_131 (fm_cons eX9_eats_132 (fm_cons eX9_eats_133 (fm_cons eX9_eats_136 (fm_cons eX9_eats_137 (fm_cons eX9_eats_138 (fm_cons eX9_eats_139 (fm_nil)))))))))))))))))))))))))))))))))))))))))))))))))))))))))))))))))))))))))))))))))))))))))
theorem zX9_eats : SwZ nX9_eats (Mt mX9_eats 4) := wholeZ (mi := nX9_eats) (cd := mX9_eats) aX9_eats rfl (HdZ.none rfl)
abbrev nX9_oneNight : MI := (cX9_oneNight, 2, none, RX9, "oneNight", [], 4, 109)
theorem hyX9_oneNight : yX9_oneNight.cls ≠ "java/lang/invoke/MethodHandle" ∧ yX9_oneNight.cls ≠ "java/lang/invoke/VarHandle" := by decide +kernel
theorem pnX9_oneNight : (parseMethodDescriptor yX9_oneNight.desc).map (fun d => d.parameters.length) = some 0 := by decide +kernel
theorem wdX9_oneNight : CdW yX9_oneNight (nX9_oneNight) := ⟨Or.inl ⟨q1435, rfl⟩, rfl, rfl, plainFor_of_name (by decide +kernel)⟩
theorem eX9_oneNight_0 : SiZ nX9_oneNight 0 (i_push (.int 0) 1) := s_iconst dX9_oneNight_0 (by decide)
theorem eX9_oneNight_1 : SiZ nX9_oneNight 1 (i_istore 1 2) := s_istore_n dX9_oneNight_1 rfl
theorem eX9_oneNight_2 : SiZ nX9_oneNight 2 (i_iload 1 3) := s_iload_n dX9_oneNight_2 rfl
theorem eX9_oneNight_3 : SiZ nX9_oneNight 3 (i_aload 0 4) := s_aload_n dX9_oneNight_3 rfl
theorem eX9_oneNight_4 : SiZ nX9_oneNight 4 (i_getf 81 [9] 7) := s_getf dX9_oneNight_4 (fm_cons (⟨_, _, _, _, _, _, rfl, fkX9_19_9⟩) (fm_nil))
theorem eX9_oneNight_7 : SiZ nX9_oneNight 7 (i_push (.int 1) 8) := s_iconst dX9_oneNight_7 (by decide)
theorem eX9_oneNight_8 : SiZ nX9_oneNight 8 (i_iald 51 9) := s_ald (j := 0) (by decide) (fun _ => rfl) dX9_oneNight_8 (Or.inl ⟨rfl, rfl⟩)
theorem eX9_oneNight_9 : SiZ nX9_oneNight 9 (i_icmp (fun x y => y ≤ x) 45 12) := s_icmp_ge dX9_oneNight_9 (by decide)
theorem eX9_oneNight_12 : SiZ nX9_oneNight 12 (i_aload 0 13) := s_aload_n dX9_oneNight_12 rfl
theorem eX9_oneNight_13 : SiZ nX9_oneNight 13 (i_iload 1 14) := s_iload_n dX9_oneNight_13 rfl
theorem eX9_oneNight_14 : ScZ nX9_oneNight 14 (c_V 1 17 2 9 (Mt mX9_isCaught 2)) := e_V (mi := nX9_oneNight) (mi' := nX9_isCaught) (len := 3) (fun h b as rest hk hl => cs_V (ci := 8) (mi := nX9_oneNight) (pc := 14) (y := yX9_isCaught) (idx := 171) dX9_oneNight_14 q1436 q1438 qs45 rfl hk hyX9_isCaught (sigC q1439) pnX9_isCaught hl) wdX9_isCaught zX9_isCaught (Nat.le_of_ble_eq_true rfl) (Nat.le_of_ble_eq_true rfl)
theorem eX9_oneNight_17 : SiZ nX9_oneNight 17 (i_if (fun x => ¬ x = 0) 39 20) := s_if_ne dX9_oneNight_17 (by decide)
theorem eX9_oneNight_20 : SiZ nX9_oneNight 20 (i_aload 0 21) := s_aload_n dX9_oneNight_20 rfl
theorem eX9_oneNight_21 : SiZ nX9_oneNight 21 (i_getf 81 [9] 24) := s_getf dX9_oneNight_21 (fm_cons (⟨_, _, _, _, _, _, rfl, fkX9_19_9⟩) (fm_nil))
theorem eX9_oneNight_24 : SiZ nX9_oneNight 24 (i_push (.int 31) 26) := s_bipush dX9_oneNight_24 (by decide)
theorem eX9_oneNight_26 : SiZ nX9_oneNight 26 (i_iload 1 27) := s_iload_n dX9_oneNight_26 rfl
theorem eX9_oneNight_27 : SiZ nX9_oneNight 27 (i_bin (fun x y => x + y) 28) := s_iadd dX9_oneNight_27
theorem eX9_oneNight_28 : SiZ nX9_oneNight 28 (i_aload 0 29) := s_aload_n dX9_oneNight_28 rfl
theorem eX9_oneNight_29 : SiZ nX9_oneNight 29 (i_iload 1 30) := s_iload_n dX9_oneNight_29 rfl
theorem eX9_oneNight_30 : ScZ nX9_oneNight 30 (c_V 1 33 6 9 (Mt mX9_goesTo 6)) := e_V (mi := nX9_oneNight) (mi' := nX9_goesTo) (len := 3) (fun h b as rest hk hl => cs_V (ci := 8) (mi := nX9_oneNight) (pc := 30) (y := yX9_goesTo) (idx := 174) dX9_oneNight_30 q1443 q1445 qs46 rfl hk hyX9_goesTo (sigC q1446) pnX9_goesTo hl) wdX9_goesTo zX9_goesTo (Nat.le_of_ble_eq_true rfl) (Nat.le_of_ble_eq_true rfl)
theorem eX9_oneNight_33 : SiZ nX9_oneNight 33 (i_iast 51 (fun x => x) 34) := s_ast (j := 0) (by decide) (fun _ => rfl) dX9_oneNight_33 (Or.inl ⟨rfl, rfl, rfl⟩)
theorem eX9_oneNight_34 : SiZ nX9_oneNight 34 (i_aload 0 35) := s_aload_n dX9_oneNight_34 rfl
theorem eX9_oneNight_35 : SiZ nX9_oneNight 35 (i_iload 1 36) := s_iload_n dX9_oneNight_35 rfl
theorem eX9_oneNight_36 : ScZ nX9_oneNight 36 (c_V 1 39 4 9 (Mt mX9_eats 4)) := e_V (mi := nX9_oneNight) (mi' := nX9_eats) (len := 3) (fun h b as rest hk hl => cs_V (ci := 8) (mi := nX9_oneNight) (pc := 36) (y := yX9_eats) (idx := 177) dX9_oneNight_36 q1464 q1466 qs51 rfl hk hyX9_eats (sigC q1467) pnX9_eats hl) wdX9_eats zX9_eats (Nat.le_of_ble_eq_true rfl) (Nat.le_of_ble_eq_true rfl)
theorem eX9_oneNight_39 : SiZ nX9_oneNight 39 (i_iinc 1 1 42) := s_iinc dX9_oneNight_39 (by decide)
theorem eX9_oneNight_42 : SiZ nX9_oneNight 42 (i_goto 2) := s_goto dX9_oneNight_42 (by decide)
theorem eX9_oneNight_45 : SiZ nX9_oneNight 45 (i_push (.int 0) 46) := s_iconst dX9_oneNight_45 (by decide)
theorem eX9_oneNight_46 : SiZ nX9_oneNight 46 (i_istore 1 47) := s_istore_n dX9_oneNight_46 rfl
theorem eX9_oneNight_47 : SiZ nX9_oneNight 47 (i_iload 1 48) := s_iload_n dX9_oneNight_47 rfl
theorem eX9_oneNight_48 : SiZ nX9_oneNight 48 (i_aload 0 49) := s_aload_n dX9_oneNight_48 rfl
theorem eX9_oneNight_49 : SiZ nX9_oneNight 49 (i_getf 81 [9] 52) := s_getf dX9_oneNight_49 (fm_cons (⟨_, _, _, _, _, _, rfl, fkX9_19_9⟩) (fm_nil))
theorem eX9_oneNight_52 : SiZ nX9_oneNight 52 (i_push (.int 0) 53) := s_iconst dX9_oneNight_52 (by decide)
theorem eX9_oneNight_53 : SiZ nX9_oneNight 53 (i_iald 51 54) := s_ald (j := 0) (by decide) (fun _ => rfl) dX9_oneNight_53 (Or.inl ⟨rfl, rfl⟩)
theorem eX9_oneNight_54 : SiZ nX9_oneNight 54 (i_icmp (fun x y => y ≤ x) 116 57) := s_icmp_ge dX9_oneNight_54 (by decide)
theorem eX9_oneNight_57 : SiZ nX9_oneNight 57 (i_aload 0 58) := s_aload_n dX9_oneNight_57 rfl
theorem eX9_oneNight_58 : SiZ nX9_oneNight 58 (i_getf 81 [9] 61) := s_getf dX9_oneNight_58 (fm_cons (⟨_, _, _, _, _, _, rfl, fkX9_19_9⟩) (fm_nil))
theorem eX9_oneNight_61 : SiZ nX9_oneNight 61 (i_push (.int 4) 62) := s_iconst dX9_oneNight_61 (by decide)
theorem eX9_oneNight_62 : SiZ nX9_oneNight 62 (i_iald 51 63) := s_ald (j := 0) (by decide) (fun _ => rfl) dX9_oneNight_62 (Or.inl ⟨rfl, rfl⟩)
theorem eX9_oneNight_63 : SiZ nX9_oneNight 63 (i_push (.int 4) 64) := s_iconst dX9_oneNight_63 (by decide)
theorem eX9_oneNight_64 : SiZ nX9_oneNight 64 (i_bing (fun x y => x - x / y * y) 65) := s_irem dX9_oneNight_64
theorem eX9_oneNight_65 : SiZ nX9_oneNight 65 (i_push (.int 3) 66) := s_iconst dX9_oneNight_65 (by decide)
theorem eX9_oneNight_66 : SiZ nX9_oneNight 66 (i_icmp (fun x y => ¬ x = y) 116 69) := s_icmp_ne dX9_oneNight_66 (by decide)
theorem eX9_oneNight_69 : SiZ nX9_oneNight 69 (i_aload 0 70) := s_aload_n dX9_oneNight_69 rfl
theorem eX9_oneNight_70 : SiZ nX9_oneNight 70 (i_getf 81 [9] 73) := s_getf dX9_oneNight_70 (fm_cons (⟨_, _, _, _, _, _, rfl, fkX9_19_9⟩) (fm_nil))
theorem eX9_oneNight_73 : SiZ nX9_oneNight 73 (i_push (.int 6) 75) := s_bipush dX9_oneNight_73 (by decide)
theorem eX9_oneNight_75 : SiZ nX9_oneNight 75 (i_iald 51 76) := s_ald (j := 0) (by decide) (fun _ => rfl) dX9_oneNight_75 (Or.inl ⟨rfl, rfl⟩)
theorem eX9_oneNight_76 : SiZ nX9_oneNight 76 (i_iload 1 77) := s_iload_n dX9_oneNight_76 rfl
theorem eX9_oneNight_77 : ScZ nX9_oneNight 77 (c_S 2 80 2 (Mt mX9_has 2)) := e_S (mi := nX9_oneNight) (mi' := nX9_has) (len := 3) (fun h as rest hl => cs_S (mi := nX9_oneNight) (pc := 77) (y := yX9_has) (idx := 154) dX9_oneNight_77 q1440 q1441 q89 q1442 hyX9_has pnX9_has hl) wdX9_has zX9_has (Nat.le_of_ble_eq_true rfl) (Nat.le_of_ble_eq_true rfl)
theorem eX9_oneNight_80 : SiZ nX9_oneNight 80 (i_if (fun x => ¬ x = 0) 110 83) := s_if_ne dX9_oneNight_80 (by decide)
theorem eX9_oneNight_83 : SiZ nX9_oneNight 83 (i_aload 0 84) := s_aload_n dX9_oneNight_83 rfl
theorem eX9_oneNight_84 : SiZ nX9_oneNight 84 (i_getf 81 [9] 87) := s_getf dX9_oneNight_84 (fm_cons (⟨_, _, _, _, _, _, rfl, fkX9_19_9⟩) (fm_nil))
theorem eX9_oneNight_87 : SiZ nX9_oneNight 87 (i_push (.int 14) 89) := s_bipush dX9_oneNight_87 (by decide)
theorem eX9_oneNight_89 : SiZ nX9_oneNight 89 (i_iload 1 90) := s_iload_n dX9_oneNight_89 rfl
theorem eX9_oneNight_90 : SiZ nX9_oneNight 90 (i_bin (fun x y => x + y) 91) := s_iadd dX9_oneNight_90
theorem eX9_oneNight_91 : SiZ nX9_oneNight 91 (i_iald 51 92) := s_ald (j := 0) (by decide) (fun _ => rfl) dX9_oneNight_91 (Or.inl ⟨rfl, rfl⟩)
theorem eX9_oneNight_92 : SiZ nX9_oneNight 92 (i_push (.int 9) 94) := s_bipush dX9_oneNight_92 (by decide)
theorem eX9_oneNight_94 : SiZ nX9_oneNight 94 (i_icmp (fun x y => y ≤ x) 110 97) := s_icmp_ge dX9_oneNight_94 (by decide)
theorem eX9_oneNight_97 : SiZ nX9_oneNight 97 (i_aload 0 98) := s_aload_n dX9_oneNight_97 rfl
theorem eX9_oneNight_98 : SiZ nX9_oneNight 98 (i_getf 81 [9] 101) := s_getf dX9_oneNight_98 (fm_cons (⟨_, _, _, _, _, _, rfl, fkX9_19_9⟩) (fm_nil))
theorem eX9_oneNight_101 : SiZ nX9_oneNight 101 (i_push (.int 14) 103) := s_bipush dX9_oneNight_101 (by decide)
theorem eX9_oneNight_103 : SiZ nX9_oneNight 103 (i_iload 1 104) := s_iload_n dX9_oneNight_103 rfl
theorem eX9_oneNight_104 : SiZ nX9_oneNight 104 (i_bin (fun x y => x + y) 105) := s_iadd dX9_oneNight_104
theorem eX9_oneNight_105 : SiZ nX9_oneNight 105 (i_dup2 106) := s_dup2 dX9_oneNight_105
theorem eX9_oneNight_106 : SiZ nX9_oneNight 106 (i_iald 51 107) := s_ald (j := 0) (by decide) (fun _ => rfl) dX9_oneNight_106 (Or.inl ⟨rfl, rfl⟩)
theorem eX9_oneNight_107 : SiZ nX9_oneNight 107 (i_push (.int 1) 108) := s_iconst dX9_oneNight_107 (by decide)
theorem eX9_oneNight_108 : SiZ nX9_oneNight 108 (i_bin (fun x y => x + y) 109) := s_iadd dX9_oneNight_108
theorem eX9_oneNight_109 : SiZ nX9_oneNight 109 (i_iast 51 (fun x => x) 110) := s_ast (j := 0) (by decide) (fun _ => rfl) dX9_oneNight_109 (Or.inl ⟨rfl, rfl, rfl⟩)
theorem eX9_oneNight_110 : SiZ nX9_oneNight 110 (i_iinc 1 1 113) := s_iinc dX9_oneNight_110 (by decide)
theorem eX9_oneNight_113 : SiZ nX9_oneNight 113 (i_goto 47) := s_goto dX9_oneNight_113 (by decide)
theorem eX9_oneNight_116 : SiZ nX9_oneNight 116 (i_aload 0 117) := s_aload_n dX9_oneNight_116 rfl
theorem eX9_oneNight_117 : SiZ nX9_oneNight 117 (i_getf 81 [9] 120) := s_getf dX9_oneNight_117 (fm_cons (⟨_, _, _, _, _, _, rfl, fkX9_19_9⟩) (fm_nil))
theorem eX9_oneNight_120 : SiZ nX9_oneNight 120 (i_push (.int 4) 121) := s_iconst dX9_oneNight_120 (by decide)
theorem eX9_oneNight_121 : SiZ nX9_oneNight 121 (i_dup2 122) := s_dup2 dX9_oneNight_121
theorem eX9_oneNight_122 : SiZ nX9_oneNight 122 (i_iald 51 123) := s_ald (j := 0) (by decide) (fun _ => rfl) dX9_oneNight_122 (Or.inl ⟨rfl, rfl⟩)
theorem eX9_oneNight_123 : SiZ nX9_oneNight 123 (i_push (.int 1) 124) := s_iconst dX9_oneNight_123 (by decide)
theorem eX9_oneNight_124 : SiZ nX9_oneNight 124 (i_bin (fun x y => x + y) 125) := s_iadd dX9_oneNight_124
theorem eX9_oneNight_125 : SiZ nX9_oneNight 125 (i_iast 51 (fun x => x) 126) := s_ast (j := 0) (by decide) (fun _ => rfl) dX9_oneNight_125 (Or.inl ⟨rfl, rfl, rfl⟩)
theorem eX9_oneNight_126 : SiZ nX9_oneNight 126 i_vret := s_vret dX9_oneNight_126 rfl
theorem aX9_oneNight : ∀ x ∈ mX9_oneNight.1, EnZ nX9_oneNight x := fm_cons eX9_oneNight_0 (fm_cons eX9_oneNight_1 (fm_cons eX9_oneNight_2 (fm_cons eX9_oneNight_3 (fm_cons eX9_oneNight_4 (fm_cons eX9_oneNight_7 (fm_cons eX9_oneNight_8 (fm_cons eX9_oneNight_9 (fm_cons eX9_oneNight_12 (fm_cons eX9_oneNight_13 (fm_cons eX9_oneNight_14 (fm_cons eX9_oneNight_17 (fm_cons eX9_oneNight_20 (fm_cons eX9_oneNight_21 (fm_cons eX9_oneNight_24 (fm_cons eX9_oneNight_26 (fm_cons eX9_oneNight_27 (fm_cons eX9_oneNight_28 (fm_cons eX9_oneNight_29 (fm_cons eX9_oneNight_30 (fm_cons eX9_oneNight_33 (fm_cons eX9_oneNight_34 (fm_cons eX9_oneNight_35 (fm_cons eX9_oneNight_36 (fm_cons eX9_oneNight_39 (fm_cons eX9_oneNight_42 (fm_cons eX9_oneNight_45 (fm_cons eX9_oneNight_46 (fm_cons eX9_oneNight_47 (fm_cons eX9_oneNight_48 (fm_cons eX9_oneNight_49 (fm_cons eX9_oneNight_52 (fm_cons eX9_oneNight_53 (fm_cons eX9_oneNight_54 (fm_cons eX9_oneNight_57 (fm_cons eX9_oneNight_58 (fm_cons eX9_oneNight_61 (fm_cons eX9_oneNight_62 (fm_cons eX9_oneNight_63 (fm_cons eX9_oneNight_64 (fm_cons eX9_oneNight_65 (fm_cons eX9_oneNight_66 (fm_cons eX9_oneNight_69 (fm_cons eX9_oneNight_70 (fm_cons eX9_oneNight_73 (fm_cons eX9_oneNight_75 (fm_cons eX9_oneNight_76 (fm_cons eX9_oneNight_77 (fm_cons eX9_oneNight_80 (fm_cons eX9_oneNight_83 (fm_cons eX9_oneNight_84 (fm_cons eX9_oneNight_87 (fm_cons eX9_oneNight_89 (fm_cons eX9_oneNight_90 (fm_cons eX9_oneNight_91 (fm_cons eX9_oneNight_92 (fm_cons eX9_oneNight_94 (fm_cons eX9_oneNight_97 (fm_cons eX9_oneNight_98 (fm_cons eX9_oneNight_101 (fm_cons eX9_oneNight_103 (fm_cons eX9_oneNight_104 (fm_cons eX9_oneNight_105 (fm_cons eX9_oneNight_106 (fm_cons eX9_oneNight_107 (fm_cons eX9_oneNight_108 (fm_cons eX9_oneNight_109 (fm_cons eX9_oneNight_110 (fm_cons eX9_oneNight_113 (fm_cons eX9_oneNight_116 (fm_cons eX9_oneNight_117 (fm_cons eX9_oneNight_120 (fm_cons eX9_oneNight_121 (fm_cons eX9_oneNight_122 (fm_cons eX9_oneNight_123 (fm_cons eX9_oneNight_124 (fm_cons eX9_oneNight_125 (fm_cons eX9_oneNight_126 (fm_nil))))))))))))))))))))))))))))))))))))))))))))))))))))))))))))))))))))))))))))))
theorem zX9_oneNight : SwZ nX9_oneNight (Mt mX9_oneNight 2) := wholeZ (mi := nX9_oneNight) (cd := mX9_oneNight) aX9_oneNight rfl (HdZ.none rfl)
abbrev nX9_allPages : MI := (cX9_allPages, 3, (some (.int)), RX9, "allPages", [], 0, 0)
theorem hyX9_allPages : yX9_allPages.cls ≠ "java/lang/invoke/MethodHandle" ∧ yX9_allPages.cls ≠ "java/lang/invoke/VarHandle" := by decide +kernel
theorem pnX9_allPages : (parseMethodDescriptor yX9_allPages.desc).map (fun d => d.parameters.length) = some 0 := by decide +kernel
theorem wdX9_allPages : CdW yX9_allPages (nX9_allPages) := ⟨Or.inl ⟨q1471, rfl⟩, rfl, rfl, plainFor_of_name (by decide +kernel)⟩
theorem eX9_allPages_0 : SiZ nX9_allPages 0 (i_push (.int 0) 1) := s_iconst dX9_allPages_0 (by decide)
theorem eX9_allPages_1 : SiZ nX9_allPages 1 (i_istore 1 2) := s_istore_n dX9_allPages_1 rfl
theorem eX9_allPages_2 : SiZ nX9_allPages 2 (i_push (.int 0) 3) := s_iconst dX9_allPages_2 (by decide)
theorem eX9_allPages_3 : SiZ nX9_allPages 3 (i_istore 2 4) := s_istore_n dX9_allPages_3 rfl
theorem eX9_allPages_4 : SiZ nX9_allPages 4 (i_iload 2 5) := s_iload_n dX9_allPages_4 rfl
theorem eX9_allPages_5 : SiZ nX9_allPages 5 (i_aload 0 6) := s_aload_n dX9_allPages_5 rfl
theorem eX9_allPages_6 : SiZ nX9_allPages 6 (i_getf 81 [9] 9) := s_getf dX9_allPages_6 (fm_cons (⟨_, _, _, _, _, _, rfl, fkX9_19_9⟩) (fm_nil))
theorem eX9_allPages_9 : SiZ nX9_allPages 9 (i_push (.int 0) 10) := s_iconst dX9_allPages_9 (by decide)
theorem eX9_allPages_10 : SiZ nX9_allPages 10 (i_iald 51 11) := s_ald (j := 0) (by decide) (fun _ => rfl) dX9_allPages_10 (Or.inl ⟨rfl, rfl⟩)
theorem eX9_allPages_11 : SiZ nX9_allPages 11 (i_icmp (fun x y => y ≤ x) 32 14) := s_icmp_ge dX9_allPages_11 (by decide)
theorem eX9_allPages_14 : SiZ nX9_allPages 14 (i_iload 1 15) := s_iload_n dX9_allPages_14 rfl
theorem eX9_allPages_15 : SiZ nX9_allPages 15 (i_aload 0 16) := s_aload_n dX9_allPages_15 rfl
theorem eX9_allPages_16 : SiZ nX9_allPages 16 (i_getf 81 [9] 19) := s_getf dX9_allPages_16 (fm_cons (⟨_, _, _, _, _, _, rfl, fkX9_19_9⟩) (fm_nil))
theorem eX9_allPages_19 : SiZ nX9_allPages 19 (i_push (.int 8) 21) := s_bipush dX9_allPages_19 (by decide)
theorem eX9_allPages_21 : SiZ nX9_allPages 21 (i_iload 2 22) := s_iload_n dX9_allPages_21 rfl
theorem eX9_allPages_22 : SiZ nX9_allPages 22 (i_bin (fun x y => x + y) 23) := s_iadd dX9_allPages_22
theorem eX9_allPages_23 : SiZ nX9_allPages 23 (i_iald 51 24) := s_ald (j := 0) (by decide) (fun _ => rfl) dX9_allPages_23 (Or.inl ⟨rfl, rfl⟩)
theorem eX9_allPages_24 : SiZ nX9_allPages 24 (i_bin (fun x y => x + y) 25) := s_iadd dX9_allPages_24
theorem eX9_allPages_25 : SiZ nX9_allPages 25 (i_istore 1 26) := s_istore_n dX9_allPages_25 rfl
theorem eX9_allPages_26 : SiZ nX9_allPages 26 (i_iinc 2 1 29) := s_iinc dX9_allPages_26 (by decide)
theorem eX9_allPages_29 : SiZ nX9_allPages 29 (i_goto 4) := s_goto dX9_allPages_29 (by decide)
theorem eX9_allPages_32 : SiZ nX9_allPages 32 (i_iload 1 33) := s_iload_n dX9_allPages_32 rfl
theorem eX9_allPages_33 : SiZ nX9_allPages 33 i_iret := s_iret dX9_allPages_33 rfl
theorem aX9_allPages : ∀ x ∈ mX9_allPages.1, EnZ nX9_allPages x := fm_cons eX9_allPages_0 (fm_cons eX9_allPages_1 (fm_cons eX9_allPages_2 (fm_cons eX9_allPages_3 (fm_cons eX9_allPages_4 (fm_cons eX9_allPages_5 (fm_cons eX9_allPages_6 (fm_cons eX9_allPages_9 (fm_cons eX9_allPages_10 (fm_cons eX9_allPages_11 (fm_cons eX9_allPages_14 (fm_cons eX9_allPages_15 (fm_cons eX9_allPages_16 (fm_cons eX9_allPages_19 (fm_cons eX9_allPages_21 (fm_cons eX9_allPages_22 (fm_cons eX9_allPages_23 (fm_cons eX9_allPages_24 (fm_cons eX9_allPages_25 (fm_cons eX9_allPages_26 (fm_cons eX9_allPages_29 (fm_cons eX9_allPages_32 (fm_cons eX9_allPages_33 (fm_nil)))))))))))))))))))))))
theorem zX9_allPages : SwZ nX9_allPages (Mt mX9_allPages 3) := wholeZ (mi := nX9_allPages) (cd := mX9_allPages) aX9_allPages rfl (HdZ.none rfl)
abbrev nX9_nights : MI := (cX9_nights, 3, (some (.int)), RX9, "nights", [], 5, 134)
theorem hyX9_nights : yX9_nights.cls ≠ "java/lang/invoke/MethodHandle" ∧ yX9_nights.cls ≠ "java/lang/invoke/VarHandle" := by decide +kernel
theorem pnX9_nights : (parseMethodDescriptor yX9_nights.desc).map (fun d => d.parameters.length) = some 1 := by decide +kernel
theorem wdX9_nights : CdW yX9_nights (nX9_nights) := ⟨Or.inl ⟨q1426, rfl⟩, rfl, rfl, plainFor_of_name (by decide +kernel)⟩
theorem eX9_nights_0 : SiZ nX9_nights 0 (i_aload 0 1) := s_aload_n dX9_nights_0 rfl
theorem eX9_nights_1 : SiZ nX9_nights 1 (i_getf 78 [9] 4) := s_getf dX9_nights_1 (fm_cons (⟨_, _, _, _, _, _, rfl, fkX9_147_9⟩) (fm_nil))
theorem eX9_nights_4 : SiZ nX9_nights 4 (i_if (fun x => ¬ x = 0) 10 7) := s_if_ne dX9_nights_4 (by decide)
theorem eX9_nights_7 : SiZ nX9_nights 7 (i_push (.int (-1000002)) 9) := s_ldc dX9_nights_7 q1422
theorem eX9_nights_9 : SiZ nX9_nights 9 i_iret := s_iret dX9_nights_9 rfl
theorem eX9_nights_10 : SiZ nX9_nights 10 (i_iload 1 11) := s_iload_n dX9_nights_10 rfl
theorem eX9_nights_11 : SiZ nX9_nights 11 (i_i2l 12) := s_i2l dX9_nights_11
theorem eX9_nights_12 : SiZ nX9_nights 12 (i_push (.long 1) 13) := s_lconst dX9_nights_12 (by decide)
theorem eX9_nights_13 : SiZ nX9_nights 13 (i_push (.long 24) 16) := s_ldc2 dX9_nights_13 q1427
theorem eX9_nights_16 : ScZ nX9_nights 16 (c_S 3 19 6 (Mt mX9_in 6)) := e_S (mi := nX9_nights) (mi' := nX9_in) (len := 3) (fun h as rest hl => cs_S (mi := nX9_nights) (pc := 16) (y := yX9_in) (idx := 63) dX9_nights_16 q1335 q1336 q89 q1337 hyX9_in pnX9_in hl) wdX9_in zX9_in (Nat.le_of_ble_eq_true rfl) (Nat.le_of_ble_eq_true rfl)
theorem eX9_nights_19 : SiZ nX9_nights 19 (i_if (fun x => ¬ x = 0) 25 22) := s_if_ne dX9_nights_19 (by decide)
theorem eX9_nights_22 : SiZ nX9_nights 22 (i_push (.int (-1000001)) 24) := s_ldc dX9_nights_22 q1339
theorem eX9_nights_24 : SiZ nX9_nights 24 i_iret := s_iret dX9_nights_24 rfl
theorem eX9_nights_25 : SiZ nX9_nights 25 (i_aload 0 26) := s_aload_n dX9_nights_25 rfl
theorem eX9_nights_26 : SiZ nX9_nights 26 (i_getf 81 [9] 29) := s_getf dX9_nights_26 (fm_cons (⟨_, _, _, _, _, _, rfl, fkX9_19_9⟩) (fm_nil))
theorem eX9_nights_29 : SiZ nX9_nights 29 (i_push (.int 4) 30) := s_iconst dX9_nights_29 (by decide)
theorem eX9_nights_30 : SiZ nX9_nights 30 (i_iald 51 31) := s_ald (j := 0) (by decide) (fun _ => rfl) dX9_nights_30 (Or.inl ⟨rfl, rfl⟩)
theorem eX9_nights_31 : SiZ nX9_nights 31 (i_iload 1 32) := s_iload_n dX9_nights_31 rfl
theorem eX9_nights_32 : SiZ nX9_nights 32 (i_bin (fun x y => x + y) 33) := s_iadd dX9_nights_32
theorem eX9_nights_33 : SiZ nX9_nights 33 (i_push (.int 999) 36) := s_sipush dX9_nights_33 (by decide)
theorem eX9_nights_36 : SiZ nX9_nights 36 (i_icmp (fun x y => x ≤ y) 42 39) := s_icmp_le dX9_nights_36 (by decide)
theorem eX9_nights_39 : SiZ nX9_nights 39 (i_push (.int (-1000003)) 41) := s_ldc dX9_nights_39 q1369
theorem eX9_nights_41 : SiZ nX9_nights 41 i_iret := s_iret dX9_nights_41 rfl
theorem eX9_nights_42 : SiZ nX9_nights 42 (i_push (.int 0) 43) := s_iconst dX9_nights_42 (by decide)
theorem eX9_nights_43 : SiZ nX9_nights 43 (i_istore 2 44) := s_istore_n dX9_nights_43 rfl
theorem eX9_nights_44 : SiZ nX9_nights 44 (i_iload 2 45) := s_iload_n dX9_nights_44 rfl
theorem eX9_nights_45 : SiZ nX9_nights 45 (i_iload 1 46) := s_iload_n dX9_nights_45 rfl
theorem eX9_nights_46 : SiZ nX9_nights 46 (i_icmp (fun x y => y ≤ x) 63 49) := s_icmp_ge dX9_nights_46 (by decide)
theorem eX9_nights_49 : SiZ nX9_nights 49 (i_aload 0 50) := s_aload_n dX9_nights_49 rfl
theorem eX9_nights_50 : ScZ nX9_nights 50 (c_V 0 53 2 9 (Mt mX9_note 2)) := e_V (mi := nX9_nights) (mi' := nX9_note) (len := 3) (fun h b as rest hk hl => cs_V (ci := 8) (mi := nX9_nights) (pc := 50) (y := yX9_note) (idx := 184) dX9_nights_50 q1428 q1430 qs43 rfl hk hyX9_note (sigC q1431) pnX9_note hl) wdX9_note zX9_note (Nat.le_of_ble_eq_true rfl) (Nat.le_of_ble_eq_true rfl)
theorem eX9_nights_53 : SiZ nX9_nights 53 (i_aload 0 54) := s_aload_n dX9_nights_53 rfl
theorem eX9_nights_54 : ScZ nX9_nights 54 (c_V 0 57 2 9 (Mt mX9_oneNight 2)) := e_V (mi := nX9_nights) (mi' := nX9_oneNight) (len := 3) (fun h b as rest hk hl => cs_V (ci := 8) (mi := nX9_nights) (pc := 54) (y := yX9_oneNight) (idx := 187) dX9_nights_54 q1432 q1434 qs44 rfl hk hyX9_oneNight (sigC q1435) pnX9_oneNight hl) wdX9_oneNight zX9_oneNight (Nat.le_of_ble_eq_true rfl) (Nat.le_of_ble_eq_true rfl)
theorem eX9_nights_57 : SiZ nX9_nights 57 (i_iinc 2 1 60) := s_iinc dX9_nights_57 (by decide)
theorem eX9_nights_60 : SiZ nX9_nights 60 (i_goto 44) := s_goto dX9_nights_60 (by decide)
theorem eX9_nights_63 : SiZ nX9_nights 63 (i_aload 0 64) := s_aload_n dX9_nights_63 rfl
theorem eX9_nights_64 : ScZ nX9_nights 64 (c_V 0 67 3 9 (Mt mX9_allPages 3)) := e_V (mi := nX9_nights) (mi' := nX9_allPages) (len := 3) (fun h b as rest hk hl => cs_V (ci := 8) (mi := nX9_nights) (pc := 64) (y := yX9_allPages) (idx := 190) dX9_nights_64 q1468 q1470 qs52 rfl hk hyX9_allPages (sigC q1471) pnX9_allPages hl) wdX9_allPages zX9_allPages (Nat.le_of_ble_eq_true rfl) (Nat.le_of_ble_eq_true rfl)
theorem eX9_nights_67 : SiZ nX9_nights 67 i_iret := s_iret dX9_nights_67 rfl
theorem aX9_nights : ∀ x ∈ mX9_nights.1, EnZ nX9_nights x := fm_cons eX9_nights_0 (fm_cons eX9_nights_1 (fm_cons eX9_nights_4 (fm_cons eX9_nights_7 (fm_cons eX9_nights_9 (fm_cons eX9_nights_10 (fm_cons eX9_nights_11 (fm_cons eX9_nights_12 (fm_cons eX9_nights_13 (fm_cons eX9_nights_16 (fm_cons eX9_nights_19 (fm_cons eX9_nights_22 (fm_cons eX9_nights_24 (fm_cons eX9_nights_25 (fm_cons eX9_nights_26 (fm_cons eX9_nights_29 (fm_cons eX9_nights_30 (fm_cons eX9_nights_31 (fm_cons eX9_nights_32 (fm_cons eX9_nights_33 (fm_cons eX9_nights_36 (fm_cons eX9_nights_39 (fm_cons eX9_nights_41 (fm_cons eX9_nights_42 (fm_cons eX9_nights_43 (fm_cons eX9_nights_44 (fm_cons eX9_nights_45 (fm_cons eX9_nights_46 (fm_cons eX9_nights_49 (fm_cons eX9_nights_50 (fm_cons eX9_nights_53 (fm_cons eX9_nights_54 (fm_cons eX9_nights_57 (fm_cons eX9_nights_60 (fm_cons eX9_nights_63 (fm_cons eX9_nights_64 (fm_cons eX9_nights_67 (fm_nil)))))))))))))))))))))))))))))))))))))
theorem zX9_nights : SwZ nX9_nights (Mt mX9_nights 3) := wholeZ (mi := nX9_nights) (cd := mX9_nights) aX9_nights rfl (HdZ.none rfl)
abbrev nX9_isBook : MI := (cX9_isBook, 2, (some (.boolean)), RX9, "isBook", [], 1, 29)
theorem hyX9_isBook : yX9_isBook.cls ≠ "java/lang/invoke/MethodHandle" ∧ yX9_isBook.cls ≠ "java/lang/invoke/VarHandle" := by decide +kernel
theorem pnX9_isBook : (parseMethodDescriptor yX9_isBook.desc).map (fun d => d.parameters.length) = some 1 := by decide +kernel
theorem wdX9_isBook : CdW yX9_isBook (nX9_isBook) := ⟨Or.inl ⟨q1479, rfl⟩, rfl, rfl, plainFor_of_name (by decide +kernel)⟩
theorem eX9_isBook_0 : SiZ nX9_isBook 0 (i_iload 1 1) := s_iload_n dX9_isBook_0 rfl
theorem eX9_isBook_1 : SiZ nX9_isBook 1 (i_i2l 2) := s_i2l dX9_isBook_1
theorem eX9_isBook_2 : SiZ nX9_isBook 2 (i_push (.long 0) 3) := s_lconst dX9_isBook_2 (by decide)
theorem eX9_isBook_3 : SiZ nX9_isBook 3 (i_aload 0 4) := s_aload_n dX9_isBook_3 rfl
theorem eX9_isBook_4 : SiZ nX9_isBook 4 (i_getf 81 [9] 7) := s_getf dX9_isBook_4 (fm_cons (⟨_, _, _, _, _, _, rfl, fkX9_19_9⟩) (fm_nil))
theorem eX9_isBook_7 : SiZ nX9_isBook 7 (i_push (.int 0) 8) := s_iconst dX9_isBook_7 (by decide)
theorem eX9_isBook_8 : SiZ nX9_isBook 8 (i_iald 51 9) := s_ald (j := 0) (by decide) (fun _ => rfl) dX9_isBook_8 (Or.inl ⟨rfl, rfl⟩)
theorem eX9_isBook_9 : SiZ nX9_isBook 9 (i_push (.int 1) 10) := s_iconst dX9_isBook_9 (by decide)
theorem eX9_isBook_10 : SiZ nX9_isBook 10 (i_bin (fun x y => x - y) 11) := s_isub dX9_isBook_10
theorem eX9_isBook_11 : SiZ nX9_isBook 11 (i_i2l 12) := s_i2l dX9_isBook_11
theorem eX9_isBook_12 : ScZ nX9_isBook 12 (c_S 3 15 6 (Mt mX9_in 6)) := e_S (mi := nX9_isBook) (mi' := nX9_in) (len := 3) (fun h as rest hl => cs_S (mi := nX9_isBook) (pc := 12) (y := yX9_in) (idx := 63) dX9_isBook_12 q1335 q1336 q89 q1337 hyX9_in pnX9_in hl) wdX9_in zX9_in (Nat.le_of_ble_eq_true rfl) (Nat.le_of_ble_eq_true rfl)
theorem eX9_isBook_15 : SiZ nX9_isBook 15 i_zret := s_zret dX9_isBook_15 rfl
theorem aX9_isBook : ∀ x ∈ mX9_isBook.1, EnZ nX9_isBook x := fm_cons eX9_isBook_0 (fm_cons eX9_isBook_1 (fm_cons eX9_isBook_2 (fm_cons eX9_isBook_3 (fm_cons eX9_isBook_4 (fm_cons eX9_isBook_7 (fm_cons eX9_isBook_8 (fm_cons eX9_isBook_9 (fm_cons eX9_isBook_10 (fm_cons eX9_isBook_11 (fm_cons eX9_isBook_12 (fm_cons eX9_isBook_15 (fm_nil))))))))))))
theorem zX9_isBook : SwZ nX9_isBook (Mt mX9_isBook 2) := wholeZ (mi := nX9_isBook) (cd := mX9_isBook) aX9_isBook rfl (HdZ.none rfl)
abbrev nX9_ones : MI := (cX9_ones, 3, (some (.int)), RX9, "ones", [], 0, 0)
theorem hyX9_ones : yX9_ones.cls ≠ "java/lang/invoke/MethodHandle" ∧ yX9_ones.cls ≠ "java/lang/invoke/VarHandle" := by decide +kernel
theorem pnX9_ones : (parseMethodDescriptor yX9_ones.desc).map (fun d => d.parameters.length) = some 1 := by decide +kernel
theorem wdX9_ones : CdW yX9_ones (nX9_ones) := ⟨Or.inl ⟨q1482, rfl⟩, rfl, rfl, plainFor_of_name (by decide +kernel)⟩
theorem eX9_ones_0 : SiZ nX9_ones 0 (i_push (.int 0) 1) := s_iconst dX9_ones_0 (by decide)
theorem eX9_ones_1 : SiZ nX9_ones 1 (i_istore 1 2) := s_istore_n dX9_ones_1 rfl
theorem eX9_ones_2 : SiZ nX9_ones 2 (i_iload 0 3) := s_iload_n dX9_ones_2 rfl
theorem eX9_ones_3 : SiZ nX9_ones 3 (i_istore 2 4) := s_istore_n dX9_ones_3 rfl
theorem eX9_ones_4 : SiZ nX9_ones 4 (i_iload 2 5) := s_iload_n dX9_ones_4 rfl
theorem eX9_ones_5 : SiZ nX9_ones 5 (i_if (fun x => x = 0) 20 8) := s_if_eq dX9_ones_5 (by decide)
theorem eX9_ones_8 : SiZ nX9_ones 8 (i_iinc 1 1 11) := s_iinc dX9_ones_8 (by decide)
theorem eX9_ones_11 : SiZ nX9_ones 11 (i_iload 2 12) := s_iload_n dX9_ones_11 rfl
theorem eX9_ones_12 : SiZ nX9_ones 12 (i_iload 2 13) := s_iload_n dX9_ones_12 rfl
theorem eX9_ones_13 : SiZ nX9_ones 13 (i_push (.int 1) 14) := s_iconst dX9_ones_13 (by decide)
theorem eX9_ones_14 : SiZ nX9_ones 14 (i_bin (fun x y => x - y) 15) := s_isub dX9_ones_14
theorem eX9_ones_15 : SiZ nX9_ones 15 (i_bin (fun x y => x &&& y) 16) := s_iand dX9_ones_15
theorem eX9_ones_16 : SiZ nX9_ones 16 (i_istore 2 17) := s_istore_n dX9_ones_16 rfl
theorem eX9_ones_17 : SiZ nX9_ones 17 (i_goto 4) := s_goto dX9_ones_17 (by decide)
theorem eX9_ones_20 : SiZ nX9_ones 20 (i_iload 1 21) := s_iload_n dX9_ones_20 rfl
theorem eX9_ones_21 : SiZ nX9_ones 21 i_iret := s_iret dX9_ones_21 rfl
theorem aX9_ones : ∀ x ∈ mX9_ones.1, EnZ nX9_ones x := fm_cons eX9_ones_0 (fm_cons eX9_ones_1 (fm_cons eX9_ones_2 (fm_cons eX9_ones_3 (fm_cons eX9_ones_4 (fm_cons eX9_ones_5 (fm_cons eX9_ones_8 (fm_cons eX9_ones_11 (fm_cons eX9_ones_12 (fm_cons eX9_ones_13 (fm_cons eX9_ones_14 (fm_cons eX9_ones_15 (fm_cons eX9_ones_16 (fm_cons eX9_ones_17 (fm_cons eX9_ones_20 (fm_cons eX9_ones_21 (fm_nil))))))))))))))))
theorem zX9_ones : SwZ nX9_ones (Mt mX9_ones 3) := wholeZ (mi := nX9_ones) (cd := mX9_ones) aX9_ones rfl (HdZ.none rfl)
abbrev nX9_light : MI := (cX9_light, 3, (some (.int)), RX9, "light", [], 2, 54)
theorem hyX9_light : yX9_light.cls ≠ "java/lang/invoke/MethodHandle" ∧ yX9_light.cls ≠ "java/lang/invoke/VarHandle" := by decide +kernel
theorem pnX9_light : (parseMethodDescriptor yX9_light.desc).map (fun d => d.parameters.length) = some 2 := by decide +kernel
theorem wdX9_light : CdW yX9_light (nX9_light) := ⟨Or.inl ⟨q1475, rfl⟩, rfl, rfl, plainFor_of_name (by decide +kernel)⟩
theorem eX9_light_0 : SiZ nX9_light 0 (i_aload 0 1) := s_aload_n dX9_light_0 rfl
theorem eX9_light_1 : SiZ nX9_light 1 (i_iload 1 2) := s_iload_n dX9_light_1 rfl
theorem eX9_light_2 : ScZ nX9_light 2 (c_V 1 5 2 9 (Mt mX9_isBook 2)) := e_V (mi := nX9_light) (mi' := nX9_isBook) (len := 3) (fun h b as rest hk hl => cs_V (ci := 8) (mi := nX9_light) (pc := 2) (y := yX9_isBook) (idx := 194) dX9_light_2 q1476 q1478 qs53 rfl hk hyX9_isBook (sigC q1479) pnX9_isBook hl) wdX9_isBook zX9_isBook (Nat.le_of_ble_eq_true rfl) (Nat.le_of_ble_eq_true rfl)
theorem eX9_light_5 : SiZ nX9_light 5 (i_if (fun x => x = 0) 18 8) := s_if_eq dX9_light_5 (by decide)
theorem eX9_light_8 : SiZ nX9_light 8 (i_iload 2 9) := s_iload_n dX9_light_8 rfl
theorem eX9_light_9 : SiZ nX9_light 9 (i_i2l 10) := s_i2l dX9_light_9
theorem eX9_light_10 : SiZ nX9_light 10 (i_push (.long 0) 11) := s_lconst dX9_light_10 (by decide)
theorem eX9_light_11 : SiZ nX9_light 11 (i_push (.long 1) 12) := s_lconst dX9_light_11 (by decide)
theorem eX9_light_12 : ScZ nX9_light 12 (c_S 3 15 6 (Mt mX9_in 6)) := e_S (mi := nX9_light) (mi' := nX9_in) (len := 3) (fun h as rest hl => cs_S (mi := nX9_light) (pc := 12) (y := yX9_in) (idx := 63) dX9_light_12 q1335 q1336 q89 q1337 hyX9_in pnX9_in hl) wdX9_in zX9_in (Nat.le_of_ble_eq_true rfl) (Nat.le_of_ble_eq_true rfl)
theorem eX9_light_15 : SiZ nX9_light 15 (i_if (fun x => ¬ x = 0) 21 18) := s_if_ne dX9_light_15 (by decide)
theorem eX9_light_18 : SiZ nX9_light 18 (i_push (.int (-1000001)) 20) := s_ldc dX9_light_18 q1339
theorem eX9_light_20 : SiZ nX9_light 20 i_iret := s_iret dX9_light_20 rfl
theorem eX9_light_21 : SiZ nX9_light 21 (i_aload 0 22) := s_aload_n dX9_light_21 rfl
theorem eX9_light_22 : SiZ nX9_light 22 (i_getf 81 [9] 25) := s_getf dX9_light_22 (fm_cons (⟨_, _, _, _, _, _, rfl, fkX9_19_9⟩) (fm_nil))
theorem eX9_light_25 : SiZ nX9_light 25 (i_push (.int 5) 26) := s_iconst dX9_light_25 (by decide)
theorem eX9_light_26 : SiZ nX9_light 26 (i_iald 51 27) := s_ald (j := 0) (by decide) (fun _ => rfl) dX9_light_26 (Or.inl ⟨rfl, rfl⟩)
theorem eX9_light_27 : SiZ nX9_light 27 (i_iload 1 28) := s_iload_n dX9_light_27 rfl
theorem eX9_light_28 : ScZ nX9_light 28 (c_S 2 31 2 (Mt mX9_has 2)) := e_S (mi := nX9_light) (mi' := nX9_has) (len := 3) (fun h as rest hl => cs_S (mi := nX9_light) (pc := 28) (y := yX9_has) (idx := 154) dX9_light_28 q1440 q1441 q89 q1442 hyX9_has pnX9_has hl) wdX9_has zX9_has (Nat.le_of_ble_eq_true rfl) (Nat.le_of_ble_eq_true rfl)
theorem eX9_light_31 : SiZ nX9_light 31 (i_iload 2 32) := s_iload_n dX9_light_31 rfl
theorem eX9_light_32 : SiZ nX9_light 32 (i_push (.int 1) 33) := s_iconst dX9_light_32 (by decide)
theorem eX9_light_33 : SiZ nX9_light 33 (i_icmp (fun x y => ¬ x = y) 40 36) := s_icmp_ne dX9_light_33 (by decide)
theorem eX9_light_36 : SiZ nX9_light 36 (i_push (.int 1) 37) := s_iconst dX9_light_36 (by decide)
theorem eX9_light_37 : SiZ nX9_light 37 (i_goto 41) := s_goto dX9_light_37 (by decide)
theorem eX9_light_40 : SiZ nX9_light 40 (i_push (.int 0) 41) := s_iconst dX9_light_40 (by decide)
theorem eX9_light_41 : SiZ nX9_light 41 (i_icmp (fun x y => x = y) 67 44) := s_icmp_eq dX9_light_41 (by decide)
theorem eX9_light_44 : SiZ nX9_light 44 (i_iload 2 45) := s_iload_n dX9_light_44 rfl
theorem eX9_light_45 : SiZ nX9_light 45 (i_push (.int 1) 46) := s_iconst dX9_light_45 (by decide)
theorem eX9_light_46 : SiZ nX9_light 46 (i_icmp (fun x y => ¬ x = y) 70 49) := s_icmp_ne dX9_light_46 (by decide)
theorem eX9_light_49 : SiZ nX9_light 49 (i_aload 0 50) := s_aload_n dX9_light_49 rfl
theorem eX9_light_50 : SiZ nX9_light 50 (i_getf 81 [9] 53) := s_getf dX9_light_50 (fm_cons (⟨_, _, _, _, _, _, rfl, fkX9_19_9⟩) (fm_nil))
theorem eX9_light_53 : SiZ nX9_light 53 (i_push (.int 5) 54) := s_iconst dX9_light_53 (by decide)
theorem eX9_light_54 : SiZ nX9_light 54 (i_iald 51 55) := s_ald (j := 0) (by decide) (fun _ => rfl) dX9_light_54 (Or.inl ⟨rfl, rfl⟩)
theorem eX9_light_55 : ScZ nX9_light 55 (c_S 1 58 3 (Mt mX9_ones 3)) := e_S (mi := nX9_light) (mi' := nX9_ones) (len := 3) (fun h as rest hl => cs_S (mi := nX9_light) (pc := 55) (y := yX9_ones) (idx := 197) dX9_light_55 q1480 q1481 q89 q1482 hyX9_ones pnX9_ones hl) wdX9_ones zX9_ones (Nat.le_of_ble_eq_true rfl) (Nat.le_of_ble_eq_true rfl)
theorem eX9_light_58 : SiZ nX9_light 58 (i_aload 0 59) := s_aload_n dX9_light_58 rfl
theorem eX9_light_59 : SiZ nX9_light 59 (i_getf 81 [9] 62) := s_getf dX9_light_59 (fm_cons (⟨_, _, _, _, _, _, rfl, fkX9_19_9⟩) (fm_nil))
theorem eX9_light_62 : SiZ nX9_light 62 (i_push (.int 3) 63) := s_iconst dX9_light_62 (by decide)
theorem eX9_light_63 : SiZ nX9_light 63 (i_iald 51 64) := s_ald (j := 0) (by decide) (fun _ => rfl) dX9_light_63 (Or.inl ⟨rfl, rfl⟩)
theorem eX9_light_64 : SiZ nX9_light 64 (i_icmp (fun x y => x < y) 70 67) := s_icmp_lt dX9_light_64 (by decide)
theorem eX9_light_67 : SiZ nX9_light 67 (i_push (.int (-1000002)) 69) := s_ldc dX9_light_67 q1422
theorem eX9_light_69 : SiZ nX9_light 69 i_iret := s_iret dX9_light_69 rfl
theorem eX9_light_70 : SiZ nX9_light 70 (i_aload 0 71) := s_aload_n dX9_light_70 rfl
theorem eX9_light_71 : ScZ nX9_light 71 (c_V 0 74 2 9 (Mt mX9_note 2)) := e_V (mi := nX9_light) (mi' := nX9_note) (len := 3) (fun h b as rest hk hl => cs_V (ci := 8) (mi := nX9_light) (pc := 71) (y := yX9_note) (idx := 184) dX9_light_71 q1428 q1430 qs43 rfl hk hyX9_note (sigC q1431) pnX9_note hl) wdX9_note zX9_note (Nat.le_of_ble_eq_true rfl) (Nat.le_of_ble_eq_true rfl)
theorem eX9_light_74 : SiZ nX9_light 74 (i_aload 0 75) := s_aload_n dX9_light_74 rfl
theorem eX9_light_75 : SiZ nX9_light 75 (i_getf 81 [9] 78) := s_getf dX9_light_75 (fm_cons (⟨_, _, _, _, _, _, rfl, fkX9_19_9⟩) (fm_nil))
theorem eX9_light_78 : SiZ nX9_light 78 (i_push (.int 5) 79) := s_iconst dX9_light_78 (by decide)
theorem eX9_light_79 : SiZ nX9_light 79 (i_dup2 80) := s_dup2 dX9_light_79
theorem eX9_light_80 : SiZ nX9_light 80 (i_iald 51 81) := s_ald (j := 0) (by decide) (fun _ => rfl) dX9_light_80 (Or.inl ⟨rfl, rfl⟩)
theorem eX9_light_81 : SiZ nX9_light 81 (i_push (.int 1) 82) := s_iconst dX9_light_81 (by decide)
theorem eX9_light_82 : SiZ nX9_light 82 (i_iload 1 83) := s_iload_n dX9_light_82 rfl
theorem eX9_light_83 : SiZ nX9_light 83 (i_bin (fun x y => x <<< (y &&& 31)) 84) := s_ishl dX9_light_83
theorem eX9_light_84 : SiZ nX9_light 84 (i_bin (fun x y => x ^^^ y) 85) := s_ixor dX9_light_84
theorem eX9_light_85 : SiZ nX9_light 85 (i_iast 51 (fun x => x) 86) := s_ast (j := 0) (by decide) (fun _ => rfl) dX9_light_85 (Or.inl ⟨rfl, rfl, rfl⟩)
theorem eX9_light_86 : SiZ nX9_light 86 (i_aload 0 87) := s_aload_n dX9_light_86 rfl
theorem eX9_light_87 : SiZ nX9_light 87 (i_getf 81 [9] 90) := s_getf dX9_light_87 (fm_cons (⟨_, _, _, _, _, _, rfl, fkX9_19_9⟩) (fm_nil))
theorem eX9_light_90 : SiZ nX9_light 90 (i_push (.int 5) 91) := s_iconst dX9_light_90 (by decide)
theorem eX9_light_91 : SiZ nX9_light 91 (i_iald 51 92) := s_ald (j := 0) (by decide) (fun _ => rfl) dX9_light_91 (Or.inl ⟨rfl, rfl⟩)
theorem eX9_light_92 : SiZ nX9_light 92 i_iret := s_iret dX9_light_92 rfl
theorem aX9_light : ∀ x ∈ mX9_light.1, EnZ nX9_light x := fm_cons eX9_light_0 (fm_cons eX9_light_1 (fm_cons eX9_light_2 (fm_cons eX9_light_5 (fm_cons eX9_light_8 (fm_cons eX9_light_9 (fm_cons eX9_light_10 (fm_cons eX9_light_11 (fm_cons eX9_light_12 (fm_cons eX9_light_15 (fm_cons eX9_light_18 (fm_cons eX9_light_20 (fm_cons eX9_light_21 (fm_cons eX9_light_22 (fm_cons eX9_light_25 (fm_cons eX9_light_26 (fm_cons eX9_light_27 (fm_cons eX9_light_28 (fm_cons eX9_light_31 (fm_cons eX9_light_32 (fm_cons eX9_light_33 (fm_cons eX9_light_36 (fm_cons eX9_light_37 (fm_cons eX9_light_40 (fm_cons eX9_light_41 (fm_cons eX9_light_44 (fm_cons eX9_light_45 (fm_cons eX9_light_46 (fm_cons eX9_light_49 (fm_cons eX9_light_50 (fm_cons eX9_light_53 (fm_cons eX9_light_54 (fm_cons eX9_light_55 (fm_cons eX9_light_58 (fm_cons eX9_light_59 (fm_cons eX9_light_62 (fm_cons eX9_light_63 (fm_cons eX9_light_64 (fm_cons eX9_light_67 (fm_cons eX9_light_69 (fm_cons eX9_light_70 (fm_cons eX9_light_71 (fm_cons eX9_light_74 (fm_cons eX9_light_75 (fm_cons eX9_light_78 (fm_cons eX9_light_79 (fm_cons eX9_light_80 (fm_cons eX9_light_81 (fm_cons eX9_light_82 (fm_cons eX9_light_83 (fm_cons eX9_light_84 (fm_cons eX9_light_85 (fm_cons eX9_light_86 (fm_cons eX9_light_87 (fm_cons eX9_light_90 (fm_cons eX9_light_91 (fm_cons eX9_light_92 (fm_nil)))))))))))))))))))))))))))))))))))))))))))))))))))))))))
theorem zX9_light : SwZ nX9_light (Mt mX9_light 3) := wholeZ (mi := nX9_light) (cd := mX9_light) aX9_light rfl (HdZ.none rfl)
abbrev nX9_keepIt : MI := (cX9_keepIt, 3, (some (.int)), RX9, "keepIt", [], 2, 54)
theorem hyX9_keepIt : yX9_keepIt.cls ≠ "java/lang/invoke/MethodHandle" ∧ yX9_keepIt.cls ≠ "java/lang/invoke/VarHandle" := by decide +kernel
theorem pnX9_keepIt : (parseMethodDescriptor yX9_keepIt.desc).map (fun d => d.parameters.length) = some 2 := by decide +kernel
theorem wdX9_keepIt : CdW yX9_keepIt (nX9_keepIt) := ⟨Or.inl ⟨q1486, rfl⟩, rfl, rfl, plainFor_of_name (by decide +kernel)⟩
theorem eX9_keepIt_0 : SiZ nX9_keepIt 0 (i_aload 0 1) := s_aload_n dX9_keepIt_0 rfl
theorem eX9_keepIt_1 : SiZ nX9_keepIt 1 (i_iload 1 2) := s_iload_n dX9_keepIt_1 rfl
theorem eX9_keepIt_2 : ScZ nX9_keepIt 2 (c_V 1 5 2 9 (Mt mX9_isBook 2)) := e_V (mi := nX9_keepIt) (mi' := nX9_isBook) (len := 3) (fun h b as rest hk hl => cs_V (ci := 8) (mi := nX9_keepIt) (pc := 2) (y := yX9_isBook) (idx := 194) dX9_keepIt_2 q1476 q1478 qs53 rfl hk hyX9_isBook (sigC q1479) pnX9_isBook hl) wdX9_isBook zX9_isBook (Nat.le_of_ble_eq_true rfl) (Nat.le_of_ble_eq_true rfl)
theorem eX9_keepIt_5 : SiZ nX9_keepIt 5 (i_if (fun x => x = 0) 18 8) := s_if_eq dX9_keepIt_5 (by decide)
theorem eX9_keepIt_8 : SiZ nX9_keepIt 8 (i_iload 2 9) := s_iload_n dX9_keepIt_8 rfl
theorem eX9_keepIt_9 : SiZ nX9_keepIt 9 (i_i2l 10) := s_i2l dX9_keepIt_9
theorem eX9_keepIt_10 : SiZ nX9_keepIt 10 (i_push (.long 0) 11) := s_lconst dX9_keepIt_10 (by decide)
theorem eX9_keepIt_11 : SiZ nX9_keepIt 11 (i_push (.long 1) 12) := s_lconst dX9_keepIt_11 (by decide)
theorem eX9_keepIt_12 : ScZ nX9_keepIt 12 (c_S 3 15 6 (Mt mX9_in 6)) := e_S (mi := nX9_keepIt) (mi' := nX9_in) (len := 3) (fun h as rest hl => cs_S (mi := nX9_keepIt) (pc := 12) (y := yX9_in) (idx := 63) dX9_keepIt_12 q1335 q1336 q89 q1337 hyX9_in pnX9_in hl) wdX9_in zX9_in (Nat.le_of_ble_eq_true rfl) (Nat.le_of_ble_eq_true rfl)
theorem eX9_keepIt_15 : SiZ nX9_keepIt 15 (i_if (fun x => ¬ x = 0) 21 18) := s_if_ne dX9_keepIt_15 (by decide)
theorem eX9_keepIt_18 : SiZ nX9_keepIt 18 (i_push (.int (-1000001)) 20) := s_ldc dX9_keepIt_18 q1339
theorem eX9_keepIt_20 : SiZ nX9_keepIt 20 i_iret := s_iret dX9_keepIt_20 rfl
theorem eX9_keepIt_21 : SiZ nX9_keepIt 21 (i_aload 0 22) := s_aload_n dX9_keepIt_21 rfl
theorem eX9_keepIt_22 : SiZ nX9_keepIt 22 (i_getf 81 [9] 25) := s_getf dX9_keepIt_22 (fm_cons (⟨_, _, _, _, _, _, rfl, fkX9_19_9⟩) (fm_nil))
theorem eX9_keepIt_25 : SiZ nX9_keepIt 25 (i_push (.int 6) 27) := s_bipush dX9_keepIt_25 (by decide)
theorem eX9_keepIt_27 : SiZ nX9_keepIt 27 (i_iald 51 28) := s_ald (j := 0) (by decide) (fun _ => rfl) dX9_keepIt_27 (Or.inl ⟨rfl, rfl⟩)
theorem eX9_keepIt_28 : SiZ nX9_keepIt 28 (i_iload 1 29) := s_iload_n dX9_keepIt_28 rfl
theorem eX9_keepIt_29 : ScZ nX9_keepIt 29 (c_S 2 32 2 (Mt mX9_has 2)) := e_S (mi := nX9_keepIt) (mi' := nX9_has) (len := 3) (fun h as rest hl => cs_S (mi := nX9_keepIt) (pc := 29) (y := yX9_has) (idx := 154) dX9_keepIt_29 q1440 q1441 q89 q1442 hyX9_has pnX9_has hl) wdX9_has zX9_has (Nat.le_of_ble_eq_true rfl) (Nat.le_of_ble_eq_true rfl)
theorem eX9_keepIt_32 : SiZ nX9_keepIt 32 (i_iload 2 33) := s_iload_n dX9_keepIt_32 rfl
theorem eX9_keepIt_33 : SiZ nX9_keepIt 33 (i_push (.int 1) 34) := s_iconst dX9_keepIt_33 (by decide)
theorem eX9_keepIt_34 : SiZ nX9_keepIt 34 (i_icmp (fun x y => ¬ x = y) 41 37) := s_icmp_ne dX9_keepIt_34 (by decide)
theorem eX9_keepIt_37 : SiZ nX9_keepIt 37 (i_push (.int 1) 38) := s_iconst dX9_keepIt_37 (by decide)
theorem eX9_keepIt_38 : SiZ nX9_keepIt 38 (i_goto 42) := s_goto dX9_keepIt_38 (by decide)
theorem eX9_keepIt_41 : SiZ nX9_keepIt 41 (i_push (.int 0) 42) := s_iconst dX9_keepIt_41 (by decide)
theorem eX9_keepIt_42 : SiZ nX9_keepIt 42 (i_icmp (fun x y => ¬ x = y) 48 45) := s_icmp_ne dX9_keepIt_42 (by decide)
theorem eX9_keepIt_45 : SiZ nX9_keepIt 45 (i_push (.int (-1000002)) 47) := s_ldc dX9_keepIt_45 q1422
theorem eX9_keepIt_47 : SiZ nX9_keepIt 47 i_iret := s_iret dX9_keepIt_47 rfl
theorem eX9_keepIt_48 : SiZ nX9_keepIt 48 (i_aload 0 49) := s_aload_n dX9_keepIt_48 rfl
theorem eX9_keepIt_49 : ScZ nX9_keepIt 49 (c_V 0 52 2 9 (Mt mX9_note 2)) := e_V (mi := nX9_keepIt) (mi' := nX9_note) (len := 3) (fun h b as rest hk hl => cs_V (ci := 8) (mi := nX9_keepIt) (pc := 49) (y := yX9_note) (idx := 184) dX9_keepIt_49 q1428 q1430 qs43 rfl hk hyX9_note (sigC q1431) pnX9_note hl) wdX9_note zX9_note (Nat.le_of_ble_eq_true rfl) (Nat.le_of_ble_eq_true rfl)
theorem eX9_keepIt_52 : SiZ nX9_keepIt 52 (i_aload 0 53) := s_aload_n dX9_keepIt_52 rfl
theorem eX9_keepIt_53 : SiZ nX9_keepIt 53 (i_getf 81 [9] 56) := s_getf dX9_keepIt_53 (fm_cons (⟨_, _, _, _, _, _, rfl, fkX9_19_9⟩) (fm_nil))
theorem eX9_keepIt_56 : SiZ nX9_keepIt 56 (i_push (.int 6) 58) := s_bipush dX9_keepIt_56 (by decide)
theorem eX9_keepIt_58 : SiZ nX9_keepIt 58 (i_dup2 59) := s_dup2 dX9_keepIt_58
theorem eX9_keepIt_59 : SiZ nX9_keepIt 59 (i_iald 51 60) := s_ald (j := 0) (by decide) (fun _ => rfl) dX9_keepIt_59 (Or.inl ⟨rfl, rfl⟩)
theorem eX9_keepIt_60 : SiZ nX9_keepIt 60 (i_push (.int 1) 61) := s_iconst dX9_keepIt_60 (by decide)
theorem eX9_keepIt_61 : SiZ nX9_keepIt 61 (i_iload 1 62) := s_iload_n dX9_keepIt_61 rfl
theorem eX9_keepIt_62 : SiZ nX9_keepIt 62 (i_bin (fun x y => x <<< (y &&& 31)) 63) := s_ishl dX9_keepIt_62
theorem eX9_keepIt_63 : SiZ nX9_keepIt 63 (i_bin (fun x y => x ^^^ y) 64) := s_ixor dX9_keepIt_63
theorem eX9_keepIt_64 : SiZ nX9_keepIt 64 (i_iast 51 (fun x => x) 65) := s_ast (j := 0) (by decide) (fun _ => rfl) dX9_keepIt_64 (Or.inl ⟨rfl, rfl, rfl⟩)
theorem eX9_keepIt_65 : SiZ nX9_keepIt 65 (i_aload 0 66) := s_aload_n dX9_keepIt_65 rfl
theorem eX9_keepIt_66 : SiZ nX9_keepIt 66 (i_getf 81 [9] 69) := s_getf dX9_keepIt_66 (fm_cons (⟨_, _, _, _, _, _, rfl, fkX9_19_9⟩) (fm_nil))
theorem eX9_keepIt_69 : SiZ nX9_keepIt 69 (i_push (.int 6) 71) := s_bipush dX9_keepIt_69 (by decide)
theorem eX9_keepIt_71 : SiZ nX9_keepIt 71 (i_iald 51 72) := s_ald (j := 0) (by decide) (fun _ => rfl) dX9_keepIt_71 (Or.inl ⟨rfl, rfl⟩)
theorem eX9_keepIt_72 : SiZ nX9_keepIt 72 i_iret := s_iret dX9_keepIt_72 rfl
theorem aX9_keepIt : ∀ x ∈ mX9_keepIt.1, EnZ nX9_keepIt x := fm_cons eX9_keepIt_0 (fm_cons eX9_keepIt_1 (fm_cons eX9_keepIt_2 (fm_cons eX9_keepIt_5 (fm_cons eX9_keepIt_8 (fm_cons eX9_keepIt_9 (fm_cons eX9_keepIt_10 (fm_cons eX9_keepIt_11 (fm_cons eX9_keepIt_12 (fm_cons eX9_keepIt_15 (fm_cons eX9_keepIt_18 (fm_cons eX9_keepIt_20 (fm_cons eX9_keepIt_21 (fm_cons eX9_keepIt_22 (fm_cons eX9_keepIt_25 (fm_cons eX9_keepIt_27 (fm_cons eX9_keepIt_28 (fm_cons eX9_keepIt_29 (fm_cons eX9_keepIt_32 (fm_cons eX9_keepIt_33 (fm_cons eX9_keepIt_34 (fm_cons eX9_keepIt_37 (fm_cons eX9_keepIt_38 (fm_cons eX9_keepIt_41 (fm_cons eX9_keepIt_42 (fm_cons eX9_keepIt_45 (fm_cons eX9_keepIt_47 (fm_cons eX9_keepIt_48 (fm_cons eX9_keepIt_49 (fm_cons eX9_keepIt_52 (fm_cons eX9_keepIt_53 (fm_cons eX9_keepIt_56 (fm_cons eX9_keepIt_58 (fm_cons eX9_keepIt_59 (fm_cons eX9_keepIt_60 (fm_cons eX9_keepIt_61 (fm_cons eX9_keepIt_62 (fm_cons eX9_keepIt_63 (fm_cons eX9_keepIt_64 (fm_cons eX9_keepIt_65 (fm_cons eX9_keepIt_66 (fm_cons eX9_keepIt_69 (fm_cons eX9_keepIt_71 (fm_cons eX9_keepIt_72 (fm_nil))))))))))))))))))))))))))))))))))))))))))))
theorem zX9_keepIt : SwZ nX9_keepIt (Mt mX9_keepIt 3) := wholeZ (mi := nX9_keepIt) (cd := mX9_keepIt) aX9_keepIt rfl (HdZ.none rfl)
abbrev nX9_change : MI := (cX9_change, 4, (some (.int)), RX9, "change", [], 2, 54)
theorem hyX9_change : yX9_change.cls ≠ "java/lang/invoke/MethodHandle" ∧ yX9_change.cls ≠ "java/lang/invoke/VarHandle" := by decide +kernel
theorem pnX9_change : (parseMethodDescriptor yX9_change.desc).map (fun d => d.parameters.length) = some 2 := by decide +kernel
theorem wdX9_change : CdW yX9_change (nX9_change) := ⟨Or.inl ⟨q1490, rfl⟩, rfl, rfl, plainFor_of_name (by decide +kernel)⟩
theorem eX9_change_0 : SiZ nX9_change 0 (i_aload 0 1) := s_aload_n dX9_change_0 rfl
theorem eX9_change_1 : SiZ nX9_change 1 (i_iload 1 2) := s_iload_n dX9_change_1 rfl
theorem eX9_change_2 : ScZ nX9_change 2 (c_V 1 5 2 9 (Mt mX9_isBook 2)) := e_V (mi := nX9_change) (mi' := nX9_isBook) (len := 3) (fun h b as rest hk hl => cs_V (ci := 8) (mi := nX9_change) (pc := 2) (y := yX9_isBook) (idx := 194) dX9_change_2 q1476 q1478 qs53 rfl hk hyX9_isBook (sigC q1479) pnX9_isBook hl) wdX9_isBook zX9_isBook (Nat.le_of_ble_eq_true rfl) (Nat.le_of_ble_eq_true rfl)
theorem eX9_change_5 : SiZ nX9_change 5 (i_if (fun x => x = 0) 21 8) := s_if_eq dX9_change_5 (by decide)
theorem eX9_change_8 : SiZ nX9_change 8 (i_aload 0 9) := s_aload_n dX9_change_8 rfl
theorem eX9_change_9 : SiZ nX9_change 9 (i_iload 2 10) := s_iload_n dX9_change_9 rfl
theorem eX9_change_10 : ScZ nX9_change 10 (c_V 1 13 2 9 (Mt mX9_isBook 2)) := e_V (mi := nX9_change) (mi' := nX9_isBook) (len := 3) (fun h b as rest hk hl => cs_V (ci := 8) (mi := nX9_change) (pc := 10) (y := yX9_isBook) (idx := 194) dX9_change_10 q1476 q1478 qs53 rfl hk hyX9_isBook (sigC q1479) pnX9_isBook hl) wdX9_isBook zX9_isBook (Nat.le_of_ble_eq_true rfl) (Nat.le_of_ble_eq_true rfl)
theorem eX9_change_13 : SiZ nX9_change 13 (i_if (fun x => x = 0) 21 16) := s_if_eq dX9_change_13 (by decide)
theorem eX9_change_16 : SiZ nX9_change 16 (i_iload 1 17) := s_iload_n dX9_change_16 rfl
theorem eX9_change_17 : SiZ nX9_change 17 (i_iload 2 18) := s_iload_n dX9_change_17 rfl
theorem eX9_change_18 : SiZ nX9_change 18 (i_icmp (fun x y => ¬ x = y) 24 21) := s_icmp_ne dX9_change_18 (by decide)
theorem eX9_change_21 : SiZ nX9_change 21 (i_push (.int (-1000001)) 23) := s_ldc dX9_change_21 q1339
theorem eX9_change_23 : SiZ nX9_change 23 i_iret := s_iret dX9_change_23 rfl
theorem eX9_change_24 : SiZ nX9_change 24 (i_aload 0 25) := s_aload_n dX9_change_24 rfl
theorem eX9_change_25 : ScZ nX9_change 25 (c_V 0 28 2 9 (Mt mX9_note 2)) := e_V (mi := nX9_change) (mi' := nX9_note) (len := 3) (fun h b as rest hk hl => cs_V (ci := 8) (mi := nX9_change) (pc := 25) (y := yX9_note) (idx := 184) dX9_change_25 q1428 q1430 qs43 rfl hk hyX9_note (sigC q1431) pnX9_note hl) wdX9_note zX9_note (Nat.le_of_ble_eq_true rfl) (Nat.le_of_ble_eq_true rfl)
theorem eX9_change_28 : SiZ nX9_change 28 (i_aload 0 29) := s_aload_n dX9_change_28 rfl
theorem eX9_change_29 : SiZ nX9_change 29 (i_getf 81 [9] 32) := s_getf dX9_change_29 (fm_cons (⟨_, _, _, _, _, _, rfl, fkX9_19_9⟩) (fm_nil))
theorem eX9_change_32 : SiZ nX9_change 32 (i_push (.int 20) 34) := s_bipush dX9_change_32 (by decide)
theorem eX9_change_34 : SiZ nX9_change 34 (i_iload 1 35) := s_iload_n dX9_change_34 rfl
theorem eX9_change_35 : SiZ nX9_change 35 (i_bin (fun x y => x + y) 36) := s_iadd dX9_change_35
theorem eX9_change_36 : SiZ nX9_change 36 (i_iald 51 37) := s_ald (j := 0) (by decide) (fun _ => rfl) dX9_change_36 (Or.inl ⟨rfl, rfl⟩)
theorem eX9_change_37 : SiZ nX9_change 37 (i_istore 3 38) := s_istore_n dX9_change_37 rfl
theorem eX9_change_38 : SiZ nX9_change 38 (i_aload 0 39) := s_aload_n dX9_change_38 rfl
theorem eX9_change_39 : SiZ nX9_change 39 (i_getf 81 [9] 42) := s_getf dX9_change_39 (fm_cons (⟨_, _, _, _, _, _, rfl, fkX9_19_9⟩) (fm_nil))
theorem eX9_change_42 : SiZ nX9_change 42 (i_push (.int 20) 44) := s_bipush dX9_change_42 (by decide)
theorem eX9_change_44 : SiZ nX9_change 44 (i_iload 1 45) := s_iload_n dX9_change_44 rfl
theorem eX9_change_45 : SiZ nX9_change 45 (i_bin (fun x y => x + y) 46) := s_iadd dX9_change_45
theorem eX9_change_46 : SiZ nX9_change 46 (i_aload 0 47) := s_aload_n dX9_change_46 rfl
theorem eX9_change_47 : SiZ nX9_change 47 (i_getf 81 [9] 50) := s_getf dX9_change_47 (fm_cons (⟨_, _, _, _, _, _, rfl, fkX9_19_9⟩) (fm_nil))
theorem eX9_change_50 : SiZ nX9_change 50 (i_push (.int 20) 52) := s_bipush dX9_change_50 (by decide)
theorem eX9_change_52 : SiZ nX9_change 52 (i_iload 2 53) := s_iload_n dX9_change_52 rfl
theorem eX9_change_53 : SiZ nX9_change 53 (i_bin (fun x y => x + y) 54) := s_iadd dX9_change_53
theorem eX9_change_54 : SiZ nX9_change 54 (i_iald 51 55) := s_ald (j := 0) (by decide) (fun _ => rfl) dX9_change_54 (Or.inl ⟨rfl, rfl⟩)
theorem eX9_change_55 : SiZ nX9_change 55 (i_iast 51 (fun x => x) 56) := s_ast (j := 0) (by decide) (fun _ => rfl) dX9_change_55 (Or.inl ⟨rfl, rfl, rfl⟩)
theorem eX9_change_56 : SiZ nX9_change 56 (i_aload 0 57) := s_aload_n dX9_change_56 rfl
theorem eX9_change_57 : SiZ nX9_change 57 (i_getf 81 [9] 60) := s_getf dX9_change_57 (fm_cons (⟨_, _, _, _, _, _, rfl, fkX9_19_9⟩) (fm_nil))
theorem eX9_change_60 : SiZ nX9_change 60 (i_push (.int 20) 62) := s_bipush dX9_change_60 (by decide)
theorem eX9_change_62 : SiZ nX9_change 62 (i_iload 2 63) := s_iload_n dX9_change_62 rfl
theorem eX9_change_63 : SiZ nX9_change 63 (i_bin (fun x y => x + y) 64) := s_iadd dX9_change_63
theorem eX9_change_64 : SiZ nX9_change 64 (i_iload 3 65) := s_iload_n dX9_change_64 rfl
theorem eX9_change_65 : SiZ nX9_change 65 (i_iast 51 (fun x => x) 66) := s_ast (j := 0) (by decide) (fun _ => rfl) dX9_change_65 (Or.inl ⟨rfl, rfl, rfl⟩)
theorem eX9_change_66 : SiZ nX9_change 66 (i_aload 0 67) := s_aload_n dX9_change_66 rfl
theorem eX9_change_67 : SiZ nX9_change 67 (i_getf 81 [9] 70) := s_getf dX9_change_67 (fm_cons (⟨_, _, _, _, _, _, rfl, fkX9_19_9⟩) (fm_nil))
theorem eX9_change_70 : SiZ nX9_change 70 (i_push (.int 20) 72) := s_bipush dX9_change_70 (by decide)
theorem eX9_change_72 : SiZ nX9_change 72 (i_iload 1 73) := s_iload_n dX9_change_72 rfl
theorem eX9_change_73 : SiZ nX9_change 73 (i_bin (fun x y => x + y) 74) := s_iadd dX9_change_73
theorem eX9_change_74 : SiZ nX9_change 74 (i_iald 51 75) := s_ald (j := 0) (by decide) (fun _ => rfl) dX9_change_74 (Or.inl ⟨rfl, rfl⟩)
theorem eX9_change_75 : SiZ nX9_change 75 i_iret := s_iret dX9_change_75 rfl
theorem aX9_change : ∀ x ∈ mX9_change.1, EnZ nX9_change x := fm_cons eX9_change_0 (fm_cons eX9_change_1 (fm_cons eX9_change_2 (fm_cons eX9_change_5 (fm_cons eX9_change_8 (fm_cons eX9_change_9 (fm_cons eX9_change_10 (fm_cons eX9_change_13 (fm_cons eX9_change_16 (fm_cons eX9_change_17 (fm_cons eX9_change_18 (fm_cons eX9_change_21 (fm_cons eX9_change_23 (fm_cons eX9_change_24 (fm_cons eX9_change_25 (fm_cons eX9_change_28 (fm_cons eX9_change_29 (fm_cons eX9_change_32 (fm_cons eX9_change_34 (fm_cons eX9_change_35 (fm_cons eX9_change_36 (fm_cons eX9_change_37 (fm_cons eX9_change_38 (fm_cons eX9_change_39 (fm_cons eX9_change_42 (fm_cons eX9_change_44 (fm_cons eX9_change_45 (fm_cons eX9_change_46 (fm_cons eX9_change_47 (fm_cons eX9_change_50 (fm_cons eX9_change_52 (fm_cons eX9_change_53 (fm_cons eX9_change_54 (fm_cons eX9_change_55 (fm_cons eX9_change_56 (fm_cons eX9_change_57 (fm_cons eX9_change_60 (fm_cons eX9_change_62 (fm_cons eX9_change_63 (fm_cons eX9_change_64 (fm_cons eX9_change_65 (fm_cons eX9_change_66 (fm_cons eX9_change_67 (fm_cons eX9_change_70 (fm_cons eX9_change_72 (fm_cons eX9_change_73 (fm_cons eX9_change_74 (fm_cons eX9_change_75 (fm_nil))))))))))))))))))))))))))))))))))))))))))))))))
theorem zX9_change : SwZ nX9_change (Mt mX9_change 4) := wholeZ (mi := nX9_change) (cd := mX9_change) aX9_change rfl (HdZ.none rfl)
abbrev nX9_isFish : MI := (cX9_isFish, 2, (some (.boolean)), RX9, "isFish", [], 1, 29)
theorem hyX9_isFish : yX9_isFish.cls ≠ "java/lang/invoke/MethodHandle" ∧ yX9_isFish.cls ≠ "java/lang/invoke/VarHandle" := by decide +kernel
theorem pnX9_isFish : (parseMethodDescriptor yX9_isFish.desc).map (fun d => d.parameters.length) = some 1 := by decide +kernel
theorem wdX9_isFish : CdW yX9_isFish (nX9_isFish) := ⟨Or.inl ⟨q1498, rfl⟩, rfl, rfl, plainFor_of_name (by decide +kernel)⟩
theorem eX9_isFish_0 : SiZ nX9_isFish 0 (i_iload 1 1) := s_iload_n dX9_isFish_0 rfl
theorem eX9_isFish_1 : SiZ nX9_isFish 1 (i_i2l 2) := s_i2l dX9_isFish_1
theorem eX9_isFish_2 : SiZ nX9_isFish 2 (i_push (.long 0) 3) := s_lconst dX9_isFish_2 (by decide)
theorem eX9_isFish_3 : SiZ nX9_isFish 3 (i_aload 0 4) := s_aload_n dX9_isFish_3 rfl
theorem eX9_isFish_4 : SiZ nX9_isFish 4 (i_getf 81 [9] 7) := s_getf dX9_isFish_4 (fm_cons (⟨_, _, _, _, _, _, rfl, fkX9_19_9⟩) (fm_nil))
theorem eX9_isFish_7 : SiZ nX9_isFish 7 (i_push (.int 1) 8) := s_iconst dX9_isFish_7 (by decide)
theorem eX9_isFish_8 : SiZ nX9_isFish 8 (i_iald 51 9) := s_ald (j := 0) (by decide) (fun _ => rfl) dX9_isFish_8 (Or.inl ⟨rfl, rfl⟩)
theorem eX9_isFish_9 : SiZ nX9_isFish 9 (i_push (.int 1) 10) := s_iconst dX9_isFish_9 (by decide)
theorem eX9_isFish_10 : SiZ nX9_isFish 10 (i_bin (fun x y => x - y) 11) := s_isub dX9_isFish_10
theorem eX9_isFish_11 : SiZ nX9_isFish 11 (i_i2l 12) := s_i2l dX9_isFish_11
theorem eX9_isFish_12 : ScZ nX9_isFish 12 (c_S 3 15 6 (Mt mX9_in 6)) := e_S (mi := nX9_isFish) (mi' := nX9_in) (len := 3) (fun h as rest hl => cs_S (mi := nX9_isFish) (pc := 12) (y := yX9_in) (idx := 63) dX9_isFish_12 q1335 q1336 q89 q1337 hyX9_in pnX9_in hl) wdX9_in zX9_in (Nat.le_of_ble_eq_true rfl) (Nat.le_of_ble_eq_true rfl)
theorem eX9_isFish_15 : SiZ nX9_isFish 15 i_zret := s_zret dX9_isFish_15 rfl
theorem aX9_isFish : ∀ x ∈ mX9_isFish.1, EnZ nX9_isFish x := fm_cons eX9_isFish_0 (fm_cons eX9_isFish_1 (fm_cons eX9_isFish_2 (fm_cons eX9_isFish_3 (fm_cons eX9_isFish_4 (fm_cons eX9_isFish_7 (fm_cons eX9_isFish_8 (fm_cons eX9_isFish_9 (fm_cons eX9_isFish_10 (fm_cons eX9_isFish_11 (fm_cons eX9_isFish_12 (fm_cons eX9_isFish_15 (fm_nil))))))))))))
theorem zX9_isFish : SwZ nX9_isFish (Mt mX9_isFish 2) := wholeZ (mi := nX9_isFish) (cd := mX9_isFish) aX9_isFish rfl (HdZ.none rfl)
abbrev nX9_move : MI := (cX9_move, 4, (some (.int)), RX9, "move", [], 2, 54)
theorem hyX9_move : yX9_move.cls ≠ "java/lang/invoke/MethodHandle" ∧ yX9_move.cls ≠ "java/lang/invoke/VarHandle" := by decide +kernel
theorem pnX9_move : (parseMethodDescriptor yX9_move.desc).map (fun d => d.parameters.length) = some 2 := by decide +kernel
theorem wdX9_move : CdW yX9_move (nX9_move) := ⟨Or.inl ⟨q1494, rfl⟩, rfl, rfl, plainFor_of_name (by decide +kernel)⟩
theorem eX9_move_0 : SiZ nX9_move 0 (i_aload 0 1) := s_aload_n dX9_move_0 rfl
theorem eX9_move_1 : SiZ nX9_move 1 (i_iload 1 2) := s_iload_n dX9_move_1 rfl
theorem eX9_move_2 : ScZ nX9_move 2 (c_V 1 5 2 9 (Mt mX9_isFish 2)) := e_V (mi := nX9_move) (mi' := nX9_isFish) (len := 3) (fun h b as rest hk hl => cs_V (ci := 8) (mi := nX9_move) (pc := 2) (y := yX9_isFish) (idx := 200) dX9_move_2 q1495 q1497 qs54 rfl hk hyX9_isFish (sigC q1498) pnX9_isFish hl) wdX9_isFish zX9_isFish (Nat.le_of_ble_eq_true rfl) (Nat.le_of_ble_eq_true rfl)
theorem eX9_move_5 : SiZ nX9_move 5 (i_if (fun x => x = 0) 16 8) := s_if_eq dX9_move_5 (by decide)
theorem eX9_move_8 : SiZ nX9_move 8 (i_aload 0 9) := s_aload_n dX9_move_8 rfl
theorem eX9_move_9 : SiZ nX9_move 9 (i_iload 2 10) := s_iload_n dX9_move_9 rfl
theorem eX9_move_10 : ScZ nX9_move 10 (c_V 1 13 2 9 (Mt mX9_isBook 2)) := e_V (mi := nX9_move) (mi' := nX9_isBook) (len := 3) (fun h b as rest hk hl => cs_V (ci := 8) (mi := nX9_move) (pc := 10) (y := yX9_isBook) (idx := 194) dX9_move_10 q1476 q1478 qs53 rfl hk hyX9_isBook (sigC q1479) pnX9_isBook hl) wdX9_isBook zX9_isBook (Nat.le_of_ble_eq_true rfl) (Nat.le_of_ble_eq_true rfl)
theorem eX9_move_13 : SiZ nX9_move 13 (i_if (fun x => ¬ x = 0) 19 16) := s_if_ne dX9_move_13 (by decide)
theorem eX9_move_16 : SiZ nX9_move 16 (i_push (.int (-1000001)) 18) := s_ldc dX9_move_16 q1339
theorem eX9_move_18 : SiZ nX9_move 18 i_iret := s_iret dX9_move_18 rfl
theorem eX9_move_19 : SiZ nX9_move 19 (i_aload 0 20) := s_aload_n dX9_move_19 rfl
theorem eX9_move_20 : SiZ nX9_move 20 (i_getf 81 [9] 23) := s_getf dX9_move_20 (fm_cons (⟨_, _, _, _, _, _, rfl, fkX9_19_9⟩) (fm_nil))
theorem eX9_move_23 : SiZ nX9_move 23 (i_push (.int 31) 25) := s_bipush dX9_move_23 (by decide)
theorem eX9_move_25 : SiZ nX9_move 25 (i_iload 1 26) := s_iload_n dX9_move_25 rfl
theorem eX9_move_26 : SiZ nX9_move 26 (i_bin (fun x y => x + y) 27) := s_iadd dX9_move_26
theorem eX9_move_27 : SiZ nX9_move 27 (i_iald 51 28) := s_ald (j := 0) (by decide) (fun _ => rfl) dX9_move_27 (Or.inl ⟨rfl, rfl⟩)
theorem eX9_move_28 : SiZ nX9_move 28 (i_istore 3 29) := s_istore_n dX9_move_28 rfl
theorem eX9_move_29 : SiZ nX9_move 29 (i_aload 0 30) := s_aload_n dX9_move_29 rfl
theorem eX9_move_30 : SiZ nX9_move 30 (i_iload 1 31) := s_iload_n dX9_move_30 rfl
theorem eX9_move_31 : ScZ nX9_move 31 (c_V 1 34 2 9 (Mt mX9_isCaught 2)) := e_V (mi := nX9_move) (mi' := nX9_isCaught) (len := 3) (fun h b as rest hk hl => cs_V (ci := 8) (mi := nX9_move) (pc := 31) (y := yX9_isCaught) (idx := 171) dX9_move_31 q1436 q1438 qs45 rfl hk hyX9_isCaught (sigC q1439) pnX9_isCaught hl) wdX9_isCaught zX9_isCaught (Nat.le_of_ble_eq_true rfl) (Nat.le_of_ble_eq_true rfl)
theorem eX9_move_34 : SiZ nX9_move 34 (i_if (fun x => ¬ x = 0) 42 37) := s_if_ne dX9_move_34 (by decide)
theorem eX9_move_37 : SiZ nX9_move 37 (i_iload 3 38) := s_iload_n dX9_move_37 rfl
theorem eX9_move_38 : SiZ nX9_move 38 (i_iload 2 39) := s_iload_n dX9_move_38 rfl
theorem eX9_move_39 : SiZ nX9_move 39 (i_icmp (fun x y => ¬ x = y) 45 42) := s_icmp_ne dX9_move_39 (by decide)
theorem eX9_move_42 : SiZ nX9_move 42 (i_push (.int (-1000002)) 44) := s_ldc dX9_move_42 q1422
theorem eX9_move_44 : SiZ nX9_move 44 i_iret := s_iret dX9_move_44 rfl
theorem eX9_move_45 : SiZ nX9_move 45 (i_aload 0 46) := s_aload_n dX9_move_45 rfl
theorem eX9_move_46 : ScZ nX9_move 46 (c_V 0 49 2 9 (Mt mX9_note 2)) := e_V (mi := nX9_move) (mi' := nX9_note) (len := 3) (fun h b as rest hk hl => cs_V (ci := 8) (mi := nX9_move) (pc := 46) (y := yX9_note) (idx := 184) dX9_move_46 q1428 q1430 qs43 rfl hk hyX9_note (sigC q1431) pnX9_note hl) wdX9_note zX9_note (Nat.le_of_ble_eq_true rfl) (Nat.le_of_ble_eq_true rfl)
theorem eX9_move_49 : SiZ nX9_move 49 (i_aload 0 50) := s_aload_n dX9_move_49 rfl
theorem eX9_move_50 : SiZ nX9_move 50 (i_getf 81 [9] 53) := s_getf dX9_move_50 (fm_cons (⟨_, _, _, _, _, _, rfl, fkX9_19_9⟩) (fm_nil))
theorem eX9_move_53 : SiZ nX9_move 53 (i_push (.int 31) 55) := s_bipush dX9_move_53 (by decide)
theorem eX9_move_55 : SiZ nX9_move 55 (i_iload 1 56) := s_iload_n dX9_move_55 rfl
theorem eX9_move_56 : SiZ nX9_move 56 (i_bin (fun x y => x + y) 57) := s_iadd dX9_move_56
theorem eX9_move_57 : SiZ nX9_move 57 (i_iload 2 58) := s_iload_n dX9_move_57 rfl
theorem eX9_move_58 : SiZ nX9_move 58 (i_iast 51 (fun x => x) 59) := s_ast (j := 0) (by decide) (fun _ => rfl) dX9_move_58 (Or.inl ⟨rfl, rfl, rfl⟩)
theorem eX9_move_59 : SiZ nX9_move 59 (i_iload 3 60) := s_iload_n dX9_move_59 rfl
theorem eX9_move_60 : SiZ nX9_move 60 i_iret := s_iret dX9_move_60 rfl
theorem aX9_move : ∀ x ∈ mX9_move.1, EnZ nX9_move x := fm_cons eX9_move_0 (fm_cons eX9_move_1 (fm_cons eX9_move_2 (fm_cons eX9_move_5 (fm_cons eX9_move_8 (fm_cons eX9_move_9 (fm_cons eX9_move_10 (fm_cons eX9_move_13 (fm_cons eX9_move_16 (fm_cons eX9_move_18 (fm_cons eX9_move_19 (fm_cons eX9_move_20 (fm_cons eX9_move_23 (fm_cons eX9_move_25 (fm_cons eX9_move_26 (fm_cons eX9_move_27 (fm_cons eX9_move_28 (fm_cons eX9_move_29 (fm_cons eX9_move_30 (fm_cons eX9_move_31 (fm_cons eX9_move_34 (fm_cons eX9_move_37 (fm_cons eX9_move_38 (fm_cons eX9_move_39 (fm_cons eX9_move_42 (fm_cons eX9_move_44 (fm_cons eX9_move_45 (fm_cons eX9_move_46 (fm_cons eX9_move_49 (fm_cons eX9_move_50 (fm_cons eX9_move_53 (fm_cons eX9_move_55 (fm_cons eX9_move_56 (fm_cons eX9_move_57 (fm_cons eX9_move_58 (fm_cons eX9_move_59 (fm_cons eX9_move_60 (fm_nil)))))))))))))))))))))))))))))))))))))
theorem zX9_move : SwZ nX9_move (Mt mX9_move 4) := wholeZ (mi := nX9_move) (cd := mX9_move) aX9_move rfl (HdZ.none rfl)
abbrev nX9_catchIt : MI := (cX9_catchIt, 2, (some (.int)), RX9, "catchIt", [], 2, 54)
theorem hyX9_catchIt : yX9_catchIt.cls ≠ "java/lang/invoke/MethodHandle" ∧ yX9_catchIt.cls ≠ "java/lang/invoke/VarHandle" := by decide +kernel
theorem pnX9_catchIt : (parseMethodDescriptor yX9_catchIt.desc).map (fun d => d.parameters.length) = some 1 := by decide +kernel
theorem wdX9_catchIt : CdW yX9_catchIt (nX9_catchIt) := ⟨Or.inl ⟨q1502, rfl⟩, rfl, rfl, plainFor_of_name (by decide +kernel)⟩
theorem eX9_catchIt_0 : SiZ nX9_catchIt 0 (i_aload 0 1) := s_aload_n dX9_catchIt_0 rfl
theorem eX9_catchIt_1 : SiZ nX9_catchIt 1 (i_iload 1 2) := s_iload_n dX9_catchIt_1 rfl
theorem eX9_catchIt_2 : ScZ nX9_catchIt 2 (c_V 1 5 2 9 (Mt mX9_isFish 2)) := e_V (mi := nX9_catchIt) (mi' := nX9_isFish) (len := 3) (fun h b as rest hk hl => cs_V (ci := 8) (mi := nX9_catchIt) (pc := 2) (y := yX9_isFish) (idx := 200) dX9_catchIt_2 q1495 q1497 qs54 rfl hk hyX9_isFish (sigC q1498) pnX9_isFish hl) wdX9_isFish zX9_isFish (Nat.le_of_ble_eq_true rfl) (Nat.le_of_ble_eq_true rfl)
theorem eX9_catchIt_5 : SiZ nX9_catchIt 5 (i_if (fun x => ¬ x = 0) 11 8) := s_if_ne dX9_catchIt_5 (by decide)
theorem eX9_catchIt_8 : SiZ nX9_catchIt 8 (i_push (.int (-1000001)) 10) := s_ldc dX9_catchIt_8 q1339
theorem eX9_catchIt_10 : SiZ nX9_catchIt 10 i_iret := s_iret dX9_catchIt_10 rfl
theorem eX9_catchIt_11 : SiZ nX9_catchIt 11 (i_aload 0 12) := s_aload_n dX9_catchIt_11 rfl
theorem eX9_catchIt_12 : SiZ nX9_catchIt 12 (i_iload 1 13) := s_iload_n dX9_catchIt_12 rfl
theorem eX9_catchIt_13 : ScZ nX9_catchIt 13 (c_V 1 16 2 9 (Mt mX9_isCaught 2)) := e_V (mi := nX9_catchIt) (mi' := nX9_isCaught) (len := 3) (fun h b as rest hk hl => cs_V (ci := 8) (mi := nX9_catchIt) (pc := 13) (y := yX9_isCaught) (idx := 171) dX9_catchIt_13 q1436 q1438 qs45 rfl hk hyX9_isCaught (sigC q1439) pnX9_isCaught hl) wdX9_isCaught zX9_isCaught (Nat.le_of_ble_eq_true rfl) (Nat.le_of_ble_eq_true rfl)
theorem eX9_catchIt_16 : SiZ nX9_catchIt 16 (i_if (fun x => x = 0) 22 19) := s_if_eq dX9_catchIt_16 (by decide)
theorem eX9_catchIt_19 : SiZ nX9_catchIt 19 (i_push (.int (-1000002)) 21) := s_ldc dX9_catchIt_19 q1422
theorem eX9_catchIt_21 : SiZ nX9_catchIt 21 i_iret := s_iret dX9_catchIt_21 rfl
theorem eX9_catchIt_22 : SiZ nX9_catchIt 22 (i_aload 0 23) := s_aload_n dX9_catchIt_22 rfl
theorem eX9_catchIt_23 : ScZ nX9_catchIt 23 (c_V 0 26 2 9 (Mt mX9_note 2)) := e_V (mi := nX9_catchIt) (mi' := nX9_note) (len := 3) (fun h b as rest hk hl => cs_V (ci := 8) (mi := nX9_catchIt) (pc := 23) (y := yX9_note) (idx := 184) dX9_catchIt_23 q1428 q1430 qs43 rfl hk hyX9_note (sigC q1431) pnX9_note hl) wdX9_note zX9_note (Nat.le_of_ble_eq_true rfl) (Nat.le_of_ble_eq_true rfl)
theorem eX9_catchIt_26 : SiZ nX9_catchIt 26 (i_aload 0 27) := s_aload_n dX9_catchIt_26 rfl
theorem eX9_catchIt_27 : SiZ nX9_catchIt 27 (i_getf 81 [9] 30) := s_getf dX9_catchIt_27 (fm_cons (⟨_, _, _, _, _, _, rfl, fkX9_19_9⟩) (fm_nil))
theorem eX9_catchIt_30 : SiZ nX9_catchIt 30 (i_push (.int 7) 32) := s_bipush dX9_catchIt_30 (by decide)
theorem eX9_catchIt_32 : SiZ nX9_catchIt 32 (i_dup2 33) := s_dup2 dX9_catchIt_32
theorem eX9_catchIt_33 : SiZ nX9_catchIt 33 (i_iald 51 34) := s_ald (j := 0) (by decide) (fun _ => rfl) dX9_catchIt_33 (Or.inl ⟨rfl, rfl⟩)
theorem eX9_catchIt_34 : SiZ nX9_catchIt 34 (i_push (.int 1) 35) := s_iconst dX9_catchIt_34 (by decide)
theorem eX9_catchIt_35 : SiZ nX9_catchIt 35 (i_iload 1 36) := s_iload_n dX9_catchIt_35 rfl
theorem eX9_catchIt_36 : SiZ nX9_catchIt 36 (i_bin (fun x y => x <<< (y &&& 31)) 37) := s_ishl dX9_catchIt_36
theorem eX9_catchIt_37 : SiZ nX9_catchIt 37 (i_bin (fun x y => x ||| y) 38) := s_ior dX9_catchIt_37
theorem eX9_catchIt_38 : SiZ nX9_catchIt 38 (i_iast 51 (fun x => x) 39) := s_ast (j := 0) (by decide) (fun _ => rfl) dX9_catchIt_38 (Or.inl ⟨rfl, rfl, rfl⟩)
theorem eX9_catchIt_39 : SiZ nX9_catchIt 39 (i_aload 0 40) := s_aload_n dX9_catchIt_39 rfl
theorem eX9_catchIt_40 : SiZ nX9_catchIt 40 (i_getf 81 [9] 43) := s_getf dX9_catchIt_40 (fm_cons (⟨_, _, _, _, _, _, rfl, fkX9_19_9⟩) (fm_nil))
theorem eX9_catchIt_43 : SiZ nX9_catchIt 43 (i_push (.int 7) 45) := s_bipush dX9_catchIt_43 (by decide)
theorem eX9_catchIt_45 : SiZ nX9_catchIt 45 (i_iald 51 46) := s_ald (j := 0) (by decide) (fun _ => rfl) dX9_catchIt_45 (Or.inl ⟨rfl, rfl⟩)
theorem eX9_catchIt_46 : SiZ nX9_catchIt 46 i_iret := s_iret dX9_catchIt_46 rfl
theorem aX9_catchIt : ∀ x ∈ mX9_catchIt.1, EnZ nX9_catchIt x := fm_cons eX9_catchIt_0 (fm_cons eX9_catchIt_1 (fm_cons eX9_catchIt_2 (fm_cons eX9_catchIt_5 (fm_cons eX9_catchIt_8 (fm_cons eX9_catchIt_10 (fm_cons eX9_catchIt_11 (fm_cons eX9_catchIt_12 (fm_cons eX9_catchIt_13 (fm_cons eX9_catchIt_16 (fm_cons eX9_catchIt_19 (fm_cons eX9_catchIt_21 (fm_cons eX9_catchIt_22 (fm_cons eX9_catchIt_23 (fm_cons eX9_catchIt_26 (fm_cons eX9_catchIt_27 (fm_cons eX9_catchIt_30 (fm_cons eX9_catchIt_32 (fm_cons eX9_catchIt_33 (fm_cons eX9_catchIt_34 (fm_cons eX9_catchIt_35 (fm_cons eX9_catchIt_36 (fm_cons eX9_catchIt_37 (fm_cons eX9_catchIt_38 (fm_cons eX9_catchIt_39 (fm_cons eX9_catchIt_40 (fm_cons eX9_catchIt_43 (fm_cons eX9_catchIt_45 (fm_cons eX9_catchIt_46 (fm_nil)))))))))))))))))))))))))))))
theorem zX9_catchIt : SwZ nX9_catchIt (Mt mX9_catchIt 2) := wholeZ (mi := nX9_catchIt) (cd := mX9_catchIt) aX9_catchIt rfl (HdZ.none rfl)
abbrev nX9_fishAt : MI := (cX9_fishAt, 4, (some (.int)), RX9, "fishAt", [], 2, 50)
theorem hyX9_fishAt : yX9_fishAt.cls ≠ "java/lang/invoke/MethodHandle" ∧ yX9_fishAt.cls ≠ "java/lang/invoke/VarHandle" := by decide +kernel
theorem pnX9_fishAt : (parseMethodDescriptor yX9_fishAt.desc).map (fun d => d.parameters.length) = some 1 := by decide +kernel
theorem wdX9_fishAt : CdW yX9_fishAt (nX9_fishAt) := ⟨Or.inl ⟨q1510, rfl⟩, rfl, rfl, plainFor_of_name (by decide +kernel)⟩
theorem eX9_fishAt_0 : SiZ nX9_fishAt 0 (i_push (.int 0) 1) := s_iconst dX9_fishAt_0 (by decide)
theorem eX9_fishAt_1 : SiZ nX9_fishAt 1 (i_istore 2 2) := s_istore_n dX9_fishAt_1 rfl
theorem eX9_fishAt_2 : SiZ nX9_fishAt 2 (i_push (.int 0) 3) := s_iconst dX9_fishAt_2 (by decide)
theorem eX9_fishAt_3 : SiZ nX9_fishAt 3 (i_istore 3 4) := s_istore_n dX9_fishAt_3 rfl
theorem eX9_fishAt_4 : SiZ nX9_fishAt 4 (i_iload 3 5) := s_iload_n dX9_fishAt_4 rfl
theorem eX9_fishAt_5 : SiZ nX9_fishAt 5 (i_aload 0 6) := s_aload_n dX9_fishAt_5 rfl
theorem eX9_fishAt_6 : SiZ nX9_fishAt 6 (i_getf 81 [9] 9) := s_getf dX9_fishAt_6 (fm_cons (⟨_, _, _, _, _, _, rfl, fkX9_19_9⟩) (fm_nil))
theorem eX9_fishAt_9 : SiZ nX9_fishAt 9 (i_push (.int 1) 10) := s_iconst dX9_fishAt_9 (by decide)
theorem eX9_fishAt_10 : SiZ nX9_fishAt 10 (i_iald 51 11) := s_ald (j := 0) (by decide) (fun _ => rfl) dX9_fishAt_10 (Or.inl ⟨rfl, rfl⟩)
theorem eX9_fishAt_11 : SiZ nX9_fishAt 11 (i_icmp (fun x y => y ≤ x) 51 14) := s_icmp_ge dX9_fishAt_11 (by decide)
theorem eX9_fishAt_14 : SiZ nX9_fishAt 14 (i_iload 2 15) := s_iload_n dX9_fishAt_14 rfl
theorem eX9_fishAt_15 : SiZ nX9_fishAt 15 (i_aload 0 16) := s_aload_n dX9_fishAt_15 rfl
theorem eX9_fishAt_16 : SiZ nX9_fishAt 16 (i_iload 3 17) := s_iload_n dX9_fishAt_16 rfl
theorem eX9_fishAt_17 : ScZ nX9_fishAt 17 (c_V 1 20 2 9 (Mt mX9_isCaught 2)) := e_V (mi := nX9_fishAt) (mi' := nX9_isCaught) (len := 3) (fun h b as rest hk hl => cs_V (ci := 8) (mi := nX9_fishAt) (pc := 17) (y := yX9_isCaught) (idx := 171) dX9_fishAt_17 q1436 q1438 qs45 rfl hk hyX9_isCaught (sigC q1439) pnX9_isCaught hl) wdX9_isCaught zX9_isCaught (Nat.le_of_ble_eq_true rfl) (Nat.le_of_ble_eq_true rfl)
theorem eX9_fishAt_20 : SiZ nX9_fishAt 20 (i_if (fun x => ¬ x = 0) 42 23) := s_if_ne dX9_fishAt_20 (by decide)
theorem eX9_fishAt_23 : SiZ nX9_fishAt 23 (i_aload 0 24) := s_aload_n dX9_fishAt_23 rfl
theorem eX9_fishAt_24 : SiZ nX9_fishAt 24 (i_getf 81 [9] 27) := s_getf dX9_fishAt_24 (fm_cons (⟨_, _, _, _, _, _, rfl, fkX9_19_9⟩) (fm_nil))
theorem eX9_fishAt_27 : SiZ nX9_fishAt 27 (i_push (.int 31) 29) := s_bipush dX9_fishAt_27 (by decide)
theorem eX9_fishAt_29 : SiZ nX9_fishAt 29 (i_iload 3 30) := s_iload_n dX9_fishAt_29 rfl
theorem eX9_fishAt_30 : SiZ nX9_fishAt 30 (i_bin (fun x y => x + y) 31) := s_iadd dX9_fishAt_30
theorem eX9_fishAt_31 : SiZ nX9_fishAt 31 (i_iald 51 32) := s_ald (j := 0) (by decide) (fun _ => rfl) dX9_fishAt_31 (Or.inl ⟨rfl, rfl⟩)
theorem eX9_fishAt_32 : SiZ nX9_fishAt 32 (i_iload 1 33) := s_iload_n dX9_fishAt_32 rfl
theorem eX9_fishAt_33 : SiZ nX9_fishAt 33 (i_icmp (fun x y => ¬ x = y) 42 36) := s_icmp_ne dX9_fishAt_33 (by decide)
theorem eX9_fishAt_36 : SiZ nX9_fishAt 36 (i_push (.int 1) 37) := s_iconst dX9_fishAt_36 (by decide)
theorem eX9_fishAt_37 : SiZ nX9_fishAt 37 (i_iload 3 38) := s_iload_n dX9_fishAt_37 rfl
theorem eX9_fishAt_38 : SiZ nX9_fishAt 38 (i_bin (fun x y => x <<< (y &&& 31)) 39) := s_ishl dX9_fishAt_38
theorem eX9_fishAt_39 : SiZ nX9_fishAt 39 (i_goto 43) := s_goto dX9_fishAt_39 (by decide)
theorem eX9_fishAt_42 : SiZ nX9_fishAt 42 (i_push (.int 0) 43) := s_iconst dX9_fishAt_42 (by decide)
theorem eX9_fishAt_43 : SiZ nX9_fishAt 43 (i_bin (fun x y => x ||| y) 44) := s_ior dX9_fishAt_43
theorem eX9_fishAt_44 : SiZ nX9_fishAt 44 (i_istore 2 45) := s_istore_n dX9_fishAt_44 rfl
theorem eX9_fishAt_45 : SiZ nX9_fishAt 45 (i_iinc 3 1 48) := s_iinc dX9_fishAt_45 (by decide)
theorem eX9_fishAt_48 : SiZ nX9_fishAt 48 (i_goto 4) := s_goto dX9_fishAt_48 (by decide)
theorem eX9_fishAt_51 : SiZ nX9_fishAt 51 (i_iload 2 52) := s_iload_n dX9_fishAt_51 rfl
theorem eX9_fishAt_52 : SiZ nX9_fishAt 52 i_iret := s_iret dX9_fishAt_52 rfl
theorem aX9_fishAt : ∀ x ∈ mX9_fishAt.1, EnZ nX9_fishAt x := fm_cons eX9_fishAt_0 (fm_cons eX9_fishAt_1 (fm_cons eX9_fishAt_2 (fm_cons eX9_fishAt_3 (fm_cons eX9_fishAt_4 (fm_cons eX9_fishAt_5 (fm_cons eX9_fishAt_6 (fm_cons eX9_fishAt_9 (fm_cons eX9_fishAt_10 (fm_cons eX9_fishAt_11 (fm_cons eX9_fishAt_14 (fm_cons eX9_fishAt_15 (fm_cons eX9_fishAt_16 (fm_cons eX9_fishAt_17 (fm_cons eX9_fishAt_20 (fm_cons eX9_fishAt_23 (fm_cons eX9_fishAt_24 (fm_cons eX9_fishAt_27 (fm_cons eX9_fishAt_29 (fm_cons eX9_fishAt_30 (fm_cons eX9_fishAt_31 (fm_cons eX9_fishAt_32 (fm_cons eX9_fishAt_33 (fm_cons eX9_fishAt_36 (fm_cons eX9_fishAt_37 (fm_cons eX9_fishAt_38 (fm_cons eX9_fishAt_39 (fm_cons eX9_fishAt_42 (fm_cons eX9_fishAt_43 (fm_cons eX9_fishAt_44 (fm_cons eX9_fishAt_45 (fm_cons eX9_fishAt_48 (fm_cons eX9_fishAt_51 (fm_cons eX9_fishAt_52 (fm_nil))))))))))))))))))))))))))))))))))
theorem zX9_fishAt : SwZ nX9_fishAt (Mt mX9_fishAt 4) := wholeZ (mi := nX9_fishAt) (cd := mX9_fishAt) aX9_fishAt rfl (HdZ.none rfl)
abbrev nX9_book : MI := (cX9_book, 3, (some (.int)), RX9, "book", [], 3, 77)
theorem hyX9_book : yX9_book.cls ≠ "java/lang/invoke/MethodHandle" ∧ yX9_book.cls ≠ "java/lang/invoke/VarHandle" := by decide +kernel
theorem pnX9_book : (parseMethodDescriptor yX9_book.desc).map (fun d => d.parameters.length) = some 2 := by decide +kernel
theorem wdX9_book : CdW yX9_book (nX9_book) := ⟨Or.inl ⟨q1506, rfl⟩, rfl, rfl, plainFor_of_name (by decide +kernel)⟩
theorem eX9_book_0 : SiZ nX9_book 0 (i_aload 0 1) := s_aload_n dX9_book_0 rfl
theorem eX9_book_1 : SiZ nX9_book 1 (i_iload 1 2) := s_iload_n dX9_book_1 rfl
theorem eX9_book_2 : ScZ nX9_book 2 (c_V 1 5 2 9 (Mt mX9_isBook 2)) := e_V (mi := nX9_book) (mi' := nX9_isBook) (len := 3) (fun h b as rest hk hl => cs_V (ci := 8) (mi := nX9_book) (pc := 2) (y := yX9_isBook) (idx := 194) dX9_book_2 q1476 q1478 qs53 rfl hk hyX9_isBook (sigC q1479) pnX9_isBook hl) wdX9_isBook zX9_isBook (Nat.le_of_ble_eq_true rfl) (Nat.le_of_ble_eq_true rfl)
theorem eX9_book_5 : SiZ nX9_book 5 (i_if (fun x => ¬ x = 0) 11 8) := s_if_ne dX9_book_5 (by decide)
theorem eX9_book_8 : SiZ nX9_book 8 (i_push (.int (-1000001)) 10) := s_ldc dX9_book_8 q1339
theorem eX9_book_10 : SiZ nX9_book 10 i_iret := s_iret dX9_book_10 rfl
theorem eX9_book_11 : SiZ nX9_book 11 (i_iload 2 12) := s_iload_n dX9_book_11 rfl
theorem eX9_book_12 : SiZ nX9_book 12 (i_tsw 0 [52, 62, 72, 82, 101, 121] 135) := s_tsw dX9_book_12 (by decide) (by decide) (by decide)
theorem eX9_book_52 : SiZ nX9_book 52 (i_aload 0 53) := s_aload_n dX9_book_52 rfl
theorem eX9_book_53 : SiZ nX9_book 53 (i_getf 81 [9] 56) := s_getf dX9_book_53 (fm_cons (⟨_, _, _, _, _, _, rfl, fkX9_19_9⟩) (fm_nil))
theorem eX9_book_56 : SiZ nX9_book 56 (i_push (.int 8) 58) := s_bipush dX9_book_56 (by decide)
theorem eX9_book_58 : SiZ nX9_book 58 (i_iload 1 59) := s_iload_n dX9_book_58 rfl
theorem eX9_book_59 : SiZ nX9_book 59 (i_bin (fun x y => x + y) 60) := s_iadd dX9_book_59
theorem eX9_book_60 : SiZ nX9_book 60 (i_iald 51 61) := s_ald (j := 0) (by decide) (fun _ => rfl) dX9_book_60 (Or.inl ⟨rfl, rfl⟩)
theorem eX9_book_61 : SiZ nX9_book 61 i_iret := s_iret dX9_book_61 rfl
theorem eX9_book_62 : SiZ nX9_book 62 (i_aload 0 63) := s_aload_n dX9_book_62 rfl
theorem eX9_book_63 : SiZ nX9_book 63 (i_getf 81 [9] 66) := s_getf dX9_book_63 (fm_cons (⟨_, _, _, _, _, _, rfl, fkX9_19_9⟩) (fm_nil))
theorem eX9_book_66 : SiZ nX9_book 66 (i_push (.int 14) 68) := s_bipush dX9_book_66 (by decide)
theorem eX9_book_68 : SiZ nX9_book 68 (i_iload 1 69) := s_iload_n dX9_book_68 rfl
theorem eX9_book_69 : SiZ nX9_book 69 (i_bin (fun x y => x + y) 70) := s_iadd dX9_book_69
theorem eX9_book_70 : SiZ nX9_book 70 (i_iald 51 71) := s_ald (j := 0) (by decide) (fun _ => rfl) dX9_book_70 (Or.inl ⟨rfl, rfl⟩)
theorem eX9_book_71 : SiZ nX9_book 71 i_iret := s_iret dX9_book_71 rfl
theorem eX9_book_72 : SiZ nX9_book 72 (i_aload 0 73) := s_aload_n dX9_book_72 rfl
theorem eX9_book_73 : SiZ nX9_book 73 (i_getf 81 [9] 76) := s_getf dX9_book_73 (fm_cons (⟨_, _, _, _, _, _, rfl, fkX9_19_9⟩) (fm_nil))
theorem eX9_book_76 : SiZ nX9_book 76 (i_push (.int 20) 78) := s_bipush dX9_book_76 (by decide)
theorem eX9_book_78 : SiZ nX9_book 78 (i_iload 1 79) := s_iload_n dX9_book_78 rfl
theorem eX9_book_79 : SiZ nX9_book 79 (i_bin (fun x y => x + y) 80) := s_iadd dX9_book_79
theorem eX9_book_80 : SiZ nX9_book 80 (i_iald 51 81) := s_ald (j := 0) (by decide) (fun _ => rfl) dX9_book_80 (Or.inl ⟨rfl, rfl⟩)
theorem eX9_book_81 : SiZ nX9_book 81 i_iret := s_iret dX9_book_81 rfl
theorem eX9_book_82 : SiZ nX9_book 82 (i_aload 0 83) := s_aload_n dX9_book_82 rfl
theorem eX9_book_83 : SiZ nX9_book 83 (i_getf 81 [9] 86) := s_getf dX9_book_83 (fm_cons (⟨_, _, _, _, _, _, rfl, fkX9_19_9⟩) (fm_nil))
theorem eX9_book_86 : SiZ nX9_book 86 (i_push (.int 5) 87) := s_iconst dX9_book_86 (by decide)
theorem eX9_book_87 : SiZ nX9_book 87 (i_iald 51 88) := s_ald (j := 0) (by decide) (fun _ => rfl) dX9_book_87 (Or.inl ⟨rfl, rfl⟩)
theorem eX9_book_88 : SiZ nX9_book 88 (i_iload 1 89) := s_iload_n dX9_book_88 rfl
theorem eX9_book_89 : ScZ nX9_book 89 (c_S 2 92 2 (Mt mX9_has 2)) := e_S (mi := nX9_book) (mi' := nX9_has) (len := 3) (fun h as rest hl => cs_S (mi := nX9_book) (pc := 89) (y := yX9_has) (idx := 154) dX9_book_89 q1440 q1441 q89 q1442 hyX9_has pnX9_has hl) wdX9_has zX9_has (Nat.le_of_ble_eq_true rfl) (Nat.le_of_ble_eq_true rfl)
theorem eX9_book_92 : SiZ nX9_book 92 (i_if (fun x => x = 0) 99 95) := s_if_eq dX9_book_92 (by decide)
theorem eX9_book_95 : SiZ nX9_book 95 (i_push (.int 1) 96) := s_iconst dX9_book_95 (by decide)
theorem eX9_book_96 : SiZ nX9_book 96 (i_goto 100) := s_goto dX9_book_96 (by decide)
theorem eX9_book_99 : SiZ nX9_book 99 (i_push (.int 0) 100) := s_iconst dX9_book_99 (by decide)
theorem eX9_book_100 : SiZ nX9_book 100 i_iret := s_iret dX9_book_100 rfl
theorem eX9_book_101 : SiZ nX9_book 101 (i_aload 0 102) := s_aload_n dX9_book_101 rfl
theorem eX9_book_102 : SiZ nX9_book 102 (i_getf 81 [9] 105) := s_getf dX9_book_102 (fm_cons (⟨_, _, _, _, _, _, rfl, fkX9_19_9⟩) (fm_nil))
theorem eX9_book_105 : SiZ nX9_book 105 (i_push (.int 6) 107) := s_bipush dX9_book_105 (by decide)
theorem eX9_book_107 : SiZ nX9_book 107 (i_iald 51 108) := s_ald (j := 0) (by decide) (fun _ => rfl) dX9_book_107 (Or.inl ⟨rfl, rfl⟩)
theorem eX9_book_108 : SiZ nX9_book 108 (i_iload 1 109) := s_iload_n dX9_book_108 rfl
theorem eX9_book_109 : ScZ nX9_book 109 (c_S 2 112 2 (Mt mX9_has 2)) := e_S (mi := nX9_book) (mi' := nX9_has) (len := 3) (fun h as rest hl => cs_S (mi := nX9_book) (pc := 109) (y := yX9_has) (idx := 154) dX9_book_109 q1440 q1441 q89 q1442 hyX9_has pnX9_has hl) wdX9_has zX9_has (Nat.le_of_ble_eq_true rfl) (Nat.le_of_ble_eq_true rfl)
theorem eX9_book_112 : SiZ nX9_book 112 (i_if (fun x => x = 0) 119 115) := s_if_eq dX9_book_112 (by decide)
theorem eX9_book_115 : SiZ nX9_book 115 (i_push (.int 1) 116) := s_iconst dX9_book_115 (by decide)
theorem eX9_book_116 : SiZ nX9_book 116 (i_goto 120) := s_goto dX9_book_116 (by decide)
theorem eX9_book_119 : SiZ nX9_book 119 (i_push (.int 0) 120) := s_iconst dX9_book_119 (by decide)
theorem eX9_book_120 : SiZ nX9_book 120 i_iret := s_iret dX9_book_120 rfl
theorem eX9_book_121 : SiZ nX9_book 121 (i_aload 0 122) := s_aload_n dX9_book_121 rfl
theorem eX9_book_122 : SiZ nX9_book 122 (i_aload 0 123) := s_aload_n dX9_book_122 rfl
theorem eX9_book_123 : SiZ nX9_book 123 (i_getf 81 [9] 126) := s_getf dX9_book_123 (fm_cons (⟨_, _, _, _, _, _, rfl, fkX9_19_9⟩) (fm_nil))
theorem eX9_book_126 : SiZ nX9_book 126 (i_push (.int 20) 128) := s_bipush dX9_book_126 (by decide)
theorem eX9_book_128 : SiZ nX9_book 128 (i_iload 1 129) := s_iload_n dX9_book_128 rfl
theorem eX9_book_129 : SiZ nX9_book 129 (i_bin (fun x y => x + y) 130) := s_iadd dX9_book_129
theorem eX9_book_130 : SiZ nX9_book 130 (i_iald 51 131) := s_ald (j := 0) (by decide) (fun _ => rfl) dX9_book_130 (Or.inl ⟨rfl, rfl⟩)
theorem eX9_book_131 : ScZ nX9_book 131 (c_V 1 134 4 9 (Mt mX9_fishAt 4)) := e_V (mi := nX9_book) (mi' := nX9_fishAt) (len := 3) (fun h b as rest hk hl => cs_V (ci := 8) (mi := nX9_book) (pc := 131) (y := yX9_fishAt) (idx := 203) dX9_book_131 q1507 q1509 qs55 rfl hk hyX9_fishAt (sigC q1510) pnX9_fishAt hl) wdX9_fishAt zX9_fishAt (Nat.le_of_ble_eq_true rfl) (Nat.le_of_ble_eq_true rfl)
theorem eX9_book_134 : SiZ nX9_book 134 i_iret := s_iret dX9_book_134 rfl
theorem eX9_book_135 : SiZ nX9_book 135 (i_push (.int (-1000001)) 137) := s_ldc dX9_book_135 q1339
theorem eX9_book_137 : SiZ nX9_book 137 i_iret := s_iret dX9_book_137 rfl
theorem aX9_book : ∀ x ∈ mX9_book.1, EnZ nX9_book x := fm_cons eX9_book_0 (fm_cons eX9_book_1 (fm_cons eX9_book_2 (fm_cons eX9_book_5 (fm_cons eX9_book_8 (fm_cons eX9_book_10 (fm_cons eX9_book_11 (fm_cons eX9_book_12 (fm_cons eX9_book_52 (fm_cons eX9_book_53 (fm_cons eX9_book_56 (fm_cons eX9_book_58 (fm_cons eX9_book_59 (fm_cons eX9_book_60 (fm_cons eX9_book_61 (fm_cons eX9_book_62 (fm_cons eX9_book_63 (fm_cons eX9_book_66 (fm_cons eX9_book_68 (fm_cons eX9_book_69 (fm_cons eX9_book_70 (fm_cons eX9_book_71 (fm_cons eX9_book_72 (fm_cons eX9_book_73 (fm_cons eX9_book_76 (fm_cons eX9_book_78 (fm_cons eX9_book_79 (fm_cons eX9_book_80 (fm_cons eX9_book_81 (fm_cons eX9_book_82 (fm_cons eX9_book_83 (fm_cons eX9_book_86 (fm_cons eX9_book_87 (fm_cons eX9_book_88 (fm_cons eX9_book_89 (fm_cons eX9_book_92 (fm_cons eX9_book_95 (fm_cons eX9_book_96 (fm_cons eX9_book_99 (fm_cons eX9_book_100 (fm_cons eX9_book_101 (fm_cons eX9_book_102 (fm_cons eX9_book_105 (fm_cons eX9_book_107 (fm_cons eX9_book_108 (fm_cons eX9_book_109 (fm_cons eX9_book_112 (fm_cons eX9_book_115 (fm_cons eX9_book_116 (fm_cons eX9_book_119 (fm_cons eX9_book_120 (fm_cons eX9_book_121 (fm_cons eX9_book_122 (fm_cons eX9_book_123 (fm_cons eX9_book_126 (fm_cons eX9_book_128 (fm_cons eX9_book_129 (fm_cons eX9_book_130 (fm_cons eX9_book_131 (fm_cons eX9_book_134 (fm_cons eX9_book_135 (fm_cons eX9_book_137 (fm_nil))))))))))))))))))))))))))))))))))))))))))))))))))))))))))))))
theorem zX9_book : SwZ nX9_book (Mt mX9_book 3) := wholeZ (mi := nX9_book) (cd := mX9_book) aX9_book rfl (HdZ.none rfl)
abbrev nX9_fish : MI := (cX9_fish, 3, (some (.int)), RX9, "fish", [], 3, 80)
theorem hyX9_fish : yX9_fish.cls ≠ "java/lang/invoke/MethodHandle" ∧ yX9_fish.cls ≠ "java/lang/invoke/VarHandle" := by decide +kernel
theorem pnX9_fish : (parseMethodDescriptor yX9_fish.desc).map (fun d => d.parameters.length) = some 2 := by decide +kernel
theorem wdX9_fish : CdW yX9_fish (nX9_fish) := ⟨Or.inl ⟨q1514, rfl⟩, rfl, rfl, plainFor_of_name (by decide +kernel)⟩
theorem eX9_fish_0 : SiZ nX9_fish 0 (i_aload 0 1) := s_aload_n dX9_fish_0 rfl
theorem eX9_fish_1 : SiZ nX9_fish 1 (i_iload 1 2) := s_iload_n dX9_fish_1 rfl
theorem eX9_fish_2 : ScZ nX9_fish 2 (c_V 1 5 2 9 (Mt mX9_isFish 2)) := e_V (mi := nX9_fish) (mi' := nX9_isFish) (len := 3) (fun h b as rest hk hl => cs_V (ci := 8) (mi := nX9_fish) (pc := 2) (y := yX9_isFish) (idx := 200) dX9_fish_2 q1495 q1497 qs54 rfl hk hyX9_isFish (sigC q1498) pnX9_isFish hl) wdX9_isFish zX9_isFish (Nat.le_of_ble_eq_true rfl) (Nat.le_of_ble_eq_true rfl)
theorem eX9_fish_5 : SiZ nX9_fish 5 (i_if (fun x => x = 0) 20 8) := s_if_eq dX9_fish_5 (by decide)
theorem eX9_fish_8 : SiZ nX9_fish 8 (i_iload 2 9) := s_iload_n dX9_fish_8 rfl
theorem eX9_fish_9 : SiZ nX9_fish 9 (i_i2l 10) := s_i2l dX9_fish_9
theorem eX9_fish_10 : SiZ nX9_fish 10 (i_push (.long 0) 11) := s_lconst dX9_fish_10 (by decide)
theorem eX9_fish_11 : SiZ nX9_fish 11 (i_push (.long 3) 14) := s_ldc2 dX9_fish_11 q1515
theorem eX9_fish_14 : ScZ nX9_fish 14 (c_S 3 17 6 (Mt mX9_in 6)) := e_S (mi := nX9_fish) (mi' := nX9_in) (len := 3) (fun h as rest hl => cs_S (mi := nX9_fish) (pc := 14) (y := yX9_in) (idx := 63) dX9_fish_14 q1335 q1336 q89 q1337 hyX9_in pnX9_in hl) wdX9_in zX9_in (Nat.le_of_ble_eq_true rfl) (Nat.le_of_ble_eq_true rfl)
theorem eX9_fish_17 : SiZ nX9_fish 17 (i_if (fun x => ¬ x = 0) 23 20) := s_if_ne dX9_fish_17 (by decide)
theorem eX9_fish_20 : SiZ nX9_fish 20 (i_push (.int (-1000001)) 22) := s_ldc dX9_fish_20 q1339
theorem eX9_fish_22 : SiZ nX9_fish 22 i_iret := s_iret dX9_fish_22 rfl
theorem eX9_fish_23 : SiZ nX9_fish 23 (i_iload 2 24) := s_iload_n dX9_fish_23 rfl
theorem eX9_fish_24 : SiZ nX9_fish 24 (i_push (.int 1) 25) := s_iconst dX9_fish_24 (by decide)
theorem eX9_fish_25 : SiZ nX9_fish 25 (i_icmp (fun x y => ¬ x = y) 38 28) := s_icmp_ne dX9_fish_25 (by decide)
theorem eX9_fish_28 : SiZ nX9_fish 28 (i_aload 0 29) := s_aload_n dX9_fish_28 rfl
theorem eX9_fish_29 : SiZ nX9_fish 29 (i_getf 81 [9] 32) := s_getf dX9_fish_29 (fm_cons (⟨_, _, _, _, _, _, rfl, fkX9_19_9⟩) (fm_nil))
theorem eX9_fish_32 : SiZ nX9_fish 32 (i_push (.int 36) 34) := s_bipush dX9_fish_32 (by decide)
theorem eX9_fish_34 : SiZ nX9_fish 34 (i_iload 1 35) := s_iload_n dX9_fish_34 rfl
theorem eX9_fish_35 : SiZ nX9_fish 35 (i_bin (fun x y => x + y) 36) := s_iadd dX9_fish_35
theorem eX9_fish_36 : SiZ nX9_fish 36 (i_iald 51 37) := s_ald (j := 0) (by decide) (fun _ => rfl) dX9_fish_36 (Or.inl ⟨rfl, rfl⟩)
theorem eX9_fish_37 : SiZ nX9_fish 37 i_iret := s_iret dX9_fish_37 rfl
theorem eX9_fish_38 : SiZ nX9_fish 38 (i_aload 0 39) := s_aload_n dX9_fish_38 rfl
theorem eX9_fish_39 : SiZ nX9_fish 39 (i_iload 1 40) := s_iload_n dX9_fish_39 rfl
theorem eX9_fish_40 : ScZ nX9_fish 40 (c_V 1 43 2 9 (Mt mX9_isCaught 2)) := e_V (mi := nX9_fish) (mi' := nX9_isCaught) (len := 3) (fun h b as rest hk hl => cs_V (ci := 8) (mi := nX9_fish) (pc := 40) (y := yX9_isCaught) (idx := 171) dX9_fish_40 q1436 q1438 qs45 rfl hk hyX9_isCaught (sigC q1439) pnX9_isCaught hl) wdX9_isCaught zX9_isCaught (Nat.le_of_ble_eq_true rfl) (Nat.le_of_ble_eq_true rfl)
theorem eX9_fish_43 : SiZ nX9_fish 43 (i_if (fun x => x = 0) 49 46) := s_if_eq dX9_fish_43 (by decide)
theorem eX9_fish_46 : SiZ nX9_fish 46 (i_push (.int (-1000000)) 48) := s_ldc dX9_fish_46 q1455
theorem eX9_fish_48 : SiZ nX9_fish 48 i_iret := s_iret dX9_fish_48 rfl
theorem eX9_fish_49 : SiZ nX9_fish 49 (i_iload 2 50) := s_iload_n dX9_fish_49 rfl
theorem eX9_fish_50 : SiZ nX9_fish 50 (i_if (fun x => ¬ x = 0) 65 53) := s_if_ne dX9_fish_50 (by decide)
theorem eX9_fish_53 : SiZ nX9_fish 53 (i_aload 0 54) := s_aload_n dX9_fish_53 rfl
theorem eX9_fish_54 : SiZ nX9_fish 54 (i_getf 81 [9] 57) := s_getf dX9_fish_54 (fm_cons (⟨_, _, _, _, _, _, rfl, fkX9_19_9⟩) (fm_nil))
theorem eX9_fish_57 : SiZ nX9_fish 57 (i_push (.int 31) 59) := s_bipush dX9_fish_57 (by decide)
theorem eX9_fish_59 : SiZ nX9_fish 59 (i_iload 1 60) := s_iload_n dX9_fish_59 rfl
theorem eX9_fish_60 : SiZ nX9_fish 60 (i_bin (fun x y => x + y) 61) := s_iadd dX9_fish_60
theorem eX9_fish_61 : SiZ nX9_fish 61 (i_iald 51 62) := s_ald (j := 0) (by decide) (fun _ => rfl) dX9_fish_61 (Or.inl ⟨rfl, rfl⟩)
theorem eX9_fish_62 : SiZ nX9_fish 62 (i_goto 91) := s_goto dX9_fish_62 (by decide)
theorem eX9_fish_65 : SiZ nX9_fish 65 (i_iload 2 66) := s_iload_n dX9_fish_65 rfl
theorem eX9_fish_66 : SiZ nX9_fish 66 (i_push (.int 2) 67) := s_iconst dX9_fish_66 (by decide)
theorem eX9_fish_67 : SiZ nX9_fish 67 (i_icmp (fun x y => ¬ x = y) 78 70) := s_icmp_ne dX9_fish_67 (by decide)
theorem eX9_fish_70 : SiZ nX9_fish 70 (i_aload 0 71) := s_aload_n dX9_fish_70 rfl
theorem eX9_fish_71 : SiZ nX9_fish 71 (i_iload 1 72) := s_iload_n dX9_fish_71 rfl
theorem eX9_fish_72 : ScZ nX9_fish 72 (c_V 1 75 7 9 (Mt mX9_likedBy 7)) := e_V (mi := nX9_fish) (mi' := nX9_likedBy) (len := 3) (fun h b as rest hk hl => cs_V (ci := 8) (mi := nX9_fish) (pc := 72) (y := yX9_likedBy) (idx := 168) dX9_fish_72 q1451 q1453 qs48 rfl hk hyX9_likedBy (sigC q1454) pnX9_likedBy hl) wdX9_likedBy zX9_likedBy (Nat.le_of_ble_eq_true rfl) (Nat.le_of_ble_eq_true rfl)
theorem eX9_fish_75 : SiZ nX9_fish 75 (i_goto 91) := s_goto dX9_fish_75 (by decide)
theorem eX9_fish_78 : SiZ nX9_fish 78 (i_aload 0 79) := s_aload_n dX9_fish_78 rfl
theorem eX9_fish_79 : SiZ nX9_fish 79 (i_aload 0 80) := s_aload_n dX9_fish_79 rfl
theorem eX9_fish_80 : SiZ nX9_fish 80 (i_getf 81 [9] 83) := s_getf dX9_fish_80 (fm_cons (⟨_, _, _, _, _, _, rfl, fkX9_19_9⟩) (fm_nil))
theorem eX9_fish_83 : SiZ nX9_fish 83 (i_push (.int 31) 85) := s_bipush dX9_fish_83 (by decide)
theorem eX9_fish_85 : SiZ nX9_fish 85 (i_iload 1 86) := s_iload_n dX9_fish_85 rfl
theorem eX9_fish_86 : SiZ nX9_fish 86 (i_bin (fun x y => x + y) 87) := s_iadd dX9_fish_86
theorem eX9_fish_87 : SiZ nX9_fish 87 (i_iald 51 88) := s_ald (j := 0) (by decide) (fun _ => rfl) dX9_fish_87 (Or.inl ⟨rfl, rfl⟩)
theorem eX9_fish_88 : ScZ nX9_fish 88 (c_V 1 91 3 9 (Mt mX9_bookAt 3)) := e_V (mi := nX9_fish) (mi' := nX9_bookAt) (len := 3) (fun h b as rest hk hl => cs_V (ci := 8) (mi := nX9_fish) (pc := 88) (y := yX9_bookAt) (idx := 159) dX9_fish_88 q1447 q1449 qs47 rfl hk hyX9_bookAt (sigC q1450) pnX9_bookAt hl) wdX9_bookAt zX9_bookAt (Nat.le_of_ble_eq_true rfl) (Nat.le_of_ble_eq_true rfl)
theorem eX9_fish_91 : SiZ nX9_fish 91 i_iret := s_iret dX9_fish_91 rfl
theorem aX9_fish : ∀ x ∈ mX9_fish.1, EnZ nX9_fish x := fm_cons eX9_fish_0 (fm_cons eX9_fish_1 (fm_cons eX9_fish_2 (fm_cons eX9_fish_5 (fm_cons eX9_fish_8 (fm_cons eX9_fish_9 (fm_cons eX9_fish_10 (fm_cons eX9_fish_11 (fm_cons eX9_fish_14 (fm_cons eX9_fish_17 (fm_cons eX9_fish_20 (fm_cons eX9_fish_22 (fm_cons eX9_fish_23 (fm_cons eX9_fish_24 (fm_cons eX9_fish_25 (fm_cons eX9_fish_28 (fm_cons eX9_fish_29 (fm_cons eX9_fish_32 (fm_cons eX9_fish_34 (fm_cons eX9_fish_35 (fm_cons eX9_fish_36 (fm_cons eX9_fish_37 (fm_cons eX9_fish_38 (fm_cons eX9_fish_39 (fm_cons eX9_fish_40 (fm_cons eX9_fish_43 (fm_cons eX9_fish_46 (fm_cons eX9_fish_48 (fm_cons eX9_fish_49 (fm_cons eX9_fish_50 (fm_cons eX9_fish_53 (fm_cons eX9_fish_54 (fm_cons eX9_fish_57 (fm_cons eX9_fish_59 (fm_cons eX9_fish_60 (fm_cons eX9_fish_61 (fm_cons eX9_fish_62 (fm_cons eX9_fish_65 (fm_cons eX9_fish_66 (fm_cons eX9_fish_67 (fm_cons eX9_fish_70 (fm_cons eX9_fish_71 (fm_cons eX9_fish_72 (fm_cons eX9_fish_75 (fm_cons eX9_fish_78 (fm_cons eX9_fish_79 (fm_cons eX9_fish_80 (fm_cons eX9_fish_83 (fm_cons eX9_fish_85 (fm_cons eX9_fish_86 (fm_cons eX9_fish_87 (fm_cons eX9_fish_88 (fm_cons eX9_fish_91 (fm_nil)))))))))))))))))))))))))))))))))))))))))))))))))))))
theorem zX9_fish : SwZ nX9_fish (Mt mX9_fish 3) := wholeZ (mi := nX9_fish) (cd := mX9_fish) aX9_fish rfl (HdZ.none rfl)
abbrev nX9_stand : MI := (cX9_stand, 2, (some (.int)), RX9, "stand", [], 1, 26)
theorem hyX9_stand : yX9_stand.cls ≠ "java/lang/invoke/MethodHandle" ∧ yX9_stand.cls ≠ "java/lang/invoke/VarHandle" := by decide +kernel
theorem pnX9_stand : (parseMethodDescriptor yX9_stand.desc).map (fun d => d.parameters.length) = some 1 := by decide +kernel
theorem wdX9_stand : CdW yX9_stand (nX9_stand) := ⟨Or.inl ⟨q1519, rfl⟩, rfl, rfl, plainFor_of_name (by decide +kernel)⟩
theorem eX9_stand_0 : SiZ nX9_stand 0 (i_aload 0 1) := s_aload_n dX9_stand_0 rfl
theorem eX9_stand_1 : SiZ nX9_stand 1 (i_getf 78 [9] 4) := s_getf dX9_stand_1 (fm_cons (⟨_, _, _, _, _, _, rfl, fkX9_147_9⟩) (fm_nil))
theorem eX9_stand_4 : SiZ nX9_stand 4 (i_if (fun x => ¬ x = 0) 10 7) := s_if_ne dX9_stand_4 (by decide)
theorem eX9_stand_7 : SiZ nX9_stand 7 (i_push (.int (-1000002)) 9) := s_ldc dX9_stand_7 q1422
theorem eX9_stand_9 : SiZ nX9_stand 9 i_iret := s_iret dX9_stand_9 rfl
theorem eX9_stand_10 : SiZ nX9_stand 10 (i_iload 1 11) := s_iload_n dX9_stand_10 rfl
theorem eX9_stand_11 : SiZ nX9_stand 11 (i_tsw 0 [48, 55, 63, 71, 76, 83] 90) := s_tsw dX9_stand_11 (by decide) (by decide) (by decide)
theorem eX9_stand_48 : SiZ nX9_stand 48 (i_aload 0 49) := s_aload_n dX9_stand_48 rfl
theorem eX9_stand_49 : SiZ nX9_stand 49 (i_getf 81 [9] 52) := s_getf dX9_stand_49 (fm_cons (⟨_, _, _, _, _, _, rfl, fkX9_19_9⟩) (fm_nil))
theorem eX9_stand_52 : SiZ nX9_stand 52 (i_push (.int 5) 53) := s_iconst dX9_stand_52 (by decide)
theorem eX9_stand_53 : SiZ nX9_stand 53 (i_iald 51 54) := s_ald (j := 0) (by decide) (fun _ => rfl) dX9_stand_53 (Or.inl ⟨rfl, rfl⟩)
theorem eX9_stand_54 : SiZ nX9_stand 54 i_iret := s_iret dX9_stand_54 rfl
theorem eX9_stand_55 : SiZ nX9_stand 55 (i_aload 0 56) := s_aload_n dX9_stand_55 rfl
theorem eX9_stand_56 : SiZ nX9_stand 56 (i_getf 81 [9] 59) := s_getf dX9_stand_56 (fm_cons (⟨_, _, _, _, _, _, rfl, fkX9_19_9⟩) (fm_nil))
theorem eX9_stand_59 : SiZ nX9_stand 59 (i_push (.int 6) 61) := s_bipush dX9_stand_59 (by decide)
theorem eX9_stand_61 : SiZ nX9_stand 61 (i_iald 51 62) := s_ald (j := 0) (by decide) (fun _ => rfl) dX9_stand_61 (Or.inl ⟨rfl, rfl⟩)
theorem eX9_stand_62 : SiZ nX9_stand 62 i_iret := s_iret dX9_stand_62 rfl
theorem eX9_stand_63 : SiZ nX9_stand 63 (i_aload 0 64) := s_aload_n dX9_stand_63 rfl
theorem eX9_stand_64 : SiZ nX9_stand 64 (i_getf 81 [9] 67) := s_getf dX9_stand_64 (fm_cons (⟨_, _, _, _, _, _, rfl, fkX9_19_9⟩) (fm_nil))
theorem eX9_stand_67 : SiZ nX9_stand 67 (i_push (.int 7) 69) := s_bipush dX9_stand_67 (by decide)
theorem eX9_stand_69 : SiZ nX9_stand 69 (i_iald 51 70) := s_ald (j := 0) (by decide) (fun _ => rfl) dX9_stand_69 (Or.inl ⟨rfl, rfl⟩)
theorem eX9_stand_70 : SiZ nX9_stand 70 i_iret := s_iret dX9_stand_70 rfl
theorem eX9_stand_71 : SiZ nX9_stand 71 (i_aload 0 72) := s_aload_n dX9_stand_71 rfl
theorem eX9_stand_72 : ScZ nX9_stand 72 (c_V 0 75 3 9 (Mt mX9_allPages 3)) := e_V (mi := nX9_stand) (mi' := nX9_allPages) (len := 3) (fun h b as rest hk hl => cs_V (ci := 8) (mi := nX9_stand) (pc := 72) (y := yX9_allPages) (idx := 190) dX9_stand_72 q1468 q1470 qs52 rfl hk hyX9_allPages (sigC q1471) pnX9_allPages hl) wdX9_allPages zX9_allPages (Nat.le_of_ble_eq_true rfl) (Nat.le_of_ble_eq_true rfl)
theorem eX9_stand_75 : SiZ nX9_stand 75 i_iret := s_iret dX9_stand_75 rfl
theorem eX9_stand_76 : SiZ nX9_stand 76 (i_aload 0 77) := s_aload_n dX9_stand_76 rfl
theorem eX9_stand_77 : SiZ nX9_stand 77 (i_getf 81 [9] 80) := s_getf dX9_stand_77 (fm_cons (⟨_, _, _, _, _, _, rfl, fkX9_19_9⟩) (fm_nil))
theorem eX9_stand_80 : SiZ nX9_stand 80 (i_push (.int 2) 81) := s_iconst dX9_stand_80 (by decide)
theorem eX9_stand_81 : SiZ nX9_stand 81 (i_iald 51 82) := s_ald (j := 0) (by decide) (fun _ => rfl) dX9_stand_81 (Or.inl ⟨rfl, rfl⟩)
theorem eX9_stand_82 : SiZ nX9_stand 82 i_iret := s_iret dX9_stand_82 rfl
theorem eX9_stand_83 : SiZ nX9_stand 83 (i_aload 0 84) := s_aload_n dX9_stand_83 rfl
theorem eX9_stand_84 : SiZ nX9_stand 84 (i_getf 81 [9] 87) := s_getf dX9_stand_84 (fm_cons (⟨_, _, _, _, _, _, rfl, fkX9_19_9⟩) (fm_nil))
theorem eX9_stand_87 : SiZ nX9_stand 87 (i_push (.int 3) 88) := s_iconst dX9_stand_87 (by decide)
theorem eX9_stand_88 : SiZ nX9_stand 88 (i_iald 51 89) := s_ald (j := 0) (by decide) (fun _ => rfl) dX9_stand_88 (Or.inl ⟨rfl, rfl⟩)
theorem eX9_stand_89 : SiZ nX9_stand 89 i_iret := s_iret dX9_stand_89 rfl
theorem eX9_stand_90 : SiZ nX9_stand 90 (i_push (.int (-1000001)) 92) := s_ldc dX9_stand_90 q1339
theorem eX9_stand_92 : SiZ nX9_stand 92 i_iret := s_iret dX9_stand_92 rfl
theorem aX9_stand : ∀ x ∈ mX9_stand.1, EnZ nX9_stand x := fm_cons eX9_stand_0 (fm_cons eX9_stand_1 (fm_cons eX9_stand_4 (fm_cons eX9_stand_7 (fm_cons eX9_stand_9 (fm_cons eX9_stand_10 (fm_cons eX9_stand_11 (fm_cons eX9_stand_48 (fm_cons eX9_stand_49 (fm_cons eX9_stand_52 (fm_cons eX9_stand_53 (fm_cons eX9_stand_54 (fm_cons eX9_stand_55 (fm_cons eX9_stand_56 (fm_cons eX9_stand_59 (fm_cons eX9_stand_61 (fm_cons eX9_stand_62 (fm_cons eX9_stand_63 (fm_cons eX9_stand_64 (fm_cons eX9_stand_67 (fm_cons eX9_stand_69 (fm_cons eX9_stand_70 (fm_cons eX9_stand_71 (fm_cons eX9_stand_72 (fm_cons eX9_stand_75 (fm_cons eX9_stand_76 (fm_cons eX9_stand_77 (fm_cons eX9_stand_80 (fm_cons eX9_stand_81 (fm_cons eX9_stand_82 (fm_cons eX9_stand_83 (fm_cons eX9_stand_84 (fm_cons eX9_stand_87 (fm_cons eX9_stand_88 (fm_cons eX9_stand_89 (fm_cons eX9_stand_90 (fm_cons eX9_stand_92 (fm_nil)))))))))))))))))))))))))))))))))))))
theorem zX9_stand : SwZ nX9_stand (Mt mX9_stand 2) := wholeZ (mi := nX9_stand) (cd := mX9_stand) aX9_stand rfl (HdZ.none rfl)
abbrev nX9_isWhat : MI := (cX9_isWhat, 1, (some (.boolean)), RX9, "isWhat", [], 1, 29)
theorem hyX9_isWhat : yX9_isWhat.cls ≠ "java/lang/invoke/MethodHandle" ∧ yX9_isWhat.cls ≠ "java/lang/invoke/VarHandle" := by decide +kernel
theorem pnX9_isWhat : (parseMethodDescriptor yX9_isWhat.desc).map (fun d => d.parameters.length) = some 1 := by decide +kernel
theorem wdX9_isWhat : CdW yX9_isWhat (nX9_isWhat) := ⟨Or.inl ⟨q1527, rfl⟩, rfl, rfl, plainFor_of_name (by decide +kernel)⟩
theorem eX9_isWhat_0 : SiZ nX9_isWhat 0 (i_iload 0 1) := s_iload_n dX9_isWhat_0 rfl
theorem eX9_isWhat_1 : SiZ nX9_isWhat 1 (i_i2l 2) := s_i2l dX9_isWhat_1
theorem eX9_isWhat_2 : SiZ nX9_isWhat 2 (i_push (.long 0) 3) := s_lconst dX9_isWhat_2 (by decide)
theorem eX9_isWhat_3 : SiZ nX9_isWhat 3 (i_push (.long 1) 4) := s_lconst dX9_isWhat_3 (by decide)
theorem eX9_isWhat_4 : ScZ nX9_isWhat 4 (c_S 3 7 6 (Mt mX9_in 6)) := e_S (mi := nX9_isWhat) (mi' := nX9_in) (len := 3) (fun h as rest hl => cs_S (mi := nX9_isWhat) (pc := 4) (y := yX9_in) (idx := 63) dX9_isWhat_4 q1335 q1336 q89 q1337 hyX9_in pnX9_in hl) wdX9_in zX9_in (Nat.le_of_ble_eq_true rfl) (Nat.le_of_ble_eq_true rfl)
theorem eX9_isWhat_7 : SiZ nX9_isWhat 7 i_zret := s_zret dX9_isWhat_7 rfl
theorem aX9_isWhat : ∀ x ∈ mX9_isWhat.1, EnZ nX9_isWhat x := fm_cons eX9_isWhat_0 (fm_cons eX9_isWhat_1 (fm_cons eX9_isWhat_2 (fm_cons eX9_isWhat_3 (fm_cons eX9_isWhat_4 (fm_cons eX9_isWhat_7 (fm_nil))))))
theorem zX9_isWhat : SwZ nX9_isWhat (Mt mX9_isWhat 1) := wholeZ (mi := nX9_isWhat) (cd := mX9_isWhat) aX9_isWhat rfl (HdZ.none rfl)
abbrev nX9_putAside : MI := (cX9_putAside, 2, none, RX9, "putAside", [], 0, 0)
theorem hyX9_putAside : yX9_putAside.cls ≠ "java/lang/invoke/MethodHandle" ∧ yX9_putAside.cls ≠ "java/lang/invoke/VarHandle" := by decide +kernel
theorem pnX9_putAside : (parseMethodDescriptor yX9_putAside.desc).map (fun d => d.parameters.length) = some 0 := by decide +kernel
theorem wdX9_putAside : CdW yX9_putAside (nX9_putAside) := ⟨Or.inl ⟨q1531, rfl⟩, rfl, rfl, plainFor_of_name (by decide +kernel)⟩
theorem eX9_putAside_0 : SiZ nX9_putAside 0 (i_push (.int 0) 1) := s_iconst dX9_putAside_0 (by decide)
theorem eX9_putAside_1 : SiZ nX9_putAside 1 (i_istore 1 2) := s_istore_n dX9_putAside_1 rfl
theorem eX9_putAside_2 : SiZ nX9_putAside 2 (i_iload 1 3) := s_iload_n dX9_putAside_2 rfl
theorem eX9_putAside_3 : SiZ nX9_putAside 3 (i_push (.int 41) 5) := s_bipush dX9_putAside_3 (by decide)
theorem eX9_putAside_5 : SiZ nX9_putAside 5 (i_icmp (fun x y => y ≤ x) 26 8) := s_icmp_ge dX9_putAside_5 (by decide)
theorem eX9_putAside_8 : SiZ nX9_putAside 8 (i_aload 0 9) := s_aload_n dX9_putAside_8 rfl
theorem eX9_putAside_9 : SiZ nX9_putAside 9 (i_getf 109 [9] 12) := s_getf dX9_putAside_9 (fm_cons (⟨_, _, _, _, _, _, rfl, fkX9_37_9⟩) (fm_nil))
theorem eX9_putAside_12 : SiZ nX9_putAside 12 (i_iload 1 13) := s_iload_n dX9_putAside_12 rfl
theorem eX9_putAside_13 : SiZ nX9_putAside 13 (i_aload 0 14) := s_aload_n dX9_putAside_13 rfl
theorem eX9_putAside_14 : SiZ nX9_putAside 14 (i_getf 81 [9] 17) := s_getf dX9_putAside_14 (fm_cons (⟨_, _, _, _, _, _, rfl, fkX9_19_9⟩) (fm_nil))
theorem eX9_putAside_17 : SiZ nX9_putAside 17 (i_iload 1 18) := s_iload_n dX9_putAside_17 rfl
theorem eX9_putAside_18 : SiZ nX9_putAside 18 (i_iald 51 19) := s_ald (j := 0) (by decide) (fun _ => rfl) dX9_putAside_18 (Or.inl ⟨rfl, rfl⟩)
theorem eX9_putAside_19 : SiZ nX9_putAside 19 (i_iast 51 (fun x => x) 20) := s_ast (j := 0) (by decide) (fun _ => rfl) dX9_putAside_19 (Or.inl ⟨rfl, rfl, rfl⟩)
theorem eX9_putAside_20 : SiZ nX9_putAside 20 (i_iinc 1 1 23) := s_iinc dX9_putAside_20 (by decide)
theorem eX9_putAside_23 : SiZ nX9_putAside 23 (i_goto 2) := s_goto dX9_putAside_23 (by decide)
theorem eX9_putAside_26 : SiZ nX9_putAside 26 i_vret := s_vret dX9_putAside_26 rfl
theorem aX9_putAside : ∀ x ∈ mX9_putAside.1, EnZ nX9_putAside x := fm_cons eX9_putAside_0 (fm_cons eX9_putAside_1 (fm_cons eX9_putAside_2 (fm_cons eX9_putAside_3 (fm_cons eX9_putAside_5 (fm_cons eX9_putAside_8 (fm_cons eX9_putAside_9 (fm_cons eX9_putAside_12 (fm_cons eX9_putAside_13 (fm_cons eX9_putAside_14 (fm_cons eX9_putAside_17 (fm_cons eX9_putAside_18 (fm_cons eX9_putAside_19 (fm_cons eX9_putAside_20 (fm_cons eX9_putAside_23 (fm_cons eX9_putAside_26 (fm_nil))))))))))))))))
theorem zX9_putAside : SwZ nX9_putAside (Mt mX9_putAside 2) := wholeZ (mi := nX9_putAside) (cd := mX9_putAside) aX9_putAside rfl (HdZ.none rfl)
abbrev nX9_goOn : MI := (cX9_goOn, 3, none, RX9, "goOn", [], 5, 134)
theorem hyX9_goOn : yX9_goOn.cls ≠ "java/lang/invoke/MethodHandle" ∧ yX9_goOn.cls ≠ "java/lang/invoke/VarHandle" := by decide +kernel
theorem pnX9_goOn : (parseMethodDescriptor yX9_goOn.desc).map (fun d => d.parameters.length) = some 1 := by decide +kernel
theorem wdX9_goOn : CdW yX9_goOn (nX9_goOn) := ⟨Or.inl ⟨q1535, rfl⟩, rfl, rfl, plainFor_of_name (by decide +kernel)⟩
theorem eX9_goOn_0 : SiZ nX9_goOn 0 (i_push (.int 0) 1) := s_iconst dX9_goOn_0 (by decide)
theorem eX9_goOn_1 : SiZ nX9_goOn 1 (i_istore 2 2) := s_istore_n dX9_goOn_1 rfl
theorem eX9_goOn_2 : SiZ nX9_goOn 2 (i_iload 2 3) := s_iload_n dX9_goOn_2 rfl
theorem eX9_goOn_3 : SiZ nX9_goOn 3 (i_iload 1 4) := s_iload_n dX9_goOn_3 rfl
theorem eX9_goOn_4 : SiZ nX9_goOn 4 (i_icmp (fun x y => y ≤ x) 17 7) := s_icmp_ge dX9_goOn_4 (by decide)
theorem eX9_goOn_7 : SiZ nX9_goOn 7 (i_aload 0 8) := s_aload_n dX9_goOn_7 rfl
theorem eX9_goOn_8 : ScZ nX9_goOn 8 (c_V 0 11 2 9 (Mt mX9_oneNight 2)) := e_V (mi := nX9_goOn) (mi' := nX9_oneNight) (len := 3) (fun h b as rest hk hl => cs_V (ci := 8) (mi := nX9_goOn) (pc := 8) (y := yX9_oneNight) (idx := 187) dX9_goOn_8 q1432 q1434 qs44 rfl hk hyX9_oneNight (sigC q1435) pnX9_oneNight hl) wdX9_oneNight zX9_oneNight (Nat.le_of_ble_eq_true rfl) (Nat.le_of_ble_eq_true rfl)
theorem eX9_goOn_11 : SiZ nX9_goOn 11 (i_iinc 2 1 14) := s_iinc dX9_goOn_11 (by decide)
theorem eX9_goOn_14 : SiZ nX9_goOn 14 (i_goto 2) := s_goto dX9_goOn_14 (by decide)
theorem eX9_goOn_17 : SiZ nX9_goOn 17 i_vret := s_vret dX9_goOn_17 rfl
theorem aX9_goOn : ∀ x ∈ mX9_goOn.1, EnZ nX9_goOn x := fm_cons eX9_goOn_0 (fm_cons eX9_goOn_1 (fm_cons eX9_goOn_2 (fm_cons eX9_goOn_3 (fm_cons eX9_goOn_4 (fm_cons eX9_goOn_7 (fm_cons eX9_goOn_8 (fm_cons eX9_goOn_11 (fm_cons eX9_goOn_14 (fm_cons eX9_goOn_17 (fm_nil))))))))))
theorem zX9_goOn : SwZ nX9_goOn (Mt mX9_goOn 3) := wholeZ (mi := nX9_goOn) (cd := mX9_goOn) aX9_goOn rfl (HdZ.none rfl)
abbrev nX9_takeBack : MI := (cX9_takeBack, 2, none, RX9, "takeBack", [], 0, 0)
theorem hyX9_takeBack : yX9_takeBack.cls ≠ "java/lang/invoke/MethodHandle" ∧ yX9_takeBack.cls ≠ "java/lang/invoke/VarHandle" := by decide +kernel
theorem pnX9_takeBack : (parseMethodDescriptor yX9_takeBack.desc).map (fun d => d.parameters.length) = some 0 := by decide +kernel
theorem wdX9_takeBack : CdW yX9_takeBack (nX9_takeBack) := ⟨Or.inl ⟨q1539, rfl⟩, rfl, rfl, plainFor_of_name (by decide +kernel)⟩
theorem eX9_takeBack_0 : SiZ nX9_takeBack 0 (i_push (.int 0) 1) := s_iconst dX9_takeBack_0 (by decide)
theorem eX9_takeBack_1 : SiZ nX9_takeBack 1 (i_istore 1 2) := s_istore_n dX9_takeBack_1 rfl
theorem eX9_takeBack_2 : SiZ nX9_takeBack 2 (i_iload 1 3) := s_iload_n dX9_takeBack_2 rfl
theorem eX9_takeBack_3 : SiZ nX9_takeBack 3 (i_push (.int 41) 5) := s_bipush dX9_takeBack_3 (by decide)
theorem eX9_takeBack_5 : SiZ nX9_takeBack 5 (i_icmp (fun x y => y ≤ x) 26 8) := s_icmp_ge dX9_takeBack_5 (by decide)
theorem eX9_takeBack_8 : SiZ nX9_takeBack 8 (i_aload 0 9) := s_aload_n dX9_takeBack_8 rfl
theorem eX9_takeBack_9 : SiZ nX9_takeBack 9 (i_getf 81 [9] 12) := s_getf dX9_takeBack_9 (fm_cons (⟨_, _, _, _, _, _, rfl, fkX9_19_9⟩) (fm_nil))
theorem eX9_takeBack_12 : SiZ nX9_takeBack 12 (i_iload 1 13) := s_iload_n dX9_takeBack_12 rfl
theorem eX9_takeBack_13 : SiZ nX9_takeBack 13 (i_aload 0 14) := s_aload_n dX9_takeBack_13 rfl
theorem eX9_takeBack_14 : SiZ nX9_takeBack 14 (i_getf 109 [9] 17) := s_getf dX9_takeBack_14 (fm_cons (⟨_, _, _, _, _, _, rfl, fkX9_37_9⟩) (fm_nil))
theorem eX9_takeBack_17 : SiZ nX9_takeBack 17 (i_iload 1 18) := s_iload_n dX9_takeBack_17 rfl
theorem eX9_takeBack_18 : SiZ nX9_takeBack 18 (i_iald 51 19) := s_ald (j := 0) (by decide) (fun _ => rfl) dX9_takeBack_18 (Or.inl ⟨rfl, rfl⟩)
theorem eX9_takeBack_19 : SiZ nX9_takeBack 19 (i_iast 51 (fun x => x) 20) := s_ast (j := 0) (by decide) (fun _ => rfl) dX9_takeBack_19 (Or.inl ⟨rfl, rfl, rfl⟩)
theorem eX9_takeBack_20 : SiZ nX9_takeBack 20 (i_iinc 1 1 23) := s_iinc dX9_takeBack_20 (by decide)
theorem eX9_takeBack_23 : SiZ nX9_takeBack 23 (i_goto 2) := s_goto dX9_takeBack_23 (by decide)
theorem eX9_takeBack_26 : SiZ nX9_takeBack 26 i_vret := s_vret dX9_takeBack_26 rfl
theorem aX9_takeBack : ∀ x ∈ mX9_takeBack.1, EnZ nX9_takeBack x := fm_cons eX9_takeBack_0 (fm_cons eX9_takeBack_1 (fm_cons eX9_takeBack_2 (fm_cons eX9_takeBack_3 (fm_cons eX9_takeBack_5 (fm_cons eX9_takeBack_8 (fm_cons eX9_takeBack_9 (fm_cons eX9_takeBack_12 (fm_cons eX9_takeBack_13 (fm_cons eX9_takeBack_14 (fm_cons eX9_takeBack_17 (fm_cons eX9_takeBack_18 (fm_cons eX9_takeBack_19 (fm_cons eX9_takeBack_20 (fm_cons eX9_takeBack_23 (fm_cons eX9_takeBack_26 (fm_nil))))))))))))))))
theorem zX9_takeBack : SwZ nX9_takeBack (Mt mX9_takeBack 2) := wholeZ (mi := nX9_takeBack) (cd := mX9_takeBack) aX9_takeBack rfl (HdZ.none rfl)
abbrev nX9_ahead : MI := (cX9_ahead, 5, (some (.int)), RX9, "ahead", [], 6, 160)
theorem hyX9_ahead : yX9_ahead.cls ≠ "java/lang/invoke/MethodHandle" ∧ yX9_ahead.cls ≠ "java/lang/invoke/VarHandle" := by decide +kernel
theorem pnX9_ahead : (parseMethodDescriptor yX9_ahead.desc).map (fun d => d.parameters.length) = some 3 := by decide +kernel
theorem wdX9_ahead : CdW yX9_ahead (nX9_ahead) := ⟨Or.inl ⟨q1523, rfl⟩, rfl, rfl, plainFor_of_name (by decide +kernel)⟩
theorem eX9_ahead_0 : SiZ nX9_ahead 0 (i_aload 0 1) := s_aload_n dX9_ahead_0 rfl
theorem eX9_ahead_1 : SiZ nX9_ahead 1 (i_iload 1 2) := s_iload_n dX9_ahead_1 rfl
theorem eX9_ahead_2 : ScZ nX9_ahead 2 (c_V 1 5 2 9 (Mt mX9_isBook 2)) := e_V (mi := nX9_ahead) (mi' := nX9_isBook) (len := 3) (fun h b as rest hk hl => cs_V (ci := 8) (mi := nX9_ahead) (pc := 2) (y := yX9_isBook) (idx := 194) dX9_ahead_2 q1476 q1478 qs53 rfl hk hyX9_isBook (sigC q1479) pnX9_isBook hl) wdX9_isBook zX9_isBook (Nat.le_of_ble_eq_true rfl) (Nat.le_of_ble_eq_true rfl)
theorem eX9_ahead_5 : SiZ nX9_ahead 5 (i_if (fun x => x = 0) 27 8) := s_if_eq dX9_ahead_5 (by decide)
theorem eX9_ahead_8 : SiZ nX9_ahead 8 (i_iload 2 9) := s_iload_n dX9_ahead_8 rfl
theorem eX9_ahead_9 : SiZ nX9_ahead 9 (i_i2l 10) := s_i2l dX9_ahead_9
theorem eX9_ahead_10 : SiZ nX9_ahead 10 (i_push (.long 0) 11) := s_lconst dX9_ahead_10 (by decide)
theorem eX9_ahead_11 : SiZ nX9_ahead 11 (i_push (.long 60) 14) := s_ldc2 dX9_ahead_11 q1524
theorem eX9_ahead_14 : ScZ nX9_ahead 14 (c_S 3 17 6 (Mt mX9_in 6)) := e_S (mi := nX9_ahead) (mi' := nX9_in) (len := 3) (fun h as rest hl => cs_S (mi := nX9_ahead) (pc := 14) (y := yX9_in) (idx := 63) dX9_ahead_14 q1335 q1336 q89 q1337 hyX9_in pnX9_in hl) wdX9_in zX9_in (Nat.le_of_ble_eq_true rfl) (Nat.le_of_ble_eq_true rfl)
theorem eX9_ahead_17 : SiZ nX9_ahead 17 (i_if (fun x => x = 0) 27 20) := s_if_eq dX9_ahead_17 (by decide)
theorem eX9_ahead_20 : SiZ nX9_ahead 20 (i_iload 3 21) := s_iload_n dX9_ahead_20 rfl
theorem eX9_ahead_21 : ScZ nX9_ahead 21 (c_S 1 24 1 (Mt mX9_isWhat 1)) := e_S (mi := nX9_ahead) (mi' := nX9_isWhat) (len := 3) (fun h as rest hl => cs_S (mi := nX9_ahead) (pc := 21) (y := yX9_isWhat) (idx := 216) dX9_ahead_21 q1525 q1526 q89 q1527 hyX9_isWhat pnX9_isWhat hl) wdX9_isWhat zX9_isWhat (Nat.le_of_ble_eq_true rfl) (Nat.le_of_ble_eq_true rfl)
theorem eX9_ahead_24 : SiZ nX9_ahead 24 (i_if (fun x => ¬ x = 0) 30 27) := s_if_ne dX9_ahead_24 (by decide)
theorem eX9_ahead_27 : SiZ nX9_ahead 27 (i_push (.int (-1000001)) 29) := s_ldc dX9_ahead_27 q1339
theorem eX9_ahead_29 : SiZ nX9_ahead 29 i_iret := s_iret dX9_ahead_29 rfl
theorem eX9_ahead_30 : SiZ nX9_ahead 30 (i_aload 0 31) := s_aload_n dX9_ahead_30 rfl
theorem eX9_ahead_31 : ScZ nX9_ahead 31 (c_V 0 34 2 9 (Mt mX9_putAside 2)) := e_V (mi := nX9_ahead) (mi' := nX9_putAside) (len := 3) (fun h b as rest hk hl => cs_V (ci := 8) (mi := nX9_ahead) (pc := 31) (y := yX9_putAside) (idx := 219) dX9_ahead_31 q1528 q1530 qs56 rfl hk hyX9_putAside (sigC q1531) pnX9_putAside hl) wdX9_putAside zX9_putAside (Nat.le_of_ble_eq_true rfl) (Nat.le_of_ble_eq_true rfl)
theorem eX9_ahead_34 : SiZ nX9_ahead 34 (i_aload 0 35) := s_aload_n dX9_ahead_34 rfl
theorem eX9_ahead_35 : SiZ nX9_ahead 35 (i_iload 2 36) := s_iload_n dX9_ahead_35 rfl
theorem eX9_ahead_36 : ScZ nX9_ahead 36 (c_V 1 39 3 9 (Mt mX9_goOn 3)) := e_V (mi := nX9_ahead) (mi' := nX9_goOn) (len := 3) (fun h b as rest hk hl => cs_V (ci := 8) (mi := nX9_ahead) (pc := 36) (y := yX9_goOn) (idx := 208) dX9_ahead_36 q1532 q1534 qs57 rfl hk hyX9_goOn (sigC q1535) pnX9_goOn hl) wdX9_goOn zX9_goOn (Nat.le_of_ble_eq_true rfl) (Nat.le_of_ble_eq_true rfl)
theorem eX9_ahead_39 : SiZ nX9_ahead 39 (i_iload 3 40) := s_iload_n dX9_ahead_39 rfl
theorem eX9_ahead_40 : SiZ nX9_ahead 40 (i_if (fun x => ¬ x = 0) 55 43) := s_if_ne dX9_ahead_40 (by decide)
theorem eX9_ahead_43 : SiZ nX9_ahead 43 (i_aload 0 44) := s_aload_n dX9_ahead_43 rfl
theorem eX9_ahead_44 : SiZ nX9_ahead 44 (i_getf 81 [9] 47) := s_getf dX9_ahead_44 (fm_cons (⟨_, _, _, _, _, _, rfl, fkX9_19_9⟩) (fm_nil))
theorem eX9_ahead_47 : SiZ nX9_ahead 47 (i_push (.int 8) 49) := s_bipush dX9_ahead_47 (by decide)
theorem eX9_ahead_49 : SiZ nX9_ahead 49 (i_iload 1 50) := s_iload_n dX9_ahead_49 rfl
theorem eX9_ahead_50 : SiZ nX9_ahead 50 (i_bin (fun x y => x + y) 51) := s_iadd dX9_ahead_50
theorem eX9_ahead_51 : SiZ nX9_ahead 51 (i_iald 51 52) := s_ald (j := 0) (by decide) (fun _ => rfl) dX9_ahead_51 (Or.inl ⟨rfl, rfl⟩)
theorem eX9_ahead_52 : SiZ nX9_ahead 52 (i_goto 64) := s_goto dX9_ahead_52 (by decide)
theorem eX9_ahead_55 : SiZ nX9_ahead 55 (i_aload 0 56) := s_aload_n dX9_ahead_55 rfl
theorem eX9_ahead_56 : SiZ nX9_ahead 56 (i_getf 81 [9] 59) := s_getf dX9_ahead_56 (fm_cons (⟨_, _, _, _, _, _, rfl, fkX9_19_9⟩) (fm_nil))
theorem eX9_ahead_59 : SiZ nX9_ahead 59 (i_push (.int 14) 61) := s_bipush dX9_ahead_59 (by decide)
theorem eX9_ahead_61 : SiZ nX9_ahead 61 (i_iload 1 62) := s_iload_n dX9_ahead_61 rfl
theorem eX9_ahead_62 : SiZ nX9_ahead 62 (i_bin (fun x y => x + y) 63) := s_iadd dX9_ahead_62
theorem eX9_ahead_63 : SiZ nX9_ahead 63 (i_iald 51 64) := s_ald (j := 0) (by decide) (fun _ => rfl) dX9_ahead_63 (Or.inl ⟨rfl, rfl⟩)
theorem eX9_ahead_64 : SiZ nX9_ahead 64 (i_istore 4 66) := s_istore dX9_ahead_64
theorem eX9_ahead_66 : SiZ nX9_ahead 66 (i_aload 0 67) := s_aload_n dX9_ahead_66 rfl
theorem eX9_ahead_67 : ScZ nX9_ahead 67 (c_V 0 70 2 9 (Mt mX9_takeBack 2)) := e_V (mi := nX9_ahead) (mi' := nX9_takeBack) (len := 3) (fun h b as rest hk hl => cs_V (ci := 8) (mi := nX9_ahead) (pc := 67) (y := yX9_takeBack) (idx := 211) dX9_ahead_67 q1536 q1538 qs58 rfl hk hyX9_takeBack (sigC q1539) pnX9_takeBack hl) wdX9_takeBack zX9_takeBack (Nat.le_of_ble_eq_true rfl) (Nat.le_of_ble_eq_true rfl)
theorem eX9_ahead_70 : SiZ nX9_ahead 70 (i_iload 4 72) := s_iload dX9_ahead_70
theorem eX9_ahead_72 : SiZ nX9_ahead 72 i_iret := s_iret dX9_ahead_72 rfl
theorem aX9_ahead : ∀ x ∈ mX9_ahead.1, EnZ nX9_ahead x := fm_cons eX9_ahead_0 (fm_cons eX9_ahead_1 (fm_cons eX9_ahead_2 (fm_cons eX9_ahead_5 (fm_cons eX9_ahead_8 (fm_cons eX9_ahead_9 (fm_cons eX9_ahead_10 (fm_cons eX9_ahead_11 (fm_cons eX9_ahead_14 (fm_cons eX9_ahead_17 (fm_cons eX9_ahead_20 (fm_cons eX9_ahead_21 (fm_cons eX9_ahead_24 (fm_cons eX9_ahead_27 (fm_cons eX9_ahead_29 (fm_cons eX9_ahead_30 (fm_cons eX9_ahead_31 (fm_cons eX9_ahead_34 (fm_cons eX9_ahead_35 (fm_cons eX9_ahead_36 (fm_cons eX9_ahead_39 (fm_cons eX9_ahead_40 (fm_cons eX9_ahead_43 (fm_cons eX9_ahead_44 (fm_cons eX9_ahead_47 (fm_cons eX9_ahead_49 (fm_cons eX9_ahead_50 (fm_cons eX9_ahead_51 (fm_cons eX9_ahead_52 (fm_cons eX9_ahead_55 (fm_cons eX9_ahead_56 (fm_cons eX9_ahead_59 (fm_cons eX9_ahead_61 (fm_cons eX9_ahead_62 (fm_cons eX9_ahead_63 (fm_cons eX9_ahead_64 (fm_cons eX9_ahead_66 (fm_cons eX9_ahead_67 (fm_cons eX9_ahead_70 (fm_cons eX9_ahead_72 (fm_nil))))))))))))))))))))))))))))))))))))))))
theorem zX9_ahead : SwZ nX9_ahead (Mt mX9_ahead 5) := wholeZ (mi := nX9_ahead) (cd := mX9_ahead) aX9_ahead rfl (HdZ.none rfl)
abbrev nX9_later : MI := (cX9_later, 5, (some (.int)), RX9, "later", [], 6, 160)
theorem hyX9_later : yX9_later.cls ≠ "java/lang/invoke/MethodHandle" ∧ yX9_later.cls ≠ "java/lang/invoke/VarHandle" := by decide +kernel
theorem pnX9_later : (parseMethodDescriptor yX9_later.desc).map (fun d => d.parameters.length) = some 3 := by decide +kernel
theorem wdX9_later : CdW yX9_later (nX9_later) := ⟨Or.inl ⟨q1543, rfl⟩, rfl, rfl, plainFor_of_name (by decide +kernel)⟩
theorem eX9_later_0 : SiZ nX9_later 0 (i_aload 0 1) := s_aload_n dX9_later_0 rfl
theorem eX9_later_1 : SiZ nX9_later 1 (i_iload 1 2) := s_iload_n dX9_later_1 rfl
theorem eX9_later_2 : ScZ nX9_later 2 (c_V 1 5 2 9 (Mt mX9_isFish 2)) := e_V (mi := nX9_later) (mi' := nX9_isFish) (len := 3) (fun h b as rest hk hl => cs_V (ci := 8) (mi := nX9_later) (pc := 2) (y := yX9_isFish) (idx := 200) dX9_later_2 q1495 q1497 qs54 rfl hk hyX9_isFish (sigC q1498) pnX9_isFish hl) wdX9_isFish zX9_isFish (Nat.le_of_ble_eq_true rfl) (Nat.le_of_ble_eq_true rfl)
theorem eX9_later_5 : SiZ nX9_later 5 (i_if (fun x => x = 0) 27 8) := s_if_eq dX9_later_5 (by decide)
theorem eX9_later_8 : SiZ nX9_later 8 (i_iload 2 9) := s_iload_n dX9_later_8 rfl
theorem eX9_later_9 : SiZ nX9_later 9 (i_i2l 10) := s_i2l dX9_later_9
theorem eX9_later_10 : SiZ nX9_later 10 (i_push (.long 0) 11) := s_lconst dX9_later_10 (by decide)
theorem eX9_later_11 : SiZ nX9_later 11 (i_push (.long 60) 14) := s_ldc2 dX9_later_11 q1524
theorem eX9_later_14 : ScZ nX9_later 14 (c_S 3 17 6 (Mt mX9_in 6)) := e_S (mi := nX9_later) (mi' := nX9_in) (len := 3) (fun h as rest hl => cs_S (mi := nX9_later) (pc := 14) (y := yX9_in) (idx := 63) dX9_later_14 q1335 q1336 q89 q1337 hyX9_in pnX9_in hl) wdX9_in zX9_in (Nat.le_of_ble_eq_true rfl) (Nat.le_of_ble_eq_true rfl)
theorem eX9_later_17 : SiZ nX9_later 17 (i_if (fun x => x = 0) 27 20) := s_if_eq dX9_later_17 (by decide)
theorem eX9_later_20 : SiZ nX9_later 20 (i_iload 3 21) := s_iload_n dX9_later_20 rfl
theorem eX9_later_21 : ScZ nX9_later 21 (c_S 1 24 1 (Mt mX9_isWhat 1)) := e_S (mi := nX9_later) (mi' := nX9_isWhat) (len := 3) (fun h as rest hl => cs_S (mi := nX9_later) (pc := 21) (y := yX9_isWhat) (idx := 216) dX9_later_21 q1525 q1526 q89 q1527 hyX9_isWhat pnX9_isWhat hl) wdX9_isWhat zX9_isWhat (Nat.le_of_ble_eq_true rfl) (Nat.le_of_ble_eq_true rfl)
theorem eX9_later_24 : SiZ nX9_later 24 (i_if (fun x => ¬ x = 0) 30 27) := s_if_ne dX9_later_24 (by decide)
theorem eX9_later_27 : SiZ nX9_later 27 (i_push (.int (-1000001)) 29) := s_ldc dX9_later_27 q1339
theorem eX9_later_29 : SiZ nX9_later 29 i_iret := s_iret dX9_later_29 rfl
theorem eX9_later_30 : SiZ nX9_later 30 (i_aload 0 31) := s_aload_n dX9_later_30 rfl
theorem eX9_later_31 : ScZ nX9_later 31 (c_V 0 34 2 9 (Mt mX9_putAside 2)) := e_V (mi := nX9_later) (mi' := nX9_putAside) (len := 3) (fun h b as rest hk hl => cs_V (ci := 8) (mi := nX9_later) (pc := 31) (y := yX9_putAside) (idx := 219) dX9_later_31 q1528 q1530 qs56 rfl hk hyX9_putAside (sigC q1531) pnX9_putAside hl) wdX9_putAside zX9_putAside (Nat.le_of_ble_eq_true rfl) (Nat.le_of_ble_eq_true rfl)
theorem eX9_later_34 : SiZ nX9_later 34 (i_aload 0 35) := s_aload_n dX9_later_34 rfl
theorem eX9_later_35 : SiZ nX9_later 35 (i_iload 2 36) := s_iload_n dX9_later_35 rfl
theorem eX9_later_36 : ScZ nX9_later 36 (c_V 1 39 3 9 (Mt mX9_goOn 3)) := e_V (mi := nX9_later) (mi' := nX9_goOn) (len := 3) (fun h b as rest hk hl => cs_V (ci := 8) (mi := nX9_later) (pc := 36) (y := yX9_goOn) (idx := 208) dX9_later_36 q1532 q1534 qs57 rfl hk hyX9_goOn (sigC q1535) pnX9_goOn hl) wdX9_goOn zX9_goOn (Nat.le_of_ble_eq_true rfl) (Nat.le_of_ble_eq_true rfl)
theorem eX9_later_39 : SiZ nX9_later 39 (i_iload 3 40) := s_iload_n dX9_later_39 rfl
theorem eX9_later_40 : SiZ nX9_later 40 (i_push (.int 1) 41) := s_iconst dX9_later_40 (by decide)
theorem eX9_later_41 : SiZ nX9_later 41 (i_icmp (fun x y => ¬ x = y) 56 44) := s_icmp_ne dX9_later_41 (by decide)
theorem eX9_later_44 : SiZ nX9_later 44 (i_aload 0 45) := s_aload_n dX9_later_44 rfl
theorem eX9_later_45 : SiZ nX9_later 45 (i_getf 81 [9] 48) := s_getf dX9_later_45 (fm_cons (⟨_, _, _, _, _, _, rfl, fkX9_19_9⟩) (fm_nil))
theorem eX9_later_48 : SiZ nX9_later 48 (i_push (.int 36) 50) := s_bipush dX9_later_48 (by decide)
theorem eX9_later_50 : SiZ nX9_later 50 (i_iload 1 51) := s_iload_n dX9_later_50 rfl
theorem eX9_later_51 : SiZ nX9_later 51 (i_bin (fun x y => x + y) 52) := s_iadd dX9_later_51
theorem eX9_later_52 : SiZ nX9_later 52 (i_iald 51 53) := s_ald (j := 0) (by decide) (fun _ => rfl) dX9_later_52 (Or.inl ⟨rfl, rfl⟩)
theorem eX9_later_53 : SiZ nX9_later 53 (i_goto 78) := s_goto dX9_later_53 (by decide)
theorem eX9_later_56 : SiZ nX9_later 56 (i_aload 0 57) := s_aload_n dX9_later_56 rfl
theorem eX9_later_57 : SiZ nX9_later 57 (i_iload 1 58) := s_iload_n dX9_later_57 rfl
theorem eX9_later_58 : ScZ nX9_later 58 (c_V 1 61 2 9 (Mt mX9_isCaught 2)) := e_V (mi := nX9_later) (mi' := nX9_isCaught) (len := 3) (fun h b as rest hk hl => cs_V (ci := 8) (mi := nX9_later) (pc := 58) (y := yX9_isCaught) (idx := 171) dX9_later_58 q1436 q1438 qs45 rfl hk hyX9_isCaught (sigC q1439) pnX9_isCaught hl) wdX9_isCaught zX9_isCaught (Nat.le_of_ble_eq_true rfl) (Nat.le_of_ble_eq_true rfl)
theorem eX9_later_61 : SiZ nX9_later 61 (i_if (fun x => x = 0) 69 64) := s_if_eq dX9_later_61 (by decide)
theorem eX9_later_64 : SiZ nX9_later 64 (i_push (.int (-1000000)) 66) := s_ldc dX9_later_64 q1455
theorem eX9_later_66 : SiZ nX9_later 66 (i_goto 78) := s_goto dX9_later_66 (by decide)
theorem eX9_later_69 : SiZ nX9_later 69 (i_aload 0 70) := s_aload_n dX9_later_69 rfl
theorem eX9_later_70 : SiZ nX9_later 70 (i_getf 81 [9] 73) := s_getf dX9_later_70 (fm_cons (⟨_, _, _, _, _, _, rfl, fkX9_19_9⟩) (fm_nil))
theorem eX9_later_73 : SiZ nX9_later 73 (i_push (.int 31) 75) := s_bipush dX9_later_73 (by decide)
theorem eX9_later_75 : SiZ nX9_later 75 (i_iload 1 76) := s_iload_n dX9_later_75 rfl
theorem eX9_later_76 : SiZ nX9_later 76 (i_bin (fun x y => x + y) 77) := s_iadd dX9_later_76
theorem eX9_later_77 : SiZ nX9_later 77 (i_iald 51 78) := s_ald (j := 0) (by decide) (fun _ => rfl) dX9_later_77 (Or.inl ⟨rfl, rfl⟩)
theorem eX9_later_78 : SiZ nX9_later 78 (i_istore 4 80) := s_istore dX9_later_78
theorem eX9_later_80 : SiZ nX9_later 80 (i_aload 0 81) := s_aload_n dX9_later_80 rfl
theorem eX9_later_81 : ScZ nX9_later 81 (c_V 0 84 2 9 (Mt mX9_takeBack 2)) := e_V (mi := nX9_later) (mi' := nX9_takeBack) (len := 3) (fun h b as rest hk hl => cs_V (ci := 8) (mi := nX9_later) (pc := 81) (y := yX9_takeBack) (idx := 211) dX9_later_81 q1536 q1538 qs58 rfl hk hyX9_takeBack (sigC q1539) pnX9_takeBack hl) wdX9_takeBack zX9_takeBack (Nat.le_of_ble_eq_true rfl) (Nat.le_of_ble_eq_true rfl)
theorem eX9_later_84 : SiZ nX9_later 84 (i_iload 4 86) := s_iload dX9_later_84
theorem eX9_later_86 : SiZ nX9_later 86 i_iret := s_iret dX9_later_86 rfl
theorem aX9_later : ∀ x ∈ mX9_later.1, EnZ nX9_later x := fm_cons eX9_later_0 (fm_cons eX9_later_1 (fm_cons eX9_later_2 (fm_cons eX9_later_5 (fm_cons eX9_later_8 (fm_cons eX9_later_9 (fm_cons eX9_later_10 (fm_cons eX9_later_11 (fm_cons eX9_later_14 (fm_cons eX9_later_17 (fm_cons eX9_later_20 (fm_cons eX9_later_21 (fm_cons eX9_later_24 (fm_cons eX9_later_27 (fm_cons eX9_later_29 (fm_cons eX9_later_30 (fm_cons eX9_later_31 (fm_cons eX9_later_34 (fm_cons eX9_later_35 (fm_cons eX9_later_36 (fm_cons eX9_later_39 (fm_cons eX9_later_40 (fm_cons eX9_later_41 (fm_cons eX9_later_44 (fm_cons eX9_later_45 (fm_cons eX9_later_48 (fm_cons eX9_later_50 (fm_cons eX9_later_51 (fm_cons eX9_later_52 (fm_cons eX9_later_53 (fm_cons eX9_later_56 (fm_cons eX9_later_57 (fm_cons eX9_later_58 (fm_cons eX9_later_61 (fm_cons eX9_later_64 (fm_cons eX9_later_66 (fm_cons eX9_later_69 (fm_cons eX9_later_70 (fm_cons eX9_later_73 (fm_cons eX9_later_75 (fm_cons eX9_later_76 (fm_cons eX9_later_77 (fm_cons eX9_later_78 (fm_cons eX9_later_80 (fm_cons eX9_later_81 (fm_cons eX9_later_84 (fm_cons eX9_later_86 (fm_nil)))))))))))))))))))))))))))))))))))))))))))))))
theorem zX9_later : SwZ nX9_later (Mt mX9_later 5) := wholeZ (mi := nX9_later) (cd := mX9_later) aX9_later rfl (HdZ.none rfl)
abbrev nX9_when : MI := (cX9_when, 4, (some (.int)), RX9, "when", [], 5, 134)
theorem hyX9_when : yX9_when.cls ≠ "java/lang/invoke/MethodHandle" ∧ yX9_when.cls ≠ "java/lang/invoke/VarHandle" := by decide +kernel
theorem pnX9_when : (parseMethodDescriptor yX9_when.desc).map (fun d => d.parameters.length) = some 1 := by decide +kernel
theorem wdX9_when : CdW yX9_when (nX9_when) := ⟨Or.inl ⟨q1547, rfl⟩, rfl, rfl, plainFor_of_name (by decide +kernel)⟩
theorem eX9_when_0 : SiZ nX9_when 0 (i_aload 0 1) := s_aload_n dX9_when_0 rfl
theorem eX9_when_1 : SiZ nX9_when 1 (i_iload 1 2) := s_iload_n dX9_when_1 rfl
theorem eX9_when_2 : ScZ nX9_when 2 (c_V 1 5 2 9 (Mt mX9_isBook 2)) := e_V (mi := nX9_when) (mi' := nX9_isBook) (len := 3) (fun h b as rest hk hl => cs_V (ci := 8) (mi := nX9_when) (pc := 2) (y := yX9_isBook) (idx := 194) dX9_when_2 q1476 q1478 qs53 rfl hk hyX9_isBook (sigC q1479) pnX9_isBook hl) wdX9_isBook zX9_isBook (Nat.le_of_ble_eq_true rfl) (Nat.le_of_ble_eq_true rfl)
theorem eX9_when_5 : SiZ nX9_when 5 (i_if (fun x => ¬ x = 0) 11 8) := s_if_ne dX9_when_5 (by decide)
theorem eX9_when_8 : SiZ nX9_when 8 (i_push (.int (-1000001)) 10) := s_ldc dX9_when_8 q1339
theorem eX9_when_10 : SiZ nX9_when 10 i_iret := s_iret dX9_when_10 rfl
theorem eX9_when_11 : SiZ nX9_when 11 (i_aload 0 12) := s_aload_n dX9_when_11 rfl
theorem eX9_when_12 : ScZ nX9_when 12 (c_V 0 15 2 9 (Mt mX9_putAside 2)) := e_V (mi := nX9_when) (mi' := nX9_putAside) (len := 3) (fun h b as rest hk hl => cs_V (ci := 8) (mi := nX9_when) (pc := 12) (y := yX9_putAside) (idx := 219) dX9_when_12 q1528 q1530 qs56 rfl hk hyX9_putAside (sigC q1531) pnX9_putAside hl) wdX9_putAside zX9_putAside (Nat.le_of_ble_eq_true rfl) (Nat.le_of_ble_eq_true rfl)
theorem eX9_when_15 : SiZ nX9_when 15 (i_push (.int 0) 16) := s_iconst dX9_when_15 (by decide)
theorem eX9_when_16 : SiZ nX9_when 16 (i_istore 2 17) := s_istore_n dX9_when_16 rfl
theorem eX9_when_17 : SiZ nX9_when 17 (i_aload 0 18) := s_aload_n dX9_when_17 rfl
theorem eX9_when_18 : SiZ nX9_when 18 (i_getf 81 [9] 21) := s_getf dX9_when_18 (fm_cons (⟨_, _, _, _, _, _, rfl, fkX9_19_9⟩) (fm_nil))
theorem eX9_when_21 : SiZ nX9_when 21 (i_push (.int 8) 23) := s_bipush dX9_when_21 (by decide)
theorem eX9_when_23 : SiZ nX9_when 23 (i_iload 1 24) := s_iload_n dX9_when_23 rfl
theorem eX9_when_24 : SiZ nX9_when 24 (i_bin (fun x y => x + y) 25) := s_iadd dX9_when_24
theorem eX9_when_25 : SiZ nX9_when 25 (i_iald 51 26) := s_ald (j := 0) (by decide) (fun _ => rfl) dX9_when_25 (Or.inl ⟨rfl, rfl⟩)
theorem eX9_when_26 : SiZ nX9_when 26 (i_if (fun x => x ≤ 0) 45 29) := s_if_le dX9_when_26 (by decide)
theorem eX9_when_29 : SiZ nX9_when 29 (i_iload 2 30) := s_iload_n dX9_when_29 rfl
theorem eX9_when_30 : SiZ nX9_when 30 (i_push (.int 60) 32) := s_bipush dX9_when_30 (by decide)
theorem eX9_when_32 : SiZ nX9_when 32 (i_icmp (fun x y => y ≤ x) 45 35) := s_icmp_ge dX9_when_32 (by decide)
theorem eX9_when_35 : SiZ nX9_when 35 (i_aload 0 36) := s_aload_n dX9_when_35 rfl
theorem eX9_when_36 : ScZ nX9_when 36 (c_V 0 39 2 9 (Mt mX9_oneNight 2)) := e_V (mi := nX9_when) (mi' := nX9_oneNight) (len := 3) (fun h b as rest hk hl => cs_V (ci := 8) (mi := nX9_when) (pc := 36) (y := yX9_oneNight) (idx := 187) dX9_when_36 q1432 q1434 qs44 rfl hk hyX9_oneNight (sigC q1435) pnX9_oneNight hl) wdX9_oneNight zX9_oneNight (Nat.le_of_ble_eq_true rfl) (Nat.le_of_ble_eq_true rfl)
theorem eX9_when_39 : SiZ nX9_when 39 (i_iinc 2 1 42) := s_iinc dX9_when_39 (by decide)
theorem eX9_when_42 : SiZ nX9_when 42 (i_goto 17) := s_goto dX9_when_42 (by decide)
theorem eX9_when_45 : SiZ nX9_when 45 (i_aload 0 46) := s_aload_n dX9_when_45 rfl
theorem eX9_when_46 : SiZ nX9_when 46 (i_getf 81 [9] 49) := s_getf dX9_when_46 (fm_cons (⟨_, _, _, _, _, _, rfl, fkX9_19_9⟩) (fm_nil))
theorem eX9_when_49 : SiZ nX9_when 49 (i_push (.int 8) 51) := s_bipush dX9_when_49 (by decide)
theorem eX9_when_51 : SiZ nX9_when 51 (i_iload 1 52) := s_iload_n dX9_when_51 rfl
theorem eX9_when_52 : SiZ nX9_when 52 (i_bin (fun x y => x + y) 53) := s_iadd dX9_when_52
theorem eX9_when_53 : SiZ nX9_when 53 (i_iald 51 54) := s_ald (j := 0) (by decide) (fun _ => rfl) dX9_when_53 (Or.inl ⟨rfl, rfl⟩)
theorem eX9_when_54 : SiZ nX9_when 54 (i_if (fun x => ¬ x = 0) 61 57) := s_if_ne dX9_when_54 (by decide)
theorem eX9_when_57 : SiZ nX9_when 57 (i_push (.int 1) 58) := s_iconst dX9_when_57 (by decide)
theorem eX9_when_58 : SiZ nX9_when 58 (i_goto 62) := s_goto dX9_when_58 (by decide)
theorem eX9_when_61 : SiZ nX9_when 61 (i_push (.int 0) 62) := s_iconst dX9_when_61 (by decide)
theorem eX9_when_62 : SiZ nX9_when 62 (i_istore 3 63) := s_istore_n dX9_when_62 rfl
theorem eX9_when_63 : SiZ nX9_when 63 (i_aload 0 64) := s_aload_n dX9_when_63 rfl
theorem eX9_when_64 : ScZ nX9_when 64 (c_V 0 67 2 9 (Mt mX9_takeBack 2)) := e_V (mi := nX9_when) (mi' := nX9_takeBack) (len := 3) (fun h b as rest hk hl => cs_V (ci := 8) (mi := nX9_when) (pc := 64) (y := yX9_takeBack) (idx := 211) dX9_when_64 q1536 q1538 qs58 rfl hk hyX9_takeBack (sigC q1539) pnX9_takeBack hl) wdX9_takeBack zX9_takeBack (Nat.le_of_ble_eq_true rfl) (Nat.le_of_ble_eq_true rfl)
theorem eX9_when_67 : SiZ nX9_when 67 (i_iload 3 68) := s_iload_n dX9_when_67 rfl
theorem eX9_when_68 : SiZ nX9_when 68 (i_if (fun x => x = 0) 75 71) := s_if_eq dX9_when_68 (by decide)
theorem eX9_when_71 : SiZ nX9_when 71 (i_iload 2 72) := s_iload_n dX9_when_71 rfl
theorem eX9_when_72 : SiZ nX9_when 72 (i_goto 77) := s_goto dX9_when_72 (by decide)
theorem eX9_when_75 : SiZ nX9_when 75 (i_push (.int (-1000000)) 77) := s_ldc dX9_when_75 q1455
theorem eX9_when_77 : SiZ nX9_when 77 i_iret := s_iret dX9_when_77 rfl
theorem aX9_when : ∀ x ∈ mX9_when.1, EnZ nX9_when x := fm_cons eX9_when_0 (fm_cons eX9_when_1 (fm_cons eX9_when_2 (fm_cons eX9_when_5 (fm_cons eX9_when_8 (fm_cons eX9_when_10 (fm_cons eX9_when_11 (fm_cons eX9_when_12 (fm_cons eX9_when_15 (fm_cons eX9_when_16 (fm_cons eX9_when_17 (fm_cons eX9_when_18 (fm_cons eX9_when_21 (fm_cons eX9_when_23 (fm_cons eX9_when_24 (fm_cons eX9_when_25 (fm_cons eX9_when_26 (fm_cons eX9_when_29 (fm_cons eX9_when_30 (fm_cons eX9_when_32 (fm_cons eX9_when_35 (fm_cons eX9_when_36 (fm_cons eX9_when_39 (fm_cons eX9_when_42 (fm_cons eX9_when_45 (fm_cons eX9_when_46 (fm_cons eX9_when_49 (fm_cons eX9_when_51 (fm_cons eX9_when_52 (fm_cons eX9_when_53 (fm_cons eX9_when_54 (fm_cons eX9_when_57 (fm_cons eX9_when_58 (fm_cons eX9_when_61 (fm_cons eX9_when_62 (fm_cons eX9_when_63 (fm_cons eX9_when_64 (fm_cons eX9_when_67 (fm_cons eX9_when_68 (fm_cons eX9_when_71 (fm_cons eX9_when_72 (fm_cons eX9_when_75 (fm_cons eX9_when_77 (fm_nil)))))))))))))))))))))))))))))))))))))))))))
theorem zX9_when : SwZ nX9_when (Mt mX9_when 4) := wholeZ (mi := nX9_when) (cd := mX9_when) aX9_when rfl (HdZ.none rfl)
abbrev nX9_emptySet : MI := (cX9_emptySet, 3, (some (.int)), RX9, "emptySet", [], 0, 0)
theorem hyX9_emptySet : yX9_emptySet.cls ≠ "java/lang/invoke/MethodHandle" ∧ yX9_emptySet.cls ≠ "java/lang/invoke/VarHandle" := by decide +kernel
theorem pnX9_emptySet : (parseMethodDescriptor yX9_emptySet.desc).map (fun d => d.parameters.length) = some 0 := by decide +kernel
theorem wdX9_emptySet : CdW yX9_emptySet (nX9_emptySet) := ⟨Or.inl ⟨q1555, rfl⟩, rfl, rfl, plainFor_of_name (by decide +kernel)⟩
theorem eX9_emptySet_0 : SiZ nX9_emptySet 0 (i_push (.int 0) 1) := s_iconst dX9_emptySet_0 (by decide)
theorem eX9_emptySet_1 : SiZ nX9_emptySet 1 (i_istore 1 2) := s_istore_n dX9_emptySet_1 rfl
theorem eX9_emptySet_2 : SiZ nX9_emptySet 2 (i_push (.int 0) 3) := s_iconst dX9_emptySet_2 (by decide)
theorem eX9_emptySet_3 : SiZ nX9_emptySet 3 (i_istore 2 4) := s_istore_n dX9_emptySet_3 rfl
theorem eX9_emptySet_4 : SiZ nX9_emptySet 4 (i_iload 2 5) := s_iload_n dX9_emptySet_4 rfl
theorem eX9_emptySet_5 : SiZ nX9_emptySet 5 (i_aload 0 6) := s_aload_n dX9_emptySet_5 rfl
theorem eX9_emptySet_6 : SiZ nX9_emptySet 6 (i_getf 81 [9] 9) := s_getf dX9_emptySet_6 (fm_cons (⟨_, _, _, _, _, _, rfl, fkX9_19_9⟩) (fm_nil))
theorem eX9_emptySet_9 : SiZ nX9_emptySet 9 (i_push (.int 0) 10) := s_iconst dX9_emptySet_9 (by decide)
theorem eX9_emptySet_10 : SiZ nX9_emptySet 10 (i_iald 51 11) := s_ald (j := 0) (by decide) (fun _ => rfl) dX9_emptySet_10 (Or.inl ⟨rfl, rfl⟩)
theorem eX9_emptySet_11 : SiZ nX9_emptySet 11 (i_icmp (fun x y => y ≤ x) 42 14) := s_icmp_ge dX9_emptySet_11 (by decide)
theorem eX9_emptySet_14 : SiZ nX9_emptySet 14 (i_iload 1 15) := s_iload_n dX9_emptySet_14 rfl
theorem eX9_emptySet_15 : SiZ nX9_emptySet 15 (i_aload 0 16) := s_aload_n dX9_emptySet_15 rfl
theorem eX9_emptySet_16 : SiZ nX9_emptySet 16 (i_getf 81 [9] 19) := s_getf dX9_emptySet_16 (fm_cons (⟨_, _, _, _, _, _, rfl, fkX9_19_9⟩) (fm_nil))
theorem eX9_emptySet_19 : SiZ nX9_emptySet 19 (i_push (.int 8) 21) := s_bipush dX9_emptySet_19 (by decide)
theorem eX9_emptySet_21 : SiZ nX9_emptySet 21 (i_iload 2 22) := s_iload_n dX9_emptySet_21 rfl
theorem eX9_emptySet_22 : SiZ nX9_emptySet 22 (i_bin (fun x y => x + y) 23) := s_iadd dX9_emptySet_22
theorem eX9_emptySet_23 : SiZ nX9_emptySet 23 (i_iald 51 24) := s_ald (j := 0) (by decide) (fun _ => rfl) dX9_emptySet_23 (Or.inl ⟨rfl, rfl⟩)
theorem eX9_emptySet_24 : SiZ nX9_emptySet 24 (i_if (fun x => ¬ x = 0) 33 27) := s_if_ne dX9_emptySet_24 (by decide)
theorem eX9_emptySet_27 : SiZ nX9_emptySet 27 (i_push (.int 1) 28) := s_iconst dX9_emptySet_27 (by decide)
theorem eX9_emptySet_28 : SiZ nX9_emptySet 28 (i_iload 2 29) := s_iload_n dX9_emptySet_28 rfl
theorem eX9_emptySet_29 : SiZ nX9_emptySet 29 (i_bin (fun x y => x <<< (y &&& 31)) 30) := s_ishl dX9_emptySet_29
theorem eX9_emptySet_30 : SiZ nX9_emptySet 30 (i_goto 34) := s_goto dX9_emptySet_30 (by decide)
theorem eX9_emptySet_33 : SiZ nX9_emptySet 33 (i_push (.int 0) 34) := s_iconst dX9_emptySet_33 (by decide)
theorem eX9_emptySet_34 : SiZ nX9_emptySet 34 (i_bin (fun x y => x ||| y) 35) := s_ior dX9_emptySet_34
theorem eX9_emptySet_35 : SiZ nX9_emptySet 35 (i_istore 1 36) := s_istore_n dX9_emptySet_35 rfl
theorem eX9_emptySet_36 : SiZ nX9_emptySet 36 (i_iinc 2 1 39) := s_iinc dX9_emptySet_36 (by decide)
theorem eX9_emptySet_39 : SiZ nX9_emptySet 39 (i_goto 4) := s_goto dX9_emptySet_39 (by decide)
theorem eX9_emptySet_42 : SiZ nX9_emptySet 42 (i_iload 1 43) := s_iload_n dX9_emptySet_42 rfl
theorem eX9_emptySet_43 : SiZ nX9_emptySet 43 i_iret := s_iret dX9_emptySet_43 rfl
theorem aX9_emptySet : ∀ x ∈ mX9_emptySet.1, EnZ nX9_emptySet x := fm_cons eX9_emptySet_0 (fm_cons eX9_emptySet_1 (fm_cons eX9_emptySet_2 (fm_cons eX9_emptySet_3 (fm_cons eX9_emptySet_4 (fm_cons eX9_emptySet_5 (fm_cons eX9_emptySet_6 (fm_cons eX9_emptySet_9 (fm_cons eX9_emptySet_10 (fm_cons eX9_emptySet_11 (fm_cons eX9_emptySet_14 (fm_cons eX9_emptySet_15 (fm_cons eX9_emptySet_16 (fm_cons eX9_emptySet_19 (fm_cons eX9_emptySet_21 (fm_cons eX9_emptySet_22 (fm_cons eX9_emptySet_23 (fm_cons eX9_emptySet_24 (fm_cons eX9_emptySet_27 (fm_cons eX9_emptySet_28 (fm_cons eX9_emptySet_29 (fm_cons eX9_emptySet_30 (fm_cons eX9_emptySet_33 (fm_cons eX9_emptySet_34 (fm_cons eX9_emptySet_35 (fm_cons eX9_emptySet_36 (fm_cons eX9_emptySet_39 (fm_cons eX9_emptySet_42 (fm_cons eX9_emptySet_43 (fm_nil)))))))))))))))))))))))))))))
theorem zX9_emptySet : SwZ nX9_emptySet (Mt mX9_emptySet 3) := wholeZ (mi := nX9_emptySet) (cd := mX9_emptySet) aX9_emptySet rfl (HdZ.none rfl)
abbrev nX9_least : MI := (cX9_least, 2, (some (.int)), RX9, "least", [], 1, 25)
theorem hyX9_least : yX9_least.cls ≠ "java/lang/invoke/MethodHandle" ∧ yX9_least.cls ≠ "java/lang/invoke/VarHandle" := by decide +kernel
theorem pnX9_least : (parseMethodDescriptor yX9_least.desc).map (fun d => d.parameters.length) = some 1 := by decide +kernel
theorem wdX9_least : CdW yX9_least (nX9_least) := ⟨Or.inl ⟨q1558, rfl⟩, rfl, rfl, plainFor_of_name (by decide +kernel)⟩
theorem eX9_least_0 : SiZ nX9_least 0 (i_push (.int 0) 1) := s_iconst dX9_least_0 (by decide)
theorem eX9_least_1 : SiZ nX9_least 1 (i_istore 1 2) := s_istore_n dX9_least_1 rfl
theorem eX9_least_2 : SiZ nX9_least 2 (i_iload 0 3) := s_iload_n dX9_least_2 rfl
theorem eX9_least_3 : SiZ nX9_least 3 (i_iload 1 4) := s_iload_n dX9_least_3 rfl
theorem eX9_least_4 : ScZ nX9_least 4 (c_S 2 7 2 (Mt mX9_has 2)) := e_S (mi := nX9_least) (mi' := nX9_has) (len := 3) (fun h as rest hl => cs_S (mi := nX9_least) (pc := 4) (y := yX9_has) (idx := 154) dX9_least_4 q1440 q1441 q89 q1442 hyX9_has pnX9_has hl) wdX9_has zX9_has (Nat.le_of_ble_eq_true rfl) (Nat.le_of_ble_eq_true rfl)
theorem eX9_least_7 : SiZ nX9_least 7 (i_if (fun x => ¬ x = 0) 16 10) := s_if_ne dX9_least_7 (by decide)
theorem eX9_least_10 : SiZ nX9_least 10 (i_iinc 1 1 13) := s_iinc dX9_least_10 (by decide)
theorem eX9_least_13 : SiZ nX9_least 13 (i_goto 2) := s_goto dX9_least_13 (by decide)
theorem eX9_least_16 : SiZ nX9_least 16 (i_iload 1 17) := s_iload_n dX9_least_16 rfl
theorem eX9_least_17 : SiZ nX9_least 17 i_iret := s_iret dX9_least_17 rfl
theorem aX9_least : ∀ x ∈ mX9_least.1, EnZ nX9_least x := fm_cons eX9_least_0 (fm_cons eX9_least_1 (fm_cons eX9_least_2 (fm_cons eX9_least_3 (fm_cons eX9_least_4 (fm_cons eX9_least_7 (fm_cons eX9_least_10 (fm_cons eX9_least_13 (fm_cons eX9_least_16 (fm_cons eX9_least_17 (fm_nil))))))))))
theorem zX9_least : SwZ nX9_least (Mt mX9_least 2) := wholeZ (mi := nX9_least) (cd := mX9_least) aX9_least rfl (HdZ.none rfl)
abbrev nX9_first : MI := (cX9_first, 5, (some (.int)), RX9, "first", [], 5, 134)
theorem hyX9_first : yX9_first.cls ≠ "java/lang/invoke/MethodHandle" ∧ yX9_first.cls ≠ "java/lang/invoke/VarHandle" := by decide +kernel
theorem pnX9_first : (parseMethodDescriptor yX9_first.desc).map (fun d => d.parameters.length) = some 1 := by decide +kernel
theorem wdX9_first : CdW yX9_first (nX9_first) := ⟨Or.inl ⟨q1551, rfl⟩, rfl, rfl, plainFor_of_name (by decide +kernel)⟩
theorem eX9_first_0 : SiZ nX9_first 0 (i_aload 0 1) := s_aload_n dX9_first_0 rfl
theorem eX9_first_1 : SiZ nX9_first 1 (i_getf 78 [9] 4) := s_getf dX9_first_1 (fm_cons (⟨_, _, _, _, _, _, rfl, fkX9_147_9⟩) (fm_nil))
theorem eX9_first_4 : SiZ nX9_first 4 (i_if (fun x => ¬ x = 0) 10 7) := s_if_ne dX9_first_4 (by decide)
theorem eX9_first_7 : SiZ nX9_first 7 (i_push (.int (-1000002)) 9) := s_ldc dX9_first_7 q1422
theorem eX9_first_9 : SiZ nX9_first 9 i_iret := s_iret dX9_first_9 rfl
theorem eX9_first_10 : SiZ nX9_first 10 (i_iload 1 11) := s_iload_n dX9_first_10 rfl
theorem eX9_first_11 : ScZ nX9_first 11 (c_S 1 14 1 (Mt mX9_isWhat 1)) := e_S (mi := nX9_first) (mi' := nX9_isWhat) (len := 3) (fun h as rest hl => cs_S (mi := nX9_first) (pc := 11) (y := yX9_isWhat) (idx := 216) dX9_first_11 q1525 q1526 q89 q1527 hyX9_isWhat pnX9_isWhat hl) wdX9_isWhat zX9_isWhat (Nat.le_of_ble_eq_true rfl) (Nat.le_of_ble_eq_true rfl)
theorem eX9_first_14 : SiZ nX9_first 14 (i_if (fun x => ¬ x = 0) 20 17) := s_if_ne dX9_first_14 (by decide)
theorem eX9_first_17 : SiZ nX9_first 17 (i_push (.int (-1000001)) 19) := s_ldc dX9_first_17 q1339
theorem eX9_first_19 : SiZ nX9_first 19 i_iret := s_iret dX9_first_19 rfl
theorem eX9_first_20 : SiZ nX9_first 20 (i_aload 0 21) := s_aload_n dX9_first_20 rfl
theorem eX9_first_21 : ScZ nX9_first 21 (c_V 0 24 2 9 (Mt mX9_putAside 2)) := e_V (mi := nX9_first) (mi' := nX9_putAside) (len := 3) (fun h b as rest hk hl => cs_V (ci := 8) (mi := nX9_first) (pc := 21) (y := yX9_putAside) (idx := 219) dX9_first_21 q1528 q1530 qs56 rfl hk hyX9_putAside (sigC q1531) pnX9_putAside hl) wdX9_putAside zX9_putAside (Nat.le_of_ble_eq_true rfl) (Nat.le_of_ble_eq_true rfl)
theorem eX9_first_24 : SiZ nX9_first 24 (i_aload 0 25) := s_aload_n dX9_first_24 rfl
theorem eX9_first_25 : ScZ nX9_first 25 (c_V 0 28 3 9 (Mt mX9_emptySet 3)) := e_V (mi := nX9_first) (mi' := nX9_emptySet) (len := 3) (fun h b as rest hk hl => cs_V (ci := 8) (mi := nX9_first) (pc := 25) (y := yX9_emptySet) (idx := 222) dX9_first_25 q1552 q1554 qs59 rfl hk hyX9_emptySet (sigC q1555) pnX9_emptySet hl) wdX9_emptySet zX9_emptySet (Nat.le_of_ble_eq_true rfl) (Nat.le_of_ble_eq_true rfl)
theorem eX9_first_28 : SiZ nX9_first 28 (i_istore 2 29) := s_istore_n dX9_first_28 rfl
theorem eX9_first_29 : SiZ nX9_first 29 (i_push (.int 0) 30) := s_iconst dX9_first_29 (by decide)
theorem eX9_first_30 : SiZ nX9_first 30 (i_istore 3 31) := s_istore_n dX9_first_30 rfl
theorem eX9_first_31 : SiZ nX9_first 31 (i_aload 0 32) := s_aload_n dX9_first_31 rfl
theorem eX9_first_32 : ScZ nX9_first 32 (c_V 0 35 3 9 (Mt mX9_emptySet 3)) := e_V (mi := nX9_first) (mi' := nX9_emptySet) (len := 3) (fun h b as rest hk hl => cs_V (ci := 8) (mi := nX9_first) (pc := 32) (y := yX9_emptySet) (idx := 222) dX9_first_32 q1552 q1554 qs59 rfl hk hyX9_emptySet (sigC q1555) pnX9_emptySet hl) wdX9_emptySet zX9_emptySet (Nat.le_of_ble_eq_true rfl) (Nat.le_of_ble_eq_true rfl)
theorem eX9_first_35 : SiZ nX9_first 35 (i_iload 2 36) := s_iload_n dX9_first_35 rfl
theorem eX9_first_36 : SiZ nX9_first 36 (i_icmp (fun x y => ¬ x = y) 55 39) := s_icmp_ne dX9_first_36 (by decide)
theorem eX9_first_39 : SiZ nX9_first 39 (i_iload 3 40) := s_iload_n dX9_first_39 rfl
theorem eX9_first_40 : SiZ nX9_first 40 (i_push (.int 60) 42) := s_bipush dX9_first_40 (by decide)
theorem eX9_first_42 : SiZ nX9_first 42 (i_icmp (fun x y => y ≤ x) 55 45) := s_icmp_ge dX9_first_42 (by decide)
theorem eX9_first_45 : SiZ nX9_first 45 (i_aload 0 46) := s_aload_n dX9_first_45 rfl
theorem eX9_first_46 : ScZ nX9_first 46 (c_V 0 49 2 9 (Mt mX9_oneNight 2)) := e_V (mi := nX9_first) (mi' := nX9_oneNight) (len := 3) (fun h b as rest hk hl => cs_V (ci := 8) (mi := nX9_first) (pc := 46) (y := yX9_oneNight) (idx := 187) dX9_first_46 q1432 q1434 qs44 rfl hk hyX9_oneNight (sigC q1435) pnX9_oneNight hl) wdX9_oneNight zX9_oneNight (Nat.le_of_ble_eq_true rfl) (Nat.le_of_ble_eq_true rfl)
theorem eX9_first_49 : SiZ nX9_first 49 (i_iinc 3 1 52) := s_iinc dX9_first_49 (by decide)
theorem eX9_first_52 : SiZ nX9_first 52 (i_goto 31) := s_goto dX9_first_52 (by decide)
theorem eX9_first_55 : SiZ nX9_first 55 (i_aload 0 56) := s_aload_n dX9_first_55 rfl
theorem eX9_first_56 : ScZ nX9_first 56 (c_V 0 59 3 9 (Mt mX9_emptySet 3)) := e_V (mi := nX9_first) (mi' := nX9_emptySet) (len := 3) (fun h b as rest hk hl => cs_V (ci := 8) (mi := nX9_first) (pc := 56) (y := yX9_emptySet) (idx := 222) dX9_first_56 q1552 q1554 qs59 rfl hk hyX9_emptySet (sigC q1555) pnX9_emptySet hl) wdX9_emptySet zX9_emptySet (Nat.le_of_ble_eq_true rfl) (Nat.le_of_ble_eq_true rfl)
theorem eX9_first_59 : SiZ nX9_first 59 (i_iload 2 60) := s_iload_n dX9_first_59 rfl
theorem eX9_first_60 : SiZ nX9_first 60 (i_push (.int (-1)) 61) := s_iconst dX9_first_60 (by decide)
theorem eX9_first_61 : SiZ nX9_first 61 (i_bin (fun x y => x ^^^ y) 62) := s_ixor dX9_first_61
theorem eX9_first_62 : SiZ nX9_first 62 (i_bin (fun x y => x &&& y) 63) := s_iand dX9_first_62
theorem eX9_first_63 : SiZ nX9_first 63 (i_istore 4 65) := s_istore dX9_first_63
theorem eX9_first_65 : SiZ nX9_first 65 (i_aload 0 66) := s_aload_n dX9_first_65 rfl
theorem eX9_first_66 : ScZ nX9_first 66 (c_V 0 69 2 9 (Mt mX9_takeBack 2)) := e_V (mi := nX9_first) (mi' := nX9_takeBack) (len := 3) (fun h b as rest hk hl => cs_V (ci := 8) (mi := nX9_first) (pc := 66) (y := yX9_takeBack) (idx := 211) dX9_first_66 q1536 q1538 qs58 rfl hk hyX9_takeBack (sigC q1539) pnX9_takeBack hl) wdX9_takeBack zX9_takeBack (Nat.le_of_ble_eq_true rfl) (Nat.le_of_ble_eq_true rfl)
theorem eX9_first_69 : SiZ nX9_first 69 (i_iload 4 71) := s_iload dX9_first_69
theorem eX9_first_71 : SiZ nX9_first 71 (i_if (fun x => ¬ x = 0) 79 74) := s_if_ne dX9_first_71 (by decide)
theorem eX9_first_74 : SiZ nX9_first 74 (i_push (.int (-1000000)) 76) := s_ldc dX9_first_74 q1455
theorem eX9_first_76 : SiZ nX9_first 76 (i_goto 92) := s_goto dX9_first_76 (by decide)
theorem eX9_first_79 : SiZ nX9_first 79 (i_iload 1 80) := s_iload_n dX9_first_79 rfl
theorem eX9_first_80 : SiZ nX9_first 80 (i_if (fun x => ¬ x = 0) 91 83) := s_if_ne dX9_first_80 (by decide)
theorem eX9_first_83 : SiZ nX9_first 83 (i_iload 4 85) := s_iload dX9_first_83
theorem eX9_first_85 : ScZ nX9_first 85 (c_S 1 88 2 (Mt mX9_least 2)) := e_S (mi := nX9_first) (mi' := nX9_least) (len := 3) (fun h as rest hl => cs_S (mi := nX9_first) (pc := 85) (y := yX9_least) (idx := 225) dX9_first_85 q1556 q1557 q89 q1558 hyX9_least pnX9_least hl) wdX9_least zX9_least (Nat.le_of_ble_eq_true rfl) (Nat.le_of_ble_eq_true rfl)
theorem eX9_first_88 : SiZ nX9_first 88 (i_goto 92) := s_goto dX9_first_88 (by decide)
theorem eX9_first_91 : SiZ nX9_first 91 (i_iload 3 92) := s_iload_n dX9_first_91 rfl
theorem eX9_first_92 : SiZ nX9_first 92 i_iret := s_iret dX9_first_92 rfl
theorem aX9_first : ∀ x ∈ mX9_first.1, EnZ nX9_first x := fm_cons eX9_first_0 (fm_cons eX9_first_1 (fm_cons eX9_first_4 (fm_cons eX9_first_7 (fm_cons eX9_first_9 (fm_cons eX9_first_10 (fm_cons eX9_first_11 (fm_cons eX9_first_14 (fm_cons eX9_first_17 (fm_cons eX9_first_19 (fm_cons eX9_first_20 (fm_cons eX9_first_21 (fm_cons eX9_first_24 (fm_cons eX9_first_25 (fm_cons eX9_first_28 (fm_cons eX9_first_29 (fm_cons eX9_first_30 (fm_cons eX9_first_31 (fm_cons eX9_first_32 (fm_cons eX9_first_35 (fm_cons eX9_first_36 (fm_cons eX9_first_39 (fm_cons eX9_first_40 (fm_cons eX9_first_42 (fm_cons eX9_first_45 (fm_cons eX9_first_46 (fm_cons eX9_first_49 (fm_cons eX9_first_52 (fm_cons eX9_first_55 (fm_cons eX9_first_56 (fm_cons eX9_first_59 (fm_cons eX9_first_60 (fm_cons eX9_first_61 (fm_cons eX9_first_62 (fm_cons eX9_first_63 (fm_cons eX9_first_65 (fm_cons eX9_first_66 (fm_cons eX9_first_69 (fm_cons eX9_first_71 (fm_cons eX9_first_74 (fm_cons eX9_first_76 (fm_cons eX9_first_79 (fm_cons eX9_first_80 (fm_cons eX9_first_83 (fm_cons eX9_first_85 (fm_cons eX9_first_88 (fm_cons eX9_first_91 (fm_cons eX9_first_92 (fm_nil))))))))))))))))))))))))))))))))))))))))))))))))
theorem zX9_first : SwZ nX9_first (Mt mX9_first 5) := wholeZ (mi := nX9_first) (cd := mX9_first) aX9_first rfl (HdZ.none rfl)
abbrev nX9_hole : MI := (cX9_hole, 3, (some (.int)), RX9, "hole", [], 6, 160)
theorem hyX9_hole : yX9_hole.cls ≠ "java/lang/invoke/MethodHandle" ∧ yX9_hole.cls ≠ "java/lang/invoke/VarHandle" := by decide +kernel
theorem pnX9_hole : (parseMethodDescriptor yX9_hole.desc).map (fun d => d.parameters.length) = some 2 := by decide +kernel
theorem wdX9_hole : CdW yX9_hole (nX9_hole) := ⟨Or.inl ⟨q1562, rfl⟩, rfl, rfl, plainFor_of_name (by decide +kernel)⟩
theorem eX9_hole_0 : SiZ nX9_hole 0 (i_aload 0 1) := s_aload_n dX9_hole_0 rfl
theorem eX9_hole_1 : SiZ nX9_hole 1 (i_iload 1 2) := s_iload_n dX9_hole_1 rfl
theorem eX9_hole_2 : ScZ nX9_hole 2 (c_V 1 5 2 9 (Mt mX9_isFish 2)) := e_V (mi := nX9_hole) (mi' := nX9_isFish) (len := 3) (fun h b as rest hk hl => cs_V (ci := 8) (mi := nX9_hole) (pc := 2) (y := yX9_isFish) (idx := 200) dX9_hole_2 q1495 q1497 qs54 rfl hk hyX9_isFish (sigC q1498) pnX9_isFish hl) wdX9_isFish zX9_isFish (Nat.le_of_ble_eq_true rfl) (Nat.le_of_ble_eq_true rfl)
theorem eX9_hole_5 : SiZ nX9_hole 5 (i_if (fun x => x = 0) 20 8) := s_if_eq dX9_hole_5 (by decide)
theorem eX9_hole_8 : SiZ nX9_hole 8 (i_iload 2 9) := s_iload_n dX9_hole_8 rfl
theorem eX9_hole_9 : SiZ nX9_hole 9 (i_i2l 10) := s_i2l dX9_hole_9
theorem eX9_hole_10 : SiZ nX9_hole 10 (i_push (.long 0) 11) := s_lconst dX9_hole_10 (by decide)
theorem eX9_hole_11 : SiZ nX9_hole 11 (i_push (.long 60) 14) := s_ldc2 dX9_hole_11 q1524
theorem eX9_hole_14 : ScZ nX9_hole 14 (c_S 3 17 6 (Mt mX9_in 6)) := e_S (mi := nX9_hole) (mi' := nX9_in) (len := 3) (fun h as rest hl => cs_S (mi := nX9_hole) (pc := 14) (y := yX9_in) (idx := 63) dX9_hole_14 q1335 q1336 q89 q1337 hyX9_in pnX9_in hl) wdX9_in zX9_in (Nat.le_of_ble_eq_true rfl) (Nat.le_of_ble_eq_true rfl)
theorem eX9_hole_17 : SiZ nX9_hole 17 (i_if (fun x => ¬ x = 0) 23 20) := s_if_ne dX9_hole_17 (by decide)
theorem eX9_hole_20 : SiZ nX9_hole 20 (i_push (.int (-1000001)) 22) := s_ldc dX9_hole_20 q1339
theorem eX9_hole_22 : SiZ nX9_hole 22 i_iret := s_iret dX9_hole_22 rfl
theorem eX9_hole_23 : SiZ nX9_hole 23 (i_aload 0 24) := s_aload_n dX9_hole_23 rfl
theorem eX9_hole_24 : ScZ nX9_hole 24 (c_V 0 27 2 9 (Mt mX9_putAside 2)) := e_V (mi := nX9_hole) (mi' := nX9_putAside) (len := 3) (fun h b as rest hk hl => cs_V (ci := 8) (mi := nX9_hole) (pc := 24) (y := yX9_putAside) (idx := 219) dX9_hole_24 q1528 q1530 qs56 rfl hk hyX9_putAside (sigC q1531) pnX9_putAside hl) wdX9_putAside zX9_putAside (Nat.le_of_ble_eq_true rfl) (Nat.le_of_ble_eq_true rfl)
theorem eX9_hole_27 : SiZ nX9_hole 27 (i_aload 0 28) := s_aload_n dX9_hole_27 rfl
theorem eX9_hole_28 : SiZ nX9_hole 28 (i_getf 103 [9] 31) := s_getf dX9_hole_28 (fm_cons (⟨_, _, _, _, _, _, rfl, fkX9_31_9⟩) (fm_nil))
theorem eX9_hole_31 : SiZ nX9_hole 31 (i_iload 1 32) := s_iload_n dX9_hole_31 rfl
theorem eX9_hole_32 : SiZ nX9_hole 32 (i_push (.int 0) 33) := s_iconst dX9_hole_32 (by decide)
theorem eX9_hole_33 : SiZ nX9_hole 33 (i_iast 51 (fun x => x) 34) := s_ast (j := 0) (by decide) (fun _ => rfl) dX9_hole_33 (Or.inl ⟨rfl, rfl, rfl⟩)
theorem eX9_hole_34 : SiZ nX9_hole 34 (i_aload 0 35) := s_aload_n dX9_hole_34 rfl
theorem eX9_hole_35 : SiZ nX9_hole 35 (i_iload 2 36) := s_iload_n dX9_hole_35 rfl
theorem eX9_hole_36 : ScZ nX9_hole 36 (c_V 1 39 3 9 (Mt mX9_goOn 3)) := e_V (mi := nX9_hole) (mi' := nX9_goOn) (len := 3) (fun h b as rest hk hl => cs_V (ci := 8) (mi := nX9_hole) (pc := 36) (y := yX9_goOn) (idx := 208) dX9_hole_36 q1532 q1534 qs57 rfl hk hyX9_goOn (sigC q1535) pnX9_goOn hl) wdX9_goOn zX9_goOn (Nat.le_of_ble_eq_true rfl) (Nat.le_of_ble_eq_true rfl)
theorem eX9_hole_39 : SiZ nX9_hole 39 (i_aload 0 40) := s_aload_n dX9_hole_39 rfl
theorem eX9_hole_40 : ScZ nX9_hole 40 (c_V 0 43 2 9 (Mt mX9_takeBack 2)) := e_V (mi := nX9_hole) (mi' := nX9_takeBack) (len := 3) (fun h b as rest hk hl => cs_V (ci := 8) (mi := nX9_hole) (pc := 40) (y := yX9_takeBack) (idx := 211) dX9_hole_40 q1536 q1538 qs58 rfl hk hyX9_takeBack (sigC q1539) pnX9_takeBack hl) wdX9_takeBack zX9_takeBack (Nat.le_of_ble_eq_true rfl) (Nat.le_of_ble_eq_true rfl)
theorem eX9_hole_43 : SiZ nX9_hole 43 (i_aload 0 44) := s_aload_n dX9_hole_43 rfl
theorem eX9_hole_44 : SiZ nX9_hole 44 (i_getf 103 [9] 47) := s_getf dX9_hole_44 (fm_cons (⟨_, _, _, _, _, _, rfl, fkX9_31_9⟩) (fm_nil))
theorem eX9_hole_47 : SiZ nX9_hole 47 (i_iload 1 48) := s_iload_n dX9_hole_47 rfl
theorem eX9_hole_48 : SiZ nX9_hole 48 (i_iald 51 49) := s_ald (j := 0) (by decide) (fun _ => rfl) dX9_hole_48 (Or.inl ⟨rfl, rfl⟩)
theorem eX9_hole_49 : SiZ nX9_hole 49 i_iret := s_iret dX9_hole_49 rfl
theorem aX9_hole : ∀ x ∈ mX9_hole.1, EnZ nX9_hole x := fm_cons eX9_hole_0 (fm_cons eX9_hole_1 (fm_cons eX9_hole_2 (fm_cons eX9_hole_5 (fm_cons eX9_hole_8 (fm_cons eX9_hole_9 (fm_cons eX9_hole_10 (fm_cons eX9_hole_11 (fm_cons eX9_hole_14 (fm_cons eX9_hole_17 (fm_cons eX9_hole_20 (fm_cons eX9_hole_22 (fm_cons eX9_hole_23 (fm_cons eX9_hole_24 (fm_cons eX9_hole_27 (fm_cons eX9_hole_28 (fm_cons eX9_hole_31 (fm_cons eX9_hole_32 (fm_cons eX9_hole_33 (fm_cons eX9_hole_34 (fm_cons eX9_hole_35 (fm_cons eX9_hole_36 (fm_cons eX9_hole_39 (fm_cons eX9_hole_40 (fm_cons eX9_hole_43 (fm_cons eX9_hole_44 (fm_cons eX9_hole_47 (fm_cons eX9_hole_48 (fm_cons eX9_hole_49 (fm_nil)))))))))))))))))))))))))))))
theorem zX9_hole : SwZ nX9_hole (Mt mX9_hole 3) := wholeZ (mi := nX9_hole) (cd := mX9_hole) aX9_hole rfl (HdZ.none rfl)
abbrev nX9_pagesOf : MI := (cX9_pagesOf, 4, (some (.int)), RX9, "pagesOf", [], 1, 25)
theorem hyX9_pagesOf : yX9_pagesOf.cls ≠ "java/lang/invoke/MethodHandle" ∧ yX9_pagesOf.cls ≠ "java/lang/invoke/VarHandle" := by decide +kernel
theorem pnX9_pagesOf : (parseMethodDescriptor yX9_pagesOf.desc).map (fun d => d.parameters.length) = some 1 := by decide +kernel
theorem wdX9_pagesOf : CdW yX9_pagesOf (nX9_pagesOf) := ⟨Or.inl ⟨q1572, rfl⟩, rfl, rfl, plainFor_of_name (by decide +kernel)⟩
theorem eX9_pagesOf_0 : SiZ nX9_pagesOf 0 (i_push (.int 0) 1) := s_iconst dX9_pagesOf_0 (by decide)
theorem eX9_pagesOf_1 : SiZ nX9_pagesOf 1 (i_istore 2 2) := s_istore_n dX9_pagesOf_1 rfl
theorem eX9_pagesOf_2 : SiZ nX9_pagesOf 2 (i_push (.int 0) 3) := s_iconst dX9_pagesOf_2 (by decide)
theorem eX9_pagesOf_3 : SiZ nX9_pagesOf 3 (i_istore 3 4) := s_istore_n dX9_pagesOf_3 rfl
theorem eX9_pagesOf_4 : SiZ nX9_pagesOf 4 (i_iload 3 5) := s_iload_n dX9_pagesOf_4 rfl
theorem eX9_pagesOf_5 : SiZ nX9_pagesOf 5 (i_aload 0 6) := s_aload_n dX9_pagesOf_5 rfl
theorem eX9_pagesOf_6 : SiZ nX9_pagesOf 6 (i_getf 81 [9] 9) := s_getf dX9_pagesOf_6 (fm_cons (⟨_, _, _, _, _, _, rfl, fkX9_19_9⟩) (fm_nil))
theorem eX9_pagesOf_9 : SiZ nX9_pagesOf 9 (i_push (.int 0) 10) := s_iconst dX9_pagesOf_9 (by decide)
theorem eX9_pagesOf_10 : SiZ nX9_pagesOf 10 (i_iald 51 11) := s_ald (j := 0) (by decide) (fun _ => rfl) dX9_pagesOf_10 (Or.inl ⟨rfl, rfl⟩)
theorem eX9_pagesOf_11 : SiZ nX9_pagesOf 11 (i_icmp (fun x y => y ≤ x) 44 14) := s_icmp_ge dX9_pagesOf_11 (by decide)
theorem eX9_pagesOf_14 : SiZ nX9_pagesOf 14 (i_iload 2 15) := s_iload_n dX9_pagesOf_14 rfl
theorem eX9_pagesOf_15 : SiZ nX9_pagesOf 15 (i_iload 1 16) := s_iload_n dX9_pagesOf_15 rfl
theorem eX9_pagesOf_16 : SiZ nX9_pagesOf 16 (i_iload 3 17) := s_iload_n dX9_pagesOf_16 rfl
theorem eX9_pagesOf_17 : ScZ nX9_pagesOf 17 (c_S 2 20 2 (Mt mX9_has 2)) := e_S (mi := nX9_pagesOf) (mi' := nX9_has) (len := 3) (fun h as rest hl => cs_S (mi := nX9_pagesOf) (pc := 17) (y := yX9_has) (idx := 154) dX9_pagesOf_17 q1440 q1441 q89 q1442 hyX9_has pnX9_has hl) wdX9_has zX9_has (Nat.le_of_ble_eq_true rfl) (Nat.le_of_ble_eq_true rfl)
theorem eX9_pagesOf_20 : SiZ nX9_pagesOf 20 (i_if (fun x => x = 0) 35 23) := s_if_eq dX9_pagesOf_20 (by decide)
theorem eX9_pagesOf_23 : SiZ nX9_pagesOf 23 (i_aload 0 24) := s_aload_n dX9_pagesOf_23 rfl
theorem eX9_pagesOf_24 : SiZ nX9_pagesOf 24 (i_getf 81 [9] 27) := s_getf dX9_pagesOf_24 (fm_cons (⟨_, _, _, _, _, _, rfl, fkX9_19_9⟩) (fm_nil))
theorem eX9_pagesOf_27 : SiZ nX9_pagesOf 27 (i_push (.int 8) 29) := s_bipush dX9_pagesOf_27 (by decide)
theorem eX9_pagesOf_29 : SiZ nX9_pagesOf 29 (i_iload 3 30) := s_iload_n dX9_pagesOf_29 rfl
theorem eX9_pagesOf_30 : SiZ nX9_pagesOf 30 (i_bin (fun x y => x + y) 31) := s_iadd dX9_pagesOf_30
theorem eX9_pagesOf_31 : SiZ nX9_pagesOf 31 (i_iald 51 32) := s_ald (j := 0) (by decide) (fun _ => rfl) dX9_pagesOf_31 (Or.inl ⟨rfl, rfl⟩)
theorem eX9_pagesOf_32 : SiZ nX9_pagesOf 32 (i_goto 36) := s_goto dX9_pagesOf_32 (by decide)
theorem eX9_pagesOf_35 : SiZ nX9_pagesOf 35 (i_push (.int 0) 36) := s_iconst dX9_pagesOf_35 (by decide)
theorem eX9_pagesOf_36 : SiZ nX9_pagesOf 36 (i_bin (fun x y => x + y) 37) := s_iadd dX9_pagesOf_36
theorem eX9_pagesOf_37 : SiZ nX9_pagesOf 37 (i_istore 2 38) := s_istore_n dX9_pagesOf_37 rfl
theorem eX9_pagesOf_38 : SiZ nX9_pagesOf 38 (i_iinc 3 1 41) := s_iinc dX9_pagesOf_38 (by decide)
theorem eX9_pagesOf_41 : SiZ nX9_pagesOf 41 (i_goto 4) := s_goto dX9_pagesOf_41 (by decide)
theorem eX9_pagesOf_44 : SiZ nX9_pagesOf 44 (i_iload 2 45) := s_iload_n dX9_pagesOf_44 rfl
theorem eX9_pagesOf_45 : SiZ nX9_pagesOf 45 i_iret := s_iret dX9_pagesOf_45 rfl
theorem aX9_pagesOf : ∀ x ∈ mX9_pagesOf.1, EnZ nX9_pagesOf x := fm_cons eX9_pagesOf_0 (fm_cons eX9_pagesOf_1 (fm_cons eX9_pagesOf_2 (fm_cons eX9_pagesOf_3 (fm_cons eX9_pagesOf_4 (fm_cons eX9_pagesOf_5 (fm_cons eX9_pagesOf_6 (fm_cons eX9_pagesOf_9 (fm_cons eX9_pagesOf_10 (fm_cons eX9_pagesOf_11 (fm_cons eX9_pagesOf_14 (fm_cons eX9_pagesOf_15 (fm_cons eX9_pagesOf_16 (fm_cons eX9_pagesOf_17 (fm_cons eX9_pagesOf_20 (fm_cons eX9_pagesOf_23 (fm_cons eX9_pagesOf_24 (fm_cons eX9_pagesOf_27 (fm_cons eX9_pagesOf_29 (fm_cons eX9_pagesOf_30 (fm_cons eX9_pagesOf_31 (fm_cons eX9_pagesOf_32 (fm_cons eX9_pagesOf_35 (fm_cons eX9_pagesOf_36 (fm_cons eX9_pagesOf_37 (fm_cons eX9_pagesOf_38 (fm_cons eX9_pagesOf_41 (fm_cons eX9_pagesOf_44 (fm_cons eX9_pagesOf_45 (fm_nil)))))))))))))))))))))))))))))
theorem zX9_pagesOf : SwZ nX9_pagesOf (Mt mX9_pagesOf 4) := wholeZ (mi := nX9_pagesOf) (cd := mX9_pagesOf) aX9_pagesOf rfl (HdZ.none rfl)
abbrev nX9_exchange : MI := (cX9_exchange, 4, none, RX9, "exchange", [], 0, 0)
theorem hyX9_exchange : yX9_exchange.cls ≠ "java/lang/invoke/MethodHandle" ∧ yX9_exchange.cls ≠ "java/lang/invoke/VarHandle" := by decide +kernel
theorem pnX9_exchange : (parseMethodDescriptor yX9_exchange.desc).map (fun d => d.parameters.length) = some 2 := by decide +kernel
theorem wdX9_exchange : CdW yX9_exchange (nX9_exchange) := ⟨Or.inl ⟨q1580, rfl⟩, rfl, rfl, plainFor_of_name (by decide +kernel)⟩
theorem eX9_exchange_0 : SiZ nX9_exchange 0 (i_aload 0 1) := s_aload_n dX9_exchange_0 rfl
theorem eX9_exchange_1 : SiZ nX9_exchange 1 (i_getf 111 [9] 4) := s_getf dX9_exchange_1 (fm_cons (⟨_, _, _, _, _, _, rfl, fkX9_40_9⟩) (fm_nil))
theorem eX9_exchange_4 : SiZ nX9_exchange 4 (i_iload 1 5) := s_iload_n dX9_exchange_4 rfl
theorem eX9_exchange_5 : SiZ nX9_exchange 5 (i_iald 51 6) := s_ald (j := 0) (by decide) (fun _ => rfl) dX9_exchange_5 (Or.inl ⟨rfl, rfl⟩)
theorem eX9_exchange_6 : SiZ nX9_exchange 6 (i_istore 3 7) := s_istore_n dX9_exchange_6 rfl
theorem eX9_exchange_7 : SiZ nX9_exchange 7 (i_aload 0 8) := s_aload_n dX9_exchange_7 rfl
theorem eX9_exchange_8 : SiZ nX9_exchange 8 (i_getf 111 [9] 11) := s_getf dX9_exchange_8 (fm_cons (⟨_, _, _, _, _, _, rfl, fkX9_40_9⟩) (fm_nil))
theorem eX9_exchange_11 : SiZ nX9_exchange 11 (i_iload 1 12) := s_iload_n dX9_exchange_11 rfl
theorem eX9_exchange_12 : SiZ nX9_exchange 12 (i_aload 0 13) := s_aload_n dX9_exchange_12 rfl
theorem eX9_exchange_13 : SiZ nX9_exchange 13 (i_getf 111 [9] 16) := s_getf dX9_exchange_13 (fm_cons (⟨_, _, _, _, _, _, rfl, fkX9_40_9⟩) (fm_nil))
theorem eX9_exchange_16 : SiZ nX9_exchange 16 (i_iload 2 17) := s_iload_n dX9_exchange_16 rfl
theorem eX9_exchange_17 : SiZ nX9_exchange 17 (i_iald 51 18) := s_ald (j := 0) (by decide) (fun _ => rfl) dX9_exchange_17 (Or.inl ⟨rfl, rfl⟩)
theorem eX9_exchange_18 : SiZ nX9_exchange 18 (i_iast 51 (fun x => x) 19) := s_ast (j := 0) (by decide) (fun _ => rfl) dX9_exchange_18 (Or.inl ⟨rfl, rfl, rfl⟩)
theorem eX9_exchange_19 : SiZ nX9_exchange 19 (i_aload 0 20) := s_aload_n dX9_exchange_19 rfl
theorem eX9_exchange_20 : SiZ nX9_exchange 20 (i_getf 111 [9] 23) := s_getf dX9_exchange_20 (fm_cons (⟨_, _, _, _, _, _, rfl, fkX9_40_9⟩) (fm_nil))
theorem eX9_exchange_23 : SiZ nX9_exchange 23 (i_iload 2 24) := s_iload_n dX9_exchange_23 rfl
theorem eX9_exchange_24 : SiZ nX9_exchange 24 (i_iload 3 25) := s_iload_n dX9_exchange_24 rfl
theorem eX9_exchange_25 : SiZ nX9_exchange 25 (i_iast 51 (fun x => x) 26) := s_ast (j := 0) (by decide) (fun _ => rfl) dX9_exchange_25 (Or.inl ⟨rfl, rfl, rfl⟩)
theorem eX9_exchange_26 : SiZ nX9_exchange 26 i_vret := s_vret dX9_exchange_26 rfl
theorem aX9_exchange : ∀ x ∈ mX9_exchange.1, EnZ nX9_exchange x := fm_cons eX9_exchange_0 (fm_cons eX9_exchange_1 (fm_cons eX9_exchange_4 (fm_cons eX9_exchange_5 (fm_cons eX9_exchange_6 (fm_cons eX9_exchange_7 (fm_cons eX9_exchange_8 (fm_cons eX9_exchange_11 (fm_cons eX9_exchange_12 (fm_cons eX9_exchange_13 (fm_cons eX9_exchange_16 (fm_cons eX9_exchange_17 (fm_cons eX9_exchange_18 (fm_cons eX9_exchange_19 (fm_cons eX9_exchange_20 (fm_cons eX9_exchange_23 (fm_cons eX9_exchange_24 (fm_cons eX9_exchange_25 (fm_cons eX9_exchange_26 (fm_nil)))))))))))))))))))
theorem zX9_exchange : SwZ nX9_exchange (Mt mX9_exchange 4) := wholeZ (mi := nX9_exchange) (cd := mX9_exchange) aX9_exchange rfl (HdZ.none rfl)
abbrev nX9_isNext : MI := (cX9_isNext, 6, (some (.boolean)), RX9, "isNext", [], 1, 27)
theorem hyX9_isNext : yX9_isNext.cls ≠ "java/lang/invoke/MethodHandle" ∧ yX9_isNext.cls ≠ "java/lang/invoke/VarHandle" := by decide +kernel
theorem pnX9_isNext : (parseMethodDescriptor yX9_isNext.desc).map (fun d => d.parameters.length) = some 1 := by decide +kernel
theorem wdX9_isNext : CdW yX9_isNext (nX9_isNext) := ⟨Or.inl ⟨q1576, rfl⟩, rfl, rfl, plainFor_of_name (by decide +kernel)⟩
theorem eX9_isNext_0 : SiZ nX9_isNext 0 (i_iload 1 1) := s_iload_n dX9_isNext_0 rfl
theorem eX9_isNext_1 : SiZ nX9_isNext 1 (i_push (.int 2) 2) := s_iconst dX9_isNext_1 (by decide)
theorem eX9_isNext_2 : SiZ nX9_isNext 2 (i_bin (fun x y => x - y) 3) := s_isub dX9_isNext_2
theorem eX9_isNext_3 : SiZ nX9_isNext 3 (i_istore 2 4) := s_istore_n dX9_isNext_3 rfl
theorem eX9_isNext_4 : SiZ nX9_isNext 4 (i_iload 2 5) := s_iload_n dX9_isNext_4 rfl
theorem eX9_isNext_5 : SiZ nX9_isNext 5 (i_if (fun x => x < 0) 31 8) := s_if_lt dX9_isNext_5 (by decide)
theorem eX9_isNext_8 : SiZ nX9_isNext 8 (i_aload 0 9) := s_aload_n dX9_isNext_8 rfl
theorem eX9_isNext_9 : SiZ nX9_isNext 9 (i_getf 111 [9] 12) := s_getf dX9_isNext_9 (fm_cons (⟨_, _, _, _, _, _, rfl, fkX9_40_9⟩) (fm_nil))
theorem eX9_isNext_12 : SiZ nX9_isNext 12 (i_iload 2 13) := s_iload_n dX9_isNext_12 rfl
theorem eX9_isNext_13 : SiZ nX9_isNext 13 (i_iald 51 14) := s_ald (j := 0) (by decide) (fun _ => rfl) dX9_isNext_13 (Or.inl ⟨rfl, rfl⟩)
theorem eX9_isNext_14 : SiZ nX9_isNext 14 (i_aload 0 15) := s_aload_n dX9_isNext_14 rfl
theorem eX9_isNext_15 : SiZ nX9_isNext 15 (i_getf 111 [9] 18) := s_getf dX9_isNext_15 (fm_cons (⟨_, _, _, _, _, _, rfl, fkX9_40_9⟩) (fm_nil))
theorem eX9_isNext_18 : SiZ nX9_isNext 18 (i_iload 2 19) := s_iload_n dX9_isNext_18 rfl
theorem eX9_isNext_19 : SiZ nX9_isNext 19 (i_push (.int 1) 20) := s_iconst dX9_isNext_19 (by decide)
theorem eX9_isNext_20 : SiZ nX9_isNext 20 (i_bin (fun x y => x + y) 21) := s_iadd dX9_isNext_20
theorem eX9_isNext_21 : SiZ nX9_isNext 21 (i_iald 51 22) := s_ald (j := 0) (by decide) (fun _ => rfl) dX9_isNext_21 (Or.inl ⟨rfl, rfl⟩)
theorem eX9_isNext_22 : SiZ nX9_isNext 22 (i_icmp (fun x y => x ≤ y) 31 25) := s_icmp_le dX9_isNext_22 (by decide)
theorem eX9_isNext_25 : SiZ nX9_isNext 25 (i_iinc 2 (-1) 28) := s_iinc dX9_isNext_25 (by decide)
theorem eX9_isNext_28 : SiZ nX9_isNext 28 (i_goto 4) := s_goto dX9_isNext_28 (by decide)
theorem eX9_isNext_31 : SiZ nX9_isNext 31 (i_iload 2 32) := s_iload_n dX9_isNext_31 rfl
theorem eX9_isNext_32 : SiZ nX9_isNext 32 (i_if (fun x => 0 ≤ x) 37 35) := s_if_ge dX9_isNext_32 (by decide)
theorem eX9_isNext_35 : SiZ nX9_isNext 35 (i_push (.int 0) 36) := s_iconst dX9_isNext_35 (by decide)
theorem eX9_isNext_36 : SiZ nX9_isNext 36 i_zret := s_zret dX9_isNext_36 rfl
theorem eX9_isNext_37 : SiZ nX9_isNext 37 (i_iload 1 38) := s_iload_n dX9_isNext_37 rfl
theorem eX9_isNext_38 : SiZ nX9_isNext 38 (i_push (.int 1) 39) := s_iconst dX9_isNext_38 (by decide)
theorem eX9_isNext_39 : SiZ nX9_isNext 39 (i_bin (fun x y => x - y) 40) := s_isub dX9_isNext_39
theorem eX9_isNext_40 : SiZ nX9_isNext 40 (i_istore 3 41) := s_istore_n dX9_isNext_40 rfl
theorem eX9_isNext_41 : SiZ nX9_isNext 41 (i_aload 0 42) := s_aload_n dX9_isNext_41 rfl
theorem eX9_isNext_42 : SiZ nX9_isNext 42 (i_getf 111 [9] 45) := s_getf dX9_isNext_42 (fm_cons (⟨_, _, _, _, _, _, rfl, fkX9_40_9⟩) (fm_nil))
theorem eX9_isNext_45 : SiZ nX9_isNext 45 (i_iload 3 46) := s_iload_n dX9_isNext_45 rfl
theorem eX9_isNext_46 : SiZ nX9_isNext 46 (i_iald 51 47) := s_ald (j := 0) (by decide) (fun _ => rfl) dX9_isNext_46 (Or.inl ⟨rfl, rfl⟩)
theorem eX9_isNext_47 : SiZ nX9_isNext 47 (i_aload 0 48) := s_aload_n dX9_isNext_47 rfl
theorem eX9_isNext_48 : SiZ nX9_isNext 48 (i_getf 111 [9] 51) := s_getf dX9_isNext_48 (fm_cons (⟨_, _, _, _, _, _, rfl, fkX9_40_9⟩) (fm_nil))
theorem eX9_isNext_51 : SiZ nX9_isNext 51 (i_iload 2 52) := s_iload_n dX9_isNext_51 rfl
theorem eX9_isNext_52 : SiZ nX9_isNext 52 (i_iald 51 53) := s_ald (j := 0) (by decide) (fun _ => rfl) dX9_isNext_52 (Or.inl ⟨rfl, rfl⟩)
theorem eX9_isNext_53 : SiZ nX9_isNext 53 (i_icmp (fun x y => y ≤ x) 62 56) := s_icmp_ge dX9_isNext_53 (by decide)
theorem eX9_isNext_56 : SiZ nX9_isNext 56 (i_iinc 3 (-1) 59) := s_iinc dX9_isNext_56 (by decide)
theorem eX9_isNext_59 : SiZ nX9_isNext 59 (i_goto 41) := s_goto dX9_isNext_59 (by decide)
theorem eX9_isNext_62 : SiZ nX9_isNext 62 (i_aload 0 63) := s_aload_n dX9_isNext_62 rfl
theorem eX9_isNext_63 : SiZ nX9_isNext 63 (i_iload 2 64) := s_iload_n dX9_isNext_63 rfl
theorem eX9_isNext_64 : SiZ nX9_isNext 64 (i_iload 3 65) := s_iload_n dX9_isNext_64 rfl
theorem eX9_isNext_65 : ScZ nX9_isNext 65 (c_V 2 68 4 9 (Mt mX9_exchange 4)) := e_V (mi := nX9_isNext) (mi' := nX9_exchange) (len := 3) (fun h b as rest hk hl => cs_V (ci := 8) (mi := nX9_isNext) (pc := 65) (y := yX9_exchange) (idx := 228) dX9_isNext_65 q1577 q1579 qs62 rfl hk hyX9_exchange (sigC q1580) pnX9_exchange hl) wdX9_exchange zX9_exchange (Nat.le_of_ble_eq_true rfl) (Nat.le_of_ble_eq_true rfl)
theorem eX9_isNext_68 : SiZ nX9_isNext 68 (i_iload 2 69) := s_iload_n dX9_isNext_68 rfl
theorem eX9_isNext_69 : SiZ nX9_isNext 69 (i_push (.int 1) 70) := s_iconst dX9_isNext_69 (by decide)
theorem eX9_isNext_70 : SiZ nX9_isNext 70 (i_bin (fun x y => x + y) 71) := s_iadd dX9_isNext_70
theorem eX9_isNext_71 : SiZ nX9_isNext 71 (i_istore 4 73) := s_istore dX9_isNext_71
theorem eX9_isNext_73 : SiZ nX9_isNext 73 (i_iload 1 74) := s_iload_n dX9_isNext_73 rfl
theorem eX9_isNext_74 : SiZ nX9_isNext 74 (i_push (.int 1) 75) := s_iconst dX9_isNext_74 (by decide)
theorem eX9_isNext_75 : SiZ nX9_isNext 75 (i_bin (fun x y => x - y) 76) := s_isub dX9_isNext_75
theorem eX9_isNext_76 : SiZ nX9_isNext 76 (i_istore 5 78) := s_istore dX9_isNext_76
theorem eX9_isNext_78 : SiZ nX9_isNext 78 (i_iload 4 80) := s_iload dX9_isNext_78
theorem eX9_isNext_80 : SiZ nX9_isNext 80 (i_iload 5 82) := s_iload dX9_isNext_80
theorem eX9_isNext_82 : SiZ nX9_isNext 82 (i_icmp (fun x y => y ≤ x) 102 85) := s_icmp_ge dX9_isNext_82 (by decide)
theorem eX9_isNext_85 : SiZ nX9_isNext 85 (i_aload 0 86) := s_aload_n dX9_isNext_85 rfl
theorem eX9_isNext_86 : SiZ nX9_isNext 86 (i_iload 4 88) := s_iload dX9_isNext_86
theorem eX9_isNext_88 : SiZ nX9_isNext 88 (i_iload 5 90) := s_iload dX9_isNext_88
theorem eX9_isNext_90 : ScZ nX9_isNext 90 (c_V 2 93 4 9 (Mt mX9_exchange 4)) := e_V (mi := nX9_isNext) (mi' := nX9_exchange) (len := 3) (fun h b as rest hk hl => cs_V (ci := 8) (mi := nX9_isNext) (pc := 90) (y := yX9_exchange) (idx := 228) dX9_isNext_90 q1577 q1579 qs62 rfl hk hyX9_exchange (sigC q1580) pnX9_exchange hl) wdX9_exchange zX9_exchange (Nat.le_of_ble_eq_true rfl) (Nat.le_of_ble_eq_true rfl)
theorem eX9_isNext_93 : SiZ nX9_isNext 93 (i_iinc 4 1 96) := s_iinc dX9_isNext_93 (by decide)
theorem eX9_isNext_96 : SiZ nX9_isNext 96 (i_iinc 5 (-1) 99) := s_iinc dX9_isNext_96 (by decide)
theorem eX9_isNext_99 : SiZ nX9_isNext 99 (i_goto 78) := s_goto dX9_isNext_99 (by decide)
theorem eX9_isNext_102 : SiZ nX9_isNext 102 (i_push (.int 1) 103) := s_iconst dX9_isNext_102 (by decide)
theorem eX9_isNext_103 : SiZ nX9_isNext 103 i_zret := s_zret dX9_isNext_103 rfl
theorem aX9_isNext : ∀ x ∈ mX9_isNext.1, EnZ nX9_isNext x := fm_cons eX9_isNext_0 (fm_cons eX9_isNext_1 (fm_cons eX9_isNext_2 (fm_cons eX9_isNext_3 (fm_cons eX9_isNext_4 (fm_cons eX9_isNext_5 (fm_cons eX9_isNext_8 (fm_cons eX9_isNext_9 (fm_cons eX9_isNext_12 (fm_cons eX9_isNext_13 (fm_cons eX9_isNext_14 (fm_cons eX9_isNext_15 (fm_cons eX9_isNext_18 (fm_cons eX9_isNext_19 (fm_cons eX9_isNext_20 (fm_cons eX9_isNext_21 (fm_cons eX9_isNext_22 (fm_cons eX9_isNext_25 (fm_cons eX9_isNext_28 (fm_cons eX9_isNext_31 (fm_cons eX9_isNext_32 (fm_cons eX9_isNext_35 (fm_cons eX9_isNext_36 (fm_cons eX9_isNext_37 (fm_cons eX9_isNext_38 (fm_cons eX9_isNext_39 (fm_cons eX9_isNext_40 (fm_cons eX9_isNext_41 (fm_cons eX9_isNext_42 (fm_cons eX9_isNext_45 (fm_cons eX9_isNext_46 (fm_cons eX9_isNext_47 (fm_cons eX9_isNext_48 (fm_cons eX9_isNext_51 (fm_cons eX9_isNext_52 (fm_cons eX9_isNext_53 (fm_cons eX9_isNext_56 (fm_cons eX9_isNext_59 (fm_cons eX9_isNext_62 (fm_cons eX9_isNext_63 (fm_cons eX9_isNext_64 (fm_cons eX9_isNext_65 (fm_cons eX9_isNext_68 (fm_cons eX9_isNext_69 (fm_cons eX9_isNext_70 (fm_cons eX9_isNext_71 (fm_cons eX9_isNext_73 (fm_cons eX9_isNext_74 (fm_cons eX9_isNext_75 (fm_cons eX9_isNext_76 (fm_cons eX9_isNext_78 (fm_cons eX9_isNext_80 (fm_cons eX9_isNext_82 (fm_cons eX9_isNext_85 (fm_cons eX9_isNext_86 (fm_cons eX9_isNext_88 (fm_cons eX9_isNext_90 (fm_cons eX9_isNext_93 (fm_cons eX9_isNext_96 (fm_cons eX9_isNext_99 (fm_cons eX9_isNext_102 (fm_cons eX9_isNext_103 (fm_nil))))))))))))))))))))))))))))))))))))))))))))))))))))))))))))))
theorem zX9_isNext : SwZ nX9_isNext (Mt mX9_isNext 6) := wholeZ (mi := nX9_isNext) (cd := mX9_isNext) aX9_isNext rfl (HdZ.none rfl)
abbrev nX9_order : MI := (cX9_order, 8, (some (.int)), RX9, "order", [], 6, 160)
theorem hyX9_order : yX9_order.cls ≠ "java/lang/invoke/MethodHandle" ∧ yX9_order.cls ≠ "java/lang/invoke/VarHandle" := by decide +kernel
theorem pnX9_order : (parseMethodDescriptor yX9_order.desc).map (fun d => d.parameters.length) = some 3 := by decide +kernel
theorem wdX9_order : CdW yX9_order (nX9_order) := ⟨Or.inl ⟨q1566, rfl⟩, rfl, rfl, plainFor_of_name (by decide +kernel)⟩
theorem eX9_order_0 : SiZ nX9_order 0 (i_aload 0 1) := s_aload_n dX9_order_0 rfl
theorem eX9_order_1 : SiZ nX9_order 1 (i_getf 78 [9] 4) := s_getf dX9_order_1 (fm_cons (⟨_, _, _, _, _, _, rfl, fkX9_147_9⟩) (fm_nil))
theorem eX9_order_4 : SiZ nX9_order 4 (i_if (fun x => ¬ x = 0) 10 7) := s_if_ne dX9_order_4 (by decide)
theorem eX9_order_7 : SiZ nX9_order 7 (i_push (.int (-1000002)) 9) := s_ldc dX9_order_7 q1422
theorem eX9_order_9 : SiZ nX9_order 9 i_iret := s_iret dX9_order_9 rfl
theorem eX9_order_10 : SiZ nX9_order 10 (i_iload 1 11) := s_iload_n dX9_order_10 rfl
theorem eX9_order_11 : SiZ nX9_order 11 (i_i2l 12) := s_i2l dX9_order_11
theorem eX9_order_12 : SiZ nX9_order 12 (i_push (.long 0) 13) := s_lconst dX9_order_12 (by decide)
theorem eX9_order_13 : SiZ nX9_order 13 (i_push (.int 1) 14) := s_iconst dX9_order_13 (by decide)
theorem eX9_order_14 : SiZ nX9_order 14 (i_aload 0 15) := s_aload_n dX9_order_14 rfl
theorem eX9_order_15 : SiZ nX9_order 15 (i_getf 81 [9] 18) := s_getf dX9_order_15 (fm_cons (⟨_, _, _, _, _, _, rfl, fkX9_19_9⟩) (fm_nil))
theorem eX9_order_18 : SiZ nX9_order 18 (i_push (.int 0) 19) := s_iconst dX9_order_18 (by decide)
theorem eX9_order_19 : SiZ nX9_order 19 (i_iald 51 20) := s_ald (j := 0) (by decide) (fun _ => rfl) dX9_order_19 (Or.inl ⟨rfl, rfl⟩)
theorem eX9_order_20 : SiZ nX9_order 20 (i_bin (fun x y => x <<< (y &&& 31)) 21) := s_ishl dX9_order_20
theorem eX9_order_21 : SiZ nX9_order 21 (i_push (.int 1) 22) := s_iconst dX9_order_21 (by decide)
theorem eX9_order_22 : SiZ nX9_order 22 (i_bin (fun x y => x - y) 23) := s_isub dX9_order_22
theorem eX9_order_23 : SiZ nX9_order 23 (i_i2l 24) := s_i2l dX9_order_23
theorem eX9_order_24 : ScZ nX9_order 24 (c_S 3 27 6 (Mt mX9_in 6)) := e_S (mi := nX9_order) (mi' := nX9_in) (len := 3) (fun h as rest hl => cs_S (mi := nX9_order) (pc := 24) (y := yX9_in) (idx := 63) dX9_order_24 q1335 q1336 q89 q1337 hyX9_in pnX9_in hl) wdX9_in zX9_in (Nat.le_of_ble_eq_true rfl) (Nat.le_of_ble_eq_true rfl)
theorem eX9_order_27 : SiZ nX9_order 27 (i_if (fun x => x = 0) 62 30) := s_if_eq dX9_order_27 (by decide)
theorem eX9_order_30 : SiZ nX9_order 30 (i_iload 2 31) := s_iload_n dX9_order_30 rfl
theorem eX9_order_31 : SiZ nX9_order 31 (i_i2l 32) := s_i2l dX9_order_31
theorem eX9_order_32 : SiZ nX9_order 32 (i_push (.long 1) 33) := s_lconst dX9_order_32 (by decide)
theorem eX9_order_33 : SiZ nX9_order 33 (i_push (.long 12) 36) := s_ldc2 dX9_order_33 q1567
theorem eX9_order_36 : ScZ nX9_order 36 (c_S 3 39 6 (Mt mX9_in 6)) := e_S (mi := nX9_order) (mi' := nX9_in) (len := 3) (fun h as rest hl => cs_S (mi := nX9_order) (pc := 36) (y := yX9_in) (idx := 63) dX9_order_36 q1335 q1336 q89 q1337 hyX9_in pnX9_in hl) wdX9_in zX9_in (Nat.le_of_ble_eq_true rfl) (Nat.le_of_ble_eq_true rfl)
theorem eX9_order_39 : SiZ nX9_order 39 (i_if (fun x => x = 0) 62 42) := s_if_eq dX9_order_39 (by decide)
theorem eX9_order_42 : SiZ nX9_order 42 (i_iload 3 43) := s_iload_n dX9_order_42 rfl
theorem eX9_order_43 : SiZ nX9_order 43 (i_i2l 44) := s_i2l dX9_order_43
theorem eX9_order_44 : SiZ nX9_order 44 (i_push (.long (-1)) 47) := s_ldc2 dX9_order_44 q1568
theorem eX9_order_47 : SiZ nX9_order 47 (i_aload 0 48) := s_aload_n dX9_order_47 rfl
theorem eX9_order_48 : SiZ nX9_order 48 (i_getf 81 [9] 51) := s_getf dX9_order_48 (fm_cons (⟨_, _, _, _, _, _, rfl, fkX9_19_9⟩) (fm_nil))
theorem eX9_order_51 : SiZ nX9_order 51 (i_push (.int 0) 52) := s_iconst dX9_order_51 (by decide)
theorem eX9_order_52 : SiZ nX9_order 52 (i_iald 51 53) := s_ald (j := 0) (by decide) (fun _ => rfl) dX9_order_52 (Or.inl ⟨rfl, rfl⟩)
theorem eX9_order_53 : SiZ nX9_order 53 (i_push (.int 1) 54) := s_iconst dX9_order_53 (by decide)
theorem eX9_order_54 : SiZ nX9_order 54 (i_bin (fun x y => x - y) 55) := s_isub dX9_order_54
theorem eX9_order_55 : SiZ nX9_order 55 (i_i2l 56) := s_i2l dX9_order_55
theorem eX9_order_56 : ScZ nX9_order 56 (c_S 3 59 6 (Mt mX9_in 6)) := e_S (mi := nX9_order) (mi' := nX9_in) (len := 3) (fun h as rest hl => cs_S (mi := nX9_order) (pc := 56) (y := yX9_in) (idx := 63) dX9_order_56 q1335 q1336 q89 q1337 hyX9_in pnX9_in hl) wdX9_in zX9_in (Nat.le_of_ble_eq_true rfl) (Nat.le_of_ble_eq_true rfl)
theorem eX9_order_59 : SiZ nX9_order 59 (i_if (fun x => ¬ x = 0) 65 62) := s_if_ne dX9_order_59 (by decide)
theorem eX9_order_62 : SiZ nX9_order 62 (i_push (.int (-1000001)) 64) := s_ldc dX9_order_62 q1339
theorem eX9_order_64 : SiZ nX9_order 64 i_iret := s_iret dX9_order_64 rfl
theorem eX9_order_65 : SiZ nX9_order 65 (i_aload 0 66) := s_aload_n dX9_order_65 rfl
theorem eX9_order_66 : ScZ nX9_order 66 (c_V 0 69 2 9 (Mt mX9_putAside 2)) := e_V (mi := nX9_order) (mi' := nX9_putAside) (len := 3) (fun h b as rest hk hl => cs_V (ci := 8) (mi := nX9_order) (pc := 66) (y := yX9_putAside) (idx := 219) dX9_order_66 q1528 q1530 qs56 rfl hk hyX9_putAside (sigC q1531) pnX9_putAside hl) wdX9_putAside zX9_putAside (Nat.le_of_ble_eq_true rfl) (Nat.le_of_ble_eq_true rfl)
theorem eX9_order_69 : SiZ nX9_order 69 (i_push (.int 0) 70) := s_iconst dX9_order_69 (by decide)
theorem eX9_order_70 : SiZ nX9_order 70 (i_istore 4 72) := s_istore dX9_order_70
theorem eX9_order_72 : SiZ nX9_order 72 (i_iload 4 74) := s_iload dX9_order_72
theorem eX9_order_74 : SiZ nX9_order 74 (i_aload 0 75) := s_aload_n dX9_order_74 rfl
theorem eX9_order_75 : SiZ nX9_order 75 (i_getf 81 [9] 78) := s_getf dX9_order_75 (fm_cons (⟨_, _, _, _, _, _, rfl, fkX9_19_9⟩) (fm_nil))
theorem eX9_order_78 : SiZ nX9_order 78 (i_push (.int 0) 79) := s_iconst dX9_order_78 (by decide)
theorem eX9_order_79 : SiZ nX9_order 79 (i_iald 51 80) := s_ald (j := 0) (by decide) (fun _ => rfl) dX9_order_79 (Or.inl ⟨rfl, rfl⟩)
theorem eX9_order_80 : SiZ nX9_order 80 (i_icmp (fun x y => y ≤ x) 98 83) := s_icmp_ge dX9_order_80 (by decide)
theorem eX9_order_83 : SiZ nX9_order 83 (i_aload 0 84) := s_aload_n dX9_order_83 rfl
theorem eX9_order_84 : SiZ nX9_order 84 (i_getf 111 [9] 87) := s_getf dX9_order_84 (fm_cons (⟨_, _, _, _, _, _, rfl, fkX9_40_9⟩) (fm_nil))
theorem eX9_order_87 : SiZ nX9_order 87 (i_iload 4 89) := s_iload dX9_order_87
theorem eX9_order_89 : SiZ nX9_order 89 (i_iload 4 91) := s_iload dX9_order_89
theorem eX9_order_91 : SiZ nX9_order 91 (i_iast 51 (fun x => x) 92) := s_ast (j := 0) (by decide) (fun _ => rfl) dX9_order_91 (Or.inl ⟨rfl, rfl, rfl⟩)
theorem eX9_order_92 : SiZ nX9_order 92 (i_iinc 4 1 95) := s_iinc dX9_order_92 (by decide)
theorem eX9_order_95 : SiZ nX9_order 95 (i_goto 72) := s_goto dX9_order_95 (by decide)
theorem eX9_order_98 : SiZ nX9_order 98 (i_push (.int (-1)) 99) := s_iconst dX9_order_98 (by decide)
theorem eX9_order_99 : SiZ nX9_order 99 (i_istore 4 101) := s_istore dX9_order_99
theorem eX9_order_101 : SiZ nX9_order 101 (i_push (.int 1) 102) := s_iconst dX9_order_101 (by decide)
theorem eX9_order_102 : SiZ nX9_order 102 (i_istore 5 104) := s_istore dX9_order_102
theorem eX9_order_104 : SiZ nX9_order 104 (i_iload 5 106) := s_iload dX9_order_104
theorem eX9_order_106 : SiZ nX9_order 106 (i_if (fun x => x = 0) 222 109) := s_if_eq dX9_order_106 (by decide)
theorem eX9_order_109 : SiZ nX9_order 109 (i_push (.int 0) 110) := s_iconst dX9_order_109 (by decide)
theorem eX9_order_110 : SiZ nX9_order 110 (i_istore 6 112) := s_istore dX9_order_110
theorem eX9_order_112 : SiZ nX9_order 112 (i_iload 6 114) := s_iload dX9_order_112
theorem eX9_order_114 : SiZ nX9_order 114 (i_aload 0 115) := s_aload_n dX9_order_114 rfl
theorem eX9_order_115 : SiZ nX9_order 115 (i_getf 81 [9] 118) := s_getf dX9_order_115 (fm_cons (⟨_, _, _, _, _, _, rfl, fkX9_19_9⟩) (fm_nil))
theorem eX9_order_118 : SiZ nX9_order 118 (i_push (.int 0) 119) := s_iconst dX9_order_118 (by decide)
theorem eX9_order_119 : SiZ nX9_order 119 (i_iald 51 120) := s_ald (j := 0) (by decide) (fun _ => rfl) dX9_order_119 (Or.inl ⟨rfl, rfl⟩)
theorem eX9_order_120 : SiZ nX9_order 120 (i_icmp (fun x y => y ≤ x) 146 123) := s_icmp_ge dX9_order_120 (by decide)
theorem eX9_order_123 : SiZ nX9_order 123 (i_aload 0 124) := s_aload_n dX9_order_123 rfl
theorem eX9_order_124 : SiZ nX9_order 124 (i_getf 81 [9] 127) := s_getf dX9_order_124 (fm_cons (⟨_, _, _, _, _, _, rfl, fkX9_19_9⟩) (fm_nil))
theorem eX9_order_127 : SiZ nX9_order 127 (i_push (.int 20) 129) := s_bipush dX9_order_127 (by decide)
theorem eX9_order_129 : SiZ nX9_order 129 (i_aload 0 130) := s_aload_n dX9_order_129 rfl
theorem eX9_order_130 : SiZ nX9_order 130 (i_getf 111 [9] 133) := s_getf dX9_order_130 (fm_cons (⟨_, _, _, _, _, _, rfl, fkX9_40_9⟩) (fm_nil))
theorem eX9_order_133 : SiZ nX9_order 133 (i_iload 6 135) := s_iload dX9_order_133
theorem eX9_order_135 : SiZ nX9_order 135 (i_iald 51 136) := s_ald (j := 0) (by decide) (fun _ => rfl) dX9_order_135 (Or.inl ⟨rfl, rfl⟩)
theorem eX9_order_136 : SiZ nX9_order 136 (i_bin (fun x y => x + y) 137) := s_iadd dX9_order_136
theorem eX9_order_137 : SiZ nX9_order 137 (i_iload 6 139) := s_iload dX9_order_137
theorem eX9_order_139 : SiZ nX9_order 139 (i_iast 51 (fun x => x) 140) := s_ast (j := 0) (by decide) (fun _ => rfl) dX9_order_139 (Or.inl ⟨rfl, rfl, rfl⟩)
theorem eX9_order_140 : SiZ nX9_order 140 (i_iinc 6 1 143) := s_iinc dX9_order_140 (by decide)
theorem eX9_order_143 : SiZ nX9_order 143 (i_goto 112) := s_goto dX9_order_143 (by decide)
theorem eX9_order_146 : SiZ nX9_order 146 (i_aload 0 147) := s_aload_n dX9_order_146 rfl
theorem eX9_order_147 : SiZ nX9_order 147 (i_iload 2 148) := s_iload_n dX9_order_147 rfl
theorem eX9_order_148 : ScZ nX9_order 148 (c_V 1 151 3 9 (Mt mX9_goOn 3)) := e_V (mi := nX9_order) (mi' := nX9_goOn) (len := 3) (fun h b as rest hk hl => cs_V (ci := 8) (mi := nX9_order) (pc := 148) (y := yX9_goOn) (idx := 208) dX9_order_148 q1532 q1534 qs57 rfl hk hyX9_goOn (sigC q1535) pnX9_goOn hl) wdX9_goOn zX9_goOn (Nat.le_of_ble_eq_true rfl) (Nat.le_of_ble_eq_true rfl)
theorem eX9_order_151 : SiZ nX9_order 151 (i_aload 0 152) := s_aload_n dX9_order_151 rfl
theorem eX9_order_152 : SiZ nX9_order 152 (i_iload 1 153) := s_iload_n dX9_order_152 rfl
theorem eX9_order_153 : ScZ nX9_order 153 (c_V 1 156 4 9 (Mt mX9_pagesOf 4)) := e_V (mi := nX9_order) (mi' := nX9_pagesOf) (len := 3) (fun h b as rest hk hl => cs_V (ci := 8) (mi := nX9_order) (pc := 153) (y := yX9_pagesOf) (idx := 236) dX9_order_153 q1569 q1571 qs60 rfl hk hyX9_pagesOf (sigC q1572) pnX9_pagesOf hl) wdX9_pagesOf zX9_pagesOf (Nat.le_of_ble_eq_true rfl) (Nat.le_of_ble_eq_true rfl)
theorem eX9_order_156 : SiZ nX9_order 156 (i_istore 6 158) := s_istore dX9_order_156
theorem eX9_order_158 : SiZ nX9_order 158 (i_aload 0 159) := s_aload_n dX9_order_158 rfl
theorem eX9_order_159 : ScZ nX9_order 159 (c_V 0 162 2 9 (Mt mX9_takeBack 2)) := e_V (mi := nX9_order) (mi' := nX9_takeBack) (len := 3) (fun h b as rest hk hl => cs_V (ci := 8) (mi := nX9_order) (pc := 159) (y := yX9_takeBack) (idx := 211) dX9_order_159 q1536 q1538 qs58 rfl hk hyX9_takeBack (sigC q1539) pnX9_takeBack hl) wdX9_takeBack zX9_takeBack (Nat.le_of_ble_eq_true rfl) (Nat.le_of_ble_eq_true rfl)
theorem eX9_order_162 : SiZ nX9_order 162 (i_iload 6 164) := s_iload dX9_order_162
theorem eX9_order_164 : SiZ nX9_order 164 (i_iload 4 166) := s_iload dX9_order_164
theorem eX9_order_166 : SiZ nX9_order 166 (i_icmp (fun x y => x ≤ y) 207 169) := s_icmp_le dX9_order_166 (by decide)
theorem eX9_order_169 : SiZ nX9_order 169 (i_iload 6 171) := s_iload dX9_order_169
theorem eX9_order_171 : SiZ nX9_order 171 (i_istore 4 173) := s_istore dX9_order_171
theorem eX9_order_173 : SiZ nX9_order 173 (i_push (.int 0) 174) := s_iconst dX9_order_173 (by decide)
theorem eX9_order_174 : SiZ nX9_order 174 (i_istore 7 176) := s_istore dX9_order_174
theorem eX9_order_176 : SiZ nX9_order 176 (i_iload 7 178) := s_iload dX9_order_176
theorem eX9_order_178 : SiZ nX9_order 178 (i_aload 0 179) := s_aload_n dX9_order_178 rfl
theorem eX9_order_179 : SiZ nX9_order 179 (i_getf 81 [9] 182) := s_getf dX9_order_179 (fm_cons (⟨_, _, _, _, _, _, rfl, fkX9_19_9⟩) (fm_nil))
theorem eX9_order_182 : SiZ nX9_order 182 (i_push (.int 0) 183) := s_iconst dX9_order_182 (by decide)
theorem eX9_order_183 : SiZ nX9_order 183 (i_iald 51 184) := s_ald (j := 0) (by decide) (fun _ => rfl) dX9_order_183 (Or.inl ⟨rfl, rfl⟩)
theorem eX9_order_184 : SiZ nX9_order 184 (i_icmp (fun x y => y ≤ x) 207 187) := s_icmp_ge dX9_order_184 (by decide)
theorem eX9_order_187 : SiZ nX9_order 187 (i_aload 0 188) := s_aload_n dX9_order_187 rfl
theorem eX9_order_188 : SiZ nX9_order 188 (i_getf 113 [9] 191) := s_getf dX9_order_188 (fm_cons (⟨_, _, _, _, _, _, rfl, fkX9_43_9⟩) (fm_nil))
theorem eX9_order_191 : SiZ nX9_order 191 (i_iload 7 193) := s_iload dX9_order_191
theorem eX9_order_193 : SiZ nX9_order 193 (i_aload 0 194) := s_aload_n dX9_order_193 rfl
theorem eX9_order_194 : SiZ nX9_order 194 (i_getf 111 [9] 197) := s_getf dX9_order_194 (fm_cons (⟨_, _, _, _, _, _, rfl, fkX9_40_9⟩) (fm_nil))
theorem eX9_order_197 : SiZ nX9_order 197 (i_iload 7 199) := s_iload dX9_order_197
theorem eX9_order_199 : SiZ nX9_order 199 (i_iald 51 200) := s_ald (j := 0) (by decide) (fun _ => rfl) dX9_order_199 (Or.inl ⟨rfl, rfl⟩)
theorem eX9_order_200 : SiZ nX9_order 200 (i_iast 51 (fun x => x) 201) := s_ast (j := 0) (by decide) (fun _ => rfl) dX9_order_200 (Or.inl ⟨rfl, rfl, rfl⟩)
theorem eX9_order_201 : SiZ nX9_order 201 (i_iinc 7 1 204) := s_iinc dX9_order_201 (by decide)
theorem eX9_order_204 : SiZ nX9_order 204 (i_goto 176) := s_goto dX9_order_204 (by decide)
theorem eX9_order_207 : SiZ nX9_order 207 (i_aload 0 208) := s_aload_n dX9_order_207 rfl
theorem eX9_order_208 : SiZ nX9_order 208 (i_aload 0 209) := s_aload_n dX9_order_208 rfl
theorem eX9_order_209 : SiZ nX9_order 209 (i_getf 81 [9] 212) := s_getf dX9_order_209 (fm_cons (⟨_, _, _, _, _, _, rfl, fkX9_19_9⟩) (fm_nil))
theorem eX9_order_212 : SiZ nX9_order 212 (i_push (.int 0) 213) := s_iconst dX9_order_212 (by decide)
theorem eX9_order_213 : SiZ nX9_order 213 (i_iald 51 214) := s_ald (j := 0) (by decide) (fun _ => rfl) dX9_order_213 (Or.inl ⟨rfl, rfl⟩)
theorem eX9_order_214 : ScZ nX9_order 214 (c_V 1 217 6 9 (Mt mX9_isNext 6)) := e_V (mi := nX9_order) (mi' := nX9_isNext) (len := 3) (fun h b as rest hk hl => cs_V (ci := 8) (mi := nX9_order) (pc := 214) (y := yX9_isNext) (idx := 239) dX9_order_214 q1573 q1575 qs61 rfl hk hyX9_isNext (sigC q1576) pnX9_isNext hl) wdX9_isNext zX9_isNext (Nat.le_of_ble_eq_true rfl) (Nat.le_of_ble_eq_true rfl)
theorem eX9_order_217 : SiZ nX9_order 217 (i_istore 5 219) := s_istore dX9_order_217
theorem eX9_order_219 : SiZ nX9_order 219 (i_goto 104) := s_goto dX9_order_219 (by decide)
theorem eX9_order_222 : SiZ nX9_order 222 (i_iload 3 223) := s_iload_n dX9_order_222 rfl
theorem eX9_order_223 : SiZ nX9_order 223 (i_if (fun x => 0 ≤ x) 231 226) := s_if_ge dX9_order_223 (by decide)
theorem eX9_order_226 : SiZ nX9_order 226 (i_iload 4 228) := s_iload dX9_order_226
theorem eX9_order_228 : SiZ nX9_order 228 (i_goto 237) := s_goto dX9_order_228 (by decide)
theorem eX9_order_231 : SiZ nX9_order 231 (i_aload 0 232) := s_aload_n dX9_order_231 rfl
theorem eX9_order_232 : SiZ nX9_order 232 (i_getf 113 [9] 235) := s_getf dX9_order_232 (fm_cons (⟨_, _, _, _, _, _, rfl, fkX9_43_9⟩) (fm_nil))
theorem eX9_order_235 : SiZ nX9_order 235 (i_iload 3 236) := s_iload_n dX9_order_235 rfl
theorem eX9_order_236 : SiZ nX9_order 236 (i_iald 51 237) := s_ald (j := 0) (by decide) (fun _ => rfl) dX9_order_236 (Or.inl ⟨rfl, rfl⟩)
theorem eX9_order_237 : SiZ nX9_order 237 i_iret := s_iret dX9_order_237 rfl
theorem aX9_order : ∀ x ∈ mX9_order.1, EnZ nX9_order x := fm_cons eX9_order_0 (fm_cons eX9_order_1 (fm_cons eX9_order_4 (fm_cons eX9_order_7 (fm_cons eX9_order_9 (fm_cons eX9_order_10 (fm_cons eX9_order_11 (fm_cons eX9_order_12 (fm_cons eX9_order_13 (fm_cons eX9_order_14 (fm_cons eX9_order_15 (fm_cons eX9_order_18 (fm_cons eX9_order_19 (fm_cons eX9_order_20 (fm_cons eX9_order_21 (fm_cons eX9_order_22 (fm_cons eX9_order_23 (fm_cons eX9_order_24 (fm_cons eX9_order_27 (fm_cons eX9_order_30 (fm_cons eX9_order_31 (fm_cons eX9_order_32 (fm_cons eX9_order_33 (fm_cons eX9_order_36 (fm_cons eX9_order_39 (fm_cons eX9_order_42 (fm_cons eX9_order_43 (fm_cons eX9_order_44 (fm_cons eX9_order_47 (fm_cons eX9_order_48 (fm_cons eX9_order_51 (fm_cons eX9_order_52 (fm_cons eX9_order_53 (fm_cons eX9_order_54 (fm_cons eX9_order_55 (fm_cons eX9_order_56 (fm_cons eX9_order_59 (fm_cons eX9_order_62 (fm_cons eX9_order_64 (fm_cons eX9_order_65 (fm_cons eX9_order_66 (fm_cons eX9_order_69 (fm_cons eX9_order_70 (fm_cons eX9_order_72 (fm_cons eX9_order_74 (fm_cons eX9_order_75 (fm_cons eX9_order_78 (fm_cons eX9_order_79 (fm_cons eX9_order_80 (fm_cons eX9_order_83 (fm_cons eX9_order_84 (fm_cons eX9_order_87 (fm_cons eX9_order_89 (fm_cons eX9_order_91 (fm_cons eX9_order_92 (fm_cons eX9_order_95 (fm_cons eX9_order_98 (fm_cons eX9_order_99 (fm_cons eX9_order_101 (fm_cons eX9_order_102 (fm_cons eX9_order_104 (fm_cons eX9_order_106 (fm_cons eX9_order_109 (fm_cons eX9_order_110 (fm_cons eX9_order_112 (fm_cons eX9_order_114 (fm_cons eX9_order_115 (fm_cons eX9_order_118 (fm_cons eX9_order_119 (fm_cons eX9_order_120 (fm_cons eX9_order_123 (fm_cons eX9_order_124 (fm_cons eX9_order_127 (fm_cons eX9_order_129 (fm_cons eX9_order_130 (fm_cons eX9_order_133 (fm_cons eX9_order_135 (fm_cons eX9_order_136 (fm_cons eX9_order_137 (fm_cons eX9_order_139 (fm_cons eX9_order_140 (fm_cons eX9_order_143 (fm_cons eX9_order_146 (fm_cons eX9_order_147 (fm_cons eX9_order_148 (fm_cons eX9_order_151 (fm_cons eX9_order_152 (fm_cons eX9_order_153 (fm_cons eX9_order_156 (fm_cons eX9_order_158 (fm_cons eX9_order_159 (fm_cons eX9_order_162 (fm_cons eX9_order_164 (fm_cons eX9_order_166 (fm_cons eX9_order_169 (fm_cons eX9_order_171 (fm_cons eX9_order_173 (fm_cons eX9_order_174 (fm_cons eX9_order_176 (fm_cons eX9_order_178 (fm_cons eX9_order_179 (fm_cons eX9_order_182 (fm_cons eX9_order_183 (fm_cons eX9_order_184 (fm_cons eX9_order_187 (fm_cons eX9_order_188 (fm_cons eX9_order_191 (fm_cons eX9_order_193 (fm_cons eX9_order_194 (fm_cons eX9_order_197 (fm_cons eX9_order_199 (fm_cons eX9_order_200 (fm_cons eX9_order_201 (fm_cons eX9_order_204 (fm_cons eX9_order_207 (fm_cons eX9_order_208 (fm_cons eX9_order_209 (fm_cons eX9_order_212 (fm_cons eX9_order_213 (fm_cons eX9_order_214 (fm_cons eX9_order_217 (fm_cons eX9_order_219 (fm_cons eX9_order_222 (fm_cons eX9_order_223 (fm_cons eX9_order_226 (fm_cons eX9_order_228 (fm_cons eX9_order_231 (fm_cons eX9_order_232 (fm_cons eX9_order_235 (fm_cons eX9_order_236 (fm_cons eX9_order_237 (fm_nil)))))))))))))))))))))))))))))))))))))))))))))))))))))))))))))))))))))))))))))))))))))))))))))))))))))))))))))))))))))))))))))))))))
theorem zX9_order : SwZ nX9_order (Mt mX9_order 8) := wholeZ (mi := nX9_order) (cd := mX9_order) aX9_order rfl (HdZ.none rfl)
abbrev nX9_pagesBehind : MI := (cX9_pagesBehind, 4, (some (.int)), RX9, "pagesBehind", [], 6, 160)
theorem hyX9_pagesBehind : yX9_pagesBehind.cls ≠ "java/lang/invoke/MethodHandle" ∧ yX9_pagesBehind.cls ≠ "java/lang/invoke/VarHandle" := by decide +kernel
theorem pnX9_pagesBehind : (parseMethodDescriptor yX9_pagesBehind.desc).map (fun d => d.parameters.length) = some 2 := by decide +kernel
theorem wdX9_pagesBehind : CdW yX9_pagesBehind (nX9_pagesBehind) := ⟨Or.inl ⟨q1588, rfl⟩, rfl, rfl, plainFor_of_name (by decide +kernel)⟩
theorem eX9_pagesBehind_0 : SiZ nX9_pagesBehind 0 (i_aload 0 1) := s_aload_n dX9_pagesBehind_0 rfl
theorem eX9_pagesBehind_1 : SiZ nX9_pagesBehind 1 (i_iload 2 2) := s_iload_n dX9_pagesBehind_1 rfl
theorem eX9_pagesBehind_2 : ScZ nX9_pagesBehind 2 (c_V 1 5 3 9 (Mt mX9_goOn 3)) := e_V (mi := nX9_pagesBehind) (mi' := nX9_goOn) (len := 3) (fun h b as rest hk hl => cs_V (ci := 8) (mi := nX9_pagesBehind) (pc := 2) (y := yX9_goOn) (idx := 208) dX9_pagesBehind_2 q1532 q1534 qs57 rfl hk hyX9_goOn (sigC q1535) pnX9_goOn hl) wdX9_goOn zX9_goOn (Nat.le_of_ble_eq_true rfl) (Nat.le_of_ble_eq_true rfl)
theorem eX9_pagesBehind_5 : SiZ nX9_pagesBehind 5 (i_aload 0 6) := s_aload_n dX9_pagesBehind_5 rfl
theorem eX9_pagesBehind_6 : SiZ nX9_pagesBehind 6 (i_getf 81 [9] 9) := s_getf dX9_pagesBehind_6 (fm_cons (⟨_, _, _, _, _, _, rfl, fkX9_19_9⟩) (fm_nil))
theorem eX9_pagesBehind_9 : SiZ nX9_pagesBehind 9 (i_push (.int 8) 11) := s_bipush dX9_pagesBehind_9 (by decide)
theorem eX9_pagesBehind_11 : SiZ nX9_pagesBehind 11 (i_iload 1 12) := s_iload_n dX9_pagesBehind_11 rfl
theorem eX9_pagesBehind_12 : SiZ nX9_pagesBehind 12 (i_bin (fun x y => x + y) 13) := s_iadd dX9_pagesBehind_12
theorem eX9_pagesBehind_13 : SiZ nX9_pagesBehind 13 (i_iald 51 14) := s_ald (j := 0) (by decide) (fun _ => rfl) dX9_pagesBehind_13 (Or.inl ⟨rfl, rfl⟩)
theorem eX9_pagesBehind_14 : SiZ nX9_pagesBehind 14 (i_istore 3 15) := s_istore_n dX9_pagesBehind_14 rfl
theorem eX9_pagesBehind_15 : SiZ nX9_pagesBehind 15 (i_aload 0 16) := s_aload_n dX9_pagesBehind_15 rfl
theorem eX9_pagesBehind_16 : ScZ nX9_pagesBehind 16 (c_V 0 19 2 9 (Mt mX9_takeBack 2)) := e_V (mi := nX9_pagesBehind) (mi' := nX9_takeBack) (len := 3) (fun h b as rest hk hl => cs_V (ci := 8) (mi := nX9_pagesBehind) (pc := 16) (y := yX9_takeBack) (idx := 211) dX9_pagesBehind_16 q1536 q1538 qs58 rfl hk hyX9_takeBack (sigC q1539) pnX9_takeBack hl) wdX9_takeBack zX9_takeBack (Nat.le_of_ble_eq_true rfl) (Nat.le_of_ble_eq_true rfl)
theorem eX9_pagesBehind_19 : SiZ nX9_pagesBehind 19 (i_iload 3 20) := s_iload_n dX9_pagesBehind_19 rfl
theorem eX9_pagesBehind_20 : SiZ nX9_pagesBehind 20 i_iret := s_iret dX9_pagesBehind_20 rfl
theorem aX9_pagesBehind : ∀ x ∈ mX9_pagesBehind.1, EnZ nX9_pagesBehind x := fm_cons eX9_pagesBehind_0 (fm_cons eX9_pagesBehind_1 (fm_cons eX9_pagesBehind_2 (fm_cons eX9_pagesBehind_5 (fm_cons eX9_pagesBehind_6 (fm_cons eX9_pagesBehind_9 (fm_cons eX9_pagesBehind_11 (fm_cons eX9_pagesBehind_12 (fm_cons eX9_pagesBehind_13 (fm_cons eX9_pagesBehind_14 (fm_cons eX9_pagesBehind_15 (fm_cons eX9_pagesBehind_16 (fm_cons eX9_pagesBehind_19 (fm_cons eX9_pagesBehind_20 (fm_nil))))))))))))))
theorem zX9_pagesBehind : SwZ nX9_pagesBehind (Mt mX9_pagesBehind 4) := wholeZ (mi := nX9_pagesBehind) (cd := mX9_pagesBehind) aX9_pagesBehind rfl (HdZ.none rfl)
abbrev nX9_lamp : MI := (cX9_lamp, 8, (some (.int)), RX9, "lamp", [], 7, 187)
theorem hyX9_lamp : yX9_lamp.cls ≠ "java/lang/invoke/MethodHandle" ∧ yX9_lamp.cls ≠ "java/lang/invoke/VarHandle" := by decide +kernel
theorem pnX9_lamp : (parseMethodDescriptor yX9_lamp.desc).map (fun d => d.parameters.length) = some 3 := by decide +kernel
theorem wdX9_lamp : CdW yX9_lamp (nX9_lamp) := ⟨Or.inl ⟨q1584, rfl⟩, rfl, rfl, plainFor_of_name (by decide +kernel)⟩
theorem eX9_lamp_0 : SiZ nX9_lamp 0 (i_aload 0 1) := s_aload_n dX9_lamp_0 rfl
theorem eX9_lamp_1 : SiZ nX9_lamp 1 (i_iload 1 2) := s_iload_n dX9_lamp_1 rfl
theorem eX9_lamp_2 : ScZ nX9_lamp 2 (c_V 1 5 2 9 (Mt mX9_isBook 2)) := e_V (mi := nX9_lamp) (mi' := nX9_isBook) (len := 3) (fun h b as rest hk hl => cs_V (ci := 8) (mi := nX9_lamp) (pc := 2) (y := yX9_isBook) (idx := 194) dX9_lamp_2 q1476 q1478 qs53 rfl hk hyX9_isBook (sigC q1479) pnX9_isBook hl) wdX9_isBook zX9_isBook (Nat.le_of_ble_eq_true rfl) (Nat.le_of_ble_eq_true rfl)
theorem eX9_lamp_5 : SiZ nX9_lamp 5 (i_if (fun x => x = 0) 27 8) := s_if_eq dX9_lamp_5 (by decide)
theorem eX9_lamp_8 : SiZ nX9_lamp 8 (i_iload 2 9) := s_iload_n dX9_lamp_8 rfl
theorem eX9_lamp_9 : SiZ nX9_lamp 9 (i_i2l 10) := s_i2l dX9_lamp_9
theorem eX9_lamp_10 : SiZ nX9_lamp 10 (i_push (.long 1) 11) := s_lconst dX9_lamp_10 (by decide)
theorem eX9_lamp_11 : SiZ nX9_lamp 11 (i_push (.long 60) 14) := s_ldc2 dX9_lamp_11 q1524
theorem eX9_lamp_14 : ScZ nX9_lamp 14 (c_S 3 17 6 (Mt mX9_in 6)) := e_S (mi := nX9_lamp) (mi' := nX9_in) (len := 3) (fun h as rest hl => cs_S (mi := nX9_lamp) (pc := 14) (y := yX9_in) (idx := 63) dX9_lamp_14 q1335 q1336 q89 q1337 hyX9_in pnX9_in hl) wdX9_in zX9_in (Nat.le_of_ble_eq_true rfl) (Nat.le_of_ble_eq_true rfl)
theorem eX9_lamp_17 : SiZ nX9_lamp 17 (i_if (fun x => x = 0) 27 20) := s_if_eq dX9_lamp_17 (by decide)
theorem eX9_lamp_20 : SiZ nX9_lamp 20 (i_iload 3 21) := s_iload_n dX9_lamp_20 rfl
theorem eX9_lamp_21 : ScZ nX9_lamp 21 (c_S 1 24 1 (Mt mX9_isWhat 1)) := e_S (mi := nX9_lamp) (mi' := nX9_isWhat) (len := 3) (fun h as rest hl => cs_S (mi := nX9_lamp) (pc := 21) (y := yX9_isWhat) (idx := 216) dX9_lamp_21 q1525 q1526 q89 q1527 hyX9_isWhat pnX9_isWhat hl) wdX9_isWhat zX9_isWhat (Nat.le_of_ble_eq_true rfl) (Nat.le_of_ble_eq_true rfl)
theorem eX9_lamp_24 : SiZ nX9_lamp 24 (i_if (fun x => ¬ x = 0) 30 27) := s_if_ne dX9_lamp_24 (by decide)
theorem eX9_lamp_27 : SiZ nX9_lamp 27 (i_push (.int (-1000001)) 29) := s_ldc dX9_lamp_27 q1339
theorem eX9_lamp_29 : SiZ nX9_lamp 29 i_iret := s_iret dX9_lamp_29 rfl
theorem eX9_lamp_30 : SiZ nX9_lamp 30 (i_aload 0 31) := s_aload_n dX9_lamp_30 rfl
theorem eX9_lamp_31 : ScZ nX9_lamp 31 (c_V 0 34 2 9 (Mt mX9_putAside 2)) := e_V (mi := nX9_lamp) (mi' := nX9_putAside) (len := 3) (fun h b as rest hk hl => cs_V (ci := 8) (mi := nX9_lamp) (pc := 31) (y := yX9_putAside) (idx := 219) dX9_lamp_31 q1528 q1530 qs56 rfl hk hyX9_putAside (sigC q1531) pnX9_putAside hl) wdX9_putAside zX9_putAside (Nat.le_of_ble_eq_true rfl) (Nat.le_of_ble_eq_true rfl)
theorem eX9_lamp_34 : SiZ nX9_lamp 34 (i_push (.int 0) 35) := s_iconst dX9_lamp_34 (by decide)
theorem eX9_lamp_35 : SiZ nX9_lamp 35 (i_istore 4 37) := s_istore dX9_lamp_35
theorem eX9_lamp_37 : SiZ nX9_lamp 37 (i_push (.int (-1)) 38) := s_iconst dX9_lamp_37 (by decide)
theorem eX9_lamp_38 : SiZ nX9_lamp 38 (i_istore 5 40) := s_istore dX9_lamp_38
theorem eX9_lamp_40 : SiZ nX9_lamp 40 (i_push (.int 0) 41) := s_iconst dX9_lamp_40 (by decide)
theorem eX9_lamp_41 : SiZ nX9_lamp 41 (i_istore 6 43) := s_istore dX9_lamp_41
theorem eX9_lamp_43 : SiZ nX9_lamp 43 (i_iload 6 45) := s_iload dX9_lamp_43
theorem eX9_lamp_45 : SiZ nX9_lamp 45 (i_push (.int 1) 46) := s_iconst dX9_lamp_45 (by decide)
theorem eX9_lamp_46 : SiZ nX9_lamp 46 (i_aload 0 47) := s_aload_n dX9_lamp_46 rfl
theorem eX9_lamp_47 : SiZ nX9_lamp 47 (i_getf 81 [9] 50) := s_getf dX9_lamp_47 (fm_cons (⟨_, _, _, _, _, _, rfl, fkX9_19_9⟩) (fm_nil))
theorem eX9_lamp_50 : SiZ nX9_lamp 50 (i_push (.int 0) 51) := s_iconst dX9_lamp_50 (by decide)
theorem eX9_lamp_51 : SiZ nX9_lamp 51 (i_iald 51 52) := s_ald (j := 0) (by decide) (fun _ => rfl) dX9_lamp_51 (Or.inl ⟨rfl, rfl⟩)
theorem eX9_lamp_52 : SiZ nX9_lamp 52 (i_bin (fun x y => x <<< (y &&& 31)) 53) := s_ishl dX9_lamp_52
theorem eX9_lamp_53 : SiZ nX9_lamp 53 (i_icmp (fun x y => y ≤ x) 127 56) := s_icmp_ge dX9_lamp_53 (by decide)
theorem eX9_lamp_56 : SiZ nX9_lamp 56 (i_iload 6 58) := s_iload dX9_lamp_56
theorem eX9_lamp_58 : ScZ nX9_lamp 58 (c_S 1 61 3 (Mt mX9_ones 3)) := e_S (mi := nX9_lamp) (mi' := nX9_ones) (len := 3) (fun h as rest hl => cs_S (mi := nX9_lamp) (pc := 58) (y := yX9_ones) (idx := 197) dX9_lamp_58 q1480 q1481 q89 q1482 hyX9_ones pnX9_ones hl) wdX9_ones zX9_ones (Nat.le_of_ble_eq_true rfl) (Nat.le_of_ble_eq_true rfl)
theorem eX9_lamp_61 : SiZ nX9_lamp 61 (i_aload 0 62) := s_aload_n dX9_lamp_61 rfl
theorem eX9_lamp_62 : SiZ nX9_lamp 62 (i_getf 81 [9] 65) := s_getf dX9_lamp_62 (fm_cons (⟨_, _, _, _, _, _, rfl, fkX9_19_9⟩) (fm_nil))
theorem eX9_lamp_65 : SiZ nX9_lamp 65 (i_push (.int 3) 66) := s_iconst dX9_lamp_65 (by decide)
theorem eX9_lamp_66 : SiZ nX9_lamp 66 (i_iald 51 67) := s_ald (j := 0) (by decide) (fun _ => rfl) dX9_lamp_66 (Or.inl ⟨rfl, rfl⟩)
theorem eX9_lamp_67 : SiZ nX9_lamp 67 (i_icmp (fun x y => y < x) 121 70) := s_icmp_gt dX9_lamp_67 (by decide)
theorem eX9_lamp_70 : SiZ nX9_lamp 70 (i_aload 0 71) := s_aload_n dX9_lamp_70 rfl
theorem eX9_lamp_71 : SiZ nX9_lamp 71 (i_getf 81 [9] 74) := s_getf dX9_lamp_71 (fm_cons (⟨_, _, _, _, _, _, rfl, fkX9_19_9⟩) (fm_nil))
theorem eX9_lamp_74 : SiZ nX9_lamp 74 (i_push (.int 5) 75) := s_iconst dX9_lamp_74 (by decide)
theorem eX9_lamp_75 : SiZ nX9_lamp 75 (i_iload 6 77) := s_iload dX9_lamp_75
theorem eX9_lamp_77 : SiZ nX9_lamp 77 (i_iast 51 (fun x => x) 78) := s_ast (j := 0) (by decide) (fun _ => rfl) dX9_lamp_77 (Or.inl ⟨rfl, rfl, rfl⟩)
theorem eX9_lamp_78 : SiZ nX9_lamp 78 (i_aload 0 79) := s_aload_n dX9_lamp_78 rfl
theorem eX9_lamp_79 : SiZ nX9_lamp 79 (i_iload 1 80) := s_iload_n dX9_lamp_79 rfl
theorem eX9_lamp_80 : SiZ nX9_lamp 80 (i_iload 2 81) := s_iload_n dX9_lamp_80 rfl
theorem eX9_lamp_81 : ScZ nX9_lamp 81 (c_V 2 84 4 9 (Mt mX9_pagesBehind 4)) := e_V (mi := nX9_lamp) (mi' := nX9_pagesBehind) (len := 3) (fun h b as rest hk hl => cs_V (ci := 8) (mi := nX9_lamp) (pc := 81) (y := yX9_pagesBehind) (idx := 242) dX9_lamp_81 q1585 q1587 qs63 rfl hk hyX9_pagesBehind (sigC q1588) pnX9_pagesBehind hl) wdX9_pagesBehind zX9_pagesBehind (Nat.le_of_ble_eq_true rfl) (Nat.le_of_ble_eq_true rfl)
theorem eX9_lamp_84 : SiZ nX9_lamp 84 (i_istore 7 86) := s_istore dX9_lamp_84
theorem eX9_lamp_86 : SiZ nX9_lamp 86 (i_iload 7 88) := s_iload dX9_lamp_86
theorem eX9_lamp_88 : SiZ nX9_lamp 88 (i_iload 5 90) := s_iload dX9_lamp_88
theorem eX9_lamp_90 : SiZ nX9_lamp 90 (i_icmp (fun x y => y < x) 113 93) := s_icmp_gt dX9_lamp_90 (by decide)
theorem eX9_lamp_93 : SiZ nX9_lamp 93 (i_iload 7 95) := s_iload dX9_lamp_93
theorem eX9_lamp_95 : SiZ nX9_lamp 95 (i_iload 5 97) := s_iload dX9_lamp_95
theorem eX9_lamp_97 : SiZ nX9_lamp 97 (i_icmp (fun x y => ¬ x = y) 121 100) := s_icmp_ne dX9_lamp_97 (by decide)
theorem eX9_lamp_100 : SiZ nX9_lamp 100 (i_iload 6 102) := s_iload dX9_lamp_100
theorem eX9_lamp_102 : ScZ nX9_lamp 102 (c_S 1 105 3 (Mt mX9_ones 3)) := e_S (mi := nX9_lamp) (mi' := nX9_ones) (len := 3) (fun h as rest hl => cs_S (mi := nX9_lamp) (pc := 102) (y := yX9_ones) (idx := 197) dX9_lamp_102 q1480 q1481 q89 q1482 hyX9_ones pnX9_ones hl) wdX9_ones zX9_ones (Nat.le_of_ble_eq_true rfl) (Nat.le_of_ble_eq_true rfl)
theorem eX9_lamp_105 : SiZ nX9_lamp 105 (i_iload 4 107) := s_iload dX9_lamp_105
theorem eX9_lamp_107 : ScZ nX9_lamp 107 (c_S 1 110 3 (Mt mX9_ones 3)) := e_S (mi := nX9_lamp) (mi' := nX9_ones) (len := 3) (fun h as rest hl => cs_S (mi := nX9_lamp) (pc := 107) (y := yX9_ones) (idx := 197) dX9_lamp_107 q1480 q1481 q89 q1482 hyX9_ones pnX9_ones hl) wdX9_ones zX9_ones (Nat.le_of_ble_eq_true rfl) (Nat.le_of_ble_eq_true rfl)
theorem eX9_lamp_110 : SiZ nX9_lamp 110 (i_icmp (fun x y => y ≤ x) 121 113) := s_icmp_ge dX9_lamp_110 (by decide)
theorem eX9_lamp_113 : SiZ nX9_lamp 113 (i_iload 6 115) := s_iload dX9_lamp_113
theorem eX9_lamp_115 : SiZ nX9_lamp 115 (i_istore 4 117) := s_istore dX9_lamp_115
theorem eX9_lamp_117 : SiZ nX9_lamp 117 (i_iload 7 119) := s_iload dX9_lamp_117
theorem eX9_lamp_119 : SiZ nX9_lamp 119 (i_istore 5 121) := s_istore dX9_lamp_119
theorem eX9_lamp_121 : SiZ nX9_lamp 121 (i_iinc 6 1 124) := s_iinc dX9_lamp_121 (by decide)
theorem eX9_lamp_124 : SiZ nX9_lamp 124 (i_goto 43) := s_goto dX9_lamp_124 (by decide)
theorem eX9_lamp_127 : SiZ nX9_lamp 127 (i_iload 3 128) := s_iload_n dX9_lamp_127 rfl
theorem eX9_lamp_128 : SiZ nX9_lamp 128 (i_if (fun x => ¬ x = 0) 136 131) := s_if_ne dX9_lamp_128 (by decide)
theorem eX9_lamp_131 : SiZ nX9_lamp 131 (i_iload 5 133) := s_iload dX9_lamp_131
theorem eX9_lamp_133 : SiZ nX9_lamp 133 (i_goto 138) := s_goto dX9_lamp_133 (by decide)
theorem eX9_lamp_136 : SiZ nX9_lamp 136 (i_iload 4 138) := s_iload dX9_lamp_136
theorem eX9_lamp_138 : SiZ nX9_lamp 138 i_iret := s_iret dX9_lamp_138 rfl
theorem aX9_lamp : ∀ x ∈ mX9_lamp.1, EnZ nX9_lamp x := fm_cons eX9_lamp_0 (fm_cons eX9_lamp_1 (fm_cons eX9_lamp_2 (fm_cons eX9_lamp_5 (fm_cons eX9_lamp_8 (fm_cons eX9_lamp_9 (fm_cons eX9_lamp_10 (fm_cons eX9_lamp_11 (fm_cons eX9_lamp_14 (fm_cons eX9_lamp_17 (fm_cons eX9_lamp_20 (fm_cons eX9_lamp_21 (fm_cons eX9_lamp_24 (fm_cons eX9_lamp_27 (fm_cons eX9_lamp_29 (fm_cons eX9_lamp_30 (fm_cons eX9_lamp_31 (fm_cons eX9_lamp_34 (fm_cons eX9_lamp_35 (fm_cons eX9_lamp_37 (fm_cons eX9_lamp_38 (fm_cons eX9_lamp_40 (fm_cons eX9_lamp_41 (fm_cons eX9_lamp_43 (fm_cons eX9_lamp_45 (fm_cons eX9_lamp_46 (fm_cons eX9_lamp_47 (fm_cons eX9_lamp_50 (fm_cons eX9_lamp_51 (fm_cons eX9_lamp_52 (fm_cons eX9_lamp_53 (fm_cons eX9_lamp_56 (fm_cons eX9_lamp_58 (fm_cons eX9_lamp_61 (fm_cons eX9_lamp_62 (fm_cons eX9_lamp_65 (fm_cons eX9_lamp_66 (fm_cons eX9_lamp_67 (fm_cons eX9_lamp_70 (fm_cons eX9_lamp_71 (fm_cons eX9_lamp_74 (fm_cons eX9_lamp_75 (fm_cons eX9_lamp_77 (fm_cons eX9_lamp_78 (fm_cons eX9_lamp_79 (fm_cons eX9_lamp_80 (fm_cons eX9_lamp_81 (fm_cons eX9_lamp_84 (fm_cons eX9_lamp_86 (fm_cons eX9_lamp_88 (fm_cons eX9_lamp_90 (fm_cons eX9_lamp_93 (fm_cons eX9_lamp_95 (fm_cons eX9_lamp_97 (fm_cons eX9_lamp_100 (fm_cons eX9_lamp_102 (fm_cons eX9_lamp_105 (fm_cons eX9_lamp_107 (fm_cons eX9_lamp_110 (fm_cons eX9_lamp_113 (fm_cons eX9_lamp_115 (fm_cons eX9_lamp_117 (fm_cons eX9_lamp_119 (fm_cons eX9_lamp_121 (fm_cons eX9_lamp_124 (fm_cons eX9_lamp_127 (fm_cons eX9_lamp_128 (fm_cons eX9_lamp_131 (fm_cons eX9_lamp_133 (fm_cons eX9_lamp_136 (fm_cons eX9_lamp_138 (fm_nil)))))))))))))))))))))))))))))))))))))))))))))))))))))))))))))))))))))))
theorem zX9_lamp : SwZ nX9_lamp (Mt mX9_lamp 8) := wholeZ (mi := nX9_lamp) (cd := mX9_lamp) aX9_lamp rfl (HdZ.none rfl)
abbrev nX9_caught : MI := (cX9_caught, 6, (some (.int)), RX9, "caught", [], 7, 187)
theorem hyX9_caught : yX9_caught.cls ≠ "java/lang/invoke/MethodHandle" ∧ yX9_caught.cls ≠ "java/lang/invoke/VarHandle" := by decide +kernel
theorem pnX9_caught : (parseMethodDescriptor yX9_caught.desc).map (fun d => d.parameters.length) = some 3 := by decide +kernel
theorem wdX9_caught : CdW yX9_caught (nX9_caught) := ⟨Or.inl ⟨q1592, rfl⟩, rfl, rfl, plainFor_of_name (by decide +kernel)⟩
theorem eX9_caught_0 : SiZ nX9_caught 0 (i_aload 0 1) := s_aload_n dX9_caught_0 rfl
theorem eX9_caught_1 : SiZ nX9_caught 1 (i_iload 1 2) := s_iload_n dX9_caught_1 rfl
theorem eX9_caught_2 : ScZ nX9_caught 2 (c_V 1 5 2 9 (Mt mX9_isBook 2)) := e_V (mi := nX9_caught) (mi' := nX9_isBook) (len := 3) (fun h b as rest hk hl => cs_V (ci := 8) (mi := nX9_caught) (pc := 2) (y := yX9_isBook) (idx := 194) dX9_caught_2 q1476 q1478 qs53 rfl hk hyX9_isBook (sigC q1479) pnX9_isBook hl) wdX9_isBook zX9_isBook (Nat.le_of_ble_eq_true rfl) (Nat.le_of_ble_eq_true rfl)
theorem eX9_caught_5 : SiZ nX9_caught 5 (i_if (fun x => x = 0) 27 8) := s_if_eq dX9_caught_5 (by decide)
theorem eX9_caught_8 : SiZ nX9_caught 8 (i_iload 2 9) := s_iload_n dX9_caught_8 rfl
theorem eX9_caught_9 : SiZ nX9_caught 9 (i_i2l 10) := s_i2l dX9_caught_9
theorem eX9_caught_10 : SiZ nX9_caught 10 (i_push (.long 1) 11) := s_lconst dX9_caught_10 (by decide)
theorem eX9_caught_11 : SiZ nX9_caught 11 (i_push (.long 60) 14) := s_ldc2 dX9_caught_11 q1524
theorem eX9_caught_14 : ScZ nX9_caught 14 (c_S 3 17 6 (Mt mX9_in 6)) := e_S (mi := nX9_caught) (mi' := nX9_in) (len := 3) (fun h as rest hl => cs_S (mi := nX9_caught) (pc := 14) (y := yX9_in) (idx := 63) dX9_caught_14 q1335 q1336 q89 q1337 hyX9_in pnX9_in hl) wdX9_in zX9_in (Nat.le_of_ble_eq_true rfl) (Nat.le_of_ble_eq_true rfl)
theorem eX9_caught_17 : SiZ nX9_caught 17 (i_if (fun x => x = 0) 27 20) := s_if_eq dX9_caught_17 (by decide)
theorem eX9_caught_20 : SiZ nX9_caught 20 (i_iload 3 21) := s_iload_n dX9_caught_20 rfl
theorem eX9_caught_21 : ScZ nX9_caught 21 (c_S 1 24 1 (Mt mX9_isWhat 1)) := e_S (mi := nX9_caught) (mi' := nX9_isWhat) (len := 3) (fun h as rest hl => cs_S (mi := nX9_caught) (pc := 21) (y := yX9_isWhat) (idx := 216) dX9_caught_21 q1525 q1526 q89 q1527 hyX9_isWhat pnX9_isWhat hl) wdX9_isWhat zX9_isWhat (Nat.le_of_ble_eq_true rfl) (Nat.le_of_ble_eq_true rfl)
theorem eX9_caught_24 : SiZ nX9_caught 24 (i_if (fun x => ¬ x = 0) 30 27) := s_if_ne dX9_caught_24 (by decide)
theorem eX9_caught_27 : SiZ nX9_caught 27 (i_push (.int (-1000001)) 29) := s_ldc dX9_caught_27 q1339
theorem eX9_caught_29 : SiZ nX9_caught 29 i_iret := s_iret dX9_caught_29 rfl
theorem eX9_caught_30 : SiZ nX9_caught 30 (i_aload 0 31) := s_aload_n dX9_caught_30 rfl
theorem eX9_caught_31 : ScZ nX9_caught 31 (c_V 0 34 2 9 (Mt mX9_putAside 2)) := e_V (mi := nX9_caught) (mi' := nX9_putAside) (len := 3) (fun h b as rest hk hl => cs_V (ci := 8) (mi := nX9_caught) (pc := 31) (y := yX9_putAside) (idx := 219) dX9_caught_31 q1528 q1530 qs56 rfl hk hyX9_putAside (sigC q1531) pnX9_putAside hl) wdX9_putAside zX9_putAside (Nat.le_of_ble_eq_true rfl) (Nat.le_of_ble_eq_true rfl)
theorem eX9_caught_34 : SiZ nX9_caught 34 (i_push (.int (-1000000)) 36) := s_ldc dX9_caught_34 q1455
theorem eX9_caught_36 : SiZ nX9_caught 36 (i_istore 4 38) := s_istore dX9_caught_36
theorem eX9_caught_38 : SiZ nX9_caught 38 (i_push (.int 0) 39) := s_iconst dX9_caught_38 (by decide)
theorem eX9_caught_39 : SiZ nX9_caught 39 (i_istore 5 41) := s_istore dX9_caught_39
theorem eX9_caught_41 : SiZ nX9_caught 41 (i_iload 5 43) := s_iload dX9_caught_41
theorem eX9_caught_43 : SiZ nX9_caught 43 (i_push (.int 1) 44) := s_iconst dX9_caught_43 (by decide)
theorem eX9_caught_44 : SiZ nX9_caught 44 (i_aload 0 45) := s_aload_n dX9_caught_44 rfl
theorem eX9_caught_45 : SiZ nX9_caught 45 (i_getf 81 [9] 48) := s_getf dX9_caught_45 (fm_cons (⟨_, _, _, _, _, _, rfl, fkX9_19_9⟩) (fm_nil))
theorem eX9_caught_48 : SiZ nX9_caught 48 (i_push (.int 1) 49) := s_iconst dX9_caught_48 (by decide)
theorem eX9_caught_49 : SiZ nX9_caught 49 (i_iald 51 50) := s_ald (j := 0) (by decide) (fun _ => rfl) dX9_caught_49 (Or.inl ⟨rfl, rfl⟩)
theorem eX9_caught_50 : SiZ nX9_caught 50 (i_bin (fun x y => x <<< (y &&& 31)) 51) := s_ishl dX9_caught_50
theorem eX9_caught_51 : SiZ nX9_caught 51 (i_icmp (fun x y => y ≤ x) 130 54) := s_icmp_ge dX9_caught_51 (by decide)
theorem eX9_caught_54 : SiZ nX9_caught 54 (i_iload 5 56) := s_iload dX9_caught_54
theorem eX9_caught_56 : SiZ nX9_caught 56 (i_aload 0 57) := s_aload_n dX9_caught_56 rfl
theorem eX9_caught_57 : SiZ nX9_caught 57 (i_getf 81 [9] 60) := s_getf dX9_caught_57 (fm_cons (⟨_, _, _, _, _, _, rfl, fkX9_19_9⟩) (fm_nil))
theorem eX9_caught_60 : SiZ nX9_caught 60 (i_push (.int 7) 62) := s_bipush dX9_caught_60 (by decide)
theorem eX9_caught_62 : SiZ nX9_caught 62 (i_iald 51 63) := s_ald (j := 0) (by decide) (fun _ => rfl) dX9_caught_62 (Or.inl ⟨rfl, rfl⟩)
theorem eX9_caught_63 : SiZ nX9_caught 63 (i_bin (fun x y => x &&& y) 64) := s_iand dX9_caught_63
theorem eX9_caught_64 : SiZ nX9_caught 64 (i_if (fun x => ¬ x = 0) 124 67) := s_if_ne dX9_caught_64 (by decide)
theorem eX9_caught_67 : SiZ nX9_caught 67 (i_iload 4 69) := s_iload dX9_caught_67
theorem eX9_caught_69 : SiZ nX9_caught 69 (i_if (fun x => x < 0) 85 72) := s_if_lt dX9_caught_69 (by decide)
theorem eX9_caught_72 : SiZ nX9_caught 72 (i_iload 5 74) := s_iload dX9_caught_72
theorem eX9_caught_74 : ScZ nX9_caught 74 (c_S 1 77 3 (Mt mX9_ones 3)) := e_S (mi := nX9_caught) (mi' := nX9_ones) (len := 3) (fun h as rest hl => cs_S (mi := nX9_caught) (pc := 74) (y := yX9_ones) (idx := 197) dX9_caught_74 q1480 q1481 q89 q1482 hyX9_ones pnX9_ones hl) wdX9_ones zX9_ones (Nat.le_of_ble_eq_true rfl) (Nat.le_of_ble_eq_true rfl)
theorem eX9_caught_77 : SiZ nX9_caught 77 (i_iload 4 79) := s_iload dX9_caught_77
theorem eX9_caught_79 : ScZ nX9_caught 79 (c_S 1 82 3 (Mt mX9_ones 3)) := e_S (mi := nX9_caught) (mi' := nX9_ones) (len := 3) (fun h as rest hl => cs_S (mi := nX9_caught) (pc := 79) (y := yX9_ones) (idx := 197) dX9_caught_79 q1480 q1481 q89 q1482 hyX9_ones pnX9_ones hl) wdX9_ones zX9_ones (Nat.le_of_ble_eq_true rfl) (Nat.le_of_ble_eq_true rfl)
theorem eX9_caught_82 : SiZ nX9_caught 82 (i_icmp (fun x y => y ≤ x) 124 85) := s_icmp_ge dX9_caught_82 (by decide)
theorem eX9_caught_85 : SiZ nX9_caught 85 (i_aload 0 86) := s_aload_n dX9_caught_85 rfl
theorem eX9_caught_86 : SiZ nX9_caught 86 (i_getf 81 [9] 89) := s_getf dX9_caught_86 (fm_cons (⟨_, _, _, _, _, _, rfl, fkX9_19_9⟩) (fm_nil))
theorem eX9_caught_89 : SiZ nX9_caught 89 (i_push (.int 7) 91) := s_bipush dX9_caught_89 (by decide)
theorem eX9_caught_91 : SiZ nX9_caught 91 (i_dup2 92) := s_dup2 dX9_caught_91
theorem eX9_caught_92 : SiZ nX9_caught 92 (i_iald 51 93) := s_ald (j := 0) (by decide) (fun _ => rfl) dX9_caught_92 (Or.inl ⟨rfl, rfl⟩)
theorem eX9_caught_93 : SiZ nX9_caught 93 (i_iload 5 95) := s_iload dX9_caught_93
theorem eX9_caught_95 : SiZ nX9_caught 95 (i_bin (fun x y => x ||| y) 96) := s_ior dX9_caught_95
theorem eX9_caught_96 : SiZ nX9_caught 96 (i_iast 51 (fun x => x) 97) := s_ast (j := 0) (by decide) (fun _ => rfl) dX9_caught_96 (Or.inl ⟨rfl, rfl, rfl⟩)
theorem eX9_caught_97 : SiZ nX9_caught 97 (i_aload 0 98) := s_aload_n dX9_caught_97 rfl
theorem eX9_caught_98 : SiZ nX9_caught 98 (i_iload 1 99) := s_iload_n dX9_caught_98 rfl
theorem eX9_caught_99 : SiZ nX9_caught 99 (i_iload 2 100) := s_iload_n dX9_caught_99 rfl
theorem eX9_caught_100 : ScZ nX9_caught 100 (c_V 2 103 4 9 (Mt mX9_pagesBehind 4)) := e_V (mi := nX9_caught) (mi' := nX9_pagesBehind) (len := 3) (fun h b as rest hk hl => cs_V (ci := 8) (mi := nX9_caught) (pc := 100) (y := yX9_pagesBehind) (idx := 242) dX9_caught_100 q1585 q1587 qs63 rfl hk hyX9_pagesBehind (sigC q1588) pnX9_pagesBehind hl) wdX9_pagesBehind zX9_pagesBehind (Nat.le_of_ble_eq_true rfl) (Nat.le_of_ble_eq_true rfl)
theorem eX9_caught_103 : SiZ nX9_caught 103 (i_aload 0 104) := s_aload_n dX9_caught_103 rfl
theorem eX9_caught_104 : SiZ nX9_caught 104 (i_getf 109 [9] 107) := s_getf dX9_caught_104 (fm_cons (⟨_, _, _, _, _, _, rfl, fkX9_37_9⟩) (fm_nil))
theorem eX9_caught_107 : SiZ nX9_caught 107 (i_push (.int 8) 109) := s_bipush dX9_caught_107 (by decide)
theorem eX9_caught_109 : SiZ nX9_caught 109 (i_iload 1 110) := s_iload_n dX9_caught_109 rfl
theorem eX9_caught_110 : SiZ nX9_caught 110 (i_bin (fun x y => x + y) 111) := s_iadd dX9_caught_110
theorem eX9_caught_111 : SiZ nX9_caught 111 (i_iald 51 112) := s_ald (j := 0) (by decide) (fun _ => rfl) dX9_caught_111 (Or.inl ⟨rfl, rfl⟩)
theorem eX9_caught_112 : SiZ nX9_caught 112 (i_icmp (fun x y => ¬ x = y) 120 115) := s_icmp_ne dX9_caught_112 (by decide)
theorem eX9_caught_115 : SiZ nX9_caught 115 (i_iload 5 117) := s_iload dX9_caught_115
theorem eX9_caught_117 : SiZ nX9_caught 117 (i_goto 122) := s_goto dX9_caught_117 (by decide)
theorem eX9_caught_120 : SiZ nX9_caught 120 (i_iload 4 122) := s_iload dX9_caught_120
theorem eX9_caught_122 : SiZ nX9_caught 122 (i_istore 4 124) := s_istore dX9_caught_122
theorem eX9_caught_124 : SiZ nX9_caught 124 (i_iinc 5 1 127) := s_iinc dX9_caught_124 (by decide)
theorem eX9_caught_127 : SiZ nX9_caught 127 (i_goto 41) := s_goto dX9_caught_127 (by decide)
theorem eX9_caught_130 : SiZ nX9_caught 130 (i_iload 3 131) := s_iload_n dX9_caught_130 rfl
theorem eX9_caught_131 : SiZ nX9_caught 131 (i_if (fun x => ¬ x = 0) 142 134) := s_if_ne dX9_caught_131 (by decide)
theorem eX9_caught_134 : SiZ nX9_caught 134 (i_iload 4 136) := s_iload dX9_caught_134
theorem eX9_caught_136 : ScZ nX9_caught 136 (c_S 1 139 3 (Mt mX9_ones 3)) := e_S (mi := nX9_caught) (mi' := nX9_ones) (len := 3) (fun h as rest hl => cs_S (mi := nX9_caught) (pc := 136) (y := yX9_ones) (idx := 197) dX9_caught_136 q1480 q1481 q89 q1482 hyX9_ones pnX9_ones hl) wdX9_ones zX9_ones (Nat.le_of_ble_eq_true rfl) (Nat.le_of_ble_eq_true rfl)
theorem eX9_caught_139 : SiZ nX9_caught 139 (i_goto 144) := s_goto dX9_caught_139 (by decide)
theorem eX9_caught_142 : SiZ nX9_caught 142 (i_iload 4 144) := s_iload dX9_caught_142
theorem eX9_caught_144 : SiZ nX9_caught 144 i_iret := s_iret dX9_caught_144 rfl
theorem aX9_caught : ∀ x ∈ mX9_caught.1, EnZ nX9_caught x := fm_cons eX9_caught_0 (fm_cons eX9_caught_1 (fm_cons eX9_caught_2 (fm_cons eX9_caught_5 (fm_cons eX9_caught_8 (fm_cons eX9_caught_9 (fm_cons eX9_caught_10 (fm_cons eX9_caught_11 (fm_cons eX9_caught_14 (fm_cons eX9_caught_17 (fm_cons eX9_caught_20 (fm_cons eX9_caught_21 (fm_cons eX9_caught_24 (fm_cons eX9_caught_27 (fm_cons eX9_caught_29 (fm_cons eX9_caught_30 (fm_cons eX9_caught_31 (fm_cons eX9_caught_34 (fm_cons eX9_caught_36 (fm_cons eX9_caught_38 (fm_cons eX9_caught_39 (fm_cons eX9_caught_41 (fm_cons eX9_caught_43 (fm_cons eX9_caught_44 (fm_cons eX9_caught_45 (fm_cons eX9_caught_48 (fm_cons eX9_caught_49 (fm_cons eX9_caught_50 (fm_cons eX9_caught_51 (fm_cons eX9_caught_54 (fm_cons eX9_caught_56 (fm_cons eX9_caught_57 (fm_cons eX9_caught_60 (fm_cons eX9_caught_62 (fm_cons eX9_caught_63 (fm_cons eX9_caught_64 (fm_cons eX9_caught_67 (fm_cons eX9_caught_69 (fm_cons eX9_caught_72 (fm_cons eX9_caught_74 (fm_cons eX9_caught_77 (fm_cons eX9_caught_79 (fm_cons eX9_caught_82 (fm_cons eX9_caught_85 (fm_cons eX9_caught_86 (fm_cons eX9_caught_89 (fm_cons eX9_caught_91 (fm_cons eX9_caught_92 (fm_cons eX9_caught_93 (fm_cons eX9_caught_95 (fm_cons eX9_caught_96 (fm_cons eX9_caught_97 (fm_cons eX9_caught_98 (fm_cons eX9_caught_99 (fm_cons eX9_caught_100 (fm_cons eX9_caught_103 (fm_cons eX9_caught_104 (fm_cons eX9_caught_107 (fm_cons eX9_caught_109 (fm_cons eX9_caught_110 (fm_cons eX9_caught_111 (fm_cons eX9_caught_112 (fm_cons eX9_caught_115 (fm_cons eX9_caught_117 (fm_cons eX9_caught_120 (fm_cons eX9_caught_122 (fm_cons eX9_caught_124 (fm_cons eX9_caught_127 (fm_cons eX9_caught_130 (fm_cons eX9_caught_131 (fm_cons eX9_caught_134 (fm_cons eX9_caught_136 (fm_cons eX9_caught_139 (fm_cons eX9_caught_142 (fm_cons eX9_caught_144 (fm_nil)))))))))))))))))))))))))))))))))))))))))))))))))))))))))))))))))))))))))))
theorem zX9_caught : SwZ nX9_caught (Mt mX9_caught 6) := wholeZ (mi := nX9_caught) (cd := mX9_caught) aX9_caught rfl (HdZ.none rfl)
abbrev nX9_dustOf : MI := (cX9_dustOf, 2, (some (.int)), RX9, "dustOf", [], 2, 50)
theorem hyX9_dustOf : yX9_dustOf.cls ≠ "java/lang/invoke/MethodHandle" ∧ yX9_dustOf.cls ≠ "java/lang/invoke/VarHandle" := by decide +kernel
theorem pnX9_dustOf : (parseMethodDescriptor yX9_dustOf.desc).map (fun d => d.parameters.length) = some 1 := by decide +kernel
theorem wdX9_dustOf : CdW yX9_dustOf (nX9_dustOf) := ⟨Or.inl ⟨q1601, rfl⟩, rfl, rfl, plainFor_of_name (by decide +kernel)⟩
theorem eX9_dustOf_0 : SiZ nX9_dustOf 0 (i_aload 0 1) := s_aload_n dX9_dustOf_0 rfl
theorem eX9_dustOf_1 : SiZ nX9_dustOf 1 (i_iload 1 2) := s_iload_n dX9_dustOf_1 rfl
theorem eX9_dustOf_2 : ScZ nX9_dustOf 2 (c_V 1 5 2 9 (Mt mX9_isCaught 2)) := e_V (mi := nX9_dustOf) (mi' := nX9_isCaught) (len := 3) (fun h b as rest hk hl => cs_V (ci := 8) (mi := nX9_dustOf) (pc := 2) (y := yX9_isCaught) (idx := 171) dX9_dustOf_2 q1436 q1438 qs45 rfl hk hyX9_isCaught (sigC q1439) pnX9_isCaught hl) wdX9_isCaught zX9_isCaught (Nat.le_of_ble_eq_true rfl) (Nat.le_of_ble_eq_true rfl)
theorem eX9_dustOf_5 : SiZ nX9_dustOf 5 (i_if (fun x => x = 0) 12 8) := s_if_eq dX9_dustOf_5 (by decide)
theorem eX9_dustOf_8 : SiZ nX9_dustOf 8 (i_push (.int 0) 9) := s_iconst dX9_dustOf_8 (by decide)
theorem eX9_dustOf_9 : SiZ nX9_dustOf 9 (i_goto 21) := s_goto dX9_dustOf_9 (by decide)
theorem eX9_dustOf_12 : SiZ nX9_dustOf 12 (i_aload 0 13) := s_aload_n dX9_dustOf_12 rfl
theorem eX9_dustOf_13 : SiZ nX9_dustOf 13 (i_getf 81 [9] 16) := s_getf dX9_dustOf_13 (fm_cons (⟨_, _, _, _, _, _, rfl, fkX9_19_9⟩) (fm_nil))
theorem eX9_dustOf_16 : SiZ nX9_dustOf 16 (i_push (.int 36) 18) := s_bipush dX9_dustOf_16 (by decide)
theorem eX9_dustOf_18 : SiZ nX9_dustOf 18 (i_iload 1 19) := s_iload_n dX9_dustOf_18 rfl
theorem eX9_dustOf_19 : SiZ nX9_dustOf 19 (i_bin (fun x y => x + y) 20) := s_iadd dX9_dustOf_19
theorem eX9_dustOf_20 : SiZ nX9_dustOf 20 (i_iald 51 21) := s_ald (j := 0) (by decide) (fun _ => rfl) dX9_dustOf_20 (Or.inl ⟨rfl, rfl⟩)
theorem eX9_dustOf_21 : SiZ nX9_dustOf 21 i_iret := s_iret dX9_dustOf_21 rfl
theorem aX9_dustOf : ∀ x ∈ mX9_dustOf.1, EnZ nX9_dustOf x := fm_cons eX9_dustOf_0 (fm_cons eX9_dustOf_1 (fm_cons eX9_dustOf_2 (fm_cons eX9_dustOf_5 (fm_cons eX9_dustOf_8 (fm_cons eX9_dustOf_9 (fm_cons eX9_dustOf_12 (fm_cons eX9_dustOf_13 (fm_cons eX9_dustOf_16 (fm_cons eX9_dustOf_18 (fm_cons eX9_dustOf_19 (fm_cons eX9_dustOf_20 (fm_cons eX9_dustOf_21 (fm_nil)))))))))))))
theorem zX9_dustOf : SwZ nX9_dustOf (Mt mX9_dustOf 2) := wholeZ (mi := nX9_dustOf) (cd := mX9_dustOf) aX9_dustOf rfl (HdZ.none rfl)
abbrev nX9_grams : MI := (cX9_grams, 7, (some (.int)), RX9, "grams", [], 3, 75)
theorem hyX9_grams : yX9_grams.cls ≠ "java/lang/invoke/MethodHandle" ∧ yX9_grams.cls ≠ "java/lang/invoke/VarHandle" := by decide +kernel
theorem pnX9_grams : (parseMethodDescriptor yX9_grams.desc).map (fun d => d.parameters.length) = some 2 := by decide +kernel
theorem wdX9_grams : CdW yX9_grams (nX9_grams) := ⟨Or.inl ⟨q1596, rfl⟩, rfl, rfl, plainFor_of_name (by decide +kernel)⟩
theorem eX9_grams_0 : SiZ nX9_grams 0 (i_aload 0 1) := s_aload_n dX9_grams_0 rfl
theorem eX9_grams_1 : SiZ nX9_grams 1 (i_iload 1 2) := s_iload_n dX9_grams_1 rfl
theorem eX9_grams_2 : ScZ nX9_grams 2 (c_V 1 5 2 9 (Mt mX9_isFish 2)) := e_V (mi := nX9_grams) (mi' := nX9_isFish) (len := 3) (fun h b as rest hk hl => cs_V (ci := 8) (mi := nX9_grams) (pc := 2) (y := yX9_isFish) (idx := 200) dX9_grams_2 q1495 q1497 qs54 rfl hk hyX9_isFish (sigC q1498) pnX9_isFish hl) wdX9_isFish zX9_isFish (Nat.le_of_ble_eq_true rfl) (Nat.le_of_ble_eq_true rfl)
theorem eX9_grams_5 : SiZ nX9_grams 5 (i_if (fun x => x = 0) 20 8) := s_if_eq dX9_grams_5 (by decide)
theorem eX9_grams_8 : SiZ nX9_grams 8 (i_iload 2 9) := s_iload_n dX9_grams_8 rfl
theorem eX9_grams_9 : SiZ nX9_grams 9 (i_i2l 10) := s_i2l dX9_grams_9
theorem eX9_grams_10 : SiZ nX9_grams 10 (i_push (.long 0) 11) := s_lconst dX9_grams_10 (by decide)
theorem eX9_grams_11 : SiZ nX9_grams 11 (i_push (.long 999) 14) := s_ldc2 dX9_grams_11 q1597
theorem eX9_grams_14 : ScZ nX9_grams 14 (c_S 3 17 6 (Mt mX9_in 6)) := e_S (mi := nX9_grams) (mi' := nX9_in) (len := 3) (fun h as rest hl => cs_S (mi := nX9_grams) (pc := 14) (y := yX9_in) (idx := 63) dX9_grams_14 q1335 q1336 q89 q1337 hyX9_in pnX9_in hl) wdX9_in zX9_in (Nat.le_of_ble_eq_true rfl) (Nat.le_of_ble_eq_true rfl)
theorem eX9_grams_17 : SiZ nX9_grams 17 (i_if (fun x => ¬ x = 0) 23 20) := s_if_ne dX9_grams_17 (by decide)
theorem eX9_grams_20 : SiZ nX9_grams 20 (i_push (.int (-1000001)) 22) := s_ldc dX9_grams_20 q1339
theorem eX9_grams_22 : SiZ nX9_grams 22 i_iret := s_iret dX9_grams_22 rfl
theorem eX9_grams_23 : SiZ nX9_grams 23 (i_push (.int 0) 24) := s_iconst dX9_grams_23 (by decide)
theorem eX9_grams_24 : SiZ nX9_grams 24 (i_istore 3 25) := s_istore_n dX9_grams_24 rfl
theorem eX9_grams_25 : SiZ nX9_grams 25 (i_push (.int 0) 26) := s_iconst dX9_grams_25 (by decide)
theorem eX9_grams_26 : SiZ nX9_grams 26 (i_istore 4 28) := s_istore dX9_grams_26
theorem eX9_grams_28 : SiZ nX9_grams 28 (i_iload 4 30) := s_iload dX9_grams_28
theorem eX9_grams_30 : SiZ nX9_grams 30 (i_aload 0 31) := s_aload_n dX9_grams_30 rfl
theorem eX9_grams_31 : SiZ nX9_grams 31 (i_getf 81 [9] 34) := s_getf dX9_grams_31 (fm_cons (⟨_, _, _, _, _, _, rfl, fkX9_19_9⟩) (fm_nil))
theorem eX9_grams_34 : SiZ nX9_grams 34 (i_push (.int 1) 35) := s_iconst dX9_grams_34 (by decide)
theorem eX9_grams_35 : SiZ nX9_grams 35 (i_iald 51 36) := s_ald (j := 0) (by decide) (fun _ => rfl) dX9_grams_35 (Or.inl ⟨rfl, rfl⟩)
theorem eX9_grams_36 : SiZ nX9_grams 36 (i_icmp (fun x y => y ≤ x) 54 39) := s_icmp_ge dX9_grams_36 (by decide)
theorem eX9_grams_39 : SiZ nX9_grams 39 (i_iload 3 40) := s_iload_n dX9_grams_39 rfl
theorem eX9_grams_40 : SiZ nX9_grams 40 (i_aload 0 41) := s_aload_n dX9_grams_40 rfl
theorem eX9_grams_41 : SiZ nX9_grams 41 (i_iload 4 43) := s_iload dX9_grams_41
theorem eX9_grams_43 : ScZ nX9_grams 43 (c_V 1 46 2 9 (Mt mX9_dustOf 2)) := e_V (mi := nX9_grams) (mi' := nX9_dustOf) (len := 3) (fun h b as rest hk hl => cs_V (ci := 8) (mi := nX9_grams) (pc := 43) (y := yX9_dustOf) (idx := 247) dX9_grams_43 q1598 q1600 qs64 rfl hk hyX9_dustOf (sigC q1601) pnX9_dustOf hl) wdX9_dustOf zX9_dustOf (Nat.le_of_ble_eq_true rfl) (Nat.le_of_ble_eq_true rfl)
theorem eX9_grams_46 : SiZ nX9_grams 46 (i_bin (fun x y => x + y) 47) := s_iadd dX9_grams_46
theorem eX9_grams_47 : SiZ nX9_grams 47 (i_istore 3 48) := s_istore_n dX9_grams_47 rfl
theorem eX9_grams_48 : SiZ nX9_grams 48 (i_iinc 4 1 51) := s_iinc dX9_grams_48 (by decide)
theorem eX9_grams_51 : SiZ nX9_grams 51 (i_goto 28) := s_goto dX9_grams_51 (by decide)
theorem eX9_grams_54 : SiZ nX9_grams 54 (i_iload 3 55) := s_iload_n dX9_grams_54 rfl
theorem eX9_grams_55 : SiZ nX9_grams 55 (i_if (fun x => ¬ x = 0) 60 58) := s_if_ne dX9_grams_55 (by decide)
theorem eX9_grams_58 : SiZ nX9_grams 58 (i_push (.int 0) 59) := s_iconst dX9_grams_58 (by decide)
theorem eX9_grams_59 : SiZ nX9_grams 59 i_iret := s_iret dX9_grams_59 rfl
theorem eX9_grams_60 : SiZ nX9_grams 60 (i_iload 2 61) := s_iload_n dX9_grams_60 rfl
theorem eX9_grams_61 : SiZ nX9_grams 61 (i_istore 4 63) := s_istore dX9_grams_61
theorem eX9_grams_63 : SiZ nX9_grams 63 (i_push (.int 0) 64) := s_iconst dX9_grams_63 (by decide)
theorem eX9_grams_64 : SiZ nX9_grams 64 (i_istore 5 66) := s_istore dX9_grams_64
theorem eX9_grams_66 : SiZ nX9_grams 66 (i_iload 5 68) := s_iload dX9_grams_66
theorem eX9_grams_68 : SiZ nX9_grams 68 (i_aload 0 69) := s_aload_n dX9_grams_68 rfl
theorem eX9_grams_69 : SiZ nX9_grams 69 (i_getf 81 [9] 72) := s_getf dX9_grams_69 (fm_cons (⟨_, _, _, _, _, _, rfl, fkX9_19_9⟩) (fm_nil))
theorem eX9_grams_72 : SiZ nX9_grams 72 (i_push (.int 1) 73) := s_iconst dX9_grams_72 (by decide)
theorem eX9_grams_73 : SiZ nX9_grams 73 (i_iald 51 74) := s_ald (j := 0) (by decide) (fun _ => rfl) dX9_grams_73 (Or.inl ⟨rfl, rfl⟩)
theorem eX9_grams_74 : SiZ nX9_grams 74 (i_icmp (fun x y => y ≤ x) 98 77) := s_icmp_ge dX9_grams_74 (by decide)
theorem eX9_grams_77 : SiZ nX9_grams 77 (i_iload 4 79) := s_iload dX9_grams_77
theorem eX9_grams_79 : SiZ nX9_grams 79 (i_iload 2 80) := s_iload_n dX9_grams_79 rfl
theorem eX9_grams_80 : SiZ nX9_grams 80 (i_aload 0 81) := s_aload_n dX9_grams_80 rfl
theorem eX9_grams_81 : SiZ nX9_grams 81 (i_iload 5 83) := s_iload dX9_grams_81
theorem eX9_grams_83 : ScZ nX9_grams 83 (c_V 1 86 2 9 (Mt mX9_dustOf 2)) := e_V (mi := nX9_grams) (mi' := nX9_dustOf) (len := 3) (fun h b as rest hk hl => cs_V (ci := 8) (mi := nX9_grams) (pc := 83) (y := yX9_dustOf) (idx := 247) dX9_grams_83 q1598 q1600 qs64 rfl hk hyX9_dustOf (sigC q1601) pnX9_dustOf hl) wdX9_dustOf zX9_dustOf (Nat.le_of_ble_eq_true rfl) (Nat.le_of_ble_eq_true rfl)
theorem eX9_grams_86 : SiZ nX9_grams 86 (i_bin (fun x y => x * y) 87) := s_imul dX9_grams_86
theorem eX9_grams_87 : SiZ nX9_grams 87 (i_iload 3 88) := s_iload_n dX9_grams_87 rfl
theorem eX9_grams_88 : SiZ nX9_grams 88 (i_bing (fun x y => x / y) 89) := s_idiv dX9_grams_88
theorem eX9_grams_89 : SiZ nX9_grams 89 (i_bin (fun x y => x - y) 90) := s_isub dX9_grams_89
theorem eX9_grams_90 : SiZ nX9_grams 90 (i_istore 4 92) := s_istore dX9_grams_90
theorem eX9_grams_92 : SiZ nX9_grams 92 (i_iinc 5 1 95) := s_iinc dX9_grams_92 (by decide)
theorem eX9_grams_95 : SiZ nX9_grams 95 (i_goto 66) := s_goto dX9_grams_95 (by decide)
theorem eX9_grams_98 : SiZ nX9_grams 98 (i_push (.int 0) 99) := s_iconst dX9_grams_98 (by decide)
theorem eX9_grams_99 : SiZ nX9_grams 99 (i_istore 5 101) := s_istore dX9_grams_99
theorem eX9_grams_101 : SiZ nX9_grams 101 (i_push (.int 0) 102) := s_iconst dX9_grams_101 (by decide)
theorem eX9_grams_102 : SiZ nX9_grams 102 (i_istore 6 104) := s_istore dX9_grams_102
theorem eX9_grams_104 : SiZ nX9_grams 104 (i_iload 6 106) := s_iload dX9_grams_104
theorem eX9_grams_106 : SiZ nX9_grams 106 (i_iload 1 107) := s_iload_n dX9_grams_106 rfl
theorem eX9_grams_107 : SiZ nX9_grams 107 (i_icmp (fun x y => y ≤ x) 135 110) := s_icmp_ge dX9_grams_107 (by decide)
theorem eX9_grams_110 : SiZ nX9_grams 110 (i_iload 5 112) := s_iload dX9_grams_110
theorem eX9_grams_112 : SiZ nX9_grams 112 (i_aload 0 113) := s_aload_n dX9_grams_112 rfl
theorem eX9_grams_113 : SiZ nX9_grams 113 (i_iload 6 115) := s_iload dX9_grams_113
theorem eX9_grams_115 : ScZ nX9_grams 115 (c_V 1 118 2 9 (Mt mX9_dustOf 2)) := e_V (mi := nX9_grams) (mi' := nX9_dustOf) (len := 3) (fun h b as rest hk hl => cs_V (ci := 8) (mi := nX9_grams) (pc := 115) (y := yX9_dustOf) (idx := 247) dX9_grams_115 q1598 q1600 qs64 rfl hk hyX9_dustOf (sigC q1601) pnX9_dustOf hl) wdX9_dustOf zX9_dustOf (Nat.le_of_ble_eq_true rfl) (Nat.le_of_ble_eq_true rfl)
theorem eX9_grams_118 : SiZ nX9_grams 118 (i_if (fun x => x ≤ 0) 125 121) := s_if_le dX9_grams_118 (by decide)
theorem eX9_grams_121 : SiZ nX9_grams 121 (i_push (.int 1) 122) := s_iconst dX9_grams_121 (by decide)
theorem eX9_grams_122 : SiZ nX9_grams 122 (i_goto 126) := s_goto dX9_grams_122 (by decide)
theorem eX9_grams_125 : SiZ nX9_grams 125 (i_push (.int 0) 126) := s_iconst dX9_grams_125 (by decide)
theorem eX9_grams_126 : SiZ nX9_grams 126 (i_bin (fun x y => x + y) 127) := s_iadd dX9_grams_126
theorem eX9_grams_127 : SiZ nX9_grams 127 (i_istore 5 129) := s_istore dX9_grams_127
theorem eX9_grams_129 : SiZ nX9_grams 129 (i_iinc 6 1 132) := s_iinc dX9_grams_129 (by decide)
theorem eX9_grams_132 : SiZ nX9_grams 132 (i_goto 104) := s_goto dX9_grams_132 (by decide)
theorem eX9_grams_135 : SiZ nX9_grams 135 (i_iload 2 136) := s_iload_n dX9_grams_135 rfl
theorem eX9_grams_136 : SiZ nX9_grams 136 (i_aload 0 137) := s_aload_n dX9_grams_136 rfl
theorem eX9_grams_137 : SiZ nX9_grams 137 (i_iload 1 138) := s_iload_n dX9_grams_137 rfl
theorem eX9_grams_138 : ScZ nX9_grams 138 (c_V 1 141 2 9 (Mt mX9_dustOf 2)) := e_V (mi := nX9_grams) (mi' := nX9_dustOf) (len := 3) (fun h b as rest hk hl => cs_V (ci := 8) (mi := nX9_grams) (pc := 138) (y := yX9_dustOf) (idx := 247) dX9_grams_138 q1598 q1600 qs64 rfl hk hyX9_dustOf (sigC q1601) pnX9_dustOf hl) wdX9_dustOf zX9_dustOf (Nat.le_of_ble_eq_true rfl) (Nat.le_of_ble_eq_true rfl)
theorem eX9_grams_141 : SiZ nX9_grams 141 (i_bin (fun x y => x * y) 142) := s_imul dX9_grams_141
theorem eX9_grams_142 : SiZ nX9_grams 142 (i_iload 3 143) := s_iload_n dX9_grams_142 rfl
theorem eX9_grams_143 : SiZ nX9_grams 143 (i_bing (fun x y => x / y) 144) := s_idiv dX9_grams_143
theorem eX9_grams_144 : SiZ nX9_grams 144 (i_aload 0 145) := s_aload_n dX9_grams_144 rfl
theorem eX9_grams_145 : SiZ nX9_grams 145 (i_iload 1 146) := s_iload_n dX9_grams_145 rfl
theorem eX9_grams_146 : ScZ nX9_grams 146 (c_V 1 149 2 9 (Mt mX9_dustOf 2)) := e_V (mi := nX9_grams) (mi' := nX9_dustOf) (len := 3) (fun h b as rest hk hl => cs_V (ci := 8) (mi := nX9_grams) (pc := 146) (y := yX9_dustOf) (idx := 247) dX9_grams_146 q1598 q1600 qs64 rfl hk hyX9_dustOf (sigC q1601) pnX9_dustOf hl) wdX9_dustOf zX9_dustOf (Nat.le_of_ble_eq_true rfl) (Nat.le_of_ble_eq_true rfl)
theorem eX9_grams_149 : SiZ nX9_grams 149 (i_if (fun x => x ≤ 0) 163 152) := s_if_le dX9_grams_149 (by decide)
theorem eX9_grams_152 : SiZ nX9_grams 152 (i_iload 5 154) := s_iload dX9_grams_152
theorem eX9_grams_154 : SiZ nX9_grams 154 (i_iload 4 156) := s_iload dX9_grams_154
theorem eX9_grams_156 : SiZ nX9_grams 156 (i_icmp (fun x y => y ≤ x) 163 159) := s_icmp_ge dX9_grams_156 (by decide)
theorem eX9_grams_159 : SiZ nX9_grams 159 (i_push (.int 1) 160) := s_iconst dX9_grams_159 (by decide)
theorem eX9_grams_160 : SiZ nX9_grams 160 (i_goto 164) := s_goto dX9_grams_160 (by decide)
theorem eX9_grams_163 : SiZ nX9_grams 163 (i_push (.int 0) 164) := s_iconst dX9_grams_163 (by decide)
theorem eX9_grams_164 : SiZ nX9_grams 164 (i_bin (fun x y => x + y) 165) := s_iadd dX9_grams_164
theorem eX9_grams_165 : SiZ nX9_grams 165 i_iret := s_iret dX9_grams_165 rfl
theorem aX9_grams : ∀ x ∈ mX9_grams.1, EnZ nX9_grams x := fm_cons eX9_grams_0 (fm_cons eX9_grams_1 (fm_cons eX9_grams_2 (fm_cons eX9_grams_5 (fm_cons eX9_grams_8 (fm_cons eX9_grams_9 (fm_cons eX9_grams_10 (fm_cons eX9_grams_11 (fm_cons eX9_grams_14 (fm_cons eX9_grams_17 (fm_cons eX9_grams_20 (fm_cons eX9_grams_22 (fm_cons eX9_grams_23 (fm_cons eX9_grams_24 (fm_cons eX9_grams_25 (fm_cons eX9_grams_26 (fm_cons eX9_grams_28 (fm_cons eX9_grams_30 (fm_cons eX9_grams_31 (fm_cons eX9_grams_34 (fm_cons eX9_grams_35 (fm_cons eX9_grams_36 (fm_cons eX9_grams_39 (fm_cons eX9_grams_40 (fm_cons eX9_grams_41 (fm_cons eX9_grams_43 (fm_cons eX9_grams_46 (fm_cons eX9_grams_47 (fm_cons eX9_grams_48 (fm_cons eX9_grams_51 (fm_cons eX9_grams_54 (fm_cons eX9_grams_55 (fm_cons eX9_grams_58 (fm_cons eX9_grams_59 (fm_cons eX9_grams_60 (fm_cons eX9_grams_61 (fm_cons eX9_grams_63 (fm_cons eX9_grams_64 (fm_cons eX9_grams_66 (fm_cons eX9_grams_68 (fm_cons eX9_grams_69 (fm_cons eX9_grams_72 (fm_cons eX9_grams_73 (fm_cons eX9_grams_74 (fm_cons eX9_grams_77 (fm_cons eX9_grams_79 (fm_cons eX9_grams_80 (fm_cons eX9_grams_81 (fm_cons eX9_grams_83 (fm_cons eX9_grams_86 (fm_cons eX9_grams_87 (fm_cons eX9_grams_88 (fm_cons eX9_grams_89 (fm_cons eX9_grams_90 (fm_cons eX9_grams_92 (fm_cons eX9_grams_95 (fm_cons eX9_grams_98 (fm_cons eX9_grams_99 (fm_cons eX9_grams_101 (fm_cons eX9_grams_102 (fm_cons eX9_grams_104 (fm_cons eX9_grams_106 (fm_cons eX9_grams_107 (fm_cons eX9_grams_110 (fm_cons eX9_grams_112 (fm_cons eX9_grams_113 (fm_cons eX9_grams_115 (fm_cons eX9_grams_118 (fm_cons eX9_grams_121 (fm_cons eX9_grams_122 (fm_cons eX9_grams_125 (fm_cons eX9_grams_126 (fm_cons eX9_grams_127 (fm_cons eX9_grams_129 (fm_cons eX9_grams_132 (fm_cons eX9_grams_135 (fm_cons eX9_grams_136 (fm_cons eX9_grams_137 (fm_cons eX9_grams_138 (fm_cons eX9_grams_141 (fm_cons eX9_grams_142 (fm_cons eX9_grams_143 (fm_cons eX9_grams_144 (fm_cons eX9_grams_145 (fm_cons eX9_grams_146 (fm_cons eX9_grams_149 (fm_cons eX9_grams_152 (fm_cons eX9_grams_154 (fm_cons eX9_grams_156 (fm_cons eX9_grams_159 (fm_cons eX9_grams_160 (fm_cons eX9_grams_163 (fm_cons eX9_grams_164 (fm_cons eX9_grams_165 (fm_nil))))))))))))))))))))))))))))))))))))))))))))))))))))))))))))))))))))))))))))))))))))))))))))))
theorem zX9_grams : SwZ nX9_grams (Mt mX9_grams 7) := wholeZ (mi := nX9_grams) (cd := mX9_grams) aX9_grams rfl (HdZ.none rfl)
abbrev nX9_lacks : MI := (cX9_lacks, 4, (some (.int)), RX9, "lacks", [], 1, 29)
theorem hyX9_lacks : yX9_lacks.cls ≠ "java/lang/invoke/MethodHandle" ∧ yX9_lacks.cls ≠ "java/lang/invoke/VarHandle" := by decide +kernel
theorem pnX9_lacks : (parseMethodDescriptor yX9_lacks.desc).map (fun d => d.parameters.length) = some 3 := by decide +kernel
theorem wdX9_lacks : CdW yX9_lacks (nX9_lacks) := ⟨Or.inl ⟨q1609, rfl⟩, rfl, rfl, plainFor_of_name (by decide +kernel)⟩
theorem eX9_lacks_0 : SiZ nX9_lacks 0 (i_aload 0 1) := s_aload_n dX9_lacks_0 rfl
theorem eX9_lacks_1 : SiZ nX9_lacks 1 (i_getf 73 [9] 4) := s_getf dX9_lacks_1 (fm_cons (⟨_, _, _, _, _, _, rfl, fkX9_13_9⟩) (fm_nil))
theorem eX9_lacks_4 : SiZ nX9_lacks 4 (i_iload 1 5) := s_iload_n dX9_lacks_4 rfl
theorem eX9_lacks_5 : SiZ nX9_lacks 5 (i_iald 51 6) := s_ald (j := 0) (by decide) (fun _ => rfl) dX9_lacks_5 (Or.inl ⟨rfl, rfl⟩)
theorem eX9_lacks_6 : SiZ nX9_lacks 6 (i_if (fun x => 0 ≤ x) 15 9) := s_if_ge dX9_lacks_6 (by decide)
theorem eX9_lacks_9 : SiZ nX9_lacks 9 (i_aload 0 10) := s_aload_n dX9_lacks_9 rfl
theorem eX9_lacks_10 : SiZ nX9_lacks 10 (i_push (.int 1) 11) := s_iconst dX9_lacks_10 (by decide)
theorem eX9_lacks_11 : ScZ nX9_lacks 11 (c_V 1 14 2 9 (Mt mX9_find 2)) := e_V (mi := nX9_lacks) (mi' := nX9_find) (len := 3) (fun h b as rest hk hl => cs_V (ci := 8) (mi := nX9_lacks) (pc := 11) (y := yX9_find) (idx := 74) dX9_lacks_11 q1340 q1342 qs33 rfl hk hyX9_find (sigC q1343) pnX9_find hl) wdX9_find zX9_find (Nat.le_of_ble_eq_true rfl) (Nat.le_of_ble_eq_true rfl)
theorem eX9_lacks_14 : SiZ nX9_lacks 14 i_iret := s_iret dX9_lacks_14 rfl
theorem eX9_lacks_15 : SiZ nX9_lacks 15 (i_iload 2 16) := s_iload_n dX9_lacks_15 rfl
theorem eX9_lacks_16 : SiZ nX9_lacks 16 (i_i2l 17) := s_i2l dX9_lacks_16
theorem eX9_lacks_17 : SiZ nX9_lacks 17 (i_push (.long 0) 18) := s_lconst dX9_lacks_17 (by decide)
theorem eX9_lacks_18 : SiZ nX9_lacks 18 (i_aload 0 19) := s_aload_n dX9_lacks_18 rfl
theorem eX9_lacks_19 : SiZ nX9_lacks 19 (i_getf 73 [9] 22) := s_getf dX9_lacks_19 (fm_cons (⟨_, _, _, _, _, _, rfl, fkX9_13_9⟩) (fm_nil))
theorem eX9_lacks_22 : SiZ nX9_lacks 22 (i_iload 1 23) := s_iload_n dX9_lacks_22 rfl
theorem eX9_lacks_23 : SiZ nX9_lacks 23 (i_iald 51 24) := s_ald (j := 0) (by decide) (fun _ => rfl) dX9_lacks_23 (Or.inl ⟨rfl, rfl⟩)
theorem eX9_lacks_24 : SiZ nX9_lacks 24 (i_iload 3 25) := s_iload_n dX9_lacks_24 rfl
theorem eX9_lacks_25 : SiZ nX9_lacks 25 (i_bin (fun x y => x - y) 26) := s_isub dX9_lacks_25
theorem eX9_lacks_26 : SiZ nX9_lacks 26 (i_i2l 27) := s_i2l dX9_lacks_26
theorem eX9_lacks_27 : ScZ nX9_lacks 27 (c_S 3 30 6 (Mt mX9_in 6)) := e_S (mi := nX9_lacks) (mi' := nX9_in) (len := 3) (fun h as rest hl => cs_S (mi := nX9_lacks) (pc := 27) (y := yX9_in) (idx := 63) dX9_lacks_27 q1335 q1336 q89 q1337 hyX9_in pnX9_in hl) wdX9_in zX9_in (Nat.le_of_ble_eq_true rfl) (Nat.le_of_ble_eq_true rfl)
theorem eX9_lacks_30 : SiZ nX9_lacks 30 (i_if (fun x => x = 0) 37 33) := s_if_eq dX9_lacks_30 (by decide)
theorem eX9_lacks_33 : SiZ nX9_lacks 33 (i_push (.int 0) 34) := s_iconst dX9_lacks_33 (by decide)
theorem eX9_lacks_34 : SiZ nX9_lacks 34 (i_goto 42) := s_goto dX9_lacks_34 (by decide)
theorem eX9_lacks_37 : SiZ nX9_lacks 37 (i_aload 0 38) := s_aload_n dX9_lacks_37 rfl
theorem eX9_lacks_38 : SiZ nX9_lacks 38 (i_push (.int 2) 39) := s_iconst dX9_lacks_38 (by decide)
theorem eX9_lacks_39 : ScZ nX9_lacks 39 (c_V 1 42 2 9 (Mt mX9_find 2)) := e_V (mi := nX9_lacks) (mi' := nX9_find) (len := 3) (fun h b as rest hk hl => cs_V (ci := 8) (mi := nX9_lacks) (pc := 39) (y := yX9_find) (idx := 74) dX9_lacks_39 q1340 q1342 qs33 rfl hk hyX9_find (sigC q1343) pnX9_find hl) wdX9_find zX9_find (Nat.le_of_ble_eq_true rfl) (Nat.le_of_ble_eq_true rfl)
theorem eX9_lacks_42 : SiZ nX9_lacks 42 i_iret := s_iret dX9_lacks_42 rfl
theorem aX9_lacks : ∀ x ∈ mX9_lacks.1, EnZ nX9_lacks x := fm_cons eX9_lacks_0 (fm_cons eX9_lacks_1 (fm_cons eX9_lacks_4 (fm_cons eX9_lacks_5 (fm_cons eX9_lacks_6 (fm_cons eX9_lacks_9 (fm_cons eX9_lacks_10 (fm_cons eX9_lacks_11 (fm_cons eX9_lacks_14 (fm_cons eX9_lacks_15 (fm_cons eX9_lacks_16 (fm_cons eX9_lacks_17 (fm_cons eX9_lacks_18 (fm_cons eX9_lacks_19 (fm_cons eX9_lacks_22 (fm_cons eX9_lacks_23 (fm_cons eX9_lacks_24 (fm_cons eX9_lacks_25 (fm_cons eX9_lacks_26 (fm_cons eX9_lacks_27 (fm_cons eX9_lacks_30 (fm_cons eX9_lacks_33 (fm_cons eX9_lacks_34 (fm_cons eX9_lacks_37 (fm_cons eX9_lacks_38 (fm_cons eX9_lacks_39 (fm_cons eX9_lacks_42 (fm_nil)))))))))))))))))))))))))))
theorem zX9_lacks : SwZ nX9_lacks (Mt mX9_lacks 4) := wholeZ (mi := nX9_lacks) (cd := mX9_lacks) aX9_lacks rfl (HdZ.none rfl)
abbrev nX9_isSo : MI := (cX9_isSo, 6, (some (.boolean)), RX9, "isSo", [], 5, 134)
theorem hyX9_isSo : yX9_isSo.cls ≠ "java/lang/invoke/MethodHandle" ∧ yX9_isSo.cls ≠ "java/lang/invoke/VarHandle" := by decide +kernel
theorem pnX9_isSo : (parseMethodDescriptor yX9_isSo.desc).map (fun d => d.parameters.length) = some 3 := by decide +kernel
theorem wdX9_isSo : CdW yX9_isSo (nX9_isSo) := ⟨Or.inl ⟨q1617, rfl⟩, rfl, rfl, plainFor_of_name (by decide +kernel)⟩
theorem eX9_isSo_0 : SiZ nX9_isSo 0 (i_push (.int 1) 1) := s_iconst dX9_isSo_0 (by decide)
theorem eX9_isSo_1 : SiZ nX9_isSo 1 (i_istore 4 3) := s_istore dX9_isSo_1
theorem eX9_isSo_3 : SiZ nX9_isSo 3 (i_push (.int 0) 4) := s_iconst dX9_isSo_3 (by decide)
theorem eX9_isSo_4 : SiZ nX9_isSo 4 (i_istore 5 6) := s_istore dX9_isSo_4
theorem eX9_isSo_6 : SiZ nX9_isSo 6 (i_iload 5 8) := s_iload dX9_isSo_6
theorem eX9_isSo_8 : SiZ nX9_isSo 8 (i_iload 3 9) := s_iload_n dX9_isSo_8 rfl
theorem eX9_isSo_9 : SiZ nX9_isSo 9 (i_icmp (fun x y => y ≤ x) 55 12) := s_icmp_ge dX9_isSo_9 (by decide)
theorem eX9_isSo_12 : SiZ nX9_isSo 12 (i_aload 0 13) := s_aload_n dX9_isSo_12 rfl
theorem eX9_isSo_13 : ScZ nX9_isSo 13 (c_V 0 16 2 9 (Mt mX9_oneNight 2)) := e_V (mi := nX9_isSo) (mi' := nX9_oneNight) (len := 3) (fun h b as rest hk hl => cs_V (ci := 8) (mi := nX9_isSo) (pc := 13) (y := yX9_oneNight) (idx := 187) dX9_isSo_13 q1432 q1434 qs44 rfl hk hyX9_oneNight (sigC q1435) pnX9_oneNight hl) wdX9_oneNight zX9_oneNight (Nat.le_of_ble_eq_true rfl) (Nat.le_of_ble_eq_true rfl)
theorem eX9_isSo_16 : SiZ nX9_isSo 16 (i_iload 4 18) := s_iload dX9_isSo_16
theorem eX9_isSo_18 : SiZ nX9_isSo 18 (i_if (fun x => x = 0) 46 21) := s_if_eq dX9_isSo_18 (by decide)
theorem eX9_isSo_21 : SiZ nX9_isSo 21 (i_aload 0 22) := s_aload_n dX9_isSo_21 rfl
theorem eX9_isSo_22 : SiZ nX9_isSo 22 (i_getf 75 [9] 25) := s_getf dX9_isSo_22 (fm_cons (⟨_, _, _, _, _, _, rfl, fkX9_16_9⟩) (fm_nil))
theorem eX9_isSo_25 : SiZ nX9_isSo 25 (i_iload 2 26) := s_iload_n dX9_isSo_25 rfl
theorem eX9_isSo_26 : SiZ nX9_isSo 26 (i_iload 5 28) := s_iload dX9_isSo_26
theorem eX9_isSo_28 : SiZ nX9_isSo 28 (i_bin (fun x y => x + y) 29) := s_iadd dX9_isSo_28
theorem eX9_isSo_29 : SiZ nX9_isSo 29 (i_iald 51 30) := s_ald (j := 0) (by decide) (fun _ => rfl) dX9_isSo_29 (Or.inl ⟨rfl, rfl⟩)
theorem eX9_isSo_30 : SiZ nX9_isSo 30 (i_aload 0 31) := s_aload_n dX9_isSo_30 rfl
theorem eX9_isSo_31 : SiZ nX9_isSo 31 (i_getf 81 [9] 34) := s_getf dX9_isSo_31 (fm_cons (⟨_, _, _, _, _, _, rfl, fkX9_19_9⟩) (fm_nil))
theorem eX9_isSo_34 : SiZ nX9_isSo 34 (i_push (.int 8) 36) := s_bipush dX9_isSo_34 (by decide)
theorem eX9_isSo_36 : SiZ nX9_isSo 36 (i_iload 1 37) := s_iload_n dX9_isSo_36 rfl
theorem eX9_isSo_37 : SiZ nX9_isSo 37 (i_bin (fun x y => x + y) 38) := s_iadd dX9_isSo_37
theorem eX9_isSo_38 : SiZ nX9_isSo 38 (i_iald 51 39) := s_ald (j := 0) (by decide) (fun _ => rfl) dX9_isSo_38 (Or.inl ⟨rfl, rfl⟩)
theorem eX9_isSo_39 : SiZ nX9_isSo 39 (i_icmp (fun x y => ¬ x = y) 46 42) := s_icmp_ne dX9_isSo_39 (by decide)
theorem eX9_isSo_42 : SiZ nX9_isSo 42 (i_push (.int 1) 43) := s_iconst dX9_isSo_42 (by decide)
theorem eX9_isSo_43 : SiZ nX9_isSo 43 (i_goto 47) := s_goto dX9_isSo_43 (by decide)
theorem eX9_isSo_46 : SiZ nX9_isSo 46 (i_push (.int 0) 47) := s_iconst dX9_isSo_46 (by decide)
theorem eX9_isSo_47 : SiZ nX9_isSo 47 (i_istore 4 49) := s_istore dX9_isSo_47
theorem eX9_isSo_49 : SiZ nX9_isSo 49 (i_iinc 5 1 52) := s_iinc dX9_isSo_49 (by decide)
theorem eX9_isSo_52 : SiZ nX9_isSo 52 (i_goto 6) := s_goto dX9_isSo_52 (by decide)
theorem eX9_isSo_55 : SiZ nX9_isSo 55 (i_aload 0 56) := s_aload_n dX9_isSo_55 rfl
theorem eX9_isSo_56 : ScZ nX9_isSo 56 (c_V 0 59 2 9 (Mt mX9_takeBack 2)) := e_V (mi := nX9_isSo) (mi' := nX9_takeBack) (len := 3) (fun h b as rest hk hl => cs_V (ci := 8) (mi := nX9_isSo) (pc := 56) (y := yX9_takeBack) (idx := 211) dX9_isSo_56 q1536 q1538 qs58 rfl hk hyX9_takeBack (sigC q1539) pnX9_takeBack hl) wdX9_takeBack zX9_takeBack (Nat.le_of_ble_eq_true rfl) (Nat.le_of_ble_eq_true rfl)
theorem eX9_isSo_59 : SiZ nX9_isSo 59 (i_iload 4 61) := s_iload dX9_isSo_59
theorem eX9_isSo_61 : SiZ nX9_isSo 61 i_zret := s_zret dX9_isSo_61 rfl
theorem aX9_isSo : ∀ x ∈ mX9_isSo.1, EnZ nX9_isSo x := fm_cons eX9_isSo_0 (fm_cons eX9_isSo_1 (fm_cons eX9_isSo_3 (fm_cons eX9_isSo_4 (fm_cons eX9_isSo_6 (fm_cons eX9_isSo_8 (fm_cons eX9_isSo_9 (fm_cons eX9_isSo_12 (fm_cons eX9_isSo_13 (fm_cons eX9_isSo_16 (fm_cons eX9_isSo_18 (fm_cons eX9_isSo_21 (fm_cons eX9_isSo_22 (fm_cons eX9_isSo_25 (fm_cons eX9_isSo_26 (fm_cons eX9_isSo_28 (fm_cons eX9_isSo_29 (fm_cons eX9_isSo_30 (fm_cons eX9_isSo_31 (fm_cons eX9_isSo_34 (fm_cons eX9_isSo_36 (fm_cons eX9_isSo_37 (fm_cons eX9_isSo_38 (fm_cons eX9_isSo_39 (fm_cons eX9_isSo_42 (fm_cons eX9_isSo_43 (fm_cons eX9_isSo_46 (fm_cons eX9_isSo_47 (fm_cons eX9_isSo_49 (fm_cons eX9_isSo_52 (fm_cons eX9_isSo_55 (fm_cons eX9_isSo_56 (fm_cons eX9_isSo_59 (fm_cons eX9_isSo_61 (fm_nil))))))))))))))))))))))))))))))))))
theorem zX9_isSo : SwZ nX9_isSo (Mt mX9_isSo 6) := wholeZ (mi := nX9_isSo) (cd := mX9_isSo) aX9_isSo rfl (HdZ.none rfl)
abbrev nX9_fits : MI := (cX9_fits, 9, (some (.int)), RX9, "fits", [], 6, 163)
theorem hyX9_fits : yX9_fits.cls ≠ "java/lang/invoke/MethodHandle" ∧ yX9_fits.cls ≠ "java/lang/invoke/VarHandle" := by decide +kernel
theorem pnX9_fits : (parseMethodDescriptor yX9_fits.desc).map (fun d => d.parameters.length) = some 6 := by decide +kernel
theorem wdX9_fits : CdW yX9_fits (nX9_fits) := ⟨Or.inl ⟨q1613, rfl⟩, rfl, rfl, plainFor_of_name (by decide +kernel)⟩
theorem eX9_fits_0 : SiZ nX9_fits 0 (i_aload 0 1) := s_aload_n dX9_fits_0 rfl
theorem eX9_fits_1 : ScZ nX9_fits 1 (c_V 0 4 2 9 (Mt mX9_putAside 2)) := e_V (mi := nX9_fits) (mi' := nX9_putAside) (len := 3) (fun h b as rest hk hl => cs_V (ci := 8) (mi := nX9_fits) (pc := 1) (y := yX9_putAside) (idx := 219) dX9_fits_1 q1528 q1530 qs56 rfl hk hyX9_putAside (sigC q1531) pnX9_putAside hl) wdX9_putAside zX9_putAside (Nat.le_of_ble_eq_true rfl) (Nat.le_of_ble_eq_true rfl)
theorem eX9_fits_4 : SiZ nX9_fits 4 (i_push (.int 0) 5) := s_iconst dX9_fits_4 (by decide)
theorem eX9_fits_5 : SiZ nX9_fits 5 (i_istore 7 7) := s_istore dX9_fits_5
theorem eX9_fits_7 : SiZ nX9_fits 7 (i_iload 2 8) := s_iload_n dX9_fits_7 rfl
theorem eX9_fits_8 : SiZ nX9_fits 8 (i_istore 8 10) := s_istore dX9_fits_8
theorem eX9_fits_10 : SiZ nX9_fits 10 (i_iload 8 12) := s_iload dX9_fits_10
theorem eX9_fits_12 : SiZ nX9_fits 12 (i_iload 3 13) := s_iload_n dX9_fits_12 rfl
theorem eX9_fits_13 : SiZ nX9_fits 13 (i_icmp (fun x y => y < x) 56 16) := s_icmp_gt dX9_fits_13 (by decide)
theorem eX9_fits_16 : SiZ nX9_fits 16 (i_aload 0 17) := s_aload_n dX9_fits_16 rfl
theorem eX9_fits_17 : SiZ nX9_fits 17 (i_getf 81 [9] 20) := s_getf dX9_fits_17 (fm_cons (⟨_, _, _, _, _, _, rfl, fkX9_19_9⟩) (fm_nil))
theorem eX9_fits_20 : SiZ nX9_fits 20 (i_iload 1 21) := s_iload_n dX9_fits_20 rfl
theorem eX9_fits_21 : SiZ nX9_fits 21 (i_iload 8 23) := s_iload dX9_fits_21
theorem eX9_fits_23 : SiZ nX9_fits 23 (i_iast 51 (fun x => x) 24) := s_ast (j := 0) (by decide) (fun _ => rfl) dX9_fits_23 (Or.inl ⟨rfl, rfl, rfl⟩)
theorem eX9_fits_24 : SiZ nX9_fits 24 (i_iload 7 26) := s_iload dX9_fits_24
theorem eX9_fits_26 : SiZ nX9_fits 26 (i_aload 0 27) := s_aload_n dX9_fits_26 rfl
theorem eX9_fits_27 : SiZ nX9_fits 27 (i_iload 4 29) := s_iload dX9_fits_27
theorem eX9_fits_29 : SiZ nX9_fits 29 (i_iload 5 31) := s_iload dX9_fits_29
theorem eX9_fits_31 : SiZ nX9_fits 31 (i_iload 6 33) := s_iload dX9_fits_31
theorem eX9_fits_33 : ScZ nX9_fits 33 (c_V 3 36 6 9 (Mt mX9_isSo 6)) := e_V (mi := nX9_fits) (mi' := nX9_isSo) (len := 3) (fun h b as rest hk hl => cs_V (ci := 8) (mi := nX9_fits) (pc := 33) (y := yX9_isSo) (idx := 250) dX9_fits_33 q1614 q1616 qs67 rfl hk hyX9_isSo (sigC q1617) pnX9_isSo hl) wdX9_isSo zX9_isSo (Nat.le_of_ble_eq_true rfl) (Nat.le_of_ble_eq_true rfl)
theorem eX9_fits_36 : SiZ nX9_fits 36 (i_if (fun x => x = 0) 46 39) := s_if_eq dX9_fits_36 (by decide)
theorem eX9_fits_39 : SiZ nX9_fits 39 (i_push (.int 1) 40) := s_iconst dX9_fits_39 (by decide)
theorem eX9_fits_40 : SiZ nX9_fits 40 (i_iload 8 42) := s_iload dX9_fits_40
theorem eX9_fits_42 : SiZ nX9_fits 42 (i_bin (fun x y => x <<< (y &&& 31)) 43) := s_ishl dX9_fits_42
theorem eX9_fits_43 : SiZ nX9_fits 43 (i_goto 47) := s_goto dX9_fits_43 (by decide)
theorem eX9_fits_46 : SiZ nX9_fits 46 (i_push (.int 0) 47) := s_iconst dX9_fits_46 (by decide)
theorem eX9_fits_47 : SiZ nX9_fits 47 (i_bin (fun x y => x ||| y) 48) := s_ior dX9_fits_47
theorem eX9_fits_48 : SiZ nX9_fits 48 (i_istore 7 50) := s_istore dX9_fits_48
theorem eX9_fits_50 : SiZ nX9_fits 50 (i_iinc 8 1 53) := s_iinc dX9_fits_50 (by decide)
theorem eX9_fits_53 : SiZ nX9_fits 53 (i_goto 10) := s_goto dX9_fits_53 (by decide)
theorem eX9_fits_56 : SiZ nX9_fits 56 (i_aload 0 57) := s_aload_n dX9_fits_56 rfl
theorem eX9_fits_57 : SiZ nX9_fits 57 (i_iload 7 59) := s_iload dX9_fits_57
theorem eX9_fits_59 : ScZ nX9_fits 59 (c_V 1 62 2 9 (Mt mX9_well 2)) := e_V (mi := nX9_fits) (mi' := nX9_well) (len := 3) (fun h b as rest hk hl => cs_V (ci := 8) (mi := nX9_fits) (pc := 59) (y := yX9_well) (idx := 78) dX9_fits_59 q1345 q1347 qs34 rfl hk hyX9_well (sigC q1348) pnX9_well hl) wdX9_well zX9_well (Nat.le_of_ble_eq_true rfl) (Nat.le_of_ble_eq_true rfl)
theorem eX9_fits_62 : SiZ nX9_fits 62 i_iret := s_iret dX9_fits_62 rfl
theorem aX9_fits : ∀ x ∈ mX9_fits.1, EnZ nX9_fits x := fm_cons eX9_fits_0 (fm_cons eX9_fits_1 (fm_cons eX9_fits_4 (fm_cons eX9_fits_5 (fm_cons eX9_fits_7 (fm_cons eX9_fits_8 (fm_cons eX9_fits_10 (fm_cons eX9_fits_12 (fm_cons eX9_fits_13 (fm_cons eX9_fits_16 (fm_cons eX9_fits_17 (fm_cons eX9_fits_20 (fm_cons eX9_fits_21 (fm_cons eX9_fits_23 (fm_cons eX9_fits_24 (fm_cons eX9_fits_26 (fm_cons eX9_fits_27 (fm_cons eX9_fits_29 (fm_cons eX9_fits_31 (fm_cons eX9_fits_33 (fm_cons eX9_fits_36 (fm_cons eX9_fits_39 (fm_cons eX9_fits_40 (fm_cons eX9_fits_42 (fm_cons eX9_fits_43 (fm_cons eX9_fits_46 (fm_cons eX9_fits_47 (fm_cons eX9_fits_48 (fm_cons eX9_fits_50 (fm_cons eX9_fits_53 (fm_cons eX9_fits_56 (fm_cons eX9_fits_57 (fm_cons eX9_fits_59 (fm_cons eX9_fits_62 (fm_nil))))))))))))))))))))))))))))))))))
theorem zX9_fits : SwZ nX9_fits (Mt mX9_fits 9) := wholeZ (mi := nX9_fits) (cd := mX9_fits) aX9_fits rfl (HdZ.none rfl)
abbrev nX9_who : MI := (cX9_who, 8, (some (.int)), RX9, "who", [], 7, 195)
theorem hyX9_who : yX9_who.cls ≠ "java/lang/invoke/MethodHandle" ∧ yX9_who.cls ≠ "java/lang/invoke/VarHandle" := by decide +kernel
theorem pnX9_who : (parseMethodDescriptor yX9_who.desc).map (fun d => d.parameters.length) = some 6 := by decide +kernel
theorem wdX9_who : CdW yX9_who (nX9_who) := ⟨Or.inl ⟨q1605, rfl⟩, rfl, rfl, plainFor_of_name (by decide +kernel)⟩
theorem eX9_who_0 : SiZ nX9_who 0 (i_aload 0 1) := s_aload_n dX9_who_0 rfl
theorem eX9_who_1 : SiZ nX9_who 1 (i_iload 1 2) := s_iload_n dX9_who_1 rfl
theorem eX9_who_2 : ScZ nX9_who 2 (c_V 1 5 2 9 (Mt mX9_isFish 2)) := e_V (mi := nX9_who) (mi' := nX9_isFish) (len := 3) (fun h b as rest hk hl => cs_V (ci := 8) (mi := nX9_who) (pc := 2) (y := yX9_isFish) (idx := 200) dX9_who_2 q1495 q1497 qs54 rfl hk hyX9_isFish (sigC q1498) pnX9_isFish hl) wdX9_isFish zX9_isFish (Nat.le_of_ble_eq_true rfl) (Nat.le_of_ble_eq_true rfl)
theorem eX9_who_5 : SiZ nX9_who 5 (i_if (fun x => x = 0) 47 8) := s_if_eq dX9_who_5 (by decide)
theorem eX9_who_8 : SiZ nX9_who 8 (i_iload 2 9) := s_iload_n dX9_who_8 rfl
theorem eX9_who_9 : SiZ nX9_who 9 (i_i2l 10) := s_i2l dX9_who_9
theorem eX9_who_10 : SiZ nX9_who 10 (i_push (.long 0) 11) := s_lconst dX9_who_10 (by decide)
theorem eX9_who_11 : SiZ nX9_who 11 (i_push (.long 1) 12) := s_lconst dX9_who_11 (by decide)
theorem eX9_who_12 : ScZ nX9_who 12 (c_S 3 15 6 (Mt mX9_in 6)) := e_S (mi := nX9_who) (mi' := nX9_in) (len := 3) (fun h as rest hl => cs_S (mi := nX9_who) (pc := 12) (y := yX9_in) (idx := 63) dX9_who_12 q1335 q1336 q89 q1337 hyX9_in pnX9_in hl) wdX9_in zX9_in (Nat.le_of_ble_eq_true rfl) (Nat.le_of_ble_eq_true rfl)
theorem eX9_who_15 : SiZ nX9_who 15 (i_if (fun x => x = 0) 47 18) := s_if_eq dX9_who_15 (by decide)
theorem eX9_who_18 : SiZ nX9_who 18 (i_aload 0 19) := s_aload_n dX9_who_18 rfl
theorem eX9_who_19 : SiZ nX9_who 19 (i_iload 3 20) := s_iload_n dX9_who_19 rfl
theorem eX9_who_20 : ScZ nX9_who 20 (c_V 1 23 2 9 (Mt mX9_isBook 2)) := e_V (mi := nX9_who) (mi' := nX9_isBook) (len := 3) (fun h b as rest hk hl => cs_V (ci := 8) (mi := nX9_who) (pc := 20) (y := yX9_isBook) (idx := 194) dX9_who_20 q1476 q1478 qs53 rfl hk hyX9_isBook (sigC q1479) pnX9_isBook hl) wdX9_isBook zX9_isBook (Nat.le_of_ble_eq_true rfl) (Nat.le_of_ble_eq_true rfl)
theorem eX9_who_23 : SiZ nX9_who 23 (i_if (fun x => x = 0) 47 26) := s_if_eq dX9_who_23 (by decide)
theorem eX9_who_26 : SiZ nX9_who 26 (i_iload 4 28) := s_iload dX9_who_26
theorem eX9_who_28 : ScZ nX9_who 28 (c_S 1 31 1 (Mt mX9_isRow 1)) := e_S (mi := nX9_who) (mi' := nX9_isRow) (len := 3) (fun h as rest hl => cs_S (mi := nX9_who) (pc := 28) (y := yX9_isRow) (idx := 67) dX9_who_28 q1331 q1332 q89 q1333 hyX9_isRow pnX9_isRow hl) wdX9_isRow zX9_isRow (Nat.le_of_ble_eq_true rfl) (Nat.le_of_ble_eq_true rfl)
theorem eX9_who_31 : SiZ nX9_who 31 (i_if (fun x => x = 0) 47 34) := s_if_eq dX9_who_31 (by decide)
theorem eX9_who_34 : SiZ nX9_who 34 (i_iload 6 36) := s_iload dX9_who_34
theorem eX9_who_36 : SiZ nX9_who 36 (i_i2l 37) := s_i2l dX9_who_36
theorem eX9_who_37 : SiZ nX9_who 37 (i_push (.long 1) 38) := s_lconst dX9_who_37 (by decide)
theorem eX9_who_38 : SiZ nX9_who 38 (i_push (.long 12) 41) := s_ldc2 dX9_who_38 q1567
theorem eX9_who_41 : ScZ nX9_who 41 (c_S 3 44 6 (Mt mX9_in 6)) := e_S (mi := nX9_who) (mi' := nX9_in) (len := 3) (fun h as rest hl => cs_S (mi := nX9_who) (pc := 41) (y := yX9_in) (idx := 63) dX9_who_41 q1335 q1336 q89 q1337 hyX9_in pnX9_in hl) wdX9_in zX9_in (Nat.le_of_ble_eq_true rfl) (Nat.le_of_ble_eq_true rfl)
theorem eX9_who_44 : SiZ nX9_who 44 (i_if (fun x => ¬ x = 0) 50 47) := s_if_ne dX9_who_44 (by decide)
theorem eX9_who_47 : SiZ nX9_who 47 (i_push (.int (-1000001)) 49) := s_ldc dX9_who_47 q1339
theorem eX9_who_49 : SiZ nX9_who 49 i_iret := s_iret dX9_who_49 rfl
theorem eX9_who_50 : SiZ nX9_who 50 (i_aload 0 51) := s_aload_n dX9_who_50 rfl
theorem eX9_who_51 : SiZ nX9_who 51 (i_iload 1 52) := s_iload_n dX9_who_51 rfl
theorem eX9_who_52 : ScZ nX9_who 52 (c_V 1 55 2 9 (Mt mX9_isCaught 2)) := e_V (mi := nX9_who) (mi' := nX9_isCaught) (len := 3) (fun h b as rest hk hl => cs_V (ci := 8) (mi := nX9_who) (pc := 52) (y := yX9_isCaught) (idx := 171) dX9_who_52 q1436 q1438 qs45 rfl hk hyX9_isCaught (sigC q1439) pnX9_isCaught hl) wdX9_isCaught zX9_isCaught (Nat.le_of_ble_eq_true rfl) (Nat.le_of_ble_eq_true rfl)
theorem eX9_who_55 : SiZ nX9_who 55 (i_if (fun x => x = 0) 63 58) := s_if_eq dX9_who_55 (by decide)
theorem eX9_who_58 : SiZ nX9_who 58 (i_push (.int (-1000002)) 60) := s_ldc dX9_who_58 q1422
theorem eX9_who_60 : SiZ nX9_who 60 (i_goto 73) := s_goto dX9_who_60 (by decide)
theorem eX9_who_63 : SiZ nX9_who 63 (i_aload 0 64) := s_aload_n dX9_who_63 rfl
theorem eX9_who_64 : SiZ nX9_who 64 (i_iload 4 66) := s_iload dX9_who_64
theorem eX9_who_66 : SiZ nX9_who 66 (i_iload 5 68) := s_iload dX9_who_66
theorem eX9_who_68 : SiZ nX9_who 68 (i_iload 6 70) := s_iload dX9_who_68
theorem eX9_who_70 : ScZ nX9_who 70 (c_V 3 73 4 9 (Mt mX9_lacks 4)) := e_V (mi := nX9_who) (mi' := nX9_lacks) (len := 3) (fun h b as rest hk hl => cs_V (ci := 8) (mi := nX9_who) (pc := 70) (y := yX9_lacks) (idx := 254) dX9_who_70 q1606 q1608 qs65 rfl hk hyX9_lacks (sigC q1609) pnX9_lacks hl) wdX9_lacks zX9_lacks (Nat.le_of_ble_eq_true rfl) (Nat.le_of_ble_eq_true rfl)
theorem eX9_who_73 : SiZ nX9_who 73 (i_istore 7 75) := s_istore dX9_who_73
theorem eX9_who_75 : SiZ nX9_who 75 (i_iload 7 77) := s_iload dX9_who_75
theorem eX9_who_77 : SiZ nX9_who 77 (i_if (fun x => 0 ≤ x) 83 80) := s_if_ge dX9_who_77 (by decide)
theorem eX9_who_80 : SiZ nX9_who 80 (i_iload 7 82) := s_iload dX9_who_80
theorem eX9_who_82 : SiZ nX9_who 82 i_iret := s_iret dX9_who_82 rfl
theorem eX9_who_83 : SiZ nX9_who 83 (i_iload 2 84) := s_iload_n dX9_who_83 rfl
theorem eX9_who_84 : SiZ nX9_who 84 (i_if (fun x => ¬ x = 0) 111 87) := s_if_ne dX9_who_84 (by decide)
theorem eX9_who_87 : SiZ nX9_who 87 (i_aload 0 88) := s_aload_n dX9_who_87 rfl
theorem eX9_who_88 : SiZ nX9_who 88 (i_push (.int 26) 90) := s_bipush dX9_who_88 (by decide)
theorem eX9_who_90 : SiZ nX9_who 90 (i_iload 1 91) := s_iload_n dX9_who_90 rfl
theorem eX9_who_91 : SiZ nX9_who 91 (i_bin (fun x y => x + y) 92) := s_iadd dX9_who_91
theorem eX9_who_92 : SiZ nX9_who 92 (i_push (.int 1) 93) := s_iconst dX9_who_92 (by decide)
theorem eX9_who_93 : SiZ nX9_who 93 (i_push (.int 5) 94) := s_iconst dX9_who_93 (by decide)
theorem eX9_who_94 : SiZ nX9_who 94 (i_iload 3 95) := s_iload_n dX9_who_94 rfl
theorem eX9_who_95 : SiZ nX9_who 95 (i_push (.int 40) 97) := s_bipush dX9_who_95 (by decide)
theorem eX9_who_97 : SiZ nX9_who 97 (i_iload 4 99) := s_iload dX9_who_97
theorem eX9_who_99 : SiZ nX9_who 99 (i_bin (fun x y => x * y) 100) := s_imul dX9_who_99
theorem eX9_who_100 : SiZ nX9_who 100 (i_iload 5 102) := s_iload dX9_who_100
theorem eX9_who_102 : SiZ nX9_who 102 (i_bin (fun x y => x + y) 103) := s_iadd dX9_who_102
theorem eX9_who_103 : SiZ nX9_who 103 (i_iload 6 105) := s_iload dX9_who_103
theorem eX9_who_105 : ScZ nX9_who 105 (c_V 6 108 9 9 (Mt mX9_fits 9)) := e_V (mi := nX9_who) (mi' := nX9_fits) (len := 3) (fun h b as rest hk hl => cs_V (ci := 8) (mi := nX9_who) (pc := 105) (y := yX9_fits) (idx := 258) dX9_who_105 q1610 q1612 qs66 rfl hk hyX9_fits (sigC q1613) pnX9_fits hl) wdX9_fits zX9_fits (Nat.le_of_ble_eq_true rfl) (Nat.le_of_ble_eq_true rfl)
theorem eX9_who_108 : SiZ nX9_who 108 (i_goto 139) := s_goto dX9_who_108 (by decide)
theorem eX9_who_111 : SiZ nX9_who 111 (i_aload 0 112) := s_aload_n dX9_who_111 rfl
theorem eX9_who_112 : SiZ nX9_who 112 (i_push (.int 31) 114) := s_bipush dX9_who_112 (by decide)
theorem eX9_who_114 : SiZ nX9_who 114 (i_iload 1 115) := s_iload_n dX9_who_114 rfl
theorem eX9_who_115 : SiZ nX9_who 115 (i_bin (fun x y => x + y) 116) := s_iadd dX9_who_115
theorem eX9_who_116 : SiZ nX9_who 116 (i_push (.int 0) 117) := s_iconst dX9_who_116 (by decide)
theorem eX9_who_117 : SiZ nX9_who 117 (i_aload 0 118) := s_aload_n dX9_who_117 rfl
theorem eX9_who_118 : SiZ nX9_who 118 (i_getf 81 [9] 121) := s_getf dX9_who_118 (fm_cons (⟨_, _, _, _, _, _, rfl, fkX9_19_9⟩) (fm_nil))
theorem eX9_who_121 : SiZ nX9_who 121 (i_push (.int 0) 122) := s_iconst dX9_who_121 (by decide)
theorem eX9_who_122 : SiZ nX9_who 122 (i_iald 51 123) := s_ald (j := 0) (by decide) (fun _ => rfl) dX9_who_122 (Or.inl ⟨rfl, rfl⟩)
theorem eX9_who_123 : SiZ nX9_who 123 (i_push (.int 1) 124) := s_iconst dX9_who_123 (by decide)
theorem eX9_who_124 : SiZ nX9_who 124 (i_bin (fun x y => x - y) 125) := s_isub dX9_who_124
theorem eX9_who_125 : SiZ nX9_who 125 (i_iload 3 126) := s_iload_n dX9_who_125 rfl
theorem eX9_who_126 : SiZ nX9_who 126 (i_push (.int 40) 128) := s_bipush dX9_who_126 (by decide)
theorem eX9_who_128 : SiZ nX9_who 128 (i_iload 4 130) := s_iload dX9_who_128
theorem eX9_who_130 : SiZ nX9_who 130 (i_bin (fun x y => x * y) 131) := s_imul dX9_who_130
theorem eX9_who_131 : SiZ nX9_who 131 (i_iload 5 133) := s_iload dX9_who_131
theorem eX9_who_133 : SiZ nX9_who 133 (i_bin (fun x y => x + y) 134) := s_iadd dX9_who_133
theorem eX9_who_134 : SiZ nX9_who 134 (i_iload 6 136) := s_iload dX9_who_134
theorem eX9_who_136 : ScZ nX9_who 136 (c_V 6 139 9 9 (Mt mX9_fits 9)) := e_V (mi := nX9_who) (mi' := nX9_fits) (len := 3) (fun h b as rest hk hl => cs_V (ci := 8) (mi := nX9_who) (pc := 136) (y := yX9_fits) (idx := 258) dX9_who_136 q1610 q1612 qs66 rfl hk hyX9_fits (sigC q1613) pnX9_fits hl) wdX9_fits zX9_fits (Nat.le_of_ble_eq_true rfl) (Nat.le_of_ble_eq_true rfl)
theorem eX9_who_139 : SiZ nX9_who 139 i_iret := s_iret dX9_who_139 rfl
theorem aX9_who : ∀ x ∈ mX9_who.1, EnZ nX9_who x := fm_cons eX9_who_0 (fm_cons eX9_who_1 (fm_cons eX9_who_2 (fm_cons eX9_who_5 (fm_cons eX9_who_8 (fm_cons eX9_who_9 (fm_cons eX9_who_10 (fm_cons eX9_who_11 (fm_cons eX9_who_12 (fm_cons eX9_who_15 (fm_cons eX9_who_18 (fm_cons eX9_who_19 (fm_cons eX9_who_20 (fm_cons eX9_who_23 (fm_cons eX9_who_26 (fm_cons eX9_who_28 (fm_cons eX9_who_31 (fm_cons eX9_who_34 (fm_cons eX9_who_36 (fm_cons eX9_who_37 (fm_cons eX9_who_38 (fm_cons eX9_who_41 (fm_cons eX9_who_44 (fm_cons eX9_who_47 (fm_cons eX9_who_49 (fm_cons eX9_who_50 (fm_cons eX9_who_51 (fm_cons eX9_who_52 (fm_cons eX9_who_55 (fm_cons eX9_who_58 (fm_cons eX9_who_60 (fm_cons eX9_who_63 (fm_cons eX9_who_64 (fm_cons eX9_who_66 (fm_cons eX9_who_68 (fm_cons eX9_who_70 (fm_cons eX9_who_73 (fm_cons eX9_who_75 (fm_cons eX9_who_77 (fm_cons eX9_who_80 (fm_cons eX9_who_82 (fm_cons eX9_who_83 (fm_cons eX9_who_84 (fm_cons eX9_who_87 (fm_cons eX9_who_88 (fm_cons eX9_who_90 (fm_cons eX9_who_91 (fm_cons eX9_who_92 (fm_cons eX9_who_93 (fm_cons eX9_who_94 (fm_cons eX9_who_95 (fm_cons eX9_who_97 (fm_cons eX9_who_99 (fm_cons eX9_who_100 (fm_cons eX9_who_102 (fm_cons eX9_who_103 (fm_cons eX9_who_105 (fm_cons eX9_who_108 (fm_cons eX9_who_111 (fm_cons eX9_who_112 (fm_cons eX9_who_114 (fm_cons eX9_who_115 (fm_cons eX9_who_116 (fm_cons eX9_who_117 (fm_cons eX9_who_118 (fm_cons eX9_who_121 (fm_cons eX9_who_122 (fm_cons eX9_who_123 (fm_cons eX9_who_124 (fm_cons eX9_who_125 (fm_cons eX9_who_126 (fm_cons eX9_who_128 (fm_cons eX9_who_130 (fm_cons eX9_who_131 (fm_cons eX9_who_133 (fm_cons eX9_who_134 (fm_cons eX9_who_136 (fm_cons eX9_who_139 (fm_nil))))))))))))))))))))))))))))))))))))))))))))))))))))))))))))))))))))))))))))))
theorem zX9_who : SwZ nX9_who (Mt mX9_who 8) := wholeZ (mi := nX9_who) (cd := mX9_who) aX9_who rfl (HdZ.none rfl)
abbrev nX9_paste : MI := (cX9_paste, 7, (some (.int)), RX9, "paste", [], 7, 195)
theorem hyX9_paste : yX9_paste.cls ≠ "java/lang/invoke/MethodHandle" ∧ yX9_paste.cls ≠ "java/lang/invoke/VarHandle" := by decide +kernel
theorem pnX9_paste : (parseMethodDescriptor yX9_paste.desc).map (fun d => d.parameters.length) = some 5 := by decide +kernel
theorem wdX9_paste : CdW yX9_paste (nX9_paste) := ⟨Or.inl ⟨q1621, rfl⟩, rfl, rfl, plainFor_of_name (by decide +kernel)⟩
theorem eX9_paste_0 : SiZ nX9_paste 0 (i_aload 0 1) := s_aload_n dX9_paste_0 rfl
theorem eX9_paste_1 : SiZ nX9_paste 1 (i_iload 1 2) := s_iload_n dX9_paste_1 rfl
theorem eX9_paste_2 : ScZ nX9_paste 2 (c_V 1 5 2 9 (Mt mX9_isBook 2)) := e_V (mi := nX9_paste) (mi' := nX9_isBook) (len := 3) (fun h b as rest hk hl => cs_V (ci := 8) (mi := nX9_paste) (pc := 2) (y := yX9_isBook) (idx := 194) dX9_paste_2 q1476 q1478 qs53 rfl hk hyX9_isBook (sigC q1479) pnX9_isBook hl) wdX9_isBook zX9_isBook (Nat.le_of_ble_eq_true rfl) (Nat.le_of_ble_eq_true rfl)
theorem eX9_paste_5 : SiZ nX9_paste 5 (i_if (fun x => x = 0) 36 8) := s_if_eq dX9_paste_5 (by decide)
theorem eX9_paste_8 : SiZ nX9_paste 8 (i_aload 0 9) := s_aload_n dX9_paste_8 rfl
theorem eX9_paste_9 : SiZ nX9_paste 9 (i_iload 2 10) := s_iload_n dX9_paste_9 rfl
theorem eX9_paste_10 : ScZ nX9_paste 10 (c_V 1 13 2 9 (Mt mX9_isBook 2)) := e_V (mi := nX9_paste) (mi' := nX9_isBook) (len := 3) (fun h b as rest hk hl => cs_V (ci := 8) (mi := nX9_paste) (pc := 10) (y := yX9_isBook) (idx := 194) dX9_paste_10 q1476 q1478 qs53 rfl hk hyX9_isBook (sigC q1479) pnX9_isBook hl) wdX9_isBook zX9_isBook (Nat.le_of_ble_eq_true rfl) (Nat.le_of_ble_eq_true rfl)
theorem eX9_paste_13 : SiZ nX9_paste 13 (i_if (fun x => x = 0) 36 16) := s_if_eq dX9_paste_13 (by decide)
theorem eX9_paste_16 : SiZ nX9_paste 16 (i_iload 3 17) := s_iload_n dX9_paste_16 rfl
theorem eX9_paste_17 : ScZ nX9_paste 17 (c_S 1 20 1 (Mt mX9_isRow 1)) := e_S (mi := nX9_paste) (mi' := nX9_isRow) (len := 3) (fun h as rest hl => cs_S (mi := nX9_paste) (pc := 17) (y := yX9_isRow) (idx := 67) dX9_paste_17 q1331 q1332 q89 q1333 hyX9_isRow pnX9_isRow hl) wdX9_isRow zX9_isRow (Nat.le_of_ble_eq_true rfl) (Nat.le_of_ble_eq_true rfl)
theorem eX9_paste_20 : SiZ nX9_paste 20 (i_if (fun x => x = 0) 36 23) := s_if_eq dX9_paste_20 (by decide)
theorem eX9_paste_23 : SiZ nX9_paste 23 (i_iload 5 25) := s_iload dX9_paste_23
theorem eX9_paste_25 : SiZ nX9_paste 25 (i_i2l 26) := s_i2l dX9_paste_25
theorem eX9_paste_26 : SiZ nX9_paste 26 (i_push (.long 1) 27) := s_lconst dX9_paste_26 (by decide)
theorem eX9_paste_27 : SiZ nX9_paste 27 (i_push (.long 12) 30) := s_ldc2 dX9_paste_27 q1567
theorem eX9_paste_30 : ScZ nX9_paste 30 (c_S 3 33 6 (Mt mX9_in 6)) := e_S (mi := nX9_paste) (mi' := nX9_in) (len := 3) (fun h as rest hl => cs_S (mi := nX9_paste) (pc := 30) (y := yX9_in) (idx := 63) dX9_paste_30 q1335 q1336 q89 q1337 hyX9_in pnX9_in hl) wdX9_in zX9_in (Nat.le_of_ble_eq_true rfl) (Nat.le_of_ble_eq_true rfl)
theorem eX9_paste_33 : SiZ nX9_paste 33 (i_if (fun x => ¬ x = 0) 41 36) := s_if_ne dX9_paste_33 (by decide)
theorem eX9_paste_36 : SiZ nX9_paste 36 (i_push (.int (-1000001)) 38) := s_ldc dX9_paste_36 q1339
theorem eX9_paste_38 : SiZ nX9_paste 38 (i_goto 50) := s_goto dX9_paste_38 (by decide)
theorem eX9_paste_41 : SiZ nX9_paste 41 (i_aload 0 42) := s_aload_n dX9_paste_41 rfl
theorem eX9_paste_42 : SiZ nX9_paste 42 (i_iload 3 43) := s_iload_n dX9_paste_42 rfl
theorem eX9_paste_43 : SiZ nX9_paste 43 (i_iload 4 45) := s_iload dX9_paste_43
theorem eX9_paste_45 : SiZ nX9_paste 45 (i_iload 5 47) := s_iload dX9_paste_45
theorem eX9_paste_47 : ScZ nX9_paste 47 (c_V 3 50 4 9 (Mt mX9_lacks 4)) := e_V (mi := nX9_paste) (mi' := nX9_lacks) (len := 3) (fun h b as rest hk hl => cs_V (ci := 8) (mi := nX9_paste) (pc := 47) (y := yX9_lacks) (idx := 254) dX9_paste_47 q1606 q1608 qs65 rfl hk hyX9_lacks (sigC q1609) pnX9_lacks hl) wdX9_lacks zX9_lacks (Nat.le_of_ble_eq_true rfl) (Nat.le_of_ble_eq_true rfl)
theorem eX9_paste_50 : SiZ nX9_paste 50 (i_istore 6 52) := s_istore dX9_paste_50
theorem eX9_paste_52 : SiZ nX9_paste 52 (i_iload 6 54) := s_iload dX9_paste_52
theorem eX9_paste_54 : SiZ nX9_paste 54 (i_if (fun x => 0 ≤ x) 62 57) := s_if_ge dX9_paste_54 (by decide)
theorem eX9_paste_57 : SiZ nX9_paste 57 (i_iload 6 59) := s_iload dX9_paste_57
theorem eX9_paste_59 : SiZ nX9_paste 59 (i_goto 83) := s_goto dX9_paste_59 (by decide)
theorem eX9_paste_62 : SiZ nX9_paste 62 (i_aload 0 63) := s_aload_n dX9_paste_62 rfl
theorem eX9_paste_63 : SiZ nX9_paste 63 (i_push (.int 14) 65) := s_bipush dX9_paste_63 (by decide)
theorem eX9_paste_65 : SiZ nX9_paste 65 (i_iload 1 66) := s_iload_n dX9_paste_65 rfl
theorem eX9_paste_66 : SiZ nX9_paste 66 (i_bin (fun x y => x + y) 67) := s_iadd dX9_paste_66
theorem eX9_paste_67 : SiZ nX9_paste 67 (i_push (.int 0) 68) := s_iconst dX9_paste_67 (by decide)
theorem eX9_paste_68 : SiZ nX9_paste 68 (i_push (.int 9) 70) := s_bipush dX9_paste_68 (by decide)
theorem eX9_paste_70 : SiZ nX9_paste 70 (i_iload 2 71) := s_iload_n dX9_paste_70 rfl
theorem eX9_paste_71 : SiZ nX9_paste 71 (i_push (.int 40) 73) := s_bipush dX9_paste_71 (by decide)
theorem eX9_paste_73 : SiZ nX9_paste 73 (i_iload 3 74) := s_iload_n dX9_paste_73 rfl
theorem eX9_paste_74 : SiZ nX9_paste 74 (i_bin (fun x y => x * y) 75) := s_imul dX9_paste_74
theorem eX9_paste_75 : SiZ nX9_paste 75 (i_iload 4 77) := s_iload dX9_paste_75
theorem eX9_paste_77 : SiZ nX9_paste 77 (i_bin (fun x y => x + y) 78) := s_iadd dX9_paste_77
theorem eX9_paste_78 : SiZ nX9_paste 78 (i_iload 5 80) := s_iload dX9_paste_78
theorem eX9_paste_80 : ScZ nX9_paste 80 (c_V 6 83 9 9 (Mt mX9_fits 9)) := e_V (mi := nX9_paste) (mi' := nX9_fits) (len := 3) (fun h b as rest hk hl => cs_V (ci := 8) (mi := nX9_paste) (pc := 80) (y := yX9_fits) (idx := 258) dX9_paste_80 q1610 q1612 qs66 rfl hk hyX9_fits (sigC q1613) pnX9_fits hl) wdX9_fits zX9_fits (Nat.le_of_ble_eq_true rfl) (Nat.le_of_ble_eq_true rfl)
theorem eX9_paste_83 : SiZ nX9_paste 83 i_iret := s_iret dX9_paste_83 rfl
theorem aX9_paste : ∀ x ∈ mX9_paste.1, EnZ nX9_paste x := fm_cons eX9_paste_0 (fm_cons eX9_paste_1 (fm_cons eX9_paste_2 (fm_cons eX9_paste_5 (fm_cons eX9_paste_8 (fm_cons eX9_paste_9 (fm_cons eX9_paste_10 (fm_cons eX9_paste_13 (fm_cons eX9_paste_16 (fm_cons eX9_paste_17 (fm_cons eX9_paste_20 (fm_cons eX9_paste_23 (fm_cons eX9_paste_25 (fm_cons eX9_paste_26 (fm_cons eX9_paste_27 (fm_cons eX9_paste_30 (fm_cons eX9_paste_33 (fm_cons eX9_paste_36 (fm_cons eX9_paste_38 (fm_cons eX9_paste_41 (fm_cons eX9_paste_42 (fm_cons eX9_paste_43 (fm_cons eX9_paste_45 (fm_cons eX9_paste_47 (fm_cons eX9_paste_50 (fm_cons eX9_paste_52 (fm_cons eX9_paste_54 (fm_cons eX9_paste_57 (fm_cons eX9_paste_59 (fm_cons eX9_paste_62 (fm_cons eX9_paste_63 (fm_cons eX9_paste_65 (fm_cons eX9_paste_66 (fm_cons eX9_paste_67 (fm_cons eX9_paste_68 (fm_cons eX9_paste_70 (fm_cons eX9_paste_71 (fm_cons eX9_paste_73 (fm_cons eX9_paste_74 (fm_cons eX9_paste_75 (fm_cons eX9_paste_77 (fm_cons eX9_paste_78 (fm_cons eX9_paste_80 (fm_cons eX9_paste_83 (fm_nil))))))))))))))))))))))))))))))))))))))))))))
theorem zX9_paste : SwZ nX9_paste (Mt mX9_paste 7) := wholeZ (mi := nX9_paste) (cd := mX9_paste) aX9_paste rfl (HdZ.none rfl)
abbrev nX9_hungers : MI := (cX9_hungers, 6, (some (.int)), RX9, "hungers", [], 7, 195)
theorem hyX9_hungers : yX9_hungers.cls ≠ "java/lang/invoke/MethodHandle" ∧ yX9_hungers.cls ≠ "java/lang/invoke/VarHandle" := by decide +kernel
theorem pnX9_hungers : (parseMethodDescriptor yX9_hungers.desc).map (fun d => d.parameters.length) = some 4 := by decide +kernel
theorem wdX9_hungers : CdW yX9_hungers (nX9_hungers) := ⟨Or.inl ⟨q1625, rfl⟩, rfl, rfl, plainFor_of_name (by decide +kernel)⟩
theorem eX9_hungers_0 : SiZ nX9_hungers 0 (i_aload 0 1) := s_aload_n dX9_hungers_0 rfl
theorem eX9_hungers_1 : SiZ nX9_hungers 1 (i_iload 1 2) := s_iload_n dX9_hungers_1 rfl
theorem eX9_hungers_2 : ScZ nX9_hungers 2 (c_V 1 5 2 9 (Mt mX9_isBook 2)) := e_V (mi := nX9_hungers) (mi' := nX9_isBook) (len := 3) (fun h b as rest hk hl => cs_V (ci := 8) (mi := nX9_hungers) (pc := 2) (y := yX9_isBook) (idx := 194) dX9_hungers_2 q1476 q1478 qs53 rfl hk hyX9_isBook (sigC q1479) pnX9_isBook hl) wdX9_isBook zX9_isBook (Nat.le_of_ble_eq_true rfl) (Nat.le_of_ble_eq_true rfl)
theorem eX9_hungers_5 : SiZ nX9_hungers 5 (i_if (fun x => x = 0) 28 8) := s_if_eq dX9_hungers_5 (by decide)
theorem eX9_hungers_8 : SiZ nX9_hungers 8 (i_iload 2 9) := s_iload_n dX9_hungers_8 rfl
theorem eX9_hungers_9 : ScZ nX9_hungers 9 (c_S 1 12 1 (Mt mX9_isRow 1)) := e_S (mi := nX9_hungers) (mi' := nX9_isRow) (len := 3) (fun h as rest hl => cs_S (mi := nX9_hungers) (pc := 9) (y := yX9_isRow) (idx := 67) dX9_hungers_9 q1331 q1332 q89 q1333 hyX9_isRow pnX9_isRow hl) wdX9_isRow zX9_isRow (Nat.le_of_ble_eq_true rfl) (Nat.le_of_ble_eq_true rfl)
theorem eX9_hungers_12 : SiZ nX9_hungers 12 (i_if (fun x => x = 0) 28 15) := s_if_eq dX9_hungers_12 (by decide)
theorem eX9_hungers_15 : SiZ nX9_hungers 15 (i_iload 4 17) := s_iload dX9_hungers_15
theorem eX9_hungers_17 : SiZ nX9_hungers 17 (i_i2l 18) := s_i2l dX9_hungers_17
theorem eX9_hungers_18 : SiZ nX9_hungers 18 (i_push (.long 1) 19) := s_lconst dX9_hungers_18 (by decide)
theorem eX9_hungers_19 : SiZ nX9_hungers 19 (i_push (.long 12) 22) := s_ldc2 dX9_hungers_19 q1567
theorem eX9_hungers_22 : ScZ nX9_hungers 22 (c_S 3 25 6 (Mt mX9_in 6)) := e_S (mi := nX9_hungers) (mi' := nX9_in) (len := 3) (fun h as rest hl => cs_S (mi := nX9_hungers) (pc := 22) (y := yX9_in) (idx := 63) dX9_hungers_22 q1335 q1336 q89 q1337 hyX9_in pnX9_in hl) wdX9_in zX9_in (Nat.le_of_ble_eq_true rfl) (Nat.le_of_ble_eq_true rfl)
theorem eX9_hungers_25 : SiZ nX9_hungers 25 (i_if (fun x => ¬ x = 0) 33 28) := s_if_ne dX9_hungers_25 (by decide)
theorem eX9_hungers_28 : SiZ nX9_hungers 28 (i_push (.int (-1000001)) 30) := s_ldc dX9_hungers_28 q1339
theorem eX9_hungers_30 : SiZ nX9_hungers 30 (i_goto 41) := s_goto dX9_hungers_30 (by decide)
theorem eX9_hungers_33 : SiZ nX9_hungers 33 (i_aload 0 34) := s_aload_n dX9_hungers_33 rfl
theorem eX9_hungers_34 : SiZ nX9_hungers 34 (i_iload 2 35) := s_iload_n dX9_hungers_34 rfl
theorem eX9_hungers_35 : SiZ nX9_hungers 35 (i_iload 3 36) := s_iload_n dX9_hungers_35 rfl
theorem eX9_hungers_36 : SiZ nX9_hungers 36 (i_iload 4 38) := s_iload dX9_hungers_36
theorem eX9_hungers_38 : ScZ nX9_hungers 38 (c_V 3 41 4 9 (Mt mX9_lacks 4)) := e_V (mi := nX9_hungers) (mi' := nX9_lacks) (len := 3) (fun h b as rest hk hl => cs_V (ci := 8) (mi := nX9_hungers) (pc := 38) (y := yX9_lacks) (idx := 254) dX9_hungers_38 q1606 q1608 qs65 rfl hk hyX9_lacks (sigC q1609) pnX9_lacks hl) wdX9_lacks zX9_lacks (Nat.le_of_ble_eq_true rfl) (Nat.le_of_ble_eq_true rfl)
theorem eX9_hungers_41 : SiZ nX9_hungers 41 (i_istore 5 43) := s_istore dX9_hungers_41
theorem eX9_hungers_43 : SiZ nX9_hungers 43 (i_iload 5 45) := s_iload dX9_hungers_43
theorem eX9_hungers_45 : SiZ nX9_hungers 45 (i_if (fun x => 0 ≤ x) 53 48) := s_if_ge dX9_hungers_45 (by decide)
theorem eX9_hungers_48 : SiZ nX9_hungers 48 (i_iload 5 50) := s_iload dX9_hungers_48
theorem eX9_hungers_50 : SiZ nX9_hungers 50 (i_goto 70) := s_goto dX9_hungers_50 (by decide)
theorem eX9_hungers_53 : SiZ nX9_hungers 53 (i_aload 0 54) := s_aload_n dX9_hungers_53 rfl
theorem eX9_hungers_54 : SiZ nX9_hungers 54 (i_push (.int 2) 55) := s_iconst dX9_hungers_54 (by decide)
theorem eX9_hungers_55 : SiZ nX9_hungers 55 (i_push (.int 1) 56) := s_iconst dX9_hungers_55 (by decide)
theorem eX9_hungers_56 : SiZ nX9_hungers 56 (i_push (.int 9) 58) := s_bipush dX9_hungers_56 (by decide)
theorem eX9_hungers_58 : SiZ nX9_hungers 58 (i_iload 1 59) := s_iload_n dX9_hungers_58 rfl
theorem eX9_hungers_59 : SiZ nX9_hungers 59 (i_push (.int 40) 61) := s_bipush dX9_hungers_59 (by decide)
theorem eX9_hungers_61 : SiZ nX9_hungers 61 (i_iload 2 62) := s_iload_n dX9_hungers_61 rfl
theorem eX9_hungers_62 : SiZ nX9_hungers 62 (i_bin (fun x y => x * y) 63) := s_imul dX9_hungers_62
theorem eX9_hungers_63 : SiZ nX9_hungers 63 (i_iload 3 64) := s_iload_n dX9_hungers_63 rfl
theorem eX9_hungers_64 : SiZ nX9_hungers 64 (i_bin (fun x y => x + y) 65) := s_iadd dX9_hungers_64
theorem eX9_hungers_65 : SiZ nX9_hungers 65 (i_iload 4 67) := s_iload dX9_hungers_65
theorem eX9_hungers_67 : ScZ nX9_hungers 67 (c_V 6 70 9 9 (Mt mX9_fits 9)) := e_V (mi := nX9_hungers) (mi' := nX9_fits) (len := 3) (fun h b as rest hk hl => cs_V (ci := 8) (mi := nX9_hungers) (pc := 67) (y := yX9_fits) (idx := 258) dX9_hungers_67 q1610 q1612 qs66 rfl hk hyX9_fits (sigC q1613) pnX9_fits hl) wdX9_fits zX9_fits (Nat.le_of_ble_eq_true rfl) (Nat.le_of_ble_eq_true rfl)
theorem eX9_hungers_70 : SiZ nX9_hungers 70 i_iret := s_iret dX9_hungers_70 rfl
theorem aX9_hungers : ∀ x ∈ mX9_hungers.1, EnZ nX9_hungers x := fm_cons eX9_hungers_0 (fm_cons eX9_hungers_1 (fm_cons eX9_hungers_2 (fm_cons eX9_hungers_5 (fm_cons eX9_hungers_8 (fm_cons eX9_hungers_9 (fm_cons eX9_hungers_12 (fm_cons eX9_hungers_15 (fm_cons eX9_hungers_17 (fm_cons eX9_hungers_18 (fm_cons eX9_hungers_19 (fm_cons eX9_hungers_22 (fm_cons eX9_hungers_25 (fm_cons eX9_hungers_28 (fm_cons eX9_hungers_30 (fm_cons eX9_hungers_33 (fm_cons eX9_hungers_34 (fm_cons eX9_hungers_35 (fm_cons eX9_hungers_36 (fm_cons eX9_hungers_38 (fm_cons eX9_hungers_41 (fm_cons eX9_hungers_43 (fm_cons eX9_hungers_45 (fm_cons eX9_hungers_48 (fm_cons eX9_hungers_50 (fm_cons eX9_hungers_53 (fm_cons eX9_hungers_54 (fm_cons eX9_hungers_55 (fm_cons eX9_hungers_56 (fm_cons eX9_hungers_58 (fm_cons eX9_hungers_59 (fm_cons eX9_hungers_61 (fm_cons eX9_hungers_62 (fm_cons eX9_hungers_63 (fm_cons eX9_hungers_64 (fm_cons eX9_hungers_65 (fm_cons eX9_hungers_67 (fm_cons eX9_hungers_70 (fm_nil))))))))))))))))))))))))))))))))))))))
theorem zX9_hungers : SwZ nX9_hungers (Mt mX9_hungers 6) := wholeZ (mi := nX9_hungers) (cd := mX9_hungers) aX9_hungers rfl (HdZ.none rfl)
abbrev nX9_dark : MI := (cX9_dark, 16, (some (.long)), RX9, "dark", [], 7, 187)
theorem hyX9_dark : yX9_dark.cls ≠ "java/lang/invoke/MethodHandle" ∧ yX9_dark.cls ≠ "java/lang/invoke/VarHandle" := by decide +kernel
theorem pnX9_dark : (parseMethodDescriptor yX9_dark.desc).map (fun d => d.parameters.length) = some 4 := by decide +kernel
theorem wdX9_dark : CdW yX9_dark (nX9_dark) := ⟨Or.inl ⟨q1629, rfl⟩, rfl, rfl, plainFor_of_name (by decide +kernel)⟩
theorem eX9_dark_0 : SiZ nX9_dark 0 (i_aload 0 1) := s_aload_n dX9_dark_0 rfl
theorem eX9_dark_1 : SiZ nX9_dark 1 (i_iload 1 2) := s_iload_n dX9_dark_1 rfl
theorem eX9_dark_2 : ScZ nX9_dark 2 (c_V 1 5 2 9 (Mt mX9_isBook 2)) := e_V (mi := nX9_dark) (mi' := nX9_isBook) (len := 3) (fun h b as rest hk hl => cs_V (ci := 8) (mi := nX9_dark) (pc := 2) (y := yX9_isBook) (idx := 194) dX9_dark_2 q1476 q1478 qs53 rfl hk hyX9_isBook (sigC q1479) pnX9_isBook hl) wdX9_isBook zX9_isBook (Nat.le_of_ble_eq_true rfl) (Nat.le_of_ble_eq_true rfl)
theorem eX9_dark_5 : SiZ nX9_dark 5 (i_if (fun x => x = 0) 40 8) := s_if_eq dX9_dark_5 (by decide)
theorem eX9_dark_8 : SiZ nX9_dark 8 (i_iload 2 9) := s_iload_n dX9_dark_8 rfl
theorem eX9_dark_9 : SiZ nX9_dark 9 (i_i2l 10) := s_i2l dX9_dark_9
theorem eX9_dark_10 : SiZ nX9_dark 10 (i_push (.long 0) 11) := s_lconst dX9_dark_10 (by decide)
theorem eX9_dark_11 : SiZ nX9_dark 11 (i_push (.long 60) 14) := s_ldc2 dX9_dark_11 q1524
theorem eX9_dark_14 : ScZ nX9_dark 14 (c_S 3 17 6 (Mt mX9_in 6)) := e_S (mi := nX9_dark) (mi' := nX9_in) (len := 3) (fun h as rest hl => cs_S (mi := nX9_dark) (pc := 14) (y := yX9_in) (idx := 63) dX9_dark_14 q1335 q1336 q89 q1337 hyX9_in pnX9_in hl) wdX9_in zX9_in (Nat.le_of_ble_eq_true rfl) (Nat.le_of_ble_eq_true rfl)
theorem eX9_dark_17 : SiZ nX9_dark 17 (i_if (fun x => x = 0) 40 20) := s_if_eq dX9_dark_17 (by decide)
theorem eX9_dark_20 : SiZ nX9_dark 20 (i_iload 3 21) := s_iload_n dX9_dark_20 rfl
theorem eX9_dark_21 : SiZ nX9_dark 21 (i_i2l 22) := s_i2l dX9_dark_21
theorem eX9_dark_22 : SiZ nX9_dark 22 (i_push (.long 0) 23) := s_lconst dX9_dark_22 (by decide)
theorem eX9_dark_23 : SiZ nX9_dark 23 (i_push (.long 10) 26) := s_ldc2 dX9_dark_23 q1630
theorem eX9_dark_26 : ScZ nX9_dark 26 (c_S 3 29 6 (Mt mX9_in 6)) := e_S (mi := nX9_dark) (mi' := nX9_in) (len := 3) (fun h as rest hl => cs_S (mi := nX9_dark) (pc := 26) (y := yX9_in) (idx := 63) dX9_dark_26 q1335 q1336 q89 q1337 hyX9_in pnX9_in hl) wdX9_in zX9_in (Nat.le_of_ble_eq_true rfl) (Nat.le_of_ble_eq_true rfl)
theorem eX9_dark_29 : SiZ nX9_dark 29 (i_if (fun x => x = 0) 40 32) := s_if_eq dX9_dark_29 (by decide)
theorem eX9_dark_32 : SiZ nX9_dark 32 (i_iload 4 34) := s_iload dX9_dark_32
theorem eX9_dark_34 : ScZ nX9_dark 34 (c_S 1 37 1 (Mt mX9_isWhat 1)) := e_S (mi := nX9_dark) (mi' := nX9_isWhat) (len := 3) (fun h as rest hl => cs_S (mi := nX9_dark) (pc := 34) (y := yX9_isWhat) (idx := 216) dX9_dark_34 q1525 q1526 q89 q1527 hyX9_isWhat pnX9_isWhat hl) wdX9_isWhat zX9_isWhat (Nat.le_of_ble_eq_true rfl) (Nat.le_of_ble_eq_true rfl)
theorem eX9_dark_37 : SiZ nX9_dark 37 (i_if (fun x => ¬ x = 0) 44 40) := s_if_ne dX9_dark_37 (by decide)
theorem eX9_dark_40 : SiZ nX9_dark 40 (i_push (.long (-1000001)) 43) := s_ldc2 dX9_dark_40 q1631
theorem eX9_dark_43 : SiZ nX9_dark 43 i_lret := s_lret dX9_dark_43 rfl
theorem eX9_dark_44 : SiZ nX9_dark 44 (i_aload 0 45) := s_aload_n dX9_dark_44 rfl
theorem eX9_dark_45 : ScZ nX9_dark 45 (c_V 0 48 2 9 (Mt mX9_putAside 2)) := e_V (mi := nX9_dark) (mi' := nX9_putAside) (len := 3) (fun h b as rest hk hl => cs_V (ci := 8) (mi := nX9_dark) (pc := 45) (y := yX9_putAside) (idx := 219) dX9_dark_45 q1528 q1530 qs56 rfl hk hyX9_putAside (sigC q1531) pnX9_putAside hl) wdX9_putAside zX9_putAside (Nat.le_of_ble_eq_true rfl) (Nat.le_of_ble_eq_true rfl)
theorem eX9_dark_48 : SiZ nX9_dark 48 (i_aload 0 49) := s_aload_n dX9_dark_48 rfl
theorem eX9_dark_49 : SiZ nX9_dark 49 (i_getf 81 [9] 52) := s_getf dX9_dark_49 (fm_cons (⟨_, _, _, _, _, _, rfl, fkX9_19_9⟩) (fm_nil))
theorem eX9_dark_52 : SiZ nX9_dark 52 (i_push (.int 5) 53) := s_iconst dX9_dark_52 (by decide)
theorem eX9_dark_53 : SiZ nX9_dark 53 (i_iald 51 54) := s_ald (j := 0) (by decide) (fun _ => rfl) dX9_dark_53 (Or.inl ⟨rfl, rfl⟩)
theorem eX9_dark_54 : SiZ nX9_dark 54 (i_istore 5 56) := s_istore dX9_dark_54
theorem eX9_dark_56 : SiZ nX9_dark 56 (i_push (.long 0) 57) := s_lconst dX9_dark_56 (by decide)
theorem eX9_dark_57 : SiZ nX9_dark 57 (i_lstore 6 59) := s_lstore dX9_dark_57
theorem eX9_dark_59 : SiZ nX9_dark 59 (i_push (.long 1) 60) := s_lconst dX9_dark_59 (by decide)
theorem eX9_dark_60 : SiZ nX9_dark 60 (i_lstore 8 62) := s_lstore dX9_dark_60
theorem eX9_dark_62 : SiZ nX9_dark 62 (i_iload 5 64) := s_iload dX9_dark_62
theorem eX9_dark_64 : ScZ nX9_dark 64 (c_S 1 67 3 (Mt mX9_ones 3)) := e_S (mi := nX9_dark) (mi' := nX9_ones) (len := 3) (fun h as rest hl => cs_S (mi := nX9_dark) (pc := 64) (y := yX9_ones) (idx := 197) dX9_dark_64 q1480 q1481 q89 q1482 hyX9_ones pnX9_ones hl) wdX9_ones zX9_ones (Nat.le_of_ble_eq_true rfl) (Nat.le_of_ble_eq_true rfl)
theorem eX9_dark_67 : SiZ nX9_dark 67 (i_istore 10 69) := s_istore dX9_dark_67
theorem eX9_dark_69 : SiZ nX9_dark 69 (i_iload 10 71) := s_iload dX9_dark_69
theorem eX9_dark_71 : SiZ nX9_dark 71 (i_if (fun x => x ≤ 0) 88 74) := s_if_le dX9_dark_71 (by decide)
theorem eX9_dark_74 : SiZ nX9_dark 74 (i_lload 8 76) := s_lload dX9_dark_74
theorem eX9_dark_76 : SiZ nX9_dark 76 (i_push (.long 10) 79) := s_ldc2 dX9_dark_76 q1630
theorem eX9_dark_79 : SiZ nX9_dark 79 (i_lbin (fun x y => x * y) 80) := s_lmul dX9_dark_79
theorem eX9_dark_80 : SiZ nX9_dark 80 (i_lstore 8 82) := s_lstore dX9_dark_80
theorem eX9_dark_82 : SiZ nX9_dark 82 (i_iinc 10 (-1) 85) := s_iinc dX9_dark_82 (by decide)
theorem eX9_dark_85 : SiZ nX9_dark 85 (i_goto 69) := s_goto dX9_dark_85 (by decide)
theorem eX9_dark_88 : SiZ nX9_dark 88 (i_push (.int 0) 89) := s_iconst dX9_dark_88 (by decide)
theorem eX9_dark_89 : SiZ nX9_dark 89 (i_istore 10 91) := s_istore dX9_dark_89
theorem eX9_dark_91 : SiZ nX9_dark 91 (i_iload 10 93) := s_iload dX9_dark_91
theorem eX9_dark_93 : SiZ nX9_dark 93 (i_iload 5 95) := s_iload dX9_dark_93
theorem eX9_dark_95 : SiZ nX9_dark 95 (i_icmp (fun x y => y < x) 209 98) := s_icmp_gt dX9_dark_95 (by decide)
theorem eX9_dark_98 : SiZ nX9_dark 98 (i_iload 10 100) := s_iload dX9_dark_98
theorem eX9_dark_100 : SiZ nX9_dark 100 (i_iload 5 102) := s_iload dX9_dark_100
theorem eX9_dark_102 : SiZ nX9_dark 102 (i_push (.int (-1)) 103) := s_iconst dX9_dark_102 (by decide)
theorem eX9_dark_103 : SiZ nX9_dark 103 (i_bin (fun x y => x ^^^ y) 104) := s_ixor dX9_dark_103
theorem eX9_dark_104 : SiZ nX9_dark 104 (i_bin (fun x y => x &&& y) 105) := s_iand dX9_dark_104
theorem eX9_dark_105 : SiZ nX9_dark 105 (i_if (fun x => ¬ x = 0) 203 108) := s_if_ne dX9_dark_105 (by decide)
theorem eX9_dark_108 : SiZ nX9_dark 108 (i_push (.long 1) 109) := s_lconst dX9_dark_108 (by decide)
theorem eX9_dark_109 : SiZ nX9_dark 109 (i_lstore 11 111) := s_lstore dX9_dark_109
theorem eX9_dark_111 : SiZ nX9_dark 111 (i_push (.int 0) 112) := s_iconst dX9_dark_111 (by decide)
theorem eX9_dark_112 : SiZ nX9_dark 112 (i_istore 13 114) := s_istore dX9_dark_112
theorem eX9_dark_114 : SiZ nX9_dark 114 (i_iload 13 116) := s_iload dX9_dark_114
theorem eX9_dark_116 : SiZ nX9_dark 116 (i_aload 0 117) := s_aload_n dX9_dark_116 rfl
theorem eX9_dark_117 : SiZ nX9_dark 117 (i_getf 81 [9] 120) := s_getf dX9_dark_117 (fm_cons (⟨_, _, _, _, _, _, rfl, fkX9_19_9⟩) (fm_nil))
theorem eX9_dark_120 : SiZ nX9_dark 120 (i_push (.int 0) 121) := s_iconst dX9_dark_120 (by decide)
theorem eX9_dark_121 : SiZ nX9_dark 121 (i_iald 51 122) := s_ald (j := 0) (by decide) (fun _ => rfl) dX9_dark_121 (Or.inl ⟨rfl, rfl⟩)
theorem eX9_dark_122 : SiZ nX9_dark 122 (i_icmp (fun x y => y ≤ x) 170 125) := s_icmp_ge dX9_dark_122 (by decide)
theorem eX9_dark_125 : SiZ nX9_dark 125 (i_lload 11 127) := s_lload dX9_dark_125
theorem eX9_dark_127 : SiZ nX9_dark 127 (i_iload 5 129) := s_iload dX9_dark_127
theorem eX9_dark_129 : SiZ nX9_dark 129 (i_iload 13 131) := s_iload dX9_dark_129
theorem eX9_dark_131 : ScZ nX9_dark 131 (c_S 2 134 2 (Mt mX9_has 2)) := e_S (mi := nX9_dark) (mi' := nX9_has) (len := 3) (fun h as rest hl => cs_S (mi := nX9_dark) (pc := 131) (y := yX9_has) (idx := 154) dX9_dark_131 q1440 q1441 q89 q1442 hyX9_has pnX9_has hl) wdX9_has zX9_has (Nat.le_of_ble_eq_true rfl) (Nat.le_of_ble_eq_true rfl)
theorem eX9_dark_134 : SiZ nX9_dark 134 (i_if (fun x => ¬ x = 0) 141 137) := s_if_ne dX9_dark_134 (by decide)
theorem eX9_dark_137 : SiZ nX9_dark 137 (i_push (.long 1) 138) := s_lconst dX9_dark_137 (by decide)
theorem eX9_dark_138 : SiZ nX9_dark 138 (i_goto 161) := s_goto dX9_dark_138 (by decide)
theorem eX9_dark_141 : SiZ nX9_dark 141 (i_iload 10 143) := s_iload dX9_dark_141
theorem eX9_dark_143 : SiZ nX9_dark 143 (i_iload 13 145) := s_iload dX9_dark_143
theorem eX9_dark_145 : ScZ nX9_dark 145 (c_S 2 148 2 (Mt mX9_has 2)) := e_S (mi := nX9_dark) (mi' := nX9_has) (len := 3) (fun h as rest hl => cs_S (mi := nX9_dark) (pc := 145) (y := yX9_has) (idx := 154) dX9_dark_145 q1440 q1441 q89 q1442 hyX9_has pnX9_has hl) wdX9_has zX9_has (Nat.le_of_ble_eq_true rfl) (Nat.le_of_ble_eq_true rfl)
theorem eX9_dark_148 : SiZ nX9_dark 148 (i_if (fun x => x = 0) 156 151) := s_if_eq dX9_dark_148 (by decide)
theorem eX9_dark_151 : SiZ nX9_dark 151 (i_iload 3 152) := s_iload_n dX9_dark_151 rfl
theorem eX9_dark_152 : SiZ nX9_dark 152 (i_i2l 153) := s_i2l dX9_dark_152
theorem eX9_dark_153 : SiZ nX9_dark 153 (i_goto 161) := s_goto dX9_dark_153 (by decide)
theorem eX9_dark_156 : SiZ nX9_dark 156 (i_push (.int 10) 158) := s_bipush dX9_dark_156 (by decide)
theorem eX9_dark_158 : SiZ nX9_dark 158 (i_iload 3 159) := s_iload_n dX9_dark_158 rfl
theorem eX9_dark_159 : SiZ nX9_dark 159 (i_bin (fun x y => x - y) 160) := s_isub dX9_dark_159
theorem eX9_dark_160 : SiZ nX9_dark 160 (i_i2l 161) := s_i2l dX9_dark_160
theorem eX9_dark_161 : SiZ nX9_dark 161 (i_lbin (fun x y => x * y) 162) := s_lmul dX9_dark_161
theorem eX9_dark_162 : SiZ nX9_dark 162 (i_lstore 11 164) := s_lstore dX9_dark_162
theorem eX9_dark_164 : SiZ nX9_dark 164 (i_iinc 13 1 167) := s_iinc dX9_dark_164 (by decide)
theorem eX9_dark_167 : SiZ nX9_dark 167 (i_goto 114) := s_goto dX9_dark_167 (by decide)
theorem eX9_dark_170 : SiZ nX9_dark 170 (i_aload 0 171) := s_aload_n dX9_dark_170 rfl
theorem eX9_dark_171 : SiZ nX9_dark 171 (i_getf 81 [9] 174) := s_getf dX9_dark_171 (fm_cons (⟨_, _, _, _, _, _, rfl, fkX9_19_9⟩) (fm_nil))
theorem eX9_dark_174 : SiZ nX9_dark 174 (i_push (.int 5) 175) := s_iconst dX9_dark_174 (by decide)
theorem eX9_dark_175 : SiZ nX9_dark 175 (i_iload 5 177) := s_iload dX9_dark_175
theorem eX9_dark_177 : SiZ nX9_dark 177 (i_iload 10 179) := s_iload dX9_dark_177
theorem eX9_dark_179 : SiZ nX9_dark 179 (i_push (.int (-1)) 180) := s_iconst dX9_dark_179 (by decide)
theorem eX9_dark_180 : SiZ nX9_dark 180 (i_bin (fun x y => x ^^^ y) 181) := s_ixor dX9_dark_180
theorem eX9_dark_181 : SiZ nX9_dark 181 (i_bin (fun x y => x &&& y) 182) := s_iand dX9_dark_181
theorem eX9_dark_182 : SiZ nX9_dark 182 (i_iast 51 (fun x => x) 183) := s_ast (j := 0) (by decide) (fun _ => rfl) dX9_dark_182 (Or.inl ⟨rfl, rfl, rfl⟩)
theorem eX9_dark_183 : SiZ nX9_dark 183 (i_lload 6 185) := s_lload dX9_dark_183
theorem eX9_dark_185 : SiZ nX9_dark 185 (i_aload 0 186) := s_aload_n dX9_dark_185 rfl
theorem eX9_dark_186 : SiZ nX9_dark 186 (i_iload 1 187) := s_iload_n dX9_dark_186 rfl
theorem eX9_dark_187 : SiZ nX9_dark 187 (i_iload 2 188) := s_iload_n dX9_dark_187 rfl
theorem eX9_dark_188 : ScZ nX9_dark 188 (c_V 2 191 4 9 (Mt mX9_pagesBehind 4)) := e_V (mi := nX9_dark) (mi' := nX9_pagesBehind) (len := 3) (fun h b as rest hk hl => cs_V (ci := 8) (mi := nX9_dark) (pc := 188) (y := yX9_pagesBehind) (idx := 242) dX9_dark_188 q1585 q1587 qs63 rfl hk hyX9_pagesBehind (sigC q1588) pnX9_pagesBehind hl) wdX9_pagesBehind zX9_pagesBehind (Nat.le_of_ble_eq_true rfl) (Nat.le_of_ble_eq_true rfl)
theorem eX9_dark_191 : SiZ nX9_dark 191 (i_if (fun x => x ≤ 0) 199 194) := s_if_le dX9_dark_191 (by decide)
theorem eX9_dark_194 : SiZ nX9_dark 194 (i_lload 11 196) := s_lload dX9_dark_194
theorem eX9_dark_196 : SiZ nX9_dark 196 (i_goto 200) := s_goto dX9_dark_196 (by decide)
theorem eX9_dark_199 : SiZ nX9_dark 199 (i_push (.long 0) 200) := s_lconst dX9_dark_199 (by decide)
theorem eX9_dark_200 : SiZ nX9_dark 200 (i_lbin (fun x y => x + y) 201) := s_ladd dX9_dark_200
theorem eX9_dark_201 : SiZ nX9_dark 201 (i_lstore 6 203) := s_lstore dX9_dark_201
theorem eX9_dark_203 : SiZ nX9_dark 203 (i_iinc 10 1 206) := s_iinc dX9_dark_203 (by decide)
theorem eX9_dark_206 : SiZ nX9_dark 206 (i_goto 91) := s_goto dX9_dark_206 (by decide)
theorem eX9_dark_209 : SiZ nX9_dark 209 (i_lload 6 211) := s_lload dX9_dark_209
theorem eX9_dark_211 : SiZ nX9_dark 211 (i_lstore 10 213) := s_lstore dX9_dark_211
theorem eX9_dark_213 : SiZ nX9_dark 213 (i_lload 8 215) := s_lload dX9_dark_213
theorem eX9_dark_215 : SiZ nX9_dark 215 (i_lstore 12 217) := s_lstore dX9_dark_215
theorem eX9_dark_217 : SiZ nX9_dark 217 (i_lload 12 219) := s_lload dX9_dark_217
theorem eX9_dark_219 : SiZ nX9_dark 219 (i_push (.long 0) 220) := s_lconst dX9_dark_219 (by decide)
theorem eX9_dark_220 : SiZ nX9_dark 220 (i_lcmp 221) := s_lcmp dX9_dark_220
theorem eX9_dark_221 : SiZ nX9_dark 221 (i_if (fun x => x = 0) 242 224) := s_if_eq dX9_dark_221 (by decide)
theorem eX9_dark_224 : SiZ nX9_dark 224 (i_lload 10 226) := s_lload dX9_dark_224
theorem eX9_dark_226 : SiZ nX9_dark 226 (i_lload 12 228) := s_lload dX9_dark_226
theorem eX9_dark_228 : SiZ nX9_dark 228 (i_lbing (fun x y => x - x / y * y) 229) := s_lrem dX9_dark_228
theorem eX9_dark_229 : SiZ nX9_dark 229 (i_lstore 14 231) := s_lstore dX9_dark_229
theorem eX9_dark_231 : SiZ nX9_dark 231 (i_lload 12 233) := s_lload dX9_dark_231
theorem eX9_dark_233 : SiZ nX9_dark 233 (i_lstore 10 235) := s_lstore dX9_dark_233
theorem eX9_dark_235 : SiZ nX9_dark 235 (i_lload 14 237) := s_lload dX9_dark_235
theorem eX9_dark_237 : SiZ nX9_dark 237 (i_lstore 12 239) := s_lstore dX9_dark_237
theorem eX9_dark_239 : SiZ nX9_dark 239 (i_goto 217) := s_goto dX9_dark_239 (by decide)
theorem eX9_dark_242 : SiZ nX9_dark 242 (i_iload 4 244) := s_iload dX9_dark_242
theorem eX9_dark_244 : SiZ nX9_dark 244 (i_if (fun x => ¬ x = 0) 255 247) := s_if_ne dX9_dark_244 (by decide)
theorem eX9_dark_247 : SiZ nX9_dark 247 (i_lload 6 249) := s_lload dX9_dark_247
theorem eX9_dark_249 : SiZ nX9_dark 249 (i_lload 10 251) := s_lload dX9_dark_249
theorem eX9_dark_251 : SiZ nX9_dark 251 (i_lbing (fun x y => x / y) 252) := s_ldiv dX9_dark_251
theorem eX9_dark_252 : SiZ nX9_dark 252 (i_goto 260) := s_goto dX9_dark_252 (by decide)
theorem eX9_dark_255 : SiZ nX9_dark 255 (i_lload 8 257) := s_lload dX9_dark_255
theorem eX9_dark_257 : SiZ nX9_dark 257 (i_lload 10 259) := s_lload dX9_dark_257
theorem eX9_dark_259 : SiZ nX9_dark 259 (i_lbing (fun x y => x / y) 260) := s_ldiv dX9_dark_259
theorem eX9_dark_260 : SiZ nX9_dark 260 i_lret := s_lret dX9_dark_260 rfl
theorem aX9_dark : ∀ x ∈ mX9_dark.1, EnZ nX9_dark x := fm_cons eX9_dark_0 (fm_cons eX9_dark_1 (fm_cons eX9_dark_2 (fm_cons eX9_dark_5 (fm_cons eX9_dark_8 (fm_cons eX9_dark_9 (fm_cons eX9_dark_10 (fm_cons eX9_dark_11 (fm_cons eX9_dark_14 (fm_cons eX9_dark_17 (fm_cons eX9_dark_20 (fm_cons eX9_dark_21 (fm_cons eX9_dark_22 (fm_cons eX9_dark_23 (fm_cons eX9_dark_26 (fm_cons eX9_dark_29 (fm_cons eX9_dark_32 (fm_cons eX9_dark_34 (fm_cons eX9_dark_37 (fm_cons eX9_dark_40 (fm_cons eX9_dark_43 (fm_cons eX9_dark_44 (fm_cons eX9_dark_45 (fm_cons eX9_dark_48 (fm_cons eX9_dark_49 (fm_cons eX9_dark_52 (fm_cons eX9_dark_53 (fm_cons eX9_dark_54 (fm_cons eX9_dark_56 (fm_cons eX9_dark_57 (fm_cons eX9_dark_59 (fm_cons eX9_dark_60 (fm_cons eX9_dark_62 (fm_cons eX9_dark_64 (fm_cons eX9_dark_67 (fm_cons eX9_dark_69 (fm_cons eX9_dark_71 (fm_cons eX9_dark_74 (fm_cons eX9_dark_76 (fm_cons eX9_dark_79 (fm_cons eX9_dark_80 (fm_cons eX9_dark_82 (fm_cons eX9_dark_85 (fm_cons eX9_dark_88 (fm_cons eX9_dark_89 (fm_cons eX9_dark_91 (fm_cons eX9_dark_93 (fm_cons eX9_dark_95 (fm_cons eX9_dark_98 (fm_cons eX9_dark_100 (fm_cons eX9_dark_102 (fm_cons eX9_dark_103 (fm_cons eX9_dark_104 (fm_cons eX9_dark_105 (fm_cons eX9_dark_108 (fm_cons eX9_dark_109 (fm_cons eX9_dark_111 (fm_cons eX9_dark_112 (fm_cons eX9_dark_114 (fm_cons eX9_dark_116 (fm_cons eX9_dark_117 (fm_cons eX9_dark_120 (fm_cons eX9_dark_121 (fm_cons eX9_dark_122 (fm_cons eX9_dark_125 (fm_cons eX9_dark_127 (fm_cons eX9_dark_129 (fm_cons eX9_dark_131 (fm_cons eX9_dark_134 (fm_cons eX9_dark_137 (fm_cons eX9_dark_138 (fm_cons eX9_dark_141 (fm_cons eX9_dark_143 (fm_cons eX9_dark_145 (fm_cons eX9_dark_148 (fm_cons eX9_dark_151 (fm_cons eX9_dark_152 (fm_cons eX9_dark_153 (fm_cons eX9_dark_156 (fm_cons eX9_dark_158 (fm_cons eX9_dark_159 (fm_cons eX9_dark_160 (fm_cons eX9_dark_161 (fm_cons eX9_dark_162 (fm_cons eX9_dark_164 (fm_cons eX9_dark_167 (fm_cons eX9_dark_170 (fm_cons eX9_dark_171 (fm_cons eX9_dark_174 (fm_cons eX9_dark_175 (fm_cons eX9_dark_177 (fm_cons eX9_dark_179 (fm_cons eX9_dark_180 (fm_cons eX9_dark_181 (fm_cons eX9_dark_182 (fm_cons eX9_dark_183 (fm_cons eX9_dark_185 (fm_cons eX9_dark_186 (fm_cons eX9_dark_187 (fm_cons eX9_dark_188 (fm_cons eX9_dark_191 (fm_cons eX9_dark_194 (fm_cons eX9_dark_196 (fm_cons eX9_dark_199 (fm_cons eX9_dark_200 (fm_cons eX9_dark_201 (fm_cons eX9_dark_203 (fm_cons eX9_dark_206 (fm_cons eX9_dark_209 (fm_cons eX9_dark_211 (fm_cons eX9_dark_213 (fm_cons eX9_dark_215 (fm_cons eX9_dark_217 (fm_cons eX9_dark_219 (fm_cons eX9_dark_220 (fm_cons eX9_dark_221 (fm_cons eX9_dark_224 (fm_cons eX9_dark_226 (fm_cons eX9_dark_228 (fm_cons eX9_dark_229 (fm_cons eX9_dark_231 (fm_cons eX9_dark_233 (fm_cons eX9_dark_235 (fm_cons eX9_dark_237 (fm_cons eX9_dark_239 (fm_cons eX9_dark_242 (fm_cons eX9_dark_244 (fm_cons eX9_dark_247 (fm_cons eX9_dark_249 (fm_cons eX9_dark_251 (fm_cons eX9_dark_252 (fm_cons eX9_dark_255 (fm_cons eX9_dark_257 (fm_cons eX9_dark_259 (fm_cons eX9_dark_260 (fm_nil)))))))))))))))))))))))))))))))))))))))))))))))))))))))))))))))))))))))))))))))))))))))))))))))))))))))))))))))))))))))))))))))))))))))
theorem zX9_dark : SwZ nX9_dark (Mt mX9_dark 16) := wholeZ (mi := nX9_dark) (cd := mX9_dark) aX9_dark rfl (HdZ.none rfl)
abbrev nX9_drawn : MI := (cX9_drawn, 8, (some (.int)), RX9, "drawn", [], 5, 134)
theorem hyX9_drawn : yX9_drawn.cls ≠ "java/lang/invoke/MethodHandle" ∧ yX9_drawn.cls ≠ "java/lang/invoke/VarHandle" := by decide +kernel
theorem pnX9_drawn : (parseMethodDescriptor yX9_drawn.desc).map (fun d => d.parameters.length) = some 3 := by decide +kernel
theorem wdX9_drawn : CdW yX9_drawn (nX9_drawn) := ⟨Or.inl ⟨q1635, rfl⟩, rfl, rfl, plainFor_of_name (by decide +kernel)⟩
theorem eX9_drawn_0 : SiZ nX9_drawn 0 (i_aload 0 1) := s_aload_n dX9_drawn_0 rfl
theorem eX9_drawn_1 : SiZ nX9_drawn 1 (i_getf 78 [9] 4) := s_getf dX9_drawn_1 (fm_cons (⟨_, _, _, _, _, _, rfl, fkX9_147_9⟩) (fm_nil))
theorem eX9_drawn_4 : SiZ nX9_drawn 4 (i_if (fun x => ¬ x = 0) 10 7) := s_if_ne dX9_drawn_4 (by decide)
theorem eX9_drawn_7 : SiZ nX9_drawn 7 (i_push (.int (-1000002)) 9) := s_ldc dX9_drawn_7 q1422
theorem eX9_drawn_9 : SiZ nX9_drawn 9 i_iret := s_iret dX9_drawn_9 rfl
theorem eX9_drawn_10 : SiZ nX9_drawn 10 (i_iload 1 11) := s_iload_n dX9_drawn_10 rfl
theorem eX9_drawn_11 : SiZ nX9_drawn 11 (i_i2l 12) := s_i2l dX9_drawn_11
theorem eX9_drawn_12 : SiZ nX9_drawn 12 (i_push (.long 0) 13) := s_lconst dX9_drawn_12 (by decide)
theorem eX9_drawn_13 : SiZ nX9_drawn 13 (i_push (.long 60) 16) := s_ldc2 dX9_drawn_13 q1524
theorem eX9_drawn_16 : ScZ nX9_drawn 16 (c_S 3 19 6 (Mt mX9_in 6)) := e_S (mi := nX9_drawn) (mi' := nX9_in) (len := 3) (fun h as rest hl => cs_S (mi := nX9_drawn) (pc := 16) (y := yX9_in) (idx := 63) dX9_drawn_16 q1335 q1336 q89 q1337 hyX9_in pnX9_in hl) wdX9_in zX9_in (Nat.le_of_ble_eq_true rfl) (Nat.le_of_ble_eq_true rfl)
theorem eX9_drawn_19 : SiZ nX9_drawn 19 (i_if (fun x => x = 0) 41 22) := s_if_eq dX9_drawn_19 (by decide)
theorem eX9_drawn_22 : SiZ nX9_drawn 22 (i_iload 2 23) := s_iload_n dX9_drawn_22 rfl
theorem eX9_drawn_23 : SiZ nX9_drawn 23 (i_i2l 24) := s_i2l dX9_drawn_23
theorem eX9_drawn_24 : SiZ nX9_drawn 24 (i_push (.long 1) 25) := s_lconst dX9_drawn_24 (by decide)
theorem eX9_drawn_25 : SiZ nX9_drawn 25 (i_push (.long 999999) 28) := s_ldc2 dX9_drawn_25 q1636
theorem eX9_drawn_28 : ScZ nX9_drawn 28 (c_S 3 31 6 (Mt mX9_in 6)) := e_S (mi := nX9_drawn) (mi' := nX9_in) (len := 3) (fun h as rest hl => cs_S (mi := nX9_drawn) (pc := 28) (y := yX9_in) (idx := 63) dX9_drawn_28 q1335 q1336 q89 q1337 hyX9_in pnX9_in hl) wdX9_in zX9_in (Nat.le_of_ble_eq_true rfl) (Nat.le_of_ble_eq_true rfl)
theorem eX9_drawn_31 : SiZ nX9_drawn 31 (i_if (fun x => x = 0) 41 34) := s_if_eq dX9_drawn_31 (by decide)
theorem eX9_drawn_34 : SiZ nX9_drawn 34 (i_iload 3 35) := s_iload_n dX9_drawn_34 rfl
theorem eX9_drawn_35 : ScZ nX9_drawn 35 (c_S 1 38 1 (Mt mX9_isWhat 1)) := e_S (mi := nX9_drawn) (mi' := nX9_isWhat) (len := 3) (fun h as rest hl => cs_S (mi := nX9_drawn) (pc := 35) (y := yX9_isWhat) (idx := 216) dX9_drawn_35 q1525 q1526 q89 q1527 hyX9_isWhat pnX9_isWhat hl) wdX9_isWhat zX9_isWhat (Nat.le_of_ble_eq_true rfl) (Nat.le_of_ble_eq_true rfl)
theorem eX9_drawn_38 : SiZ nX9_drawn 38 (i_if (fun x => ¬ x = 0) 44 41) := s_if_ne dX9_drawn_38 (by decide)
theorem eX9_drawn_41 : SiZ nX9_drawn 41 (i_push (.int (-1000001)) 43) := s_ldc dX9_drawn_41 q1339
theorem eX9_drawn_43 : SiZ nX9_drawn 43 i_iret := s_iret dX9_drawn_43 rfl
theorem eX9_drawn_44 : SiZ nX9_drawn 44 (i_aload 0 45) := s_aload_n dX9_drawn_44 rfl
theorem eX9_drawn_45 : ScZ nX9_drawn 45 (c_V 0 48 2 9 (Mt mX9_putAside 2)) := e_V (mi := nX9_drawn) (mi' := nX9_putAside) (len := 3) (fun h b as rest hk hl => cs_V (ci := 8) (mi := nX9_drawn) (pc := 45) (y := yX9_putAside) (idx := 219) dX9_drawn_45 q1528 q1530 qs56 rfl hk hyX9_putAside (sigC q1531) pnX9_putAside hl) wdX9_putAside zX9_putAside (Nat.le_of_ble_eq_true rfl) (Nat.le_of_ble_eq_true rfl)
theorem eX9_drawn_48 : SiZ nX9_drawn 48 (i_iload 2 49) := s_iload_n dX9_drawn_48 rfl
theorem eX9_drawn_49 : SiZ nX9_drawn 49 (i_i2l 50) := s_i2l dX9_drawn_49
theorem eX9_drawn_50 : SiZ nX9_drawn 50 (i_lstore 4 52) := s_lstore dX9_drawn_50
theorem eX9_drawn_52 : SiZ nX9_drawn 52 (i_push (.int 0) 53) := s_iconst dX9_drawn_52 (by decide)
theorem eX9_drawn_53 : SiZ nX9_drawn 53 (i_istore 6 55) := s_istore dX9_drawn_53
theorem eX9_drawn_55 : SiZ nX9_drawn 55 (i_iload 6 57) := s_iload dX9_drawn_55
theorem eX9_drawn_57 : SiZ nX9_drawn 57 (i_iload 1 58) := s_iload_n dX9_drawn_57 rfl
theorem eX9_drawn_58 : SiZ nX9_drawn 58 (i_icmp (fun x y => y ≤ x) 194 61) := s_icmp_ge dX9_drawn_58 (by decide)
theorem eX9_drawn_61 : SiZ nX9_drawn 61 (i_lload 4 63) := s_lload dX9_drawn_61
theorem eX9_drawn_63 : SiZ nX9_drawn 63 (i_push (.long 16807) 66) := s_ldc2 dX9_drawn_63 q1637
theorem eX9_drawn_66 : SiZ nX9_drawn 66 (i_lbin (fun x y => x * y) 67) := s_lmul dX9_drawn_66
theorem eX9_drawn_67 : SiZ nX9_drawn 67 (i_push (.long 2147483647) 70) := s_ldc2 dX9_drawn_67 q1638
theorem eX9_drawn_70 : SiZ nX9_drawn 70 (i_lbing (fun x y => x - x / y * y) 71) := s_lrem dX9_drawn_70
theorem eX9_drawn_71 : SiZ nX9_drawn 71 (i_lstore 4 73) := s_lstore dX9_drawn_71
theorem eX9_drawn_73 : SiZ nX9_drawn 73 (i_lload 4 75) := s_lload dX9_drawn_73
theorem eX9_drawn_75 : SiZ nX9_drawn 75 (i_aload 0 76) := s_aload_n dX9_drawn_75 rfl
theorem eX9_drawn_76 : SiZ nX9_drawn 76 (i_getf 81 [9] 79) := s_getf dX9_drawn_76 (fm_cons (⟨_, _, _, _, _, _, rfl, fkX9_19_9⟩) (fm_nil))
theorem eX9_drawn_79 : SiZ nX9_drawn 79 (i_push (.int 0) 80) := s_iconst dX9_drawn_79 (by decide)
theorem eX9_drawn_80 : SiZ nX9_drawn 80 (i_iald 51 81) := s_ald (j := 0) (by decide) (fun _ => rfl) dX9_drawn_80 (Or.inl ⟨rfl, rfl⟩)
theorem eX9_drawn_81 : SiZ nX9_drawn 81 (i_i2l 82) := s_i2l dX9_drawn_81
theorem eX9_drawn_82 : SiZ nX9_drawn 82 (i_lbing (fun x y => x - x / y * y) 83) := s_lrem dX9_drawn_82
theorem eX9_drawn_83 : SiZ nX9_drawn 83 (i_l2i 84) := s_l2i dX9_drawn_83
theorem eX9_drawn_84 : SiZ nX9_drawn 84 (i_istore 7 86) := s_istore dX9_drawn_84
theorem eX9_drawn_86 : SiZ nX9_drawn 86 (i_aload 0 87) := s_aload_n dX9_drawn_86 rfl
theorem eX9_drawn_87 : SiZ nX9_drawn 87 (i_getf 81 [9] 90) := s_getf dX9_drawn_87 (fm_cons (⟨_, _, _, _, _, _, rfl, fkX9_19_9⟩) (fm_nil))
theorem eX9_drawn_90 : SiZ nX9_drawn 90 (i_push (.int 5) 91) := s_iconst dX9_drawn_90 (by decide)
theorem eX9_drawn_91 : SiZ nX9_drawn 91 (i_iald 51 92) := s_ald (j := 0) (by decide) (fun _ => rfl) dX9_drawn_91 (Or.inl ⟨rfl, rfl⟩)
theorem eX9_drawn_92 : SiZ nX9_drawn 92 (i_iload 7 94) := s_iload dX9_drawn_92
theorem eX9_drawn_94 : ScZ nX9_drawn 94 (c_S 2 97 2 (Mt mX9_has 2)) := e_S (mi := nX9_drawn) (mi' := nX9_has) (len := 3) (fun h as rest hl => cs_S (mi := nX9_drawn) (pc := 94) (y := yX9_has) (idx := 154) dX9_drawn_94 q1440 q1441 q89 q1442 hyX9_has pnX9_has hl) wdX9_has zX9_has (Nat.le_of_ble_eq_true rfl) (Nat.le_of_ble_eq_true rfl)
theorem eX9_drawn_97 : SiZ nX9_drawn 97 (i_if (fun x => x = 0) 142 100) := s_if_eq dX9_drawn_97 (by decide)
theorem eX9_drawn_100 : SiZ nX9_drawn 100 (i_aload 0 101) := s_aload_n dX9_drawn_100 rfl
theorem eX9_drawn_101 : SiZ nX9_drawn 101 (i_getf 81 [9] 104) := s_getf dX9_drawn_101 (fm_cons (⟨_, _, _, _, _, _, rfl, fkX9_19_9⟩) (fm_nil))
theorem eX9_drawn_104 : SiZ nX9_drawn 104 (i_push (.int 5) 105) := s_iconst dX9_drawn_104 (by decide)
theorem eX9_drawn_105 : SiZ nX9_drawn 105 (i_lload 4 107) := s_lload dX9_drawn_105
theorem eX9_drawn_107 : SiZ nX9_drawn 107 (i_push (.long 5) 110) := s_ldc2 dX9_drawn_107 q1639
theorem eX9_drawn_110 : SiZ nX9_drawn 110 (i_lbing (fun x y => x - x / y * y) 111) := s_lrem dX9_drawn_110
theorem eX9_drawn_111 : SiZ nX9_drawn 111 (i_push (.long 0) 112) := s_lconst dX9_drawn_111 (by decide)
theorem eX9_drawn_112 : SiZ nX9_drawn 112 (i_lcmp 113) := s_lcmp dX9_drawn_112
theorem eX9_drawn_113 : SiZ nX9_drawn 113 (i_if (fun x => ¬ x = 0) 132 116) := s_if_ne dX9_drawn_113 (by decide)
theorem eX9_drawn_116 : SiZ nX9_drawn 116 (i_aload 0 117) := s_aload_n dX9_drawn_116 rfl
theorem eX9_drawn_117 : SiZ nX9_drawn 117 (i_getf 81 [9] 120) := s_getf dX9_drawn_117 (fm_cons (⟨_, _, _, _, _, _, rfl, fkX9_19_9⟩) (fm_nil))
theorem eX9_drawn_120 : SiZ nX9_drawn 120 (i_push (.int 5) 121) := s_iconst dX9_drawn_120 (by decide)
theorem eX9_drawn_121 : SiZ nX9_drawn 121 (i_iald 51 122) := s_ald (j := 0) (by decide) (fun _ => rfl) dX9_drawn_121 (Or.inl ⟨rfl, rfl⟩)
theorem eX9_drawn_122 : SiZ nX9_drawn 122 (i_push (.int 1) 123) := s_iconst dX9_drawn_122 (by decide)
theorem eX9_drawn_123 : SiZ nX9_drawn 123 (i_iload 7 125) := s_iload dX9_drawn_123
theorem eX9_drawn_125 : SiZ nX9_drawn 125 (i_bin (fun x y => x <<< (y &&& 31)) 126) := s_ishl dX9_drawn_125
theorem eX9_drawn_126 : SiZ nX9_drawn 126 (i_push (.int (-1)) 127) := s_iconst dX9_drawn_126 (by decide)
theorem eX9_drawn_127 : SiZ nX9_drawn 127 (i_bin (fun x y => x ^^^ y) 128) := s_ixor dX9_drawn_127
theorem eX9_drawn_128 : SiZ nX9_drawn 128 (i_bin (fun x y => x &&& y) 129) := s_iand dX9_drawn_128
theorem eX9_drawn_129 : SiZ nX9_drawn 129 (i_goto 138) := s_goto dX9_drawn_129 (by decide)
theorem eX9_drawn_132 : SiZ nX9_drawn 132 (i_aload 0 133) := s_aload_n dX9_drawn_132 rfl
theorem eX9_drawn_133 : SiZ nX9_drawn 133 (i_getf 81 [9] 136) := s_getf dX9_drawn_133 (fm_cons (⟨_, _, _, _, _, _, rfl, fkX9_19_9⟩) (fm_nil))
theorem eX9_drawn_136 : SiZ nX9_drawn 136 (i_push (.int 5) 137) := s_iconst dX9_drawn_136 (by decide)
theorem eX9_drawn_137 : SiZ nX9_drawn 137 (i_iald 51 138) := s_ald (j := 0) (by decide) (fun _ => rfl) dX9_drawn_137 (Or.inl ⟨rfl, rfl⟩)
theorem eX9_drawn_138 : SiZ nX9_drawn 138 (i_iast 51 (fun x => x) 139) := s_ast (j := 0) (by decide) (fun _ => rfl) dX9_drawn_138 (Or.inl ⟨rfl, rfl, rfl⟩)
theorem eX9_drawn_139 : SiZ nX9_drawn 139 (i_goto 184) := s_goto dX9_drawn_139 (by decide)
theorem eX9_drawn_142 : SiZ nX9_drawn 142 (i_lload 4 144) := s_lload dX9_drawn_142
theorem eX9_drawn_144 : SiZ nX9_drawn 144 (i_push (.long 3) 147) := s_ldc2 dX9_drawn_144 q1515
theorem eX9_drawn_147 : SiZ nX9_drawn 147 (i_lbing (fun x y => x - x / y * y) 148) := s_lrem dX9_drawn_147
theorem eX9_drawn_148 : SiZ nX9_drawn 148 (i_push (.long 0) 149) := s_lconst dX9_drawn_148 (by decide)
theorem eX9_drawn_149 : SiZ nX9_drawn 149 (i_lcmp 150) := s_lcmp dX9_drawn_149
theorem eX9_drawn_150 : SiZ nX9_drawn 150 (i_if (fun x => ¬ x = 0) 184 153) := s_if_ne dX9_drawn_150 (by decide)
theorem eX9_drawn_153 : SiZ nX9_drawn 153 (i_aload 0 154) := s_aload_n dX9_drawn_153 rfl
theorem eX9_drawn_154 : SiZ nX9_drawn 154 (i_getf 81 [9] 157) := s_getf dX9_drawn_154 (fm_cons (⟨_, _, _, _, _, _, rfl, fkX9_19_9⟩) (fm_nil))
theorem eX9_drawn_157 : SiZ nX9_drawn 157 (i_push (.int 5) 158) := s_iconst dX9_drawn_157 (by decide)
theorem eX9_drawn_158 : SiZ nX9_drawn 158 (i_iald 51 159) := s_ald (j := 0) (by decide) (fun _ => rfl) dX9_drawn_158 (Or.inl ⟨rfl, rfl⟩)
theorem eX9_drawn_159 : ScZ nX9_drawn 159 (c_S 1 162 3 (Mt mX9_ones 3)) := e_S (mi := nX9_drawn) (mi' := nX9_ones) (len := 3) (fun h as rest hl => cs_S (mi := nX9_drawn) (pc := 159) (y := yX9_ones) (idx := 197) dX9_drawn_159 q1480 q1481 q89 q1482 hyX9_ones pnX9_ones hl) wdX9_ones zX9_ones (Nat.le_of_ble_eq_true rfl) (Nat.le_of_ble_eq_true rfl)
theorem eX9_drawn_162 : SiZ nX9_drawn 162 (i_aload 0 163) := s_aload_n dX9_drawn_162 rfl
theorem eX9_drawn_163 : SiZ nX9_drawn 163 (i_getf 81 [9] 166) := s_getf dX9_drawn_163 (fm_cons (⟨_, _, _, _, _, _, rfl, fkX9_19_9⟩) (fm_nil))
theorem eX9_drawn_166 : SiZ nX9_drawn 166 (i_push (.int 3) 167) := s_iconst dX9_drawn_166 (by decide)
theorem eX9_drawn_167 : SiZ nX9_drawn 167 (i_iald 51 168) := s_ald (j := 0) (by decide) (fun _ => rfl) dX9_drawn_167 (Or.inl ⟨rfl, rfl⟩)
theorem eX9_drawn_168 : SiZ nX9_drawn 168 (i_icmp (fun x y => y ≤ x) 184 171) := s_icmp_ge dX9_drawn_168 (by decide)
theorem eX9_drawn_171 : SiZ nX9_drawn 171 (i_aload 0 172) := s_aload_n dX9_drawn_171 rfl
theorem eX9_drawn_172 : SiZ nX9_drawn 172 (i_getf 81 [9] 175) := s_getf dX9_drawn_172 (fm_cons (⟨_, _, _, _, _, _, rfl, fkX9_19_9⟩) (fm_nil))
theorem eX9_drawn_175 : SiZ nX9_drawn 175 (i_push (.int 5) 176) := s_iconst dX9_drawn_175 (by decide)
theorem eX9_drawn_176 : SiZ nX9_drawn 176 (i_dup2 177) := s_dup2 dX9_drawn_176
theorem eX9_drawn_177 : SiZ nX9_drawn 177 (i_iald 51 178) := s_ald (j := 0) (by decide) (fun _ => rfl) dX9_drawn_177 (Or.inl ⟨rfl, rfl⟩)
theorem eX9_drawn_178 : SiZ nX9_drawn 178 (i_push (.int 1) 179) := s_iconst dX9_drawn_178 (by decide)
theorem eX9_drawn_179 : SiZ nX9_drawn 179 (i_iload 7 181) := s_iload dX9_drawn_179
theorem eX9_drawn_181 : SiZ nX9_drawn 181 (i_bin (fun x y => x <<< (y &&& 31)) 182) := s_ishl dX9_drawn_181
theorem eX9_drawn_182 : SiZ nX9_drawn 182 (i_bin (fun x y => x ||| y) 183) := s_ior dX9_drawn_182
theorem eX9_drawn_183 : SiZ nX9_drawn 183 (i_iast 51 (fun x => x) 184) := s_ast (j := 0) (by decide) (fun _ => rfl) dX9_drawn_183 (Or.inl ⟨rfl, rfl, rfl⟩)
theorem eX9_drawn_184 : SiZ nX9_drawn 184 (i_aload 0 185) := s_aload_n dX9_drawn_184 rfl
theorem eX9_drawn_185 : ScZ nX9_drawn 185 (c_V 0 188 2 9 (Mt mX9_oneNight 2)) := e_V (mi := nX9_drawn) (mi' := nX9_oneNight) (len := 3) (fun h b as rest hk hl => cs_V (ci := 8) (mi := nX9_drawn) (pc := 185) (y := yX9_oneNight) (idx := 187) dX9_drawn_185 q1432 q1434 qs44 rfl hk hyX9_oneNight (sigC q1435) pnX9_oneNight hl) wdX9_oneNight zX9_oneNight (Nat.le_of_ble_eq_true rfl) (Nat.le_of_ble_eq_true rfl)
theorem eX9_drawn_188 : SiZ nX9_drawn 188 (i_iinc 6 1 191) := s_iinc dX9_drawn_188 (by decide)
theorem eX9_drawn_191 : SiZ nX9_drawn 191 (i_goto 55) := s_goto dX9_drawn_191 (by decide)
theorem eX9_drawn_194 : SiZ nX9_drawn 194 (i_iload 3 195) := s_iload_n dX9_drawn_194 rfl
theorem eX9_drawn_195 : SiZ nX9_drawn 195 (i_if (fun x => ¬ x = 0) 205 198) := s_if_ne dX9_drawn_195 (by decide)
theorem eX9_drawn_198 : SiZ nX9_drawn 198 (i_aload 0 199) := s_aload_n dX9_drawn_198 rfl
theorem eX9_drawn_199 : ScZ nX9_drawn 199 (c_V 0 202 3 9 (Mt mX9_allPages 3)) := e_V (mi := nX9_drawn) (mi' := nX9_allPages) (len := 3) (fun h b as rest hk hl => cs_V (ci := 8) (mi := nX9_drawn) (pc := 199) (y := yX9_allPages) (idx := 190) dX9_drawn_199 q1468 q1470 qs52 rfl hk hyX9_allPages (sigC q1471) pnX9_allPages hl) wdX9_allPages zX9_allPages (Nat.le_of_ble_eq_true rfl) (Nat.le_of_ble_eq_true rfl)
theorem eX9_drawn_202 : SiZ nX9_drawn 202 (i_goto 212) := s_goto dX9_drawn_202 (by decide)
theorem eX9_drawn_205 : SiZ nX9_drawn 205 (i_aload 0 206) := s_aload_n dX9_drawn_205 rfl
theorem eX9_drawn_206 : ScZ nX9_drawn 206 (c_V 0 209 3 9 (Mt mX9_emptySet 3)) := e_V (mi := nX9_drawn) (mi' := nX9_emptySet) (len := 3) (fun h b as rest hk hl => cs_V (ci := 8) (mi := nX9_drawn) (pc := 206) (y := yX9_emptySet) (idx := 222) dX9_drawn_206 q1552 q1554 qs59 rfl hk hyX9_emptySet (sigC q1555) pnX9_emptySet hl) wdX9_emptySet zX9_emptySet (Nat.le_of_ble_eq_true rfl) (Nat.le_of_ble_eq_true rfl)
theorem eX9_drawn_209 : ScZ nX9_drawn 209 (c_S 1 212 3 (Mt mX9_ones 3)) := e_S (mi := nX9_drawn) (mi' := nX9_ones) (len := 3) (fun h as rest hl => cs_S (mi := nX9_drawn) (pc := 209) (y := yX9_ones) (idx := 197) dX9_drawn_209 q1480 q1481 q89 q1482 hyX9_ones pnX9_ones hl) wdX9_ones zX9_ones (Nat.le_of_ble_eq_true rfl) (Nat.le_of_ble_eq_true rfl)
theorem eX9_drawn_212 : SiZ nX9_drawn 212 (i_istore 6 214) := s_istore dX9_drawn_212
theorem eX9_drawn_214 : SiZ nX9_drawn 214 (i_aload 0 215) := s_aload_n dX9_drawn_214 rfl
theorem eX9_drawn_215 : ScZ nX9_drawn 215 (c_V 0 218 2 9 (Mt mX9_takeBack 2)) := e_V (mi := nX9_drawn) (mi' := nX9_takeBack) (len := 3) (fun h b as rest hk hl => cs_V (ci := 8) (mi := nX9_drawn) (pc := 215) (y := yX9_takeBack) (idx := 211) dX9_drawn_215 q1536 q1538 qs58 rfl hk hyX9_takeBack (sigC q1539) pnX9_takeBack hl) wdX9_takeBack zX9_takeBack (Nat.le_of_ble_eq_true rfl) (Nat.le_of_ble_eq_true rfl)
theorem eX9_drawn_218 : SiZ nX9_drawn 218 (i_iload 6 220) := s_iload dX9_drawn_218
theorem eX9_drawn_220 : SiZ nX9_drawn 220 i_iret := s_iret dX9_drawn_220 rfl
theorem aX9_drawn : ∀ x ∈ mX9_drawn.1, EnZ nX9_drawn x := fm_cons eX9_drawn_0 (fm_cons eX9_drawn_1 (fm_cons eX9_drawn_4 (fm_cons eX9_drawn_7 (fm_cons eX9_drawn_9 (fm_cons eX9_drawn_10 (fm_cons eX9_drawn_11 (fm_cons eX9_drawn_12 (fm_cons eX9_drawn_13 (fm_cons eX9_drawn_16 (fm_cons eX9_drawn_19 (fm_cons eX9_drawn_22 (fm_cons eX9_drawn_23 (fm_cons eX9_drawn_24 (fm_cons eX9_drawn_25 (fm_cons eX9_drawn_28 (fm_cons eX9_drawn_31 (fm_cons eX9_drawn_34 (fm_cons eX9_drawn_35 (fm_cons eX9_drawn_38 (fm_cons eX9_drawn_41 (fm_cons eX9_drawn_43 (fm_cons eX9_drawn_44 (fm_cons eX9_drawn_45 (fm_cons eX9_drawn_48 (fm_cons eX9_drawn_49 (fm_cons eX9_drawn_50 (fm_cons eX9_drawn_52 (fm_cons eX9_drawn_53 (fm_cons eX9_drawn_55 (fm_cons eX9_drawn_57 (fm_cons eX9_drawn_58 (fm_cons eX9_drawn_61 (fm_cons eX9_drawn_63 (fm_cons eX9_drawn_66 (fm_cons eX9_drawn_67 (fm_cons eX9_drawn_70 (fm_cons eX9_drawn_71 (fm_cons eX9_drawn_73 (fm_cons eX9_drawn_75 (fm_cons eX9_drawn_76 (fm_cons eX9_drawn_79 (fm_cons eX9_drawn_80 (fm_cons eX9_drawn_81 (fm_cons eX9_drawn_82 (fm_cons eX9_drawn_83 (fm_cons eX9_drawn_84 (fm_cons eX9_drawn_86 (fm_cons eX9_drawn_87 (fm_cons eX9_drawn_90 (fm_cons eX9_drawn_91 (fm_cons eX9_drawn_92 (fm_cons eX9_drawn_94 (fm_cons eX9_drawn_97 (fm_cons eX9_drawn_100 (fm_cons eX9_drawn_101 (fm_cons eX9_drawn_104 (fm_cons eX9_drawn_105 (fm_cons eX9_drawn_107 (fm_cons eX9_drawn_110 (fm_cons eX9_drawn_111 (fm_cons eX9_drawn_112 (fm_cons eX9_drawn_113 (fm_cons eX9_drawn_116 (fm_cons eX9_drawn_117 (fm_cons eX9_drawn_120 (fm_cons eX9_drawn_121 (fm_cons eX9_drawn_122 (fm_cons eX9_drawn_123 (fm_cons eX9_drawn_125 (fm_cons eX9_drawn_126 (fm_cons eX9_drawn_127 (fm_cons eX9_drawn_128 (fm_cons eX9_drawn_129 (fm_cons eX9_drawn_132 (fm_cons eX9_drawn_133 (fm_cons eX9_drawn_136 (fm_cons eX9_drawn_137 (fm_cons eX9_drawn_138 (fm_cons eX9_drawn_139 (fm_cons eX9_drawn_142 (fm_cons eX9_drawn_144 (fm_cons eX9_drawn_147 (fm_cons eX9_drawn_148 (fm_cons eX9_drawn_149 (fm_cons eX9_drawn_150 (fm_cons eX9_drawn_153 (fm_cons eX9_drawn_154 (fm_cons eX9_drawn_157 (fm_cons eX9_drawn_158 (fm_cons eX9_drawn_159 (fm_cons eX9_drawn_162 (fm_cons eX9_drawn_163 (fm_cons eX9_drawn_166 (fm_cons eX9_drawn_167 (fm_cons eX9_drawn_168 (fm_cons eX9_drawn_171 (fm_cons eX9_drawn_172 (fm_cons eX9_drawn_175 (fm_cons eX9_drawn_176 (fm_cons eX9_drawn_177 (fm_cons eX9_drawn_178 (fm_cons eX9_drawn_179 (fm_cons eX9_drawn_181 (fm_cons eX9_drawn_182 (fm_cons eX9_drawn_183 (fm_cons eX9_drawn_184 (fm_cons eX9_drawn_185 (fm_cons eX9_drawn_188 (fm_cons eX9_drawn_191 (fm_cons eX9_drawn_194 (fm_cons eX9_drawn_195 (fm_cons eX9_drawn_198 (fm_cons eX9_drawn_199 (fm_cons eX9_drawn_202 (fm_cons eX9_drawn_205 (fm_cons eX9_drawn_206 (fm_cons eX9_drawn_209 (fm_cons eX9_drawn_212 (fm_cons eX9_drawn_214 (fm_cons eX9_drawn_215 (fm_cons eX9_drawn_218 (fm_cons eX9_drawn_220 (fm_nil)))))))))))))))))))))))))))))))))))))))))))))))))))))))))))))))))))))))))))))))))))))))))))))))))))))))))))))))))))))))))))
theorem zX9_drawn : SwZ nX9_drawn (Mt mX9_drawn 8) := wholeZ (mi := nX9_drawn) (cd := mX9_drawn) aX9_drawn rfl (HdZ.none rfl)
abbrev nX9_image : MI := (cX9_image, 3, (some (.int)), RX9, "image", [], 1, 29)
theorem hyX9_image : yX9_image.cls ≠ "java/lang/invoke/MethodHandle" ∧ yX9_image.cls ≠ "java/lang/invoke/VarHandle" := by decide +kernel
theorem pnX9_image : (parseMethodDescriptor yX9_image.desc).map (fun d => d.parameters.length) = some 1 := by decide +kernel
theorem wdX9_image : CdW yX9_image (nX9_image) := ⟨Or.inl ⟨q1643, rfl⟩, rfl, rfl, plainFor_of_name (by decide +kernel)⟩
theorem eX9_image_0 : SiZ nX9_image 0 (i_iload 1 1) := s_iload_n dX9_image_0 rfl
theorem eX9_image_1 : SiZ nX9_image 1 (i_i2l 2) := s_i2l dX9_image_1
theorem eX9_image_2 : SiZ nX9_image 2 (i_push (.long 0) 3) := s_lconst dX9_image_2 (by decide)
theorem eX9_image_3 : SiZ nX9_image 3 (i_push (.long 1) 4) := s_lconst dX9_image_3 (by decide)
theorem eX9_image_4 : ScZ nX9_image 4 (c_S 3 7 6 (Mt mX9_in 6)) := e_S (mi := nX9_image) (mi' := nX9_in) (len := 3) (fun h as rest hl => cs_S (mi := nX9_image) (pc := 4) (y := yX9_in) (idx := 63) dX9_image_4 q1335 q1336 q89 q1337 hyX9_in pnX9_in hl) wdX9_in zX9_in (Nat.le_of_ble_eq_true rfl) (Nat.le_of_ble_eq_true rfl)
theorem eX9_image_7 : SiZ nX9_image 7 (i_if (fun x => ¬ x = 0) 13 10) := s_if_ne dX9_image_7 (by decide)
theorem eX9_image_10 : SiZ nX9_image 10 (i_push (.int (-1000001)) 12) := s_ldc dX9_image_10 q1339
theorem eX9_image_12 : SiZ nX9_image 12 i_iret := s_iret dX9_image_12 rfl
theorem eX9_image_13 : SiZ nX9_image 13 (i_aload 0 14) := s_aload_n dX9_image_13 rfl
theorem eX9_image_14 : SiZ nX9_image 14 (i_getf 78 [9] 17) := s_getf dX9_image_14 (fm_cons (⟨_, _, _, _, _, _, rfl, fkX9_147_9⟩) (fm_nil))
theorem eX9_image_17 : SiZ nX9_image 17 (i_if (fun x => ¬ x = 0) 23 20) := s_if_ne dX9_image_17 (by decide)
theorem eX9_image_20 : SiZ nX9_image 20 (i_push (.int (-1000002)) 22) := s_ldc dX9_image_20 q1422
theorem eX9_image_22 : SiZ nX9_image 22 i_iret := s_iret dX9_image_22 rfl
theorem eX9_image_23 : SiZ nX9_image 23 (i_push (.int 0) 24) := s_iconst dX9_image_23 (by decide)
theorem eX9_image_24 : SiZ nX9_image 24 (i_istore 2 25) := s_istore_n dX9_image_24 rfl
theorem eX9_image_25 : SiZ nX9_image 25 (i_iload 2 26) := s_iload_n dX9_image_25 rfl
theorem eX9_image_26 : SiZ nX9_image 26 (i_push (.int 41) 28) := s_bipush dX9_image_26 (by decide)
theorem eX9_image_28 : SiZ nX9_image 28 (i_icmp (fun x y => y ≤ x) 54 31) := s_icmp_ge dX9_image_28 (by decide)
theorem eX9_image_31 : SiZ nX9_image 31 (i_aload 0 32) := s_aload_n dX9_image_31 rfl
theorem eX9_image_32 : SiZ nX9_image 32 (i_getf 117 [9] 35) := s_getf dX9_image_32 (fm_cons (⟨_, _, _, _, _, _, rfl, fkX9_50_9⟩) (fm_nil))
theorem eX9_image_35 : SiZ nX9_image 35 (i_push (.int 41) 37) := s_bipush dX9_image_35 (by decide)
theorem eX9_image_37 : SiZ nX9_image 37 (i_iload 1 38) := s_iload_n dX9_image_37 rfl
theorem eX9_image_38 : SiZ nX9_image 38 (i_bin (fun x y => x * y) 39) := s_imul dX9_image_38
theorem eX9_image_39 : SiZ nX9_image 39 (i_iload 2 40) := s_iload_n dX9_image_39 rfl
theorem eX9_image_40 : SiZ nX9_image 40 (i_bin (fun x y => x + y) 41) := s_iadd dX9_image_40
theorem eX9_image_41 : SiZ nX9_image 41 (i_aload 0 42) := s_aload_n dX9_image_41 rfl
theorem eX9_image_42 : SiZ nX9_image 42 (i_getf 81 [9] 45) := s_getf dX9_image_42 (fm_cons (⟨_, _, _, _, _, _, rfl, fkX9_19_9⟩) (fm_nil))
theorem eX9_image_45 : SiZ nX9_image 45 (i_iload 2 46) := s_iload_n dX9_image_45 rfl
theorem eX9_image_46 : SiZ nX9_image 46 (i_iald 51 47) := s_ald (j := 0) (by decide) (fun _ => rfl) dX9_image_46 (Or.inl ⟨rfl, rfl⟩)
theorem eX9_image_47 : SiZ nX9_image 47 (i_iast 51 (fun x => x) 48) := s_ast (j := 0) (by decide) (fun _ => rfl) dX9_image_47 (Or.inl ⟨rfl, rfl, rfl⟩)
theorem eX9_image_48 : SiZ nX9_image 48 (i_iinc 2 1 51) := s_iinc dX9_image_48 (by decide)
theorem eX9_image_51 : SiZ nX9_image 51 (i_goto 25) := s_goto dX9_image_51 (by decide)
theorem eX9_image_54 : SiZ nX9_image 54 (i_aload 0 55) := s_aload_n dX9_image_54 rfl
theorem eX9_image_55 : SiZ nX9_image 55 (i_getf 115 [9] 58) := s_getf dX9_image_55 (fm_cons (⟨_, _, _, _, _, _, rfl, fkX9_46_9⟩) (fm_nil))
theorem eX9_image_58 : SiZ nX9_image 58 (i_iload 1 59) := s_iload_n dX9_image_58 rfl
theorem eX9_image_59 : SiZ nX9_image 59 (i_push (.int 1) 60) := s_iconst dX9_image_59 (by decide)
theorem eX9_image_60 : SiZ nX9_image 60 (i_iast 53 (fun x => x &&& 1) 61) := s_ast (j := 2) (by decide) (fun _ => rfl) dX9_image_60 (Or.inr (Or.inr ⟨rfl, rfl, rfl⟩))
theorem eX9_image_61 : SiZ nX9_image 61 (i_push (.int 1) 62) := s_iconst dX9_image_61 (by decide)
theorem eX9_image_62 : SiZ nX9_image 62 i_iret := s_iret dX9_image_62 rfl
theorem aX9_image : ∀ x ∈ mX9_image.1, EnZ nX9_image x := fm_cons eX9_image_0 (fm_cons eX9_image_1 (fm_cons eX9_image_2 (fm_cons eX9_image_3 (fm_cons eX9_image_4 (fm_cons eX9_image_7 (fm_cons eX9_image_10 (fm_cons eX9_image_12 (fm_cons eX9_image_13 (fm_cons eX9_image_14 (fm_cons eX9_image_17 (fm_cons eX9_image_20 (fm_cons eX9_image_22 (fm_cons eX9_image_23 (fm_cons eX9_image_24 (fm_cons eX9_image_25 (fm_cons eX9_image_26 (fm_cons eX9_image_28 (fm_cons eX9_image_31 (fm_cons eX9_image_32 (fm_cons eX9_image_35 (fm_cons eX9_image_37 (fm_cons eX9_image_38 (fm_cons eX9_image_39 (fm_cons eX9_image_40 (fm_cons eX9_image_41 (fm_cons eX9_image_42 (fm_cons eX9_image_45 (fm_cons eX9_image_46 (fm_cons eX9_image_47 (fm_cons eX9_image_48 (fm_cons eX9_image_51 (fm_cons eX9_image_54 (fm_cons eX9_image_55 (fm_cons eX9_image_58 (fm_cons eX9_image_59 (fm_cons eX9_image_60 (fm_cons eX9_image_61 (fm_cons eX9_image_62 (fm_nil)))))))))))))))))))))))))))))))))))))))
theorem zX9_image : SwZ nX9_image (Mt mX9_image 3) := wholeZ (mi := nX9_image) (cd := mX9_image) aX9_image rfl (HdZ.none rfl)
abbrev nX9_restore : MI := (cX9_restore, 3, (some (.int)), RX9, "restore", [], 1, 29)
theorem hyX9_restore : yX9_restore.cls ≠ "java/lang/invoke/MethodHandle" ∧ yX9_restore.cls ≠ "java/lang/invoke/VarHandle" := by decide +kernel
theorem pnX9_restore : (parseMethodDescriptor yX9_restore.desc).map (fun d => d.parameters.length) = some 1 := by decide +kernel
theorem wdX9_restore : CdW yX9_restore (nX9_restore) := ⟨Or.inl ⟨q1647, rfl⟩, rfl, rfl, plainFor_of_name (by decide +kernel)⟩
theorem eX9_restore_0 : SiZ nX9_restore 0 (i_iload 1 1) := s_iload_n dX9_restore_0 rfl
theorem eX9_restore_1 : SiZ nX9_restore 1 (i_i2l 2) := s_i2l dX9_restore_1
theorem eX9_restore_2 : SiZ nX9_restore 2 (i_push (.long 0) 3) := s_lconst dX9_restore_2 (by decide)
theorem eX9_restore_3 : SiZ nX9_restore 3 (i_push (.long 1) 4) := s_lconst dX9_restore_3 (by decide)
theorem eX9_restore_4 : ScZ nX9_restore 4 (c_S 3 7 6 (Mt mX9_in 6)) := e_S (mi := nX9_restore) (mi' := nX9_in) (len := 3) (fun h as rest hl => cs_S (mi := nX9_restore) (pc := 4) (y := yX9_in) (idx := 63) dX9_restore_4 q1335 q1336 q89 q1337 hyX9_in pnX9_in hl) wdX9_in zX9_in (Nat.le_of_ble_eq_true rfl) (Nat.le_of_ble_eq_true rfl)
theorem eX9_restore_7 : SiZ nX9_restore 7 (i_if (fun x => ¬ x = 0) 13 10) := s_if_ne dX9_restore_7 (by decide)
theorem eX9_restore_10 : SiZ nX9_restore 10 (i_push (.int (-1000001)) 12) := s_ldc dX9_restore_10 q1339
theorem eX9_restore_12 : SiZ nX9_restore 12 i_iret := s_iret dX9_restore_12 rfl
theorem eX9_restore_13 : SiZ nX9_restore 13 (i_aload 0 14) := s_aload_n dX9_restore_13 rfl
theorem eX9_restore_14 : SiZ nX9_restore 14 (i_getf 115 [9] 17) := s_getf dX9_restore_14 (fm_cons (⟨_, _, _, _, _, _, rfl, fkX9_46_9⟩) (fm_nil))
theorem eX9_restore_17 : SiZ nX9_restore 17 (i_iload 1 18) := s_iload_n dX9_restore_17 rfl
theorem eX9_restore_18 : SiZ nX9_restore 18 (i_iald 53 19) := s_ald (j := 2) (by decide) (fun _ => rfl) dX9_restore_18 (Or.inr (Or.inr ⟨rfl, rfl⟩))
theorem eX9_restore_19 : SiZ nX9_restore 19 (i_if (fun x => ¬ x = 0) 25 22) := s_if_ne dX9_restore_19 (by decide)
theorem eX9_restore_22 : SiZ nX9_restore 22 (i_push (.int (-1000002)) 24) := s_ldc dX9_restore_22 q1422
theorem eX9_restore_24 : SiZ nX9_restore 24 i_iret := s_iret dX9_restore_24 rfl
theorem eX9_restore_25 : SiZ nX9_restore 25 (i_push (.int 0) 26) := s_iconst dX9_restore_25 (by decide)
theorem eX9_restore_26 : SiZ nX9_restore 26 (i_istore 2 27) := s_istore_n dX9_restore_26 rfl
theorem eX9_restore_27 : SiZ nX9_restore 27 (i_iload 2 28) := s_iload_n dX9_restore_27 rfl
theorem eX9_restore_28 : SiZ nX9_restore 28 (i_push (.int 41) 30) := s_bipush dX9_restore_28 (by decide)
theorem eX9_restore_30 : SiZ nX9_restore 30 (i_icmp (fun x y => y ≤ x) 56 33) := s_icmp_ge dX9_restore_30 (by decide)
theorem eX9_restore_33 : SiZ nX9_restore 33 (i_aload 0 34) := s_aload_n dX9_restore_33 rfl
theorem eX9_restore_34 : SiZ nX9_restore 34 (i_getf 81 [9] 37) := s_getf dX9_restore_34 (fm_cons (⟨_, _, _, _, _, _, rfl, fkX9_19_9⟩) (fm_nil))
theorem eX9_restore_37 : SiZ nX9_restore 37 (i_iload 2 38) := s_iload_n dX9_restore_37 rfl
theorem eX9_restore_38 : SiZ nX9_restore 38 (i_aload 0 39) := s_aload_n dX9_restore_38 rfl
theorem eX9_restore_39 : SiZ nX9_restore 39 (i_getf 117 [9] 42) := s_getf dX9_restore_39 (fm_cons (⟨_, _, _, _, _, _, rfl, fkX9_50_9⟩) (fm_nil))
theorem eX9_restore_42 : SiZ nX9_restore 42 (i_push (.int 41) 44) := s_bipush dX9_restore_42 (by decide)
theorem eX9_restore_44 : SiZ nX9_restore 44 (i_iload 1 45) := s_iload_n dX9_restore_44 rfl
theorem eX9_restore_45 : SiZ nX9_restore 45 (i_bin (fun x y => x * y) 46) := s_imul dX9_restore_45
theorem eX9_restore_46 : SiZ nX9_restore 46 (i_iload 2 47) := s_iload_n dX9_restore_46 rfl
theorem eX9_restore_47 : SiZ nX9_restore 47 (i_bin (fun x y => x + y) 48) := s_iadd dX9_restore_47
theorem eX9_restore_48 : SiZ nX9_restore 48 (i_iald 51 49) := s_ald (j := 0) (by decide) (fun _ => rfl) dX9_restore_48 (Or.inl ⟨rfl, rfl⟩)
theorem eX9_restore_49 : SiZ nX9_restore 49 (i_iast 51 (fun x => x) 50) := s_ast (j := 0) (by decide) (fun _ => rfl) dX9_restore_49 (Or.inl ⟨rfl, rfl, rfl⟩)
theorem eX9_restore_50 : SiZ nX9_restore 50 (i_iinc 2 1 53) := s_iinc dX9_restore_50 (by decide)
theorem eX9_restore_53 : SiZ nX9_restore 53 (i_goto 27) := s_goto dX9_restore_53 (by decide)
theorem eX9_restore_56 : SiZ nX9_restore 56 (i_aload 0 57) := s_aload_n dX9_restore_56 rfl
theorem eX9_restore_57 : SiZ nX9_restore 57 (i_push (.int 0) 58) := s_iconst dX9_restore_57 (by decide)
theorem eX9_restore_58 : SiZ nX9_restore 58 (i_putI 106 [9] 61) := s_putI dX9_restore_58 (fm_cons (⟨_, _, _, _, _, _, rfl, ⟨fkX9_151_9, ⟨_, q1265, Or.inl rfl⟩, Or.inl rfl⟩, rfl⟩) (fm_nil))
theorem eX9_restore_61 : SiZ nX9_restore 61 (i_push (.int 1) 62) := s_iconst dX9_restore_61 (by decide)
theorem eX9_restore_62 : SiZ nX9_restore 62 i_iret := s_iret dX9_restore_62 rfl
theorem aX9_restore : ∀ x ∈ mX9_restore.1, EnZ nX9_restore x := fm_cons eX9_restore_0 (fm_cons eX9_restore_1 (fm_cons eX9_restore_2 (fm_cons eX9_restore_3 (fm_cons eX9_restore_4 (fm_cons eX9_restore_7 (fm_cons eX9_restore_10 (fm_cons eX9_restore_12 (fm_cons eX9_restore_13 (fm_cons eX9_restore_14 (fm_cons eX9_restore_17 (fm_cons eX9_restore_18 (fm_cons eX9_restore_19 (fm_cons eX9_restore_22 (fm_cons eX9_restore_24 (fm_cons eX9_restore_25 (fm_cons eX9_restore_26 (fm_cons eX9_restore_27 (fm_cons eX9_restore_28 (fm_cons eX9_restore_30 (fm_cons eX9_restore_33 (fm_cons eX9_restore_34 (fm_cons eX9_restore_37 (fm_cons eX9_restore_38 (fm_cons eX9_restore_39 (fm_cons eX9_restore_42 (fm_cons eX9_restore_44 (fm_cons eX9_restore_45 (fm_cons eX9_restore_46 (fm_cons eX9_restore_47 (fm_cons eX9_restore_48 (fm_cons eX9_restore_49 (fm_cons eX9_restore_50 (fm_cons eX9_restore_53 (fm_cons eX9_restore_56 (fm_cons eX9_restore_57 (fm_cons eX9_restore_58 (fm_cons eX9_restore_61 (fm_cons eX9_restore_62 (fm_nil)))))))))))))))))))))))))))))))))))))))
theorem zX9_restore : SwZ nX9_restore (Mt mX9_restore 3) := wholeZ (mi := nX9_restore) (cd := mX9_restore) aX9_restore rfl (HdZ.none rfl)
abbrev nX9_kind : MI := (cX9_kind, 2, (some (.int)), RX9, "kind", [], 2, 54)
theorem hyX9_kind : yX9_kind.cls ≠ "java/lang/invoke/MethodHandle" ∧ yX9_kind.cls ≠ "java/lang/invoke/VarHandle" := by decide +kernel
theorem pnX9_kind : (parseMethodDescriptor yX9_kind.desc).map (fun d => d.parameters.length) = some 1 := by decide +kernel
theorem wdX9_kind : CdW yX9_kind (nX9_kind) := ⟨Or.inl ⟨q1651, rfl⟩, rfl, rfl, plainFor_of_name (by decide +kernel)⟩
theorem eX9_kind_0 : SiZ nX9_kind 0 (i_aload 0 1) := s_aload_n dX9_kind_0 rfl
theorem eX9_kind_1 : SiZ nX9_kind 1 (i_iload 1 2) := s_iload_n dX9_kind_1 rfl
theorem eX9_kind_2 : ScZ nX9_kind 2 (c_V 1 5 2 9 (Mt mX9_isFish 2)) := e_V (mi := nX9_kind) (mi' := nX9_isFish) (len := 3) (fun h b as rest hk hl => cs_V (ci := 8) (mi := nX9_kind) (pc := 2) (y := yX9_isFish) (idx := 200) dX9_kind_2 q1495 q1497 qs54 rfl hk hyX9_isFish (sigC q1498) pnX9_isFish hl) wdX9_isFish zX9_isFish (Nat.le_of_ble_eq_true rfl) (Nat.le_of_ble_eq_true rfl)
theorem eX9_kind_5 : SiZ nX9_kind 5 (i_if (fun x => x = 0) 20 8) := s_if_eq dX9_kind_5 (by decide)
theorem eX9_kind_8 : SiZ nX9_kind 8 (i_aload 0 9) := s_aload_n dX9_kind_8 rfl
theorem eX9_kind_9 : SiZ nX9_kind 9 (i_getf 81 [9] 12) := s_getf dX9_kind_9 (fm_cons (⟨_, _, _, _, _, _, rfl, fkX9_19_9⟩) (fm_nil))
theorem eX9_kind_12 : SiZ nX9_kind 12 (i_push (.int 26) 14) := s_bipush dX9_kind_12 (by decide)
theorem eX9_kind_14 : SiZ nX9_kind 14 (i_iload 1 15) := s_iload_n dX9_kind_14 rfl
theorem eX9_kind_15 : SiZ nX9_kind 15 (i_bin (fun x y => x + y) 16) := s_iadd dX9_kind_15
theorem eX9_kind_16 : SiZ nX9_kind 16 (i_iald 51 17) := s_ald (j := 0) (by decide) (fun _ => rfl) dX9_kind_16 (Or.inl ⟨rfl, rfl⟩)
theorem eX9_kind_17 : SiZ nX9_kind 17 (i_goto 22) := s_goto dX9_kind_17 (by decide)
theorem eX9_kind_20 : SiZ nX9_kind 20 (i_push (.int (-1000001)) 22) := s_ldc dX9_kind_20 q1339
theorem eX9_kind_22 : SiZ nX9_kind 22 i_iret := s_iret dX9_kind_22 rfl
theorem aX9_kind : ∀ x ∈ mX9_kind.1, EnZ nX9_kind x := fm_cons eX9_kind_0 (fm_cons eX9_kind_1 (fm_cons eX9_kind_2 (fm_cons eX9_kind_5 (fm_cons eX9_kind_8 (fm_cons eX9_kind_9 (fm_cons eX9_kind_12 (fm_cons eX9_kind_14 (fm_cons eX9_kind_15 (fm_cons eX9_kind_16 (fm_cons eX9_kind_17 (fm_cons eX9_kind_20 (fm_cons eX9_kind_22 (fm_nil)))))))))))))
theorem zX9_kind : SwZ nX9_kind (Mt mX9_kind 2) := wholeZ (mi := nX9_kind) (cd := mX9_kind) aX9_kind rfl (HdZ.none rfl)
abbrev nX9_isKind : MI := (cX9_isKind, 2, (some (.boolean)), RX9, "isKind", [], 0, 0)
theorem hyX9_isKind : yX9_isKind.cls ≠ "java/lang/invoke/MethodHandle" ∧ yX9_isKind.cls ≠ "java/lang/invoke/VarHandle" := by decide +kernel
theorem pnX9_isKind : (parseMethodDescriptor yX9_isKind.desc).map (fun d => d.parameters.length) = some 2 := by decide +kernel
theorem wdX9_isKind : CdW yX9_isKind (nX9_isKind) := ⟨Or.inl ⟨q1658, rfl⟩, rfl, rfl, plainFor_of_name (by decide +kernel)⟩
theorem eX9_isKind_0 : SiZ nX9_isKind 0 (i_iload 1 1) := s_iload_n dX9_isKind_0 rfl
theorem eX9_isKind_1 : SiZ nX9_isKind 1 (i_if (fun x => x = 0) 29 4) := s_if_eq dX9_isKind_1 (by decide)
theorem eX9_isKind_4 : SiZ nX9_isKind 4 (i_iload 0 5) := s_iload_n dX9_isKind_4 rfl
theorem eX9_isKind_5 : SiZ nX9_isKind 5 (i_iload 1 6) := s_iload_n dX9_isKind_5 rfl
theorem eX9_isKind_6 : SiZ nX9_isKind 6 (i_icmp (fun x y => x = y) 29 9) := s_icmp_eq dX9_isKind_6 (by decide)
theorem eX9_isKind_9 : SiZ nX9_isKind 9 (i_iload 1 10) := s_iload_n dX9_isKind_9 rfl
theorem eX9_isKind_10 : SiZ nX9_isKind 10 (i_push (.int 1) 11) := s_iconst dX9_isKind_10 (by decide)
theorem eX9_isKind_11 : SiZ nX9_isKind 11 (i_icmp (fun x y => ¬ x = y) 19 14) := s_icmp_ne dX9_isKind_11 (by decide)
theorem eX9_isKind_14 : SiZ nX9_isKind 14 (i_iload 0 15) := s_iload_n dX9_isKind_14 rfl
theorem eX9_isKind_15 : SiZ nX9_isKind 15 (i_push (.int 4) 16) := s_iconst dX9_isKind_15 (by decide)
theorem eX9_isKind_16 : SiZ nX9_isKind 16 (i_icmp (fun x y => x < y) 29 19) := s_icmp_lt dX9_isKind_16 (by decide)
theorem eX9_isKind_19 : SiZ nX9_isKind 19 (i_iload 1 20) := s_iload_n dX9_isKind_19 rfl
theorem eX9_isKind_20 : SiZ nX9_isKind 20 (i_push (.int 4) 21) := s_iconst dX9_isKind_20 (by decide)
theorem eX9_isKind_21 : SiZ nX9_isKind 21 (i_icmp (fun x y => ¬ x = y) 33 24) := s_icmp_ne dX9_isKind_21 (by decide)
theorem eX9_isKind_24 : SiZ nX9_isKind 24 (i_iload 0 25) := s_iload_n dX9_isKind_24 rfl
theorem eX9_isKind_25 : SiZ nX9_isKind 25 (i_push (.int 5) 26) := s_iconst dX9_isKind_25 (by decide)
theorem eX9_isKind_26 : SiZ nX9_isKind 26 (i_icmp (fun x y => ¬ x = y) 33 29) := s_icmp_ne dX9_isKind_26 (by decide)
theorem eX9_isKind_29 : SiZ nX9_isKind 29 (i_push (.int 1) 30) := s_iconst dX9_isKind_29 (by decide)
theorem eX9_isKind_30 : SiZ nX9_isKind 30 (i_goto 34) := s_goto dX9_isKind_30 (by decide)
theorem eX9_isKind_33 : SiZ nX9_isKind 33 (i_push (.int 0) 34) := s_iconst dX9_isKind_33 (by decide)
theorem eX9_isKind_34 : SiZ nX9_isKind 34 i_zret := s_zret dX9_isKind_34 rfl
theorem aX9_isKind : ∀ x ∈ mX9_isKind.1, EnZ nX9_isKind x := fm_cons eX9_isKind_0 (fm_cons eX9_isKind_1 (fm_cons eX9_isKind_4 (fm_cons eX9_isKind_5 (fm_cons eX9_isKind_6 (fm_cons eX9_isKind_9 (fm_cons eX9_isKind_10 (fm_cons eX9_isKind_11 (fm_cons eX9_isKind_14 (fm_cons eX9_isKind_15 (fm_cons eX9_isKind_16 (fm_cons eX9_isKind_19 (fm_cons eX9_isKind_20 (fm_cons eX9_isKind_21 (fm_cons eX9_isKind_24 (fm_cons eX9_isKind_25 (fm_cons eX9_isKind_26 (fm_cons eX9_isKind_29 (fm_cons eX9_isKind_30 (fm_cons eX9_isKind_33 (fm_cons eX9_isKind_34 (fm_nil)))))))))))))))))))))
theorem zX9_isKind : SwZ nX9_isKind (Mt mX9_isKind 2) := wholeZ (mi := nX9_isKind) (cd := mX9_isKind) aX9_isKind rfl (HdZ.none rfl)
abbrev nX9_as : MI := (cX9_as, 3, (some (.int)), RX9, "as", [], 2, 54)
theorem hyX9_as : yX9_as.cls ≠ "java/lang/invoke/MethodHandle" ∧ yX9_as.cls ≠ "java/lang/invoke/VarHandle" := by decide +kernel
theorem pnX9_as : (parseMethodDescriptor yX9_as.desc).map (fun d => d.parameters.length) = some 2 := by decide +kernel
theorem wdX9_as : CdW yX9_as (nX9_as) := ⟨Or.inl ⟨q1655, rfl⟩, rfl, rfl, plainFor_of_name (by decide +kernel)⟩
theorem eX9_as_0 : SiZ nX9_as 0 (i_aload 0 1) := s_aload_n dX9_as_0 rfl
theorem eX9_as_1 : SiZ nX9_as 1 (i_iload 1 2) := s_iload_n dX9_as_1 rfl
theorem eX9_as_2 : ScZ nX9_as 2 (c_V 1 5 2 9 (Mt mX9_isFish 2)) := e_V (mi := nX9_as) (mi' := nX9_isFish) (len := 3) (fun h b as rest hk hl => cs_V (ci := 8) (mi := nX9_as) (pc := 2) (y := yX9_isFish) (idx := 200) dX9_as_2 q1495 q1497 qs54 rfl hk hyX9_isFish (sigC q1498) pnX9_isFish hl) wdX9_isFish zX9_isFish (Nat.le_of_ble_eq_true rfl) (Nat.le_of_ble_eq_true rfl)
theorem eX9_as_5 : SiZ nX9_as 5 (i_if (fun x => x = 0) 20 8) := s_if_eq dX9_as_5 (by decide)
theorem eX9_as_8 : SiZ nX9_as 8 (i_iload 2 9) := s_iload_n dX9_as_8 rfl
theorem eX9_as_9 : SiZ nX9_as 9 (i_i2l 10) := s_i2l dX9_as_9
theorem eX9_as_10 : SiZ nX9_as 10 (i_push (.long 0) 11) := s_lconst dX9_as_10 (by decide)
theorem eX9_as_11 : SiZ nX9_as 11 (i_push (.long 5) 14) := s_ldc2 dX9_as_11 q1639
theorem eX9_as_14 : ScZ nX9_as 14 (c_S 3 17 6 (Mt mX9_in 6)) := e_S (mi := nX9_as) (mi' := nX9_in) (len := 3) (fun h as rest hl => cs_S (mi := nX9_as) (pc := 14) (y := yX9_in) (idx := 63) dX9_as_14 q1335 q1336 q89 q1337 hyX9_in pnX9_in hl) wdX9_in zX9_in (Nat.le_of_ble_eq_true rfl) (Nat.le_of_ble_eq_true rfl)
theorem eX9_as_17 : SiZ nX9_as 17 (i_if (fun x => ¬ x = 0) 23 20) := s_if_ne dX9_as_17 (by decide)
theorem eX9_as_20 : SiZ nX9_as 20 (i_push (.int (-1000001)) 22) := s_ldc dX9_as_20 q1339
theorem eX9_as_22 : SiZ nX9_as 22 i_iret := s_iret dX9_as_22 rfl
theorem eX9_as_23 : SiZ nX9_as 23 (i_aload 0 24) := s_aload_n dX9_as_23 rfl
theorem eX9_as_24 : SiZ nX9_as 24 (i_getf 81 [9] 27) := s_getf dX9_as_24 (fm_cons (⟨_, _, _, _, _, _, rfl, fkX9_19_9⟩) (fm_nil))
theorem eX9_as_27 : SiZ nX9_as 27 (i_push (.int 26) 29) := s_bipush dX9_as_27 (by decide)
theorem eX9_as_29 : SiZ nX9_as 29 (i_iload 1 30) := s_iload_n dX9_as_29 rfl
theorem eX9_as_30 : SiZ nX9_as 30 (i_bin (fun x y => x + y) 31) := s_iadd dX9_as_30
theorem eX9_as_31 : SiZ nX9_as 31 (i_iald 51 32) := s_ald (j := 0) (by decide) (fun _ => rfl) dX9_as_31 (Or.inl ⟨rfl, rfl⟩)
theorem eX9_as_32 : SiZ nX9_as 32 (i_iload 2 33) := s_iload_n dX9_as_32 rfl
theorem eX9_as_33 : ScZ nX9_as 33 (c_S 2 36 2 (Mt mX9_isKind 2)) := e_S (mi := nX9_as) (mi' := nX9_isKind) (len := 3) (fun h as rest hl => cs_S (mi := nX9_as) (pc := 33) (y := yX9_isKind) (idx := 274) dX9_as_33 q1656 q1657 q89 q1658 hyX9_isKind pnX9_isKind hl) wdX9_isKind zX9_isKind (Nat.le_of_ble_eq_true rfl) (Nat.le_of_ble_eq_true rfl)
theorem eX9_as_36 : SiZ nX9_as 36 (i_if (fun x => x = 0) 47 39) := s_if_eq dX9_as_36 (by decide)
theorem eX9_as_39 : SiZ nX9_as 39 (i_aload 0 40) := s_aload_n dX9_as_39 rfl
theorem eX9_as_40 : SiZ nX9_as 40 (i_iload 1 41) := s_iload_n dX9_as_40 rfl
theorem eX9_as_41 : ScZ nX9_as 41 (c_V 1 44 2 9 (Mt mX9_well 2)) := e_V (mi := nX9_as) (mi' := nX9_well) (len := 3) (fun h b as rest hk hl => cs_V (ci := 8) (mi := nX9_as) (pc := 41) (y := yX9_well) (idx := 78) dX9_as_41 q1345 q1347 qs34 rfl hk hyX9_well (sigC q1348) pnX9_well hl) wdX9_well zX9_well (Nat.le_of_ble_eq_true rfl) (Nat.le_of_ble_eq_true rfl)
theorem eX9_as_44 : SiZ nX9_as 44 (i_goto 52) := s_goto dX9_as_44 (by decide)
theorem eX9_as_47 : SiZ nX9_as 47 (i_aload 0 48) := s_aload_n dX9_as_47 rfl
theorem eX9_as_48 : SiZ nX9_as 48 (i_push (.int 3) 49) := s_iconst dX9_as_48 (by decide)
theorem eX9_as_49 : ScZ nX9_as 49 (c_V 1 52 2 9 (Mt mX9_find 2)) := e_V (mi := nX9_as) (mi' := nX9_find) (len := 3) (fun h b as rest hk hl => cs_V (ci := 8) (mi := nX9_as) (pc := 49) (y := yX9_find) (idx := 74) dX9_as_49 q1340 q1342 qs33 rfl hk hyX9_find (sigC q1343) pnX9_find hl) wdX9_find zX9_find (Nat.le_of_ble_eq_true rfl) (Nat.le_of_ble_eq_true rfl)
theorem eX9_as_52 : SiZ nX9_as 52 i_iret := s_iret dX9_as_52 rfl
theorem aX9_as : ∀ x ∈ mX9_as.1, EnZ nX9_as x := fm_cons eX9_as_0 (fm_cons eX9_as_1 (fm_cons eX9_as_2 (fm_cons eX9_as_5 (fm_cons eX9_as_8 (fm_cons eX9_as_9 (fm_cons eX9_as_10 (fm_cons eX9_as_11 (fm_cons eX9_as_14 (fm_cons eX9_as_17 (fm_cons eX9_as_20 (fm_cons eX9_as_22 (fm_cons eX9_as_23 (fm_cons eX9_as_24 (fm_cons eX9_as_27 (fm_cons eX9_as_29 (fm_cons eX9_as_30 (fm_cons eX9_as_31 (fm_cons eX9_as_32 (fm_cons eX9_as_33 (fm_cons eX9_as_36 (fm_cons eX9_as_39 (fm_cons eX9_as_40 (fm_cons eX9_as_41 (fm_cons eX9_as_44 (fm_cons eX9_as_47 (fm_cons eX9_as_48 (fm_cons eX9_as_49 (fm_cons eX9_as_52 (fm_nil)))))))))))))))))))))))))))))
theorem zX9_as : SwZ nX9_as (Mt mX9_as 3) := wholeZ (mi := nX9_as) (cd := mX9_as) aX9_as rfl (HdZ.none rfl)
abbrev nX9_begin : MI := (cX9_begin, 2, none, RX9, "begin", [], 0, 0)
theorem hyX9_begin : yX9_begin.cls ≠ "java/lang/invoke/MethodHandle" ∧ yX9_begin.cls ≠ "java/lang/invoke/VarHandle" := by decide +kernel
theorem pnX9_begin : (parseMethodDescriptor yX9_begin.desc).map (fun d => d.parameters.length) = some 1 := by decide +kernel
theorem wdX9_begin : CdW yX9_begin (nX9_begin) := ⟨Or.inl ⟨q1670, rfl⟩, rfl, rfl, plainFor_of_name (by decide +kernel)⟩
theorem eX9_begin_0 : SiZ nX9_begin 0 (i_aload 0 1) := s_aload_n dX9_begin_0 rfl
theorem eX9_begin_1 : SiZ nX9_begin 1 (i_getf 120 [9] 4) := s_getf dX9_begin_1 (fm_cons (⟨_, _, _, _, _, _, rfl, fkX9_277_9⟩) (fm_nil))
theorem eX9_begin_4 : SiZ nX9_begin 4 (i_push (.int 16) 6) := s_bipush dX9_begin_4 (by decide)
theorem eX9_begin_6 : SiZ nX9_begin 6 (i_icmp (fun x y => y ≤ x) 29 9) := s_icmp_ge dX9_begin_6 (by decide)
theorem eX9_begin_9 : SiZ nX9_begin 9 (i_aload 0 10) := s_aload_n dX9_begin_9 rfl
theorem eX9_begin_10 : SiZ nX9_begin 10 (i_getf 119 [9] 13) := s_getf dX9_begin_10 (fm_cons (⟨_, _, _, _, _, _, rfl, fkX9_53_9⟩) (fm_nil))
theorem eX9_begin_13 : SiZ nX9_begin 13 (i_aload 0 14) := s_aload_n dX9_begin_13 rfl
theorem eX9_begin_14 : SiZ nX9_begin 14 (i_getf 120 [9] 17) := s_getf dX9_begin_14 (fm_cons (⟨_, _, _, _, _, _, rfl, fkX9_277_9⟩) (fm_nil))
theorem eX9_begin_17 : SiZ nX9_begin 17 (i_iload 1 18) := s_iload_n dX9_begin_17 rfl
theorem eX9_begin_18 : SiZ nX9_begin 18 (i_iast 51 (fun x => x) 19) := s_ast (j := 0) (by decide) (fun _ => rfl) dX9_begin_18 (Or.inl ⟨rfl, rfl, rfl⟩)
theorem eX9_begin_19 : SiZ nX9_begin 19 (i_aload 0 20) := s_aload_n dX9_begin_19 rfl
theorem eX9_begin_20 : SiZ nX9_begin 20 (i_dup 21) := s_dup dX9_begin_20
theorem eX9_begin_21 : SiZ nX9_begin 21 (i_getf 120 [9] 24) := s_getf dX9_begin_21 (fm_cons (⟨_, _, _, _, _, _, rfl, fkX9_277_9⟩) (fm_nil))
theorem eX9_begin_24 : SiZ nX9_begin 24 (i_push (.int 1) 25) := s_iconst dX9_begin_24 (by decide)
theorem eX9_begin_25 : SiZ nX9_begin 25 (i_bin (fun x y => x + y) 26) := s_iadd dX9_begin_25
theorem eX9_begin_26 : SiZ nX9_begin 26 (i_putI 120 [9] 29) := s_putI dX9_begin_26 (fm_cons (⟨_, _, _, _, _, _, rfl, ⟨fkX9_277_9, ⟨_, q1272, Or.inl rfl⟩, Or.inl rfl⟩, rfl⟩) (fm_nil))
theorem eX9_begin_29 : SiZ nX9_begin 29 i_vret := s_vret dX9_begin_29 rfl
theorem aX9_begin : ∀ x ∈ mX9_begin.1, EnZ nX9_begin x := fm_cons eX9_begin_0 (fm_cons eX9_begin_1 (fm_cons eX9_begin_4 (fm_cons eX9_begin_6 (fm_cons eX9_begin_9 (fm_cons eX9_begin_10 (fm_cons eX9_begin_13 (fm_cons eX9_begin_14 (fm_cons eX9_begin_17 (fm_cons eX9_begin_18 (fm_cons eX9_begin_19 (fm_cons eX9_begin_20 (fm_cons eX9_begin_21 (fm_cons eX9_begin_24 (fm_cons eX9_begin_25 (fm_cons eX9_begin_26 (fm_cons eX9_begin_29 (fm_nil)))))))))))))))))
theorem zX9_begin : SwZ nX9_begin (Mt mX9_begin 2) := wholeZ (mi := nX9_begin) (cd := mX9_begin) aX9_begin rfl (HdZ.none rfl)
abbrev nX9_lent : MI := (cX9_lent, 3, (some (.int)), RX9, "lent", [], 1, 25)
theorem hyX9_lent : yX9_lent.cls ≠ "java/lang/invoke/MethodHandle" ∧ yX9_lent.cls ≠ "java/lang/invoke/VarHandle" := by decide +kernel
theorem pnX9_lent : (parseMethodDescriptor yX9_lent.desc).map (fun d => d.parameters.length) = some 2 := by decide +kernel
theorem wdX9_lent : CdW yX9_lent (nX9_lent) := ⟨Or.inl ⟨q1678, rfl⟩, rfl, rfl, plainFor_of_name (by decide +kernel)⟩
theorem eX9_lent_0 : SiZ nX9_lent 0 (i_aload 0 1) := s_aload_n dX9_lent_0 rfl
theorem eX9_lent_1 : SiZ nX9_lent 1 (i_iload 2 2) := s_iload_n dX9_lent_1 rfl
theorem eX9_lent_2 : ScZ nX9_lent 2 (c_V 1 5 2 9 (Mt mX9_begin 2)) := e_V (mi := nX9_lent) (mi' := nX9_begin) (len := 3) (fun h b as rest hk hl => cs_V (ci := 8) (mi := nX9_lent) (pc := 2) (y := yX9_begin) (idx := 280) dX9_lent_2 q1667 q1669 qs69 rfl hk hyX9_begin (sigC q1670) pnX9_begin hl) wdX9_begin zX9_begin (Nat.le_of_ble_eq_true rfl) (Nat.le_of_ble_eq_true rfl)
theorem eX9_lent_5 : SiZ nX9_lent 5 (i_iload 2 6) := s_iload_n dX9_lent_5 rfl
theorem eX9_lent_6 : SiZ nX9_lent 6 (i_push (.int 10) 8) := s_bipush dX9_lent_6 (by decide)
theorem eX9_lent_8 : SiZ nX9_lent 8 (i_icmp (fun x y => ¬ x = y) 23 11) := s_icmp_ne dX9_lent_8 (by decide)
theorem eX9_lent_11 : SiZ nX9_lent 11 (i_aload 0 12) := s_aload_n dX9_lent_11 rfl
theorem eX9_lent_12 : SiZ nX9_lent 12 (i_getf 81 [9] 15) := s_getf dX9_lent_12 (fm_cons (⟨_, _, _, _, _, _, rfl, fkX9_19_9⟩) (fm_nil))
theorem eX9_lent_15 : SiZ nX9_lent 15 (i_push (.int 36) 17) := s_bipush dX9_lent_15 (by decide)
theorem eX9_lent_17 : SiZ nX9_lent 17 (i_iload 1 18) := s_iload_n dX9_lent_17 rfl
theorem eX9_lent_18 : SiZ nX9_lent 18 (i_bin (fun x y => x + y) 19) := s_iadd dX9_lent_18
theorem eX9_lent_19 : SiZ nX9_lent 19 (i_iald 51 20) := s_ald (j := 0) (by decide) (fun _ => rfl) dX9_lent_19 (Or.inl ⟨rfl, rfl⟩)
theorem eX9_lent_20 : SiZ nX9_lent 20 (i_goto 24) := s_goto dX9_lent_20 (by decide)
theorem eX9_lent_23 : SiZ nX9_lent 23 (i_iload 1 24) := s_iload_n dX9_lent_23 rfl
theorem eX9_lent_24 : SiZ nX9_lent 24 i_iret := s_iret dX9_lent_24 rfl
theorem aX9_lent : ∀ x ∈ mX9_lent.1, EnZ nX9_lent x := fm_cons eX9_lent_0 (fm_cons eX9_lent_1 (fm_cons eX9_lent_2 (fm_cons eX9_lent_5 (fm_cons eX9_lent_6 (fm_cons eX9_lent_8 (fm_cons eX9_lent_11 (fm_cons eX9_lent_12 (fm_cons eX9_lent_15 (fm_cons eX9_lent_17 (fm_cons eX9_lent_18 (fm_cons eX9_lent_19 (fm_cons eX9_lent_20 (fm_cons eX9_lent_23 (fm_cons eX9_lent_24 (fm_nil)))))))))))))))
theorem zX9_lent : SwZ nX9_lent (Mt mX9_lent 3) := wholeZ (mi := nX9_lent) (cd := mX9_lent) aX9_lent rfl (HdZ.none rfl)
abbrev nX9_readerMark : MI := (cX9_readerMark, 2, (some (.int)), RX9, "readerMark", [], 2, 51)
theorem hyX9_readerMark : yX9_readerMark.cls ≠ "java/lang/invoke/MethodHandle" ∧ yX9_readerMark.cls ≠ "java/lang/invoke/VarHandle" := by decide +kernel
theorem pnX9_readerMark : (parseMethodDescriptor yX9_readerMark.desc).map (fun d => d.parameters.length) = some 1 := by decide +kernel
theorem wdX9_readerMark : CdW yX9_readerMark (nX9_readerMark) := ⟨Or.inl ⟨q1686, rfl⟩, rfl, rfl, plainFor_of_name (by decide +kernel)⟩
theorem eX9_readerMark_0 : SiZ nX9_readerMark 0 (i_aload 0 1) := s_aload_n dX9_readerMark_0 rfl
theorem eX9_readerMark_1 : SiZ nX9_readerMark 1 (i_push (.int 21) 3) := s_bipush dX9_readerMark_1 (by decide)
theorem eX9_readerMark_3 : ScZ nX9_readerMark 3 (c_V 1 6 2 9 (Mt mX9_begin 2)) := e_V (mi := nX9_readerMark) (mi' := nX9_begin) (len := 3) (fun h b as rest hk hl => cs_V (ci := 8) (mi := nX9_readerMark) (pc := 3) (y := yX9_begin) (idx := 280) dX9_readerMark_3 q1667 q1669 qs69 rfl hk hyX9_begin (sigC q1670) pnX9_begin hl) wdX9_begin zX9_begin (Nat.le_of_ble_eq_true rfl) (Nat.le_of_ble_eq_true rfl)
theorem eX9_readerMark_6 : SiZ nX9_readerMark 6 (i_aload 0 7) := s_aload_n dX9_readerMark_6 rfl
theorem eX9_readerMark_7 : SiZ nX9_readerMark 7 (i_iload 1 8) := s_iload_n dX9_readerMark_7 rfl
theorem eX9_readerMark_8 : SiZ nX9_readerMark 8 (i_push (.int 20) 10) := s_bipush dX9_readerMark_8 (by decide)
theorem eX9_readerMark_10 : ScZ nX9_readerMark 10 (c_V 2 13 3 9 (Mt mX9_lent 3)) := e_V (mi := nX9_readerMark) (mi' := nX9_lent) (len := 3) (fun h b as rest hk hl => cs_V (ci := 8) (mi := nX9_readerMark) (pc := 10) (y := yX9_lent) (idx := 283) dX9_readerMark_10 q1675 q1677 qs71 rfl hk hyX9_lent (sigC q1678) pnX9_lent hl) wdX9_lent zX9_lent (Nat.le_of_ble_eq_true rfl) (Nat.le_of_ble_eq_true rfl)
theorem eX9_readerMark_13 : SiZ nX9_readerMark 13 (i_aload 0 14) := s_aload_n dX9_readerMark_13 rfl
theorem eX9_readerMark_14 : SiZ nX9_readerMark 14 (i_getf 81 [9] 17) := s_getf dX9_readerMark_14 (fm_cons (⟨_, _, _, _, _, _, rfl, fkX9_19_9⟩) (fm_nil))
theorem eX9_readerMark_17 : SiZ nX9_readerMark 17 (i_push (.int 31) 19) := s_bipush dX9_readerMark_17 (by decide)
theorem eX9_readerMark_19 : SiZ nX9_readerMark 19 (i_iload 1 20) := s_iload_n dX9_readerMark_19 rfl
theorem eX9_readerMark_20 : SiZ nX9_readerMark 20 (i_bin (fun x y => x + y) 21) := s_iadd dX9_readerMark_20
theorem eX9_readerMark_21 : SiZ nX9_readerMark 21 (i_iald 51 22) := s_ald (j := 0) (by decide) (fun _ => rfl) dX9_readerMark_21 (Or.inl ⟨rfl, rfl⟩)
theorem eX9_readerMark_22 : SiZ nX9_readerMark 22 (i_bin (fun x y => x + y) 23) := s_iadd dX9_readerMark_22
theorem eX9_readerMark_23 : SiZ nX9_readerMark 23 i_iret := s_iret dX9_readerMark_23 rfl
theorem aX9_readerMark : ∀ x ∈ mX9_readerMark.1, EnZ nX9_readerMark x := fm_cons eX9_readerMark_0 (fm_cons eX9_readerMark_1 (fm_cons eX9_readerMark_3 (fm_cons eX9_readerMark_6 (fm_cons eX9_readerMark_7 (fm_cons eX9_readerMark_8 (fm_cons eX9_readerMark_10 (fm_cons eX9_readerMark_13 (fm_cons eX9_readerMark_14 (fm_cons eX9_readerMark_17 (fm_cons eX9_readerMark_19 (fm_cons eX9_readerMark_20 (fm_cons eX9_readerMark_21 (fm_cons eX9_readerMark_22 (fm_cons eX9_readerMark_23 (fm_nil)))))))))))))))
theorem zX9_readerMark : SwZ nX9_readerMark (Mt mX9_readerMark 2) := wholeZ (mi := nX9_readerMark) (cd := mX9_readerMark) aX9_readerMark rfl (HdZ.none rfl)
abbrev nX9_wandererSize : MI := (cX9_wandererSize, 2, (some (.int)), RX9, "wandererSize", [], 2, 51)
theorem hyX9_wandererSize : yX9_wandererSize.cls ≠ "java/lang/invoke/MethodHandle" ∧ yX9_wandererSize.cls ≠ "java/lang/invoke/VarHandle" := by decide +kernel
theorem pnX9_wandererSize : (parseMethodDescriptor yX9_wandererSize.desc).map (fun d => d.parameters.length) = some 1 := by decide +kernel
theorem wdX9_wandererSize : CdW yX9_wandererSize (nX9_wandererSize) := ⟨Or.inl ⟨q1694, rfl⟩, rfl, rfl, plainFor_of_name (by decide +kernel)⟩
theorem eX9_wandererSize_0 : SiZ nX9_wandererSize 0 (i_aload 0 1) := s_aload_n dX9_wandererSize_0 rfl
theorem eX9_wandererSize_1 : SiZ nX9_wandererSize 1 (i_push (.int 13) 3) := s_bipush dX9_wandererSize_1 (by decide)
theorem eX9_wandererSize_3 : ScZ nX9_wandererSize 3 (c_V 1 6 2 9 (Mt mX9_begin 2)) := e_V (mi := nX9_wandererSize) (mi' := nX9_begin) (len := 3) (fun h b as rest hk hl => cs_V (ci := 8) (mi := nX9_wandererSize) (pc := 3) (y := yX9_begin) (idx := 280) dX9_wandererSize_3 q1667 q1669 qs69 rfl hk hyX9_begin (sigC q1670) pnX9_begin hl) wdX9_begin zX9_begin (Nat.le_of_ble_eq_true rfl) (Nat.le_of_ble_eq_true rfl)
theorem eX9_wandererSize_6 : SiZ nX9_wandererSize 6 (i_aload 0 7) := s_aload_n dX9_wandererSize_6 rfl
theorem eX9_wandererSize_7 : SiZ nX9_wandererSize 7 (i_iload 1 8) := s_iload_n dX9_wandererSize_7 rfl
theorem eX9_wandererSize_8 : SiZ nX9_wandererSize 8 (i_push (.int 10) 10) := s_bipush dX9_wandererSize_8 (by decide)
theorem eX9_wandererSize_10 : ScZ nX9_wandererSize 10 (c_V 2 13 3 9 (Mt mX9_lent 3)) := e_V (mi := nX9_wandererSize) (mi' := nX9_lent) (len := 3) (fun h b as rest hk hl => cs_V (ci := 8) (mi := nX9_wandererSize) (pc := 10) (y := yX9_lent) (idx := 283) dX9_wandererSize_10 q1675 q1677 qs71 rfl hk hyX9_lent (sigC q1678) pnX9_lent hl) wdX9_lent zX9_lent (Nat.le_of_ble_eq_true rfl) (Nat.le_of_ble_eq_true rfl)
theorem eX9_wandererSize_13 : SiZ nX9_wandererSize 13 (i_push (.int 100) 15) := s_bipush dX9_wandererSize_13 (by decide)
theorem eX9_wandererSize_15 : SiZ nX9_wandererSize 15 (i_bin (fun x y => x - y) 16) := s_isub dX9_wandererSize_15
theorem eX9_wandererSize_16 : SiZ nX9_wandererSize 16 i_iret := s_iret dX9_wandererSize_16 rfl
theorem aX9_wandererSize : ∀ x ∈ mX9_wandererSize.1, EnZ nX9_wandererSize x := fm_cons eX9_wandererSize_0 (fm_cons eX9_wandererSize_1 (fm_cons eX9_wandererSize_3 (fm_cons eX9_wandererSize_6 (fm_cons eX9_wandererSize_7 (fm_cons eX9_wandererSize_8 (fm_cons eX9_wandererSize_10 (fm_cons eX9_wandererSize_13 (fm_cons eX9_wandererSize_15 (fm_cons eX9_wandererSize_16 (fm_nil))))))))))
theorem zX9_wandererSize : SwZ nX9_wandererSize (Mt mX9_wandererSize 2) := wholeZ (mi := nX9_wandererSize) (cd := mX9_wandererSize) aX9_wandererSize rfl (HdZ.none rfl)
abbrev nX9_sizeOfWanderer : MI := (cX9_sizeOfWanderer, 2, (some (.int)), RX9, "sizeOfWanderer", [], 3, 76)
theorem hyX9_sizeOfWanderer : yX9_sizeOfWanderer.cls ≠ "java/lang/invoke/MethodHandle" ∧ yX9_sizeOfWanderer.cls ≠ "java/lang/invoke/VarHandle" := by decide +kernel
theorem pnX9_sizeOfWanderer : (parseMethodDescriptor yX9_sizeOfWanderer.desc).map (fun d => d.parameters.length) = some 1 := by decide +kernel
theorem wdX9_sizeOfWanderer : CdW yX9_sizeOfWanderer (nX9_sizeOfWanderer) := ⟨Or.inl ⟨q1690, rfl⟩, rfl, rfl, plainFor_of_name (by decide +kernel)⟩
theorem eX9_sizeOfWanderer_0 : SiZ nX9_sizeOfWanderer 0 (i_aload 0 1) := s_aload_n dX9_sizeOfWanderer_0 rfl
theorem eX9_sizeOfWanderer_1 : SiZ nX9_sizeOfWanderer 1 (i_getf 81 [9] 4) := s_getf dX9_sizeOfWanderer_1 (fm_cons (⟨_, _, _, _, _, _, rfl, fkX9_19_9⟩) (fm_nil))
theorem eX9_sizeOfWanderer_4 : SiZ nX9_sizeOfWanderer 4 (i_push (.int 26) 6) := s_bipush dX9_sizeOfWanderer_4 (by decide)
theorem eX9_sizeOfWanderer_6 : SiZ nX9_sizeOfWanderer 6 (i_iload 1 7) := s_iload_n dX9_sizeOfWanderer_6 rfl
theorem eX9_sizeOfWanderer_7 : SiZ nX9_sizeOfWanderer 7 (i_bin (fun x y => x + y) 8) := s_iadd dX9_sizeOfWanderer_7
theorem eX9_sizeOfWanderer_8 : SiZ nX9_sizeOfWanderer 8 (i_iald 51 9) := s_ald (j := 0) (by decide) (fun _ => rfl) dX9_sizeOfWanderer_8 (Or.inl ⟨rfl, rfl⟩)
theorem eX9_sizeOfWanderer_9 : SiZ nX9_sizeOfWanderer 9 (i_push (.int 5) 10) := s_iconst dX9_sizeOfWanderer_9 (by decide)
theorem eX9_sizeOfWanderer_10 : SiZ nX9_sizeOfWanderer 10 (i_icmp (fun x y => ¬ x = y) 27 13) := s_icmp_ne dX9_sizeOfWanderer_10 (by decide)
theorem eX9_sizeOfWanderer_13 : SiZ nX9_sizeOfWanderer 13 (i_aload 0 14) := s_aload_n dX9_sizeOfWanderer_13 rfl
theorem eX9_sizeOfWanderer_14 : SiZ nX9_sizeOfWanderer 14 (i_push (.int 14) 16) := s_bipush dX9_sizeOfWanderer_14 (by decide)
theorem eX9_sizeOfWanderer_16 : ScZ nX9_sizeOfWanderer 16 (c_V 1 19 2 9 (Mt mX9_begin 2)) := e_V (mi := nX9_sizeOfWanderer) (mi' := nX9_begin) (len := 3) (fun h b as rest hk hl => cs_V (ci := 8) (mi := nX9_sizeOfWanderer) (pc := 16) (y := yX9_begin) (idx := 280) dX9_sizeOfWanderer_16 q1667 q1669 qs69 rfl hk hyX9_begin (sigC q1670) pnX9_begin hl) wdX9_begin zX9_begin (Nat.le_of_ble_eq_true rfl) (Nat.le_of_ble_eq_true rfl)
theorem eX9_sizeOfWanderer_19 : SiZ nX9_sizeOfWanderer 19 (i_push (.int 2) 20) := s_iconst dX9_sizeOfWanderer_19 (by decide)
theorem eX9_sizeOfWanderer_20 : SiZ nX9_sizeOfWanderer 20 (i_aload 0 21) := s_aload_n dX9_sizeOfWanderer_20 rfl
theorem eX9_sizeOfWanderer_21 : SiZ nX9_sizeOfWanderer 21 (i_iload 1 22) := s_iload_n dX9_sizeOfWanderer_21 rfl
theorem eX9_sizeOfWanderer_22 : ScZ nX9_sizeOfWanderer 22 (c_V 1 25 2 9 (Mt mX9_wandererSize 2)) := e_V (mi := nX9_sizeOfWanderer) (mi' := nX9_wandererSize) (len := 3) (fun h b as rest hk hl => cs_V (ci := 8) (mi := nX9_sizeOfWanderer) (pc := 22) (y := yX9_wandererSize) (idx := 286) dX9_sizeOfWanderer_22 q1691 q1693 qs75 rfl hk hyX9_wandererSize (sigC q1694) pnX9_wandererSize hl) wdX9_wandererSize zX9_wandererSize (Nat.le_of_ble_eq_true rfl) (Nat.le_of_ble_eq_true rfl)
theorem eX9_sizeOfWanderer_25 : SiZ nX9_sizeOfWanderer 25 (i_bin (fun x y => x * y) 26) := s_imul dX9_sizeOfWanderer_25
theorem eX9_sizeOfWanderer_26 : SiZ nX9_sizeOfWanderer 26 i_iret := s_iret dX9_sizeOfWanderer_26 rfl
theorem eX9_sizeOfWanderer_27 : SiZ nX9_sizeOfWanderer 27 (i_aload 0 28) := s_aload_n dX9_sizeOfWanderer_27 rfl
theorem eX9_sizeOfWanderer_28 : SiZ nX9_sizeOfWanderer 28 (i_iload 1 29) := s_iload_n dX9_sizeOfWanderer_28 rfl
theorem eX9_sizeOfWanderer_29 : ScZ nX9_sizeOfWanderer 29 (c_V 1 32 2 9 (Mt mX9_wandererSize 2)) := e_V (mi := nX9_sizeOfWanderer) (mi' := nX9_wandererSize) (len := 3) (fun h b as rest hk hl => cs_V (ci := 8) (mi := nX9_sizeOfWanderer) (pc := 29) (y := yX9_wandererSize) (idx := 286) dX9_sizeOfWanderer_29 q1691 q1693 qs75 rfl hk hyX9_wandererSize (sigC q1694) pnX9_wandererSize hl) wdX9_wandererSize zX9_wandererSize (Nat.le_of_ble_eq_true rfl) (Nat.le_of_ble_eq_true rfl)
theorem eX9_sizeOfWanderer_32 : SiZ nX9_sizeOfWanderer 32 i_iret := s_iret dX9_sizeOfWanderer_32 rfl
theorem aX9_sizeOfWanderer : ∀ x ∈ mX9_sizeOfWanderer.1, EnZ nX9_sizeOfWanderer x := fm_cons eX9_sizeOfWanderer_0 (fm_cons eX9_sizeOfWanderer_1 (fm_cons eX9_sizeOfWanderer_4 (fm_cons eX9_sizeOfWanderer_6 (fm_cons eX9_sizeOfWanderer_7 (fm_cons eX9_sizeOfWanderer_8 (fm_cons eX9_sizeOfWanderer_9 (fm_cons eX9_sizeOfWanderer_10 (fm_cons eX9_sizeOfWanderer_13 (fm_cons eX9_sizeOfWanderer_14 (fm_cons eX9_sizeOfWanderer_16 (fm_cons eX9_sizeOfWanderer_19 (fm_cons eX9_sizeOfWanderer_20 (fm_cons eX9_sizeOfWanderer_21 (fm_cons eX9_sizeOfWanderer_22 (fm_cons eX9_sizeOfWanderer_25 (fm_cons eX9_sizeOfWanderer_26 (fm_cons eX9_sizeOfWanderer_27 (fm_cons eX9_sizeOfWanderer_28 (fm_cons eX9_sizeOfWanderer_29 (fm_cons eX9_sizeOfWanderer_32 (fm_nil)))))))))))))))))))))
theorem zX9_sizeOfWanderer : SwZ nX9_sizeOfWanderer (Mt mX9_sizeOfWanderer 2) := wholeZ (mi := nX9_sizeOfWanderer) (cd := mX9_sizeOfWanderer) aX9_sizeOfWanderer rfl (HdZ.none rfl)
abbrev nX9_markOf : MI := (cX9_markOf, 4, (some (.int)), RX9, "markOf", [], 4, 101)
theorem hyX9_markOf : yX9_markOf.cls ≠ "java/lang/invoke/MethodHandle" ∧ yX9_markOf.cls ≠ "java/lang/invoke/VarHandle" := by decide +kernel
theorem pnX9_markOf : (parseMethodDescriptor yX9_markOf.desc).map (fun d => d.parameters.length) = some 1 := by decide +kernel
theorem wdX9_markOf : CdW yX9_markOf (nX9_markOf) := ⟨Or.inl ⟨q1682, rfl⟩, rfl, rfl, plainFor_of_name (by decide +kernel)⟩
theorem eX9_markOf_0 : SiZ nX9_markOf 0 (i_aload 0 1) := s_aload_n dX9_markOf_0 rfl
theorem eX9_markOf_1 : SiZ nX9_markOf 1 (i_getf 81 [9] 4) := s_getf dX9_markOf_1 (fm_cons (⟨_, _, _, _, _, _, rfl, fkX9_19_9⟩) (fm_nil))
theorem eX9_markOf_4 : SiZ nX9_markOf 4 (i_push (.int 26) 6) := s_bipush dX9_markOf_4 (by decide)
theorem eX9_markOf_6 : SiZ nX9_markOf 6 (i_iload 1 7) := s_iload_n dX9_markOf_6 rfl
theorem eX9_markOf_7 : SiZ nX9_markOf 7 (i_bin (fun x y => x + y) 8) := s_iadd dX9_markOf_7
theorem eX9_markOf_8 : SiZ nX9_markOf 8 (i_iald 51 9) := s_ald (j := 0) (by decide) (fun _ => rfl) dX9_markOf_8 (Or.inl ⟨rfl, rfl⟩)
theorem eX9_markOf_9 : SiZ nX9_markOf 9 (i_istore 2 10) := s_istore_n dX9_markOf_9 rfl
theorem eX9_markOf_10 : SiZ nX9_markOf 10 (i_iload 2 11) := s_iload_n dX9_markOf_10 rfl
theorem eX9_markOf_11 : SiZ nX9_markOf 11 (i_push (.int 2) 12) := s_iconst dX9_markOf_11 (by decide)
theorem eX9_markOf_12 : SiZ nX9_markOf 12 (i_icmp (fun x y => ¬ x = y) 29 15) := s_icmp_ne dX9_markOf_12 (by decide)
theorem eX9_markOf_15 : SiZ nX9_markOf 15 (i_aload 0 16) := s_aload_n dX9_markOf_15 rfl
theorem eX9_markOf_16 : SiZ nX9_markOf 16 (i_push (.int 24) 18) := s_bipush dX9_markOf_16 (by decide)
theorem eX9_markOf_18 : ScZ nX9_markOf 18 (c_V 1 21 2 9 (Mt mX9_begin 2)) := e_V (mi := nX9_markOf) (mi' := nX9_begin) (len := 3) (fun h b as rest hk hl => cs_V (ci := 8) (mi := nX9_markOf) (pc := 18) (y := yX9_begin) (idx := 280) dX9_markOf_18 q1667 q1669 qs69 rfl hk hyX9_begin (sigC q1670) pnX9_begin hl) wdX9_begin zX9_begin (Nat.le_of_ble_eq_true rfl) (Nat.le_of_ble_eq_true rfl)
theorem eX9_markOf_21 : SiZ nX9_markOf 21 (i_push (.int 2) 22) := s_iconst dX9_markOf_21 (by decide)
theorem eX9_markOf_22 : SiZ nX9_markOf 22 (i_aload 0 23) := s_aload_n dX9_markOf_22 rfl
theorem eX9_markOf_23 : SiZ nX9_markOf 23 (i_iload 1 24) := s_iload_n dX9_markOf_23 rfl
theorem eX9_markOf_24 : ScZ nX9_markOf 24 (c_V 1 27 2 9 (Mt mX9_readerMark 2)) := e_V (mi := nX9_markOf) (mi' := nX9_readerMark) (len := 3) (fun h b as rest hk hl => cs_V (ci := 8) (mi := nX9_markOf) (pc := 24) (y := yX9_readerMark) (idx := 289) dX9_markOf_24 q1683 q1685 qs73 rfl hk hyX9_readerMark (sigC q1686) pnX9_readerMark hl) wdX9_readerMark zX9_readerMark (Nat.le_of_ble_eq_true rfl) (Nat.le_of_ble_eq_true rfl)
theorem eX9_markOf_27 : SiZ nX9_markOf 27 (i_bin (fun x y => x * y) 28) := s_imul dX9_markOf_27
theorem eX9_markOf_28 : SiZ nX9_markOf 28 i_iret := s_iret dX9_markOf_28 rfl
theorem eX9_markOf_29 : SiZ nX9_markOf 29 (i_iload 2 30) := s_iload_n dX9_markOf_29 rfl
theorem eX9_markOf_30 : SiZ nX9_markOf 30 (i_push (.int 3) 31) := s_iconst dX9_markOf_30 (by decide)
theorem eX9_markOf_31 : SiZ nX9_markOf 31 (i_icmp (fun x y => ¬ x = y) 50 34) := s_icmp_ne dX9_markOf_31 (by decide)
theorem eX9_markOf_34 : SiZ nX9_markOf 34 (i_aload 0 35) := s_aload_n dX9_markOf_34 rfl
theorem eX9_markOf_35 : SiZ nX9_markOf 35 (i_push (.int 22) 37) := s_bipush dX9_markOf_35 (by decide)
theorem eX9_markOf_37 : ScZ nX9_markOf 37 (c_V 1 40 2 9 (Mt mX9_begin 2)) := e_V (mi := nX9_markOf) (mi' := nX9_begin) (len := 3) (fun h b as rest hk hl => cs_V (ci := 8) (mi := nX9_markOf) (pc := 37) (y := yX9_begin) (idx := 280) dX9_markOf_37 q1667 q1669 qs69 rfl hk hyX9_begin (sigC q1670) pnX9_begin hl) wdX9_begin zX9_begin (Nat.le_of_ble_eq_true rfl) (Nat.le_of_ble_eq_true rfl)
theorem eX9_markOf_40 : SiZ nX9_markOf 40 (i_aload 0 41) := s_aload_n dX9_markOf_40 rfl
theorem eX9_markOf_41 : SiZ nX9_markOf 41 (i_iload 1 42) := s_iload_n dX9_markOf_41 rfl
theorem eX9_markOf_42 : ScZ nX9_markOf 42 (c_V 1 45 2 9 (Mt mX9_readerMark 2)) := e_V (mi := nX9_markOf) (mi' := nX9_readerMark) (len := 3) (fun h b as rest hk hl => cs_V (ci := 8) (mi := nX9_markOf) (pc := 42) (y := yX9_readerMark) (idx := 289) dX9_markOf_42 q1683 q1685 qs73 rfl hk hyX9_readerMark (sigC q1686) pnX9_readerMark hl) wdX9_readerMark zX9_readerMark (Nat.le_of_ble_eq_true rfl) (Nat.le_of_ble_eq_true rfl)
theorem eX9_markOf_45 : SiZ nX9_markOf 45 (i_push (.int 1000) 48) := s_sipush dX9_markOf_45 (by decide)
theorem eX9_markOf_48 : SiZ nX9_markOf 48 (i_bin (fun x y => x - y) 49) := s_isub dX9_markOf_48
theorem eX9_markOf_49 : SiZ nX9_markOf 49 i_iret := s_iret dX9_markOf_49 rfl
theorem eX9_markOf_50 : SiZ nX9_markOf 50 (i_iload 2 51) := s_iload_n dX9_markOf_50 rfl
theorem eX9_markOf_51 : SiZ nX9_markOf 51 (i_push (.int 1) 52) := s_iconst dX9_markOf_51 (by decide)
theorem eX9_markOf_52 : SiZ nX9_markOf 52 (i_icmp (fun x y => ¬ x = y) 61 55) := s_icmp_ne dX9_markOf_52 (by decide)
theorem eX9_markOf_55 : SiZ nX9_markOf 55 (i_aload 0 56) := s_aload_n dX9_markOf_55 rfl
theorem eX9_markOf_56 : SiZ nX9_markOf 56 (i_iload 1 57) := s_iload_n dX9_markOf_56 rfl
theorem eX9_markOf_57 : ScZ nX9_markOf 57 (c_V 1 60 2 9 (Mt mX9_readerMark 2)) := e_V (mi := nX9_markOf) (mi' := nX9_readerMark) (len := 3) (fun h b as rest hk hl => cs_V (ci := 8) (mi := nX9_markOf) (pc := 57) (y := yX9_readerMark) (idx := 289) dX9_markOf_57 q1683 q1685 qs73 rfl hk hyX9_readerMark (sigC q1686) pnX9_readerMark hl) wdX9_readerMark zX9_readerMark (Nat.le_of_ble_eq_true rfl) (Nat.le_of_ble_eq_true rfl)
theorem eX9_markOf_60 : SiZ nX9_markOf 60 i_iret := s_iret dX9_markOf_60 rfl
theorem eX9_markOf_61 : SiZ nX9_markOf 61 (i_aload 0 62) := s_aload_n dX9_markOf_61 rfl
theorem eX9_markOf_62 : SiZ nX9_markOf 62 (i_push (.int 23) 64) := s_bipush dX9_markOf_62 (by decide)
theorem eX9_markOf_64 : ScZ nX9_markOf 64 (c_V 1 67 2 9 (Mt mX9_begin 2)) := e_V (mi := nX9_markOf) (mi' := nX9_begin) (len := 3) (fun h b as rest hk hl => cs_V (ci := 8) (mi := nX9_markOf) (pc := 64) (y := yX9_begin) (idx := 280) dX9_markOf_64 q1667 q1669 qs69 rfl hk hyX9_begin (sigC q1670) pnX9_begin hl) wdX9_begin zX9_begin (Nat.le_of_ble_eq_true rfl) (Nat.le_of_ble_eq_true rfl)
theorem eX9_markOf_67 : SiZ nX9_markOf 67 (i_aload 0 68) := s_aload_n dX9_markOf_67 rfl
theorem eX9_markOf_68 : SiZ nX9_markOf 68 (i_iload 1 69) := s_iload_n dX9_markOf_68 rfl
theorem eX9_markOf_69 : SiZ nX9_markOf 69 (i_push (.int 20) 71) := s_bipush dX9_markOf_69 (by decide)
theorem eX9_markOf_71 : ScZ nX9_markOf 71 (c_V 2 74 3 9 (Mt mX9_lent 3)) := e_V (mi := nX9_markOf) (mi' := nX9_lent) (len := 3) (fun h b as rest hk hl => cs_V (ci := 8) (mi := nX9_markOf) (pc := 71) (y := yX9_lent) (idx := 283) dX9_markOf_71 q1675 q1677 qs71 rfl hk hyX9_lent (sigC q1678) pnX9_lent hl) wdX9_lent zX9_lent (Nat.le_of_ble_eq_true rfl) (Nat.le_of_ble_eq_true rfl)
theorem eX9_markOf_74 : SiZ nX9_markOf 74 (i_istore 3 75) := s_istore_n dX9_markOf_74 rfl
theorem eX9_markOf_75 : SiZ nX9_markOf 75 (i_iload 3 76) := s_iload_n dX9_markOf_75 rfl
theorem eX9_markOf_76 : SiZ nX9_markOf 76 (i_aload 0 77) := s_aload_n dX9_markOf_76 rfl
theorem eX9_markOf_77 : SiZ nX9_markOf 77 (i_iload 1 78) := s_iload_n dX9_markOf_77 rfl
theorem eX9_markOf_78 : ScZ nX9_markOf 78 (c_V 1 81 2 9 (Mt mX9_sizeOfWanderer 2)) := e_V (mi := nX9_markOf) (mi' := nX9_sizeOfWanderer) (len := 3) (fun h b as rest hk hl => cs_V (ci := 8) (mi := nX9_markOf) (pc := 78) (y := yX9_sizeOfWanderer) (idx := 292) dX9_markOf_78 q1687 q1689 qs74 rfl hk hyX9_sizeOfWanderer (sigC q1690) pnX9_sizeOfWanderer hl) wdX9_sizeOfWanderer zX9_sizeOfWanderer (Nat.le_of_ble_eq_true rfl) (Nat.le_of_ble_eq_true rfl)
theorem eX9_markOf_81 : SiZ nX9_markOf 81 (i_bin (fun x y => x - y) 82) := s_isub dX9_markOf_81
theorem eX9_markOf_82 : SiZ nX9_markOf 82 i_iret := s_iret dX9_markOf_82 rfl
theorem aX9_markOf : ∀ x ∈ mX9_markOf.1, EnZ nX9_markOf x := fm_cons eX9_markOf_0 (fm_cons eX9_markOf_1 (fm_cons eX9_markOf_4 (fm_cons eX9_markOf_6 (fm_cons eX9_markOf_7 (fm_cons eX9_markOf_8 (fm_cons eX9_markOf_9 (fm_cons eX9_markOf_10 (fm_cons eX9_markOf_11 (fm_cons eX9_markOf_12 (fm_cons eX9_markOf_15 (fm_cons eX9_markOf_16 (fm_cons eX9_markOf_18 (fm_cons eX9_markOf_21 (fm_cons eX9_markOf_22 (fm_cons eX9_markOf_23 (fm_cons eX9_markOf_24 (fm_cons eX9_markOf_27 (fm_cons eX9_markOf_28 (fm_cons eX9_markOf_29 (fm_cons eX9_markOf_30 (fm_cons eX9_markOf_31 (fm_cons eX9_markOf_34 (fm_cons eX9_markOf_35 (fm_cons eX9_markOf_37 (fm_cons eX9_markOf_40 (fm_cons eX9_markOf_41 (fm_cons eX9_markOf_42 (fm_cons eX9_markOf_45 (fm_cons eX9_markOf_48 (fm_cons eX9_markOf_49 (fm_cons eX9_markOf_50 (fm_cons eX9_markOf_51 (fm_cons eX9_markOf_52 (fm_cons eX9_markOf_55 (fm_cons eX9_markOf_56 (fm_cons eX9_markOf_57 (fm_cons eX9_markOf_60 (fm_cons eX9_markOf_61 (fm_cons eX9_markOf_62 (fm_cons eX9_markOf_64 (fm_cons eX9_markOf_67 (fm_cons eX9_markOf_68 (fm_cons eX9_markOf_69 (fm_cons eX9_markOf_71 (fm_cons eX9_markOf_74 (fm_cons eX9_markOf_75 (fm_cons eX9_markOf_76 (fm_cons eX9_markOf_77 (fm_cons eX9_markOf_78 (fm_cons eX9_markOf_81 (fm_cons eX9_markOf_82 (fm_nil))))))))))))))))))))))))))))))))))))))))))))))))))))
theorem zX9_markOf : SwZ nX9_markOf (Mt mX9_markOf 4) := wholeZ (mi := nX9_markOf) (cd := mX9_markOf) aX9_markOf rfl (HdZ.none rfl)
abbrev nX9_readerSize : MI := (cX9_readerSize, 3, (some (.int)), RX9, "readerSize", [], 5, 128)
theorem hyX9_readerSize : yX9_readerSize.cls ≠ "java/lang/invoke/MethodHandle" ∧ yX9_readerSize.cls ≠ "java/lang/invoke/VarHandle" := by decide +kernel
theorem pnX9_readerSize : (parseMethodDescriptor yX9_readerSize.desc).map (fun d => d.parameters.length) = some 1 := by decide +kernel
theorem wdX9_readerSize : CdW yX9_readerSize (nX9_readerSize) := ⟨Or.inl ⟨q1674, rfl⟩, rfl, rfl, plainFor_of_name (by decide +kernel)⟩
theorem eX9_readerSize_0 : SiZ nX9_readerSize 0 (i_aload 0 1) := s_aload_n dX9_readerSize_0 rfl
theorem eX9_readerSize_1 : SiZ nX9_readerSize 1 (i_push (.int 11) 3) := s_bipush dX9_readerSize_1 (by decide)
theorem eX9_readerSize_3 : ScZ nX9_readerSize 3 (c_V 1 6 2 9 (Mt mX9_begin 2)) := e_V (mi := nX9_readerSize) (mi' := nX9_begin) (len := 3) (fun h b as rest hk hl => cs_V (ci := 8) (mi := nX9_readerSize) (pc := 3) (y := yX9_begin) (idx := 280) dX9_readerSize_3 q1667 q1669 qs69 rfl hk hyX9_begin (sigC q1670) pnX9_begin hl) wdX9_begin zX9_begin (Nat.le_of_ble_eq_true rfl) (Nat.le_of_ble_eq_true rfl)
theorem eX9_readerSize_6 : SiZ nX9_readerSize 6 (i_aload 0 7) := s_aload_n dX9_readerSize_6 rfl
theorem eX9_readerSize_7 : SiZ nX9_readerSize 7 (i_iload 1 8) := s_iload_n dX9_readerSize_7 rfl
theorem eX9_readerSize_8 : SiZ nX9_readerSize 8 (i_push (.int 10) 10) := s_bipush dX9_readerSize_8 (by decide)
theorem eX9_readerSize_10 : ScZ nX9_readerSize 10 (c_V 2 13 3 9 (Mt mX9_lent 3)) := e_V (mi := nX9_readerSize) (mi' := nX9_lent) (len := 3) (fun h b as rest hk hl => cs_V (ci := 8) (mi := nX9_readerSize) (pc := 10) (y := yX9_lent) (idx := 283) dX9_readerSize_10 q1675 q1677 qs71 rfl hk hyX9_lent (sigC q1678) pnX9_lent hl) wdX9_lent zX9_lent (Nat.le_of_ble_eq_true rfl) (Nat.le_of_ble_eq_true rfl)
theorem eX9_readerSize_13 : SiZ nX9_readerSize 13 (i_istore 2 14) := s_istore_n dX9_readerSize_13 rfl
theorem eX9_readerSize_14 : SiZ nX9_readerSize 14 (i_iload 2 15) := s_iload_n dX9_readerSize_14 rfl
theorem eX9_readerSize_15 : SiZ nX9_readerSize 15 (i_aload 0 16) := s_aload_n dX9_readerSize_15 rfl
theorem eX9_readerSize_16 : SiZ nX9_readerSize 16 (i_iload 1 17) := s_iload_n dX9_readerSize_16 rfl
theorem eX9_readerSize_17 : ScZ nX9_readerSize 17 (c_V 1 20 4 9 (Mt mX9_markOf 4)) := e_V (mi := nX9_readerSize) (mi' := nX9_markOf) (len := 3) (fun h b as rest hk hl => cs_V (ci := 8) (mi := nX9_readerSize) (pc := 17) (y := yX9_markOf) (idx := 295) dX9_readerSize_17 q1679 q1681 qs72 rfl hk hyX9_markOf (sigC q1682) pnX9_markOf hl) wdX9_markOf zX9_markOf (Nat.le_of_ble_eq_true rfl) (Nat.le_of_ble_eq_true rfl)
theorem eX9_readerSize_20 : SiZ nX9_readerSize 20 (i_bin (fun x y => x + y) 21) := s_iadd dX9_readerSize_20
theorem eX9_readerSize_21 : SiZ nX9_readerSize 21 i_iret := s_iret dX9_readerSize_21 rfl
theorem aX9_readerSize : ∀ x ∈ mX9_readerSize.1, EnZ nX9_readerSize x := fm_cons eX9_readerSize_0 (fm_cons eX9_readerSize_1 (fm_cons eX9_readerSize_3 (fm_cons eX9_readerSize_6 (fm_cons eX9_readerSize_7 (fm_cons eX9_readerSize_8 (fm_cons eX9_readerSize_10 (fm_cons eX9_readerSize_13 (fm_cons eX9_readerSize_14 (fm_cons eX9_readerSize_15 (fm_cons eX9_readerSize_16 (fm_cons eX9_readerSize_17 (fm_cons eX9_readerSize_20 (fm_cons eX9_readerSize_21 (fm_nil))))))))))))))
theorem zX9_readerSize : SwZ nX9_readerSize (Mt mX9_readerSize 3) := wholeZ (mi := nX9_readerSize) (cd := mX9_readerSize) aX9_readerSize rfl (HdZ.none rfl)
abbrev nX9_sizeOf : MI := (cX9_sizeOf, 3, (some (.int)), RX9, "sizeOf", [], 6, 154)
theorem hyX9_sizeOf : yX9_sizeOf.cls ≠ "java/lang/invoke/MethodHandle" ∧ yX9_sizeOf.cls ≠ "java/lang/invoke/VarHandle" := by decide +kernel
theorem pnX9_sizeOf : (parseMethodDescriptor yX9_sizeOf.desc).map (fun d => d.parameters.length) = some 1 := by decide +kernel
theorem wdX9_sizeOf : CdW yX9_sizeOf (nX9_sizeOf) := ⟨Or.inl ⟨q1666, rfl⟩, rfl, rfl, plainFor_of_name (by decide +kernel)⟩
theorem eX9_sizeOf_0 : SiZ nX9_sizeOf 0 (i_aload 0 1) := s_aload_n dX9_sizeOf_0 rfl
theorem eX9_sizeOf_1 : SiZ nX9_sizeOf 1 (i_getf 81 [9] 4) := s_getf dX9_sizeOf_1 (fm_cons (⟨_, _, _, _, _, _, rfl, fkX9_19_9⟩) (fm_nil))
theorem eX9_sizeOf_4 : SiZ nX9_sizeOf 4 (i_push (.int 26) 6) := s_bipush dX9_sizeOf_4 (by decide)
theorem eX9_sizeOf_6 : SiZ nX9_sizeOf 6 (i_iload 1 7) := s_iload_n dX9_sizeOf_6 rfl
theorem eX9_sizeOf_7 : SiZ nX9_sizeOf 7 (i_bin (fun x y => x + y) 8) := s_iadd dX9_sizeOf_7
theorem eX9_sizeOf_8 : SiZ nX9_sizeOf 8 (i_iald 51 9) := s_ald (j := 0) (by decide) (fun _ => rfl) dX9_sizeOf_8 (Or.inl ⟨rfl, rfl⟩)
theorem eX9_sizeOf_9 : SiZ nX9_sizeOf 9 (i_istore 2 10) := s_istore_n dX9_sizeOf_9 rfl
theorem eX9_sizeOf_10 : SiZ nX9_sizeOf 10 (i_iload 2 11) := s_iload_n dX9_sizeOf_10 rfl
theorem eX9_sizeOf_11 : SiZ nX9_sizeOf 11 (i_push (.int 2) 12) := s_iconst dX9_sizeOf_11 (by decide)
theorem eX9_sizeOf_12 : SiZ nX9_sizeOf 12 (i_icmp (fun x y => ¬ x = y) 28 15) := s_icmp_ne dX9_sizeOf_12 (by decide)
theorem eX9_sizeOf_15 : SiZ nX9_sizeOf 15 (i_aload 0 16) := s_aload_n dX9_sizeOf_15 rfl
theorem eX9_sizeOf_16 : SiZ nX9_sizeOf 16 (i_push (.int 12) 18) := s_bipush dX9_sizeOf_16 (by decide)
theorem eX9_sizeOf_18 : ScZ nX9_sizeOf 18 (c_V 1 21 2 9 (Mt mX9_begin 2)) := e_V (mi := nX9_sizeOf) (mi' := nX9_begin) (len := 3) (fun h b as rest hk hl => cs_V (ci := 8) (mi := nX9_sizeOf) (pc := 18) (y := yX9_begin) (idx := 280) dX9_sizeOf_18 q1667 q1669 qs69 rfl hk hyX9_begin (sigC q1670) pnX9_begin hl) wdX9_begin zX9_begin (Nat.le_of_ble_eq_true rfl) (Nat.le_of_ble_eq_true rfl)
theorem eX9_sizeOf_21 : SiZ nX9_sizeOf 21 (i_aload 0 22) := s_aload_n dX9_sizeOf_21 rfl
theorem eX9_sizeOf_22 : SiZ nX9_sizeOf 22 (i_iload 1 23) := s_iload_n dX9_sizeOf_22 rfl
theorem eX9_sizeOf_23 : ScZ nX9_sizeOf 23 (c_V 1 26 3 9 (Mt mX9_readerSize 3)) := e_V (mi := nX9_sizeOf) (mi' := nX9_readerSize) (len := 3) (fun h b as rest hk hl => cs_V (ci := 8) (mi := nX9_sizeOf) (pc := 23) (y := yX9_readerSize) (idx := 298) dX9_sizeOf_23 q1671 q1673 qs70 rfl hk hyX9_readerSize (sigC q1674) pnX9_readerSize hl) wdX9_readerSize zX9_readerSize (Nat.le_of_ble_eq_true rfl) (Nat.le_of_ble_eq_true rfl)
theorem eX9_sizeOf_26 : SiZ nX9_sizeOf 26 (i_un (fun x => -x) 27) := s_ineg dX9_sizeOf_26
theorem eX9_sizeOf_27 : SiZ nX9_sizeOf 27 i_iret := s_iret dX9_sizeOf_27 rfl
theorem eX9_sizeOf_28 : SiZ nX9_sizeOf 28 (i_iload 2 29) := s_iload_n dX9_sizeOf_28 rfl
theorem eX9_sizeOf_29 : SiZ nX9_sizeOf 29 (i_push (.int 4) 30) := s_iconst dX9_sizeOf_29 (by decide)
theorem eX9_sizeOf_30 : SiZ nX9_sizeOf 30 (i_icmp (fun x y => x < y) 41 33) := s_icmp_lt dX9_sizeOf_30 (by decide)
theorem eX9_sizeOf_33 : SiZ nX9_sizeOf 33 (i_aload 0 34) := s_aload_n dX9_sizeOf_33 rfl
theorem eX9_sizeOf_34 : SiZ nX9_sizeOf 34 (i_iload 1 35) := s_iload_n dX9_sizeOf_34 rfl
theorem eX9_sizeOf_35 : ScZ nX9_sizeOf 35 (c_V 1 38 2 9 (Mt mX9_sizeOfWanderer 2)) := e_V (mi := nX9_sizeOf) (mi' := nX9_sizeOfWanderer) (len := 3) (fun h b as rest hk hl => cs_V (ci := 8) (mi := nX9_sizeOf) (pc := 35) (y := yX9_sizeOfWanderer) (idx := 292) dX9_sizeOf_35 q1687 q1689 qs74 rfl hk hyX9_sizeOfWanderer (sigC q1690) pnX9_sizeOfWanderer hl) wdX9_sizeOfWanderer zX9_sizeOfWanderer (Nat.le_of_ble_eq_true rfl) (Nat.le_of_ble_eq_true rfl)
theorem eX9_sizeOf_38 : SiZ nX9_sizeOf 38 (i_goto 46) := s_goto dX9_sizeOf_38 (by decide)
theorem eX9_sizeOf_41 : SiZ nX9_sizeOf 41 (i_aload 0 42) := s_aload_n dX9_sizeOf_41 rfl
theorem eX9_sizeOf_42 : SiZ nX9_sizeOf 42 (i_iload 1 43) := s_iload_n dX9_sizeOf_42 rfl
theorem eX9_sizeOf_43 : ScZ nX9_sizeOf 43 (c_V 1 46 3 9 (Mt mX9_readerSize 3)) := e_V (mi := nX9_sizeOf) (mi' := nX9_readerSize) (len := 3) (fun h b as rest hk hl => cs_V (ci := 8) (mi := nX9_sizeOf) (pc := 43) (y := yX9_readerSize) (idx := 298) dX9_sizeOf_43 q1671 q1673 qs70 rfl hk hyX9_readerSize (sigC q1674) pnX9_readerSize hl) wdX9_readerSize zX9_readerSize (Nat.le_of_ble_eq_true rfl) (Nat.le_of_ble_eq_true rfl)
theorem eX9_sizeOf_46 : SiZ nX9_sizeOf 46 i_iret := s_iret dX9_sizeOf_46 rfl
theorem aX9_sizeOf : ∀ x ∈ mX9_sizeOf.1, EnZ nX9_sizeOf x := fm_cons eX9_sizeOf_0 (fm_cons eX9_sizeOf_1 (fm_cons eX9_sizeOf_4 (fm_cons eX9_sizeOf_6 (fm_cons eX9_sizeOf_7 (fm_cons eX9_sizeOf_8 (fm_cons eX9_sizeOf_9 (fm_cons eX9_sizeOf_10 (fm_cons eX9_sizeOf_11 (fm_cons eX9_sizeOf_12 (fm_cons eX9_sizeOf_15 (fm_cons eX9_sizeOf_16 (fm_cons eX9_sizeOf_18 (fm_cons eX9_sizeOf_21 (fm_cons eX9_sizeOf_22 (fm_cons eX9_sizeOf_23 (fm_cons eX9_sizeOf_26 (fm_cons eX9_sizeOf_27 (fm_cons eX9_sizeOf_28 (fm_cons eX9_sizeOf_29 (fm_cons eX9_sizeOf_30 (fm_cons eX9_sizeOf_33 (fm_cons eX9_sizeOf_34 (fm_cons eX9_sizeOf_35 (fm_cons eX9_sizeOf_38 (fm_cons eX9_sizeOf_41 (fm_cons eX9_sizeOf_42 (fm_cons eX9_sizeOf_43 (fm_cons eX9_sizeOf_46 (fm_nil)))))))))))))))))))))))))))))
theorem zX9_sizeOf : SwZ nX9_sizeOf (Mt mX9_sizeOf 3) := wholeZ (mi := nX9_sizeOf) (cd := mX9_sizeOf) aX9_sizeOf rfl (HdZ.none rfl)
abbrev nX9_ask : MI := (cX9_ask, 3, (some (.int)), RX9, "ask", [], 7, 180)
theorem hyX9_ask : yX9_ask.cls ≠ "java/lang/invoke/MethodHandle" ∧ yX9_ask.cls ≠ "java/lang/invoke/VarHandle" := by decide +kernel
theorem pnX9_ask : (parseMethodDescriptor yX9_ask.desc).map (fun d => d.parameters.length) = some 2 := by decide +kernel
theorem wdX9_ask : CdW yX9_ask (nX9_ask) := ⟨Or.inl ⟨q1662, rfl⟩, rfl, rfl, plainFor_of_name (by decide +kernel)⟩
theorem eX9_ask_0 : SiZ nX9_ask 0 (i_aload 0 1) := s_aload_n dX9_ask_0 rfl
theorem eX9_ask_1 : SiZ nX9_ask 1 (i_iload 1 2) := s_iload_n dX9_ask_1 rfl
theorem eX9_ask_2 : ScZ nX9_ask 2 (c_V 1 5 2 9 (Mt mX9_isFish 2)) := e_V (mi := nX9_ask) (mi' := nX9_isFish) (len := 3) (fun h b as rest hk hl => cs_V (ci := 8) (mi := nX9_ask) (pc := 2) (y := yX9_isFish) (idx := 200) dX9_ask_2 q1495 q1497 qs54 rfl hk hyX9_isFish (sigC q1498) pnX9_isFish hl) wdX9_isFish zX9_isFish (Nat.le_of_ble_eq_true rfl) (Nat.le_of_ble_eq_true rfl)
theorem eX9_ask_5 : SiZ nX9_ask 5 (i_if (fun x => x = 0) 18 8) := s_if_eq dX9_ask_5 (by decide)
theorem eX9_ask_8 : SiZ nX9_ask 8 (i_iload 2 9) := s_iload_n dX9_ask_8 rfl
theorem eX9_ask_9 : SiZ nX9_ask 9 (i_i2l 10) := s_i2l dX9_ask_9
theorem eX9_ask_10 : SiZ nX9_ask 10 (i_push (.long 0) 11) := s_lconst dX9_ask_10 (by decide)
theorem eX9_ask_11 : SiZ nX9_ask 11 (i_push (.long 1) 12) := s_lconst dX9_ask_11 (by decide)
theorem eX9_ask_12 : ScZ nX9_ask 12 (c_S 3 15 6 (Mt mX9_in 6)) := e_S (mi := nX9_ask) (mi' := nX9_in) (len := 3) (fun h as rest hl => cs_S (mi := nX9_ask) (pc := 12) (y := yX9_in) (idx := 63) dX9_ask_12 q1335 q1336 q89 q1337 hyX9_in pnX9_in hl) wdX9_in zX9_in (Nat.le_of_ble_eq_true rfl) (Nat.le_of_ble_eq_true rfl)
theorem eX9_ask_15 : SiZ nX9_ask 15 (i_if (fun x => ¬ x = 0) 21 18) := s_if_ne dX9_ask_15 (by decide)
theorem eX9_ask_18 : SiZ nX9_ask 18 (i_push (.int (-1000001)) 20) := s_ldc dX9_ask_18 q1339
theorem eX9_ask_20 : SiZ nX9_ask 20 i_iret := s_iret dX9_ask_20 rfl
theorem eX9_ask_21 : SiZ nX9_ask 21 (i_aload 0 22) := s_aload_n dX9_ask_21 rfl
theorem eX9_ask_22 : SiZ nX9_ask 22 (i_push (.int 0) 23) := s_iconst dX9_ask_22 (by decide)
theorem eX9_ask_23 : SiZ nX9_ask 23 (i_putI 120 [9] 26) := s_putI dX9_ask_23 (fm_cons (⟨_, _, _, _, _, _, rfl, ⟨fkX9_277_9, ⟨_, q1272, Or.inl rfl⟩, Or.inl rfl⟩, rfl⟩) (fm_nil))
theorem eX9_ask_26 : SiZ nX9_ask 26 (i_iload 2 27) := s_iload_n dX9_ask_26 rfl
theorem eX9_ask_27 : SiZ nX9_ask 27 (i_if (fun x => ¬ x = 0) 38 30) := s_if_ne dX9_ask_27 (by decide)
theorem eX9_ask_30 : SiZ nX9_ask 30 (i_aload 0 31) := s_aload_n dX9_ask_30 rfl
theorem eX9_ask_31 : SiZ nX9_ask 31 (i_iload 1 32) := s_iload_n dX9_ask_31 rfl
theorem eX9_ask_32 : ScZ nX9_ask 32 (c_V 1 35 3 9 (Mt mX9_sizeOf 3)) := e_V (mi := nX9_ask) (mi' := nX9_sizeOf) (len := 3) (fun h b as rest hk hl => cs_V (ci := 8) (mi := nX9_ask) (pc := 32) (y := yX9_sizeOf) (idx := 301) dX9_ask_32 q1663 q1665 qs68 rfl hk hyX9_sizeOf (sigC q1666) pnX9_sizeOf hl) wdX9_sizeOf zX9_sizeOf (Nat.le_of_ble_eq_true rfl) (Nat.le_of_ble_eq_true rfl)
theorem eX9_ask_35 : SiZ nX9_ask 35 (i_goto 43) := s_goto dX9_ask_35 (by decide)
theorem eX9_ask_38 : SiZ nX9_ask 38 (i_aload 0 39) := s_aload_n dX9_ask_38 rfl
theorem eX9_ask_39 : SiZ nX9_ask 39 (i_iload 1 40) := s_iload_n dX9_ask_39 rfl
theorem eX9_ask_40 : ScZ nX9_ask 40 (c_V 1 43 4 9 (Mt mX9_markOf 4)) := e_V (mi := nX9_ask) (mi' := nX9_markOf) (len := 3) (fun h b as rest hk hl => cs_V (ci := 8) (mi := nX9_ask) (pc := 40) (y := yX9_markOf) (idx := 295) dX9_ask_40 q1679 q1681 qs72 rfl hk hyX9_markOf (sigC q1682) pnX9_markOf hl) wdX9_markOf zX9_markOf (Nat.le_of_ble_eq_true rfl) (Nat.le_of_ble_eq_true rfl)
theorem eX9_ask_43 : SiZ nX9_ask 43 i_iret := s_iret dX9_ask_43 rfl
theorem aX9_ask : ∀ x ∈ mX9_ask.1, EnZ nX9_ask x := fm_cons eX9_ask_0 (fm_cons eX9_ask_1 (fm_cons eX9_ask_2 (fm_cons eX9_ask_5 (fm_cons eX9_ask_8 (fm_cons eX9_ask_9 (fm_cons eX9_ask_10 (fm_cons eX9_ask_11 (fm_cons eX9_ask_12 (fm_cons eX9_ask_15 (fm_cons eX9_ask_18 (fm_cons eX9_ask_20 (fm_cons eX9_ask_21 (fm_cons eX9_ask_22 (fm_cons eX9_ask_23 (fm_cons eX9_ask_26 (fm_cons eX9_ask_27 (fm_cons eX9_ask_30 (fm_cons eX9_ask_31 (fm_cons eX9_ask_32 (fm_cons eX9_ask_35 (fm_cons eX9_ask_38 (fm_cons eX9_ask_39 (fm_cons eX9_ask_40 (fm_cons eX9_ask_43 (fm_nil)))))))))))))))))))))))))
theorem zX9_ask : SwZ nX9_ask (Mt mX9_ask 3) := wholeZ (mi := nX9_ask) (cd := mX9_ask) aX9_ask rfl (HdZ.none rfl)
abbrev nX9_trace : MI := (cX9_trace, 2, (some (.int)), RX9, "trace", [], 1, 29)
theorem hyX9_trace : yX9_trace.cls ≠ "java/lang/invoke/MethodHandle" ∧ yX9_trace.cls ≠ "java/lang/invoke/VarHandle" := by decide +kernel
theorem pnX9_trace : (parseMethodDescriptor yX9_trace.desc).map (fun d => d.parameters.length) = some 1 := by decide +kernel
theorem wdX9_trace : CdW yX9_trace (nX9_trace) := ⟨Or.inl ⟨q1698, rfl⟩, rfl, rfl, plainFor_of_name (by decide +kernel)⟩
theorem eX9_trace_0 : SiZ nX9_trace 0 (i_iload 1 1) := s_iload_n dX9_trace_0 rfl
theorem eX9_trace_1 : SiZ nX9_trace 1 (i_i2l 2) := s_i2l dX9_trace_1
theorem eX9_trace_2 : SiZ nX9_trace 2 (i_push (.long 0) 3) := s_lconst dX9_trace_2 (by decide)
theorem eX9_trace_3 : SiZ nX9_trace 3 (i_aload 0 4) := s_aload_n dX9_trace_3 rfl
theorem eX9_trace_4 : SiZ nX9_trace 4 (i_getf 120 [9] 7) := s_getf dX9_trace_4 (fm_cons (⟨_, _, _, _, _, _, rfl, fkX9_277_9⟩) (fm_nil))
theorem eX9_trace_7 : SiZ nX9_trace 7 (i_push (.int 1) 8) := s_iconst dX9_trace_7 (by decide)
theorem eX9_trace_8 : SiZ nX9_trace 8 (i_bin (fun x y => x - y) 9) := s_isub dX9_trace_8
theorem eX9_trace_9 : SiZ nX9_trace 9 (i_i2l 10) := s_i2l dX9_trace_9
theorem eX9_trace_10 : ScZ nX9_trace 10 (c_S 3 13 6 (Mt mX9_in 6)) := e_S (mi := nX9_trace) (mi' := nX9_in) (len := 3) (fun h as rest hl => cs_S (mi := nX9_trace) (pc := 10) (y := yX9_in) (idx := 63) dX9_trace_10 q1335 q1336 q89 q1337 hyX9_in pnX9_in hl) wdX9_in zX9_in (Nat.le_of_ble_eq_true rfl) (Nat.le_of_ble_eq_true rfl)
theorem eX9_trace_13 : SiZ nX9_trace 13 (i_if (fun x => x = 0) 25 16) := s_if_eq dX9_trace_13 (by decide)
theorem eX9_trace_16 : SiZ nX9_trace 16 (i_aload 0 17) := s_aload_n dX9_trace_16 rfl
theorem eX9_trace_17 : SiZ nX9_trace 17 (i_getf 119 [9] 20) := s_getf dX9_trace_17 (fm_cons (⟨_, _, _, _, _, _, rfl, fkX9_53_9⟩) (fm_nil))
theorem eX9_trace_20 : SiZ nX9_trace 20 (i_iload 1 21) := s_iload_n dX9_trace_20 rfl
theorem eX9_trace_21 : SiZ nX9_trace 21 (i_iald 51 22) := s_ald (j := 0) (by decide) (fun _ => rfl) dX9_trace_21 (Or.inl ⟨rfl, rfl⟩)
theorem eX9_trace_22 : SiZ nX9_trace 22 (i_goto 27) := s_goto dX9_trace_22 (by decide)
theorem eX9_trace_25 : SiZ nX9_trace 25 (i_push (.int (-1000000)) 27) := s_ldc dX9_trace_25 q1455
theorem eX9_trace_27 : SiZ nX9_trace 27 i_iret := s_iret dX9_trace_27 rfl
theorem aX9_trace : ∀ x ∈ mX9_trace.1, EnZ nX9_trace x := fm_cons eX9_trace_0 (fm_cons eX9_trace_1 (fm_cons eX9_trace_2 (fm_cons eX9_trace_3 (fm_cons eX9_trace_4 (fm_cons eX9_trace_7 (fm_cons eX9_trace_8 (fm_cons eX9_trace_9 (fm_cons eX9_trace_10 (fm_cons eX9_trace_13 (fm_cons eX9_trace_16 (fm_cons eX9_trace_17 (fm_cons eX9_trace_20 (fm_cons eX9_trace_21 (fm_cons eX9_trace_22 (fm_cons eX9_trace_25 (fm_cons eX9_trace_27 (fm_nil)))))))))))))))))
theorem zX9_trace : SwZ nX9_trace (Mt mX9_trace 2) := wholeZ (mi := nX9_trace) (cd := mX9_trace) aX9_trace rfl (HdZ.none rfl)
abbrev nX9_count : MI := (cX9_count, 5, (some (.int)), RX9, "count", [], 1, 26)
theorem hyX9_count : yX9_count.cls ≠ "java/lang/invoke/MethodHandle" ∧ yX9_count.cls ≠ "java/lang/invoke/VarHandle" := by decide +kernel
theorem pnX9_count : (parseMethodDescriptor yX9_count.desc).map (fun d => d.parameters.length) = some 1 := by decide +kernel
theorem wdX9_count : CdW yX9_count (nX9_count) := ⟨Or.inl ⟨q1702, rfl⟩, rfl, rfl, plainFor_of_name (by decide +kernel)⟩
theorem eX9_count_0 : SiZ nX9_count 0 (i_push (.int 0) 1) := s_iconst dX9_count_0 (by decide)
theorem eX9_count_1 : SiZ nX9_count 1 (i_istore 2 2) := s_istore_n dX9_count_1 rfl
theorem eX9_count_2 : SiZ nX9_count 2 (i_push (.int 0) 3) := s_iconst dX9_count_2 (by decide)
theorem eX9_count_3 : SiZ nX9_count 3 (i_istore 3 4) := s_istore_n dX9_count_3 rfl
theorem eX9_count_4 : SiZ nX9_count 4 (i_iload 3 5) := s_iload_n dX9_count_4 rfl
theorem eX9_count_5 : SiZ nX9_count 5 (i_push (.int 8) 7) := s_bipush dX9_count_5 (by decide)
theorem eX9_count_7 : SiZ nX9_count 7 (i_icmp (fun x y => y ≤ x) 33 10) := s_icmp_ge dX9_count_7 (by decide)
theorem eX9_count_10 : SiZ nX9_count 10 (i_iload 2 11) := s_iload_n dX9_count_10 rfl
theorem eX9_count_11 : SiZ nX9_count 11 (i_aload 0 12) := s_aload_n dX9_count_11 rfl
theorem eX9_count_12 : SiZ nX9_count 12 (i_getf 73 [9] 15) := s_getf dX9_count_12 (fm_cons (⟨_, _, _, _, _, _, rfl, fkX9_13_9⟩) (fm_nil))
theorem eX9_count_15 : SiZ nX9_count 15 (i_iload 3 16) := s_iload_n dX9_count_15 rfl
theorem eX9_count_16 : SiZ nX9_count 16 (i_iald 51 17) := s_ald (j := 0) (by decide) (fun _ => rfl) dX9_count_16 (Or.inl ⟨rfl, rfl⟩)
theorem eX9_count_17 : SiZ nX9_count 17 (i_if (fun x => x < 0) 24 20) := s_if_lt dX9_count_17 (by decide)
theorem eX9_count_20 : SiZ nX9_count 20 (i_push (.int 1) 21) := s_iconst dX9_count_20 (by decide)
theorem eX9_count_21 : SiZ nX9_count 21 (i_goto 25) := s_goto dX9_count_21 (by decide)
theorem eX9_count_24 : SiZ nX9_count 24 (i_push (.int 0) 25) := s_iconst dX9_count_24 (by decide)
theorem eX9_count_25 : SiZ nX9_count 25 (i_bin (fun x y => x + y) 26) := s_iadd dX9_count_25
theorem eX9_count_26 : SiZ nX9_count 26 (i_istore 2 27) := s_istore_n dX9_count_26 rfl
theorem eX9_count_27 : SiZ nX9_count 27 (i_iinc 3 1 30) := s_iinc dX9_count_27 (by decide)
theorem eX9_count_30 : SiZ nX9_count 30 (i_goto 4) := s_goto dX9_count_30 (by decide)
theorem eX9_count_33 : SiZ nX9_count 33 (i_push (.int 0) 34) := s_iconst dX9_count_33 (by decide)
theorem eX9_count_34 : SiZ nX9_count 34 (i_istore 3 35) := s_istore_n dX9_count_34 rfl
theorem eX9_count_35 : SiZ nX9_count 35 (i_push (.int 0) 36) := s_iconst dX9_count_35 (by decide)
theorem eX9_count_36 : SiZ nX9_count 36 (i_istore 4 38) := s_istore dX9_count_36
theorem eX9_count_38 : SiZ nX9_count 38 (i_iload 4 40) := s_iload dX9_count_38
theorem eX9_count_40 : SiZ nX9_count 40 (i_aload 0 41) := s_aload_n dX9_count_40 rfl
theorem eX9_count_41 : SiZ nX9_count 41 (i_getf 81 [9] 44) := s_getf dX9_count_41 (fm_cons (⟨_, _, _, _, _, _, rfl, fkX9_19_9⟩) (fm_nil))
theorem eX9_count_44 : SiZ nX9_count 44 (i_push (.int 1) 45) := s_iconst dX9_count_44 (by decide)
theorem eX9_count_45 : SiZ nX9_count 45 (i_iald 51 46) := s_ald (j := 0) (by decide) (fun _ => rfl) dX9_count_45 (Or.inl ⟨rfl, rfl⟩)
theorem eX9_count_46 : SiZ nX9_count 46 (i_icmp (fun x y => y ≤ x) 68 49) := s_icmp_ge dX9_count_46 (by decide)
theorem eX9_count_49 : SiZ nX9_count 49 (i_iload 3 50) := s_iload_n dX9_count_49 rfl
theorem eX9_count_50 : SiZ nX9_count 50 (i_aload 0 51) := s_aload_n dX9_count_50 rfl
theorem eX9_count_51 : SiZ nX9_count 51 (i_getf 81 [9] 54) := s_getf dX9_count_51 (fm_cons (⟨_, _, _, _, _, _, rfl, fkX9_19_9⟩) (fm_nil))
theorem eX9_count_54 : SiZ nX9_count 54 (i_push (.int 36) 56) := s_bipush dX9_count_54 (by decide)
theorem eX9_count_56 : SiZ nX9_count 56 (i_iload 4 58) := s_iload dX9_count_56
theorem eX9_count_58 : SiZ nX9_count 58 (i_bin (fun x y => x + y) 59) := s_iadd dX9_count_58
theorem eX9_count_59 : SiZ nX9_count 59 (i_iald 51 60) := s_ald (j := 0) (by decide) (fun _ => rfl) dX9_count_59 (Or.inl ⟨rfl, rfl⟩)
theorem eX9_count_60 : SiZ nX9_count 60 (i_bin (fun x y => x + y) 61) := s_iadd dX9_count_60
theorem eX9_count_61 : SiZ nX9_count 61 (i_istore 3 62) := s_istore_n dX9_count_61 rfl
theorem eX9_count_62 : SiZ nX9_count 62 (i_iinc 4 1 65) := s_iinc dX9_count_62 (by decide)
theorem eX9_count_65 : SiZ nX9_count 65 (i_goto 38) := s_goto dX9_count_65 (by decide)
theorem eX9_count_68 : SiZ nX9_count 68 (i_iload 1 69) := s_iload_n dX9_count_68 rfl
theorem eX9_count_69 : SiZ nX9_count 69 (i_tsw 0 [116, 118, 125, 132, 139, 144, 146, 151] 156) := s_tsw dX9_count_69 (by decide) (by decide) (by decide)
theorem eX9_count_116 : SiZ nX9_count 116 (i_iload 2 117) := s_iload_n dX9_count_116 rfl
theorem eX9_count_117 : SiZ nX9_count 117 i_iret := s_iret dX9_count_117 rfl
theorem eX9_count_118 : SiZ nX9_count 118 (i_aload 0 119) := s_aload_n dX9_count_118 rfl
theorem eX9_count_119 : SiZ nX9_count 119 (i_getf 81 [9] 122) := s_getf dX9_count_119 (fm_cons (⟨_, _, _, _, _, _, rfl, fkX9_19_9⟩) (fm_nil))
theorem eX9_count_122 : SiZ nX9_count 122 (i_push (.int 0) 123) := s_iconst dX9_count_122 (by decide)
theorem eX9_count_123 : SiZ nX9_count 123 (i_iald 51 124) := s_ald (j := 0) (by decide) (fun _ => rfl) dX9_count_123 (Or.inl ⟨rfl, rfl⟩)
theorem eX9_count_124 : SiZ nX9_count 124 i_iret := s_iret dX9_count_124 rfl
theorem eX9_count_125 : SiZ nX9_count 125 (i_aload 0 126) := s_aload_n dX9_count_125 rfl
theorem eX9_count_126 : SiZ nX9_count 126 (i_getf 81 [9] 129) := s_getf dX9_count_126 (fm_cons (⟨_, _, _, _, _, _, rfl, fkX9_19_9⟩) (fm_nil))
theorem eX9_count_129 : SiZ nX9_count 129 (i_push (.int 1) 130) := s_iconst dX9_count_129 (by decide)
theorem eX9_count_130 : SiZ nX9_count 130 (i_iald 51 131) := s_ald (j := 0) (by decide) (fun _ => rfl) dX9_count_130 (Or.inl ⟨rfl, rfl⟩)
theorem eX9_count_131 : SiZ nX9_count 131 i_iret := s_iret dX9_count_131 rfl
theorem eX9_count_132 : SiZ nX9_count 132 (i_aload 0 133) := s_aload_n dX9_count_132 rfl
theorem eX9_count_133 : SiZ nX9_count 133 (i_getf 81 [9] 136) := s_getf dX9_count_133 (fm_cons (⟨_, _, _, _, _, _, rfl, fkX9_19_9⟩) (fm_nil))
theorem eX9_count_136 : SiZ nX9_count 136 (i_push (.int 4) 137) := s_iconst dX9_count_136 (by decide)
theorem eX9_count_137 : SiZ nX9_count 137 (i_iald 51 138) := s_ald (j := 0) (by decide) (fun _ => rfl) dX9_count_137 (Or.inl ⟨rfl, rfl⟩)
theorem eX9_count_138 : SiZ nX9_count 138 i_iret := s_iret dX9_count_138 rfl
theorem eX9_count_139 : SiZ nX9_count 139 (i_aload 0 140) := s_aload_n dX9_count_139 rfl
theorem eX9_count_140 : ScZ nX9_count 140 (c_V 0 143 3 9 (Mt mX9_allPages 3)) := e_V (mi := nX9_count) (mi' := nX9_allPages) (len := 3) (fun h b as rest hk hl => cs_V (ci := 8) (mi := nX9_count) (pc := 140) (y := yX9_allPages) (idx := 190) dX9_count_140 q1468 q1470 qs52 rfl hk hyX9_allPages (sigC q1471) pnX9_allPages hl) wdX9_allPages zX9_allPages (Nat.le_of_ble_eq_true rfl) (Nat.le_of_ble_eq_true rfl)
theorem eX9_count_143 : SiZ nX9_count 143 i_iret := s_iret dX9_count_143 rfl
theorem eX9_count_144 : SiZ nX9_count 144 (i_iload 3 145) := s_iload_n dX9_count_144 rfl
theorem eX9_count_145 : SiZ nX9_count 145 i_iret := s_iret dX9_count_145 rfl
theorem eX9_count_146 : SiZ nX9_count 146 (i_aload 0 147) := s_aload_n dX9_count_146 rfl
theorem eX9_count_147 : SiZ nX9_count 147 (i_getf 106 [9] 150) := s_getf dX9_count_147 (fm_cons (⟨_, _, _, _, _, _, rfl, fkX9_151_9⟩) (fm_nil))
theorem eX9_count_150 : SiZ nX9_count 150 i_iret := s_iret dX9_count_150 rfl
theorem eX9_count_151 : SiZ nX9_count 151 (i_aload 0 152) := s_aload_n dX9_count_151 rfl
theorem eX9_count_152 : SiZ nX9_count 152 (i_getf 86 [9] 155) := s_getf dX9_count_152 (fm_cons (⟨_, _, _, _, _, _, rfl, fkX9_87_9⟩) (fm_nil))
theorem eX9_count_155 : SiZ nX9_count 155 i_iret := s_iret dX9_count_155 rfl
theorem eX9_count_156 : SiZ nX9_count 156 (i_push (.int (-1000001)) 158) := s_ldc dX9_count_156 q1339
theorem eX9_count_158 : SiZ nX9_count 158 i_iret := s_iret dX9_count_158 rfl
theorem aX9_count : ∀ x ∈ mX9_count.1, EnZ nX9_count x := fm_cons eX9_count_0 (fm_cons eX9_count_1 (fm_cons eX9_count_2 (fm_cons eX9_count_3 (fm_cons eX9_count_4 (fm_cons eX9_count_5 (fm_cons eX9_count_7 (fm_cons eX9_count_10 (fm_cons eX9_count_11 (fm_cons eX9_count_12 (fm_cons eX9_count_15 (fm_cons eX9_count_16 (fm_cons eX9_count_17 (fm_cons eX9_count_20 (fm_cons eX9_count_21 (fm_cons eX9_count_24 (fm_cons eX9_count_25 (fm_cons eX9_count_26 (fm_cons eX9_count_27 (fm_cons eX9_count_30 (fm_cons eX9_count_33 (fm_cons eX9_count_34 (fm_cons eX9_count_35 (fm_cons eX9_count_36 (fm_cons eX9_count_38 (fm_cons eX9_count_40 (fm_cons eX9_count_41 (fm_cons eX9_count_44 (fm_cons eX9_count_45 (fm_cons eX9_count_46 (fm_cons eX9_count_49 (fm_cons eX9_count_50 (fm_cons eX9_count_51 (fm_cons eX9_count_54 (fm_cons eX9_count_56 (fm_cons eX9_count_58 (fm_cons eX9_count_59 (fm_cons eX9_count_60 (fm_cons eX9_count_61 (fm_cons eX9_count_62 (fm_cons eX9_count_65 (fm_cons eX9_count_68 (fm_cons eX9_count_69 (fm_cons eX9_count_116 (fm_cons eX9_count_117 (fm_cons eX9_count_118 (fm_cons eX9_count_119 (fm_cons eX9_count_122 (fm_cons eX9_count_123 (fm_cons eX9_count_124 (fm_cons eX9_count_125 (fm_cons eX9_count_126 (fm_cons eX9_count_129 (fm_cons eX9_count_130 (fm_cons eX9_count_131 (fm_cons eX9_count_132 (fm_cons eX9_count_133 (fm_cons eX9_count_136 (fm_cons eX9_count_137 (fm_cons eX9_count_138 (fm_cons eX9_count_139 (fm_cons eX9_count_140 (fm_cons eX9_count_143 (fm_cons eX9_count_144 (fm_cons eX9_count_145 (fm_cons eX9_count_146 (fm_cons eX9_count_147 (fm_cons eX9_count_150 (fm_cons eX9_count_151 (fm_cons eX9_count_152 (fm_cons eX9_count_155 (fm_cons eX9_count_156 (fm_cons eX9_count_158 (fm_nil)))))))))))))))))))))))))))))))))))))))))))))))))))))))))))))))))))))))))
theorem zX9_count : SwZ nX9_count (Mt mX9_count 5) := wholeZ (mi := nX9_count) (cd := mX9_count) aX9_count rfl (HdZ.none rfl)
abbrev nX9_status : MI := (cX9_status, 1, (some (.int)), RX9, "status", [], 0, 0)
theorem hyX9_status : yX9_status.cls ≠ "java/lang/invoke/MethodHandle" ∧ yX9_status.cls ≠ "java/lang/invoke/VarHandle" := by decide +kernel
theorem pnX9_status : (parseMethodDescriptor yX9_status.desc).map (fun d => d.parameters.length) = some 0 := by decide +kernel
theorem wdX9_status : CdW yX9_status (nX9_status) := ⟨Or.inl ⟨q1706, rfl⟩, rfl, rfl, plainFor_of_name (by decide +kernel)⟩
theorem eX9_status_0 : SiZ nX9_status 0 (i_aload 0 1) := s_aload_n dX9_status_0 rfl
theorem eX9_status_1 : SiZ nX9_status 1 (i_getf 76 [9] 4) := s_getf dX9_status_1 (fm_cons (⟨_, _, _, _, _, _, rfl, fkX9_56_9⟩) (fm_nil))
theorem eX9_status_4 : SiZ nX9_status 4 i_iret := s_iret dX9_status_4 rfl
theorem aX9_status : ∀ x ∈ mX9_status.1, EnZ nX9_status x := fm_cons eX9_status_0 (fm_cons eX9_status_1 (fm_cons eX9_status_4 (fm_nil)))
theorem zX9_status : SwZ nX9_status (Mt mX9_status 1) := wholeZ (mi := nX9_status) (cd := mX9_status) aX9_status rfl (HdZ.none rfl)
