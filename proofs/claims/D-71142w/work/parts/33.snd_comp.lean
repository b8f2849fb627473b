set_option maxRecDepth 100000
set_option maxHeartbeats 4000000
theorem fkJ1_7_14 : FkZ RJ1 7 158 13 0 RJ2 TJ2 3 tyJ2 := ⟨clJ2, by decide, rfl, _, Or.inl q142, Or.inl rfl⟩
theorem fkJ2_9_14 : FkZ RJ2 9 161 13 1 RJ2 TJ2 3 tyJ2 := ⟨clJ2, by decide, rfl, _, Or.inl q140, Or.inl rfl⟩
theorem fkX1_9_2 : FkZ RX1 9 39 1 3 RX1 TX1 16 tyX1 := ⟨clX1, by decide, rfl, _, Or.inl q166, Or.inl rfl⟩
theorem fkX1_15_2 : FkZ RX1 15 41 1 4 RX1 TX1 16 tyX1 := ⟨clX1, by decide, rfl, _, Or.inl q169, Or.inl rfl⟩
theorem fkX1_18_2 : FkZ RX1 18 43 1 5 RX1 TX1 16 tyX1 := ⟨clX1, by decide, rfl, _, Or.inl q172, Or.inl rfl⟩
theorem fkX1_21_2 : FkZ RX1 21 45 1 6 RX1 TX1 16 tyX1 := ⟨clX1, by decide, rfl, _, Or.inl q176, Or.inl rfl⟩
theorem fkX1_27_2 : FkZ RX1 27 51 1 9 RX1 TX1 16 tyX1 := ⟨clX1, by decide, rfl, _, Or.inl q182, Or.inl rfl⟩
theorem fkX1_31_2 : FkZ RX1 31 53 1 10 RX1 TX1 16 tyX1 := ⟨clX1, by decide, rfl, _, Or.inl q185, Or.inl rfl⟩
theorem fkX1_34_2 : FkZ RX1 34 55 1 11 RX1 TX1 16 tyX1 := ⟨clX1, by decide, rfl, _, Or.inl q189, Or.inl rfl⟩
theorem fkX1_38_2 : FkZ RX1 38 60 1 14 RX1 TX1 16 tyX1 := ⟨clX1, by decide, rfl, _, Or.inl q196, Or.inl rfl⟩
theorem fkX2_9_3 : FkZ RX2 9 65 2 0 RX2 TX2 2 tyX2 := ⟨clX2, by decide, rfl, _, Or.inl q240, Or.inl rfl⟩
theorem fkX3_7_4 : FkZ RX3 7 68 3 0 RX4 TX4 1 tyX4 := ⟨clX4, by decide, rfl, _, Or.inl q260, Or.inl rfl⟩
theorem fkX3_7_5 : FkZ RX3 7 68 4 0 RX5 TX5 1 tyX5 := ⟨clX5, by decide, rfl, _, Or.inl q260, Or.inl rfl⟩
theorem fkX3_7_6 : FkZ RX3 7 68 5 0 RX6 TX6 1 tyX6 := ⟨clX6, by decide, rfl, _, Or.inl q260, Or.inl rfl⟩
theorem fkX3_7_7 : FkZ RX3 7 68 6 0 RX7 TX7 1 tyX7 := ⟨clX7, by decide, rfl, _, Or.inl q260, Or.inl rfl⟩
theorem fkX3_7_8 : FkZ RX3 7 68 7 0 RX8 TX8 1 tyX8 := ⟨clX8, by decide, rfl, _, Or.inl q260, Or.inl rfl⟩
theorem fkX0_28_1 : FkZ RX0 28 3 0 0 RX0 TX0 15 tyX0 := ⟨clX0, by decide, rfl, _, Or.inl q296, Or.inl rfl⟩
theorem fkX0_32_1 : FkZ RX0 32 5 0 1 RX0 TX0 15 tyX0 := ⟨clX0, by decide, rfl, _, Or.inl q297, Or.inl rfl⟩
theorem fkX0_39_1 : FkZ RX0 39 11 0 4 RX0 TX0 15 tyX0 := ⟨clX0, by decide, rfl, _, Or.inl q300, Or.inl rfl⟩
theorem fkX0_43_1 : FkZ RX0 43 13 0 5 RX0 TX0 15 tyX0 := ⟨clX0, by decide, rfl, _, Or.inl q301, Or.inl rfl⟩
theorem fkX0_46_1 : FkZ RX0 46 15 0 6 RX0 TX0 15 tyX0 := ⟨clX0, by decide, rfl, _, Or.inl q302, Or.inl rfl⟩
theorem fkX0_50_1 : FkZ RX0 50 19 0 8 RX0 TX0 15 tyX0 := ⟨clX0, by decide, rfl, _, Or.inl q304, Or.inl rfl⟩
theorem fkX0_56_1 : FkZ RX0 56 21 0 9 RX0 TX0 15 tyX0 := ⟨clX0, by decide, rfl, _, Or.inl q305, Or.inl rfl⟩
theorem fkX0_60_1 : FkZ RX0 60 25 0 11 RX0 TX0 15 tyX0 := ⟨clX0, by decide, rfl, _, Or.inl q307, Or.inl rfl⟩
theorem fkX0_64_1 : FkZ RX0 64 27 0 12 RX0 TX0 15 tyX0 := ⟨clX0, by decide, rfl, _, Or.inl q308, Or.inl rfl⟩
theorem fkX0_69_1 : FkZ RX0 69 31 0 14 RX0 TX0 15 tyX0 := ⟨clX0, by decide, rfl, _, Or.inl q310, Or.inl rfl⟩
theorem fkJ3_7_10 : FkZ RJ3 7 123 9 0 RX10 TX10 7 tyX10 := ⟨clX10, by decide, rfl, _, Or.inl q411, Or.inl rfl⟩
theorem fkJ3_7_13 : FkZ RJ3 7 123 12 0 RX13 TX13 8 tyX13 := ⟨clX13, by decide, rfl, _, Or.inl q411, Or.inl rfl⟩
theorem fkJ3_7_15 : FkZ RJ3 7 123 14 2 RJ7 TJ7 6 tyJ7 := ⟨clJ7, by decide, rfl, _, Or.inl q411, Or.inl rfl⟩
theorem fkJ3_7_16 : FkZ RJ3 7 123 15 2 RJ17 TJ17 6 tyJ17 := ⟨clJ17, by decide, rfl, _, Or.inl q411, Or.inl rfl⟩
theorem fkJ3_17_10 : FkZ RJ3 17 125 9 1 RX10 TX10 7 tyX10 := ⟨clX10, by decide, rfl, _, Or.inl q412, Or.inl rfl⟩
theorem fkJ3_17_13 : FkZ RJ3 17 125 12 1 RX13 TX13 8 tyX13 := ⟨clX13, by decide, rfl, _, Or.inl q412, Or.inl rfl⟩
theorem fkJ3_17_15 : FkZ RJ3 17 125 14 3 RJ7 TJ7 6 tyJ7 := ⟨clJ7, by decide, rfl, _, Or.inl q412, Or.inl rfl⟩
theorem fkJ3_17_16 : FkZ RJ3 17 125 15 3 RJ17 TJ17 6 tyJ17 := ⟨clJ17, by decide, rfl, _, Or.inl q412, Or.inl rfl⟩
theorem fkJ3_24_10 : FkZ RJ3 24 127 9 2 RX10 TX10 7 tyX10 := ⟨clX10, by decide, rfl, _, Or.inl q413, Or.inl rfl⟩
theorem fkJ3_24_13 : FkZ RJ3 24 127 12 2 RX13 TX13 8 tyX13 := ⟨clX13, by decide, rfl, _, Or.inl q413, Or.inl rfl⟩
theorem fkJ3_24_15 : FkZ RJ3 24 127 14 5 RJ7 TJ7 6 tyJ7 := ⟨clJ7, by decide, rfl, _, Or.inl q413, Or.inl rfl⟩
theorem fkJ3_24_16 : FkZ RJ3 24 127 15 5 RJ17 TJ17 6 tyJ17 := ⟨clJ17, by decide, rfl, _, Or.inl q413, Or.inl rfl⟩
theorem fkJ3_31_10 : FkZ RJ3 31 129 9 3 RX10 TX10 7 tyX10 := ⟨clX10, by decide, rfl, _, Or.inl q410, Or.inl rfl⟩
theorem fkJ3_31_13 : FkZ RJ3 31 129 12 3 RX13 TX13 8 tyX13 := ⟨clX13, by decide, rfl, _, Or.inl q410, Or.inl rfl⟩
theorem fkJ3_31_15 : FkZ RJ3 31 129 14 1 RJ7 TJ7 6 tyJ7 := ⟨clJ7, by decide, rfl, _, Or.inl q410, Or.inl rfl⟩
theorem fkJ3_31_16 : FkZ RJ3 31 129 15 1 RJ17 TJ17 6 tyJ17 := ⟨clJ17, by decide, rfl, _, Or.inl q410, Or.inl rfl⟩
theorem fkX10_7_10 : FkZ RX10 7 134 9 6 RX10 TX10 7 tyX10 := ⟨clX10, by decide, rfl, _, Or.inl q407, Or.inl rfl⟩
theorem fkX11_9_11 : FkZ RX11 9 136 10 0 RX11 TX11 2 tyX11 := ⟨clX11, by decide, rfl, _, Or.inl q429, Or.inl rfl⟩
theorem fkX11_15_11 : FkZ RX11 15 139 10 1 RX11 TX11 2 tyX11 := ⟨clX11, by decide, rfl, _, Or.inl q431, Or.inl rfl⟩
theorem fkX0_79_1 : FkZ RX0 79 22 0 10 RX0 TX0 15 tyX0 := ⟨clX0, by decide, rfl, _, Or.inl q306, Or.inl rfl⟩
theorem fkX0_73_10 : FkZ RX0 73 134 9 6 RX10 TX10 7 tyX10 := ⟨clX10, by decide, rfl, _, Or.inl q408, Or.inl rfl⟩
theorem fkX0_116_11 : FkZ RX0 116 139 10 1 RX11 TX11 2 tyX11 := ⟨clX11, by decide, rfl, _, Or.inl q432, Or.inl rfl⟩
theorem fkX0_122_11 : FkZ RX0 122 136 10 0 RX11 TX11 2 tyX11 := ⟨clX11, by decide, rfl, _, Or.inl q430, Or.inl rfl⟩
theorem fkX0_135_1 : FkZ RX0 135 6 0 2 RX0 TX0 15 tyX0 := ⟨clX0, by decide, rfl, _, Or.inl q298, Or.inl rfl⟩
theorem fkX12_12_12 : FkZ RX12 12 153 11 6 RX12 TX12 7 tyX12 := ⟨clX12, by decide, rfl, _, Or.inl q529, Or.inl rfl⟩
theorem fkX12_18_12 : FkZ RX12 18 141 11 0 RX12 TX12 7 tyX12 := ⟨clX12, by decide, rfl, _, Or.inl q523, Or.inl rfl⟩
theorem fkX12_22_12 : FkZ RX12 22 142 11 1 RX12 TX12 7 tyX12 := ⟨clX12, by decide, rfl, _, Or.inl q524, Or.inl rfl⟩
theorem fkX12_26_12 : FkZ RX12 26 144 11 2 RX12 TX12 7 tyX12 := ⟨clX12, by decide, rfl, _, Or.inl q525, Or.inl rfl⟩
theorem fkX12_30_12 : FkZ RX12 30 148 11 4 RX12 TX12 7 tyX12 := ⟨clX12, by decide, rfl, _, Or.inl q527, Or.inl rfl⟩
theorem fkX12_37_12 : FkZ RX12 37 150 11 5 RX12 TX12 7 tyX12 := ⟨clX12, by decide, rfl, _, Or.inl q528, Or.inl rfl⟩
theorem fkX12_40_12 : FkZ RX12 40 146 11 3 RX12 TX12 7 tyX12 := ⟨clX12, by decide, rfl, _, Or.inl q526, Or.inl rfl⟩
theorem fkX13_7_13 : FkZ RX13 7 154 12 6 RX13 TX13 8 tyX13 := ⟨clX13, by decide, rfl, _, Or.inl q585, Or.inl rfl⟩
theorem fkX13_13_13 : FkZ RX13 13 156 12 7 RX13 TX13 8 tyX13 := ⟨clX13, by decide, rfl, _, Or.inl q587, Or.inl rfl⟩
theorem fkX12_113_2 : FkZ RX12 113 36 1 2 RX1 TX1 16 tyX1 := ⟨clX1, by decide, rfl, _, Or.inl q164, Or.inl rfl⟩
theorem fkX12_119_2 : FkZ RX12 119 39 1 3 RX1 TX1 16 tyX1 := ⟨clX1, by decide, rfl, _, Or.inl q167, Or.inl rfl⟩
theorem fkX12_123_2 : FkZ RX12 123 41 1 4 RX1 TX1 16 tyX1 := ⟨clX1, by decide, rfl, _, Or.inl q170, Or.inl rfl⟩
theorem fkJ2_48_14 : FkZ RJ2 48 162 13 2 RJ2 TJ2 3 tyJ2 := ⟨clJ2, by decide, rfl, _, Or.inl q141, Or.inl rfl⟩
theorem fkJ2_63_14 : FkZ RJ2 63 158 13 0 RJ2 TJ2 3 tyJ2 := ⟨clJ2, by decide, rfl, _, Or.inl q143, Or.inr q144⟩
theorem fkX12_132_2 : FkZ RX12 132 53 1 10 RX1 TX1 16 tyX1 := ⟨clX1, by decide, rfl, _, Or.inl q187, Or.inl rfl⟩
theorem fkX12_134_2 : FkZ RX12 134 51 1 9 RX1 TX1 16 tyX1 := ⟨clX1, by decide, rfl, _, Or.inl q183, Or.inl rfl⟩
theorem fkX12_95_2 : FkZ RX12 95 34 1 1 RX1 TX1 16 tyX1 := ⟨clX1, by decide, rfl, _, Or.inl q159, Or.inl rfl⟩
theorem fkX12_98_2 : FkZ RX12 98 32 1 0 RX1 TX1 16 tyX1 := ⟨clX1, by decide, rfl, _, Or.inl q156, Or.inl rfl⟩
theorem fkX1_42_2 : FkZ RX1 42 32 1 0 RX1 TX1 16 tyX1 := ⟨clX1, by decide, rfl, _, Or.inl q155, Or.inl rfl⟩
theorem fkX1_45_2 : FkZ RX1 45 34 1 1 RX1 TX1 16 tyX1 := ⟨clX1, by decide, rfl, _, Or.inl q158, Or.inl rfl⟩
theorem fkX1_48_2 : FkZ RX1 48 36 1 2 RX1 TX1 16 tyX1 := ⟨clX1, by decide, rfl, _, Or.inl q161, Or.inl rfl⟩
theorem fkX1_57_2 : FkZ RX1 57 46 1 7 RX1 TX1 16 tyX1 := ⟨clX1, by decide, rfl, _, Or.inl q178, Or.inl rfl⟩
theorem fkX1_60_2 : FkZ RX1 60 48 1 8 RX1 TX1 16 tyX1 := ⟨clX1, by decide, rfl, _, Or.inl q180, Or.inl rfl⟩
theorem fkX1_63_2 : FkZ RX1 63 56 1 12 RX1 TX1 16 tyX1 := ⟨clX1, by decide, rfl, _, Or.inl q192, Or.inl rfl⟩
theorem fkX1_66_2 : FkZ RX1 66 58 1 13 RX1 TX1 16 tyX1 := ⟨clX1, by decide, rfl, _, Or.inl q194, Or.inl rfl⟩
theorem fkX0_149_13 : FkZ RX0 149 154 12 6 RX13 TX13 8 tyX13 := ⟨clX13, by decide, rfl, _, Or.inl q586, Or.inl rfl⟩
theorem fkX0_152_1 : FkZ RX0 152 8 0 3 RX0 TX0 15 tyX0 := ⟨clX0, by decide, rfl, _, Or.inl q299, Or.inl rfl⟩
theorem fkX0_156_13 : FkZ RX0 156 156 12 7 RX13 TX13 8 tyX13 := ⟨clX13, by decide, rfl, _, Or.inl q588, Or.inl rfl⟩
theorem fkX0_159_12 : FkZ RX0 159 153 11 6 RX12 TX12 7 tyX12 := ⟨clX12, by decide, rfl, _, Or.inl q530, Or.inl rfl⟩
theorem fkX0_166_1 : FkZ RX0 166 16 0 7 RX0 TX0 15 tyX0 := ⟨clX0, by decide, rfl, _, Or.inl q303, Or.inl rfl⟩
theorem fkX0_174_2 : FkZ RX0 174 32 1 0 RX1 TX1 16 tyX1 := ⟨clX1, by decide, rfl, _, Or.inl q157, Or.inl rfl⟩
theorem fkX1_75_2 : FkZ RX1 75 63 1 15 RX1 TX1 16 tyX1 := ⟨clX1, by decide, rfl, _, Or.inl q198, Or.inl rfl⟩
theorem fkX6_9_2 : FkZ RX6 9 43 1 5 RX1 TX1 16 tyX1 := ⟨clX1, by decide, rfl, _, Or.inl q173, Or.inl rfl⟩
theorem fkX6_19_2 : FkZ RX6 19 36 1 2 RX1 TX1 16 tyX1 := ⟨clX1, by decide, rfl, _, Or.inl q163, Or.inl rfl⟩
theorem fkX7_9_2 : FkZ RX7 9 36 1 2 RX1 TX1 16 tyX1 := ⟨clX1, by decide, rfl, _, Or.inl q162, Or.inl rfl⟩
theorem fkX8_9_2 : FkZ RX8 9 43 1 5 RX1 TX1 16 tyX1 := ⟨clX1, by decide, rfl, _, Or.inl q174, Or.inl rfl⟩
theorem fkX0_177_2 : FkZ RX0 177 36 1 2 RX1 TX1 16 tyX1 := ⟨clX1, by decide, rfl, _, Or.inl q165, Or.inl rfl⟩
theorem fkX0_190_2 : FkZ RX0 190 58 1 13 RX1 TX1 16 tyX1 := ⟨clX1, by decide, rfl, _, Or.inl q195, Or.inl rfl⟩
theorem fkX0_212_2 : FkZ RX0 212 46 1 7 RX1 TX1 16 tyX1 := ⟨clX1, by decide, rfl, _, Or.inl q179, Or.inl rfl⟩
theorem fkX0_220_2 : FkZ RX0 220 34 1 1 RX1 TX1 16 tyX1 := ⟨clX1, by decide, rfl, _, Or.inl q160, Or.inl rfl⟩
theorem fkX0_223_2 : FkZ RX0 223 48 1 8 RX1 TX1 16 tyX1 := ⟨clX1, by decide, rfl, _, Or.inl q181, Or.inl rfl⟩
theorem fkX0_226_2 : FkZ RX0 226 45 1 6 RX1 TX1 16 tyX1 := ⟨clX1, by decide, rfl, _, Or.inl q177, Or.inl rfl⟩
theorem fkX0_237_2 : FkZ RX0 237 53 1 10 RX1 TX1 16 tyX1 := ⟨clX1, by decide, rfl, _, Or.inl q188, Or.inl rfl⟩
theorem fkX0_240_2 : FkZ RX0 240 56 1 12 RX1 TX1 16 tyX1 := ⟨clX1, by decide, rfl, _, Or.inl q193, Or.inl rfl⟩
theorem fkX0_243_2 : FkZ RX0 243 39 1 3 RX1 TX1 16 tyX1 := ⟨clX1, by decide, rfl, _, Or.inl q168, Or.inl rfl⟩
theorem fkX0_246_2 : FkZ RX0 246 41 1 4 RX1 TX1 16 tyX1 := ⟨clX1, by decide, rfl, _, Or.inl q171, Or.inl rfl⟩
theorem fkX0_254_2 : FkZ RX0 254 55 1 11 RX1 TX1 16 tyX1 := ⟨clX1, by decide, rfl, _, Or.inl q191, Or.inl rfl⟩
theorem fkX0_269_2 : FkZ RX0 269 43 1 5 RX1 TX1 16 tyX1 := ⟨clX1, by decide, rfl, _, Or.inl q175, Or.inl rfl⟩
theorem fkX0_288_1 : FkZ RX0 288 28 0 13 RX0 TX0 15 tyX0 := ⟨clX0, by decide, rfl, _, Or.inl q309, Or.inl rfl⟩
theorem fkX0_315_2 : FkZ RX0 315 60 1 14 RX1 TX1 16 tyX1 := ⟨clX1, by decide, rfl, _, Or.inl q197, Or.inl rfl⟩
theorem fkX0_318_2 : FkZ RX0 318 63 1 15 RX1 TX1 16 tyX1 := ⟨clX1, by decide, rfl, _, Or.inl q199, Or.inl rfl⟩
theorem fkX0_353_2 : FkZ RX0 353 51 1 9 RX1 TX1 16 tyX1 := ⟨clX1, by decide, rfl, _, Or.inl q184, Or.inl rfl⟩
theorem fkX2_15_3 : FkZ RX2 15 66 2 1 RX2 TX2 2 tyX2 := ⟨clX2, by decide, rfl, _, Or.inl q242, Or.inl rfl⟩
theorem fkX3_19_2 : FkZ RX3 19 55 1 11 RX1 TX1 16 tyX1 := ⟨clX1, by decide, rfl, _, Or.inl q190, Or.inl rfl⟩
theorem fkX4_37_2 : FkZ RX4 37 53 1 10 RX1 TX1 16 tyX1 := ⟨clX1, by decide, rfl, _, Or.inl q186, Or.inl rfl⟩
theorem fkX0_376_3 : FkZ RX0 376 66 2 1 RX2 TX2 2 tyX2 := ⟨clX2, by decide, rfl, _, Or.inr ⟨_, q243⟩, Or.inl rfl⟩
theorem fkX0_378_3 : FkZ RX0 378 65 2 0 RX2 TX2 2 tyX2 := ⟨clX2, by decide, rfl, _, Or.inr ⟨_, q241⟩, Or.inl rfl⟩
abbrev nJ0_init : MI := (cJ0_init, 1, none, RJ0, "<init>", [], 1, 24)
theorem hyJ0_init : yJ0_init.cls ≠ "java/lang/invoke/MethodHandle" ∧ yJ0_init.cls ≠ "java/lang/invoke/VarHandle" := by decide +kernel
theorem pnJ0_init : (parseMethodDescriptor yJ0_init.desc).map (fun d => d.parameters.length) = some 0 := by decide +kernel
theorem wdJ0_init : CdW yJ0_init (nJ0_init) := ⟨Or.inl ⟨q136, rfl⟩, rfl, rfl, plainFor_of_name (by decide +kernel)⟩
theorem eJ0_init_0 : SiZ nJ0_init 0 (i_aload 0 1) := s_aload_n dJ0_init_0 rfl
theorem eJ0_init_1 : SiZ nJ0_init 1 (i_oini 4) := s_oini dJ0_init_1 q137 (by decide) (by decide)
theorem eJ0_init_4 : SiZ nJ0_init 4 i_vret := s_vret dJ0_init_4 rfl
theorem aJ0_init : ∀ x ∈ mJ0_init.1, EnZ nJ0_init x := fm_cons eJ0_init_0 (fm_cons eJ0_init_1 (fm_cons eJ0_init_4 (fm_nil)))
theorem zJ0_init : SwZ nJ0_init (Mt mJ0_init 1) := wholeZ (mi := nJ0_init) (cd := mJ0_init) aJ0_init rfl (HdZ.none rfl)
abbrev nJ1_init : MI := (cJ1_init, 1, none, RJ1, "<init>", [], 2, 48)
theorem hyJ1_init : yJ1_init.cls ≠ "java/lang/invoke/MethodHandle" ∧ yJ1_init.cls ≠ "java/lang/invoke/VarHandle" := by decide +kernel
theorem pnJ1_init : (parseMethodDescriptor yJ1_init.desc).map (fun d => d.parameters.length) = some 0 := by decide +kernel
theorem wdJ1_init : CdW yJ1_init (nJ1_init) := ⟨Or.inl ⟨q133, rfl⟩, rfl, rfl, plainFor_of_name (by decide +kernel)⟩
theorem eJ1_init_0 : SiZ nJ1_init 0 (i_aload 0 1) := s_aload_n dJ1_init_0 rfl
theorem eJ1_init_1 : ScZ nJ1_init 1 (c_I 0 4 1 (Mt mJ0_init 1)) := e_I (mi := nJ1_init) (mi' := nJ0_init) (len := 3) (fun h b as rest hl => cs_I (mi := nJ1_init) (pc := 1) (y := yJ0_init) (idx := 1) dJ1_init_1 rfl q134 q135 q136 hyJ0_init pnJ0_init hl) wdJ0_init zJ0_init (Nat.le_of_ble_eq_true rfl) (Nat.le_of_ble_eq_true rfl)
theorem eJ1_init_4 : SiZ nJ1_init 4 (i_aload 0 5) := s_aload_n dJ1_init_4 rfl
theorem eJ1_init_5 : SiZ nJ1_init 5 (i_push (.int 0) 6) := s_iconst dJ1_init_5 (by decide)
theorem eJ1_init_6 : SiZ nJ1_init 6 (i_putI 158 [14] 9) := s_putI dJ1_init_6 (fm_cons (⟨_, _, _, _, _, _, rfl, ⟨fkJ1_7_14, ⟨_, q142, Or.inl rfl⟩, Or.inl rfl⟩, rfl⟩) (fm_nil))
theorem eJ1_init_9 : SiZ nJ1_init 9 i_vret := s_vret dJ1_init_9 rfl
theorem aJ1_init : ∀ x ∈ mJ1_init.1, EnZ nJ1_init x := fm_cons eJ1_init_0 (fm_cons eJ1_init_1 (fm_cons eJ1_init_4 (fm_cons eJ1_init_5 (fm_cons eJ1_init_6 (fm_cons eJ1_init_9 (fm_nil))))))
theorem zJ1_init : SwZ nJ1_init (Mt mJ1_init 1) := wholeZ (mi := nJ1_init) (cd := mJ1_init) aJ1_init rfl (HdZ.none rfl)
abbrev nJ2_init : MI := (cJ2_init, 1, none, RJ2, "<init>", [], 3, 72)
theorem hyJ2_init : yJ2_init.cls ≠ "java/lang/invoke/MethodHandle" ∧ yJ2_init.cls ≠ "java/lang/invoke/VarHandle" := by decide +kernel
theorem pnJ2_init : (parseMethodDescriptor yJ2_init.desc).map (fun d => d.parameters.length) = some 0 := by decide +kernel
theorem wdJ2_init : CdW yJ2_init (nJ2_init) := ⟨Or.inl ⟨q130, rfl⟩, rfl, rfl, plainFor_of_name (by decide +kernel)⟩
theorem eJ2_init_0 : SiZ nJ2_init 0 (i_aload 0 1) := s_aload_n dJ2_init_0 rfl
theorem eJ2_init_1 : ScZ nJ2_init 1 (c_I 0 4 1 (Mt mJ1_init 1)) := e_I (mi := nJ2_init) (mi' := nJ1_init) (len := 3) (fun h b as rest hl => cs_I (mi := nJ2_init) (pc := 1) (y := yJ1_init) (idx := 1) dJ2_init_1 rfl q131 q132 q133 hyJ1_init pnJ1_init hl) wdJ1_init zJ1_init (Nat.le_of_ble_eq_true rfl) (Nat.le_of_ble_eq_true rfl)
theorem eJ2_init_4 : SiZ nJ2_init 4 (i_aload 0 5) := s_aload_n dJ2_init_4 rfl
theorem eJ2_init_5 : SiZ nJ2_init 5 (i_gets 1001 8) := s_gets dJ2_init_5 q138 (fun cA z U hh H h => h.1)
theorem eJ2_init_8 : SiZ nJ2_init 8 (i_putR 161 [14] 11) := s_putR dJ2_init_8 (fm_cons (⟨_, _, _, _, _, _, rfl, ⟨fkJ2_9_14, ⟨_, q140, Or.inl rfl⟩, Or.inl rfl⟩, (Or.inr ⟨_, rfl⟩)⟩) (fm_nil))
theorem eJ2_init_11 : SiZ nJ2_init 11 i_vret := s_vret dJ2_init_11 rfl
theorem aJ2_init : ∀ x ∈ mJ2_init.1, EnZ nJ2_init x := fm_cons eJ2_init_0 (fm_cons eJ2_init_1 (fm_cons eJ2_init_4 (fm_cons eJ2_init_5 (fm_cons eJ2_init_8 (fm_cons eJ2_init_11 (fm_nil))))))
theorem zJ2_init : SwZ nJ2_init (Mt mJ2_init 1) := wholeZ (mi := nJ2_init) (cd := mJ2_init) aJ2_init rfl (HdZ.none rfl)
abbrev nX1_init : MI := (cX1_init, 1, none, RX1, "<init>", [], 4, 96)
theorem hyX1_init : yX1_init.cls ≠ "java/lang/invoke/MethodHandle" ∧ yX1_init.cls ≠ "java/lang/invoke/VarHandle" := by decide +kernel
theorem pnX1_init : (parseMethodDescriptor yX1_init.desc).map (fun d => d.parameters.length) = some 0 := by decide +kernel
theorem wdX1_init : CdW yX1_init (nX1_init) := ⟨Or.inl ⟨q124, rfl⟩, rfl, rfl, plainFor_of_name (by decide +kernel)⟩
theorem eX1_init_0 : SiZ nX1_init 0 (i_aload 0 1) := s_aload_n dX1_init_0 rfl
theorem eX1_init_1 : SiZ nX1_init 1 (i_oini 4) := s_oini dX1_init_1 q125 (by decide) (by decide)
theorem eX1_init_4 : SiZ nX1_init 4 (i_aload 0 5) := s_aload_n dX1_init_4 rfl
theorem eX1_init_5 : SiZ nX1_init 5 (i_push (.int 6) 7) := s_bipush dX1_init_5 (by decide)
theorem eX1_init_7 : SiZ nX1_init 7 (i_newa 51 9) := s_newa (j := 0) dX1_init_7 (by decide) rfl (fun _ => rfl) rfl (by decide) q153 (fun _ _ h => h)
theorem eX1_init_9 : SiZ nX1_init 9 (i_putR 39 [2] 12) := s_putR dX1_init_9 (fm_cons (⟨_, _, _, _, _, _, rfl, ⟨fkX1_9_2, ⟨_, q166, Or.inl rfl⟩, Or.inr ⟨rfl, rfl, rfl⟩⟩, (Or.inr ⟨_, rfl⟩)⟩) (fm_nil))
theorem eX1_init_12 : SiZ nX1_init 12 (i_aload 0 13) := s_aload_n dX1_init_12 rfl
theorem eX1_init_13 : SiZ nX1_init 13 (i_push (.int 6) 15) := s_bipush dX1_init_13 (by decide)
theorem eX1_init_15 : SiZ nX1_init 15 (i_newa 51 17) := s_newa (j := 0) dX1_init_15 (by decide) rfl (fun _ => rfl) rfl (by decide) q153 (fun _ _ h => h)
theorem eX1_init_17 : SiZ nX1_init 17 (i_putR 41 [2] 20) := s_putR dX1_init_17 (fm_cons (⟨_, _, _, _, _, _, rfl, ⟨fkX1_15_2, ⟨_, q169, Or.inl rfl⟩, Or.inr ⟨rfl, rfl, rfl⟩⟩, (Or.inr ⟨_, rfl⟩)⟩) (fm_nil))
theorem eX1_init_20 : SiZ nX1_init 20 (i_aload 0 21) := s_aload_n dX1_init_20 rfl
theorem eX1_init_21 : SiZ nX1_init 21 (i_push (.int 6) 23) := s_bipush dX1_init_21 (by decide)
theorem eX1_init_23 : SiZ nX1_init 23 (i_newa 51 25) := s_newa (j := 0) dX1_init_23 (by decide) rfl (fun _ => rfl) rfl (by decide) q153 (fun _ _ h => h)
theorem eX1_init_25 : SiZ nX1_init 25 (i_putR 43 [2] 28) := s_putR dX1_init_25 (fm_cons (⟨_, _, _, _, _, _, rfl, ⟨fkX1_18_2, ⟨_, q172, Or.inl rfl⟩, Or.inr ⟨rfl, rfl, rfl⟩⟩, (Or.inr ⟨_, rfl⟩)⟩) (fm_nil))
theorem eX1_init_28 : SiZ nX1_init 28 (i_aload 0 29) := s_aload_n dX1_init_28 rfl
theorem eX1_init_29 : SiZ nX1_init 29 (i_push (.int 6) 31) := s_bipush dX1_init_29 (by decide)
theorem eX1_init_31 : SiZ nX1_init 31 (i_newa 51 33) := s_newa (j := 0) dX1_init_31 (by decide) rfl (fun _ => rfl) rfl (by decide) q153 (fun _ _ h => h)
theorem eX1_init_33 : SiZ nX1_init 33 (i_putR 45 [2] 36) := s_putR dX1_init_33 (fm_cons (⟨_, _, _, _, _, _, rfl, ⟨fkX1_21_2, ⟨_, q176, Or.inl rfl⟩, Or.inr ⟨rfl, rfl, rfl⟩⟩, (Or.inr ⟨_, rfl⟩)⟩) (fm_nil))
theorem eX1_init_36 : SiZ nX1_init 36 (i_aload 0 37) := s_aload_n dX1_init_36 rfl
theorem eX1_init_37 : SiZ nX1_init 37 (i_new 14 3 40) := s_new dX1_init_37 q126 q127 q81 clJ2 rfl (by decide)
theorem eX1_init_40 : SiZ nX1_init 40 (i_dup 41) := s_dup dX1_init_40
theorem eX1_init_41 : ScZ nX1_init 41 (c_I 0 44 1 (Mt mJ2_init 1)) := e_I (mi := nX1_init) (mi' := nJ2_init) (len := 3) (fun h b as rest hl => cs_I (mi := nX1_init) (pc := 41) (y := yJ2_init) (idx := 26) dX1_init_41 rfl q128 q129 q130 hyJ2_init pnJ2_init hl) wdJ2_init zJ2_init (Nat.le_of_ble_eq_true rfl) (Nat.le_of_ble_eq_true rfl)
theorem eX1_init_44 : SiZ nX1_init 44 (i_putR 51 [2] 47) := s_putR dX1_init_44 (fm_cons (⟨_, _, _, _, _, _, rfl, ⟨fkX1_27_2, ⟨_, q182, Or.inl rfl⟩, Or.inl rfl⟩, (Or.inl ⟨_, rfl⟩)⟩) (fm_nil))
theorem eX1_init_47 : SiZ nX1_init 47 (i_aload 0 48) := s_aload_n dX1_init_47 rfl
theorem eX1_init_48 : SiZ nX1_init 48 (i_push (.int 5) 49) := s_iconst dX1_init_48 (by decide)
theorem eX1_init_49 : SiZ nX1_init 49 (i_newa 51 51) := s_newa (j := 0) dX1_init_49 (by decide) rfl (fun _ => rfl) rfl (by decide) q153 (fun _ _ h => h)
theorem eX1_init_51 : SiZ nX1_init 51 (i_putR 53 [2] 54) := s_putR dX1_init_51 (fm_cons (⟨_, _, _, _, _, _, rfl, ⟨fkX1_31_2, ⟨_, q185, Or.inl rfl⟩, Or.inr ⟨rfl, rfl, rfl⟩⟩, (Or.inr ⟨_, rfl⟩)⟩) (fm_nil))
theorem eX1_init_54 : SiZ nX1_init 54 (i_aload 0 55) := s_aload_n dX1_init_54 rfl
theorem eX1_init_55 : SiZ nX1_init 55 (i_push (.int 5) 56) := s_iconst dX1_init_55 (by decide)
theorem eX1_init_56 : SiZ nX1_init 56 (i_newa 51 58) := s_newa (j := 0) dX1_init_56 (by decide) rfl (fun _ => rfl) rfl (by decide) q153 (fun _ _ h => h)
theorem eX1_init_58 : SiZ nX1_init 58 (i_putR 55 [2] 61) := s_putR dX1_init_58 (fm_cons (⟨_, _, _, _, _, _, rfl, ⟨fkX1_34_2, ⟨_, q189, Or.inl rfl⟩, Or.inr ⟨rfl, rfl, rfl⟩⟩, (Or.inr ⟨_, rfl⟩)⟩) (fm_nil))
theorem eX1_init_61 : SiZ nX1_init 61 (i_aload 0 62) := s_aload_n dX1_init_61 rfl
theorem eX1_init_62 : SiZ nX1_init 62 (i_push (.int (-1000000)) 64) := s_ldc dX1_init_62 q154
theorem eX1_init_64 : SiZ nX1_init 64 (i_putI 60 [2] 67) := s_putI dX1_init_64 (fm_cons (⟨_, _, _, _, _, _, rfl, ⟨fkX1_38_2, ⟨_, q196, Or.inl rfl⟩, Or.inl rfl⟩, rfl⟩) (fm_nil))
theorem eX1_init_67 : SiZ nX1_init 67 i_vret := s_vret dX1_init_67 rfl
theorem aX1_init : ∀ x ∈ mX1_init.1, EnZ nX1_init x := fm_cons eX1_init_0 (fm_cons eX1_init_1 (fm_cons eX1_init_4 (fm_cons eX1_init_5 (fm_cons eX1_init_7 (fm_cons eX1_init_9 (fm_cons eX1_init_12 (fm_cons eX1_init_13 (fm_cons eX1_init_15 (fm_cons eX1_init_17 (fm_cons eX1_init_20 (fm_cons eX1_init_21 (fm_cons eX1_init_23 (fm_cons eX1_init_25 (fm_cons eX1_init_28 (fm_cons eX1_init_29 (fm_cons eX1_init_31 (fm_cons eX1_init_33 (fm_cons eX1_init_36 (fm_cons eX1_init_37 (fm_cons eX1_init_40 (fm_cons eX1_init_41 (fm_cons eX1_init_44 (fm_cons eX1_init_47 (fm_cons eX1_init_48 (fm_cons eX1_init_49 (fm_cons eX1_init_51 (fm_cons eX1_init_54 (fm_cons eX1_init_55 (fm_cons eX1_init_56 (fm_cons eX1_init_58 (fm_cons eX1_init_61 (fm_cons eX1_init_62 (fm_cons eX1_init_64 (fm_cons eX1_init_67 (fm_nil)))))))))))))))))))))))))))))))))))
theorem zX1_init : SwZ nX1_init (Mt mX1_init 1) := wholeZ (mi := nX1_init) (cd := mX1_init) aX1_init rfl (HdZ.none rfl)
abbrev nX2_init : MI := (cX2_init, 1, none, RX2, "<init>", [], 1, 24)
theorem hyX2_init : yX2_init.cls ≠ "java/lang/invoke/MethodHandle" ∧ yX2_init.cls ≠ "java/lang/invoke/VarHandle" := by decide +kernel
theorem pnX2_init : (parseMethodDescriptor yX2_init.desc).map (fun d => d.parameters.length) = some 0 := by decide +kernel
theorem wdX2_init : CdW yX2_init (nX2_init) := ⟨Or.inl ⟨q238, rfl⟩, rfl, rfl, plainFor_of_name (by decide +kernel)⟩
theorem eX2_init_0 : SiZ nX2_init 0 (i_aload 0 1) := s_aload_n dX2_init_0 rfl
theorem eX2_init_1 : SiZ nX2_init 1 (i_oini 4) := s_oini dX2_init_1 q239 (by decide) (by decide)
theorem eX2_init_4 : SiZ nX2_init 4 (i_aload 0 5) := s_aload_n dX2_init_4 rfl
theorem eX2_init_5 : SiZ nX2_init 5 (i_push (.int 16) 7) := s_bipush dX2_init_5 (by decide)
theorem eX2_init_7 : SiZ nX2_init 7 (i_newa 51 9) := s_newa (j := 0) dX2_init_7 (by decide) rfl (fun _ => rfl) rfl (by decide) q153 (fun _ _ h => h)
theorem eX2_init_9 : SiZ nX2_init 9 (i_putR 65 [3] 12) := s_putR dX2_init_9 (fm_cons (⟨_, _, _, _, _, _, rfl, ⟨fkX2_9_3, ⟨_, q240, Or.inl rfl⟩, Or.inr ⟨rfl, rfl, rfl⟩⟩, (Or.inr ⟨_, rfl⟩)⟩) (fm_nil))
theorem eX2_init_12 : SiZ nX2_init 12 i_vret := s_vret dX2_init_12 rfl
theorem aX2_init : ∀ x ∈ mX2_init.1, EnZ nX2_init x := fm_cons eX2_init_0 (fm_cons eX2_init_1 (fm_cons eX2_init_4 (fm_cons eX2_init_5 (fm_cons eX2_init_7 (fm_cons eX2_init_9 (fm_cons eX2_init_12 (fm_nil)))))))
theorem zX2_init : SwZ nX2_init (Mt mX2_init 1) := wholeZ (mi := nX2_init) (cd := mX2_init) aX2_init rfl (HdZ.none rfl)
abbrev nX3_init : MI := (cX3_init, 2, none, RX3, "<init>", [], 1, 24)
theorem hyX3_init : yX3_init.cls ≠ "java/lang/invoke/MethodHandle" ∧ yX3_init.cls ≠ "java/lang/invoke/VarHandle" := by decide +kernel
theorem pnX3_init : (parseMethodDescriptor yX3_init.desc).map (fun d => d.parameters.length) = some 1 := by decide +kernel
theorem wdX3_init : CdW yX3_init (nX3_init) := ⟨Or.inl ⟨q258, rfl⟩, rfl, rfl, plainFor_of_name (by decide +kernel)⟩
theorem eX3_init_0 : SiZ nX3_init 0 (i_aload 0 1) := s_aload_n dX3_init_0 rfl
theorem eX3_init_1 : SiZ nX3_init 1 (i_oini 4) := s_oini dX3_init_1 q259 (by decide) (by decide)
theorem eX3_init_4 : SiZ nX3_init 4 (i_aload 0 5) := s_aload_n dX3_init_4 rfl
theorem eX3_init_5 : SiZ nX3_init 5 (i_iload 1 6) := s_iload_n dX3_init_5 rfl
theorem eX3_init_6 : SiZ nX3_init 6 (i_putI 68 [4, 5, 6, 7, 8] 9) := s_putI dX3_init_6 (fm_cons (⟨_, _, _, _, _, _, rfl, ⟨fkX3_7_4, ⟨_, q260, Or.inl rfl⟩, Or.inr ⟨rfl, rfl, rfl⟩⟩, rfl⟩) (fm_cons (⟨_, _, _, _, _, _, rfl, ⟨fkX3_7_5, ⟨_, q260, Or.inl rfl⟩, Or.inr ⟨rfl, rfl, rfl⟩⟩, rfl⟩) (fm_cons (⟨_, _, _, _, _, _, rfl, ⟨fkX3_7_6, ⟨_, q260, Or.inl rfl⟩, Or.inr ⟨rfl, rfl, rfl⟩⟩, rfl⟩) (fm_cons (⟨_, _, _, _, _, _, rfl, ⟨fkX3_7_7, ⟨_, q260, Or.inl rfl⟩, Or.inr ⟨rfl, rfl, rfl⟩⟩, rfl⟩) (fm_cons (⟨_, _, _, _, _, _, rfl, ⟨fkX3_7_8, ⟨_, q260, Or.inl rfl⟩, Or.inr ⟨rfl, rfl, rfl⟩⟩, rfl⟩) (fm_nil))))))
theorem eX3_init_9 : SiZ nX3_init 9 i_vret := s_vret dX3_init_9 rfl
theorem aX3_init : ∀ x ∈ mX3_init.1, EnZ nX3_init x := fm_cons eX3_init_0 (fm_cons eX3_init_1 (fm_cons eX3_init_4 (fm_cons eX3_init_5 (fm_cons eX3_init_6 (fm_cons eX3_init_9 (fm_nil))))))
theorem zX3_init : SwZ nX3_init (Mt mX3_init 2) := wholeZ (mi := nX3_init) (cd := mX3_init) aX3_init rfl (HdZ.none rfl)
abbrev nX4_init : MI := (cX4_init, 2, none, RX4, "<init>", [], 2, 49)
theorem hyX4_init : yX4_init.cls ≠ "java/lang/invoke/MethodHandle" ∧ yX4_init.cls ≠ "java/lang/invoke/VarHandle" := by decide +kernel
theorem pnX4_init : (parseMethodDescriptor yX4_init.desc).map (fun d => d.parameters.length) = some 1 := by decide +kernel
theorem wdX4_init : CdW yX4_init (nX4_init) := ⟨Or.inl ⟨q255, rfl⟩, rfl, rfl, plainFor_of_name (by decide +kernel)⟩
theorem eX4_init_0 : SiZ nX4_init 0 (i_aload 0 1) := s_aload_n dX4_init_0 rfl
theorem eX4_init_1 : SiZ nX4_init 1 (i_iload 1 2) := s_iload_n dX4_init_1 rfl
theorem eX4_init_2 : ScZ nX4_init 2 (c_I 1 5 2 (Mt mX3_init 2)) := e_I (mi := nX4_init) (mi' := nX3_init) (len := 3) (fun h b as rest hl => cs_I (mi := nX4_init) (pc := 2) (y := yX3_init) (idx := 3) dX4_init_2 rfl q256 q257 q258 hyX3_init pnX3_init hl) wdX3_init zX3_init (Nat.le_of_ble_eq_true rfl) (Nat.le_of_ble_eq_true rfl)
theorem eX4_init_5 : SiZ nX4_init 5 i_vret := s_vret dX4_init_5 rfl
theorem aX4_init : ∀ x ∈ mX4_init.1, EnZ nX4_init x := fm_cons eX4_init_0 (fm_cons eX4_init_1 (fm_cons eX4_init_2 (fm_cons eX4_init_5 (fm_nil))))
theorem zX4_init : SwZ nX4_init (Mt mX4_init 2) := wholeZ (mi := nX4_init) (cd := mX4_init) aX4_init rfl (HdZ.none rfl)
abbrev nX5_init : MI := (cX5_init, 2, none, RX5, "<init>", [], 3, 74)
theorem hyX5_init : yX5_init.cls ≠ "java/lang/invoke/MethodHandle" ∧ yX5_init.cls ≠ "java/lang/invoke/VarHandle" := by decide +kernel
theorem pnX5_init : (parseMethodDescriptor yX5_init.desc).map (fun d => d.parameters.length) = some 1 := by decide +kernel
theorem wdX5_init : CdW yX5_init (nX5_init) := ⟨Or.inl ⟨q268, rfl⟩, rfl, rfl, plainFor_of_name (by decide +kernel)⟩
theorem eX5_init_0 : SiZ nX5_init 0 (i_aload 0 1) := s_aload_n dX5_init_0 rfl
theorem eX5_init_1 : SiZ nX5_init 1 (i_iload 1 2) := s_iload_n dX5_init_1 rfl
theorem eX5_init_2 : ScZ nX5_init 2 (c_I 1 5 2 (Mt mX4_init 2)) := e_I (mi := nX5_init) (mi' := nX4_init) (len := 3) (fun h b as rest hl => cs_I (mi := nX5_init) (pc := 2) (y := yX4_init) (idx := 3) dX5_init_2 rfl q269 q254 q255 hyX4_init pnX4_init hl) wdX4_init zX4_init (Nat.le_of_ble_eq_true rfl) (Nat.le_of_ble_eq_true rfl)
theorem eX5_init_5 : SiZ nX5_init 5 i_vret := s_vret dX5_init_5 rfl
theorem aX5_init : ∀ x ∈ mX5_init.1, EnZ nX5_init x := fm_cons eX5_init_0 (fm_cons eX5_init_1 (fm_cons eX5_init_2 (fm_cons eX5_init_5 (fm_nil))))
theorem zX5_init : SwZ nX5_init (Mt mX5_init 2) := wholeZ (mi := nX5_init) (cd := mX5_init) aX5_init rfl (HdZ.none rfl)
abbrev nX6_init : MI := (cX6_init, 2, none, RX6, "<init>", [], 3, 74)
theorem hyX6_init : yX6_init.cls ≠ "java/lang/invoke/MethodHandle" ∧ yX6_init.cls ≠ "java/lang/invoke/VarHandle" := by decide +kernel
theorem pnX6_init : (parseMethodDescriptor yX6_init.desc).map (fun d => d.parameters.length) = some 1 := by decide +kernel
theorem wdX6_init : CdW yX6_init (nX6_init) := ⟨Or.inl ⟨q276, rfl⟩, rfl, rfl, plainFor_of_name (by decide +kernel)⟩
theorem eX6_init_0 : SiZ nX6_init 0 (i_aload 0 1) := s_aload_n dX6_init_0 rfl
theorem eX6_init_1 : SiZ nX6_init 1 (i_iload 1 2) := s_iload_n dX6_init_1 rfl
theorem eX6_init_2 : ScZ nX6_init 2 (c_I 1 5 2 (Mt mX4_init 2)) := e_I (mi := nX6_init) (mi' := nX4_init) (len := 3) (fun h b as rest hl => cs_I (mi := nX6_init) (pc := 2) (y := yX4_init) (idx := 3) dX6_init_2 rfl q277 q254 q255 hyX4_init pnX4_init hl) wdX4_init zX4_init (Nat.le_of_ble_eq_true rfl) (Nat.le_of_ble_eq_true rfl)
theorem eX6_init_5 : SiZ nX6_init 5 i_vret := s_vret dX6_init_5 rfl
theorem aX6_init : ∀ x ∈ mX6_init.1, EnZ nX6_init x := fm_cons eX6_init_0 (fm_cons eX6_init_1 (fm_cons eX6_init_2 (fm_cons eX6_init_5 (fm_nil))))
theorem zX6_init : SwZ nX6_init (Mt mX6_init 2) := wholeZ (mi := nX6_init) (cd := mX6_init) aX6_init rfl (HdZ.none rfl)
abbrev nX7_init : MI := (cX7_init, 2, none, RX7, "<init>", [], 2, 49)
theorem hyX7_init : yX7_init.cls ≠ "java/lang/invoke/MethodHandle" ∧ yX7_init.cls ≠ "java/lang/invoke/VarHandle" := by decide +kernel
theorem pnX7_init : (parseMethodDescriptor yX7_init.desc).map (fun d => d.parameters.length) = some 1 := by decide +kernel
theorem wdX7_init : CdW yX7_init (nX7_init) := ⟨Or.inl ⟨q284, rfl⟩, rfl, rfl, plainFor_of_name (by decide +kernel)⟩
theorem eX7_init_0 : SiZ nX7_init 0 (i_aload 0 1) := s_aload_n dX7_init_0 rfl
theorem eX7_init_1 : SiZ nX7_init 1 (i_iload 1 2) := s_iload_n dX7_init_1 rfl
theorem eX7_init_2 : ScZ nX7_init 2 (c_I 1 5 2 (Mt mX3_init 2)) := e_I (mi := nX7_init) (mi' := nX3_init) (len := 3) (fun h b as rest hl => cs_I (mi := nX7_init) (pc := 2) (y := yX3_init) (idx := 3) dX7_init_2 rfl q285 q257 q258 hyX3_init pnX3_init hl) wdX3_init zX3_init (Nat.le_of_ble_eq_true rfl) (Nat.le_of_ble_eq_true rfl)
theorem eX7_init_5 : SiZ nX7_init 5 i_vret := s_vret dX7_init_5 rfl
theorem aX7_init : ∀ x ∈ mX7_init.1, EnZ nX7_init x := fm_cons eX7_init_0 (fm_cons eX7_init_1 (fm_cons eX7_init_2 (fm_cons eX7_init_5 (fm_nil))))
theorem zX7_init : SwZ nX7_init (Mt mX7_init 2) := wholeZ (mi := nX7_init) (cd := mX7_init) aX7_init rfl (HdZ.none rfl)
abbrev nX8_init : MI := (cX8_init, 2, none, RX8, "<init>", [], 3, 74)
theorem hyX8_init : yX8_init.cls ≠ "java/lang/invoke/MethodHandle" ∧ yX8_init.cls ≠ "java/lang/invoke/VarHandle" := by decide +kernel
theorem pnX8_init : (parseMethodDescriptor yX8_init.desc).map (fun d => d.parameters.length) = some 1 := by decide +kernel
theorem wdX8_init : CdW yX8_init (nX8_init) := ⟨Or.inl ⟨q292, rfl⟩, rfl, rfl, plainFor_of_name (by decide +kernel)⟩
theorem eX8_init_0 : SiZ nX8_init 0 (i_aload 0 1) := s_aload_n dX8_init_0 rfl
theorem eX8_init_1 : SiZ nX8_init 1 (i_iload 1 2) := s_iload_n dX8_init_1 rfl
theorem eX8_init_2 : ScZ nX8_init 2 (c_I 1 5 2 (Mt mX7_init 2)) := e_I (mi := nX8_init) (mi' := nX7_init) (len := 3) (fun h b as rest hl => cs_I (mi := nX8_init) (pc := 2) (y := yX7_init) (idx := 3) dX8_init_2 rfl q293 q283 q284 hyX7_init pnX7_init hl) wdX7_init zX7_init (Nat.le_of_ble_eq_true rfl) (Nat.le_of_ble_eq_true rfl)
theorem eX8_init_5 : SiZ nX8_init 5 i_vret := s_vret dX8_init_5 rfl
theorem aX8_init : ∀ x ∈ mX8_init.1, EnZ nX8_init x := fm_cons eX8_init_0 (fm_cons eX8_init_1 (fm_cons eX8_init_2 (fm_cons eX8_init_5 (fm_nil))))
theorem zX8_init : SwZ nX8_init (Mt mX8_init 2) := wholeZ (mi := nX8_init) (cd := mX8_init) aX8_init rfl (HdZ.none rfl)
abbrev nX0_init : MI := (cX0_init, 1, none, RX0, "<init>", [], 5, 120)
theorem hyX0_init : yX0_init.cls ≠ "java/lang/invoke/MethodHandle" ∧ yX0_init.cls ≠ "java/lang/invoke/VarHandle" := by decide +kernel
theorem pnX0_init : (parseMethodDescriptor yX0_init.desc).map (fun d => d.parameters.length) = some 0 := by decide +kernel
theorem wdX0_init : CdW yX0_init (nX0_init) := ⟨Or.inl ⟨q114, rfl⟩, rfl, rfl, plainFor_of_name (by decide +kernel)⟩
theorem eX0_init_0 : SiZ nX0_init 0 (i_aload 0 1) := s_aload_n dX0_init_0 rfl
theorem eX0_init_1 : SiZ nX0_init 1 (i_oini 4) := s_oini dX0_init_1 q115 (by decide) (by decide)
theorem eX0_init_4 : SiZ nX0_init 4 (i_aload 0 5) := s_aload_n dX0_init_4 rfl
theorem eX0_init_5 : SiZ nX0_init 5 (i_push (.int 8) 7) := s_bipush dX0_init_5 (by decide)
theorem eX0_init_7 : SiZ nX0_init 7 (i_newr 54 10) := s_newr (j := 0) dX0_init_7 q118 (by decide) (by decide) (fun _ => rfl)
theorem eX0_init_10 : SiZ nX0_init 10 (i_putR 3 [1] 13) := s_putR dX0_init_10 (fm_cons (⟨_, _, _, _, _, _, rfl, ⟨fkX0_28_1, ⟨_, q296, Or.inl rfl⟩, Or.inr ⟨rfl, rfl, rfl⟩⟩, (Or.inr ⟨_, rfl⟩)⟩) (fm_nil))
theorem eX0_init_13 : SiZ nX0_init 13 (i_aload 0 14) := s_aload_n dX0_init_13 rfl
theorem eX0_init_14 : SiZ nX0_init 14 (i_push (.int 120) 16) := s_bipush dX0_init_14 (by decide)
theorem eX0_init_16 : SiZ nX0_init 16 (i_newa 52 18) := s_newa (j := 1) dX0_init_16 (by decide) rfl (fun _ => rfl) rfl (by decide) q152 (fun _ _ h => h)
theorem eX0_init_18 : SiZ nX0_init 18 (i_putR 5 [1] 21) := s_putR dX0_init_18 (fm_cons (⟨_, _, _, _, _, _, rfl, ⟨fkX0_32_1, ⟨_, q297, Or.inl rfl⟩, Or.inr ⟨rfl, rfl, rfl⟩⟩, (Or.inr ⟨_, rfl⟩)⟩) (fm_nil))
theorem eX0_init_21 : SiZ nX0_init 21 (i_aload 0 22) := s_aload_n dX0_init_21 rfl
theorem eX0_init_22 : SiZ nX0_init 22 (i_new 2 16 25) := s_new dX0_init_22 q120 q121 q78 clX1 rfl (by decide)
theorem eX0_init_25 : SiZ nX0_init 25 (i_dup 26) := s_dup dX0_init_25
theorem eX0_init_26 : ScZ nX0_init 26 (c_I 0 29 1 (Mt mX1_init 1)) := e_I (mi := nX0_init) (mi' := nX1_init) (len := 3) (fun h b as rest hl => cs_IN (mi := nX0_init) (pc := 26) (y := yX1_init) (idx := 38) dX0_init_26 rfl q122 q123 q124 hyX1_init pnX1_init hl) wdX1_init zX1_init (Nat.le_of_ble_eq_true rfl) (Nat.le_of_ble_eq_true rfl)
theorem eX0_init_29 : SiZ nX0_init 29 (i_putR 11 [1] 32) := s_putR dX0_init_29 (fm_cons (⟨_, _, _, _, _, _, rfl, ⟨fkX0_39_1, ⟨_, q300, Or.inl rfl⟩, Or.inr ⟨rfl, rfl, rfl⟩⟩, (Or.inl ⟨_, rfl⟩)⟩) (fm_nil))
theorem eX0_init_32 : SiZ nX0_init 32 (i_aload 0 33) := s_aload_n dX0_init_32 rfl
theorem eX0_init_33 : SiZ nX0_init 33 (i_new 2 16 36) := s_new dX0_init_33 q120 q121 q78 clX1 rfl (by decide)
theorem eX0_init_36 : SiZ nX0_init 36 (i_dup 37) := s_dup dX0_init_36
theorem eX0_init_37 : ScZ nX0_init 37 (c_I 0 40 1 (Mt mX1_init 1)) := e_I (mi := nX0_init) (mi' := nX1_init) (len := 3) (fun h b as rest hl => cs_IN (mi := nX0_init) (pc := 37) (y := yX1_init) (idx := 38) dX0_init_37 rfl q122 q123 q124 hyX1_init pnX1_init hl) wdX1_init zX1_init (Nat.le_of_ble_eq_true rfl) (Nat.le_of_ble_eq_true rfl)
theorem eX0_init_40 : SiZ nX0_init 40 (i_putR 13 [1] 43) := s_putR dX0_init_40 (fm_cons (⟨_, _, _, _, _, _, rfl, ⟨fkX0_43_1, ⟨_, q301, Or.inl rfl⟩, Or.inr ⟨rfl, rfl, rfl⟩⟩, (Or.inl ⟨_, rfl⟩)⟩) (fm_nil))
theorem eX0_init_43 : SiZ nX0_init 43 (i_aload 0 44) := s_aload_n dX0_init_43 rfl
theorem eX0_init_44 : SiZ nX0_init 44 (i_push (.int 24) 46) := s_bipush dX0_init_44 (by decide)
theorem eX0_init_46 : SiZ nX0_init 46 (i_newr 55 49) := s_newr (j := 1) dX0_init_46 q120 (by decide) (by decide) (fun _ => rfl)
theorem eX0_init_49 : SiZ nX0_init 49 (i_putR 15 [1] 52) := s_putR dX0_init_49 (fm_cons (⟨_, _, _, _, _, _, rfl, ⟨fkX0_46_1, ⟨_, q302, Or.inl rfl⟩, Or.inr ⟨rfl, rfl, rfl⟩⟩, (Or.inr ⟨_, rfl⟩)⟩) (fm_nil))
theorem eX0_init_52 : SiZ nX0_init 52 (i_aload 0 53) := s_aload_n dX0_init_52 rfl
theorem eX0_init_53 : SiZ nX0_init 53 (i_push (.int 2) 54) := s_iconst dX0_init_53 (by decide)
theorem eX0_init_54 : SiZ nX0_init 54 (i_newr 55 57) := s_newr (j := 1) dX0_init_54 q120 (by decide) (by decide) (fun _ => rfl)
theorem eX0_init_57 : SiZ nX0_init 57 (i_putR 19 [1] 60) := s_putR dX0_init_57 (fm_cons (⟨_, _, _, _, _, _, rfl, ⟨fkX0_50_1, ⟨_, q304, Or.inl rfl⟩, Or.inr ⟨rfl, rfl, rfl⟩⟩, (Or.inr ⟨_, rfl⟩)⟩) (fm_nil))
theorem eX0_init_60 : SiZ nX0_init 60 (i_aload 0 61) := s_aload_n dX0_init_60 rfl
theorem eX0_init_61 : SiZ nX0_init 61 (i_new 3 2 64) := s_new dX0_init_61 q234 q235 q82 clX2 rfl (by decide)
theorem eX0_init_64 : SiZ nX0_init 64 (i_dup 65) := s_dup dX0_init_64
theorem eX0_init_65 : ScZ nX0_init 65 (c_I 0 68 1 (Mt mX2_init 1)) := e_I (mi := nX0_init) (mi' := nX2_init) (len := 3) (fun h b as rest hl => cs_IN (mi := nX0_init) (pc := 65) (y := yX2_init) (idx := 55) dX0_init_65 rfl q236 q237 q238 hyX2_init pnX2_init hl) wdX2_init zX2_init (Nat.le_of_ble_eq_true rfl) (Nat.le_of_ble_eq_true rfl)
theorem eX0_init_68 : SiZ nX0_init 68 (i_putR 21 [1] 71) := s_putR dX0_init_68 (fm_cons (⟨_, _, _, _, _, _, rfl, ⟨fkX0_56_1, ⟨_, q305, Or.inl rfl⟩, Or.inl rfl⟩, (Or.inl ⟨_, rfl⟩)⟩) (fm_nil))
theorem eX0_init_71 : SiZ nX0_init 71 (i_aload 0 72) := s_aload_n dX0_init_71 rfl
theorem eX0_init_72 : SiZ nX0_init 72 (i_push (.int 6) 74) := s_bipush dX0_init_72 (by decide)
theorem eX0_init_74 : SiZ nX0_init 74 (i_newa 51 76) := s_newa (j := 0) dX0_init_74 (by decide) rfl (fun _ => rfl) rfl (by decide) q153 (fun _ _ h => h)
theorem eX0_init_76 : SiZ nX0_init 76 (i_putR 25 [1] 79) := s_putR dX0_init_76 (fm_cons (⟨_, _, _, _, _, _, rfl, ⟨fkX0_60_1, ⟨_, q307, Or.inl rfl⟩, Or.inr ⟨rfl, rfl, rfl⟩⟩, (Or.inr ⟨_, rfl⟩)⟩) (fm_nil))
theorem eX0_init_79 : SiZ nX0_init 79 (i_aload 0 80) := s_aload_n dX0_init_79 rfl
theorem eX0_init_80 : SiZ nX0_init 80 (i_push (.int 6) 82) := s_bipush dX0_init_80 (by decide)
theorem eX0_init_82 : SiZ nX0_init 82 (i_newa 51 84) := s_newa (j := 0) dX0_init_82 (by decide) rfl (fun _ => rfl) rfl (by decide) q153 (fun _ _ h => h)
theorem eX0_init_84 : SiZ nX0_init 84 (i_putR 27 [1] 87) := s_putR dX0_init_84 (fm_cons (⟨_, _, _, _, _, _, rfl, ⟨fkX0_64_1, ⟨_, q308, Or.inl rfl⟩, Or.inr ⟨rfl, rfl, rfl⟩⟩, (Or.inr ⟨_, rfl⟩)⟩) (fm_nil))
theorem eX0_init_87 : SiZ nX0_init 87 (i_aload 0 88) := s_aload_n dX0_init_87 rfl
theorem eX0_init_88 : SiZ nX0_init 88 (i_push (.int 5) 89) := s_iconst dX0_init_88 (by decide)
theorem eX0_init_89 : SiZ nX0_init 89 (i_newr 56 92) := s_newr (j := 2) dX0_init_89 q249 (by decide) (by decide) (fun _ => rfl)
theorem eX0_init_92 : SiZ nX0_init 92 (i_dup 93) := s_dup dX0_init_92
theorem eX0_init_93 : SiZ nX0_init 93 (i_push (.int 0) 94) := s_iconst dX0_init_93 (by decide)
theorem eX0_init_94 : SiZ nX0_init 94 (i_new 4 1 97) := s_new dX0_init_94 q251 q252 q84 clX4 rfl (by decide)
theorem eX0_init_97 : SiZ nX0_init 97 (i_dup 98) := s_dup dX0_init_97
theorem eX0_init_98 : SiZ nX0_init 98 (i_push (.int 0) 99) := s_iconst dX0_init_98 (by decide)
theorem eX0_init_99 : ScZ nX0_init 99 (c_I 1 102 2 (Mt mX4_init 2)) := e_I (mi := nX0_init) (mi' := nX4_init) (len := 3) (fun h b as rest hl => cs_I (mi := nX0_init) (pc := 99) (y := yX4_init) (idx := 3) dX0_init_99 rfl q253 q254 q255 hyX4_init pnX4_init hl) wdX4_init zX4_init (Nat.le_of_ble_eq_true rfl) (Nat.le_of_ble_eq_true rfl)
theorem eX0_init_102 : SiZ nX0_init 102 (i_aast 56 [4, 5, 6, 7, 8] 103) := s_aast (j := 2) (by decide) (fun _ => rfl) dX0_init_102 (fm_cons (⟨3, _, rfl, rfl, Or.inr q1715⟩) (fm_cons (⟨4, _, rfl, rfl, Or.inr q1717⟩) (fm_cons (⟨5, _, rfl, rfl, Or.inr q1716⟩) (fm_cons (⟨6, _, rfl, rfl, Or.inr q1719⟩) (fm_cons (⟨7, _, rfl, rfl, Or.inr q1718⟩) (fm_nil))))))
theorem eX0_init_103 : SiZ nX0_init 103 (i_dup 104) := s_dup dX0_init_103
theorem eX0_init_104 : SiZ nX0_init 104 (i_push (.int 1) 105) := s_iconst dX0_init_104 (by decide)
theorem eX0_init_105 : SiZ nX0_init 105 (i_new 5 1 108) := s_new dX0_init_105 q264 q265 q85 clX5 rfl (by decide)
theorem eX0_init_108 : SiZ nX0_init 108 (i_dup 109) := s_dup dX0_init_108
theorem eX0_init_109 : SiZ nX0_init 109 (i_push (.int 0) 110) := s_iconst dX0_init_109 (by decide)
theorem eX0_init_110 : ScZ nX0_init 110 (c_I 1 113 2 (Mt mX5_init 2)) := e_I (mi := nX0_init) (mi' := nX5_init) (len := 3) (fun h b as rest hl => cs_I (mi := nX0_init) (pc := 110) (y := yX5_init) (idx := 9) dX0_init_110 rfl q266 q267 q268 hyX5_init pnX5_init hl) wdX5_init zX5_init (Nat.le_of_ble_eq_true rfl) (Nat.le_of_ble_eq_true rfl)
theorem eX0_init_113 : SiZ nX0_init 113 (i_aast 56 [4, 5, 6, 7, 8] 114) := s_aast (j := 2) (by decide) (fun _ => rfl) dX0_init_113 (fm_cons (⟨3, _, rfl, rfl, Or.inr q1715⟩) (fm_cons (⟨4, _, rfl, rfl, Or.inr q1717⟩) (fm_cons (⟨5, _, rfl, rfl, Or.inr q1716⟩) (fm_cons (⟨6, _, rfl, rfl, Or.inr q1719⟩) (fm_cons (⟨7, _, rfl, rfl, Or.inr q1718⟩) (fm_nil))))))
theorem eX0_init_114 : SiZ nX0_init 114 (i_dup 115) := s_dup dX0_init_114
theorem eX0_init_115 : SiZ nX0_init 115 (i_push (.int 2) 116) := s_iconst dX0_init_115 (by decide)
theorem eX0_init_116 : SiZ nX0_init 116 (i_new 6 1 119) := s_new dX0_init_116 q272 q273 q86 clX6 rfl (by decide)
theorem eX0_init_119 : SiZ nX0_init 119 (i_dup 120) := s_dup dX0_init_119
theorem eX0_init_120 : SiZ nX0_init 120 (i_push (.int 0) 121) := s_iconst dX0_init_120 (by decide)
theorem eX0_init_121 : ScZ nX0_init 121 (c_I 1 124 2 (Mt mX6_init 2)) := e_I (mi := nX0_init) (mi' := nX6_init) (len := 3) (fun h b as rest hl => cs_I (mi := nX0_init) (pc := 121) (y := yX6_init) (idx := 12) dX0_init_121 rfl q274 q275 q276 hyX6_init pnX6_init hl) wdX6_init zX6_init (Nat.le_of_ble_eq_true rfl) (Nat.le_of_ble_eq_true rfl)
theorem eX0_init_124 : SiZ nX0_init 124 (i_aast 56 [4, 5, 6, 7, 8] 125) := s_aast (j := 2) (by decide) (fun _ => rfl) dX0_init_124 (fm_cons (⟨3, _, rfl, rfl, Or.inr q1715⟩) (fm_cons (⟨4, _, rfl, rfl, Or.inr q1717⟩) (fm_cons (⟨5, _, rfl, rfl, Or.inr q1716⟩) (fm_cons (⟨6, _, rfl, rfl, Or.inr q1719⟩) (fm_cons (⟨7, _, rfl, rfl, Or.inr q1718⟩) (fm_nil))))))
theorem eX0_init_125 : SiZ nX0_init 125 (i_dup 126) := s_dup dX0_init_125
theorem eX0_init_126 : SiZ nX0_init 126 (i_push (.int 3) 127) := s_iconst dX0_init_126 (by decide)
theorem eX0_init_127 : SiZ nX0_init 127 (i_new 7 1 130) := s_new dX0_init_127 q280 q281 q87 clX7 rfl (by decide)
theorem eX0_init_130 : SiZ nX0_init 130 (i_dup 131) := s_dup dX0_init_130
theorem eX0_init_131 : SiZ nX0_init 131 (i_push (.int 0) 132) := s_iconst dX0_init_131 (by decide)
theorem eX0_init_132 : ScZ nX0_init 132 (c_I 1 135 2 (Mt mX7_init 2)) := e_I (mi := nX0_init) (mi' := nX7_init) (len := 3) (fun h b as rest hl => cs_I (mi := nX0_init) (pc := 132) (y := yX7_init) (idx := 15) dX0_init_132 rfl q282 q283 q284 hyX7_init pnX7_init hl) wdX7_init zX7_init (Nat.le_of_ble_eq_true rfl) (Nat.le_of_ble_eq_true rfl)
theorem eX0_init_135 : SiZ nX0_init 135 (i_aast 56 [4, 5, 6, 7, 8] 136) := s_aast (j := 2) (by decide) (fun _ => rfl) dX0_init_135 (fm_cons (⟨3, _, rfl, rfl, Or.inr q1715⟩) (fm_cons (⟨4, _, rfl, rfl, Or.inr q1717⟩) (fm_cons (⟨5, _, rfl, rfl, Or.inr q1716⟩) (fm_cons (⟨6, _, rfl, rfl, Or.inr q1719⟩) (fm_cons (⟨7, _, rfl, rfl, Or.inr q1718⟩) (fm_nil))))))
theorem eX0_init_136 : SiZ nX0_init 136 (i_dup 137) := s_dup dX0_init_136
theorem eX0_init_137 : SiZ nX0_init 137 (i_push (.int 4) 138) := s_iconst dX0_init_137 (by decide)
theorem eX0_init_138 : SiZ nX0_init 138 (i_new 8 1 141) := s_new dX0_init_138 q288 q289 q88 clX8 rfl (by decide)
theorem eX0_init_141 : SiZ nX0_init 141 (i_dup 142) := s_dup dX0_init_141
theorem eX0_init_142 : SiZ nX0_init 142 (i_push (.int 0) 143) := s_iconst dX0_init_142 (by decide)
theorem eX0_init_143 : ScZ nX0_init 143 (c_I 1 146 2 (Mt mX8_init 2)) := e_I (mi := nX0_init) (mi' := nX8_init) (len := 3) (fun h b as rest hl => cs_I (mi := nX0_init) (pc := 143) (y := yX8_init) (idx := 18) dX0_init_143 rfl q290 q291 q292 hyX8_init pnX8_init hl) wdX8_init zX8_init (Nat.le_of_ble_eq_true rfl) (Nat.le_of_ble_eq_true rfl)
theorem eX0_init_146 : SiZ nX0_init 146 (i_aast 56 [4, 5, 6, 7, 8] 147) := s_aast (j := 2) (by decide) (fun _ => rfl) dX0_init_146 (fm_cons (⟨3, _, rfl, rfl, Or.inr q1715⟩) (fm_cons (⟨4, _, rfl, rfl, Or.inr q1717⟩) (fm_cons (⟨5, _, rfl, rfl, Or.inr q1716⟩) (fm_cons (⟨6, _, rfl, rfl, Or.inr q1719⟩) (fm_cons (⟨7, _, rfl, rfl, Or.inr q1718⟩) (fm_nil))))))
theorem eX0_init_147 : SiZ nX0_init 147 (i_putR 31 [1] 150) := s_putR dX0_init_147 (fm_cons (⟨_, _, _, _, _, _, rfl, ⟨fkX0_69_1, ⟨_, q310, Or.inl rfl⟩, Or.inr ⟨rfl, rfl, rfl⟩⟩, (Or.inr ⟨_, rfl⟩)⟩) (fm_nil))
theorem eX0_init_150 : SiZ nX0_init 150 i_vret := s_vret dX0_init_150 rfl
theorem aX0_init : ∀ x ∈ mX0_init.1, EnZ nX0_init x := fm_cons eX0_init_0 (fm_cons eX0_init_1 (fm_cons eX0_init_4 (fm_cons eX0_init_5 (fm_cons eX0_init_7 (fm_cons eX0_init_10 (fm_cons eX0_init_13 (fm_cons eX0_init_14 (fm_cons eX0_init_16 (fm_cons eX0_init_18 (fm_cons eX0_init_21 (fm_cons eX0_init_22 (fm_cons eX0_init_25 (fm_cons eX0_init_26 (fm_cons eX0_init_29 (fm_cons eX0_init_32 (fm_cons eX0_init_33 (fm_cons eX0_init_36 (fm_cons eX0_init_37 (fm_cons eX0_init_40 (fm_cons eX0_init_43 (fm_cons eX0_init_44 (fm_cons eX0_init_46 (fm_cons eX0_init_49 (fm_cons eX0_init_52 (fm_cons eX0_init_53 (fm_cons eX0_init_54 (fm_cons eX0_init_57 (fm_cons eX0_init_60 (fm_cons eX0_init_61 (fm_cons eX0_init_64 (fm_cons eX0_init_65 (fm_cons eX0_init_68 (fm_cons eX0_init_71 (fm_cons eX0_init_72 (fm_cons eX0_init_74 (fm_cons eX0_init_76 (fm_cons eX0_init_79 (fm_cons eX0_init_80 (fm_cons eX0_init_82 (fm_cons eX0_init_84 (fm_cons eX0_init_87 (fm_cons eX0_init_88 (fm_cons eX0_init_89 (fm_cons eX0_init_92 (fm_cons eX0_init_93 (fm_cons eX0_init_94 (fm_cons eX0_init_97 (fm_cons eX0_init_98 (fm_cons eX0_init_99 (fm_cons eX0_init_102 (fm_cons eX0_init_103 (fm_cons eX0_init_104 (fm_cons eX0_init_105 (fm_cons eX0_init_108 (fm_cons eX0_init_109 (fm_cons eX0_init_110 (fm_cons eX0_init_113 (fm_cons eX0_init_114 (fm_cons eX0_init_115 (fm_cons eX0_init_116 (fm_cons eX0_init_119 (fm_cons eX0_init_120 (fm_cons eX0_init_121 (fm_cons eX0_init_124 (fm_cons eX0_init_125 (fm_cons eX0_init_126 (fm_cons eX0_init_127 (fm_cons eX0_init_130 (fm_cons eX0_init_131 (fm_cons eX0_init_132 (fm_cons eX0_init_135 (fm_cons eX0_init_136 (fm_cons eX0_init_137 (fm_cons eX0_init_138 (fm_cons eX0_init_141 (fm_cons eX0_init_142 (fm_cons eX0_init_143 (fm_cons eX0_init_146 (fm_cons eX0_init_147 (fm_cons eX0_init_150 (fm_nil)))))))))))))))))))))))))))))))))))))))))))))))))))))))))))))))))))))))))))))))))
theorem zX0_init : SwZ nX0_init (Mt mX0_init 1) := wholeZ (mi := nX0_init) (cd := mX0_init) aX0_init rfl (HdZ.none rfl)
abbrev nX0_isIn : MI := (cX0_isIn, 6, (some (.boolean)), RX0, "isIn", [], 0, 0)
theorem hyX0_isIn : yX0_isIn.cls ≠ "java/lang/invoke/MethodHandle" ∧ yX0_isIn.cls ≠ "java/lang/invoke/VarHandle" := by decide +kernel
theorem pnX0_isIn : (parseMethodDescriptor yX0_isIn.desc).map (fun d => d.parameters.length) = some 3 := by decide +kernel
theorem wdX0_isIn : CdW yX0_isIn (nX0_isIn) := ⟨Or.inl ⟨q353, rfl⟩, rfl, rfl, plainFor_of_name (by decide +kernel)⟩
theorem eX0_isIn_0 : SiZ nX0_isIn 0 (i_lload 0 1) := s_lload_n dX0_isIn_0 rfl
theorem eX0_isIn_1 : SiZ nX0_isIn 1 (i_lload 2 2) := s_lload_n dX0_isIn_1 rfl
theorem eX0_isIn_2 : SiZ nX0_isIn 2 (i_lcmp 3) := s_lcmp dX0_isIn_2
theorem eX0_isIn_3 : SiZ nX0_isIn 3 (i_if (fun x => x < 0) 17 6) := s_if_lt dX0_isIn_3 (by decide)
theorem eX0_isIn_6 : SiZ nX0_isIn 6 (i_lload 0 7) := s_lload_n dX0_isIn_6 rfl
theorem eX0_isIn_7 : SiZ nX0_isIn 7 (i_lload 4 9) := s_lload dX0_isIn_7
theorem eX0_isIn_9 : SiZ nX0_isIn 9 (i_lcmp 10) := s_lcmp dX0_isIn_9
theorem eX0_isIn_10 : SiZ nX0_isIn 10 (i_if (fun x => 0 < x) 17 13) := s_if_gt dX0_isIn_10 (by decide)
theorem eX0_isIn_13 : SiZ nX0_isIn 13 (i_push (.int 1) 14) := s_iconst dX0_isIn_13 (by decide)
theorem eX0_isIn_14 : SiZ nX0_isIn 14 (i_goto 18) := s_goto dX0_isIn_14 (by decide)
theorem eX0_isIn_17 : SiZ nX0_isIn 17 (i_push (.int 0) 18) := s_iconst dX0_isIn_17 (by decide)
theorem eX0_isIn_18 : SiZ nX0_isIn 18 i_zret := s_zret dX0_isIn_18 rfl
theorem aX0_isIn : ∀ x ∈ mX0_isIn.1, EnZ nX0_isIn x := fm_cons eX0_isIn_0 (fm_cons eX0_isIn_1 (fm_cons eX0_isIn_2 (fm_cons eX0_isIn_3 (fm_cons eX0_isIn_6 (fm_cons eX0_isIn_7 (fm_cons eX0_isIn_9 (fm_cons eX0_isIn_10 (fm_cons eX0_isIn_13 (fm_cons eX0_isIn_14 (fm_cons eX0_isIn_17 (fm_cons eX0_isIn_18 (fm_nil))))))))))))
theorem zX0_isIn : SwZ nX0_isIn (Mt mX0_isIn 6) := wholeZ (mi := nX0_isIn) (cd := mX0_isIn) aX0_isIn rfl (HdZ.none rfl)
abbrev nX0_isRow : MI := (cX0_isRow, 1, (some (.boolean)), RX0, "isRow", [], 1, 29)
theorem hyX0_isRow : yX0_isRow.cls ≠ "java/lang/invoke/MethodHandle" ∧ yX0_isRow.cls ≠ "java/lang/invoke/VarHandle" := by decide +kernel
theorem pnX0_isRow : (parseMethodDescriptor yX0_isRow.desc).map (fun d => d.parameters.length) = some 1 := by decide +kernel
theorem wdX0_isRow : CdW yX0_isRow (nX0_isRow) := ⟨Or.inl ⟨q349, rfl⟩, rfl, rfl, plainFor_of_name (by decide +kernel)⟩
theorem eX0_isRow_0 : SiZ nX0_isRow 0 (i_iload 0 1) := s_iload_n dX0_isRow_0 rfl
theorem eX0_isRow_1 : SiZ nX0_isRow 1 (i_i2l 2) := s_i2l dX0_isRow_1
theorem eX0_isRow_2 : SiZ nX0_isRow 2 (i_push (.long 0) 3) := s_lconst dX0_isRow_2 (by decide)
theorem eX0_isRow_3 : SiZ nX0_isRow 3 (i_push (.long 7) 6) := s_ldc2 dX0_isRow_3 q350
theorem eX0_isRow_6 : ScZ nX0_isRow 6 (c_S 3 9 6 (Mt mX0_isIn 6)) := e_S (mi := nX0_isRow) (mi' := nX0_isIn) (len := 3) (fun h as rest hl => cs_S (mi := nX0_isRow) (pc := 6) (y := yX0_isIn) (idx := 86) dX0_isRow_6 q351 q352 q77 q353 hyX0_isIn pnX0_isIn hl) wdX0_isIn zX0_isIn (Nat.le_of_ble_eq_true rfl) (Nat.le_of_ble_eq_true rfl)
theorem eX0_isRow_9 : SiZ nX0_isRow 9 i_zret := s_zret dX0_isRow_9 rfl
theorem aX0_isRow : ∀ x ∈ mX0_isRow.1, EnZ nX0_isRow x := fm_cons eX0_isRow_0 (fm_cons eX0_isRow_1 (fm_cons eX0_isRow_2 (fm_cons eX0_isRow_3 (fm_cons eX0_isRow_6 (fm_cons eX0_isRow_9 (fm_nil))))))
theorem zX0_isRow : SwZ nX0_isRow (Mt mX0_isRow 1) := wholeZ (mi := nX0_isRow) (cd := mX0_isRow) aX0_isRow rfl (HdZ.none rfl)
abbrev nJ3_init_2 : MI := (cJ3_init_2, 5, none, RJ3, "<init>", [], 1, 24)
theorem hyJ3_init_2 : yJ3_init_2.cls ≠ "java/lang/invoke/MethodHandle" ∧ yJ3_init_2.cls ≠ "java/lang/invoke/VarHandle" := by decide +kernel
theorem pnJ3_init_2 : (parseMethodDescriptor yJ3_init_2.desc).map (fun d => d.parameters.length) = some 4 := by decide +kernel
theorem wdJ3_init_2 : CdW yJ3_init_2 (nJ3_init_2) := ⟨Or.inl ⟨q406, rfl⟩, rfl, rfl, plainFor_of_name (by decide +kernel)⟩
theorem eJ3_init_2_0 : SiZ nJ3_init_2 0 (i_aload 0 1) := s_aload_n dJ3_init_2_0 rfl
theorem eJ3_init_2_1 : SiZ nJ3_init_2 1 (i_oini 4) := s_oini dJ3_init_2_1 q381 (by decide) (by decide)
theorem eJ3_init_2_4 : SiZ nJ3_init_2 4 (i_aload 0 5) := s_aload_n dJ3_init_2_4 rfl
theorem eJ3_init_2_5 : SiZ nJ3_init_2 5 (i_aload 0 6) := s_aload_n dJ3_init_2_5 rfl
theorem eJ3_init_2_6 : SiZ nJ3_init_2 6 (i_putR 123 [10, 13, 15, 16] 9) := s_putR dJ3_init_2_6 (fm_cons (⟨_, _, _, _, _, _, rfl, ⟨fkJ3_7_10, ⟨_, q411, Or.inl rfl⟩, Or.inl rfl⟩, (Or.inl ⟨_, rfl⟩)⟩) (fm_cons (⟨_, _, _, _, _, _, rfl, ⟨fkJ3_7_13, ⟨_, q411, Or.inl rfl⟩, Or.inl rfl⟩, (Or.inl ⟨_, rfl⟩)⟩) (fm_cons (⟨_, _, _, _, _, _, rfl, ⟨fkJ3_7_15, ⟨_, q411, Or.inl rfl⟩, Or.inl rfl⟩, (Or.inl ⟨_, rfl⟩)⟩) (fm_cons (⟨_, _, _, _, _, _, rfl, ⟨fkJ3_7_16, ⟨_, q411, Or.inl rfl⟩, Or.inl rfl⟩, (Or.inl ⟨_, rfl⟩)⟩) (fm_nil)))))
theorem eJ3_init_2_9 : SiZ nJ3_init_2 9 (i_aload 0 10) := s_aload_n dJ3_init_2_9 rfl
theorem eJ3_init_2_10 : SiZ nJ3_init_2 10 (i_gets 1003 13) := s_gets dJ3_init_2_10 q382 (fun cA z U hh H h => h.2.1)
theorem eJ3_init_2_13 : SiZ nJ3_init_2 13 (i_putR 125 [10, 13, 15, 16] 16) := s_putR dJ3_init_2_13 (fm_cons (⟨_, _, _, _, _, _, rfl, ⟨fkJ3_17_10, ⟨_, q412, Or.inl rfl⟩, Or.inl rfl⟩, (Or.inr ⟨_, rfl⟩)⟩) (fm_cons (⟨_, _, _, _, _, _, rfl, ⟨fkJ3_17_13, ⟨_, q412, Or.inl rfl⟩, Or.inl rfl⟩, (Or.inr ⟨_, rfl⟩)⟩) (fm_cons (⟨_, _, _, _, _, _, rfl, ⟨fkJ3_17_15, ⟨_, q412, Or.inl rfl⟩, Or.inl rfl⟩, (Or.inr ⟨_, rfl⟩)⟩) (fm_cons (⟨_, _, _, _, _, _, rfl, ⟨fkJ3_17_16, ⟨_, q412, Or.inl rfl⟩, Or.inl rfl⟩, (Or.inr ⟨_, rfl⟩)⟩) (fm_nil)))))
theorem eJ3_init_2_16 : SiZ nJ3_init_2 16 (i_aload 0 17) := s_aload_n dJ3_init_2_16 rfl
theorem eJ3_init_2_17 : SiZ nJ3_init_2 17 (i_gets 1005 20) := s_gets dJ3_init_2_17 q384 (fun cA z U hh H h => h.2.2.1)
theorem eJ3_init_2_20 : SiZ nJ3_init_2 20 (i_putR 127 [10, 13, 15, 16] 23) := s_putR dJ3_init_2_20 (fm_cons (⟨_, _, _, _, _, _, rfl, ⟨fkJ3_24_10, ⟨_, q413, Or.inl rfl⟩, Or.inl rfl⟩, (Or.inl ⟨_, rfl⟩)⟩) (fm_cons (⟨_, _, _, _, _, _, rfl, ⟨fkJ3_24_13, ⟨_, q413, Or.inl rfl⟩, Or.inl rfl⟩, (Or.inl ⟨_, rfl⟩)⟩) (fm_cons (⟨_, _, _, _, _, _, rfl, ⟨fkJ3_24_15, ⟨_, q413, Or.inl rfl⟩, Or.inl rfl⟩, (Or.inl ⟨_, rfl⟩)⟩) (fm_cons (⟨_, _, _, _, _, _, rfl, ⟨fkJ3_24_16, ⟨_, q413, Or.inl rfl⟩, Or.inl rfl⟩, (Or.inl ⟨_, rfl⟩)⟩) (fm_nil)))))
theorem eJ3_init_2_23 : SiZ nJ3_init_2 23 (i_iload 4 25) := s_iload dJ3_init_2_23
theorem eJ3_init_2_25 : SiZ nJ3_init_2 25 (i_if (fun x => x = 0) 36 28) := s_if_eq dJ3_init_2_25 (by decide)
theorem eJ3_init_2_28 : SiZ nJ3_init_2 28 (i_aload 0 29) := s_aload_n dJ3_init_2_28 rfl
theorem eJ3_init_2_32 : SiZ nJ3_init_2 32 (i_pop 33) := s_pop dJ3_init_2_32
theorem eJ3_init_2_33 : SiZ nJ3_init_2 33 (i_goto 41) := s_goto dJ3_init_2_33 (by decide)
theorem eJ3_init_2_36 : SiZ nJ3_init_2 36 (i_aload 0 37) := s_aload_n dJ3_init_2_36 rfl
theorem eJ3_init_2_37 : SiZ nJ3_init_2 37 (i_push (.null) 38) := s_null dJ3_init_2_37
theorem eJ3_init_2_38 : SiZ nJ3_init_2 38 (i_putR 125 [10, 13, 15, 16] 41) := s_putR dJ3_init_2_38 (fm_cons (⟨_, _, _, _, _, _, rfl, ⟨fkJ3_17_10, ⟨_, q412, Or.inl rfl⟩, Or.inl rfl⟩, (Or.inr ⟨_, rfl⟩)⟩) (fm_cons (⟨_, _, _, _, _, _, rfl, ⟨fkJ3_17_13, ⟨_, q412, Or.inl rfl⟩, Or.inl rfl⟩, (Or.inr ⟨_, rfl⟩)⟩) (fm_cons (⟨_, _, _, _, _, _, rfl, ⟨fkJ3_17_15, ⟨_, q412, Or.inl rfl⟩, Or.inl rfl⟩, (Or.inr ⟨_, rfl⟩)⟩) (fm_cons (⟨_, _, _, _, _, _, rfl, ⟨fkJ3_17_16, ⟨_, q412, Or.inl rfl⟩, Or.inl rfl⟩, (Or.inr ⟨_, rfl⟩)⟩) (fm_nil)))))
theorem eJ3_init_2_41 : SiZ nJ3_init_2 41 (i_aload 0 42) := s_aload_n dJ3_init_2_41 rfl
theorem eJ3_init_2_42 : SiZ nJ3_init_2 42 (i_aload 1 43) := s_aload_n dJ3_init_2_42 rfl
theorem eJ3_init_2_43 : SiZ nJ3_init_2 43 (i_putR 129 [10, 13, 15, 16] 46) := s_putR dJ3_init_2_43 (fm_cons (⟨_, _, _, _, _, _, rfl, ⟨fkJ3_31_10, ⟨_, q410, Or.inl rfl⟩, Or.inl rfl⟩, (Or.inl ⟨_, rfl⟩)⟩) (fm_cons (⟨_, _, _, _, _, _, rfl, ⟨fkJ3_31_13, ⟨_, q410, Or.inl rfl⟩, Or.inl rfl⟩, (Or.inl ⟨_, rfl⟩)⟩) (fm_cons (⟨_, _, _, _, _, _, rfl, ⟨fkJ3_31_15, ⟨_, q410, Or.inl rfl⟩, Or.inl rfl⟩, (Or.inl ⟨_, rfl⟩)⟩) (fm_cons (⟨_, _, _, _, _, _, rfl, ⟨fkJ3_31_16, ⟨_, q410, Or.inl rfl⟩, Or.inl rfl⟩, (Or.inl ⟨_, rfl⟩)⟩) (fm_nil)))))
theorem eJ3_init_2_46 : SiZ nJ3_init_2 46 (i_aload 0 47) := s_aload_n dJ3_init_2_46 rfl
theorem eJ3_init_2_47 : SiZ nJ3_init_2 47 (i_aload 2 48) := s_aload_n dJ3_init_2_47 rfl
theorem eJ3_init_2_48 : SiZ nJ3_init_2 48 (i_putR 123 [10, 13, 15, 16] 51) := s_putR dJ3_init_2_48 (fm_cons (⟨_, _, _, _, _, _, rfl, ⟨fkJ3_7_10, ⟨_, q411, Or.inl rfl⟩, Or.inl rfl⟩, (Or.inl ⟨_, rfl⟩)⟩) (fm_cons (⟨_, _, _, _, _, _, rfl, ⟨fkJ3_7_13, ⟨_, q411, Or.inl rfl⟩, Or.inl rfl⟩, (Or.inl ⟨_, rfl⟩)⟩) (fm_cons (⟨_, _, _, _, _, _, rfl, ⟨fkJ3_7_15, ⟨_, q411, Or.inl rfl⟩, Or.inl rfl⟩, (Or.inl ⟨_, rfl⟩)⟩) (fm_cons (⟨_, _, _, _, _, _, rfl, ⟨fkJ3_7_16, ⟨_, q411, Or.inl rfl⟩, Or.inl rfl⟩, (Or.inl ⟨_, rfl⟩)⟩) (fm_nil)))))
theorem eJ3_init_2_51 : SiZ nJ3_init_2 51 (i_iload 3 52) := s_iload_n dJ3_init_2_51 rfl
theorem eJ3_init_2_52 : SiZ nJ3_init_2 52 (i_if (fun x => ¬ x = 0) 60 55) := s_if_ne dJ3_init_2_52 (by decide)
theorem eJ3_init_2_55 : SiZ nJ3_init_2 55 (i_aload 0 56) := s_aload_n dJ3_init_2_55 rfl
theorem eJ3_init_2_56 : SiZ nJ3_init_2 56 (i_push (.null) 57) := s_null dJ3_init_2_56
theorem eJ3_init_2_57 : SiZ nJ3_init_2 57 (i_putR 127 [10, 13, 15, 16] 60) := s_putR dJ3_init_2_57 (fm_cons (⟨_, _, _, _, _, _, rfl, ⟨fkJ3_24_10, ⟨_, q413, Or.inl rfl⟩, Or.inl rfl⟩, (Or.inl ⟨_, rfl⟩)⟩) (fm_cons (⟨_, _, _, _, _, _, rfl, ⟨fkJ3_24_13, ⟨_, q413, Or.inl rfl⟩, Or.inl rfl⟩, (Or.inl ⟨_, rfl⟩)⟩) (fm_cons (⟨_, _, _, _, _, _, rfl, ⟨fkJ3_24_15, ⟨_, q413, Or.inl rfl⟩, Or.inl rfl⟩, (Or.inl ⟨_, rfl⟩)⟩) (fm_cons (⟨_, _, _, _, _, _, rfl, ⟨fkJ3_24_16, ⟨_, q413, Or.inl rfl⟩, Or.inl rfl⟩, (Or.inl ⟨_, rfl⟩)⟩) (fm_nil)))))
theorem eJ3_init_2_60 : SiZ nJ3_init_2 60 i_vret := s_vret dJ3_init_2_60 rfl
theorem aJ3_init_2 : ∀ x ∈ mJ3_init_2.1, EnZ nJ3_init_2 x := fm_cons eJ3_init_2_0 (fm_cons eJ3_init_2_1 (fm_cons eJ3_init_2_4 (fm_cons eJ3_init_2_5 (fm_cons eJ3_init_2_6 (fm_cons eJ3_init_2_9 (fm_cons eJ3_init_2_10 (fm_cons eJ3_init_2_13 (fm_cons eJ3_init_2_16 (fm_cons eJ3_init_2_17 (fm_cons eJ3_init_2_20 (fm_cons eJ3_init_2_23 (fm_cons eJ3_init_2_25 (fm_cons eJ3_init_2_28 (fm_cons eJ3_init_2_32 (fm_cons eJ3_init_2_33 (fm_cons eJ3_init_2_36 (fm_cons eJ3_init_2_37 (fm_cons eJ3_init_2_38 (fm_cons eJ3_init_2_41 (fm_cons eJ3_init_2_42 (fm_cons eJ3_init_2_43 (fm_cons eJ3_init_2_46 (fm_cons eJ3_init_2_47 (fm_cons eJ3_init_2_48 (fm_cons eJ3_init_2_51 (fm_cons eJ3_init_2_52 (fm_cons eJ3_init_2_55 (fm_cons eJ3_init_2_56 (fm_cons eJ3_init_2_57 (fm_cons eJ3_init_2_60 (fm_nil)))))))))))))))))))))))))))))))
theorem zJ3_init_2 : SwZ nJ3_init_2 (Mt mJ3_init_2 5) := wholeZ (mi := nJ3_init_2) (cd := mJ3_init_2) aJ3_init_2 rfl (HdZ.none rfl)
abbrev nJ4_init : MI := (cJ4_init, 5, none, RJ4, "<init>", [], 2, 52)
theorem hyJ4_init : yJ4_init.cls ≠ "java/lang/invoke/MethodHandle" ∧ yJ4_init.cls ≠ "java/lang/invoke/VarHandle" := by decide +kernel
theorem pnJ4_init : (parseMethodDescriptor yJ4_init.desc).map (fun d => d.parameters.length) = some 4 := by decide +kernel
theorem wdJ4_init : CdW yJ4_init (nJ4_init) := ⟨Or.inl ⟨q403, rfl⟩, rfl, rfl, plainFor_of_name (by decide +kernel)⟩
theorem eJ4_init_0 : SiZ nJ4_init 0 (i_aload 0 1) := s_aload_n dJ4_init_0 rfl
theorem eJ4_init_1 : SiZ nJ4_init 1 (i_aload 1 2) := s_aload_n dJ4_init_1 rfl
theorem eJ4_init_2 : SiZ nJ4_init 2 (i_aload 2 3) := s_aload_n dJ4_init_2 rfl
theorem eJ4_init_3 : SiZ nJ4_init 3 (i_iload 3 4) := s_iload_n dJ4_init_3 rfl
theorem eJ4_init_4 : SiZ nJ4_init 4 (i_iload 4 6) := s_iload dJ4_init_4
theorem eJ4_init_6 : ScZ nJ4_init 6 (c_I 4 9 5 (Mt mJ3_init_2 5)) := e_I (mi := nJ4_init) (mi' := nJ3_init_2) (len := 3) (fun h b as rest hl => cs_I (mi := nJ4_init) (pc := 6) (y := yJ3_init_2) (idx := 16) dJ4_init_6 rfl q404 q405 q406 hyJ3_init_2 pnJ3_init_2 hl) wdJ3_init_2 zJ3_init_2 (Nat.le_of_ble_eq_true rfl) (Nat.le_of_ble_eq_true rfl)
theorem eJ4_init_9 : SiZ nJ4_init 9 i_vret := s_vret dJ4_init_9 rfl
theorem aJ4_init : ∀ x ∈ mJ4_init.1, EnZ nJ4_init x := fm_cons eJ4_init_0 (fm_cons eJ4_init_1 (fm_cons eJ4_init_2 (fm_cons eJ4_init_3 (fm_cons eJ4_init_4 (fm_cons eJ4_init_6 (fm_cons eJ4_init_9 (fm_nil)))))))
theorem zJ4_init : SwZ nJ4_init (Mt mJ4_init 5) := wholeZ (mi := nJ4_init) (cd := mJ4_init) aJ4_init rfl (HdZ.none rfl)
abbrev nX10_init : MI := (cX10_init, 2, none, RX10, "<init>", [], 3, 80)
theorem hyX10_init : yX10_init.cls ≠ "java/lang/invoke/MethodHandle" ∧ yX10_init.cls ≠ "java/lang/invoke/VarHandle" := by decide +kernel
theorem pnX10_init : (parseMethodDescriptor yX10_init.desc).map (fun d => d.parameters.length) = some 1 := by decide +kernel
theorem wdX10_init : CdW yX10_init (nX10_init) := ⟨Or.inl ⟨q400, rfl⟩, rfl, rfl, plainFor_of_name (by decide +kernel)⟩
theorem eX10_init_0 : SiZ nX10_init 0 (i_aload 0 1) := s_aload_n dX10_init_0 rfl
theorem eX10_init_1 : SiZ nX10_init 1 (i_push (.null) 2) := s_null dX10_init_1
theorem eX10_init_2 : SiZ nX10_init 2 (i_push (.null) 3) := s_null dX10_init_2
theorem eX10_init_3 : SiZ nX10_init 3 (i_push (.int 0) 4) := s_iconst dX10_init_3 (by decide)
theorem eX10_init_4 : SiZ nX10_init 4 (i_push (.int 0) 5) := s_iconst dX10_init_4 (by decide)
theorem eX10_init_5 : ScZ nX10_init 5 (c_I 4 8 5 (Mt mJ4_init 5)) := e_I (mi := nX10_init) (mi' := nJ4_init) (len := 3) (fun h b as rest hl => cs_I (mi := nX10_init) (pc := 5) (y := yJ4_init) (idx := 1) dX10_init_5 rfl q401 q402 q403 hyJ4_init pnJ4_init hl) wdJ4_init zJ4_init (Nat.le_of_ble_eq_true rfl) (Nat.le_of_ble_eq_true rfl)
theorem eX10_init_8 : SiZ nX10_init 8 (i_aload 0 9) := s_aload_n dX10_init_8 rfl
theorem eX10_init_9 : SiZ nX10_init 9 (i_iload 1 10) := s_iload_n dX10_init_9 rfl
theorem eX10_init_10 : SiZ nX10_init 10 (i_putI 134 [10] 13) := s_putI dX10_init_10 (fm_cons (⟨_, _, _, _, _, _, rfl, ⟨fkX10_7_10, ⟨_, q407, Or.inl rfl⟩, Or.inr ⟨rfl, rfl, rfl⟩⟩, rfl⟩) (fm_nil))
theorem eX10_init_13 : SiZ nX10_init 13 i_vret := s_vret dX10_init_13 rfl
theorem aX10_init : ∀ x ∈ mX10_init.1, EnZ nX10_init x := fm_cons eX10_init_0 (fm_cons eX10_init_1 (fm_cons eX10_init_2 (fm_cons eX10_init_3 (fm_cons eX10_init_4 (fm_cons eX10_init_5 (fm_cons eX10_init_8 (fm_cons eX10_init_9 (fm_cons eX10_init_10 (fm_cons eX10_init_13 (fm_nil))))))))))
theorem zX10_init : SwZ nX10_init (Mt mX10_init 2) := wholeZ (mi := nX10_init) (cd := mX10_init) aX10_init rfl (HdZ.none rfl)
abbrev nX0_must : MI := (cX0_must, 2, none, RX0, "must", [], 4, 105)
theorem hyX0_must : yX0_must.cls ≠ "java/lang/invoke/MethodHandle" ∧ yX0_must.cls ≠ "java/lang/invoke/VarHandle" := by decide +kernel
theorem pnX0_must : (parseMethodDescriptor yX0_must.desc).map (fun d => d.parameters.length) = some 2 := by decide +kernel
theorem wdX0_must : CdW yX0_must (nX0_must) := ⟨Or.inl ⟨q358, rfl⟩, rfl, rfl, plainFor_of_name (by decide +kernel)⟩
theorem eX0_must_0 : SiZ nX0_must 0 (i_iload 0 1) := s_iload_n dX0_must_0 rfl
theorem eX0_must_1 : SiZ nX0_must 1 (i_if (fun x => ¬ x = 0) 13 4) := s_if_ne dX0_must_1 (by decide)
theorem eX0_must_4 : SiZ nX0_must 4 (i_new 10 7 7) := s_new dX0_must_4 q346 q359 q92 clX10 rfl (by decide)
theorem eX0_must_7 : SiZ nX0_must 7 (i_dup 8) := s_dup dX0_must_7
theorem eX0_must_8 : SiZ nX0_must 8 (i_iload 1 9) := s_iload_n dX0_must_8 rfl
theorem eX0_must_9 : ScZ nX0_must 9 (c_I 1 12 2 (Mt mX10_init 2)) := e_I (mi := nX0_must) (mi' := nX10_init) (len := 3) (fun h b as rest hl => cs_I (mi := nX0_must) (pc := 9) (y := yX10_init) (idx := 83) dX0_must_9 rfl q398 q399 q400 hyX10_init pnX10_init hl) wdX10_init zX10_init (Nat.le_of_ble_eq_true rfl) (Nat.le_of_ble_eq_true rfl)
theorem eX0_must_12 : SiZ nX0_must 12 i_thr := s_thr dX0_must_12
theorem eX0_must_13 : SiZ nX0_must 13 i_vret := s_vret dX0_must_13 rfl
theorem aX0_must : ∀ x ∈ mX0_must.1, EnZ nX0_must x := fm_cons eX0_must_0 (fm_cons eX0_must_1 (fm_cons eX0_must_4 (fm_cons eX0_must_7 (fm_cons eX0_must_8 (fm_cons eX0_must_9 (fm_cons eX0_must_12 (fm_cons eX0_must_13 (fm_nil))))))))
theorem zX0_must : SwZ nX0_must (Mt mX0_must 2) := wholeZ (mi := nX0_must) (cd := mX0_must) aX0_must rfl (HdZ.none rfl)
abbrev nX11_init : MI := (cX11_init, 3, none, RX11, "<init>", [], 1, 24)
theorem hyX11_init : yX11_init.cls ≠ "java/lang/invoke/MethodHandle" ∧ yX11_init.cls ≠ "java/lang/invoke/VarHandle" := by decide +kernel
theorem pnX11_init : (parseMethodDescriptor yX11_init.desc).map (fun d => d.parameters.length) = some 2 := by decide +kernel
theorem wdX11_init : CdW yX11_init (nX11_init) := ⟨Or.inl ⟨q427, rfl⟩, rfl, rfl, plainFor_of_name (by decide +kernel)⟩
theorem eX11_init_0 : SiZ nX11_init 0 (i_aload 0 1) := s_aload_n dX11_init_0 rfl
theorem eX11_init_1 : SiZ nX11_init 1 (i_oini 4) := s_oini dX11_init_1 q428 (by decide) (by decide)
theorem eX11_init_4 : SiZ nX11_init 4 (i_aload 0 5) := s_aload_n dX11_init_4 rfl
theorem eX11_init_5 : SiZ nX11_init 5 (i_iload 1 6) := s_iload_n dX11_init_5 rfl
theorem eX11_init_6 : SiZ nX11_init 6 (i_putI 136 [11] 9) := s_putI dX11_init_6 (fm_cons (⟨_, _, _, _, _, _, rfl, ⟨fkX11_9_11, ⟨_, q429, Or.inl rfl⟩, Or.inr ⟨rfl, rfl, rfl⟩⟩, rfl⟩) (fm_nil))
theorem eX11_init_9 : SiZ nX11_init 9 (i_aload 0 10) := s_aload_n dX11_init_9 rfl
theorem eX11_init_10 : SiZ nX11_init 10 (i_iload 2 11) := s_iload_n dX11_init_10 rfl
theorem eX11_init_11 : SiZ nX11_init 11 (i_newa 51 13) := s_newa (j := 0) dX11_init_11 (by decide) rfl (fun _ => rfl) rfl (by decide) q153 (fun _ _ h => h)
theorem eX11_init_13 : SiZ nX11_init 13 (i_putR 139 [11] 16) := s_putR dX11_init_13 (fm_cons (⟨_, _, _, _, _, _, rfl, ⟨fkX11_15_11, ⟨_, q431, Or.inl rfl⟩, Or.inr ⟨rfl, rfl, rfl⟩⟩, (Or.inr ⟨_, rfl⟩)⟩) (fm_nil))
theorem eX11_init_16 : SiZ nX11_init 16 i_vret := s_vret dX11_init_16 rfl
theorem aX11_init : ∀ x ∈ mX11_init.1, EnZ nX11_init x := fm_cons eX11_init_0 (fm_cons eX11_init_1 (fm_cons eX11_init_4 (fm_cons eX11_init_5 (fm_cons eX11_init_6 (fm_cons eX11_init_9 (fm_cons eX11_init_10 (fm_cons eX11_init_11 (fm_cons eX11_init_13 (fm_cons eX11_init_16 (fm_nil))))))))))
theorem zX11_init : SwZ nX11_init (Mt mX11_init 3) := wholeZ (mi := nX11_init) (cd := mX11_init) aX11_init rfl (HdZ.none rfl)
abbrev nX0_well : MI := (cX0_well, 2, (some (.int)), RX0, "well", [], 0, 0)
theorem hyX0_well : yX0_well.cls ≠ "java/lang/invoke/MethodHandle" ∧ yX0_well.cls ≠ "java/lang/invoke/VarHandle" := by decide +kernel
theorem pnX0_well : (parseMethodDescriptor yX0_well.desc).map (fun d => d.parameters.length) = some 1 := by decide +kernel
theorem wdX0_well : CdW yX0_well (nX0_well) := ⟨Or.inl ⟨q441, rfl⟩, rfl, rfl, plainFor_of_name (by decide +kernel)⟩
theorem eX0_well_0 : SiZ nX0_well 0 (i_aload 0 1) := s_aload_n dX0_well_0 rfl
theorem eX0_well_1 : SiZ nX0_well 1 (i_push (.int 0) 2) := s_iconst dX0_well_1 (by decide)
theorem eX0_well_2 : SiZ nX0_well 2 (i_putI 22 [1] 5) := s_putI dX0_well_2 (fm_cons (⟨_, _, _, _, _, _, rfl, ⟨fkX0_79_1, ⟨_, q306, Or.inl rfl⟩, Or.inl rfl⟩, rfl⟩) (fm_nil))
theorem eX0_well_5 : SiZ nX0_well 5 (i_iload 1 6) := s_iload_n dX0_well_5 rfl
theorem eX0_well_6 : SiZ nX0_well 6 i_iret := s_iret dX0_well_6 rfl
theorem aX0_well : ∀ x ∈ mX0_well.1, EnZ nX0_well x := fm_cons eX0_well_0 (fm_cons eX0_well_1 (fm_cons eX0_well_2 (fm_cons eX0_well_5 (fm_cons eX0_well_6 (fm_nil)))))
theorem zX0_well : SwZ nX0_well (Mt mX0_well 2) := wholeZ (mi := nX0_well) (cd := mX0_well) aX0_well rfl (HdZ.none rfl)
abbrev nX0_found : MI := (cX0_found, 2, (some (.int)), RX0, "found", [], 0, 0)
theorem hyX0_found : yX0_found.cls ≠ "java/lang/invoke/MethodHandle" ∧ yX0_found.cls ≠ "java/lang/invoke/VarHandle" := by decide +kernel
theorem pnX0_found : (parseMethodDescriptor yX0_found.desc).map (fun d => d.parameters.length) = some 1 := by decide +kernel
theorem wdX0_found : CdW yX0_found (nX0_found) := ⟨Or.inl ⟨q445, rfl⟩, rfl, rfl, plainFor_of_name (by decide +kernel)⟩
theorem eX0_found_0 : SiZ nX0_found 0 (i_aload 0 1) := s_aload_n dX0_found_0 rfl
theorem eX0_found_1 : SiZ nX0_found 1 (i_aload 1 2) := s_aload_n dX0_found_1 rfl
theorem eX0_found_2 : SiZ nX0_found 2 (i_getf 134 [10] 5) := s_getf dX0_found_2 (fm_cons (⟨_, _, _, _, _, _, rfl, fkX0_73_10⟩) (fm_nil))
theorem eX0_found_5 : SiZ nX0_found 5 (i_putI 22 [1] 8) := s_putI dX0_found_5 (fm_cons (⟨_, _, _, _, _, _, rfl, ⟨fkX0_79_1, ⟨_, q306, Or.inl rfl⟩, Or.inl rfl⟩, rfl⟩) (fm_nil))
theorem eX0_found_8 : SiZ nX0_found 8 (i_push (.int (-1000010)) 10) := s_ldc dX0_found_8 q446
theorem eX0_found_10 : SiZ nX0_found 10 (i_aload 1 11) := s_aload_n dX0_found_10 rfl
theorem eX0_found_11 : SiZ nX0_found 11 (i_getf 134 [10] 14) := s_getf dX0_found_11 (fm_cons (⟨_, _, _, _, _, _, rfl, fkX0_73_10⟩) (fm_nil))
theorem eX0_found_14 : SiZ nX0_found 14 (i_bin (fun x y => x - y) 15) := s_isub dX0_found_14
theorem eX0_found_15 : SiZ nX0_found 15 i_iret := s_iret dX0_found_15 rfl
theorem aX0_found : ∀ x ∈ mX0_found.1, EnZ nX0_found x := fm_cons eX0_found_0 (fm_cons eX0_found_1 (fm_cons eX0_found_2 (fm_cons eX0_found_5 (fm_cons eX0_found_8 (fm_cons eX0_found_10 (fm_cons eX0_found_11 (fm_cons eX0_found_14 (fm_cons eX0_found_15 (fm_nil)))))))))
theorem zX0_found : SwZ nX0_found (Mt mX0_found 2) := wholeZ (mi := nX0_found) (cd := mX0_found) aX0_found rfl (HdZ.none rfl)
abbrev nX0_row : MI := (cX0_row, 5, (some (.int)), RX0, "row", [(28, 61, 62, 74)], 5, 130)
theorem hyX0_row : yX0_row.cls ≠ "java/lang/invoke/MethodHandle" ∧ yX0_row.cls ≠ "java/lang/invoke/VarHandle" := by decide +kernel
theorem pnX0_row : (parseMethodDescriptor yX0_row.desc).map (fun d => d.parameters.length) = some 3 := by decide +kernel
theorem wdX0_row : CdW yX0_row (nX0_row) := ⟨Or.inr q345, rfl, rfl, plainFor_of_name (by decide +kernel)⟩
theorem eX0_row_0 : SiZ nX0_row 0 (i_iload 1 1) := s_iload_n dX0_row_0 rfl
theorem eX0_row_1 : ScZ nX0_row 1 (c_S 1 4 1 (Mt mX0_isRow 1)) := e_S (mi := nX0_row) (mi' := nX0_isRow) (len := 3) (fun h as rest hl => cs_S (mi := nX0_row) (pc := 1) (y := yX0_isRow) (idx := 94) dX0_row_1 q347 q348 q77 q349 hyX0_isRow pnX0_isRow hl) wdX0_isRow zX0_isRow (Nat.le_of_ble_eq_true rfl) (Nat.le_of_ble_eq_true rfl)
theorem eX0_row_4 : SiZ nX0_row 4 (i_if (fun x => x = 0) 25 7) := s_if_eq dX0_row_4 (by decide)
theorem eX0_row_7 : SiZ nX0_row 7 (i_iload 2 8) := s_iload_n dX0_row_7 rfl
theorem eX0_row_8 : SiZ nX0_row 8 (i_i2l 9) := s_i2l dX0_row_8
theorem eX0_row_9 : SiZ nX0_row 9 (i_push (.long 0) 10) := s_lconst dX0_row_9 (by decide)
theorem eX0_row_10 : SiZ nX0_row 10 (i_push (.long 2) 13) := s_ldc2 dX0_row_10 q354
theorem eX0_row_13 : ScZ nX0_row 13 (c_S 3 16 6 (Mt mX0_isIn 6)) := e_S (mi := nX0_row) (mi' := nX0_isIn) (len := 3) (fun h as rest hl => cs_S (mi := nX0_row) (pc := 13) (y := yX0_isIn) (idx := 86) dX0_row_13 q351 q352 q77 q353 hyX0_isIn pnX0_isIn hl) wdX0_isIn zX0_isIn (Nat.le_of_ble_eq_true rfl) (Nat.le_of_ble_eq_true rfl)
theorem eX0_row_16 : SiZ nX0_row 16 (i_if (fun x => x = 0) 25 19) := s_if_eq dX0_row_16 (by decide)
theorem eX0_row_19 : SiZ nX0_row 19 (i_iload 3 20) := s_iload_n dX0_row_19 rfl
theorem eX0_row_20 : SiZ nX0_row 20 (i_push (.int 40) 22) := s_bipush dX0_row_20 (by decide)
theorem eX0_row_22 : SiZ nX0_row 22 (i_icmp (fun x y => x ≤ y) 28 25) := s_icmp_le dX0_row_22 (by decide)
theorem eX0_row_25 : SiZ nX0_row 25 (i_push (.int (-1000001)) 27) := s_ldc dX0_row_25 q355
theorem eX0_row_27 : SiZ nX0_row 27 i_iret := s_iret dX0_row_27 rfl
theorem eX0_row_28 : SiZ nX0_row 28 (i_iload 3 29) := s_iload_n dX0_row_28 rfl
theorem eX0_row_29 : SiZ nX0_row 29 (i_if (fun x => x < 0) 36 32) := s_if_lt dX0_row_29 (by decide)
theorem eX0_row_32 : SiZ nX0_row 32 (i_push (.int 1) 33) := s_iconst dX0_row_32 (by decide)
theorem eX0_row_33 : SiZ nX0_row 33 (i_goto 37) := s_goto dX0_row_33 (by decide)
theorem eX0_row_36 : SiZ nX0_row 36 (i_push (.int 0) 37) := s_iconst dX0_row_36 (by decide)
theorem eX0_row_37 : SiZ nX0_row 37 (i_push (.int 4) 38) := s_iconst dX0_row_37 (by decide)
theorem eX0_row_38 : ScZ nX0_row 38 (c_S 2 41 2 (Mt mX0_must 2)) := e_S (mi := nX0_row) (mi' := nX0_must) (len := 3) (fun h as rest hl => cs_S (mi := nX0_row) (pc := 38) (y := yX0_must) (idx := 90) dX0_row_38 q356 q357 q77 q358 hyX0_must pnX0_must hl) wdX0_must zX0_must (Nat.le_of_ble_eq_true rfl) (Nat.le_of_ble_eq_true rfl)
theorem eX0_row_41 : SiZ nX0_row 41 (i_aload 0 42) := s_aload_n dX0_row_41 rfl
theorem eX0_row_42 : SiZ nX0_row 42 (i_getf 3 [1] 45) := s_getf dX0_row_42 (fm_cons (⟨_, _, _, _, _, _, rfl, fkX0_28_1⟩) (fm_nil))
theorem eX0_row_45 : SiZ nX0_row 45 (i_iload 1 46) := s_iload_n dX0_row_45 rfl
theorem eX0_row_46 : SiZ nX0_row 46 (i_new 11 2 49) := s_new dX0_row_46 q118 q424 q93 clX11 rfl (by decide)
theorem eX0_row_49 : SiZ nX0_row 49 (i_dup 50) := s_dup dX0_row_49
theorem eX0_row_50 : SiZ nX0_row 50 (i_iload 2 51) := s_iload_n dX0_row_50 rfl
theorem eX0_row_51 : SiZ nX0_row 51 (i_iload 3 52) := s_iload_n dX0_row_51 rfl
theorem eX0_row_52 : ScZ nX0_row 52 (c_I 2 55 3 (Mt mX11_init 3)) := e_I (mi := nX0_row) (mi' := nX11_init) (len := 3) (fun h b as rest hl => cs_I (mi := nX0_row) (pc := 52) (y := yX11_init) (idx := 101) dX0_row_52 rfl q425 q426 q427 hyX11_init pnX11_init hl) wdX11_init zX11_init (Nat.le_of_ble_eq_true rfl) (Nat.le_of_ble_eq_true rfl)
theorem eX0_row_55 : SiZ nX0_row 55 (i_aast 54 [11] 56) := s_aast (j := 0) (by decide) (fun _ => rfl) dX0_row_55 (fm_cons (⟨10, _, rfl, rfl, Or.inl rfl⟩) (fm_nil))
theorem eX0_row_56 : SiZ nX0_row 56 (i_aload 0 57) := s_aload_n dX0_row_56 rfl
theorem eX0_row_57 : SiZ nX0_row 57 (i_iload 3 58) := s_iload_n dX0_row_57 rfl
theorem eX0_row_58 : ScZ nX0_row 58 (c_V 1 61 2 1 (Mt mX0_well 2)) := e_V (mi := nX0_row) (mi' := nX0_well) (len := 3) (fun h b as rest hk hl => cs_V (ci := 0) (mi := nX0_row) (pc := 58) (y := yX0_well) (idx := 104) dX0_row_58 q438 q440 qs1 rfl hk hyX0_well (sigC q441) pnX0_well hl) wdX0_well zX0_well (Nat.le_of_ble_eq_true rfl) (Nat.le_of_ble_eq_true rfl)
theorem eX0_row_61 : SiZ nX0_row 61 i_iret := s_iret dX0_row_61 rfl
theorem eX0_row_62 : SiZ nX0_row 62 (i_astore 4 64) := s_astore dX0_row_62
theorem eX0_row_64 : SiZ nX0_row 64 (i_aload 0 65) := s_aload_n dX0_row_64 rfl
theorem eX0_row_65 : SiZ nX0_row 65 (i_aload 4 67) := s_aload dX0_row_65
theorem eX0_row_67 : ScZ nX0_row 67 (c_V 1 70 2 1 (Mt mX0_found 2)) := e_V (mi := nX0_row) (mi' := nX0_found) (len := 3) (fun h b as rest hk hl => cs_V (ci := 0) (mi := nX0_row) (pc := 67) (y := yX0_found) (idx := 108) dX0_row_67 q442 q444 qs2 rfl hk hyX0_found (sigC q445) pnX0_found hl) wdX0_found zX0_found (Nat.le_of_ble_eq_true rfl) (Nat.le_of_ble_eq_true rfl)
theorem eX0_row_70 : SiZ nX0_row 70 i_iret := s_iret dX0_row_70 rfl
theorem aX0_row : ∀ x ∈ mX0_row.1, EnZ nX0_row x := fm_cons eX0_row_0 (fm_cons eX0_row_1 (fm_cons eX0_row_4 (fm_cons eX0_row_7 (fm_cons eX0_row_8 (fm_cons eX0_row_9 (fm_cons eX0_row_10 (fm_cons eX0_row_13 (fm_cons eX0_row_16 (fm_cons eX0_row_19 (fm_cons eX0_row_20 (fm_cons eX0_row_22 (fm_cons eX0_row_25 (fm_cons eX0_row_27 (fm_cons eX0_row_28 (fm_cons eX0_row_29 (fm_cons eX0_row_32 (fm_cons eX0_row_33 (fm_cons eX0_row_36 (fm_cons eX0_row_37 (fm_cons eX0_row_38 (fm_cons eX0_row_41 (fm_cons eX0_row_42 (fm_cons eX0_row_45 (fm_cons eX0_row_46 (fm_cons eX0_row_49 (fm_cons eX0_row_50 (fm_cons eX0_row_51 (fm_cons eX0_row_52 (fm_cons eX0_row_55 (fm_cons eX0_row_56 (fm_cons eX0_row_57 (fm_cons eX0_row_58 (fm_cons eX0_row_61 (fm_cons eX0_row_62 (fm_cons eX0_row_64 (fm_cons eX0_row_65 (fm_cons eX0_row_67 (fm_cons eX0_row_70 (fm_nil)))))))))))))))))))))))))))))))))))))))
theorem zX0_row : SwZ nX0_row (Mt mX0_row 5) := wholeZ (mi := nX0_row) (cd := mX0_row) aX0_row rfl (HdZ.tab (mi := nX0_row) (fun c => if c = 74 then [10] else []) rfl (fm_cons (⟨by decide, "FishReaders$Finding", q346, fm_cons ⟨"FishReaders$Finding", Or.inl ⟨9, _, rfl, rfl, rfl⟩, Or.inl rfl⟩ fm_nil⟩) (fm_nil)))
abbrev nX0_rowAt : MI := (cX0_rowAt, 2, (some (.object "FishReaders$Row")), RX0, "rowAt", [], 5, 130)
theorem hyX0_rowAt : yX0_rowAt.cls ≠ "java/lang/invoke/MethodHandle" ∧ yX0_rowAt.cls ≠ "java/lang/invoke/VarHandle" := by decide +kernel
theorem pnX0_rowAt : (parseMethodDescriptor yX0_rowAt.desc).map (fun d => d.parameters.length) = some 1 := by decide +kernel
theorem wdX0_rowAt : CdW yX0_rowAt (nX0_rowAt) := ⟨Or.inl ⟨q454, rfl⟩, rfl, rfl, plainFor_of_name (by decide +kernel)⟩
theorem eX0_rowAt_0 : SiZ nX0_rowAt 0 (i_aload 0 1) := s_aload_n dX0_rowAt_0 rfl
theorem eX0_rowAt_1 : SiZ nX0_rowAt 1 (i_getf 3 [1] 4) := s_getf dX0_rowAt_1 (fm_cons (⟨_, _, _, _, _, _, rfl, fkX0_28_1⟩) (fm_nil))
theorem eX0_rowAt_4 : SiZ nX0_rowAt 4 (i_iload 1 5) := s_iload_n dX0_rowAt_4 rfl
theorem eX0_rowAt_5 : SiZ nX0_rowAt 5 (i_aald 54 6) := s_aald (j := 0) (by decide) (fun _ => rfl) dX0_rowAt_5
theorem eX0_rowAt_6 : SiZ nX0_rowAt 6 (i_ifn 13 9) := s_ifnull dX0_rowAt_6 (by decide)
theorem eX0_rowAt_9 : SiZ nX0_rowAt 9 (i_push (.int 1) 10) := s_iconst dX0_rowAt_9 (by decide)
theorem eX0_rowAt_10 : SiZ nX0_rowAt 10 (i_goto 14) := s_goto dX0_rowAt_10 (by decide)
theorem eX0_rowAt_13 : SiZ nX0_rowAt 13 (i_push (.int 0) 14) := s_iconst dX0_rowAt_13 (by decide)
theorem eX0_rowAt_14 : SiZ nX0_rowAt 14 (i_push (.int 1) 15) := s_iconst dX0_rowAt_14 (by decide)
theorem eX0_rowAt_15 : ScZ nX0_rowAt 15 (c_S 2 18 2 (Mt mX0_must 2)) := e_S (mi := nX0_rowAt) (mi' := nX0_must) (len := 3) (fun h as rest hl => cs_S (mi := nX0_rowAt) (pc := 15) (y := yX0_must) (idx := 90) dX0_rowAt_15 q356 q357 q77 q358 hyX0_must pnX0_must hl) wdX0_must zX0_must (Nat.le_of_ble_eq_true rfl) (Nat.le_of_ble_eq_true rfl)
theorem eX0_rowAt_18 : SiZ nX0_rowAt 18 (i_aload 0 19) := s_aload_n dX0_rowAt_18 rfl
theorem eX0_rowAt_19 : SiZ nX0_rowAt 19 (i_getf 3 [1] 22) := s_getf dX0_rowAt_19 (fm_cons (⟨_, _, _, _, _, _, rfl, fkX0_28_1⟩) (fm_nil))
theorem eX0_rowAt_22 : SiZ nX0_rowAt 22 (i_iload 1 23) := s_iload_n dX0_rowAt_22 rfl
theorem eX0_rowAt_23 : SiZ nX0_rowAt 23 (i_aald 54 24) := s_aald (j := 0) (by decide) (fun _ => rfl) dX0_rowAt_23
theorem eX0_rowAt_24 : SiZ nX0_rowAt 24 i_aret := s_aret dX0_rowAt_24 rfl (Or.inl ⟨_, rfl⟩)
theorem aX0_rowAt : ∀ x ∈ mX0_rowAt.1, EnZ nX0_rowAt x := fm_cons eX0_rowAt_0 (fm_cons eX0_rowAt_1 (fm_cons eX0_rowAt_4 (fm_cons eX0_rowAt_5 (fm_cons eX0_rowAt_6 (fm_cons eX0_rowAt_9 (fm_cons eX0_rowAt_10 (fm_cons eX0_rowAt_13 (fm_cons eX0_rowAt_14 (fm_cons eX0_rowAt_15 (fm_cons eX0_rowAt_18 (fm_cons eX0_rowAt_19 (fm_cons eX0_rowAt_22 (fm_cons eX0_rowAt_23 (fm_cons eX0_rowAt_24 (fm_nil)))))))))))))))
theorem zX0_rowAt : SwZ nX0_rowAt (Mt mX0_rowAt 2) := wholeZ (mi := nX0_rowAt) (cd := mX0_rowAt) aX0_rowAt rfl (HdZ.none rfl)
abbrev nX11_cut : MI := (cX11_cut, 2, (some (.int)), RX11, "cut", [], 0, 0)
theorem hyX11_cut : yX11_cut.cls ≠ "java/lang/invoke/MethodHandle" ∧ yX11_cut.cls ≠ "java/lang/invoke/VarHandle" := by decide +kernel
theorem pnX11_cut : (parseMethodDescriptor yX11_cut.desc).map (fun d => d.parameters.length) = some 1 := by decide +kernel
theorem wdX11_cut : CdW yX11_cut (nX11_cut) := ⟨Or.inl ⟨q458, rfl⟩, rfl, rfl, plainFor_of_name (by decide +kernel)⟩
theorem eX11_cut_0 : SiZ nX11_cut 0 (i_aload 0 1) := s_aload_n dX11_cut_0 rfl
theorem eX11_cut_1 : SiZ nX11_cut 1 (i_getf 136 [11] 4) := s_getf dX11_cut_1 (fm_cons (⟨_, _, _, _, _, _, rfl, fkX11_9_11⟩) (fm_nil))
theorem eX11_cut_4 : SiZ nX11_cut 4 (i_if (fun x => ¬ x = 0) 12 7) := s_if_ne dX11_cut_4 (by decide)
theorem eX11_cut_7 : SiZ nX11_cut 7 (i_iload 1 8) := s_iload_n dX11_cut_7 rfl
theorem eX11_cut_8 : SiZ nX11_cut 8 (i_un (fun x => x.toInt8.toInt32) 9) := s_i2b dX11_cut_8
theorem eX11_cut_9 : SiZ nX11_cut 9 (i_goto 26) := s_goto dX11_cut_9 (by decide)
theorem eX11_cut_12 : SiZ nX11_cut 12 (i_aload 0 13) := s_aload_n dX11_cut_12 rfl
theorem eX11_cut_13 : SiZ nX11_cut 13 (i_getf 136 [11] 16) := s_getf dX11_cut_13 (fm_cons (⟨_, _, _, _, _, _, rfl, fkX11_9_11⟩) (fm_nil))
theorem eX11_cut_16 : SiZ nX11_cut 16 (i_push (.int 1) 17) := s_iconst dX11_cut_16 (by decide)
theorem eX11_cut_17 : SiZ nX11_cut 17 (i_icmp (fun x y => ¬ x = y) 25 20) := s_icmp_ne dX11_cut_17 (by decide)
theorem eX11_cut_20 : SiZ nX11_cut 20 (i_iload 1 21) := s_iload_n dX11_cut_20 rfl
theorem eX11_cut_21 : SiZ nX11_cut 21 (i_un (fun x => x.toInt16.toInt32) 22) := s_i2s dX11_cut_21
theorem eX11_cut_22 : SiZ nX11_cut 22 (i_goto 26) := s_goto dX11_cut_22 (by decide)
theorem eX11_cut_25 : SiZ nX11_cut 25 (i_iload 1 26) := s_iload_n dX11_cut_25 rfl
theorem eX11_cut_26 : SiZ nX11_cut 26 i_iret := s_iret dX11_cut_26 rfl
theorem aX11_cut : ∀ x ∈ mX11_cut.1, EnZ nX11_cut x := fm_cons eX11_cut_0 (fm_cons eX11_cut_1 (fm_cons eX11_cut_4 (fm_cons eX11_cut_7 (fm_cons eX11_cut_8 (fm_cons eX11_cut_9 (fm_cons eX11_cut_12 (fm_cons eX11_cut_13 (fm_cons eX11_cut_16 (fm_cons eX11_cut_17 (fm_cons eX11_cut_20 (fm_cons eX11_cut_21 (fm_cons eX11_cut_22 (fm_cons eX11_cut_25 (fm_cons eX11_cut_26 (fm_nil)))))))))))))))
theorem zX11_cut : SwZ nX11_cut (Mt mX11_cut 2) := wholeZ (mi := nX11_cut) (cd := mX11_cut) aX11_cut rfl (HdZ.none rfl)
abbrev nX0_set : MI := (cX0_set, 5, (some (.int)), RX0, "set", [(10, 60, 61, 74)], 6, 155)
theorem hyX0_set : yX0_set.cls ≠ "java/lang/invoke/MethodHandle" ∧ yX0_set.cls ≠ "java/lang/invoke/VarHandle" := by decide +kernel
theorem pnX0_set : (parseMethodDescriptor yX0_set.desc).map (fun d => d.parameters.length) = some 3 := by decide +kernel
theorem wdX0_set : CdW yX0_set (nX0_set) := ⟨Or.inr q450, rfl, rfl, plainFor_of_name (by decide +kernel)⟩
theorem eX0_set_0 : SiZ nX0_set 0 (i_iload 1 1) := s_iload_n dX0_set_0 rfl
theorem eX0_set_1 : ScZ nX0_set 1 (c_S 1 4 1 (Mt mX0_isRow 1)) := e_S (mi := nX0_set) (mi' := nX0_isRow) (len := 3) (fun h as rest hl => cs_S (mi := nX0_set) (pc := 1) (y := yX0_isRow) (idx := 94) dX0_set_1 q347 q348 q77 q349 hyX0_isRow pnX0_isRow hl) wdX0_isRow zX0_isRow (Nat.le_of_ble_eq_true rfl) (Nat.le_of_ble_eq_true rfl)
theorem eX0_set_4 : SiZ nX0_set 4 (i_if (fun x => ¬ x = 0) 10 7) := s_if_ne dX0_set_4 (by decide)
theorem eX0_set_7 : SiZ nX0_set 7 (i_push (.int (-1000001)) 9) := s_ldc dX0_set_7 q355
theorem eX0_set_9 : SiZ nX0_set 9 i_iret := s_iret dX0_set_9 rfl
theorem eX0_set_10 : SiZ nX0_set 10 (i_aload 0 11) := s_aload_n dX0_set_10 rfl
theorem eX0_set_11 : SiZ nX0_set 11 (i_iload 1 12) := s_iload_n dX0_set_11 rfl
theorem eX0_set_12 : ScZ nX0_set 12 (c_V 1 15 2 1 (Mt mX0_rowAt 2)) := e_V (mi := nX0_set) (mi' := nX0_rowAt) (len := 3) (fun h b as rest hk hl => cs_V (ci := 0) (mi := nX0_set) (pc := 12) (y := yX0_rowAt) (idx := 112) dX0_set_12 q451 q453 qs3 rfl hk hyX0_rowAt (sigC q454) pnX0_rowAt hl) wdX0_rowAt zX0_rowAt (Nat.le_of_ble_eq_true rfl) (Nat.le_of_ble_eq_true rfl)
theorem eX0_set_15 : SiZ nX0_set 15 (i_astore 4 17) := s_astore dX0_set_15
theorem eX0_set_17 : SiZ nX0_set 17 (i_iload 2 18) := s_iload_n dX0_set_17 rfl
theorem eX0_set_18 : SiZ nX0_set 18 (i_i2l 19) := s_i2l dX0_set_18
theorem eX0_set_19 : SiZ nX0_set 19 (i_push (.long 0) 20) := s_lconst dX0_set_19 (by decide)
theorem eX0_set_20 : SiZ nX0_set 20 (i_aload 4 22) := s_aload dX0_set_20
theorem eX0_set_22 : SiZ nX0_set 22 (i_getf 139 [11] 25) := s_getf dX0_set_22 (fm_cons (⟨_, _, _, _, _, _, rfl, fkX0_116_11⟩) (fm_nil))
theorem eX0_set_25 : SiZ nX0_set 25 (i_alen [51] 26) := s_alen dX0_set_25 (fm_cons (Or.inl ⟨0, _, by decide, rfl, fun _ => rfl⟩) (fm_nil))
theorem eX0_set_26 : SiZ nX0_set 26 (i_push (.int 1) 27) := s_iconst dX0_set_26 (by decide)
theorem eX0_set_27 : SiZ nX0_set 27 (i_bin (fun x y => x - y) 28) := s_isub dX0_set_27
theorem eX0_set_28 : SiZ nX0_set 28 (i_i2l 29) := s_i2l dX0_set_28
theorem eX0_set_29 : ScZ nX0_set 29 (c_S 3 32 6 (Mt mX0_isIn 6)) := e_S (mi := nX0_set) (mi' := nX0_isIn) (len := 3) (fun h as rest hl => cs_S (mi := nX0_set) (pc := 29) (y := yX0_isIn) (idx := 86) dX0_set_29 q351 q352 q77 q353 hyX0_isIn pnX0_isIn hl) wdX0_isIn zX0_isIn (Nat.le_of_ble_eq_true rfl) (Nat.le_of_ble_eq_true rfl)
theorem eX0_set_32 : SiZ nX0_set 32 (i_push (.int 2) 33) := s_iconst dX0_set_32 (by decide)
theorem eX0_set_33 : ScZ nX0_set 33 (c_S 2 36 2 (Mt mX0_must 2)) := e_S (mi := nX0_set) (mi' := nX0_must) (len := 3) (fun h as rest hl => cs_S (mi := nX0_set) (pc := 33) (y := yX0_must) (idx := 90) dX0_set_33 q356 q357 q77 q358 hyX0_must pnX0_must hl) wdX0_must zX0_must (Nat.le_of_ble_eq_true rfl) (Nat.le_of_ble_eq_true rfl)
theorem eX0_set_36 : SiZ nX0_set 36 (i_aload 4 38) := s_aload dX0_set_36
theorem eX0_set_38 : SiZ nX0_set 38 (i_getf 139 [11] 41) := s_getf dX0_set_38 (fm_cons (⟨_, _, _, _, _, _, rfl, fkX0_116_11⟩) (fm_nil))
theorem eX0_set_41 : SiZ nX0_set 41 (i_iload 2 42) := s_iload_n dX0_set_41 rfl
theorem eX0_set_42 : SiZ nX0_set 42 (i_aload 4 44) := s_aload dX0_set_42
theorem eX0_set_44 : SiZ nX0_set 44 (i_iload 3 45) := s_iload_n dX0_set_44 rfl
theorem eX0_set_45 : ScZ nX0_set 45 (c_V 1 48 2 11 (Mt mX11_cut 2)) := e_V (mi := nX0_set) (mi' := nX11_cut) (len := 3) (fun h b as rest hk hl => cs_V (ci := 10) (mi := nX0_set) (pc := 45) (y := yX11_cut) (idx := 119) dX0_set_45 q455 q456 q457 rfl hk hyX11_cut (sigC q458) pnX11_cut hl) wdX11_cut zX11_cut (Nat.le_of_ble_eq_true rfl) (Nat.le_of_ble_eq_true rfl)
theorem eX0_set_48 : SiZ nX0_set 48 (i_iast 51 (fun x => x) 49) := s_ast (j := 0) (by decide) (fun _ => rfl) dX0_set_48 (Or.inl ⟨rfl, rfl, rfl⟩)
theorem eX0_set_49 : SiZ nX0_set 49 (i_aload 0 50) := s_aload_n dX0_set_49 rfl
theorem eX0_set_50 : SiZ nX0_set 50 (i_aload 4 52) := s_aload dX0_set_50
theorem eX0_set_52 : SiZ nX0_set 52 (i_getf 139 [11] 55) := s_getf dX0_set_52 (fm_cons (⟨_, _, _, _, _, _, rfl, fkX0_116_11⟩) (fm_nil))
theorem eX0_set_55 : SiZ nX0_set 55 (i_iload 2 56) := s_iload_n dX0_set_55 rfl
theorem eX0_set_56 : SiZ nX0_set 56 (i_iald 51 57) := s_ald (j := 0) (by decide) (fun _ => rfl) dX0_set_56 (Or.inl ⟨rfl, rfl⟩)
theorem eX0_set_57 : ScZ nX0_set 57 (c_V 1 60 2 1 (Mt mX0_well 2)) := e_V (mi := nX0_set) (mi' := nX0_well) (len := 3) (fun h b as rest hk hl => cs_V (ci := 0) (mi := nX0_set) (pc := 57) (y := yX0_well) (idx := 104) dX0_set_57 q438 q440 qs1 rfl hk hyX0_well (sigC q441) pnX0_well hl) wdX0_well zX0_well (Nat.le_of_ble_eq_true rfl) (Nat.le_of_ble_eq_true rfl)
theorem eX0_set_60 : SiZ nX0_set 60 i_iret := s_iret dX0_set_60 rfl
theorem eX0_set_61 : SiZ nX0_set 61 (i_astore 4 63) := s_astore dX0_set_61
theorem eX0_set_63 : SiZ nX0_set 63 (i_aload 0 64) := s_aload_n dX0_set_63 rfl
theorem eX0_set_64 : SiZ nX0_set 64 (i_aload 4 66) := s_aload dX0_set_64
theorem eX0_set_66 : ScZ nX0_set 66 (c_V 1 69 2 1 (Mt mX0_found 2)) := e_V (mi := nX0_set) (mi' := nX0_found) (len := 3) (fun h b as rest hk hl => cs_V (ci := 0) (mi := nX0_set) (pc := 66) (y := yX0_found) (idx := 108) dX0_set_66 q442 q444 qs2 rfl hk hyX0_found (sigC q445) pnX0_found hl) wdX0_found zX0_found (Nat.le_of_ble_eq_true rfl) (Nat.le_of_ble_eq_true rfl)
theorem eX0_set_69 : SiZ nX0_set 69 i_iret := s_iret dX0_set_69 rfl
theorem aX0_set : ∀ x ∈ mX0_set.1, EnZ nX0_set x := fm_cons eX0_set_0 (fm_cons eX0_set_1 (fm_cons eX0_set_4 (fm_cons eX0_set_7 (fm_cons eX0_set_9 (fm_cons eX0_set_10 (fm_cons eX0_set_11 (fm_cons eX0_set_12 (fm_cons eX0_set_15 (fm_cons eX0_set_17 (fm_cons eX0_set_18 (fm_cons eX0_set_19 (fm_cons eX0_set_20 (fm_cons eX0_set_22 (fm_cons eX0_set_25 (fm_cons eX0_set_26 (fm_cons eX0_set_27 (fm_cons eX0_set_28 (fm_cons eX0_set_29 (fm_cons eX0_set_32 (fm_cons eX0_set_33 (fm_cons eX0_set_36 (fm_cons eX0_set_38 (fm_cons eX0_set_41 (fm_cons eX0_set_42 (fm_cons eX0_set_44 (fm_cons eX0_set_45 (fm_cons eX0_set_48 (fm_cons eX0_set_49 (fm_cons eX0_set_50 (fm_cons eX0_set_52 (fm_cons eX0_set_55 (fm_cons eX0_set_56 (fm_cons eX0_set_57 (fm_cons eX0_set_60 (fm_cons eX0_set_61 (fm_cons eX0_set_63 (fm_cons eX0_set_64 (fm_cons eX0_set_66 (fm_cons eX0_set_69 (fm_nil))))))))))))))))))))))))))))))))))))))))
theorem zX0_set : SwZ nX0_set (Mt mX0_set 5) := wholeZ (mi := nX0_set) (cd := mX0_set) aX0_set rfl (HdZ.tab (mi := nX0_set) (fun c => if c = 74 then [10] else []) rfl (fm_cons (⟨by decide, "FishReaders$Finding", q346, fm_cons ⟨"FishReaders$Finding", Or.inl ⟨9, _, rfl, rfl, rfl⟩, Or.inl rfl⟩ fm_nil⟩) (fm_nil)))
abbrev nX0_copy : MI := (cX0_copy, 9, (some (.int)), RX0, "copy", [(53, 71, 74, 131), (17, 91, 92, 74)], 20, 12000)
theorem hyX0_copy : yX0_copy.cls ≠ "java/lang/invoke/MethodHandle" ∧ yX0_copy.cls ≠ "java/lang/invoke/VarHandle" := by decide +kernel
theorem pnX0_copy : (parseMethodDescriptor yX0_copy.desc).map (fun d => d.parameters.length) = some 5 := by decide +kernel
theorem wdX0_copy : CdW yX0_copy (nX0_copy) := ⟨Or.inr q462, rfl, rfl, plainFor_of_name (by decide +kernel)⟩
theorem eX0_copy_0 : SiZ nX0_copy 0 (i_iload 1 1) := s_iload_n dX0_copy_0 rfl
theorem eX0_copy_1 : ScZ nX0_copy 1 (c_S 1 4 1 (Mt mX0_isRow 1)) := e_S (mi := nX0_copy) (mi' := nX0_isRow) (len := 3) (fun h as rest hl => cs_S (mi := nX0_copy) (pc := 1) (y := yX0_isRow) (idx := 94) dX0_copy_1 q347 q348 q77 q349 hyX0_isRow pnX0_isRow hl) wdX0_isRow zX0_isRow (Nat.le_of_ble_eq_true rfl) (Nat.le_of_ble_eq_true rfl)
theorem eX0_copy_4 : SiZ nX0_copy 4 (i_if (fun x => x = 0) 14 7) := s_if_eq dX0_copy_4 (by decide)
theorem eX0_copy_7 : SiZ nX0_copy 7 (i_iload 3 8) := s_iload_n dX0_copy_7 rfl
theorem eX0_copy_8 : ScZ nX0_copy 8 (c_S 1 11 1 (Mt mX0_isRow 1)) := e_S (mi := nX0_copy) (mi' := nX0_isRow) (len := 3) (fun h as rest hl => cs_S (mi := nX0_copy) (pc := 8) (y := yX0_isRow) (idx := 94) dX0_copy_8 q347 q348 q77 q349 hyX0_isRow pnX0_isRow hl) wdX0_isRow zX0_isRow (Nat.le_of_ble_eq_true rfl) (Nat.le_of_ble_eq_true rfl)
theorem eX0_copy_11 : SiZ nX0_copy 11 (i_if (fun x => ¬ x = 0) 17 14) := s_if_ne dX0_copy_11 (by decide)
theorem eX0_copy_14 : SiZ nX0_copy 14 (i_push (.int (-1000001)) 16) := s_ldc dX0_copy_14 q355
theorem eX0_copy_16 : SiZ nX0_copy 16 i_iret := s_iret dX0_copy_16 rfl
theorem eX0_copy_17 : SiZ nX0_copy 17 (i_aload 0 18) := s_aload_n dX0_copy_17 rfl
theorem eX0_copy_18 : SiZ nX0_copy 18 (i_iload 1 19) := s_iload_n dX0_copy_18 rfl
theorem eX0_copy_19 : ScZ nX0_copy 19 (c_V 1 22 2 1 (Mt mX0_rowAt 2)) := e_V (mi := nX0_copy) (mi' := nX0_rowAt) (len := 3) (fun h b as rest hk hl => cs_V (ci := 0) (mi := nX0_copy) (pc := 19) (y := yX0_rowAt) (idx := 112) dX0_copy_19 q451 q453 qs3 rfl hk hyX0_rowAt (sigC q454) pnX0_rowAt hl) wdX0_rowAt zX0_rowAt (Nat.le_of_ble_eq_true rfl) (Nat.le_of_ble_eq_true rfl)
theorem eX0_copy_22 : SiZ nX0_copy 22 (i_astore 6 24) := s_astore dX0_copy_22
theorem eX0_copy_24 : SiZ nX0_copy 24 (i_aload 0 25) := s_aload_n dX0_copy_24 rfl
theorem eX0_copy_25 : SiZ nX0_copy 25 (i_iload 3 26) := s_iload_n dX0_copy_25 rfl
theorem eX0_copy_26 : ScZ nX0_copy 26 (c_V 1 29 2 1 (Mt mX0_rowAt 2)) := e_V (mi := nX0_copy) (mi' := nX0_rowAt) (len := 3) (fun h b as rest hk hl => cs_V (ci := 0) (mi := nX0_copy) (pc := 26) (y := yX0_rowAt) (idx := 112) dX0_copy_26 q451 q453 qs3 rfl hk hyX0_rowAt (sigC q454) pnX0_rowAt hl) wdX0_rowAt zX0_rowAt (Nat.le_of_ble_eq_true rfl) (Nat.le_of_ble_eq_true rfl)
theorem eX0_copy_29 : SiZ nX0_copy 29 (i_astore 7 31) := s_astore dX0_copy_29
theorem eX0_copy_31 : SiZ nX0_copy 31 (i_aload 6 33) := s_aload dX0_copy_31
theorem eX0_copy_33 : SiZ nX0_copy 33 (i_getf 136 [11] 36) := s_getf dX0_copy_33 (fm_cons (⟨_, _, _, _, _, _, rfl, fkX0_122_11⟩) (fm_nil))
theorem eX0_copy_36 : SiZ nX0_copy 36 (i_aload 7 38) := s_aload dX0_copy_36
theorem eX0_copy_38 : SiZ nX0_copy 38 (i_getf 136 [11] 41) := s_getf dX0_copy_38 (fm_cons (⟨_, _, _, _, _, _, rfl, fkX0_122_11⟩) (fm_nil))
theorem eX0_copy_41 : SiZ nX0_copy 41 (i_icmp (fun x y => ¬ x = y) 48 44) := s_icmp_ne dX0_copy_41 (by decide)
theorem eX0_copy_44 : SiZ nX0_copy 44 (i_push (.int 1) 45) := s_iconst dX0_copy_44 (by decide)
theorem eX0_copy_45 : SiZ nX0_copy 45 (i_goto 49) := s_goto dX0_copy_45 (by decide)
theorem eX0_copy_48 : SiZ nX0_copy 48 (i_push (.int 0) 49) := s_iconst dX0_copy_48 (by decide)
theorem eX0_copy_49 : SiZ nX0_copy 49 (i_push (.int 5) 50) := s_iconst dX0_copy_49 (by decide)
theorem eX0_copy_50 : ScZ nX0_copy 50 (c_S 2 53 2 (Mt mX0_must 2)) := e_S (mi := nX0_copy) (mi' := nX0_must) (len := 3) (fun h as rest hl => cs_S (mi := nX0_copy) (pc := 50) (y := yX0_must) (idx := 90) dX0_copy_50 q356 q357 q77 q358 hyX0_must pnX0_must hl) wdX0_must zX0_must (Nat.le_of_ble_eq_true rfl) (Nat.le_of_ble_eq_true rfl)
theorem eX0_copy_53 : SiZ nX0_copy 53 (i_aload 6 55) := s_aload dX0_copy_53
theorem eX0_copy_55 : SiZ nX0_copy 55 (i_getf 139 [11] 58) := s_getf dX0_copy_55 (fm_cons (⟨_, _, _, _, _, _, rfl, fkX0_116_11⟩) (fm_nil))
theorem eX0_copy_58 : SiZ nX0_copy 58 (i_iload 2 59) := s_iload_n dX0_copy_58 rfl
theorem eX0_copy_59 : SiZ nX0_copy 59 (i_aload 7 61) := s_aload dX0_copy_59
theorem eX0_copy_61 : SiZ nX0_copy 61 (i_getf 139 [11] 64) := s_getf dX0_copy_61 (fm_cons (⟨_, _, _, _, _, _, rfl, fkX0_116_11⟩) (fm_nil))
theorem eX0_copy_64 : SiZ nX0_copy 64 (i_iload 4 66) := s_iload dX0_copy_64
theorem eX0_copy_66 : SiZ nX0_copy 66 (i_iload 5 68) := s_iload dX0_copy_66
theorem eX0_copy_68 : SiZ nX0_copy 68 (i_acpyT 51 71) := s_acpyT dX0_copy_68 q497 (by decide) (by decide)
theorem eX0_copy_71 : SiZ nX0_copy 71 (i_goto 85) := s_goto dX0_copy_71 (by decide)
theorem eX0_copy_74 : SiZ nX0_copy 74 (i_astore 8 76) := s_astore dX0_copy_74
theorem eX0_copy_76 : SiZ nX0_copy 76 (i_new 10 7 79) := s_new dX0_copy_76 q346 q359 q92 clX10 rfl (by decide)
theorem eX0_copy_79 : SiZ nX0_copy 79 (i_dup 80) := s_dup dX0_copy_79
theorem eX0_copy_80 : SiZ nX0_copy 80 (i_push (.int 2) 81) := s_iconst dX0_copy_80 (by decide)
theorem eX0_copy_81 : ScZ nX0_copy 81 (c_I 1 84 2 (Mt mX10_init 2)) := e_I (mi := nX0_copy) (mi' := nX10_init) (len := 3) (fun h b as rest hl => cs_I (mi := nX0_copy) (pc := 81) (y := yX10_init) (idx := 83) dX0_copy_81 rfl q398 q399 q400 hyX10_init pnX10_init hl) wdX10_init zX10_init (Nat.le_of_ble_eq_true rfl) (Nat.le_of_ble_eq_true rfl)
theorem eX0_copy_84 : SiZ nX0_copy 84 i_thr := s_thr dX0_copy_84
theorem eX0_copy_85 : SiZ nX0_copy 85 (i_aload 0 86) := s_aload_n dX0_copy_85 rfl
theorem eX0_copy_86 : SiZ nX0_copy 86 (i_iload 5 88) := s_iload dX0_copy_86
theorem eX0_copy_88 : ScZ nX0_copy 88 (c_V 1 91 2 1 (Mt mX0_well 2)) := e_V (mi := nX0_copy) (mi' := nX0_well) (len := 3) (fun h b as rest hk hl => cs_V (ci := 0) (mi := nX0_copy) (pc := 88) (y := yX0_well) (idx := 104) dX0_copy_88 q438 q440 qs1 rfl hk hyX0_well (sigC q441) pnX0_well hl) wdX0_well zX0_well (Nat.le_of_ble_eq_true rfl) (Nat.le_of_ble_eq_true rfl)
theorem eX0_copy_91 : SiZ nX0_copy 91 i_iret := s_iret dX0_copy_91 rfl
theorem eX0_copy_92 : SiZ nX0_copy 92 (i_astore 6 94) := s_astore dX0_copy_92
theorem eX0_copy_94 : SiZ nX0_copy 94 (i_aload 0 95) := s_aload_n dX0_copy_94 rfl
theorem eX0_copy_95 : SiZ nX0_copy 95 (i_aload 6 97) := s_aload dX0_copy_95
theorem eX0_copy_97 : ScZ nX0_copy 97 (c_V 1 100 2 1 (Mt mX0_found 2)) := e_V (mi := nX0_copy) (mi' := nX0_found) (len := 3) (fun h b as rest hk hl => cs_V (ci := 0) (mi := nX0_copy) (pc := 97) (y := yX0_found) (idx := 108) dX0_copy_97 q442 q444 qs2 rfl hk hyX0_found (sigC q445) pnX0_found hl) wdX0_found zX0_found (Nat.le_of_ble_eq_true rfl) (Nat.le_of_ble_eq_true rfl)
theorem eX0_copy_100 : SiZ nX0_copy 100 i_iret := s_iret dX0_copy_100 rfl
theorem aX0_copy : ∀ x ∈ mX0_copy.1, EnZ nX0_copy x := fm_cons eX0_copy_0 (fm_cons eX0_copy_1 (fm_cons eX0_copy_4 (fm_cons eX0_copy_7 (fm_cons eX0_copy_8 (fm_cons eX0_copy_11 (fm_cons eX0_copy_14 (fm_cons eX0_copy_16 (fm_cons eX0_copy_17 (fm_cons eX0_copy_18 (fm_cons eX0_copy_19 (fm_cons eX0_copy_22 (fm_cons eX0_copy_24 (fm_cons eX0_copy_25 (fm_cons eX0_copy_26 (fm_cons eX0_copy_29 (fm_cons eX0_copy_31 (fm_cons eX0_copy_33 (fm_cons eX0_copy_36 (fm_cons eX0_copy_38 (fm_cons eX0_copy_41 (fm_cons eX0_copy_44 (fm_cons eX0_copy_45 (fm_cons eX0_copy_48 (fm_cons eX0_copy_49 (fm_cons eX0_copy_50 (fm_cons eX0_copy_53 (fm_cons eX0_copy_55 (fm_cons eX0_copy_58 (fm_cons eX0_copy_59 (fm_cons eX0_copy_61 (fm_cons eX0_copy_64 (fm_cons eX0_copy_66 (fm_cons eX0_copy_68 (fm_cons eX0_copy_71 (fm_cons eX0_copy_74 (fm_cons eX0_copy_76 (fm_cons eX0_copy_79 (fm_cons eX0_copy_80 (fm_cons eX0_copy_81 (fm_cons eX0_copy_84 (fm_cons eX0_copy_85 (fm_cons eX0_copy_86 (fm_cons eX0_copy_88 (fm_cons eX0_copy_91 (fm_cons eX0_copy_92 (fm_cons eX0_copy_94 (fm_cons eX0_copy_95 (fm_cons eX0_copy_97 (fm_cons eX0_copy_100 (fm_nil))))))))))))))))))))))))))))))))))))))))))))))))))
theorem zX0_copy : SwZ nX0_copy (Mt mX0_copy 9) := wholeZ (mi := nX0_copy) (cd := mX0_copy) aX0_copy rfl (HdZ.tab (mi := nX0_copy) (fun c => if c = 74 then [10] else if c = 131 then [62] else []) rfl (fm_cons (⟨by decide, "java/lang/IndexOutOfBoundsException", q463, fm_cons ⟨"java/lang/ArrayIndexOutOfBoundsException", Or.inr ⟨0, by decide, rfl, rfl⟩, Or.inr q1714⟩ fm_nil⟩) (fm_cons (⟨by decide, "FishReaders$Finding", q346, fm_cons ⟨"FishReaders$Finding", Or.inl ⟨9, _, rfl, rfl, rfl⟩, Or.inl rfl⟩ fm_nil⟩) (fm_nil))))
abbrev nX0_drop : MI := (cX0_drop, 3, (some (.int)), RX0, "drop", [(10, 32, 33, 74)], 6, 155)
theorem hyX0_drop : yX0_drop.cls ≠ "java/lang/invoke/MethodHandle" ∧ yX0_drop.cls ≠ "java/lang/invoke/VarHandle" := by decide +kernel
theorem pnX0_drop : (parseMethodDescriptor yX0_drop.desc).map (fun d => d.parameters.length) = some 1 := by decide +kernel
theorem wdX0_drop : CdW yX0_drop (nX0_drop) := ⟨Or.inr q503, rfl, rfl, plainFor_of_name (by decide +kernel)⟩
theorem eX0_drop_0 : SiZ nX0_drop 0 (i_iload 1 1) := s_iload_n dX0_drop_0 rfl
theorem eX0_drop_1 : ScZ nX0_drop 1 (c_S 1 4 1 (Mt mX0_isRow 1)) := e_S (mi := nX0_drop) (mi' := nX0_isRow) (len := 3) (fun h as rest hl => cs_S (mi := nX0_drop) (pc := 1) (y := yX0_isRow) (idx := 94) dX0_drop_1 q347 q348 q77 q349 hyX0_isRow pnX0_isRow hl) wdX0_isRow zX0_isRow (Nat.le_of_ble_eq_true rfl) (Nat.le_of_ble_eq_true rfl)
theorem eX0_drop_4 : SiZ nX0_drop 4 (i_if (fun x => ¬ x = 0) 10 7) := s_if_ne dX0_drop_4 (by decide)
theorem eX0_drop_7 : SiZ nX0_drop 7 (i_push (.int (-1000001)) 9) := s_ldc dX0_drop_7 q355
theorem eX0_drop_9 : SiZ nX0_drop 9 i_iret := s_iret dX0_drop_9 rfl
theorem eX0_drop_10 : SiZ nX0_drop 10 (i_aload 0 11) := s_aload_n dX0_drop_10 rfl
theorem eX0_drop_11 : SiZ nX0_drop 11 (i_iload 1 12) := s_iload_n dX0_drop_11 rfl
theorem eX0_drop_12 : ScZ nX0_drop 12 (c_V 1 15 2 1 (Mt mX0_rowAt 2)) := e_V (mi := nX0_drop) (mi' := nX0_rowAt) (len := 3) (fun h b as rest hk hl => cs_V (ci := 0) (mi := nX0_drop) (pc := 12) (y := yX0_rowAt) (idx := 112) dX0_drop_12 q451 q453 qs3 rfl hk hyX0_rowAt (sigC q454) pnX0_rowAt hl) wdX0_rowAt zX0_rowAt (Nat.le_of_ble_eq_true rfl) (Nat.le_of_ble_eq_true rfl)
theorem eX0_drop_15 : SiZ nX0_drop 15 (i_getf 139 [11] 18) := s_getf dX0_drop_15 (fm_cons (⟨_, _, _, _, _, _, rfl, fkX0_116_11⟩) (fm_nil))
theorem eX0_drop_18 : SiZ nX0_drop 18 (i_alen [51] 19) := s_alen dX0_drop_18 (fm_cons (Or.inl ⟨0, _, by decide, rfl, fun _ => rfl⟩) (fm_nil))
theorem eX0_drop_19 : SiZ nX0_drop 19 (i_istore 2 20) := s_istore_n dX0_drop_19 rfl
theorem eX0_drop_20 : SiZ nX0_drop 20 (i_aload 0 21) := s_aload_n dX0_drop_20 rfl
theorem eX0_drop_21 : SiZ nX0_drop 21 (i_getf 3 [1] 24) := s_getf dX0_drop_21 (fm_cons (⟨_, _, _, _, _, _, rfl, fkX0_28_1⟩) (fm_nil))
theorem eX0_drop_24 : SiZ nX0_drop 24 (i_iload 1 25) := s_iload_n dX0_drop_24 rfl
theorem eX0_drop_25 : SiZ nX0_drop 25 (i_push (.null) 26) := s_null dX0_drop_25
theorem eX0_drop_26 : SiZ nX0_drop 26 (i_aast 54 [11] 27) := s_aast (j := 0) (by decide) (fun _ => rfl) dX0_drop_26 (fm_cons (⟨10, _, rfl, rfl, Or.inl rfl⟩) (fm_nil))
theorem eX0_drop_27 : SiZ nX0_drop 27 (i_aload 0 28) := s_aload_n dX0_drop_27 rfl
theorem eX0_drop_28 : SiZ nX0_drop 28 (i_iload 2 29) := s_iload_n dX0_drop_28 rfl
theorem eX0_drop_29 : ScZ nX0_drop 29 (c_V 1 32 2 1 (Mt mX0_well 2)) := e_V (mi := nX0_drop) (mi' := nX0_well) (len := 3) (fun h b as rest hk hl => cs_V (ci := 0) (mi := nX0_drop) (pc := 29) (y := yX0_well) (idx := 104) dX0_drop_29 q438 q440 qs1 rfl hk hyX0_well (sigC q441) pnX0_well hl) wdX0_well zX0_well (Nat.le_of_ble_eq_true rfl) (Nat.le_of_ble_eq_true rfl)
theorem eX0_drop_32 : SiZ nX0_drop 32 i_iret := s_iret dX0_drop_32 rfl
theorem eX0_drop_33 : SiZ nX0_drop 33 (i_astore 2 34) := s_astore_n dX0_drop_33 rfl
theorem eX0_drop_34 : SiZ nX0_drop 34 (i_aload 0 35) := s_aload_n dX0_drop_34 rfl
theorem eX0_drop_35 : SiZ nX0_drop 35 (i_aload 2 36) := s_aload_n dX0_drop_35 rfl
theorem eX0_drop_36 : ScZ nX0_drop 36 (c_V 1 39 2 1 (Mt mX0_found 2)) := e_V (mi := nX0_drop) (mi' := nX0_found) (len := 3) (fun h b as rest hk hl => cs_V (ci := 0) (mi := nX0_drop) (pc := 36) (y := yX0_found) (idx := 108) dX0_drop_36 q442 q444 qs2 rfl hk hyX0_found (sigC q445) pnX0_found hl) wdX0_found zX0_found (Nat.le_of_ble_eq_true rfl) (Nat.le_of_ble_eq_true rfl)
theorem eX0_drop_39 : SiZ nX0_drop 39 i_iret := s_iret dX0_drop_39 rfl
theorem aX0_drop : ∀ x ∈ mX0_drop.1, EnZ nX0_drop x := fm_cons eX0_drop_0 (fm_cons eX0_drop_1 (fm_cons eX0_drop_4 (fm_cons eX0_drop_7 (fm_cons eX0_drop_9 (fm_cons eX0_drop_10 (fm_cons eX0_drop_11 (fm_cons eX0_drop_12 (fm_cons eX0_drop_15 (fm_cons eX0_drop_18 (fm_cons eX0_drop_19 (fm_cons eX0_drop_20 (fm_cons eX0_drop_21 (fm_cons eX0_drop_24 (fm_cons eX0_drop_25 (fm_cons eX0_drop_26 (fm_cons eX0_drop_27 (fm_cons eX0_drop_28 (fm_cons eX0_drop_29 (fm_cons eX0_drop_32 (fm_cons eX0_drop_33 (fm_cons eX0_drop_34 (fm_cons eX0_drop_35 (fm_cons eX0_drop_36 (fm_cons eX0_drop_39 (fm_nil)))))))))))))))))))))))))
theorem zX0_drop : SwZ nX0_drop (Mt mX0_drop 3) := wholeZ (mi := nX0_drop) (cd := mX0_drop) aX0_drop rfl (HdZ.tab (mi := nX0_drop) (fun c => if c = 74 then [10] else []) rfl (fm_cons (⟨by decide, "FishReaders$Finding", q346, fm_cons ⟨"FishReaders$Finding", Or.inl ⟨9, _, rfl, rfl, rfl⟩, Or.inl rfl⟩ fm_nil⟩) (fm_nil)))
abbrev nX0_feed : MI := (cX0_feed, 2, (some (.int)), RX0, "feed", [], 1, 29)
theorem hyX0_feed : yX0_feed.cls ≠ "java/lang/invoke/MethodHandle" ∧ yX0_feed.cls ≠ "java/lang/invoke/VarHandle" := by decide +kernel
theorem pnX0_feed : (parseMethodDescriptor yX0_feed.desc).map (fun d => d.parameters.length) = some 1 := by decide +kernel
theorem wdX0_feed : CdW yX0_feed (nX0_feed) := ⟨Or.inl ⟨q507, rfl⟩, rfl, rfl, plainFor_of_name (by decide +kernel)⟩
theorem eX0_feed_0 : SiZ nX0_feed 0 (i_iload 1 1) := s_iload_n dX0_feed_0 rfl
theorem eX0_feed_1 : SiZ nX0_feed 1 (i_i2l 2) := s_i2l dX0_feed_1
theorem eX0_feed_2 : SiZ nX0_feed 2 (i_push (.long 0) 3) := s_lconst dX0_feed_2 (by decide)
theorem eX0_feed_3 : SiZ nX0_feed 3 (i_push (.long 255) 6) := s_ldc2 dX0_feed_3 q508
theorem eX0_feed_6 : ScZ nX0_feed 6 (c_S 3 9 6 (Mt mX0_isIn 6)) := e_S (mi := nX0_feed) (mi' := nX0_isIn) (len := 3) (fun h as rest hl => cs_S (mi := nX0_feed) (pc := 6) (y := yX0_isIn) (idx := 86) dX0_feed_6 q351 q352 q77 q353 hyX0_isIn pnX0_isIn hl) wdX0_isIn zX0_isIn (Nat.le_of_ble_eq_true rfl) (Nat.le_of_ble_eq_true rfl)
theorem eX0_feed_9 : SiZ nX0_feed 9 (i_if (fun x => ¬ x = 0) 15 12) := s_if_ne dX0_feed_9 (by decide)
theorem eX0_feed_12 : SiZ nX0_feed 12 (i_push (.int (-1000001)) 14) := s_ldc dX0_feed_12 q355
theorem eX0_feed_14 : SiZ nX0_feed 14 i_iret := s_iret dX0_feed_14 rfl
theorem eX0_feed_15 : SiZ nX0_feed 15 (i_aload 0 16) := s_aload_n dX0_feed_15 rfl
theorem eX0_feed_16 : SiZ nX0_feed 16 (i_getf 6 [1] 19) := s_getf dX0_feed_16 (fm_cons (⟨_, _, _, _, _, _, rfl, fkX0_135_1⟩) (fm_nil))
theorem eX0_feed_19 : SiZ nX0_feed 19 (i_push (.int 120) 21) := s_bipush dX0_feed_19 (by decide)
theorem eX0_feed_21 : SiZ nX0_feed 21 (i_icmp (fun x y => ¬ x = y) 27 24) := s_icmp_ne dX0_feed_21 (by decide)
theorem eX0_feed_24 : SiZ nX0_feed 24 (i_push (.int (-1000003)) 26) := s_ldc dX0_feed_24 q509
theorem eX0_feed_26 : SiZ nX0_feed 26 i_iret := s_iret dX0_feed_26 rfl
theorem eX0_feed_27 : SiZ nX0_feed 27 (i_aload 0 28) := s_aload_n dX0_feed_27 rfl
theorem eX0_feed_28 : SiZ nX0_feed 28 (i_getf 5 [1] 31) := s_getf dX0_feed_28 (fm_cons (⟨_, _, _, _, _, _, rfl, fkX0_32_1⟩) (fm_nil))
theorem eX0_feed_31 : SiZ nX0_feed 31 (i_aload 0 32) := s_aload_n dX0_feed_31 rfl
theorem eX0_feed_32 : SiZ nX0_feed 32 (i_dup 33) := s_dup dX0_feed_32
theorem eX0_feed_33 : SiZ nX0_feed 33 (i_getf 6 [1] 36) := s_getf dX0_feed_33 (fm_cons (⟨_, _, _, _, _, _, rfl, fkX0_135_1⟩) (fm_nil))
theorem eX0_feed_36 : SiZ nX0_feed 36 (i_dup_x1 37) := s_dup_x1 dX0_feed_36
theorem eX0_feed_37 : SiZ nX0_feed 37 (i_push (.int 1) 38) := s_iconst dX0_feed_37 (by decide)
theorem eX0_feed_38 : SiZ nX0_feed 38 (i_bin (fun x y => x + y) 39) := s_iadd dX0_feed_38
theorem eX0_feed_39 : SiZ nX0_feed 39 (i_putI 6 [1] 42) := s_putI dX0_feed_39 (fm_cons (⟨_, _, _, _, _, _, rfl, ⟨fkX0_135_1, ⟨_, q298, Or.inl rfl⟩, Or.inl rfl⟩, rfl⟩) (fm_nil))
theorem eX0_feed_42 : SiZ nX0_feed 42 (i_iload 1 43) := s_iload_n dX0_feed_42 rfl
theorem eX0_feed_43 : SiZ nX0_feed 43 (i_un (fun x => x.toInt8.toInt32) 44) := s_i2b dX0_feed_43
theorem eX0_feed_44 : SiZ nX0_feed 44 (i_iast 52 (fun x => x.toInt8.toInt32) 45) := s_ast (j := 1) (by decide) (fun _ => rfl) dX0_feed_44 (Or.inr (Or.inl ⟨rfl, rfl, rfl⟩))
theorem eX0_feed_45 : SiZ nX0_feed 45 (i_aload 0 46) := s_aload_n dX0_feed_45 rfl
theorem eX0_feed_46 : SiZ nX0_feed 46 (i_getf 6 [1] 49) := s_getf dX0_feed_46 (fm_cons (⟨_, _, _, _, _, _, rfl, fkX0_135_1⟩) (fm_nil))
theorem eX0_feed_49 : SiZ nX0_feed 49 i_iret := s_iret dX0_feed_49 rfl
theorem aX0_feed : ∀ x ∈ mX0_feed.1, EnZ nX0_feed x := fm_cons eX0_feed_0 (fm_cons eX0_feed_1 (fm_cons eX0_feed_2 (fm_cons eX0_feed_3 (fm_cons eX0_feed_6 (fm_cons eX0_feed_9 (fm_cons eX0_feed_12 (fm_cons eX0_feed_14 (fm_cons eX0_feed_15 (fm_cons eX0_feed_16 (fm_cons eX0_feed_19 (fm_cons eX0_feed_21 (fm_cons eX0_feed_24 (fm_cons eX0_feed_26 (fm_cons eX0_feed_27 (fm_cons eX0_feed_28 (fm_cons eX0_feed_31 (fm_cons eX0_feed_32 (fm_cons eX0_feed_33 (fm_cons eX0_feed_36 (fm_cons eX0_feed_37 (fm_cons eX0_feed_38 (fm_cons eX0_feed_39 (fm_cons eX0_feed_42 (fm_cons eX0_feed_43 (fm_cons eX0_feed_44 (fm_cons eX0_feed_45 (fm_cons eX0_feed_46 (fm_cons eX0_feed_49 (fm_nil)))))))))))))))))))))))))))))
theorem zX0_feed : SwZ nX0_feed (Mt mX0_feed 2) := wholeZ (mi := nX0_feed) (cd := mX0_feed) aX0_feed rfl (HdZ.none rfl)
abbrev nX12_init : MI := (cX12_init, 3, none, RX12, "<init>", [], 5, 120)
theorem hyX12_init : yX12_init.cls ≠ "java/lang/invoke/MethodHandle" ∧ yX12_init.cls ≠ "java/lang/invoke/VarHandle" := by decide +kernel
theorem pnX12_init : (parseMethodDescriptor yX12_init.desc).map (fun d => d.parameters.length) = some 2 := by decide +kernel
theorem wdX12_init : CdW yX12_init (nX12_init) := ⟨Or.inl ⟨q519, rfl⟩, rfl, rfl, plainFor_of_name (by decide +kernel)⟩
theorem eX12_init_0 : SiZ nX12_init 0 (i_aload 0 1) := s_aload_n dX12_init_0 rfl
theorem eX12_init_1 : SiZ nX12_init 1 (i_oini 4) := s_oini dX12_init_1 q520 (by decide) (by decide)
theorem eX12_init_4 : SiZ nX12_init 4 (i_aload 0 5) := s_aload_n dX12_init_4 rfl
theorem eX12_init_5 : SiZ nX12_init 5 (i_new 2 16 8) := s_new dX12_init_5 q521 q121 q78 clX1 rfl (by decide)
theorem eX12_init_8 : SiZ nX12_init 8 (i_dup 9) := s_dup dX12_init_8
theorem eX12_init_9 : ScZ nX12_init 9 (c_I 0 12 1 (Mt mX1_init 1)) := e_I (mi := nX12_init) (mi' := nX1_init) (len := 3) (fun h b as rest hl => cs_IN (mi := nX12_init) (pc := 9) (y := yX1_init) (idx := 11) dX12_init_9 rfl q522 q123 q124 hyX1_init pnX1_init hl) wdX1_init zX1_init (Nat.le_of_ble_eq_true rfl) (Nat.le_of_ble_eq_true rfl)
theorem eX12_init_12 : SiZ nX12_init 12 (i_putR 153 [12] 15) := s_putR dX12_init_12 (fm_cons (⟨_, _, _, _, _, _, rfl, ⟨fkX12_12_12, ⟨_, q529, Or.inl rfl⟩, Or.inr ⟨rfl, rfl, rfl⟩⟩, (Or.inl ⟨_, rfl⟩)⟩) (fm_nil))
theorem eX12_init_15 : SiZ nX12_init 15 (i_aload 0 16) := s_aload_n dX12_init_15 rfl
theorem eX12_init_16 : SiZ nX12_init 16 (i_aload 1 17) := s_aload_n dX12_init_16 rfl
theorem eX12_init_17 : SiZ nX12_init 17 (i_putR 141 [12] 20) := s_putR dX12_init_17 (fm_cons (⟨_, _, _, _, _, _, rfl, ⟨fkX12_18_12, ⟨_, q523, Or.inl rfl⟩, Or.inr ⟨rfl, rfl, rfl⟩⟩, (Or.inr ⟨_, rfl⟩)⟩) (fm_nil))
theorem eX12_init_20 : SiZ nX12_init 20 (i_aload 0 21) := s_aload_n dX12_init_20 rfl
theorem eX12_init_21 : SiZ nX12_init 21 (i_iload 2 22) := s_iload_n dX12_init_21 rfl
theorem eX12_init_22 : SiZ nX12_init 22 (i_putI 142 [12] 25) := s_putI dX12_init_22 (fm_cons (⟨_, _, _, _, _, _, rfl, ⟨fkX12_22_12, ⟨_, q524, Or.inl rfl⟩, Or.inr ⟨rfl, rfl, rfl⟩⟩, rfl⟩) (fm_nil))
theorem eX12_init_25 : SiZ nX12_init 25 i_vret := s_vret dX12_init_25 rfl
theorem aX12_init : ∀ x ∈ mX12_init.1, EnZ nX12_init x := fm_cons eX12_init_0 (fm_cons eX12_init_1 (fm_cons eX12_init_4 (fm_cons eX12_init_5 (fm_cons eX12_init_8 (fm_cons eX12_init_9 (fm_cons eX12_init_12 (fm_cons eX12_init_15 (fm_cons eX12_init_16 (fm_cons eX12_init_17 (fm_cons eX12_init_20 (fm_cons eX12_init_21 (fm_cons eX12_init_22 (fm_cons eX12_init_25 (fm_nil))))))))))))))
theorem zX12_init : SwZ nX12_init (Mt mX12_init 3) := wholeZ (mi := nX12_init) (cd := mX12_init) aX12_init rfl (HdZ.none rfl)
abbrev nX12_look : MI := (cX12_look, 1, (some (.int)), RX12, "look", [], 0, 0)
theorem hyX12_look : yX12_look.cls ≠ "java/lang/invoke/MethodHandle" ∧ yX12_look.cls ≠ "java/lang/invoke/VarHandle" := by decide +kernel
theorem pnX12_look : (parseMethodDescriptor yX12_look.desc).map (fun d => d.parameters.length) = some 0 := by decide +kernel
theorem wdX12_look : CdW yX12_look (nX12_look) := ⟨Or.inl ⟨q557, rfl⟩, rfl, rfl, plainFor_of_name (by decide +kernel)⟩
theorem eX12_look_0 : SiZ nX12_look 0 (i_aload 0 1) := s_aload_n dX12_look_0 rfl
theorem eX12_look_1 : SiZ nX12_look 1 (i_getf 144 [12] 4) := s_getf dX12_look_1 (fm_cons (⟨_, _, _, _, _, _, rfl, fkX12_26_12⟩) (fm_nil))
theorem eX12_look_4 : SiZ nX12_look 4 (i_aload 0 5) := s_aload_n dX12_look_4 rfl
theorem eX12_look_5 : SiZ nX12_look 5 (i_getf 142 [12] 8) := s_getf dX12_look_5 (fm_cons (⟨_, _, _, _, _, _, rfl, fkX12_22_12⟩) (fm_nil))
theorem eX12_look_8 : SiZ nX12_look 8 (i_icmp (fun x y => y ≤ x) 27 11) := s_icmp_ge dX12_look_8 (by decide)
theorem eX12_look_11 : SiZ nX12_look 11 (i_aload 0 12) := s_aload_n dX12_look_11 rfl
theorem eX12_look_12 : SiZ nX12_look 12 (i_getf 141 [12] 15) := s_getf dX12_look_12 (fm_cons (⟨_, _, _, _, _, _, rfl, fkX12_18_12⟩) (fm_nil))
theorem eX12_look_15 : SiZ nX12_look 15 (i_aload 0 16) := s_aload_n dX12_look_15 rfl
theorem eX12_look_16 : SiZ nX12_look 16 (i_getf 144 [12] 19) := s_getf dX12_look_16 (fm_cons (⟨_, _, _, _, _, _, rfl, fkX12_26_12⟩) (fm_nil))
theorem eX12_look_19 : SiZ nX12_look 19 (i_iald 52 20) := s_ald (j := 1) (by decide) (fun _ => rfl) dX12_look_19 (Or.inr (Or.inl ⟨rfl, rfl⟩))
theorem eX12_look_20 : SiZ nX12_look 20 (i_push (.int 255) 23) := s_sipush dX12_look_20 (by decide)
theorem eX12_look_23 : SiZ nX12_look 23 (i_bin (fun x y => x &&& y) 24) := s_iand dX12_look_23
theorem eX12_look_24 : SiZ nX12_look 24 (i_goto 29) := s_goto dX12_look_24 (by decide)
theorem eX12_look_27 : SiZ nX12_look 27 (i_push (.int (-1000000)) 29) := s_ldc dX12_look_27 q558
theorem eX12_look_29 : SiZ nX12_look 29 i_iret := s_iret dX12_look_29 rfl
theorem aX12_look : ∀ x ∈ mX12_look.1, EnZ nX12_look x := fm_cons eX12_look_0 (fm_cons eX12_look_1 (fm_cons eX12_look_4 (fm_cons eX12_look_5 (fm_cons eX12_look_8 (fm_cons eX12_look_11 (fm_cons eX12_look_12 (fm_cons eX12_look_15 (fm_cons eX12_look_16 (fm_cons eX12_look_19 (fm_cons eX12_look_20 (fm_cons eX12_look_23 (fm_cons eX12_look_24 (fm_cons eX12_look_27 (fm_cons eX12_look_29 (fm_nil)))))))))))))))
theorem zX12_look : SwZ nX12_look (Mt mX12_look 1) := wholeZ (mi := nX12_look) (cd := mX12_look) aX12_look rfl (HdZ.none rfl)
abbrev nX12_next : MI := (cX12_next, 2, none, RX12, "next", [], 1, 29)
theorem hyX12_next : yX12_next.cls ≠ "java/lang/invoke/MethodHandle" ∧ yX12_next.cls ≠ "java/lang/invoke/VarHandle" := by decide +kernel
theorem pnX12_next : (parseMethodDescriptor yX12_next.desc).map (fun d => d.parameters.length) = some 0 := by decide +kernel
theorem wdX12_next : CdW yX12_next (nX12_next) := ⟨Or.inl ⟨q553, rfl⟩, rfl, rfl, plainFor_of_name (by decide +kernel)⟩
theorem eX12_next_0 : SiZ nX12_next 0 (i_aload 0 1) := s_aload_n dX12_next_0 rfl
theorem eX12_next_1 : SiZ nX12_next 1 (i_aload 0 2) := s_aload_n dX12_next_1 rfl
theorem eX12_next_2 : SiZ nX12_next 2 (i_getf 144 [12] 5) := s_getf dX12_next_2 (fm_cons (⟨_, _, _, _, _, _, rfl, fkX12_26_12⟩) (fm_nil))
theorem eX12_next_5 : SiZ nX12_next 5 (i_putI 148 [12] 8) := s_putI dX12_next_5 (fm_cons (⟨_, _, _, _, _, _, rfl, ⟨fkX12_30_12, ⟨_, q527, Or.inl rfl⟩, Or.inl rfl⟩, rfl⟩) (fm_nil))
theorem eX12_next_8 : SiZ nX12_next 8 (i_aload 0 9) := s_aload_n dX12_next_8 rfl
theorem eX12_next_9 : ScZ nX12_next 9 (c_V 0 12 1 12 (Mt mX12_look 1)) := e_V (mi := nX12_next) (mi' := nX12_look) (len := 3) (fun h b as rest hk hl => cs_V (ci := 11) (mi := nX12_next) (pc := 9) (y := yX12_look) (idx := 33) dX12_next_9 q554 q556 qs5 rfl hk hyX12_look (sigC q557) pnX12_look hl) wdX12_look zX12_look (Nat.le_of_ble_eq_true rfl) (Nat.le_of_ble_eq_true rfl)
theorem eX12_next_12 : SiZ nX12_next 12 (i_istore 1 13) := s_istore_n dX12_next_12 rfl
theorem eX12_next_13 : SiZ nX12_next 13 (i_aload 0 14) := s_aload_n dX12_next_13 rfl
theorem eX12_next_14 : SiZ nX12_next 14 (i_iload 1 15) := s_iload_n dX12_next_14 rfl
theorem eX12_next_15 : SiZ nX12_next 15 (i_putI 150 [12] 18) := s_putI dX12_next_15 (fm_cons (⟨_, _, _, _, _, _, rfl, ⟨fkX12_37_12, ⟨_, q528, Or.inl rfl⟩, Or.inl rfl⟩, rfl⟩) (fm_nil))
theorem eX12_next_18 : SiZ nX12_next 18 (i_iload 1 19) := s_iload_n dX12_next_18 rfl
theorem eX12_next_19 : SiZ nX12_next 19 (i_push (.int (-1000000)) 21) := s_ldc dX12_next_19 q558
theorem eX12_next_21 : SiZ nX12_next 21 (i_icmp (fun x y => ¬ x = y) 32 24) := s_icmp_ne dX12_next_21 (by decide)
theorem eX12_next_24 : SiZ nX12_next 24 (i_aload 0 25) := s_aload_n dX12_next_24 rfl
theorem eX12_next_25 : SiZ nX12_next 25 (i_push (.int 0) 26) := s_iconst dX12_next_25 (by decide)
theorem eX12_next_26 : SiZ nX12_next 26 (i_putI 146 [12] 29) := s_putI dX12_next_26 (fm_cons (⟨_, _, _, _, _, _, rfl, ⟨fkX12_40_12, ⟨_, q526, Or.inl rfl⟩, Or.inl rfl⟩, rfl⟩) (fm_nil))
theorem eX12_next_29 : SiZ nX12_next 29 (i_goto 198) := s_goto dX12_next_29 (by decide)
theorem eX12_next_32 : SiZ nX12_next 32 (i_iload 1 33) := s_iload_n dX12_next_32 rfl
theorem eX12_next_33 : SiZ nX12_next 33 (i_i2l 34) := s_i2l dX12_next_33
theorem eX12_next_34 : SiZ nX12_next 34 (i_push (.long 48) 37) := s_ldc2 dX12_next_34 q559
theorem eX12_next_37 : SiZ nX12_next 37 (i_push (.long 57) 40) := s_ldc2 dX12_next_37 q560
theorem eX12_next_40 : ScZ nX12_next 40 (c_S 3 43 6 (Mt mX0_isIn 6)) := e_S (mi := nX12_next) (mi' := nX0_isIn) (len := 3) (fun h as rest hl => cs_SN (mi := nX12_next) (pc := 40) (y := yX0_isIn) (idx := 47) dX12_next_40 q561 q352 q77 q353 hyX0_isIn pnX0_isIn hl) wdX0_isIn zX0_isIn (Nat.le_of_ble_eq_true rfl) (Nat.le_of_ble_eq_true rfl)
theorem eX12_next_43 : SiZ nX12_next 43 (i_if (fun x => x = 0) 145 46) := s_if_eq dX12_next_43 (by decide)
theorem eX12_next_46 : SiZ nX12_next 46 (i_aload 0 47) := s_aload_n dX12_next_46 rfl
theorem eX12_next_47 : SiZ nX12_next 47 (i_push (.int 0) 48) := s_iconst dX12_next_47 (by decide)
theorem eX12_next_48 : SiZ nX12_next 48 (i_putI 150 [12] 51) := s_putI dX12_next_48 (fm_cons (⟨_, _, _, _, _, _, rfl, ⟨fkX12_37_12, ⟨_, q528, Or.inl rfl⟩, Or.inl rfl⟩, rfl⟩) (fm_nil))
theorem eX12_next_51 : SiZ nX12_next 51 (i_aload 0 52) := s_aload_n dX12_next_51 rfl
theorem eX12_next_52 : ScZ nX12_next 52 (c_V 0 55 1 12 (Mt mX12_look 1)) := e_V (mi := nX12_next) (mi' := nX12_look) (len := 3) (fun h b as rest hk hl => cs_V (ci := 11) (mi := nX12_next) (pc := 52) (y := yX12_look) (idx := 33) dX12_next_52 q554 q556 qs5 rfl hk hyX12_look (sigC q557) pnX12_look hl) wdX12_look zX12_look (Nat.le_of_ble_eq_true rfl) (Nat.le_of_ble_eq_true rfl)
theorem eX12_next_55 : SiZ nX12_next 55 (i_i2l 56) := s_i2l dX12_next_55
theorem eX12_next_56 : SiZ nX12_next 56 (i_push (.long 48) 59) := s_ldc2 dX12_next_56 q559
theorem eX12_next_59 : SiZ nX12_next 59 (i_push (.long 57) 62) := s_ldc2 dX12_next_59 q560
theorem eX12_next_62 : ScZ nX12_next 62 (c_S 3 65 6 (Mt mX0_isIn 6)) := e_S (mi := nX12_next) (mi' := nX0_isIn) (len := 3) (fun h as rest hl => cs_SN (mi := nX12_next) (pc := 62) (y := yX0_isIn) (idx := 47) dX12_next_62 q561 q352 q77 q353 hyX0_isIn pnX0_isIn hl) wdX0_isIn zX0_isIn (Nat.le_of_ble_eq_true rfl) (Nat.le_of_ble_eq_true rfl)
theorem eX12_next_65 : SiZ nX12_next 65 (i_if (fun x => x = 0) 120 68) := s_if_eq dX12_next_65 (by decide)
theorem eX12_next_68 : SiZ nX12_next 68 (i_aload 0 69) := s_aload_n dX12_next_68 rfl
theorem eX12_next_69 : SiZ nX12_next 69 (i_aload 0 70) := s_aload_n dX12_next_69 rfl
theorem eX12_next_70 : SiZ nX12_next 70 (i_getf 144 [12] 73) := s_getf dX12_next_70 (fm_cons (⟨_, _, _, _, _, _, rfl, fkX12_26_12⟩) (fm_nil))
theorem eX12_next_73 : SiZ nX12_next 73 (i_aload 0 74) := s_aload_n dX12_next_73 rfl
theorem eX12_next_74 : SiZ nX12_next 74 (i_getf 148 [12] 77) := s_getf dX12_next_74 (fm_cons (⟨_, _, _, _, _, _, rfl, fkX12_30_12⟩) (fm_nil))
theorem eX12_next_77 : SiZ nX12_next 77 (i_bin (fun x y => x - y) 78) := s_isub dX12_next_77
theorem eX12_next_78 : SiZ nX12_next 78 (i_push (.int 2) 79) := s_iconst dX12_next_78 (by decide)
theorem eX12_next_79 : SiZ nX12_next 79 (i_icmp (fun x y => y ≤ x) 100 82) := s_icmp_ge dX12_next_79 (by decide)
theorem eX12_next_82 : SiZ nX12_next 82 (i_push (.int 10) 84) := s_bipush dX12_next_82 (by decide)
theorem eX12_next_84 : SiZ nX12_next 84 (i_aload 0 85) := s_aload_n dX12_next_84 rfl
theorem eX12_next_85 : SiZ nX12_next 85 (i_getf 150 [12] 88) := s_getf dX12_next_85 (fm_cons (⟨_, _, _, _, _, _, rfl, fkX12_37_12⟩) (fm_nil))
theorem eX12_next_88 : SiZ nX12_next 88 (i_bin (fun x y => x * y) 89) := s_imul dX12_next_88
theorem eX12_next_89 : SiZ nX12_next 89 (i_aload 0 90) := s_aload_n dX12_next_89 rfl
theorem eX12_next_90 : ScZ nX12_next 90 (c_V 0 93 1 12 (Mt mX12_look 1)) := e_V (mi := nX12_next) (mi' := nX12_look) (len := 3) (fun h b as rest hk hl => cs_V (ci := 11) (mi := nX12_next) (pc := 90) (y := yX12_look) (idx := 33) dX12_next_90 q554 q556 qs5 rfl hk hyX12_look (sigC q557) pnX12_look hl) wdX12_look zX12_look (Nat.le_of_ble_eq_true rfl) (Nat.le_of_ble_eq_true rfl)
theorem eX12_next_93 : SiZ nX12_next 93 (i_bin (fun x y => x + y) 94) := s_iadd dX12_next_93
theorem eX12_next_94 : SiZ nX12_next 94 (i_push (.int 48) 96) := s_bipush dX12_next_94 (by decide)
theorem eX12_next_96 : SiZ nX12_next 96 (i_bin (fun x y => x - y) 97) := s_isub dX12_next_96
theorem eX12_next_97 : SiZ nX12_next 97 (i_goto 104) := s_goto dX12_next_97 (by decide)
theorem eX12_next_100 : SiZ nX12_next 100 (i_aload 0 101) := s_aload_n dX12_next_100 rfl
theorem eX12_next_101 : SiZ nX12_next 101 (i_getf 150 [12] 104) := s_getf dX12_next_101 (fm_cons (⟨_, _, _, _, _, _, rfl, fkX12_37_12⟩) (fm_nil))
theorem eX12_next_104 : SiZ nX12_next 104 (i_putI 150 [12] 107) := s_putI dX12_next_104 (fm_cons (⟨_, _, _, _, _, _, rfl, ⟨fkX12_37_12, ⟨_, q528, Or.inl rfl⟩, Or.inl rfl⟩, rfl⟩) (fm_nil))
theorem eX12_next_107 : SiZ nX12_next 107 (i_aload 0 108) := s_aload_n dX12_next_107 rfl
theorem eX12_next_108 : SiZ nX12_next 108 (i_dup 109) := s_dup dX12_next_108
theorem eX12_next_109 : SiZ nX12_next 109 (i_getf 144 [12] 112) := s_getf dX12_next_109 (fm_cons (⟨_, _, _, _, _, _, rfl, fkX12_26_12⟩) (fm_nil))
theorem eX12_next_112 : SiZ nX12_next 112 (i_push (.int 1) 113) := s_iconst dX12_next_112 (by decide)
theorem eX12_next_113 : SiZ nX12_next 113 (i_bin (fun x y => x + y) 114) := s_iadd dX12_next_113
theorem eX12_next_114 : SiZ nX12_next 114 (i_putI 144 [12] 117) := s_putI dX12_next_114 (fm_cons (⟨_, _, _, _, _, _, rfl, ⟨fkX12_26_12, ⟨_, q525, Or.inl rfl⟩, Or.inl rfl⟩, rfl⟩) (fm_nil))
theorem eX12_next_117 : SiZ nX12_next 117 (i_goto 51) := s_goto dX12_next_117 (by decide)
theorem eX12_next_120 : SiZ nX12_next 120 (i_aload 0 121) := s_aload_n dX12_next_120 rfl
theorem eX12_next_121 : SiZ nX12_next 121 (i_aload 0 122) := s_aload_n dX12_next_121 rfl
theorem eX12_next_122 : SiZ nX12_next 122 (i_getf 144 [12] 125) := s_getf dX12_next_122 (fm_cons (⟨_, _, _, _, _, _, rfl, fkX12_26_12⟩) (fm_nil))
theorem eX12_next_125 : SiZ nX12_next 125 (i_aload 0 126) := s_aload_n dX12_next_125 rfl
theorem eX12_next_126 : SiZ nX12_next 126 (i_getf 148 [12] 129) := s_getf dX12_next_126 (fm_cons (⟨_, _, _, _, _, _, rfl, fkX12_30_12⟩) (fm_nil))
theorem eX12_next_129 : SiZ nX12_next 129 (i_bin (fun x y => x - y) 130) := s_isub dX12_next_129
theorem eX12_next_130 : SiZ nX12_next 130 (i_push (.int 2) 131) := s_iconst dX12_next_130 (by decide)
theorem eX12_next_131 : SiZ nX12_next 131 (i_icmp (fun x y => y < x) 138 134) := s_icmp_gt dX12_next_131 (by decide)
theorem eX12_next_134 : SiZ nX12_next 134 (i_push (.int 2) 135) := s_iconst dX12_next_134 (by decide)
theorem eX12_next_135 : SiZ nX12_next 135 (i_goto 139) := s_goto dX12_next_135 (by decide)
theorem eX12_next_138 : SiZ nX12_next 138 (i_push (.int 5) 139) := s_iconst dX12_next_138 (by decide)
theorem eX12_next_139 : SiZ nX12_next 139 (i_putI 146 [12] 142) := s_putI dX12_next_139 (fm_cons (⟨_, _, _, _, _, _, rfl, ⟨fkX12_40_12, ⟨_, q526, Or.inl rfl⟩, Or.inl rfl⟩, rfl⟩) (fm_nil))
theorem eX12_next_142 : SiZ nX12_next 142 (i_goto 198) := s_goto dX12_next_142 (by decide)
theorem eX12_next_145 : SiZ nX12_next 145 (i_aload 0 146) := s_aload_n dX12_next_145 rfl
theorem eX12_next_146 : SiZ nX12_next 146 (i_dup 147) := s_dup dX12_next_146
theorem eX12_next_147 : SiZ nX12_next 147 (i_getf 144 [12] 150) := s_getf dX12_next_147 (fm_cons (⟨_, _, _, _, _, _, rfl, fkX12_26_12⟩) (fm_nil))
theorem eX12_next_150 : SiZ nX12_next 150 (i_push (.int 1) 151) := s_iconst dX12_next_150 (by decide)
theorem eX12_next_151 : SiZ nX12_next 151 (i_bin (fun x y => x + y) 152) := s_iadd dX12_next_151
theorem eX12_next_152 : SiZ nX12_next 152 (i_putI 144 [12] 155) := s_putI dX12_next_152 (fm_cons (⟨_, _, _, _, _, _, rfl, ⟨fkX12_26_12, ⟨_, q525, Or.inl rfl⟩, Or.inl rfl⟩, rfl⟩) (fm_nil))
theorem eX12_next_155 : SiZ nX12_next 155 (i_aload 0 156) := s_aload_n dX12_next_155 rfl
theorem eX12_next_156 : SiZ nX12_next 156 (i_iload 1 157) := s_iload_n dX12_next_156 rfl
theorem eX12_next_157 : SiZ nX12_next 157 (i_i2l 158) := s_i2l dX12_next_157
theorem eX12_next_158 : SiZ nX12_next 158 (i_push (.long 97) 161) := s_ldc2 dX12_next_158 q562
theorem eX12_next_161 : SiZ nX12_next 161 (i_push (.long 122) 164) := s_ldc2 dX12_next_161 q563
theorem eX12_next_164 : ScZ nX12_next 164 (c_S 3 167 6 (Mt mX0_isIn 6)) := e_S (mi := nX12_next) (mi' := nX0_isIn) (len := 3) (fun h as rest hl => cs_SN (mi := nX12_next) (pc := 164) (y := yX0_isIn) (idx := 47) dX12_next_164 q561 q352 q77 q353 hyX0_isIn pnX0_isIn hl) wdX0_isIn zX0_isIn (Nat.le_of_ble_eq_true rfl) (Nat.le_of_ble_eq_true rfl)
theorem eX12_next_167 : SiZ nX12_next 167 (i_if (fun x => x = 0) 174 170) := s_if_eq dX12_next_167 (by decide)
theorem eX12_next_170 : SiZ nX12_next 170 (i_push (.int 1) 171) := s_iconst dX12_next_170 (by decide)
theorem eX12_next_171 : SiZ nX12_next 171 (i_goto 195) := s_goto dX12_next_171 (by decide)
theorem eX12_next_174 : SiZ nX12_next 174 (i_iload 1 175) := s_iload_n dX12_next_174 rfl
theorem eX12_next_175 : SiZ nX12_next 175 (i_push (.int 44) 177) := s_bipush dX12_next_175 (by decide)
theorem eX12_next_177 : SiZ nX12_next 177 (i_icmp (fun x y => ¬ x = y) 184 180) := s_icmp_ne dX12_next_177 (by decide)
theorem eX12_next_180 : SiZ nX12_next 180 (i_push (.int 3) 181) := s_iconst dX12_next_180 (by decide)
theorem eX12_next_181 : SiZ nX12_next 181 (i_goto 195) := s_goto dX12_next_181 (by decide)
theorem eX12_next_184 : SiZ nX12_next 184 (i_iload 1 185) := s_iload_n dX12_next_184 rfl
theorem eX12_next_185 : SiZ nX12_next 185 (i_push (.int 59) 187) := s_bipush dX12_next_185 (by decide)
theorem eX12_next_187 : SiZ nX12_next 187 (i_icmp (fun x y => ¬ x = y) 194 190) := s_icmp_ne dX12_next_187 (by decide)
theorem eX12_next_190 : SiZ nX12_next 190 (i_push (.int 4) 191) := s_iconst dX12_next_190 (by decide)
theorem eX12_next_191 : SiZ nX12_next 191 (i_goto 195) := s_goto dX12_next_191 (by decide)
theorem eX12_next_194 : SiZ nX12_next 194 (i_push (.int 5) 195) := s_iconst dX12_next_194 (by decide)
theorem eX12_next_195 : SiZ nX12_next 195 (i_putI 146 [12] 198) := s_putI dX12_next_195 (fm_cons (⟨_, _, _, _, _, _, rfl, ⟨fkX12_40_12, ⟨_, q526, Or.inl rfl⟩, Or.inl rfl⟩, rfl⟩) (fm_nil))
theorem eX12_next_198 : SiZ nX12_next 198 i_vret := s_vret dX12_next_198 rfl
theorem aX12_next : ∀ x ∈ mX12_next.1, EnZ nX12_next x := fm_cons eX12_next_0 (fm_cons eX12_next_1 (fm_cons eX12_next_2 (fm_cons eX12_next_5 (fm_cons eX12_next_8 (fm_cons eX12_next_9 (fm_cons eX12_next_12 (fm_cons eX12_next_13 (fm_cons eX12_next_14 (fm_cons eX12_next_15 (fm_cons eX12_next_18 (fm_cons eX12_next_19 (fm_cons eX12_next_21 (fm_cons eX12_next_24 (fm_cons eX12_next_25 (fm_cons eX12_next_26 (fm_cons eX12_next_29 (fm_cons eX12_next_32 (fm_cons eX12_next_33 (fm_cons eX12_next_34 (fm_cons eX12_next_37 (fm_cons eX12_next_40 (fm_cons eX12_next_43 (fm_cons eX12_next_46 (fm_cons eX12_next_47 (fm_cons eX12_next_48 (fm_cons eX12_next_51 (fm_cons eX12_next_52 (fm_cons eX12_next_55 (fm_cons eX12_next_56 (fm_cons eX12_next_59 (fm_cons eX12_next_62 (fm_cons eX12_next_65 (fm_cons eX12_next_68 (fm_cons eX12_next_69 (fm_cons eX12_next_70 (fm_cons eX12_next_73 (fm_cons eX12_next_74 (fm_cons eX12_next_77 (fm_cons eX12_next_78 (fm_cons eX12_next_79 (fm_cons eX12_next_82 (fm_cons eX12_next_84 (fm_cons eX12_next_85 (fm_cons eX12_next_88 (fm_cons eX12_next_89 (fm_cons eX12_next_90 (fm_cons eX12_next_93 (fm_cons eX12_next_94 (fm_cons eX12_next_96 (fm_cons eX12_next_97 (fm_cons eX12_next_100 (fm_cons eX12_next_101 (fm_cons eX12_next_104 (fm_cons eX12_next_107 (fm_cons eX12_next_108 (fm_cons eX12_next_109 (fm_cons eX12_next_112 (fm_cons eX12_next_113 (fm_cons eX12_next_114 (fm_cons eX12_next_117 (fm_cons eX12_next_120 (fm_cons eX12_next_121 (fm_cons eX12_next_122 (fm_cons eX12_next_125 (fm_cons eX12_next_126 (fm_cons eX12_next_129 (fm_cons eX12_next_130 (fm_cons eX12_next_131 (fm_cons eX12_next_134 (fm_cons eX12_next_135 (fm_cons eX12_next_138 (fm_cons eX12_next_139 (fm_cons eX12_next_142 (fm_cons eX12_next_145 (fm_cons eX12_next_146 (fm_cons eX12_next_147 (fm_cons eX12_next_150 (fm_cons eX12_next_151 (fm_cons eX12_next_152 (fm_cons eX12_next_155 (fm_cons eX12_next_156 (fm_cons eX12_next_157 (fm_cons eX12_next_158 (fm_cons eX12_next_161 (fm_cons eX12_next_164 (fm_cons eX12_next_167 (fm_cons eX12_next_170 (fm_cons eX12_next_171 (fm_cons eX12_next_174 (fm_cons eX12_next_175 (fm_cons eX12_next_177 (fm_cons eX12_next_180 (fm_cons eX12_next_181 (fm_cons eX12_next_184 (fm_cons eX12_next_185 (fm_cons eX12_next_187 (fm_cons eX12_next_190 (fm_cons eX12_next_191 (fm_cons eX12_next_194 (fm_cons eX12_next_195 (fm_cons eX12_next_198 (fm_nil))))))))))))))))))))))))))))))))))))))))))))))))))))))))))))))))))))))))))))))))))))))))))))))))))))))
theorem zX12_next : SwZ nX12_next (Mt mX12_next 2) := wholeZ (mi := nX12_next) (cd := mX12_next) aX12_next rfl (HdZ.none rfl)
abbrev nX12_isLetter : MI := (cX12_isLetter, 2, (some (.boolean)), RX12, "isLetter", [], 0, 0)
theorem hyX12_isLetter : yX12_isLetter.cls ≠ "java/lang/invoke/MethodHandle" ∧ yX12_isLetter.cls ≠ "java/lang/invoke/VarHandle" := by decide +kernel
theorem pnX12_isLetter : (parseMethodDescriptor yX12_isLetter.desc).map (fun d => d.parameters.length) = some 1 := by decide +kernel
theorem wdX12_isLetter : CdW yX12_isLetter (nX12_isLetter) := ⟨Or.inl ⟨q567, rfl⟩, rfl, rfl, plainFor_of_name (by decide +kernel)⟩
theorem eX12_isLetter_0 : SiZ nX12_isLetter 0 (i_aload 0 1) := s_aload_n dX12_isLetter_0 rfl
theorem eX12_isLetter_1 : SiZ nX12_isLetter 1 (i_getf 146 [12] 4) := s_getf dX12_isLetter_1 (fm_cons (⟨_, _, _, _, _, _, rfl, fkX12_40_12⟩) (fm_nil))
theorem eX12_isLetter_4 : SiZ nX12_isLetter 4 (i_push (.int 1) 5) := s_iconst dX12_isLetter_4 (by decide)
theorem eX12_isLetter_5 : SiZ nX12_isLetter 5 (i_icmp (fun x y => ¬ x = y) 20 8) := s_icmp_ne dX12_isLetter_5 (by decide)
theorem eX12_isLetter_8 : SiZ nX12_isLetter 8 (i_aload 0 9) := s_aload_n dX12_isLetter_8 rfl
theorem eX12_isLetter_9 : SiZ nX12_isLetter 9 (i_getf 150 [12] 12) := s_getf dX12_isLetter_9 (fm_cons (⟨_, _, _, _, _, _, rfl, fkX12_37_12⟩) (fm_nil))
theorem eX12_isLetter_12 : SiZ nX12_isLetter 12 (i_iload 1 13) := s_iload_n dX12_isLetter_12 rfl
theorem eX12_isLetter_13 : SiZ nX12_isLetter 13 (i_icmp (fun x y => ¬ x = y) 20 16) := s_icmp_ne dX12_isLetter_13 (by decide)
theorem eX12_isLetter_16 : SiZ nX12_isLetter 16 (i_push (.int 1) 17) := s_iconst dX12_isLetter_16 (by decide)
theorem eX12_isLetter_17 : SiZ nX12_isLetter 17 (i_goto 21) := s_goto dX12_isLetter_17 (by decide)
theorem eX12_isLetter_20 : SiZ nX12_isLetter 20 (i_push (.int 0) 21) := s_iconst dX12_isLetter_20 (by decide)
theorem eX12_isLetter_21 : SiZ nX12_isLetter 21 i_zret := s_zret dX12_isLetter_21 rfl
theorem aX12_isLetter : ∀ x ∈ mX12_isLetter.1, EnZ nX12_isLetter x := fm_cons eX12_isLetter_0 (fm_cons eX12_isLetter_1 (fm_cons eX12_isLetter_4 (fm_cons eX12_isLetter_5 (fm_cons eX12_isLetter_8 (fm_cons eX12_isLetter_9 (fm_cons eX12_isLetter_12 (fm_cons eX12_isLetter_13 (fm_cons eX12_isLetter_16 (fm_cons eX12_isLetter_17 (fm_cons eX12_isLetter_20 (fm_cons eX12_isLetter_21 (fm_nil))))))))))))
theorem zX12_isLetter : SwZ nX12_isLetter (Mt mX12_isLetter 2) := wholeZ (mi := nX12_isLetter) (cd := mX12_isLetter) aX12_isLetter rfl (HdZ.none rfl)
abbrev nX13_init : MI := (cX13_init, 3, none, RX13, "<init>", [], 3, 80)
theorem hyX13_init : yX13_init.cls ≠ "java/lang/invoke/MethodHandle" ∧ yX13_init.cls ≠ "java/lang/invoke/VarHandle" := by decide +kernel
theorem pnX13_init : (parseMethodDescriptor yX13_init.desc).map (fun d => d.parameters.length) = some 2 := by decide +kernel
theorem wdX13_init : CdW yX13_init (nX13_init) := ⟨Or.inl ⟨q583, rfl⟩, rfl, rfl, plainFor_of_name (by decide +kernel)⟩
theorem eX13_init_0 : SiZ nX13_init 0 (i_aload 0 1) := s_aload_n dX13_init_0 rfl
theorem eX13_init_1 : SiZ nX13_init 1 (i_push (.null) 2) := s_null dX13_init_1
theorem eX13_init_2 : SiZ nX13_init 2 (i_push (.null) 3) := s_null dX13_init_2
theorem eX13_init_3 : SiZ nX13_init 3 (i_push (.int 0) 4) := s_iconst dX13_init_3 (by decide)
theorem eX13_init_4 : SiZ nX13_init 4 (i_push (.int 0) 5) := s_iconst dX13_init_4 (by decide)
theorem eX13_init_5 : ScZ nX13_init 5 (c_I 4 8 5 (Mt mJ4_init 5)) := e_I (mi := nX13_init) (mi' := nJ4_init) (len := 3) (fun h b as rest hl => cs_I (mi := nX13_init) (pc := 5) (y := yJ4_init) (idx := 1) dX13_init_5 rfl q584 q402 q403 hyJ4_init pnJ4_init hl) wdJ4_init zJ4_init (Nat.le_of_ble_eq_true rfl) (Nat.le_of_ble_eq_true rfl)
theorem eX13_init_8 : SiZ nX13_init 8 (i_aload 0 9) := s_aload_n dX13_init_8 rfl
theorem eX13_init_9 : SiZ nX13_init 9 (i_iload 1 10) := s_iload_n dX13_init_9 rfl
theorem eX13_init_10 : SiZ nX13_init 10 (i_putI 154 [13] 13) := s_putI dX13_init_10 (fm_cons (⟨_, _, _, _, _, _, rfl, ⟨fkX13_7_13, ⟨_, q585, Or.inl rfl⟩, Or.inr ⟨rfl, rfl, rfl⟩⟩, rfl⟩) (fm_nil))
theorem eX13_init_13 : SiZ nX13_init 13 (i_aload 0 14) := s_aload_n dX13_init_13 rfl
theorem eX13_init_14 : SiZ nX13_init 14 (i_iload 2 15) := s_iload_n dX13_init_14 rfl
theorem eX13_init_15 : SiZ nX13_init 15 (i_putI 156 [13] 18) := s_putI dX13_init_15 (fm_cons (⟨_, _, _, _, _, _, rfl, ⟨fkX13_13_13, ⟨_, q587, Or.inl rfl⟩, Or.inr ⟨rfl, rfl, rfl⟩⟩, rfl⟩) (fm_nil))
theorem eX13_init_18 : SiZ nX13_init 18 i_vret := s_vret dX13_init_18 rfl
theorem aX13_init : ∀ x ∈ mX13_init.1, EnZ nX13_init x := fm_cons eX13_init_0 (fm_cons eX13_init_1 (fm_cons eX13_init_2 (fm_cons eX13_init_3 (fm_cons eX13_init_4 (fm_cons eX13_init_5 (fm_cons eX13_init_8 (fm_cons eX13_init_9 (fm_cons eX13_init_10 (fm_cons eX13_init_13 (fm_cons eX13_init_14 (fm_cons eX13_init_15 (fm_cons eX13_init_18 (fm_nil)))))))))))))
theorem zX13_init : SwZ nX13_init (Mt mX13_init 3) := wholeZ (mi := nX13_init) (cd := mX13_init) aX13_init rfl (HdZ.none rfl)
abbrev nX12_must : MI := (cX12_must, 3, none, RX12, "must", [], 4, 106)
theorem hyX12_must : yX12_must.cls ≠ "java/lang/invoke/MethodHandle" ∧ yX12_must.cls ≠ "java/lang/invoke/VarHandle" := by decide +kernel
theorem pnX12_must : (parseMethodDescriptor yX12_must.desc).map (fun d => d.parameters.length) = some 2 := by decide +kernel
theorem wdX12_must : CdW yX12_must (nX12_must) := ⟨Or.inl ⟨q571, rfl⟩, rfl, rfl, plainFor_of_name (by decide +kernel)⟩
theorem eX12_must_0 : SiZ nX12_must 0 (i_iload 1 1) := s_iload_n dX12_must_0 rfl
theorem eX12_must_1 : SiZ nX12_must 1 (i_if (fun x => ¬ x = 0) 17 4) := s_if_ne dX12_must_1 (by decide)
theorem eX12_must_4 : SiZ nX12_must 4 (i_new 13 8 7) := s_new dX12_must_4 q572 q573 q100 clX13 rfl (by decide)
theorem eX12_must_7 : SiZ nX12_must 7 (i_dup 8) := s_dup dX12_must_7
theorem eX12_must_8 : SiZ nX12_must 8 (i_iload 2 9) := s_iload_n dX12_must_8 rfl
theorem eX12_must_9 : SiZ nX12_must 9 (i_aload 0 10) := s_aload_n dX12_must_9 rfl
theorem eX12_must_10 : SiZ nX12_must 10 (i_getf 148 [12] 13) := s_getf dX12_must_10 (fm_cons (⟨_, _, _, _, _, _, rfl, fkX12_30_12⟩) (fm_nil))
theorem eX12_must_13 : ScZ nX12_must 13 (c_I 2 16 3 (Mt mX13_init 3)) := e_I (mi := nX12_must) (mi' := nX13_init) (len := 3) (fun h b as rest hl => cs_I (mi := nX12_must) (pc := 13) (y := yX13_init) (idx := 57) dX12_must_13 rfl q581 q582 q583 hyX13_init pnX13_init hl) wdX13_init zX13_init (Nat.le_of_ble_eq_true rfl) (Nat.le_of_ble_eq_true rfl)
theorem eX12_must_16 : SiZ nX12_must 16 i_thr := s_thr dX12_must_16
theorem eX12_must_17 : SiZ nX12_must 17 i_vret := s_vret dX12_must_17 rfl
theorem aX12_must : ∀ x ∈ mX12_must.1, EnZ nX12_must x := fm_cons eX12_must_0 (fm_cons eX12_must_1 (fm_cons eX12_must_4 (fm_cons eX12_must_7 (fm_cons eX12_must_8 (fm_cons eX12_must_9 (fm_cons eX12_must_10 (fm_cons eX12_must_13 (fm_cons eX12_must_16 (fm_cons eX12_must_17 (fm_nil))))))))))
theorem zX12_must : SwZ nX12_must (Mt mX12_must 3) := wholeZ (mi := nX12_must) (cd := mX12_must) aX12_must rfl (HdZ.none rfl)
abbrev nX12_figure : MI := (cX12_figure, 4, (some (.int)), RX12, "figure", [], 5, 132)
theorem hyX12_figure : yX12_figure.cls ≠ "java/lang/invoke/MethodHandle" ∧ yX12_figure.cls ≠ "java/lang/invoke/VarHandle" := by decide +kernel
theorem pnX12_figure : (parseMethodDescriptor yX12_figure.desc).map (fun d => d.parameters.length) = some 2 := by decide +kernel
theorem wdX12_figure : CdW yX12_figure (nX12_figure) := ⟨Or.inl ⟨q598, rfl⟩, rfl, rfl, plainFor_of_name (by decide +kernel)⟩
theorem eX12_figure_0 : SiZ nX12_figure 0 (i_aload 0 1) := s_aload_n dX12_figure_0 rfl
theorem eX12_figure_1 : SiZ nX12_figure 1 (i_aload 0 2) := s_aload_n dX12_figure_1 rfl
theorem eX12_figure_2 : SiZ nX12_figure 2 (i_getf 146 [12] 5) := s_getf dX12_figure_2 (fm_cons (⟨_, _, _, _, _, _, rfl, fkX12_40_12⟩) (fm_nil))
theorem eX12_figure_5 : SiZ nX12_figure 5 (i_push (.int 2) 6) := s_iconst dX12_figure_5 (by decide)
theorem eX12_figure_6 : SiZ nX12_figure 6 (i_icmp (fun x y => ¬ x = y) 13 9) := s_icmp_ne dX12_figure_6 (by decide)
theorem eX12_figure_9 : SiZ nX12_figure 9 (i_push (.int 1) 10) := s_iconst dX12_figure_9 (by decide)
theorem eX12_figure_10 : SiZ nX12_figure 10 (i_goto 14) := s_goto dX12_figure_10 (by decide)
theorem eX12_figure_13 : SiZ nX12_figure 13 (i_push (.int 0) 14) := s_iconst dX12_figure_13 (by decide)
theorem eX12_figure_14 : SiZ nX12_figure 14 (i_push (.int 1) 15) := s_iconst dX12_figure_14 (by decide)
theorem eX12_figure_15 : ScZ nX12_figure 15 (c_V 2 18 3 12 (Mt mX12_must 3)) := e_V (mi := nX12_figure) (mi' := nX12_must) (len := 3) (fun h b as rest hk hl => cs_V (ci := 11) (mi := nX12_figure) (pc := 15) (y := yX12_must) (idx := 60) dX12_figure_15 q568 q570 qs7 rfl hk hyX12_must (sigC q571) pnX12_must hl) wdX12_must zX12_must (Nat.le_of_ble_eq_true rfl) (Nat.le_of_ble_eq_true rfl)
theorem eX12_figure_18 : SiZ nX12_figure 18 (i_aload 0 19) := s_aload_n dX12_figure_18 rfl
theorem eX12_figure_19 : SiZ nX12_figure 19 (i_aload 0 20) := s_aload_n dX12_figure_19 rfl
theorem eX12_figure_20 : SiZ nX12_figure 20 (i_getf 150 [12] 23) := s_getf dX12_figure_20 (fm_cons (⟨_, _, _, _, _, _, rfl, fkX12_37_12⟩) (fm_nil))
theorem eX12_figure_23 : SiZ nX12_figure 23 (i_i2l 24) := s_i2l dX12_figure_23
theorem eX12_figure_24 : SiZ nX12_figure 24 (i_iload 1 25) := s_iload_n dX12_figure_24 rfl
theorem eX12_figure_25 : SiZ nX12_figure 25 (i_i2l 26) := s_i2l dX12_figure_25
theorem eX12_figure_26 : SiZ nX12_figure 26 (i_iload 2 27) := s_iload_n dX12_figure_26 rfl
theorem eX12_figure_27 : SiZ nX12_figure 27 (i_i2l 28) := s_i2l dX12_figure_27
theorem eX12_figure_28 : ScZ nX12_figure 28 (c_S 3 31 6 (Mt mX0_isIn 6)) := e_S (mi := nX12_figure) (mi' := nX0_isIn) (len := 3) (fun h as rest hl => cs_SN (mi := nX12_figure) (pc := 28) (y := yX0_isIn) (idx := 47) dX12_figure_28 q561 q352 q77 q353 hyX0_isIn pnX0_isIn hl) wdX0_isIn zX0_isIn (Nat.le_of_ble_eq_true rfl) (Nat.le_of_ble_eq_true rfl)
theorem eX12_figure_31 : SiZ nX12_figure 31 (i_push (.int 2) 32) := s_iconst dX12_figure_31 (by decide)
theorem eX12_figure_32 : ScZ nX12_figure 32 (c_V 2 35 3 12 (Mt mX12_must 3)) := e_V (mi := nX12_figure) (mi' := nX12_must) (len := 3) (fun h b as rest hk hl => cs_V (ci := 11) (mi := nX12_figure) (pc := 32) (y := yX12_must) (idx := 60) dX12_figure_32 q568 q570 qs7 rfl hk hyX12_must (sigC q571) pnX12_must hl) wdX12_must zX12_must (Nat.le_of_ble_eq_true rfl) (Nat.le_of_ble_eq_true rfl)
theorem eX12_figure_35 : SiZ nX12_figure 35 (i_aload 0 36) := s_aload_n dX12_figure_35 rfl
theorem eX12_figure_36 : SiZ nX12_figure 36 (i_getf 150 [12] 39) := s_getf dX12_figure_36 (fm_cons (⟨_, _, _, _, _, _, rfl, fkX12_37_12⟩) (fm_nil))
theorem eX12_figure_39 : SiZ nX12_figure 39 (i_istore 3 40) := s_istore_n dX12_figure_39 rfl
theorem eX12_figure_40 : SiZ nX12_figure 40 (i_aload 0 41) := s_aload_n dX12_figure_40 rfl
theorem eX12_figure_41 : ScZ nX12_figure 41 (c_V 0 44 2 12 (Mt mX12_next 2)) := e_V (mi := nX12_figure) (mi' := nX12_next) (len := 3) (fun h b as rest hk hl => cs_V (ci := 11) (mi := nX12_figure) (pc := 41) (y := yX12_next) (idx := 64) dX12_figure_41 q550 q552 qs4 rfl hk hyX12_next (sigC q553) pnX12_next hl) wdX12_next zX12_next (Nat.le_of_ble_eq_true rfl) (Nat.le_of_ble_eq_true rfl)
theorem eX12_figure_44 : SiZ nX12_figure 44 (i_iload 3 45) := s_iload_n dX12_figure_44 rfl
theorem eX12_figure_45 : SiZ nX12_figure 45 i_iret := s_iret dX12_figure_45 rfl
theorem aX12_figure : ∀ x ∈ mX12_figure.1, EnZ nX12_figure x := fm_cons eX12_figure_0 (fm_cons eX12_figure_1 (fm_cons eX12_figure_2 (fm_cons eX12_figure_5 (fm_cons eX12_figure_6 (fm_cons eX12_figure_9 (fm_cons eX12_figure_10 (fm_cons eX12_figure_13 (fm_cons eX12_figure_14 (fm_cons eX12_figure_15 (fm_cons eX12_figure_18 (fm_cons eX12_figure_19 (fm_cons eX12_figure_20 (fm_cons eX12_figure_23 (fm_cons eX12_figure_24 (fm_cons eX12_figure_25 (fm_cons eX12_figure_26 (fm_cons eX12_figure_27 (fm_cons eX12_figure_28 (fm_cons eX12_figure_31 (fm_cons eX12_figure_32 (fm_cons eX12_figure_35 (fm_cons eX12_figure_36 (fm_cons eX12_figure_39 (fm_cons eX12_figure_40 (fm_cons eX12_figure_41 (fm_cons eX12_figure_44 (fm_cons eX12_figure_45 (fm_nil))))))))))))))))))))))))))))
theorem zX12_figure : SwZ nX12_figure (Mt mX12_figure 4) := wholeZ (mi := nX12_figure) (cd := mX12_figure) aX12_figure rfl (HdZ.none rfl)
abbrev nX12_sign : MI := (cX12_sign, 2, none, RX12, "sign", [], 5, 132)
theorem hyX12_sign : yX12_sign.cls ≠ "java/lang/invoke/MethodHandle" ∧ yX12_sign.cls ≠ "java/lang/invoke/VarHandle" := by decide +kernel
theorem pnX12_sign : (parseMethodDescriptor yX12_sign.desc).map (fun d => d.parameters.length) = some 1 := by decide +kernel
theorem wdX12_sign : CdW yX12_sign (nX12_sign) := ⟨Or.inl ⟨q606, rfl⟩, rfl, rfl, plainFor_of_name (by decide +kernel)⟩
theorem eX12_sign_0 : SiZ nX12_sign 0 (i_aload 0 1) := s_aload_n dX12_sign_0 rfl
theorem eX12_sign_1 : SiZ nX12_sign 1 (i_aload 0 2) := s_aload_n dX12_sign_1 rfl
theorem eX12_sign_2 : SiZ nX12_sign 2 (i_getf 146 [12] 5) := s_getf dX12_sign_2 (fm_cons (⟨_, _, _, _, _, _, rfl, fkX12_40_12⟩) (fm_nil))
theorem eX12_sign_5 : SiZ nX12_sign 5 (i_iload 1 6) := s_iload_n dX12_sign_5 rfl
theorem eX12_sign_6 : SiZ nX12_sign 6 (i_icmp (fun x y => ¬ x = y) 13 9) := s_icmp_ne dX12_sign_6 (by decide)
theorem eX12_sign_9 : SiZ nX12_sign 9 (i_push (.int 1) 10) := s_iconst dX12_sign_9 (by decide)
theorem eX12_sign_10 : SiZ nX12_sign 10 (i_goto 14) := s_goto dX12_sign_10 (by decide)
theorem eX12_sign_13 : SiZ nX12_sign 13 (i_push (.int 0) 14) := s_iconst dX12_sign_13 (by decide)
theorem eX12_sign_14 : SiZ nX12_sign 14 (i_push (.int 1) 15) := s_iconst dX12_sign_14 (by decide)
theorem eX12_sign_15 : ScZ nX12_sign 15 (c_V 2 18 3 12 (Mt mX12_must 3)) := e_V (mi := nX12_sign) (mi' := nX12_must) (len := 3) (fun h b as rest hk hl => cs_V (ci := 11) (mi := nX12_sign) (pc := 15) (y := yX12_must) (idx := 60) dX12_sign_15 q568 q570 qs7 rfl hk hyX12_must (sigC q571) pnX12_must hl) wdX12_must zX12_must (Nat.le_of_ble_eq_true rfl) (Nat.le_of_ble_eq_true rfl)
theorem eX12_sign_18 : SiZ nX12_sign 18 (i_aload 0 19) := s_aload_n dX12_sign_18 rfl
theorem eX12_sign_19 : ScZ nX12_sign 19 (c_V 0 22 2 12 (Mt mX12_next 2)) := e_V (mi := nX12_sign) (mi' := nX12_next) (len := 3) (fun h b as rest hk hl => cs_V (ci := 11) (mi := nX12_sign) (pc := 19) (y := yX12_next) (idx := 64) dX12_sign_19 q550 q552 qs4 rfl hk hyX12_next (sigC q553) pnX12_next hl) wdX12_next zX12_next (Nat.le_of_ble_eq_true rfl) (Nat.le_of_ble_eq_true rfl)
theorem eX12_sign_22 : SiZ nX12_sign 22 i_vret := s_vret dX12_sign_22 rfl
theorem aX12_sign : ∀ x ∈ mX12_sign.1, EnZ nX12_sign x := fm_cons eX12_sign_0 (fm_cons eX12_sign_1 (fm_cons eX12_sign_2 (fm_cons eX12_sign_5 (fm_cons eX12_sign_6 (fm_cons eX12_sign_9 (fm_cons eX12_sign_10 (fm_cons eX12_sign_13 (fm_cons eX12_sign_14 (fm_cons eX12_sign_15 (fm_cons eX12_sign_18 (fm_cons eX12_sign_19 (fm_cons eX12_sign_22 (fm_nil)))))))))))))
theorem zX12_sign : SwZ nX12_sign (Mt mX12_sign 2) := wholeZ (mi := nX12_sign) (cd := mX12_sign) aX12_sign rfl (HdZ.none rfl)
abbrev nX12_more : MI := (cX12_more, 3, (some (.int)), RX12, "more", [], 6, 159)
theorem hyX12_more : yX12_more.cls ≠ "java/lang/invoke/MethodHandle" ∧ yX12_more.cls ≠ "java/lang/invoke/VarHandle" := by decide +kernel
theorem pnX12_more : (parseMethodDescriptor yX12_more.desc).map (fun d => d.parameters.length) = some 2 := by decide +kernel
theorem wdX12_more : CdW yX12_more (nX12_more) := ⟨Or.inl ⟨q602, rfl⟩, rfl, rfl, plainFor_of_name (by decide +kernel)⟩
theorem eX12_more_0 : SiZ nX12_more 0 (i_aload 0 1) := s_aload_n dX12_more_0 rfl
theorem eX12_more_1 : SiZ nX12_more 1 (i_push (.int 3) 2) := s_iconst dX12_more_1 (by decide)
theorem eX12_more_2 : ScZ nX12_more 2 (c_V 1 5 2 12 (Mt mX12_sign 2)) := e_V (mi := nX12_more) (mi' := nX12_sign) (len := 3) (fun h b as rest hk hl => cs_V (ci := 11) (mi := nX12_more) (pc := 2) (y := yX12_sign) (idx := 67) dX12_more_2 q603 q605 qs10 rfl hk hyX12_sign (sigC q606) pnX12_sign hl) wdX12_sign zX12_sign (Nat.le_of_ble_eq_true rfl) (Nat.le_of_ble_eq_true rfl)
theorem eX12_more_5 : SiZ nX12_more 5 (i_aload 0 6) := s_aload_n dX12_more_5 rfl
theorem eX12_more_6 : SiZ nX12_more 6 (i_iload 1 7) := s_iload_n dX12_more_6 rfl
theorem eX12_more_7 : SiZ nX12_more 7 (i_iload 2 8) := s_iload_n dX12_more_7 rfl
theorem eX12_more_8 : ScZ nX12_more 8 (c_V 2 11 4 12 (Mt mX12_figure 4)) := e_V (mi := nX12_more) (mi' := nX12_figure) (len := 3) (fun h b as rest hk hl => cs_V (ci := 11) (mi := nX12_more) (pc := 8) (y := yX12_figure) (idx := 71) dX12_more_8 q595 q597 qs8 rfl hk hyX12_figure (sigC q598) pnX12_figure hl) wdX12_figure zX12_figure (Nat.le_of_ble_eq_true rfl) (Nat.le_of_ble_eq_true rfl)
theorem eX12_more_11 : SiZ nX12_more 11 i_iret := s_iret dX12_more_11 rfl
theorem aX12_more : ∀ x ∈ mX12_more.1, EnZ nX12_more x := fm_cons eX12_more_0 (fm_cons eX12_more_1 (fm_cons eX12_more_2 (fm_cons eX12_more_5 (fm_cons eX12_more_6 (fm_cons eX12_more_7 (fm_cons eX12_more_8 (fm_cons eX12_more_11 (fm_nil))))))))
theorem zX12_more : SwZ nX12_more (Mt mX12_more 3) := wholeZ (mi := nX12_more) (cd := mX12_more) aX12_more rfl (HdZ.none rfl)
abbrev nX12_begin : MI := (cX12_begin, 3, none, RX12, "begin", [], 5, 132)
theorem hyX12_begin : yX12_begin.cls ≠ "java/lang/invoke/MethodHandle" ∧ yX12_begin.cls ≠ "java/lang/invoke/VarHandle" := by decide +kernel
theorem pnX12_begin : (parseMethodDescriptor yX12_begin.desc).map (fun d => d.parameters.length) = some 2 := by decide +kernel
theorem wdX12_begin : CdW yX12_begin (nX12_begin) := ⟨Or.inl ⟨q614, rfl⟩, rfl, rfl, plainFor_of_name (by decide +kernel)⟩
theorem eX12_begin_0 : SiZ nX12_begin 0 (i_aload 0 1) := s_aload_n dX12_begin_0 rfl
theorem eX12_begin_1 : SiZ nX12_begin 1 (i_iload 1 2) := s_iload_n dX12_begin_1 rfl
theorem eX12_begin_2 : SiZ nX12_begin 2 (i_iload 2 3) := s_iload_n dX12_begin_2 rfl
theorem eX12_begin_3 : SiZ nX12_begin 3 (i_icmp (fun x y => y ≤ x) 10 6) := s_icmp_ge dX12_begin_3 (by decide)
theorem eX12_begin_6 : SiZ nX12_begin 6 (i_push (.int 1) 7) := s_iconst dX12_begin_6 (by decide)
theorem eX12_begin_7 : SiZ nX12_begin 7 (i_goto 11) := s_goto dX12_begin_7 (by decide)
theorem eX12_begin_10 : SiZ nX12_begin 10 (i_push (.int 0) 11) := s_iconst dX12_begin_10 (by decide)
theorem eX12_begin_11 : SiZ nX12_begin 11 (i_push (.int 3) 12) := s_iconst dX12_begin_11 (by decide)
theorem eX12_begin_12 : ScZ nX12_begin 12 (c_V 2 15 3 12 (Mt mX12_must 3)) := e_V (mi := nX12_begin) (mi' := nX12_must) (len := 3) (fun h b as rest hk hl => cs_V (ci := 11) (mi := nX12_begin) (pc := 12) (y := yX12_must) (idx := 60) dX12_begin_12 q568 q570 qs7 rfl hk hyX12_must (sigC q571) pnX12_must hl) wdX12_must zX12_must (Nat.le_of_ble_eq_true rfl) (Nat.le_of_ble_eq_true rfl)
theorem eX12_begin_15 : SiZ nX12_begin 15 (i_aload 0 16) := s_aload_n dX12_begin_15 rfl
theorem eX12_begin_16 : ScZ nX12_begin 16 (c_V 0 19 2 12 (Mt mX12_next 2)) := e_V (mi := nX12_begin) (mi' := nX12_next) (len := 3) (fun h b as rest hk hl => cs_V (ci := 11) (mi := nX12_begin) (pc := 16) (y := yX12_next) (idx := 64) dX12_begin_16 q550 q552 qs4 rfl hk hyX12_next (sigC q553) pnX12_next hl) wdX12_next zX12_next (Nat.le_of_ble_eq_true rfl) (Nat.le_of_ble_eq_true rfl)
theorem eX12_begin_19 : SiZ nX12_begin 19 i_vret := s_vret dX12_begin_19 rfl
theorem aX12_begin : ∀ x ∈ mX12_begin.1, EnZ nX12_begin x := fm_cons eX12_begin_0 (fm_cons eX12_begin_1 (fm_cons eX12_begin_2 (fm_cons eX12_begin_3 (fm_cons eX12_begin_6 (fm_cons eX12_begin_7 (fm_cons eX12_begin_10 (fm_cons eX12_begin_11 (fm_cons eX12_begin_12 (fm_cons eX12_begin_15 (fm_cons eX12_begin_16 (fm_cons eX12_begin_19 (fm_nil))))))))))))
theorem zX12_begin : SwZ nX12_begin (Mt mX12_begin 3) := wholeZ (mi := nX12_begin) (cd := mX12_begin) aX12_begin rfl (HdZ.none rfl)
abbrev nX1_puts : MI := (cX1_puts, 3, none, RX1, "puts", [], 0, 0)
theorem hyX1_puts : yX1_puts.cls ≠ "java/lang/invoke/MethodHandle" ∧ yX1_puts.cls ≠ "java/lang/invoke/VarHandle" := by decide +kernel
theorem pnX1_puts : (parseMethodDescriptor yX1_puts.desc).map (fun d => d.parameters.length) = some 2 := by decide +kernel
theorem wdX1_puts : CdW yX1_puts (nX1_puts) := ⟨Or.inl ⟨q618, rfl⟩, rfl, rfl, plainFor_of_name (by decide +kernel)⟩
theorem eX1_puts_0 : SiZ nX1_puts 0 (i_aload 0 1) := s_aload_n dX1_puts_0 rfl
theorem eX1_puts_1 : SiZ nX1_puts 1 (i_getf 45 [2] 4) := s_getf dX1_puts_1 (fm_cons (⟨_, _, _, _, _, _, rfl, fkX1_21_2⟩) (fm_nil))
theorem eX1_puts_4 : SiZ nX1_puts 4 (i_iload 1 5) := s_iload_n dX1_puts_4 rfl
theorem eX1_puts_5 : SiZ nX1_puts 5 (i_iload 2 6) := s_iload_n dX1_puts_5 rfl
theorem eX1_puts_6 : SiZ nX1_puts 6 (i_iast 51 (fun x => x) 7) := s_ast (j := 0) (by decide) (fun _ => rfl) dX1_puts_6 (Or.inl ⟨rfl, rfl, rfl⟩)
theorem eX1_puts_7 : SiZ nX1_puts 7 (i_aload 0 8) := s_aload_n dX1_puts_7 rfl
theorem eX1_puts_8 : SiZ nX1_puts 8 (i_getf 43 [2] 11) := s_getf dX1_puts_8 (fm_cons (⟨_, _, _, _, _, _, rfl, fkX1_18_2⟩) (fm_nil))
theorem eX1_puts_11 : SiZ nX1_puts 11 (i_iload 2 12) := s_iload_n dX1_puts_11 rfl
theorem eX1_puts_12 : SiZ nX1_puts 12 (i_iload 1 13) := s_iload_n dX1_puts_12 rfl
theorem eX1_puts_13 : SiZ nX1_puts 13 (i_iast 51 (fun x => x) 14) := s_ast (j := 0) (by decide) (fun _ => rfl) dX1_puts_13 (Or.inl ⟨rfl, rfl, rfl⟩)
theorem eX1_puts_14 : SiZ nX1_puts 14 i_vret := s_vret dX1_puts_14 rfl
theorem aX1_puts : ∀ x ∈ mX1_puts.1, EnZ nX1_puts x := fm_cons eX1_puts_0 (fm_cons eX1_puts_1 (fm_cons eX1_puts_4 (fm_cons eX1_puts_5 (fm_cons eX1_puts_6 (fm_cons eX1_puts_7 (fm_cons eX1_puts_8 (fm_cons eX1_puts_11 (fm_cons eX1_puts_12 (fm_cons eX1_puts_13 (fm_cons eX1_puts_14 (fm_nil)))))))))))
theorem zX1_puts : SwZ nX1_puts (Mt mX1_puts 3) := wholeZ (mi := nX1_puts) (cd := mX1_puts) aX1_puts rfl (HdZ.none rfl)
abbrev nX12_book : MI := (cX12_book, 2, none, RX12, "book", [], 7, 185)
theorem hyX12_book : yX12_book.cls ≠ "java/lang/invoke/MethodHandle" ∧ yX12_book.cls ≠ "java/lang/invoke/VarHandle" := by decide +kernel
theorem pnX12_book : (parseMethodDescriptor yX12_book.desc).map (fun d => d.parameters.length) = some 0 := by decide +kernel
theorem wdX12_book : CdW yX12_book (nX12_book) := ⟨Or.inl ⟨q610, rfl⟩, rfl, rfl, plainFor_of_name (by decide +kernel)⟩
theorem eX12_book_0 : SiZ nX12_book 0 (i_aload 0 1) := s_aload_n dX12_book_0 rfl
theorem eX12_book_1 : SiZ nX12_book 1 (i_getf 153 [12] 4) := s_getf dX12_book_1 (fm_cons (⟨_, _, _, _, _, _, rfl, fkX12_12_12⟩) (fm_nil))
theorem eX12_book_4 : SiZ nX12_book 4 (i_getf 36 [2] 7) := s_getf dX12_book_4 (fm_cons (⟨_, _, _, _, _, _, rfl, fkX12_113_2⟩) (fm_nil))
theorem eX12_book_7 : SiZ nX12_book 7 (i_istore 1 8) := s_istore_n dX12_book_7 rfl
theorem eX12_book_8 : SiZ nX12_book 8 (i_aload 0 9) := s_aload_n dX12_book_8 rfl
theorem eX12_book_9 : SiZ nX12_book 9 (i_iload 1 10) := s_iload_n dX12_book_9 rfl
theorem eX12_book_10 : SiZ nX12_book 10 (i_push (.int 6) 12) := s_bipush dX12_book_10 (by decide)
theorem eX12_book_12 : ScZ nX12_book 12 (c_V 2 15 3 12 (Mt mX12_begin 3)) := e_V (mi := nX12_book) (mi' := nX12_begin) (len := 3) (fun h b as rest hk hl => cs_V (ci := 11) (mi := nX12_book) (pc := 12) (y := yX12_begin) (idx := 116) dX12_book_12 q611 q613 qs12 rfl hk hyX12_begin (sigC q614) pnX12_begin hl) wdX12_begin zX12_begin (Nat.le_of_ble_eq_true rfl) (Nat.le_of_ble_eq_true rfl)
theorem eX12_book_15 : SiZ nX12_book 15 (i_aload 0 16) := s_aload_n dX12_book_15 rfl
theorem eX12_book_16 : SiZ nX12_book 16 (i_getf 153 [12] 19) := s_getf dX12_book_16 (fm_cons (⟨_, _, _, _, _, _, rfl, fkX12_12_12⟩) (fm_nil))
theorem eX12_book_19 : SiZ nX12_book 19 (i_getf 39 [2] 22) := s_getf dX12_book_19 (fm_cons (⟨_, _, _, _, _, _, rfl, fkX12_119_2⟩) (fm_nil))
theorem eX12_book_22 : SiZ nX12_book 22 (i_iload 1 23) := s_iload_n dX12_book_22 rfl
theorem eX12_book_23 : SiZ nX12_book 23 (i_aload 0 24) := s_aload_n dX12_book_23 rfl
theorem eX12_book_24 : SiZ nX12_book 24 (i_push (.int 0) 25) := s_iconst dX12_book_24 (by decide)
theorem eX12_book_25 : SiZ nX12_book 25 (i_push (.int 99) 27) := s_bipush dX12_book_25 (by decide)
theorem eX12_book_27 : ScZ nX12_book 27 (c_V 2 30 4 12 (Mt mX12_figure 4)) := e_V (mi := nX12_book) (mi' := nX12_figure) (len := 3) (fun h b as rest hk hl => cs_V (ci := 11) (mi := nX12_book) (pc := 27) (y := yX12_figure) (idx := 71) dX12_book_27 q595 q597 qs8 rfl hk hyX12_figure (sigC q598) pnX12_figure hl) wdX12_figure zX12_figure (Nat.le_of_ble_eq_true rfl) (Nat.le_of_ble_eq_true rfl)
theorem eX12_book_30 : SiZ nX12_book 30 (i_iast 51 (fun x => x) 31) := s_ast (j := 0) (by decide) (fun _ => rfl) dX12_book_30 (Or.inl ⟨rfl, rfl, rfl⟩)
theorem eX12_book_31 : SiZ nX12_book 31 (i_aload 0 32) := s_aload_n dX12_book_31 rfl
theorem eX12_book_32 : SiZ nX12_book 32 (i_getf 153 [12] 35) := s_getf dX12_book_32 (fm_cons (⟨_, _, _, _, _, _, rfl, fkX12_12_12⟩) (fm_nil))
theorem eX12_book_35 : SiZ nX12_book 35 (i_getf 41 [2] 38) := s_getf dX12_book_35 (fm_cons (⟨_, _, _, _, _, _, rfl, fkX12_123_2⟩) (fm_nil))
theorem eX12_book_38 : SiZ nX12_book 38 (i_iload 1 39) := s_iload_n dX12_book_38 rfl
theorem eX12_book_39 : SiZ nX12_book 39 (i_aload 0 40) := s_aload_n dX12_book_39 rfl
theorem eX12_book_40 : SiZ nX12_book 40 (i_push (.int 0) 41) := s_iconst dX12_book_40 (by decide)
theorem eX12_book_41 : SiZ nX12_book 41 (i_push (.int 9) 43) := s_bipush dX12_book_41 (by decide)
theorem eX12_book_43 : ScZ nX12_book 43 (c_V 2 46 3 12 (Mt mX12_more 3)) := e_V (mi := nX12_book) (mi' := nX12_more) (len := 3) (fun h b as rest hk hl => cs_V (ci := 11) (mi := nX12_book) (pc := 43) (y := yX12_more) (idx := 92) dX12_book_43 q599 q601 qs9 rfl hk hyX12_more (sigC q602) pnX12_more hl) wdX12_more zX12_more (Nat.le_of_ble_eq_true rfl) (Nat.le_of_ble_eq_true rfl)
theorem eX12_book_46 : SiZ nX12_book 46 (i_iast 51 (fun x => x) 47) := s_ast (j := 0) (by decide) (fun _ => rfl) dX12_book_46 (Or.inl ⟨rfl, rfl, rfl⟩)
theorem eX12_book_47 : SiZ nX12_book 47 (i_aload 0 48) := s_aload_n dX12_book_47 rfl
theorem eX12_book_48 : SiZ nX12_book 48 (i_getf 153 [12] 51) := s_getf dX12_book_48 (fm_cons (⟨_, _, _, _, _, _, rfl, fkX12_12_12⟩) (fm_nil))
theorem eX12_book_51 : SiZ nX12_book 51 (i_iload 1 52) := s_iload_n dX12_book_51 rfl
theorem eX12_book_52 : SiZ nX12_book 52 (i_iload 1 53) := s_iload_n dX12_book_52 rfl
theorem eX12_book_53 : ScZ nX12_book 53 (c_V 2 56 3 2 (Mt mX1_puts 3)) := e_V (mi := nX12_book) (mi' := nX1_puts) (len := 3) (fun h b as rest hk hl => cs_V (ci := 1) (mi := nX12_book) (pc := 53) (y := yX1_puts) (idx := 126) dX12_book_53 q615 q616 q617 rfl hk hyX1_puts (sigC q618) pnX1_puts hl) wdX1_puts zX1_puts (Nat.le_of_ble_eq_true rfl) (Nat.le_of_ble_eq_true rfl)
theorem eX12_book_56 : SiZ nX12_book 56 (i_aload 0 57) := s_aload_n dX12_book_56 rfl
theorem eX12_book_57 : SiZ nX12_book 57 (i_getf 153 [12] 60) := s_getf dX12_book_57 (fm_cons (⟨_, _, _, _, _, _, rfl, fkX12_12_12⟩) (fm_nil))
theorem eX12_book_60 : SiZ nX12_book 60 (i_dup 61) := s_dup dX12_book_60
theorem eX12_book_61 : SiZ nX12_book 61 (i_getf 36 [2] 64) := s_getf dX12_book_61 (fm_cons (⟨_, _, _, _, _, _, rfl, fkX12_113_2⟩) (fm_nil))
theorem eX12_book_64 : SiZ nX12_book 64 (i_push (.int 1) 65) := s_iconst dX12_book_64 (by decide)
theorem eX12_book_65 : SiZ nX12_book 65 (i_bin (fun x y => x + y) 66) := s_iadd dX12_book_65
theorem eX12_book_66 : SiZ nX12_book 66 (i_putI 36 [2] 69) := s_putI dX12_book_66 (fm_cons (⟨_, _, _, _, _, _, rfl, ⟨fkX12_113_2, ⟨_, q164, Or.inl rfl⟩, Or.inl rfl⟩, rfl⟩) (fm_nil))
theorem eX12_book_69 : SiZ nX12_book 69 (i_aload 0 70) := s_aload_n dX12_book_69 rfl
theorem eX12_book_70 : SiZ nX12_book 70 (i_push (.int 4) 71) := s_iconst dX12_book_70 (by decide)
theorem eX12_book_71 : ScZ nX12_book 71 (c_V 1 74 2 12 (Mt mX12_sign 2)) := e_V (mi := nX12_book) (mi' := nX12_sign) (len := 3) (fun h b as rest hk hl => cs_V (ci := 11) (mi := nX12_book) (pc := 71) (y := yX12_sign) (idx := 67) dX12_book_71 q603 q605 qs10 rfl hk hyX12_sign (sigC q606) pnX12_sign hl) wdX12_sign zX12_sign (Nat.le_of_ble_eq_true rfl) (Nat.le_of_ble_eq_true rfl)
theorem eX12_book_74 : SiZ nX12_book 74 i_vret := s_vret dX12_book_74 rfl
theorem aX12_book : ∀ x ∈ mX12_book.1, EnZ nX12_book x := fm_cons eX12_book_0 (fm_cons eX12_book_1 (fm_cons eX12_book_4 (fm_cons eX12_book_7 (fm_cons eX12_book_8 (fm_cons eX12_book_9 (fm_cons eX12_book_10 (fm_cons eX12_book_12 (fm_cons eX12_book_15 (fm_cons eX12_book_16 (fm_cons eX12_book_19 (fm_cons eX12_book_22 (fm_cons eX12_book_23 (fm_cons eX12_book_24 (fm_cons eX12_book_25 (fm_cons eX12_book_27 (fm_cons eX12_book_30 (fm_cons eX12_book_31 (fm_cons eX12_book_32 (fm_cons eX12_book_35 (fm_cons eX12_book_38 (fm_cons eX12_book_39 (fm_cons eX12_book_40 (fm_cons eX12_book_41 (fm_cons eX12_book_43 (fm_cons eX12_book_46 (fm_cons eX12_book_47 (fm_cons eX12_book_48 (fm_cons eX12_book_51 (fm_cons eX12_book_52 (fm_cons eX12_book_53 (fm_cons eX12_book_56 (fm_cons eX12_book_57 (fm_cons eX12_book_60 (fm_cons eX12_book_61 (fm_cons eX12_book_64 (fm_cons eX12_book_65 (fm_cons eX12_book_66 (fm_cons eX12_book_69 (fm_cons eX12_book_70 (fm_cons eX12_book_71 (fm_cons eX12_book_74 (fm_nil))))))))))))))))))))))))))))))))))))))))))
theorem zX12_book : SwZ nX12_book (Mt mX12_book 2) := wholeZ (mi := nX12_book) (cd := mX12_book) aX12_book rfl (HdZ.none rfl)
abbrev nJ8_coder : MI := (cJ8_coder, 1, (some (.byte)), RJ8, "coder", [], 0, 0)
theorem hyJ8_coder : yJ8_coder.cls ≠ "java/lang/invoke/MethodHandle" ∧ yJ8_coder.cls ≠ "java/lang/invoke/VarHandle" := by decide +kernel
theorem pnJ8_coder : (parseMethodDescriptor yJ8_coder.desc).map (fun d => d.parameters.length) = some 0 := by decide +kernel
theorem wdJ8_coder : CdW yJ8_coder (nJ8_coder) := ⟨Or.inl ⟨q634, rfl⟩, rfl, rfl, plainFor_of_name (by decide +kernel)⟩
theorem eJ8_coder_0 : SiZ nJ8_coder 0 (i_gets 1006 3) := s_gets dJ8_coder_0 q635 (fun cA z U hh H h => h.2.2.2.1)
theorem eJ8_coder_3 : SiZ nJ8_coder 3 (i_if (fun x => x = 0) 13 6) := s_if_eq dJ8_coder_3 (by decide)
theorem eJ8_coder_6 : SiZ nJ8_coder 6 (i_aload 0 7) := s_aload_n dJ8_coder_6 rfl
theorem eJ8_coder_7 : SiZ nJ8_coder 7 (i_getf 166 [60] 10) := s_getfS (n := "coder") (d := "B") dJ8_coder_7 (by decide) q1753
theorem eJ8_coder_10 : SiZ nJ8_coder 10 (i_goto 14) := s_goto dJ8_coder_10 (by decide)
theorem eJ8_coder_13 : SiZ nJ8_coder 13 (i_push (.int 1) 14) := s_iconst dJ8_coder_13 (by decide)
theorem eJ8_coder_14 : SiZ nJ8_coder 14 i_bret := s_bret dJ8_coder_14 rfl
theorem aJ8_coder : ∀ x ∈ mJ8_coder.1, EnZ nJ8_coder x := fm_cons eJ8_coder_0 (fm_cons eJ8_coder_3 (fm_cons eJ8_coder_6 (fm_cons eJ8_coder_7 (fm_cons eJ8_coder_10 (fm_cons eJ8_coder_13 (fm_cons eJ8_coder_14 (fm_nil)))))))
theorem zJ8_coder : SwZ nJ8_coder (Mt mJ8_coder 1) := wholeZ (mi := nJ8_coder) (cd := mJ8_coder) aJ8_coder rfl (HdZ.none rfl)
abbrev nJ8_length : MI := (cJ8_length, 1, (some (.int)), RJ8, "length", [], 1, 24)
theorem hyJ8_length : yJ8_length.cls ≠ "java/lang/invoke/MethodHandle" ∧ yJ8_length.cls ≠ "java/lang/invoke/VarHandle" := by decide +kernel
theorem pnJ8_length : (parseMethodDescriptor yJ8_length.desc).map (fun d => d.parameters.length) = some 0 := by decide +kernel
theorem wdJ8_length : CdW yJ8_length (nJ8_length) := ⟨Or.inl ⟨q630, rfl⟩, rfl, rfl, plainFor_of_name (by decide +kernel)⟩
theorem eJ8_length_0 : SiZ nJ8_length 0 (i_aload 0 1) := s_aload_n dJ8_length_0 rfl
theorem eJ8_length_1 : SiZ nJ8_length 1 (i_getf 165 [60] 4) := s_getfS (n := "value") (d := "[B") dJ8_length_1 (by decide) q1752
theorem eJ8_length_4 : SiZ nJ8_length 4 (i_alen [61] 5) := s_alen dJ8_length_4 (fm_cons (Or.inr (Or.inr (Or.inr (Or.inr rfl)))) (fm_nil))
theorem eJ8_length_5 : SiZ nJ8_length 5 (i_aload 0 6) := s_aload_n dJ8_length_5 rfl
theorem eJ8_length_6 : ScZ nJ8_length 6 (c_V 0 9 1 60 (Mt mJ8_coder 1)) := e_V (mi := nJ8_length) (mi' := nJ8_coder) (len := 3) (fun h b as rest hk hl => cs_VS (mi := nJ8_length) (pc := 6) (y := yJ8_coder) (idx := 335) dJ8_length_6 q631 q632 q633 hk hyJ8_coder (sigC q634) pnJ8_coder hl) wdJ8_coder zJ8_coder (Nat.le_of_ble_eq_true rfl) (Nat.le_of_ble_eq_true rfl)
theorem eJ8_length_9 : SiZ nJ8_length 9 (i_bin (fun x y => x >>> (y &&& 31)) 10) := s_ishr dJ8_length_9
theorem eJ8_length_10 : SiZ nJ8_length 10 i_iret := s_iret dJ8_length_10 rfl
theorem aJ8_length : ∀ x ∈ mJ8_length.1, EnZ nJ8_length x := fm_cons eJ8_length_0 (fm_cons eJ8_length_1 (fm_cons eJ8_length_4 (fm_cons eJ8_length_5 (fm_cons eJ8_length_6 (fm_cons eJ8_length_9 (fm_cons eJ8_length_10 (fm_nil)))))))
theorem zJ8_length : SwZ nJ8_length (Mt mJ8_length 1) := wholeZ (mi := nJ8_length) (cd := mJ8_length) aJ8_length rfl (HdZ.none rfl)
abbrev nJ8_isLatin1 : MI := (cJ8_isLatin1, 1, (some (.boolean)), RJ8, "isLatin1", [], 0, 0)
theorem hyJ8_isLatin1 : yJ8_isLatin1.cls ≠ "java/lang/invoke/MethodHandle" ∧ yJ8_isLatin1.cls ≠ "java/lang/invoke/VarHandle" := by decide +kernel
theorem pnJ8_isLatin1 : (parseMethodDescriptor yJ8_isLatin1.desc).map (fun d => d.parameters.length) = some 0 := by decide +kernel
theorem wdJ8_isLatin1 : CdW yJ8_isLatin1 (nJ8_isLatin1) := ⟨Or.inl ⟨q644, rfl⟩, rfl, rfl, plainFor_of_name (by decide +kernel)⟩
theorem eJ8_isLatin1_0 : SiZ nJ8_isLatin1 0 (i_gets 1006 3) := s_gets dJ8_isLatin1_0 q635 (fun cA z U hh H h => h.2.2.2.1)
theorem eJ8_isLatin1_3 : SiZ nJ8_isLatin1 3 (i_if (fun x => x = 0) 17 6) := s_if_eq dJ8_isLatin1_3 (by decide)
theorem eJ8_isLatin1_6 : SiZ nJ8_isLatin1 6 (i_aload 0 7) := s_aload_n dJ8_isLatin1_6 rfl
theorem eJ8_isLatin1_7 : SiZ nJ8_isLatin1 7 (i_getf 166 [60] 10) := s_getfS (n := "coder") (d := "B") dJ8_isLatin1_7 (by decide) q1753
theorem eJ8_isLatin1_10 : SiZ nJ8_isLatin1 10 (i_if (fun x => ¬ x = 0) 17 13) := s_if_ne dJ8_isLatin1_10 (by decide)
theorem eJ8_isLatin1_13 : SiZ nJ8_isLatin1 13 (i_push (.int 1) 14) := s_iconst dJ8_isLatin1_13 (by decide)
theorem eJ8_isLatin1_14 : SiZ nJ8_isLatin1 14 (i_goto 18) := s_goto dJ8_isLatin1_14 (by decide)
theorem eJ8_isLatin1_17 : SiZ nJ8_isLatin1 17 (i_push (.int 0) 18) := s_iconst dJ8_isLatin1_17 (by decide)
theorem eJ8_isLatin1_18 : SiZ nJ8_isLatin1 18 i_zret := s_zret dJ8_isLatin1_18 rfl
theorem aJ8_isLatin1 : ∀ x ∈ mJ8_isLatin1.1, EnZ nJ8_isLatin1 x := fm_cons eJ8_isLatin1_0 (fm_cons eJ8_isLatin1_3 (fm_cons eJ8_isLatin1_6 (fm_cons eJ8_isLatin1_7 (fm_cons eJ8_isLatin1_10 (fm_cons eJ8_isLatin1_13 (fm_cons eJ8_isLatin1_14 (fm_cons eJ8_isLatin1_17 (fm_cons eJ8_isLatin1_18 (fm_nil)))))))))
theorem zJ8_isLatin1 : SwZ nJ8_isLatin1 (Mt mJ8_isLatin1 1) := wholeZ (mi := nJ8_isLatin1) (cd := mJ8_isLatin1) aJ8_isLatin1 rfl (HdZ.none rfl)
abbrev nJ10_checkIndex : MI := (cJ10_checkIndex, 3, (some (.int)), RJ10, "checkIndex", [], 0, 0)
theorem hyJ10_checkIndex : yJ10_checkIndex.cls ≠ "java/lang/invoke/MethodHandle" ∧ yJ10_checkIndex.cls ≠ "java/lang/invoke/VarHandle" := by decide +kernel
theorem pnJ10_checkIndex : (parseMethodDescriptor yJ10_checkIndex.desc).map (fun d => d.parameters.length) = some 3 := by decide +kernel
theorem wdJ10_checkIndex : CdW yJ10_checkIndex (nJ10_checkIndex) := ⟨Or.inl ⟨q655, rfl⟩, rfl, rfl, plainFor_of_name (by decide +kernel)⟩
theorem eJ10_checkIndex_0 : SiZ nJ10_checkIndex 0 (i_iload 0 1) := s_iload_n dJ10_checkIndex_0 rfl
theorem eJ10_checkIndex_1 : SiZ nJ10_checkIndex 1 (i_if (fun x => x < 0) 9 4) := s_if_lt dJ10_checkIndex_1 (by decide)
theorem eJ10_checkIndex_4 : SiZ nJ10_checkIndex 4 (i_iload 0 5) := s_iload_n dJ10_checkIndex_4 rfl
theorem eJ10_checkIndex_5 : SiZ nJ10_checkIndex 5 (i_iload 1 6) := s_iload_n dJ10_checkIndex_5 rfl
theorem eJ10_checkIndex_6 : SiZ nJ10_checkIndex 6 (i_icmp (fun x y => x < y) 16 9) := s_icmp_lt dJ10_checkIndex_6 (by decide)
theorem eJ10_checkIndex_9 : SiZ nJ10_checkIndex 9 (i_aload 2 10) := s_aload_n dJ10_checkIndex_9 rfl
theorem eJ10_checkIndex_10 : SiZ nJ10_checkIndex 10 (i_iload 0 11) := s_iload_n dJ10_checkIndex_10 rfl
theorem eJ10_checkIndex_11 : SiZ nJ10_checkIndex 11 (i_iload 1 12) := s_iload_n dJ10_checkIndex_11 rfl
theorem eJ10_checkIndex_16 : SiZ nJ10_checkIndex 16 (i_iload 0 17) := s_iload_n dJ10_checkIndex_16 rfl
theorem eJ10_checkIndex_17 : SiZ nJ10_checkIndex 17 i_iret := s_iret dJ10_checkIndex_17 rfl
theorem aJ10_checkIndex : ∀ x ∈ mJ10_checkIndex.1, EnZ nJ10_checkIndex x := fm_cons eJ10_checkIndex_0 (fm_cons eJ10_checkIndex_1 (fm_cons eJ10_checkIndex_4 (fm_cons eJ10_checkIndex_5 (fm_cons eJ10_checkIndex_6 (fm_cons eJ10_checkIndex_9 (fm_cons eJ10_checkIndex_10 (fm_cons eJ10_checkIndex_11 (fm_cons eJ10_checkIndex_16 (fm_cons eJ10_checkIndex_17 (fm_nil))))))))))
theorem zJ10_checkIndex : SwZ nJ10_checkIndex (Mt mJ10_checkIndex 3) := wholeZ (mi := nJ10_checkIndex) (cd := mJ10_checkIndex) aJ10_checkIndex rfl (HdZ.none rfl)
abbrev nJ8_checkIndex : MI := (cJ8_checkIndex, 2, none, RJ8, "checkIndex", [], 1, 26)
theorem hyJ8_checkIndex : yJ8_checkIndex.cls ≠ "java/lang/invoke/MethodHandle" ∧ yJ8_checkIndex.cls ≠ "java/lang/invoke/VarHandle" := by decide +kernel
theorem pnJ8_checkIndex : (parseMethodDescriptor yJ8_checkIndex.desc).map (fun d => d.parameters.length) = some 2 := by decide +kernel
theorem wdJ8_checkIndex : CdW yJ8_checkIndex (nJ8_checkIndex) := ⟨Or.inl ⟨q650, rfl⟩, rfl, rfl, plainFor_of_name (by decide +kernel)⟩
theorem eJ8_checkIndex_0 : SiZ nJ8_checkIndex 0 (i_iload 0 1) := s_iload_n dJ8_checkIndex_0 rfl
theorem eJ8_checkIndex_1 : SiZ nJ8_checkIndex 1 (i_iload 1 2) := s_iload_n dJ8_checkIndex_1 rfl
theorem eJ8_checkIndex_2 : SiZ nJ8_checkIndex 2 (i_gets 1007 5) := s_gets dJ8_checkIndex_2 q651 (fun cA z U hh H h => h.2.2.2.2.1)
theorem eJ8_checkIndex_5 : ScZ nJ8_checkIndex 5 (c_S 3 8 3 (Mt mJ10_checkIndex 3)) := e_S (mi := nJ8_checkIndex) (mi' := nJ10_checkIndex) (len := 3) (fun h as rest hl => cs_S (mi := nJ8_checkIndex) (pc := 5) (y := yJ10_checkIndex) (idx := 1059) dJ8_checkIndex_5 q653 q654 q102 q655 hyJ10_checkIndex pnJ10_checkIndex hl) wdJ10_checkIndex zJ10_checkIndex (Nat.le_of_ble_eq_true rfl) (Nat.le_of_ble_eq_true rfl)
theorem eJ8_checkIndex_8 : SiZ nJ8_checkIndex 8 (i_pop 9) := s_pop dJ8_checkIndex_8
theorem eJ8_checkIndex_9 : SiZ nJ8_checkIndex 9 i_vret := s_vret dJ8_checkIndex_9 rfl
theorem aJ8_checkIndex : ∀ x ∈ mJ8_checkIndex.1, EnZ nJ8_checkIndex x := fm_cons eJ8_checkIndex_0 (fm_cons eJ8_checkIndex_1 (fm_cons eJ8_checkIndex_2 (fm_cons eJ8_checkIndex_5 (fm_cons eJ8_checkIndex_8 (fm_cons eJ8_checkIndex_9 (fm_nil))))))
theorem zJ8_checkIndex : SwZ nJ8_checkIndex (Mt mJ8_checkIndex 2) := wholeZ (mi := nJ8_checkIndex) (cd := mJ8_checkIndex) aJ8_checkIndex rfl (HdZ.none rfl)
abbrev nJ9_charAt : MI := (cJ9_charAt, 2, (some (.char)), RJ9, "charAt", [], 2, 51)
theorem hyJ9_charAt : yJ9_charAt.cls ≠ "java/lang/invoke/MethodHandle" ∧ yJ9_charAt.cls ≠ "java/lang/invoke/VarHandle" := by decide +kernel
theorem pnJ9_charAt : (parseMethodDescriptor yJ9_charAt.desc).map (fun d => d.parameters.length) = some 2 := by decide +kernel
theorem wdJ9_charAt : CdW yJ9_charAt (nJ9_charAt) := ⟨Or.inl ⟨q647, rfl⟩, rfl, rfl, plainFor_of_name (by decide +kernel)⟩
theorem eJ9_charAt_0 : SiZ nJ9_charAt 0 (i_iload 1 1) := s_iload_n dJ9_charAt_0 rfl
theorem eJ9_charAt_1 : SiZ nJ9_charAt 1 (i_aload 0 2) := s_aload_n dJ9_charAt_1 rfl
theorem eJ9_charAt_2 : SiZ nJ9_charAt 2 (i_alen [61] 3) := s_alen dJ9_charAt_2 (fm_cons (Or.inr (Or.inr (Or.inr (Or.inr rfl)))) (fm_nil))
theorem eJ9_charAt_3 : ScZ nJ9_charAt 3 (c_S 2 6 2 (Mt mJ8_checkIndex 2)) := e_S (mi := nJ9_charAt) (mi' := nJ8_checkIndex) (len := 3) (fun h as rest hl => cs_S (mi := nJ9_charAt) (pc := 3) (y := yJ8_checkIndex) (idx := 9) dJ9_charAt_3 q648 q649 q97 q650 hyJ8_checkIndex pnJ8_checkIndex hl) wdJ8_checkIndex zJ8_checkIndex (Nat.le_of_ble_eq_true rfl) (Nat.le_of_ble_eq_true rfl)
theorem eJ9_charAt_6 : SiZ nJ9_charAt 6 (i_aload 0 7) := s_aload_n dJ9_charAt_6 rfl
theorem eJ9_charAt_7 : SiZ nJ9_charAt 7 (i_iload 1 8) := s_iload_n dJ9_charAt_7 rfl
theorem eJ9_charAt_8 : SiZ nJ9_charAt 8 (i_iald 61 9) := s_aldB dJ9_charAt_8
theorem eJ9_charAt_9 : SiZ nJ9_charAt 9 (i_push (.int 255) 12) := s_sipush dJ9_charAt_9 (by decide)
theorem eJ9_charAt_12 : SiZ nJ9_charAt 12 (i_bin (fun x y => x &&& y) 13) := s_iand dJ9_charAt_12
theorem eJ9_charAt_13 : SiZ nJ9_charAt 13 (i_un (fun x => (x.toUInt32 % 65536).toInt32) 14) := s_i2c dJ9_charAt_13
theorem eJ9_charAt_14 : SiZ nJ9_charAt 14 i_cret := s_cret dJ9_charAt_14 rfl
theorem aJ9_charAt : ∀ x ∈ mJ9_charAt.1, EnZ nJ9_charAt x := fm_cons eJ9_charAt_0 (fm_cons eJ9_charAt_1 (fm_cons eJ9_charAt_2 (fm_cons eJ9_charAt_3 (fm_cons eJ9_charAt_6 (fm_cons eJ9_charAt_7 (fm_cons eJ9_charAt_8 (fm_cons eJ9_charAt_9 (fm_cons eJ9_charAt_12 (fm_cons eJ9_charAt_13 (fm_cons eJ9_charAt_14 (fm_nil)))))))))))
theorem zJ9_charAt : SwZ nJ9_charAt (Mt mJ9_charAt 2) := wholeZ (mi := nJ9_charAt) (cd := mJ9_charAt) aJ9_charAt rfl (HdZ.none rfl)
abbrev nJ8_charAt : MI := (cJ8_charAt, 2, (some (.char)), RJ8, "charAt", [], 3, 76)
theorem hyJ8_charAt : yJ8_charAt.cls ≠ "java/lang/invoke/MethodHandle" ∧ yJ8_charAt.cls ≠ "java/lang/invoke/VarHandle" := by decide +kernel
theorem pnJ8_charAt : (parseMethodDescriptor yJ8_charAt.desc).map (fun d => d.parameters.length) = some 1 := by decide +kernel
theorem wdJ8_charAt : CdW yJ8_charAt (nJ8_charAt) := ⟨Or.inl ⟨q640, rfl⟩, rfl, rfl, plainFor_of_name (by decide +kernel)⟩
theorem eJ8_charAt_0 : SiZ nJ8_charAt 0 (i_aload 0 1) := s_aload_n dJ8_charAt_0 rfl
theorem eJ8_charAt_1 : ScZ nJ8_charAt 1 (c_V 0 4 1 60 (Mt mJ8_isLatin1 1)) := e_V (mi := nJ8_charAt) (mi' := nJ8_isLatin1) (len := 3) (fun h b as rest hk hl => cs_VS (mi := nJ8_charAt) (pc := 1) (y := yJ8_isLatin1) (idx := 492) dJ8_charAt_1 q641 q642 q643 hk hyJ8_isLatin1 (sigC q644) pnJ8_isLatin1 hl) wdJ8_isLatin1 zJ8_isLatin1 (Nat.le_of_ble_eq_true rfl) (Nat.le_of_ble_eq_true rfl)
theorem eJ8_charAt_4 : SiZ nJ8_charAt 4 (i_if (fun x => x = 0) 16 7) := s_if_eq dJ8_charAt_4 (by decide)
theorem eJ8_charAt_7 : SiZ nJ8_charAt 7 (i_aload 0 8) := s_aload_n dJ8_charAt_7 rfl
theorem eJ8_charAt_8 : SiZ nJ8_charAt 8 (i_getf 165 [60] 11) := s_getfS (n := "value") (d := "[B") dJ8_charAt_8 (by decide) q1752
theorem eJ8_charAt_11 : SiZ nJ8_charAt 11 (i_iload 1 12) := s_iload_n dJ8_charAt_11 rfl
theorem eJ8_charAt_12 : ScZ nJ8_charAt 12 (c_S 2 15 2 (Mt mJ9_charAt 2)) := e_S (mi := nJ8_charAt) (mi' := nJ9_charAt) (len := 3) (fun h as rest hl => cs_S (mi := nJ8_charAt) (pc := 12) (y := yJ9_charAt) (idx := 495) dJ8_charAt_12 q645 q646 q101 q647 hyJ9_charAt pnJ9_charAt hl) wdJ9_charAt zJ9_charAt (Nat.le_of_ble_eq_true rfl) (Nat.le_of_ble_eq_true rfl)
theorem eJ8_charAt_15 : SiZ nJ8_charAt 15 i_cret := s_cret dJ8_charAt_15 rfl
theorem eJ8_charAt_16 : SiZ nJ8_charAt 16 (i_aload 0 17) := s_aload_n dJ8_charAt_16 rfl
theorem eJ8_charAt_17 : SiZ nJ8_charAt 17 (i_getf 165 [60] 20) := s_getfS (n := "value") (d := "[B") dJ8_charAt_17 (by decide) q1752
theorem eJ8_charAt_20 : SiZ nJ8_charAt 20 (i_iload 1 21) := s_iload_n dJ8_charAt_20 rfl
theorem eJ8_charAt_24 : SiZ nJ8_charAt 24 i_cret := s_cret dJ8_charAt_24 rfl
theorem aJ8_charAt : ∀ x ∈ mJ8_charAt.1, EnZ nJ8_charAt x := fm_cons eJ8_charAt_0 (fm_cons eJ8_charAt_1 (fm_cons eJ8_charAt_4 (fm_cons eJ8_charAt_7 (fm_cons eJ8_charAt_8 (fm_cons eJ8_charAt_11 (fm_cons eJ8_charAt_12 (fm_cons eJ8_charAt_15 (fm_cons eJ8_charAt_16 (fm_cons eJ8_charAt_17 (fm_cons eJ8_charAt_20 (fm_cons eJ8_charAt_24 (fm_nil))))))))))))
theorem zJ8_charAt : SwZ nJ8_charAt (Mt mJ8_charAt 2) := wholeZ (mi := nJ8_charAt) (cd := mJ8_charAt) aJ8_charAt rfl (HdZ.none rfl)
abbrev nX12_sortIn : MI := (cX12_sortIn, 4, (some (.int)), RX12, "sortIn", [], 4, 101)
theorem hyX12_sortIn : yX12_sortIn.cls ≠ "java/lang/invoke/MethodHandle" ∧ yX12_sortIn.cls ≠ "java/lang/invoke/VarHandle" := by decide +kernel
theorem pnX12_sortIn : (parseMethodDescriptor yX12_sortIn.desc).map (fun d => d.parameters.length) = some 3 := by decide +kernel
theorem wdX12_sortIn : CdW yX12_sortIn (nX12_sortIn) := ⟨Or.inl ⟨q626, rfl⟩, rfl, rfl, plainFor_of_name (by decide +kernel)⟩
theorem eX12_sortIn_0 : SiZ nX12_sortIn 0 (i_push (.int 0) 1) := s_iconst dX12_sortIn_0 (by decide)
theorem eX12_sortIn_1 : SiZ nX12_sortIn 1 (i_istore 3 2) := s_istore_n dX12_sortIn_1 rfl
theorem eX12_sortIn_2 : SiZ nX12_sortIn 2 (i_iload 3 3) := s_iload_n dX12_sortIn_2 rfl
theorem eX12_sortIn_3 : SiZ nX12_sortIn 3 (i_aload 0 4) := s_aload_n dX12_sortIn_3 rfl
theorem eX12_sortIn_4 : ScZ nX12_sortIn 4 (c_V 0 7 1 60 (Mt mJ8_length 1)) := e_V (mi := nX12_sortIn) (mi' := nJ8_length) (len := 3) (fun h b as rest hk hl => cs_VS (mi := nX12_sortIn) (pc := 4) (y := yJ8_length) (idx := 75) dX12_sortIn_4 q627 q628 q629 hk hyJ8_length (sigC q630) pnJ8_length hl) wdJ8_length zJ8_length (Nat.le_of_ble_eq_true rfl) (Nat.le_of_ble_eq_true rfl)
theorem eX12_sortIn_7 : SiZ nX12_sortIn 7 (i_icmp (fun x y => y ≤ x) 30 10) := s_icmp_ge dX12_sortIn_7 (by decide)
theorem eX12_sortIn_10 : SiZ nX12_sortIn 10 (i_iload 1 11) := s_iload_n dX12_sortIn_10 rfl
theorem eX12_sortIn_11 : SiZ nX12_sortIn 11 (i_push (.int 1) 12) := s_iconst dX12_sortIn_11 (by decide)
theorem eX12_sortIn_12 : SiZ nX12_sortIn 12 (i_icmp (fun x y => ¬ x = y) 24 15) := s_icmp_ne dX12_sortIn_12 (by decide)
theorem eX12_sortIn_15 : SiZ nX12_sortIn 15 (i_aload 0 16) := s_aload_n dX12_sortIn_15 rfl
theorem eX12_sortIn_16 : SiZ nX12_sortIn 16 (i_iload 3 17) := s_iload_n dX12_sortIn_16 rfl
theorem eX12_sortIn_17 : ScZ nX12_sortIn 17 (c_V 1 20 2 60 (Mt mJ8_charAt 2)) := e_V (mi := nX12_sortIn) (mi' := nJ8_charAt) (len := 3) (fun h b as rest hk hl => cs_VS (mi := nX12_sortIn) (pc := 17) (y := yJ8_charAt) (idx := 80) dX12_sortIn_17 q637 q638 q639 hk hyJ8_charAt (sigC q640) pnJ8_charAt hl) wdJ8_charAt zJ8_charAt (Nat.le_of_ble_eq_true rfl) (Nat.le_of_ble_eq_true rfl)
theorem eX12_sortIn_20 : SiZ nX12_sortIn 20 (i_iload 2 21) := s_iload_n dX12_sortIn_20 rfl
theorem eX12_sortIn_21 : SiZ nX12_sortIn 21 (i_icmp (fun x y => x = y) 30 24) := s_icmp_eq dX12_sortIn_21 (by decide)
theorem eX12_sortIn_24 : SiZ nX12_sortIn 24 (i_iinc 3 1 27) := s_iinc dX12_sortIn_24 (by decide)
theorem eX12_sortIn_27 : SiZ nX12_sortIn 27 (i_goto 2) := s_goto dX12_sortIn_27 (by decide)
theorem eX12_sortIn_30 : SiZ nX12_sortIn 30 (i_iload 3 31) := s_iload_n dX12_sortIn_30 rfl
theorem eX12_sortIn_31 : SiZ nX12_sortIn 31 (i_aload 0 32) := s_aload_n dX12_sortIn_31 rfl
theorem eX12_sortIn_32 : ScZ nX12_sortIn 32 (c_V 0 35 1 60 (Mt mJ8_length 1)) := e_V (mi := nX12_sortIn) (mi' := nJ8_length) (len := 3) (fun h b as rest hk hl => cs_VS (mi := nX12_sortIn) (pc := 32) (y := yJ8_length) (idx := 75) dX12_sortIn_32 q627 q628 q629 hk hyJ8_length (sigC q630) pnJ8_length hl) wdJ8_length zJ8_length (Nat.le_of_ble_eq_true rfl) (Nat.le_of_ble_eq_true rfl)
theorem eX12_sortIn_35 : SiZ nX12_sortIn 35 (i_icmp (fun x y => y ≤ x) 42 38) := s_icmp_ge dX12_sortIn_35 (by decide)
theorem eX12_sortIn_38 : SiZ nX12_sortIn 38 (i_iload 3 39) := s_iload_n dX12_sortIn_38 rfl
theorem eX12_sortIn_39 : SiZ nX12_sortIn 39 (i_goto 44) := s_goto dX12_sortIn_39 (by decide)
theorem eX12_sortIn_42 : SiZ nX12_sortIn 42 (i_push (.int (-1000000)) 44) := s_ldc dX12_sortIn_42 q558
theorem eX12_sortIn_44 : SiZ nX12_sortIn 44 i_iret := s_iret dX12_sortIn_44 rfl
theorem aX12_sortIn : ∀ x ∈ mX12_sortIn.1, EnZ nX12_sortIn x := fm_cons eX12_sortIn_0 (fm_cons eX12_sortIn_1 (fm_cons eX12_sortIn_2 (fm_cons eX12_sortIn_3 (fm_cons eX12_sortIn_4 (fm_cons eX12_sortIn_7 (fm_cons eX12_sortIn_10 (fm_cons eX12_sortIn_11 (fm_cons eX12_sortIn_12 (fm_cons eX12_sortIn_15 (fm_cons eX12_sortIn_16 (fm_cons eX12_sortIn_17 (fm_cons eX12_sortIn_20 (fm_cons eX12_sortIn_21 (fm_cons eX12_sortIn_24 (fm_cons eX12_sortIn_27 (fm_cons eX12_sortIn_30 (fm_cons eX12_sortIn_31 (fm_cons eX12_sortIn_32 (fm_cons eX12_sortIn_35 (fm_cons eX12_sortIn_38 (fm_cons eX12_sortIn_39 (fm_cons eX12_sortIn_42 (fm_cons eX12_sortIn_44 (fm_nil))))))))))))))))))))))))
theorem zX12_sortIn : SwZ nX12_sortIn (Mt mX12_sortIn 4) := wholeZ (mi := nX12_sortIn) (cd := mX12_sortIn) aX12_sortIn rfl (HdZ.none rfl)
abbrev nX12_sortOf : MI := (cX12_sortOf, 2, (some (.int)), RX12, "sortOf", [], 5, 128)
theorem hyX12_sortOf : yX12_sortOf.cls ≠ "java/lang/invoke/MethodHandle" ∧ yX12_sortOf.cls ≠ "java/lang/invoke/VarHandle" := by decide +kernel
theorem pnX12_sortOf : (parseMethodDescriptor yX12_sortOf.desc).map (fun d => d.parameters.length) = some 1 := by decide +kernel
theorem wdX12_sortOf : CdW yX12_sortOf (nX12_sortOf) := ⟨Or.inl ⟨q623, rfl⟩, rfl, rfl, plainFor_of_name (by decide +kernel)⟩
theorem eX12_sortOf_0 : SiZ nX12_sortOf 0 (i_aload 1 1) := s_aload_n dX12_sortOf_0 rfl
theorem eX12_sortOf_1 : SiZ nX12_sortOf 1 (i_aload 0 2) := s_aload_n dX12_sortOf_1 rfl
theorem eX12_sortOf_2 : SiZ nX12_sortOf 2 (i_getf 146 [12] 5) := s_getf dX12_sortOf_2 (fm_cons (⟨_, _, _, _, _, _, rfl, fkX12_40_12⟩) (fm_nil))
theorem eX12_sortOf_5 : SiZ nX12_sortOf 5 (i_aload 0 6) := s_aload_n dX12_sortOf_5 rfl
theorem eX12_sortOf_6 : SiZ nX12_sortOf 6 (i_getf 150 [12] 9) := s_getf dX12_sortOf_6 (fm_cons (⟨_, _, _, _, _, _, rfl, fkX12_37_12⟩) (fm_nil))
theorem eX12_sortOf_9 : ScZ nX12_sortOf 9 (c_S 3 12 4 (Mt mX12_sortIn 4)) := e_S (mi := nX12_sortOf) (mi' := nX12_sortIn) (len := 3) (fun h as rest hl => cs_S (mi := nX12_sortOf) (pc := 9) (y := yX12_sortIn) (idx := 84) dX12_sortOf_9 q624 q625 q99 q626 hyX12_sortIn pnX12_sortIn hl) wdX12_sortIn zX12_sortIn (Nat.le_of_ble_eq_true rfl) (Nat.le_of_ble_eq_true rfl)
theorem eX12_sortOf_12 : SiZ nX12_sortOf 12 i_iret := s_iret dX12_sortOf_12 rfl
theorem aX12_sortOf : ∀ x ∈ mX12_sortOf.1, EnZ nX12_sortOf x := fm_cons eX12_sortOf_0 (fm_cons eX12_sortOf_1 (fm_cons eX12_sortOf_2 (fm_cons eX12_sortOf_5 (fm_cons eX12_sortOf_6 (fm_cons eX12_sortOf_9 (fm_cons eX12_sortOf_12 (fm_nil)))))))
theorem zX12_sortOf : SwZ nX12_sortOf (Mt mX12_sortOf 2) := wholeZ (mi := nX12_sortOf) (cd := mX12_sortOf) aX12_sortOf rfl (HdZ.none rfl)
abbrev nJ2_size : MI := (cJ2_size, 1, (some (.int)), RJ2, "size", [], 0, 0)
theorem hyJ2_size : yJ2_size.cls ≠ "java/lang/invoke/MethodHandle" ∧ yJ2_size.cls ≠ "java/lang/invoke/VarHandle" := by decide +kernel
theorem pnJ2_size : (parseMethodDescriptor yJ2_size.desc).map (fun d => d.parameters.length) = some 0 := by decide +kernel
theorem wdJ2_size : CdW yJ2_size (nJ2_size) := ⟨Or.inl ⟨q692, rfl⟩, rfl, rfl, plainFor_of_name (by decide +kernel)⟩
theorem eJ2_size_0 : SiZ nJ2_size 0 (i_aload 0 1) := s_aload_n dJ2_size_0 rfl
theorem eJ2_size_1 : SiZ nJ2_size 1 (i_getf 162 [14] 4) := s_getf dJ2_size_1 (fm_cons (⟨_, _, _, _, _, _, rfl, fkJ2_48_14⟩) (fm_nil))
theorem eJ2_size_4 : SiZ nJ2_size 4 i_iret := s_iret dJ2_size_4 rfl
theorem aJ2_size : ∀ x ∈ mJ2_size.1, EnZ nJ2_size x := fm_cons eJ2_size_0 (fm_cons eJ2_size_1 (fm_cons eJ2_size_4 (fm_nil)))
theorem zJ2_size : SwZ nJ2_size (Mt mJ2_size 1) := wholeZ (mi := nJ2_size) (cd := mJ2_size) aJ2_size rfl (HdZ.none rfl)
abbrev nX1_many : MI := (cX1_many, 1, (some (.int)), RX1, "many", [], 1, 24)
theorem hyX1_many : yX1_many.cls ≠ "java/lang/invoke/MethodHandle" ∧ yX1_many.cls ≠ "java/lang/invoke/VarHandle" := by decide +kernel
theorem pnX1_many : (parseMethodDescriptor yX1_many.desc).map (fun d => d.parameters.length) = some 0 := by decide +kernel
theorem wdX1_many : CdW yX1_many (nX1_many) := ⟨Or.inl ⟨q682, rfl⟩, rfl, rfl, plainFor_of_name (by decide +kernel)⟩
theorem eX1_many_0 : SiZ nX1_many 0 (i_aload 0 1) := s_aload_n dX1_many_0 rfl
theorem eX1_many_1 : SiZ nX1_many 1 (i_getf 51 [2] 4) := s_getf dX1_many_1 (fm_cons (⟨_, _, _, _, _, _, rfl, fkX1_27_2⟩) (fm_nil))
theorem eX1_many_4 : ScZ nX1_many 4 (c_V 0 9 1 14 (Mt mJ2_size 1)) := e_V (mi := nX1_many) (mi' := nJ2_size) (len := 5) (fun h b as rest hk hl => cs_F (ci := 13) (mi := nX1_many) (pc := 4) (y := yJ2_size) (idx := 69) dX1_many_4 q684 q688 q690 (by decide +kernel) rfl hk pnJ2_size hl) wdJ2_size zJ2_size (Nat.le_of_ble_eq_true rfl) (Nat.le_of_ble_eq_true rfl)
theorem eX1_many_9 : SiZ nX1_many 9 i_iret := s_iret dX1_many_9 rfl
theorem aX1_many : ∀ x ∈ mX1_many.1, EnZ nX1_many x := fm_cons eX1_many_0 (fm_cons eX1_many_1 (fm_cons eX1_many_4 (fm_cons eX1_many_9 (fm_nil))))
theorem zX1_many : SwZ nX1_many (Mt mX1_many 1) := wholeZ (mi := nX1_many) (cd := mX1_many) aX1_many rfl (HdZ.none rfl)
abbrev nX0_fishBy : MI := (cX0_fishBy, 2, (some (.object "FishReaders$Fish")), RX0, "fishBy", [], 4, 99)
theorem hyX0_fishBy : yX0_fishBy.cls ≠ "java/lang/invoke/MethodHandle" ∧ yX0_fishBy.cls ≠ "java/lang/invoke/VarHandle" := by decide +kernel
theorem pnX0_fishBy : (parseMethodDescriptor yX0_fishBy.desc).map (fun d => d.parameters.length) = some 2 := by decide +kernel
theorem wdX0_fishBy : CdW yX0_fishBy (nX0_fishBy) := ⟨Or.inl ⟨q695, rfl⟩, rfl, rfl, plainFor_of_name (by decide +kernel)⟩
theorem eX0_fishBy_0 : SiZ nX0_fishBy 0 (i_iload 0 1) := s_iload_n dX0_fishBy_0 rfl
theorem eX0_fishBy_1 : SiZ nX0_fishBy 1 (i_tsw 0 [32, 41, 50, 59] 68) := s_tsw dX0_fishBy_1 (by decide) (by decide) (by decide)
theorem eX0_fishBy_32 : SiZ nX0_fishBy 32 (i_new 4 1 35) := s_new dX0_fishBy_32 q251 q252 q84 clX4 rfl (by decide)
theorem eX0_fishBy_35 : SiZ nX0_fishBy 35 (i_dup 36) := s_dup dX0_fishBy_35
theorem eX0_fishBy_36 : SiZ nX0_fishBy 36 (i_iload 1 37) := s_iload_n dX0_fishBy_36 rfl
theorem eX0_fishBy_37 : ScZ nX0_fishBy 37 (c_I 1 40 2 (Mt mX4_init 2)) := e_I (mi := nX0_fishBy) (mi' := nX4_init) (len := 3) (fun h b as rest hl => cs_I (mi := nX0_fishBy) (pc := 37) (y := yX4_init) (idx := 3) dX0_fishBy_37 rfl q253 q254 q255 hyX4_init pnX4_init hl) wdX4_init zX4_init (Nat.le_of_ble_eq_true rfl) (Nat.le_of_ble_eq_true rfl)
theorem eX0_fishBy_40 : SiZ nX0_fishBy 40 i_aret := s_aret dX0_fishBy_40 rfl (Or.inl ⟨_, rfl⟩)
theorem eX0_fishBy_41 : SiZ nX0_fishBy 41 (i_new 5 1 44) := s_new dX0_fishBy_41 q264 q265 q85 clX5 rfl (by decide)
theorem eX0_fishBy_44 : SiZ nX0_fishBy 44 (i_dup 45) := s_dup dX0_fishBy_44
theorem eX0_fishBy_45 : SiZ nX0_fishBy 45 (i_iload 1 46) := s_iload_n dX0_fishBy_45 rfl
theorem eX0_fishBy_46 : ScZ nX0_fishBy 46 (c_I 1 49 2 (Mt mX5_init 2)) := e_I (mi := nX0_fishBy) (mi' := nX5_init) (len := 3) (fun h b as rest hl => cs_I (mi := nX0_fishBy) (pc := 46) (y := yX5_init) (idx := 9) dX0_fishBy_46 rfl q266 q267 q268 hyX5_init pnX5_init hl) wdX5_init zX5_init (Nat.le_of_ble_eq_true rfl) (Nat.le_of_ble_eq_true rfl)
theorem eX0_fishBy_49 : SiZ nX0_fishBy 49 i_aret := s_aret dX0_fishBy_49 rfl (Or.inl ⟨_, rfl⟩)
theorem eX0_fishBy_50 : SiZ nX0_fishBy 50 (i_new 6 1 53) := s_new dX0_fishBy_50 q272 q273 q86 clX6 rfl (by decide)
theorem eX0_fishBy_53 : SiZ nX0_fishBy 53 (i_dup 54) := s_dup dX0_fishBy_53
theorem eX0_fishBy_54 : SiZ nX0_fishBy 54 (i_iload 1 55) := s_iload_n dX0_fishBy_54 rfl
theorem eX0_fishBy_55 : ScZ nX0_fishBy 55 (c_I 1 58 2 (Mt mX6_init 2)) := e_I (mi := nX0_fishBy) (mi' := nX6_init) (len := 3) (fun h b as rest hl => cs_I (mi := nX0_fishBy) (pc := 55) (y := yX6_init) (idx := 12) dX0_fishBy_55 rfl q274 q275 q276 hyX6_init pnX6_init hl) wdX6_init zX6_init (Nat.le_of_ble_eq_true rfl) (Nat.le_of_ble_eq_true rfl)
theorem eX0_fishBy_58 : SiZ nX0_fishBy 58 i_aret := s_aret dX0_fishBy_58 rfl (Or.inl ⟨_, rfl⟩)
theorem eX0_fishBy_59 : SiZ nX0_fishBy 59 (i_new 7 1 62) := s_new dX0_fishBy_59 q280 q281 q87 clX7 rfl (by decide)
theorem eX0_fishBy_62 : SiZ nX0_fishBy 62 (i_dup 63) := s_dup dX0_fishBy_62
theorem eX0_fishBy_63 : SiZ nX0_fishBy 63 (i_iload 1 64) := s_iload_n dX0_fishBy_63 rfl
theorem eX0_fishBy_64 : ScZ nX0_fishBy 64 (c_I 1 67 2 (Mt mX7_init 2)) := e_I (mi := nX0_fishBy) (mi' := nX7_init) (len := 3) (fun h b as rest hl => cs_I (mi := nX0_fishBy) (pc := 64) (y := yX7_init) (idx := 15) dX0_fishBy_64 rfl q282 q283 q284 hyX7_init pnX7_init hl) wdX7_init zX7_init (Nat.le_of_ble_eq_true rfl) (Nat.le_of_ble_eq_true rfl)
theorem eX0_fishBy_67 : SiZ nX0_fishBy 67 i_aret := s_aret dX0_fishBy_67 rfl (Or.inl ⟨_, rfl⟩)
theorem eX0_fishBy_68 : SiZ nX0_fishBy 68 (i_new 8 1 71) := s_new dX0_fishBy_68 q288 q289 q88 clX8 rfl (by decide)
theorem eX0_fishBy_71 : SiZ nX0_fishBy 71 (i_dup 72) := s_dup dX0_fishBy_71
theorem eX0_fishBy_72 : SiZ nX0_fishBy 72 (i_iload 1 73) := s_iload_n dX0_fishBy_72 rfl
theorem eX0_fishBy_73 : ScZ nX0_fishBy 73 (c_I 1 76 2 (Mt mX8_init 2)) := e_I (mi := nX0_fishBy) (mi' := nX8_init) (len := 3) (fun h b as rest hl => cs_I (mi := nX0_fishBy) (pc := 73) (y := yX8_init) (idx := 18) dX0_fishBy_73 rfl q290 q291 q292 hyX8_init pnX8_init hl) wdX8_init zX8_init (Nat.le_of_ble_eq_true rfl) (Nat.le_of_ble_eq_true rfl)
theorem eX0_fishBy_76 : SiZ nX0_fishBy 76 i_aret := s_aret dX0_fishBy_76 rfl (Or.inl ⟨_, rfl⟩)
theorem aX0_fishBy : ∀ x ∈ mX0_fishBy.1, EnZ nX0_fishBy x := fm_cons eX0_fishBy_0 (fm_cons eX0_fishBy_1 (fm_cons eX0_fishBy_32 (fm_cons eX0_fishBy_35 (fm_cons eX0_fishBy_36 (fm_cons eX0_fishBy_37 (fm_cons eX0_fishBy_40 (fm_cons eX0_fishBy_41 (fm_cons eX0_fishBy_44 (fm_cons eX0_fishBy_45 (fm_cons eX0_fishBy_46 (fm_cons eX0_fishBy_49 (fm_cons eX0_fishBy_50 (fm_cons eX0_fishBy_53 (fm_cons eX0_fishBy_54 (fm_cons eX0_fishBy_55 (fm_cons eX0_fishBy_58 (fm_cons eX0_fishBy_59 (fm_cons eX0_fishBy_62 (fm_cons eX0_fishBy_63 (fm_cons eX0_fishBy_64 (fm_cons eX0_fishBy_67 (fm_cons eX0_fishBy_68 (fm_cons eX0_fishBy_71 (fm_cons eX0_fishBy_72 (fm_cons eX0_fishBy_73 (fm_cons eX0_fishBy_76 (fm_nil)))))))))))))))))))))))))))
theorem zX0_fishBy : SwZ nX0_fishBy (Mt mX0_fishBy 2) := wholeZ (mi := nX0_fishBy) (cd := mX0_fishBy) aX0_fishBy rfl (HdZ.none rfl)
abbrev nJ13_max : MI := (cJ13_max, 2, (some (.int)), RJ13, "max", [], 0, 0)
theorem hyJ13_max : yJ13_max.cls ≠ "java/lang/invoke/MethodHandle" ∧ yJ13_max.cls ≠ "java/lang/invoke/VarHandle" := by decide +kernel
theorem pnJ13_max : (parseMethodDescriptor yJ13_max.desc).map (fun d => d.parameters.length) = some 2 := by decide +kernel
theorem wdJ13_max : CdW yJ13_max (nJ13_max) := ⟨Or.inl ⟨q722, rfl⟩, rfl, rfl, by decide +kernel⟩
theorem eJ13_max_0 : SiZ nJ13_max 0 (i_iload 0 1) := s_iload_n dJ13_max_0 rfl
theorem eJ13_max_1 : SiZ nJ13_max 1 (i_iload 1 2) := s_iload_n dJ13_max_1 rfl
theorem eJ13_max_2 : SiZ nJ13_max 2 (i_icmp (fun x y => x < y) 9 5) := s_icmp_lt dJ13_max_2 (by decide)
theorem eJ13_max_5 : SiZ nJ13_max 5 (i_iload 0 6) := s_iload_n dJ13_max_5 rfl
theorem eJ13_max_6 : SiZ nJ13_max 6 (i_goto 10) := s_goto dJ13_max_6 (by decide)
theorem eJ13_max_9 : SiZ nJ13_max 9 (i_iload 1 10) := s_iload_n dJ13_max_9 rfl
theorem eJ13_max_10 : SiZ nJ13_max 10 i_iret := s_iret dJ13_max_10 rfl
theorem aJ13_max : ∀ x ∈ mJ13_max.1, EnZ nJ13_max x := fm_cons eJ13_max_0 (fm_cons eJ13_max_1 (fm_cons eJ13_max_2 (fm_cons eJ13_max_5 (fm_cons eJ13_max_6 (fm_cons eJ13_max_9 (fm_cons eJ13_max_10 (fm_nil)))))))
theorem zJ13_max : SwZ nJ13_max (Mt mJ13_max 2) := wholeZ (mi := nJ13_max) (cd := mJ13_max) aJ13_max rfl (HdZ.none rfl)
abbrev nJ2_grow_2 : MI := (cJ2_grow_2, 4, (some (.array (.object "java/lang/Object"))), RJ2, "grow", [], 1, 25)
theorem hyJ2_grow_2 : yJ2_grow_2.cls ≠ "java/lang/invoke/MethodHandle" ∧ yJ2_grow_2.cls ≠ "java/lang/invoke/VarHandle" := by decide +kernel
theorem pnJ2_grow_2 : (parseMethodDescriptor yJ2_grow_2.desc).map (fun d => d.parameters.length) = some 1 := by decide +kernel
theorem wdJ2_grow_2 : CdW yJ2_grow_2 (nJ2_grow_2) := ⟨Or.inl ⟨q716, rfl⟩, rfl, rfl, plainFor_of_name (by decide +kernel)⟩
theorem eJ2_grow_2_0 : SiZ nJ2_grow_2 0 (i_aload 0 1) := s_aload_n dJ2_grow_2_0 rfl
theorem eJ2_grow_2_1 : SiZ nJ2_grow_2 1 (i_getf 161 [14] 4) := s_getf dJ2_grow_2_1 (fm_cons (⟨_, _, _, _, _, _, rfl, fkJ2_9_14⟩) (fm_nil))
theorem eJ2_grow_2_4 : SiZ nJ2_grow_2 4 (i_alen [57, 59] 5) := s_alen dJ2_grow_2_4 (fm_cons (Or.inr (Or.inl ⟨3, _, by decide, rfl, fun _ => rfl⟩)) (fm_cons (Or.inr (Or.inr (Or.inr (Or.inl rfl)))) (fm_nil)))
theorem eJ2_grow_2_5 : SiZ nJ2_grow_2 5 (i_istore 2 6) := s_istore_n dJ2_grow_2_5 rfl
theorem eJ2_grow_2_6 : SiZ nJ2_grow_2 6 (i_iload 2 7) := s_iload_n dJ2_grow_2_6 rfl
theorem eJ2_grow_2_7 : SiZ nJ2_grow_2 7 (i_if (fun x => 0 < x) 20 10) := s_if_gt dJ2_grow_2_7 (by decide)
theorem eJ2_grow_2_10 : SiZ nJ2_grow_2 10 (i_aload 0 11) := s_aload_n dJ2_grow_2_10 rfl
theorem eJ2_grow_2_11 : SiZ nJ2_grow_2 11 (i_getf 161 [14] 14) := s_getf dJ2_grow_2_11 (fm_cons (⟨_, _, _, _, _, _, rfl, fkJ2_9_14⟩) (fm_nil))
theorem eJ2_grow_2_14 : SiZ nJ2_grow_2 14 (i_gets 1001 17) := s_gets dJ2_grow_2_14 q138 (fun cA z U hh H h => h.1)
theorem eJ2_grow_2_17 : SiZ nJ2_grow_2 17 (i_acmp 45 20) := s_acmp_eq dJ2_grow_2_17 (by decide)
theorem eJ2_grow_2_20 : SiZ nJ2_grow_2 20 (i_iload 2 21) := s_iload_n dJ2_grow_2_20 rfl
theorem eJ2_grow_2_21 : SiZ nJ2_grow_2 21 (i_iload 1 22) := s_iload_n dJ2_grow_2_21 rfl
theorem eJ2_grow_2_22 : SiZ nJ2_grow_2 22 (i_iload 2 23) := s_iload_n dJ2_grow_2_22 rfl
theorem eJ2_grow_2_23 : SiZ nJ2_grow_2 23 (i_bin (fun x y => x - y) 24) := s_isub dJ2_grow_2_23
theorem eJ2_grow_2_24 : SiZ nJ2_grow_2 24 (i_iload 2 25) := s_iload_n dJ2_grow_2_24 rfl
theorem eJ2_grow_2_25 : SiZ nJ2_grow_2 25 (i_push (.int 1) 26) := s_iconst dJ2_grow_2_25 (by decide)
theorem eJ2_grow_2_26 : SiZ nJ2_grow_2 26 (i_bin (fun x y => x >>> (y &&& 31)) 27) := s_ishr dJ2_grow_2_26
theorem eJ2_grow_2_30 : SiZ nJ2_grow_2 30 (i_istore 3 31) := s_istore_n dJ2_grow_2_30 rfl
theorem eJ2_grow_2_31 : SiZ nJ2_grow_2 31 (i_aload 0 32) := s_aload_n dJ2_grow_2_31 rfl
theorem eJ2_grow_2_32 : SiZ nJ2_grow_2 32 (i_aload 0 33) := s_aload_n dJ2_grow_2_32 rfl
theorem eJ2_grow_2_33 : SiZ nJ2_grow_2 33 (i_getf 161 [14] 36) := s_getf dJ2_grow_2_33 (fm_cons (⟨_, _, _, _, _, _, rfl, fkJ2_9_14⟩) (fm_nil))
theorem eJ2_grow_2_36 : SiZ nJ2_grow_2 36 (i_iload 3 37) := s_iload_n dJ2_grow_2_36 rfl
theorem eJ2_grow_2_40 : SiZ nJ2_grow_2 40 (i_dup_x1 41) := s_dup_x1 dJ2_grow_2_40
theorem eJ2_grow_2_41 : SiZ nJ2_grow_2 41 (i_putR 161 [14] 44) := s_putR dJ2_grow_2_41 (fm_cons (⟨_, _, _, _, _, _, rfl, ⟨fkJ2_9_14, ⟨_, q140, Or.inl rfl⟩, Or.inl rfl⟩, (Or.inr ⟨_, rfl⟩)⟩) (fm_nil))
theorem eJ2_grow_2_44 : SiZ nJ2_grow_2 44 i_aret := s_aret dJ2_grow_2_44 rfl (Or.inr ⟨_, rfl⟩)
theorem eJ2_grow_2_45 : SiZ nJ2_grow_2 45 (i_aload 0 46) := s_aload_n dJ2_grow_2_45 rfl
theorem eJ2_grow_2_46 : SiZ nJ2_grow_2 46 (i_push (.int 10) 48) := s_bipush dJ2_grow_2_46 (by decide)
theorem eJ2_grow_2_48 : SiZ nJ2_grow_2 48 (i_iload 1 49) := s_iload_n dJ2_grow_2_48 rfl
theorem eJ2_grow_2_49 : ScZ nJ2_grow_2 49 (c_S 2 52 2 (Mt mJ13_max 2)) := e_S (mi := nJ2_grow_2) (mi' := nJ13_max) (len := 3) (fun h as rest hl => cs_S (mi := nJ2_grow_2) (pc := 49) (y := yJ13_max) (idx := 79) dJ2_grow_2_49 q760 q721 q105 q722 hyJ13_max pnJ13_max hl) wdJ13_max zJ13_max (Nat.le_of_ble_eq_true rfl) (Nat.le_of_ble_eq_true rfl)
theorem eJ2_grow_2_52 : SiZ nJ2_grow_2 52 (i_newr 57 55) := s_newr (j := 3) dJ2_grow_2_52 q761 (by decide) (by decide) (fun _ => rfl)
theorem eJ2_grow_2_55 : SiZ nJ2_grow_2 55 (i_dup_x1 56) := s_dup_x1 dJ2_grow_2_55
theorem eJ2_grow_2_56 : SiZ nJ2_grow_2 56 (i_putR 161 [14] 59) := s_putR dJ2_grow_2_56 (fm_cons (⟨_, _, _, _, _, _, rfl, ⟨fkJ2_9_14, ⟨_, q140, Or.inl rfl⟩, Or.inl rfl⟩, (Or.inr ⟨_, rfl⟩)⟩) (fm_nil))
theorem eJ2_grow_2_59 : SiZ nJ2_grow_2 59 i_aret := s_aret dJ2_grow_2_59 rfl (Or.inr ⟨_, rfl⟩)
theorem aJ2_grow_2 : ∀ x ∈ mJ2_grow_2.1, EnZ nJ2_grow_2 x := fm_cons eJ2_grow_2_0 (fm_cons eJ2_grow_2_1 (fm_cons eJ2_grow_2_4 (fm_cons eJ2_grow_2_5 (fm_cons eJ2_grow_2_6 (fm_cons eJ2_grow_2_7 (fm_cons eJ2_grow_2_10 (fm_cons eJ2_grow_2_11 (fm_cons eJ2_grow_2_14 (fm_cons eJ2_grow_2_17 (fm_cons eJ2_grow_2_20 (fm_cons eJ2_grow_2_21 (fm_cons eJ2_grow_2_22 (fm_cons eJ2_grow_2_23 (fm_cons eJ2_grow_2_24 (fm_cons eJ2_grow_2_25 (fm_cons eJ2_grow_2_26 (fm_cons eJ2_grow_2_30 (fm_cons eJ2_grow_2_31 (fm_cons eJ2_grow_2_32 (fm_cons eJ2_grow_2_33 (fm_cons eJ2_grow_2_36 (fm_cons eJ2_grow_2_40 (fm_cons eJ2_grow_2_41 (fm_cons eJ2_grow_2_44 (fm_cons eJ2_grow_2_45 (fm_cons eJ2_grow_2_46 (fm_cons eJ2_grow_2_48 (fm_cons eJ2_grow_2_49 (fm_cons eJ2_grow_2_52 (fm_cons eJ2_grow_2_55 (fm_cons eJ2_grow_2_56 (fm_cons eJ2_grow_2_59 (fm_nil)))))))))))))))))))))))))))))))))
theorem zJ2_grow_2 : SwZ nJ2_grow_2 (Mt mJ2_grow_2 4) := wholeZ (mi := nJ2_grow_2) (cd := mJ2_grow_2) aJ2_grow_2 rfl (HdZ.none rfl)
abbrev nJ2_grow : MI := (cJ2_grow, 1, (some (.array (.object "java/lang/Object"))), RJ2, "grow", [], 2, 52)
theorem hyJ2_grow : yJ2_grow.cls ≠ "java/lang/invoke/MethodHandle" ∧ yJ2_grow.cls ≠ "java/lang/invoke/VarHandle" := by decide +kernel
theorem pnJ2_grow : (parseMethodDescriptor yJ2_grow.desc).map (fun d => d.parameters.length) = some 0 := by decide +kernel
theorem wdJ2_grow : CdW yJ2_grow (nJ2_grow) := ⟨Or.inl ⟨q712, rfl⟩, rfl, rfl, plainFor_of_name (by decide +kernel)⟩
theorem eJ2_grow_0 : SiZ nJ2_grow 0 (i_aload 0 1) := s_aload_n dJ2_grow_0 rfl
theorem eJ2_grow_1 : SiZ nJ2_grow 1 (i_aload 0 2) := s_aload_n dJ2_grow_1 rfl
theorem eJ2_grow_2 : SiZ nJ2_grow 2 (i_getf 162 [14] 5) := s_getf dJ2_grow_2 (fm_cons (⟨_, _, _, _, _, _, rfl, fkJ2_48_14⟩) (fm_nil))
theorem eJ2_grow_5 : SiZ nJ2_grow 5 (i_push (.int 1) 6) := s_iconst dJ2_grow_5 (by decide)
theorem eJ2_grow_6 : SiZ nJ2_grow 6 (i_bin (fun x y => x + y) 7) := s_iadd dJ2_grow_6
theorem eJ2_grow_7 : ScZ nJ2_grow 7 (c_V 1 10 4 14 (Mt mJ2_grow_2 4)) := e_V (mi := nJ2_grow) (mi' := nJ2_grow_2) (len := 3) (fun h b as rest hk hl => cs_V (ci := 13) (mi := nJ2_grow) (pc := 7) (y := yJ2_grow_2) (idx := 69) dJ2_grow_7 q713 q715 qs17 rfl hk hyJ2_grow_2 (sigC q716) pnJ2_grow_2 hl) wdJ2_grow_2 zJ2_grow_2 (Nat.le_of_ble_eq_true rfl) (Nat.le_of_ble_eq_true rfl)
theorem eJ2_grow_10 : SiZ nJ2_grow 10 i_aret := s_aret dJ2_grow_10 rfl (Or.inr ⟨_, rfl⟩)
theorem aJ2_grow : ∀ x ∈ mJ2_grow.1, EnZ nJ2_grow x := fm_cons eJ2_grow_0 (fm_cons eJ2_grow_1 (fm_cons eJ2_grow_2 (fm_cons eJ2_grow_5 (fm_cons eJ2_grow_6 (fm_cons eJ2_grow_7 (fm_cons eJ2_grow_10 (fm_nil)))))))
theorem zJ2_grow : SwZ nJ2_grow (Mt mJ2_grow 1) := wholeZ (mi := nJ2_grow) (cd := mJ2_grow) aJ2_grow rfl (HdZ.none rfl)
abbrev nJ2_add_2 : MI := (cJ2_add_2, 4, none, RJ2, "add", [], 3, 76)
theorem hyJ2_add_2 : yJ2_add_2.cls ≠ "java/lang/invoke/MethodHandle" ∧ yJ2_add_2.cls ≠ "java/lang/invoke/VarHandle" := by decide +kernel
theorem pnJ2_add_2 : (parseMethodDescriptor yJ2_add_2.desc).map (fun d => d.parameters.length) = some 3 := by decide +kernel
theorem wdJ2_add_2 : CdW yJ2_add_2 (nJ2_add_2) := ⟨Or.inl ⟨q708, rfl⟩, rfl, rfl, plainFor_of_name (by decide +kernel)⟩
theorem eJ2_add_2_0 : SiZ nJ2_add_2 0 (i_iload 3 1) := s_iload_n dJ2_add_2_0 rfl
theorem eJ2_add_2_1 : SiZ nJ2_add_2 1 (i_aload 2 2) := s_aload_n dJ2_add_2_1 rfl
theorem eJ2_add_2_2 : SiZ nJ2_add_2 2 (i_alen [57, 59] 3) := s_alen dJ2_add_2_2 (fm_cons (Or.inr (Or.inl ⟨3, _, by decide, rfl, fun _ => rfl⟩)) (fm_cons (Or.inr (Or.inr (Or.inr (Or.inl rfl)))) (fm_nil)))
theorem eJ2_add_2_3 : SiZ nJ2_add_2 3 (i_icmp (fun x y => ¬ x = y) 11 6) := s_icmp_ne dJ2_add_2_3 (by decide)
theorem eJ2_add_2_6 : SiZ nJ2_add_2 6 (i_aload 0 7) := s_aload_n dJ2_add_2_6 rfl
theorem eJ2_add_2_7 : ScZ nJ2_add_2 7 (c_V 0 10 1 14 (Mt mJ2_grow 1)) := e_V (mi := nJ2_add_2) (mi' := nJ2_grow) (len := 3) (fun h b as rest hk hl => cs_V (ci := 13) (mi := nJ2_add_2) (pc := 7) (y := yJ2_grow) (idx := 129) dJ2_add_2_7 q709 q711 qs16 rfl hk hyJ2_grow (sigC q712) pnJ2_grow hl) wdJ2_grow zJ2_grow (Nat.le_of_ble_eq_true rfl) (Nat.le_of_ble_eq_true rfl)
theorem eJ2_add_2_10 : SiZ nJ2_add_2 10 (i_astore 2 11) := s_astore_n dJ2_add_2_10 rfl
theorem eJ2_add_2_11 : SiZ nJ2_add_2 11 (i_aload 2 12) := s_aload_n dJ2_add_2_11 rfl
theorem eJ2_add_2_12 : SiZ nJ2_add_2 12 (i_iload 3 13) := s_iload_n dJ2_add_2_12 rfl
theorem eJ2_add_2_13 : SiZ nJ2_add_2 13 (i_aload 1 14) := s_aload_n dJ2_add_2_13 rfl
theorem eJ2_add_2_14 : SiZ nJ2_add_2 14 (i_aast 57 [4, 5, 6, 7, 8] 15) := s_aast (j := 3) (by decide) (fun _ => rfl) dJ2_add_2_14 (fm_cons (⟨3, _, rfl, rfl, Or.inr q1729⟩) (fm_cons (⟨4, _, rfl, rfl, Or.inr q1730⟩) (fm_cons (⟨5, _, rfl, rfl, Or.inr q1731⟩) (fm_cons (⟨6, _, rfl, rfl, Or.inr q1732⟩) (fm_cons (⟨7, _, rfl, rfl, Or.inr q1733⟩) (fm_nil))))))
theorem eJ2_add_2_15 : SiZ nJ2_add_2 15 (i_aload 0 16) := s_aload_n dJ2_add_2_15 rfl
theorem eJ2_add_2_16 : SiZ nJ2_add_2 16 (i_iload 3 17) := s_iload_n dJ2_add_2_16 rfl
theorem eJ2_add_2_17 : SiZ nJ2_add_2 17 (i_push (.int 1) 18) := s_iconst dJ2_add_2_17 (by decide)
theorem eJ2_add_2_18 : SiZ nJ2_add_2 18 (i_bin (fun x y => x + y) 19) := s_iadd dJ2_add_2_18
theorem eJ2_add_2_19 : SiZ nJ2_add_2 19 (i_putI 162 [14] 22) := s_putI dJ2_add_2_19 (fm_cons (⟨_, _, _, _, _, _, rfl, ⟨fkJ2_48_14, ⟨_, q141, Or.inl rfl⟩, Or.inl rfl⟩, rfl⟩) (fm_nil))
theorem eJ2_add_2_22 : SiZ nJ2_add_2 22 i_vret := s_vret dJ2_add_2_22 rfl
theorem aJ2_add_2 : ∀ x ∈ mJ2_add_2.1, EnZ nJ2_add_2 x := fm_cons eJ2_add_2_0 (fm_cons eJ2_add_2_1 (fm_cons eJ2_add_2_2 (fm_cons eJ2_add_2_3 (fm_cons eJ2_add_2_6 (fm_cons eJ2_add_2_7 (fm_cons eJ2_add_2_10 (fm_cons eJ2_add_2_11 (fm_cons eJ2_add_2_12 (fm_cons eJ2_add_2_13 (fm_cons eJ2_add_2_14 (fm_cons eJ2_add_2_15 (fm_cons eJ2_add_2_16 (fm_cons eJ2_add_2_17 (fm_cons eJ2_add_2_18 (fm_cons eJ2_add_2_19 (fm_cons eJ2_add_2_22 (fm_nil)))))))))))))))))
theorem zJ2_add_2 : SwZ nJ2_add_2 (Mt mJ2_add_2 4) := wholeZ (mi := nJ2_add_2) (cd := mJ2_add_2) aJ2_add_2 rfl (HdZ.none rfl)
abbrev nJ2_add : MI := (cJ2_add, 2, (some (.boolean)), RJ2, "add", [], 4, 103)
theorem hyJ2_add : yJ2_add.cls ≠ "java/lang/invoke/MethodHandle" ∧ yJ2_add.cls ≠ "java/lang/invoke/VarHandle" := by decide +kernel
theorem pnJ2_add : (parseMethodDescriptor yJ2_add.desc).map (fun d => d.parameters.length) = some 1 := by decide +kernel
theorem wdJ2_add : CdW yJ2_add (nJ2_add) := ⟨Or.inl ⟨q704, rfl⟩, rfl, rfl, plainFor_of_name (by decide +kernel)⟩
theorem eJ2_add_0 : SiZ nJ2_add 0 (i_aload 0 1) := s_aload_n dJ2_add_0 rfl
theorem eJ2_add_1 : SiZ nJ2_add 1 (i_dup 2) := s_dup dJ2_add_1
theorem eJ2_add_2 : SiZ nJ2_add 2 (i_getf 158 [14] 5) := s_getf dJ2_add_2 (fm_cons (⟨_, _, _, _, _, _, rfl, fkJ2_63_14⟩) (fm_nil))
theorem eJ2_add_5 : SiZ nJ2_add 5 (i_push (.int 1) 6) := s_iconst dJ2_add_5 (by decide)
theorem eJ2_add_6 : SiZ nJ2_add 6 (i_bin (fun x y => x + y) 7) := s_iadd dJ2_add_6
theorem eJ2_add_7 : SiZ nJ2_add 7 (i_putI 158 [14] 10) := s_putI dJ2_add_7 (fm_cons (⟨_, _, _, _, _, _, rfl, ⟨fkJ2_63_14, ⟨_, q143, Or.inr q144⟩, Or.inl rfl⟩, rfl⟩) (fm_nil))
theorem eJ2_add_10 : SiZ nJ2_add 10 (i_aload 0 11) := s_aload_n dJ2_add_10 rfl
theorem eJ2_add_11 : SiZ nJ2_add 11 (i_aload 1 12) := s_aload_n dJ2_add_11 rfl
theorem eJ2_add_12 : SiZ nJ2_add 12 (i_aload 0 13) := s_aload_n dJ2_add_12 rfl
theorem eJ2_add_13 : SiZ nJ2_add 13 (i_getf 161 [14] 16) := s_getf dJ2_add_13 (fm_cons (⟨_, _, _, _, _, _, rfl, fkJ2_9_14⟩) (fm_nil))
theorem eJ2_add_16 : SiZ nJ2_add 16 (i_aload 0 17) := s_aload_n dJ2_add_16 rfl
theorem eJ2_add_17 : SiZ nJ2_add 17 (i_getf 162 [14] 20) := s_getf dJ2_add_17 (fm_cons (⟨_, _, _, _, _, _, rfl, fkJ2_48_14⟩) (fm_nil))
theorem eJ2_add_20 : ScZ nJ2_add 20 (c_V 3 23 4 14 (Mt mJ2_add_2 4)) := e_V (mi := nJ2_add) (mi' := nJ2_add_2) (len := 3) (fun h b as rest hk hl => cs_V (ci := 13) (mi := nJ2_add) (pc := 20) (y := yJ2_add_2) (idx := 131) dJ2_add_20 q705 q707 qs15 rfl hk hyJ2_add_2 (sigC q708) pnJ2_add_2 hl) wdJ2_add_2 zJ2_add_2 (Nat.le_of_ble_eq_true rfl) (Nat.le_of_ble_eq_true rfl)
theorem eJ2_add_23 : SiZ nJ2_add 23 (i_push (.int 1) 24) := s_iconst dJ2_add_23 (by decide)
theorem eJ2_add_24 : SiZ nJ2_add 24 i_zret := s_zret dJ2_add_24 rfl
theorem aJ2_add : ∀ x ∈ mJ2_add.1, EnZ nJ2_add x := fm_cons eJ2_add_0 (fm_cons eJ2_add_1 (fm_cons eJ2_add_2 (fm_cons eJ2_add_5 (fm_cons eJ2_add_6 (fm_cons eJ2_add_7 (fm_cons eJ2_add_10 (fm_cons eJ2_add_11 (fm_cons eJ2_add_12 (fm_cons eJ2_add_13 (fm_cons eJ2_add_16 (fm_cons eJ2_add_17 (fm_cons eJ2_add_20 (fm_cons eJ2_add_23 (fm_cons eJ2_add_24 (fm_nil)))))))))))))))
theorem zJ2_add : SwZ nJ2_add (Mt mJ2_add 2) := wholeZ (mi := nJ2_add) (cd := mJ2_add) aJ2_add rfl (HdZ.none rfl)
abbrev nX12_fish : MI := (cX12_fish, 3, none, RX12, "fish", [], 6, 159)
theorem hyX12_fish : yX12_fish.cls ≠ "java/lang/invoke/MethodHandle" ∧ yX12_fish.cls ≠ "java/lang/invoke/VarHandle" := by decide +kernel
theorem pnX12_fish : (parseMethodDescriptor yX12_fish.desc).map (fun d => d.parameters.length) = some 0 := by decide +kernel
theorem wdX12_fish : CdW yX12_fish (nX12_fish) := ⟨Or.inl ⟨q678, rfl⟩, rfl, rfl, plainFor_of_name (by decide +kernel)⟩
theorem eX12_fish_0 : SiZ nX12_fish 0 (i_aload 0 1) := s_aload_n dX12_fish_0 rfl
theorem eX12_fish_1 : SiZ nX12_fish 1 (i_gets 1009 3) := s_ldcS dX12_fish_1 rfl
theorem eX12_fish_3 : ScZ nX12_fish 3 (c_V 1 6 2 12 (Mt mX12_sortOf 2)) := e_V (mi := nX12_fish) (mi' := nX12_sortOf) (len := 3) (fun h b as rest hk hl => cs_V (ci := 11) (mi := nX12_fish) (pc := 3) (y := yX12_sortOf) (idx := 106) dX12_fish_3 q620 q622 qs13 rfl hk hyX12_sortOf (sigC q623) pnX12_sortOf hl) wdX12_sortOf zX12_sortOf (Nat.le_of_ble_eq_true rfl) (Nat.le_of_ble_eq_true rfl)
theorem eX12_fish_6 : SiZ nX12_fish 6 (i_istore 1 7) := s_istore_n dX12_fish_6 rfl
theorem eX12_fish_7 : SiZ nX12_fish 7 (i_aload 0 8) := s_aload_n dX12_fish_7 rfl
theorem eX12_fish_8 : SiZ nX12_fish 8 (i_getf 153 [12] 11) := s_getf dX12_fish_8 (fm_cons (⟨_, _, _, _, _, _, rfl, fkX12_12_12⟩) (fm_nil))
theorem eX12_fish_11 : ScZ nX12_fish 11 (c_V 0 14 1 2 (Mt mX1_many 1)) := e_V (mi := nX12_fish) (mi' := nX1_many) (len := 3) (fun h b as rest hk hl => cs_V (ci := 1) (mi := nX12_fish) (pc := 11) (y := yX1_many) (idx := 129) dX12_fish_11 q679 q680 q681 rfl hk hyX1_many (sigC q682) pnX1_many hl) wdX1_many zX1_many (Nat.le_of_ble_eq_true rfl) (Nat.le_of_ble_eq_true rfl)
theorem eX12_fish_14 : SiZ nX12_fish 14 (i_istore 2 15) := s_istore_n dX12_fish_14 rfl
theorem eX12_fish_15 : SiZ nX12_fish 15 (i_aload 0 16) := s_aload_n dX12_fish_15 rfl
theorem eX12_fish_16 : SiZ nX12_fish 16 (i_iload 2 17) := s_iload_n dX12_fish_16 rfl
theorem eX12_fish_17 : SiZ nX12_fish 17 (i_push (.int 5) 18) := s_iconst dX12_fish_17 (by decide)
theorem eX12_fish_18 : ScZ nX12_fish 18 (c_V 2 21 3 12 (Mt mX12_begin 3)) := e_V (mi := nX12_fish) (mi' := nX12_begin) (len := 3) (fun h b as rest hk hl => cs_V (ci := 11) (mi := nX12_fish) (pc := 18) (y := yX12_begin) (idx := 116) dX12_fish_18 q611 q613 qs12 rfl hk hyX12_begin (sigC q614) pnX12_begin hl) wdX12_begin zX12_begin (Nat.le_of_ble_eq_true rfl) (Nat.le_of_ble_eq_true rfl)
theorem eX12_fish_21 : SiZ nX12_fish 21 (i_aload 0 22) := s_aload_n dX12_fish_21 rfl
theorem eX12_fish_22 : SiZ nX12_fish 22 (i_getf 153 [12] 25) := s_getf dX12_fish_22 (fm_cons (⟨_, _, _, _, _, _, rfl, fkX12_12_12⟩) (fm_nil))
theorem eX12_fish_25 : SiZ nX12_fish 25 (i_getf 53 [2] 28) := s_getf dX12_fish_25 (fm_cons (⟨_, _, _, _, _, _, rfl, fkX12_132_2⟩) (fm_nil))
theorem eX12_fish_28 : SiZ nX12_fish 28 (i_iload 2 29) := s_iload_n dX12_fish_28 rfl
theorem eX12_fish_29 : SiZ nX12_fish 29 (i_aload 0 30) := s_aload_n dX12_fish_29 rfl
theorem eX12_fish_30 : SiZ nX12_fish 30 (i_push (.int 0) 31) := s_iconst dX12_fish_30 (by decide)
theorem eX12_fish_31 : SiZ nX12_fish 31 (i_aload 0 32) := s_aload_n dX12_fish_31 rfl
theorem eX12_fish_32 : SiZ nX12_fish 32 (i_getf 153 [12] 35) := s_getf dX12_fish_32 (fm_cons (⟨_, _, _, _, _, _, rfl, fkX12_12_12⟩) (fm_nil))
theorem eX12_fish_35 : SiZ nX12_fish 35 (i_getf 36 [2] 38) := s_getf dX12_fish_35 (fm_cons (⟨_, _, _, _, _, _, rfl, fkX12_113_2⟩) (fm_nil))
theorem eX12_fish_38 : SiZ nX12_fish 38 (i_push (.int 1) 39) := s_iconst dX12_fish_38 (by decide)
theorem eX12_fish_39 : SiZ nX12_fish 39 (i_bin (fun x y => x - y) 40) := s_isub dX12_fish_39
theorem eX12_fish_40 : ScZ nX12_fish 40 (c_V 2 43 4 12 (Mt mX12_figure 4)) := e_V (mi := nX12_fish) (mi' := nX12_figure) (len := 3) (fun h b as rest hk hl => cs_V (ci := 11) (mi := nX12_fish) (pc := 40) (y := yX12_figure) (idx := 71) dX12_fish_40 q595 q597 qs8 rfl hk hyX12_figure (sigC q598) pnX12_figure hl) wdX12_figure zX12_figure (Nat.le_of_ble_eq_true rfl) (Nat.le_of_ble_eq_true rfl)
theorem eX12_fish_43 : SiZ nX12_fish 43 (i_iast 51 (fun x => x) 44) := s_ast (j := 0) (by decide) (fun _ => rfl) dX12_fish_43 (Or.inl ⟨rfl, rfl, rfl⟩)
theorem eX12_fish_44 : SiZ nX12_fish 44 (i_aload 0 45) := s_aload_n dX12_fish_44 rfl
theorem eX12_fish_45 : SiZ nX12_fish 45 (i_getf 153 [12] 48) := s_getf dX12_fish_45 (fm_cons (⟨_, _, _, _, _, _, rfl, fkX12_12_12⟩) (fm_nil))
theorem eX12_fish_48 : SiZ nX12_fish 48 (i_getf 51 [2] 51) := s_getf dX12_fish_48 (fm_cons (⟨_, _, _, _, _, _, rfl, fkX12_134_2⟩) (fm_nil))
theorem eX12_fish_51 : SiZ nX12_fish 51 (i_iload 1 52) := s_iload_n dX12_fish_51 rfl
theorem eX12_fish_52 : SiZ nX12_fish 52 (i_iload 2 53) := s_iload_n dX12_fish_52 rfl
theorem eX12_fish_53 : ScZ nX12_fish 53 (c_S 2 56 2 (Mt mX0_fishBy 2)) := e_S (mi := nX12_fish) (mi' := nX0_fishBy) (len := 3) (fun h as rest hl => cs_SN (mi := nX12_fish) (pc := 53) (y := yX0_fishBy) (idx := 138) dX12_fish_53 q693 q694 q77 q695 hyX0_fishBy pnX0_fishBy hl) wdX0_fishBy zX0_fishBy (Nat.le_of_ble_eq_true rfl) (Nat.le_of_ble_eq_true rfl)
theorem eX12_fish_56 : ScZ nX12_fish 56 (c_V 1 61 2 14 (Mt mJ2_add 2)) := e_V (mi := nX12_fish) (mi' := nJ2_add) (len := 5) (fun h b as rest hk hl => cs_F (ci := 13) (mi := nX12_fish) (pc := 56) (y := yJ2_add) (idx := 142) dX12_fish_56 q697 q700 q702 (by decide +kernel) rfl hk pnJ2_add hl) wdJ2_add zJ2_add (Nat.le_of_ble_eq_true rfl) (Nat.le_of_ble_eq_true rfl)
theorem eX12_fish_61 : SiZ nX12_fish 61 (i_pop 62) := s_pop dX12_fish_61
theorem eX12_fish_62 : SiZ nX12_fish 62 (i_aload 0 63) := s_aload_n dX12_fish_62 rfl
theorem eX12_fish_63 : SiZ nX12_fish 63 (i_push (.int 4) 64) := s_iconst dX12_fish_63 (by decide)
theorem eX12_fish_64 : ScZ nX12_fish 64 (c_V 1 67 2 12 (Mt mX12_sign 2)) := e_V (mi := nX12_fish) (mi' := nX12_sign) (len := 3) (fun h b as rest hk hl => cs_V (ci := 11) (mi := nX12_fish) (pc := 64) (y := yX12_sign) (idx := 67) dX12_fish_64 q603 q605 qs10 rfl hk hyX12_sign (sigC q606) pnX12_sign hl) wdX12_sign zX12_sign (Nat.le_of_ble_eq_true rfl) (Nat.le_of_ble_eq_true rfl)
theorem eX12_fish_67 : SiZ nX12_fish 67 i_vret := s_vret dX12_fish_67 rfl
theorem aX12_fish : ∀ x ∈ mX12_fish.1, EnZ nX12_fish x := fm_cons eX12_fish_0 (fm_cons eX12_fish_1 (fm_cons eX12_fish_3 (fm_cons eX12_fish_6 (fm_cons eX12_fish_7 (fm_cons eX12_fish_8 (fm_cons eX12_fish_11 (fm_cons eX12_fish_14 (fm_cons eX12_fish_15 (fm_cons eX12_fish_16 (fm_cons eX12_fish_17 (fm_cons eX12_fish_18 (fm_cons eX12_fish_21 (fm_cons eX12_fish_22 (fm_cons eX12_fish_25 (fm_cons eX12_fish_28 (fm_cons eX12_fish_29 (fm_cons eX12_fish_30 (fm_cons eX12_fish_31 (fm_cons eX12_fish_32 (fm_cons eX12_fish_35 (fm_cons eX12_fish_38 (fm_cons eX12_fish_39 (fm_cons eX12_fish_40 (fm_cons eX12_fish_43 (fm_cons eX12_fish_44 (fm_cons eX12_fish_45 (fm_cons eX12_fish_48 (fm_cons eX12_fish_51 (fm_cons eX12_fish_52 (fm_cons eX12_fish_53 (fm_cons eX12_fish_56 (fm_cons eX12_fish_61 (fm_cons eX12_fish_62 (fm_cons eX12_fish_63 (fm_cons eX12_fish_64 (fm_cons eX12_fish_67 (fm_nil)))))))))))))))))))))))))))))))))))))
theorem zX12_fish : SwZ nX12_fish (Mt mX12_fish 3) := wholeZ (mi := nX12_fish) (cd := mX12_fish) aX12_fish rfl (HdZ.none rfl)
abbrev nX12_all : MI := (cX12_all, 2, none, RX12, "all", [], 8, 210)
theorem hyX12_all : yX12_all.cls ≠ "java/lang/invoke/MethodHandle" ∧ yX12_all.cls ≠ "java/lang/invoke/VarHandle" := by decide +kernel
theorem pnX12_all : (parseMethodDescriptor yX12_all.desc).map (fun d => d.parameters.length) = some 0 := by decide +kernel
theorem wdX12_all : CdW yX12_all (nX12_all) := ⟨Or.inl ⟨q549, rfl⟩, rfl, rfl, plainFor_of_name (by decide +kernel)⟩
theorem eX12_all_0 : SiZ nX12_all 0 (i_aload 0 1) := s_aload_n dX12_all_0 rfl
theorem eX12_all_1 : ScZ nX12_all 1 (c_V 0 4 2 12 (Mt mX12_next 2)) := e_V (mi := nX12_all) (mi' := nX12_next) (len := 3) (fun h b as rest hk hl => cs_V (ci := 11) (mi := nX12_all) (pc := 1) (y := yX12_next) (idx := 64) dX12_all_1 q550 q552 qs4 rfl hk hyX12_next (sigC q553) pnX12_next hl) wdX12_next zX12_next (Nat.le_of_ble_eq_true rfl) (Nat.le_of_ble_eq_true rfl)
theorem eX12_all_4 : SiZ nX12_all 4 (i_aload 0 5) := s_aload_n dX12_all_4 rfl
theorem eX12_all_5 : SiZ nX12_all 5 (i_aload 0 6) := s_aload_n dX12_all_5 rfl
theorem eX12_all_6 : SiZ nX12_all 6 (i_push (.int 108) 8) := s_bipush dX12_all_6 (by decide)
theorem eX12_all_8 : ScZ nX12_all 8 (c_V 1 11 2 12 (Mt mX12_isLetter 2)) := e_V (mi := nX12_all) (mi' := nX12_isLetter) (len := 3) (fun h b as rest hk hl => cs_V (ci := 11) (mi := nX12_all) (pc := 8) (y := yX12_isLetter) (idx := 88) dX12_all_8 q564 q566 qs6 rfl hk hyX12_isLetter (sigC q567) pnX12_isLetter hl) wdX12_isLetter zX12_isLetter (Nat.le_of_ble_eq_true rfl) (Nat.le_of_ble_eq_true rfl)
theorem eX12_all_11 : SiZ nX12_all 11 (i_push (.int 1) 12) := s_iconst dX12_all_11 (by decide)
theorem eX12_all_12 : ScZ nX12_all 12 (c_V 2 15 3 12 (Mt mX12_must 3)) := e_V (mi := nX12_all) (mi' := nX12_must) (len := 3) (fun h b as rest hk hl => cs_V (ci := 11) (mi := nX12_all) (pc := 12) (y := yX12_must) (idx := 60) dX12_all_12 q568 q570 qs7 rfl hk hyX12_must (sigC q571) pnX12_must hl) wdX12_must zX12_must (Nat.le_of_ble_eq_true rfl) (Nat.le_of_ble_eq_true rfl)
theorem eX12_all_15 : SiZ nX12_all 15 (i_aload 0 16) := s_aload_n dX12_all_15 rfl
theorem eX12_all_16 : ScZ nX12_all 16 (c_V 0 19 2 12 (Mt mX12_next 2)) := e_V (mi := nX12_all) (mi' := nX12_next) (len := 3) (fun h b as rest hk hl => cs_V (ci := 11) (mi := nX12_all) (pc := 16) (y := yX12_next) (idx := 64) dX12_all_16 q550 q552 qs4 rfl hk hyX12_next (sigC q553) pnX12_next hl) wdX12_next zX12_next (Nat.le_of_ble_eq_true rfl) (Nat.le_of_ble_eq_true rfl)
theorem eX12_all_19 : SiZ nX12_all 19 (i_aload 0 20) := s_aload_n dX12_all_19 rfl
theorem eX12_all_20 : SiZ nX12_all 20 (i_push (.int 1) 21) := s_iconst dX12_all_20 (by decide)
theorem eX12_all_21 : SiZ nX12_all 21 (i_push (.int 9) 23) := s_bipush dX12_all_21 (by decide)
theorem eX12_all_23 : ScZ nX12_all 23 (c_V 2 26 4 12 (Mt mX12_figure 4)) := e_V (mi := nX12_all) (mi' := nX12_figure) (len := 3) (fun h b as rest hk hl => cs_V (ci := 11) (mi := nX12_all) (pc := 23) (y := yX12_figure) (idx := 71) dX12_all_23 q595 q597 qs8 rfl hk hyX12_figure (sigC q598) pnX12_figure hl) wdX12_figure zX12_figure (Nat.le_of_ble_eq_true rfl) (Nat.le_of_ble_eq_true rfl)
theorem eX12_all_26 : SiZ nX12_all 26 (i_istore 1 27) := s_istore_n dX12_all_26 rfl
theorem eX12_all_27 : SiZ nX12_all 27 (i_aload 0 28) := s_aload_n dX12_all_27 rfl
theorem eX12_all_28 : SiZ nX12_all 28 (i_getf 153 [12] 31) := s_getf dX12_all_28 (fm_cons (⟨_, _, _, _, _, _, rfl, fkX12_12_12⟩) (fm_nil))
theorem eX12_all_31 : SiZ nX12_all 31 (i_aload 0 32) := s_aload_n dX12_all_31 rfl
theorem eX12_all_32 : SiZ nX12_all 32 (i_push (.int 0) 33) := s_iconst dX12_all_32 (by decide)
theorem eX12_all_33 : SiZ nX12_all 33 (i_push (.int 8) 35) := s_bipush dX12_all_33 (by decide)
theorem eX12_all_35 : ScZ nX12_all 35 (c_V 2 38 3 12 (Mt mX12_more 3)) := e_V (mi := nX12_all) (mi' := nX12_more) (len := 3) (fun h b as rest hk hl => cs_V (ci := 11) (mi := nX12_all) (pc := 35) (y := yX12_more) (idx := 92) dX12_all_35 q599 q601 qs9 rfl hk hyX12_more (sigC q602) pnX12_more hl) wdX12_more zX12_more (Nat.le_of_ble_eq_true rfl) (Nat.le_of_ble_eq_true rfl)
theorem eX12_all_38 : SiZ nX12_all 38 (i_putI 34 [2] 41) := s_putI dX12_all_38 (fm_cons (⟨_, _, _, _, _, _, rfl, ⟨fkX12_95_2, ⟨_, q159, Or.inl rfl⟩, Or.inl rfl⟩, rfl⟩) (fm_nil))
theorem eX12_all_41 : SiZ nX12_all 41 (i_aload 0 42) := s_aload_n dX12_all_41 rfl
theorem eX12_all_42 : SiZ nX12_all 42 (i_push (.int 4) 43) := s_iconst dX12_all_42 (by decide)
theorem eX12_all_43 : ScZ nX12_all 43 (c_V 1 46 2 12 (Mt mX12_sign 2)) := e_V (mi := nX12_all) (mi' := nX12_sign) (len := 3) (fun h b as rest hk hl => cs_V (ci := 11) (mi := nX12_all) (pc := 43) (y := yX12_sign) (idx := 67) dX12_all_43 q603 q605 qs10 rfl hk hyX12_sign (sigC q606) pnX12_sign hl) wdX12_sign zX12_sign (Nat.le_of_ble_eq_true rfl) (Nat.le_of_ble_eq_true rfl)
theorem eX12_all_46 : SiZ nX12_all 46 (i_aload 0 47) := s_aload_n dX12_all_46 rfl
theorem eX12_all_47 : SiZ nX12_all 47 (i_getf 153 [12] 50) := s_getf dX12_all_47 (fm_cons (⟨_, _, _, _, _, _, rfl, fkX12_12_12⟩) (fm_nil))
theorem eX12_all_50 : SiZ nX12_all 50 (i_iload 1 51) := s_iload_n dX12_all_50 rfl
theorem eX12_all_51 : SiZ nX12_all 51 (i_putI 32 [2] 54) := s_putI dX12_all_51 (fm_cons (⟨_, _, _, _, _, _, rfl, ⟨fkX12_98_2, ⟨_, q156, Or.inl rfl⟩, Or.inl rfl⟩, rfl⟩) (fm_nil))
theorem eX12_all_54 : SiZ nX12_all 54 (i_aload 0 55) := s_aload_n dX12_all_54 rfl
theorem eX12_all_55 : SiZ nX12_all 55 (i_aload 0 56) := s_aload_n dX12_all_55 rfl
theorem eX12_all_56 : SiZ nX12_all 56 (i_push (.int 98) 58) := s_bipush dX12_all_56 (by decide)
theorem eX12_all_58 : ScZ nX12_all 58 (c_V 1 61 2 12 (Mt mX12_isLetter 2)) := e_V (mi := nX12_all) (mi' := nX12_isLetter) (len := 3) (fun h b as rest hk hl => cs_V (ci := 11) (mi := nX12_all) (pc := 58) (y := yX12_isLetter) (idx := 88) dX12_all_58 q564 q566 qs6 rfl hk hyX12_isLetter (sigC q567) pnX12_isLetter hl) wdX12_isLetter zX12_isLetter (Nat.le_of_ble_eq_true rfl) (Nat.le_of_ble_eq_true rfl)
theorem eX12_all_61 : SiZ nX12_all 61 (i_push (.int 1) 62) := s_iconst dX12_all_61 (by decide)
theorem eX12_all_62 : ScZ nX12_all 62 (c_V 2 65 3 12 (Mt mX12_must 3)) := e_V (mi := nX12_all) (mi' := nX12_must) (len := 3) (fun h b as rest hk hl => cs_V (ci := 11) (mi := nX12_all) (pc := 62) (y := yX12_must) (idx := 60) dX12_all_62 q568 q570 qs7 rfl hk hyX12_must (sigC q571) pnX12_must hl) wdX12_must zX12_must (Nat.le_of_ble_eq_true rfl) (Nat.le_of_ble_eq_true rfl)
theorem eX12_all_65 : SiZ nX12_all 65 (i_aload 0 66) := s_aload_n dX12_all_65 rfl
theorem eX12_all_66 : SiZ nX12_all 66 (i_push (.int 98) 68) := s_bipush dX12_all_66 (by decide)
theorem eX12_all_68 : ScZ nX12_all 68 (c_V 1 71 2 12 (Mt mX12_isLetter 2)) := e_V (mi := nX12_all) (mi' := nX12_isLetter) (len := 3) (fun h b as rest hk hl => cs_V (ci := 11) (mi := nX12_all) (pc := 68) (y := yX12_isLetter) (idx := 88) dX12_all_68 q564 q566 qs6 rfl hk hyX12_isLetter (sigC q567) pnX12_isLetter hl) wdX12_isLetter zX12_isLetter (Nat.le_of_ble_eq_true rfl) (Nat.le_of_ble_eq_true rfl)
theorem eX12_all_71 : SiZ nX12_all 71 (i_if (fun x => x = 0) 81 74) := s_if_eq dX12_all_71 (by decide)
theorem eX12_all_74 : SiZ nX12_all 74 (i_aload 0 75) := s_aload_n dX12_all_74 rfl
theorem eX12_all_75 : ScZ nX12_all 75 (c_V 0 78 2 12 (Mt mX12_book 2)) := e_V (mi := nX12_all) (mi' := nX12_book) (len := 3) (fun h b as rest hk hl => cs_V (ci := 11) (mi := nX12_all) (pc := 75) (y := yX12_book) (idx := 101) dX12_all_75 q607 q609 qs11 rfl hk hyX12_book (sigC q610) pnX12_book hl) wdX12_book zX12_book (Nat.le_of_ble_eq_true rfl) (Nat.le_of_ble_eq_true rfl)
theorem eX12_all_78 : SiZ nX12_all 78 (i_goto 65) := s_goto dX12_all_78 (by decide)
theorem eX12_all_81 : SiZ nX12_all 81 (i_aload 0 82) := s_aload_n dX12_all_81 rfl
theorem eX12_all_82 : SiZ nX12_all 82 (i_aload 0 83) := s_aload_n dX12_all_82 rfl
theorem eX12_all_83 : SiZ nX12_all 83 (i_gets 1009 85) := s_ldcS dX12_all_83 rfl
theorem eX12_all_85 : ScZ nX12_all 85 (c_V 1 88 2 12 (Mt mX12_sortOf 2)) := e_V (mi := nX12_all) (mi' := nX12_sortOf) (len := 3) (fun h b as rest hk hl => cs_V (ci := 11) (mi := nX12_all) (pc := 85) (y := yX12_sortOf) (idx := 106) dX12_all_85 q620 q622 qs13 rfl hk hyX12_sortOf (sigC q623) pnX12_sortOf hl) wdX12_sortOf zX12_sortOf (Nat.le_of_ble_eq_true rfl) (Nat.le_of_ble_eq_true rfl)
theorem eX12_all_88 : SiZ nX12_all 88 (i_push (.int (-1000000)) 90) := s_ldc dX12_all_88 q558
theorem eX12_all_90 : SiZ nX12_all 90 (i_icmp (fun x y => x = y) 97 93) := s_icmp_eq dX12_all_90 (by decide)
theorem eX12_all_93 : SiZ nX12_all 93 (i_push (.int 1) 94) := s_iconst dX12_all_93 (by decide)
theorem eX12_all_94 : SiZ nX12_all 94 (i_goto 98) := s_goto dX12_all_94 (by decide)
theorem eX12_all_97 : SiZ nX12_all 97 (i_push (.int 0) 98) := s_iconst dX12_all_97 (by decide)
theorem eX12_all_98 : SiZ nX12_all 98 (i_push (.int 1) 99) := s_iconst dX12_all_98 (by decide)
theorem eX12_all_99 : ScZ nX12_all 99 (c_V 2 102 3 12 (Mt mX12_must 3)) := e_V (mi := nX12_all) (mi' := nX12_must) (len := 3) (fun h b as rest hk hl => cs_V (ci := 11) (mi := nX12_all) (pc := 99) (y := yX12_must) (idx := 60) dX12_all_99 q568 q570 qs7 rfl hk hyX12_must (sigC q571) pnX12_must hl) wdX12_must zX12_must (Nat.le_of_ble_eq_true rfl) (Nat.le_of_ble_eq_true rfl)
theorem eX12_all_102 : SiZ nX12_all 102 (i_aload 0 103) := s_aload_n dX12_all_102 rfl
theorem eX12_all_103 : SiZ nX12_all 103 (i_gets 1009 105) := s_ldcS dX12_all_103 rfl
theorem eX12_all_105 : ScZ nX12_all 105 (c_V 1 108 2 12 (Mt mX12_sortOf 2)) := e_V (mi := nX12_all) (mi' := nX12_sortOf) (len := 3) (fun h b as rest hk hl => cs_V (ci := 11) (mi := nX12_all) (pc := 105) (y := yX12_sortOf) (idx := 106) dX12_all_105 q620 q622 qs13 rfl hk hyX12_sortOf (sigC q623) pnX12_sortOf hl) wdX12_sortOf zX12_sortOf (Nat.le_of_ble_eq_true rfl) (Nat.le_of_ble_eq_true rfl)
theorem eX12_all_108 : SiZ nX12_all 108 (i_push (.int (-1000000)) 110) := s_ldc dX12_all_108 q558
theorem eX12_all_110 : SiZ nX12_all 110 (i_icmp (fun x y => x = y) 120 113) := s_icmp_eq dX12_all_110 (by decide)
theorem eX12_all_113 : SiZ nX12_all 113 (i_aload 0 114) := s_aload_n dX12_all_113 rfl
theorem eX12_all_114 : ScZ nX12_all 114 (c_V 0 117 3 12 (Mt mX12_fish 3)) := e_V (mi := nX12_all) (mi' := nX12_fish) (len := 3) (fun h b as rest hk hl => cs_V (ci := 11) (mi := nX12_all) (pc := 114) (y := yX12_fish) (idx := 110) dX12_all_114 q675 q677 qs14 rfl hk hyX12_fish (sigC q678) pnX12_fish hl) wdX12_fish zX12_fish (Nat.le_of_ble_eq_true rfl) (Nat.le_of_ble_eq_true rfl)
theorem eX12_all_117 : SiZ nX12_all 117 (i_goto 102) := s_goto dX12_all_117 (by decide)
theorem eX12_all_120 : SiZ nX12_all 120 (i_aload 0 121) := s_aload_n dX12_all_120 rfl
theorem eX12_all_121 : SiZ nX12_all 121 (i_aload 0 122) := s_aload_n dX12_all_121 rfl
theorem eX12_all_122 : SiZ nX12_all 122 (i_getf 146 [12] 125) := s_getf dX12_all_122 (fm_cons (⟨_, _, _, _, _, _, rfl, fkX12_40_12⟩) (fm_nil))
theorem eX12_all_125 : SiZ nX12_all 125 (i_if (fun x => ¬ x = 0) 132 128) := s_if_ne dX12_all_125 (by decide)
theorem eX12_all_128 : SiZ nX12_all 128 (i_push (.int 1) 129) := s_iconst dX12_all_128 (by decide)
theorem eX12_all_129 : SiZ nX12_all 129 (i_goto 133) := s_goto dX12_all_129 (by decide)
theorem eX12_all_132 : SiZ nX12_all 132 (i_push (.int 0) 133) := s_iconst dX12_all_132 (by decide)
theorem eX12_all_133 : SiZ nX12_all 133 (i_push (.int 1) 134) := s_iconst dX12_all_133 (by decide)
theorem eX12_all_134 : ScZ nX12_all 134 (c_V 2 137 3 12 (Mt mX12_must 3)) := e_V (mi := nX12_all) (mi' := nX12_must) (len := 3) (fun h b as rest hk hl => cs_V (ci := 11) (mi := nX12_all) (pc := 134) (y := yX12_must) (idx := 60) dX12_all_134 q568 q570 qs7 rfl hk hyX12_must (sigC q571) pnX12_must hl) wdX12_must zX12_must (Nat.le_of_ble_eq_true rfl) (Nat.le_of_ble_eq_true rfl)
theorem eX12_all_137 : SiZ nX12_all 137 i_vret := s_vret dX12_all_137 rfl
theorem aX12_all : ∀ x ∈ mX12_all.1, EnZ nX12_all x := fm_cons eX12_all_0 (fm_cons eX12_all_1 (fm_cons eX12_all_4 (fm_cons eX12_all_5 (fm_cons eX12_all_6 (fm_cons eX12_all_8 (fm_cons eX12_all_11 (fm_cons eX12_all_12 (fm_cons eX12_all_15 (fm_cons eX12_all_16 (fm_cons eX12_all_19 (fm_cons eX12_all_20 (fm_cons eX12_all_21 (fm_cons eX12_all_23 (fm_cons eX12_all_26 (fm_cons eX12_all_27 (fm_cons eX12_all_28 (fm_cons eX12_all_31 (fm_cons eX12_all_32 (fm_cons eX12_all_33 (fm_cons eX12_all_35 (fm_cons eX12_all_38 (fm_cons eX12_all_41 (fm_cons eX12_all_42 (fm_cons eX12_all_43 (fm_cons eX12_all_46 (fm_cons eX12_all_47 (fm_cons eX12_all_50 (fm_cons eX12_all_51 (fm_cons eX12_all_54 (fm_cons eX12_all_55 (fm_cons eX12_all_56 (fm_cons eX12_all_58 (fm_cons eX12_all_61 (fm_cons eX12_all_62 (fm_cons eX12_all_65 (fm_cons eX12_all_66 (fm_cons eX12_all_68 (fm_cons eX12_all_71 (fm_cons eX12_all_74 (fm_cons eX12_all_75 (fm_cons eX12_all_78 (fm_cons eX12_all_81 (fm_cons eX12_all_82 (fm_cons eX12_all_83 (fm_cons eX12_all_85 (fm_cons eX12_all_88 (fm_cons eX12_all_90 (fm_cons eX12_all_93 (fm_cons eX12_all_94 (fm_cons eX12_all_97 (fm_cons eX12_all_98 (fm_cons eX12_all_99 (fm_cons eX12_all_102 (fm_cons eX12_all_103 (fm_cons eX12_all_105 (fm_cons eX12_all_108 (fm_cons eX12_all_110 (fm_cons eX12_all_113 (fm_cons eX12_all_114 (fm_cons eX12_all_117 (fm_cons eX12_all_120 (fm_cons eX12_all_121 (fm_cons eX12_all_122 (fm_cons eX12_all_125 (fm_cons eX12_all_128 (fm_cons eX12_all_129 (fm_cons eX12_all_132 (fm_cons eX12_all_133 (fm_cons eX12_all_134 (fm_cons eX12_all_137 (fm_nil)))))))))))))))))))))))))))))))))))))))))))))))))))))))))))))))))))))))
theorem zX12_all : SwZ nX12_all (Mt mX12_all 2) := wholeZ (mi := nX12_all) (cd := mX12_all) aX12_all rfl (HdZ.none rfl)
abbrev nX1_become : MI := (cX1_become, 2, (some (.object "FishReaders$Library")), RX1, "become", [], 1, 30)
theorem hyX1_become : yX1_become.cls ≠ "java/lang/invoke/MethodHandle" ∧ yX1_become.cls ≠ "java/lang/invoke/VarHandle" := by decide +kernel
theorem pnX1_become : (parseMethodDescriptor yX1_become.desc).map (fun d => d.parameters.length) = some 1 := by decide +kernel
theorem wdX1_become : CdW yX1_become (nX1_become) := ⟨Or.inl ⟨q766, rfl⟩, rfl, rfl, plainFor_of_name (by decide +kernel)⟩
theorem eX1_become_0 : SiZ nX1_become 0 (i_aload 0 1) := s_aload_n dX1_become_0 rfl
theorem eX1_become_1 : SiZ nX1_become 1 (i_aload 1 2) := s_aload_n dX1_become_1 rfl
theorem eX1_become_2 : SiZ nX1_become 2 (i_getf 32 [2] 5) := s_getf dX1_become_2 (fm_cons (⟨_, _, _, _, _, _, rfl, fkX1_42_2⟩) (fm_nil))
theorem eX1_become_5 : SiZ nX1_become 5 (i_putI 32 [2] 8) := s_putI dX1_become_5 (fm_cons (⟨_, _, _, _, _, _, rfl, ⟨fkX1_42_2, ⟨_, q155, Or.inl rfl⟩, Or.inl rfl⟩, rfl⟩) (fm_nil))
theorem eX1_become_8 : SiZ nX1_become 8 (i_aload 0 9) := s_aload_n dX1_become_8 rfl
theorem eX1_become_9 : SiZ nX1_become 9 (i_aload 1 10) := s_aload_n dX1_become_9 rfl
theorem eX1_become_10 : SiZ nX1_become 10 (i_getf 34 [2] 13) := s_getf dX1_become_10 (fm_cons (⟨_, _, _, _, _, _, rfl, fkX1_45_2⟩) (fm_nil))
theorem eX1_become_13 : SiZ nX1_become 13 (i_putI 34 [2] 16) := s_putI dX1_become_13 (fm_cons (⟨_, _, _, _, _, _, rfl, ⟨fkX1_45_2, ⟨_, q158, Or.inl rfl⟩, Or.inl rfl⟩, rfl⟩) (fm_nil))
theorem eX1_become_16 : SiZ nX1_become 16 (i_aload 0 17) := s_aload_n dX1_become_16 rfl
theorem eX1_become_17 : SiZ nX1_become 17 (i_aload 1 18) := s_aload_n dX1_become_17 rfl
theorem eX1_become_18 : SiZ nX1_become 18 (i_getf 36 [2] 21) := s_getf dX1_become_18 (fm_cons (⟨_, _, _, _, _, _, rfl, fkX1_48_2⟩) (fm_nil))
theorem eX1_become_21 : SiZ nX1_become 21 (i_putI 36 [2] 24) := s_putI dX1_become_21 (fm_cons (⟨_, _, _, _, _, _, rfl, ⟨fkX1_48_2, ⟨_, q161, Or.inl rfl⟩, Or.inl rfl⟩, rfl⟩) (fm_nil))
theorem eX1_become_24 : SiZ nX1_become 24 (i_aload 1 25) := s_aload_n dX1_become_24 rfl
theorem eX1_become_25 : SiZ nX1_become 25 (i_getf 39 [2] 28) := s_getf dX1_become_25 (fm_cons (⟨_, _, _, _, _, _, rfl, fkX1_9_2⟩) (fm_nil))
theorem eX1_become_28 : SiZ nX1_become 28 (i_push (.int 0) 29) := s_iconst dX1_become_28 (by decide)
theorem eX1_become_29 : SiZ nX1_become 29 (i_aload 0 30) := s_aload_n dX1_become_29 rfl
theorem eX1_become_30 : SiZ nX1_become 30 (i_getf 39 [2] 33) := s_getf dX1_become_30 (fm_cons (⟨_, _, _, _, _, _, rfl, fkX1_9_2⟩) (fm_nil))
theorem eX1_become_33 : SiZ nX1_become 33 (i_push (.int 0) 34) := s_iconst dX1_become_33 (by decide)
theorem eX1_become_34 : SiZ nX1_become 34 (i_push (.int 6) 36) := s_bipush dX1_become_34 (by decide)
theorem eX1_become_36 : SiZ nX1_become 36 (i_acpy 51 39) := s_acpy dX1_become_36 q767 (by decide) (by decide)
theorem eX1_become_39 : SiZ nX1_become 39 (i_aload 1 40) := s_aload_n dX1_become_39 rfl
theorem eX1_become_40 : SiZ nX1_become 40 (i_getf 41 [2] 43) := s_getf dX1_become_40 (fm_cons (⟨_, _, _, _, _, _, rfl, fkX1_15_2⟩) (fm_nil))
theorem eX1_become_43 : SiZ nX1_become 43 (i_push (.int 0) 44) := s_iconst dX1_become_43 (by decide)
theorem eX1_become_44 : SiZ nX1_become 44 (i_aload 0 45) := s_aload_n dX1_become_44 rfl
theorem eX1_become_45 : SiZ nX1_become 45 (i_getf 41 [2] 48) := s_getf dX1_become_45 (fm_cons (⟨_, _, _, _, _, _, rfl, fkX1_15_2⟩) (fm_nil))
theorem eX1_become_48 : SiZ nX1_become 48 (i_push (.int 0) 49) := s_iconst dX1_become_48 (by decide)
theorem eX1_become_49 : SiZ nX1_become 49 (i_push (.int 6) 51) := s_bipush dX1_become_49 (by decide)
theorem eX1_become_51 : SiZ nX1_become 51 (i_acpy 51 54) := s_acpy dX1_become_51 q767 (by decide) (by decide)
theorem eX1_become_54 : SiZ nX1_become 54 (i_aload 1 55) := s_aload_n dX1_become_54 rfl
theorem eX1_become_55 : SiZ nX1_become 55 (i_getf 43 [2] 58) := s_getf dX1_become_55 (fm_cons (⟨_, _, _, _, _, _, rfl, fkX1_18_2⟩) (fm_nil))
theorem eX1_become_58 : SiZ nX1_become 58 (i_push (.int 0) 59) := s_iconst dX1_become_58 (by decide)
theorem eX1_become_59 : SiZ nX1_become 59 (i_aload 0 60) := s_aload_n dX1_become_59 rfl
theorem eX1_become_60 : SiZ nX1_become 60 (i_getf 43 [2] 63) := s_getf dX1_become_60 (fm_cons (⟨_, _, _, _, _, _, rfl, fkX1_18_2⟩) (fm_nil))
theorem eX1_become_63 : SiZ nX1_become 63 (i_push (.int 0) 64) := s_iconst dX1_become_63 (by decide)
theorem eX1_become_64 : SiZ nX1_become 64 (i_push (.int 6) 66) := s_bipush dX1_become_64 (by decide)
theorem eX1_become_66 : SiZ nX1_become 66 (i_acpy 51 69) := s_acpy dX1_become_66 q767 (by decide) (by decide)
theorem eX1_become_69 : SiZ nX1_become 69 (i_aload 1 70) := s_aload_n dX1_become_69 rfl
theorem eX1_become_70 : SiZ nX1_become 70 (i_getf 45 [2] 73) := s_getf dX1_become_70 (fm_cons (⟨_, _, _, _, _, _, rfl, fkX1_21_2⟩) (fm_nil))
theorem eX1_become_73 : SiZ nX1_become 73 (i_push (.int 0) 74) := s_iconst dX1_become_73 (by decide)
theorem eX1_become_74 : SiZ nX1_become 74 (i_aload 0 75) := s_aload_n dX1_become_74 rfl
theorem eX1_become_75 : SiZ nX1_become 75 (i_getf 45 [2] 78) := s_getf dX1_become_75 (fm_cons (⟨_, _, _, _, _, _, rfl, fkX1_21_2⟩) (fm_nil))
theorem eX1_become_78 : SiZ nX1_become 78 (i_push (.int 0) 79) := s_iconst dX1_become_78 (by decide)
theorem eX1_become_79 : SiZ nX1_become 79 (i_push (.int 6) 81) := s_bipush dX1_become_79 (by decide)
theorem eX1_become_81 : SiZ nX1_become 81 (i_acpy 51 84) := s_acpy dX1_become_81 q767 (by decide) (by decide)
theorem eX1_become_84 : SiZ nX1_become 84 (i_aload 0 85) := s_aload_n dX1_become_84 rfl
theorem eX1_become_85 : SiZ nX1_become 85 (i_aload 1 86) := s_aload_n dX1_become_85 rfl
theorem eX1_become_86 : SiZ nX1_become 86 (i_getf 46 [2] 89) := s_getf dX1_become_86 (fm_cons (⟨_, _, _, _, _, _, rfl, fkX1_57_2⟩) (fm_nil))
theorem eX1_become_89 : SiZ nX1_become 89 (i_putI 46 [2] 92) := s_putI dX1_become_89 (fm_cons (⟨_, _, _, _, _, _, rfl, ⟨fkX1_57_2, ⟨_, q178, Or.inl rfl⟩, Or.inl rfl⟩, rfl⟩) (fm_nil))
theorem eX1_become_92 : SiZ nX1_become 92 (i_aload 0 93) := s_aload_n dX1_become_92 rfl
theorem eX1_become_93 : SiZ nX1_become 93 (i_aload 1 94) := s_aload_n dX1_become_93 rfl
theorem eX1_become_94 : SiZ nX1_become 94 (i_getf 48 [2] 97) := s_getf dX1_become_94 (fm_cons (⟨_, _, _, _, _, _, rfl, fkX1_60_2⟩) (fm_nil))
theorem eX1_become_97 : SiZ nX1_become 97 (i_putI 48 [2] 100) := s_putI dX1_become_97 (fm_cons (⟨_, _, _, _, _, _, rfl, ⟨fkX1_60_2, ⟨_, q180, Or.inl rfl⟩, Or.inl rfl⟩, rfl⟩) (fm_nil))
theorem eX1_become_100 : SiZ nX1_become 100 (i_aload 0 101) := s_aload_n dX1_become_100 rfl
theorem eX1_become_101 : SiZ nX1_become 101 (i_aload 1 102) := s_aload_n dX1_become_101 rfl
theorem eX1_become_102 : SiZ nX1_become 102 (i_getf 51 [2] 105) := s_getf dX1_become_102 (fm_cons (⟨_, _, _, _, _, _, rfl, fkX1_27_2⟩) (fm_nil))
theorem eX1_become_105 : SiZ nX1_become 105 (i_putR 51 [2] 108) := s_putR dX1_become_105 (fm_cons (⟨_, _, _, _, _, _, rfl, ⟨fkX1_27_2, ⟨_, q182, Or.inl rfl⟩, Or.inl rfl⟩, (Or.inl ⟨_, rfl⟩)⟩) (fm_nil))
theorem eX1_become_108 : SiZ nX1_become 108 (i_aload 1 109) := s_aload_n dX1_become_108 rfl
theorem eX1_become_109 : SiZ nX1_become 109 (i_getf 53 [2] 112) := s_getf dX1_become_109 (fm_cons (⟨_, _, _, _, _, _, rfl, fkX1_31_2⟩) (fm_nil))
theorem eX1_become_112 : SiZ nX1_become 112 (i_push (.int 0) 113) := s_iconst dX1_become_112 (by decide)
theorem eX1_become_113 : SiZ nX1_become 113 (i_aload 0 114) := s_aload_n dX1_become_113 rfl
theorem eX1_become_114 : SiZ nX1_become 114 (i_getf 53 [2] 117) := s_getf dX1_become_114 (fm_cons (⟨_, _, _, _, _, _, rfl, fkX1_31_2⟩) (fm_nil))
theorem eX1_become_117 : SiZ nX1_become 117 (i_push (.int 0) 118) := s_iconst dX1_become_117 (by decide)
theorem eX1_become_118 : SiZ nX1_become 118 (i_push (.int 5) 119) := s_iconst dX1_become_118 (by decide)
theorem eX1_become_119 : SiZ nX1_become 119 (i_acpy 51 122) := s_acpy dX1_become_119 q767 (by decide) (by decide)
theorem eX1_become_122 : SiZ nX1_become 122 (i_aload 1 123) := s_aload_n dX1_become_122 rfl
theorem eX1_become_123 : SiZ nX1_become 123 (i_getf 55 [2] 126) := s_getf dX1_become_123 (fm_cons (⟨_, _, _, _, _, _, rfl, fkX1_34_2⟩) (fm_nil))
theorem eX1_become_126 : SiZ nX1_become 126 (i_push (.int 0) 127) := s_iconst dX1_become_126 (by decide)
theorem eX1_become_127 : SiZ nX1_become 127 (i_aload 0 128) := s_aload_n dX1_become_127 rfl
theorem eX1_become_128 : SiZ nX1_become 128 (i_getf 55 [2] 131) := s_getf dX1_become_128 (fm_cons (⟨_, _, _, _, _, _, rfl, fkX1_34_2⟩) (fm_nil))
theorem eX1_become_131 : SiZ nX1_become 131 (i_push (.int 0) 132) := s_iconst dX1_become_131 (by decide)
theorem eX1_become_132 : SiZ nX1_become 132 (i_push (.int 5) 133) := s_iconst dX1_become_132 (by decide)
theorem eX1_become_133 : SiZ nX1_become 133 (i_acpy 51 136) := s_acpy dX1_become_133 q767 (by decide) (by decide)
theorem eX1_become_136 : SiZ nX1_become 136 (i_aload 0 137) := s_aload_n dX1_become_136 rfl
theorem eX1_become_137 : SiZ nX1_become 137 (i_aload 1 138) := s_aload_n dX1_become_137 rfl
theorem eX1_become_138 : SiZ nX1_become 138 (i_getf 56 [2] 141) := s_getf dX1_become_138 (fm_cons (⟨_, _, _, _, _, _, rfl, fkX1_63_2⟩) (fm_nil))
theorem eX1_become_141 : SiZ nX1_become 141 (i_putI 56 [2] 144) := s_putI dX1_become_141 (fm_cons (⟨_, _, _, _, _, _, rfl, ⟨fkX1_63_2, ⟨_, q192, Or.inl rfl⟩, Or.inl rfl⟩, rfl⟩) (fm_nil))
theorem eX1_become_144 : SiZ nX1_become 144 (i_aload 0 145) := s_aload_n dX1_become_144 rfl
theorem eX1_become_145 : SiZ nX1_become 145 (i_aload 1 146) := s_aload_n dX1_become_145 rfl
theorem eX1_become_146 : SiZ nX1_become 146 (i_getf 58 [2] 149) := s_getf dX1_become_146 (fm_cons (⟨_, _, _, _, _, _, rfl, fkX1_66_2⟩) (fm_nil))
theorem eX1_become_149 : SiZ nX1_become 149 (i_putI 58 [2] 152) := s_putI dX1_become_149 (fm_cons (⟨_, _, _, _, _, _, rfl, ⟨fkX1_66_2, ⟨_, q194, Or.inl rfl⟩, Or.inl rfl⟩, rfl⟩) (fm_nil))
theorem eX1_become_152 : SiZ nX1_become 152 (i_aload 0 153) := s_aload_n dX1_become_152 rfl
theorem eX1_become_153 : SiZ nX1_become 153 (i_push (.int (-1000000)) 155) := s_ldc dX1_become_153 q154
theorem eX1_become_155 : SiZ nX1_become 155 (i_putI 60 [2] 158) := s_putI dX1_become_155 (fm_cons (⟨_, _, _, _, _, _, rfl, ⟨fkX1_38_2, ⟨_, q196, Or.inl rfl⟩, Or.inl rfl⟩, rfl⟩) (fm_nil))
theorem eX1_become_158 : SiZ nX1_become 158 (i_aload 0 159) := s_aload_n dX1_become_158 rfl
theorem eX1_become_159 : SiZ nX1_become 159 i_aret := s_aret dX1_become_159 rfl (Or.inl ⟨_, rfl⟩)
theorem aX1_become : ∀ x ∈ mX1_become.1, EnZ nX1_become x := fm_cons eX1_become_0 (fm_cons eX1_become_1 (fm_cons eX1_become_2 (fm_cons eX1_become_5 (fm_cons eX1_become_8 (fm_cons eX1_become_9 (fm_cons eX1_become_10 (fm_cons eX1_become_13 (fm_cons eX1_become_16 (fm_cons eX1_become_17 (fm_cons eX1_become_18 (fm_cons eX1_become_21 (fm_cons eX1_become_24 (fm_cons eX1_become_25 (fm_cons eX1_become_28 (fm_cons eX1_become_29 (fm_cons eX1_become_30 (fm_cons eX1_become_33 (fm_cons eX1_become_34 (fm_cons eX1_become_36 (fm_cons eX1_become_39 (fm_cons eX1_become_40 (fm_cons eX1_become_43 (fm_cons eX1_become_44 (fm_cons eX1_become_45 (fm_cons eX1_become_48 (fm_cons eX1_become_49 (fm_cons eX1_become_51 (fm_cons eX1_become_54 (fm_cons eX1_become_55 (fm_cons eX1_become_58 (fm_cons eX1_become_59 (fm_cons eX1_become_60 (fm_cons eX1_become_63 (fm_cons eX1_become_64 (fm_cons eX1_become_66 (fm_cons eX1_become_69 (fm_cons eX1_become_70 (fm_cons eX1_become_73 (fm_cons eX1_become_74 (fm_cons eX1_become_75 (fm_cons eX1_become_78 (fm_cons eX1_become_79 (fm_cons eX1_become_81 (fm_cons eX1_become_84 (fm_cons eX1_become_85 (fm_cons eX1_become_86 (fm_cons eX1_become_89 (fm_cons eX1_become_92 (fm_cons eX1_become_93 (fm_cons eX1_become_94 (fm_cons eX1_become_97 (fm_cons eX1_become_100 (fm_cons eX1_become_101 (fm_cons eX1_become_102 (fm_cons eX1_become_105 (fm_cons eX1_become_108 (fm_cons eX1_become_109 (fm_cons eX1_become_112 (fm_cons eX1_become_113 (fm_cons eX1_become_114 (fm_cons eX1_become_117 (fm_cons eX1_become_118 (fm_cons eX1_become_119 (fm_cons eX1_become_122 (fm_cons eX1_become_123 (fm_cons eX1_become_126 (fm_cons eX1_become_127 (fm_cons eX1_become_128 (fm_cons eX1_become_131 (fm_cons eX1_become_132 (fm_cons eX1_become_133 (fm_cons eX1_become_136 (fm_cons eX1_become_137 (fm_cons eX1_become_138 (fm_cons eX1_become_141 (fm_cons eX1_become_144 (fm_cons eX1_become_145 (fm_cons eX1_become_146 (fm_cons eX1_become_149 (fm_cons eX1_become_152 (fm_cons eX1_become_153 (fm_cons eX1_become_155 (fm_cons eX1_become_158 (fm_cons eX1_become_159 (fm_nil)))))))))))))))))))))))))))))))))))))))))))))))))))))))))))))))))))))))))))))))))))))
theorem zX1_become : SwZ nX1_become (Mt mX1_become 2) := wholeZ (mi := nX1_become) (cd := mX1_become) aX1_become rfl (HdZ.none rfl)
abbrev nX0_library : MI := (cX0_library, 3, (some (.int)), RX0, "library", [(21, 25, 28, 147)], 9, 235)
theorem hyX0_library : yX0_library.cls ≠ "java/lang/invoke/MethodHandle" ∧ yX0_library.cls ≠ "java/lang/invoke/VarHandle" := by decide +kernel
theorem pnX0_library : (parseMethodDescriptor yX0_library.desc).map (fun d => d.parameters.length) = some 0 := by decide +kernel
theorem wdX0_library : CdW yX0_library (nX0_library) := ⟨Or.inr q513, rfl, rfl, plainFor_of_name (by decide +kernel)⟩
theorem eX0_library_0 : SiZ nX0_library 0 (i_new 12 7 3) := s_new dX0_library_0 q515 q516 q99 clX12 rfl (by decide)
theorem eX0_library_3 : SiZ nX0_library 3 (i_dup 4) := s_dup dX0_library_3
theorem eX0_library_4 : SiZ nX0_library 4 (i_aload 0 5) := s_aload_n dX0_library_4 rfl
theorem eX0_library_5 : SiZ nX0_library 5 (i_getf 5 [1] 8) := s_getf dX0_library_5 (fm_cons (⟨_, _, _, _, _, _, rfl, fkX0_32_1⟩) (fm_nil))
theorem eX0_library_8 : SiZ nX0_library 8 (i_aload 0 9) := s_aload_n dX0_library_8 rfl
theorem eX0_library_9 : SiZ nX0_library 9 (i_getf 6 [1] 12) := s_getf dX0_library_9 (fm_cons (⟨_, _, _, _, _, _, rfl, fkX0_135_1⟩) (fm_nil))
theorem eX0_library_12 : ScZ nX0_library 12 (c_I 2 15 3 (Mt mX12_init 3)) := e_I (mi := nX0_library) (mi' := nX12_init) (len := 3) (fun h b as rest hl => cs_I (mi := nX0_library) (pc := 12) (y := yX12_init) (idx := 141) dX0_library_12 rfl q517 q518 q519 hyX12_init pnX12_init hl) wdX12_init zX12_init (Nat.le_of_ble_eq_true rfl) (Nat.le_of_ble_eq_true rfl)
theorem eX0_library_15 : SiZ nX0_library 15 (i_astore 1 16) := s_astore_n dX0_library_15 rfl
theorem eX0_library_16 : SiZ nX0_library 16 (i_aload 0 17) := s_aload_n dX0_library_16 rfl
theorem eX0_library_17 : SiZ nX0_library 17 (i_push (.int 0) 18) := s_iconst dX0_library_17 (by decide)
theorem eX0_library_18 : SiZ nX0_library 18 (i_putI 6 [1] 21) := s_putI dX0_library_18 (fm_cons (⟨_, _, _, _, _, _, rfl, ⟨fkX0_135_1, ⟨_, q298, Or.inl rfl⟩, Or.inl rfl⟩, rfl⟩) (fm_nil))
theorem eX0_library_21 : SiZ nX0_library 21 (i_aload 1 22) := s_aload_n dX0_library_21 rfl
theorem eX0_library_22 : ScZ nX0_library 22 (c_V 0 25 2 12 (Mt mX12_all 2)) := e_V (mi := nX0_library) (mi' := nX12_all) (len := 3) (fun h b as rest hk hl => cs_V (ci := 11) (mi := nX0_library) (pc := 22) (y := yX12_all) (idx := 144) dX0_library_22 q546 q547 q548 rfl hk hyX12_all (sigC q549) pnX12_all hl) wdX12_all zX12_all (Nat.le_of_ble_eq_true rfl) (Nat.le_of_ble_eq_true rfl)
theorem eX0_library_25 : SiZ nX0_library 25 (i_goto 45) := s_goto dX0_library_25 (by decide)
theorem eX0_library_28 : SiZ nX0_library 28 (i_astore 2 29) := s_astore_n dX0_library_28 rfl
theorem eX0_library_29 : SiZ nX0_library 29 (i_aload 0 30) := s_aload_n dX0_library_29 rfl
theorem eX0_library_30 : SiZ nX0_library 30 (i_aload 2 31) := s_aload_n dX0_library_30 rfl
theorem eX0_library_31 : SiZ nX0_library 31 (i_getf 154 [13] 34) := s_getf dX0_library_31 (fm_cons (⟨_, _, _, _, _, _, rfl, fkX0_149_13⟩) (fm_nil))
theorem eX0_library_34 : SiZ nX0_library 34 (i_putI 8 [1] 37) := s_putI dX0_library_34 (fm_cons (⟨_, _, _, _, _, _, rfl, ⟨fkX0_152_1, ⟨_, q299, Or.inl rfl⟩, Or.inl rfl⟩, rfl⟩) (fm_nil))
theorem eX0_library_37 : SiZ nX0_library 37 (i_push (.int (-1000100)) 39) := s_ldc dX0_library_37 q762
theorem eX0_library_39 : SiZ nX0_library 39 (i_aload 2 40) := s_aload_n dX0_library_39 rfl
theorem eX0_library_40 : SiZ nX0_library 40 (i_getf 156 [13] 43) := s_getf dX0_library_40 (fm_cons (⟨_, _, _, _, _, _, rfl, fkX0_156_13⟩) (fm_nil))
theorem eX0_library_43 : SiZ nX0_library 43 (i_bin (fun x y => x - y) 44) := s_isub dX0_library_43
theorem eX0_library_44 : SiZ nX0_library 44 i_iret := s_iret dX0_library_44 rfl
theorem eX0_library_45 : SiZ nX0_library 45 (i_aload 0 46) := s_aload_n dX0_library_45 rfl
theorem eX0_library_46 : SiZ nX0_library 46 (i_getf 11 [1] 49) := s_getf dX0_library_46 (fm_cons (⟨_, _, _, _, _, _, rfl, fkX0_39_1⟩) (fm_nil))
theorem eX0_library_49 : SiZ nX0_library 49 (i_aload 1 50) := s_aload_n dX0_library_49 rfl
theorem eX0_library_50 : SiZ nX0_library 50 (i_getf 153 [12] 53) := s_getf dX0_library_50 (fm_cons (⟨_, _, _, _, _, _, rfl, fkX0_159_12⟩) (fm_nil))
theorem eX0_library_53 : ScZ nX0_library 53 (c_V 1 56 2 2 (Mt mX1_become 2)) := e_V (mi := nX0_library) (mi' := nX1_become) (len := 3) (fun h b as rest hk hl => cs_V (ci := 1) (mi := nX0_library) (pc := 53) (y := yX1_become) (idx := 162) dX0_library_53 q763 q764 q765 rfl hk hyX1_become (sigC q766) pnX1_become hl) wdX1_become zX1_become (Nat.le_of_ble_eq_true rfl) (Nat.le_of_ble_eq_true rfl)
theorem eX0_library_56 : SiZ nX0_library 56 (i_pop 57) := s_pop dX0_library_56
theorem eX0_library_57 : SiZ nX0_library 57 (i_aload 0 58) := s_aload_n dX0_library_57 rfl
theorem eX0_library_58 : SiZ nX0_library 58 (i_push (.int 0) 59) := s_iconst dX0_library_58 (by decide)
theorem eX0_library_59 : SiZ nX0_library 59 (i_putI 16 [1] 62) := s_putI dX0_library_59 (fm_cons (⟨_, _, _, _, _, _, rfl, ⟨fkX0_166_1, ⟨_, q303, Or.inl rfl⟩, Or.inl rfl⟩, rfl⟩) (fm_nil))
theorem eX0_library_62 : SiZ nX0_library 62 (i_aload 0 63) := s_aload_n dX0_library_62 rfl
theorem eX0_library_63 : SiZ nX0_library 63 (i_getf 11 [1] 66) := s_getf dX0_library_63 (fm_cons (⟨_, _, _, _, _, _, rfl, fkX0_39_1⟩) (fm_nil))
theorem eX0_library_66 : ScZ nX0_library 66 (c_V 0 69 1 2 (Mt mX1_many 1)) := e_V (mi := nX0_library) (mi' := nX1_many) (len := 3) (fun h b as rest hk hl => cs_V (ci := 1) (mi := nX0_library) (pc := 66) (y := yX1_many) (idx := 169) dX0_library_66 q768 q680 q681 rfl hk hyX1_many (sigC q682) pnX1_many hl) wdX1_many zX1_many (Nat.le_of_ble_eq_true rfl) (Nat.le_of_ble_eq_true rfl)
theorem eX0_library_69 : SiZ nX0_library 69 i_iret := s_iret dX0_library_69 rfl
theorem aX0_library : ∀ x ∈ mX0_library.1, EnZ nX0_library x := fm_cons eX0_library_0 (fm_cons eX0_library_3 (fm_cons eX0_library_4 (fm_cons eX0_library_5 (fm_cons eX0_library_8 (fm_cons eX0_library_9 (fm_cons eX0_library_12 (fm_cons eX0_library_15 (fm_cons eX0_library_16 (fm_cons eX0_library_17 (fm_cons eX0_library_18 (fm_cons eX0_library_21 (fm_cons eX0_library_22 (fm_cons eX0_library_25 (fm_cons eX0_library_28 (fm_cons eX0_library_29 (fm_cons eX0_library_30 (fm_cons eX0_library_31 (fm_cons eX0_library_34 (fm_cons eX0_library_37 (fm_cons eX0_library_39 (fm_cons eX0_library_40 (fm_cons eX0_library_43 (fm_cons eX0_library_44 (fm_cons eX0_library_45 (fm_cons eX0_library_46 (fm_cons eX0_library_49 (fm_cons eX0_library_50 (fm_cons eX0_library_53 (fm_cons eX0_library_56 (fm_cons eX0_library_57 (fm_cons eX0_library_58 (fm_cons eX0_library_59 (fm_cons eX0_library_62 (fm_cons eX0_library_63 (fm_cons eX0_library_66 (fm_cons eX0_library_69 (fm_nil)))))))))))))))))))))))))))))))))))))
theorem zX0_library : SwZ nX0_library (Mt mX0_library 3) := wholeZ (mi := nX0_library) (cd := mX0_library) aX0_library rfl (HdZ.tab (mi := nX0_library) (fun c => if c = 147 then [13] else []) rfl (fm_cons (⟨by decide, "FishReaders$Fault", q514, fm_cons ⟨"FishReaders$Fault", Or.inl ⟨12, _, rfl, rfl, rfl⟩, Or.inl rfl⟩ fm_nil⟩) (fm_nil)))
abbrev nX0_fault : MI := (cX0_fault, 1, (some (.int)), RX0, "fault", [], 0, 0)
theorem hyX0_fault : yX0_fault.cls ≠ "java/lang/invoke/MethodHandle" ∧ yX0_fault.cls ≠ "java/lang/invoke/VarHandle" := by decide +kernel
theorem pnX0_fault : (parseMethodDescriptor yX0_fault.desc).map (fun d => d.parameters.length) = some 0 := by decide +kernel
theorem wdX0_fault : CdW yX0_fault (nX0_fault) := ⟨Or.inl ⟨q772, rfl⟩, rfl, rfl, plainFor_of_name (by decide +kernel)⟩
theorem eX0_fault_0 : SiZ nX0_fault 0 (i_aload 0 1) := s_aload_n dX0_fault_0 rfl
theorem eX0_fault_1 : SiZ nX0_fault 1 (i_getf 8 [1] 4) := s_getf dX0_fault_1 (fm_cons (⟨_, _, _, _, _, _, rfl, fkX0_152_1⟩) (fm_nil))
theorem eX0_fault_4 : SiZ nX0_fault 4 i_iret := s_iret dX0_fault_4 rfl
theorem aX0_fault : ∀ x ∈ mX0_fault.1, EnZ nX0_fault x := fm_cons eX0_fault_0 (fm_cons eX0_fault_1 (fm_cons eX0_fault_4 (fm_nil)))
theorem zX0_fault : SwZ nX0_fault (Mt mX0_fault 1) := wholeZ (mi := nX0_fault) (cd := mX0_fault) aX0_fault rfl (HdZ.none rfl)
abbrev nX0_undo : MI := (cX0_undo, 1, (some (.int)), RX0, "undo", [], 2, 55)
theorem hyX0_undo : yX0_undo.cls ≠ "java/lang/invoke/MethodHandle" ∧ yX0_undo.cls ≠ "java/lang/invoke/VarHandle" := by decide +kernel
theorem pnX0_undo : (parseMethodDescriptor yX0_undo.desc).map (fun d => d.parameters.length) = some 0 := by decide +kernel
theorem wdX0_undo : CdW yX0_undo (nX0_undo) := ⟨Or.inl ⟨q776, rfl⟩, rfl, rfl, plainFor_of_name (by decide +kernel)⟩
theorem eX0_undo_0 : SiZ nX0_undo 0 (i_aload 0 1) := s_aload_n dX0_undo_0 rfl
theorem eX0_undo_1 : SiZ nX0_undo 1 (i_getf 16 [1] 4) := s_getf dX0_undo_1 (fm_cons (⟨_, _, _, _, _, _, rfl, fkX0_166_1⟩) (fm_nil))
theorem eX0_undo_4 : SiZ nX0_undo 4 (i_if (fun x => ¬ x = 0) 10 7) := s_if_ne dX0_undo_4 (by decide)
theorem eX0_undo_7 : SiZ nX0_undo 7 (i_push (.int (-1000002)) 9) := s_ldc dX0_undo_7 q777
theorem eX0_undo_9 : SiZ nX0_undo 9 i_iret := s_iret dX0_undo_9 rfl
theorem eX0_undo_10 : SiZ nX0_undo 10 (i_aload 0 11) := s_aload_n dX0_undo_10 rfl
theorem eX0_undo_11 : SiZ nX0_undo 11 (i_dup 12) := s_dup dX0_undo_11
theorem eX0_undo_12 : SiZ nX0_undo 12 (i_getf 16 [1] 15) := s_getf dX0_undo_12 (fm_cons (⟨_, _, _, _, _, _, rfl, fkX0_166_1⟩) (fm_nil))
theorem eX0_undo_15 : SiZ nX0_undo 15 (i_push (.int 1) 16) := s_iconst dX0_undo_15 (by decide)
theorem eX0_undo_16 : SiZ nX0_undo 16 (i_bin (fun x y => x - y) 17) := s_isub dX0_undo_16
theorem eX0_undo_17 : SiZ nX0_undo 17 (i_putI 16 [1] 20) := s_putI dX0_undo_17 (fm_cons (⟨_, _, _, _, _, _, rfl, ⟨fkX0_166_1, ⟨_, q303, Or.inl rfl⟩, Or.inl rfl⟩, rfl⟩) (fm_nil))
theorem eX0_undo_20 : SiZ nX0_undo 20 (i_aload 0 21) := s_aload_n dX0_undo_20 rfl
theorem eX0_undo_21 : SiZ nX0_undo 21 (i_getf 11 [1] 24) := s_getf dX0_undo_21 (fm_cons (⟨_, _, _, _, _, _, rfl, fkX0_39_1⟩) (fm_nil))
theorem eX0_undo_24 : SiZ nX0_undo 24 (i_aload 0 25) := s_aload_n dX0_undo_24 rfl
theorem eX0_undo_25 : SiZ nX0_undo 25 (i_getf 15 [1] 28) := s_getf dX0_undo_25 (fm_cons (⟨_, _, _, _, _, _, rfl, fkX0_46_1⟩) (fm_nil))
theorem eX0_undo_28 : SiZ nX0_undo 28 (i_aload 0 29) := s_aload_n dX0_undo_28 rfl
theorem eX0_undo_29 : SiZ nX0_undo 29 (i_getf 16 [1] 32) := s_getf dX0_undo_29 (fm_cons (⟨_, _, _, _, _, _, rfl, fkX0_166_1⟩) (fm_nil))
theorem eX0_undo_32 : SiZ nX0_undo 32 (i_aald 55 33) := s_aald (j := 1) (by decide) (fun _ => rfl) dX0_undo_32
theorem eX0_undo_33 : ScZ nX0_undo 33 (c_V 1 36 2 2 (Mt mX1_become 2)) := e_V (mi := nX0_undo) (mi' := nX1_become) (len := 3) (fun h b as rest hk hl => cs_V (ci := 1) (mi := nX0_undo) (pc := 33) (y := yX1_become) (idx := 162) dX0_undo_33 q763 q764 q765 rfl hk hyX1_become (sigC q766) pnX1_become hl) wdX1_become zX1_become (Nat.le_of_ble_eq_true rfl) (Nat.le_of_ble_eq_true rfl)
theorem eX0_undo_36 : SiZ nX0_undo 36 (i_pop 37) := s_pop dX0_undo_36
theorem eX0_undo_37 : SiZ nX0_undo 37 (i_aload 0 38) := s_aload_n dX0_undo_37 rfl
theorem eX0_undo_38 : SiZ nX0_undo 38 (i_getf 16 [1] 41) := s_getf dX0_undo_38 (fm_cons (⟨_, _, _, _, _, _, rfl, fkX0_166_1⟩) (fm_nil))
theorem eX0_undo_41 : SiZ nX0_undo 41 i_iret := s_iret dX0_undo_41 rfl
theorem aX0_undo : ∀ x ∈ mX0_undo.1, EnZ nX0_undo x := fm_cons eX0_undo_0 (fm_cons eX0_undo_1 (fm_cons eX0_undo_4 (fm_cons eX0_undo_7 (fm_cons eX0_undo_9 (fm_cons eX0_undo_10 (fm_cons eX0_undo_11 (fm_cons eX0_undo_12 (fm_cons eX0_undo_15 (fm_cons eX0_undo_16 (fm_cons eX0_undo_17 (fm_cons eX0_undo_20 (fm_cons eX0_undo_21 (fm_cons eX0_undo_24 (fm_cons eX0_undo_25 (fm_cons eX0_undo_28 (fm_cons eX0_undo_29 (fm_cons eX0_undo_32 (fm_cons eX0_undo_33 (fm_cons eX0_undo_36 (fm_cons eX0_undo_37 (fm_cons eX0_undo_38 (fm_cons eX0_undo_41 (fm_nil)))))))))))))))))))))))
theorem zX0_undo : SwZ nX0_undo (Mt mX0_undo 1) := wholeZ (mi := nX0_undo) (cd := mX0_undo) aX0_undo rfl (HdZ.none rfl)
abbrev nX0_isLibrary : MI := (cX0_isLibrary, 1, (some (.boolean)), RX0, "isLibrary", [], 0, 0)
theorem hyX0_isLibrary : yX0_isLibrary.cls ≠ "java/lang/invoke/MethodHandle" ∧ yX0_isLibrary.cls ≠ "java/lang/invoke/VarHandle" := by decide +kernel
theorem pnX0_isLibrary : (parseMethodDescriptor yX0_isLibrary.desc).map (fun d => d.parameters.length) = some 0 := by decide +kernel
theorem wdX0_isLibrary : CdW yX0_isLibrary (nX0_isLibrary) := ⟨Or.inl ⟨q785, rfl⟩, rfl, rfl, plainFor_of_name (by decide +kernel)⟩
theorem eX0_isLibrary_0 : SiZ nX0_isLibrary 0 (i_aload 0 1) := s_aload_n dX0_isLibrary_0 rfl
theorem eX0_isLibrary_1 : SiZ nX0_isLibrary 1 (i_getf 11 [1] 4) := s_getf dX0_isLibrary_1 (fm_cons (⟨_, _, _, _, _, _, rfl, fkX0_39_1⟩) (fm_nil))
theorem eX0_isLibrary_4 : SiZ nX0_isLibrary 4 (i_getf 32 [2] 7) := s_getf dX0_isLibrary_4 (fm_cons (⟨_, _, _, _, _, _, rfl, fkX0_174_2⟩) (fm_nil))
theorem eX0_isLibrary_7 : SiZ nX0_isLibrary 7 (i_if (fun x => x ≤ 0) 14 10) := s_if_le dX0_isLibrary_7 (by decide)
theorem eX0_isLibrary_10 : SiZ nX0_isLibrary 10 (i_push (.int 1) 11) := s_iconst dX0_isLibrary_10 (by decide)
theorem eX0_isLibrary_11 : SiZ nX0_isLibrary 11 (i_goto 15) := s_goto dX0_isLibrary_11 (by decide)
theorem eX0_isLibrary_14 : SiZ nX0_isLibrary 14 (i_push (.int 0) 15) := s_iconst dX0_isLibrary_14 (by decide)
theorem eX0_isLibrary_15 : SiZ nX0_isLibrary 15 i_zret := s_zret dX0_isLibrary_15 rfl
theorem aX0_isLibrary : ∀ x ∈ mX0_isLibrary.1, EnZ nX0_isLibrary x := fm_cons eX0_isLibrary_0 (fm_cons eX0_isLibrary_1 (fm_cons eX0_isLibrary_4 (fm_cons eX0_isLibrary_7 (fm_cons eX0_isLibrary_10 (fm_cons eX0_isLibrary_11 (fm_cons eX0_isLibrary_14 (fm_cons eX0_isLibrary_15 (fm_nil))))))))
theorem zX0_isLibrary : SwZ nX0_isLibrary (Mt mX0_isLibrary 1) := wholeZ (mi := nX0_isLibrary) (cd := mX0_isLibrary) aX0_isLibrary rfl (HdZ.none rfl)
abbrev nX0_keep : MI := (cX0_keep, 3, none, RX0, "keep", [], 5, 120)
theorem hyX0_keep : yX0_keep.cls ≠ "java/lang/invoke/MethodHandle" ∧ yX0_keep.cls ≠ "java/lang/invoke/VarHandle" := by decide +kernel
theorem pnX0_keep : (parseMethodDescriptor yX0_keep.desc).map (fun d => d.parameters.length) = some 0 := by decide +kernel
theorem wdX0_keep : CdW yX0_keep (nX0_keep) := ⟨Or.inl ⟨q790, rfl⟩, rfl, rfl, plainFor_of_name (by decide +kernel)⟩
theorem eX0_keep_0 : SiZ nX0_keep 0 (i_aload 0 1) := s_aload_n dX0_keep_0 rfl
theorem eX0_keep_1 : SiZ nX0_keep 1 (i_getf 16 [1] 4) := s_getf dX0_keep_1 (fm_cons (⟨_, _, _, _, _, _, rfl, fkX0_166_1⟩) (fm_nil))
theorem eX0_keep_4 : SiZ nX0_keep 4 (i_push (.int 24) 6) := s_bipush dX0_keep_4 (by decide)
theorem eX0_keep_6 : SiZ nX0_keep 6 (i_icmp (fun x y => ¬ x = y) 62 9) := s_icmp_ne dX0_keep_6 (by decide)
theorem eX0_keep_9 : SiZ nX0_keep 9 (i_aload 0 10) := s_aload_n dX0_keep_9 rfl
theorem eX0_keep_10 : SiZ nX0_keep 10 (i_getf 15 [1] 13) := s_getf dX0_keep_10 (fm_cons (⟨_, _, _, _, _, _, rfl, fkX0_46_1⟩) (fm_nil))
theorem eX0_keep_13 : SiZ nX0_keep 13 (i_push (.int 0) 14) := s_iconst dX0_keep_13 (by decide)
theorem eX0_keep_14 : SiZ nX0_keep 14 (i_aald 55 15) := s_aald (j := 1) (by decide) (fun _ => rfl) dX0_keep_14
theorem eX0_keep_15 : SiZ nX0_keep 15 (i_astore 1 16) := s_astore_n dX0_keep_15 rfl
theorem eX0_keep_16 : SiZ nX0_keep 16 (i_push (.int 1) 17) := s_iconst dX0_keep_16 (by decide)
theorem eX0_keep_17 : SiZ nX0_keep 17 (i_istore 2 18) := s_istore_n dX0_keep_17 rfl
theorem eX0_keep_18 : SiZ nX0_keep 18 (i_iload 2 19) := s_iload_n dX0_keep_18 rfl
theorem eX0_keep_19 : SiZ nX0_keep 19 (i_push (.int 24) 21) := s_bipush dX0_keep_19 (by decide)
theorem eX0_keep_21 : SiZ nX0_keep 21 (i_icmp (fun x y => y ≤ x) 44 24) := s_icmp_ge dX0_keep_21 (by decide)
theorem eX0_keep_24 : SiZ nX0_keep 24 (i_aload 0 25) := s_aload_n dX0_keep_24 rfl
theorem eX0_keep_25 : SiZ nX0_keep 25 (i_getf 15 [1] 28) := s_getf dX0_keep_25 (fm_cons (⟨_, _, _, _, _, _, rfl, fkX0_46_1⟩) (fm_nil))
theorem eX0_keep_28 : SiZ nX0_keep 28 (i_iload 2 29) := s_iload_n dX0_keep_28 rfl
theorem eX0_keep_29 : SiZ nX0_keep 29 (i_push (.int 1) 30) := s_iconst dX0_keep_29 (by decide)
theorem eX0_keep_30 : SiZ nX0_keep 30 (i_bin (fun x y => x - y) 31) := s_isub dX0_keep_30
theorem eX0_keep_31 : SiZ nX0_keep 31 (i_aload 0 32) := s_aload_n dX0_keep_31 rfl
theorem eX0_keep_32 : SiZ nX0_keep 32 (i_getf 15 [1] 35) := s_getf dX0_keep_32 (fm_cons (⟨_, _, _, _, _, _, rfl, fkX0_46_1⟩) (fm_nil))
theorem eX0_keep_35 : SiZ nX0_keep 35 (i_iload 2 36) := s_iload_n dX0_keep_35 rfl
theorem eX0_keep_36 : SiZ nX0_keep 36 (i_aald 55 37) := s_aald (j := 1) (by decide) (fun _ => rfl) dX0_keep_36
theorem eX0_keep_37 : SiZ nX0_keep 37 (i_aast 55 [2] 38) := s_aast (j := 1) (by decide) (fun _ => rfl) dX0_keep_37 (fm_cons (⟨1, _, rfl, rfl, Or.inl rfl⟩) (fm_nil))
theorem eX0_keep_38 : SiZ nX0_keep 38 (i_iinc 2 1 41) := s_iinc dX0_keep_38 (by decide)
theorem eX0_keep_41 : SiZ nX0_keep 41 (i_goto 18) := s_goto dX0_keep_41 (by decide)
theorem eX0_keep_44 : SiZ nX0_keep 44 (i_aload 0 45) := s_aload_n dX0_keep_44 rfl
theorem eX0_keep_45 : SiZ nX0_keep 45 (i_getf 15 [1] 48) := s_getf dX0_keep_45 (fm_cons (⟨_, _, _, _, _, _, rfl, fkX0_46_1⟩) (fm_nil))
theorem eX0_keep_48 : SiZ nX0_keep 48 (i_push (.int 23) 50) := s_bipush dX0_keep_48 (by decide)
theorem eX0_keep_50 : SiZ nX0_keep 50 (i_aload 1 51) := s_aload_n dX0_keep_50 rfl
theorem eX0_keep_51 : SiZ nX0_keep 51 (i_aast 55 [2] 52) := s_aast (j := 1) (by decide) (fun _ => rfl) dX0_keep_51 (fm_cons (⟨1, _, rfl, rfl, Or.inl rfl⟩) (fm_nil))
theorem eX0_keep_52 : SiZ nX0_keep 52 (i_aload 0 53) := s_aload_n dX0_keep_52 rfl
theorem eX0_keep_53 : SiZ nX0_keep 53 (i_dup 54) := s_dup dX0_keep_53
theorem eX0_keep_54 : SiZ nX0_keep 54 (i_getf 16 [1] 57) := s_getf dX0_keep_54 (fm_cons (⟨_, _, _, _, _, _, rfl, fkX0_166_1⟩) (fm_nil))
theorem eX0_keep_57 : SiZ nX0_keep 57 (i_push (.int 1) 58) := s_iconst dX0_keep_57 (by decide)
theorem eX0_keep_58 : SiZ nX0_keep 58 (i_bin (fun x y => x - y) 59) := s_isub dX0_keep_58
theorem eX0_keep_59 : SiZ nX0_keep 59 (i_putI 16 [1] 62) := s_putI dX0_keep_59 (fm_cons (⟨_, _, _, _, _, _, rfl, ⟨fkX0_166_1, ⟨_, q303, Or.inl rfl⟩, Or.inl rfl⟩, rfl⟩) (fm_nil))
theorem eX0_keep_62 : SiZ nX0_keep 62 (i_aload 0 63) := s_aload_n dX0_keep_62 rfl
theorem eX0_keep_63 : SiZ nX0_keep 63 (i_getf 15 [1] 66) := s_getf dX0_keep_63 (fm_cons (⟨_, _, _, _, _, _, rfl, fkX0_46_1⟩) (fm_nil))
theorem eX0_keep_66 : SiZ nX0_keep 66 (i_aload 0 67) := s_aload_n dX0_keep_66 rfl
theorem eX0_keep_67 : SiZ nX0_keep 67 (i_getf 16 [1] 70) := s_getf dX0_keep_67 (fm_cons (⟨_, _, _, _, _, _, rfl, fkX0_166_1⟩) (fm_nil))
theorem eX0_keep_70 : SiZ nX0_keep 70 (i_aald 55 71) := s_aald (j := 1) (by decide) (fun _ => rfl) dX0_keep_70
theorem eX0_keep_71 : SiZ nX0_keep 71 (i_ifn 74 90) := s_ifnonnull dX0_keep_71 (by decide)
theorem eX0_keep_74 : SiZ nX0_keep 74 (i_aload 0 75) := s_aload_n dX0_keep_74 rfl
theorem eX0_keep_75 : SiZ nX0_keep 75 (i_getf 15 [1] 78) := s_getf dX0_keep_75 (fm_cons (⟨_, _, _, _, _, _, rfl, fkX0_46_1⟩) (fm_nil))
theorem eX0_keep_78 : SiZ nX0_keep 78 (i_aload 0 79) := s_aload_n dX0_keep_78 rfl
theorem eX0_keep_79 : SiZ nX0_keep 79 (i_getf 16 [1] 82) := s_getf dX0_keep_79 (fm_cons (⟨_, _, _, _, _, _, rfl, fkX0_166_1⟩) (fm_nil))
theorem eX0_keep_82 : SiZ nX0_keep 82 (i_new 2 16 85) := s_new dX0_keep_82 q120 q121 q78 clX1 rfl (by decide)
theorem eX0_keep_85 : SiZ nX0_keep 85 (i_dup 86) := s_dup dX0_keep_85
theorem eX0_keep_86 : ScZ nX0_keep 86 (c_I 0 89 1 (Mt mX1_init 1)) := e_I (mi := nX0_keep) (mi' := nX1_init) (len := 3) (fun h b as rest hl => cs_IN (mi := nX0_keep) (pc := 86) (y := yX1_init) (idx := 38) dX0_keep_86 rfl q122 q123 q124 hyX1_init pnX1_init hl) wdX1_init zX1_init (Nat.le_of_ble_eq_true rfl) (Nat.le_of_ble_eq_true rfl)
theorem eX0_keep_89 : SiZ nX0_keep 89 (i_aast 55 [2] 90) := s_aast (j := 1) (by decide) (fun _ => rfl) dX0_keep_89 (fm_cons (⟨1, _, rfl, rfl, Or.inl rfl⟩) (fm_nil))
theorem eX0_keep_90 : SiZ nX0_keep 90 (i_aload 0 91) := s_aload_n dX0_keep_90 rfl
theorem eX0_keep_91 : SiZ nX0_keep 91 (i_getf 15 [1] 94) := s_getf dX0_keep_91 (fm_cons (⟨_, _, _, _, _, _, rfl, fkX0_46_1⟩) (fm_nil))
theorem eX0_keep_94 : SiZ nX0_keep 94 (i_aload 0 95) := s_aload_n dX0_keep_94 rfl
theorem eX0_keep_95 : SiZ nX0_keep 95 (i_getf 16 [1] 98) := s_getf dX0_keep_95 (fm_cons (⟨_, _, _, _, _, _, rfl, fkX0_166_1⟩) (fm_nil))
theorem eX0_keep_98 : SiZ nX0_keep 98 (i_aald 55 99) := s_aald (j := 1) (by decide) (fun _ => rfl) dX0_keep_98
theorem eX0_keep_99 : SiZ nX0_keep 99 (i_aload 0 100) := s_aload_n dX0_keep_99 rfl
theorem eX0_keep_100 : SiZ nX0_keep 100 (i_getf 11 [1] 103) := s_getf dX0_keep_100 (fm_cons (⟨_, _, _, _, _, _, rfl, fkX0_39_1⟩) (fm_nil))
theorem eX0_keep_103 : ScZ nX0_keep 103 (c_V 1 106 2 2 (Mt mX1_become 2)) := e_V (mi := nX0_keep) (mi' := nX1_become) (len := 3) (fun h b as rest hk hl => cs_V (ci := 1) (mi := nX0_keep) (pc := 103) (y := yX1_become) (idx := 162) dX0_keep_103 q763 q764 q765 rfl hk hyX1_become (sigC q766) pnX1_become hl) wdX1_become zX1_become (Nat.le_of_ble_eq_true rfl) (Nat.le_of_ble_eq_true rfl)
theorem eX0_keep_106 : SiZ nX0_keep 106 (i_pop 107) := s_pop dX0_keep_106
theorem eX0_keep_107 : SiZ nX0_keep 107 (i_aload 0 108) := s_aload_n dX0_keep_107 rfl
theorem eX0_keep_108 : SiZ nX0_keep 108 (i_dup 109) := s_dup dX0_keep_108
theorem eX0_keep_109 : SiZ nX0_keep 109 (i_getf 16 [1] 112) := s_getf dX0_keep_109 (fm_cons (⟨_, _, _, _, _, _, rfl, fkX0_166_1⟩) (fm_nil))
theorem eX0_keep_112 : SiZ nX0_keep 112 (i_push (.int 1) 113) := s_iconst dX0_keep_112 (by decide)
theorem eX0_keep_113 : SiZ nX0_keep 113 (i_bin (fun x y => x + y) 114) := s_iadd dX0_keep_113
theorem eX0_keep_114 : SiZ nX0_keep 114 (i_putI 16 [1] 117) := s_putI dX0_keep_114 (fm_cons (⟨_, _, _, _, _, _, rfl, ⟨fkX0_166_1, ⟨_, q303, Or.inl rfl⟩, Or.inl rfl⟩, rfl⟩) (fm_nil))
theorem eX0_keep_117 : SiZ nX0_keep 117 i_vret := s_vret dX0_keep_117 rfl
theorem aX0_keep : ∀ x ∈ mX0_keep.1, EnZ nX0_keep x := fm_cons eX0_keep_0 (fm_cons eX0_keep_1 (fm_cons eX0_keep_4 (fm_cons eX0_keep_6 (fm_cons eX0_keep_9 (fm_cons eX0_keep_10 (fm_cons eX0_keep_13 (fm_cons eX0_keep_14 (fm_cons eX0_keep_15 (fm_cons eX0_keep_16 (fm_cons eX0_keep_17 (fm_cons eX0_keep_18 (fm_cons eX0_keep_19 (fm_cons eX0_keep_21 (fm_cons eX0_keep_24 (fm_cons eX0_keep_25 (fm_cons eX0_keep_28 (fm_cons eX0_keep_29 (fm_cons eX0_keep_30 (fm_cons eX0_keep_31 (fm_cons eX0_keep_32 (fm_cons eX0_keep_35 (fm_cons eX0_keep_36 (fm_cons eX0_keep_37 (fm_cons eX0_keep_38 (fm_cons eX0_keep_41 (fm_cons eX0_keep_44 (fm_cons eX0_keep_45 (fm_cons eX0_keep_48 (fm_cons eX0_keep_50 (fm_cons eX0_keep_51 (fm_cons eX0_keep_52 (fm_cons eX0_keep_53 (fm_cons eX0_keep_54 (fm_cons eX0_keep_57 (fm_cons eX0_keep_58 (fm_cons eX0_keep_59 (fm_cons eX0_keep_62 (fm_cons eX0_keep_63 (fm_cons eX0_keep_66 (fm_cons eX0_keep_67 (fm_cons eX0_keep_70 (fm_cons eX0_keep_71 (fm_cons eX0_keep_74 (fm_cons eX0_keep_75 (fm_cons eX0_keep_78 (fm_cons eX0_keep_79 (fm_cons eX0_keep_82 (fm_cons eX0_keep_85 (fm_cons eX0_keep_86 (fm_cons eX0_keep_89 (fm_cons eX0_keep_90 (fm_cons eX0_keep_91 (fm_cons eX0_keep_94 (fm_cons eX0_keep_95 (fm_cons eX0_keep_98 (fm_cons eX0_keep_99 (fm_cons eX0_keep_100 (fm_cons eX0_keep_103 (fm_cons eX0_keep_106 (fm_cons eX0_keep_107 (fm_cons eX0_keep_108 (fm_cons eX0_keep_109 (fm_cons eX0_keep_112 (fm_cons eX0_keep_113 (fm_cons eX0_keep_114 (fm_cons eX0_keep_117 (fm_nil)))))))))))))))))))))))))))))))))))))))))))))))))))))))))))))))))))
theorem zX0_keep : SwZ nX0_keep (Mt mX0_keep 3) := wholeZ (mi := nX0_keep) (cd := mX0_keep) aX0_keep rfl (HdZ.none rfl)
abbrev nX1_isCaught : MI := (cX1_isCaught, 2, (some (.boolean)), RX1, "isCaught", [], 0, 0)
theorem hyX1_isCaught : yX1_isCaught.cls ≠ "java/lang/invoke/MethodHandle" ∧ yX1_isCaught.cls ≠ "java/lang/invoke/VarHandle" := by decide +kernel
theorem pnX1_isCaught : (parseMethodDescriptor yX1_isCaught.desc).map (fun d => d.parameters.length) = some 1 := by decide +kernel
theorem wdX1_isCaught : CdW yX1_isCaught (nX1_isCaught) := ⟨Or.inl ⟨q799, rfl⟩, rfl, rfl, plainFor_of_name (by decide +kernel)⟩
theorem eX1_isCaught_0 : SiZ nX1_isCaught 0 (i_aload 0 1) := s_aload_n dX1_isCaught_0 rfl
theorem eX1_isCaught_1 : SiZ nX1_isCaught 1 (i_getf 56 [2] 4) := s_getf dX1_isCaught_1 (fm_cons (⟨_, _, _, _, _, _, rfl, fkX1_63_2⟩) (fm_nil))
theorem eX1_isCaught_4 : SiZ nX1_isCaught 4 (i_iload 1 5) := s_iload_n dX1_isCaught_4 rfl
theorem eX1_isCaught_5 : SiZ nX1_isCaught 5 (i_bin (fun x y => x >>> (y &&& 31)) 6) := s_ishr dX1_isCaught_5
theorem eX1_isCaught_6 : SiZ nX1_isCaught 6 (i_push (.int 1) 7) := s_iconst dX1_isCaught_6 (by decide)
theorem eX1_isCaught_7 : SiZ nX1_isCaught 7 (i_bin (fun x y => x &&& y) 8) := s_iand dX1_isCaught_7
theorem eX1_isCaught_8 : SiZ nX1_isCaught 8 (i_push (.int 1) 9) := s_iconst dX1_isCaught_8 (by decide)
theorem eX1_isCaught_9 : SiZ nX1_isCaught 9 (i_icmp (fun x y => ¬ x = y) 16 12) := s_icmp_ne dX1_isCaught_9 (by decide)
theorem eX1_isCaught_12 : SiZ nX1_isCaught 12 (i_push (.int 1) 13) := s_iconst dX1_isCaught_12 (by decide)
theorem eX1_isCaught_13 : SiZ nX1_isCaught 13 (i_goto 17) := s_goto dX1_isCaught_13 (by decide)
theorem eX1_isCaught_16 : SiZ nX1_isCaught 16 (i_push (.int 0) 17) := s_iconst dX1_isCaught_16 (by decide)
theorem eX1_isCaught_17 : SiZ nX1_isCaught 17 i_zret := s_zret dX1_isCaught_17 rfl
theorem aX1_isCaught : ∀ x ∈ mX1_isCaught.1, EnZ nX1_isCaught x := fm_cons eX1_isCaught_0 (fm_cons eX1_isCaught_1 (fm_cons eX1_isCaught_4 (fm_cons eX1_isCaught_5 (fm_cons eX1_isCaught_6 (fm_cons eX1_isCaught_7 (fm_cons eX1_isCaught_8 (fm_cons eX1_isCaught_9 (fm_cons eX1_isCaught_12 (fm_cons eX1_isCaught_13 (fm_cons eX1_isCaught_16 (fm_cons eX1_isCaught_17 (fm_nil))))))))))))
theorem zX1_isCaught : SwZ nX1_isCaught (Mt mX1_isCaught 2) := wholeZ (mi := nX1_isCaught) (cd := mX1_isCaught) aX1_isCaught rfl (HdZ.none rfl)
abbrev nJ15_checkIndex : MI := (cJ15_checkIndex, 2, (some (.int)), RJ15, "checkIndex", [], 1, 26)
theorem hyJ15_checkIndex : yJ15_checkIndex.cls ≠ "java/lang/invoke/MethodHandle" ∧ yJ15_checkIndex.cls ≠ "java/lang/invoke/VarHandle" := by decide +kernel
theorem pnJ15_checkIndex : (parseMethodDescriptor yJ15_checkIndex.desc).map (fun d => d.parameters.length) = some 2 := by decide +kernel
theorem wdJ15_checkIndex : CdW yJ15_checkIndex (nJ15_checkIndex) := ⟨Or.inl ⟨q815, rfl⟩, rfl, rfl, plainFor_of_name (by decide +kernel)⟩
theorem eJ15_checkIndex_0 : SiZ nJ15_checkIndex 0 (i_iload 0 1) := s_iload_n dJ15_checkIndex_0 rfl
theorem eJ15_checkIndex_1 : SiZ nJ15_checkIndex 1 (i_iload 1 2) := s_iload_n dJ15_checkIndex_1 rfl
theorem eJ15_checkIndex_2 : SiZ nJ15_checkIndex 2 (i_push (.null) 3) := s_null dJ15_checkIndex_2
theorem eJ15_checkIndex_3 : ScZ nJ15_checkIndex 3 (c_S 3 6 3 (Mt mJ10_checkIndex 3)) := e_S (mi := nJ15_checkIndex) (mi' := nJ10_checkIndex) (len := 3) (fun h as rest hl => cs_S (mi := nJ15_checkIndex) (pc := 3) (y := yJ10_checkIndex) (idx := 105) dJ15_checkIndex_3 q816 q654 q102 q655 hyJ10_checkIndex pnJ10_checkIndex hl) wdJ10_checkIndex zJ10_checkIndex (Nat.le_of_ble_eq_true rfl) (Nat.le_of_ble_eq_true rfl)
theorem eJ15_checkIndex_6 : SiZ nJ15_checkIndex 6 i_iret := s_iret dJ15_checkIndex_6 rfl
theorem aJ15_checkIndex : ∀ x ∈ mJ15_checkIndex.1, EnZ nJ15_checkIndex x := fm_cons eJ15_checkIndex_0 (fm_cons eJ15_checkIndex_1 (fm_cons eJ15_checkIndex_2 (fm_cons eJ15_checkIndex_3 (fm_cons eJ15_checkIndex_6 (fm_nil)))))
theorem zJ15_checkIndex : SwZ nJ15_checkIndex (Mt mJ15_checkIndex 2) := wholeZ (mi := nJ15_checkIndex) (cd := mJ15_checkIndex) aJ15_checkIndex rfl (HdZ.none rfl)
abbrev nJ2_elementData : MI := (cJ2_elementData, 2, (some (.object "java/lang/Object")), RJ2, "elementData", [], 0, 0)
theorem hyJ2_elementData : yJ2_elementData.cls ≠ "java/lang/invoke/MethodHandle" ∧ yJ2_elementData.cls ≠ "java/lang/invoke/VarHandle" := by decide +kernel
theorem pnJ2_elementData : (parseMethodDescriptor yJ2_elementData.desc).map (fun d => d.parameters.length) = some 1 := by decide +kernel
theorem wdJ2_elementData : CdW yJ2_elementData (nJ2_elementData) := ⟨Or.inl ⟨q820, rfl⟩, rfl, rfl, plainFor_of_name (by decide +kernel)⟩
theorem eJ2_elementData_0 : SiZ nJ2_elementData 0 (i_aload 0 1) := s_aload_n dJ2_elementData_0 rfl
theorem eJ2_elementData_1 : SiZ nJ2_elementData 1 (i_getf 161 [14] 4) := s_getf dJ2_elementData_1 (fm_cons (⟨_, _, _, _, _, _, rfl, fkJ2_9_14⟩) (fm_nil))
theorem eJ2_elementData_4 : SiZ nJ2_elementData 4 (i_iload 1 5) := s_iload_n dJ2_elementData_4 rfl
theorem eJ2_elementData_5 : SiZ nJ2_elementData 5 (i_aald 57 6) := s_aald (j := 3) (by decide) (fun _ => rfl) dJ2_elementData_5
theorem eJ2_elementData_6 : SiZ nJ2_elementData 6 i_aret := s_aret dJ2_elementData_6 rfl (Or.inl ⟨_, rfl⟩)
theorem aJ2_elementData : ∀ x ∈ mJ2_elementData.1, EnZ nJ2_elementData x := fm_cons eJ2_elementData_0 (fm_cons eJ2_elementData_1 (fm_cons eJ2_elementData_4 (fm_cons eJ2_elementData_5 (fm_cons eJ2_elementData_6 (fm_nil)))))
theorem zJ2_elementData : SwZ nJ2_elementData (Mt mJ2_elementData 2) := wholeZ (mi := nJ2_elementData) (cd := mJ2_elementData) aJ2_elementData rfl (HdZ.none rfl)
abbrev nJ2_get : MI := (cJ2_get, 2, (some (.object "java/lang/Object")), RJ2, "get", [], 2, 51)
theorem hyJ2_get : yJ2_get.cls ≠ "java/lang/invoke/MethodHandle" ∧ yJ2_get.cls ≠ "java/lang/invoke/VarHandle" := by decide +kernel
theorem pnJ2_get : (parseMethodDescriptor yJ2_get.desc).map (fun d => d.parameters.length) = some 1 := by decide +kernel
theorem wdJ2_get : CdW yJ2_get (nJ2_get) := ⟨Or.inl ⟨q812, rfl⟩, rfl, rfl, plainFor_of_name (by decide +kernel)⟩
theorem eJ2_get_0 : SiZ nJ2_get 0 (i_iload 1 1) := s_iload_n dJ2_get_0 rfl
theorem eJ2_get_1 : SiZ nJ2_get 1 (i_aload 0 2) := s_aload_n dJ2_get_1 rfl
theorem eJ2_get_2 : SiZ nJ2_get 2 (i_getf 162 [14] 5) := s_getf dJ2_get_2 (fm_cons (⟨_, _, _, _, _, _, rfl, fkJ2_48_14⟩) (fm_nil))
theorem eJ2_get_5 : ScZ nJ2_get 5 (c_S 2 8 2 (Mt mJ15_checkIndex 2)) := e_S (mi := nJ2_get) (mi' := nJ15_checkIndex) (len := 3) (fun h as rest hl => cs_S (mi := nJ2_get) (pc := 5) (y := yJ15_checkIndex) (idx := 118) dJ2_get_5 q813 q814 q107 q815 hyJ15_checkIndex pnJ15_checkIndex hl) wdJ15_checkIndex zJ15_checkIndex (Nat.le_of_ble_eq_true rfl) (Nat.le_of_ble_eq_true rfl)
theorem eJ2_get_8 : SiZ nJ2_get 8 (i_pop 9) := s_pop dJ2_get_8
theorem eJ2_get_9 : SiZ nJ2_get 9 (i_aload 0 10) := s_aload_n dJ2_get_9 rfl
theorem eJ2_get_10 : SiZ nJ2_get 10 (i_iload 1 11) := s_iload_n dJ2_get_10 rfl
theorem eJ2_get_11 : ScZ nJ2_get 11 (c_V 1 14 2 14 (Mt mJ2_elementData 2)) := e_V (mi := nJ2_get) (mi' := nJ2_elementData) (len := 3) (fun h b as rest hk hl => cs_V (ci := 13) (mi := nJ2_get) (pc := 11) (y := yJ2_elementData) (idx := 123) dJ2_get_11 q817 q818 q819 rfl hk hyJ2_elementData (sigC q820) pnJ2_elementData hl) wdJ2_elementData zJ2_elementData (Nat.le_of_ble_eq_true rfl) (Nat.le_of_ble_eq_true rfl)
theorem eJ2_get_14 : SiZ nJ2_get 14 i_aret := s_aret dJ2_get_14 rfl (Or.inl ⟨_, rfl⟩)
theorem aJ2_get : ∀ x ∈ mJ2_get.1, EnZ nJ2_get x := fm_cons eJ2_get_0 (fm_cons eJ2_get_1 (fm_cons eJ2_get_2 (fm_cons eJ2_get_5 (fm_cons eJ2_get_8 (fm_cons eJ2_get_9 (fm_cons eJ2_get_10 (fm_cons eJ2_get_11 (fm_cons eJ2_get_14 (fm_nil)))))))))
theorem zJ2_get : SwZ nJ2_get (Mt mJ2_get 2) := wholeZ (mi := nJ2_get) (cd := mJ2_get) aJ2_get rfl (HdZ.none rfl)
abbrev nX1_fish : MI := (cX1_fish, 2, (some (.object "FishReaders$Fish")), RX1, "fish", [], 3, 76)
theorem hyX1_fish : yX1_fish.cls ≠ "java/lang/invoke/MethodHandle" ∧ yX1_fish.cls ≠ "java/lang/invoke/VarHandle" := by decide +kernel
theorem pnX1_fish : (parseMethodDescriptor yX1_fish.desc).map (fun d => d.parameters.length) = some 1 := by decide +kernel
theorem wdX1_fish : CdW yX1_fish (nX1_fish) := ⟨Or.inl ⟨q803, rfl⟩, rfl, rfl, plainFor_of_name (by decide +kernel)⟩
theorem eX1_fish_0 : SiZ nX1_fish 0 (i_iload 1 1) := s_iload_n dX1_fish_0 rfl
theorem eX1_fish_1 : SiZ nX1_fish 1 (i_aload 0 2) := s_aload_n dX1_fish_1 rfl
theorem eX1_fish_2 : SiZ nX1_fish 2 (i_getf 60 [2] 5) := s_getf dX1_fish_2 (fm_cons (⟨_, _, _, _, _, _, rfl, fkX1_38_2⟩) (fm_nil))
theorem eX1_fish_5 : SiZ nX1_fish 5 (i_icmp (fun x y => ¬ x = y) 15 8) := s_icmp_ne dX1_fish_5 (by decide)
theorem eX1_fish_8 : SiZ nX1_fish 8 (i_aload 0 9) := s_aload_n dX1_fish_8 rfl
theorem eX1_fish_9 : SiZ nX1_fish 9 (i_getf 63 [2] 12) := s_getf dX1_fish_9 (fm_cons (⟨_, _, _, _, _, _, rfl, fkX1_75_2⟩) (fm_nil))
theorem eX1_fish_12 : SiZ nX1_fish 12 (i_goto 28) := s_goto dX1_fish_12 (by decide)
theorem eX1_fish_15 : SiZ nX1_fish 15 (i_aload 0 16) := s_aload_n dX1_fish_15 rfl
theorem eX1_fish_16 : SiZ nX1_fish 16 (i_getf 51 [2] 19) := s_getf dX1_fish_16 (fm_cons (⟨_, _, _, _, _, _, rfl, fkX1_27_2⟩) (fm_nil))
theorem eX1_fish_19 : SiZ nX1_fish 19 (i_iload 1 20) := s_iload_n dX1_fish_19 rfl
theorem eX1_fish_20 : ScZ nX1_fish 20 (c_V 1 25 2 14 (Mt mJ2_get 2)) := e_V (mi := nX1_fish) (mi' := nJ2_get) (len := 5) (fun h b as rest hk hl => cs_F (ci := 13) (mi := nX1_fish) (pc := 20) (y := yJ2_get) (idx := 79) dX1_fish_20 q805 q808 q810 (by decide +kernel) rfl hk pnJ2_get hl) wdJ2_get zJ2_get (Nat.le_of_ble_eq_true rfl) (Nat.le_of_ble_eq_true rfl)
theorem eX1_fish_25 : SiZ nX1_fish 25 (i_cast [4, 5, 6, 7, 8] 28) := s_cast dX1_fish_25 q821 (fm_cons (⟨3, _, rfl, rfl, Or.inr q1715⟩) (fm_cons (⟨4, _, rfl, rfl, Or.inr q1717⟩) (fm_cons (⟨5, _, rfl, rfl, Or.inr q1716⟩) (fm_cons (⟨6, _, rfl, rfl, Or.inr q1719⟩) (fm_cons (⟨7, _, rfl, rfl, Or.inr q1718⟩) (fm_nil))))))
theorem eX1_fish_28 : SiZ nX1_fish 28 i_aret := s_aret dX1_fish_28 rfl (Or.inl ⟨_, rfl⟩)
theorem aX1_fish : ∀ x ∈ mX1_fish.1, EnZ nX1_fish x := fm_cons eX1_fish_0 (fm_cons eX1_fish_1 (fm_cons eX1_fish_2 (fm_cons eX1_fish_5 (fm_cons eX1_fish_8 (fm_cons eX1_fish_9 (fm_cons eX1_fish_12 (fm_cons eX1_fish_15 (fm_cons eX1_fish_16 (fm_cons eX1_fish_19 (fm_cons eX1_fish_20 (fm_cons eX1_fish_25 (fm_cons eX1_fish_28 (fm_nil)))))))))))))
theorem zX1_fish : SwZ nX1_fish (Mt mX1_fish 2) := wholeZ (mi := nX1_fish) (cd := mX1_fish) aX1_fish rfl (HdZ.none rfl)
abbrev nX4_taste : MI := (cX4_taste, 1, (some (.int)), RX4, "taste", [], 0, 0)
theorem hyX4_taste : yX4_taste.cls ≠ "java/lang/invoke/MethodHandle" ∧ yX4_taste.cls ≠ "java/lang/invoke/VarHandle" := by decide +kernel
theorem pnX4_taste : (parseMethodDescriptor yX4_taste.desc).map (fun d => d.parameters.length) = some 0 := by decide +kernel
theorem wdX4_taste : CdW yX4_taste (nX4_taste) := ⟨Or.inl ⟨q837, rfl⟩, rfl, rfl, plainFor_of_name (by decide +kernel)⟩
theorem eX4_taste_0 : SiZ nX4_taste 0 (i_push (.int 1) 1) := s_iconst dX4_taste_0 (by decide)
theorem eX4_taste_1 : SiZ nX4_taste 1 i_iret := s_iret dX4_taste_1 rfl
theorem aX4_taste : ∀ x ∈ mX4_taste.1, EnZ nX4_taste x := fm_cons eX4_taste_0 (fm_cons eX4_taste_1 (fm_nil))
theorem zX4_taste : SwZ nX4_taste (Mt mX4_taste 1) := wholeZ (mi := nX4_taste) (cd := mX4_taste) aX4_taste rfl (HdZ.none rfl)
abbrev nX5_taste : MI := (cX5_taste, 1, (some (.int)), RX5, "taste", [], 1, 24)
theorem hyX5_taste : yX5_taste.cls ≠ "java/lang/invoke/MethodHandle" ∧ yX5_taste.cls ≠ "java/lang/invoke/VarHandle" := by decide +kernel
theorem pnX5_taste : (parseMethodDescriptor yX5_taste.desc).map (fun d => d.parameters.length) = some 0 := by decide +kernel
theorem wdX5_taste : CdW yX5_taste (nX5_taste) := ⟨Or.inl ⟨q835, rfl⟩, rfl, rfl, plainFor_of_name (by decide +kernel)⟩
theorem eX5_taste_0 : SiZ nX5_taste 0 (i_push (.int 2) 1) := s_iconst dX5_taste_0 (by decide)
theorem eX5_taste_1 : SiZ nX5_taste 1 (i_aload 0 2) := s_aload_n dX5_taste_1 rfl
theorem eX5_taste_2 : ScZ nX5_taste 2 (c_V 0 5 1 5 (Mt mX4_taste 1)) := e_V (mi := nX5_taste) (mi' := nX4_taste) (len := 3) (fun h b as rest hk hl => cs_SU (ci := 4) (mi := nX5_taste) (pc := 2) (y := yX4_taste) (idx := 9) dX5_taste_2 q836 q831 q271 q829 q837 (by decide +kernel) rfl hk pnX4_taste hl) wdX4_taste zX4_taste (Nat.le_of_ble_eq_true rfl) (Nat.le_of_ble_eq_true rfl)
theorem eX5_taste_5 : SiZ nX5_taste 5 (i_bin (fun x y => x * y) 6) := s_imul dX5_taste_5
theorem eX5_taste_6 : SiZ nX5_taste 6 i_iret := s_iret dX5_taste_6 rfl
theorem aX5_taste : ∀ x ∈ mX5_taste.1, EnZ nX5_taste x := fm_cons eX5_taste_0 (fm_cons eX5_taste_1 (fm_cons eX5_taste_2 (fm_cons eX5_taste_5 (fm_cons eX5_taste_6 (fm_nil)))))
theorem zX5_taste : SwZ nX5_taste (Mt mX5_taste 1) := wholeZ (mi := nX5_taste) (cd := mX5_taste) aX5_taste rfl (HdZ.none rfl)
abbrev nJ13_abs : MI := (cJ13_abs, 1, (some (.int)), RJ13, "abs", [], 0, 0)
theorem hyJ13_abs : yJ13_abs.cls ≠ "java/lang/invoke/MethodHandle" ∧ yJ13_abs.cls ≠ "java/lang/invoke/VarHandle" := by decide +kernel
theorem pnJ13_abs : (parseMethodDescriptor yJ13_abs.desc).map (fun d => d.parameters.length) = some 1 := by decide +kernel
theorem wdJ13_abs : CdW yJ13_abs (nJ13_abs) := ⟨Or.inl ⟨q844, rfl⟩, rfl, rfl, by decide +kernel⟩
theorem eJ13_abs_0 : SiZ nJ13_abs 0 (i_iload 0 1) := s_iload_n dJ13_abs_0 rfl
theorem eJ13_abs_1 : SiZ nJ13_abs 1 (i_if (fun x => 0 ≤ x) 9 4) := s_if_ge dJ13_abs_1 (by decide)
theorem eJ13_abs_4 : SiZ nJ13_abs 4 (i_iload 0 5) := s_iload_n dJ13_abs_4 rfl
theorem eJ13_abs_5 : SiZ nJ13_abs 5 (i_un (fun x => -x) 6) := s_ineg dJ13_abs_5
theorem eJ13_abs_6 : SiZ nJ13_abs 6 (i_goto 10) := s_goto dJ13_abs_6 (by decide)
theorem eJ13_abs_9 : SiZ nJ13_abs 9 (i_iload 0 10) := s_iload_n dJ13_abs_9 rfl
theorem eJ13_abs_10 : SiZ nJ13_abs 10 i_iret := s_iret dJ13_abs_10 rfl
theorem aJ13_abs : ∀ x ∈ mJ13_abs.1, EnZ nJ13_abs x := fm_cons eJ13_abs_0 (fm_cons eJ13_abs_1 (fm_cons eJ13_abs_4 (fm_cons eJ13_abs_5 (fm_cons eJ13_abs_6 (fm_cons eJ13_abs_9 (fm_cons eJ13_abs_10 (fm_nil)))))))
theorem zJ13_abs : SwZ nJ13_abs (Mt mJ13_abs 1) := wholeZ (mi := nJ13_abs) (cd := mJ13_abs) aJ13_abs rfl (HdZ.none rfl)
abbrev nX1_isLit : MI := (cX1_isLit, 2, (some (.boolean)), RX1, "isLit", [], 0, 0)
theorem hyX1_isLit : yX1_isLit.cls ≠ "java/lang/invoke/MethodHandle" ∧ yX1_isLit.cls ≠ "java/lang/invoke/VarHandle" := by decide +kernel
theorem pnX1_isLit : (parseMethodDescriptor yX1_isLit.desc).map (fun d => d.parameters.length) = some 1 := by decide +kernel
theorem wdX1_isLit : CdW yX1_isLit (nX1_isLit) := ⟨Or.inl ⟨q852, rfl⟩, rfl, rfl, plainFor_of_name (by decide +kernel)⟩
theorem eX1_isLit_0 : SiZ nX1_isLit 0 (i_aload 0 1) := s_aload_n dX1_isLit_0 rfl
theorem eX1_isLit_1 : SiZ nX1_isLit 1 (i_getf 46 [2] 4) := s_getf dX1_isLit_1 (fm_cons (⟨_, _, _, _, _, _, rfl, fkX1_57_2⟩) (fm_nil))
theorem eX1_isLit_4 : SiZ nX1_isLit 4 (i_iload 1 5) := s_iload_n dX1_isLit_4 rfl
theorem eX1_isLit_5 : SiZ nX1_isLit 5 (i_bin (fun x y => x >>> (y &&& 31)) 6) := s_ishr dX1_isLit_5
theorem eX1_isLit_6 : SiZ nX1_isLit 6 (i_push (.int 1) 7) := s_iconst dX1_isLit_6 (by decide)
theorem eX1_isLit_7 : SiZ nX1_isLit 7 (i_bin (fun x y => x &&& y) 8) := s_iand dX1_isLit_7
theorem eX1_isLit_8 : SiZ nX1_isLit 8 (i_push (.int 1) 9) := s_iconst dX1_isLit_8 (by decide)
theorem eX1_isLit_9 : SiZ nX1_isLit 9 (i_icmp (fun x y => ¬ x = y) 16 12) := s_icmp_ne dX1_isLit_9 (by decide)
theorem eX1_isLit_12 : SiZ nX1_isLit 12 (i_push (.int 1) 13) := s_iconst dX1_isLit_12 (by decide)
theorem eX1_isLit_13 : SiZ nX1_isLit 13 (i_goto 17) := s_goto dX1_isLit_13 (by decide)
theorem eX1_isLit_16 : SiZ nX1_isLit 16 (i_push (.int 0) 17) := s_iconst dX1_isLit_16 (by decide)
theorem eX1_isLit_17 : SiZ nX1_isLit 17 i_zret := s_zret dX1_isLit_17 rfl
theorem aX1_isLit : ∀ x ∈ mX1_isLit.1, EnZ nX1_isLit x := fm_cons eX1_isLit_0 (fm_cons eX1_isLit_1 (fm_cons eX1_isLit_4 (fm_cons eX1_isLit_5 (fm_cons eX1_isLit_6 (fm_cons eX1_isLit_7 (fm_cons eX1_isLit_8 (fm_cons eX1_isLit_9 (fm_cons eX1_isLit_12 (fm_cons eX1_isLit_13 (fm_cons eX1_isLit_16 (fm_cons eX1_isLit_17 (fm_nil))))))))))))
theorem zX1_isLit : SwZ nX1_isLit (Mt mX1_isLit 2) := wholeZ (mi := nX1_isLit) (cd := mX1_isLit) aX1_isLit rfl (HdZ.none rfl)
abbrev nX1_isKept : MI := (cX1_isKept, 2, (some (.boolean)), RX1, "isKept", [], 0, 0)
theorem hyX1_isKept : yX1_isKept.cls ≠ "java/lang/invoke/MethodHandle" ∧ yX1_isKept.cls ≠ "java/lang/invoke/VarHandle" := by decide +kernel
theorem pnX1_isKept : (parseMethodDescriptor yX1_isKept.desc).map (fun d => d.parameters.length) = some 1 := by decide +kernel
theorem wdX1_isKept : CdW yX1_isKept (nX1_isKept) := ⟨Or.inl ⟨q856, rfl⟩, rfl, rfl, plainFor_of_name (by decide +kernel)⟩
theorem eX1_isKept_0 : SiZ nX1_isKept 0 (i_aload 0 1) := s_aload_n dX1_isKept_0 rfl
theorem eX1_isKept_1 : SiZ nX1_isKept 1 (i_getf 48 [2] 4) := s_getf dX1_isKept_1 (fm_cons (⟨_, _, _, _, _, _, rfl, fkX1_60_2⟩) (fm_nil))
theorem eX1_isKept_4 : SiZ nX1_isKept 4 (i_iload 1 5) := s_iload_n dX1_isKept_4 rfl
theorem eX1_isKept_5 : SiZ nX1_isKept 5 (i_bin (fun x y => x >>> (y &&& 31)) 6) := s_ishr dX1_isKept_5
theorem eX1_isKept_6 : SiZ nX1_isKept 6 (i_push (.int 1) 7) := s_iconst dX1_isKept_6 (by decide)
theorem eX1_isKept_7 : SiZ nX1_isKept 7 (i_bin (fun x y => x &&& y) 8) := s_iand dX1_isKept_7
theorem eX1_isKept_8 : SiZ nX1_isKept 8 (i_push (.int 1) 9) := s_iconst dX1_isKept_8 (by decide)
theorem eX1_isKept_9 : SiZ nX1_isKept 9 (i_icmp (fun x y => ¬ x = y) 16 12) := s_icmp_ne dX1_isKept_9 (by decide)
theorem eX1_isKept_12 : SiZ nX1_isKept 12 (i_push (.int 1) 13) := s_iconst dX1_isKept_12 (by decide)
theorem eX1_isKept_13 : SiZ nX1_isKept 13 (i_goto 17) := s_goto dX1_isKept_13 (by decide)
theorem eX1_isKept_16 : SiZ nX1_isKept 16 (i_push (.int 0) 17) := s_iconst dX1_isKept_16 (by decide)
theorem eX1_isKept_17 : SiZ nX1_isKept 17 i_zret := s_zret dX1_isKept_17 rfl
theorem aX1_isKept : ∀ x ∈ mX1_isKept.1, EnZ nX1_isKept x := fm_cons eX1_isKept_0 (fm_cons eX1_isKept_1 (fm_cons eX1_isKept_4 (fm_cons eX1_isKept_5 (fm_cons eX1_isKept_6 (fm_cons eX1_isKept_7 (fm_cons eX1_isKept_8 (fm_cons eX1_isKept_9 (fm_cons eX1_isKept_12 (fm_cons eX1_isKept_13 (fm_cons eX1_isKept_16 (fm_cons eX1_isKept_17 (fm_nil))))))))))))
theorem zX1_isKept : SwZ nX1_isKept (Mt mX1_isKept 2) := wholeZ (mi := nX1_isKept) (cd := mX1_isKept) aX1_isKept rfl (HdZ.none rfl)
abbrev nX1_isOpen : MI := (cX1_isOpen, 2, (some (.boolean)), RX1, "isOpen", [], 1, 25)
theorem hyX1_isOpen : yX1_isOpen.cls ≠ "java/lang/invoke/MethodHandle" ∧ yX1_isOpen.cls ≠ "java/lang/invoke/VarHandle" := by decide +kernel
theorem pnX1_isOpen : (parseMethodDescriptor yX1_isOpen.desc).map (fun d => d.parameters.length) = some 1 := by decide +kernel
theorem wdX1_isOpen : CdW yX1_isOpen (nX1_isOpen) := ⟨Or.inl ⟨q848, rfl⟩, rfl, rfl, plainFor_of_name (by decide +kernel)⟩
theorem eX1_isOpen_0 : SiZ nX1_isOpen 0 (i_aload 0 1) := s_aload_n dX1_isOpen_0 rfl
theorem eX1_isOpen_1 : SiZ nX1_isOpen 1 (i_getf 39 [2] 4) := s_getf dX1_isOpen_1 (fm_cons (⟨_, _, _, _, _, _, rfl, fkX1_9_2⟩) (fm_nil))
theorem eX1_isOpen_4 : SiZ nX1_isOpen 4 (i_iload 1 5) := s_iload_n dX1_isOpen_4 rfl
theorem eX1_isOpen_5 : SiZ nX1_isOpen 5 (i_iald 51 6) := s_ald (j := 0) (by decide) (fun _ => rfl) dX1_isOpen_5 (Or.inl ⟨rfl, rfl⟩)
theorem eX1_isOpen_6 : SiZ nX1_isOpen 6 (i_if (fun x => x ≤ 0) 29 9) := s_if_le dX1_isOpen_6 (by decide)
theorem eX1_isOpen_9 : SiZ nX1_isOpen 9 (i_aload 0 10) := s_aload_n dX1_isOpen_9 rfl
theorem eX1_isOpen_10 : SiZ nX1_isOpen 10 (i_iload 1 11) := s_iload_n dX1_isOpen_10 rfl
theorem eX1_isOpen_11 : ScZ nX1_isOpen 11 (c_V 1 14 2 2 (Mt mX1_isLit 2)) := e_V (mi := nX1_isOpen) (mi' := nX1_isLit) (len := 3) (fun h b as rest hk hl => cs_V (ci := 1) (mi := nX1_isOpen) (pc := 11) (y := yX1_isLit) (idx := 85) dX1_isOpen_11 q849 q850 q851 rfl hk hyX1_isLit (sigC q852) pnX1_isLit hl) wdX1_isLit zX1_isLit (Nat.le_of_ble_eq_true rfl) (Nat.le_of_ble_eq_true rfl)
theorem eX1_isOpen_14 : SiZ nX1_isOpen 14 (i_if (fun x => ¬ x = 0) 29 17) := s_if_ne dX1_isOpen_14 (by decide)
theorem eX1_isOpen_17 : SiZ nX1_isOpen 17 (i_aload 0 18) := s_aload_n dX1_isOpen_17 rfl
theorem eX1_isOpen_18 : SiZ nX1_isOpen 18 (i_iload 1 19) := s_iload_n dX1_isOpen_18 rfl
theorem eX1_isOpen_19 : ScZ nX1_isOpen 19 (c_V 1 22 2 2 (Mt mX1_isKept 2)) := e_V (mi := nX1_isOpen) (mi' := nX1_isKept) (len := 3) (fun h b as rest hk hl => cs_V (ci := 1) (mi := nX1_isOpen) (pc := 19) (y := yX1_isKept) (idx := 89) dX1_isOpen_19 q853 q855 qs20 rfl hk hyX1_isKept (sigC q856) pnX1_isKept hl) wdX1_isKept zX1_isKept (Nat.le_of_ble_eq_true rfl) (Nat.le_of_ble_eq_true rfl)
theorem eX1_isOpen_22 : SiZ nX1_isOpen 22 (i_if (fun x => ¬ x = 0) 29 25) := s_if_ne dX1_isOpen_22 (by decide)
theorem eX1_isOpen_25 : SiZ nX1_isOpen 25 (i_push (.int 1) 26) := s_iconst dX1_isOpen_25 (by decide)
theorem eX1_isOpen_26 : SiZ nX1_isOpen 26 (i_goto 30) := s_goto dX1_isOpen_26 (by decide)
theorem eX1_isOpen_29 : SiZ nX1_isOpen 29 (i_push (.int 0) 30) := s_iconst dX1_isOpen_29 (by decide)
theorem eX1_isOpen_30 : SiZ nX1_isOpen 30 i_zret := s_zret dX1_isOpen_30 rfl
theorem aX1_isOpen : ∀ x ∈ mX1_isOpen.1, EnZ nX1_isOpen x := fm_cons eX1_isOpen_0 (fm_cons eX1_isOpen_1 (fm_cons eX1_isOpen_4 (fm_cons eX1_isOpen_5 (fm_cons eX1_isOpen_6 (fm_cons eX1_isOpen_9 (fm_cons eX1_isOpen_10 (fm_cons eX1_isOpen_11 (fm_cons eX1_isOpen_14 (fm_cons eX1_isOpen_17 (fm_cons eX1_isOpen_18 (fm_cons eX1_isOpen_19 (fm_cons eX1_isOpen_22 (fm_cons eX1_isOpen_25 (fm_cons eX1_isOpen_26 (fm_cons eX1_isOpen_29 (fm_cons eX1_isOpen_30 (fm_nil)))))))))))))))))
theorem zX1_isOpen : SwZ nX1_isOpen (Mt mX1_isOpen 2) := wholeZ (mi := nX1_isOpen) (cd := mX1_isOpen) aX1_isOpen rfl (HdZ.none rfl)
abbrev nX1_liked : MI := (cX1_liked, 8, (some (.int)), RX1, "liked", [], 2, 50)
theorem hyX1_liked : yX1_liked.cls ≠ "java/lang/invoke/MethodHandle" ∧ yX1_liked.cls ≠ "java/lang/invoke/VarHandle" := by decide +kernel
theorem pnX1_liked : (parseMethodDescriptor yX1_liked.desc).map (fun d => d.parameters.length) = some 2 := by decide +kernel
theorem wdX1_liked : CdW yX1_liked (nX1_liked) := ⟨Or.inl ⟨q841, rfl⟩, rfl, rfl, plainFor_of_name (by decide +kernel)⟩
theorem eX1_liked_0 : SiZ nX1_liked 0 (i_push (.int (-1000000)) 2) := s_ldc dX1_liked_0 q154
theorem eX1_liked_2 : SiZ nX1_liked 2 (i_istore 3 3) := s_istore_n dX1_liked_2 rfl
theorem eX1_liked_3 : SiZ nX1_liked 3 (i_push (.int (-1000000)) 5) := s_ldc dX1_liked_3 q154
theorem eX1_liked_5 : SiZ nX1_liked 5 (i_istore 4 7) := s_istore dX1_liked_5
theorem eX1_liked_7 : SiZ nX1_liked 7 (i_push (.int 0) 8) := s_iconst dX1_liked_7 (by decide)
theorem eX1_liked_8 : SiZ nX1_liked 8 (i_istore 5 10) := s_istore dX1_liked_8
theorem eX1_liked_10 : SiZ nX1_liked 10 (i_iload 5 12) := s_iload dX1_liked_10
theorem eX1_liked_12 : SiZ nX1_liked 12 (i_aload 0 13) := s_aload_n dX1_liked_12 rfl
theorem eX1_liked_13 : SiZ nX1_liked 13 (i_getf 36 [2] 16) := s_getf dX1_liked_13 (fm_cons (⟨_, _, _, _, _, _, rfl, fkX1_48_2⟩) (fm_nil))
theorem eX1_liked_16 : SiZ nX1_liked 16 (i_icmp (fun x y => y ≤ x) 100 19) := s_icmp_ge dX1_liked_16 (by decide)
theorem eX1_liked_19 : SiZ nX1_liked 19 (i_iload 2 20) := s_iload_n dX1_liked_19 rfl
theorem eX1_liked_20 : SiZ nX1_liked 20 (i_if (fun x => x ≤ 0) 100 23) := s_if_le dX1_liked_20 (by decide)
theorem eX1_liked_23 : SiZ nX1_liked 23 (i_aload 0 24) := s_aload_n dX1_liked_23 rfl
theorem eX1_liked_24 : SiZ nX1_liked 24 (i_getf 43 [2] 27) := s_getf dX1_liked_24 (fm_cons (⟨_, _, _, _, _, _, rfl, fkX1_18_2⟩) (fm_nil))
theorem eX1_liked_27 : SiZ nX1_liked 27 (i_iload 5 29) := s_iload dX1_liked_27
theorem eX1_liked_29 : SiZ nX1_liked 29 (i_iald 51 30) := s_ald (j := 0) (by decide) (fun _ => rfl) dX1_liked_29 (Or.inl ⟨rfl, rfl⟩)
theorem eX1_liked_30 : SiZ nX1_liked 30 (i_istore 6 32) := s_istore dX1_liked_30
theorem eX1_liked_32 : SiZ nX1_liked 32 (i_iload 2 33) := s_iload_n dX1_liked_32 rfl
theorem eX1_liked_33 : SiZ nX1_liked 33 (i_aload 0 34) := s_aload_n dX1_liked_33 rfl
theorem eX1_liked_34 : SiZ nX1_liked 34 (i_getf 41 [2] 37) := s_getf dX1_liked_34 (fm_cons (⟨_, _, _, _, _, _, rfl, fkX1_15_2⟩) (fm_nil))
theorem eX1_liked_37 : SiZ nX1_liked 37 (i_iload 6 39) := s_iload dX1_liked_37
theorem eX1_liked_39 : SiZ nX1_liked 39 (i_iald 51 40) := s_ald (j := 0) (by decide) (fun _ => rfl) dX1_liked_39 (Or.inl ⟨rfl, rfl⟩)
theorem eX1_liked_40 : SiZ nX1_liked 40 (i_bin (fun x y => x * y) 41) := s_imul dX1_liked_40
theorem eX1_liked_41 : SiZ nX1_liked 41 (i_aload 0 42) := s_aload_n dX1_liked_41 rfl
theorem eX1_liked_42 : SiZ nX1_liked 42 (i_getf 39 [2] 45) := s_getf dX1_liked_42 (fm_cons (⟨_, _, _, _, _, _, rfl, fkX1_9_2⟩) (fm_nil))
theorem eX1_liked_45 : SiZ nX1_liked 45 (i_iload 6 47) := s_iload dX1_liked_45
theorem eX1_liked_47 : SiZ nX1_liked 47 (i_iald 51 48) := s_ald (j := 0) (by decide) (fun _ => rfl) dX1_liked_47 (Or.inl ⟨rfl, rfl⟩)
theorem eX1_liked_48 : SiZ nX1_liked 48 (i_push (.int 10) 50) := s_bipush dX1_liked_48 (by decide)
theorem eX1_liked_50 : SiZ nX1_liked 50 (i_bing (fun x y => x / y) 51) := s_idiv dX1_liked_50
theorem eX1_liked_51 : SiZ nX1_liked 51 (i_bin (fun x y => x + y) 52) := s_iadd dX1_liked_51
theorem eX1_liked_52 : SiZ nX1_liked 52 (i_iload 5 54) := s_iload dX1_liked_52
theorem eX1_liked_54 : SiZ nX1_liked 54 (i_iload 1 55) := s_iload_n dX1_liked_54 rfl
theorem eX1_liked_55 : SiZ nX1_liked 55 (i_bin (fun x y => x - y) 56) := s_isub dX1_liked_55
theorem eX1_liked_56 : ScZ nX1_liked 56 (c_S 1 59 1 (Mt mJ13_abs 1)) := e_S (mi := nX1_liked) (mi' := nJ13_abs) (len := 3) (fun h as rest hl => cs_S (mi := nX1_liked) (pc := 56) (y := yJ13_abs) (idx := 92) dX1_liked_56 q842 q843 q105 q844 hyJ13_abs pnJ13_abs hl) wdJ13_abs zJ13_abs (Nat.le_of_ble_eq_true rfl) (Nat.le_of_ble_eq_true rfl)
theorem eX1_liked_59 : SiZ nX1_liked 59 (i_bin (fun x y => x - y) 60) := s_isub dX1_liked_59
theorem eX1_liked_60 : SiZ nX1_liked 60 (i_istore 7 62) := s_istore dX1_liked_60
theorem eX1_liked_62 : SiZ nX1_liked 62 (i_aload 0 63) := s_aload_n dX1_liked_62 rfl
theorem eX1_liked_63 : SiZ nX1_liked 63 (i_iload 6 65) := s_iload dX1_liked_63
theorem eX1_liked_65 : ScZ nX1_liked 65 (c_V 1 68 2 2 (Mt mX1_isOpen 2)) := e_V (mi := nX1_liked) (mi' := nX1_isOpen) (len := 3) (fun h b as rest hk hl => cs_V (ci := 1) (mi := nX1_liked) (pc := 65) (y := yX1_isOpen) (idx := 98) dX1_liked_65 q845 q846 q847 rfl hk hyX1_isOpen (sigC q848) pnX1_isOpen hl) wdX1_isOpen zX1_isOpen (Nat.le_of_ble_eq_true rfl) (Nat.le_of_ble_eq_true rfl)
theorem eX1_liked_68 : SiZ nX1_liked 68 (i_if (fun x => x = 0) 94 71) := s_if_eq dX1_liked_68 (by decide)
theorem eX1_liked_71 : SiZ nX1_liked 71 (i_iload 3 72) := s_iload_n dX1_liked_71 rfl
theorem eX1_liked_72 : SiZ nX1_liked 72 (i_push (.int (-1000000)) 74) := s_ldc dX1_liked_72 q154
theorem eX1_liked_74 : SiZ nX1_liked 74 (i_icmp (fun x y => x = y) 87 77) := s_icmp_eq dX1_liked_74 (by decide)
theorem eX1_liked_77 : SiZ nX1_liked 77 (i_iload 7 79) := s_iload dX1_liked_77
theorem eX1_liked_79 : SiZ nX1_liked 79 (i_iload 4 81) := s_iload dX1_liked_79
theorem eX1_liked_81 : SiZ nX1_liked 81 (i_icmp (fun x y => y < x) 87 84) := s_icmp_gt dX1_liked_81 (by decide)
theorem eX1_liked_84 : SiZ nX1_liked 84 (i_goto 94) := s_goto dX1_liked_84 (by decide)
theorem eX1_liked_87 : SiZ nX1_liked 87 (i_iload 5 89) := s_iload dX1_liked_87
theorem eX1_liked_89 : SiZ nX1_liked 89 (i_istore 3 90) := s_istore_n dX1_liked_89 rfl
theorem eX1_liked_90 : SiZ nX1_liked 90 (i_iload 7 92) := s_iload dX1_liked_90
theorem eX1_liked_92 : SiZ nX1_liked 92 (i_istore 4 94) := s_istore dX1_liked_92
theorem eX1_liked_94 : SiZ nX1_liked 94 (i_iinc 5 1 97) := s_iinc dX1_liked_94 (by decide)
theorem eX1_liked_97 : SiZ nX1_liked 97 (i_goto 10) := s_goto dX1_liked_97 (by decide)
theorem eX1_liked_100 : SiZ nX1_liked 100 (i_iload 3 101) := s_iload_n dX1_liked_100 rfl
theorem eX1_liked_101 : SiZ nX1_liked 101 i_iret := s_iret dX1_liked_101 rfl
theorem aX1_liked : ∀ x ∈ mX1_liked.1, EnZ nX1_liked x := fm_cons eX1_liked_0 (fm_cons eX1_liked_2 (fm_cons eX1_liked_3 (fm_cons eX1_liked_5 (fm_cons eX1_liked_7 (fm_cons eX1_liked_8 (fm_cons eX1_liked_10 (fm_cons eX1_liked_12 (fm_cons eX1_liked_13 (fm_cons eX1_liked_16 (fm_cons eX1_liked_19 (fm_cons eX1_liked_20 (fm_cons eX1_liked_23 (fm_cons eX1_liked_24 (fm_cons eX1_liked_27 (fm_cons eX1_liked_29 (fm_cons eX1_liked_30 (fm_cons eX1_liked_32 (fm_cons eX1_liked_33 (fm_cons eX1_liked_34 (fm_cons eX1_liked_37 (fm_cons eX1_liked_39 (fm_cons eX1_liked_40 (fm_cons eX1_liked_41 (fm_cons eX1_liked_42 (fm_cons eX1_liked_45 (fm_cons eX1_liked_47 (fm_cons eX1_liked_48 (fm_cons eX1_liked_50 (fm_cons eX1_liked_51 (fm_cons eX1_liked_52 (fm_cons eX1_liked_54 (fm_cons eX1_liked_55 (fm_cons eX1_liked_56 (fm_cons eX1_liked_59 (fm_cons eX1_liked_60 (fm_cons eX1_liked_62 (fm_cons eX1_liked_63 (fm_cons eX1_liked_65 (fm_cons eX1_liked_68 (fm_cons eX1_liked_71 (fm_cons eX1_liked_72 (fm_cons eX1_liked_74 (fm_cons eX1_liked_77 (fm_cons eX1_liked_79 (fm_cons eX1_liked_81 (fm_cons eX1_liked_84 (fm_cons eX1_liked_87 (fm_cons eX1_liked_89 (fm_cons eX1_liked_90 (fm_cons eX1_liked_92 (fm_cons eX1_liked_94 (fm_cons eX1_liked_97 (fm_cons eX1_liked_100 (fm_cons eX1_liked_101 (fm_nil)))))))))))))))))))))))))))))))))))))))))))))))))))))))
theorem zX1_liked : SwZ nX1_liked (Mt mX1_liked 8) := wholeZ (mi := nX1_liked) (cd := mX1_liked) aX1_liked rfl (HdZ.none rfl)
abbrev nX1_nearer : MI := (cX1_nearer, 3, (some (.int)), RX1, "nearer", [], 0, 0)
theorem hyX1_nearer : yX1_nearer.cls ≠ "java/lang/invoke/MethodHandle" ∧ yX1_nearer.cls ≠ "java/lang/invoke/VarHandle" := by decide +kernel
theorem pnX1_nearer : (parseMethodDescriptor yX1_nearer.desc).map (fun d => d.parameters.length) = some 2 := by decide +kernel
theorem wdX1_nearer : CdW yX1_nearer (nX1_nearer) := ⟨Or.inl ⟨q860, rfl⟩, rfl, rfl, plainFor_of_name (by decide +kernel)⟩
theorem eX1_nearer_0 : SiZ nX1_nearer 0 (i_iload 2 1) := s_iload_n dX1_nearer_0 rfl
theorem eX1_nearer_1 : SiZ nX1_nearer 1 (i_push (.int (-1000000)) 3) := s_ldc dX1_nearer_1 q154
theorem eX1_nearer_3 : SiZ nX1_nearer 3 (i_icmp (fun x y => x = y) 11 6) := s_icmp_eq dX1_nearer_3 (by decide)
theorem eX1_nearer_6 : SiZ nX1_nearer 6 (i_iload 2 7) := s_iload_n dX1_nearer_6 rfl
theorem eX1_nearer_7 : SiZ nX1_nearer 7 (i_iload 1 8) := s_iload_n dX1_nearer_7 rfl
theorem eX1_nearer_8 : SiZ nX1_nearer 8 (i_icmp (fun x y => ¬ x = y) 15 11) := s_icmp_ne dX1_nearer_8 (by decide)
theorem eX1_nearer_11 : SiZ nX1_nearer 11 (i_iload 1 12) := s_iload_n dX1_nearer_11 rfl
theorem eX1_nearer_12 : SiZ nX1_nearer 12 (i_goto 29) := s_goto dX1_nearer_12 (by decide)
theorem eX1_nearer_15 : SiZ nX1_nearer 15 (i_iload 2 16) := s_iload_n dX1_nearer_15 rfl
theorem eX1_nearer_16 : SiZ nX1_nearer 16 (i_iload 1 17) := s_iload_n dX1_nearer_16 rfl
theorem eX1_nearer_17 : SiZ nX1_nearer 17 (i_icmp (fun x y => x ≤ y) 26 20) := s_icmp_le dX1_nearer_17 (by decide)
theorem eX1_nearer_20 : SiZ nX1_nearer 20 (i_iload 1 21) := s_iload_n dX1_nearer_20 rfl
theorem eX1_nearer_21 : SiZ nX1_nearer 21 (i_push (.int 1) 22) := s_iconst dX1_nearer_21 (by decide)
theorem eX1_nearer_22 : SiZ nX1_nearer 22 (i_bin (fun x y => x + y) 23) := s_iadd dX1_nearer_22
theorem eX1_nearer_23 : SiZ nX1_nearer 23 (i_goto 29) := s_goto dX1_nearer_23 (by decide)
theorem eX1_nearer_26 : SiZ nX1_nearer 26 (i_iload 1 27) := s_iload_n dX1_nearer_26 rfl
theorem eX1_nearer_27 : SiZ nX1_nearer 27 (i_push (.int 1) 28) := s_iconst dX1_nearer_27 (by decide)
theorem eX1_nearer_28 : SiZ nX1_nearer 28 (i_bin (fun x y => x - y) 29) := s_isub dX1_nearer_28
theorem eX1_nearer_29 : SiZ nX1_nearer 29 i_iret := s_iret dX1_nearer_29 rfl
theorem aX1_nearer : ∀ x ∈ mX1_nearer.1, EnZ nX1_nearer x := fm_cons eX1_nearer_0 (fm_cons eX1_nearer_1 (fm_cons eX1_nearer_3 (fm_cons eX1_nearer_6 (fm_cons eX1_nearer_7 (fm_cons eX1_nearer_8 (fm_cons eX1_nearer_11 (fm_cons eX1_nearer_12 (fm_cons eX1_nearer_15 (fm_cons eX1_nearer_16 (fm_cons eX1_nearer_17 (fm_cons eX1_nearer_20 (fm_cons eX1_nearer_21 (fm_cons eX1_nearer_22 (fm_cons eX1_nearer_23 (fm_cons eX1_nearer_26 (fm_cons eX1_nearer_27 (fm_cons eX1_nearer_28 (fm_cons eX1_nearer_29 (fm_nil)))))))))))))))))))
theorem zX1_nearer : SwZ nX1_nearer (Mt mX1_nearer 3) := wholeZ (mi := nX1_nearer) (cd := mX1_nearer) aX1_nearer rfl (HdZ.none rfl)
abbrev nX4_goes : MI := (cX4_goes, 3, (some (.int)), RX4, "goes", [], 3, 81)
theorem hyX4_goes : yX4_goes.cls ≠ "java/lang/invoke/MethodHandle" ∧ yX4_goes.cls ≠ "java/lang/invoke/VarHandle" := by decide +kernel
theorem pnX4_goes : (parseMethodDescriptor yX4_goes.desc).map (fun d => d.parameters.length) = some 2 := by decide +kernel
theorem wdX4_goes : CdW yX4_goes (nX4_goes) := ⟨Or.inl ⟨q827, rfl⟩, rfl, rfl, plainFor_of_name (by decide +kernel)⟩
theorem eX4_goes_0 : SiZ nX4_goes 0 (i_aload 2 1) := s_aload_n dX4_goes_0 rfl
theorem eX4_goes_1 : SiZ nX4_goes 1 (i_iload 1 2) := s_iload_n dX4_goes_1 rfl
theorem eX4_goes_2 : SiZ nX4_goes 2 (i_aload 2 3) := s_aload_n dX4_goes_2 rfl
theorem eX4_goes_3 : SiZ nX4_goes 3 (i_iload 1 4) := s_iload_n dX4_goes_3 rfl
theorem eX4_goes_4 : SiZ nX4_goes 4 (i_aload 0 5) := s_aload_n dX4_goes_4 rfl
theorem eX4_goes_5 : ScZ nX4_goes 5 (c_D 0 8 1 [(4, (Mt mX4_taste 1)), (5, (Mt mX5_taste 1)), (6, (Mt mX4_taste 1))]) := e_D (len := 3) (fm_cons (⟨_, _, (fun h b as rest hk hl => cs_U (ci := 3) (mi := nX4_goes) (pc := 5) (y := yX4_taste) (idx := 9) dX4_goes_5 q828 q831 (Or.inr ⟨_, _, _, q829, q837⟩) q829 q830 rfl hk (by decide +kernel) pnX4_taste hl), wdX4_taste, zX4_taste, Nat.le_of_ble_eq_true rfl, Nat.le_of_ble_eq_true rfl, Nat.le_of_ble_eq_true rfl⟩) (fm_cons (⟨_, _, (fun h b as rest hk hl => cs_U (ci := 4) (mi := nX4_goes) (pc := 5) (y := yX5_taste) (idx := 9) dX4_goes_5 q828 q831 (Or.inr ⟨_, _, _, q829, q837⟩) q834 q833 rfl hk (by decide +kernel) pnX5_taste hl), wdX5_taste, zX5_taste, Nat.le_of_ble_eq_true rfl, Nat.le_of_ble_eq_true rfl, Nat.le_of_ble_eq_true rfl⟩) (fm_cons (⟨_, _, (fun h b as rest hk hl => cs_U (ci := 5) (mi := nX4_goes) (pc := 5) (y := yX4_taste) (idx := 9) dX4_goes_5 q828 q831 (Or.inr ⟨_, _, _, q829, q837⟩) q829 q832 rfl hk (by decide +kernel) pnX4_taste hl), wdX4_taste, zX4_taste, Nat.le_of_ble_eq_true rfl, Nat.le_of_ble_eq_true rfl, Nat.le_of_ble_eq_true rfl⟩) (fm_nil))))
theorem eX4_goes_8 : ScZ nX4_goes 8 (c_V 2 11 8 2 (Mt mX1_liked 8)) := e_V (mi := nX4_goes) (mi' := nX1_liked) (len := 3) (fun h b as rest hk hl => cs_V (ci := 1) (mi := nX4_goes) (pc := 8) (y := yX1_liked) (idx := 15) dX4_goes_8 q838 q839 q840 rfl hk hyX1_liked (sigC q841) pnX1_liked hl) wdX1_liked zX1_liked (Nat.le_of_ble_eq_true rfl) (Nat.le_of_ble_eq_true rfl)
theorem eX4_goes_11 : ScZ nX4_goes 11 (c_V 2 14 3 2 (Mt mX1_nearer 3)) := e_V (mi := nX4_goes) (mi' := nX1_nearer) (len := 3) (fun h b as rest hk hl => cs_V (ci := 1) (mi := nX4_goes) (pc := 11) (y := yX1_nearer) (idx := 21) dX4_goes_11 q857 q858 q859 rfl hk hyX1_nearer (sigC q860) pnX1_nearer hl) wdX1_nearer zX1_nearer (Nat.le_of_ble_eq_true rfl) (Nat.le_of_ble_eq_true rfl)
theorem eX4_goes_14 : SiZ nX4_goes 14 i_iret := s_iret dX4_goes_14 rfl
theorem aX4_goes : ∀ x ∈ mX4_goes.1, EnZ nX4_goes x := fm_cons eX4_goes_0 (fm_cons eX4_goes_1 (fm_cons eX4_goes_2 (fm_cons eX4_goes_3 (fm_cons eX4_goes_4 (fm_cons eX4_goes_5 (fm_cons eX4_goes_8 (fm_cons eX4_goes_11 (fm_cons eX4_goes_14 (fm_nil)))))))))
theorem zX4_goes : SwZ nX4_goes (Mt mX4_goes 3) := wholeZ (mi := nX4_goes) (cd := mX4_goes) aX4_goes rfl (HdZ.none rfl)
abbrev nX6_goes : MI := (cX6_goes, 3, (some (.int)), RX6, "goes", [], 4, 107)
theorem hyX6_goes : yX6_goes.cls ≠ "java/lang/invoke/MethodHandle" ∧ yX6_goes.cls ≠ "java/lang/invoke/VarHandle" := by decide +kernel
theorem pnX6_goes : (parseMethodDescriptor yX6_goes.desc).map (fun d => d.parameters.length) = some 2 := by decide +kernel
theorem wdX6_goes : CdW yX6_goes (nX6_goes) := ⟨Or.inl ⟨q863, rfl⟩, rfl, rfl, plainFor_of_name (by decide +kernel)⟩
theorem eX6_goes_0 : SiZ nX6_goes 0 (i_aload 2 1) := s_aload_n dX6_goes_0 rfl
theorem eX6_goes_1 : SiZ nX6_goes 1 (i_aload 2 2) := s_aload_n dX6_goes_1 rfl
theorem eX6_goes_2 : SiZ nX6_goes 2 (i_getf 43 [2] 5) := s_getf dX6_goes_2 (fm_cons (⟨_, _, _, _, _, _, rfl, fkX6_9_2⟩) (fm_nil))
theorem eX6_goes_5 : SiZ nX6_goes 5 (i_iload 1 6) := s_iload_n dX6_goes_5 rfl
theorem eX6_goes_6 : SiZ nX6_goes 6 (i_iald 51 7) := s_ald (j := 0) (by decide) (fun _ => rfl) dX6_goes_6 (Or.inl ⟨rfl, rfl⟩)
theorem eX6_goes_7 : ScZ nX6_goes 7 (c_V 1 10 2 2 (Mt mX1_isLit 2)) := e_V (mi := nX6_goes) (mi' := nX1_isLit) (len := 3) (fun h b as rest hk hl => cs_V (ci := 1) (mi := nX6_goes) (pc := 7) (y := yX1_isLit) (idx := 15) dX6_goes_7 q864 q850 q851 rfl hk hyX1_isLit (sigC q852) pnX1_isLit hl) wdX1_isLit zX1_isLit (Nat.le_of_ble_eq_true rfl) (Nat.le_of_ble_eq_true rfl)
theorem eX6_goes_10 : SiZ nX6_goes 10 (i_if (fun x => x = 0) 24 13) := s_if_eq dX6_goes_10 (by decide)
theorem eX6_goes_13 : SiZ nX6_goes 13 (i_iload 1 14) := s_iload_n dX6_goes_13 rfl
theorem eX6_goes_14 : SiZ nX6_goes 14 (i_push (.int 2) 15) := s_iconst dX6_goes_14 (by decide)
theorem eX6_goes_15 : SiZ nX6_goes 15 (i_bin (fun x y => x + y) 16) := s_iadd dX6_goes_15
theorem eX6_goes_16 : SiZ nX6_goes 16 (i_aload 2 17) := s_aload_n dX6_goes_16 rfl
theorem eX6_goes_17 : SiZ nX6_goes 17 (i_getf 36 [2] 20) := s_getf dX6_goes_17 (fm_cons (⟨_, _, _, _, _, _, rfl, fkX6_19_2⟩) (fm_nil))
theorem eX6_goes_20 : SiZ nX6_goes 20 (i_bing (fun x y => x - x / y * y) 21) := s_irem dX6_goes_20
theorem eX6_goes_21 : SiZ nX6_goes 21 (i_goto 30) := s_goto dX6_goes_21 (by decide)
theorem eX6_goes_24 : SiZ nX6_goes 24 (i_aload 0 25) := s_aload_n dX6_goes_24 rfl
theorem eX6_goes_25 : SiZ nX6_goes 25 (i_iload 1 26) := s_iload_n dX6_goes_25 rfl
theorem eX6_goes_26 : SiZ nX6_goes 26 (i_aload 2 27) := s_aload_n dX6_goes_26 rfl
theorem eX6_goes_27 : ScZ nX6_goes 27 (c_V 2 30 3 6 (Mt mX4_goes 3)) := e_V (mi := nX6_goes) (mi' := nX4_goes) (len := 3) (fun h b as rest hk hl => cs_SU (ci := 5) (mi := nX6_goes) (pc := 27) (y := yX4_goes) (idx := 23) dX6_goes_27 q865 q1708 q279 q826 q827 (by decide +kernel) rfl hk pnX4_goes hl) wdX4_goes zX4_goes (Nat.le_of_ble_eq_true rfl) (Nat.le_of_ble_eq_true rfl)
theorem eX6_goes_30 : SiZ nX6_goes 30 i_iret := s_iret dX6_goes_30 rfl
theorem aX6_goes : ∀ x ∈ mX6_goes.1, EnZ nX6_goes x := fm_cons eX6_goes_0 (fm_cons eX6_goes_1 (fm_cons eX6_goes_2 (fm_cons eX6_goes_5 (fm_cons eX6_goes_6 (fm_cons eX6_goes_7 (fm_cons eX6_goes_10 (fm_cons eX6_goes_13 (fm_cons eX6_goes_14 (fm_cons eX6_goes_15 (fm_cons eX6_goes_16 (fm_cons eX6_goes_17 (fm_cons eX6_goes_20 (fm_cons eX6_goes_21 (fm_cons eX6_goes_24 (fm_cons eX6_goes_25 (fm_cons eX6_goes_26 (fm_cons eX6_goes_27 (fm_cons eX6_goes_30 (fm_nil)))))))))))))))))))
theorem zX6_goes : SwZ nX6_goes (Mt mX6_goes 3) := wholeZ (mi := nX6_goes) (cd := mX6_goes) aX6_goes rfl (HdZ.none rfl)
abbrev nX7_goes : MI := (cX7_goes, 3, (some (.int)), RX7, "goes", [], 0, 0)
theorem hyX7_goes : yX7_goes.cls ≠ "java/lang/invoke/MethodHandle" ∧ yX7_goes.cls ≠ "java/lang/invoke/VarHandle" := by decide +kernel
theorem pnX7_goes : (parseMethodDescriptor yX7_goes.desc).map (fun d => d.parameters.length) = some 2 := by decide +kernel
theorem wdX7_goes : CdW yX7_goes (nX7_goes) := ⟨Or.inl ⟨q873, rfl⟩, rfl, rfl, plainFor_of_name (by decide +kernel)⟩
theorem eX7_goes_0 : SiZ nX7_goes 0 (i_iload 1 1) := s_iload_n dX7_goes_0 rfl
theorem eX7_goes_1 : SiZ nX7_goes 1 (i_push (.int 1) 2) := s_iconst dX7_goes_1 (by decide)
theorem eX7_goes_2 : SiZ nX7_goes 2 (i_bin (fun x y => x + y) 3) := s_iadd dX7_goes_2
theorem eX7_goes_3 : SiZ nX7_goes 3 (i_aload 2 4) := s_aload_n dX7_goes_3 rfl
theorem eX7_goes_4 : SiZ nX7_goes 4 (i_getf 36 [2] 7) := s_getf dX7_goes_4 (fm_cons (⟨_, _, _, _, _, _, rfl, fkX7_9_2⟩) (fm_nil))
theorem eX7_goes_7 : SiZ nX7_goes 7 (i_bing (fun x y => x - x / y * y) 8) := s_irem dX7_goes_7
theorem eX7_goes_8 : SiZ nX7_goes 8 i_iret := s_iret dX7_goes_8 rfl
theorem aX7_goes : ∀ x ∈ mX7_goes.1, EnZ nX7_goes x := fm_cons eX7_goes_0 (fm_cons eX7_goes_1 (fm_cons eX7_goes_2 (fm_cons eX7_goes_3 (fm_cons eX7_goes_4 (fm_cons eX7_goes_7 (fm_cons eX7_goes_8 (fm_nil)))))))
theorem zX7_goes : SwZ nX7_goes (Mt mX7_goes 3) := wholeZ (mi := nX7_goes) (cd := mX7_goes) aX7_goes rfl (HdZ.none rfl)
abbrev nX8_goes : MI := (cX8_goes, 3, (some (.int)), RX8, "goes", [], 2, 50)
theorem hyX8_goes : yX8_goes.cls ≠ "java/lang/invoke/MethodHandle" ∧ yX8_goes.cls ≠ "java/lang/invoke/VarHandle" := by decide +kernel
theorem pnX8_goes : (parseMethodDescriptor yX8_goes.desc).map (fun d => d.parameters.length) = some 2 := by decide +kernel
theorem wdX8_goes : CdW yX8_goes (nX8_goes) := ⟨Or.inl ⟨q869, rfl⟩, rfl, rfl, plainFor_of_name (by decide +kernel)⟩
theorem eX8_goes_0 : SiZ nX8_goes 0 (i_aload 2 1) := s_aload_n dX8_goes_0 rfl
theorem eX8_goes_1 : SiZ nX8_goes 1 (i_aload 2 2) := s_aload_n dX8_goes_1 rfl
theorem eX8_goes_2 : SiZ nX8_goes 2 (i_getf 43 [2] 5) := s_getf dX8_goes_2 (fm_cons (⟨_, _, _, _, _, _, rfl, fkX8_9_2⟩) (fm_nil))
theorem eX8_goes_5 : SiZ nX8_goes 5 (i_iload 1 6) := s_iload_n dX8_goes_5 rfl
theorem eX8_goes_6 : SiZ nX8_goes 6 (i_iald 51 7) := s_ald (j := 0) (by decide) (fun _ => rfl) dX8_goes_6 (Or.inl ⟨rfl, rfl⟩)
theorem eX8_goes_7 : ScZ nX8_goes 7 (c_V 1 10 2 2 (Mt mX1_isOpen 2)) := e_V (mi := nX8_goes) (mi' := nX1_isOpen) (len := 3) (fun h b as rest hk hl => cs_V (ci := 1) (mi := nX8_goes) (pc := 7) (y := yX1_isOpen) (idx := 15) dX8_goes_7 q870 q846 q847 rfl hk hyX1_isOpen (sigC q848) pnX1_isOpen hl) wdX1_isOpen zX1_isOpen (Nat.le_of_ble_eq_true rfl) (Nat.le_of_ble_eq_true rfl)
theorem eX8_goes_10 : SiZ nX8_goes 10 (i_if (fun x => x = 0) 17 13) := s_if_eq dX8_goes_10 (by decide)
theorem eX8_goes_13 : SiZ nX8_goes 13 (i_iload 1 14) := s_iload_n dX8_goes_13 rfl
theorem eX8_goes_14 : SiZ nX8_goes 14 (i_goto 23) := s_goto dX8_goes_14 (by decide)
theorem eX8_goes_17 : SiZ nX8_goes 17 (i_aload 0 18) := s_aload_n dX8_goes_17 rfl
theorem eX8_goes_18 : SiZ nX8_goes 18 (i_iload 1 19) := s_iload_n dX8_goes_18 rfl
theorem eX8_goes_19 : SiZ nX8_goes 19 (i_aload 2 20) := s_aload_n dX8_goes_19 rfl
theorem eX8_goes_20 : ScZ nX8_goes 20 (c_V 2 23 3 8 (Mt mX7_goes 3)) := e_V (mi := nX8_goes) (mi' := nX7_goes) (len := 3) (fun h b as rest hk hl => cs_SU (ci := 7) (mi := nX8_goes) (pc := 20) (y := yX7_goes) (idx := 19) dX8_goes_20 q871 q1709 q295 q872 q873 (by decide +kernel) rfl hk pnX7_goes hl) wdX7_goes zX7_goes (Nat.le_of_ble_eq_true rfl) (Nat.le_of_ble_eq_true rfl)
theorem eX8_goes_23 : SiZ nX8_goes 23 i_iret := s_iret dX8_goes_23 rfl
theorem aX8_goes : ∀ x ∈ mX8_goes.1, EnZ nX8_goes x := fm_cons eX8_goes_0 (fm_cons eX8_goes_1 (fm_cons eX8_goes_2 (fm_cons eX8_goes_5 (fm_cons eX8_goes_6 (fm_cons eX8_goes_7 (fm_cons eX8_goes_10 (fm_cons eX8_goes_13 (fm_cons eX8_goes_14 (fm_cons eX8_goes_17 (fm_cons eX8_goes_18 (fm_cons eX8_goes_19 (fm_cons eX8_goes_20 (fm_cons eX8_goes_23 (fm_nil))))))))))))))
theorem zX8_goes : SwZ nX8_goes (Mt mX8_goes 3) := wholeZ (mi := nX8_goes) (cd := mX8_goes) aX8_goes rfl (HdZ.none rfl)
abbrev nJ13_min : MI := (cJ13_min, 2, (some (.int)), RJ13, "min", [], 0, 0)
theorem hyJ13_min : yJ13_min.cls ≠ "java/lang/invoke/MethodHandle" ∧ yJ13_min.cls ≠ "java/lang/invoke/VarHandle" := by decide +kernel
theorem pnJ13_min : (parseMethodDescriptor yJ13_min.desc).map (fun d => d.parameters.length) = some 2 := by decide +kernel
theorem wdJ13_min : CdW yJ13_min (nJ13_min) := ⟨Or.inl ⟨q758, rfl⟩, rfl, rfl, by decide +kernel⟩
theorem eJ13_min_0 : SiZ nJ13_min 0 (i_iload 0 1) := s_iload_n dJ13_min_0 rfl
theorem eJ13_min_1 : SiZ nJ13_min 1 (i_iload 1 2) := s_iload_n dJ13_min_1 rfl
theorem eJ13_min_2 : SiZ nJ13_min 2 (i_icmp (fun x y => y < x) 9 5) := s_icmp_gt dJ13_min_2 (by decide)
theorem eJ13_min_5 : SiZ nJ13_min 5 (i_iload 0 6) := s_iload_n dJ13_min_5 rfl
theorem eJ13_min_6 : SiZ nJ13_min 6 (i_goto 10) := s_goto dJ13_min_6 (by decide)
theorem eJ13_min_9 : SiZ nJ13_min 9 (i_iload 1 10) := s_iload_n dJ13_min_9 rfl
theorem eJ13_min_10 : SiZ nJ13_min 10 i_iret := s_iret dJ13_min_10 rfl
theorem aJ13_min : ∀ x ∈ mJ13_min.1, EnZ nJ13_min x := fm_cons eJ13_min_0 (fm_cons eJ13_min_1 (fm_cons eJ13_min_2 (fm_cons eJ13_min_5 (fm_cons eJ13_min_6 (fm_cons eJ13_min_9 (fm_cons eJ13_min_10 (fm_nil)))))))
theorem zJ13_min : SwZ nJ13_min (Mt mJ13_min 2) := wholeZ (mi := nJ13_min) (cd := mJ13_min) aJ13_min rfl (HdZ.none rfl)
abbrev nX1_eats : MI := (cX1_eats, 4, none, RX1, "eats", [], 2, 50)
theorem hyX1_eats : yX1_eats.cls ≠ "java/lang/invoke/MethodHandle" ∧ yX1_eats.cls ≠ "java/lang/invoke/VarHandle" := by decide +kernel
theorem pnX1_eats : (parseMethodDescriptor yX1_eats.desc).map (fun d => d.parameters.length) = some 1 := by decide +kernel
theorem wdX1_eats : CdW yX1_eats (nX1_eats) := ⟨Or.inl ⟨q878, rfl⟩, rfl, rfl, plainFor_of_name (by decide +kernel)⟩
theorem eX1_eats_0 : SiZ nX1_eats 0 (i_aload 0 1) := s_aload_n dX1_eats_0 rfl
theorem eX1_eats_1 : SiZ nX1_eats 1 (i_getf 43 [2] 4) := s_getf dX1_eats_1 (fm_cons (⟨_, _, _, _, _, _, rfl, fkX1_18_2⟩) (fm_nil))
theorem eX1_eats_4 : SiZ nX1_eats 4 (i_aload 0 5) := s_aload_n dX1_eats_4 rfl
theorem eX1_eats_5 : SiZ nX1_eats 5 (i_getf 53 [2] 8) := s_getf dX1_eats_5 (fm_cons (⟨_, _, _, _, _, _, rfl, fkX1_31_2⟩) (fm_nil))
theorem eX1_eats_8 : SiZ nX1_eats 8 (i_iload 1 9) := s_iload_n dX1_eats_8 rfl
theorem eX1_eats_9 : SiZ nX1_eats 9 (i_iald 51 10) := s_ald (j := 0) (by decide) (fun _ => rfl) dX1_eats_9 (Or.inl ⟨rfl, rfl⟩)
theorem eX1_eats_10 : SiZ nX1_eats 10 (i_iald 51 11) := s_ald (j := 0) (by decide) (fun _ => rfl) dX1_eats_10 (Or.inl ⟨rfl, rfl⟩)
theorem eX1_eats_11 : SiZ nX1_eats 11 (i_istore 2 12) := s_istore_n dX1_eats_11 rfl
theorem eX1_eats_12 : SiZ nX1_eats 12 (i_aload 0 13) := s_aload_n dX1_eats_12 rfl
theorem eX1_eats_13 : SiZ nX1_eats 13 (i_iload 2 14) := s_iload_n dX1_eats_13 rfl
theorem eX1_eats_14 : ScZ nX1_eats 14 (c_V 1 17 2 2 (Mt mX1_isOpen 2)) := e_V (mi := nX1_eats) (mi' := nX1_isOpen) (len := 3) (fun h b as rest hk hl => cs_V (ci := 1) (mi := nX1_eats) (pc := 14) (y := yX1_isOpen) (idx := 98) dX1_eats_14 q845 q846 q847 rfl hk hyX1_isOpen (sigC q848) pnX1_isOpen hl) wdX1_isOpen zX1_isOpen (Nat.le_of_ble_eq_true rfl) (Nat.le_of_ble_eq_true rfl)
theorem eX1_eats_17 : SiZ nX1_eats 17 (i_if (fun x => ¬ x = 0) 21 20) := s_if_ne dX1_eats_17 (by decide)
theorem eX1_eats_20 : SiZ nX1_eats 20 i_vret := s_vret dX1_eats_20 rfl
theorem eX1_eats_21 : SiZ nX1_eats 21 (i_aload 0 22) := s_aload_n dX1_eats_21 rfl
theorem eX1_eats_22 : SiZ nX1_eats 22 (i_getf 32 [2] 25) := s_getf dX1_eats_22 (fm_cons (⟨_, _, _, _, _, _, rfl, fkX1_42_2⟩) (fm_nil))
theorem eX1_eats_25 : SiZ nX1_eats 25 (i_aload 0 26) := s_aload_n dX1_eats_25 rfl
theorem eX1_eats_26 : SiZ nX1_eats 26 (i_getf 39 [2] 29) := s_getf dX1_eats_26 (fm_cons (⟨_, _, _, _, _, _, rfl, fkX1_9_2⟩) (fm_nil))
theorem eX1_eats_29 : SiZ nX1_eats 29 (i_iload 2 30) := s_iload_n dX1_eats_29 rfl
theorem eX1_eats_30 : SiZ nX1_eats 30 (i_iald 51 31) := s_ald (j := 0) (by decide) (fun _ => rfl) dX1_eats_30 (Or.inl ⟨rfl, rfl⟩)
theorem eX1_eats_31 : ScZ nX1_eats 31 (c_S 2 34 2 (Mt mJ13_min 2)) := e_S (mi := nX1_eats) (mi' := nJ13_min) (len := 3) (fun h as rest hl => cs_S (mi := nX1_eats) (pc := 31) (y := yJ13_min) (idx := 101) dX1_eats_31 q879 q757 q105 q758 hyJ13_min pnJ13_min hl) wdJ13_min zJ13_min (Nat.le_of_ble_eq_true rfl) (Nat.le_of_ble_eq_true rfl)
theorem eX1_eats_34 : SiZ nX1_eats 34 (i_istore 3 35) := s_istore_n dX1_eats_34 rfl
theorem eX1_eats_35 : SiZ nX1_eats 35 (i_aload 0 36) := s_aload_n dX1_eats_35 rfl
theorem eX1_eats_36 : SiZ nX1_eats 36 (i_getf 39 [2] 39) := s_getf dX1_eats_36 (fm_cons (⟨_, _, _, _, _, _, rfl, fkX1_9_2⟩) (fm_nil))
theorem eX1_eats_39 : SiZ nX1_eats 39 (i_iload 2 40) := s_iload_n dX1_eats_39 rfl
theorem eX1_eats_40 : SiZ nX1_eats 40 (i_dup2 41) := s_dup2 dX1_eats_40
theorem eX1_eats_41 : SiZ nX1_eats 41 (i_iald 51 42) := s_ald (j := 0) (by decide) (fun _ => rfl) dX1_eats_41 (Or.inl ⟨rfl, rfl⟩)
theorem eX1_eats_42 : SiZ nX1_eats 42 (i_iload 3 43) := s_iload_n dX1_eats_42 rfl
theorem eX1_eats_43 : SiZ nX1_eats 43 (i_bin (fun x y => x - y) 44) := s_isub dX1_eats_43
theorem eX1_eats_44 : SiZ nX1_eats 44 (i_iast 51 (fun x => x) 45) := s_ast (j := 0) (by decide) (fun _ => rfl) dX1_eats_44 (Or.inl ⟨rfl, rfl, rfl⟩)
theorem eX1_eats_45 : SiZ nX1_eats 45 (i_aload 0 46) := s_aload_n dX1_eats_45 rfl
theorem eX1_eats_46 : SiZ nX1_eats 46 (i_getf 55 [2] 49) := s_getf dX1_eats_46 (fm_cons (⟨_, _, _, _, _, _, rfl, fkX1_34_2⟩) (fm_nil))
theorem eX1_eats_49 : SiZ nX1_eats 49 (i_iload 1 50) := s_iload_n dX1_eats_49 rfl
theorem eX1_eats_50 : SiZ nX1_eats 50 (i_push (.int 999) 53) := s_sipush dX1_eats_50 (by decide)
theorem eX1_eats_53 : SiZ nX1_eats 53 (i_aload 0 54) := s_aload_n dX1_eats_53 rfl
theorem eX1_eats_54 : SiZ nX1_eats 54 (i_getf 55 [2] 57) := s_getf dX1_eats_54 (fm_cons (⟨_, _, _, _, _, _, rfl, fkX1_34_2⟩) (fm_nil))
theorem eX1_eats_57 : SiZ nX1_eats 57 (i_iload 1 58) := s_iload_n dX1_eats_57 rfl
theorem eX1_eats_58 : SiZ nX1_eats 58 (i_iald 51 59) := s_ald (j := 0) (by decide) (fun _ => rfl) dX1_eats_58 (Or.inl ⟨rfl, rfl⟩)
theorem eX1_eats_59 : SiZ nX1_eats 59 (i_iload 3 60) := s_iload_n dX1_eats_59 rfl
theorem eX1_eats_60 : SiZ nX1_eats 60 (i_bin (fun x y => x + y) 61) := s_iadd dX1_eats_60
theorem eX1_eats_61 : ScZ nX1_eats 61 (c_S 2 64 2 (Mt mJ13_min 2)) := e_S (mi := nX1_eats) (mi' := nJ13_min) (len := 3) (fun h as rest hl => cs_S (mi := nX1_eats) (pc := 61) (y := yJ13_min) (idx := 101) dX1_eats_61 q879 q757 q105 q758 hyJ13_min pnJ13_min hl) wdJ13_min zJ13_min (Nat.le_of_ble_eq_true rfl) (Nat.le_of_ble_eq_true rfl)
theorem eX1_eats_64 : SiZ nX1_eats 64 (i_iast 51 (fun x => x) 65) := s_ast (j := 0) (by decide) (fun _ => rfl) dX1_eats_64 (Or.inl ⟨rfl, rfl, rfl⟩)
theorem eX1_eats_65 : SiZ nX1_eats 65 i_vret := s_vret dX1_eats_65 rfl
theorem aX1_eats : ∀ x ∈ mX1_eats.1, EnZ nX1_eats x := fm_cons eX1_eats_0 (fm_cons eX1_eats_1 (fm_cons eX1_eats_4 (fm_cons eX1_eats_5 (fm_cons eX1_eats_8 (fm_cons eX1_eats_9 (fm_cons eX1_eats_10 (fm_cons eX1_eats_11 (fm_cons eX1_eats_12 (fm_cons eX1_eats_13 (fm_cons eX1_eats_14 (fm_cons eX1_eats_17 (fm_cons eX1_eats_20 (fm_cons eX1_eats_21 (fm_cons eX1_eats_22 (fm_cons eX1_eats_25 (fm_cons eX1_eats_26 (fm_cons eX1_eats_29 (fm_cons eX1_eats_30 (fm_cons eX1_eats_31 (fm_cons eX1_eats_34 (fm_cons eX1_eats_35 (fm_cons eX1_eats_36 (fm_cons eX1_eats_39 (fm_cons eX1_eats_40 (fm_cons eX1_eats_41 (fm_cons eX1_eats_42 (fm_cons eX1_eats_43 (fm_cons eX1_eats_44 (fm_cons eX1_eats_45 (fm_cons eX1_eats_46 (fm_cons eX1_eats_49 (fm_cons eX1_eats_50 (fm_cons eX1_eats_53 (fm_cons eX1_eats_54 (fm_cons eX1_eats_57 (fm_cons eX1_eats_58 (fm_cons eX1_eats_59 (fm_cons eX1_eats_60 (fm_cons eX1_eats_61 (fm_cons eX1_eats_64 (fm_cons eX1_eats_65 (fm_nil))))))))))))))))))))))))))))))))))))))))))
theorem zX1_eats : SwZ nX1_eats (Mt mX1_eats 4) := wholeZ (mi := nX1_eats) (cd := mX1_eats) aX1_eats rfl (HdZ.none rfl)
abbrev nX1_pass : MI := (cX1_pass, 2, (some (.object "FishReaders$Library")), RX1, "pass", [], 5, 133)
theorem hyX1_pass : yX1_pass.cls ≠ "java/lang/invoke/MethodHandle" ∧ yX1_pass.cls ≠ "java/lang/invoke/VarHandle" := by decide +kernel
theorem pnX1_pass : (parseMethodDescriptor yX1_pass.desc).map (fun d => d.parameters.length) = some 0 := by decide +kernel
theorem wdX1_pass : CdW yX1_pass (nX1_pass) := ⟨Or.inl ⟨q794, rfl⟩, rfl, rfl, plainFor_of_name (by decide +kernel)⟩
theorem eX1_pass_0 : SiZ nX1_pass 0 (i_push (.int 0) 1) := s_iconst dX1_pass_0 (by decide)
theorem eX1_pass_1 : SiZ nX1_pass 1 (i_istore 1 2) := s_istore_n dX1_pass_1 rfl
theorem eX1_pass_2 : SiZ nX1_pass 2 (i_iload 1 3) := s_iload_n dX1_pass_2 rfl
theorem eX1_pass_3 : SiZ nX1_pass 3 (i_aload 0 4) := s_aload_n dX1_pass_3 rfl
theorem eX1_pass_4 : ScZ nX1_pass 4 (c_V 0 7 1 2 (Mt mX1_many 1)) := e_V (mi := nX1_pass) (mi' := nX1_many) (len := 3) (fun h b as rest hk hl => cs_V (ci := 1) (mi := nX1_pass) (pc := 4) (y := yX1_many) (idx := 105) dX1_pass_4 q795 q680 q681 rfl hk hyX1_many (sigC q682) pnX1_many hl) wdX1_many zX1_many (Nat.le_of_ble_eq_true rfl) (Nat.le_of_ble_eq_true rfl)
theorem eX1_pass_7 : SiZ nX1_pass 7 (i_icmp (fun x y => y ≤ x) 53 10) := s_icmp_ge dX1_pass_7 (by decide)
theorem eX1_pass_10 : SiZ nX1_pass 10 (i_aload 0 11) := s_aload_n dX1_pass_10 rfl
theorem eX1_pass_11 : SiZ nX1_pass 11 (i_iload 1 12) := s_iload_n dX1_pass_11 rfl
theorem eX1_pass_12 : ScZ nX1_pass 12 (c_V 1 15 2 2 (Mt mX1_isCaught 2)) := e_V (mi := nX1_pass) (mi' := nX1_isCaught) (len := 3) (fun h b as rest hk hl => cs_V (ci := 1) (mi := nX1_pass) (pc := 12) (y := yX1_isCaught) (idx := 108) dX1_pass_12 q796 q797 q798 rfl hk hyX1_isCaught (sigC q799) pnX1_isCaught hl) wdX1_isCaught zX1_isCaught (Nat.le_of_ble_eq_true rfl) (Nat.le_of_ble_eq_true rfl)
theorem eX1_pass_15 : SiZ nX1_pass 15 (i_if (fun x => x = 0) 21 18) := s_if_eq dX1_pass_15 (by decide)
theorem eX1_pass_18 : SiZ nX1_pass 18 (i_goto 47) := s_goto dX1_pass_18 (by decide)
theorem eX1_pass_21 : SiZ nX1_pass 21 (i_aload 0 22) := s_aload_n dX1_pass_21 rfl
theorem eX1_pass_22 : SiZ nX1_pass 22 (i_getf 53 [2] 25) := s_getf dX1_pass_22 (fm_cons (⟨_, _, _, _, _, _, rfl, fkX1_31_2⟩) (fm_nil))
theorem eX1_pass_25 : SiZ nX1_pass 25 (i_iload 1 26) := s_iload_n dX1_pass_25 rfl
theorem eX1_pass_26 : SiZ nX1_pass 26 (i_aload 0 27) := s_aload_n dX1_pass_26 rfl
theorem eX1_pass_27 : SiZ nX1_pass 27 (i_iload 1 28) := s_iload_n dX1_pass_27 rfl
theorem eX1_pass_28 : ScZ nX1_pass 28 (c_V 1 31 2 2 (Mt mX1_fish 2)) := e_V (mi := nX1_pass) (mi' := nX1_fish) (len := 3) (fun h b as rest hk hl => cs_V (ci := 1) (mi := nX1_pass) (pc := 28) (y := yX1_fish) (idx := 111) dX1_pass_28 q800 q801 q802 rfl hk hyX1_fish (sigC q803) pnX1_fish hl) wdX1_fish zX1_fish (Nat.le_of_ble_eq_true rfl) (Nat.le_of_ble_eq_true rfl)
theorem eX1_pass_31 : SiZ nX1_pass 31 (i_aload 0 32) := s_aload_n dX1_pass_31 rfl
theorem eX1_pass_32 : SiZ nX1_pass 32 (i_getf 53 [2] 35) := s_getf dX1_pass_32 (fm_cons (⟨_, _, _, _, _, _, rfl, fkX1_31_2⟩) (fm_nil))
theorem eX1_pass_35 : SiZ nX1_pass 35 (i_iload 1 36) := s_iload_n dX1_pass_35 rfl
theorem eX1_pass_36 : SiZ nX1_pass 36 (i_iald 51 37) := s_ald (j := 0) (by decide) (fun _ => rfl) dX1_pass_36 (Or.inl ⟨rfl, rfl⟩)
theorem eX1_pass_37 : SiZ nX1_pass 37 (i_aload 0 38) := s_aload_n dX1_pass_37 rfl
theorem eX1_pass_38 : ScZ nX1_pass 38 (c_D 2 41 3 [(4, (Mt mX4_goes 3)), (5, (Mt mX4_goes 3)), (6, (Mt mX6_goes 3)), (7, (Mt mX7_goes 3)), (8, (Mt mX8_goes 3))]) := e_D (len := 3) (fm_cons (⟨_, _, (fun h b as rest hk hl => cs_U (ci := 3) (mi := nX1_pass) (pc := 38) (y := yX4_goes) (idx := 115) dX1_pass_38 q822 q824 (Or.inl q823) q826 q825 rfl hk (by decide +kernel) pnX4_goes hl), wdX4_goes, zX4_goes, Nat.le_of_ble_eq_true rfl, Nat.le_of_ble_eq_true rfl, Nat.le_of_ble_eq_true rfl⟩) (fm_cons (⟨_, _, (fun h b as rest hk hl => cs_U (ci := 4) (mi := nX1_pass) (pc := 38) (y := yX4_goes) (idx := 115) dX1_pass_38 q822 q824 (Or.inl q823) q826 q866 rfl hk (by decide +kernel) pnX4_goes hl), wdX4_goes, zX4_goes, Nat.le_of_ble_eq_true rfl, Nat.le_of_ble_eq_true rfl, Nat.le_of_ble_eq_true rfl⟩) (fm_cons (⟨_, _, (fun h b as rest hk hl => cs_U (ci := 5) (mi := nX1_pass) (pc := 38) (y := yX6_goes) (idx := 115) dX1_pass_38 q822 q824 (Or.inl q823) q862 q861 rfl hk (by decide +kernel) pnX6_goes hl), wdX6_goes, zX6_goes, Nat.le_of_ble_eq_true rfl, Nat.le_of_ble_eq_true rfl, Nat.le_of_ble_eq_true rfl⟩) (fm_cons (⟨_, _, (fun h b as rest hk hl => cs_U (ci := 6) (mi := nX1_pass) (pc := 38) (y := yX7_goes) (idx := 115) dX1_pass_38 q822 q824 (Or.inl q823) q872 q874 rfl hk (by decide +kernel) pnX7_goes hl), wdX7_goes, zX7_goes, Nat.le_of_ble_eq_true rfl, Nat.le_of_ble_eq_true rfl, Nat.le_of_ble_eq_true rfl⟩) (fm_cons (⟨_, _, (fun h b as rest hk hl => cs_U (ci := 7) (mi := nX1_pass) (pc := 38) (y := yX8_goes) (idx := 115) dX1_pass_38 q822 q824 (Or.inl q823) q868 q867 rfl hk (by decide +kernel) pnX8_goes hl), wdX8_goes, zX8_goes, Nat.le_of_ble_eq_true rfl, Nat.le_of_ble_eq_true rfl, Nat.le_of_ble_eq_true rfl⟩) (fm_nil))))))
theorem eX1_pass_41 : SiZ nX1_pass 41 (i_iast 51 (fun x => x) 42) := s_ast (j := 0) (by decide) (fun _ => rfl) dX1_pass_41 (Or.inl ⟨rfl, rfl, rfl⟩)
theorem eX1_pass_42 : SiZ nX1_pass 42 (i_aload 0 43) := s_aload_n dX1_pass_42 rfl
theorem eX1_pass_43 : SiZ nX1_pass 43 (i_iload 1 44) := s_iload_n dX1_pass_43 rfl
theorem eX1_pass_44 : ScZ nX1_pass 44 (c_V 1 47 4 2 (Mt mX1_eats 4)) := e_V (mi := nX1_pass) (mi' := nX1_eats) (len := 3) (fun h b as rest hk hl => cs_V (ci := 1) (mi := nX1_pass) (pc := 44) (y := yX1_eats) (idx := 119) dX1_pass_44 q875 q877 qs21 rfl hk hyX1_eats (sigC q878) pnX1_eats hl) wdX1_eats zX1_eats (Nat.le_of_ble_eq_true rfl) (Nat.le_of_ble_eq_true rfl)
theorem eX1_pass_47 : SiZ nX1_pass 47 (i_iinc 1 1 50) := s_iinc dX1_pass_47 (by decide)
theorem eX1_pass_50 : SiZ nX1_pass 50 (i_goto 2) := s_goto dX1_pass_50 (by decide)
theorem eX1_pass_53 : SiZ nX1_pass 53 (i_push (.int 0) 54) := s_iconst dX1_pass_53 (by decide)
theorem eX1_pass_54 : SiZ nX1_pass 54 (i_istore 1 55) := s_istore_n dX1_pass_54 rfl
theorem eX1_pass_55 : SiZ nX1_pass 55 (i_iload 1 56) := s_iload_n dX1_pass_55 rfl
theorem eX1_pass_56 : SiZ nX1_pass 56 (i_aload 0 57) := s_aload_n dX1_pass_56 rfl
theorem eX1_pass_57 : SiZ nX1_pass 57 (i_getf 36 [2] 60) := s_getf dX1_pass_57 (fm_cons (⟨_, _, _, _, _, _, rfl, fkX1_48_2⟩) (fm_nil))
theorem eX1_pass_60 : SiZ nX1_pass 60 (i_icmp (fun x y => y ≤ x) 106 63) := s_icmp_ge dX1_pass_60 (by decide)
theorem eX1_pass_63 : SiZ nX1_pass 63 (i_aload 0 64) := s_aload_n dX1_pass_63 rfl
theorem eX1_pass_64 : SiZ nX1_pass 64 (i_getf 58 [2] 67) := s_getf dX1_pass_64 (fm_cons (⟨_, _, _, _, _, _, rfl, fkX1_66_2⟩) (fm_nil))
theorem eX1_pass_67 : SiZ nX1_pass 67 (i_push (.int 4) 68) := s_iconst dX1_pass_67 (by decide)
theorem eX1_pass_68 : SiZ nX1_pass 68 (i_bing (fun x y => x - x / y * y) 69) := s_irem dX1_pass_68
theorem eX1_pass_69 : SiZ nX1_pass 69 (i_push (.int 3) 70) := s_iconst dX1_pass_69 (by decide)
theorem eX1_pass_70 : SiZ nX1_pass 70 (i_icmp (fun x y => ¬ x = y) 100 73) := s_icmp_ne dX1_pass_70 (by decide)
theorem eX1_pass_73 : SiZ nX1_pass 73 (i_aload 0 74) := s_aload_n dX1_pass_73 rfl
theorem eX1_pass_74 : SiZ nX1_pass 74 (i_iload 1 75) := s_iload_n dX1_pass_74 rfl
theorem eX1_pass_75 : ScZ nX1_pass 75 (c_V 1 78 2 2 (Mt mX1_isKept 2)) := e_V (mi := nX1_pass) (mi' := nX1_isKept) (len := 3) (fun h b as rest hk hl => cs_V (ci := 1) (mi := nX1_pass) (pc := 75) (y := yX1_isKept) (idx := 89) dX1_pass_75 q853 q855 qs20 rfl hk hyX1_isKept (sigC q856) pnX1_isKept hl) wdX1_isKept zX1_isKept (Nat.le_of_ble_eq_true rfl) (Nat.le_of_ble_eq_true rfl)
theorem eX1_pass_78 : SiZ nX1_pass 78 (i_if (fun x => ¬ x = 0) 100 81) := s_if_ne dX1_pass_78 (by decide)
theorem eX1_pass_81 : SiZ nX1_pass 81 (i_aload 0 82) := s_aload_n dX1_pass_81 rfl
theorem eX1_pass_82 : SiZ nX1_pass 82 (i_getf 41 [2] 85) := s_getf dX1_pass_82 (fm_cons (⟨_, _, _, _, _, _, rfl, fkX1_15_2⟩) (fm_nil))
theorem eX1_pass_85 : SiZ nX1_pass 85 (i_iload 1 86) := s_iload_n dX1_pass_85 rfl
theorem eX1_pass_86 : SiZ nX1_pass 86 (i_push (.int 9) 88) := s_bipush dX1_pass_86 (by decide)
theorem eX1_pass_88 : SiZ nX1_pass 88 (i_aload 0 89) := s_aload_n dX1_pass_88 rfl
theorem eX1_pass_89 : SiZ nX1_pass 89 (i_getf 41 [2] 92) := s_getf dX1_pass_89 (fm_cons (⟨_, _, _, _, _, _, rfl, fkX1_15_2⟩) (fm_nil))
theorem eX1_pass_92 : SiZ nX1_pass 92 (i_iload 1 93) := s_iload_n dX1_pass_92 rfl
theorem eX1_pass_93 : SiZ nX1_pass 93 (i_iald 51 94) := s_ald (j := 0) (by decide) (fun _ => rfl) dX1_pass_93 (Or.inl ⟨rfl, rfl⟩)
theorem eX1_pass_94 : SiZ nX1_pass 94 (i_push (.int 1) 95) := s_iconst dX1_pass_94 (by decide)
theorem eX1_pass_95 : SiZ nX1_pass 95 (i_bin (fun x y => x + y) 96) := s_iadd dX1_pass_95
theorem eX1_pass_96 : ScZ nX1_pass 96 (c_S 2 99 2 (Mt mJ13_min 2)) := e_S (mi := nX1_pass) (mi' := nJ13_min) (len := 3) (fun h as rest hl => cs_S (mi := nX1_pass) (pc := 96) (y := yJ13_min) (idx := 101) dX1_pass_96 q879 q757 q105 q758 hyJ13_min pnJ13_min hl) wdJ13_min zJ13_min (Nat.le_of_ble_eq_true rfl) (Nat.le_of_ble_eq_true rfl)
theorem eX1_pass_99 : SiZ nX1_pass 99 (i_iast 51 (fun x => x) 100) := s_ast (j := 0) (by decide) (fun _ => rfl) dX1_pass_99 (Or.inl ⟨rfl, rfl, rfl⟩)
theorem eX1_pass_100 : SiZ nX1_pass 100 (i_iinc 1 1 103) := s_iinc dX1_pass_100 (by decide)
theorem eX1_pass_103 : SiZ nX1_pass 103 (i_goto 55) := s_goto dX1_pass_103 (by decide)
theorem eX1_pass_106 : SiZ nX1_pass 106 (i_aload 0 107) := s_aload_n dX1_pass_106 rfl
theorem eX1_pass_107 : SiZ nX1_pass 107 (i_dup 108) := s_dup dX1_pass_107
theorem eX1_pass_108 : SiZ nX1_pass 108 (i_getf 58 [2] 111) := s_getf dX1_pass_108 (fm_cons (⟨_, _, _, _, _, _, rfl, fkX1_66_2⟩) (fm_nil))
theorem eX1_pass_111 : SiZ nX1_pass 111 (i_push (.int 1) 112) := s_iconst dX1_pass_111 (by decide)
theorem eX1_pass_112 : SiZ nX1_pass 112 (i_bin (fun x y => x + y) 113) := s_iadd dX1_pass_112
theorem eX1_pass_113 : SiZ nX1_pass 113 (i_putI 58 [2] 116) := s_putI dX1_pass_113 (fm_cons (⟨_, _, _, _, _, _, rfl, ⟨fkX1_66_2, ⟨_, q194, Or.inl rfl⟩, Or.inl rfl⟩, rfl⟩) (fm_nil))
theorem eX1_pass_116 : SiZ nX1_pass 116 (i_aload 0 117) := s_aload_n dX1_pass_116 rfl
theorem eX1_pass_117 : SiZ nX1_pass 117 i_aret := s_aret dX1_pass_117 rfl (Or.inl ⟨_, rfl⟩)
theorem aX1_pass : ∀ x ∈ mX1_pass.1, EnZ nX1_pass x := fm_cons eX1_pass_0 (fm_cons eX1_pass_1 (fm_cons eX1_pass_2 (fm_cons eX1_pass_3 (fm_cons eX1_pass_4 (fm_cons eX1_pass_7 (fm_cons eX1_pass_10 (fm_cons eX1_pass_11 (fm_cons eX1_pass_12 (fm_cons eX1_pass_15 (fm_cons eX1_pass_18 (fm_cons eX1_pass_21 (fm_cons eX1_pass_22 (fm_cons eX1_pass_25 (fm_cons eX1_pass_26 (fm_cons eX1_pass_27 (fm_cons eX1_pass_28 (fm_cons eX1_pass_31 (fm_cons eX1_pass_32 (fm_cons eX1_pass_35 (fm_cons eX1_pass_36 (fm_cons eX1_pass_37 (fm_cons eX1_pass_38 (fm_cons eX1_pass_41 (fm_cons eX1_pass_42 (fm_cons eX1_pass_43 (fm_cons eX1_pass_44 (fm_cons eX1_pass_47 (fm_cons eX1_pass_50 (fm_cons eX1_pass_53 (fm_cons eX1_pass_54 (fm_cons eX1_pass_55 (fm_cons eX1_pass_56 (fm_cons eX1_pass_57 (fm_cons eX1_pass_60 (fm_cons eX1_pass_63 (fm_cons eX1_pass_64 (fm_cons eX1_pass_67 (fm_cons eX1_pass_68 (fm_cons eX1_pass_69 (fm_cons eX1_pass_70 (fm_cons eX1_pass_73 (fm_cons eX1_pass_74 (fm_cons eX1_pass_75 (fm_cons eX1_pass_78 (fm_cons eX1_pass_81 (fm_cons eX1_pass_82 (fm_cons eX1_pass_85 (fm_cons eX1_pass_86 (fm_cons eX1_pass_88 (fm_cons eX1_pass_89 (fm_cons eX1_pass_92 (fm_cons eX1_pass_93 (fm_cons eX1_pass_94 (fm_cons eX1_pass_95 (fm_cons eX1_pass_96 (fm_cons eX1_pass_99 (fm_cons eX1_pass_100 (fm_cons eX1_pass_103 (fm_cons eX1_pass_106 (fm_cons eX1_pass_107 (fm_cons eX1_pass_108 (fm_cons eX1_pass_111 (fm_cons eX1_pass_112 (fm_cons eX1_pass_113 (fm_cons eX1_pass_116 (fm_cons eX1_pass_117 (fm_nil)))))))))))))))))))))))))))))))))))))))))))))))))))))))))))))))))))
theorem zX1_pass : SwZ nX1_pass (Mt mX1_pass 2) := wholeZ (mi := nX1_pass) (cd := mX1_pass) aX1_pass rfl (HdZ.none rfl)
abbrev nX0_allBooks : MI := (cX0_allBooks, 1, (some (.int)), RX0, "allBooks", [], 0, 0)
theorem hyX0_allBooks : yX0_allBooks.cls ≠ "java/lang/invoke/MethodHandle" ∧ yX0_allBooks.cls ≠ "java/lang/invoke/VarHandle" := by decide +kernel
theorem pnX0_allBooks : (parseMethodDescriptor yX0_allBooks.desc).map (fun d => d.parameters.length) = some 0 := by decide +kernel
theorem wdX0_allBooks : CdW yX0_allBooks (nX0_allBooks) := ⟨Or.inl ⟨q883, rfl⟩, rfl, rfl, plainFor_of_name (by decide +kernel)⟩
theorem eX0_allBooks_0 : SiZ nX0_allBooks 0 (i_push (.int 1) 1) := s_iconst dX0_allBooks_0 (by decide)
theorem eX0_allBooks_1 : SiZ nX0_allBooks 1 (i_aload 0 2) := s_aload_n dX0_allBooks_1 rfl
theorem eX0_allBooks_2 : SiZ nX0_allBooks 2 (i_getf 11 [1] 5) := s_getf dX0_allBooks_2 (fm_cons (⟨_, _, _, _, _, _, rfl, fkX0_39_1⟩) (fm_nil))
theorem eX0_allBooks_5 : SiZ nX0_allBooks 5 (i_getf 36 [2] 8) := s_getf dX0_allBooks_5 (fm_cons (⟨_, _, _, _, _, _, rfl, fkX0_177_2⟩) (fm_nil))
theorem eX0_allBooks_8 : SiZ nX0_allBooks 8 (i_bin (fun x y => x <<< (y &&& 31)) 9) := s_ishl dX0_allBooks_8
theorem eX0_allBooks_9 : SiZ nX0_allBooks 9 (i_push (.int 1) 10) := s_iconst dX0_allBooks_9 (by decide)
theorem eX0_allBooks_10 : SiZ nX0_allBooks 10 (i_bin (fun x y => x - y) 11) := s_isub dX0_allBooks_10
theorem eX0_allBooks_11 : SiZ nX0_allBooks 11 i_iret := s_iret dX0_allBooks_11 rfl
theorem aX0_allBooks : ∀ x ∈ mX0_allBooks.1, EnZ nX0_allBooks x := fm_cons eX0_allBooks_0 (fm_cons eX0_allBooks_1 (fm_cons eX0_allBooks_2 (fm_cons eX0_allBooks_5 (fm_cons eX0_allBooks_8 (fm_cons eX0_allBooks_9 (fm_cons eX0_allBooks_10 (fm_cons eX0_allBooks_11 (fm_nil))))))))
theorem zX0_allBooks : SwZ nX0_allBooks (Mt mX0_allBooks 1) := wholeZ (mi := nX0_allBooks) (cd := mX0_allBooks) aX0_allBooks rfl (HdZ.none rfl)
abbrev nX1_left : MI := (cX1_left, 4, (some (.int)), RX1, "left", [], 0, 0)
theorem hyX1_left : yX1_left.cls ≠ "java/lang/invoke/MethodHandle" ∧ yX1_left.cls ≠ "java/lang/invoke/VarHandle" := by decide +kernel
theorem pnX1_left : (parseMethodDescriptor yX1_left.desc).map (fun d => d.parameters.length) = some 1 := by decide +kernel
theorem wdX1_left : CdW yX1_left (nX1_left) := ⟨Or.inl ⟨q887, rfl⟩, rfl, rfl, plainFor_of_name (by decide +kernel)⟩
theorem eX1_left_0 : SiZ nX1_left 0 (i_push (.int 0) 1) := s_iconst dX1_left_0 (by decide)
theorem eX1_left_1 : SiZ nX1_left 1 (i_istore 2 2) := s_istore_n dX1_left_1 rfl
theorem eX1_left_2 : SiZ nX1_left 2 (i_push (.int 0) 3) := s_iconst dX1_left_2 (by decide)
theorem eX1_left_3 : SiZ nX1_left 3 (i_istore 3 4) := s_istore_n dX1_left_3 rfl
theorem eX1_left_4 : SiZ nX1_left 4 (i_iload 3 5) := s_iload_n dX1_left_4 rfl
theorem eX1_left_5 : SiZ nX1_left 5 (i_aload 0 6) := s_aload_n dX1_left_5 rfl
theorem eX1_left_6 : SiZ nX1_left 6 (i_getf 36 [2] 9) := s_getf dX1_left_6 (fm_cons (⟨_, _, _, _, _, _, rfl, fkX1_48_2⟩) (fm_nil))
theorem eX1_left_9 : SiZ nX1_left 9 (i_icmp (fun x y => y ≤ x) 40 12) := s_icmp_ge dX1_left_9 (by decide)
theorem eX1_left_12 : SiZ nX1_left 12 (i_iload 2 13) := s_iload_n dX1_left_12 rfl
theorem eX1_left_13 : SiZ nX1_left 13 (i_iload 1 14) := s_iload_n dX1_left_13 rfl
theorem eX1_left_14 : SiZ nX1_left 14 (i_iload 3 15) := s_iload_n dX1_left_14 rfl
theorem eX1_left_15 : SiZ nX1_left 15 (i_bin (fun x y => x >>> (y &&& 31)) 16) := s_ishr dX1_left_15
theorem eX1_left_16 : SiZ nX1_left 16 (i_push (.int 1) 17) := s_iconst dX1_left_16 (by decide)
theorem eX1_left_17 : SiZ nX1_left 17 (i_bin (fun x y => x &&& y) 18) := s_iand dX1_left_17
theorem eX1_left_18 : SiZ nX1_left 18 (i_push (.int 1) 19) := s_iconst dX1_left_18 (by decide)
theorem eX1_left_19 : SiZ nX1_left 19 (i_icmp (fun x y => ¬ x = y) 31 22) := s_icmp_ne dX1_left_19 (by decide)
theorem eX1_left_22 : SiZ nX1_left 22 (i_aload 0 23) := s_aload_n dX1_left_22 rfl
theorem eX1_left_23 : SiZ nX1_left 23 (i_getf 39 [2] 26) := s_getf dX1_left_23 (fm_cons (⟨_, _, _, _, _, _, rfl, fkX1_9_2⟩) (fm_nil))
theorem eX1_left_26 : SiZ nX1_left 26 (i_iload 3 27) := s_iload_n dX1_left_26 rfl
theorem eX1_left_27 : SiZ nX1_left 27 (i_iald 51 28) := s_ald (j := 0) (by decide) (fun _ => rfl) dX1_left_27 (Or.inl ⟨rfl, rfl⟩)
theorem eX1_left_28 : SiZ nX1_left 28 (i_goto 32) := s_goto dX1_left_28 (by decide)
theorem eX1_left_31 : SiZ nX1_left 31 (i_push (.int 0) 32) := s_iconst dX1_left_31 (by decide)
theorem eX1_left_32 : SiZ nX1_left 32 (i_bin (fun x y => x + y) 33) := s_iadd dX1_left_32
theorem eX1_left_33 : SiZ nX1_left 33 (i_istore 2 34) := s_istore_n dX1_left_33 rfl
theorem eX1_left_34 : SiZ nX1_left 34 (i_iinc 3 1 37) := s_iinc dX1_left_34 (by decide)
theorem eX1_left_37 : SiZ nX1_left 37 (i_goto 4) := s_goto dX1_left_37 (by decide)
theorem eX1_left_40 : SiZ nX1_left 40 (i_iload 2 41) := s_iload_n dX1_left_40 rfl
theorem eX1_left_41 : SiZ nX1_left 41 i_iret := s_iret dX1_left_41 rfl
theorem aX1_left : ∀ x ∈ mX1_left.1, EnZ nX1_left x := fm_cons eX1_left_0 (fm_cons eX1_left_1 (fm_cons eX1_left_2 (fm_cons eX1_left_3 (fm_cons eX1_left_4 (fm_cons eX1_left_5 (fm_cons eX1_left_6 (fm_cons eX1_left_9 (fm_cons eX1_left_12 (fm_cons eX1_left_13 (fm_cons eX1_left_14 (fm_cons eX1_left_15 (fm_cons eX1_left_16 (fm_cons eX1_left_17 (fm_cons eX1_left_18 (fm_cons eX1_left_19 (fm_cons eX1_left_22 (fm_cons eX1_left_23 (fm_cons eX1_left_26 (fm_cons eX1_left_27 (fm_cons eX1_left_28 (fm_cons eX1_left_31 (fm_cons eX1_left_32 (fm_cons eX1_left_33 (fm_cons eX1_left_34 (fm_cons eX1_left_37 (fm_cons eX1_left_40 (fm_cons eX1_left_41 (fm_nil))))))))))))))))))))))))))))
theorem zX1_left : SwZ nX1_left (Mt mX1_left 4) := wholeZ (mi := nX1_left) (cd := mX1_left) aX1_left rfl (HdZ.none rfl)
abbrev nX0_nights : MI := (cX0_nights, 3, (some (.int)), RX0, "nights", [], 6, 158)
theorem hyX0_nights : yX0_nights.cls ≠ "java/lang/invoke/MethodHandle" ∧ yX0_nights.cls ≠ "java/lang/invoke/VarHandle" := by decide +kernel
theorem pnX0_nights : (parseMethodDescriptor yX0_nights.desc).map (fun d => d.parameters.length) = some 1 := by decide +kernel
theorem wdX0_nights : CdW yX0_nights (nX0_nights) := ⟨Or.inl ⟨q781, rfl⟩, rfl, rfl, plainFor_of_name (by decide +kernel)⟩
theorem eX0_nights_0 : SiZ nX0_nights 0 (i_aload 0 1) := s_aload_n dX0_nights_0 rfl
theorem eX0_nights_1 : ScZ nX0_nights 1 (c_V 0 4 1 1 (Mt mX0_isLibrary 1)) := e_V (mi := nX0_nights) (mi' := nX0_isLibrary) (len := 3) (fun h b as rest hk hl => cs_V (ci := 0) (mi := nX0_nights) (pc := 1) (y := yX0_isLibrary) (idx := 184) dX0_nights_1 q782 q784 qs18 rfl hk hyX0_isLibrary (sigC q785) pnX0_isLibrary hl) wdX0_isLibrary zX0_isLibrary (Nat.le_of_ble_eq_true rfl) (Nat.le_of_ble_eq_true rfl)
theorem eX0_nights_4 : SiZ nX0_nights 4 (i_if (fun x => ¬ x = 0) 10 7) := s_if_ne dX0_nights_4 (by decide)
theorem eX0_nights_7 : SiZ nX0_nights 7 (i_push (.int (-1000002)) 9) := s_ldc dX0_nights_7 q777
theorem eX0_nights_9 : SiZ nX0_nights 9 i_iret := s_iret dX0_nights_9 rfl
theorem eX0_nights_10 : SiZ nX0_nights 10 (i_iload 1 11) := s_iload_n dX0_nights_10 rfl
theorem eX0_nights_11 : SiZ nX0_nights 11 (i_i2l 12) := s_i2l dX0_nights_11
theorem eX0_nights_12 : SiZ nX0_nights 12 (i_push (.long 1) 13) := s_lconst dX0_nights_12 (by decide)
theorem eX0_nights_13 : SiZ nX0_nights 13 (i_push (.long 24) 16) := s_ldc2 dX0_nights_13 q786
theorem eX0_nights_16 : ScZ nX0_nights 16 (c_S 3 19 6 (Mt mX0_isIn 6)) := e_S (mi := nX0_nights) (mi' := nX0_isIn) (len := 3) (fun h as rest hl => cs_S (mi := nX0_nights) (pc := 16) (y := yX0_isIn) (idx := 86) dX0_nights_16 q351 q352 q77 q353 hyX0_isIn pnX0_isIn hl) wdX0_isIn zX0_isIn (Nat.le_of_ble_eq_true rfl) (Nat.le_of_ble_eq_true rfl)
theorem eX0_nights_19 : SiZ nX0_nights 19 (i_if (fun x => ¬ x = 0) 25 22) := s_if_ne dX0_nights_19 (by decide)
theorem eX0_nights_22 : SiZ nX0_nights 22 (i_push (.int (-1000001)) 24) := s_ldc dX0_nights_22 q355
theorem eX0_nights_24 : SiZ nX0_nights 24 i_iret := s_iret dX0_nights_24 rfl
theorem eX0_nights_25 : SiZ nX0_nights 25 (i_aload 0 26) := s_aload_n dX0_nights_25 rfl
theorem eX0_nights_26 : SiZ nX0_nights 26 (i_getf 11 [1] 29) := s_getf dX0_nights_26 (fm_cons (⟨_, _, _, _, _, _, rfl, fkX0_39_1⟩) (fm_nil))
theorem eX0_nights_29 : SiZ nX0_nights 29 (i_getf 58 [2] 32) := s_getf dX0_nights_29 (fm_cons (⟨_, _, _, _, _, _, rfl, fkX0_190_2⟩) (fm_nil))
theorem eX0_nights_32 : SiZ nX0_nights 32 (i_iload 1 33) := s_iload_n dX0_nights_32 rfl
theorem eX0_nights_33 : SiZ nX0_nights 33 (i_bin (fun x y => x + y) 34) := s_iadd dX0_nights_33
theorem eX0_nights_34 : SiZ nX0_nights 34 (i_push (.int 999) 37) := s_sipush dX0_nights_34 (by decide)
theorem eX0_nights_37 : SiZ nX0_nights 37 (i_icmp (fun x y => x ≤ y) 43 40) := s_icmp_le dX0_nights_37 (by decide)
theorem eX0_nights_40 : SiZ nX0_nights 40 (i_push (.int (-1000003)) 42) := s_ldc dX0_nights_40 q509
theorem eX0_nights_42 : SiZ nX0_nights 42 i_iret := s_iret dX0_nights_42 rfl
theorem eX0_nights_43 : SiZ nX0_nights 43 (i_push (.int 0) 44) := s_iconst dX0_nights_43 (by decide)
theorem eX0_nights_44 : SiZ nX0_nights 44 (i_istore 2 45) := s_istore_n dX0_nights_44 rfl
theorem eX0_nights_45 : SiZ nX0_nights 45 (i_iload 2 46) := s_iload_n dX0_nights_45 rfl
theorem eX0_nights_46 : SiZ nX0_nights 46 (i_iload 1 47) := s_iload_n dX0_nights_46 rfl
theorem eX0_nights_47 : SiZ nX0_nights 47 (i_icmp (fun x y => y ≤ x) 68 50) := s_icmp_ge dX0_nights_47 (by decide)
theorem eX0_nights_50 : SiZ nX0_nights 50 (i_aload 0 51) := s_aload_n dX0_nights_50 rfl
theorem eX0_nights_51 : ScZ nX0_nights 51 (c_V 0 54 3 1 (Mt mX0_keep 3)) := e_V (mi := nX0_nights) (mi' := nX0_keep) (len := 3) (fun h b as rest hk hl => cs_V (ci := 0) (mi := nX0_nights) (pc := 51) (y := yX0_keep) (idx := 193) dX0_nights_51 q787 q789 qs19 rfl hk hyX0_keep (sigC q790) pnX0_keep hl) wdX0_keep zX0_keep (Nat.le_of_ble_eq_true rfl) (Nat.le_of_ble_eq_true rfl)
theorem eX0_nights_54 : SiZ nX0_nights 54 (i_aload 0 55) := s_aload_n dX0_nights_54 rfl
theorem eX0_nights_55 : SiZ nX0_nights 55 (i_getf 11 [1] 58) := s_getf dX0_nights_55 (fm_cons (⟨_, _, _, _, _, _, rfl, fkX0_39_1⟩) (fm_nil))
theorem eX0_nights_58 : ScZ nX0_nights 58 (c_V 0 61 2 2 (Mt mX1_pass 2)) := e_V (mi := nX0_nights) (mi' := nX1_pass) (len := 3) (fun h b as rest hk hl => cs_V (ci := 1) (mi := nX0_nights) (pc := 58) (y := yX1_pass) (idx := 196) dX0_nights_58 q791 q792 q793 rfl hk hyX1_pass (sigC q794) pnX1_pass hl) wdX1_pass zX1_pass (Nat.le_of_ble_eq_true rfl) (Nat.le_of_ble_eq_true rfl)
theorem eX0_nights_61 : SiZ nX0_nights 61 (i_pop 62) := s_pop dX0_nights_61
theorem eX0_nights_62 : SiZ nX0_nights 62 (i_iinc 2 1 65) := s_iinc dX0_nights_62 (by decide)
theorem eX0_nights_65 : SiZ nX0_nights 65 (i_goto 45) := s_goto dX0_nights_65 (by decide)
theorem eX0_nights_68 : SiZ nX0_nights 68 (i_aload 0 69) := s_aload_n dX0_nights_68 rfl
theorem eX0_nights_69 : SiZ nX0_nights 69 (i_getf 11 [1] 72) := s_getf dX0_nights_69 (fm_cons (⟨_, _, _, _, _, _, rfl, fkX0_39_1⟩) (fm_nil))
theorem eX0_nights_72 : SiZ nX0_nights 72 (i_aload 0 73) := s_aload_n dX0_nights_72 rfl
theorem eX0_nights_73 : ScZ nX0_nights 73 (c_V 0 76 1 1 (Mt mX0_allBooks 1)) := e_V (mi := nX0_nights) (mi' := nX0_allBooks) (len := 3) (fun h b as rest hk hl => cs_V (ci := 0) (mi := nX0_nights) (pc := 73) (y := yX0_allBooks) (idx := 200) dX0_nights_73 q880 q882 qs22 rfl hk hyX0_allBooks (sigC q883) pnX0_allBooks hl) wdX0_allBooks zX0_allBooks (Nat.le_of_ble_eq_true rfl) (Nat.le_of_ble_eq_true rfl)
theorem eX0_nights_76 : ScZ nX0_nights 76 (c_V 1 79 4 2 (Mt mX1_left 4)) := e_V (mi := nX0_nights) (mi' := nX1_left) (len := 3) (fun h b as rest hk hl => cs_V (ci := 1) (mi := nX0_nights) (pc := 76) (y := yX1_left) (idx := 203) dX0_nights_76 q884 q885 q886 rfl hk hyX1_left (sigC q887) pnX1_left hl) wdX1_left zX1_left (Nat.le_of_ble_eq_true rfl) (Nat.le_of_ble_eq_true rfl)
theorem eX0_nights_79 : SiZ nX0_nights 79 i_iret := s_iret dX0_nights_79 rfl
theorem aX0_nights : ∀ x ∈ mX0_nights.1, EnZ nX0_nights x := fm_cons eX0_nights_0 (fm_cons eX0_nights_1 (fm_cons eX0_nights_4 (fm_cons eX0_nights_7 (fm_cons eX0_nights_9 (fm_cons eX0_nights_10 (fm_cons eX0_nights_11 (fm_cons eX0_nights_12 (fm_cons eX0_nights_13 (fm_cons eX0_nights_16 (fm_cons eX0_nights_19 (fm_cons eX0_nights_22 (fm_cons eX0_nights_24 (fm_cons eX0_nights_25 (fm_cons eX0_nights_26 (fm_cons eX0_nights_29 (fm_cons eX0_nights_32 (fm_cons eX0_nights_33 (fm_cons eX0_nights_34 (fm_cons eX0_nights_37 (fm_cons eX0_nights_40 (fm_cons eX0_nights_42 (fm_cons eX0_nights_43 (fm_cons eX0_nights_44 (fm_cons eX0_nights_45 (fm_cons eX0_nights_46 (fm_cons eX0_nights_47 (fm_cons eX0_nights_50 (fm_cons eX0_nights_51 (fm_cons eX0_nights_54 (fm_cons eX0_nights_55 (fm_cons eX0_nights_58 (fm_cons eX0_nights_61 (fm_cons eX0_nights_62 (fm_cons eX0_nights_65 (fm_cons eX0_nights_68 (fm_cons eX0_nights_69 (fm_cons eX0_nights_72 (fm_cons eX0_nights_73 (fm_cons eX0_nights_76 (fm_cons eX0_nights_79 (fm_nil)))))))))))))))))))))))))))))))))))))))))
theorem zX0_nights : SwZ nX0_nights (Mt mX0_nights 3) := wholeZ (mi := nX0_nights) (cd := mX0_nights) aX0_nights rfl (HdZ.none rfl)
abbrev nX0_isBook : MI := (cX0_isBook, 2, (some (.boolean)), RX0, "isBook", [], 1, 29)
theorem hyX0_isBook : yX0_isBook.cls ≠ "java/lang/invoke/MethodHandle" ∧ yX0_isBook.cls ≠ "java/lang/invoke/VarHandle" := by decide +kernel
theorem pnX0_isBook : (parseMethodDescriptor yX0_isBook.desc).map (fun d => d.parameters.length) = some 1 := by decide +kernel
theorem wdX0_isBook : CdW yX0_isBook (nX0_isBook) := ⟨Or.inl ⟨q895, rfl⟩, rfl, rfl, plainFor_of_name (by decide +kernel)⟩
theorem eX0_isBook_0 : SiZ nX0_isBook 0 (i_iload 1 1) := s_iload_n dX0_isBook_0 rfl
theorem eX0_isBook_1 : SiZ nX0_isBook 1 (i_i2l 2) := s_i2l dX0_isBook_1
theorem eX0_isBook_2 : SiZ nX0_isBook 2 (i_push (.long 0) 3) := s_lconst dX0_isBook_2 (by decide)
theorem eX0_isBook_3 : SiZ nX0_isBook 3 (i_aload 0 4) := s_aload_n dX0_isBook_3 rfl
theorem eX0_isBook_4 : SiZ nX0_isBook 4 (i_getf 11 [1] 7) := s_getf dX0_isBook_4 (fm_cons (⟨_, _, _, _, _, _, rfl, fkX0_39_1⟩) (fm_nil))
theorem eX0_isBook_7 : SiZ nX0_isBook 7 (i_getf 36 [2] 10) := s_getf dX0_isBook_7 (fm_cons (⟨_, _, _, _, _, _, rfl, fkX0_177_2⟩) (fm_nil))
theorem eX0_isBook_10 : SiZ nX0_isBook 10 (i_push (.int 1) 11) := s_iconst dX0_isBook_10 (by decide)
theorem eX0_isBook_11 : SiZ nX0_isBook 11 (i_bin (fun x y => x - y) 12) := s_isub dX0_isBook_11
theorem eX0_isBook_12 : SiZ nX0_isBook 12 (i_i2l 13) := s_i2l dX0_isBook_12
theorem eX0_isBook_13 : ScZ nX0_isBook 13 (c_S 3 16 6 (Mt mX0_isIn 6)) := e_S (mi := nX0_isBook) (mi' := nX0_isIn) (len := 3) (fun h as rest hl => cs_S (mi := nX0_isBook) (pc := 13) (y := yX0_isIn) (idx := 86) dX0_isBook_13 q351 q352 q77 q353 hyX0_isIn pnX0_isIn hl) wdX0_isIn zX0_isIn (Nat.le_of_ble_eq_true rfl) (Nat.le_of_ble_eq_true rfl)
theorem eX0_isBook_16 : SiZ nX0_isBook 16 i_zret := s_zret dX0_isBook_16 rfl
theorem aX0_isBook : ∀ x ∈ mX0_isBook.1, EnZ nX0_isBook x := fm_cons eX0_isBook_0 (fm_cons eX0_isBook_1 (fm_cons eX0_isBook_2 (fm_cons eX0_isBook_3 (fm_cons eX0_isBook_4 (fm_cons eX0_isBook_7 (fm_cons eX0_isBook_10 (fm_cons eX0_isBook_11 (fm_cons eX0_isBook_12 (fm_cons eX0_isBook_13 (fm_cons eX0_isBook_16 (fm_nil)))))))))))
theorem zX0_isBook : SwZ nX0_isBook (Mt mX0_isBook 2) := wholeZ (mi := nX0_isBook) (cd := mX0_isBook) aX0_isBook rfl (HdZ.none rfl)
abbrev nX0_isHalf : MI := (cX0_isHalf, 1, (some (.boolean)), RX0, "isHalf", [], 1, 29)
theorem hyX0_isHalf : yX0_isHalf.cls ≠ "java/lang/invoke/MethodHandle" ∧ yX0_isHalf.cls ≠ "java/lang/invoke/VarHandle" := by decide +kernel
theorem pnX0_isHalf : (parseMethodDescriptor yX0_isHalf.desc).map (fun d => d.parameters.length) = some 1 := by decide +kernel
theorem wdX0_isHalf : CdW yX0_isHalf (nX0_isHalf) := ⟨Or.inl ⟨q898, rfl⟩, rfl, rfl, plainFor_of_name (by decide +kernel)⟩
theorem eX0_isHalf_0 : SiZ nX0_isHalf 0 (i_iload 0 1) := s_iload_n dX0_isHalf_0 rfl
theorem eX0_isHalf_1 : SiZ nX0_isHalf 1 (i_i2l 2) := s_i2l dX0_isHalf_1
theorem eX0_isHalf_2 : SiZ nX0_isHalf 2 (i_push (.long 0) 3) := s_lconst dX0_isHalf_2 (by decide)
theorem eX0_isHalf_3 : SiZ nX0_isHalf 3 (i_push (.long 1) 4) := s_lconst dX0_isHalf_3 (by decide)
theorem eX0_isHalf_4 : ScZ nX0_isHalf 4 (c_S 3 7 6 (Mt mX0_isIn 6)) := e_S (mi := nX0_isHalf) (mi' := nX0_isIn) (len := 3) (fun h as rest hl => cs_S (mi := nX0_isHalf) (pc := 4) (y := yX0_isIn) (idx := 86) dX0_isHalf_4 q351 q352 q77 q353 hyX0_isIn pnX0_isIn hl) wdX0_isIn zX0_isIn (Nat.le_of_ble_eq_true rfl) (Nat.le_of_ble_eq_true rfl)
theorem eX0_isHalf_7 : SiZ nX0_isHalf 7 i_zret := s_zret dX0_isHalf_7 rfl
theorem aX0_isHalf : ∀ x ∈ mX0_isHalf.1, EnZ nX0_isHalf x := fm_cons eX0_isHalf_0 (fm_cons eX0_isHalf_1 (fm_cons eX0_isHalf_2 (fm_cons eX0_isHalf_3 (fm_cons eX0_isHalf_4 (fm_cons eX0_isHalf_7 (fm_nil))))))
theorem zX0_isHalf : SwZ nX0_isHalf (Mt mX0_isHalf 1) := wholeZ (mi := nX0_isHalf) (cd := mX0_isHalf) aX0_isHalf rfl (HdZ.none rfl)
abbrev nJ16_bitCount : MI := (cJ16_bitCount, 1, (some (.int)), RJ16, "bitCount", [], 0, 0)
theorem hyJ16_bitCount : yJ16_bitCount.cls ≠ "java/lang/invoke/MethodHandle" ∧ yJ16_bitCount.cls ≠ "java/lang/invoke/VarHandle" := by decide +kernel
theorem pnJ16_bitCount : (parseMethodDescriptor yJ16_bitCount.desc).map (fun d => d.parameters.length) = some 1 := by decide +kernel
theorem wdJ16_bitCount : CdW yJ16_bitCount (nJ16_bitCount) := ⟨Or.inl ⟨q901, rfl⟩, rfl, rfl, plainFor_of_name (by decide +kernel)⟩
theorem eJ16_bitCount_0 : SiZ nJ16_bitCount 0 (i_iload 0 1) := s_iload_n dJ16_bitCount_0 rfl
theorem eJ16_bitCount_1 : SiZ nJ16_bitCount 1 (i_iload 0 2) := s_iload_n dJ16_bitCount_1 rfl
theorem eJ16_bitCount_2 : SiZ nJ16_bitCount 2 (i_push (.int 1) 3) := s_iconst dJ16_bitCount_2 (by decide)
theorem eJ16_bitCount_3 : SiZ nJ16_bitCount 3 (i_bin (fun x y => (x.toUInt32 >>> (y.toUInt32 &&& Int32.toUInt32 31)).toInt32) 4) := s_iushr dJ16_bitCount_3
theorem eJ16_bitCount_4 : SiZ nJ16_bitCount 4 (i_push (.int 1431655765) 7) := s_ldcw dJ16_bitCount_4 q902
theorem eJ16_bitCount_7 : SiZ nJ16_bitCount 7 (i_bin (fun x y => x &&& y) 8) := s_iand dJ16_bitCount_7
theorem eJ16_bitCount_8 : SiZ nJ16_bitCount 8 (i_bin (fun x y => x - y) 9) := s_isub dJ16_bitCount_8
theorem eJ16_bitCount_9 : SiZ nJ16_bitCount 9 (i_istore 0 10) := s_istore_n dJ16_bitCount_9 rfl
theorem eJ16_bitCount_10 : SiZ nJ16_bitCount 10 (i_iload 0 11) := s_iload_n dJ16_bitCount_10 rfl
theorem eJ16_bitCount_11 : SiZ nJ16_bitCount 11 (i_push (.int 858993459) 14) := s_ldcw dJ16_bitCount_11 q903
theorem eJ16_bitCount_14 : SiZ nJ16_bitCount 14 (i_bin (fun x y => x &&& y) 15) := s_iand dJ16_bitCount_14
theorem eJ16_bitCount_15 : SiZ nJ16_bitCount 15 (i_iload 0 16) := s_iload_n dJ16_bitCount_15 rfl
theorem eJ16_bitCount_16 : SiZ nJ16_bitCount 16 (i_push (.int 2) 17) := s_iconst dJ16_bitCount_16 (by decide)
theorem eJ16_bitCount_17 : SiZ nJ16_bitCount 17 (i_bin (fun x y => (x.toUInt32 >>> (y.toUInt32 &&& Int32.toUInt32 31)).toInt32) 18) := s_iushr dJ16_bitCount_17
theorem eJ16_bitCount_18 : SiZ nJ16_bitCount 18 (i_push (.int 858993459) 21) := s_ldcw dJ16_bitCount_18 q903
theorem eJ16_bitCount_21 : SiZ nJ16_bitCount 21 (i_bin (fun x y => x &&& y) 22) := s_iand dJ16_bitCount_21
theorem eJ16_bitCount_22 : SiZ nJ16_bitCount 22 (i_bin (fun x y => x + y) 23) := s_iadd dJ16_bitCount_22
theorem eJ16_bitCount_23 : SiZ nJ16_bitCount 23 (i_istore 0 24) := s_istore_n dJ16_bitCount_23 rfl
theorem eJ16_bitCount_24 : SiZ nJ16_bitCount 24 (i_iload 0 25) := s_iload_n dJ16_bitCount_24 rfl
theorem eJ16_bitCount_25 : SiZ nJ16_bitCount 25 (i_iload 0 26) := s_iload_n dJ16_bitCount_25 rfl
theorem eJ16_bitCount_26 : SiZ nJ16_bitCount 26 (i_push (.int 4) 27) := s_iconst dJ16_bitCount_26 (by decide)
theorem eJ16_bitCount_27 : SiZ nJ16_bitCount 27 (i_bin (fun x y => (x.toUInt32 >>> (y.toUInt32 &&& Int32.toUInt32 31)).toInt32) 28) := s_iushr dJ16_bitCount_27
theorem eJ16_bitCount_28 : SiZ nJ16_bitCount 28 (i_bin (fun x y => x + y) 29) := s_iadd dJ16_bitCount_28
theorem eJ16_bitCount_29 : SiZ nJ16_bitCount 29 (i_push (.int 252645135) 32) := s_ldcw dJ16_bitCount_29 q904
theorem eJ16_bitCount_32 : SiZ nJ16_bitCount 32 (i_bin (fun x y => x &&& y) 33) := s_iand dJ16_bitCount_32
theorem eJ16_bitCount_33 : SiZ nJ16_bitCount 33 (i_istore 0 34) := s_istore_n dJ16_bitCount_33 rfl
theorem eJ16_bitCount_34 : SiZ nJ16_bitCount 34 (i_iload 0 35) := s_iload_n dJ16_bitCount_34 rfl
theorem eJ16_bitCount_35 : SiZ nJ16_bitCount 35 (i_iload 0 36) := s_iload_n dJ16_bitCount_35 rfl
theorem eJ16_bitCount_36 : SiZ nJ16_bitCount 36 (i_push (.int 8) 38) := s_bipush dJ16_bitCount_36 (by decide)
theorem eJ16_bitCount_38 : SiZ nJ16_bitCount 38 (i_bin (fun x y => (x.toUInt32 >>> (y.toUInt32 &&& Int32.toUInt32 31)).toInt32) 39) := s_iushr dJ16_bitCount_38
theorem eJ16_bitCount_39 : SiZ nJ16_bitCount 39 (i_bin (fun x y => x + y) 40) := s_iadd dJ16_bitCount_39
theorem eJ16_bitCount_40 : SiZ nJ16_bitCount 40 (i_istore 0 41) := s_istore_n dJ16_bitCount_40 rfl
theorem eJ16_bitCount_41 : SiZ nJ16_bitCount 41 (i_iload 0 42) := s_iload_n dJ16_bitCount_41 rfl
theorem eJ16_bitCount_42 : SiZ nJ16_bitCount 42 (i_iload 0 43) := s_iload_n dJ16_bitCount_42 rfl
theorem eJ16_bitCount_43 : SiZ nJ16_bitCount 43 (i_push (.int 16) 45) := s_bipush dJ16_bitCount_43 (by decide)
theorem eJ16_bitCount_45 : SiZ nJ16_bitCount 45 (i_bin (fun x y => (x.toUInt32 >>> (y.toUInt32 &&& Int32.toUInt32 31)).toInt32) 46) := s_iushr dJ16_bitCount_45
theorem eJ16_bitCount_46 : SiZ nJ16_bitCount 46 (i_bin (fun x y => x + y) 47) := s_iadd dJ16_bitCount_46
theorem eJ16_bitCount_47 : SiZ nJ16_bitCount 47 (i_istore 0 48) := s_istore_n dJ16_bitCount_47 rfl
theorem eJ16_bitCount_48 : SiZ nJ16_bitCount 48 (i_iload 0 49) := s_iload_n dJ16_bitCount_48 rfl
theorem eJ16_bitCount_49 : SiZ nJ16_bitCount 49 (i_push (.int 63) 51) := s_bipush dJ16_bitCount_49 (by decide)
theorem eJ16_bitCount_51 : SiZ nJ16_bitCount 51 (i_bin (fun x y => x &&& y) 52) := s_iand dJ16_bitCount_51
theorem eJ16_bitCount_52 : SiZ nJ16_bitCount 52 i_iret := s_iret dJ16_bitCount_52 rfl
theorem aJ16_bitCount : ∀ x ∈ mJ16_bitCount.1, EnZ nJ16_bitCount x := fm_cons eJ16_bitCount_0 (fm_cons eJ16_bitCount_1 (fm_cons eJ16_bitCount_2 (fm_cons eJ16_bitCount_3 (fm_cons eJ16_bitCount_4 (fm_cons eJ16_bitCount_7 (fm_cons eJ16_bitCount_8 (fm_cons eJ16_bitCount_9 (fm_cons eJ16_bitCount_10 (fm_cons eJ16_bitCount_11 (fm_cons eJ16_bitCount_14 (fm_cons eJ16_bitCount_15 (fm_cons eJ16_bitCount_16 (fm_cons eJ16_bitCount_17 (fm_cons eJ16_bitCount_18 (fm_cons eJ16_bitCount_21 (fm_cons eJ16_bitCount_22 (fm_cons eJ16_bitCount_23 (fm_cons eJ16_bitCount_24 (fm_cons eJ16_bitCount_25 (fm_cons eJ16_bitCount_26 (fm_cons eJ16_bitCount_27 (fm_cons eJ16_bitCount_28 (fm_cons eJ16_bitCount_29 (fm_cons eJ16_bitCount_32 (fm_cons eJ16_bitCount_33 (fm_cons eJ16_bitCount_34 (fm_cons eJ16_bitCount_35 (fm_cons eJ16_bitCount_36 (fm_cons eJ16_bitCount_38 (fm_cons eJ16_bitCount_39 (fm_cons eJ16_bitCount_40 (fm_cons eJ16_bitCount_41 (fm_cons eJ16_bitCount_42 (fm_cons eJ16_bitCount_43 (fm_cons eJ16_bitCount_45 (fm_cons eJ16_bitCount_46 (fm_cons eJ16_bitCount_47 (fm_cons eJ16_bitCount_48 (fm_cons eJ16_bitCount_49 (fm_cons eJ16_bitCount_51 (fm_cons eJ16_bitCount_52 (fm_nil))))))))))))))))))))))))))))))))))))))))))
theorem zJ16_bitCount : SwZ nJ16_bitCount (Mt mJ16_bitCount 1) := wholeZ (mi := nJ16_bitCount) (cd := mJ16_bitCount) aJ16_bitCount rfl (HdZ.none rfl)
abbrev nX0_light : MI := (cX0_light, 3, (some (.int)), RX0, "light", [], 6, 146)
theorem hyX0_light : yX0_light.cls ≠ "java/lang/invoke/MethodHandle" ∧ yX0_light.cls ≠ "java/lang/invoke/VarHandle" := by decide +kernel
theorem pnX0_light : (parseMethodDescriptor yX0_light.desc).map (fun d => d.parameters.length) = some 2 := by decide +kernel
theorem wdX0_light : CdW yX0_light (nX0_light) := ⟨Or.inl ⟨q891, rfl⟩, rfl, rfl, plainFor_of_name (by decide +kernel)⟩
theorem eX0_light_0 : SiZ nX0_light 0 (i_aload 0 1) := s_aload_n dX0_light_0 rfl
theorem eX0_light_1 : SiZ nX0_light 1 (i_iload 1 2) := s_iload_n dX0_light_1 rfl
theorem eX0_light_2 : ScZ nX0_light 2 (c_V 1 5 2 1 (Mt mX0_isBook 2)) := e_V (mi := nX0_light) (mi' := nX0_isBook) (len := 3) (fun h b as rest hk hl => cs_V (ci := 0) (mi := nX0_light) (pc := 2) (y := yX0_isBook) (idx := 206) dX0_light_2 q892 q894 qs23 rfl hk hyX0_isBook (sigC q895) pnX0_isBook hl) wdX0_isBook zX0_isBook (Nat.le_of_ble_eq_true rfl) (Nat.le_of_ble_eq_true rfl)
theorem eX0_light_5 : SiZ nX0_light 5 (i_if (fun x => x = 0) 15 8) := s_if_eq dX0_light_5 (by decide)
theorem eX0_light_8 : SiZ nX0_light 8 (i_iload 2 9) := s_iload_n dX0_light_8 rfl
theorem eX0_light_9 : ScZ nX0_light 9 (c_S 1 12 1 (Mt mX0_isHalf 1)) := e_S (mi := nX0_light) (mi' := nX0_isHalf) (len := 3) (fun h as rest hl => cs_S (mi := nX0_light) (pc := 9) (y := yX0_isHalf) (idx := 209) dX0_light_9 q896 q897 q77 q898 hyX0_isHalf pnX0_isHalf hl) wdX0_isHalf zX0_isHalf (Nat.le_of_ble_eq_true rfl) (Nat.le_of_ble_eq_true rfl)
theorem eX0_light_12 : SiZ nX0_light 12 (i_if (fun x => ¬ x = 0) 18 15) := s_if_ne dX0_light_12 (by decide)
theorem eX0_light_15 : SiZ nX0_light 15 (i_push (.int (-1000001)) 17) := s_ldc dX0_light_15 q355
theorem eX0_light_17 : SiZ nX0_light 17 i_iret := s_iret dX0_light_17 rfl
theorem eX0_light_18 : SiZ nX0_light 18 (i_aload 0 19) := s_aload_n dX0_light_18 rfl
theorem eX0_light_19 : SiZ nX0_light 19 (i_getf 11 [1] 22) := s_getf dX0_light_19 (fm_cons (⟨_, _, _, _, _, _, rfl, fkX0_39_1⟩) (fm_nil))
theorem eX0_light_22 : SiZ nX0_light 22 (i_getf 46 [2] 25) := s_getf dX0_light_22 (fm_cons (⟨_, _, _, _, _, _, rfl, fkX0_212_2⟩) (fm_nil))
theorem eX0_light_25 : SiZ nX0_light 25 (i_iload 1 26) := s_iload_n dX0_light_25 rfl
theorem eX0_light_26 : SiZ nX0_light 26 (i_bin (fun x y => x >>> (y &&& 31)) 27) := s_ishr dX0_light_26
theorem eX0_light_27 : SiZ nX0_light 27 (i_push (.int 1) 28) := s_iconst dX0_light_27 (by decide)
theorem eX0_light_28 : SiZ nX0_light 28 (i_bin (fun x y => x &&& y) 29) := s_iand dX0_light_28
theorem eX0_light_29 : SiZ nX0_light 29 (i_iload 2 30) := s_iload_n dX0_light_29 rfl
theorem eX0_light_30 : SiZ nX0_light 30 (i_icmp (fun x y => x = y) 58 33) := s_icmp_eq dX0_light_30 (by decide)
theorem eX0_light_33 : SiZ nX0_light 33 (i_iload 2 34) := s_iload_n dX0_light_33 rfl
theorem eX0_light_34 : SiZ nX0_light 34 (i_push (.int 1) 35) := s_iconst dX0_light_34 (by decide)
theorem eX0_light_35 : SiZ nX0_light 35 (i_icmp (fun x y => ¬ x = y) 61 38) := s_icmp_ne dX0_light_35 (by decide)
theorem eX0_light_38 : SiZ nX0_light 38 (i_aload 0 39) := s_aload_n dX0_light_38 rfl
theorem eX0_light_39 : SiZ nX0_light 39 (i_getf 11 [1] 42) := s_getf dX0_light_39 (fm_cons (⟨_, _, _, _, _, _, rfl, fkX0_39_1⟩) (fm_nil))
theorem eX0_light_42 : SiZ nX0_light 42 (i_getf 46 [2] 45) := s_getf dX0_light_42 (fm_cons (⟨_, _, _, _, _, _, rfl, fkX0_212_2⟩) (fm_nil))
theorem eX0_light_45 : ScZ nX0_light 45 (c_S 1 48 1 (Mt mJ16_bitCount 1)) := e_S (mi := nX0_light) (mi' := nJ16_bitCount) (len := 3) (fun h as rest hl => cs_S (mi := nX0_light) (pc := 45) (y := yJ16_bitCount) (idx := 215) dX0_light_45 q899 q900 q108 q901 hyJ16_bitCount pnJ16_bitCount hl) wdJ16_bitCount zJ16_bitCount (Nat.le_of_ble_eq_true rfl) (Nat.le_of_ble_eq_true rfl)
theorem eX0_light_48 : SiZ nX0_light 48 (i_aload 0 49) := s_aload_n dX0_light_48 rfl
theorem eX0_light_49 : SiZ nX0_light 49 (i_getf 11 [1] 52) := s_getf dX0_light_49 (fm_cons (⟨_, _, _, _, _, _, rfl, fkX0_39_1⟩) (fm_nil))
theorem eX0_light_52 : SiZ nX0_light 52 (i_getf 34 [2] 55) := s_getf dX0_light_52 (fm_cons (⟨_, _, _, _, _, _, rfl, fkX0_220_2⟩) (fm_nil))
theorem eX0_light_55 : SiZ nX0_light 55 (i_icmp (fun x y => x < y) 61 58) := s_icmp_lt dX0_light_55 (by decide)
theorem eX0_light_58 : SiZ nX0_light 58 (i_push (.int (-1000002)) 60) := s_ldc dX0_light_58 q777
theorem eX0_light_60 : SiZ nX0_light 60 i_iret := s_iret dX0_light_60 rfl
theorem eX0_light_61 : SiZ nX0_light 61 (i_aload 0 62) := s_aload_n dX0_light_61 rfl
theorem eX0_light_62 : ScZ nX0_light 62 (c_V 0 65 3 1 (Mt mX0_keep 3)) := e_V (mi := nX0_light) (mi' := nX0_keep) (len := 3) (fun h b as rest hk hl => cs_V (ci := 0) (mi := nX0_light) (pc := 62) (y := yX0_keep) (idx := 193) dX0_light_62 q787 q789 qs19 rfl hk hyX0_keep (sigC q790) pnX0_keep hl) wdX0_keep zX0_keep (Nat.le_of_ble_eq_true rfl) (Nat.le_of_ble_eq_true rfl)
theorem eX0_light_65 : SiZ nX0_light 65 (i_aload 0 66) := s_aload_n dX0_light_65 rfl
theorem eX0_light_66 : SiZ nX0_light 66 (i_getf 11 [1] 69) := s_getf dX0_light_66 (fm_cons (⟨_, _, _, _, _, _, rfl, fkX0_39_1⟩) (fm_nil))
theorem eX0_light_69 : SiZ nX0_light 69 (i_dup 70) := s_dup dX0_light_69
theorem eX0_light_70 : SiZ nX0_light 70 (i_getf 46 [2] 73) := s_getf dX0_light_70 (fm_cons (⟨_, _, _, _, _, _, rfl, fkX0_212_2⟩) (fm_nil))
theorem eX0_light_73 : SiZ nX0_light 73 (i_push (.int 1) 74) := s_iconst dX0_light_73 (by decide)
theorem eX0_light_74 : SiZ nX0_light 74 (i_iload 1 75) := s_iload_n dX0_light_74 rfl
theorem eX0_light_75 : SiZ nX0_light 75 (i_bin (fun x y => x <<< (y &&& 31)) 76) := s_ishl dX0_light_75
theorem eX0_light_76 : SiZ nX0_light 76 (i_bin (fun x y => x ^^^ y) 77) := s_ixor dX0_light_76
theorem eX0_light_77 : SiZ nX0_light 77 (i_putI 46 [2] 80) := s_putI dX0_light_77 (fm_cons (⟨_, _, _, _, _, _, rfl, ⟨fkX0_212_2, ⟨_, q179, Or.inl rfl⟩, Or.inl rfl⟩, rfl⟩) (fm_nil))
theorem eX0_light_80 : SiZ nX0_light 80 (i_aload 0 81) := s_aload_n dX0_light_80 rfl
theorem eX0_light_81 : SiZ nX0_light 81 (i_getf 11 [1] 84) := s_getf dX0_light_81 (fm_cons (⟨_, _, _, _, _, _, rfl, fkX0_39_1⟩) (fm_nil))
theorem eX0_light_84 : SiZ nX0_light 84 (i_getf 46 [2] 87) := s_getf dX0_light_84 (fm_cons (⟨_, _, _, _, _, _, rfl, fkX0_212_2⟩) (fm_nil))
theorem eX0_light_87 : SiZ nX0_light 87 i_iret := s_iret dX0_light_87 rfl
theorem aX0_light : ∀ x ∈ mX0_light.1, EnZ nX0_light x := fm_cons eX0_light_0 (fm_cons eX0_light_1 (fm_cons eX0_light_2 (fm_cons eX0_light_5 (fm_cons eX0_light_8 (fm_cons eX0_light_9 (fm_cons eX0_light_12 (fm_cons eX0_light_15 (fm_cons eX0_light_17 (fm_cons eX0_light_18 (fm_cons eX0_light_19 (fm_cons eX0_light_22 (fm_cons eX0_light_25 (fm_cons eX0_light_26 (fm_cons eX0_light_27 (fm_cons eX0_light_28 (fm_cons eX0_light_29 (fm_cons eX0_light_30 (fm_cons eX0_light_33 (fm_cons eX0_light_34 (fm_cons eX0_light_35 (fm_cons eX0_light_38 (fm_cons eX0_light_39 (fm_cons eX0_light_42 (fm_cons eX0_light_45 (fm_cons eX0_light_48 (fm_cons eX0_light_49 (fm_cons eX0_light_52 (fm_cons eX0_light_55 (fm_cons eX0_light_58 (fm_cons eX0_light_60 (fm_cons eX0_light_61 (fm_cons eX0_light_62 (fm_cons eX0_light_65 (fm_cons eX0_light_66 (fm_cons eX0_light_69 (fm_cons eX0_light_70 (fm_cons eX0_light_73 (fm_cons eX0_light_74 (fm_cons eX0_light_75 (fm_cons eX0_light_76 (fm_cons eX0_light_77 (fm_cons eX0_light_80 (fm_cons eX0_light_81 (fm_cons eX0_light_84 (fm_cons eX0_light_87 (fm_nil))))))))))))))))))))))))))))))))))))))))))))))
theorem zX0_light : SwZ nX0_light (Mt mX0_light 3) := wholeZ (mi := nX0_light) (cd := mX0_light) aX0_light rfl (HdZ.none rfl)
abbrev nX0_keepIt : MI := (cX0_keepIt, 3, (some (.int)), RX0, "keepIt", [], 6, 146)
theorem hyX0_keepIt : yX0_keepIt.cls ≠ "java/lang/invoke/MethodHandle" ∧ yX0_keepIt.cls ≠ "java/lang/invoke/VarHandle" := by decide +kernel
theorem pnX0_keepIt : (parseMethodDescriptor yX0_keepIt.desc).map (fun d => d.parameters.length) = some 2 := by decide +kernel
theorem wdX0_keepIt : CdW yX0_keepIt (nX0_keepIt) := ⟨Or.inl ⟨q908, rfl⟩, rfl, rfl, plainFor_of_name (by decide +kernel)⟩
theorem eX0_keepIt_0 : SiZ nX0_keepIt 0 (i_aload 0 1) := s_aload_n dX0_keepIt_0 rfl
theorem eX0_keepIt_1 : SiZ nX0_keepIt 1 (i_iload 1 2) := s_iload_n dX0_keepIt_1 rfl
theorem eX0_keepIt_2 : ScZ nX0_keepIt 2 (c_V 1 5 2 1 (Mt mX0_isBook 2)) := e_V (mi := nX0_keepIt) (mi' := nX0_isBook) (len := 3) (fun h b as rest hk hl => cs_V (ci := 0) (mi := nX0_keepIt) (pc := 2) (y := yX0_isBook) (idx := 206) dX0_keepIt_2 q892 q894 qs23 rfl hk hyX0_isBook (sigC q895) pnX0_isBook hl) wdX0_isBook zX0_isBook (Nat.le_of_ble_eq_true rfl) (Nat.le_of_ble_eq_true rfl)
theorem eX0_keepIt_5 : SiZ nX0_keepIt 5 (i_if (fun x => x = 0) 15 8) := s_if_eq dX0_keepIt_5 (by decide)
theorem eX0_keepIt_8 : SiZ nX0_keepIt 8 (i_iload 2 9) := s_iload_n dX0_keepIt_8 rfl
theorem eX0_keepIt_9 : ScZ nX0_keepIt 9 (c_S 1 12 1 (Mt mX0_isHalf 1)) := e_S (mi := nX0_keepIt) (mi' := nX0_isHalf) (len := 3) (fun h as rest hl => cs_S (mi := nX0_keepIt) (pc := 9) (y := yX0_isHalf) (idx := 209) dX0_keepIt_9 q896 q897 q77 q898 hyX0_isHalf pnX0_isHalf hl) wdX0_isHalf zX0_isHalf (Nat.le_of_ble_eq_true rfl) (Nat.le_of_ble_eq_true rfl)
theorem eX0_keepIt_12 : SiZ nX0_keepIt 12 (i_if (fun x => ¬ x = 0) 18 15) := s_if_ne dX0_keepIt_12 (by decide)
theorem eX0_keepIt_15 : SiZ nX0_keepIt 15 (i_push (.int (-1000001)) 17) := s_ldc dX0_keepIt_15 q355
theorem eX0_keepIt_17 : SiZ nX0_keepIt 17 i_iret := s_iret dX0_keepIt_17 rfl
theorem eX0_keepIt_18 : SiZ nX0_keepIt 18 (i_aload 0 19) := s_aload_n dX0_keepIt_18 rfl
theorem eX0_keepIt_19 : SiZ nX0_keepIt 19 (i_getf 11 [1] 22) := s_getf dX0_keepIt_19 (fm_cons (⟨_, _, _, _, _, _, rfl, fkX0_39_1⟩) (fm_nil))
theorem eX0_keepIt_22 : SiZ nX0_keepIt 22 (i_getf 48 [2] 25) := s_getf dX0_keepIt_22 (fm_cons (⟨_, _, _, _, _, _, rfl, fkX0_223_2⟩) (fm_nil))
theorem eX0_keepIt_25 : SiZ nX0_keepIt 25 (i_iload 1 26) := s_iload_n dX0_keepIt_25 rfl
theorem eX0_keepIt_26 : SiZ nX0_keepIt 26 (i_bin (fun x y => x >>> (y &&& 31)) 27) := s_ishr dX0_keepIt_26
theorem eX0_keepIt_27 : SiZ nX0_keepIt 27 (i_push (.int 1) 28) := s_iconst dX0_keepIt_27 (by decide)
theorem eX0_keepIt_28 : SiZ nX0_keepIt 28 (i_bin (fun x y => x &&& y) 29) := s_iand dX0_keepIt_28
theorem eX0_keepIt_29 : SiZ nX0_keepIt 29 (i_iload 2 30) := s_iload_n dX0_keepIt_29 rfl
theorem eX0_keepIt_30 : SiZ nX0_keepIt 30 (i_icmp (fun x y => ¬ x = y) 36 33) := s_icmp_ne dX0_keepIt_30 (by decide)
theorem eX0_keepIt_33 : SiZ nX0_keepIt 33 (i_push (.int (-1000002)) 35) := s_ldc dX0_keepIt_33 q777
theorem eX0_keepIt_35 : SiZ nX0_keepIt 35 i_iret := s_iret dX0_keepIt_35 rfl
theorem eX0_keepIt_36 : SiZ nX0_keepIt 36 (i_aload 0 37) := s_aload_n dX0_keepIt_36 rfl
theorem eX0_keepIt_37 : ScZ nX0_keepIt 37 (c_V 0 40 3 1 (Mt mX0_keep 3)) := e_V (mi := nX0_keepIt) (mi' := nX0_keep) (len := 3) (fun h b as rest hk hl => cs_V (ci := 0) (mi := nX0_keepIt) (pc := 37) (y := yX0_keep) (idx := 193) dX0_keepIt_37 q787 q789 qs19 rfl hk hyX0_keep (sigC q790) pnX0_keep hl) wdX0_keep zX0_keep (Nat.le_of_ble_eq_true rfl) (Nat.le_of_ble_eq_true rfl)
theorem eX0_keepIt_40 : SiZ nX0_keepIt 40 (i_aload 0 41) := s_aload_n dX0_keepIt_40 rfl
theorem eX0_keepIt_41 : SiZ nX0_keepIt 41 (i_getf 11 [1] 44) := s_getf dX0_keepIt_41 (fm_cons (⟨_, _, _, _, _, _, rfl, fkX0_39_1⟩) (fm_nil))
theorem eX0_keepIt_44 : SiZ nX0_keepIt 44 (i_dup 45) := s_dup dX0_keepIt_44
theorem eX0_keepIt_45 : SiZ nX0_keepIt 45 (i_getf 48 [2] 48) := s_getf dX0_keepIt_45 (fm_cons (⟨_, _, _, _, _, _, rfl, fkX0_223_2⟩) (fm_nil))
theorem eX0_keepIt_48 : SiZ nX0_keepIt 48 (i_push (.int 1) 49) := s_iconst dX0_keepIt_48 (by decide)
theorem eX0_keepIt_49 : SiZ nX0_keepIt 49 (i_iload 1 50) := s_iload_n dX0_keepIt_49 rfl
theorem eX0_keepIt_50 : SiZ nX0_keepIt 50 (i_bin (fun x y => x <<< (y &&& 31)) 51) := s_ishl dX0_keepIt_50
theorem eX0_keepIt_51 : SiZ nX0_keepIt 51 (i_bin (fun x y => x ^^^ y) 52) := s_ixor dX0_keepIt_51
theorem eX0_keepIt_52 : SiZ nX0_keepIt 52 (i_putI 48 [2] 55) := s_putI dX0_keepIt_52 (fm_cons (⟨_, _, _, _, _, _, rfl, ⟨fkX0_223_2, ⟨_, q181, Or.inl rfl⟩, Or.inl rfl⟩, rfl⟩) (fm_nil))
theorem eX0_keepIt_55 : SiZ nX0_keepIt 55 (i_aload 0 56) := s_aload_n dX0_keepIt_55 rfl
theorem eX0_keepIt_56 : SiZ nX0_keepIt 56 (i_getf 11 [1] 59) := s_getf dX0_keepIt_56 (fm_cons (⟨_, _, _, _, _, _, rfl, fkX0_39_1⟩) (fm_nil))
theorem eX0_keepIt_59 : SiZ nX0_keepIt 59 (i_getf 48 [2] 62) := s_getf dX0_keepIt_59 (fm_cons (⟨_, _, _, _, _, _, rfl, fkX0_223_2⟩) (fm_nil))
theorem eX0_keepIt_62 : SiZ nX0_keepIt 62 i_iret := s_iret dX0_keepIt_62 rfl
theorem aX0_keepIt : ∀ x ∈ mX0_keepIt.1, EnZ nX0_keepIt x := fm_cons eX0_keepIt_0 (fm_cons eX0_keepIt_1 (fm_cons eX0_keepIt_2 (fm_cons eX0_keepIt_5 (fm_cons eX0_keepIt_8 (fm_cons eX0_keepIt_9 (fm_cons eX0_keepIt_12 (fm_cons eX0_keepIt_15 (fm_cons eX0_keepIt_17 (fm_cons eX0_keepIt_18 (fm_cons eX0_keepIt_19 (fm_cons eX0_keepIt_22 (fm_cons eX0_keepIt_25 (fm_cons eX0_keepIt_26 (fm_cons eX0_keepIt_27 (fm_cons eX0_keepIt_28 (fm_cons eX0_keepIt_29 (fm_cons eX0_keepIt_30 (fm_cons eX0_keepIt_33 (fm_cons eX0_keepIt_35 (fm_cons eX0_keepIt_36 (fm_cons eX0_keepIt_37 (fm_cons eX0_keepIt_40 (fm_cons eX0_keepIt_41 (fm_cons eX0_keepIt_44 (fm_cons eX0_keepIt_45 (fm_cons eX0_keepIt_48 (fm_cons eX0_keepIt_49 (fm_cons eX0_keepIt_50 (fm_cons eX0_keepIt_51 (fm_cons eX0_keepIt_52 (fm_cons eX0_keepIt_55 (fm_cons eX0_keepIt_56 (fm_cons eX0_keepIt_59 (fm_cons eX0_keepIt_62 (fm_nil)))))))))))))))))))))))))))))))))))
theorem zX0_keepIt : SwZ nX0_keepIt (Mt mX0_keepIt 3) := wholeZ (mi := nX0_keepIt) (cd := mX0_keepIt) aX0_keepIt rfl (HdZ.none rfl)
abbrev nX0_change : MI := (cX0_change, 4, (some (.int)), RX0, "change", [], 6, 146)
theorem hyX0_change : yX0_change.cls ≠ "java/lang/invoke/MethodHandle" ∧ yX0_change.cls ≠ "java/lang/invoke/VarHandle" := by decide +kernel
theorem pnX0_change : (parseMethodDescriptor yX0_change.desc).map (fun d => d.parameters.length) = some 2 := by decide +kernel
theorem wdX0_change : CdW yX0_change (nX0_change) := ⟨Or.inl ⟨q912, rfl⟩, rfl, rfl, plainFor_of_name (by decide +kernel)⟩
theorem eX0_change_0 : SiZ nX0_change 0 (i_aload 0 1) := s_aload_n dX0_change_0 rfl
theorem eX0_change_1 : SiZ nX0_change 1 (i_iload 1 2) := s_iload_n dX0_change_1 rfl
theorem eX0_change_2 : ScZ nX0_change 2 (c_V 1 5 2 1 (Mt mX0_isBook 2)) := e_V (mi := nX0_change) (mi' := nX0_isBook) (len := 3) (fun h b as rest hk hl => cs_V (ci := 0) (mi := nX0_change) (pc := 2) (y := yX0_isBook) (idx := 206) dX0_change_2 q892 q894 qs23 rfl hk hyX0_isBook (sigC q895) pnX0_isBook hl) wdX0_isBook zX0_isBook (Nat.le_of_ble_eq_true rfl) (Nat.le_of_ble_eq_true rfl)
theorem eX0_change_5 : SiZ nX0_change 5 (i_if (fun x => x = 0) 21 8) := s_if_eq dX0_change_5 (by decide)
theorem eX0_change_8 : SiZ nX0_change 8 (i_aload 0 9) := s_aload_n dX0_change_8 rfl
theorem eX0_change_9 : SiZ nX0_change 9 (i_iload 2 10) := s_iload_n dX0_change_9 rfl
theorem eX0_change_10 : ScZ nX0_change 10 (c_V 1 13 2 1 (Mt mX0_isBook 2)) := e_V (mi := nX0_change) (mi' := nX0_isBook) (len := 3) (fun h b as rest hk hl => cs_V (ci := 0) (mi := nX0_change) (pc := 10) (y := yX0_isBook) (idx := 206) dX0_change_10 q892 q894 qs23 rfl hk hyX0_isBook (sigC q895) pnX0_isBook hl) wdX0_isBook zX0_isBook (Nat.le_of_ble_eq_true rfl) (Nat.le_of_ble_eq_true rfl)
theorem eX0_change_13 : SiZ nX0_change 13 (i_if (fun x => x = 0) 21 16) := s_if_eq dX0_change_13 (by decide)
theorem eX0_change_16 : SiZ nX0_change 16 (i_iload 1 17) := s_iload_n dX0_change_16 rfl
theorem eX0_change_17 : SiZ nX0_change 17 (i_iload 2 18) := s_iload_n dX0_change_17 rfl
theorem eX0_change_18 : SiZ nX0_change 18 (i_icmp (fun x y => ¬ x = y) 24 21) := s_icmp_ne dX0_change_18 (by decide)
theorem eX0_change_21 : SiZ nX0_change 21 (i_push (.int (-1000001)) 23) := s_ldc dX0_change_21 q355
theorem eX0_change_23 : SiZ nX0_change 23 i_iret := s_iret dX0_change_23 rfl
theorem eX0_change_24 : SiZ nX0_change 24 (i_aload 0 25) := s_aload_n dX0_change_24 rfl
theorem eX0_change_25 : ScZ nX0_change 25 (c_V 0 28 3 1 (Mt mX0_keep 3)) := e_V (mi := nX0_change) (mi' := nX0_keep) (len := 3) (fun h b as rest hk hl => cs_V (ci := 0) (mi := nX0_change) (pc := 25) (y := yX0_keep) (idx := 193) dX0_change_25 q787 q789 qs19 rfl hk hyX0_keep (sigC q790) pnX0_keep hl) wdX0_keep zX0_keep (Nat.le_of_ble_eq_true rfl) (Nat.le_of_ble_eq_true rfl)
theorem eX0_change_28 : SiZ nX0_change 28 (i_aload 0 29) := s_aload_n dX0_change_28 rfl
theorem eX0_change_29 : SiZ nX0_change 29 (i_getf 11 [1] 32) := s_getf dX0_change_29 (fm_cons (⟨_, _, _, _, _, _, rfl, fkX0_39_1⟩) (fm_nil))
theorem eX0_change_32 : SiZ nX0_change 32 (i_getf 45 [2] 35) := s_getf dX0_change_32 (fm_cons (⟨_, _, _, _, _, _, rfl, fkX0_226_2⟩) (fm_nil))
theorem eX0_change_35 : SiZ nX0_change 35 (i_iload 1 36) := s_iload_n dX0_change_35 rfl
theorem eX0_change_36 : SiZ nX0_change 36 (i_iald 51 37) := s_ald (j := 0) (by decide) (fun _ => rfl) dX0_change_36 (Or.inl ⟨rfl, rfl⟩)
theorem eX0_change_37 : SiZ nX0_change 37 (i_istore 3 38) := s_istore_n dX0_change_37 rfl
theorem eX0_change_38 : SiZ nX0_change 38 (i_aload 0 39) := s_aload_n dX0_change_38 rfl
theorem eX0_change_39 : SiZ nX0_change 39 (i_getf 11 [1] 42) := s_getf dX0_change_39 (fm_cons (⟨_, _, _, _, _, _, rfl, fkX0_39_1⟩) (fm_nil))
theorem eX0_change_42 : SiZ nX0_change 42 (i_iload 1 43) := s_iload_n dX0_change_42 rfl
theorem eX0_change_43 : SiZ nX0_change 43 (i_aload 0 44) := s_aload_n dX0_change_43 rfl
theorem eX0_change_44 : SiZ nX0_change 44 (i_getf 11 [1] 47) := s_getf dX0_change_44 (fm_cons (⟨_, _, _, _, _, _, rfl, fkX0_39_1⟩) (fm_nil))
theorem eX0_change_47 : SiZ nX0_change 47 (i_getf 45 [2] 50) := s_getf dX0_change_47 (fm_cons (⟨_, _, _, _, _, _, rfl, fkX0_226_2⟩) (fm_nil))
theorem eX0_change_50 : SiZ nX0_change 50 (i_iload 2 51) := s_iload_n dX0_change_50 rfl
theorem eX0_change_51 : SiZ nX0_change 51 (i_iald 51 52) := s_ald (j := 0) (by decide) (fun _ => rfl) dX0_change_51 (Or.inl ⟨rfl, rfl⟩)
theorem eX0_change_52 : ScZ nX0_change 52 (c_V 2 55 3 2 (Mt mX1_puts 3)) := e_V (mi := nX0_change) (mi' := nX1_puts) (len := 3) (fun h b as rest hk hl => cs_V (ci := 1) (mi := nX0_change) (pc := 52) (y := yX1_puts) (idx := 228) dX0_change_52 q913 q616 q617 rfl hk hyX1_puts (sigC q618) pnX1_puts hl) wdX1_puts zX1_puts (Nat.le_of_ble_eq_true rfl) (Nat.le_of_ble_eq_true rfl)
theorem eX0_change_55 : SiZ nX0_change 55 (i_aload 0 56) := s_aload_n dX0_change_55 rfl
theorem eX0_change_56 : SiZ nX0_change 56 (i_getf 11 [1] 59) := s_getf dX0_change_56 (fm_cons (⟨_, _, _, _, _, _, rfl, fkX0_39_1⟩) (fm_nil))
theorem eX0_change_59 : SiZ nX0_change 59 (i_iload 2 60) := s_iload_n dX0_change_59 rfl
theorem eX0_change_60 : SiZ nX0_change 60 (i_iload 3 61) := s_iload_n dX0_change_60 rfl
theorem eX0_change_61 : ScZ nX0_change 61 (c_V 2 64 3 2 (Mt mX1_puts 3)) := e_V (mi := nX0_change) (mi' := nX1_puts) (len := 3) (fun h b as rest hk hl => cs_V (ci := 1) (mi := nX0_change) (pc := 61) (y := yX1_puts) (idx := 228) dX0_change_61 q913 q616 q617 rfl hk hyX1_puts (sigC q618) pnX1_puts hl) wdX1_puts zX1_puts (Nat.le_of_ble_eq_true rfl) (Nat.le_of_ble_eq_true rfl)
theorem eX0_change_64 : SiZ nX0_change 64 (i_aload 0 65) := s_aload_n dX0_change_64 rfl
theorem eX0_change_65 : SiZ nX0_change 65 (i_getf 11 [1] 68) := s_getf dX0_change_65 (fm_cons (⟨_, _, _, _, _, _, rfl, fkX0_39_1⟩) (fm_nil))
theorem eX0_change_68 : SiZ nX0_change 68 (i_getf 45 [2] 71) := s_getf dX0_change_68 (fm_cons (⟨_, _, _, _, _, _, rfl, fkX0_226_2⟩) (fm_nil))
theorem eX0_change_71 : SiZ nX0_change 71 (i_iload 1 72) := s_iload_n dX0_change_71 rfl
theorem eX0_change_72 : SiZ nX0_change 72 (i_iald 51 73) := s_ald (j := 0) (by decide) (fun _ => rfl) dX0_change_72 (Or.inl ⟨rfl, rfl⟩)
theorem eX0_change_73 : SiZ nX0_change 73 i_iret := s_iret dX0_change_73 rfl
theorem aX0_change : ∀ x ∈ mX0_change.1, EnZ nX0_change x := fm_cons eX0_change_0 (fm_cons eX0_change_1 (fm_cons eX0_change_2 (fm_cons eX0_change_5 (fm_cons eX0_change_8 (fm_cons eX0_change_9 (fm_cons eX0_change_10 (fm_cons eX0_change_13 (fm_cons eX0_change_16 (fm_cons eX0_change_17 (fm_cons eX0_change_18 (fm_cons eX0_change_21 (fm_cons eX0_change_23 (fm_cons eX0_change_24 (fm_cons eX0_change_25 (fm_cons eX0_change_28 (fm_cons eX0_change_29 (fm_cons eX0_change_32 (fm_cons eX0_change_35 (fm_cons eX0_change_36 (fm_cons eX0_change_37 (fm_cons eX0_change_38 (fm_cons eX0_change_39 (fm_cons eX0_change_42 (fm_cons eX0_change_43 (fm_cons eX0_change_44 (fm_cons eX0_change_47 (fm_cons eX0_change_50 (fm_cons eX0_change_51 (fm_cons eX0_change_52 (fm_cons eX0_change_55 (fm_cons eX0_change_56 (fm_cons eX0_change_59 (fm_cons eX0_change_60 (fm_cons eX0_change_61 (fm_cons eX0_change_64 (fm_cons eX0_change_65 (fm_cons eX0_change_68 (fm_cons eX0_change_71 (fm_cons eX0_change_72 (fm_cons eX0_change_73 (fm_nil)))))))))))))))))))))))))))))))))))))))))
theorem zX0_change : SwZ nX0_change (Mt mX0_change 4) := wholeZ (mi := nX0_change) (cd := mX0_change) aX0_change rfl (HdZ.none rfl)
abbrev nX0_isFish : MI := (cX0_isFish, 2, (some (.boolean)), RX0, "isFish", [], 2, 48)
theorem hyX0_isFish : yX0_isFish.cls ≠ "java/lang/invoke/MethodHandle" ∧ yX0_isFish.cls ≠ "java/lang/invoke/VarHandle" := by decide +kernel
theorem pnX0_isFish : (parseMethodDescriptor yX0_isFish.desc).map (fun d => d.parameters.length) = some 1 := by decide +kernel
theorem wdX0_isFish : CdW yX0_isFish (nX0_isFish) := ⟨Or.inl ⟨q921, rfl⟩, rfl, rfl, plainFor_of_name (by decide +kernel)⟩
theorem eX0_isFish_0 : SiZ nX0_isFish 0 (i_iload 1 1) := s_iload_n dX0_isFish_0 rfl
theorem eX0_isFish_1 : SiZ nX0_isFish 1 (i_i2l 2) := s_i2l dX0_isFish_1
theorem eX0_isFish_2 : SiZ nX0_isFish 2 (i_push (.long 0) 3) := s_lconst dX0_isFish_2 (by decide)
theorem eX0_isFish_3 : SiZ nX0_isFish 3 (i_aload 0 4) := s_aload_n dX0_isFish_3 rfl
theorem eX0_isFish_4 : SiZ nX0_isFish 4 (i_getf 11 [1] 7) := s_getf dX0_isFish_4 (fm_cons (⟨_, _, _, _, _, _, rfl, fkX0_39_1⟩) (fm_nil))
theorem eX0_isFish_7 : ScZ nX0_isFish 7 (c_V 0 10 1 2 (Mt mX1_many 1)) := e_V (mi := nX0_isFish) (mi' := nX1_many) (len := 3) (fun h b as rest hk hl => cs_V (ci := 1) (mi := nX0_isFish) (pc := 7) (y := yX1_many) (idx := 169) dX0_isFish_7 q768 q680 q681 rfl hk hyX1_many (sigC q682) pnX1_many hl) wdX1_many zX1_many (Nat.le_of_ble_eq_true rfl) (Nat.le_of_ble_eq_true rfl)
theorem eX0_isFish_10 : SiZ nX0_isFish 10 (i_push (.int 1) 11) := s_iconst dX0_isFish_10 (by decide)
theorem eX0_isFish_11 : SiZ nX0_isFish 11 (i_bin (fun x y => x - y) 12) := s_isub dX0_isFish_11
theorem eX0_isFish_12 : SiZ nX0_isFish 12 (i_i2l 13) := s_i2l dX0_isFish_12
theorem eX0_isFish_13 : ScZ nX0_isFish 13 (c_S 3 16 6 (Mt mX0_isIn 6)) := e_S (mi := nX0_isFish) (mi' := nX0_isIn) (len := 3) (fun h as rest hl => cs_S (mi := nX0_isFish) (pc := 13) (y := yX0_isIn) (idx := 86) dX0_isFish_13 q351 q352 q77 q353 hyX0_isIn pnX0_isIn hl) wdX0_isIn zX0_isIn (Nat.le_of_ble_eq_true rfl) (Nat.le_of_ble_eq_true rfl)
theorem eX0_isFish_16 : SiZ nX0_isFish 16 i_zret := s_zret dX0_isFish_16 rfl
theorem aX0_isFish : ∀ x ∈ mX0_isFish.1, EnZ nX0_isFish x := fm_cons eX0_isFish_0 (fm_cons eX0_isFish_1 (fm_cons eX0_isFish_2 (fm_cons eX0_isFish_3 (fm_cons eX0_isFish_4 (fm_cons eX0_isFish_7 (fm_cons eX0_isFish_10 (fm_cons eX0_isFish_11 (fm_cons eX0_isFish_12 (fm_cons eX0_isFish_13 (fm_cons eX0_isFish_16 (fm_nil)))))))))))
theorem zX0_isFish : SwZ nX0_isFish (Mt mX0_isFish 2) := wholeZ (mi := nX0_isFish) (cd := mX0_isFish) aX0_isFish rfl (HdZ.none rfl)
abbrev nX0_move : MI := (cX0_move, 4, (some (.int)), RX0, "move", [], 6, 146)
theorem hyX0_move : yX0_move.cls ≠ "java/lang/invoke/MethodHandle" ∧ yX0_move.cls ≠ "java/lang/invoke/VarHandle" := by decide +kernel
theorem pnX0_move : (parseMethodDescriptor yX0_move.desc).map (fun d => d.parameters.length) = some 2 := by decide +kernel
theorem wdX0_move : CdW yX0_move (nX0_move) := ⟨Or.inl ⟨q917, rfl⟩, rfl, rfl, plainFor_of_name (by decide +kernel)⟩
theorem eX0_move_0 : SiZ nX0_move 0 (i_aload 0 1) := s_aload_n dX0_move_0 rfl
theorem eX0_move_1 : SiZ nX0_move 1 (i_iload 1 2) := s_iload_n dX0_move_1 rfl
theorem eX0_move_2 : ScZ nX0_move 2 (c_V 1 5 2 1 (Mt mX0_isFish 2)) := e_V (mi := nX0_move) (mi' := nX0_isFish) (len := 3) (fun h b as rest hk hl => cs_V (ci := 0) (mi := nX0_move) (pc := 2) (y := yX0_isFish) (idx := 231) dX0_move_2 q918 q920 qs24 rfl hk hyX0_isFish (sigC q921) pnX0_isFish hl) wdX0_isFish zX0_isFish (Nat.le_of_ble_eq_true rfl) (Nat.le_of_ble_eq_true rfl)
theorem eX0_move_5 : SiZ nX0_move 5 (i_if (fun x => x = 0) 16 8) := s_if_eq dX0_move_5 (by decide)
theorem eX0_move_8 : SiZ nX0_move 8 (i_aload 0 9) := s_aload_n dX0_move_8 rfl
theorem eX0_move_9 : SiZ nX0_move 9 (i_iload 2 10) := s_iload_n dX0_move_9 rfl
theorem eX0_move_10 : ScZ nX0_move 10 (c_V 1 13 2 1 (Mt mX0_isBook 2)) := e_V (mi := nX0_move) (mi' := nX0_isBook) (len := 3) (fun h b as rest hk hl => cs_V (ci := 0) (mi := nX0_move) (pc := 10) (y := yX0_isBook) (idx := 206) dX0_move_10 q892 q894 qs23 rfl hk hyX0_isBook (sigC q895) pnX0_isBook hl) wdX0_isBook zX0_isBook (Nat.le_of_ble_eq_true rfl) (Nat.le_of_ble_eq_true rfl)
theorem eX0_move_13 : SiZ nX0_move 13 (i_if (fun x => ¬ x = 0) 19 16) := s_if_ne dX0_move_13 (by decide)
theorem eX0_move_16 : SiZ nX0_move 16 (i_push (.int (-1000001)) 18) := s_ldc dX0_move_16 q355
theorem eX0_move_18 : SiZ nX0_move 18 i_iret := s_iret dX0_move_18 rfl
theorem eX0_move_19 : SiZ nX0_move 19 (i_aload 0 20) := s_aload_n dX0_move_19 rfl
theorem eX0_move_20 : SiZ nX0_move 20 (i_getf 11 [1] 23) := s_getf dX0_move_20 (fm_cons (⟨_, _, _, _, _, _, rfl, fkX0_39_1⟩) (fm_nil))
theorem eX0_move_23 : SiZ nX0_move 23 (i_iload 1 24) := s_iload_n dX0_move_23 rfl
theorem eX0_move_24 : ScZ nX0_move 24 (c_V 1 27 2 2 (Mt mX1_isCaught 2)) := e_V (mi := nX0_move) (mi' := nX1_isCaught) (len := 3) (fun h b as rest hk hl => cs_V (ci := 1) (mi := nX0_move) (pc := 24) (y := yX1_isCaught) (idx := 234) dX0_move_24 q922 q797 q798 rfl hk hyX1_isCaught (sigC q799) pnX1_isCaught hl) wdX1_isCaught zX1_isCaught (Nat.le_of_ble_eq_true rfl) (Nat.le_of_ble_eq_true rfl)
theorem eX0_move_27 : SiZ nX0_move 27 (i_if (fun x => ¬ x = 0) 43 30) := s_if_ne dX0_move_27 (by decide)
theorem eX0_move_30 : SiZ nX0_move 30 (i_aload 0 31) := s_aload_n dX0_move_30 rfl
theorem eX0_move_31 : SiZ nX0_move 31 (i_getf 11 [1] 34) := s_getf dX0_move_31 (fm_cons (⟨_, _, _, _, _, _, rfl, fkX0_39_1⟩) (fm_nil))
theorem eX0_move_34 : SiZ nX0_move 34 (i_getf 53 [2] 37) := s_getf dX0_move_34 (fm_cons (⟨_, _, _, _, _, _, rfl, fkX0_237_2⟩) (fm_nil))
theorem eX0_move_37 : SiZ nX0_move 37 (i_iload 1 38) := s_iload_n dX0_move_37 rfl
theorem eX0_move_38 : SiZ nX0_move 38 (i_iald 51 39) := s_ald (j := 0) (by decide) (fun _ => rfl) dX0_move_38 (Or.inl ⟨rfl, rfl⟩)
theorem eX0_move_39 : SiZ nX0_move 39 (i_iload 2 40) := s_iload_n dX0_move_39 rfl
theorem eX0_move_40 : SiZ nX0_move 40 (i_icmp (fun x y => ¬ x = y) 46 43) := s_icmp_ne dX0_move_40 (by decide)
theorem eX0_move_43 : SiZ nX0_move 43 (i_push (.int (-1000002)) 45) := s_ldc dX0_move_43 q777
theorem eX0_move_45 : SiZ nX0_move 45 i_iret := s_iret dX0_move_45 rfl
theorem eX0_move_46 : SiZ nX0_move 46 (i_aload 0 47) := s_aload_n dX0_move_46 rfl
theorem eX0_move_47 : ScZ nX0_move 47 (c_V 0 50 3 1 (Mt mX0_keep 3)) := e_V (mi := nX0_move) (mi' := nX0_keep) (len := 3) (fun h b as rest hk hl => cs_V (ci := 0) (mi := nX0_move) (pc := 47) (y := yX0_keep) (idx := 193) dX0_move_47 q787 q789 qs19 rfl hk hyX0_keep (sigC q790) pnX0_keep hl) wdX0_keep zX0_keep (Nat.le_of_ble_eq_true rfl) (Nat.le_of_ble_eq_true rfl)
theorem eX0_move_50 : SiZ nX0_move 50 (i_aload 0 51) := s_aload_n dX0_move_50 rfl
theorem eX0_move_51 : SiZ nX0_move 51 (i_getf 11 [1] 54) := s_getf dX0_move_51 (fm_cons (⟨_, _, _, _, _, _, rfl, fkX0_39_1⟩) (fm_nil))
theorem eX0_move_54 : SiZ nX0_move 54 (i_getf 53 [2] 57) := s_getf dX0_move_54 (fm_cons (⟨_, _, _, _, _, _, rfl, fkX0_237_2⟩) (fm_nil))
theorem eX0_move_57 : SiZ nX0_move 57 (i_iload 1 58) := s_iload_n dX0_move_57 rfl
theorem eX0_move_58 : SiZ nX0_move 58 (i_iald 51 59) := s_ald (j := 0) (by decide) (fun _ => rfl) dX0_move_58 (Or.inl ⟨rfl, rfl⟩)
theorem eX0_move_59 : SiZ nX0_move 59 (i_istore 3 60) := s_istore_n dX0_move_59 rfl
theorem eX0_move_60 : SiZ nX0_move 60 (i_aload 0 61) := s_aload_n dX0_move_60 rfl
theorem eX0_move_61 : SiZ nX0_move 61 (i_getf 11 [1] 64) := s_getf dX0_move_61 (fm_cons (⟨_, _, _, _, _, _, rfl, fkX0_39_1⟩) (fm_nil))
theorem eX0_move_64 : SiZ nX0_move 64 (i_getf 53 [2] 67) := s_getf dX0_move_64 (fm_cons (⟨_, _, _, _, _, _, rfl, fkX0_237_2⟩) (fm_nil))
theorem eX0_move_67 : SiZ nX0_move 67 (i_iload 1 68) := s_iload_n dX0_move_67 rfl
theorem eX0_move_68 : SiZ nX0_move 68 (i_iload 2 69) := s_iload_n dX0_move_68 rfl
theorem eX0_move_69 : SiZ nX0_move 69 (i_iast 51 (fun x => x) 70) := s_ast (j := 0) (by decide) (fun _ => rfl) dX0_move_69 (Or.inl ⟨rfl, rfl, rfl⟩)
theorem eX0_move_70 : SiZ nX0_move 70 (i_iload 3 71) := s_iload_n dX0_move_70 rfl
theorem eX0_move_71 : SiZ nX0_move 71 i_iret := s_iret dX0_move_71 rfl
theorem aX0_move : ∀ x ∈ mX0_move.1, EnZ nX0_move x := fm_cons eX0_move_0 (fm_cons eX0_move_1 (fm_cons eX0_move_2 (fm_cons eX0_move_5 (fm_cons eX0_move_8 (fm_cons eX0_move_9 (fm_cons eX0_move_10 (fm_cons eX0_move_13 (fm_cons eX0_move_16 (fm_cons eX0_move_18 (fm_cons eX0_move_19 (fm_cons eX0_move_20 (fm_cons eX0_move_23 (fm_cons eX0_move_24 (fm_cons eX0_move_27 (fm_cons eX0_move_30 (fm_cons eX0_move_31 (fm_cons eX0_move_34 (fm_cons eX0_move_37 (fm_cons eX0_move_38 (fm_cons eX0_move_39 (fm_cons eX0_move_40 (fm_cons eX0_move_43 (fm_cons eX0_move_45 (fm_cons eX0_move_46 (fm_cons eX0_move_47 (fm_cons eX0_move_50 (fm_cons eX0_move_51 (fm_cons eX0_move_54 (fm_cons eX0_move_57 (fm_cons eX0_move_58 (fm_cons eX0_move_59 (fm_cons eX0_move_60 (fm_cons eX0_move_61 (fm_cons eX0_move_64 (fm_cons eX0_move_67 (fm_cons eX0_move_68 (fm_cons eX0_move_69 (fm_cons eX0_move_70 (fm_cons eX0_move_71 (fm_nil))))))))))))))))))))))))))))))))))))))))
theorem zX0_move : SwZ nX0_move (Mt mX0_move 4) := wholeZ (mi := nX0_move) (cd := mX0_move) aX0_move rfl (HdZ.none rfl)
abbrev nX0_catchIt : MI := (cX0_catchIt, 2, (some (.int)), RX0, "catchIt", [], 6, 146)
theorem hyX0_catchIt : yX0_catchIt.cls ≠ "java/lang/invoke/MethodHandle" ∧ yX0_catchIt.cls ≠ "java/lang/invoke/VarHandle" := by decide +kernel
theorem pnX0_catchIt : (parseMethodDescriptor yX0_catchIt.desc).map (fun d => d.parameters.length) = some 1 := by decide +kernel
theorem wdX0_catchIt : CdW yX0_catchIt (nX0_catchIt) := ⟨Or.inl ⟨q926, rfl⟩, rfl, rfl, plainFor_of_name (by decide +kernel)⟩
theorem eX0_catchIt_0 : SiZ nX0_catchIt 0 (i_aload 0 1) := s_aload_n dX0_catchIt_0 rfl
theorem eX0_catchIt_1 : SiZ nX0_catchIt 1 (i_iload 1 2) := s_iload_n dX0_catchIt_1 rfl
theorem eX0_catchIt_2 : ScZ nX0_catchIt 2 (c_V 1 5 2 1 (Mt mX0_isFish 2)) := e_V (mi := nX0_catchIt) (mi' := nX0_isFish) (len := 3) (fun h b as rest hk hl => cs_V (ci := 0) (mi := nX0_catchIt) (pc := 2) (y := yX0_isFish) (idx := 231) dX0_catchIt_2 q918 q920 qs24 rfl hk hyX0_isFish (sigC q921) pnX0_isFish hl) wdX0_isFish zX0_isFish (Nat.le_of_ble_eq_true rfl) (Nat.le_of_ble_eq_true rfl)
theorem eX0_catchIt_5 : SiZ nX0_catchIt 5 (i_if (fun x => ¬ x = 0) 11 8) := s_if_ne dX0_catchIt_5 (by decide)
theorem eX0_catchIt_8 : SiZ nX0_catchIt 8 (i_push (.int (-1000001)) 10) := s_ldc dX0_catchIt_8 q355
theorem eX0_catchIt_10 : SiZ nX0_catchIt 10 i_iret := s_iret dX0_catchIt_10 rfl
theorem eX0_catchIt_11 : SiZ nX0_catchIt 11 (i_aload 0 12) := s_aload_n dX0_catchIt_11 rfl
theorem eX0_catchIt_12 : SiZ nX0_catchIt 12 (i_getf 11 [1] 15) := s_getf dX0_catchIt_12 (fm_cons (⟨_, _, _, _, _, _, rfl, fkX0_39_1⟩) (fm_nil))
theorem eX0_catchIt_15 : SiZ nX0_catchIt 15 (i_iload 1 16) := s_iload_n dX0_catchIt_15 rfl
theorem eX0_catchIt_16 : ScZ nX0_catchIt 16 (c_V 1 19 2 2 (Mt mX1_isCaught 2)) := e_V (mi := nX0_catchIt) (mi' := nX1_isCaught) (len := 3) (fun h b as rest hk hl => cs_V (ci := 1) (mi := nX0_catchIt) (pc := 16) (y := yX1_isCaught) (idx := 234) dX0_catchIt_16 q922 q797 q798 rfl hk hyX1_isCaught (sigC q799) pnX1_isCaught hl) wdX1_isCaught zX1_isCaught (Nat.le_of_ble_eq_true rfl) (Nat.le_of_ble_eq_true rfl)
theorem eX0_catchIt_19 : SiZ nX0_catchIt 19 (i_if (fun x => x = 0) 25 22) := s_if_eq dX0_catchIt_19 (by decide)
theorem eX0_catchIt_22 : SiZ nX0_catchIt 22 (i_push (.int (-1000002)) 24) := s_ldc dX0_catchIt_22 q777
theorem eX0_catchIt_24 : SiZ nX0_catchIt 24 i_iret := s_iret dX0_catchIt_24 rfl
theorem eX0_catchIt_25 : SiZ nX0_catchIt 25 (i_aload 0 26) := s_aload_n dX0_catchIt_25 rfl
theorem eX0_catchIt_26 : ScZ nX0_catchIt 26 (c_V 0 29 3 1 (Mt mX0_keep 3)) := e_V (mi := nX0_catchIt) (mi' := nX0_keep) (len := 3) (fun h b as rest hk hl => cs_V (ci := 0) (mi := nX0_catchIt) (pc := 26) (y := yX0_keep) (idx := 193) dX0_catchIt_26 q787 q789 qs19 rfl hk hyX0_keep (sigC q790) pnX0_keep hl) wdX0_keep zX0_keep (Nat.le_of_ble_eq_true rfl) (Nat.le_of_ble_eq_true rfl)
theorem eX0_catchIt_29 : SiZ nX0_catchIt 29 (i_aload 0 30) := s_aload_n dX0_catchIt_29 rfl
theorem eX0_catchIt_30 : SiZ nX0_catchIt 30 (i_getf 11 [1] 33) := s_getf dX0_catchIt_30 (fm_cons (⟨_, _, _, _, _, _, rfl, fkX0_39_1⟩) (fm_nil))
theorem eX0_catchIt_33 : SiZ nX0_catchIt 33 (i_dup 34) := s_dup dX0_catchIt_33
theorem eX0_catchIt_34 : SiZ nX0_catchIt 34 (i_getf 56 [2] 37) := s_getf dX0_catchIt_34 (fm_cons (⟨_, _, _, _, _, _, rfl, fkX0_240_2⟩) (fm_nil))
theorem eX0_catchIt_37 : SiZ nX0_catchIt 37 (i_push (.int 1) 38) := s_iconst dX0_catchIt_37 (by decide)
theorem eX0_catchIt_38 : SiZ nX0_catchIt 38 (i_iload 1 39) := s_iload_n dX0_catchIt_38 rfl
theorem eX0_catchIt_39 : SiZ nX0_catchIt 39 (i_bin (fun x y => x <<< (y &&& 31)) 40) := s_ishl dX0_catchIt_39
theorem eX0_catchIt_40 : SiZ nX0_catchIt 40 (i_bin (fun x y => x ||| y) 41) := s_ior dX0_catchIt_40
theorem eX0_catchIt_41 : SiZ nX0_catchIt 41 (i_putI 56 [2] 44) := s_putI dX0_catchIt_41 (fm_cons (⟨_, _, _, _, _, _, rfl, ⟨fkX0_240_2, ⟨_, q193, Or.inl rfl⟩, Or.inl rfl⟩, rfl⟩) (fm_nil))
theorem eX0_catchIt_44 : SiZ nX0_catchIt 44 (i_aload 0 45) := s_aload_n dX0_catchIt_44 rfl
theorem eX0_catchIt_45 : SiZ nX0_catchIt 45 (i_getf 11 [1] 48) := s_getf dX0_catchIt_45 (fm_cons (⟨_, _, _, _, _, _, rfl, fkX0_39_1⟩) (fm_nil))
theorem eX0_catchIt_48 : SiZ nX0_catchIt 48 (i_getf 56 [2] 51) := s_getf dX0_catchIt_48 (fm_cons (⟨_, _, _, _, _, _, rfl, fkX0_240_2⟩) (fm_nil))
theorem eX0_catchIt_51 : SiZ nX0_catchIt 51 i_iret := s_iret dX0_catchIt_51 rfl
theorem aX0_catchIt : ∀ x ∈ mX0_catchIt.1, EnZ nX0_catchIt x := fm_cons eX0_catchIt_0 (fm_cons eX0_catchIt_1 (fm_cons eX0_catchIt_2 (fm_cons eX0_catchIt_5 (fm_cons eX0_catchIt_8 (fm_cons eX0_catchIt_10 (fm_cons eX0_catchIt_11 (fm_cons eX0_catchIt_12 (fm_cons eX0_catchIt_15 (fm_cons eX0_catchIt_16 (fm_cons eX0_catchIt_19 (fm_cons eX0_catchIt_22 (fm_cons eX0_catchIt_24 (fm_cons eX0_catchIt_25 (fm_cons eX0_catchIt_26 (fm_cons eX0_catchIt_29 (fm_cons eX0_catchIt_30 (fm_cons eX0_catchIt_33 (fm_cons eX0_catchIt_34 (fm_cons eX0_catchIt_37 (fm_cons eX0_catchIt_38 (fm_cons eX0_catchIt_39 (fm_cons eX0_catchIt_40 (fm_cons eX0_catchIt_41 (fm_cons eX0_catchIt_44 (fm_cons eX0_catchIt_45 (fm_cons eX0_catchIt_48 (fm_cons eX0_catchIt_51 (fm_nil))))))))))))))))))))))))))))
theorem zX0_catchIt : SwZ nX0_catchIt (Mt mX0_catchIt 2) := wholeZ (mi := nX0_catchIt) (cd := mX0_catchIt) aX0_catchIt rfl (HdZ.none rfl)
abbrev nX0_fishAt : MI := (cX0_fishAt, 4, (some (.int)), RX0, "fishAt", [], 2, 48)
theorem hyX0_fishAt : yX0_fishAt.cls ≠ "java/lang/invoke/MethodHandle" ∧ yX0_fishAt.cls ≠ "java/lang/invoke/VarHandle" := by decide +kernel
theorem pnX0_fishAt : (parseMethodDescriptor yX0_fishAt.desc).map (fun d => d.parameters.length) = some 1 := by decide +kernel
theorem wdX0_fishAt : CdW yX0_fishAt (nX0_fishAt) := ⟨Or.inl ⟨q934, rfl⟩, rfl, rfl, plainFor_of_name (by decide +kernel)⟩
theorem eX0_fishAt_0 : SiZ nX0_fishAt 0 (i_push (.int 0) 1) := s_iconst dX0_fishAt_0 (by decide)
theorem eX0_fishAt_1 : SiZ nX0_fishAt 1 (i_istore 2 2) := s_istore_n dX0_fishAt_1 rfl
theorem eX0_fishAt_2 : SiZ nX0_fishAt 2 (i_push (.int 0) 3) := s_iconst dX0_fishAt_2 (by decide)
theorem eX0_fishAt_3 : SiZ nX0_fishAt 3 (i_istore 3 4) := s_istore_n dX0_fishAt_3 rfl
theorem eX0_fishAt_4 : SiZ nX0_fishAt 4 (i_iload 3 5) := s_iload_n dX0_fishAt_4 rfl
theorem eX0_fishAt_5 : SiZ nX0_fishAt 5 (i_aload 0 6) := s_aload_n dX0_fishAt_5 rfl
theorem eX0_fishAt_6 : SiZ nX0_fishAt 6 (i_getf 11 [1] 9) := s_getf dX0_fishAt_6 (fm_cons (⟨_, _, _, _, _, _, rfl, fkX0_39_1⟩) (fm_nil))
theorem eX0_fishAt_9 : ScZ nX0_fishAt 9 (c_V 0 12 1 2 (Mt mX1_many 1)) := e_V (mi := nX0_fishAt) (mi' := nX1_many) (len := 3) (fun h b as rest hk hl => cs_V (ci := 1) (mi := nX0_fishAt) (pc := 9) (y := yX1_many) (idx := 169) dX0_fishAt_9 q768 q680 q681 rfl hk hyX1_many (sigC q682) pnX1_many hl) wdX1_many zX1_many (Nat.le_of_ble_eq_true rfl) (Nat.le_of_ble_eq_true rfl)
theorem eX0_fishAt_12 : SiZ nX0_fishAt 12 (i_icmp (fun x y => y ≤ x) 55 15) := s_icmp_ge dX0_fishAt_12 (by decide)
theorem eX0_fishAt_15 : SiZ nX0_fishAt 15 (i_iload 2 16) := s_iload_n dX0_fishAt_15 rfl
theorem eX0_fishAt_16 : SiZ nX0_fishAt 16 (i_aload 0 17) := s_aload_n dX0_fishAt_16 rfl
theorem eX0_fishAt_17 : SiZ nX0_fishAt 17 (i_getf 11 [1] 20) := s_getf dX0_fishAt_17 (fm_cons (⟨_, _, _, _, _, _, rfl, fkX0_39_1⟩) (fm_nil))
theorem eX0_fishAt_20 : SiZ nX0_fishAt 20 (i_iload 3 21) := s_iload_n dX0_fishAt_20 rfl
theorem eX0_fishAt_21 : ScZ nX0_fishAt 21 (c_V 1 24 2 2 (Mt mX1_isCaught 2)) := e_V (mi := nX0_fishAt) (mi' := nX1_isCaught) (len := 3) (fun h b as rest hk hl => cs_V (ci := 1) (mi := nX0_fishAt) (pc := 21) (y := yX1_isCaught) (idx := 234) dX0_fishAt_21 q922 q797 q798 rfl hk hyX1_isCaught (sigC q799) pnX1_isCaught hl) wdX1_isCaught zX1_isCaught (Nat.le_of_ble_eq_true rfl) (Nat.le_of_ble_eq_true rfl)
theorem eX0_fishAt_24 : SiZ nX0_fishAt 24 (i_if (fun x => ¬ x = 0) 46 27) := s_if_ne dX0_fishAt_24 (by decide)
theorem eX0_fishAt_27 : SiZ nX0_fishAt 27 (i_aload 0 28) := s_aload_n dX0_fishAt_27 rfl
theorem eX0_fishAt_28 : SiZ nX0_fishAt 28 (i_getf 11 [1] 31) := s_getf dX0_fishAt_28 (fm_cons (⟨_, _, _, _, _, _, rfl, fkX0_39_1⟩) (fm_nil))
theorem eX0_fishAt_31 : SiZ nX0_fishAt 31 (i_getf 53 [2] 34) := s_getf dX0_fishAt_31 (fm_cons (⟨_, _, _, _, _, _, rfl, fkX0_237_2⟩) (fm_nil))
theorem eX0_fishAt_34 : SiZ nX0_fishAt 34 (i_iload 3 35) := s_iload_n dX0_fishAt_34 rfl
theorem eX0_fishAt_35 : SiZ nX0_fishAt 35 (i_iald 51 36) := s_ald (j := 0) (by decide) (fun _ => rfl) dX0_fishAt_35 (Or.inl ⟨rfl, rfl⟩)
theorem eX0_fishAt_36 : SiZ nX0_fishAt 36 (i_iload 1 37) := s_iload_n dX0_fishAt_36 rfl
theorem eX0_fishAt_37 : SiZ nX0_fishAt 37 (i_icmp (fun x y => ¬ x = y) 46 40) := s_icmp_ne dX0_fishAt_37 (by decide)
theorem eX0_fishAt_40 : SiZ nX0_fishAt 40 (i_push (.int 1) 41) := s_iconst dX0_fishAt_40 (by decide)
theorem eX0_fishAt_41 : SiZ nX0_fishAt 41 (i_iload 3 42) := s_iload_n dX0_fishAt_41 rfl
theorem eX0_fishAt_42 : SiZ nX0_fishAt 42 (i_bin (fun x y => x <<< (y &&& 31)) 43) := s_ishl dX0_fishAt_42
theorem eX0_fishAt_43 : SiZ nX0_fishAt 43 (i_goto 47) := s_goto dX0_fishAt_43 (by decide)
theorem eX0_fishAt_46 : SiZ nX0_fishAt 46 (i_push (.int 0) 47) := s_iconst dX0_fishAt_46 (by decide)
theorem eX0_fishAt_47 : SiZ nX0_fishAt 47 (i_bin (fun x y => x ||| y) 48) := s_ior dX0_fishAt_47
theorem eX0_fishAt_48 : SiZ nX0_fishAt 48 (i_istore 2 49) := s_istore_n dX0_fishAt_48 rfl
theorem eX0_fishAt_49 : SiZ nX0_fishAt 49 (i_iinc 3 1 52) := s_iinc dX0_fishAt_49 (by decide)
theorem eX0_fishAt_52 : SiZ nX0_fishAt 52 (i_goto 4) := s_goto dX0_fishAt_52 (by decide)
theorem eX0_fishAt_55 : SiZ nX0_fishAt 55 (i_iload 2 56) := s_iload_n dX0_fishAt_55 rfl
theorem eX0_fishAt_56 : SiZ nX0_fishAt 56 i_iret := s_iret dX0_fishAt_56 rfl
theorem aX0_fishAt : ∀ x ∈ mX0_fishAt.1, EnZ nX0_fishAt x := fm_cons eX0_fishAt_0 (fm_cons eX0_fishAt_1 (fm_cons eX0_fishAt_2 (fm_cons eX0_fishAt_3 (fm_cons eX0_fishAt_4 (fm_cons eX0_fishAt_5 (fm_cons eX0_fishAt_6 (fm_cons eX0_fishAt_9 (fm_cons eX0_fishAt_12 (fm_cons eX0_fishAt_15 (fm_cons eX0_fishAt_16 (fm_cons eX0_fishAt_17 (fm_cons eX0_fishAt_20 (fm_cons eX0_fishAt_21 (fm_cons eX0_fishAt_24 (fm_cons eX0_fishAt_27 (fm_cons eX0_fishAt_28 (fm_cons eX0_fishAt_31 (fm_cons eX0_fishAt_34 (fm_cons eX0_fishAt_35 (fm_cons eX0_fishAt_36 (fm_cons eX0_fishAt_37 (fm_cons eX0_fishAt_40 (fm_cons eX0_fishAt_41 (fm_cons eX0_fishAt_42 (fm_cons eX0_fishAt_43 (fm_cons eX0_fishAt_46 (fm_cons eX0_fishAt_47 (fm_cons eX0_fishAt_48 (fm_cons eX0_fishAt_49 (fm_cons eX0_fishAt_52 (fm_cons eX0_fishAt_55 (fm_cons eX0_fishAt_56 (fm_nil)))))))))))))))))))))))))))))))))
theorem zX0_fishAt : SwZ nX0_fishAt (Mt mX0_fishAt 4) := wholeZ (mi := nX0_fishAt) (cd := mX0_fishAt) aX0_fishAt rfl (HdZ.none rfl)
abbrev nX0_book : MI := (cX0_book, 3, (some (.int)), RX0, "book", [], 3, 75)
theorem hyX0_book : yX0_book.cls ≠ "java/lang/invoke/MethodHandle" ∧ yX0_book.cls ≠ "java/lang/invoke/VarHandle" := by decide +kernel
theorem pnX0_book : (parseMethodDescriptor yX0_book.desc).map (fun d => d.parameters.length) = some 2 := by decide +kernel
theorem wdX0_book : CdW yX0_book (nX0_book) := ⟨Or.inl ⟨q930, rfl⟩, rfl, rfl, plainFor_of_name (by decide +kernel)⟩
theorem eX0_book_0 : SiZ nX0_book 0 (i_aload 0 1) := s_aload_n dX0_book_0 rfl
theorem eX0_book_1 : SiZ nX0_book 1 (i_iload 1 2) := s_iload_n dX0_book_1 rfl
theorem eX0_book_2 : ScZ nX0_book 2 (c_V 1 5 2 1 (Mt mX0_isBook 2)) := e_V (mi := nX0_book) (mi' := nX0_isBook) (len := 3) (fun h b as rest hk hl => cs_V (ci := 0) (mi := nX0_book) (pc := 2) (y := yX0_isBook) (idx := 206) dX0_book_2 q892 q894 qs23 rfl hk hyX0_isBook (sigC q895) pnX0_isBook hl) wdX0_isBook zX0_isBook (Nat.le_of_ble_eq_true rfl) (Nat.le_of_ble_eq_true rfl)
theorem eX0_book_5 : SiZ nX0_book 5 (i_if (fun x => ¬ x = 0) 11 8) := s_if_ne dX0_book_5 (by decide)
theorem eX0_book_8 : SiZ nX0_book 8 (i_push (.int (-1000001)) 10) := s_ldc dX0_book_8 q355
theorem eX0_book_10 : SiZ nX0_book 10 i_iret := s_iret dX0_book_10 rfl
theorem eX0_book_11 : SiZ nX0_book 11 (i_iload 2 12) := s_iload_n dX0_book_11 rfl
theorem eX0_book_12 : SiZ nX0_book 12 (i_tsw 0 [52, 62, 72, 82, 94, 106] 120) := s_tsw dX0_book_12 (by decide) (by decide) (by decide)
theorem eX0_book_52 : SiZ nX0_book 52 (i_aload 0 53) := s_aload_n dX0_book_52 rfl
theorem eX0_book_53 : SiZ nX0_book 53 (i_getf 11 [1] 56) := s_getf dX0_book_53 (fm_cons (⟨_, _, _, _, _, _, rfl, fkX0_39_1⟩) (fm_nil))
theorem eX0_book_56 : SiZ nX0_book 56 (i_getf 39 [2] 59) := s_getf dX0_book_56 (fm_cons (⟨_, _, _, _, _, _, rfl, fkX0_243_2⟩) (fm_nil))
theorem eX0_book_59 : SiZ nX0_book 59 (i_iload 1 60) := s_iload_n dX0_book_59 rfl
theorem eX0_book_60 : SiZ nX0_book 60 (i_iald 51 61) := s_ald (j := 0) (by decide) (fun _ => rfl) dX0_book_60 (Or.inl ⟨rfl, rfl⟩)
theorem eX0_book_61 : SiZ nX0_book 61 i_iret := s_iret dX0_book_61 rfl
theorem eX0_book_62 : SiZ nX0_book 62 (i_aload 0 63) := s_aload_n dX0_book_62 rfl
theorem eX0_book_63 : SiZ nX0_book 63 (i_getf 11 [1] 66) := s_getf dX0_book_63 (fm_cons (⟨_, _, _, _, _, _, rfl, fkX0_39_1⟩) (fm_nil))
theorem eX0_book_66 : SiZ nX0_book 66 (i_getf 41 [2] 69) := s_getf dX0_book_66 (fm_cons (⟨_, _, _, _, _, _, rfl, fkX0_246_2⟩) (fm_nil))
theorem eX0_book_69 : SiZ nX0_book 69 (i_iload 1 70) := s_iload_n dX0_book_69 rfl
theorem eX0_book_70 : SiZ nX0_book 70 (i_iald 51 71) := s_ald (j := 0) (by decide) (fun _ => rfl) dX0_book_70 (Or.inl ⟨rfl, rfl⟩)
theorem eX0_book_71 : SiZ nX0_book 71 i_iret := s_iret dX0_book_71 rfl
theorem eX0_book_72 : SiZ nX0_book 72 (i_aload 0 73) := s_aload_n dX0_book_72 rfl
theorem eX0_book_73 : SiZ nX0_book 73 (i_getf 11 [1] 76) := s_getf dX0_book_73 (fm_cons (⟨_, _, _, _, _, _, rfl, fkX0_39_1⟩) (fm_nil))
theorem eX0_book_76 : SiZ nX0_book 76 (i_getf 45 [2] 79) := s_getf dX0_book_76 (fm_cons (⟨_, _, _, _, _, _, rfl, fkX0_226_2⟩) (fm_nil))
theorem eX0_book_79 : SiZ nX0_book 79 (i_iload 1 80) := s_iload_n dX0_book_79 rfl
theorem eX0_book_80 : SiZ nX0_book 80 (i_iald 51 81) := s_ald (j := 0) (by decide) (fun _ => rfl) dX0_book_80 (Or.inl ⟨rfl, rfl⟩)
theorem eX0_book_81 : SiZ nX0_book 81 i_iret := s_iret dX0_book_81 rfl
theorem eX0_book_82 : SiZ nX0_book 82 (i_aload 0 83) := s_aload_n dX0_book_82 rfl
theorem eX0_book_83 : SiZ nX0_book 83 (i_getf 11 [1] 86) := s_getf dX0_book_83 (fm_cons (⟨_, _, _, _, _, _, rfl, fkX0_39_1⟩) (fm_nil))
theorem eX0_book_86 : SiZ nX0_book 86 (i_getf 46 [2] 89) := s_getf dX0_book_86 (fm_cons (⟨_, _, _, _, _, _, rfl, fkX0_212_2⟩) (fm_nil))
theorem eX0_book_89 : SiZ nX0_book 89 (i_iload 1 90) := s_iload_n dX0_book_89 rfl
theorem eX0_book_90 : SiZ nX0_book 90 (i_bin (fun x y => x >>> (y &&& 31)) 91) := s_ishr dX0_book_90
theorem eX0_book_91 : SiZ nX0_book 91 (i_push (.int 1) 92) := s_iconst dX0_book_91 (by decide)
theorem eX0_book_92 : SiZ nX0_book 92 (i_bin (fun x y => x &&& y) 93) := s_iand dX0_book_92
theorem eX0_book_93 : SiZ nX0_book 93 i_iret := s_iret dX0_book_93 rfl
theorem eX0_book_94 : SiZ nX0_book 94 (i_aload 0 95) := s_aload_n dX0_book_94 rfl
theorem eX0_book_95 : SiZ nX0_book 95 (i_getf 11 [1] 98) := s_getf dX0_book_95 (fm_cons (⟨_, _, _, _, _, _, rfl, fkX0_39_1⟩) (fm_nil))
theorem eX0_book_98 : SiZ nX0_book 98 (i_getf 48 [2] 101) := s_getf dX0_book_98 (fm_cons (⟨_, _, _, _, _, _, rfl, fkX0_223_2⟩) (fm_nil))
theorem eX0_book_101 : SiZ nX0_book 101 (i_iload 1 102) := s_iload_n dX0_book_101 rfl
theorem eX0_book_102 : SiZ nX0_book 102 (i_bin (fun x y => x >>> (y &&& 31)) 103) := s_ishr dX0_book_102
theorem eX0_book_103 : SiZ nX0_book 103 (i_push (.int 1) 104) := s_iconst dX0_book_103 (by decide)
theorem eX0_book_104 : SiZ nX0_book 104 (i_bin (fun x y => x &&& y) 105) := s_iand dX0_book_104
theorem eX0_book_105 : SiZ nX0_book 105 i_iret := s_iret dX0_book_105 rfl
theorem eX0_book_106 : SiZ nX0_book 106 (i_aload 0 107) := s_aload_n dX0_book_106 rfl
theorem eX0_book_107 : SiZ nX0_book 107 (i_aload 0 108) := s_aload_n dX0_book_107 rfl
theorem eX0_book_108 : SiZ nX0_book 108 (i_getf 11 [1] 111) := s_getf dX0_book_108 (fm_cons (⟨_, _, _, _, _, _, rfl, fkX0_39_1⟩) (fm_nil))
theorem eX0_book_111 : SiZ nX0_book 111 (i_getf 45 [2] 114) := s_getf dX0_book_111 (fm_cons (⟨_, _, _, _, _, _, rfl, fkX0_226_2⟩) (fm_nil))
theorem eX0_book_114 : SiZ nX0_book 114 (i_iload 1 115) := s_iload_n dX0_book_114 rfl
theorem eX0_book_115 : SiZ nX0_book 115 (i_iald 51 116) := s_ald (j := 0) (by decide) (fun _ => rfl) dX0_book_115 (Or.inl ⟨rfl, rfl⟩)
theorem eX0_book_116 : ScZ nX0_book 116 (c_V 1 119 4 1 (Mt mX0_fishAt 4)) := e_V (mi := nX0_book) (mi' := nX0_fishAt) (len := 3) (fun h b as rest hk hl => cs_V (ci := 0) (mi := nX0_book) (pc := 116) (y := yX0_fishAt) (idx := 249) dX0_book_116 q931 q933 qs25 rfl hk hyX0_fishAt (sigC q934) pnX0_fishAt hl) wdX0_fishAt zX0_fishAt (Nat.le_of_ble_eq_true rfl) (Nat.le_of_ble_eq_true rfl)
theorem eX0_book_119 : SiZ nX0_book 119 i_iret := s_iret dX0_book_119 rfl
theorem eX0_book_120 : SiZ nX0_book 120 (i_push (.int (-1000001)) 122) := s_ldc dX0_book_120 q355
theorem eX0_book_122 : SiZ nX0_book 122 i_iret := s_iret dX0_book_122 rfl
theorem aX0_book : ∀ x ∈ mX0_book.1, EnZ nX0_book x := fm_cons eX0_book_0 (fm_cons eX0_book_1 (fm_cons eX0_book_2 (fm_cons eX0_book_5 (fm_cons eX0_book_8 (fm_cons eX0_book_10 (fm_cons eX0_book_11 (fm_cons eX0_book_12 (fm_cons eX0_book_52 (fm_cons eX0_book_53 (fm_cons eX0_book_56 (fm_cons eX0_book_59 (fm_cons eX0_book_60 (fm_cons eX0_book_61 (fm_cons eX0_book_62 (fm_cons eX0_book_63 (fm_cons eX0_book_66 (fm_cons eX0_book_69 (fm_cons eX0_book_70 (fm_cons eX0_book_71 (fm_cons eX0_book_72 (fm_cons eX0_book_73 (fm_cons eX0_book_76 (fm_cons eX0_book_79 (fm_cons eX0_book_80 (fm_cons eX0_book_81 (fm_cons eX0_book_82 (fm_cons eX0_book_83 (fm_cons eX0_book_86 (fm_cons eX0_book_89 (fm_cons eX0_book_90 (fm_cons eX0_book_91 (fm_cons eX0_book_92 (fm_cons eX0_book_93 (fm_cons eX0_book_94 (fm_cons eX0_book_95 (fm_cons eX0_book_98 (fm_cons eX0_book_101 (fm_cons eX0_book_102 (fm_cons eX0_book_103 (fm_cons eX0_book_104 (fm_cons eX0_book_105 (fm_cons eX0_book_106 (fm_cons eX0_book_107 (fm_cons eX0_book_108 (fm_cons eX0_book_111 (fm_cons eX0_book_114 (fm_cons eX0_book_115 (fm_cons eX0_book_116 (fm_cons eX0_book_119 (fm_cons eX0_book_120 (fm_cons eX0_book_122 (fm_nil))))))))))))))))))))))))))))))))))))))))))))))))))))
theorem zX0_book : SwZ nX0_book (Mt mX0_book 3) := wholeZ (mi := nX0_book) (cd := mX0_book) aX0_book rfl (HdZ.none rfl)
abbrev nX3_taste : MI := (cX3_taste, 1, (some (.int)), RX3, "taste", [], 0, 0)
theorem hyX3_taste : yX3_taste.cls ≠ "java/lang/invoke/MethodHandle" ∧ yX3_taste.cls ≠ "java/lang/invoke/VarHandle" := by decide +kernel
theorem pnX3_taste : (parseMethodDescriptor yX3_taste.desc).map (fun d => d.parameters.length) = some 0 := by decide +kernel
theorem wdX3_taste : CdW yX3_taste (nX3_taste) := ⟨Or.inl ⟨q950, rfl⟩, rfl, rfl, plainFor_of_name (by decide +kernel)⟩
theorem eX3_taste_0 : SiZ nX3_taste 0 (i_push (.int 0) 1) := s_iconst dX3_taste_0 (by decide)
theorem eX3_taste_1 : SiZ nX3_taste 1 i_iret := s_iret dX3_taste_1 rfl
theorem aX3_taste : ∀ x ∈ mX3_taste.1, EnZ nX3_taste x := fm_cons eX3_taste_0 (fm_cons eX3_taste_1 (fm_nil))
theorem zX3_taste : SwZ nX3_taste (Mt mX3_taste 1) := wholeZ (mi := nX3_taste) (cd := mX3_taste) aX3_taste rfl (HdZ.none rfl)
abbrev nX0_fish : MI := (cX0_fish, 4, (some (.int)), RX0, "fish", [], 4, 101)
theorem hyX0_fish : yX0_fish.cls ≠ "java/lang/invoke/MethodHandle" ∧ yX0_fish.cls ≠ "java/lang/invoke/VarHandle" := by decide +kernel
theorem pnX0_fish : (parseMethodDescriptor yX0_fish.desc).map (fun d => d.parameters.length) = some 2 := by decide +kernel
theorem wdX0_fish : CdW yX0_fish (nX0_fish) := ⟨Or.inl ⟨q938, rfl⟩, rfl, rfl, plainFor_of_name (by decide +kernel)⟩
theorem eX0_fish_0 : SiZ nX0_fish 0 (i_aload 0 1) := s_aload_n dX0_fish_0 rfl
theorem eX0_fish_1 : SiZ nX0_fish 1 (i_iload 1 2) := s_iload_n dX0_fish_1 rfl
theorem eX0_fish_2 : ScZ nX0_fish 2 (c_V 1 5 2 1 (Mt mX0_isFish 2)) := e_V (mi := nX0_fish) (mi' := nX0_isFish) (len := 3) (fun h b as rest hk hl => cs_V (ci := 0) (mi := nX0_fish) (pc := 2) (y := yX0_isFish) (idx := 231) dX0_fish_2 q918 q920 qs24 rfl hk hyX0_isFish (sigC q921) pnX0_isFish hl) wdX0_isFish zX0_isFish (Nat.le_of_ble_eq_true rfl) (Nat.le_of_ble_eq_true rfl)
theorem eX0_fish_5 : SiZ nX0_fish 5 (i_if (fun x => x = 0) 20 8) := s_if_eq dX0_fish_5 (by decide)
theorem eX0_fish_8 : SiZ nX0_fish 8 (i_iload 2 9) := s_iload_n dX0_fish_8 rfl
theorem eX0_fish_9 : SiZ nX0_fish 9 (i_i2l 10) := s_i2l dX0_fish_9
theorem eX0_fish_10 : SiZ nX0_fish 10 (i_push (.long 0) 11) := s_lconst dX0_fish_10 (by decide)
theorem eX0_fish_11 : SiZ nX0_fish 11 (i_push (.long 3) 14) := s_ldc2 dX0_fish_11 q939
theorem eX0_fish_14 : ScZ nX0_fish 14 (c_S 3 17 6 (Mt mX0_isIn 6)) := e_S (mi := nX0_fish) (mi' := nX0_isIn) (len := 3) (fun h as rest hl => cs_S (mi := nX0_fish) (pc := 14) (y := yX0_isIn) (idx := 86) dX0_fish_14 q351 q352 q77 q353 hyX0_isIn pnX0_isIn hl) wdX0_isIn zX0_isIn (Nat.le_of_ble_eq_true rfl) (Nat.le_of_ble_eq_true rfl)
theorem eX0_fish_17 : SiZ nX0_fish 17 (i_if (fun x => ¬ x = 0) 23 20) := s_if_ne dX0_fish_17 (by decide)
theorem eX0_fish_20 : SiZ nX0_fish 20 (i_push (.int (-1000001)) 22) := s_ldc dX0_fish_20 q355
theorem eX0_fish_22 : SiZ nX0_fish 22 i_iret := s_iret dX0_fish_22 rfl
theorem eX0_fish_23 : SiZ nX0_fish 23 (i_aload 0 24) := s_aload_n dX0_fish_23 rfl
theorem eX0_fish_24 : SiZ nX0_fish 24 (i_getf 11 [1] 27) := s_getf dX0_fish_24 (fm_cons (⟨_, _, _, _, _, _, rfl, fkX0_39_1⟩) (fm_nil))
theorem eX0_fish_27 : SiZ nX0_fish 27 (i_getf 53 [2] 30) := s_getf dX0_fish_27 (fm_cons (⟨_, _, _, _, _, _, rfl, fkX0_237_2⟩) (fm_nil))
theorem eX0_fish_30 : SiZ nX0_fish 30 (i_iload 1 31) := s_iload_n dX0_fish_30 rfl
theorem eX0_fish_31 : SiZ nX0_fish 31 (i_iald 51 32) := s_ald (j := 0) (by decide) (fun _ => rfl) dX0_fish_31 (Or.inl ⟨rfl, rfl⟩)
theorem eX0_fish_32 : SiZ nX0_fish 32 (i_istore 3 33) := s_istore_n dX0_fish_32 rfl
theorem eX0_fish_33 : SiZ nX0_fish 33 (i_iload 2 34) := s_iload_n dX0_fish_33 rfl
theorem eX0_fish_34 : SiZ nX0_fish 34 (i_push (.int 1) 35) := s_iconst dX0_fish_34 (by decide)
theorem eX0_fish_35 : SiZ nX0_fish 35 (i_icmp (fun x y => ¬ x = y) 48 38) := s_icmp_ne dX0_fish_35 (by decide)
theorem eX0_fish_38 : SiZ nX0_fish 38 (i_aload 0 39) := s_aload_n dX0_fish_38 rfl
theorem eX0_fish_39 : SiZ nX0_fish 39 (i_getf 11 [1] 42) := s_getf dX0_fish_39 (fm_cons (⟨_, _, _, _, _, _, rfl, fkX0_39_1⟩) (fm_nil))
theorem eX0_fish_42 : SiZ nX0_fish 42 (i_getf 55 [2] 45) := s_getf dX0_fish_42 (fm_cons (⟨_, _, _, _, _, _, rfl, fkX0_254_2⟩) (fm_nil))
theorem eX0_fish_45 : SiZ nX0_fish 45 (i_iload 1 46) := s_iload_n dX0_fish_45 rfl
theorem eX0_fish_46 : SiZ nX0_fish 46 (i_iald 51 47) := s_ald (j := 0) (by decide) (fun _ => rfl) dX0_fish_46 (Or.inl ⟨rfl, rfl⟩)
theorem eX0_fish_47 : SiZ nX0_fish 47 i_iret := s_iret dX0_fish_47 rfl
theorem eX0_fish_48 : SiZ nX0_fish 48 (i_aload 0 49) := s_aload_n dX0_fish_48 rfl
theorem eX0_fish_49 : SiZ nX0_fish 49 (i_getf 11 [1] 52) := s_getf dX0_fish_49 (fm_cons (⟨_, _, _, _, _, _, rfl, fkX0_39_1⟩) (fm_nil))
theorem eX0_fish_52 : SiZ nX0_fish 52 (i_iload 1 53) := s_iload_n dX0_fish_52 rfl
theorem eX0_fish_53 : ScZ nX0_fish 53 (c_V 1 56 2 2 (Mt mX1_isCaught 2)) := e_V (mi := nX0_fish) (mi' := nX1_isCaught) (len := 3) (fun h b as rest hk hl => cs_V (ci := 1) (mi := nX0_fish) (pc := 53) (y := yX1_isCaught) (idx := 234) dX0_fish_53 q922 q797 q798 rfl hk hyX1_isCaught (sigC q799) pnX1_isCaught hl) wdX1_isCaught zX1_isCaught (Nat.le_of_ble_eq_true rfl) (Nat.le_of_ble_eq_true rfl)
theorem eX0_fish_56 : SiZ nX0_fish 56 (i_if (fun x => x = 0) 63 59) := s_if_eq dX0_fish_56 (by decide)
theorem eX0_fish_59 : SiZ nX0_fish 59 (i_push (.int (-1000000)) 62) := s_ldcw dX0_fish_59 q940
theorem eX0_fish_62 : SiZ nX0_fish 62 i_iret := s_iret dX0_fish_62 rfl
theorem eX0_fish_63 : SiZ nX0_fish 63 (i_iload 2 64) := s_iload_n dX0_fish_63 rfl
theorem eX0_fish_64 : SiZ nX0_fish 64 (i_if (fun x => ¬ x = 0) 71 67) := s_if_ne dX0_fish_64 (by decide)
theorem eX0_fish_67 : SiZ nX0_fish 67 (i_iload 3 68) := s_iload_n dX0_fish_67 rfl
theorem eX0_fish_68 : SiZ nX0_fish 68 (i_goto 107) := s_goto dX0_fish_68 (by decide)
theorem eX0_fish_71 : SiZ nX0_fish 71 (i_iload 2 72) := s_iload_n dX0_fish_71 rfl
theorem eX0_fish_72 : SiZ nX0_fish 72 (i_push (.int 2) 73) := s_iconst dX0_fish_72 (by decide)
theorem eX0_fish_73 : SiZ nX0_fish 73 (i_icmp (fun x y => ¬ x = y) 98 76) := s_icmp_ne dX0_fish_73 (by decide)
theorem eX0_fish_76 : SiZ nX0_fish 76 (i_aload 0 77) := s_aload_n dX0_fish_76 rfl
theorem eX0_fish_77 : SiZ nX0_fish 77 (i_getf 11 [1] 80) := s_getf dX0_fish_77 (fm_cons (⟨_, _, _, _, _, _, rfl, fkX0_39_1⟩) (fm_nil))
theorem eX0_fish_80 : SiZ nX0_fish 80 (i_iload 3 81) := s_iload_n dX0_fish_80 rfl
theorem eX0_fish_81 : SiZ nX0_fish 81 (i_aload 0 82) := s_aload_n dX0_fish_81 rfl
theorem eX0_fish_82 : SiZ nX0_fish 82 (i_getf 11 [1] 85) := s_getf dX0_fish_82 (fm_cons (⟨_, _, _, _, _, _, rfl, fkX0_39_1⟩) (fm_nil))
theorem eX0_fish_85 : SiZ nX0_fish 85 (i_iload 1 86) := s_iload_n dX0_fish_85 rfl
theorem eX0_fish_86 : ScZ nX0_fish 86 (c_V 1 89 2 2 (Mt mX1_fish 2)) := e_V (mi := nX0_fish) (mi' := nX1_fish) (len := 3) (fun h b as rest hk hl => cs_V (ci := 1) (mi := nX0_fish) (pc := 86) (y := yX1_fish) (idx := 258) dX0_fish_86 q941 q801 q802 rfl hk hyX1_fish (sigC q803) pnX1_fish hl) wdX1_fish zX1_fish (Nat.le_of_ble_eq_true rfl) (Nat.le_of_ble_eq_true rfl)
theorem eX0_fish_89 : ScZ nX0_fish 89 (c_D 0 92 1 [(4, (Mt mX4_taste 1)), (5, (Mt mX5_taste 1)), (6, (Mt mX4_taste 1)), (7, (Mt mX3_taste 1)), (8, (Mt mX3_taste 1))]) := e_D (len := 3) (fm_cons (⟨_, _, (fun h b as rest hk hl => cs_U (ci := 3) (mi := nX0_fish) (pc := 89) (y := yX4_taste) (idx := 262) dX0_fish_89 q942 q944 (Or.inr ⟨_, _, _, q943, q950⟩) q829 q945 rfl hk (by decide +kernel) pnX4_taste hl), wdX4_taste, zX4_taste, Nat.le_of_ble_eq_true rfl, Nat.le_of_ble_eq_true rfl, Nat.le_of_ble_eq_true rfl⟩) (fm_cons (⟨_, _, (fun h b as rest hk hl => cs_U (ci := 4) (mi := nX0_fish) (pc := 89) (y := yX5_taste) (idx := 262) dX0_fish_89 q942 q944 (Or.inr ⟨_, _, _, q943, q950⟩) q834 q947 rfl hk (by decide +kernel) pnX5_taste hl), wdX5_taste, zX5_taste, Nat.le_of_ble_eq_true rfl, Nat.le_of_ble_eq_true rfl, Nat.le_of_ble_eq_true rfl⟩) (fm_cons (⟨_, _, (fun h b as rest hk hl => cs_U (ci := 5) (mi := nX0_fish) (pc := 89) (y := yX4_taste) (idx := 262) dX0_fish_89 q942 q944 (Or.inr ⟨_, _, _, q943, q950⟩) q829 q946 rfl hk (by decide +kernel) pnX4_taste hl), wdX4_taste, zX4_taste, Nat.le_of_ble_eq_true rfl, Nat.le_of_ble_eq_true rfl, Nat.le_of_ble_eq_true rfl⟩) (fm_cons (⟨_, _, (fun h b as rest hk hl => cs_U (ci := 6) (mi := nX0_fish) (pc := 89) (y := yX3_taste) (idx := 262) dX0_fish_89 q942 q944 (Or.inr ⟨_, _, _, q943, q950⟩) q943 q949 rfl hk (by decide +kernel) pnX3_taste hl), wdX3_taste, zX3_taste, Nat.le_of_ble_eq_true rfl, Nat.le_of_ble_eq_true rfl, Nat.le_of_ble_eq_true rfl⟩) (fm_cons (⟨_, _, (fun h b as rest hk hl => cs_U (ci := 7) (mi := nX0_fish) (pc := 89) (y := yX3_taste) (idx := 262) dX0_fish_89 q942 q944 (Or.inr ⟨_, _, _, q943, q950⟩) q943 q948 rfl hk (by decide +kernel) pnX3_taste hl), wdX3_taste, zX3_taste, Nat.le_of_ble_eq_true rfl, Nat.le_of_ble_eq_true rfl, Nat.le_of_ble_eq_true rfl⟩) (fm_nil))))))
theorem eX0_fish_92 : ScZ nX0_fish 92 (c_V 2 95 8 2 (Mt mX1_liked 8)) := e_V (mi := nX0_fish) (mi' := nX1_liked) (len := 3) (fun h b as rest hk hl => cs_V (ci := 1) (mi := nX0_fish) (pc := 92) (y := yX1_liked) (idx := 265) dX0_fish_92 q951 q839 q840 rfl hk hyX1_liked (sigC q841) pnX1_liked hl) wdX1_liked zX1_liked (Nat.le_of_ble_eq_true rfl) (Nat.le_of_ble_eq_true rfl)
theorem eX0_fish_95 : SiZ nX0_fish 95 (i_goto 107) := s_goto dX0_fish_95 (by decide)
theorem eX0_fish_98 : SiZ nX0_fish 98 (i_aload 0 99) := s_aload_n dX0_fish_98 rfl
theorem eX0_fish_99 : SiZ nX0_fish 99 (i_getf 11 [1] 102) := s_getf dX0_fish_99 (fm_cons (⟨_, _, _, _, _, _, rfl, fkX0_39_1⟩) (fm_nil))
theorem eX0_fish_102 : SiZ nX0_fish 102 (i_getf 43 [2] 105) := s_getf dX0_fish_102 (fm_cons (⟨_, _, _, _, _, _, rfl, fkX0_269_2⟩) (fm_nil))
theorem eX0_fish_105 : SiZ nX0_fish 105 (i_iload 3 106) := s_iload_n dX0_fish_105 rfl
theorem eX0_fish_106 : SiZ nX0_fish 106 (i_iald 51 107) := s_ald (j := 0) (by decide) (fun _ => rfl) dX0_fish_106 (Or.inl ⟨rfl, rfl⟩)
theorem eX0_fish_107 : SiZ nX0_fish 107 i_iret := s_iret dX0_fish_107 rfl
theorem aX0_fish : ∀ x ∈ mX0_fish.1, EnZ nX0_fish x := fm_cons eX0_fish_0 (fm_cons eX0_fish_1 (fm_cons eX0_fish_2 (fm_cons eX0_fish_5 (fm_cons eX0_fish_8 (fm_cons eX0_fish_9 (fm_cons eX0_fish_10 (fm_cons eX0_fish_11 (fm_cons eX0_fish_14 (fm_cons eX0_fish_17 (fm_cons eX0_fish_20 (fm_cons eX0_fish_22 (fm_cons eX0_fish_23 (fm_cons eX0_fish_24 (fm_cons eX0_fish_27 (fm_cons eX0_fish_30 (fm_cons eX0_fish_31 (fm_cons eX0_fish_32 (fm_cons eX0_fish_33 (fm_cons eX0_fish_34 (fm_cons eX0_fish_35 (fm_cons eX0_fish_38 (fm_cons eX0_fish_39 (fm_cons eX0_fish_42 (fm_cons eX0_fish_45 (fm_cons eX0_fish_46 (fm_cons eX0_fish_47 (fm_cons eX0_fish_48 (fm_cons eX0_fish_49 (fm_cons eX0_fish_52 (fm_cons eX0_fish_53 (fm_cons eX0_fish_56 (fm_cons eX0_fish_59 (fm_cons eX0_fish_62 (fm_cons eX0_fish_63 (fm_cons eX0_fish_64 (fm_cons eX0_fish_67 (fm_cons eX0_fish_68 (fm_cons eX0_fish_71 (fm_cons eX0_fish_72 (fm_cons eX0_fish_73 (fm_cons eX0_fish_76 (fm_cons eX0_fish_77 (fm_cons eX0_fish_80 (fm_cons eX0_fish_81 (fm_cons eX0_fish_82 (fm_cons eX0_fish_85 (fm_cons eX0_fish_86 (fm_cons eX0_fish_89 (fm_cons eX0_fish_92 (fm_cons eX0_fish_95 (fm_cons eX0_fish_98 (fm_cons eX0_fish_99 (fm_cons eX0_fish_102 (fm_cons eX0_fish_105 (fm_cons eX0_fish_106 (fm_cons eX0_fish_107 (fm_nil)))))))))))))))))))))))))))))))))))))))))))))))))))))))))
theorem zX0_fish : SwZ nX0_fish (Mt mX0_fish 4) := wholeZ (mi := nX0_fish) (cd := mX0_fish) aX0_fish rfl (HdZ.none rfl)
abbrev nX0_stand : MI := (cX0_stand, 2, (some (.int)), RX0, "stand", [], 1, 27)
theorem hyX0_stand : yX0_stand.cls ≠ "java/lang/invoke/MethodHandle" ∧ yX0_stand.cls ≠ "java/lang/invoke/VarHandle" := by decide +kernel
theorem pnX0_stand : (parseMethodDescriptor yX0_stand.desc).map (fun d => d.parameters.length) = some 1 := by decide +kernel
theorem wdX0_stand : CdW yX0_stand (nX0_stand) := ⟨Or.inl ⟨q955, rfl⟩, rfl, rfl, plainFor_of_name (by decide +kernel)⟩
theorem eX0_stand_0 : SiZ nX0_stand 0 (i_aload 0 1) := s_aload_n dX0_stand_0 rfl
theorem eX0_stand_1 : ScZ nX0_stand 1 (c_V 0 4 1 1 (Mt mX0_isLibrary 1)) := e_V (mi := nX0_stand) (mi' := nX0_isLibrary) (len := 3) (fun h b as rest hk hl => cs_V (ci := 0) (mi := nX0_stand) (pc := 1) (y := yX0_isLibrary) (idx := 184) dX0_stand_1 q782 q784 qs18 rfl hk hyX0_isLibrary (sigC q785) pnX0_isLibrary hl) wdX0_isLibrary zX0_isLibrary (Nat.le_of_ble_eq_true rfl) (Nat.le_of_ble_eq_true rfl)
theorem eX0_stand_4 : SiZ nX0_stand 4 (i_if (fun x => ¬ x = 0) 10 7) := s_if_ne dX0_stand_4 (by decide)
theorem eX0_stand_7 : SiZ nX0_stand 7 (i_push (.int (-1000002)) 9) := s_ldc dX0_stand_7 q777
theorem eX0_stand_9 : SiZ nX0_stand 9 i_iret := s_iret dX0_stand_9 rfl
theorem eX0_stand_10 : SiZ nX0_stand 10 (i_iload 1 11) := s_iload_n dX0_stand_10 rfl
theorem eX0_stand_11 : SiZ nX0_stand 11 (i_tsw 0 [48, 56, 64, 72, 84, 92] 100) := s_tsw dX0_stand_11 (by decide) (by decide) (by decide)
theorem eX0_stand_48 : SiZ nX0_stand 48 (i_aload 0 49) := s_aload_n dX0_stand_48 rfl
theorem eX0_stand_49 : SiZ nX0_stand 49 (i_getf 11 [1] 52) := s_getf dX0_stand_49 (fm_cons (⟨_, _, _, _, _, _, rfl, fkX0_39_1⟩) (fm_nil))
theorem eX0_stand_52 : SiZ nX0_stand 52 (i_getf 46 [2] 55) := s_getf dX0_stand_52 (fm_cons (⟨_, _, _, _, _, _, rfl, fkX0_212_2⟩) (fm_nil))
theorem eX0_stand_55 : SiZ nX0_stand 55 i_iret := s_iret dX0_stand_55 rfl
theorem eX0_stand_56 : SiZ nX0_stand 56 (i_aload 0 57) := s_aload_n dX0_stand_56 rfl
theorem eX0_stand_57 : SiZ nX0_stand 57 (i_getf 11 [1] 60) := s_getf dX0_stand_57 (fm_cons (⟨_, _, _, _, _, _, rfl, fkX0_39_1⟩) (fm_nil))
theorem eX0_stand_60 : SiZ nX0_stand 60 (i_getf 48 [2] 63) := s_getf dX0_stand_60 (fm_cons (⟨_, _, _, _, _, _, rfl, fkX0_223_2⟩) (fm_nil))
theorem eX0_stand_63 : SiZ nX0_stand 63 i_iret := s_iret dX0_stand_63 rfl
theorem eX0_stand_64 : SiZ nX0_stand 64 (i_aload 0 65) := s_aload_n dX0_stand_64 rfl
theorem eX0_stand_65 : SiZ nX0_stand 65 (i_getf 11 [1] 68) := s_getf dX0_stand_65 (fm_cons (⟨_, _, _, _, _, _, rfl, fkX0_39_1⟩) (fm_nil))
theorem eX0_stand_68 : SiZ nX0_stand 68 (i_getf 56 [2] 71) := s_getf dX0_stand_68 (fm_cons (⟨_, _, _, _, _, _, rfl, fkX0_240_2⟩) (fm_nil))
theorem eX0_stand_71 : SiZ nX0_stand 71 i_iret := s_iret dX0_stand_71 rfl
theorem eX0_stand_72 : SiZ nX0_stand 72 (i_aload 0 73) := s_aload_n dX0_stand_72 rfl
theorem eX0_stand_73 : SiZ nX0_stand 73 (i_getf 11 [1] 76) := s_getf dX0_stand_73 (fm_cons (⟨_, _, _, _, _, _, rfl, fkX0_39_1⟩) (fm_nil))
theorem eX0_stand_76 : SiZ nX0_stand 76 (i_aload 0 77) := s_aload_n dX0_stand_76 rfl
theorem eX0_stand_77 : ScZ nX0_stand 77 (c_V 0 80 1 1 (Mt mX0_allBooks 1)) := e_V (mi := nX0_stand) (mi' := nX0_allBooks) (len := 3) (fun h b as rest hk hl => cs_V (ci := 0) (mi := nX0_stand) (pc := 77) (y := yX0_allBooks) (idx := 200) dX0_stand_77 q880 q882 qs22 rfl hk hyX0_allBooks (sigC q883) pnX0_allBooks hl) wdX0_allBooks zX0_allBooks (Nat.le_of_ble_eq_true rfl) (Nat.le_of_ble_eq_true rfl)
theorem eX0_stand_80 : ScZ nX0_stand 80 (c_V 1 83 4 2 (Mt mX1_left 4)) := e_V (mi := nX0_stand) (mi' := nX1_left) (len := 3) (fun h b as rest hk hl => cs_V (ci := 1) (mi := nX0_stand) (pc := 80) (y := yX1_left) (idx := 203) dX0_stand_80 q884 q885 q886 rfl hk hyX1_left (sigC q887) pnX1_left hl) wdX1_left zX1_left (Nat.le_of_ble_eq_true rfl) (Nat.le_of_ble_eq_true rfl)
theorem eX0_stand_83 : SiZ nX0_stand 83 i_iret := s_iret dX0_stand_83 rfl
theorem eX0_stand_84 : SiZ nX0_stand 84 (i_aload 0 85) := s_aload_n dX0_stand_84 rfl
theorem eX0_stand_85 : SiZ nX0_stand 85 (i_getf 11 [1] 88) := s_getf dX0_stand_85 (fm_cons (⟨_, _, _, _, _, _, rfl, fkX0_39_1⟩) (fm_nil))
theorem eX0_stand_88 : SiZ nX0_stand 88 (i_getf 32 [2] 91) := s_getf dX0_stand_88 (fm_cons (⟨_, _, _, _, _, _, rfl, fkX0_174_2⟩) (fm_nil))
theorem eX0_stand_91 : SiZ nX0_stand 91 i_iret := s_iret dX0_stand_91 rfl
theorem eX0_stand_92 : SiZ nX0_stand 92 (i_aload 0 93) := s_aload_n dX0_stand_92 rfl
theorem eX0_stand_93 : SiZ nX0_stand 93 (i_getf 11 [1] 96) := s_getf dX0_stand_93 (fm_cons (⟨_, _, _, _, _, _, rfl, fkX0_39_1⟩) (fm_nil))
theorem eX0_stand_96 : SiZ nX0_stand 96 (i_getf 34 [2] 99) := s_getf dX0_stand_96 (fm_cons (⟨_, _, _, _, _, _, rfl, fkX0_220_2⟩) (fm_nil))
theorem eX0_stand_99 : SiZ nX0_stand 99 i_iret := s_iret dX0_stand_99 rfl
theorem eX0_stand_100 : SiZ nX0_stand 100 (i_push (.int (-1000001)) 102) := s_ldc dX0_stand_100 q355
theorem eX0_stand_102 : SiZ nX0_stand 102 i_iret := s_iret dX0_stand_102 rfl
theorem aX0_stand : ∀ x ∈ mX0_stand.1, EnZ nX0_stand x := fm_cons eX0_stand_0 (fm_cons eX0_stand_1 (fm_cons eX0_stand_4 (fm_cons eX0_stand_7 (fm_cons eX0_stand_9 (fm_cons eX0_stand_10 (fm_cons eX0_stand_11 (fm_cons eX0_stand_48 (fm_cons eX0_stand_49 (fm_cons eX0_stand_52 (fm_cons eX0_stand_55 (fm_cons eX0_stand_56 (fm_cons eX0_stand_57 (fm_cons eX0_stand_60 (fm_cons eX0_stand_63 (fm_cons eX0_stand_64 (fm_cons eX0_stand_65 (fm_cons eX0_stand_68 (fm_cons eX0_stand_71 (fm_cons eX0_stand_72 (fm_cons eX0_stand_73 (fm_cons eX0_stand_76 (fm_cons eX0_stand_77 (fm_cons eX0_stand_80 (fm_cons eX0_stand_83 (fm_cons eX0_stand_84 (fm_cons eX0_stand_85 (fm_cons eX0_stand_88 (fm_cons eX0_stand_91 (fm_cons eX0_stand_92 (fm_cons eX0_stand_93 (fm_cons eX0_stand_96 (fm_cons eX0_stand_99 (fm_cons eX0_stand_100 (fm_cons eX0_stand_102 (fm_nil)))))))))))))))))))))))))))))))))))
theorem zX0_stand : SwZ nX0_stand (Mt mX0_stand 2) := wholeZ (mi := nX0_stand) (cd := mX0_stand) aX0_stand rfl (HdZ.none rfl)
abbrev nX0_isFar : MI := (cX0_isFar, 1, (some (.boolean)), RX0, "isFar", [], 1, 29)
theorem hyX0_isFar : yX0_isFar.cls ≠ "java/lang/invoke/MethodHandle" ∧ yX0_isFar.cls ≠ "java/lang/invoke/VarHandle" := by decide +kernel
theorem pnX0_isFar : (parseMethodDescriptor yX0_isFar.desc).map (fun d => d.parameters.length) = some 1 := by decide +kernel
theorem wdX0_isFar : CdW yX0_isFar (nX0_isFar) := ⟨Or.inl ⟨q962, rfl⟩, rfl, rfl, plainFor_of_name (by decide +kernel)⟩
theorem eX0_isFar_0 : SiZ nX0_isFar 0 (i_iload 0 1) := s_iload_n dX0_isFar_0 rfl
theorem eX0_isFar_1 : SiZ nX0_isFar 1 (i_i2l 2) := s_i2l dX0_isFar_1
theorem eX0_isFar_2 : SiZ nX0_isFar 2 (i_push (.long 0) 3) := s_lconst dX0_isFar_2 (by decide)
theorem eX0_isFar_3 : SiZ nX0_isFar 3 (i_push (.long 60) 6) := s_ldc2 dX0_isFar_3 q963
theorem eX0_isFar_6 : ScZ nX0_isFar 6 (c_S 3 9 6 (Mt mX0_isIn 6)) := e_S (mi := nX0_isFar) (mi' := nX0_isIn) (len := 3) (fun h as rest hl => cs_S (mi := nX0_isFar) (pc := 6) (y := yX0_isIn) (idx := 86) dX0_isFar_6 q351 q352 q77 q353 hyX0_isIn pnX0_isIn hl) wdX0_isIn zX0_isIn (Nat.le_of_ble_eq_true rfl) (Nat.le_of_ble_eq_true rfl)
theorem eX0_isFar_9 : SiZ nX0_isFar 9 i_zret := s_zret dX0_isFar_9 rfl
theorem aX0_isFar : ∀ x ∈ mX0_isFar.1, EnZ nX0_isFar x := fm_cons eX0_isFar_0 (fm_cons eX0_isFar_1 (fm_cons eX0_isFar_2 (fm_cons eX0_isFar_3 (fm_cons eX0_isFar_6 (fm_cons eX0_isFar_9 (fm_nil))))))
theorem zX0_isFar : SwZ nX0_isFar (Mt mX0_isFar 1) := wholeZ (mi := nX0_isFar) (cd := mX0_isFar) aX0_isFar rfl (HdZ.none rfl)
abbrev nX0_tried : MI := (cX0_tried, 1, (some (.object "FishReaders$Library")), RX0, "tried", [], 2, 55)
theorem hyX0_tried : yX0_tried.cls ≠ "java/lang/invoke/MethodHandle" ∧ yX0_tried.cls ≠ "java/lang/invoke/VarHandle" := by decide +kernel
theorem pnX0_tried : (parseMethodDescriptor yX0_tried.desc).map (fun d => d.parameters.length) = some 0 := by decide +kernel
theorem wdX0_tried : CdW yX0_tried (nX0_tried) := ⟨Or.inl ⟨q967, rfl⟩, rfl, rfl, plainFor_of_name (by decide +kernel)⟩
theorem eX0_tried_0 : SiZ nX0_tried 0 (i_aload 0 1) := s_aload_n dX0_tried_0 rfl
theorem eX0_tried_1 : SiZ nX0_tried 1 (i_getf 13 [1] 4) := s_getf dX0_tried_1 (fm_cons (⟨_, _, _, _, _, _, rfl, fkX0_43_1⟩) (fm_nil))
theorem eX0_tried_4 : SiZ nX0_tried 4 (i_aload 0 5) := s_aload_n dX0_tried_4 rfl
theorem eX0_tried_5 : SiZ nX0_tried 5 (i_getf 11 [1] 8) := s_getf dX0_tried_5 (fm_cons (⟨_, _, _, _, _, _, rfl, fkX0_39_1⟩) (fm_nil))
theorem eX0_tried_8 : ScZ nX0_tried 8 (c_V 1 11 2 2 (Mt mX1_become 2)) := e_V (mi := nX0_tried) (mi' := nX1_become) (len := 3) (fun h b as rest hk hl => cs_V (ci := 1) (mi := nX0_tried) (pc := 8) (y := yX1_become) (idx := 162) dX0_tried_8 q763 q764 q765 rfl hk hyX1_become (sigC q766) pnX1_become hl) wdX1_become zX1_become (Nat.le_of_ble_eq_true rfl) (Nat.le_of_ble_eq_true rfl)
theorem eX0_tried_11 : SiZ nX0_tried 11 i_aret := s_aret dX0_tried_11 rfl (Or.inl ⟨_, rfl⟩)
theorem aX0_tried : ∀ x ∈ mX0_tried.1, EnZ nX0_tried x := fm_cons eX0_tried_0 (fm_cons eX0_tried_1 (fm_cons eX0_tried_4 (fm_cons eX0_tried_5 (fm_cons eX0_tried_8 (fm_cons eX0_tried_11 (fm_nil))))))
theorem zX0_tried : SwZ nX0_tried (Mt mX0_tried 1) := wholeZ (mi := nX0_tried) (cd := mX0_tried) aX0_tried rfl (HdZ.none rfl)
abbrev nX0_goOn : MI := (cX0_goOn, 3, (some (.object "FishReaders$Library")), RX0, "goOn", [], 6, 158)
theorem hyX0_goOn : yX0_goOn.cls ≠ "java/lang/invoke/MethodHandle" ∧ yX0_goOn.cls ≠ "java/lang/invoke/VarHandle" := by decide +kernel
theorem pnX0_goOn : (parseMethodDescriptor yX0_goOn.desc).map (fun d => d.parameters.length) = some 1 := by decide +kernel
theorem wdX0_goOn : CdW yX0_goOn (nX0_goOn) := ⟨Or.inl ⟨q971, rfl⟩, rfl, rfl, plainFor_of_name (by decide +kernel)⟩
theorem eX0_goOn_0 : SiZ nX0_goOn 0 (i_push (.int 0) 1) := s_iconst dX0_goOn_0 (by decide)
theorem eX0_goOn_1 : SiZ nX0_goOn 1 (i_istore 2 2) := s_istore_n dX0_goOn_1 rfl
theorem eX0_goOn_2 : SiZ nX0_goOn 2 (i_iload 2 3) := s_iload_n dX0_goOn_2 rfl
theorem eX0_goOn_3 : SiZ nX0_goOn 3 (i_iload 1 4) := s_iload_n dX0_goOn_3 rfl
theorem eX0_goOn_4 : SiZ nX0_goOn 4 (i_icmp (fun x y => y ≤ x) 21 7) := s_icmp_ge dX0_goOn_4 (by decide)
theorem eX0_goOn_7 : SiZ nX0_goOn 7 (i_aload 0 8) := s_aload_n dX0_goOn_7 rfl
theorem eX0_goOn_8 : SiZ nX0_goOn 8 (i_getf 13 [1] 11) := s_getf dX0_goOn_8 (fm_cons (⟨_, _, _, _, _, _, rfl, fkX0_43_1⟩) (fm_nil))
theorem eX0_goOn_11 : ScZ nX0_goOn 11 (c_V 0 14 2 2 (Mt mX1_pass 2)) := e_V (mi := nX0_goOn) (mi' := nX1_pass) (len := 3) (fun h b as rest hk hl => cs_V (ci := 1) (mi := nX0_goOn) (pc := 11) (y := yX1_pass) (idx := 196) dX0_goOn_11 q791 q792 q793 rfl hk hyX1_pass (sigC q794) pnX1_pass hl) wdX1_pass zX1_pass (Nat.le_of_ble_eq_true rfl) (Nat.le_of_ble_eq_true rfl)
theorem eX0_goOn_14 : SiZ nX0_goOn 14 (i_pop 15) := s_pop dX0_goOn_14
theorem eX0_goOn_15 : SiZ nX0_goOn 15 (i_iinc 2 1 18) := s_iinc dX0_goOn_15 (by decide)
theorem eX0_goOn_18 : SiZ nX0_goOn 18 (i_goto 2) := s_goto dX0_goOn_18 (by decide)
theorem eX0_goOn_21 : SiZ nX0_goOn 21 (i_aload 0 22) := s_aload_n dX0_goOn_21 rfl
theorem eX0_goOn_22 : SiZ nX0_goOn 22 (i_getf 13 [1] 25) := s_getf dX0_goOn_22 (fm_cons (⟨_, _, _, _, _, _, rfl, fkX0_43_1⟩) (fm_nil))
theorem eX0_goOn_25 : SiZ nX0_goOn 25 i_aret := s_aret dX0_goOn_25 rfl (Or.inl ⟨_, rfl⟩)
theorem aX0_goOn : ∀ x ∈ mX0_goOn.1, EnZ nX0_goOn x := fm_cons eX0_goOn_0 (fm_cons eX0_goOn_1 (fm_cons eX0_goOn_2 (fm_cons eX0_goOn_3 (fm_cons eX0_goOn_4 (fm_cons eX0_goOn_7 (fm_cons eX0_goOn_8 (fm_cons eX0_goOn_11 (fm_cons eX0_goOn_14 (fm_cons eX0_goOn_15 (fm_cons eX0_goOn_18 (fm_cons eX0_goOn_21 (fm_cons eX0_goOn_22 (fm_cons eX0_goOn_25 (fm_nil))))))))))))))
theorem zX0_goOn : SwZ nX0_goOn (Mt mX0_goOn 3) := wholeZ (mi := nX0_goOn) (cd := mX0_goOn) aX0_goOn rfl (HdZ.none rfl)
abbrev nX0_ahead : MI := (cX0_ahead, 4, (some (.int)), RX0, "ahead", [], 7, 184)
theorem hyX0_ahead : yX0_ahead.cls ≠ "java/lang/invoke/MethodHandle" ∧ yX0_ahead.cls ≠ "java/lang/invoke/VarHandle" := by decide +kernel
theorem pnX0_ahead : (parseMethodDescriptor yX0_ahead.desc).map (fun d => d.parameters.length) = some 3 := by decide +kernel
theorem wdX0_ahead : CdW yX0_ahead (nX0_ahead) := ⟨Or.inl ⟨q959, rfl⟩, rfl, rfl, plainFor_of_name (by decide +kernel)⟩
theorem eX0_ahead_0 : SiZ nX0_ahead 0 (i_aload 0 1) := s_aload_n dX0_ahead_0 rfl
theorem eX0_ahead_1 : SiZ nX0_ahead 1 (i_iload 1 2) := s_iload_n dX0_ahead_1 rfl
theorem eX0_ahead_2 : ScZ nX0_ahead 2 (c_V 1 5 2 1 (Mt mX0_isBook 2)) := e_V (mi := nX0_ahead) (mi' := nX0_isBook) (len := 3) (fun h b as rest hk hl => cs_V (ci := 0) (mi := nX0_ahead) (pc := 2) (y := yX0_isBook) (idx := 206) dX0_ahead_2 q892 q894 qs23 rfl hk hyX0_isBook (sigC q895) pnX0_isBook hl) wdX0_isBook zX0_isBook (Nat.le_of_ble_eq_true rfl) (Nat.le_of_ble_eq_true rfl)
theorem eX0_ahead_5 : SiZ nX0_ahead 5 (i_if (fun x => x = 0) 22 8) := s_if_eq dX0_ahead_5 (by decide)
theorem eX0_ahead_8 : SiZ nX0_ahead 8 (i_iload 2 9) := s_iload_n dX0_ahead_8 rfl
theorem eX0_ahead_9 : ScZ nX0_ahead 9 (c_S 1 12 1 (Mt mX0_isFar 1)) := e_S (mi := nX0_ahead) (mi' := nX0_isFar) (len := 3) (fun h as rest hl => cs_S (mi := nX0_ahead) (pc := 9) (y := yX0_isFar) (idx := 272) dX0_ahead_9 q960 q961 q77 q962 hyX0_isFar pnX0_isFar hl) wdX0_isFar zX0_isFar (Nat.le_of_ble_eq_true rfl) (Nat.le_of_ble_eq_true rfl)
theorem eX0_ahead_12 : SiZ nX0_ahead 12 (i_if (fun x => x = 0) 22 15) := s_if_eq dX0_ahead_12 (by decide)
theorem eX0_ahead_15 : SiZ nX0_ahead 15 (i_iload 3 16) := s_iload_n dX0_ahead_15 rfl
theorem eX0_ahead_16 : ScZ nX0_ahead 16 (c_S 1 19 1 (Mt mX0_isHalf 1)) := e_S (mi := nX0_ahead) (mi' := nX0_isHalf) (len := 3) (fun h as rest hl => cs_S (mi := nX0_ahead) (pc := 16) (y := yX0_isHalf) (idx := 209) dX0_ahead_16 q896 q897 q77 q898 hyX0_isHalf pnX0_isHalf hl) wdX0_isHalf zX0_isHalf (Nat.le_of_ble_eq_true rfl) (Nat.le_of_ble_eq_true rfl)
theorem eX0_ahead_19 : SiZ nX0_ahead 19 (i_if (fun x => ¬ x = 0) 25 22) := s_if_ne dX0_ahead_19 (by decide)
theorem eX0_ahead_22 : SiZ nX0_ahead 22 (i_push (.int (-1000001)) 24) := s_ldc dX0_ahead_22 q355
theorem eX0_ahead_24 : SiZ nX0_ahead 24 i_iret := s_iret dX0_ahead_24 rfl
theorem eX0_ahead_25 : SiZ nX0_ahead 25 (i_aload 0 26) := s_aload_n dX0_ahead_25 rfl
theorem eX0_ahead_26 : ScZ nX0_ahead 26 (c_V 0 29 1 1 (Mt mX0_tried 1)) := e_V (mi := nX0_ahead) (mi' := nX0_tried) (len := 3) (fun h b as rest hk hl => cs_V (ci := 0) (mi := nX0_ahead) (pc := 26) (y := yX0_tried) (idx := 275) dX0_ahead_26 q964 q966 qs26 rfl hk hyX0_tried (sigC q967) pnX0_tried hl) wdX0_tried zX0_tried (Nat.le_of_ble_eq_true rfl) (Nat.le_of_ble_eq_true rfl)
theorem eX0_ahead_29 : SiZ nX0_ahead 29 (i_pop 30) := s_pop dX0_ahead_29
theorem eX0_ahead_30 : SiZ nX0_ahead 30 (i_aload 0 31) := s_aload_n dX0_ahead_30 rfl
theorem eX0_ahead_31 : SiZ nX0_ahead 31 (i_iload 2 32) := s_iload_n dX0_ahead_31 rfl
theorem eX0_ahead_32 : ScZ nX0_ahead 32 (c_V 1 35 3 1 (Mt mX0_goOn 3)) := e_V (mi := nX0_ahead) (mi' := nX0_goOn) (len := 3) (fun h b as rest hk hl => cs_V (ci := 0) (mi := nX0_ahead) (pc := 32) (y := yX0_goOn) (idx := 278) dX0_ahead_32 q968 q970 qs27 rfl hk hyX0_goOn (sigC q971) pnX0_goOn hl) wdX0_goOn zX0_goOn (Nat.le_of_ble_eq_true rfl) (Nat.le_of_ble_eq_true rfl)
theorem eX0_ahead_35 : SiZ nX0_ahead 35 (i_pop 36) := s_pop dX0_ahead_35
theorem eX0_ahead_36 : SiZ nX0_ahead 36 (i_iload 3 37) := s_iload_n dX0_ahead_36 rfl
theorem eX0_ahead_37 : SiZ nX0_ahead 37 (i_if (fun x => ¬ x = 0) 52 40) := s_if_ne dX0_ahead_37 (by decide)
theorem eX0_ahead_40 : SiZ nX0_ahead 40 (i_aload 0 41) := s_aload_n dX0_ahead_40 rfl
theorem eX0_ahead_41 : SiZ nX0_ahead 41 (i_getf 13 [1] 44) := s_getf dX0_ahead_41 (fm_cons (⟨_, _, _, _, _, _, rfl, fkX0_43_1⟩) (fm_nil))
theorem eX0_ahead_44 : SiZ nX0_ahead 44 (i_getf 39 [2] 47) := s_getf dX0_ahead_44 (fm_cons (⟨_, _, _, _, _, _, rfl, fkX0_243_2⟩) (fm_nil))
theorem eX0_ahead_47 : SiZ nX0_ahead 47 (i_iload 1 48) := s_iload_n dX0_ahead_47 rfl
theorem eX0_ahead_48 : SiZ nX0_ahead 48 (i_iald 51 49) := s_ald (j := 0) (by decide) (fun _ => rfl) dX0_ahead_48 (Or.inl ⟨rfl, rfl⟩)
theorem eX0_ahead_49 : SiZ nX0_ahead 49 (i_goto 61) := s_goto dX0_ahead_49 (by decide)
theorem eX0_ahead_52 : SiZ nX0_ahead 52 (i_aload 0 53) := s_aload_n dX0_ahead_52 rfl
theorem eX0_ahead_53 : SiZ nX0_ahead 53 (i_getf 13 [1] 56) := s_getf dX0_ahead_53 (fm_cons (⟨_, _, _, _, _, _, rfl, fkX0_43_1⟩) (fm_nil))
theorem eX0_ahead_56 : SiZ nX0_ahead 56 (i_getf 41 [2] 59) := s_getf dX0_ahead_56 (fm_cons (⟨_, _, _, _, _, _, rfl, fkX0_246_2⟩) (fm_nil))
theorem eX0_ahead_59 : SiZ nX0_ahead 59 (i_iload 1 60) := s_iload_n dX0_ahead_59 rfl
theorem eX0_ahead_60 : SiZ nX0_ahead 60 (i_iald 51 61) := s_ald (j := 0) (by decide) (fun _ => rfl) dX0_ahead_60 (Or.inl ⟨rfl, rfl⟩)
theorem eX0_ahead_61 : SiZ nX0_ahead 61 i_iret := s_iret dX0_ahead_61 rfl
theorem aX0_ahead : ∀ x ∈ mX0_ahead.1, EnZ nX0_ahead x := fm_cons eX0_ahead_0 (fm_cons eX0_ahead_1 (fm_cons eX0_ahead_2 (fm_cons eX0_ahead_5 (fm_cons eX0_ahead_8 (fm_cons eX0_ahead_9 (fm_cons eX0_ahead_12 (fm_cons eX0_ahead_15 (fm_cons eX0_ahead_16 (fm_cons eX0_ahead_19 (fm_cons eX0_ahead_22 (fm_cons eX0_ahead_24 (fm_cons eX0_ahead_25 (fm_cons eX0_ahead_26 (fm_cons eX0_ahead_29 (fm_cons eX0_ahead_30 (fm_cons eX0_ahead_31 (fm_cons eX0_ahead_32 (fm_cons eX0_ahead_35 (fm_cons eX0_ahead_36 (fm_cons eX0_ahead_37 (fm_cons eX0_ahead_40 (fm_cons eX0_ahead_41 (fm_cons eX0_ahead_44 (fm_cons eX0_ahead_47 (fm_cons eX0_ahead_48 (fm_cons eX0_ahead_49 (fm_cons eX0_ahead_52 (fm_cons eX0_ahead_53 (fm_cons eX0_ahead_56 (fm_cons eX0_ahead_59 (fm_cons eX0_ahead_60 (fm_cons eX0_ahead_61 (fm_nil)))))))))))))))))))))))))))))))))
theorem zX0_ahead : SwZ nX0_ahead (Mt mX0_ahead 4) := wholeZ (mi := nX0_ahead) (cd := mX0_ahead) aX0_ahead rfl (HdZ.none rfl)
abbrev nX0_later : MI := (cX0_later, 4, (some (.int)), RX0, "later", [], 7, 184)
theorem hyX0_later : yX0_later.cls ≠ "java/lang/invoke/MethodHandle" ∧ yX0_later.cls ≠ "java/lang/invoke/VarHandle" := by decide +kernel
theorem pnX0_later : (parseMethodDescriptor yX0_later.desc).map (fun d => d.parameters.length) = some 3 := by decide +kernel
theorem wdX0_later : CdW yX0_later (nX0_later) := ⟨Or.inl ⟨q975, rfl⟩, rfl, rfl, plainFor_of_name (by decide +kernel)⟩
theorem eX0_later_0 : SiZ nX0_later 0 (i_aload 0 1) := s_aload_n dX0_later_0 rfl
theorem eX0_later_1 : SiZ nX0_later 1 (i_iload 1 2) := s_iload_n dX0_later_1 rfl
theorem eX0_later_2 : ScZ nX0_later 2 (c_V 1 5 2 1 (Mt mX0_isFish 2)) := e_V (mi := nX0_later) (mi' := nX0_isFish) (len := 3) (fun h b as rest hk hl => cs_V (ci := 0) (mi := nX0_later) (pc := 2) (y := yX0_isFish) (idx := 231) dX0_later_2 q918 q920 qs24 rfl hk hyX0_isFish (sigC q921) pnX0_isFish hl) wdX0_isFish zX0_isFish (Nat.le_of_ble_eq_true rfl) (Nat.le_of_ble_eq_true rfl)
theorem eX0_later_5 : SiZ nX0_later 5 (i_if (fun x => x = 0) 22 8) := s_if_eq dX0_later_5 (by decide)
theorem eX0_later_8 : SiZ nX0_later 8 (i_iload 2 9) := s_iload_n dX0_later_8 rfl
theorem eX0_later_9 : ScZ nX0_later 9 (c_S 1 12 1 (Mt mX0_isFar 1)) := e_S (mi := nX0_later) (mi' := nX0_isFar) (len := 3) (fun h as rest hl => cs_S (mi := nX0_later) (pc := 9) (y := yX0_isFar) (idx := 272) dX0_later_9 q960 q961 q77 q962 hyX0_isFar pnX0_isFar hl) wdX0_isFar zX0_isFar (Nat.le_of_ble_eq_true rfl) (Nat.le_of_ble_eq_true rfl)
theorem eX0_later_12 : SiZ nX0_later 12 (i_if (fun x => x = 0) 22 15) := s_if_eq dX0_later_12 (by decide)
theorem eX0_later_15 : SiZ nX0_later 15 (i_iload 3 16) := s_iload_n dX0_later_15 rfl
theorem eX0_later_16 : ScZ nX0_later 16 (c_S 1 19 1 (Mt mX0_isHalf 1)) := e_S (mi := nX0_later) (mi' := nX0_isHalf) (len := 3) (fun h as rest hl => cs_S (mi := nX0_later) (pc := 16) (y := yX0_isHalf) (idx := 209) dX0_later_16 q896 q897 q77 q898 hyX0_isHalf pnX0_isHalf hl) wdX0_isHalf zX0_isHalf (Nat.le_of_ble_eq_true rfl) (Nat.le_of_ble_eq_true rfl)
theorem eX0_later_19 : SiZ nX0_later 19 (i_if (fun x => ¬ x = 0) 25 22) := s_if_ne dX0_later_19 (by decide)
theorem eX0_later_22 : SiZ nX0_later 22 (i_push (.int (-1000001)) 24) := s_ldc dX0_later_22 q355
theorem eX0_later_24 : SiZ nX0_later 24 i_iret := s_iret dX0_later_24 rfl
theorem eX0_later_25 : SiZ nX0_later 25 (i_aload 0 26) := s_aload_n dX0_later_25 rfl
theorem eX0_later_26 : ScZ nX0_later 26 (c_V 0 29 1 1 (Mt mX0_tried 1)) := e_V (mi := nX0_later) (mi' := nX0_tried) (len := 3) (fun h b as rest hk hl => cs_V (ci := 0) (mi := nX0_later) (pc := 26) (y := yX0_tried) (idx := 275) dX0_later_26 q964 q966 qs26 rfl hk hyX0_tried (sigC q967) pnX0_tried hl) wdX0_tried zX0_tried (Nat.le_of_ble_eq_true rfl) (Nat.le_of_ble_eq_true rfl)
theorem eX0_later_29 : SiZ nX0_later 29 (i_pop 30) := s_pop dX0_later_29
theorem eX0_later_30 : SiZ nX0_later 30 (i_aload 0 31) := s_aload_n dX0_later_30 rfl
theorem eX0_later_31 : SiZ nX0_later 31 (i_iload 2 32) := s_iload_n dX0_later_31 rfl
theorem eX0_later_32 : ScZ nX0_later 32 (c_V 1 35 3 1 (Mt mX0_goOn 3)) := e_V (mi := nX0_later) (mi' := nX0_goOn) (len := 3) (fun h b as rest hk hl => cs_V (ci := 0) (mi := nX0_later) (pc := 32) (y := yX0_goOn) (idx := 278) dX0_later_32 q968 q970 qs27 rfl hk hyX0_goOn (sigC q971) pnX0_goOn hl) wdX0_goOn zX0_goOn (Nat.le_of_ble_eq_true rfl) (Nat.le_of_ble_eq_true rfl)
theorem eX0_later_35 : SiZ nX0_later 35 (i_pop 36) := s_pop dX0_later_35
theorem eX0_later_36 : SiZ nX0_later 36 (i_iload 3 37) := s_iload_n dX0_later_36 rfl
theorem eX0_later_37 : SiZ nX0_later 37 (i_push (.int 1) 38) := s_iconst dX0_later_37 (by decide)
theorem eX0_later_38 : SiZ nX0_later 38 (i_icmp (fun x y => ¬ x = y) 53 41) := s_icmp_ne dX0_later_38 (by decide)
theorem eX0_later_41 : SiZ nX0_later 41 (i_aload 0 42) := s_aload_n dX0_later_41 rfl
theorem eX0_later_42 : SiZ nX0_later 42 (i_getf 13 [1] 45) := s_getf dX0_later_42 (fm_cons (⟨_, _, _, _, _, _, rfl, fkX0_43_1⟩) (fm_nil))
theorem eX0_later_45 : SiZ nX0_later 45 (i_getf 55 [2] 48) := s_getf dX0_later_45 (fm_cons (⟨_, _, _, _, _, _, rfl, fkX0_254_2⟩) (fm_nil))
theorem eX0_later_48 : SiZ nX0_later 48 (i_iload 1 49) := s_iload_n dX0_later_48 rfl
theorem eX0_later_49 : SiZ nX0_later 49 (i_iald 51 50) := s_ald (j := 0) (by decide) (fun _ => rfl) dX0_later_49 (Or.inl ⟨rfl, rfl⟩)
theorem eX0_later_50 : SiZ nX0_later 50 (i_goto 79) := s_goto dX0_later_50 (by decide)
theorem eX0_later_53 : SiZ nX0_later 53 (i_aload 0 54) := s_aload_n dX0_later_53 rfl
theorem eX0_later_54 : SiZ nX0_later 54 (i_getf 13 [1] 57) := s_getf dX0_later_54 (fm_cons (⟨_, _, _, _, _, _, rfl, fkX0_43_1⟩) (fm_nil))
theorem eX0_later_57 : SiZ nX0_later 57 (i_iload 1 58) := s_iload_n dX0_later_57 rfl
theorem eX0_later_58 : ScZ nX0_later 58 (c_V 1 61 2 2 (Mt mX1_isCaught 2)) := e_V (mi := nX0_later) (mi' := nX1_isCaught) (len := 3) (fun h b as rest hk hl => cs_V (ci := 1) (mi := nX0_later) (pc := 58) (y := yX1_isCaught) (idx := 234) dX0_later_58 q922 q797 q798 rfl hk hyX1_isCaught (sigC q799) pnX1_isCaught hl) wdX1_isCaught zX1_isCaught (Nat.le_of_ble_eq_true rfl) (Nat.le_of_ble_eq_true rfl)
theorem eX0_later_61 : SiZ nX0_later 61 (i_if (fun x => x = 0) 70 64) := s_if_eq dX0_later_61 (by decide)
theorem eX0_later_64 : SiZ nX0_later 64 (i_push (.int (-1000000)) 67) := s_ldcw dX0_later_64 q940
theorem eX0_later_67 : SiZ nX0_later 67 (i_goto 79) := s_goto dX0_later_67 (by decide)
theorem eX0_later_70 : SiZ nX0_later 70 (i_aload 0 71) := s_aload_n dX0_later_70 rfl
theorem eX0_later_71 : SiZ nX0_later 71 (i_getf 13 [1] 74) := s_getf dX0_later_71 (fm_cons (⟨_, _, _, _, _, _, rfl, fkX0_43_1⟩) (fm_nil))
theorem eX0_later_74 : SiZ nX0_later 74 (i_getf 53 [2] 77) := s_getf dX0_later_74 (fm_cons (⟨_, _, _, _, _, _, rfl, fkX0_237_2⟩) (fm_nil))
theorem eX0_later_77 : SiZ nX0_later 77 (i_iload 1 78) := s_iload_n dX0_later_77 rfl
theorem eX0_later_78 : SiZ nX0_later 78 (i_iald 51 79) := s_ald (j := 0) (by decide) (fun _ => rfl) dX0_later_78 (Or.inl ⟨rfl, rfl⟩)
theorem eX0_later_79 : SiZ nX0_later 79 i_iret := s_iret dX0_later_79 rfl
theorem aX0_later : ∀ x ∈ mX0_later.1, EnZ nX0_later x := fm_cons eX0_later_0 (fm_cons eX0_later_1 (fm_cons eX0_later_2 (fm_cons eX0_later_5 (fm_cons eX0_later_8 (fm_cons eX0_later_9 (fm_cons eX0_later_12 (fm_cons eX0_later_15 (fm_cons eX0_later_16 (fm_cons eX0_later_19 (fm_cons eX0_later_22 (fm_cons eX0_later_24 (fm_cons eX0_later_25 (fm_cons eX0_later_26 (fm_cons eX0_later_29 (fm_cons eX0_later_30 (fm_cons eX0_later_31 (fm_cons eX0_later_32 (fm_cons eX0_later_35 (fm_cons eX0_later_36 (fm_cons eX0_later_37 (fm_cons eX0_later_38 (fm_cons eX0_later_41 (fm_cons eX0_later_42 (fm_cons eX0_later_45 (fm_cons eX0_later_48 (fm_cons eX0_later_49 (fm_cons eX0_later_50 (fm_cons eX0_later_53 (fm_cons eX0_later_54 (fm_cons eX0_later_57 (fm_cons eX0_later_58 (fm_cons eX0_later_61 (fm_cons eX0_later_64 (fm_cons eX0_later_67 (fm_cons eX0_later_70 (fm_cons eX0_later_71 (fm_cons eX0_later_74 (fm_cons eX0_later_77 (fm_cons eX0_later_78 (fm_cons eX0_later_79 (fm_nil)))))))))))))))))))))))))))))))))))))))))
theorem zX0_later : SwZ nX0_later (Mt mX0_later 4) := wholeZ (mi := nX0_later) (cd := mX0_later) aX0_later rfl (HdZ.none rfl)
abbrev nX0_when : MI := (cX0_when, 3, (some (.int)), RX0, "when", [], 6, 158)
theorem hyX0_when : yX0_when.cls ≠ "java/lang/invoke/MethodHandle" ∧ yX0_when.cls ≠ "java/lang/invoke/VarHandle" := by decide +kernel
theorem pnX0_when : (parseMethodDescriptor yX0_when.desc).map (fun d => d.parameters.length) = some 1 := by decide +kernel
theorem wdX0_when : CdW yX0_when (nX0_when) := ⟨Or.inl ⟨q979, rfl⟩, rfl, rfl, plainFor_of_name (by decide +kernel)⟩
theorem eX0_when_0 : SiZ nX0_when 0 (i_aload 0 1) := s_aload_n dX0_when_0 rfl
theorem eX0_when_1 : SiZ nX0_when 1 (i_iload 1 2) := s_iload_n dX0_when_1 rfl
theorem eX0_when_2 : ScZ nX0_when 2 (c_V 1 5 2 1 (Mt mX0_isBook 2)) := e_V (mi := nX0_when) (mi' := nX0_isBook) (len := 3) (fun h b as rest hk hl => cs_V (ci := 0) (mi := nX0_when) (pc := 2) (y := yX0_isBook) (idx := 206) dX0_when_2 q892 q894 qs23 rfl hk hyX0_isBook (sigC q895) pnX0_isBook hl) wdX0_isBook zX0_isBook (Nat.le_of_ble_eq_true rfl) (Nat.le_of_ble_eq_true rfl)
theorem eX0_when_5 : SiZ nX0_when 5 (i_if (fun x => ¬ x = 0) 11 8) := s_if_ne dX0_when_5 (by decide)
theorem eX0_when_8 : SiZ nX0_when 8 (i_push (.int (-1000001)) 10) := s_ldc dX0_when_8 q355
theorem eX0_when_10 : SiZ nX0_when 10 i_iret := s_iret dX0_when_10 rfl
theorem eX0_when_11 : SiZ nX0_when 11 (i_aload 0 12) := s_aload_n dX0_when_11 rfl
theorem eX0_when_12 : ScZ nX0_when 12 (c_V 0 15 1 1 (Mt mX0_tried 1)) := e_V (mi := nX0_when) (mi' := nX0_tried) (len := 3) (fun h b as rest hk hl => cs_V (ci := 0) (mi := nX0_when) (pc := 12) (y := yX0_tried) (idx := 275) dX0_when_12 q964 q966 qs26 rfl hk hyX0_tried (sigC q967) pnX0_tried hl) wdX0_tried zX0_tried (Nat.le_of_ble_eq_true rfl) (Nat.le_of_ble_eq_true rfl)
theorem eX0_when_15 : SiZ nX0_when 15 (i_pop 16) := s_pop dX0_when_15
theorem eX0_when_16 : SiZ nX0_when 16 (i_push (.int 0) 17) := s_iconst dX0_when_16 (by decide)
theorem eX0_when_17 : SiZ nX0_when 17 (i_istore 2 18) := s_istore_n dX0_when_17 rfl
theorem eX0_when_18 : SiZ nX0_when 18 (i_iload 2 19) := s_iload_n dX0_when_18 rfl
theorem eX0_when_19 : SiZ nX0_when 19 (i_push (.int 60) 21) := s_bipush dX0_when_19 (by decide)
theorem eX0_when_21 : SiZ nX0_when 21 (i_icmp (fun x y => y < x) 52 24) := s_icmp_gt dX0_when_21 (by decide)
theorem eX0_when_24 : SiZ nX0_when 24 (i_aload 0 25) := s_aload_n dX0_when_24 rfl
theorem eX0_when_25 : SiZ nX0_when 25 (i_getf 13 [1] 28) := s_getf dX0_when_25 (fm_cons (⟨_, _, _, _, _, _, rfl, fkX0_43_1⟩) (fm_nil))
theorem eX0_when_28 : SiZ nX0_when 28 (i_getf 39 [2] 31) := s_getf dX0_when_28 (fm_cons (⟨_, _, _, _, _, _, rfl, fkX0_243_2⟩) (fm_nil))
theorem eX0_when_31 : SiZ nX0_when 31 (i_iload 1 32) := s_iload_n dX0_when_31 rfl
theorem eX0_when_32 : SiZ nX0_when 32 (i_iald 51 33) := s_ald (j := 0) (by decide) (fun _ => rfl) dX0_when_32 (Or.inl ⟨rfl, rfl⟩)
theorem eX0_when_33 : SiZ nX0_when 33 (i_if (fun x => ¬ x = 0) 38 36) := s_if_ne dX0_when_33 (by decide)
theorem eX0_when_36 : SiZ nX0_when 36 (i_iload 2 37) := s_iload_n dX0_when_36 rfl
theorem eX0_when_37 : SiZ nX0_when 37 i_iret := s_iret dX0_when_37 rfl
theorem eX0_when_38 : SiZ nX0_when 38 (i_aload 0 39) := s_aload_n dX0_when_38 rfl
theorem eX0_when_39 : SiZ nX0_when 39 (i_getf 13 [1] 42) := s_getf dX0_when_39 (fm_cons (⟨_, _, _, _, _, _, rfl, fkX0_43_1⟩) (fm_nil))
theorem eX0_when_42 : ScZ nX0_when 42 (c_V 0 45 2 2 (Mt mX1_pass 2)) := e_V (mi := nX0_when) (mi' := nX1_pass) (len := 3) (fun h b as rest hk hl => cs_V (ci := 1) (mi := nX0_when) (pc := 42) (y := yX1_pass) (idx := 196) dX0_when_42 q791 q792 q793 rfl hk hyX1_pass (sigC q794) pnX1_pass hl) wdX1_pass zX1_pass (Nat.le_of_ble_eq_true rfl) (Nat.le_of_ble_eq_true rfl)
theorem eX0_when_45 : SiZ nX0_when 45 (i_pop 46) := s_pop dX0_when_45
theorem eX0_when_46 : SiZ nX0_when 46 (i_iinc 2 1 49) := s_iinc dX0_when_46 (by decide)
theorem eX0_when_49 : SiZ nX0_when 49 (i_goto 18) := s_goto dX0_when_49 (by decide)
theorem eX0_when_52 : SiZ nX0_when 52 (i_push (.int (-1000000)) 55) := s_ldcw dX0_when_52 q940
theorem eX0_when_55 : SiZ nX0_when 55 i_iret := s_iret dX0_when_55 rfl
theorem aX0_when : ∀ x ∈ mX0_when.1, EnZ nX0_when x := fm_cons eX0_when_0 (fm_cons eX0_when_1 (fm_cons eX0_when_2 (fm_cons eX0_when_5 (fm_cons eX0_when_8 (fm_cons eX0_when_10 (fm_cons eX0_when_11 (fm_cons eX0_when_12 (fm_cons eX0_when_15 (fm_cons eX0_when_16 (fm_cons eX0_when_17 (fm_cons eX0_when_18 (fm_cons eX0_when_19 (fm_cons eX0_when_21 (fm_cons eX0_when_24 (fm_cons eX0_when_25 (fm_cons eX0_when_28 (fm_cons eX0_when_31 (fm_cons eX0_when_32 (fm_cons eX0_when_33 (fm_cons eX0_when_36 (fm_cons eX0_when_37 (fm_cons eX0_when_38 (fm_cons eX0_when_39 (fm_cons eX0_when_42 (fm_cons eX0_when_45 (fm_cons eX0_when_46 (fm_cons eX0_when_49 (fm_cons eX0_when_52 (fm_cons eX0_when_55 (fm_nil))))))))))))))))))))))))))))))
theorem zX0_when : SwZ nX0_when (Mt mX0_when 3) := wholeZ (mi := nX0_when) (cd := mX0_when) aX0_when rfl (HdZ.none rfl)
abbrev nX1_gone : MI := (cX1_gone, 3, (some (.int)), RX1, "gone", [], 0, 0)
theorem hyX1_gone : yX1_gone.cls ≠ "java/lang/invoke/MethodHandle" ∧ yX1_gone.cls ≠ "java/lang/invoke/VarHandle" := by decide +kernel
theorem pnX1_gone : (parseMethodDescriptor yX1_gone.desc).map (fun d => d.parameters.length) = some 0 := by decide +kernel
theorem wdX1_gone : CdW yX1_gone (nX1_gone) := ⟨Or.inl ⟨q987, rfl⟩, rfl, rfl, plainFor_of_name (by decide +kernel)⟩
theorem eX1_gone_0 : SiZ nX1_gone 0 (i_push (.int 0) 1) := s_iconst dX1_gone_0 (by decide)
theorem eX1_gone_1 : SiZ nX1_gone 1 (i_istore 1 2) := s_istore_n dX1_gone_1 rfl
theorem eX1_gone_2 : SiZ nX1_gone 2 (i_push (.int 0) 3) := s_iconst dX1_gone_2 (by decide)
theorem eX1_gone_3 : SiZ nX1_gone 3 (i_istore 2 4) := s_istore_n dX1_gone_3 rfl
theorem eX1_gone_4 : SiZ nX1_gone 4 (i_iload 2 5) := s_iload_n dX1_gone_4 rfl
theorem eX1_gone_5 : SiZ nX1_gone 5 (i_aload 0 6) := s_aload_n dX1_gone_5 rfl
theorem eX1_gone_6 : SiZ nX1_gone 6 (i_getf 36 [2] 9) := s_getf dX1_gone_6 (fm_cons (⟨_, _, _, _, _, _, rfl, fkX1_48_2⟩) (fm_nil))
theorem eX1_gone_9 : SiZ nX1_gone 9 (i_icmp (fun x y => y ≤ x) 37 12) := s_icmp_ge dX1_gone_9 (by decide)
theorem eX1_gone_12 : SiZ nX1_gone 12 (i_iload 1 13) := s_iload_n dX1_gone_12 rfl
theorem eX1_gone_13 : SiZ nX1_gone 13 (i_aload 0 14) := s_aload_n dX1_gone_13 rfl
theorem eX1_gone_14 : SiZ nX1_gone 14 (i_getf 39 [2] 17) := s_getf dX1_gone_14 (fm_cons (⟨_, _, _, _, _, _, rfl, fkX1_9_2⟩) (fm_nil))
theorem eX1_gone_17 : SiZ nX1_gone 17 (i_iload 2 18) := s_iload_n dX1_gone_17 rfl
theorem eX1_gone_18 : SiZ nX1_gone 18 (i_iald 51 19) := s_ald (j := 0) (by decide) (fun _ => rfl) dX1_gone_18 (Or.inl ⟨rfl, rfl⟩)
theorem eX1_gone_19 : SiZ nX1_gone 19 (i_if (fun x => ¬ x = 0) 28 22) := s_if_ne dX1_gone_19 (by decide)
theorem eX1_gone_22 : SiZ nX1_gone 22 (i_push (.int 1) 23) := s_iconst dX1_gone_22 (by decide)
theorem eX1_gone_23 : SiZ nX1_gone 23 (i_iload 2 24) := s_iload_n dX1_gone_23 rfl
theorem eX1_gone_24 : SiZ nX1_gone 24 (i_bin (fun x y => x <<< (y &&& 31)) 25) := s_ishl dX1_gone_24
theorem eX1_gone_25 : SiZ nX1_gone 25 (i_goto 29) := s_goto dX1_gone_25 (by decide)
theorem eX1_gone_28 : SiZ nX1_gone 28 (i_push (.int 0) 29) := s_iconst dX1_gone_28 (by decide)
theorem eX1_gone_29 : SiZ nX1_gone 29 (i_bin (fun x y => x ||| y) 30) := s_ior dX1_gone_29
theorem eX1_gone_30 : SiZ nX1_gone 30 (i_istore 1 31) := s_istore_n dX1_gone_30 rfl
theorem eX1_gone_31 : SiZ nX1_gone 31 (i_iinc 2 1 34) := s_iinc dX1_gone_31 (by decide)
theorem eX1_gone_34 : SiZ nX1_gone 34 (i_goto 4) := s_goto dX1_gone_34 (by decide)
theorem eX1_gone_37 : SiZ nX1_gone 37 (i_iload 1 38) := s_iload_n dX1_gone_37 rfl
theorem eX1_gone_38 : SiZ nX1_gone 38 i_iret := s_iret dX1_gone_38 rfl
theorem aX1_gone : ∀ x ∈ mX1_gone.1, EnZ nX1_gone x := fm_cons eX1_gone_0 (fm_cons eX1_gone_1 (fm_cons eX1_gone_2 (fm_cons eX1_gone_3 (fm_cons eX1_gone_4 (fm_cons eX1_gone_5 (fm_cons eX1_gone_6 (fm_cons eX1_gone_9 (fm_cons eX1_gone_12 (fm_cons eX1_gone_13 (fm_cons eX1_gone_14 (fm_cons eX1_gone_17 (fm_cons eX1_gone_18 (fm_cons eX1_gone_19 (fm_cons eX1_gone_22 (fm_cons eX1_gone_23 (fm_cons eX1_gone_24 (fm_cons eX1_gone_25 (fm_cons eX1_gone_28 (fm_cons eX1_gone_29 (fm_cons eX1_gone_30 (fm_cons eX1_gone_31 (fm_cons eX1_gone_34 (fm_cons eX1_gone_37 (fm_cons eX1_gone_38 (fm_nil)))))))))))))))))))))))))
theorem zX1_gone : SwZ nX1_gone (Mt mX1_gone 3) := wholeZ (mi := nX1_gone) (cd := mX1_gone) aX1_gone rfl (HdZ.none rfl)
abbrev nJ16_numberOfTrailingZeros : MI := (cJ16_numberOfTrailingZeros, 2, (some (.int)), RJ16, "numberOfTrailingZeros", [], 0, 0)
theorem hyJ16_numberOfTrailingZeros : yJ16_numberOfTrailingZeros.cls ≠ "java/lang/invoke/MethodHandle" ∧ yJ16_numberOfTrailingZeros.cls ≠ "java/lang/invoke/VarHandle" := by decide +kernel
theorem pnJ16_numberOfTrailingZeros : (parseMethodDescriptor yJ16_numberOfTrailingZeros.desc).map (fun d => d.parameters.length) = some 1 := by decide +kernel
theorem wdJ16_numberOfTrailingZeros : CdW yJ16_numberOfTrailingZeros (nJ16_numberOfTrailingZeros) := ⟨Or.inl ⟨q990, rfl⟩, rfl, rfl, plainFor_of_name (by decide +kernel)⟩
theorem eJ16_numberOfTrailingZeros_0 : SiZ nJ16_numberOfTrailingZeros 0 (i_iload 0 1) := s_iload_n dJ16_numberOfTrailingZeros_0 rfl
theorem eJ16_numberOfTrailingZeros_1 : SiZ nJ16_numberOfTrailingZeros 1 (i_push (.int (-1)) 2) := s_iconst dJ16_numberOfTrailingZeros_1 (by decide)
theorem eJ16_numberOfTrailingZeros_2 : SiZ nJ16_numberOfTrailingZeros 2 (i_bin (fun x y => x ^^^ y) 3) := s_ixor dJ16_numberOfTrailingZeros_2
theorem eJ16_numberOfTrailingZeros_3 : SiZ nJ16_numberOfTrailingZeros 3 (i_iload 0 4) := s_iload_n dJ16_numberOfTrailingZeros_3 rfl
theorem eJ16_numberOfTrailingZeros_4 : SiZ nJ16_numberOfTrailingZeros 4 (i_push (.int 1) 5) := s_iconst dJ16_numberOfTrailingZeros_4 (by decide)
theorem eJ16_numberOfTrailingZeros_5 : SiZ nJ16_numberOfTrailingZeros 5 (i_bin (fun x y => x - y) 6) := s_isub dJ16_numberOfTrailingZeros_5
theorem eJ16_numberOfTrailingZeros_6 : SiZ nJ16_numberOfTrailingZeros 6 (i_bin (fun x y => x &&& y) 7) := s_iand dJ16_numberOfTrailingZeros_6
theorem eJ16_numberOfTrailingZeros_7 : SiZ nJ16_numberOfTrailingZeros 7 (i_istore 0 8) := s_istore_n dJ16_numberOfTrailingZeros_7 rfl
theorem eJ16_numberOfTrailingZeros_8 : SiZ nJ16_numberOfTrailingZeros 8 (i_iload 0 9) := s_iload_n dJ16_numberOfTrailingZeros_8 rfl
theorem eJ16_numberOfTrailingZeros_9 : SiZ nJ16_numberOfTrailingZeros 9 (i_if (fun x => 0 < x) 17 12) := s_if_gt dJ16_numberOfTrailingZeros_9 (by decide)
theorem eJ16_numberOfTrailingZeros_12 : SiZ nJ16_numberOfTrailingZeros 12 (i_iload 0 13) := s_iload_n dJ16_numberOfTrailingZeros_12 rfl
theorem eJ16_numberOfTrailingZeros_13 : SiZ nJ16_numberOfTrailingZeros 13 (i_push (.int 32) 15) := s_bipush dJ16_numberOfTrailingZeros_13 (by decide)
theorem eJ16_numberOfTrailingZeros_15 : SiZ nJ16_numberOfTrailingZeros 15 (i_bin (fun x y => x &&& y) 16) := s_iand dJ16_numberOfTrailingZeros_15
theorem eJ16_numberOfTrailingZeros_16 : SiZ nJ16_numberOfTrailingZeros 16 i_iret := s_iret dJ16_numberOfTrailingZeros_16 rfl
theorem eJ16_numberOfTrailingZeros_17 : SiZ nJ16_numberOfTrailingZeros 17 (i_push (.int 1) 18) := s_iconst dJ16_numberOfTrailingZeros_17 (by decide)
theorem eJ16_numberOfTrailingZeros_18 : SiZ nJ16_numberOfTrailingZeros 18 (i_istore 1 19) := s_istore_n dJ16_numberOfTrailingZeros_18 rfl
theorem eJ16_numberOfTrailingZeros_19 : SiZ nJ16_numberOfTrailingZeros 19 (i_iload 0 20) := s_iload_n dJ16_numberOfTrailingZeros_19 rfl
theorem eJ16_numberOfTrailingZeros_20 : SiZ nJ16_numberOfTrailingZeros 20 (i_push (.int 65536) 23) := s_ldcw dJ16_numberOfTrailingZeros_20 q991
theorem eJ16_numberOfTrailingZeros_23 : SiZ nJ16_numberOfTrailingZeros 23 (i_icmp (fun x y => x ≤ y) 34 26) := s_icmp_le dJ16_numberOfTrailingZeros_23 (by decide)
theorem eJ16_numberOfTrailingZeros_26 : SiZ nJ16_numberOfTrailingZeros 26 (i_iinc 1 16 29) := s_iinc dJ16_numberOfTrailingZeros_26 (by decide)
theorem eJ16_numberOfTrailingZeros_29 : SiZ nJ16_numberOfTrailingZeros 29 (i_iload 0 30) := s_iload_n dJ16_numberOfTrailingZeros_29 rfl
theorem eJ16_numberOfTrailingZeros_30 : SiZ nJ16_numberOfTrailingZeros 30 (i_push (.int 16) 32) := s_bipush dJ16_numberOfTrailingZeros_30 (by decide)
theorem eJ16_numberOfTrailingZeros_32 : SiZ nJ16_numberOfTrailingZeros 32 (i_bin (fun x y => (x.toUInt32 >>> (y.toUInt32 &&& Int32.toUInt32 31)).toInt32) 33) := s_iushr dJ16_numberOfTrailingZeros_32
theorem eJ16_numberOfTrailingZeros_33 : SiZ nJ16_numberOfTrailingZeros 33 (i_istore 0 34) := s_istore_n dJ16_numberOfTrailingZeros_33 rfl
theorem eJ16_numberOfTrailingZeros_34 : SiZ nJ16_numberOfTrailingZeros 34 (i_iload 0 35) := s_iload_n dJ16_numberOfTrailingZeros_34 rfl
theorem eJ16_numberOfTrailingZeros_35 : SiZ nJ16_numberOfTrailingZeros 35 (i_push (.int 256) 38) := s_sipush dJ16_numberOfTrailingZeros_35 (by decide)
theorem eJ16_numberOfTrailingZeros_38 : SiZ nJ16_numberOfTrailingZeros 38 (i_icmp (fun x y => x ≤ y) 49 41) := s_icmp_le dJ16_numberOfTrailingZeros_38 (by decide)
theorem eJ16_numberOfTrailingZeros_41 : SiZ nJ16_numberOfTrailingZeros 41 (i_iinc 1 8 44) := s_iinc dJ16_numberOfTrailingZeros_41 (by decide)
theorem eJ16_numberOfTrailingZeros_44 : SiZ nJ16_numberOfTrailingZeros 44 (i_iload 0 45) := s_iload_n dJ16_numberOfTrailingZeros_44 rfl
theorem eJ16_numberOfTrailingZeros_45 : SiZ nJ16_numberOfTrailingZeros 45 (i_push (.int 8) 47) := s_bipush dJ16_numberOfTrailingZeros_45 (by decide)
theorem eJ16_numberOfTrailingZeros_47 : SiZ nJ16_numberOfTrailingZeros 47 (i_bin (fun x y => (x.toUInt32 >>> (y.toUInt32 &&& Int32.toUInt32 31)).toInt32) 48) := s_iushr dJ16_numberOfTrailingZeros_47
theorem eJ16_numberOfTrailingZeros_48 : SiZ nJ16_numberOfTrailingZeros 48 (i_istore 0 49) := s_istore_n dJ16_numberOfTrailingZeros_48 rfl
theorem eJ16_numberOfTrailingZeros_49 : SiZ nJ16_numberOfTrailingZeros 49 (i_iload 0 50) := s_iload_n dJ16_numberOfTrailingZeros_49 rfl
theorem eJ16_numberOfTrailingZeros_50 : SiZ nJ16_numberOfTrailingZeros 50 (i_push (.int 16) 52) := s_bipush dJ16_numberOfTrailingZeros_50 (by decide)
theorem eJ16_numberOfTrailingZeros_52 : SiZ nJ16_numberOfTrailingZeros 52 (i_icmp (fun x y => x ≤ y) 62 55) := s_icmp_le dJ16_numberOfTrailingZeros_52 (by decide)
theorem eJ16_numberOfTrailingZeros_55 : SiZ nJ16_numberOfTrailingZeros 55 (i_iinc 1 4 58) := s_iinc dJ16_numberOfTrailingZeros_55 (by decide)
theorem eJ16_numberOfTrailingZeros_58 : SiZ nJ16_numberOfTrailingZeros 58 (i_iload 0 59) := s_iload_n dJ16_numberOfTrailingZeros_58 rfl
theorem eJ16_numberOfTrailingZeros_59 : SiZ nJ16_numberOfTrailingZeros 59 (i_push (.int 4) 60) := s_iconst dJ16_numberOfTrailingZeros_59 (by decide)
theorem eJ16_numberOfTrailingZeros_60 : SiZ nJ16_numberOfTrailingZeros 60 (i_bin (fun x y => (x.toUInt32 >>> (y.toUInt32 &&& Int32.toUInt32 31)).toInt32) 61) := s_iushr dJ16_numberOfTrailingZeros_60
theorem eJ16_numberOfTrailingZeros_61 : SiZ nJ16_numberOfTrailingZeros 61 (i_istore 0 62) := s_istore_n dJ16_numberOfTrailingZeros_61 rfl
theorem eJ16_numberOfTrailingZeros_62 : SiZ nJ16_numberOfTrailingZeros 62 (i_iload 0 63) := s_iload_n dJ16_numberOfTrailingZeros_62 rfl
theorem eJ16_numberOfTrailingZeros_63 : SiZ nJ16_numberOfTrailingZeros 63 (i_push (.int 4) 64) := s_iconst dJ16_numberOfTrailingZeros_63 (by decide)
theorem eJ16_numberOfTrailingZeros_64 : SiZ nJ16_numberOfTrailingZeros 64 (i_icmp (fun x y => x ≤ y) 74 67) := s_icmp_le dJ16_numberOfTrailingZeros_64 (by decide)
theorem eJ16_numberOfTrailingZeros_67 : SiZ nJ16_numberOfTrailingZeros 67 (i_iinc 1 2 70) := s_iinc dJ16_numberOfTrailingZeros_67 (by decide)
theorem eJ16_numberOfTrailingZeros_70 : SiZ nJ16_numberOfTrailingZeros 70 (i_iload 0 71) := s_iload_n dJ16_numberOfTrailingZeros_70 rfl
theorem eJ16_numberOfTrailingZeros_71 : SiZ nJ16_numberOfTrailingZeros 71 (i_push (.int 2) 72) := s_iconst dJ16_numberOfTrailingZeros_71 (by decide)
theorem eJ16_numberOfTrailingZeros_72 : SiZ nJ16_numberOfTrailingZeros 72 (i_bin (fun x y => (x.toUInt32 >>> (y.toUInt32 &&& Int32.toUInt32 31)).toInt32) 73) := s_iushr dJ16_numberOfTrailingZeros_72
theorem eJ16_numberOfTrailingZeros_73 : SiZ nJ16_numberOfTrailingZeros 73 (i_istore 0 74) := s_istore_n dJ16_numberOfTrailingZeros_73 rfl
theorem eJ16_numberOfTrailingZeros_74 : SiZ nJ16_numberOfTrailingZeros 74 (i_iload 1 75) := s_iload_n dJ16_numberOfTrailingZeros_74 rfl
theorem eJ16_numberOfTrailingZeros_75 : SiZ nJ16_numberOfTrailingZeros 75 (i_iload 0 76) := s_iload_n dJ16_numberOfTrailingZeros_75 rfl
theorem eJ16_numberOfTrailingZeros_76 : SiZ nJ16_numberOfTrailingZeros 76 (i_push (.int 1) 77) := s_iconst dJ16_numberOfTrailingZeros_76 (by decide)
theorem eJ16_numberOfTrailingZeros_77 : SiZ nJ16_numberOfTrailingZeros 77 (i_bin (fun x y => (x.toUInt32 >>> (y.toUInt32 &&& Int32.toUInt32 31)).toInt32) 78) := s_iushr dJ16_numberOfTrailingZeros_77
theorem eJ16_numberOfTrailingZeros_78 : SiZ nJ16_numberOfTrailingZeros 78 (i_bin (fun x y => x + y) 79) := s_iadd dJ16_numberOfTrailingZeros_78
theorem eJ16_numberOfTrailingZeros_79 : SiZ nJ16_numberOfTrailingZeros 79 i_iret := s_iret dJ16_numberOfTrailingZeros_79 rfl
theorem aJ16_numberOfTrailingZeros : ∀ x ∈ mJ16_numberOfTrailingZeros.1, EnZ nJ16_numberOfTrailingZeros x := fm_cons eJ16_numberOfTrailingZeros_0 (fm_cons eJ16_numberOfTrailingZeros_1 (fm_cons eJ16_numberOfTrailingZeros_2 (fm_cons eJ16_numberOfTrailingZeros_3 (fm_cons eJ16_numberOfTrailingZeros_4 (fm_cons eJ16_numberOfTrailingZeros_5 (fm_cons eJ16_numberOfTrailingZeros_6 (fm_cons eJ16_numberOfTrailingZeros_7 (fm_cons eJ16_numberOfTrailingZeros_8 (fm_cons eJ16_numberOfTrailingZeros_9 (fm_cons eJ16_numberOfTrailingZeros_12 (fm_cons eJ16_numberOfTrailingZeros_13 (fm_cons eJ16_numberOfTrailingZeros_15 (fm_cons eJ16_numberOfTrailingZeros_16 (fm_cons eJ16_numberOfTrailingZeros_17 (fm_cons eJ16_numberOfTrailingZeros_18 (fm_cons eJ16_numberOfTrailingZeros_19 (fm_cons eJ16_numberOfTrailingZeros_20 (fm_cons eJ16_numberOfTrailingZeros_23 (fm_cons eJ16_numberOfTrailingZeros_26 (fm_cons eJ16_numberOfTrailingZeros_29 (fm_cons eJ16_numberOfTrailingZeros_30 (fm_cons eJ16_numberOfTrailingZeros_32 (fm_cons eJ16_numberOfTrailingZeros_33 (fm_cons eJ16_numberOfTrailingZeros_34 (fm_cons eJ16_numberOfTrailingZeros_35 (fm_cons eJ16_numberOfTrailingZeros_38 (fm_cons eJ16_numberOfTrailingZeros_41 (fm_cons eJ16_numberOfTrailingZeros_44 (fm_cons eJ16_numberOfTrailingZeros_45 (fm_cons eJ16_numberOfTrailingZeros_47 (fm_cons eJ16_numberOfTrailingZeros_48 (fm_cons eJ16_numberOfTrailingZeros_49 (fm_cons eJ16_numberOfTrailingZeros_50 (fm_cons eJ16_numberOfTrailingZeros_52 (fm_cons eJ16_numberOfTrailingZeros_55 (fm_cons eJ16_numberOfTrailingZeros_58 (fm_cons eJ16_numberOfTrailingZeros_59 (fm_cons eJ16_numberOfTrailingZeros_60 (fm_cons eJ16_numberOfTrailingZeros_61 (fm_cons eJ16_numberOfTrailingZeros_62 (fm_cons eJ16_numberOfTrailingZeros_63 (fm_cons eJ16_numberOfTrailingZeros_64 (fm_cons eJ16_numberOfTrailingZeros_67 (fm_cons eJ16_numberOfTrailingZeros_70 (fm_cons eJ16_numberOfTrailingZeros_71 (fm_cons eJ16_numberOfTrailingZeros_72 (fm_cons eJ16_numberOfTrailingZeros_73 (fm_cons eJ16_numberOfTrailingZeros_74 (fm_cons eJ16_numberOfTrailingZeros_75 (fm_cons eJ16_numberOfTrailingZeros_76 (fm_cons eJ16_numberOfTrailingZeros_77 (fm_cons eJ16_numberOfTrailingZeros_78 (fm_cons eJ16_numberOfTrailingZeros_79 (fm_nil))))))))))))))))))))))))))))))))))))))))))))))))))))))
theorem zJ16_numberOfTrailingZeros : SwZ nJ16_numberOfTrailingZeros (Mt mJ16_numberOfTrailingZeros 2) := wholeZ (mi := nJ16_numberOfTrailingZeros) (cd := mJ16_numberOfTrailingZeros) aJ16_numberOfTrailingZeros rfl (HdZ.none rfl)
abbrev nX0_first : MI := (cX0_first, 4, (some (.int)), RX0, "first", [], 6, 158)
theorem hyX0_first : yX0_first.cls ≠ "java/lang/invoke/MethodHandle" ∧ yX0_first.cls ≠ "java/lang/invoke/VarHandle" := by decide +kernel
theorem pnX0_first : (parseMethodDescriptor yX0_first.desc).map (fun d => d.parameters.length) = some 1 := by decide +kernel
theorem wdX0_first : CdW yX0_first (nX0_first) := ⟨Or.inl ⟨q983, rfl⟩, rfl, rfl, plainFor_of_name (by decide +kernel)⟩
theorem eX0_first_0 : SiZ nX0_first 0 (i_aload 0 1) := s_aload_n dX0_first_0 rfl
theorem eX0_first_1 : ScZ nX0_first 1 (c_V 0 4 1 1 (Mt mX0_isLibrary 1)) := e_V (mi := nX0_first) (mi' := nX0_isLibrary) (len := 3) (fun h b as rest hk hl => cs_V (ci := 0) (mi := nX0_first) (pc := 1) (y := yX0_isLibrary) (idx := 184) dX0_first_1 q782 q784 qs18 rfl hk hyX0_isLibrary (sigC q785) pnX0_isLibrary hl) wdX0_isLibrary zX0_isLibrary (Nat.le_of_ble_eq_true rfl) (Nat.le_of_ble_eq_true rfl)
theorem eX0_first_4 : SiZ nX0_first 4 (i_if (fun x => ¬ x = 0) 10 7) := s_if_ne dX0_first_4 (by decide)
theorem eX0_first_7 : SiZ nX0_first 7 (i_push (.int (-1000002)) 9) := s_ldc dX0_first_7 q777
theorem eX0_first_9 : SiZ nX0_first 9 i_iret := s_iret dX0_first_9 rfl
theorem eX0_first_10 : SiZ nX0_first 10 (i_iload 1 11) := s_iload_n dX0_first_10 rfl
theorem eX0_first_11 : ScZ nX0_first 11 (c_S 1 14 1 (Mt mX0_isHalf 1)) := e_S (mi := nX0_first) (mi' := nX0_isHalf) (len := 3) (fun h as rest hl => cs_S (mi := nX0_first) (pc := 11) (y := yX0_isHalf) (idx := 209) dX0_first_11 q896 q897 q77 q898 hyX0_isHalf pnX0_isHalf hl) wdX0_isHalf zX0_isHalf (Nat.le_of_ble_eq_true rfl) (Nat.le_of_ble_eq_true rfl)
theorem eX0_first_14 : SiZ nX0_first 14 (i_if (fun x => ¬ x = 0) 20 17) := s_if_ne dX0_first_14 (by decide)
theorem eX0_first_17 : SiZ nX0_first 17 (i_push (.int (-1000001)) 19) := s_ldc dX0_first_17 q355
theorem eX0_first_19 : SiZ nX0_first 19 i_iret := s_iret dX0_first_19 rfl
theorem eX0_first_20 : SiZ nX0_first 20 (i_aload 0 21) := s_aload_n dX0_first_20 rfl
theorem eX0_first_21 : ScZ nX0_first 21 (c_V 0 24 1 1 (Mt mX0_tried 1)) := e_V (mi := nX0_first) (mi' := nX0_tried) (len := 3) (fun h b as rest hk hl => cs_V (ci := 0) (mi := nX0_first) (pc := 21) (y := yX0_tried) (idx := 275) dX0_first_21 q964 q966 qs26 rfl hk hyX0_tried (sigC q967) pnX0_tried hl) wdX0_tried zX0_tried (Nat.le_of_ble_eq_true rfl) (Nat.le_of_ble_eq_true rfl)
theorem eX0_first_24 : SiZ nX0_first 24 (i_pop 25) := s_pop dX0_first_24
theorem eX0_first_25 : SiZ nX0_first 25 (i_push (.int 1) 26) := s_iconst dX0_first_25 (by decide)
theorem eX0_first_26 : SiZ nX0_first 26 (i_istore 2 27) := s_istore_n dX0_first_26 rfl
theorem eX0_first_27 : SiZ nX0_first 27 (i_iload 2 28) := s_iload_n dX0_first_27 rfl
theorem eX0_first_28 : SiZ nX0_first 28 (i_push (.int 60) 30) := s_bipush dX0_first_28 (by decide)
theorem eX0_first_30 : SiZ nX0_first 30 (i_icmp (fun x y => y < x) 77 33) := s_icmp_gt dX0_first_30 (by decide)
theorem eX0_first_33 : SiZ nX0_first 33 (i_aload 0 34) := s_aload_n dX0_first_33 rfl
theorem eX0_first_34 : SiZ nX0_first 34 (i_getf 13 [1] 37) := s_getf dX0_first_34 (fm_cons (⟨_, _, _, _, _, _, rfl, fkX0_43_1⟩) (fm_nil))
theorem eX0_first_37 : ScZ nX0_first 37 (c_V 0 40 2 2 (Mt mX1_pass 2)) := e_V (mi := nX0_first) (mi' := nX1_pass) (len := 3) (fun h b as rest hk hl => cs_V (ci := 1) (mi := nX0_first) (pc := 37) (y := yX1_pass) (idx := 196) dX0_first_37 q791 q792 q793 rfl hk hyX1_pass (sigC q794) pnX1_pass hl) wdX1_pass zX1_pass (Nat.le_of_ble_eq_true rfl) (Nat.le_of_ble_eq_true rfl)
theorem eX0_first_40 : ScZ nX0_first 40 (c_V 0 43 3 2 (Mt mX1_gone 3)) := e_V (mi := nX0_first) (mi' := nX1_gone) (len := 3) (fun h b as rest hk hl => cs_V (ci := 1) (mi := nX0_first) (pc := 40) (y := yX1_gone) (idx := 282) dX0_first_40 q984 q985 q986 rfl hk hyX1_gone (sigC q987) pnX1_gone hl) wdX1_gone zX1_gone (Nat.le_of_ble_eq_true rfl) (Nat.le_of_ble_eq_true rfl)
theorem eX0_first_43 : SiZ nX0_first 43 (i_aload 0 44) := s_aload_n dX0_first_43 rfl
theorem eX0_first_44 : SiZ nX0_first 44 (i_getf 11 [1] 47) := s_getf dX0_first_44 (fm_cons (⟨_, _, _, _, _, _, rfl, fkX0_39_1⟩) (fm_nil))
theorem eX0_first_47 : ScZ nX0_first 47 (c_V 0 50 3 2 (Mt mX1_gone 3)) := e_V (mi := nX0_first) (mi' := nX1_gone) (len := 3) (fun h b as rest hk hl => cs_V (ci := 1) (mi := nX0_first) (pc := 47) (y := yX1_gone) (idx := 282) dX0_first_47 q984 q985 q986 rfl hk hyX1_gone (sigC q987) pnX1_gone hl) wdX1_gone zX1_gone (Nat.le_of_ble_eq_true rfl) (Nat.le_of_ble_eq_true rfl)
theorem eX0_first_50 : SiZ nX0_first 50 (i_push (.int (-1)) 51) := s_iconst dX0_first_50 (by decide)
theorem eX0_first_51 : SiZ nX0_first 51 (i_bin (fun x y => x ^^^ y) 52) := s_ixor dX0_first_51
theorem eX0_first_52 : SiZ nX0_first 52 (i_bin (fun x y => x &&& y) 53) := s_iand dX0_first_52
theorem eX0_first_53 : SiZ nX0_first 53 (i_istore 3 54) := s_istore_n dX0_first_53 rfl
theorem eX0_first_54 : SiZ nX0_first 54 (i_iload 3 55) := s_iload_n dX0_first_54 rfl
theorem eX0_first_55 : SiZ nX0_first 55 (i_if (fun x => x = 0) 71 58) := s_if_eq dX0_first_55 (by decide)
theorem eX0_first_58 : SiZ nX0_first 58 (i_iload 1 59) := s_iload_n dX0_first_58 rfl
theorem eX0_first_59 : SiZ nX0_first 59 (i_if (fun x => ¬ x = 0) 69 62) := s_if_ne dX0_first_59 (by decide)
theorem eX0_first_62 : SiZ nX0_first 62 (i_iload 3 63) := s_iload_n dX0_first_62 rfl
theorem eX0_first_63 : ScZ nX0_first 63 (c_S 1 66 2 (Mt mJ16_numberOfTrailingZeros 2)) := e_S (mi := nX0_first) (mi' := nJ16_numberOfTrailingZeros) (len := 3) (fun h as rest hl => cs_S (mi := nX0_first) (pc := 63) (y := yJ16_numberOfTrailingZeros) (idx := 285) dX0_first_63 q988 q989 q108 q990 hyJ16_numberOfTrailingZeros pnJ16_numberOfTrailingZeros hl) wdJ16_numberOfTrailingZeros zJ16_numberOfTrailingZeros (Nat.le_of_ble_eq_true rfl) (Nat.le_of_ble_eq_true rfl)
theorem eX0_first_66 : SiZ nX0_first 66 (i_goto 70) := s_goto dX0_first_66 (by decide)
theorem eX0_first_69 : SiZ nX0_first 69 (i_iload 2 70) := s_iload_n dX0_first_69 rfl
theorem eX0_first_70 : SiZ nX0_first 70 i_iret := s_iret dX0_first_70 rfl
theorem eX0_first_71 : SiZ nX0_first 71 (i_iinc 2 1 74) := s_iinc dX0_first_71 (by decide)
theorem eX0_first_74 : SiZ nX0_first 74 (i_goto 27) := s_goto dX0_first_74 (by decide)
theorem eX0_first_77 : SiZ nX0_first 77 (i_push (.int (-1000000)) 80) := s_ldcw dX0_first_77 q940
theorem eX0_first_80 : SiZ nX0_first 80 i_iret := s_iret dX0_first_80 rfl
theorem aX0_first : ∀ x ∈ mX0_first.1, EnZ nX0_first x := fm_cons eX0_first_0 (fm_cons eX0_first_1 (fm_cons eX0_first_4 (fm_cons eX0_first_7 (fm_cons eX0_first_9 (fm_cons eX0_first_10 (fm_cons eX0_first_11 (fm_cons eX0_first_14 (fm_cons eX0_first_17 (fm_cons eX0_first_19 (fm_cons eX0_first_20 (fm_cons eX0_first_21 (fm_cons eX0_first_24 (fm_cons eX0_first_25 (fm_cons eX0_first_26 (fm_cons eX0_first_27 (fm_cons eX0_first_28 (fm_cons eX0_first_30 (fm_cons eX0_first_33 (fm_cons eX0_first_34 (fm_cons eX0_first_37 (fm_cons eX0_first_40 (fm_cons eX0_first_43 (fm_cons eX0_first_44 (fm_cons eX0_first_47 (fm_cons eX0_first_50 (fm_cons eX0_first_51 (fm_cons eX0_first_52 (fm_cons eX0_first_53 (fm_cons eX0_first_54 (fm_cons eX0_first_55 (fm_cons eX0_first_58 (fm_cons eX0_first_59 (fm_cons eX0_first_62 (fm_cons eX0_first_63 (fm_cons eX0_first_66 (fm_cons eX0_first_69 (fm_cons eX0_first_70 (fm_cons eX0_first_71 (fm_cons eX0_first_74 (fm_cons eX0_first_77 (fm_cons eX0_first_80 (fm_nil))))))))))))))))))))))))))))))))))))))))))
theorem zX0_first : SwZ nX0_first (Mt mX0_first 4) := wholeZ (mi := nX0_first) (cd := mX0_first) aX0_first rfl (HdZ.none rfl)
abbrev nX0_hole : MI := (cX0_hole, 6, (some (.int)), RX0, "hole", [], 6, 158)
theorem hyX0_hole : yX0_hole.cls ≠ "java/lang/invoke/MethodHandle" ∧ yX0_hole.cls ≠ "java/lang/invoke/VarHandle" := by decide +kernel
theorem pnX0_hole : (parseMethodDescriptor yX0_hole.desc).map (fun d => d.parameters.length) = some 2 := by decide +kernel
theorem wdX0_hole : CdW yX0_hole (nX0_hole) := ⟨Or.inl ⟨q995, rfl⟩, rfl, rfl, plainFor_of_name (by decide +kernel)⟩
theorem eX0_hole_0 : SiZ nX0_hole 0 (i_aload 0 1) := s_aload_n dX0_hole_0 rfl
theorem eX0_hole_1 : SiZ nX0_hole 1 (i_iload 1 2) := s_iload_n dX0_hole_1 rfl
theorem eX0_hole_2 : ScZ nX0_hole 2 (c_V 1 5 2 1 (Mt mX0_isFish 2)) := e_V (mi := nX0_hole) (mi' := nX0_isFish) (len := 3) (fun h b as rest hk hl => cs_V (ci := 0) (mi := nX0_hole) (pc := 2) (y := yX0_isFish) (idx := 231) dX0_hole_2 q918 q920 qs24 rfl hk hyX0_isFish (sigC q921) pnX0_isFish hl) wdX0_isFish zX0_isFish (Nat.le_of_ble_eq_true rfl) (Nat.le_of_ble_eq_true rfl)
theorem eX0_hole_5 : SiZ nX0_hole 5 (i_if (fun x => x = 0) 15 8) := s_if_eq dX0_hole_5 (by decide)
theorem eX0_hole_8 : SiZ nX0_hole 8 (i_iload 2 9) := s_iload_n dX0_hole_8 rfl
theorem eX0_hole_9 : ScZ nX0_hole 9 (c_S 1 12 1 (Mt mX0_isFar 1)) := e_S (mi := nX0_hole) (mi' := nX0_isFar) (len := 3) (fun h as rest hl => cs_S (mi := nX0_hole) (pc := 9) (y := yX0_isFar) (idx := 272) dX0_hole_9 q960 q961 q77 q962 hyX0_isFar pnX0_isFar hl) wdX0_isFar zX0_isFar (Nat.le_of_ble_eq_true rfl) (Nat.le_of_ble_eq_true rfl)
theorem eX0_hole_12 : SiZ nX0_hole 12 (i_if (fun x => ¬ x = 0) 18 15) := s_if_ne dX0_hole_12 (by decide)
theorem eX0_hole_15 : SiZ nX0_hole 15 (i_push (.int (-1000001)) 17) := s_ldc dX0_hole_15 q355
theorem eX0_hole_17 : SiZ nX0_hole 17 i_iret := s_iret dX0_hole_17 rfl
theorem eX0_hole_18 : SiZ nX0_hole 18 (i_aload 0 19) := s_aload_n dX0_hole_18 rfl
theorem eX0_hole_19 : ScZ nX0_hole 19 (c_V 0 22 1 1 (Mt mX0_tried 1)) := e_V (mi := nX0_hole) (mi' := nX0_tried) (len := 3) (fun h b as rest hk hl => cs_V (ci := 0) (mi := nX0_hole) (pc := 19) (y := yX0_tried) (idx := 275) dX0_hole_19 q964 q966 qs26 rfl hk hyX0_tried (sigC q967) pnX0_tried hl) wdX0_tried zX0_tried (Nat.le_of_ble_eq_true rfl) (Nat.le_of_ble_eq_true rfl)
theorem eX0_hole_22 : SiZ nX0_hole 22 (i_pop 23) := s_pop dX0_hole_22
theorem eX0_hole_23 : SiZ nX0_hole 23 (i_aload 0 24) := s_aload_n dX0_hole_23 rfl
theorem eX0_hole_24 : SiZ nX0_hole 24 (i_getf 13 [1] 27) := s_getf dX0_hole_24 (fm_cons (⟨_, _, _, _, _, _, rfl, fkX0_43_1⟩) (fm_nil))
theorem eX0_hole_27 : SiZ nX0_hole 27 (i_getf 55 [2] 30) := s_getf dX0_hole_27 (fm_cons (⟨_, _, _, _, _, _, rfl, fkX0_254_2⟩) (fm_nil))
theorem eX0_hole_30 : SiZ nX0_hole 30 (i_iload 1 31) := s_iload_n dX0_hole_30 rfl
theorem eX0_hole_31 : SiZ nX0_hole 31 (i_push (.int 0) 32) := s_iconst dX0_hole_31 (by decide)
theorem eX0_hole_32 : SiZ nX0_hole 32 (i_iast 51 (fun x => x) 33) := s_ast (j := 0) (by decide) (fun _ => rfl) dX0_hole_32 (Or.inl ⟨rfl, rfl, rfl⟩)
theorem eX0_hole_33 : SiZ nX0_hole 33 (i_push (.int 0) 34) := s_iconst dX0_hole_33 (by decide)
theorem eX0_hole_34 : SiZ nX0_hole 34 (i_istore 3 35) := s_istore_n dX0_hole_34 rfl
theorem eX0_hole_35 : SiZ nX0_hole 35 (i_push (.int 0) 36) := s_iconst dX0_hole_35 (by decide)
theorem eX0_hole_36 : SiZ nX0_hole 36 (i_istore 4 38) := s_istore dX0_hole_36
theorem eX0_hole_38 : SiZ nX0_hole 38 (i_iload 4 40) := s_iload dX0_hole_38
theorem eX0_hole_40 : SiZ nX0_hole 40 (i_iload 2 41) := s_iload_n dX0_hole_40 rfl
theorem eX0_hole_41 : SiZ nX0_hole 41 (i_icmp (fun x y => y ≤ x) 109 44) := s_icmp_ge dX0_hole_41 (by decide)
theorem eX0_hole_44 : SiZ nX0_hole 44 (i_aload 0 45) := s_aload_n dX0_hole_44 rfl
theorem eX0_hole_45 : SiZ nX0_hole 45 (i_getf 13 [1] 48) := s_getf dX0_hole_45 (fm_cons (⟨_, _, _, _, _, _, rfl, fkX0_43_1⟩) (fm_nil))
theorem eX0_hole_48 : SiZ nX0_hole 48 (i_getf 55 [2] 51) := s_getf dX0_hole_48 (fm_cons (⟨_, _, _, _, _, _, rfl, fkX0_254_2⟩) (fm_nil))
theorem eX0_hole_51 : SiZ nX0_hole 51 (i_iload 1 52) := s_iload_n dX0_hole_51 rfl
theorem eX0_hole_52 : SiZ nX0_hole 52 (i_iald 51 53) := s_ald (j := 0) (by decide) (fun _ => rfl) dX0_hole_52 (Or.inl ⟨rfl, rfl⟩)
theorem eX0_hole_53 : SiZ nX0_hole 53 (i_istore 5 55) := s_istore dX0_hole_53
theorem eX0_hole_55 : SiZ nX0_hole 55 (i_aload 0 56) := s_aload_n dX0_hole_55 rfl
theorem eX0_hole_56 : SiZ nX0_hole 56 (i_getf 13 [1] 59) := s_getf dX0_hole_56 (fm_cons (⟨_, _, _, _, _, _, rfl, fkX0_43_1⟩) (fm_nil))
theorem eX0_hole_59 : ScZ nX0_hole 59 (c_V 0 62 2 2 (Mt mX1_pass 2)) := e_V (mi := nX0_hole) (mi' := nX1_pass) (len := 3) (fun h b as rest hk hl => cs_V (ci := 1) (mi := nX0_hole) (pc := 59) (y := yX1_pass) (idx := 196) dX0_hole_59 q791 q792 q793 rfl hk hyX1_pass (sigC q794) pnX1_pass hl) wdX1_pass zX1_pass (Nat.le_of_ble_eq_true rfl) (Nat.le_of_ble_eq_true rfl)
theorem eX0_hole_62 : SiZ nX0_hole 62 (i_pop 63) := s_pop dX0_hole_62
theorem eX0_hole_63 : SiZ nX0_hole 63 (i_iload 3 64) := s_iload_n dX0_hole_63 rfl
theorem eX0_hole_64 : SiZ nX0_hole 64 (i_aload 0 65) := s_aload_n dX0_hole_64 rfl
theorem eX0_hole_65 : SiZ nX0_hole 65 (i_getf 13 [1] 68) := s_getf dX0_hole_65 (fm_cons (⟨_, _, _, _, _, _, rfl, fkX0_43_1⟩) (fm_nil))
theorem eX0_hole_68 : SiZ nX0_hole 68 (i_getf 55 [2] 71) := s_getf dX0_hole_68 (fm_cons (⟨_, _, _, _, _, _, rfl, fkX0_254_2⟩) (fm_nil))
theorem eX0_hole_71 : SiZ nX0_hole 71 (i_iload 1 72) := s_iload_n dX0_hole_71 rfl
theorem eX0_hole_72 : SiZ nX0_hole 72 (i_iald 51 73) := s_ald (j := 0) (by decide) (fun _ => rfl) dX0_hole_72 (Or.inl ⟨rfl, rfl⟩)
theorem eX0_hole_73 : SiZ nX0_hole 73 (i_iload 5 75) := s_iload dX0_hole_73
theorem eX0_hole_75 : SiZ nX0_hole 75 (i_icmp (fun x y => x ≤ y) 100 78) := s_icmp_le dX0_hole_75 (by decide)
theorem eX0_hole_78 : SiZ nX0_hole 78 (i_push (.int 1) 79) := s_iconst dX0_hole_78 (by decide)
theorem eX0_hole_79 : SiZ nX0_hole 79 (i_aload 0 80) := s_aload_n dX0_hole_79 rfl
theorem eX0_hole_80 : SiZ nX0_hole 80 (i_getf 13 [1] 83) := s_getf dX0_hole_80 (fm_cons (⟨_, _, _, _, _, _, rfl, fkX0_43_1⟩) (fm_nil))
theorem eX0_hole_83 : SiZ nX0_hole 83 (i_getf 43 [2] 86) := s_getf dX0_hole_83 (fm_cons (⟨_, _, _, _, _, _, rfl, fkX0_269_2⟩) (fm_nil))
theorem eX0_hole_86 : SiZ nX0_hole 86 (i_aload 0 87) := s_aload_n dX0_hole_86 rfl
theorem eX0_hole_87 : SiZ nX0_hole 87 (i_getf 13 [1] 90) := s_getf dX0_hole_87 (fm_cons (⟨_, _, _, _, _, _, rfl, fkX0_43_1⟩) (fm_nil))
theorem eX0_hole_90 : SiZ nX0_hole 90 (i_getf 53 [2] 93) := s_getf dX0_hole_90 (fm_cons (⟨_, _, _, _, _, _, rfl, fkX0_237_2⟩) (fm_nil))
theorem eX0_hole_93 : SiZ nX0_hole 93 (i_iload 1 94) := s_iload_n dX0_hole_93 rfl
theorem eX0_hole_94 : SiZ nX0_hole 94 (i_iald 51 95) := s_ald (j := 0) (by decide) (fun _ => rfl) dX0_hole_94 (Or.inl ⟨rfl, rfl⟩)
theorem eX0_hole_95 : SiZ nX0_hole 95 (i_iald 51 96) := s_ald (j := 0) (by decide) (fun _ => rfl) dX0_hole_95 (Or.inl ⟨rfl, rfl⟩)
theorem eX0_hole_96 : SiZ nX0_hole 96 (i_bin (fun x y => x <<< (y &&& 31)) 97) := s_ishl dX0_hole_96
theorem eX0_hole_97 : SiZ nX0_hole 97 (i_goto 101) := s_goto dX0_hole_97 (by decide)
theorem eX0_hole_100 : SiZ nX0_hole 100 (i_push (.int 0) 101) := s_iconst dX0_hole_100 (by decide)
theorem eX0_hole_101 : SiZ nX0_hole 101 (i_bin (fun x y => x ||| y) 102) := s_ior dX0_hole_101
theorem eX0_hole_102 : SiZ nX0_hole 102 (i_istore 3 103) := s_istore_n dX0_hole_102 rfl
theorem eX0_hole_103 : SiZ nX0_hole 103 (i_iinc 4 1 106) := s_iinc dX0_hole_103 (by decide)
theorem eX0_hole_106 : SiZ nX0_hole 106 (i_goto 38) := s_goto dX0_hole_106 (by decide)
theorem eX0_hole_109 : SiZ nX0_hole 109 (i_iload 3 110) := s_iload_n dX0_hole_109 rfl
theorem eX0_hole_110 : SiZ nX0_hole 110 i_iret := s_iret dX0_hole_110 rfl
theorem aX0_hole : ∀ x ∈ mX0_hole.1, EnZ nX0_hole x := fm_cons eX0_hole_0 (fm_cons eX0_hole_1 (fm_cons eX0_hole_2 (fm_cons eX0_hole_5 (fm_cons eX0_hole_8 (fm_cons eX0_hole_9 (fm_cons eX0_hole_12 (fm_cons eX0_hole_15 (fm_cons eX0_hole_17 (fm_cons eX0_hole_18 (fm_cons eX0_hole_19 (fm_cons eX0_hole_22 (fm_cons eX0_hole_23 (fm_cons eX0_hole_24 (fm_cons eX0_hole_27 (fm_cons eX0_hole_30 (fm_cons eX0_hole_31 (fm_cons eX0_hole_32 (fm_cons eX0_hole_33 (fm_cons eX0_hole_34 (fm_cons eX0_hole_35 (fm_cons eX0_hole_36 (fm_cons eX0_hole_38 (fm_cons eX0_hole_40 (fm_cons eX0_hole_41 (fm_cons eX0_hole_44 (fm_cons eX0_hole_45 (fm_cons eX0_hole_48 (fm_cons eX0_hole_51 (fm_cons eX0_hole_52 (fm_cons eX0_hole_53 (fm_cons eX0_hole_55 (fm_cons eX0_hole_56 (fm_cons eX0_hole_59 (fm_cons eX0_hole_62 (fm_cons eX0_hole_63 (fm_cons eX0_hole_64 (fm_cons eX0_hole_65 (fm_cons eX0_hole_68 (fm_cons eX0_hole_71 (fm_cons eX0_hole_72 (fm_cons eX0_hole_73 (fm_cons eX0_hole_75 (fm_cons eX0_hole_78 (fm_cons eX0_hole_79 (fm_cons eX0_hole_80 (fm_cons eX0_hole_83 (fm_cons eX0_hole_86 (fm_cons eX0_hole_87 (fm_cons eX0_hole_90 (fm_cons eX0_hole_93 (fm_cons eX0_hole_94 (fm_cons eX0_hole_95 (fm_cons eX0_hole_96 (fm_cons eX0_hole_97 (fm_cons eX0_hole_100 (fm_cons eX0_hole_101 (fm_cons eX0_hole_102 (fm_cons eX0_hole_103 (fm_cons eX0_hole_106 (fm_cons eX0_hole_109 (fm_cons eX0_hole_110 (fm_nil))))))))))))))))))))))))))))))))))))))))))))))))))))))))))))))
theorem zX0_hole : SwZ nX0_hole (Mt mX0_hole 6) := wholeZ (mi := nX0_hole) (cd := mX0_hole) aX0_hole rfl (HdZ.none rfl)
abbrev nX0_isShort : MI := (cX0_isShort, 1, (some (.boolean)), RX0, "isShort", [], 1, 29)
theorem hyX0_isShort : yX0_isShort.cls ≠ "java/lang/invoke/MethodHandle" ∧ yX0_isShort.cls ≠ "java/lang/invoke/VarHandle" := by decide +kernel
theorem pnX0_isShort : (parseMethodDescriptor yX0_isShort.desc).map (fun d => d.parameters.length) = some 1 := by decide +kernel
theorem wdX0_isShort : CdW yX0_isShort (nX0_isShort) := ⟨Or.inl ⟨q1002, rfl⟩, rfl, rfl, plainFor_of_name (by decide +kernel)⟩
theorem eX0_isShort_0 : SiZ nX0_isShort 0 (i_iload 0 1) := s_iload_n dX0_isShort_0 rfl
theorem eX0_isShort_1 : SiZ nX0_isShort 1 (i_i2l 2) := s_i2l dX0_isShort_1
theorem eX0_isShort_2 : SiZ nX0_isShort 2 (i_push (.long 1) 3) := s_lconst dX0_isShort_2 (by decide)
theorem eX0_isShort_3 : SiZ nX0_isShort 3 (i_push (.long 12) 6) := s_ldc2 dX0_isShort_3 q1003
theorem eX0_isShort_6 : ScZ nX0_isShort 6 (c_S 3 9 6 (Mt mX0_isIn 6)) := e_S (mi := nX0_isShort) (mi' := nX0_isIn) (len := 3) (fun h as rest hl => cs_S (mi := nX0_isShort) (pc := 6) (y := yX0_isIn) (idx := 86) dX0_isShort_6 q351 q352 q77 q353 hyX0_isIn pnX0_isIn hl) wdX0_isIn zX0_isIn (Nat.le_of_ble_eq_true rfl) (Nat.le_of_ble_eq_true rfl)
theorem eX0_isShort_9 : SiZ nX0_isShort 9 i_zret := s_zret dX0_isShort_9 rfl
theorem aX0_isShort : ∀ x ∈ mX0_isShort.1, EnZ nX0_isShort x := fm_cons eX0_isShort_0 (fm_cons eX0_isShort_1 (fm_cons eX0_isShort_2 (fm_cons eX0_isShort_3 (fm_cons eX0_isShort_6 (fm_cons eX0_isShort_9 (fm_nil))))))
theorem zX0_isShort : SwZ nX0_isShort (Mt mX0_isShort 1) := wholeZ (mi := nX0_isShort) (cd := mX0_isShort) aX0_isShort rfl (HdZ.none rfl)
abbrev nX0_look : MI := (cX0_look, 4, none, RX0, "look", [], 7, 184)
theorem hyX0_look : yX0_look.cls ≠ "java/lang/invoke/MethodHandle" ∧ yX0_look.cls ≠ "java/lang/invoke/VarHandle" := by decide +kernel
theorem pnX0_look : (parseMethodDescriptor yX0_look.desc).map (fun d => d.parameters.length) = some 2 := by decide +kernel
theorem wdX0_look : CdW yX0_look (nX0_look) := ⟨Or.inl ⟨q1012, rfl⟩, rfl, rfl, plainFor_of_name (by decide +kernel)⟩
theorem eX0_look_0 : SiZ nX0_look 0 (i_aload 0 1) := s_aload_n dX0_look_0 rfl
theorem eX0_look_1 : ScZ nX0_look 1 (c_V 0 4 1 1 (Mt mX0_tried 1)) := e_V (mi := nX0_look) (mi' := nX0_tried) (len := 3) (fun h b as rest hk hl => cs_V (ci := 0) (mi := nX0_look) (pc := 1) (y := yX0_tried) (idx := 275) dX0_look_1 q964 q966 qs26 rfl hk hyX0_tried (sigC q967) pnX0_tried hl) wdX0_tried zX0_tried (Nat.le_of_ble_eq_true rfl) (Nat.le_of_ble_eq_true rfl)
theorem eX0_look_4 : SiZ nX0_look 4 (i_pop 5) := s_pop dX0_look_4
theorem eX0_look_5 : SiZ nX0_look 5 (i_push (.int 0) 6) := s_iconst dX0_look_5 (by decide)
theorem eX0_look_6 : SiZ nX0_look 6 (i_istore 3 7) := s_istore_n dX0_look_6 rfl
theorem eX0_look_7 : SiZ nX0_look 7 (i_iload 3 8) := s_iload_n dX0_look_7 rfl
theorem eX0_look_8 : SiZ nX0_look 8 (i_aload 0 9) := s_aload_n dX0_look_8 rfl
theorem eX0_look_9 : SiZ nX0_look 9 (i_getf 11 [1] 12) := s_getf dX0_look_9 (fm_cons (⟨_, _, _, _, _, _, rfl, fkX0_39_1⟩) (fm_nil))
theorem eX0_look_12 : SiZ nX0_look 12 (i_getf 36 [2] 15) := s_getf dX0_look_12 (fm_cons (⟨_, _, _, _, _, _, rfl, fkX0_177_2⟩) (fm_nil))
theorem eX0_look_15 : SiZ nX0_look 15 (i_icmp (fun x y => y ≤ x) 38 18) := s_icmp_ge dX0_look_15 (by decide)
theorem eX0_look_18 : SiZ nX0_look 18 (i_aload 0 19) := s_aload_n dX0_look_18 rfl
theorem eX0_look_19 : SiZ nX0_look 19 (i_getf 13 [1] 22) := s_getf dX0_look_19 (fm_cons (⟨_, _, _, _, _, _, rfl, fkX0_43_1⟩) (fm_nil))
theorem eX0_look_22 : SiZ nX0_look 22 (i_aload 0 23) := s_aload_n dX0_look_22 rfl
theorem eX0_look_23 : SiZ nX0_look 23 (i_getf 25 [1] 26) := s_getf dX0_look_23 (fm_cons (⟨_, _, _, _, _, _, rfl, fkX0_60_1⟩) (fm_nil))
theorem eX0_look_26 : SiZ nX0_look 26 (i_iload 3 27) := s_iload_n dX0_look_26 rfl
theorem eX0_look_27 : SiZ nX0_look 27 (i_iald 51 28) := s_ald (j := 0) (by decide) (fun _ => rfl) dX0_look_27 (Or.inl ⟨rfl, rfl⟩)
theorem eX0_look_28 : SiZ nX0_look 28 (i_iload 3 29) := s_iload_n dX0_look_28 rfl
theorem eX0_look_29 : ScZ nX0_look 29 (c_V 2 32 3 2 (Mt mX1_puts 3)) := e_V (mi := nX0_look) (mi' := nX1_puts) (len := 3) (fun h b as rest hk hl => cs_V (ci := 1) (mi := nX0_look) (pc := 29) (y := yX1_puts) (idx := 228) dX0_look_29 q913 q616 q617 rfl hk hyX1_puts (sigC q618) pnX1_puts hl) wdX1_puts zX1_puts (Nat.le_of_ble_eq_true rfl) (Nat.le_of_ble_eq_true rfl)
theorem eX0_look_32 : SiZ nX0_look 32 (i_iinc 3 1 35) := s_iinc dX0_look_32 (by decide)
theorem eX0_look_35 : SiZ nX0_look 35 (i_goto 7) := s_goto dX0_look_35 (by decide)
theorem eX0_look_38 : SiZ nX0_look 38 (i_aload 0 39) := s_aload_n dX0_look_38 rfl
theorem eX0_look_39 : SiZ nX0_look 39 (i_iload 2 40) := s_iload_n dX0_look_39 rfl
theorem eX0_look_40 : ScZ nX0_look 40 (c_V 1 43 3 1 (Mt mX0_goOn 3)) := e_V (mi := nX0_look) (mi' := nX0_goOn) (len := 3) (fun h b as rest hk hl => cs_V (ci := 0) (mi := nX0_look) (pc := 40) (y := yX0_goOn) (idx := 278) dX0_look_40 q968 q970 qs27 rfl hk hyX0_goOn (sigC q971) pnX0_goOn hl) wdX0_goOn zX0_goOn (Nat.le_of_ble_eq_true rfl) (Nat.le_of_ble_eq_true rfl)
theorem eX0_look_43 : SiZ nX0_look 43 (i_iload 1 44) := s_iload_n dX0_look_43 rfl
theorem eX0_look_44 : ScZ nX0_look 44 (c_V 1 47 4 2 (Mt mX1_left 4)) := e_V (mi := nX0_look) (mi' := nX1_left) (len := 3) (fun h b as rest hk hl => cs_V (ci := 1) (mi := nX0_look) (pc := 44) (y := yX1_left) (idx := 203) dX0_look_44 q884 q885 q886 rfl hk hyX1_left (sigC q887) pnX1_left hl) wdX1_left zX1_left (Nat.le_of_ble_eq_true rfl) (Nat.le_of_ble_eq_true rfl)
theorem eX0_look_47 : SiZ nX0_look 47 (i_istore 3 48) := s_istore_n dX0_look_47 rfl
theorem eX0_look_48 : SiZ nX0_look 48 (i_iload 3 49) := s_iload_n dX0_look_48 rfl
theorem eX0_look_49 : SiZ nX0_look 49 (i_aload 0 50) := s_aload_n dX0_look_49 rfl
theorem eX0_look_50 : SiZ nX0_look 50 (i_getf 28 [1] 53) := s_getf dX0_look_50 (fm_cons (⟨_, _, _, _, _, _, rfl, fkX0_288_1⟩) (fm_nil))
theorem eX0_look_53 : SiZ nX0_look 53 (i_icmp (fun x y => y < x) 57 56) := s_icmp_gt dX0_look_53 (by decide)
theorem eX0_look_56 : SiZ nX0_look 56 i_vret := s_vret dX0_look_56 rfl
theorem eX0_look_57 : SiZ nX0_look 57 (i_aload 0 58) := s_aload_n dX0_look_57 rfl
theorem eX0_look_58 : SiZ nX0_look 58 (i_iload 3 59) := s_iload_n dX0_look_58 rfl
theorem eX0_look_59 : SiZ nX0_look 59 (i_putI 28 [1] 62) := s_putI dX0_look_59 (fm_cons (⟨_, _, _, _, _, _, rfl, ⟨fkX0_288_1, ⟨_, q309, Or.inl rfl⟩, Or.inl rfl⟩, rfl⟩) (fm_nil))
theorem eX0_look_62 : SiZ nX0_look 62 (i_aload 0 63) := s_aload_n dX0_look_62 rfl
theorem eX0_look_63 : SiZ nX0_look 63 (i_getf 25 [1] 66) := s_getf dX0_look_63 (fm_cons (⟨_, _, _, _, _, _, rfl, fkX0_60_1⟩) (fm_nil))
theorem eX0_look_66 : SiZ nX0_look 66 (i_push (.int 0) 67) := s_iconst dX0_look_66 (by decide)
theorem eX0_look_67 : SiZ nX0_look 67 (i_aload 0 68) := s_aload_n dX0_look_67 rfl
theorem eX0_look_68 : SiZ nX0_look 68 (i_getf 27 [1] 71) := s_getf dX0_look_68 (fm_cons (⟨_, _, _, _, _, _, rfl, fkX0_64_1⟩) (fm_nil))
theorem eX0_look_71 : SiZ nX0_look 71 (i_push (.int 0) 72) := s_iconst dX0_look_71 (by decide)
theorem eX0_look_72 : SiZ nX0_look 72 (i_push (.int 6) 74) := s_bipush dX0_look_72 (by decide)
theorem eX0_look_74 : SiZ nX0_look 74 (i_acpy 51 77) := s_acpy dX0_look_74 q497 (by decide) (by decide)
theorem eX0_look_77 : SiZ nX0_look 77 i_vret := s_vret dX0_look_77 rfl
theorem aX0_look : ∀ x ∈ mX0_look.1, EnZ nX0_look x := fm_cons eX0_look_0 (fm_cons eX0_look_1 (fm_cons eX0_look_4 (fm_cons eX0_look_5 (fm_cons eX0_look_6 (fm_cons eX0_look_7 (fm_cons eX0_look_8 (fm_cons eX0_look_9 (fm_cons eX0_look_12 (fm_cons eX0_look_15 (fm_cons eX0_look_18 (fm_cons eX0_look_19 (fm_cons eX0_look_22 (fm_cons eX0_look_23 (fm_cons eX0_look_26 (fm_cons eX0_look_27 (fm_cons eX0_look_28 (fm_cons eX0_look_29 (fm_cons eX0_look_32 (fm_cons eX0_look_35 (fm_cons eX0_look_38 (fm_cons eX0_look_39 (fm_cons eX0_look_40 (fm_cons eX0_look_43 (fm_cons eX0_look_44 (fm_cons eX0_look_47 (fm_cons eX0_look_48 (fm_cons eX0_look_49 (fm_cons eX0_look_50 (fm_cons eX0_look_53 (fm_cons eX0_look_56 (fm_cons eX0_look_57 (fm_cons eX0_look_58 (fm_cons eX0_look_59 (fm_cons eX0_look_62 (fm_cons eX0_look_63 (fm_cons eX0_look_66 (fm_cons eX0_look_67 (fm_cons eX0_look_68 (fm_cons eX0_look_71 (fm_cons eX0_look_72 (fm_cons eX0_look_74 (fm_cons eX0_look_77 (fm_nil)))))))))))))))))))))))))))))))))))))))))))
theorem zX0_look : SwZ nX0_look (Mt mX0_look 4) := wholeZ (mi := nX0_look) (cd := mX0_look) aX0_look rfl (HdZ.none rfl)
abbrev nX0_has : MI := (cX0_has, 2, (some (.boolean)), RX0, "has", [], 0, 0)
theorem hyX0_has : yX0_has.cls ≠ "java/lang/invoke/MethodHandle" ∧ yX0_has.cls ≠ "java/lang/invoke/VarHandle" := by decide +kernel
theorem pnX0_has : (parseMethodDescriptor yX0_has.desc).map (fun d => d.parameters.length) = some 2 := by decide +kernel
theorem wdX0_has : CdW yX0_has (nX0_has) := ⟨Or.inl ⟨q1015, rfl⟩, rfl, rfl, plainFor_of_name (by decide +kernel)⟩
theorem eX0_has_0 : SiZ nX0_has 0 (i_iload 0 1) := s_iload_n dX0_has_0 rfl
theorem eX0_has_1 : SiZ nX0_has 1 (i_iload 1 2) := s_iload_n dX0_has_1 rfl
theorem eX0_has_2 : SiZ nX0_has 2 (i_bin (fun x y => x >>> (y &&& 31)) 3) := s_ishr dX0_has_2
theorem eX0_has_3 : SiZ nX0_has 3 (i_push (.int 1) 4) := s_iconst dX0_has_3 (by decide)
theorem eX0_has_4 : SiZ nX0_has 4 (i_bin (fun x y => x &&& y) 5) := s_iand dX0_has_4
theorem eX0_has_5 : SiZ nX0_has 5 (i_push (.int 1) 6) := s_iconst dX0_has_5 (by decide)
theorem eX0_has_6 : SiZ nX0_has 6 (i_icmp (fun x y => ¬ x = y) 13 9) := s_icmp_ne dX0_has_6 (by decide)
theorem eX0_has_9 : SiZ nX0_has 9 (i_push (.int 1) 10) := s_iconst dX0_has_9 (by decide)
theorem eX0_has_10 : SiZ nX0_has 10 (i_goto 14) := s_goto dX0_has_10 (by decide)
theorem eX0_has_13 : SiZ nX0_has 13 (i_push (.int 0) 14) := s_iconst dX0_has_13 (by decide)
theorem eX0_has_14 : SiZ nX0_has 14 i_zret := s_zret dX0_has_14 rfl
theorem aX0_has : ∀ x ∈ mX0_has.1, EnZ nX0_has x := fm_cons eX0_has_0 (fm_cons eX0_has_1 (fm_cons eX0_has_2 (fm_cons eX0_has_3 (fm_cons eX0_has_4 (fm_cons eX0_has_5 (fm_cons eX0_has_6 (fm_cons eX0_has_9 (fm_cons eX0_has_10 (fm_cons eX0_has_13 (fm_cons eX0_has_14 (fm_nil)))))))))))
theorem zX0_has : SwZ nX0_has (Mt mX0_has 2) := wholeZ (mi := nX0_has) (cd := mX0_has) aX0_has rfl (HdZ.none rfl)
abbrev nX0_orderFrom (k : Nat) : MI := (cX0_orderFrom, 6, none, RX0, "orderFrom", [], 8 + k, 211 + k * 29)
theorem hyX0_orderFrom : yX0_orderFrom.cls ≠ "java/lang/invoke/MethodHandle" ∧ yX0_orderFrom.cls ≠ "java/lang/invoke/VarHandle" := by decide +kernel
theorem pnX0_orderFrom : (parseMethodDescriptor yX0_orderFrom.desc).map (fun d => d.parameters.length) = some 4 := by decide +kernel
theorem wdX0_orderFrom (k : Nat) : CdW yX0_orderFrom (nX0_orderFrom k) := ⟨Or.inl ⟨q1008, rfl⟩, rfl, rfl, plainFor_of_name (by decide +kernel)⟩
theorem eX0_orderFrom_0 (k : Nat) (w : Wm) (hw : SwZ (nX0_orderFrom k) w) : SiZ (nX0_orderFrom (k + 1)) 0 (i_iload 4 2) := s_iload dX0_orderFrom_0
theorem eX0_orderFrom_2 (k : Nat) (w : Wm) (hw : SwZ (nX0_orderFrom k) w) : SiZ (nX0_orderFrom (k + 1)) 2 (i_if (fun x => ¬ x = 0) 11 5) := s_if_ne dX0_orderFrom_2 (by decide)
theorem eX0_orderFrom_5 (k : Nat) (w : Wm) (hw : SwZ (nX0_orderFrom k) w) : SiZ (nX0_orderFrom (k + 1)) 5 (i_aload 0 6) := s_aload_n dX0_orderFrom_5 rfl
theorem eX0_orderFrom_6 (k : Nat) (w : Wm) (hw : SwZ (nX0_orderFrom k) w) : SiZ (nX0_orderFrom (k + 1)) 6 (i_iload 1 7) := s_iload_n dX0_orderFrom_6 rfl
theorem eX0_orderFrom_7 (k : Nat) (w : Wm) (hw : SwZ (nX0_orderFrom k) w) : SiZ (nX0_orderFrom (k + 1)) 7 (i_iload 2 8) := s_iload_n dX0_orderFrom_7 rfl
theorem eX0_orderFrom_8 (k : Nat) (w : Wm) (hw : SwZ (nX0_orderFrom k) w) : ScZ (nX0_orderFrom (k + 1)) 8 (c_V 2 11 4 1 (Mt mX0_look 4)) := e_V (mi := (nX0_orderFrom (k + 1))) (mi' := nX0_look) (len := 3) (fun h b as rest hk hl => cs_V (ci := 0) (mi := (nX0_orderFrom (k + 1))) (pc := 8) (y := yX0_look) (idx := 291) dX0_orderFrom_8 q1009 q1011 qs29 rfl hk hyX0_look (sigC q1012) pnX0_look hl) wdX0_look zX0_look (Nat.le_trans (Nat.le_of_ble_eq_true rfl) (Nat.le_add_right _ _)) (Nat.le_trans (Nat.le_of_ble_eq_true rfl) (Nat.le_add_right _ _))
theorem eX0_orderFrom_11 (k : Nat) (w : Wm) (hw : SwZ (nX0_orderFrom k) w) : SiZ (nX0_orderFrom (k + 1)) 11 (i_push (.int 0) 12) := s_iconst dX0_orderFrom_11 (by decide)
theorem eX0_orderFrom_12 (k : Nat) (w : Wm) (hw : SwZ (nX0_orderFrom k) w) : SiZ (nX0_orderFrom (k + 1)) 12 (i_istore 5 14) := s_istore dX0_orderFrom_12
theorem eX0_orderFrom_14 (k : Nat) (w : Wm) (hw : SwZ (nX0_orderFrom k) w) : SiZ (nX0_orderFrom (k + 1)) 14 (i_iload 5 16) := s_iload dX0_orderFrom_14
theorem eX0_orderFrom_16 (k : Nat) (w : Wm) (hw : SwZ (nX0_orderFrom k) w) : SiZ (nX0_orderFrom (k + 1)) 16 (i_aload 0 17) := s_aload_n dX0_orderFrom_16 rfl
theorem eX0_orderFrom_17 (k : Nat) (w : Wm) (hw : SwZ (nX0_orderFrom k) w) : SiZ (nX0_orderFrom (k + 1)) 17 (i_getf 11 [1] 20) := s_getf dX0_orderFrom_17 (fm_cons (⟨_, _, _, _, _, _, rfl, fkX0_39_1⟩) (fm_nil))
theorem eX0_orderFrom_20 (k : Nat) (w : Wm) (hw : SwZ (nX0_orderFrom k) w) : SiZ (nX0_orderFrom (k + 1)) 20 (i_getf 36 [2] 23) := s_getf dX0_orderFrom_20 (fm_cons (⟨_, _, _, _, _, _, rfl, fkX0_177_2⟩) (fm_nil))
theorem eX0_orderFrom_23 (k : Nat) (w : Wm) (hw : SwZ (nX0_orderFrom k) w) : SiZ (nX0_orderFrom (k + 1)) 23 (i_icmp (fun x y => y ≤ x) 71 26) := s_icmp_ge dX0_orderFrom_23 (by decide)
theorem eX0_orderFrom_26 (k : Nat) (w : Wm) (hw : SwZ (nX0_orderFrom k) w) : SiZ (nX0_orderFrom (k + 1)) 26 (i_iload 4 28) := s_iload dX0_orderFrom_26
theorem eX0_orderFrom_28 (k : Nat) (w : Wm) (hw : SwZ (nX0_orderFrom k) w) : SiZ (nX0_orderFrom (k + 1)) 28 (i_iload 5 30) := s_iload dX0_orderFrom_28
theorem eX0_orderFrom_30 (k : Nat) (w : Wm) (hw : SwZ (nX0_orderFrom k) w) : ScZ (nX0_orderFrom (k + 1)) 30 (c_S 2 33 2 (Mt mX0_has 2)) := e_S (mi := (nX0_orderFrom (k + 1))) (mi' := nX0_has) (len := 3) (fun h as rest hl => cs_S (mi := (nX0_orderFrom (k + 1))) (pc := 30) (y := yX0_has) (idx := 294) dX0_orderFrom_30 q1013 q1014 q77 q1015 hyX0_has pnX0_has hl) wdX0_has zX0_has (Nat.le_trans (Nat.le_of_ble_eq_true rfl) (Nat.le_add_right _ _)) (Nat.le_trans (Nat.le_of_ble_eq_true rfl) (Nat.le_add_right _ _))
theorem eX0_orderFrom_33 (k : Nat) (w : Wm) (hw : SwZ (nX0_orderFrom k) w) : SiZ (nX0_orderFrom (k + 1)) 33 (i_if (fun x => ¬ x = 0) 39 36) := s_if_ne dX0_orderFrom_33 (by decide)
theorem eX0_orderFrom_36 (k : Nat) (w : Wm) (hw : SwZ (nX0_orderFrom k) w) : SiZ (nX0_orderFrom (k + 1)) 36 (i_goto 65) := s_goto dX0_orderFrom_36 (by decide)
theorem eX0_orderFrom_39 (k : Nat) (w : Wm) (hw : SwZ (nX0_orderFrom k) w) : SiZ (nX0_orderFrom (k + 1)) 39 (i_aload 0 40) := s_aload_n dX0_orderFrom_39 rfl
theorem eX0_orderFrom_40 (k : Nat) (w : Wm) (hw : SwZ (nX0_orderFrom k) w) : SiZ (nX0_orderFrom (k + 1)) 40 (i_getf 25 [1] 43) := s_getf dX0_orderFrom_40 (fm_cons (⟨_, _, _, _, _, _, rfl, fkX0_60_1⟩) (fm_nil))
theorem eX0_orderFrom_43 (k : Nat) (w : Wm) (hw : SwZ (nX0_orderFrom k) w) : SiZ (nX0_orderFrom (k + 1)) 43 (i_iload 3 44) := s_iload_n dX0_orderFrom_43 rfl
theorem eX0_orderFrom_44 (k : Nat) (w : Wm) (hw : SwZ (nX0_orderFrom k) w) : SiZ (nX0_orderFrom (k + 1)) 44 (i_iload 5 46) := s_iload dX0_orderFrom_44
theorem eX0_orderFrom_46 (k : Nat) (w : Wm) (hw : SwZ (nX0_orderFrom k) w) : SiZ (nX0_orderFrom (k + 1)) 46 (i_iast 51 (fun x => x) 47) := s_ast (j := 0) (by decide) (fun _ => rfl) dX0_orderFrom_46 (Or.inl ⟨rfl, rfl, rfl⟩)
theorem eX0_orderFrom_47 (k : Nat) (w : Wm) (hw : SwZ (nX0_orderFrom k) w) : SiZ (nX0_orderFrom (k + 1)) 47 (i_aload 0 48) := s_aload_n dX0_orderFrom_47 rfl
theorem eX0_orderFrom_48 (k : Nat) (w : Wm) (hw : SwZ (nX0_orderFrom k) w) : SiZ (nX0_orderFrom (k + 1)) 48 (i_iload 1 49) := s_iload_n dX0_orderFrom_48 rfl
theorem eX0_orderFrom_49 (k : Nat) (w : Wm) (hw : SwZ (nX0_orderFrom k) w) : SiZ (nX0_orderFrom (k + 1)) 49 (i_iload 2 50) := s_iload_n dX0_orderFrom_49 rfl
theorem eX0_orderFrom_50 (k : Nat) (w : Wm) (hw : SwZ (nX0_orderFrom k) w) : SiZ (nX0_orderFrom (k + 1)) 50 (i_iload 3 51) := s_iload_n dX0_orderFrom_50 rfl
theorem eX0_orderFrom_51 (k : Nat) (w : Wm) (hw : SwZ (nX0_orderFrom k) w) : SiZ (nX0_orderFrom (k + 1)) 51 (i_push (.int 1) 52) := s_iconst dX0_orderFrom_51 (by decide)
theorem eX0_orderFrom_52 (k : Nat) (w : Wm) (hw : SwZ (nX0_orderFrom k) w) : SiZ (nX0_orderFrom (k + 1)) 52 (i_bin (fun x y => x + y) 53) := s_iadd dX0_orderFrom_52
theorem eX0_orderFrom_53 (k : Nat) (w : Wm) (hw : SwZ (nX0_orderFrom k) w) : SiZ (nX0_orderFrom (k + 1)) 53 (i_iload 4 55) := s_iload dX0_orderFrom_53
theorem eX0_orderFrom_55 (k : Nat) (w : Wm) (hw : SwZ (nX0_orderFrom k) w) : SiZ (nX0_orderFrom (k + 1)) 55 (i_push (.int 1) 56) := s_iconst dX0_orderFrom_55 (by decide)
theorem eX0_orderFrom_56 (k : Nat) (w : Wm) (hw : SwZ (nX0_orderFrom k) w) : SiZ (nX0_orderFrom (k + 1)) 56 (i_iload 5 58) := s_iload dX0_orderFrom_56
theorem eX0_orderFrom_58 (k : Nat) (w : Wm) (hw : SwZ (nX0_orderFrom k) w) : SiZ (nX0_orderFrom (k + 1)) 58 (i_bin (fun x y => x <<< (y &&& 31)) 59) := s_ishl dX0_orderFrom_58
theorem eX0_orderFrom_59 (k : Nat) (w : Wm) (hw : SwZ (nX0_orderFrom k) w) : SiZ (nX0_orderFrom (k + 1)) 59 (i_push (.int (-1)) 60) := s_iconst dX0_orderFrom_59 (by decide)
theorem eX0_orderFrom_60 (k : Nat) (w : Wm) (hw : SwZ (nX0_orderFrom k) w) : SiZ (nX0_orderFrom (k + 1)) 60 (i_bin (fun x y => x ^^^ y) 61) := s_ixor dX0_orderFrom_60
theorem eX0_orderFrom_61 (k : Nat) (w : Wm) (hw : SwZ (nX0_orderFrom k) w) : SiZ (nX0_orderFrom (k + 1)) 61 (i_bin (fun x y => x &&& y) 62) := s_iand dX0_orderFrom_61
theorem eX0_orderFrom_62 (k : Nat) (w : Wm) (hw : SwZ (nX0_orderFrom k) w) : ScZ (nX0_orderFrom (k + 1)) 62 (c_V 4 65 6 1 w) := e_V (mi := (nX0_orderFrom (k + 1))) (mi' := (nX0_orderFrom k)) (len := 3) (fun h b as rest hk hl => cs_V (ci := 0) (mi := (nX0_orderFrom (k + 1))) (pc := 62) (y := yX0_orderFrom) (idx := 298) dX0_orderFrom_62 q1005 q1007 qs28 rfl hk hyX0_orderFrom (sigC q1008) pnX0_orderFrom hl) (wdX0_orderFrom k) hw (Nat.le_refl _) (by show 12 + (6 + 11) + (211 + k * 29) ≤ 211 + (k + 1) * 29; omega)
theorem eX0_orderFrom_65 (k : Nat) (w : Wm) (hw : SwZ (nX0_orderFrom k) w) : SiZ (nX0_orderFrom (k + 1)) 65 (i_iinc 5 1 68) := s_iinc dX0_orderFrom_65 (by decide)
theorem eX0_orderFrom_68 (k : Nat) (w : Wm) (hw : SwZ (nX0_orderFrom k) w) : SiZ (nX0_orderFrom (k + 1)) 68 (i_goto 14) := s_goto dX0_orderFrom_68 (by decide)
theorem eX0_orderFrom_71 (k : Nat) (w : Wm) (hw : SwZ (nX0_orderFrom k) w) : SiZ (nX0_orderFrom (k + 1)) 71 i_vret := s_vret dX0_orderFrom_71 rfl
theorem aX0_orderFrom (k : Nat) (w : Wm) (hw : SwZ (nX0_orderFrom k) w) : ∀ x ∈ (mX0_orderFrom w).1, EnZ (nX0_orderFrom (k + 1)) x := fm_cons (eX0_orderFrom_0 k w hw) (fm_cons (eX0_orderFrom_2 k w hw) (fm_cons (eX0_orderFrom_5 k w hw) (fm_cons (eX0_orderFrom_6 k w hw) (fm_cons (eX0_orderFrom_7 k w hw) (fm_cons (eX0_orderFrom_8 k w hw) (fm_cons (eX0_orderFrom_11 k w hw) (fm_cons (eX0_orderFrom_12 k w hw) (fm_cons (eX0_orderFrom_14 k w hw) (fm_cons (eX0_orderFrom_16 k w hw) (fm_cons (eX0_orderFrom_17 k w hw) (fm_cons (eX0_orderFrom_20 k w hw) (fm_cons (eX0_orderFrom_23 k w hw) (fm_cons (eX0_orderFrom_26 k w hw) (fm_cons (eX0_orderFrom_28 k w hw) (fm_cons (eX0_orderFrom_30 k w hw) (fm_cons (eX0_orderFrom_33 k w hw) (fm_cons (eX0_orderFrom_36 k w hw) (fm_cons (eX0_orderFrom_39 k w hw) (fm_cons (eX0_orderFrom_40 k w hw) (fm_cons (eX0_orderFrom_43 k w hw) (fm_cons (eX0_orderFrom_44 k w hw) (fm_cons (eX0_orderFrom_46 k w hw) (fm_cons (eX0_orderFrom_47 k w hw) (fm_cons (eX0_orderFrom_48 k w hw) (fm_cons (eX0_orderFrom_49 k w hw) (fm_cons (eX0_orderFrom_50 k w hw) (fm_cons (eX0_orderFrom_51 k w hw) (fm_cons (eX0_orderFrom_52 k w hw) (fm_cons (eX0_orderFrom_53 k w hw) (fm_cons (eX0_orderFrom_55 k w hw) (fm_cons (eX0_orderFrom_56 k w hw) (fm_cons (eX0_orderFrom_58 k w hw) (fm_cons (eX0_orderFrom_59 k w hw) (fm_cons (eX0_orderFrom_60 k w hw) (fm_cons (eX0_orderFrom_61 k w hw) (fm_cons (eX0_orderFrom_62 k w hw) (fm_cons (eX0_orderFrom_65 k w hw) (fm_cons (eX0_orderFrom_68 k w hw) (fm_cons (eX0_orderFrom_71 k w hw) (fm_nil))))))))))))))))))))))))))))))))))))))))
theorem sX0_orderFrom (k : Nat) (w : Wm) (hw : SwZ (nX0_orderFrom k) w) : SwZ (nX0_orderFrom (k + 1)) (Mt (mX0_orderFrom w) 6) := wholeZ (mi := nX0_orderFrom (k + 1)) (cd := mX0_orderFrom w) (aX0_orderFrom k w hw) rfl (HdZ.none rfl)
theorem zX0_orderFrom : ∀ d : Nat, SwZ (nX0_orderFrom (d + 1)) (Mt (mX0_orderFromN d) 6)
  | 0 => sX0_orderFrom 0 _ (fun _ _ _ _ _ _ _ _ _ _ _ _ _ _ _ _ _ _ _ _ h => h.elim)
  | d + 1 => sX0_orderFrom (d + 1) _ (zX0_orderFrom d)
abbrev nX0_order : MI := (cX0_order, 4, (some (.int)), RX0, "order", [], 17, 472)
theorem hyX0_order : yX0_order.cls ≠ "java/lang/invoke/MethodHandle" ∧ yX0_order.cls ≠ "java/lang/invoke/VarHandle" := by decide +kernel
theorem pnX0_order : (parseMethodDescriptor yX0_order.desc).map (fun d => d.parameters.length) = some 3 := by decide +kernel
theorem wdX0_order : CdW yX0_order (nX0_order) := ⟨Or.inl ⟨q999, rfl⟩, rfl, rfl, plainFor_of_name (by decide +kernel)⟩
theorem eX0_order_0 : SiZ nX0_order 0 (i_aload 0 1) := s_aload_n dX0_order_0 rfl
theorem eX0_order_1 : ScZ nX0_order 1 (c_V 0 4 1 1 (Mt mX0_isLibrary 1)) := e_V (mi := nX0_order) (mi' := nX0_isLibrary) (len := 3) (fun h b as rest hk hl => cs_V (ci := 0) (mi := nX0_order) (pc := 1) (y := yX0_isLibrary) (idx := 184) dX0_order_1 q782 q784 qs18 rfl hk hyX0_isLibrary (sigC q785) pnX0_isLibrary hl) wdX0_isLibrary zX0_isLibrary (Nat.le_of_ble_eq_true rfl) (Nat.le_of_ble_eq_true rfl)
theorem eX0_order_4 : SiZ nX0_order 4 (i_if (fun x => ¬ x = 0) 10 7) := s_if_ne dX0_order_4 (by decide)
theorem eX0_order_7 : SiZ nX0_order 7 (i_push (.int (-1000002)) 9) := s_ldc dX0_order_7 q777
theorem eX0_order_9 : SiZ nX0_order 9 i_iret := s_iret dX0_order_9 rfl
theorem eX0_order_10 : SiZ nX0_order 10 (i_iload 1 11) := s_iload_n dX0_order_10 rfl
theorem eX0_order_11 : SiZ nX0_order 11 (i_i2l 12) := s_i2l dX0_order_11
theorem eX0_order_12 : SiZ nX0_order 12 (i_push (.long 0) 13) := s_lconst dX0_order_12 (by decide)
theorem eX0_order_13 : SiZ nX0_order 13 (i_aload 0 14) := s_aload_n dX0_order_13 rfl
theorem eX0_order_14 : ScZ nX0_order 14 (c_V 0 17 1 1 (Mt mX0_allBooks 1)) := e_V (mi := nX0_order) (mi' := nX0_allBooks) (len := 3) (fun h b as rest hk hl => cs_V (ci := 0) (mi := nX0_order) (pc := 14) (y := yX0_allBooks) (idx := 200) dX0_order_14 q880 q882 qs22 rfl hk hyX0_allBooks (sigC q883) pnX0_allBooks hl) wdX0_allBooks zX0_allBooks (Nat.le_of_ble_eq_true rfl) (Nat.le_of_ble_eq_true rfl)
theorem eX0_order_17 : SiZ nX0_order 17 (i_i2l 18) := s_i2l dX0_order_17
theorem eX0_order_18 : ScZ nX0_order 18 (c_S 3 21 6 (Mt mX0_isIn 6)) := e_S (mi := nX0_order) (mi' := nX0_isIn) (len := 3) (fun h as rest hl => cs_S (mi := nX0_order) (pc := 18) (y := yX0_isIn) (idx := 86) dX0_order_18 q351 q352 q77 q353 hyX0_isIn pnX0_isIn hl) wdX0_isIn zX0_isIn (Nat.le_of_ble_eq_true rfl) (Nat.le_of_ble_eq_true rfl)
theorem eX0_order_21 : SiZ nX0_order 21 (i_if (fun x => x = 0) 52 24) := s_if_eq dX0_order_21 (by decide)
theorem eX0_order_24 : SiZ nX0_order 24 (i_iload 2 25) := s_iload_n dX0_order_24 rfl
theorem eX0_order_25 : ScZ nX0_order 25 (c_S 1 28 1 (Mt mX0_isShort 1)) := e_S (mi := nX0_order) (mi' := nX0_isShort) (len := 3) (fun h as rest hl => cs_S (mi := nX0_order) (pc := 25) (y := yX0_isShort) (idx := 302) dX0_order_25 q1000 q1001 q77 q1002 hyX0_isShort pnX0_isShort hl) wdX0_isShort zX0_isShort (Nat.le_of_ble_eq_true rfl) (Nat.le_of_ble_eq_true rfl)
theorem eX0_order_28 : SiZ nX0_order 28 (i_if (fun x => x = 0) 52 31) := s_if_eq dX0_order_28 (by decide)
theorem eX0_order_31 : SiZ nX0_order 31 (i_iload 3 32) := s_iload_n dX0_order_31 rfl
theorem eX0_order_32 : SiZ nX0_order 32 (i_i2l 33) := s_i2l dX0_order_32
theorem eX0_order_33 : SiZ nX0_order 33 (i_push (.long (-1)) 36) := s_ldc2 dX0_order_33 q1004
theorem eX0_order_36 : SiZ nX0_order 36 (i_aload 0 37) := s_aload_n dX0_order_36 rfl
theorem eX0_order_37 : SiZ nX0_order 37 (i_getf 11 [1] 40) := s_getf dX0_order_37 (fm_cons (⟨_, _, _, _, _, _, rfl, fkX0_39_1⟩) (fm_nil))
theorem eX0_order_40 : SiZ nX0_order 40 (i_getf 36 [2] 43) := s_getf dX0_order_40 (fm_cons (⟨_, _, _, _, _, _, rfl, fkX0_177_2⟩) (fm_nil))
theorem eX0_order_43 : SiZ nX0_order 43 (i_push (.int 1) 44) := s_iconst dX0_order_43 (by decide)
theorem eX0_order_44 : SiZ nX0_order 44 (i_bin (fun x y => x - y) 45) := s_isub dX0_order_44
theorem eX0_order_45 : SiZ nX0_order 45 (i_i2l 46) := s_i2l dX0_order_45
theorem eX0_order_46 : ScZ nX0_order 46 (c_S 3 49 6 (Mt mX0_isIn 6)) := e_S (mi := nX0_order) (mi' := nX0_isIn) (len := 3) (fun h as rest hl => cs_S (mi := nX0_order) (pc := 46) (y := yX0_isIn) (idx := 86) dX0_order_46 q351 q352 q77 q353 hyX0_isIn pnX0_isIn hl) wdX0_isIn zX0_isIn (Nat.le_of_ble_eq_true rfl) (Nat.le_of_ble_eq_true rfl)
theorem eX0_order_49 : SiZ nX0_order 49 (i_if (fun x => ¬ x = 0) 55 52) := s_if_ne dX0_order_49 (by decide)
theorem eX0_order_52 : SiZ nX0_order 52 (i_push (.int (-1000001)) 54) := s_ldc dX0_order_52 q355
theorem eX0_order_54 : SiZ nX0_order 54 i_iret := s_iret dX0_order_54 rfl
theorem eX0_order_55 : SiZ nX0_order 55 (i_aload 0 56) := s_aload_n dX0_order_55 rfl
theorem eX0_order_56 : SiZ nX0_order 56 (i_push (.int (-1)) 57) := s_iconst dX0_order_56 (by decide)
theorem eX0_order_57 : SiZ nX0_order 57 (i_putI 28 [1] 60) := s_putI dX0_order_57 (fm_cons (⟨_, _, _, _, _, _, rfl, ⟨fkX0_288_1, ⟨_, q309, Or.inl rfl⟩, Or.inl rfl⟩, rfl⟩) (fm_nil))
theorem eX0_order_60 : SiZ nX0_order 60 (i_aload 0 61) := s_aload_n dX0_order_60 rfl
theorem eX0_order_61 : SiZ nX0_order 61 (i_iload 1 62) := s_iload_n dX0_order_61 rfl
theorem eX0_order_62 : SiZ nX0_order 62 (i_iload 2 63) := s_iload_n dX0_order_62 rfl
theorem eX0_order_63 : SiZ nX0_order 63 (i_push (.int 0) 64) := s_iconst dX0_order_63 (by decide)
theorem eX0_order_64 : SiZ nX0_order 64 (i_aload 0 65) := s_aload_n dX0_order_64 rfl
theorem eX0_order_65 : ScZ nX0_order 65 (c_V 0 68 1 1 (Mt mX0_allBooks 1)) := e_V (mi := nX0_order) (mi' := nX0_allBooks) (len := 3) (fun h b as rest hk hl => cs_V (ci := 0) (mi := nX0_order) (pc := 65) (y := yX0_allBooks) (idx := 200) dX0_order_65 q880 q882 qs22 rfl hk hyX0_allBooks (sigC q883) pnX0_allBooks hl) wdX0_allBooks zX0_allBooks (Nat.le_of_ble_eq_true rfl) (Nat.le_of_ble_eq_true rfl)
theorem eX0_order_68 : ScZ nX0_order 68 (c_V 4 71 6 1 (Mt (mX0_orderFromN 7) 6)) := e_V (mi := nX0_order) (mi' := (nX0_orderFrom 8)) (len := 3) (fun h b as rest hk hl => cs_V (ci := 0) (mi := nX0_order) (pc := 68) (y := yX0_orderFrom) (idx := 298) dX0_order_68 q1005 q1007 qs28 rfl hk hyX0_orderFrom (sigC q1008) pnX0_orderFrom hl) (wdX0_orderFrom 8) (zX0_orderFrom 7) (Nat.le_of_ble_eq_true rfl) (Nat.le_of_ble_eq_true rfl)
theorem eX0_order_71 : SiZ nX0_order 71 (i_iload 3 72) := s_iload_n dX0_order_71 rfl
theorem eX0_order_72 : SiZ nX0_order 72 (i_push (.int (-1)) 73) := s_iconst dX0_order_72 (by decide)
theorem eX0_order_73 : SiZ nX0_order 73 (i_icmp (fun x y => ¬ x = y) 83 76) := s_icmp_ne dX0_order_73 (by decide)
theorem eX0_order_76 : SiZ nX0_order 76 (i_aload 0 77) := s_aload_n dX0_order_76 rfl
theorem eX0_order_77 : SiZ nX0_order 77 (i_getf 28 [1] 80) := s_getf dX0_order_77 (fm_cons (⟨_, _, _, _, _, _, rfl, fkX0_288_1⟩) (fm_nil))
theorem eX0_order_80 : SiZ nX0_order 80 (i_goto 89) := s_goto dX0_order_80 (by decide)
theorem eX0_order_83 : SiZ nX0_order 83 (i_aload 0 84) := s_aload_n dX0_order_83 rfl
theorem eX0_order_84 : SiZ nX0_order 84 (i_getf 27 [1] 87) := s_getf dX0_order_84 (fm_cons (⟨_, _, _, _, _, _, rfl, fkX0_64_1⟩) (fm_nil))
theorem eX0_order_87 : SiZ nX0_order 87 (i_iload 3 88) := s_iload_n dX0_order_87 rfl
theorem eX0_order_88 : SiZ nX0_order 88 (i_iald 51 89) := s_ald (j := 0) (by decide) (fun _ => rfl) dX0_order_88 (Or.inl ⟨rfl, rfl⟩)
theorem eX0_order_89 : SiZ nX0_order 89 i_iret := s_iret dX0_order_89 rfl
theorem aX0_order : ∀ x ∈ mX0_order.1, EnZ nX0_order x := fm_cons eX0_order_0 (fm_cons eX0_order_1 (fm_cons eX0_order_4 (fm_cons eX0_order_7 (fm_cons eX0_order_9 (fm_cons eX0_order_10 (fm_cons eX0_order_11 (fm_cons eX0_order_12 (fm_cons eX0_order_13 (fm_cons eX0_order_14 (fm_cons eX0_order_17 (fm_cons eX0_order_18 (fm_cons eX0_order_21 (fm_cons eX0_order_24 (fm_cons eX0_order_25 (fm_cons eX0_order_28 (fm_cons eX0_order_31 (fm_cons eX0_order_32 (fm_cons eX0_order_33 (fm_cons eX0_order_36 (fm_cons eX0_order_37 (fm_cons eX0_order_40 (fm_cons eX0_order_43 (fm_cons eX0_order_44 (fm_cons eX0_order_45 (fm_cons eX0_order_46 (fm_cons eX0_order_49 (fm_cons eX0_order_52 (fm_cons eX0_order_54 (fm_cons eX0_order_55 (fm_cons eX0_order_56 (fm_cons eX0_order_57 (fm_cons eX0_order_60 (fm_cons eX0_order_61 (fm_cons eX0_order_62 (fm_cons eX0_order_63 (fm_cons eX0_order_64 (fm_cons eX0_order_65 (fm_cons eX0_order_68 (fm_cons eX0_order_71 (fm_cons eX0_order_72 (fm_cons eX0_order_73 (fm_cons eX0_order_76 (fm_cons eX0_order_77 (fm_cons eX0_order_80 (fm_cons eX0_order_83 (fm_cons eX0_order_84 (fm_cons eX0_order_87 (fm_cons eX0_order_88 (fm_cons eX0_order_89 (fm_nil))))))))))))))))))))))))))))))))))))))))))))))))))
theorem zX0_order : SwZ nX0_order (Mt mX0_order 4) := wholeZ (mi := nX0_order) (cd := mX0_order) aX0_order rfl (HdZ.none rfl)
abbrev nX0_isLong : MI := (cX0_isLong, 1, (some (.boolean)), RX0, "isLong", [], 1, 29)
theorem hyX0_isLong : yX0_isLong.cls ≠ "java/lang/invoke/MethodHandle" ∧ yX0_isLong.cls ≠ "java/lang/invoke/VarHandle" := by decide +kernel
theorem pnX0_isLong : (parseMethodDescriptor yX0_isLong.desc).map (fun d => d.parameters.length) = some 1 := by decide +kernel
theorem wdX0_isLong : CdW yX0_isLong (nX0_isLong) := ⟨Or.inl ⟨q1022, rfl⟩, rfl, rfl, plainFor_of_name (by decide +kernel)⟩
theorem eX0_isLong_0 : SiZ nX0_isLong 0 (i_iload 0 1) := s_iload_n dX0_isLong_0 rfl
theorem eX0_isLong_1 : SiZ nX0_isLong 1 (i_i2l 2) := s_i2l dX0_isLong_1
theorem eX0_isLong_2 : SiZ nX0_isLong 2 (i_push (.long 1) 3) := s_lconst dX0_isLong_2 (by decide)
theorem eX0_isLong_3 : SiZ nX0_isLong 3 (i_push (.long 60) 6) := s_ldc2 dX0_isLong_3 q963
theorem eX0_isLong_6 : ScZ nX0_isLong 6 (c_S 3 9 6 (Mt mX0_isIn 6)) := e_S (mi := nX0_isLong) (mi' := nX0_isIn) (len := 3) (fun h as rest hl => cs_S (mi := nX0_isLong) (pc := 6) (y := yX0_isIn) (idx := 86) dX0_isLong_6 q351 q352 q77 q353 hyX0_isIn pnX0_isIn hl) wdX0_isIn zX0_isIn (Nat.le_of_ble_eq_true rfl) (Nat.le_of_ble_eq_true rfl)
theorem eX0_isLong_9 : SiZ nX0_isLong 9 i_zret := s_zret dX0_isLong_9 rfl
theorem aX0_isLong : ∀ x ∈ mX0_isLong.1, EnZ nX0_isLong x := fm_cons eX0_isLong_0 (fm_cons eX0_isLong_1 (fm_cons eX0_isLong_2 (fm_cons eX0_isLong_3 (fm_cons eX0_isLong_6 (fm_cons eX0_isLong_9 (fm_nil))))))
theorem zX0_isLong : SwZ nX0_isLong (Mt mX0_isLong 1) := wholeZ (mi := nX0_isLong) (cd := mX0_isLong) aX0_isLong rfl (HdZ.none rfl)
abbrev nX0_lamp : MI := (cX0_lamp, 8, (some (.int)), RX0, "lamp", [], 7, 184)
theorem hyX0_lamp : yX0_lamp.cls ≠ "java/lang/invoke/MethodHandle" ∧ yX0_lamp.cls ≠ "java/lang/invoke/VarHandle" := by decide +kernel
theorem pnX0_lamp : (parseMethodDescriptor yX0_lamp.desc).map (fun d => d.parameters.length) = some 3 := by decide +kernel
theorem wdX0_lamp : CdW yX0_lamp (nX0_lamp) := ⟨Or.inl ⟨q1019, rfl⟩, rfl, rfl, plainFor_of_name (by decide +kernel)⟩
theorem eX0_lamp_0 : SiZ nX0_lamp 0 (i_aload 0 1) := s_aload_n dX0_lamp_0 rfl
theorem eX0_lamp_1 : SiZ nX0_lamp 1 (i_iload 1 2) := s_iload_n dX0_lamp_1 rfl
theorem eX0_lamp_2 : ScZ nX0_lamp 2 (c_V 1 5 2 1 (Mt mX0_isBook 2)) := e_V (mi := nX0_lamp) (mi' := nX0_isBook) (len := 3) (fun h b as rest hk hl => cs_V (ci := 0) (mi := nX0_lamp) (pc := 2) (y := yX0_isBook) (idx := 206) dX0_lamp_2 q892 q894 qs23 rfl hk hyX0_isBook (sigC q895) pnX0_isBook hl) wdX0_isBook zX0_isBook (Nat.le_of_ble_eq_true rfl) (Nat.le_of_ble_eq_true rfl)
theorem eX0_lamp_5 : SiZ nX0_lamp 5 (i_if (fun x => x = 0) 22 8) := s_if_eq dX0_lamp_5 (by decide)
theorem eX0_lamp_8 : SiZ nX0_lamp 8 (i_iload 2 9) := s_iload_n dX0_lamp_8 rfl
theorem eX0_lamp_9 : ScZ nX0_lamp 9 (c_S 1 12 1 (Mt mX0_isLong 1)) := e_S (mi := nX0_lamp) (mi' := nX0_isLong) (len := 3) (fun h as rest hl => cs_S (mi := nX0_lamp) (pc := 9) (y := yX0_isLong) (idx := 307) dX0_lamp_9 q1020 q1021 q77 q1022 hyX0_isLong pnX0_isLong hl) wdX0_isLong zX0_isLong (Nat.le_of_ble_eq_true rfl) (Nat.le_of_ble_eq_true rfl)
theorem eX0_lamp_12 : SiZ nX0_lamp 12 (i_if (fun x => x = 0) 22 15) := s_if_eq dX0_lamp_12 (by decide)
theorem eX0_lamp_15 : SiZ nX0_lamp 15 (i_iload 3 16) := s_iload_n dX0_lamp_15 rfl
theorem eX0_lamp_16 : ScZ nX0_lamp 16 (c_S 1 19 1 (Mt mX0_isHalf 1)) := e_S (mi := nX0_lamp) (mi' := nX0_isHalf) (len := 3) (fun h as rest hl => cs_S (mi := nX0_lamp) (pc := 16) (y := yX0_isHalf) (idx := 209) dX0_lamp_16 q896 q897 q77 q898 hyX0_isHalf pnX0_isHalf hl) wdX0_isHalf zX0_isHalf (Nat.le_of_ble_eq_true rfl) (Nat.le_of_ble_eq_true rfl)
theorem eX0_lamp_19 : SiZ nX0_lamp 19 (i_if (fun x => ¬ x = 0) 25 22) := s_if_ne dX0_lamp_19 (by decide)
theorem eX0_lamp_22 : SiZ nX0_lamp 22 (i_push (.int (-1000001)) 24) := s_ldc dX0_lamp_22 q355
theorem eX0_lamp_24 : SiZ nX0_lamp 24 i_iret := s_iret dX0_lamp_24 rfl
theorem eX0_lamp_25 : SiZ nX0_lamp 25 (i_push (.int 0) 26) := s_iconst dX0_lamp_25 (by decide)
theorem eX0_lamp_26 : SiZ nX0_lamp 26 (i_istore 4 28) := s_istore dX0_lamp_26
theorem eX0_lamp_28 : SiZ nX0_lamp 28 (i_push (.int (-1)) 29) := s_iconst dX0_lamp_28 (by decide)
theorem eX0_lamp_29 : SiZ nX0_lamp 29 (i_istore 5 31) := s_istore dX0_lamp_29
theorem eX0_lamp_31 : SiZ nX0_lamp 31 (i_push (.int 0) 32) := s_iconst dX0_lamp_31 (by decide)
theorem eX0_lamp_32 : SiZ nX0_lamp 32 (i_istore 6 34) := s_istore dX0_lamp_32
theorem eX0_lamp_34 : SiZ nX0_lamp 34 (i_iload 6 36) := s_iload dX0_lamp_34
theorem eX0_lamp_36 : SiZ nX0_lamp 36 (i_aload 0 37) := s_aload_n dX0_lamp_36 rfl
theorem eX0_lamp_37 : ScZ nX0_lamp 37 (c_V 0 40 1 1 (Mt mX0_allBooks 1)) := e_V (mi := nX0_lamp) (mi' := nX0_allBooks) (len := 3) (fun h b as rest hk hl => cs_V (ci := 0) (mi := nX0_lamp) (pc := 37) (y := yX0_allBooks) (idx := 200) dX0_lamp_37 q880 q882 qs22 rfl hk hyX0_allBooks (sigC q883) pnX0_allBooks hl) wdX0_allBooks zX0_allBooks (Nat.le_of_ble_eq_true rfl) (Nat.le_of_ble_eq_true rfl)
theorem eX0_lamp_40 : SiZ nX0_lamp 40 (i_icmp (fun x y => y < x) 126 43) := s_icmp_gt dX0_lamp_40 (by decide)
theorem eX0_lamp_43 : SiZ nX0_lamp 43 (i_iload 6 45) := s_iload dX0_lamp_43
theorem eX0_lamp_45 : ScZ nX0_lamp 45 (c_S 1 48 1 (Mt mJ16_bitCount 1)) := e_S (mi := nX0_lamp) (mi' := nJ16_bitCount) (len := 3) (fun h as rest hl => cs_S (mi := nX0_lamp) (pc := 45) (y := yJ16_bitCount) (idx := 215) dX0_lamp_45 q899 q900 q108 q901 hyJ16_bitCount pnJ16_bitCount hl) wdJ16_bitCount zJ16_bitCount (Nat.le_of_ble_eq_true rfl) (Nat.le_of_ble_eq_true rfl)
theorem eX0_lamp_48 : SiZ nX0_lamp 48 (i_aload 0 49) := s_aload_n dX0_lamp_48 rfl
theorem eX0_lamp_49 : SiZ nX0_lamp 49 (i_getf 11 [1] 52) := s_getf dX0_lamp_49 (fm_cons (⟨_, _, _, _, _, _, rfl, fkX0_39_1⟩) (fm_nil))
theorem eX0_lamp_52 : SiZ nX0_lamp 52 (i_getf 34 [2] 55) := s_getf dX0_lamp_52 (fm_cons (⟨_, _, _, _, _, _, rfl, fkX0_220_2⟩) (fm_nil))
theorem eX0_lamp_55 : SiZ nX0_lamp 55 (i_icmp (fun x y => x ≤ y) 61 58) := s_icmp_le dX0_lamp_55 (by decide)
theorem eX0_lamp_58 : SiZ nX0_lamp 58 (i_goto 120) := s_goto dX0_lamp_58 (by decide)
theorem eX0_lamp_61 : SiZ nX0_lamp 61 (i_aload 0 62) := s_aload_n dX0_lamp_61 rfl
theorem eX0_lamp_62 : ScZ nX0_lamp 62 (c_V 0 65 1 1 (Mt mX0_tried 1)) := e_V (mi := nX0_lamp) (mi' := nX0_tried) (len := 3) (fun h b as rest hk hl => cs_V (ci := 0) (mi := nX0_lamp) (pc := 62) (y := yX0_tried) (idx := 275) dX0_lamp_62 q964 q966 qs26 rfl hk hyX0_tried (sigC q967) pnX0_tried hl) wdX0_tried zX0_tried (Nat.le_of_ble_eq_true rfl) (Nat.le_of_ble_eq_true rfl)
theorem eX0_lamp_65 : SiZ nX0_lamp 65 (i_iload 6 67) := s_iload dX0_lamp_65
theorem eX0_lamp_67 : SiZ nX0_lamp 67 (i_putI 46 [2] 70) := s_putI dX0_lamp_67 (fm_cons (⟨_, _, _, _, _, _, rfl, ⟨fkX0_212_2, ⟨_, q179, Or.inl rfl⟩, Or.inl rfl⟩, rfl⟩) (fm_nil))
theorem eX0_lamp_70 : SiZ nX0_lamp 70 (i_aload 0 71) := s_aload_n dX0_lamp_70 rfl
theorem eX0_lamp_71 : SiZ nX0_lamp 71 (i_iload 2 72) := s_iload_n dX0_lamp_71 rfl
theorem eX0_lamp_72 : ScZ nX0_lamp 72 (c_V 1 75 3 1 (Mt mX0_goOn 3)) := e_V (mi := nX0_lamp) (mi' := nX0_goOn) (len := 3) (fun h b as rest hk hl => cs_V (ci := 0) (mi := nX0_lamp) (pc := 72) (y := yX0_goOn) (idx := 278) dX0_lamp_72 q968 q970 qs27 rfl hk hyX0_goOn (sigC q971) pnX0_goOn hl) wdX0_goOn zX0_goOn (Nat.le_of_ble_eq_true rfl) (Nat.le_of_ble_eq_true rfl)
theorem eX0_lamp_75 : SiZ nX0_lamp 75 (i_getf 39 [2] 78) := s_getf dX0_lamp_75 (fm_cons (⟨_, _, _, _, _, _, rfl, fkX0_243_2⟩) (fm_nil))
theorem eX0_lamp_78 : SiZ nX0_lamp 78 (i_iload 1 79) := s_iload_n dX0_lamp_78 rfl
theorem eX0_lamp_79 : SiZ nX0_lamp 79 (i_iald 51 80) := s_ald (j := 0) (by decide) (fun _ => rfl) dX0_lamp_79 (Or.inl ⟨rfl, rfl⟩)
theorem eX0_lamp_80 : SiZ nX0_lamp 80 (i_istore 7 82) := s_istore dX0_lamp_80
theorem eX0_lamp_82 : SiZ nX0_lamp 82 (i_iload 7 84) := s_iload dX0_lamp_82
theorem eX0_lamp_84 : SiZ nX0_lamp 84 (i_iload 5 86) := s_iload dX0_lamp_84
theorem eX0_lamp_86 : SiZ nX0_lamp 86 (i_icmp (fun x y => x < y) 120 89) := s_icmp_lt dX0_lamp_86 (by decide)
theorem eX0_lamp_89 : SiZ nX0_lamp 89 (i_iload 7 91) := s_iload dX0_lamp_89
theorem eX0_lamp_91 : SiZ nX0_lamp 91 (i_iload 5 93) := s_iload dX0_lamp_91
theorem eX0_lamp_93 : SiZ nX0_lamp 93 (i_icmp (fun x y => ¬ x = y) 112 96) := s_icmp_ne dX0_lamp_93 (by decide)
theorem eX0_lamp_96 : SiZ nX0_lamp 96 (i_iload 6 98) := s_iload dX0_lamp_96
theorem eX0_lamp_98 : ScZ nX0_lamp 98 (c_S 1 101 1 (Mt mJ16_bitCount 1)) := e_S (mi := nX0_lamp) (mi' := nJ16_bitCount) (len := 3) (fun h as rest hl => cs_S (mi := nX0_lamp) (pc := 98) (y := yJ16_bitCount) (idx := 215) dX0_lamp_98 q899 q900 q108 q901 hyJ16_bitCount pnJ16_bitCount hl) wdJ16_bitCount zJ16_bitCount (Nat.le_of_ble_eq_true rfl) (Nat.le_of_ble_eq_true rfl)
theorem eX0_lamp_101 : SiZ nX0_lamp 101 (i_iload 4 103) := s_iload dX0_lamp_101
theorem eX0_lamp_103 : ScZ nX0_lamp 103 (c_S 1 106 1 (Mt mJ16_bitCount 1)) := e_S (mi := nX0_lamp) (mi' := nJ16_bitCount) (len := 3) (fun h as rest hl => cs_S (mi := nX0_lamp) (pc := 103) (y := yJ16_bitCount) (idx := 215) dX0_lamp_103 q899 q900 q108 q901 hyJ16_bitCount pnJ16_bitCount hl) wdJ16_bitCount zJ16_bitCount (Nat.le_of_ble_eq_true rfl) (Nat.le_of_ble_eq_true rfl)
theorem eX0_lamp_106 : SiZ nX0_lamp 106 (i_icmp (fun x y => x < y) 112 109) := s_icmp_lt dX0_lamp_106 (by decide)
theorem eX0_lamp_109 : SiZ nX0_lamp 109 (i_goto 120) := s_goto dX0_lamp_109 (by decide)
theorem eX0_lamp_112 : SiZ nX0_lamp 112 (i_iload 6 114) := s_iload dX0_lamp_112
theorem eX0_lamp_114 : SiZ nX0_lamp 114 (i_istore 4 116) := s_istore dX0_lamp_114
theorem eX0_lamp_116 : SiZ nX0_lamp 116 (i_iload 7 118) := s_iload dX0_lamp_116
theorem eX0_lamp_118 : SiZ nX0_lamp 118 (i_istore 5 120) := s_istore dX0_lamp_118
theorem eX0_lamp_120 : SiZ nX0_lamp 120 (i_iinc 6 1 123) := s_iinc dX0_lamp_120 (by decide)
theorem eX0_lamp_123 : SiZ nX0_lamp 123 (i_goto 34) := s_goto dX0_lamp_123 (by decide)
theorem eX0_lamp_126 : SiZ nX0_lamp 126 (i_iload 3 127) := s_iload_n dX0_lamp_126 rfl
theorem eX0_lamp_127 : SiZ nX0_lamp 127 (i_if (fun x => ¬ x = 0) 135 130) := s_if_ne dX0_lamp_127 (by decide)
theorem eX0_lamp_130 : SiZ nX0_lamp 130 (i_iload 5 132) := s_iload dX0_lamp_130
theorem eX0_lamp_132 : SiZ nX0_lamp 132 (i_goto 137) := s_goto dX0_lamp_132 (by decide)
theorem eX0_lamp_135 : SiZ nX0_lamp 135 (i_iload 4 137) := s_iload dX0_lamp_135
theorem eX0_lamp_137 : SiZ nX0_lamp 137 i_iret := s_iret dX0_lamp_137 rfl
theorem aX0_lamp : ∀ x ∈ mX0_lamp.1, EnZ nX0_lamp x := fm_cons eX0_lamp_0 (fm_cons eX0_lamp_1 (fm_cons eX0_lamp_2 (fm_cons eX0_lamp_5 (fm_cons eX0_lamp_8 (fm_cons eX0_lamp_9 (fm_cons eX0_lamp_12 (fm_cons eX0_lamp_15 (fm_cons eX0_lamp_16 (fm_cons eX0_lamp_19 (fm_cons eX0_lamp_22 (fm_cons eX0_lamp_24 (fm_cons eX0_lamp_25 (fm_cons eX0_lamp_26 (fm_cons eX0_lamp_28 (fm_cons eX0_lamp_29 (fm_cons eX0_lamp_31 (fm_cons eX0_lamp_32 (fm_cons eX0_lamp_34 (fm_cons eX0_lamp_36 (fm_cons eX0_lamp_37 (fm_cons eX0_lamp_40 (fm_cons eX0_lamp_43 (fm_cons eX0_lamp_45 (fm_cons eX0_lamp_48 (fm_cons eX0_lamp_49 (fm_cons eX0_lamp_52 (fm_cons eX0_lamp_55 (fm_cons eX0_lamp_58 (fm_cons eX0_lamp_61 (fm_cons eX0_lamp_62 (fm_cons eX0_lamp_65 (fm_cons eX0_lamp_67 (fm_cons eX0_lamp_70 (fm_cons eX0_lamp_71 (fm_cons eX0_lamp_72 (fm_cons eX0_lamp_75 (fm_cons eX0_lamp_78 (fm_cons eX0_lamp_79 (fm_cons eX0_lamp_80 (fm_cons eX0_lamp_82 (fm_cons eX0_lamp_84 (fm_cons eX0_lamp_86 (fm_cons eX0_lamp_89 (fm_cons eX0_lamp_91 (fm_cons eX0_lamp_93 (fm_cons eX0_lamp_96 (fm_cons eX0_lamp_98 (fm_cons eX0_lamp_101 (fm_cons eX0_lamp_103 (fm_cons eX0_lamp_106 (fm_cons eX0_lamp_109 (fm_cons eX0_lamp_112 (fm_cons eX0_lamp_114 (fm_cons eX0_lamp_116 (fm_cons eX0_lamp_118 (fm_cons eX0_lamp_120 (fm_cons eX0_lamp_123 (fm_cons eX0_lamp_126 (fm_cons eX0_lamp_127 (fm_cons eX0_lamp_130 (fm_cons eX0_lamp_132 (fm_cons eX0_lamp_135 (fm_cons eX0_lamp_137 (fm_nil))))))))))))))))))))))))))))))))))))))))))))))))))))))))))))))))
theorem zX0_lamp : SwZ nX0_lamp (Mt mX0_lamp 8) := wholeZ (mi := nX0_lamp) (cd := mX0_lamp) aX0_lamp rfl (HdZ.none rfl)
abbrev nX0_caught : MI := (cX0_caught, 6, (some (.int)), RX0, "caught", [], 7, 184)
theorem hyX0_caught : yX0_caught.cls ≠ "java/lang/invoke/MethodHandle" ∧ yX0_caught.cls ≠ "java/lang/invoke/VarHandle" := by decide +kernel
theorem pnX0_caught : (parseMethodDescriptor yX0_caught.desc).map (fun d => d.parameters.length) = some 3 := by decide +kernel
theorem wdX0_caught : CdW yX0_caught (nX0_caught) := ⟨Or.inl ⟨q1026, rfl⟩, rfl, rfl, plainFor_of_name (by decide +kernel)⟩
theorem eX0_caught_0 : SiZ nX0_caught 0 (i_aload 0 1) := s_aload_n dX0_caught_0 rfl
theorem eX0_caught_1 : SiZ nX0_caught 1 (i_iload 1 2) := s_iload_n dX0_caught_1 rfl
theorem eX0_caught_2 : ScZ nX0_caught 2 (c_V 1 5 2 1 (Mt mX0_isBook 2)) := e_V (mi := nX0_caught) (mi' := nX0_isBook) (len := 3) (fun h b as rest hk hl => cs_V (ci := 0) (mi := nX0_caught) (pc := 2) (y := yX0_isBook) (idx := 206) dX0_caught_2 q892 q894 qs23 rfl hk hyX0_isBook (sigC q895) pnX0_isBook hl) wdX0_isBook zX0_isBook (Nat.le_of_ble_eq_true rfl) (Nat.le_of_ble_eq_true rfl)
theorem eX0_caught_5 : SiZ nX0_caught 5 (i_if (fun x => x = 0) 22 8) := s_if_eq dX0_caught_5 (by decide)
theorem eX0_caught_8 : SiZ nX0_caught 8 (i_iload 2 9) := s_iload_n dX0_caught_8 rfl
theorem eX0_caught_9 : ScZ nX0_caught 9 (c_S 1 12 1 (Mt mX0_isLong 1)) := e_S (mi := nX0_caught) (mi' := nX0_isLong) (len := 3) (fun h as rest hl => cs_S (mi := nX0_caught) (pc := 9) (y := yX0_isLong) (idx := 307) dX0_caught_9 q1020 q1021 q77 q1022 hyX0_isLong pnX0_isLong hl) wdX0_isLong zX0_isLong (Nat.le_of_ble_eq_true rfl) (Nat.le_of_ble_eq_true rfl)
theorem eX0_caught_12 : SiZ nX0_caught 12 (i_if (fun x => x = 0) 22 15) := s_if_eq dX0_caught_12 (by decide)
theorem eX0_caught_15 : SiZ nX0_caught 15 (i_iload 3 16) := s_iload_n dX0_caught_15 rfl
theorem eX0_caught_16 : ScZ nX0_caught 16 (c_S 1 19 1 (Mt mX0_isHalf 1)) := e_S (mi := nX0_caught) (mi' := nX0_isHalf) (len := 3) (fun h as rest hl => cs_S (mi := nX0_caught) (pc := 16) (y := yX0_isHalf) (idx := 209) dX0_caught_16 q896 q897 q77 q898 hyX0_isHalf pnX0_isHalf hl) wdX0_isHalf zX0_isHalf (Nat.le_of_ble_eq_true rfl) (Nat.le_of_ble_eq_true rfl)
theorem eX0_caught_19 : SiZ nX0_caught 19 (i_if (fun x => ¬ x = 0) 25 22) := s_if_ne dX0_caught_19 (by decide)
theorem eX0_caught_22 : SiZ nX0_caught 22 (i_push (.int (-1000001)) 24) := s_ldc dX0_caught_22 q355
theorem eX0_caught_24 : SiZ nX0_caught 24 i_iret := s_iret dX0_caught_24 rfl
theorem eX0_caught_25 : SiZ nX0_caught 25 (i_push (.int (-1000000)) 28) := s_ldcw dX0_caught_25 q940
theorem eX0_caught_28 : SiZ nX0_caught 28 (i_istore 4 30) := s_istore dX0_caught_28
theorem eX0_caught_30 : SiZ nX0_caught 30 (i_push (.int 0) 31) := s_iconst dX0_caught_30 (by decide)
theorem eX0_caught_31 : SiZ nX0_caught 31 (i_istore 5 33) := s_istore dX0_caught_31
theorem eX0_caught_33 : SiZ nX0_caught 33 (i_iload 5 35) := s_iload dX0_caught_33
theorem eX0_caught_35 : SiZ nX0_caught 35 (i_push (.int 1) 36) := s_iconst dX0_caught_35 (by decide)
theorem eX0_caught_36 : SiZ nX0_caught 36 (i_aload 0 37) := s_aload_n dX0_caught_36 rfl
theorem eX0_caught_37 : SiZ nX0_caught 37 (i_getf 11 [1] 40) := s_getf dX0_caught_37 (fm_cons (⟨_, _, _, _, _, _, rfl, fkX0_39_1⟩) (fm_nil))
theorem eX0_caught_40 : ScZ nX0_caught 40 (c_V 0 43 1 2 (Mt mX1_many 1)) := e_V (mi := nX0_caught) (mi' := nX1_many) (len := 3) (fun h b as rest hk hl => cs_V (ci := 1) (mi := nX0_caught) (pc := 40) (y := yX1_many) (idx := 169) dX0_caught_40 q768 q680 q681 rfl hk hyX1_many (sigC q682) pnX1_many hl) wdX1_many zX1_many (Nat.le_of_ble_eq_true rfl) (Nat.le_of_ble_eq_true rfl)
theorem eX0_caught_43 : SiZ nX0_caught 43 (i_bin (fun x y => x <<< (y &&& 31)) 44) := s_ishl dX0_caught_43
theorem eX0_caught_44 : SiZ nX0_caught 44 (i_icmp (fun x y => y ≤ x) 135 47) := s_icmp_ge dX0_caught_44 (by decide)
theorem eX0_caught_47 : SiZ nX0_caught 47 (i_iload 5 49) := s_iload dX0_caught_47
theorem eX0_caught_49 : SiZ nX0_caught 49 (i_aload 0 50) := s_aload_n dX0_caught_49 rfl
theorem eX0_caught_50 : SiZ nX0_caught 50 (i_getf 11 [1] 53) := s_getf dX0_caught_50 (fm_cons (⟨_, _, _, _, _, _, rfl, fkX0_39_1⟩) (fm_nil))
theorem eX0_caught_53 : SiZ nX0_caught 53 (i_getf 56 [2] 56) := s_getf dX0_caught_53 (fm_cons (⟨_, _, _, _, _, _, rfl, fkX0_240_2⟩) (fm_nil))
theorem eX0_caught_56 : SiZ nX0_caught 56 (i_bin (fun x y => x &&& y) 57) := s_iand dX0_caught_56
theorem eX0_caught_57 : SiZ nX0_caught 57 (i_if (fun x => ¬ x = 0) 129 60) := s_if_ne dX0_caught_57 (by decide)
theorem eX0_caught_60 : SiZ nX0_caught 60 (i_iload 4 62) := s_iload dX0_caught_60
theorem eX0_caught_62 : SiZ nX0_caught 62 (i_push (.int (-1000000)) 65) := s_ldcw dX0_caught_62 q940
theorem eX0_caught_65 : SiZ nX0_caught 65 (i_icmp (fun x y => x = y) 84 68) := s_icmp_eq dX0_caught_65 (by decide)
theorem eX0_caught_68 : SiZ nX0_caught 68 (i_iload 5 70) := s_iload dX0_caught_68
theorem eX0_caught_70 : ScZ nX0_caught 70 (c_S 1 73 1 (Mt mJ16_bitCount 1)) := e_S (mi := nX0_caught) (mi' := nJ16_bitCount) (len := 3) (fun h as rest hl => cs_S (mi := nX0_caught) (pc := 70) (y := yJ16_bitCount) (idx := 215) dX0_caught_70 q899 q900 q108 q901 hyJ16_bitCount pnJ16_bitCount hl) wdJ16_bitCount zJ16_bitCount (Nat.le_of_ble_eq_true rfl) (Nat.le_of_ble_eq_true rfl)
theorem eX0_caught_73 : SiZ nX0_caught 73 (i_iload 4 75) := s_iload dX0_caught_73
theorem eX0_caught_75 : ScZ nX0_caught 75 (c_S 1 78 1 (Mt mJ16_bitCount 1)) := e_S (mi := nX0_caught) (mi' := nJ16_bitCount) (len := 3) (fun h as rest hl => cs_S (mi := nX0_caught) (pc := 75) (y := yJ16_bitCount) (idx := 215) dX0_caught_75 q899 q900 q108 q901 hyJ16_bitCount pnJ16_bitCount hl) wdJ16_bitCount zJ16_bitCount (Nat.le_of_ble_eq_true rfl) (Nat.le_of_ble_eq_true rfl)
theorem eX0_caught_78 : SiZ nX0_caught 78 (i_icmp (fun x y => x < y) 84 81) := s_icmp_lt dX0_caught_78 (by decide)
theorem eX0_caught_81 : SiZ nX0_caught 81 (i_goto 129) := s_goto dX0_caught_81 (by decide)
theorem eX0_caught_84 : SiZ nX0_caught 84 (i_aload 0 85) := s_aload_n dX0_caught_84 rfl
theorem eX0_caught_85 : ScZ nX0_caught 85 (c_V 0 88 1 1 (Mt mX0_tried 1)) := e_V (mi := nX0_caught) (mi' := nX0_tried) (len := 3) (fun h b as rest hk hl => cs_V (ci := 0) (mi := nX0_caught) (pc := 85) (y := yX0_tried) (idx := 275) dX0_caught_85 q964 q966 qs26 rfl hk hyX0_tried (sigC q967) pnX0_tried hl) wdX0_tried zX0_tried (Nat.le_of_ble_eq_true rfl) (Nat.le_of_ble_eq_true rfl)
theorem eX0_caught_88 : SiZ nX0_caught 88 (i_dup 89) := s_dup dX0_caught_88
theorem eX0_caught_89 : SiZ nX0_caught 89 (i_getf 56 [2] 92) := s_getf dX0_caught_89 (fm_cons (⟨_, _, _, _, _, _, rfl, fkX0_240_2⟩) (fm_nil))
theorem eX0_caught_92 : SiZ nX0_caught 92 (i_iload 5 94) := s_iload dX0_caught_92
theorem eX0_caught_94 : SiZ nX0_caught 94 (i_bin (fun x y => x ||| y) 95) := s_ior dX0_caught_94
theorem eX0_caught_95 : SiZ nX0_caught 95 (i_putI 56 [2] 98) := s_putI dX0_caught_95 (fm_cons (⟨_, _, _, _, _, _, rfl, ⟨fkX0_240_2, ⟨_, q193, Or.inl rfl⟩, Or.inl rfl⟩, rfl⟩) (fm_nil))
theorem eX0_caught_98 : SiZ nX0_caught 98 (i_aload 0 99) := s_aload_n dX0_caught_98 rfl
theorem eX0_caught_99 : SiZ nX0_caught 99 (i_iload 2 100) := s_iload_n dX0_caught_99 rfl
theorem eX0_caught_100 : ScZ nX0_caught 100 (c_V 1 103 3 1 (Mt mX0_goOn 3)) := e_V (mi := nX0_caught) (mi' := nX0_goOn) (len := 3) (fun h b as rest hk hl => cs_V (ci := 0) (mi := nX0_caught) (pc := 100) (y := yX0_goOn) (idx := 278) dX0_caught_100 q968 q970 qs27 rfl hk hyX0_goOn (sigC q971) pnX0_goOn hl) wdX0_goOn zX0_goOn (Nat.le_of_ble_eq_true rfl) (Nat.le_of_ble_eq_true rfl)
theorem eX0_caught_103 : SiZ nX0_caught 103 (i_getf 39 [2] 106) := s_getf dX0_caught_103 (fm_cons (⟨_, _, _, _, _, _, rfl, fkX0_243_2⟩) (fm_nil))
theorem eX0_caught_106 : SiZ nX0_caught 106 (i_iload 1 107) := s_iload_n dX0_caught_106 rfl
theorem eX0_caught_107 : SiZ nX0_caught 107 (i_iald 51 108) := s_ald (j := 0) (by decide) (fun _ => rfl) dX0_caught_107 (Or.inl ⟨rfl, rfl⟩)
theorem eX0_caught_108 : SiZ nX0_caught 108 (i_aload 0 109) := s_aload_n dX0_caught_108 rfl
theorem eX0_caught_109 : SiZ nX0_caught 109 (i_getf 11 [1] 112) := s_getf dX0_caught_109 (fm_cons (⟨_, _, _, _, _, _, rfl, fkX0_39_1⟩) (fm_nil))
theorem eX0_caught_112 : SiZ nX0_caught 112 (i_getf 39 [2] 115) := s_getf dX0_caught_112 (fm_cons (⟨_, _, _, _, _, _, rfl, fkX0_243_2⟩) (fm_nil))
theorem eX0_caught_115 : SiZ nX0_caught 115 (i_iload 1 116) := s_iload_n dX0_caught_115 rfl
theorem eX0_caught_116 : SiZ nX0_caught 116 (i_iald 51 117) := s_ald (j := 0) (by decide) (fun _ => rfl) dX0_caught_116 (Or.inl ⟨rfl, rfl⟩)
theorem eX0_caught_117 : SiZ nX0_caught 117 (i_icmp (fun x y => ¬ x = y) 125 120) := s_icmp_ne dX0_caught_117 (by decide)
theorem eX0_caught_120 : SiZ nX0_caught 120 (i_iload 5 122) := s_iload dX0_caught_120
theorem eX0_caught_122 : SiZ nX0_caught 122 (i_goto 127) := s_goto dX0_caught_122 (by decide)
theorem eX0_caught_125 : SiZ nX0_caught 125 (i_iload 4 127) := s_iload dX0_caught_125
theorem eX0_caught_127 : SiZ nX0_caught 127 (i_istore 4 129) := s_istore dX0_caught_127
theorem eX0_caught_129 : SiZ nX0_caught 129 (i_iinc 5 1 132) := s_iinc dX0_caught_129 (by decide)
theorem eX0_caught_132 : SiZ nX0_caught 132 (i_goto 33) := s_goto dX0_caught_132 (by decide)
theorem eX0_caught_135 : SiZ nX0_caught 135 (i_iload 3 136) := s_iload_n dX0_caught_135 rfl
theorem eX0_caught_136 : SiZ nX0_caught 136 (i_push (.int 1) 137) := s_iconst dX0_caught_136 (by decide)
theorem eX0_caught_137 : SiZ nX0_caught 137 (i_icmp (fun x y => ¬ x = y) 145 140) := s_icmp_ne dX0_caught_137 (by decide)
theorem eX0_caught_140 : SiZ nX0_caught 140 (i_iload 4 142) := s_iload dX0_caught_140
theorem eX0_caught_142 : SiZ nX0_caught 142 (i_goto 150) := s_goto dX0_caught_142 (by decide)
theorem eX0_caught_145 : SiZ nX0_caught 145 (i_iload 4 147) := s_iload dX0_caught_145
theorem eX0_caught_147 : ScZ nX0_caught 147 (c_S 1 150 1 (Mt mJ16_bitCount 1)) := e_S (mi := nX0_caught) (mi' := nJ16_bitCount) (len := 3) (fun h as rest hl => cs_S (mi := nX0_caught) (pc := 147) (y := yJ16_bitCount) (idx := 215) dX0_caught_147 q899 q900 q108 q901 hyJ16_bitCount pnJ16_bitCount hl) wdJ16_bitCount zJ16_bitCount (Nat.le_of_ble_eq_true rfl) (Nat.le_of_ble_eq_true rfl)
theorem eX0_caught_150 : SiZ nX0_caught 150 i_iret := s_iret dX0_caught_150 rfl
theorem aX0_caught : ∀ x ∈ mX0_caught.1, EnZ nX0_caught x := fm_cons eX0_caught_0 (fm_cons eX0_caught_1 (fm_cons eX0_caught_2 (fm_cons eX0_caught_5 (fm_cons eX0_caught_8 (fm_cons eX0_caught_9 (fm_cons eX0_caught_12 (fm_cons eX0_caught_15 (fm_cons eX0_caught_16 (fm_cons eX0_caught_19 (fm_cons eX0_caught_22 (fm_cons eX0_caught_24 (fm_cons eX0_caught_25 (fm_cons eX0_caught_28 (fm_cons eX0_caught_30 (fm_cons eX0_caught_31 (fm_cons eX0_caught_33 (fm_cons eX0_caught_35 (fm_cons eX0_caught_36 (fm_cons eX0_caught_37 (fm_cons eX0_caught_40 (fm_cons eX0_caught_43 (fm_cons eX0_caught_44 (fm_cons eX0_caught_47 (fm_cons eX0_caught_49 (fm_cons eX0_caught_50 (fm_cons eX0_caught_53 (fm_cons eX0_caught_56 (fm_cons eX0_caught_57 (fm_cons eX0_caught_60 (fm_cons eX0_caught_62 (fm_cons eX0_caught_65 (fm_cons eX0_caught_68 (fm_cons eX0_caught_70 (fm_cons eX0_caught_73 (fm_cons eX0_caught_75 (fm_cons eX0_caught_78 (fm_cons eX0_caught_81 (fm_cons eX0_caught_84 (fm_cons eX0_caught_85 (fm_cons eX0_caught_88 (fm_cons eX0_caught_89 (fm_cons eX0_caught_92 (fm_cons eX0_caught_94 (fm_cons eX0_caught_95 (fm_cons eX0_caught_98 (fm_cons eX0_caught_99 (fm_cons eX0_caught_100 (fm_cons eX0_caught_103 (fm_cons eX0_caught_106 (fm_cons eX0_caught_107 (fm_cons eX0_caught_108 (fm_cons eX0_caught_109 (fm_cons eX0_caught_112 (fm_cons eX0_caught_115 (fm_cons eX0_caught_116 (fm_cons eX0_caught_117 (fm_cons eX0_caught_120 (fm_cons eX0_caught_122 (fm_cons eX0_caught_125 (fm_cons eX0_caught_127 (fm_cons eX0_caught_129 (fm_cons eX0_caught_132 (fm_cons eX0_caught_135 (fm_cons eX0_caught_136 (fm_cons eX0_caught_137 (fm_cons eX0_caught_140 (fm_cons eX0_caught_142 (fm_cons eX0_caught_145 (fm_cons eX0_caught_147 (fm_cons eX0_caught_150 (fm_nil)))))))))))))))))))))))))))))))))))))))))))))))))))))))))))))))))))))))
theorem zX0_caught : SwZ nX0_caught (Mt mX0_caught 6) := wholeZ (mi := nX0_caught) (cd := mX0_caught) aX0_caught rfl (HdZ.none rfl)
abbrev nX0_claim : MI := (cX0_claim, 2, (some (.int)), RX0, "claim", [], 1, 25)
theorem hyX0_claim : yX0_claim.cls ≠ "java/lang/invoke/MethodHandle" ∧ yX0_claim.cls ≠ "java/lang/invoke/VarHandle" := by decide +kernel
theorem pnX0_claim : (parseMethodDescriptor yX0_claim.desc).map (fun d => d.parameters.length) = some 1 := by decide +kernel
theorem wdX0_claim : CdW yX0_claim (nX0_claim) := ⟨Or.inl ⟨q1035, rfl⟩, rfl, rfl, plainFor_of_name (by decide +kernel)⟩
theorem eX0_claim_0 : SiZ nX0_claim 0 (i_aload 0 1) := s_aload_n dX0_claim_0 rfl
theorem eX0_claim_1 : SiZ nX0_claim 1 (i_getf 11 [1] 4) := s_getf dX0_claim_1 (fm_cons (⟨_, _, _, _, _, _, rfl, fkX0_39_1⟩) (fm_nil))
theorem eX0_claim_4 : SiZ nX0_claim 4 (i_iload 1 5) := s_iload_n dX0_claim_4 rfl
theorem eX0_claim_5 : ScZ nX0_claim 5 (c_V 1 8 2 2 (Mt mX1_isCaught 2)) := e_V (mi := nX0_claim) (mi' := nX1_isCaught) (len := 3) (fun h b as rest hk hl => cs_V (ci := 1) (mi := nX0_claim) (pc := 5) (y := yX1_isCaught) (idx := 234) dX0_claim_5 q922 q797 q798 rfl hk hyX1_isCaught (sigC q799) pnX1_isCaught hl) wdX1_isCaught zX1_isCaught (Nat.le_of_ble_eq_true rfl) (Nat.le_of_ble_eq_true rfl)
theorem eX0_claim_8 : SiZ nX0_claim 8 (i_if (fun x => x = 0) 15 11) := s_if_eq dX0_claim_8 (by decide)
theorem eX0_claim_11 : SiZ nX0_claim 11 (i_push (.int 0) 12) := s_iconst dX0_claim_11 (by decide)
theorem eX0_claim_12 : SiZ nX0_claim 12 (i_goto 24) := s_goto dX0_claim_12 (by decide)
theorem eX0_claim_15 : SiZ nX0_claim 15 (i_aload 0 16) := s_aload_n dX0_claim_15 rfl
theorem eX0_claim_16 : SiZ nX0_claim 16 (i_getf 11 [1] 19) := s_getf dX0_claim_16 (fm_cons (⟨_, _, _, _, _, _, rfl, fkX0_39_1⟩) (fm_nil))
theorem eX0_claim_19 : SiZ nX0_claim 19 (i_getf 55 [2] 22) := s_getf dX0_claim_19 (fm_cons (⟨_, _, _, _, _, _, rfl, fkX0_254_2⟩) (fm_nil))
theorem eX0_claim_22 : SiZ nX0_claim 22 (i_iload 1 23) := s_iload_n dX0_claim_22 rfl
theorem eX0_claim_23 : SiZ nX0_claim 23 (i_iald 51 24) := s_ald (j := 0) (by decide) (fun _ => rfl) dX0_claim_23 (Or.inl ⟨rfl, rfl⟩)
theorem eX0_claim_24 : SiZ nX0_claim 24 i_iret := s_iret dX0_claim_24 rfl
theorem aX0_claim : ∀ x ∈ mX0_claim.1, EnZ nX0_claim x := fm_cons eX0_claim_0 (fm_cons eX0_claim_1 (fm_cons eX0_claim_4 (fm_cons eX0_claim_5 (fm_cons eX0_claim_8 (fm_cons eX0_claim_11 (fm_cons eX0_claim_12 (fm_cons eX0_claim_15 (fm_cons eX0_claim_16 (fm_cons eX0_claim_19 (fm_cons eX0_claim_22 (fm_cons eX0_claim_23 (fm_cons eX0_claim_24 (fm_nil)))))))))))))
theorem zX0_claim : SwZ nX0_claim (Mt mX0_claim 2) := wholeZ (mi := nX0_claim) (cd := mX0_claim) aX0_claim rfl (HdZ.none rfl)
abbrev nX0_grams : MI := (cX0_grams, 7, (some (.int)), RX0, "grams", [], 3, 73)
theorem hyX0_grams : yX0_grams.cls ≠ "java/lang/invoke/MethodHandle" ∧ yX0_grams.cls ≠ "java/lang/invoke/VarHandle" := by decide +kernel
theorem pnX0_grams : (parseMethodDescriptor yX0_grams.desc).map (fun d => d.parameters.length) = some 2 := by decide +kernel
theorem wdX0_grams : CdW yX0_grams (nX0_grams) := ⟨Or.inl ⟨q1030, rfl⟩, rfl, rfl, plainFor_of_name (by decide +kernel)⟩
theorem eX0_grams_0 : SiZ nX0_grams 0 (i_aload 0 1) := s_aload_n dX0_grams_0 rfl
theorem eX0_grams_1 : SiZ nX0_grams 1 (i_iload 1 2) := s_iload_n dX0_grams_1 rfl
theorem eX0_grams_2 : ScZ nX0_grams 2 (c_V 1 5 2 1 (Mt mX0_isFish 2)) := e_V (mi := nX0_grams) (mi' := nX0_isFish) (len := 3) (fun h b as rest hk hl => cs_V (ci := 0) (mi := nX0_grams) (pc := 2) (y := yX0_isFish) (idx := 231) dX0_grams_2 q918 q920 qs24 rfl hk hyX0_isFish (sigC q921) pnX0_isFish hl) wdX0_isFish zX0_isFish (Nat.le_of_ble_eq_true rfl) (Nat.le_of_ble_eq_true rfl)
theorem eX0_grams_5 : SiZ nX0_grams 5 (i_if (fun x => x = 0) 20 8) := s_if_eq dX0_grams_5 (by decide)
theorem eX0_grams_8 : SiZ nX0_grams 8 (i_iload 2 9) := s_iload_n dX0_grams_8 rfl
theorem eX0_grams_9 : SiZ nX0_grams 9 (i_i2l 10) := s_i2l dX0_grams_9
theorem eX0_grams_10 : SiZ nX0_grams 10 (i_push (.long 0) 11) := s_lconst dX0_grams_10 (by decide)
theorem eX0_grams_11 : SiZ nX0_grams 11 (i_push (.long 999) 14) := s_ldc2 dX0_grams_11 q1031
theorem eX0_grams_14 : ScZ nX0_grams 14 (c_S 3 17 6 (Mt mX0_isIn 6)) := e_S (mi := nX0_grams) (mi' := nX0_isIn) (len := 3) (fun h as rest hl => cs_S (mi := nX0_grams) (pc := 14) (y := yX0_isIn) (idx := 86) dX0_grams_14 q351 q352 q77 q353 hyX0_isIn pnX0_isIn hl) wdX0_isIn zX0_isIn (Nat.le_of_ble_eq_true rfl) (Nat.le_of_ble_eq_true rfl)
theorem eX0_grams_17 : SiZ nX0_grams 17 (i_if (fun x => ¬ x = 0) 23 20) := s_if_ne dX0_grams_17 (by decide)
theorem eX0_grams_20 : SiZ nX0_grams 20 (i_push (.int (-1000001)) 22) := s_ldc dX0_grams_20 q355
theorem eX0_grams_22 : SiZ nX0_grams 22 i_iret := s_iret dX0_grams_22 rfl
theorem eX0_grams_23 : SiZ nX0_grams 23 (i_push (.int 0) 24) := s_iconst dX0_grams_23 (by decide)
theorem eX0_grams_24 : SiZ nX0_grams 24 (i_istore 3 25) := s_istore_n dX0_grams_24 rfl
theorem eX0_grams_25 : SiZ nX0_grams 25 (i_push (.int 0) 26) := s_iconst dX0_grams_25 (by decide)
theorem eX0_grams_26 : SiZ nX0_grams 26 (i_istore 4 28) := s_istore dX0_grams_26
theorem eX0_grams_28 : SiZ nX0_grams 28 (i_iload 4 30) := s_iload dX0_grams_28
theorem eX0_grams_30 : SiZ nX0_grams 30 (i_aload 0 31) := s_aload_n dX0_grams_30 rfl
theorem eX0_grams_31 : SiZ nX0_grams 31 (i_getf 11 [1] 34) := s_getf dX0_grams_31 (fm_cons (⟨_, _, _, _, _, _, rfl, fkX0_39_1⟩) (fm_nil))
theorem eX0_grams_34 : ScZ nX0_grams 34 (c_V 0 37 1 2 (Mt mX1_many 1)) := e_V (mi := nX0_grams) (mi' := nX1_many) (len := 3) (fun h b as rest hk hl => cs_V (ci := 1) (mi := nX0_grams) (pc := 34) (y := yX1_many) (idx := 169) dX0_grams_34 q768 q680 q681 rfl hk hyX1_many (sigC q682) pnX1_many hl) wdX1_many zX1_many (Nat.le_of_ble_eq_true rfl) (Nat.le_of_ble_eq_true rfl)
theorem eX0_grams_37 : SiZ nX0_grams 37 (i_icmp (fun x y => y ≤ x) 55 40) := s_icmp_ge dX0_grams_37 (by decide)
theorem eX0_grams_40 : SiZ nX0_grams 40 (i_iload 3 41) := s_iload_n dX0_grams_40 rfl
theorem eX0_grams_41 : SiZ nX0_grams 41 (i_aload 0 42) := s_aload_n dX0_grams_41 rfl
theorem eX0_grams_42 : SiZ nX0_grams 42 (i_iload 4 44) := s_iload dX0_grams_42
theorem eX0_grams_44 : ScZ nX0_grams 44 (c_V 1 47 2 1 (Mt mX0_claim 2)) := e_V (mi := nX0_grams) (mi' := nX0_claim) (len := 3) (fun h b as rest hk hl => cs_V (ci := 0) (mi := nX0_grams) (pc := 44) (y := yX0_claim) (idx := 312) dX0_grams_44 q1032 q1034 qs30 rfl hk hyX0_claim (sigC q1035) pnX0_claim hl) wdX0_claim zX0_claim (Nat.le_of_ble_eq_true rfl) (Nat.le_of_ble_eq_true rfl)
theorem eX0_grams_47 : SiZ nX0_grams 47 (i_bin (fun x y => x + y) 48) := s_iadd dX0_grams_47
theorem eX0_grams_48 : SiZ nX0_grams 48 (i_istore 3 49) := s_istore_n dX0_grams_48 rfl
theorem eX0_grams_49 : SiZ nX0_grams 49 (i_iinc 4 1 52) := s_iinc dX0_grams_49 (by decide)
theorem eX0_grams_52 : SiZ nX0_grams 52 (i_goto 28) := s_goto dX0_grams_52 (by decide)
theorem eX0_grams_55 : SiZ nX0_grams 55 (i_iload 3 56) := s_iload_n dX0_grams_55 rfl
theorem eX0_grams_56 : SiZ nX0_grams 56 (i_if (fun x => ¬ x = 0) 61 59) := s_if_ne dX0_grams_56 (by decide)
theorem eX0_grams_59 : SiZ nX0_grams 59 (i_push (.int 0) 60) := s_iconst dX0_grams_59 (by decide)
theorem eX0_grams_60 : SiZ nX0_grams 60 i_iret := s_iret dX0_grams_60 rfl
theorem eX0_grams_61 : SiZ nX0_grams 61 (i_iload 2 62) := s_iload_n dX0_grams_61 rfl
theorem eX0_grams_62 : SiZ nX0_grams 62 (i_istore 4 64) := s_istore dX0_grams_62
theorem eX0_grams_64 : SiZ nX0_grams 64 (i_push (.int 0) 65) := s_iconst dX0_grams_64 (by decide)
theorem eX0_grams_65 : SiZ nX0_grams 65 (i_istore 5 67) := s_istore dX0_grams_65
theorem eX0_grams_67 : SiZ nX0_grams 67 (i_iload 5 69) := s_iload dX0_grams_67
theorem eX0_grams_69 : SiZ nX0_grams 69 (i_aload 0 70) := s_aload_n dX0_grams_69 rfl
theorem eX0_grams_70 : SiZ nX0_grams 70 (i_getf 11 [1] 73) := s_getf dX0_grams_70 (fm_cons (⟨_, _, _, _, _, _, rfl, fkX0_39_1⟩) (fm_nil))
theorem eX0_grams_73 : ScZ nX0_grams 73 (c_V 0 76 1 2 (Mt mX1_many 1)) := e_V (mi := nX0_grams) (mi' := nX1_many) (len := 3) (fun h b as rest hk hl => cs_V (ci := 1) (mi := nX0_grams) (pc := 73) (y := yX1_many) (idx := 169) dX0_grams_73 q768 q680 q681 rfl hk hyX1_many (sigC q682) pnX1_many hl) wdX1_many zX1_many (Nat.le_of_ble_eq_true rfl) (Nat.le_of_ble_eq_true rfl)
theorem eX0_grams_76 : SiZ nX0_grams 76 (i_icmp (fun x y => y ≤ x) 100 79) := s_icmp_ge dX0_grams_76 (by decide)
theorem eX0_grams_79 : SiZ nX0_grams 79 (i_iload 4 81) := s_iload dX0_grams_79
theorem eX0_grams_81 : SiZ nX0_grams 81 (i_iload 2 82) := s_iload_n dX0_grams_81 rfl
theorem eX0_grams_82 : SiZ nX0_grams 82 (i_aload 0 83) := s_aload_n dX0_grams_82 rfl
theorem eX0_grams_83 : SiZ nX0_grams 83 (i_iload 5 85) := s_iload dX0_grams_83
theorem eX0_grams_85 : ScZ nX0_grams 85 (c_V 1 88 2 1 (Mt mX0_claim 2)) := e_V (mi := nX0_grams) (mi' := nX0_claim) (len := 3) (fun h b as rest hk hl => cs_V (ci := 0) (mi := nX0_grams) (pc := 85) (y := yX0_claim) (idx := 312) dX0_grams_85 q1032 q1034 qs30 rfl hk hyX0_claim (sigC q1035) pnX0_claim hl) wdX0_claim zX0_claim (Nat.le_of_ble_eq_true rfl) (Nat.le_of_ble_eq_true rfl)
theorem eX0_grams_88 : SiZ nX0_grams 88 (i_bin (fun x y => x * y) 89) := s_imul dX0_grams_88
theorem eX0_grams_89 : SiZ nX0_grams 89 (i_iload 3 90) := s_iload_n dX0_grams_89 rfl
theorem eX0_grams_90 : SiZ nX0_grams 90 (i_bing (fun x y => x / y) 91) := s_idiv dX0_grams_90
theorem eX0_grams_91 : SiZ nX0_grams 91 (i_bin (fun x y => x - y) 92) := s_isub dX0_grams_91
theorem eX0_grams_92 : SiZ nX0_grams 92 (i_istore 4 94) := s_istore dX0_grams_92
theorem eX0_grams_94 : SiZ nX0_grams 94 (i_iinc 5 1 97) := s_iinc dX0_grams_94 (by decide)
theorem eX0_grams_97 : SiZ nX0_grams 97 (i_goto 67) := s_goto dX0_grams_97 (by decide)
theorem eX0_grams_100 : SiZ nX0_grams 100 (i_push (.int 0) 101) := s_iconst dX0_grams_100 (by decide)
theorem eX0_grams_101 : SiZ nX0_grams 101 (i_istore 5 103) := s_istore dX0_grams_101
theorem eX0_grams_103 : SiZ nX0_grams 103 (i_push (.int 0) 104) := s_iconst dX0_grams_103 (by decide)
theorem eX0_grams_104 : SiZ nX0_grams 104 (i_istore 6 106) := s_istore dX0_grams_104
theorem eX0_grams_106 : SiZ nX0_grams 106 (i_iload 6 108) := s_iload dX0_grams_106
theorem eX0_grams_108 : SiZ nX0_grams 108 (i_iload 1 109) := s_iload_n dX0_grams_108 rfl
theorem eX0_grams_109 : SiZ nX0_grams 109 (i_icmp (fun x y => y ≤ x) 137 112) := s_icmp_ge dX0_grams_109 (by decide)
theorem eX0_grams_112 : SiZ nX0_grams 112 (i_iload 5 114) := s_iload dX0_grams_112
theorem eX0_grams_114 : SiZ nX0_grams 114 (i_aload 0 115) := s_aload_n dX0_grams_114 rfl
theorem eX0_grams_115 : SiZ nX0_grams 115 (i_iload 6 117) := s_iload dX0_grams_115
theorem eX0_grams_117 : ScZ nX0_grams 117 (c_V 1 120 2 1 (Mt mX0_claim 2)) := e_V (mi := nX0_grams) (mi' := nX0_claim) (len := 3) (fun h b as rest hk hl => cs_V (ci := 0) (mi := nX0_grams) (pc := 117) (y := yX0_claim) (idx := 312) dX0_grams_117 q1032 q1034 qs30 rfl hk hyX0_claim (sigC q1035) pnX0_claim hl) wdX0_claim zX0_claim (Nat.le_of_ble_eq_true rfl) (Nat.le_of_ble_eq_true rfl)
theorem eX0_grams_120 : SiZ nX0_grams 120 (i_if (fun x => x ≤ 0) 127 123) := s_if_le dX0_grams_120 (by decide)
theorem eX0_grams_123 : SiZ nX0_grams 123 (i_push (.int 1) 124) := s_iconst dX0_grams_123 (by decide)
theorem eX0_grams_124 : SiZ nX0_grams 124 (i_goto 128) := s_goto dX0_grams_124 (by decide)
theorem eX0_grams_127 : SiZ nX0_grams 127 (i_push (.int 0) 128) := s_iconst dX0_grams_127 (by decide)
theorem eX0_grams_128 : SiZ nX0_grams 128 (i_bin (fun x y => x + y) 129) := s_iadd dX0_grams_128
theorem eX0_grams_129 : SiZ nX0_grams 129 (i_istore 5 131) := s_istore dX0_grams_129
theorem eX0_grams_131 : SiZ nX0_grams 131 (i_iinc 6 1 134) := s_iinc dX0_grams_131 (by decide)
theorem eX0_grams_134 : SiZ nX0_grams 134 (i_goto 106) := s_goto dX0_grams_134 (by decide)
theorem eX0_grams_137 : SiZ nX0_grams 137 (i_iload 2 138) := s_iload_n dX0_grams_137 rfl
theorem eX0_grams_138 : SiZ nX0_grams 138 (i_aload 0 139) := s_aload_n dX0_grams_138 rfl
theorem eX0_grams_139 : SiZ nX0_grams 139 (i_iload 1 140) := s_iload_n dX0_grams_139 rfl
theorem eX0_grams_140 : ScZ nX0_grams 140 (c_V 1 143 2 1 (Mt mX0_claim 2)) := e_V (mi := nX0_grams) (mi' := nX0_claim) (len := 3) (fun h b as rest hk hl => cs_V (ci := 0) (mi := nX0_grams) (pc := 140) (y := yX0_claim) (idx := 312) dX0_grams_140 q1032 q1034 qs30 rfl hk hyX0_claim (sigC q1035) pnX0_claim hl) wdX0_claim zX0_claim (Nat.le_of_ble_eq_true rfl) (Nat.le_of_ble_eq_true rfl)
theorem eX0_grams_143 : SiZ nX0_grams 143 (i_bin (fun x y => x * y) 144) := s_imul dX0_grams_143
theorem eX0_grams_144 : SiZ nX0_grams 144 (i_iload 3 145) := s_iload_n dX0_grams_144 rfl
theorem eX0_grams_145 : SiZ nX0_grams 145 (i_bing (fun x y => x / y) 146) := s_idiv dX0_grams_145
theorem eX0_grams_146 : SiZ nX0_grams 146 (i_aload 0 147) := s_aload_n dX0_grams_146 rfl
theorem eX0_grams_147 : SiZ nX0_grams 147 (i_iload 1 148) := s_iload_n dX0_grams_147 rfl
theorem eX0_grams_148 : ScZ nX0_grams 148 (c_V 1 151 2 1 (Mt mX0_claim 2)) := e_V (mi := nX0_grams) (mi' := nX0_claim) (len := 3) (fun h b as rest hk hl => cs_V (ci := 0) (mi := nX0_grams) (pc := 148) (y := yX0_claim) (idx := 312) dX0_grams_148 q1032 q1034 qs30 rfl hk hyX0_claim (sigC q1035) pnX0_claim hl) wdX0_claim zX0_claim (Nat.le_of_ble_eq_true rfl) (Nat.le_of_ble_eq_true rfl)
theorem eX0_grams_151 : SiZ nX0_grams 151 (i_if (fun x => x ≤ 0) 165 154) := s_if_le dX0_grams_151 (by decide)
theorem eX0_grams_154 : SiZ nX0_grams 154 (i_iload 5 156) := s_iload dX0_grams_154
theorem eX0_grams_156 : SiZ nX0_grams 156 (i_iload 4 158) := s_iload dX0_grams_156
theorem eX0_grams_158 : SiZ nX0_grams 158 (i_icmp (fun x y => y ≤ x) 165 161) := s_icmp_ge dX0_grams_158 (by decide)
theorem eX0_grams_161 : SiZ nX0_grams 161 (i_push (.int 1) 162) := s_iconst dX0_grams_161 (by decide)
theorem eX0_grams_162 : SiZ nX0_grams 162 (i_goto 166) := s_goto dX0_grams_162 (by decide)
theorem eX0_grams_165 : SiZ nX0_grams 165 (i_push (.int 0) 166) := s_iconst dX0_grams_165 (by decide)
theorem eX0_grams_166 : SiZ nX0_grams 166 (i_bin (fun x y => x + y) 167) := s_iadd dX0_grams_166
theorem eX0_grams_167 : SiZ nX0_grams 167 i_iret := s_iret dX0_grams_167 rfl
theorem aX0_grams : ∀ x ∈ mX0_grams.1, EnZ nX0_grams x := fm_cons eX0_grams_0 (fm_cons eX0_grams_1 (fm_cons eX0_grams_2 (fm_cons eX0_grams_5 (fm_cons eX0_grams_8 (fm_cons eX0_grams_9 (fm_cons eX0_grams_10 (fm_cons eX0_grams_11 (fm_cons eX0_grams_14 (fm_cons eX0_grams_17 (fm_cons eX0_grams_20 (fm_cons eX0_grams_22 (fm_cons eX0_grams_23 (fm_cons eX0_grams_24 (fm_cons eX0_grams_25 (fm_cons eX0_grams_26 (fm_cons eX0_grams_28 (fm_cons eX0_grams_30 (fm_cons eX0_grams_31 (fm_cons eX0_grams_34 (fm_cons eX0_grams_37 (fm_cons eX0_grams_40 (fm_cons eX0_grams_41 (fm_cons eX0_grams_42 (fm_cons eX0_grams_44 (fm_cons eX0_grams_47 (fm_cons eX0_grams_48 (fm_cons eX0_grams_49 (fm_cons eX0_grams_52 (fm_cons eX0_grams_55 (fm_cons eX0_grams_56 (fm_cons eX0_grams_59 (fm_cons eX0_grams_60 (fm_cons eX0_grams_61 (fm_cons eX0_grams_62 (fm_cons eX0_grams_64 (fm_cons eX0_grams_65 (fm_cons eX0_grams_67 (fm_cons eX0_grams_69 (fm_cons eX0_grams_70 (fm_cons eX0_grams_73 (fm_cons eX0_grams_76 (fm_cons eX0_grams_79 (fm_cons eX0_grams_81 (fm_cons eX0_grams_82 (fm_cons eX0_grams_83 (fm_cons eX0_grams_85 (fm_cons eX0_grams_88 (fm_cons eX0_grams_89 (fm_cons eX0_grams_90 (fm_cons eX0_grams_91 (fm_cons eX0_grams_92 (fm_cons eX0_grams_94 (fm_cons eX0_grams_97 (fm_cons eX0_grams_100 (fm_cons eX0_grams_101 (fm_cons eX0_grams_103 (fm_cons eX0_grams_104 (fm_cons eX0_grams_106 (fm_cons eX0_grams_108 (fm_cons eX0_grams_109 (fm_cons eX0_grams_112 (fm_cons eX0_grams_114 (fm_cons eX0_grams_115 (fm_cons eX0_grams_117 (fm_cons eX0_grams_120 (fm_cons eX0_grams_123 (fm_cons eX0_grams_124 (fm_cons eX0_grams_127 (fm_cons eX0_grams_128 (fm_cons eX0_grams_129 (fm_cons eX0_grams_131 (fm_cons eX0_grams_134 (fm_cons eX0_grams_137 (fm_cons eX0_grams_138 (fm_cons eX0_grams_139 (fm_cons eX0_grams_140 (fm_cons eX0_grams_143 (fm_cons eX0_grams_144 (fm_cons eX0_grams_145 (fm_cons eX0_grams_146 (fm_cons eX0_grams_147 (fm_cons eX0_grams_148 (fm_cons eX0_grams_151 (fm_cons eX0_grams_154 (fm_cons eX0_grams_156 (fm_cons eX0_grams_158 (fm_cons eX0_grams_161 (fm_cons eX0_grams_162 (fm_cons eX0_grams_165 (fm_cons eX0_grams_166 (fm_cons eX0_grams_167 (fm_nil))))))))))))))))))))))))))))))))))))))))))))))))))))))))))))))))))))))))))))))))))))))))))))
theorem zX0_grams : SwZ nX0_grams (Mt mX0_grams 7) := wholeZ (mi := nX0_grams) (cd := mX0_grams) aX0_grams rfl (HdZ.none rfl)
abbrev nX11_row : MI := (cX11_row, 4, (some (.array .int)), RX11, "row", [], 5, 130)
theorem hyX11_row : yX11_row.cls ≠ "java/lang/invoke/MethodHandle" ∧ yX11_row.cls ≠ "java/lang/invoke/VarHandle" := by decide +kernel
theorem pnX11_row : (parseMethodDescriptor yX11_row.desc).map (fun d => d.parameters.length) = some 2 := by decide +kernel
theorem wdX11_row : CdW yX11_row (nX11_row) := ⟨Or.inl ⟨q1043, rfl⟩, rfl, rfl, plainFor_of_name (by decide +kernel)⟩
theorem eX11_row_0 : SiZ nX11_row 0 (i_iload 1 1) := s_iload_n dX11_row_0 rfl
theorem eX11_row_1 : SiZ nX11_row 1 (i_if (fun x => x < 0) 23 4) := s_if_lt dX11_row_1 (by decide)
theorem eX11_row_4 : SiZ nX11_row 4 (i_iload 1 5) := s_iload_n dX11_row_4 rfl
theorem eX11_row_5 : SiZ nX11_row 5 (i_i2l 6) := s_i2l dX11_row_5
theorem eX11_row_6 : SiZ nX11_row 6 (i_iload 2 7) := s_iload_n dX11_row_6 rfl
theorem eX11_row_7 : SiZ nX11_row 7 (i_i2l 8) := s_i2l dX11_row_7
theorem eX11_row_8 : SiZ nX11_row 8 (i_lbin (fun x y => x + y) 9) := s_ladd dX11_row_8
theorem eX11_row_9 : SiZ nX11_row 9 (i_aload 0 10) := s_aload_n dX11_row_9 rfl
theorem eX11_row_10 : SiZ nX11_row 10 (i_getf 139 [11] 13) := s_getf dX11_row_10 (fm_cons (⟨_, _, _, _, _, _, rfl, fkX11_15_11⟩) (fm_nil))
theorem eX11_row_13 : SiZ nX11_row 13 (i_alen [51] 14) := s_alen dX11_row_13 (fm_cons (Or.inl ⟨0, _, by decide, rfl, fun _ => rfl⟩) (fm_nil))
theorem eX11_row_14 : SiZ nX11_row 14 (i_i2l 15) := s_i2l dX11_row_14
theorem eX11_row_15 : SiZ nX11_row 15 (i_lcmp 16) := s_lcmp dX11_row_15
theorem eX11_row_16 : SiZ nX11_row 16 (i_if (fun x => 0 < x) 23 19) := s_if_gt dX11_row_16 (by decide)
theorem eX11_row_19 : SiZ nX11_row 19 (i_push (.int 1) 20) := s_iconst dX11_row_19 (by decide)
theorem eX11_row_20 : SiZ nX11_row 20 (i_goto 24) := s_goto dX11_row_20 (by decide)
theorem eX11_row_23 : SiZ nX11_row 23 (i_push (.int 0) 24) := s_iconst dX11_row_23 (by decide)
theorem eX11_row_24 : SiZ nX11_row 24 (i_push (.int 2) 25) := s_iconst dX11_row_24 (by decide)
theorem eX11_row_25 : ScZ nX11_row 25 (c_S 2 28 2 (Mt mX0_must 2)) := e_S (mi := nX11_row) (mi' := nX0_must) (len := 3) (fun h as rest hl => cs_SN (mi := nX11_row) (pc := 25) (y := yX0_must) (idx := 19) dX11_row_25 q1044 q357 q77 q358 hyX0_must pnX0_must hl) wdX0_must zX0_must (Nat.le_of_ble_eq_true rfl) (Nat.le_of_ble_eq_true rfl)
theorem eX11_row_28 : SiZ nX11_row 28 (i_iload 2 29) := s_iload_n dX11_row_28 rfl
theorem eX11_row_29 : SiZ nX11_row 29 (i_newa 51 31) := s_newa (j := 0) dX11_row_29 (by decide) rfl (fun _ => rfl) rfl (by decide) q153 (fun _ _ h => h)
theorem eX11_row_31 : SiZ nX11_row 31 (i_astore 3 32) := s_astore_n dX11_row_31 rfl
theorem eX11_row_32 : SiZ nX11_row 32 (i_aload 0 33) := s_aload_n dX11_row_32 rfl
theorem eX11_row_33 : SiZ nX11_row 33 (i_getf 139 [11] 36) := s_getf dX11_row_33 (fm_cons (⟨_, _, _, _, _, _, rfl, fkX11_15_11⟩) (fm_nil))
theorem eX11_row_36 : SiZ nX11_row 36 (i_iload 1 37) := s_iload_n dX11_row_36 rfl
theorem eX11_row_37 : SiZ nX11_row 37 (i_aload 3 38) := s_aload_n dX11_row_37 rfl
theorem eX11_row_38 : SiZ nX11_row 38 (i_push (.int 0) 39) := s_iconst dX11_row_38 (by decide)
theorem eX11_row_39 : SiZ nX11_row 39 (i_iload 2 40) := s_iload_n dX11_row_39 rfl
theorem eX11_row_40 : SiZ nX11_row 40 (i_acpy 51 43) := s_acpy dX11_row_40 q1045 (by decide) (by decide)
theorem eX11_row_43 : SiZ nX11_row 43 (i_aload 3 44) := s_aload_n dX11_row_43 rfl
theorem eX11_row_44 : SiZ nX11_row 44 i_aret := s_aret dX11_row_44 rfl (Or.inr ⟨_, rfl⟩)
theorem aX11_row : ∀ x ∈ mX11_row.1, EnZ nX11_row x := fm_cons eX11_row_0 (fm_cons eX11_row_1 (fm_cons eX11_row_4 (fm_cons eX11_row_5 (fm_cons eX11_row_6 (fm_cons eX11_row_7 (fm_cons eX11_row_8 (fm_cons eX11_row_9 (fm_cons eX11_row_10 (fm_cons eX11_row_13 (fm_cons eX11_row_14 (fm_cons eX11_row_15 (fm_cons eX11_row_16 (fm_cons eX11_row_19 (fm_cons eX11_row_20 (fm_cons eX11_row_23 (fm_cons eX11_row_24 (fm_cons eX11_row_25 (fm_cons eX11_row_28 (fm_cons eX11_row_29 (fm_cons eX11_row_31 (fm_cons eX11_row_32 (fm_cons eX11_row_33 (fm_cons eX11_row_36 (fm_cons eX11_row_37 (fm_cons eX11_row_38 (fm_cons eX11_row_39 (fm_cons eX11_row_40 (fm_cons eX11_row_43 (fm_cons eX11_row_44 (fm_nil))))))))))))))))))))))))))))))
theorem zX11_row : SwZ nX11_row (Mt mX11_row 4) := wholeZ (mi := nX11_row) (cd := mX11_row) aX11_row rfl (HdZ.none rfl)
abbrev nX0_alters : MI := (cX0_alters, 4, none, RX0, "alters", [], 3, 79)
theorem hyX0_alters : yX0_alters.cls ≠ "java/lang/invoke/MethodHandle" ∧ yX0_alters.cls ≠ "java/lang/invoke/VarHandle" := by decide +kernel
theorem pnX0_alters : (parseMethodDescriptor yX0_alters.desc).map (fun d => d.parameters.length) = some 3 := by decide +kernel
theorem wdX0_alters : CdW yX0_alters (nX0_alters) := ⟨Or.inl ⟨q1049, rfl⟩, rfl, rfl, plainFor_of_name (by decide +kernel)⟩
theorem eX0_alters_0 : SiZ nX0_alters 0 (i_aload 0 1) := s_aload_n dX0_alters_0 rfl
theorem eX0_alters_1 : ScZ nX0_alters 1 (c_V 0 4 1 1 (Mt mX0_tried 1)) := e_V (mi := nX0_alters) (mi' := nX0_tried) (len := 3) (fun h b as rest hk hl => cs_V (ci := 0) (mi := nX0_alters) (pc := 1) (y := yX0_tried) (idx := 275) dX0_alters_1 q964 q966 qs26 rfl hk hyX0_tried (sigC q967) pnX0_tried hl) wdX0_tried zX0_tried (Nat.le_of_ble_eq_true rfl) (Nat.le_of_ble_eq_true rfl)
theorem eX0_alters_4 : SiZ nX0_alters 4 (i_pop 5) := s_pop dX0_alters_4
theorem eX0_alters_5 : SiZ nX0_alters 5 (i_iload 2 6) := s_iload_n dX0_alters_5 rfl
theorem eX0_alters_6 : SiZ nX0_alters 6 (i_if (fun x => ¬ x = 0) 35 9) := s_if_ne dX0_alters_6 (by decide)
theorem eX0_alters_9 : SiZ nX0_alters 9 (i_aload 0 10) := s_aload_n dX0_alters_9 rfl
theorem eX0_alters_10 : SiZ nX0_alters 10 (i_getf 13 [1] 13) := s_getf dX0_alters_10 (fm_cons (⟨_, _, _, _, _, _, rfl, fkX0_43_1⟩) (fm_nil))
theorem eX0_alters_13 : SiZ nX0_alters 13 (i_iload 1 14) := s_iload_n dX0_alters_13 rfl
theorem eX0_alters_14 : SiZ nX0_alters 14 (i_putI 60 [2] 17) := s_putI dX0_alters_14 (fm_cons (⟨_, _, _, _, _, _, rfl, ⟨fkX0_315_2, ⟨_, q197, Or.inl rfl⟩, Or.inl rfl⟩, rfl⟩) (fm_nil))
theorem eX0_alters_17 : SiZ nX0_alters 17 (i_aload 0 18) := s_aload_n dX0_alters_17 rfl
theorem eX0_alters_18 : SiZ nX0_alters 18 (i_getf 13 [1] 21) := s_getf dX0_alters_18 (fm_cons (⟨_, _, _, _, _, _, rfl, fkX0_43_1⟩) (fm_nil))
theorem eX0_alters_21 : SiZ nX0_alters 21 (i_aload 0 22) := s_aload_n dX0_alters_21 rfl
theorem eX0_alters_22 : SiZ nX0_alters 22 (i_getf 31 [1] 25) := s_getf dX0_alters_22 (fm_cons (⟨_, _, _, _, _, _, rfl, fkX0_69_1⟩) (fm_nil))
theorem eX0_alters_25 : SiZ nX0_alters 25 (i_iload 3 26) := s_iload_n dX0_alters_25 rfl
theorem eX0_alters_26 : SiZ nX0_alters 26 (i_push (.int 1) 27) := s_iconst dX0_alters_26 (by decide)
theorem eX0_alters_27 : SiZ nX0_alters 27 (i_bin (fun x y => x - y) 28) := s_isub dX0_alters_27
theorem eX0_alters_28 : SiZ nX0_alters 28 (i_aald 56 29) := s_aald (j := 2) (by decide) (fun _ => rfl) dX0_alters_28
theorem eX0_alters_29 : SiZ nX0_alters 29 (i_putR 63 [2] 32) := s_putR dX0_alters_29 (fm_cons (⟨_, _, _, _, _, _, rfl, ⟨fkX0_318_2, ⟨_, q199, Or.inl rfl⟩, Or.inl rfl⟩, (Or.inl ⟨_, rfl⟩)⟩) (fm_nil))
theorem eX0_alters_32 : SiZ nX0_alters 32 (i_goto 45) := s_goto dX0_alters_32 (by decide)
theorem eX0_alters_35 : SiZ nX0_alters 35 (i_aload 0 36) := s_aload_n dX0_alters_35 rfl
theorem eX0_alters_36 : SiZ nX0_alters 36 (i_getf 13 [1] 39) := s_getf dX0_alters_36 (fm_cons (⟨_, _, _, _, _, _, rfl, fkX0_43_1⟩) (fm_nil))
theorem eX0_alters_39 : SiZ nX0_alters 39 (i_getf 53 [2] 42) := s_getf dX0_alters_39 (fm_cons (⟨_, _, _, _, _, _, rfl, fkX0_237_2⟩) (fm_nil))
theorem eX0_alters_42 : SiZ nX0_alters 42 (i_iload 1 43) := s_iload_n dX0_alters_42 rfl
theorem eX0_alters_43 : SiZ nX0_alters 43 (i_iload 3 44) := s_iload_n dX0_alters_43 rfl
theorem eX0_alters_44 : SiZ nX0_alters 44 (i_iast 51 (fun x => x) 45) := s_ast (j := 0) (by decide) (fun _ => rfl) dX0_alters_44 (Or.inl ⟨rfl, rfl, rfl⟩)
theorem eX0_alters_45 : SiZ nX0_alters 45 i_vret := s_vret dX0_alters_45 rfl
theorem aX0_alters : ∀ x ∈ mX0_alters.1, EnZ nX0_alters x := fm_cons eX0_alters_0 (fm_cons eX0_alters_1 (fm_cons eX0_alters_4 (fm_cons eX0_alters_5 (fm_cons eX0_alters_6 (fm_cons eX0_alters_9 (fm_cons eX0_alters_10 (fm_cons eX0_alters_13 (fm_cons eX0_alters_14 (fm_cons eX0_alters_17 (fm_cons eX0_alters_18 (fm_cons eX0_alters_21 (fm_cons eX0_alters_22 (fm_cons eX0_alters_25 (fm_cons eX0_alters_26 (fm_cons eX0_alters_27 (fm_cons eX0_alters_28 (fm_cons eX0_alters_29 (fm_cons eX0_alters_32 (fm_cons eX0_alters_35 (fm_cons eX0_alters_36 (fm_cons eX0_alters_39 (fm_cons eX0_alters_42 (fm_cons eX0_alters_43 (fm_cons eX0_alters_44 (fm_cons eX0_alters_45 (fm_nil))))))))))))))))))))))))))
theorem zX0_alters : SwZ nX0_alters (Mt mX0_alters 4) := wholeZ (mi := nX0_alters) (cd := mX0_alters) aX0_alters rfl (HdZ.none rfl)
abbrev nX0_isSeen : MI := (cX0_isSeen, 5, (some (.boolean)), RX0, "isSeen", [], 6, 158)
theorem hyX0_isSeen : yX0_isSeen.cls ≠ "java/lang/invoke/MethodHandle" ∧ yX0_isSeen.cls ≠ "java/lang/invoke/VarHandle" := by decide +kernel
theorem pnX0_isSeen : (parseMethodDescriptor yX0_isSeen.desc).map (fun d => d.parameters.length) = some 2 := by decide +kernel
theorem wdX0_isSeen : CdW yX0_isSeen (nX0_isSeen) := ⟨Or.inl ⟨q1053, rfl⟩, rfl, rfl, plainFor_of_name (by decide +kernel)⟩
theorem eX0_isSeen_0 : SiZ nX0_isSeen 0 (i_push (.int 1) 1) := s_iconst dX0_isSeen_0 (by decide)
theorem eX0_isSeen_1 : SiZ nX0_isSeen 1 (i_istore 3 2) := s_istore_n dX0_isSeen_1 rfl
theorem eX0_isSeen_2 : SiZ nX0_isSeen 2 (i_push (.int 0) 3) := s_iconst dX0_isSeen_2 (by decide)
theorem eX0_isSeen_3 : SiZ nX0_isSeen 3 (i_istore 4 5) := s_istore dX0_isSeen_3
theorem eX0_isSeen_5 : SiZ nX0_isSeen 5 (i_iload 4 7) := s_iload dX0_isSeen_5
theorem eX0_isSeen_7 : SiZ nX0_isSeen 7 (i_aload 2 8) := s_aload_n dX0_isSeen_7 rfl
theorem eX0_isSeen_8 : SiZ nX0_isSeen 8 (i_alen [51] 9) := s_alen dX0_isSeen_8 (fm_cons (Or.inl ⟨0, _, by decide, rfl, fun _ => rfl⟩) (fm_nil))
theorem eX0_isSeen_9 : SiZ nX0_isSeen 9 (i_icmp (fun x y => y ≤ x) 45 12) := s_icmp_ge dX0_isSeen_9 (by decide)
theorem eX0_isSeen_12 : SiZ nX0_isSeen 12 (i_iload 3 13) := s_iload_n dX0_isSeen_12 rfl
theorem eX0_isSeen_13 : SiZ nX0_isSeen 13 (i_aload 0 14) := s_aload_n dX0_isSeen_13 rfl
theorem eX0_isSeen_14 : SiZ nX0_isSeen 14 (i_getf 13 [1] 17) := s_getf dX0_isSeen_14 (fm_cons (⟨_, _, _, _, _, _, rfl, fkX0_43_1⟩) (fm_nil))
theorem eX0_isSeen_17 : ScZ nX0_isSeen 17 (c_V 0 20 2 2 (Mt mX1_pass 2)) := e_V (mi := nX0_isSeen) (mi' := nX1_pass) (len := 3) (fun h b as rest hk hl => cs_V (ci := 1) (mi := nX0_isSeen) (pc := 17) (y := yX1_pass) (idx := 196) dX0_isSeen_17 q791 q792 q793 rfl hk hyX1_pass (sigC q794) pnX1_pass hl) wdX1_pass zX1_pass (Nat.le_of_ble_eq_true rfl) (Nat.le_of_ble_eq_true rfl)
theorem eX0_isSeen_20 : SiZ nX0_isSeen 20 (i_getf 39 [2] 23) := s_getf dX0_isSeen_20 (fm_cons (⟨_, _, _, _, _, _, rfl, fkX0_243_2⟩) (fm_nil))
theorem eX0_isSeen_23 : SiZ nX0_isSeen 23 (i_iload 1 24) := s_iload_n dX0_isSeen_23 rfl
theorem eX0_isSeen_24 : SiZ nX0_isSeen 24 (i_iald 51 25) := s_ald (j := 0) (by decide) (fun _ => rfl) dX0_isSeen_24 (Or.inl ⟨rfl, rfl⟩)
theorem eX0_isSeen_25 : SiZ nX0_isSeen 25 (i_aload 2 26) := s_aload_n dX0_isSeen_25 rfl
theorem eX0_isSeen_26 : SiZ nX0_isSeen 26 (i_iload 4 28) := s_iload dX0_isSeen_26
theorem eX0_isSeen_28 : SiZ nX0_isSeen 28 (i_iald 51 29) := s_ald (j := 0) (by decide) (fun _ => rfl) dX0_isSeen_28 (Or.inl ⟨rfl, rfl⟩)
theorem eX0_isSeen_29 : SiZ nX0_isSeen 29 (i_icmp (fun x y => ¬ x = y) 36 32) := s_icmp_ne dX0_isSeen_29 (by decide)
theorem eX0_isSeen_32 : SiZ nX0_isSeen 32 (i_push (.int 1) 33) := s_iconst dX0_isSeen_32 (by decide)
theorem eX0_isSeen_33 : SiZ nX0_isSeen 33 (i_goto 37) := s_goto dX0_isSeen_33 (by decide)
theorem eX0_isSeen_36 : SiZ nX0_isSeen 36 (i_push (.int 0) 37) := s_iconst dX0_isSeen_36 (by decide)
theorem eX0_isSeen_37 : SiZ nX0_isSeen 37 (i_bin (fun x y => x &&& y) 38) := s_iand dX0_isSeen_37
theorem eX0_isSeen_38 : SiZ nX0_isSeen 38 (i_istore 3 39) := s_istore_n dX0_isSeen_38 rfl
theorem eX0_isSeen_39 : SiZ nX0_isSeen 39 (i_iinc 4 1 42) := s_iinc dX0_isSeen_39 (by decide)
theorem eX0_isSeen_42 : SiZ nX0_isSeen 42 (i_goto 5) := s_goto dX0_isSeen_42 (by decide)
theorem eX0_isSeen_45 : SiZ nX0_isSeen 45 (i_iload 3 46) := s_iload_n dX0_isSeen_45 rfl
theorem eX0_isSeen_46 : SiZ nX0_isSeen 46 i_zret := s_zret dX0_isSeen_46 rfl
theorem aX0_isSeen : ∀ x ∈ mX0_isSeen.1, EnZ nX0_isSeen x := fm_cons eX0_isSeen_0 (fm_cons eX0_isSeen_1 (fm_cons eX0_isSeen_2 (fm_cons eX0_isSeen_3 (fm_cons eX0_isSeen_5 (fm_cons eX0_isSeen_7 (fm_cons eX0_isSeen_8 (fm_cons eX0_isSeen_9 (fm_cons eX0_isSeen_12 (fm_cons eX0_isSeen_13 (fm_cons eX0_isSeen_14 (fm_cons eX0_isSeen_17 (fm_cons eX0_isSeen_20 (fm_cons eX0_isSeen_23 (fm_cons eX0_isSeen_24 (fm_cons eX0_isSeen_25 (fm_cons eX0_isSeen_26 (fm_cons eX0_isSeen_28 (fm_cons eX0_isSeen_29 (fm_cons eX0_isSeen_32 (fm_cons eX0_isSeen_33 (fm_cons eX0_isSeen_36 (fm_cons eX0_isSeen_37 (fm_cons eX0_isSeen_38 (fm_cons eX0_isSeen_39 (fm_cons eX0_isSeen_42 (fm_cons eX0_isSeen_45 (fm_cons eX0_isSeen_46 (fm_nil))))))))))))))))))))))))))))
theorem zX0_isSeen : SwZ nX0_isSeen (Mt mX0_isSeen 5) := wholeZ (mi := nX0_isSeen) (cd := mX0_isSeen) aX0_isSeen rfl (HdZ.none rfl)
abbrev nX0_who : MI := (cX0_who, 10, (some (.int)), RX0, "who", [(56, 148, 149, 74)], 7, 186)
theorem hyX0_who : yX0_who.cls ≠ "java/lang/invoke/MethodHandle" ∧ yX0_who.cls ≠ "java/lang/invoke/VarHandle" := by decide +kernel
theorem pnX0_who : (parseMethodDescriptor yX0_who.desc).map (fun d => d.parameters.length) = some 6 := by decide +kernel
theorem wdX0_who : CdW yX0_who (nX0_who) := ⟨Or.inr q1039, rfl, rfl, plainFor_of_name (by decide +kernel)⟩
theorem eX0_who_0 : SiZ nX0_who 0 (i_aload 0 1) := s_aload_n dX0_who_0 rfl
theorem eX0_who_1 : SiZ nX0_who 1 (i_iload 1 2) := s_iload_n dX0_who_1 rfl
theorem eX0_who_2 : ScZ nX0_who 2 (c_V 1 5 2 1 (Mt mX0_isFish 2)) := e_V (mi := nX0_who) (mi' := nX0_isFish) (len := 3) (fun h b as rest hk hl => cs_V (ci := 0) (mi := nX0_who) (pc := 2) (y := yX0_isFish) (idx := 231) dX0_who_2 q918 q920 qs24 rfl hk hyX0_isFish (sigC q921) pnX0_isFish hl) wdX0_isFish zX0_isFish (Nat.le_of_ble_eq_true rfl) (Nat.le_of_ble_eq_true rfl)
theorem eX0_who_5 : SiZ nX0_who 5 (i_if (fun x => x = 0) 39 8) := s_if_eq dX0_who_5 (by decide)
theorem eX0_who_8 : SiZ nX0_who 8 (i_iload 2 9) := s_iload_n dX0_who_8 rfl
theorem eX0_who_9 : ScZ nX0_who 9 (c_S 1 12 1 (Mt mX0_isHalf 1)) := e_S (mi := nX0_who) (mi' := nX0_isHalf) (len := 3) (fun h as rest hl => cs_S (mi := nX0_who) (pc := 9) (y := yX0_isHalf) (idx := 209) dX0_who_9 q896 q897 q77 q898 hyX0_isHalf pnX0_isHalf hl) wdX0_isHalf zX0_isHalf (Nat.le_of_ble_eq_true rfl) (Nat.le_of_ble_eq_true rfl)
theorem eX0_who_12 : SiZ nX0_who 12 (i_if (fun x => x = 0) 39 15) := s_if_eq dX0_who_12 (by decide)
theorem eX0_who_15 : SiZ nX0_who 15 (i_aload 0 16) := s_aload_n dX0_who_15 rfl
theorem eX0_who_16 : SiZ nX0_who 16 (i_iload 3 17) := s_iload_n dX0_who_16 rfl
theorem eX0_who_17 : ScZ nX0_who 17 (c_V 1 20 2 1 (Mt mX0_isBook 2)) := e_V (mi := nX0_who) (mi' := nX0_isBook) (len := 3) (fun h b as rest hk hl => cs_V (ci := 0) (mi := nX0_who) (pc := 17) (y := yX0_isBook) (idx := 206) dX0_who_17 q892 q894 qs23 rfl hk hyX0_isBook (sigC q895) pnX0_isBook hl) wdX0_isBook zX0_isBook (Nat.le_of_ble_eq_true rfl) (Nat.le_of_ble_eq_true rfl)
theorem eX0_who_20 : SiZ nX0_who 20 (i_if (fun x => x = 0) 39 23) := s_if_eq dX0_who_20 (by decide)
theorem eX0_who_23 : SiZ nX0_who 23 (i_iload 4 25) := s_iload dX0_who_23
theorem eX0_who_25 : ScZ nX0_who 25 (c_S 1 28 1 (Mt mX0_isRow 1)) := e_S (mi := nX0_who) (mi' := nX0_isRow) (len := 3) (fun h as rest hl => cs_S (mi := nX0_who) (pc := 25) (y := yX0_isRow) (idx := 94) dX0_who_25 q347 q348 q77 q349 hyX0_isRow pnX0_isRow hl) wdX0_isRow zX0_isRow (Nat.le_of_ble_eq_true rfl) (Nat.le_of_ble_eq_true rfl)
theorem eX0_who_28 : SiZ nX0_who 28 (i_if (fun x => x = 0) 39 31) := s_if_eq dX0_who_28 (by decide)
theorem eX0_who_31 : SiZ nX0_who 31 (i_iload 6 33) := s_iload dX0_who_31
theorem eX0_who_33 : ScZ nX0_who 33 (c_S 1 36 1 (Mt mX0_isShort 1)) := e_S (mi := nX0_who) (mi' := nX0_isShort) (len := 3) (fun h as rest hl => cs_S (mi := nX0_who) (pc := 33) (y := yX0_isShort) (idx := 302) dX0_who_33 q1000 q1001 q77 q1002 hyX0_isShort pnX0_isShort hl) wdX0_isShort zX0_isShort (Nat.le_of_ble_eq_true rfl) (Nat.le_of_ble_eq_true rfl)
theorem eX0_who_36 : SiZ nX0_who 36 (i_if (fun x => ¬ x = 0) 42 39) := s_if_ne dX0_who_36 (by decide)
theorem eX0_who_39 : SiZ nX0_who 39 (i_push (.int (-1000001)) 41) := s_ldc dX0_who_39 q355
theorem eX0_who_41 : SiZ nX0_who 41 i_iret := s_iret dX0_who_41 rfl
theorem eX0_who_42 : SiZ nX0_who 42 (i_aload 0 43) := s_aload_n dX0_who_42 rfl
theorem eX0_who_43 : SiZ nX0_who 43 (i_getf 11 [1] 46) := s_getf dX0_who_43 (fm_cons (⟨_, _, _, _, _, _, rfl, fkX0_39_1⟩) (fm_nil))
theorem eX0_who_46 : SiZ nX0_who 46 (i_iload 1 47) := s_iload_n dX0_who_46 rfl
theorem eX0_who_47 : ScZ nX0_who 47 (c_V 1 50 2 2 (Mt mX1_isCaught 2)) := e_V (mi := nX0_who) (mi' := nX1_isCaught) (len := 3) (fun h b as rest hk hl => cs_V (ci := 1) (mi := nX0_who) (pc := 47) (y := yX1_isCaught) (idx := 234) dX0_who_47 q922 q797 q798 rfl hk hyX1_isCaught (sigC q799) pnX1_isCaught hl) wdX1_isCaught zX1_isCaught (Nat.le_of_ble_eq_true rfl) (Nat.le_of_ble_eq_true rfl)
theorem eX0_who_50 : SiZ nX0_who 50 (i_if (fun x => x = 0) 56 53) := s_if_eq dX0_who_50 (by decide)
theorem eX0_who_53 : SiZ nX0_who 53 (i_push (.int (-1000002)) 55) := s_ldc dX0_who_53 q777
theorem eX0_who_55 : SiZ nX0_who 55 i_iret := s_iret dX0_who_55 rfl
theorem eX0_who_56 : SiZ nX0_who 56 (i_aload 0 57) := s_aload_n dX0_who_56 rfl
theorem eX0_who_57 : SiZ nX0_who 57 (i_iload 4 59) := s_iload dX0_who_57
theorem eX0_who_59 : ScZ nX0_who 59 (c_V 1 62 2 1 (Mt mX0_rowAt 2)) := e_V (mi := nX0_who) (mi' := nX0_rowAt) (len := 3) (fun h b as rest hk hl => cs_V (ci := 0) (mi := nX0_who) (pc := 59) (y := yX0_rowAt) (idx := 112) dX0_who_59 q451 q453 qs3 rfl hk hyX0_rowAt (sigC q454) pnX0_rowAt hl) wdX0_rowAt zX0_rowAt (Nat.le_of_ble_eq_true rfl) (Nat.le_of_ble_eq_true rfl)
theorem eX0_who_62 : SiZ nX0_who 62 (i_iload 5 64) := s_iload dX0_who_62
theorem eX0_who_64 : SiZ nX0_who 64 (i_iload 6 66) := s_iload dX0_who_64
theorem eX0_who_66 : ScZ nX0_who 66 (c_V 2 69 4 11 (Mt mX11_row 4)) := e_V (mi := nX0_who) (mi' := nX11_row) (len := 3) (fun h b as rest hk hl => cs_V (ci := 10) (mi := nX0_who) (pc := 66) (y := yX11_row) (idx := 322) dX0_who_66 q1040 q1041 q1042 rfl hk hyX11_row (sigC q1043) pnX11_row hl) wdX11_row zX11_row (Nat.le_of_ble_eq_true rfl) (Nat.le_of_ble_eq_true rfl)
theorem eX0_who_69 : SiZ nX0_who 69 (i_astore 7 71) := s_astore dX0_who_69
theorem eX0_who_71 : SiZ nX0_who 71 (i_push (.int 0) 72) := s_iconst dX0_who_71 (by decide)
theorem eX0_who_72 : SiZ nX0_who 72 (i_istore 8 74) := s_istore dX0_who_72
theorem eX0_who_74 : SiZ nX0_who 74 (i_push (.int 1) 75) := s_iconst dX0_who_74 (by decide)
theorem eX0_who_75 : SiZ nX0_who 75 (i_iload 2 76) := s_iload_n dX0_who_75 rfl
theorem eX0_who_76 : SiZ nX0_who 76 (i_bin (fun x y => x - y) 77) := s_isub dX0_who_76
theorem eX0_who_77 : SiZ nX0_who 77 (i_istore 9 79) := s_istore dX0_who_77
theorem eX0_who_79 : SiZ nX0_who 79 (i_iload 9 81) := s_iload dX0_who_79
theorem eX0_who_81 : SiZ nX0_who 81 (i_iload 2 82) := s_iload_n dX0_who_81 rfl
theorem eX0_who_82 : SiZ nX0_who 82 (i_if (fun x => ¬ x = 0) 93 85) := s_if_ne dX0_who_82 (by decide)
theorem eX0_who_85 : SiZ nX0_who 85 (i_aload 0 86) := s_aload_n dX0_who_85 rfl
theorem eX0_who_86 : SiZ nX0_who 86 (i_getf 31 [1] 89) := s_getf dX0_who_86 (fm_cons (⟨_, _, _, _, _, _, rfl, fkX0_69_1⟩) (fm_nil))
theorem eX0_who_89 : SiZ nX0_who 89 (i_alen [56] 90) := s_alen dX0_who_89 (fm_cons (Or.inr (Or.inl ⟨2, _, by decide, rfl, fun _ => rfl⟩)) (fm_nil))
theorem eX0_who_90 : SiZ nX0_who 90 (i_goto 102) := s_goto dX0_who_90 (by decide)
theorem eX0_who_93 : SiZ nX0_who 93 (i_aload 0 94) := s_aload_n dX0_who_93 rfl
theorem eX0_who_94 : SiZ nX0_who 94 (i_getf 11 [1] 97) := s_getf dX0_who_94 (fm_cons (⟨_, _, _, _, _, _, rfl, fkX0_39_1⟩) (fm_nil))
theorem eX0_who_97 : SiZ nX0_who 97 (i_getf 36 [2] 100) := s_getf dX0_who_97 (fm_cons (⟨_, _, _, _, _, _, rfl, fkX0_177_2⟩) (fm_nil))
theorem eX0_who_100 : SiZ nX0_who 100 (i_push (.int 1) 101) := s_iconst dX0_who_100 (by decide)
theorem eX0_who_101 : SiZ nX0_who 101 (i_bin (fun x y => x - y) 102) := s_isub dX0_who_101
theorem eX0_who_102 : SiZ nX0_who 102 (i_icmp (fun x y => y < x) 142 105) := s_icmp_gt dX0_who_102 (by decide)
theorem eX0_who_105 : SiZ nX0_who 105 (i_aload 0 106) := s_aload_n dX0_who_105 rfl
theorem eX0_who_106 : SiZ nX0_who 106 (i_iload 1 107) := s_iload_n dX0_who_106 rfl
theorem eX0_who_107 : SiZ nX0_who 107 (i_iload 2 108) := s_iload_n dX0_who_107 rfl
theorem eX0_who_108 : SiZ nX0_who 108 (i_iload 9 110) := s_iload dX0_who_108
theorem eX0_who_110 : ScZ nX0_who 110 (c_V 3 113 4 1 (Mt mX0_alters 4)) := e_V (mi := nX0_who) (mi' := nX0_alters) (len := 3) (fun h b as rest hk hl => cs_V (ci := 0) (mi := nX0_who) (pc := 110) (y := yX0_alters) (idx := 326) dX0_who_110 q1046 q1048 qs31 rfl hk hyX0_alters (sigC q1049) pnX0_alters hl) wdX0_alters zX0_alters (Nat.le_of_ble_eq_true rfl) (Nat.le_of_ble_eq_true rfl)
theorem eX0_who_113 : SiZ nX0_who 113 (i_iload 8 115) := s_iload dX0_who_113
theorem eX0_who_115 : SiZ nX0_who 115 (i_aload 0 116) := s_aload_n dX0_who_115 rfl
theorem eX0_who_116 : SiZ nX0_who 116 (i_iload 3 117) := s_iload_n dX0_who_116 rfl
theorem eX0_who_117 : SiZ nX0_who 117 (i_aload 7 119) := s_aload dX0_who_117
theorem eX0_who_119 : ScZ nX0_who 119 (c_V 2 122 5 1 (Mt mX0_isSeen 5)) := e_V (mi := nX0_who) (mi' := nX0_isSeen) (len := 3) (fun h b as rest hk hl => cs_V (ci := 0) (mi := nX0_who) (pc := 119) (y := yX0_isSeen) (idx := 330) dX0_who_119 q1050 q1052 qs32 rfl hk hyX0_isSeen (sigC q1053) pnX0_isSeen hl) wdX0_isSeen zX0_isSeen (Nat.le_of_ble_eq_true rfl) (Nat.le_of_ble_eq_true rfl)
theorem eX0_who_122 : SiZ nX0_who 122 (i_if (fun x => x = 0) 132 125) := s_if_eq dX0_who_122 (by decide)
theorem eX0_who_125 : SiZ nX0_who 125 (i_push (.int 1) 126) := s_iconst dX0_who_125 (by decide)
theorem eX0_who_126 : SiZ nX0_who 126 (i_iload 9 128) := s_iload dX0_who_126
theorem eX0_who_128 : SiZ nX0_who 128 (i_bin (fun x y => x <<< (y &&& 31)) 129) := s_ishl dX0_who_128
theorem eX0_who_129 : SiZ nX0_who 129 (i_goto 133) := s_goto dX0_who_129 (by decide)
theorem eX0_who_132 : SiZ nX0_who 132 (i_push (.int 0) 133) := s_iconst dX0_who_132 (by decide)
theorem eX0_who_133 : SiZ nX0_who 133 (i_bin (fun x y => x ||| y) 134) := s_ior dX0_who_133
theorem eX0_who_134 : SiZ nX0_who 134 (i_istore 8 136) := s_istore dX0_who_134
theorem eX0_who_136 : SiZ nX0_who 136 (i_iinc 9 1 139) := s_iinc dX0_who_136 (by decide)
theorem eX0_who_139 : SiZ nX0_who 139 (i_goto 79) := s_goto dX0_who_139 (by decide)
theorem eX0_who_142 : SiZ nX0_who 142 (i_aload 0 143) := s_aload_n dX0_who_142 rfl
theorem eX0_who_143 : SiZ nX0_who 143 (i_iload 8 145) := s_iload dX0_who_143
theorem eX0_who_145 : ScZ nX0_who 145 (c_V 1 148 2 1 (Mt mX0_well 2)) := e_V (mi := nX0_who) (mi' := nX0_well) (len := 3) (fun h b as rest hk hl => cs_V (ci := 0) (mi := nX0_who) (pc := 145) (y := yX0_well) (idx := 104) dX0_who_145 q438 q440 qs1 rfl hk hyX0_well (sigC q441) pnX0_well hl) wdX0_well zX0_well (Nat.le_of_ble_eq_true rfl) (Nat.le_of_ble_eq_true rfl)
theorem eX0_who_148 : SiZ nX0_who 148 i_iret := s_iret dX0_who_148 rfl
theorem eX0_who_149 : SiZ nX0_who 149 (i_astore 7 151) := s_astore dX0_who_149
theorem eX0_who_151 : SiZ nX0_who 151 (i_aload 0 152) := s_aload_n dX0_who_151 rfl
theorem eX0_who_152 : SiZ nX0_who 152 (i_aload 7 154) := s_aload dX0_who_152
theorem eX0_who_154 : ScZ nX0_who 154 (c_V 1 157 2 1 (Mt mX0_found 2)) := e_V (mi := nX0_who) (mi' := nX0_found) (len := 3) (fun h b as rest hk hl => cs_V (ci := 0) (mi := nX0_who) (pc := 154) (y := yX0_found) (idx := 108) dX0_who_154 q442 q444 qs2 rfl hk hyX0_found (sigC q445) pnX0_found hl) wdX0_found zX0_found (Nat.le_of_ble_eq_true rfl) (Nat.le_of_ble_eq_true rfl)
theorem eX0_who_157 : SiZ nX0_who 157 i_iret := s_iret dX0_who_157 rfl
theorem aX0_who : ∀ x ∈ mX0_who.1, EnZ nX0_who x := fm_cons eX0_who_0 (fm_cons eX0_who_1 (fm_cons eX0_who_2 (fm_cons eX0_who_5 (fm_cons eX0_who_8 (fm_cons eX0_who_9 (fm_cons eX0_who_12 (fm_cons eX0_who_15 (fm_cons eX0_who_16 (fm_cons eX0_who_17 (fm_cons eX0_who_20 (fm_cons eX0_who_23 (fm_cons eX0_who_25 (fm_cons eX0_who_28 (fm_cons eX0_who_31 (fm_cons eX0_who_33 (fm_cons eX0_who_36 (fm_cons eX0_who_39 (fm_cons eX0_who_41 (fm_cons eX0_who_42 (fm_cons eX0_who_43 (fm_cons eX0_who_46 (fm_cons eX0_who_47 (fm_cons eX0_who_50 (fm_cons eX0_who_53 (fm_cons eX0_who_55 (fm_cons eX0_who_56 (fm_cons eX0_who_57 (fm_cons eX0_who_59 (fm_cons eX0_who_62 (fm_cons eX0_who_64 (fm_cons eX0_who_66 (fm_cons eX0_who_69 (fm_cons eX0_who_71 (fm_cons eX0_who_72 (fm_cons eX0_who_74 (fm_cons eX0_who_75 (fm_cons eX0_who_76 (fm_cons eX0_who_77 (fm_cons eX0_who_79 (fm_cons eX0_who_81 (fm_cons eX0_who_82 (fm_cons eX0_who_85 (fm_cons eX0_who_86 (fm_cons eX0_who_89 (fm_cons eX0_who_90 (fm_cons eX0_who_93 (fm_cons eX0_who_94 (fm_cons eX0_who_97 (fm_cons eX0_who_100 (fm_cons eX0_who_101 (fm_cons eX0_who_102 (fm_cons eX0_who_105 (fm_cons eX0_who_106 (fm_cons eX0_who_107 (fm_cons eX0_who_108 (fm_cons eX0_who_110 (fm_cons eX0_who_113 (fm_cons eX0_who_115 (fm_cons eX0_who_116 (fm_cons eX0_who_117 (fm_cons eX0_who_119 (fm_cons eX0_who_122 (fm_cons eX0_who_125 (fm_cons eX0_who_126 (fm_cons eX0_who_128 (fm_cons eX0_who_129 (fm_cons eX0_who_132 (fm_cons eX0_who_133 (fm_cons eX0_who_134 (fm_cons eX0_who_136 (fm_cons eX0_who_139 (fm_cons eX0_who_142 (fm_cons eX0_who_143 (fm_cons eX0_who_145 (fm_cons eX0_who_148 (fm_cons eX0_who_149 (fm_cons eX0_who_151 (fm_cons eX0_who_152 (fm_cons eX0_who_154 (fm_cons eX0_who_157 (fm_nil)))))))))))))))))))))))))))))))))))))))))))))))))))))))))))))))))))))))))))))))))
theorem zX0_who : SwZ nX0_who (Mt mX0_who 10) := wholeZ (mi := nX0_who) (cd := mX0_who) aX0_who rfl (HdZ.tab (mi := nX0_who) (fun c => if c = 74 then [10] else []) rfl (fm_cons (⟨by decide, "FishReaders$Finding", q346, fm_cons ⟨"FishReaders$Finding", Or.inl ⟨9, _, rfl, rfl, rfl⟩, Or.inl rfl⟩ fm_nil⟩) (fm_nil)))
abbrev nX0_paste : MI := (cX0_paste, 9, (some (.int)), RX0, "paste", [(34, 107, 108, 74)], 7, 186)
theorem hyX0_paste : yX0_paste.cls ≠ "java/lang/invoke/MethodHandle" ∧ yX0_paste.cls ≠ "java/lang/invoke/VarHandle" := by decide +kernel
theorem pnX0_paste : (parseMethodDescriptor yX0_paste.desc).map (fun d => d.parameters.length) = some 5 := by decide +kernel
theorem wdX0_paste : CdW yX0_paste (nX0_paste) := ⟨Or.inr q1057, rfl, rfl, plainFor_of_name (by decide +kernel)⟩
theorem eX0_paste_0 : SiZ nX0_paste 0 (i_aload 0 1) := s_aload_n dX0_paste_0 rfl
theorem eX0_paste_1 : SiZ nX0_paste 1 (i_iload 1 2) := s_iload_n dX0_paste_1 rfl
theorem eX0_paste_2 : ScZ nX0_paste 2 (c_V 1 5 2 1 (Mt mX0_isBook 2)) := e_V (mi := nX0_paste) (mi' := nX0_isBook) (len := 3) (fun h b as rest hk hl => cs_V (ci := 0) (mi := nX0_paste) (pc := 2) (y := yX0_isBook) (idx := 206) dX0_paste_2 q892 q894 qs23 rfl hk hyX0_isBook (sigC q895) pnX0_isBook hl) wdX0_isBook zX0_isBook (Nat.le_of_ble_eq_true rfl) (Nat.le_of_ble_eq_true rfl)
theorem eX0_paste_5 : SiZ nX0_paste 5 (i_if (fun x => x = 0) 31 8) := s_if_eq dX0_paste_5 (by decide)
theorem eX0_paste_8 : SiZ nX0_paste 8 (i_aload 0 9) := s_aload_n dX0_paste_8 rfl
theorem eX0_paste_9 : SiZ nX0_paste 9 (i_iload 2 10) := s_iload_n dX0_paste_9 rfl
theorem eX0_paste_10 : ScZ nX0_paste 10 (c_V 1 13 2 1 (Mt mX0_isBook 2)) := e_V (mi := nX0_paste) (mi' := nX0_isBook) (len := 3) (fun h b as rest hk hl => cs_V (ci := 0) (mi := nX0_paste) (pc := 10) (y := yX0_isBook) (idx := 206) dX0_paste_10 q892 q894 qs23 rfl hk hyX0_isBook (sigC q895) pnX0_isBook hl) wdX0_isBook zX0_isBook (Nat.le_of_ble_eq_true rfl) (Nat.le_of_ble_eq_true rfl)
theorem eX0_paste_13 : SiZ nX0_paste 13 (i_if (fun x => x = 0) 31 16) := s_if_eq dX0_paste_13 (by decide)
theorem eX0_paste_16 : SiZ nX0_paste 16 (i_iload 3 17) := s_iload_n dX0_paste_16 rfl
theorem eX0_paste_17 : ScZ nX0_paste 17 (c_S 1 20 1 (Mt mX0_isRow 1)) := e_S (mi := nX0_paste) (mi' := nX0_isRow) (len := 3) (fun h as rest hl => cs_S (mi := nX0_paste) (pc := 17) (y := yX0_isRow) (idx := 94) dX0_paste_17 q347 q348 q77 q349 hyX0_isRow pnX0_isRow hl) wdX0_isRow zX0_isRow (Nat.le_of_ble_eq_true rfl) (Nat.le_of_ble_eq_true rfl)
theorem eX0_paste_20 : SiZ nX0_paste 20 (i_if (fun x => x = 0) 31 23) := s_if_eq dX0_paste_20 (by decide)
theorem eX0_paste_23 : SiZ nX0_paste 23 (i_iload 5 25) := s_iload dX0_paste_23
theorem eX0_paste_25 : ScZ nX0_paste 25 (c_S 1 28 1 (Mt mX0_isShort 1)) := e_S (mi := nX0_paste) (mi' := nX0_isShort) (len := 3) (fun h as rest hl => cs_S (mi := nX0_paste) (pc := 25) (y := yX0_isShort) (idx := 302) dX0_paste_25 q1000 q1001 q77 q1002 hyX0_isShort pnX0_isShort hl) wdX0_isShort zX0_isShort (Nat.le_of_ble_eq_true rfl) (Nat.le_of_ble_eq_true rfl)
theorem eX0_paste_28 : SiZ nX0_paste 28 (i_if (fun x => ¬ x = 0) 34 31) := s_if_ne dX0_paste_28 (by decide)
theorem eX0_paste_31 : SiZ nX0_paste 31 (i_push (.int (-1000001)) 33) := s_ldc dX0_paste_31 q355
theorem eX0_paste_33 : SiZ nX0_paste 33 i_iret := s_iret dX0_paste_33 rfl
theorem eX0_paste_34 : SiZ nX0_paste 34 (i_aload 0 35) := s_aload_n dX0_paste_34 rfl
theorem eX0_paste_35 : SiZ nX0_paste 35 (i_iload 3 36) := s_iload_n dX0_paste_35 rfl
theorem eX0_paste_36 : ScZ nX0_paste 36 (c_V 1 39 2 1 (Mt mX0_rowAt 2)) := e_V (mi := nX0_paste) (mi' := nX0_rowAt) (len := 3) (fun h b as rest hk hl => cs_V (ci := 0) (mi := nX0_paste) (pc := 36) (y := yX0_rowAt) (idx := 112) dX0_paste_36 q451 q453 qs3 rfl hk hyX0_rowAt (sigC q454) pnX0_rowAt hl) wdX0_rowAt zX0_rowAt (Nat.le_of_ble_eq_true rfl) (Nat.le_of_ble_eq_true rfl)
theorem eX0_paste_39 : SiZ nX0_paste 39 (i_iload 4 41) := s_iload dX0_paste_39
theorem eX0_paste_41 : SiZ nX0_paste 41 (i_iload 5 43) := s_iload dX0_paste_41
theorem eX0_paste_43 : ScZ nX0_paste 43 (c_V 2 46 4 11 (Mt mX11_row 4)) := e_V (mi := nX0_paste) (mi' := nX11_row) (len := 3) (fun h b as rest hk hl => cs_V (ci := 10) (mi := nX0_paste) (pc := 43) (y := yX11_row) (idx := 322) dX0_paste_43 q1040 q1041 q1042 rfl hk hyX11_row (sigC q1043) pnX11_row hl) wdX11_row zX11_row (Nat.le_of_ble_eq_true rfl) (Nat.le_of_ble_eq_true rfl)
theorem eX0_paste_46 : SiZ nX0_paste 46 (i_astore 6 48) := s_astore dX0_paste_46
theorem eX0_paste_48 : SiZ nX0_paste 48 (i_push (.int 0) 49) := s_iconst dX0_paste_48 (by decide)
theorem eX0_paste_49 : SiZ nX0_paste 49 (i_istore 7 51) := s_istore dX0_paste_49
theorem eX0_paste_51 : SiZ nX0_paste 51 (i_push (.int 0) 52) := s_iconst dX0_paste_51 (by decide)
theorem eX0_paste_52 : SiZ nX0_paste 52 (i_istore 8 54) := s_istore dX0_paste_52
theorem eX0_paste_54 : SiZ nX0_paste 54 (i_iload 8 56) := s_iload dX0_paste_54
theorem eX0_paste_56 : SiZ nX0_paste 56 (i_push (.int 9) 58) := s_bipush dX0_paste_56 (by decide)
theorem eX0_paste_58 : SiZ nX0_paste 58 (i_icmp (fun x y => y < x) 101 61) := s_icmp_gt dX0_paste_58 (by decide)
theorem eX0_paste_61 : SiZ nX0_paste 61 (i_aload 0 62) := s_aload_n dX0_paste_61 rfl
theorem eX0_paste_62 : ScZ nX0_paste 62 (c_V 0 65 1 1 (Mt mX0_tried 1)) := e_V (mi := nX0_paste) (mi' := nX0_tried) (len := 3) (fun h b as rest hk hl => cs_V (ci := 0) (mi := nX0_paste) (pc := 62) (y := yX0_tried) (idx := 275) dX0_paste_62 q964 q966 qs26 rfl hk hyX0_tried (sigC q967) pnX0_tried hl) wdX0_tried zX0_tried (Nat.le_of_ble_eq_true rfl) (Nat.le_of_ble_eq_true rfl)
theorem eX0_paste_65 : SiZ nX0_paste 65 (i_getf 41 [2] 68) := s_getf dX0_paste_65 (fm_cons (⟨_, _, _, _, _, _, rfl, fkX0_246_2⟩) (fm_nil))
theorem eX0_paste_68 : SiZ nX0_paste 68 (i_iload 1 69) := s_iload_n dX0_paste_68 rfl
theorem eX0_paste_69 : SiZ nX0_paste 69 (i_iload 8 71) := s_iload dX0_paste_69
theorem eX0_paste_71 : SiZ nX0_paste 71 (i_iast 51 (fun x => x) 72) := s_ast (j := 0) (by decide) (fun _ => rfl) dX0_paste_71 (Or.inl ⟨rfl, rfl, rfl⟩)
theorem eX0_paste_72 : SiZ nX0_paste 72 (i_iload 7 74) := s_iload dX0_paste_72
theorem eX0_paste_74 : SiZ nX0_paste 74 (i_aload 0 75) := s_aload_n dX0_paste_74 rfl
theorem eX0_paste_75 : SiZ nX0_paste 75 (i_iload 2 76) := s_iload_n dX0_paste_75 rfl
theorem eX0_paste_76 : SiZ nX0_paste 76 (i_aload 6 78) := s_aload dX0_paste_76
theorem eX0_paste_78 : ScZ nX0_paste 78 (c_V 2 81 5 1 (Mt mX0_isSeen 5)) := e_V (mi := nX0_paste) (mi' := nX0_isSeen) (len := 3) (fun h b as rest hk hl => cs_V (ci := 0) (mi := nX0_paste) (pc := 78) (y := yX0_isSeen) (idx := 330) dX0_paste_78 q1050 q1052 qs32 rfl hk hyX0_isSeen (sigC q1053) pnX0_isSeen hl) wdX0_isSeen zX0_isSeen (Nat.le_of_ble_eq_true rfl) (Nat.le_of_ble_eq_true rfl)
theorem eX0_paste_81 : SiZ nX0_paste 81 (i_if (fun x => x = 0) 91 84) := s_if_eq dX0_paste_81 (by decide)
theorem eX0_paste_84 : SiZ nX0_paste 84 (i_push (.int 1) 85) := s_iconst dX0_paste_84 (by decide)
theorem eX0_paste_85 : SiZ nX0_paste 85 (i_iload 8 87) := s_iload dX0_paste_85
theorem eX0_paste_87 : SiZ nX0_paste 87 (i_bin (fun x y => x <<< (y &&& 31)) 88) := s_ishl dX0_paste_87
theorem eX0_paste_88 : SiZ nX0_paste 88 (i_goto 92) := s_goto dX0_paste_88 (by decide)
theorem eX0_paste_91 : SiZ nX0_paste 91 (i_push (.int 0) 92) := s_iconst dX0_paste_91 (by decide)
theorem eX0_paste_92 : SiZ nX0_paste 92 (i_bin (fun x y => x ||| y) 93) := s_ior dX0_paste_92
theorem eX0_paste_93 : SiZ nX0_paste 93 (i_istore 7 95) := s_istore dX0_paste_93
theorem eX0_paste_95 : SiZ nX0_paste 95 (i_iinc 8 1 98) := s_iinc dX0_paste_95 (by decide)
theorem eX0_paste_98 : SiZ nX0_paste 98 (i_goto 54) := s_goto dX0_paste_98 (by decide)
theorem eX0_paste_101 : SiZ nX0_paste 101 (i_aload 0 102) := s_aload_n dX0_paste_101 rfl
theorem eX0_paste_102 : SiZ nX0_paste 102 (i_iload 7 104) := s_iload dX0_paste_102
theorem eX0_paste_104 : ScZ nX0_paste 104 (c_V 1 107 2 1 (Mt mX0_well 2)) := e_V (mi := nX0_paste) (mi' := nX0_well) (len := 3) (fun h b as rest hk hl => cs_V (ci := 0) (mi := nX0_paste) (pc := 104) (y := yX0_well) (idx := 104) dX0_paste_104 q438 q440 qs1 rfl hk hyX0_well (sigC q441) pnX0_well hl) wdX0_well zX0_well (Nat.le_of_ble_eq_true rfl) (Nat.le_of_ble_eq_true rfl)
theorem eX0_paste_107 : SiZ nX0_paste 107 i_iret := s_iret dX0_paste_107 rfl
theorem eX0_paste_108 : SiZ nX0_paste 108 (i_astore 6 110) := s_astore dX0_paste_108
theorem eX0_paste_110 : SiZ nX0_paste 110 (i_aload 0 111) := s_aload_n dX0_paste_110 rfl
theorem eX0_paste_111 : SiZ nX0_paste 111 (i_aload 6 113) := s_aload dX0_paste_111
theorem eX0_paste_113 : ScZ nX0_paste 113 (c_V 1 116 2 1 (Mt mX0_found 2)) := e_V (mi := nX0_paste) (mi' := nX0_found) (len := 3) (fun h b as rest hk hl => cs_V (ci := 0) (mi := nX0_paste) (pc := 113) (y := yX0_found) (idx := 108) dX0_paste_113 q442 q444 qs2 rfl hk hyX0_found (sigC q445) pnX0_found hl) wdX0_found zX0_found (Nat.le_of_ble_eq_true rfl) (Nat.le_of_ble_eq_true rfl)
theorem eX0_paste_116 : SiZ nX0_paste 116 i_iret := s_iret dX0_paste_116 rfl
theorem aX0_paste : ∀ x ∈ mX0_paste.1, EnZ nX0_paste x := fm_cons eX0_paste_0 (fm_cons eX0_paste_1 (fm_cons eX0_paste_2 (fm_cons eX0_paste_5 (fm_cons eX0_paste_8 (fm_cons eX0_paste_9 (fm_cons eX0_paste_10 (fm_cons eX0_paste_13 (fm_cons eX0_paste_16 (fm_cons eX0_paste_17 (fm_cons eX0_paste_20 (fm_cons eX0_paste_23 (fm_cons eX0_paste_25 (fm_cons eX0_paste_28 (fm_cons eX0_paste_31 (fm_cons eX0_paste_33 (fm_cons eX0_paste_34 (fm_cons eX0_paste_35 (fm_cons eX0_paste_36 (fm_cons eX0_paste_39 (fm_cons eX0_paste_41 (fm_cons eX0_paste_43 (fm_cons eX0_paste_46 (fm_cons eX0_paste_48 (fm_cons eX0_paste_49 (fm_cons eX0_paste_51 (fm_cons eX0_paste_52 (fm_cons eX0_paste_54 (fm_cons eX0_paste_56 (fm_cons eX0_paste_58 (fm_cons eX0_paste_61 (fm_cons eX0_paste_62 (fm_cons eX0_paste_65 (fm_cons eX0_paste_68 (fm_cons eX0_paste_69 (fm_cons eX0_paste_71 (fm_cons eX0_paste_72 (fm_cons eX0_paste_74 (fm_cons eX0_paste_75 (fm_cons eX0_paste_76 (fm_cons eX0_paste_78 (fm_cons eX0_paste_81 (fm_cons eX0_paste_84 (fm_cons eX0_paste_85 (fm_cons eX0_paste_87 (fm_cons eX0_paste_88 (fm_cons eX0_paste_91 (fm_cons eX0_paste_92 (fm_cons eX0_paste_93 (fm_cons eX0_paste_95 (fm_cons eX0_paste_98 (fm_cons eX0_paste_101 (fm_cons eX0_paste_102 (fm_cons eX0_paste_104 (fm_cons eX0_paste_107 (fm_cons eX0_paste_108 (fm_cons eX0_paste_110 (fm_cons eX0_paste_111 (fm_cons eX0_paste_113 (fm_cons eX0_paste_116 (fm_nil))))))))))))))))))))))))))))))))))))))))))))))))))))))))))))
theorem zX0_paste : SwZ nX0_paste (Mt mX0_paste 9) := wholeZ (mi := nX0_paste) (cd := mX0_paste) aX0_paste rfl (HdZ.tab (mi := nX0_paste) (fun c => if c = 74 then [10] else []) rfl (fm_cons (⟨by decide, "FishReaders$Finding", q346, fm_cons ⟨"FishReaders$Finding", Or.inl ⟨9, _, rfl, rfl, rfl⟩, Or.inl rfl⟩ fm_nil⟩) (fm_nil)))
abbrev nX0_hungers : MI := (cX0_hungers, 8, (some (.int)), RX0, "hungers", [(26, 96, 97, 74)], 7, 186)
theorem hyX0_hungers : yX0_hungers.cls ≠ "java/lang/invoke/MethodHandle" ∧ yX0_hungers.cls ≠ "java/lang/invoke/VarHandle" := by decide +kernel
theorem pnX0_hungers : (parseMethodDescriptor yX0_hungers.desc).map (fun d => d.parameters.length) = some 4 := by decide +kernel
theorem wdX0_hungers : CdW yX0_hungers (nX0_hungers) := ⟨Or.inr q1061, rfl, rfl, plainFor_of_name (by decide +kernel)⟩
theorem eX0_hungers_0 : SiZ nX0_hungers 0 (i_aload 0 1) := s_aload_n dX0_hungers_0 rfl
theorem eX0_hungers_1 : SiZ nX0_hungers 1 (i_iload 1 2) := s_iload_n dX0_hungers_1 rfl
theorem eX0_hungers_2 : ScZ nX0_hungers 2 (c_V 1 5 2 1 (Mt mX0_isBook 2)) := e_V (mi := nX0_hungers) (mi' := nX0_isBook) (len := 3) (fun h b as rest hk hl => cs_V (ci := 0) (mi := nX0_hungers) (pc := 2) (y := yX0_isBook) (idx := 206) dX0_hungers_2 q892 q894 qs23 rfl hk hyX0_isBook (sigC q895) pnX0_isBook hl) wdX0_isBook zX0_isBook (Nat.le_of_ble_eq_true rfl) (Nat.le_of_ble_eq_true rfl)
theorem eX0_hungers_5 : SiZ nX0_hungers 5 (i_if (fun x => x = 0) 23 8) := s_if_eq dX0_hungers_5 (by decide)
theorem eX0_hungers_8 : SiZ nX0_hungers 8 (i_iload 2 9) := s_iload_n dX0_hungers_8 rfl
theorem eX0_hungers_9 : ScZ nX0_hungers 9 (c_S 1 12 1 (Mt mX0_isRow 1)) := e_S (mi := nX0_hungers) (mi' := nX0_isRow) (len := 3) (fun h as rest hl => cs_S (mi := nX0_hungers) (pc := 9) (y := yX0_isRow) (idx := 94) dX0_hungers_9 q347 q348 q77 q349 hyX0_isRow pnX0_isRow hl) wdX0_isRow zX0_isRow (Nat.le_of_ble_eq_true rfl) (Nat.le_of_ble_eq_true rfl)
theorem eX0_hungers_12 : SiZ nX0_hungers 12 (i_if (fun x => x = 0) 23 15) := s_if_eq dX0_hungers_12 (by decide)
theorem eX0_hungers_15 : SiZ nX0_hungers 15 (i_iload 4 17) := s_iload dX0_hungers_15
theorem eX0_hungers_17 : ScZ nX0_hungers 17 (c_S 1 20 1 (Mt mX0_isShort 1)) := e_S (mi := nX0_hungers) (mi' := nX0_isShort) (len := 3) (fun h as rest hl => cs_S (mi := nX0_hungers) (pc := 17) (y := yX0_isShort) (idx := 302) dX0_hungers_17 q1000 q1001 q77 q1002 hyX0_isShort pnX0_isShort hl) wdX0_isShort zX0_isShort (Nat.le_of_ble_eq_true rfl) (Nat.le_of_ble_eq_true rfl)
theorem eX0_hungers_20 : SiZ nX0_hungers 20 (i_if (fun x => ¬ x = 0) 26 23) := s_if_ne dX0_hungers_20 (by decide)
theorem eX0_hungers_23 : SiZ nX0_hungers 23 (i_push (.int (-1000001)) 25) := s_ldc dX0_hungers_23 q355
theorem eX0_hungers_25 : SiZ nX0_hungers 25 i_iret := s_iret dX0_hungers_25 rfl
theorem eX0_hungers_26 : SiZ nX0_hungers 26 (i_aload 0 27) := s_aload_n dX0_hungers_26 rfl
theorem eX0_hungers_27 : SiZ nX0_hungers 27 (i_iload 2 28) := s_iload_n dX0_hungers_27 rfl
theorem eX0_hungers_28 : ScZ nX0_hungers 28 (c_V 1 31 2 1 (Mt mX0_rowAt 2)) := e_V (mi := nX0_hungers) (mi' := nX0_rowAt) (len := 3) (fun h b as rest hk hl => cs_V (ci := 0) (mi := nX0_hungers) (pc := 28) (y := yX0_rowAt) (idx := 112) dX0_hungers_28 q451 q453 qs3 rfl hk hyX0_rowAt (sigC q454) pnX0_rowAt hl) wdX0_rowAt zX0_rowAt (Nat.le_of_ble_eq_true rfl) (Nat.le_of_ble_eq_true rfl)
theorem eX0_hungers_31 : SiZ nX0_hungers 31 (i_iload 3 32) := s_iload_n dX0_hungers_31 rfl
theorem eX0_hungers_32 : SiZ nX0_hungers 32 (i_iload 4 34) := s_iload dX0_hungers_32
theorem eX0_hungers_34 : ScZ nX0_hungers 34 (c_V 2 37 4 11 (Mt mX11_row 4)) := e_V (mi := nX0_hungers) (mi' := nX11_row) (len := 3) (fun h b as rest hk hl => cs_V (ci := 10) (mi := nX0_hungers) (pc := 34) (y := yX11_row) (idx := 322) dX0_hungers_34 q1040 q1041 q1042 rfl hk hyX11_row (sigC q1043) pnX11_row hl) wdX11_row zX11_row (Nat.le_of_ble_eq_true rfl) (Nat.le_of_ble_eq_true rfl)
theorem eX0_hungers_37 : SiZ nX0_hungers 37 (i_astore 5 39) := s_astore dX0_hungers_37
theorem eX0_hungers_39 : SiZ nX0_hungers 39 (i_push (.int 0) 40) := s_iconst dX0_hungers_39 (by decide)
theorem eX0_hungers_40 : SiZ nX0_hungers 40 (i_istore 6 42) := s_istore dX0_hungers_40
theorem eX0_hungers_42 : SiZ nX0_hungers 42 (i_push (.int 1) 43) := s_iconst dX0_hungers_42 (by decide)
theorem eX0_hungers_43 : SiZ nX0_hungers 43 (i_istore 7 45) := s_istore dX0_hungers_43
theorem eX0_hungers_45 : SiZ nX0_hungers 45 (i_iload 7 47) := s_iload dX0_hungers_45
theorem eX0_hungers_47 : SiZ nX0_hungers 47 (i_push (.int 9) 49) := s_bipush dX0_hungers_47 (by decide)
theorem eX0_hungers_49 : SiZ nX0_hungers 49 (i_icmp (fun x y => y < x) 90 52) := s_icmp_gt dX0_hungers_49 (by decide)
theorem eX0_hungers_52 : SiZ nX0_hungers 52 (i_aload 0 53) := s_aload_n dX0_hungers_52 rfl
theorem eX0_hungers_53 : ScZ nX0_hungers 53 (c_V 0 56 1 1 (Mt mX0_tried 1)) := e_V (mi := nX0_hungers) (mi' := nX0_tried) (len := 3) (fun h b as rest hk hl => cs_V (ci := 0) (mi := nX0_hungers) (pc := 53) (y := yX0_tried) (idx := 275) dX0_hungers_53 q964 q966 qs26 rfl hk hyX0_tried (sigC q967) pnX0_tried hl) wdX0_tried zX0_tried (Nat.le_of_ble_eq_true rfl) (Nat.le_of_ble_eq_true rfl)
theorem eX0_hungers_56 : SiZ nX0_hungers 56 (i_iload 7 58) := s_iload dX0_hungers_56
theorem eX0_hungers_58 : SiZ nX0_hungers 58 (i_putI 32 [2] 61) := s_putI dX0_hungers_58 (fm_cons (⟨_, _, _, _, _, _, rfl, ⟨fkX0_174_2, ⟨_, q157, Or.inl rfl⟩, Or.inl rfl⟩, rfl⟩) (fm_nil))
theorem eX0_hungers_61 : SiZ nX0_hungers 61 (i_iload 6 63) := s_iload dX0_hungers_61
theorem eX0_hungers_63 : SiZ nX0_hungers 63 (i_aload 0 64) := s_aload_n dX0_hungers_63 rfl
theorem eX0_hungers_64 : SiZ nX0_hungers 64 (i_iload 1 65) := s_iload_n dX0_hungers_64 rfl
theorem eX0_hungers_65 : SiZ nX0_hungers 65 (i_aload 5 67) := s_aload dX0_hungers_65
theorem eX0_hungers_67 : ScZ nX0_hungers 67 (c_V 2 70 5 1 (Mt mX0_isSeen 5)) := e_V (mi := nX0_hungers) (mi' := nX0_isSeen) (len := 3) (fun h b as rest hk hl => cs_V (ci := 0) (mi := nX0_hungers) (pc := 67) (y := yX0_isSeen) (idx := 330) dX0_hungers_67 q1050 q1052 qs32 rfl hk hyX0_isSeen (sigC q1053) pnX0_isSeen hl) wdX0_isSeen zX0_isSeen (Nat.le_of_ble_eq_true rfl) (Nat.le_of_ble_eq_true rfl)
theorem eX0_hungers_70 : SiZ nX0_hungers 70 (i_if (fun x => x = 0) 80 73) := s_if_eq dX0_hungers_70 (by decide)
theorem eX0_hungers_73 : SiZ nX0_hungers 73 (i_push (.int 1) 74) := s_iconst dX0_hungers_73 (by decide)
theorem eX0_hungers_74 : SiZ nX0_hungers 74 (i_iload 7 76) := s_iload dX0_hungers_74
theorem eX0_hungers_76 : SiZ nX0_hungers 76 (i_bin (fun x y => x <<< (y &&& 31)) 77) := s_ishl dX0_hungers_76
theorem eX0_hungers_77 : SiZ nX0_hungers 77 (i_goto 81) := s_goto dX0_hungers_77 (by decide)
theorem eX0_hungers_80 : SiZ nX0_hungers 80 (i_push (.int 0) 81) := s_iconst dX0_hungers_80 (by decide)
theorem eX0_hungers_81 : SiZ nX0_hungers 81 (i_bin (fun x y => x ||| y) 82) := s_ior dX0_hungers_81
theorem eX0_hungers_82 : SiZ nX0_hungers 82 (i_istore 6 84) := s_istore dX0_hungers_82
theorem eX0_hungers_84 : SiZ nX0_hungers 84 (i_iinc 7 1 87) := s_iinc dX0_hungers_84 (by decide)
theorem eX0_hungers_87 : SiZ nX0_hungers 87 (i_goto 45) := s_goto dX0_hungers_87 (by decide)
theorem eX0_hungers_90 : SiZ nX0_hungers 90 (i_aload 0 91) := s_aload_n dX0_hungers_90 rfl
theorem eX0_hungers_91 : SiZ nX0_hungers 91 (i_iload 6 93) := s_iload dX0_hungers_91
theorem eX0_hungers_93 : ScZ nX0_hungers 93 (c_V 1 96 2 1 (Mt mX0_well 2)) := e_V (mi := nX0_hungers) (mi' := nX0_well) (len := 3) (fun h b as rest hk hl => cs_V (ci := 0) (mi := nX0_hungers) (pc := 93) (y := yX0_well) (idx := 104) dX0_hungers_93 q438 q440 qs1 rfl hk hyX0_well (sigC q441) pnX0_well hl) wdX0_well zX0_well (Nat.le_of_ble_eq_true rfl) (Nat.le_of_ble_eq_true rfl)
theorem eX0_hungers_96 : SiZ nX0_hungers 96 i_iret := s_iret dX0_hungers_96 rfl
theorem eX0_hungers_97 : SiZ nX0_hungers 97 (i_astore 5 99) := s_astore dX0_hungers_97
theorem eX0_hungers_99 : SiZ nX0_hungers 99 (i_aload 0 100) := s_aload_n dX0_hungers_99 rfl
theorem eX0_hungers_100 : SiZ nX0_hungers 100 (i_aload 5 102) := s_aload dX0_hungers_100
theorem eX0_hungers_102 : ScZ nX0_hungers 102 (c_V 1 105 2 1 (Mt mX0_found 2)) := e_V (mi := nX0_hungers) (mi' := nX0_found) (len := 3) (fun h b as rest hk hl => cs_V (ci := 0) (mi := nX0_hungers) (pc := 102) (y := yX0_found) (idx := 108) dX0_hungers_102 q442 q444 qs2 rfl hk hyX0_found (sigC q445) pnX0_found hl) wdX0_found zX0_found (Nat.le_of_ble_eq_true rfl) (Nat.le_of_ble_eq_true rfl)
theorem eX0_hungers_105 : SiZ nX0_hungers 105 i_iret := s_iret dX0_hungers_105 rfl
theorem aX0_hungers : ∀ x ∈ mX0_hungers.1, EnZ nX0_hungers x := fm_cons eX0_hungers_0 (fm_cons eX0_hungers_1 (fm_cons eX0_hungers_2 (fm_cons eX0_hungers_5 (fm_cons eX0_hungers_8 (fm_cons eX0_hungers_9 (fm_cons eX0_hungers_12 (fm_cons eX0_hungers_15 (fm_cons eX0_hungers_17 (fm_cons eX0_hungers_20 (fm_cons eX0_hungers_23 (fm_cons eX0_hungers_25 (fm_cons eX0_hungers_26 (fm_cons eX0_hungers_27 (fm_cons eX0_hungers_28 (fm_cons eX0_hungers_31 (fm_cons eX0_hungers_32 (fm_cons eX0_hungers_34 (fm_cons eX0_hungers_37 (fm_cons eX0_hungers_39 (fm_cons eX0_hungers_40 (fm_cons eX0_hungers_42 (fm_cons eX0_hungers_43 (fm_cons eX0_hungers_45 (fm_cons eX0_hungers_47 (fm_cons eX0_hungers_49 (fm_cons eX0_hungers_52 (fm_cons eX0_hungers_53 (fm_cons eX0_hungers_56 (fm_cons eX0_hungers_58 (fm_cons eX0_hungers_61 (fm_cons eX0_hungers_63 (fm_cons eX0_hungers_64 (fm_cons eX0_hungers_65 (fm_cons eX0_hungers_67 (fm_cons eX0_hungers_70 (fm_cons eX0_hungers_73 (fm_cons eX0_hungers_74 (fm_cons eX0_hungers_76 (fm_cons eX0_hungers_77 (fm_cons eX0_hungers_80 (fm_cons eX0_hungers_81 (fm_cons eX0_hungers_82 (fm_cons eX0_hungers_84 (fm_cons eX0_hungers_87 (fm_cons eX0_hungers_90 (fm_cons eX0_hungers_91 (fm_cons eX0_hungers_93 (fm_cons eX0_hungers_96 (fm_cons eX0_hungers_97 (fm_cons eX0_hungers_99 (fm_cons eX0_hungers_100 (fm_cons eX0_hungers_102 (fm_cons eX0_hungers_105 (fm_nil))))))))))))))))))))))))))))))))))))))))))))))))))))))
theorem zX0_hungers : SwZ nX0_hungers (Mt mX0_hungers 8) := wholeZ (mi := nX0_hungers) (cd := mX0_hungers) aX0_hungers rfl (HdZ.tab (mi := nX0_hungers) (fun c => if c = 74 then [10] else []) rfl (fm_cons (⟨by decide, "FishReaders$Finding", q346, fm_cons ⟨"FishReaders$Finding", Or.inl ⟨9, _, rfl, rfl, rfl⟩, Or.inl rfl⟩ fm_nil⟩) (fm_nil)))
abbrev nX0_common : MI := (cX0_common, 10, (some (.long)), RX0, "common", [], 0, 0)
theorem hyX0_common : yX0_common.cls ≠ "java/lang/invoke/MethodHandle" ∧ yX0_common.cls ≠ "java/lang/invoke/VarHandle" := by decide +kernel
theorem pnX0_common : (parseMethodDescriptor yX0_common.desc).map (fun d => d.parameters.length) = some 2 := by decide +kernel
theorem wdX0_common : CdW yX0_common (nX0_common) := ⟨Or.inl ⟨q1070, rfl⟩, rfl, rfl, plainFor_of_name (by decide +kernel)⟩
theorem eX0_common_0 : SiZ nX0_common 0 (i_lload 0 1) := s_lload_n dX0_common_0 rfl
theorem eX0_common_1 : SiZ nX0_common 1 (i_lstore 4 3) := s_lstore dX0_common_1
theorem eX0_common_3 : SiZ nX0_common 3 (i_lload 2 4) := s_lload_n dX0_common_3 rfl
theorem eX0_common_4 : SiZ nX0_common 4 (i_lstore 6 6) := s_lstore dX0_common_4
theorem eX0_common_6 : SiZ nX0_common 6 (i_lload 6 8) := s_lload dX0_common_6
theorem eX0_common_8 : SiZ nX0_common 8 (i_push (.long 0) 9) := s_lconst dX0_common_8 (by decide)
theorem eX0_common_9 : SiZ nX0_common 9 (i_lcmp 10) := s_lcmp dX0_common_9
theorem eX0_common_10 : SiZ nX0_common 10 (i_if (fun x => x = 0) 31 13) := s_if_eq dX0_common_10 (by decide)
theorem eX0_common_13 : SiZ nX0_common 13 (i_lload 4 15) := s_lload dX0_common_13
theorem eX0_common_15 : SiZ nX0_common 15 (i_lload 6 17) := s_lload dX0_common_15
theorem eX0_common_17 : SiZ nX0_common 17 (i_lbing (fun x y => x - x / y * y) 18) := s_lrem dX0_common_17
theorem eX0_common_18 : SiZ nX0_common 18 (i_lstore 8 20) := s_lstore dX0_common_18
theorem eX0_common_20 : SiZ nX0_common 20 (i_lload 6 22) := s_lload dX0_common_20
theorem eX0_common_22 : SiZ nX0_common 22 (i_lstore 4 24) := s_lstore dX0_common_22
theorem eX0_common_24 : SiZ nX0_common 24 (i_lload 8 26) := s_lload dX0_common_24
theorem eX0_common_26 : SiZ nX0_common 26 (i_lstore 6 28) := s_lstore dX0_common_26
theorem eX0_common_28 : SiZ nX0_common 28 (i_goto 6) := s_goto dX0_common_28 (by decide)
theorem eX0_common_31 : SiZ nX0_common 31 (i_lload 4 33) := s_lload dX0_common_31
theorem eX0_common_33 : SiZ nX0_common 33 i_lret := s_lret dX0_common_33 rfl
theorem aX0_common : ∀ x ∈ mX0_common.1, EnZ nX0_common x := fm_cons eX0_common_0 (fm_cons eX0_common_1 (fm_cons eX0_common_3 (fm_cons eX0_common_4 (fm_cons eX0_common_6 (fm_cons eX0_common_8 (fm_cons eX0_common_9 (fm_cons eX0_common_10 (fm_cons eX0_common_13 (fm_cons eX0_common_15 (fm_cons eX0_common_17 (fm_cons eX0_common_18 (fm_cons eX0_common_20 (fm_cons eX0_common_22 (fm_cons eX0_common_24 (fm_cons eX0_common_26 (fm_cons eX0_common_28 (fm_cons eX0_common_31 (fm_cons eX0_common_33 (fm_nil)))))))))))))))))))
theorem zX0_common : SwZ nX0_common (Mt mX0_common 10) := wholeZ (mi := nX0_common) (cd := mX0_common) aX0_common rfl (HdZ.none rfl)
abbrev nX0_dark : MI := (cX0_dark, 14, (some (.long)), RX0, "dark", [], 7, 184)
theorem hyX0_dark : yX0_dark.cls ≠ "java/lang/invoke/MethodHandle" ∧ yX0_dark.cls ≠ "java/lang/invoke/VarHandle" := by decide +kernel
theorem pnX0_dark : (parseMethodDescriptor yX0_dark.desc).map (fun d => d.parameters.length) = some 4 := by decide +kernel
theorem wdX0_dark : CdW yX0_dark (nX0_dark) := ⟨Or.inl ⟨q1065, rfl⟩, rfl, rfl, plainFor_of_name (by decide +kernel)⟩
theorem eX0_dark_0 : SiZ nX0_dark 0 (i_aload 0 1) := s_aload_n dX0_dark_0 rfl
theorem eX0_dark_1 : SiZ nX0_dark 1 (i_iload 1 2) := s_iload_n dX0_dark_1 rfl
theorem eX0_dark_2 : ScZ nX0_dark 2 (c_V 1 5 2 1 (Mt mX0_isBook 2)) := e_V (mi := nX0_dark) (mi' := nX0_isBook) (len := 3) (fun h b as rest hk hl => cs_V (ci := 0) (mi := nX0_dark) (pc := 2) (y := yX0_isBook) (idx := 206) dX0_dark_2 q892 q894 qs23 rfl hk hyX0_isBook (sigC q895) pnX0_isBook hl) wdX0_isBook zX0_isBook (Nat.le_of_ble_eq_true rfl) (Nat.le_of_ble_eq_true rfl)
theorem eX0_dark_5 : SiZ nX0_dark 5 (i_if (fun x => x = 0) 35 8) := s_if_eq dX0_dark_5 (by decide)
theorem eX0_dark_8 : SiZ nX0_dark 8 (i_iload 2 9) := s_iload_n dX0_dark_8 rfl
theorem eX0_dark_9 : ScZ nX0_dark 9 (c_S 1 12 1 (Mt mX0_isFar 1)) := e_S (mi := nX0_dark) (mi' := nX0_isFar) (len := 3) (fun h as rest hl => cs_S (mi := nX0_dark) (pc := 9) (y := yX0_isFar) (idx := 272) dX0_dark_9 q960 q961 q77 q962 hyX0_isFar pnX0_isFar hl) wdX0_isFar zX0_isFar (Nat.le_of_ble_eq_true rfl) (Nat.le_of_ble_eq_true rfl)
theorem eX0_dark_12 : SiZ nX0_dark 12 (i_if (fun x => x = 0) 35 15) := s_if_eq dX0_dark_12 (by decide)
theorem eX0_dark_15 : SiZ nX0_dark 15 (i_iload 3 16) := s_iload_n dX0_dark_15 rfl
theorem eX0_dark_16 : SiZ nX0_dark 16 (i_i2l 17) := s_i2l dX0_dark_16
theorem eX0_dark_17 : SiZ nX0_dark 17 (i_push (.long 0) 18) := s_lconst dX0_dark_17 (by decide)
theorem eX0_dark_18 : SiZ nX0_dark 18 (i_push (.long 10) 21) := s_ldc2 dX0_dark_18 q1066
theorem eX0_dark_21 : ScZ nX0_dark 21 (c_S 3 24 6 (Mt mX0_isIn 6)) := e_S (mi := nX0_dark) (mi' := nX0_isIn) (len := 3) (fun h as rest hl => cs_S (mi := nX0_dark) (pc := 21) (y := yX0_isIn) (idx := 86) dX0_dark_21 q351 q352 q77 q353 hyX0_isIn pnX0_isIn hl) wdX0_isIn zX0_isIn (Nat.le_of_ble_eq_true rfl) (Nat.le_of_ble_eq_true rfl)
theorem eX0_dark_24 : SiZ nX0_dark 24 (i_if (fun x => x = 0) 35 27) := s_if_eq dX0_dark_24 (by decide)
theorem eX0_dark_27 : SiZ nX0_dark 27 (i_iload 4 29) := s_iload dX0_dark_27
theorem eX0_dark_29 : ScZ nX0_dark 29 (c_S 1 32 1 (Mt mX0_isHalf 1)) := e_S (mi := nX0_dark) (mi' := nX0_isHalf) (len := 3) (fun h as rest hl => cs_S (mi := nX0_dark) (pc := 29) (y := yX0_isHalf) (idx := 209) dX0_dark_29 q896 q897 q77 q898 hyX0_isHalf pnX0_isHalf hl) wdX0_isHalf zX0_isHalf (Nat.le_of_ble_eq_true rfl) (Nat.le_of_ble_eq_true rfl)
theorem eX0_dark_32 : SiZ nX0_dark 32 (i_if (fun x => ¬ x = 0) 39 35) := s_if_ne dX0_dark_32 (by decide)
theorem eX0_dark_35 : SiZ nX0_dark 35 (i_push (.long (-1000001)) 38) := s_ldc2 dX0_dark_35 q1067
theorem eX0_dark_38 : SiZ nX0_dark 38 i_lret := s_lret dX0_dark_38 rfl
theorem eX0_dark_39 : SiZ nX0_dark 39 (i_aload 0 40) := s_aload_n dX0_dark_39 rfl
theorem eX0_dark_40 : SiZ nX0_dark 40 (i_getf 11 [1] 43) := s_getf dX0_dark_40 (fm_cons (⟨_, _, _, _, _, _, rfl, fkX0_39_1⟩) (fm_nil))
theorem eX0_dark_43 : SiZ nX0_dark 43 (i_getf 46 [2] 46) := s_getf dX0_dark_43 (fm_cons (⟨_, _, _, _, _, _, rfl, fkX0_212_2⟩) (fm_nil))
theorem eX0_dark_46 : SiZ nX0_dark 46 (i_istore 5 48) := s_istore dX0_dark_46
theorem eX0_dark_48 : SiZ nX0_dark 48 (i_push (.long 0) 49) := s_lconst dX0_dark_48 (by decide)
theorem eX0_dark_49 : SiZ nX0_dark 49 (i_lstore 6 51) := s_lstore dX0_dark_49
theorem eX0_dark_51 : SiZ nX0_dark 51 (i_push (.long 1) 52) := s_lconst dX0_dark_51 (by decide)
theorem eX0_dark_52 : SiZ nX0_dark 52 (i_lstore 8 54) := s_lstore dX0_dark_52
theorem eX0_dark_54 : SiZ nX0_dark 54 (i_push (.int 0) 55) := s_iconst dX0_dark_54 (by decide)
theorem eX0_dark_55 : SiZ nX0_dark 55 (i_istore 10 57) := s_istore dX0_dark_55
theorem eX0_dark_57 : SiZ nX0_dark 57 (i_iload 10 59) := s_iload dX0_dark_57
theorem eX0_dark_59 : SiZ nX0_dark 59 (i_aload 0 60) := s_aload_n dX0_dark_59 rfl
theorem eX0_dark_60 : SiZ nX0_dark 60 (i_getf 11 [1] 63) := s_getf dX0_dark_60 (fm_cons (⟨_, _, _, _, _, _, rfl, fkX0_39_1⟩) (fm_nil))
theorem eX0_dark_63 : SiZ nX0_dark 63 (i_getf 36 [2] 66) := s_getf dX0_dark_63 (fm_cons (⟨_, _, _, _, _, _, rfl, fkX0_177_2⟩) (fm_nil))
theorem eX0_dark_66 : SiZ nX0_dark 66 (i_icmp (fun x y => y ≤ x) 97 69) := s_icmp_ge dX0_dark_66 (by decide)
theorem eX0_dark_69 : SiZ nX0_dark 69 (i_lload 8 71) := s_lload dX0_dark_69
theorem eX0_dark_71 : SiZ nX0_dark 71 (i_iload 5 73) := s_iload dX0_dark_71
theorem eX0_dark_73 : SiZ nX0_dark 73 (i_iload 10 75) := s_iload dX0_dark_73
theorem eX0_dark_75 : ScZ nX0_dark 75 (c_S 2 78 2 (Mt mX0_has 2)) := e_S (mi := nX0_dark) (mi' := nX0_has) (len := 3) (fun h as rest hl => cs_S (mi := nX0_dark) (pc := 75) (y := yX0_has) (idx := 294) dX0_dark_75 q1013 q1014 q77 q1015 hyX0_has pnX0_has hl) wdX0_has zX0_has (Nat.le_of_ble_eq_true rfl) (Nat.le_of_ble_eq_true rfl)
theorem eX0_dark_78 : SiZ nX0_dark 78 (i_if (fun x => x = 0) 87 81) := s_if_eq dX0_dark_78 (by decide)
theorem eX0_dark_81 : SiZ nX0_dark 81 (i_push (.long 10) 84) := s_ldc2 dX0_dark_81 q1066
theorem eX0_dark_84 : SiZ nX0_dark 84 (i_goto 88) := s_goto dX0_dark_84 (by decide)
theorem eX0_dark_87 : SiZ nX0_dark 87 (i_push (.long 1) 88) := s_lconst dX0_dark_87 (by decide)
theorem eX0_dark_88 : SiZ nX0_dark 88 (i_lbin (fun x y => x * y) 89) := s_lmul dX0_dark_88
theorem eX0_dark_89 : SiZ nX0_dark 89 (i_lstore 8 91) := s_lstore dX0_dark_89
theorem eX0_dark_91 : SiZ nX0_dark 91 (i_iinc 10 1 94) := s_iinc dX0_dark_91 (by decide)
theorem eX0_dark_94 : SiZ nX0_dark 94 (i_goto 57) := s_goto dX0_dark_94 (by decide)
theorem eX0_dark_97 : SiZ nX0_dark 97 (i_push (.int 0) 98) := s_iconst dX0_dark_97 (by decide)
theorem eX0_dark_98 : SiZ nX0_dark 98 (i_istore 10 100) := s_istore dX0_dark_98
theorem eX0_dark_100 : SiZ nX0_dark 100 (i_iload 10 102) := s_iload dX0_dark_100
theorem eX0_dark_102 : SiZ nX0_dark 102 (i_iload 5 104) := s_iload dX0_dark_102
theorem eX0_dark_104 : SiZ nX0_dark 104 (i_icmp (fun x y => y < x) 227 107) := s_icmp_gt dX0_dark_104 (by decide)
theorem eX0_dark_107 : SiZ nX0_dark 107 (i_iload 10 109) := s_iload dX0_dark_107
theorem eX0_dark_109 : SiZ nX0_dark 109 (i_iload 5 111) := s_iload dX0_dark_109
theorem eX0_dark_111 : SiZ nX0_dark 111 (i_push (.int (-1)) 112) := s_iconst dX0_dark_111 (by decide)
theorem eX0_dark_112 : SiZ nX0_dark 112 (i_bin (fun x y => x ^^^ y) 113) := s_ixor dX0_dark_112
theorem eX0_dark_113 : SiZ nX0_dark 113 (i_bin (fun x y => x &&& y) 114) := s_iand dX0_dark_113
theorem eX0_dark_114 : SiZ nX0_dark 114 (i_if (fun x => x = 0) 120 117) := s_if_eq dX0_dark_114 (by decide)
theorem eX0_dark_117 : SiZ nX0_dark 117 (i_goto 221) := s_goto dX0_dark_117 (by decide)
theorem eX0_dark_120 : SiZ nX0_dark 120 (i_push (.long 1) 121) := s_lconst dX0_dark_120 (by decide)
theorem eX0_dark_121 : SiZ nX0_dark 121 (i_lstore 11 123) := s_lstore dX0_dark_121
theorem eX0_dark_123 : SiZ nX0_dark 123 (i_push (.int 0) 124) := s_iconst dX0_dark_123 (by decide)
theorem eX0_dark_124 : SiZ nX0_dark 124 (i_istore 13 126) := s_istore dX0_dark_124
theorem eX0_dark_126 : SiZ nX0_dark 126 (i_iload 13 128) := s_iload dX0_dark_126
theorem eX0_dark_128 : SiZ nX0_dark 128 (i_aload 0 129) := s_aload_n dX0_dark_128 rfl
theorem eX0_dark_129 : SiZ nX0_dark 129 (i_getf 11 [1] 132) := s_getf dX0_dark_129 (fm_cons (⟨_, _, _, _, _, _, rfl, fkX0_39_1⟩) (fm_nil))
theorem eX0_dark_132 : SiZ nX0_dark 132 (i_getf 36 [2] 135) := s_getf dX0_dark_132 (fm_cons (⟨_, _, _, _, _, _, rfl, fkX0_177_2⟩) (fm_nil))
theorem eX0_dark_135 : SiZ nX0_dark 135 (i_icmp (fun x y => y ≤ x) 183 138) := s_icmp_ge dX0_dark_135 (by decide)
theorem eX0_dark_138 : SiZ nX0_dark 138 (i_lload 11 140) := s_lload dX0_dark_138
theorem eX0_dark_140 : SiZ nX0_dark 140 (i_iload 5 142) := s_iload dX0_dark_140
theorem eX0_dark_142 : SiZ nX0_dark 142 (i_iload 13 144) := s_iload dX0_dark_142
theorem eX0_dark_144 : ScZ nX0_dark 144 (c_S 2 147 2 (Mt mX0_has 2)) := e_S (mi := nX0_dark) (mi' := nX0_has) (len := 3) (fun h as rest hl => cs_S (mi := nX0_dark) (pc := 144) (y := yX0_has) (idx := 294) dX0_dark_144 q1013 q1014 q77 q1015 hyX0_has pnX0_has hl) wdX0_has zX0_has (Nat.le_of_ble_eq_true rfl) (Nat.le_of_ble_eq_true rfl)
theorem eX0_dark_147 : SiZ nX0_dark 147 (i_if (fun x => ¬ x = 0) 154 150) := s_if_ne dX0_dark_147 (by decide)
theorem eX0_dark_150 : SiZ nX0_dark 150 (i_push (.long 1) 151) := s_lconst dX0_dark_150 (by decide)
theorem eX0_dark_151 : SiZ nX0_dark 151 (i_goto 174) := s_goto dX0_dark_151 (by decide)
theorem eX0_dark_154 : SiZ nX0_dark 154 (i_iload 10 156) := s_iload dX0_dark_154
theorem eX0_dark_156 : SiZ nX0_dark 156 (i_iload 13 158) := s_iload dX0_dark_156
theorem eX0_dark_158 : ScZ nX0_dark 158 (c_S 2 161 2 (Mt mX0_has 2)) := e_S (mi := nX0_dark) (mi' := nX0_has) (len := 3) (fun h as rest hl => cs_S (mi := nX0_dark) (pc := 158) (y := yX0_has) (idx := 294) dX0_dark_158 q1013 q1014 q77 q1015 hyX0_has pnX0_has hl) wdX0_has zX0_has (Nat.le_of_ble_eq_true rfl) (Nat.le_of_ble_eq_true rfl)
theorem eX0_dark_161 : SiZ nX0_dark 161 (i_if (fun x => x = 0) 169 164) := s_if_eq dX0_dark_161 (by decide)
theorem eX0_dark_164 : SiZ nX0_dark 164 (i_iload 3 165) := s_iload_n dX0_dark_164 rfl
theorem eX0_dark_165 : SiZ nX0_dark 165 (i_i2l 166) := s_i2l dX0_dark_165
theorem eX0_dark_166 : SiZ nX0_dark 166 (i_goto 174) := s_goto dX0_dark_166 (by decide)
theorem eX0_dark_169 : SiZ nX0_dark 169 (i_push (.int 10) 171) := s_bipush dX0_dark_169 (by decide)
theorem eX0_dark_171 : SiZ nX0_dark 171 (i_iload 3 172) := s_iload_n dX0_dark_171 rfl
theorem eX0_dark_172 : SiZ nX0_dark 172 (i_bin (fun x y => x - y) 173) := s_isub dX0_dark_172
theorem eX0_dark_173 : SiZ nX0_dark 173 (i_i2l 174) := s_i2l dX0_dark_173
theorem eX0_dark_174 : SiZ nX0_dark 174 (i_lbin (fun x y => x * y) 175) := s_lmul dX0_dark_174
theorem eX0_dark_175 : SiZ nX0_dark 175 (i_lstore 11 177) := s_lstore dX0_dark_175
theorem eX0_dark_177 : SiZ nX0_dark 177 (i_iinc 13 1 180) := s_iinc dX0_dark_177 (by decide)
theorem eX0_dark_180 : SiZ nX0_dark 180 (i_goto 126) := s_goto dX0_dark_180 (by decide)
theorem eX0_dark_183 : SiZ nX0_dark 183 (i_aload 0 184) := s_aload_n dX0_dark_183 rfl
theorem eX0_dark_184 : ScZ nX0_dark 184 (c_V 0 187 1 1 (Mt mX0_tried 1)) := e_V (mi := nX0_dark) (mi' := nX0_tried) (len := 3) (fun h b as rest hk hl => cs_V (ci := 0) (mi := nX0_dark) (pc := 184) (y := yX0_tried) (idx := 275) dX0_dark_184 q964 q966 qs26 rfl hk hyX0_tried (sigC q967) pnX0_tried hl) wdX0_tried zX0_tried (Nat.le_of_ble_eq_true rfl) (Nat.le_of_ble_eq_true rfl)
theorem eX0_dark_187 : SiZ nX0_dark 187 (i_iload 5 189) := s_iload dX0_dark_187
theorem eX0_dark_189 : SiZ nX0_dark 189 (i_iload 10 191) := s_iload dX0_dark_189
theorem eX0_dark_191 : SiZ nX0_dark 191 (i_push (.int (-1)) 192) := s_iconst dX0_dark_191 (by decide)
theorem eX0_dark_192 : SiZ nX0_dark 192 (i_bin (fun x y => x ^^^ y) 193) := s_ixor dX0_dark_192
theorem eX0_dark_193 : SiZ nX0_dark 193 (i_bin (fun x y => x &&& y) 194) := s_iand dX0_dark_193
theorem eX0_dark_194 : SiZ nX0_dark 194 (i_putI 46 [2] 197) := s_putI dX0_dark_194 (fm_cons (⟨_, _, _, _, _, _, rfl, ⟨fkX0_212_2, ⟨_, q179, Or.inl rfl⟩, Or.inl rfl⟩, rfl⟩) (fm_nil))
theorem eX0_dark_197 : SiZ nX0_dark 197 (i_lload 6 199) := s_lload dX0_dark_197
theorem eX0_dark_199 : SiZ nX0_dark 199 (i_aload 0 200) := s_aload_n dX0_dark_199 rfl
theorem eX0_dark_200 : SiZ nX0_dark 200 (i_iload 2 201) := s_iload_n dX0_dark_200 rfl
theorem eX0_dark_201 : ScZ nX0_dark 201 (c_V 1 204 3 1 (Mt mX0_goOn 3)) := e_V (mi := nX0_dark) (mi' := nX0_goOn) (len := 3) (fun h b as rest hk hl => cs_V (ci := 0) (mi := nX0_dark) (pc := 201) (y := yX0_goOn) (idx := 278) dX0_dark_201 q968 q970 qs27 rfl hk hyX0_goOn (sigC q971) pnX0_goOn hl) wdX0_goOn zX0_goOn (Nat.le_of_ble_eq_true rfl) (Nat.le_of_ble_eq_true rfl)
theorem eX0_dark_204 : SiZ nX0_dark 204 (i_getf 39 [2] 207) := s_getf dX0_dark_204 (fm_cons (⟨_, _, _, _, _, _, rfl, fkX0_243_2⟩) (fm_nil))
theorem eX0_dark_207 : SiZ nX0_dark 207 (i_iload 1 208) := s_iload_n dX0_dark_207 rfl
theorem eX0_dark_208 : SiZ nX0_dark 208 (i_iald 51 209) := s_ald (j := 0) (by decide) (fun _ => rfl) dX0_dark_208 (Or.inl ⟨rfl, rfl⟩)
theorem eX0_dark_209 : SiZ nX0_dark 209 (i_if (fun x => x ≤ 0) 217 212) := s_if_le dX0_dark_209 (by decide)
theorem eX0_dark_212 : SiZ nX0_dark 212 (i_lload 11 214) := s_lload dX0_dark_212
theorem eX0_dark_214 : SiZ nX0_dark 214 (i_goto 218) := s_goto dX0_dark_214 (by decide)
theorem eX0_dark_217 : SiZ nX0_dark 217 (i_push (.long 0) 218) := s_lconst dX0_dark_217 (by decide)
theorem eX0_dark_218 : SiZ nX0_dark 218 (i_lbin (fun x y => x + y) 219) := s_ladd dX0_dark_218
theorem eX0_dark_219 : SiZ nX0_dark 219 (i_lstore 6 221) := s_lstore dX0_dark_219
theorem eX0_dark_221 : SiZ nX0_dark 221 (i_iinc 10 1 224) := s_iinc dX0_dark_221 (by decide)
theorem eX0_dark_224 : SiZ nX0_dark 224 (i_goto 100) := s_goto dX0_dark_224 (by decide)
theorem eX0_dark_227 : SiZ nX0_dark 227 (i_iload 4 229) := s_iload dX0_dark_227
theorem eX0_dark_229 : SiZ nX0_dark 229 (i_if (fun x => ¬ x = 0) 237 232) := s_if_ne dX0_dark_229 (by decide)
theorem eX0_dark_232 : SiZ nX0_dark 232 (i_lload 6 234) := s_lload dX0_dark_232
theorem eX0_dark_234 : SiZ nX0_dark 234 (i_goto 239) := s_goto dX0_dark_234 (by decide)
theorem eX0_dark_237 : SiZ nX0_dark 237 (i_lload 8 239) := s_lload dX0_dark_237
theorem eX0_dark_239 : SiZ nX0_dark 239 (i_lload 6 241) := s_lload dX0_dark_239
theorem eX0_dark_241 : SiZ nX0_dark 241 (i_lload 8 243) := s_lload dX0_dark_241
theorem eX0_dark_243 : ScZ nX0_dark 243 (c_S 2 246 10 (Mt mX0_common 10)) := e_S (mi := nX0_dark) (mi' := nX0_common) (len := 3) (fun h as rest hl => cs_S (mi := nX0_dark) (pc := 243) (y := yX0_common) (idx := 338) dX0_dark_243 q1068 q1069 q77 q1070 hyX0_common pnX0_common hl) wdX0_common zX0_common (Nat.le_of_ble_eq_true rfl) (Nat.le_of_ble_eq_true rfl)
theorem eX0_dark_246 : SiZ nX0_dark 246 (i_lbing (fun x y => x / y) 247) := s_ldiv dX0_dark_246
theorem eX0_dark_247 : SiZ nX0_dark 247 i_lret := s_lret dX0_dark_247 rfl
theorem aX0_dark : ∀ x ∈ mX0_dark.1, EnZ nX0_dark x := fm_cons eX0_dark_0 (fm_cons eX0_dark_1 (fm_cons eX0_dark_2 (fm_cons eX0_dark_5 (fm_cons eX0_dark_8 (fm_cons eX0_dark_9 (fm_cons eX0_dark_12 (fm_cons eX0_dark_15 (fm_cons eX0_dark_16 (fm_cons eX0_dark_17 (fm_cons eX0_dark_18 (fm_cons eX0_dark_21 (fm_cons eX0_dark_24 (fm_cons eX0_dark_27 (fm_cons eX0_dark_29 (fm_cons eX0_dark_32 (fm_cons eX0_dark_35 (fm_cons eX0_dark_38 (fm_cons eX0_dark_39 (fm_cons eX0_dark_40 (fm_cons eX0_dark_43 (fm_cons eX0_dark_46 (fm_cons eX0_dark_48 (fm_cons eX0_dark_49 (fm_cons eX0_dark_51 (fm_cons eX0_dark_52 (fm_cons eX0_dark_54 (fm_cons eX0_dark_55 (fm_cons eX0_dark_57 (fm_cons eX0_dark_59 (fm_cons eX0_dark_60 (fm_cons eX0_dark_63 (fm_cons eX0_dark_66 (fm_cons eX0_dark_69 (fm_cons eX0_dark_71 (fm_cons eX0_dark_73 (fm_cons eX0_dark_75 (fm_cons eX0_dark_78 (fm_cons eX0_dark_81 (fm_cons eX0_dark_84 (fm_cons eX0_dark_87 (fm_cons eX0_dark_88 (fm_cons eX0_dark_89 (fm_cons eX0_dark_91 (fm_cons eX0_dark_94 (fm_cons eX0_dark_97 (fm_cons eX0_dark_98 (fm_cons eX0_dark_100 (fm_cons eX0_dark_102 (fm_cons eX0_dark_104 (fm_cons eX0_dark_107 (fm_cons eX0_dark_109 (fm_cons eX0_dark_111 (fm_cons eX0_dark_112 (fm_cons eX0_dark_113 (fm_cons eX0_dark_114 (fm_cons eX0_dark_117 (fm_cons eX0_dark_120 (fm_cons eX0_dark_121 (fm_cons eX0_dark_123 (fm_cons eX0_dark_124 (fm_cons eX0_dark_126 (fm_cons eX0_dark_128 (fm_cons eX0_dark_129 (fm_cons eX0_dark_132 (fm_cons eX0_dark_135 (fm_cons eX0_dark_138 (fm_cons eX0_dark_140 (fm_cons eX0_dark_142 (fm_cons eX0_dark_144 (fm_cons eX0_dark_147 (fm_cons eX0_dark_150 (fm_cons eX0_dark_151 (fm_cons eX0_dark_154 (fm_cons eX0_dark_156 (fm_cons eX0_dark_158 (fm_cons eX0_dark_161 (fm_cons eX0_dark_164 (fm_cons eX0_dark_165 (fm_cons eX0_dark_166 (fm_cons eX0_dark_169 (fm_cons eX0_dark_171 (fm_cons eX0_dark_172 (fm_cons eX0_dark_173 (fm_cons eX0_dark_174 (fm_cons eX0_dark_175 (fm_cons eX0_dark_177 (fm_cons eX0_dark_180 (fm_cons eX0_dark_183 (fm_cons eX0_dark_184 (fm_cons eX0_dark_187 (fm_cons eX0_dark_189 (fm_cons eX0_dark_191 (fm_cons eX0_dark_192 (fm_cons eX0_dark_193 (fm_cons eX0_dark_194 (fm_cons eX0_dark_197 (fm_cons eX0_dark_199 (fm_cons eX0_dark_200 (fm_cons eX0_dark_201 (fm_cons eX0_dark_204 (fm_cons eX0_dark_207 (fm_cons eX0_dark_208 (fm_cons eX0_dark_209 (fm_cons eX0_dark_212 (fm_cons eX0_dark_214 (fm_cons eX0_dark_217 (fm_cons eX0_dark_218 (fm_cons eX0_dark_219 (fm_cons eX0_dark_221 (fm_cons eX0_dark_224 (fm_cons eX0_dark_227 (fm_cons eX0_dark_229 (fm_cons eX0_dark_232 (fm_cons eX0_dark_234 (fm_cons eX0_dark_237 (fm_cons eX0_dark_239 (fm_cons eX0_dark_241 (fm_cons eX0_dark_243 (fm_cons eX0_dark_246 (fm_cons eX0_dark_247 (fm_nil)))))))))))))))))))))))))))))))))))))))))))))))))))))))))))))))))))))))))))))))))))))))))))))))))))))))))))))))))))))))))
theorem zX0_dark : SwZ nX0_dark (Mt mX0_dark 14) := wholeZ (mi := nX0_dark) (cd := mX0_dark) aX0_dark rfl (HdZ.none rfl)
abbrev nX0_drawn : MI := (cX0_drawn, 8, (some (.int)), RX0, "drawn", [], 6, 158)
theorem hyX0_drawn : yX0_drawn.cls ≠ "java/lang/invoke/MethodHandle" ∧ yX0_drawn.cls ≠ "java/lang/invoke/VarHandle" := by decide +kernel
theorem pnX0_drawn : (parseMethodDescriptor yX0_drawn.desc).map (fun d => d.parameters.length) = some 3 := by decide +kernel
theorem wdX0_drawn : CdW yX0_drawn (nX0_drawn) := ⟨Or.inl ⟨q1074, rfl⟩, rfl, rfl, plainFor_of_name (by decide +kernel)⟩
theorem eX0_drawn_0 : SiZ nX0_drawn 0 (i_aload 0 1) := s_aload_n dX0_drawn_0 rfl
theorem eX0_drawn_1 : ScZ nX0_drawn 1 (c_V 0 4 1 1 (Mt mX0_isLibrary 1)) := e_V (mi := nX0_drawn) (mi' := nX0_isLibrary) (len := 3) (fun h b as rest hk hl => cs_V (ci := 0) (mi := nX0_drawn) (pc := 1) (y := yX0_isLibrary) (idx := 184) dX0_drawn_1 q782 q784 qs18 rfl hk hyX0_isLibrary (sigC q785) pnX0_isLibrary hl) wdX0_isLibrary zX0_isLibrary (Nat.le_of_ble_eq_true rfl) (Nat.le_of_ble_eq_true rfl)
theorem eX0_drawn_4 : SiZ nX0_drawn 4 (i_if (fun x => ¬ x = 0) 10 7) := s_if_ne dX0_drawn_4 (by decide)
theorem eX0_drawn_7 : SiZ nX0_drawn 7 (i_push (.int (-1000002)) 9) := s_ldc dX0_drawn_7 q777
theorem eX0_drawn_9 : SiZ nX0_drawn 9 i_iret := s_iret dX0_drawn_9 rfl
theorem eX0_drawn_10 : SiZ nX0_drawn 10 (i_iload 1 11) := s_iload_n dX0_drawn_10 rfl
theorem eX0_drawn_11 : ScZ nX0_drawn 11 (c_S 1 14 1 (Mt mX0_isFar 1)) := e_S (mi := nX0_drawn) (mi' := nX0_isFar) (len := 3) (fun h as rest hl => cs_S (mi := nX0_drawn) (pc := 11) (y := yX0_isFar) (idx := 272) dX0_drawn_11 q960 q961 q77 q962 hyX0_isFar pnX0_isFar hl) wdX0_isFar zX0_isFar (Nat.le_of_ble_eq_true rfl) (Nat.le_of_ble_eq_true rfl)
theorem eX0_drawn_14 : SiZ nX0_drawn 14 (i_if (fun x => x = 0) 36 17) := s_if_eq dX0_drawn_14 (by decide)
theorem eX0_drawn_17 : SiZ nX0_drawn 17 (i_iload 2 18) := s_iload_n dX0_drawn_17 rfl
theorem eX0_drawn_18 : SiZ nX0_drawn 18 (i_i2l 19) := s_i2l dX0_drawn_18
theorem eX0_drawn_19 : SiZ nX0_drawn 19 (i_push (.long 1) 20) := s_lconst dX0_drawn_19 (by decide)
theorem eX0_drawn_20 : SiZ nX0_drawn 20 (i_push (.long 999999) 23) := s_ldc2 dX0_drawn_20 q1075
theorem eX0_drawn_23 : ScZ nX0_drawn 23 (c_S 3 26 6 (Mt mX0_isIn 6)) := e_S (mi := nX0_drawn) (mi' := nX0_isIn) (len := 3) (fun h as rest hl => cs_S (mi := nX0_drawn) (pc := 23) (y := yX0_isIn) (idx := 86) dX0_drawn_23 q351 q352 q77 q353 hyX0_isIn pnX0_isIn hl) wdX0_isIn zX0_isIn (Nat.le_of_ble_eq_true rfl) (Nat.le_of_ble_eq_true rfl)
theorem eX0_drawn_26 : SiZ nX0_drawn 26 (i_if (fun x => x = 0) 36 29) := s_if_eq dX0_drawn_26 (by decide)
theorem eX0_drawn_29 : SiZ nX0_drawn 29 (i_iload 3 30) := s_iload_n dX0_drawn_29 rfl
theorem eX0_drawn_30 : ScZ nX0_drawn 30 (c_S 1 33 1 (Mt mX0_isHalf 1)) := e_S (mi := nX0_drawn) (mi' := nX0_isHalf) (len := 3) (fun h as rest hl => cs_S (mi := nX0_drawn) (pc := 30) (y := yX0_isHalf) (idx := 209) dX0_drawn_30 q896 q897 q77 q898 hyX0_isHalf pnX0_isHalf hl) wdX0_isHalf zX0_isHalf (Nat.le_of_ble_eq_true rfl) (Nat.le_of_ble_eq_true rfl)
theorem eX0_drawn_33 : SiZ nX0_drawn 33 (i_if (fun x => ¬ x = 0) 39 36) := s_if_ne dX0_drawn_33 (by decide)
theorem eX0_drawn_36 : SiZ nX0_drawn 36 (i_push (.int (-1000001)) 38) := s_ldc dX0_drawn_36 q355
theorem eX0_drawn_38 : SiZ nX0_drawn 38 i_iret := s_iret dX0_drawn_38 rfl
theorem eX0_drawn_39 : SiZ nX0_drawn 39 (i_aload 0 40) := s_aload_n dX0_drawn_39 rfl
theorem eX0_drawn_40 : ScZ nX0_drawn 40 (c_V 0 43 1 1 (Mt mX0_tried 1)) := e_V (mi := nX0_drawn) (mi' := nX0_tried) (len := 3) (fun h b as rest hk hl => cs_V (ci := 0) (mi := nX0_drawn) (pc := 40) (y := yX0_tried) (idx := 275) dX0_drawn_40 q964 q966 qs26 rfl hk hyX0_tried (sigC q967) pnX0_tried hl) wdX0_tried zX0_tried (Nat.le_of_ble_eq_true rfl) (Nat.le_of_ble_eq_true rfl)
theorem eX0_drawn_43 : SiZ nX0_drawn 43 (i_pop 44) := s_pop dX0_drawn_43
theorem eX0_drawn_44 : SiZ nX0_drawn 44 (i_iload 2 45) := s_iload_n dX0_drawn_44 rfl
theorem eX0_drawn_45 : SiZ nX0_drawn 45 (i_i2l 46) := s_i2l dX0_drawn_45
theorem eX0_drawn_46 : SiZ nX0_drawn 46 (i_lstore 4 48) := s_lstore dX0_drawn_46
theorem eX0_drawn_48 : SiZ nX0_drawn 48 (i_push (.int 0) 49) := s_iconst dX0_drawn_48 (by decide)
theorem eX0_drawn_49 : SiZ nX0_drawn 49 (i_istore 6 51) := s_istore dX0_drawn_49
theorem eX0_drawn_51 : SiZ nX0_drawn 51 (i_iload 6 53) := s_iload dX0_drawn_51
theorem eX0_drawn_53 : SiZ nX0_drawn 53 (i_iload 1 54) := s_iload_n dX0_drawn_53 rfl
theorem eX0_drawn_54 : SiZ nX0_drawn 54 (i_icmp (fun x y => y ≤ x) 190 57) := s_icmp_ge dX0_drawn_54 (by decide)
theorem eX0_drawn_57 : SiZ nX0_drawn 57 (i_lload 4 59) := s_lload dX0_drawn_57
theorem eX0_drawn_59 : SiZ nX0_drawn 59 (i_push (.long 16807) 62) := s_ldc2 dX0_drawn_59 q1076
theorem eX0_drawn_62 : SiZ nX0_drawn 62 (i_lbin (fun x y => x * y) 63) := s_lmul dX0_drawn_62
theorem eX0_drawn_63 : SiZ nX0_drawn 63 (i_push (.long 2147483647) 66) := s_ldc2 dX0_drawn_63 q1077
theorem eX0_drawn_66 : SiZ nX0_drawn 66 (i_lbing (fun x y => x - x / y * y) 67) := s_lrem dX0_drawn_66
theorem eX0_drawn_67 : SiZ nX0_drawn 67 (i_lstore 4 69) := s_lstore dX0_drawn_67
theorem eX0_drawn_69 : SiZ nX0_drawn 69 (i_lload 4 71) := s_lload dX0_drawn_69
theorem eX0_drawn_71 : SiZ nX0_drawn 71 (i_aload 0 72) := s_aload_n dX0_drawn_71 rfl
theorem eX0_drawn_72 : SiZ nX0_drawn 72 (i_getf 13 [1] 75) := s_getf dX0_drawn_72 (fm_cons (⟨_, _, _, _, _, _, rfl, fkX0_43_1⟩) (fm_nil))
theorem eX0_drawn_75 : SiZ nX0_drawn 75 (i_getf 36 [2] 78) := s_getf dX0_drawn_75 (fm_cons (⟨_, _, _, _, _, _, rfl, fkX0_177_2⟩) (fm_nil))
theorem eX0_drawn_78 : SiZ nX0_drawn 78 (i_i2l 79) := s_i2l dX0_drawn_78
theorem eX0_drawn_79 : SiZ nX0_drawn 79 (i_lbing (fun x y => x - x / y * y) 80) := s_lrem dX0_drawn_79
theorem eX0_drawn_80 : SiZ nX0_drawn 80 (i_l2i 81) := s_l2i dX0_drawn_80
theorem eX0_drawn_81 : SiZ nX0_drawn 81 (i_istore 7 83) := s_istore dX0_drawn_81
theorem eX0_drawn_83 : SiZ nX0_drawn 83 (i_aload 0 84) := s_aload_n dX0_drawn_83 rfl
theorem eX0_drawn_84 : SiZ nX0_drawn 84 (i_getf 13 [1] 87) := s_getf dX0_drawn_84 (fm_cons (⟨_, _, _, _, _, _, rfl, fkX0_43_1⟩) (fm_nil))
theorem eX0_drawn_87 : SiZ nX0_drawn 87 (i_iload 7 89) := s_iload dX0_drawn_87
theorem eX0_drawn_89 : ScZ nX0_drawn 89 (c_V 1 92 2 2 (Mt mX1_isLit 2)) := e_V (mi := nX0_drawn) (mi' := nX1_isLit) (len := 3) (fun h b as rest hk hl => cs_V (ci := 1) (mi := nX0_drawn) (pc := 89) (y := yX1_isLit) (idx := 348) dX0_drawn_89 q1078 q850 q851 rfl hk hyX1_isLit (sigC q852) pnX1_isLit hl) wdX1_isLit zX1_isLit (Nat.le_of_ble_eq_true rfl) (Nat.le_of_ble_eq_true rfl)
theorem eX0_drawn_92 : SiZ nX0_drawn 92 (i_if (fun x => x = 0) 129 95) := s_if_eq dX0_drawn_92 (by decide)
theorem eX0_drawn_95 : SiZ nX0_drawn 95 (i_aload 0 96) := s_aload_n dX0_drawn_95 rfl
theorem eX0_drawn_96 : SiZ nX0_drawn 96 (i_getf 13 [1] 99) := s_getf dX0_drawn_96 (fm_cons (⟨_, _, _, _, _, _, rfl, fkX0_43_1⟩) (fm_nil))
theorem eX0_drawn_99 : SiZ nX0_drawn 99 (i_dup 100) := s_dup dX0_drawn_99
theorem eX0_drawn_100 : SiZ nX0_drawn 100 (i_getf 46 [2] 103) := s_getf dX0_drawn_100 (fm_cons (⟨_, _, _, _, _, _, rfl, fkX0_212_2⟩) (fm_nil))
theorem eX0_drawn_103 : SiZ nX0_drawn 103 (i_lload 4 105) := s_lload dX0_drawn_103
theorem eX0_drawn_105 : SiZ nX0_drawn 105 (i_push (.long 5) 108) := s_ldc2 dX0_drawn_105 q1079
theorem eX0_drawn_108 : SiZ nX0_drawn 108 (i_lbing (fun x y => x - x / y * y) 109) := s_lrem dX0_drawn_108
theorem eX0_drawn_109 : SiZ nX0_drawn 109 (i_push (.long 0) 110) := s_lconst dX0_drawn_109 (by decide)
theorem eX0_drawn_110 : SiZ nX0_drawn 110 (i_lcmp 111) := s_lcmp dX0_drawn_110
theorem eX0_drawn_111 : SiZ nX0_drawn 111 (i_if (fun x => ¬ x = 0) 121 114) := s_if_ne dX0_drawn_111 (by decide)
theorem eX0_drawn_114 : SiZ nX0_drawn 114 (i_push (.int 1) 115) := s_iconst dX0_drawn_114 (by decide)
theorem eX0_drawn_115 : SiZ nX0_drawn 115 (i_iload 7 117) := s_iload dX0_drawn_115
theorem eX0_drawn_117 : SiZ nX0_drawn 117 (i_bin (fun x y => x <<< (y &&& 31)) 118) := s_ishl dX0_drawn_117
theorem eX0_drawn_118 : SiZ nX0_drawn 118 (i_goto 122) := s_goto dX0_drawn_118 (by decide)
theorem eX0_drawn_121 : SiZ nX0_drawn 121 (i_push (.int 0) 122) := s_iconst dX0_drawn_121 (by decide)
theorem eX0_drawn_122 : SiZ nX0_drawn 122 (i_bin (fun x y => x ^^^ y) 123) := s_ixor dX0_drawn_122
theorem eX0_drawn_123 : SiZ nX0_drawn 123 (i_putI 46 [2] 126) := s_putI dX0_drawn_123 (fm_cons (⟨_, _, _, _, _, _, rfl, ⟨fkX0_212_2, ⟨_, q179, Or.inl rfl⟩, Or.inl rfl⟩, rfl⟩) (fm_nil))
theorem eX0_drawn_126 : SiZ nX0_drawn 126 (i_goto 176) := s_goto dX0_drawn_126 (by decide)
theorem eX0_drawn_129 : SiZ nX0_drawn 129 (i_lload 4 131) := s_lload dX0_drawn_129
theorem eX0_drawn_131 : SiZ nX0_drawn 131 (i_push (.long 3) 134) := s_ldc2 dX0_drawn_131 q939
theorem eX0_drawn_134 : SiZ nX0_drawn 134 (i_lbing (fun x y => x - x / y * y) 135) := s_lrem dX0_drawn_134
theorem eX0_drawn_135 : SiZ nX0_drawn 135 (i_push (.long 0) 136) := s_lconst dX0_drawn_135 (by decide)
theorem eX0_drawn_136 : SiZ nX0_drawn 136 (i_lcmp 137) := s_lcmp dX0_drawn_136
theorem eX0_drawn_137 : SiZ nX0_drawn 137 (i_if (fun x => ¬ x = 0) 176 140) := s_if_ne dX0_drawn_137 (by decide)
theorem eX0_drawn_140 : SiZ nX0_drawn 140 (i_aload 0 141) := s_aload_n dX0_drawn_140 rfl
theorem eX0_drawn_141 : SiZ nX0_drawn 141 (i_getf 13 [1] 144) := s_getf dX0_drawn_141 (fm_cons (⟨_, _, _, _, _, _, rfl, fkX0_43_1⟩) (fm_nil))
theorem eX0_drawn_144 : SiZ nX0_drawn 144 (i_getf 46 [2] 147) := s_getf dX0_drawn_144 (fm_cons (⟨_, _, _, _, _, _, rfl, fkX0_212_2⟩) (fm_nil))
theorem eX0_drawn_147 : ScZ nX0_drawn 147 (c_S 1 150 1 (Mt mJ16_bitCount 1)) := e_S (mi := nX0_drawn) (mi' := nJ16_bitCount) (len := 3) (fun h as rest hl => cs_S (mi := nX0_drawn) (pc := 147) (y := yJ16_bitCount) (idx := 215) dX0_drawn_147 q899 q900 q108 q901 hyJ16_bitCount pnJ16_bitCount hl) wdJ16_bitCount zJ16_bitCount (Nat.le_of_ble_eq_true rfl) (Nat.le_of_ble_eq_true rfl)
theorem eX0_drawn_150 : SiZ nX0_drawn 150 (i_aload 0 151) := s_aload_n dX0_drawn_150 rfl
theorem eX0_drawn_151 : SiZ nX0_drawn 151 (i_getf 13 [1] 154) := s_getf dX0_drawn_151 (fm_cons (⟨_, _, _, _, _, _, rfl, fkX0_43_1⟩) (fm_nil))
theorem eX0_drawn_154 : SiZ nX0_drawn 154 (i_getf 34 [2] 157) := s_getf dX0_drawn_154 (fm_cons (⟨_, _, _, _, _, _, rfl, fkX0_220_2⟩) (fm_nil))
theorem eX0_drawn_157 : SiZ nX0_drawn 157 (i_icmp (fun x y => y ≤ x) 176 160) := s_icmp_ge dX0_drawn_157 (by decide)
theorem eX0_drawn_160 : SiZ nX0_drawn 160 (i_aload 0 161) := s_aload_n dX0_drawn_160 rfl
theorem eX0_drawn_161 : SiZ nX0_drawn 161 (i_getf 13 [1] 164) := s_getf dX0_drawn_161 (fm_cons (⟨_, _, _, _, _, _, rfl, fkX0_43_1⟩) (fm_nil))
theorem eX0_drawn_164 : SiZ nX0_drawn 164 (i_dup 165) := s_dup dX0_drawn_164
theorem eX0_drawn_165 : SiZ nX0_drawn 165 (i_getf 46 [2] 168) := s_getf dX0_drawn_165 (fm_cons (⟨_, _, _, _, _, _, rfl, fkX0_212_2⟩) (fm_nil))
theorem eX0_drawn_168 : SiZ nX0_drawn 168 (i_push (.int 1) 169) := s_iconst dX0_drawn_168 (by decide)
theorem eX0_drawn_169 : SiZ nX0_drawn 169 (i_iload 7 171) := s_iload dX0_drawn_169
theorem eX0_drawn_171 : SiZ nX0_drawn 171 (i_bin (fun x y => x <<< (y &&& 31)) 172) := s_ishl dX0_drawn_171
theorem eX0_drawn_172 : SiZ nX0_drawn 172 (i_bin (fun x y => x ||| y) 173) := s_ior dX0_drawn_172
theorem eX0_drawn_173 : SiZ nX0_drawn 173 (i_putI 46 [2] 176) := s_putI dX0_drawn_173 (fm_cons (⟨_, _, _, _, _, _, rfl, ⟨fkX0_212_2, ⟨_, q179, Or.inl rfl⟩, Or.inl rfl⟩, rfl⟩) (fm_nil))
theorem eX0_drawn_176 : SiZ nX0_drawn 176 (i_aload 0 177) := s_aload_n dX0_drawn_176 rfl
theorem eX0_drawn_177 : SiZ nX0_drawn 177 (i_getf 13 [1] 180) := s_getf dX0_drawn_177 (fm_cons (⟨_, _, _, _, _, _, rfl, fkX0_43_1⟩) (fm_nil))
theorem eX0_drawn_180 : ScZ nX0_drawn 180 (c_V 0 183 2 2 (Mt mX1_pass 2)) := e_V (mi := nX0_drawn) (mi' := nX1_pass) (len := 3) (fun h b as rest hk hl => cs_V (ci := 1) (mi := nX0_drawn) (pc := 180) (y := yX1_pass) (idx := 196) dX0_drawn_180 q791 q792 q793 rfl hk hyX1_pass (sigC q794) pnX1_pass hl) wdX1_pass zX1_pass (Nat.le_of_ble_eq_true rfl) (Nat.le_of_ble_eq_true rfl)
theorem eX0_drawn_183 : SiZ nX0_drawn 183 (i_pop 184) := s_pop dX0_drawn_183
theorem eX0_drawn_184 : SiZ nX0_drawn 184 (i_iinc 6 1 187) := s_iinc dX0_drawn_184 (by decide)
theorem eX0_drawn_187 : SiZ nX0_drawn 187 (i_goto 51) := s_goto dX0_drawn_187 (by decide)
theorem eX0_drawn_190 : SiZ nX0_drawn 190 (i_iload 3 191) := s_iload_n dX0_drawn_190 rfl
theorem eX0_drawn_191 : SiZ nX0_drawn 191 (i_if (fun x => ¬ x = 0) 208 194) := s_if_ne dX0_drawn_191 (by decide)
theorem eX0_drawn_194 : SiZ nX0_drawn 194 (i_aload 0 195) := s_aload_n dX0_drawn_194 rfl
theorem eX0_drawn_195 : SiZ nX0_drawn 195 (i_getf 13 [1] 198) := s_getf dX0_drawn_195 (fm_cons (⟨_, _, _, _, _, _, rfl, fkX0_43_1⟩) (fm_nil))
theorem eX0_drawn_198 : SiZ nX0_drawn 198 (i_aload 0 199) := s_aload_n dX0_drawn_198 rfl
theorem eX0_drawn_199 : ScZ nX0_drawn 199 (c_V 0 202 1 1 (Mt mX0_allBooks 1)) := e_V (mi := nX0_drawn) (mi' := nX0_allBooks) (len := 3) (fun h b as rest hk hl => cs_V (ci := 0) (mi := nX0_drawn) (pc := 199) (y := yX0_allBooks) (idx := 200) dX0_drawn_199 q880 q882 qs22 rfl hk hyX0_allBooks (sigC q883) pnX0_allBooks hl) wdX0_allBooks zX0_allBooks (Nat.le_of_ble_eq_true rfl) (Nat.le_of_ble_eq_true rfl)
theorem eX0_drawn_202 : ScZ nX0_drawn 202 (c_V 1 205 4 2 (Mt mX1_left 4)) := e_V (mi := nX0_drawn) (mi' := nX1_left) (len := 3) (fun h b as rest hk hl => cs_V (ci := 1) (mi := nX0_drawn) (pc := 202) (y := yX1_left) (idx := 203) dX0_drawn_202 q884 q885 q886 rfl hk hyX1_left (sigC q887) pnX1_left hl) wdX1_left zX1_left (Nat.le_of_ble_eq_true rfl) (Nat.le_of_ble_eq_true rfl)
theorem eX0_drawn_205 : SiZ nX0_drawn 205 (i_goto 218) := s_goto dX0_drawn_205 (by decide)
theorem eX0_drawn_208 : SiZ nX0_drawn 208 (i_aload 0 209) := s_aload_n dX0_drawn_208 rfl
theorem eX0_drawn_209 : SiZ nX0_drawn 209 (i_getf 13 [1] 212) := s_getf dX0_drawn_209 (fm_cons (⟨_, _, _, _, _, _, rfl, fkX0_43_1⟩) (fm_nil))
theorem eX0_drawn_212 : ScZ nX0_drawn 212 (c_V 0 215 3 2 (Mt mX1_gone 3)) := e_V (mi := nX0_drawn) (mi' := nX1_gone) (len := 3) (fun h b as rest hk hl => cs_V (ci := 1) (mi := nX0_drawn) (pc := 212) (y := yX1_gone) (idx := 282) dX0_drawn_212 q984 q985 q986 rfl hk hyX1_gone (sigC q987) pnX1_gone hl) wdX1_gone zX1_gone (Nat.le_of_ble_eq_true rfl) (Nat.le_of_ble_eq_true rfl)
theorem eX0_drawn_215 : ScZ nX0_drawn 215 (c_S 1 218 1 (Mt mJ16_bitCount 1)) := e_S (mi := nX0_drawn) (mi' := nJ16_bitCount) (len := 3) (fun h as rest hl => cs_S (mi := nX0_drawn) (pc := 215) (y := yJ16_bitCount) (idx := 215) dX0_drawn_215 q899 q900 q108 q901 hyJ16_bitCount pnJ16_bitCount hl) wdJ16_bitCount zJ16_bitCount (Nat.le_of_ble_eq_true rfl) (Nat.le_of_ble_eq_true rfl)
theorem eX0_drawn_218 : SiZ nX0_drawn 218 i_iret := s_iret dX0_drawn_218 rfl
theorem aX0_drawn : ∀ x ∈ mX0_drawn.1, EnZ nX0_drawn x := fm_cons eX0_drawn_0 (fm_cons eX0_drawn_1 (fm_cons eX0_drawn_4 (fm_cons eX0_drawn_7 (fm_cons eX0_drawn_9 (fm_cons eX0_drawn_10 (fm_cons eX0_drawn_11 (fm_cons eX0_drawn_14 (fm_cons eX0_drawn_17 (fm_cons eX0_drawn_18 (fm_cons eX0_drawn_19 (fm_cons eX0_drawn_20 (fm_cons eX0_drawn_23 (fm_cons eX0_drawn_26 (fm_cons eX0_drawn_29 (fm_cons eX0_drawn_30 (fm_cons eX0_drawn_33 (fm_cons eX0_drawn_36 (fm_cons eX0_drawn_38 (fm_cons eX0_drawn_39 (fm_cons eX0_drawn_40 (fm_cons eX0_drawn_43 (fm_cons eX0_drawn_44 (fm_cons eX0_drawn_45 (fm_cons eX0_drawn_46 (fm_cons eX0_drawn_48 (fm_cons eX0_drawn_49 (fm_cons eX0_drawn_51 (fm_cons eX0_drawn_53 (fm_cons eX0_drawn_54 (fm_cons eX0_drawn_57 (fm_cons eX0_drawn_59 (fm_cons eX0_drawn_62 (fm_cons eX0_drawn_63 (fm_cons eX0_drawn_66 (fm_cons eX0_drawn_67 (fm_cons eX0_drawn_69 (fm_cons eX0_drawn_71 (fm_cons eX0_drawn_72 (fm_cons eX0_drawn_75 (fm_cons eX0_drawn_78 (fm_cons eX0_drawn_79 (fm_cons eX0_drawn_80 (fm_cons eX0_drawn_81 (fm_cons eX0_drawn_83 (fm_cons eX0_drawn_84 (fm_cons eX0_drawn_87 (fm_cons eX0_drawn_89 (fm_cons eX0_drawn_92 (fm_cons eX0_drawn_95 (fm_cons eX0_drawn_96 (fm_cons eX0_drawn_99 (fm_cons eX0_drawn_100 (fm_cons eX0_drawn_103 (fm_cons eX0_drawn_105 (fm_cons eX0_drawn_108 (fm_cons eX0_drawn_109 (fm_cons eX0_drawn_110 (fm_cons eX0_drawn_111 (fm_cons eX0_drawn_114 (fm_cons eX0_drawn_115 (fm_cons eX0_drawn_117 (fm_cons eX0_drawn_118 (fm_cons eX0_drawn_121 (fm_cons eX0_drawn_122 (fm_cons eX0_drawn_123 (fm_cons eX0_drawn_126 (fm_cons eX0_drawn_129 (fm_cons eX0_drawn_131 (fm_cons eX0_drawn_134 (fm_cons eX0_drawn_135 (fm_cons eX0_drawn_136 (fm_cons eX0_drawn_137 (fm_cons eX0_drawn_140 (fm_cons eX0_drawn_141 (fm_cons eX0_drawn_144 (fm_cons eX0_drawn_147 (fm_cons eX0_drawn_150 (fm_cons eX0_drawn_151 (fm_cons eX0_drawn_154 (fm_cons eX0_drawn_157 (fm_cons eX0_drawn_160 (fm_cons eX0_drawn_161 (fm_cons eX0_drawn_164 (fm_cons eX0_drawn_165 (fm_cons eX0_drawn_168 (fm_cons eX0_drawn_169 (fm_cons eX0_drawn_171 (fm_cons eX0_drawn_172 (fm_cons eX0_drawn_173 (fm_cons eX0_drawn_176 (fm_cons eX0_drawn_177 (fm_cons eX0_drawn_180 (fm_cons eX0_drawn_183 (fm_cons eX0_drawn_184 (fm_cons eX0_drawn_187 (fm_cons eX0_drawn_190 (fm_cons eX0_drawn_191 (fm_cons eX0_drawn_194 (fm_cons eX0_drawn_195 (fm_cons eX0_drawn_198 (fm_cons eX0_drawn_199 (fm_cons eX0_drawn_202 (fm_cons eX0_drawn_205 (fm_cons eX0_drawn_208 (fm_cons eX0_drawn_209 (fm_cons eX0_drawn_212 (fm_cons eX0_drawn_215 (fm_cons eX0_drawn_218 (fm_nil)))))))))))))))))))))))))))))))))))))))))))))))))))))))))))))))))))))))))))))))))))))))))))))))))))))))))))))
theorem zX0_drawn : SwZ nX0_drawn (Mt mX0_drawn 8) := wholeZ (mi := nX0_drawn) (cd := mX0_drawn) aX0_drawn rfl (HdZ.none rfl)
abbrev nX0_image : MI := (cX0_image, 2, (some (.int)), RX0, "image", [], 5, 120)
theorem hyX0_image : yX0_image.cls ≠ "java/lang/invoke/MethodHandle" ∧ yX0_image.cls ≠ "java/lang/invoke/VarHandle" := by decide +kernel
theorem pnX0_image : (parseMethodDescriptor yX0_image.desc).map (fun d => d.parameters.length) = some 1 := by decide +kernel
theorem wdX0_image : CdW yX0_image (nX0_image) := ⟨Or.inl ⟨q1083, rfl⟩, rfl, rfl, plainFor_of_name (by decide +kernel)⟩
theorem eX0_image_0 : SiZ nX0_image 0 (i_iload 1 1) := s_iload_n dX0_image_0 rfl
theorem eX0_image_1 : SiZ nX0_image 1 (i_i2l 2) := s_i2l dX0_image_1
theorem eX0_image_2 : SiZ nX0_image 2 (i_push (.long 0) 3) := s_lconst dX0_image_2 (by decide)
theorem eX0_image_3 : SiZ nX0_image 3 (i_push (.long 1) 4) := s_lconst dX0_image_3 (by decide)
theorem eX0_image_4 : ScZ nX0_image 4 (c_S 3 7 6 (Mt mX0_isIn 6)) := e_S (mi := nX0_image) (mi' := nX0_isIn) (len := 3) (fun h as rest hl => cs_S (mi := nX0_image) (pc := 4) (y := yX0_isIn) (idx := 86) dX0_image_4 q351 q352 q77 q353 hyX0_isIn pnX0_isIn hl) wdX0_isIn zX0_isIn (Nat.le_of_ble_eq_true rfl) (Nat.le_of_ble_eq_true rfl)
theorem eX0_image_7 : SiZ nX0_image 7 (i_if (fun x => ¬ x = 0) 13 10) := s_if_ne dX0_image_7 (by decide)
theorem eX0_image_10 : SiZ nX0_image 10 (i_push (.int (-1000001)) 12) := s_ldc dX0_image_10 q355
theorem eX0_image_12 : SiZ nX0_image 12 i_iret := s_iret dX0_image_12 rfl
theorem eX0_image_13 : SiZ nX0_image 13 (i_aload 0 14) := s_aload_n dX0_image_13 rfl
theorem eX0_image_14 : ScZ nX0_image 14 (c_V 0 17 1 1 (Mt mX0_isLibrary 1)) := e_V (mi := nX0_image) (mi' := nX0_isLibrary) (len := 3) (fun h b as rest hk hl => cs_V (ci := 0) (mi := nX0_image) (pc := 14) (y := yX0_isLibrary) (idx := 184) dX0_image_14 q782 q784 qs18 rfl hk hyX0_isLibrary (sigC q785) pnX0_isLibrary hl) wdX0_isLibrary zX0_isLibrary (Nat.le_of_ble_eq_true rfl) (Nat.le_of_ble_eq_true rfl)
theorem eX0_image_17 : SiZ nX0_image 17 (i_if (fun x => ¬ x = 0) 23 20) := s_if_ne dX0_image_17 (by decide)
theorem eX0_image_20 : SiZ nX0_image 20 (i_push (.int (-1000002)) 22) := s_ldc dX0_image_20 q777
theorem eX0_image_22 : SiZ nX0_image 22 i_iret := s_iret dX0_image_22 rfl
theorem eX0_image_23 : SiZ nX0_image 23 (i_aload 0 24) := s_aload_n dX0_image_23 rfl
theorem eX0_image_24 : SiZ nX0_image 24 (i_getf 19 [1] 27) := s_getf dX0_image_24 (fm_cons (⟨_, _, _, _, _, _, rfl, fkX0_50_1⟩) (fm_nil))
theorem eX0_image_27 : SiZ nX0_image 27 (i_iload 1 28) := s_iload_n dX0_image_27 rfl
theorem eX0_image_28 : SiZ nX0_image 28 (i_aald 55 29) := s_aald (j := 1) (by decide) (fun _ => rfl) dX0_image_28
theorem eX0_image_29 : SiZ nX0_image 29 (i_ifn 32 45) := s_ifnonnull dX0_image_29 (by decide)
theorem eX0_image_32 : SiZ nX0_image 32 (i_aload 0 33) := s_aload_n dX0_image_32 rfl
theorem eX0_image_33 : SiZ nX0_image 33 (i_getf 19 [1] 36) := s_getf dX0_image_33 (fm_cons (⟨_, _, _, _, _, _, rfl, fkX0_50_1⟩) (fm_nil))
theorem eX0_image_36 : SiZ nX0_image 36 (i_iload 1 37) := s_iload_n dX0_image_36 rfl
theorem eX0_image_37 : SiZ nX0_image 37 (i_new 2 16 40) := s_new dX0_image_37 q120 q121 q78 clX1 rfl (by decide)
theorem eX0_image_40 : SiZ nX0_image 40 (i_dup 41) := s_dup dX0_image_40
theorem eX0_image_41 : ScZ nX0_image 41 (c_I 0 44 1 (Mt mX1_init 1)) := e_I (mi := nX0_image) (mi' := nX1_init) (len := 3) (fun h b as rest hl => cs_IN (mi := nX0_image) (pc := 41) (y := yX1_init) (idx := 38) dX0_image_41 rfl q122 q123 q124 hyX1_init pnX1_init hl) wdX1_init zX1_init (Nat.le_of_ble_eq_true rfl) (Nat.le_of_ble_eq_true rfl)
theorem eX0_image_44 : SiZ nX0_image 44 (i_aast 55 [2] 45) := s_aast (j := 1) (by decide) (fun _ => rfl) dX0_image_44 (fm_cons (⟨1, _, rfl, rfl, Or.inl rfl⟩) (fm_nil))
theorem eX0_image_45 : SiZ nX0_image 45 (i_aload 0 46) := s_aload_n dX0_image_45 rfl
theorem eX0_image_46 : SiZ nX0_image 46 (i_getf 19 [1] 49) := s_getf dX0_image_46 (fm_cons (⟨_, _, _, _, _, _, rfl, fkX0_50_1⟩) (fm_nil))
theorem eX0_image_49 : SiZ nX0_image 49 (i_iload 1 50) := s_iload_n dX0_image_49 rfl
theorem eX0_image_50 : SiZ nX0_image 50 (i_aald 55 51) := s_aald (j := 1) (by decide) (fun _ => rfl) dX0_image_50
theorem eX0_image_51 : SiZ nX0_image 51 (i_aload 0 52) := s_aload_n dX0_image_51 rfl
theorem eX0_image_52 : SiZ nX0_image 52 (i_getf 11 [1] 55) := s_getf dX0_image_52 (fm_cons (⟨_, _, _, _, _, _, rfl, fkX0_39_1⟩) (fm_nil))
theorem eX0_image_55 : ScZ nX0_image 55 (c_V 1 58 2 2 (Mt mX1_become 2)) := e_V (mi := nX0_image) (mi' := nX1_become) (len := 3) (fun h b as rest hk hl => cs_V (ci := 1) (mi := nX0_image) (pc := 55) (y := yX1_become) (idx := 162) dX0_image_55 q763 q764 q765 rfl hk hyX1_become (sigC q766) pnX1_become hl) wdX1_become zX1_become (Nat.le_of_ble_eq_true rfl) (Nat.le_of_ble_eq_true rfl)
theorem eX0_image_58 : SiZ nX0_image 58 (i_pop 59) := s_pop dX0_image_58
theorem eX0_image_59 : SiZ nX0_image 59 (i_push (.int 1) 60) := s_iconst dX0_image_59 (by decide)
theorem eX0_image_60 : SiZ nX0_image 60 i_iret := s_iret dX0_image_60 rfl
theorem aX0_image : ∀ x ∈ mX0_image.1, EnZ nX0_image x := fm_cons eX0_image_0 (fm_cons eX0_image_1 (fm_cons eX0_image_2 (fm_cons eX0_image_3 (fm_cons eX0_image_4 (fm_cons eX0_image_7 (fm_cons eX0_image_10 (fm_cons eX0_image_12 (fm_cons eX0_image_13 (fm_cons eX0_image_14 (fm_cons eX0_image_17 (fm_cons eX0_image_20 (fm_cons eX0_image_22 (fm_cons eX0_image_23 (fm_cons eX0_image_24 (fm_cons eX0_image_27 (fm_cons eX0_image_28 (fm_cons eX0_image_29 (fm_cons eX0_image_32 (fm_cons eX0_image_33 (fm_cons eX0_image_36 (fm_cons eX0_image_37 (fm_cons eX0_image_40 (fm_cons eX0_image_41 (fm_cons eX0_image_44 (fm_cons eX0_image_45 (fm_cons eX0_image_46 (fm_cons eX0_image_49 (fm_cons eX0_image_50 (fm_cons eX0_image_51 (fm_cons eX0_image_52 (fm_cons eX0_image_55 (fm_cons eX0_image_58 (fm_cons eX0_image_59 (fm_cons eX0_image_60 (fm_nil)))))))))))))))))))))))))))))))))))
theorem zX0_image : SwZ nX0_image (Mt mX0_image 2) := wholeZ (mi := nX0_image) (cd := mX0_image) aX0_image rfl (HdZ.none rfl)
abbrev nX0_restore : MI := (cX0_restore, 2, (some (.int)), RX0, "restore", [], 2, 55)
theorem hyX0_restore : yX0_restore.cls ≠ "java/lang/invoke/MethodHandle" ∧ yX0_restore.cls ≠ "java/lang/invoke/VarHandle" := by decide +kernel
theorem pnX0_restore : (parseMethodDescriptor yX0_restore.desc).map (fun d => d.parameters.length) = some 1 := by decide +kernel
theorem wdX0_restore : CdW yX0_restore (nX0_restore) := ⟨Or.inl ⟨q1087, rfl⟩, rfl, rfl, plainFor_of_name (by decide +kernel)⟩
theorem eX0_restore_0 : SiZ nX0_restore 0 (i_iload 1 1) := s_iload_n dX0_restore_0 rfl
theorem eX0_restore_1 : SiZ nX0_restore 1 (i_i2l 2) := s_i2l dX0_restore_1
theorem eX0_restore_2 : SiZ nX0_restore 2 (i_push (.long 0) 3) := s_lconst dX0_restore_2 (by decide)
theorem eX0_restore_3 : SiZ nX0_restore 3 (i_push (.long 1) 4) := s_lconst dX0_restore_3 (by decide)
theorem eX0_restore_4 : ScZ nX0_restore 4 (c_S 3 7 6 (Mt mX0_isIn 6)) := e_S (mi := nX0_restore) (mi' := nX0_isIn) (len := 3) (fun h as rest hl => cs_S (mi := nX0_restore) (pc := 4) (y := yX0_isIn) (idx := 86) dX0_restore_4 q351 q352 q77 q353 hyX0_isIn pnX0_isIn hl) wdX0_isIn zX0_isIn (Nat.le_of_ble_eq_true rfl) (Nat.le_of_ble_eq_true rfl)
theorem eX0_restore_7 : SiZ nX0_restore 7 (i_if (fun x => ¬ x = 0) 13 10) := s_if_ne dX0_restore_7 (by decide)
theorem eX0_restore_10 : SiZ nX0_restore 10 (i_push (.int (-1000001)) 12) := s_ldc dX0_restore_10 q355
theorem eX0_restore_12 : SiZ nX0_restore 12 i_iret := s_iret dX0_restore_12 rfl
theorem eX0_restore_13 : SiZ nX0_restore 13 (i_aload 0 14) := s_aload_n dX0_restore_13 rfl
theorem eX0_restore_14 : SiZ nX0_restore 14 (i_getf 19 [1] 17) := s_getf dX0_restore_14 (fm_cons (⟨_, _, _, _, _, _, rfl, fkX0_50_1⟩) (fm_nil))
theorem eX0_restore_17 : SiZ nX0_restore 17 (i_iload 1 18) := s_iload_n dX0_restore_17 rfl
theorem eX0_restore_18 : SiZ nX0_restore 18 (i_aald 55 19) := s_aald (j := 1) (by decide) (fun _ => rfl) dX0_restore_18
theorem eX0_restore_19 : SiZ nX0_restore 19 (i_ifn 22 25) := s_ifnonnull dX0_restore_19 (by decide)
theorem eX0_restore_22 : SiZ nX0_restore 22 (i_push (.int (-1000002)) 24) := s_ldc dX0_restore_22 q777
theorem eX0_restore_24 : SiZ nX0_restore 24 i_iret := s_iret dX0_restore_24 rfl
theorem eX0_restore_25 : SiZ nX0_restore 25 (i_aload 0 26) := s_aload_n dX0_restore_25 rfl
theorem eX0_restore_26 : SiZ nX0_restore 26 (i_getf 11 [1] 29) := s_getf dX0_restore_26 (fm_cons (⟨_, _, _, _, _, _, rfl, fkX0_39_1⟩) (fm_nil))
theorem eX0_restore_29 : SiZ nX0_restore 29 (i_aload 0 30) := s_aload_n dX0_restore_29 rfl
theorem eX0_restore_30 : SiZ nX0_restore 30 (i_getf 19 [1] 33) := s_getf dX0_restore_30 (fm_cons (⟨_, _, _, _, _, _, rfl, fkX0_50_1⟩) (fm_nil))
theorem eX0_restore_33 : SiZ nX0_restore 33 (i_iload 1 34) := s_iload_n dX0_restore_33 rfl
theorem eX0_restore_34 : SiZ nX0_restore 34 (i_aald 55 35) := s_aald (j := 1) (by decide) (fun _ => rfl) dX0_restore_34
theorem eX0_restore_35 : ScZ nX0_restore 35 (c_V 1 38 2 2 (Mt mX1_become 2)) := e_V (mi := nX0_restore) (mi' := nX1_become) (len := 3) (fun h b as rest hk hl => cs_V (ci := 1) (mi := nX0_restore) (pc := 35) (y := yX1_become) (idx := 162) dX0_restore_35 q763 q764 q765 rfl hk hyX1_become (sigC q766) pnX1_become hl) wdX1_become zX1_become (Nat.le_of_ble_eq_true rfl) (Nat.le_of_ble_eq_true rfl)
theorem eX0_restore_38 : SiZ nX0_restore 38 (i_pop 39) := s_pop dX0_restore_38
theorem eX0_restore_39 : SiZ nX0_restore 39 (i_aload 0 40) := s_aload_n dX0_restore_39 rfl
theorem eX0_restore_40 : SiZ nX0_restore 40 (i_push (.int 0) 41) := s_iconst dX0_restore_40 (by decide)
theorem eX0_restore_41 : SiZ nX0_restore 41 (i_putI 16 [1] 44) := s_putI dX0_restore_41 (fm_cons (⟨_, _, _, _, _, _, rfl, ⟨fkX0_166_1, ⟨_, q303, Or.inl rfl⟩, Or.inl rfl⟩, rfl⟩) (fm_nil))
theorem eX0_restore_44 : SiZ nX0_restore 44 (i_push (.int 1) 45) := s_iconst dX0_restore_44 (by decide)
theorem eX0_restore_45 : SiZ nX0_restore 45 i_iret := s_iret dX0_restore_45 rfl
theorem aX0_restore : ∀ x ∈ mX0_restore.1, EnZ nX0_restore x := fm_cons eX0_restore_0 (fm_cons eX0_restore_1 (fm_cons eX0_restore_2 (fm_cons eX0_restore_3 (fm_cons eX0_restore_4 (fm_cons eX0_restore_7 (fm_cons eX0_restore_10 (fm_cons eX0_restore_12 (fm_cons eX0_restore_13 (fm_cons eX0_restore_14 (fm_cons eX0_restore_17 (fm_cons eX0_restore_18 (fm_cons eX0_restore_19 (fm_cons eX0_restore_22 (fm_cons eX0_restore_24 (fm_cons eX0_restore_25 (fm_cons eX0_restore_26 (fm_cons eX0_restore_29 (fm_cons eX0_restore_30 (fm_cons eX0_restore_33 (fm_cons eX0_restore_34 (fm_cons eX0_restore_35 (fm_cons eX0_restore_38 (fm_cons eX0_restore_39 (fm_cons eX0_restore_40 (fm_cons eX0_restore_41 (fm_cons eX0_restore_44 (fm_cons eX0_restore_45 (fm_nil))))))))))))))))))))))))))))
theorem zX0_restore : SwZ nX0_restore (Mt mX0_restore 2) := wholeZ (mi := nX0_restore) (cd := mX0_restore) aX0_restore rfl (HdZ.none rfl)
abbrev nX4_kind : MI := (cX4_kind, 1, (some (.int)), RX4, "kind", [], 0, 0)
theorem hyX4_kind : yX4_kind.cls ≠ "java/lang/invoke/MethodHandle" ∧ yX4_kind.cls ≠ "java/lang/invoke/VarHandle" := by decide +kernel
theorem pnX4_kind : (parseMethodDescriptor yX4_kind.desc).map (fun d => d.parameters.length) = some 0 := by decide +kernel
theorem wdX4_kind : CdW yX4_kind (nX4_kind) := ⟨Or.inl ⟨q1099, rfl⟩, rfl, rfl, plainFor_of_name (by decide +kernel)⟩
theorem eX4_kind_0 : SiZ nX4_kind 0 (i_push (.int 1) 1) := s_iconst dX4_kind_0 (by decide)
theorem eX4_kind_1 : SiZ nX4_kind 1 i_iret := s_iret dX4_kind_1 rfl
theorem aX4_kind : ∀ x ∈ mX4_kind.1, EnZ nX4_kind x := fm_cons eX4_kind_0 (fm_cons eX4_kind_1 (fm_nil))
theorem zX4_kind : SwZ nX4_kind (Mt mX4_kind 1) := wholeZ (mi := nX4_kind) (cd := mX4_kind) aX4_kind rfl (HdZ.none rfl)
abbrev nX5_kind : MI := (cX5_kind, 1, (some (.int)), RX5, "kind", [], 0, 0)
theorem hyX5_kind : yX5_kind.cls ≠ "java/lang/invoke/MethodHandle" ∧ yX5_kind.cls ≠ "java/lang/invoke/VarHandle" := by decide +kernel
theorem pnX5_kind : (parseMethodDescriptor yX5_kind.desc).map (fun d => d.parameters.length) = some 0 := by decide +kernel
theorem wdX5_kind : CdW yX5_kind (nX5_kind) := ⟨Or.inl ⟨q1105, rfl⟩, rfl, rfl, plainFor_of_name (by decide +kernel)⟩
theorem eX5_kind_0 : SiZ nX5_kind 0 (i_push (.int 2) 1) := s_iconst dX5_kind_0 (by decide)
theorem eX5_kind_1 : SiZ nX5_kind 1 i_iret := s_iret dX5_kind_1 rfl
theorem aX5_kind : ∀ x ∈ mX5_kind.1, EnZ nX5_kind x := fm_cons eX5_kind_0 (fm_cons eX5_kind_1 (fm_nil))
theorem zX5_kind : SwZ nX5_kind (Mt mX5_kind 1) := wholeZ (mi := nX5_kind) (cd := mX5_kind) aX5_kind rfl (HdZ.none rfl)
abbrev nX6_kind : MI := (cX6_kind, 1, (some (.int)), RX6, "kind", [], 0, 0)
theorem hyX6_kind : yX6_kind.cls ≠ "java/lang/invoke/MethodHandle" ∧ yX6_kind.cls ≠ "java/lang/invoke/VarHandle" := by decide +kernel
theorem pnX6_kind : (parseMethodDescriptor yX6_kind.desc).map (fun d => d.parameters.length) = some 0 := by decide +kernel
theorem wdX6_kind : CdW yX6_kind (nX6_kind) := ⟨Or.inl ⟨q1102, rfl⟩, rfl, rfl, plainFor_of_name (by decide +kernel)⟩
theorem eX6_kind_0 : SiZ nX6_kind 0 (i_push (.int 3) 1) := s_iconst dX6_kind_0 (by decide)
theorem eX6_kind_1 : SiZ nX6_kind 1 i_iret := s_iret dX6_kind_1 rfl
theorem aX6_kind : ∀ x ∈ mX6_kind.1, EnZ nX6_kind x := fm_cons eX6_kind_0 (fm_cons eX6_kind_1 (fm_nil))
theorem zX6_kind : SwZ nX6_kind (Mt mX6_kind 1) := wholeZ (mi := nX6_kind) (cd := mX6_kind) aX6_kind rfl (HdZ.none rfl)
abbrev nX7_kind : MI := (cX7_kind, 1, (some (.int)), RX7, "kind", [], 0, 0)
theorem hyX7_kind : yX7_kind.cls ≠ "java/lang/invoke/MethodHandle" ∧ yX7_kind.cls ≠ "java/lang/invoke/VarHandle" := by decide +kernel
theorem pnX7_kind : (parseMethodDescriptor yX7_kind.desc).map (fun d => d.parameters.length) = some 0 := by decide +kernel
theorem wdX7_kind : CdW yX7_kind (nX7_kind) := ⟨Or.inl ⟨q1111, rfl⟩, rfl, rfl, plainFor_of_name (by decide +kernel)⟩
theorem eX7_kind_0 : SiZ nX7_kind 0 (i_push (.int 4) 1) := s_iconst dX7_kind_0 (by decide)
theorem eX7_kind_1 : SiZ nX7_kind 1 i_iret := s_iret dX7_kind_1 rfl
theorem aX7_kind : ∀ x ∈ mX7_kind.1, EnZ nX7_kind x := fm_cons eX7_kind_0 (fm_cons eX7_kind_1 (fm_nil))
theorem zX7_kind : SwZ nX7_kind (Mt mX7_kind 1) := wholeZ (mi := nX7_kind) (cd := mX7_kind) aX7_kind rfl (HdZ.none rfl)
abbrev nX8_kind : MI := (cX8_kind, 1, (some (.int)), RX8, "kind", [], 0, 0)
theorem hyX8_kind : yX8_kind.cls ≠ "java/lang/invoke/MethodHandle" ∧ yX8_kind.cls ≠ "java/lang/invoke/VarHandle" := by decide +kernel
theorem pnX8_kind : (parseMethodDescriptor yX8_kind.desc).map (fun d => d.parameters.length) = some 0 := by decide +kernel
theorem wdX8_kind : CdW yX8_kind (nX8_kind) := ⟨Or.inl ⟨q1108, rfl⟩, rfl, rfl, plainFor_of_name (by decide +kernel)⟩
theorem eX8_kind_0 : SiZ nX8_kind 0 (i_push (.int 5) 1) := s_iconst dX8_kind_0 (by decide)
theorem eX8_kind_1 : SiZ nX8_kind 1 i_iret := s_iret dX8_kind_1 rfl
theorem aX8_kind : ∀ x ∈ mX8_kind.1, EnZ nX8_kind x := fm_cons eX8_kind_0 (fm_cons eX8_kind_1 (fm_nil))
theorem zX8_kind : SwZ nX8_kind (Mt mX8_kind 1) := wholeZ (mi := nX8_kind) (cd := mX8_kind) aX8_kind rfl (HdZ.none rfl)
abbrev nX0_kind : MI := (cX0_kind, 2, (some (.int)), RX0, "kind", [], 3, 76)
theorem hyX0_kind : yX0_kind.cls ≠ "java/lang/invoke/MethodHandle" ∧ yX0_kind.cls ≠ "java/lang/invoke/VarHandle" := by decide +kernel
theorem pnX0_kind : (parseMethodDescriptor yX0_kind.desc).map (fun d => d.parameters.length) = some 1 := by decide +kernel
theorem wdX0_kind : CdW yX0_kind (nX0_kind) := ⟨Or.inl ⟨q1091, rfl⟩, rfl, rfl, plainFor_of_name (by decide +kernel)⟩
theorem eX0_kind_0 : SiZ nX0_kind 0 (i_aload 0 1) := s_aload_n dX0_kind_0 rfl
theorem eX0_kind_1 : SiZ nX0_kind 1 (i_iload 1 2) := s_iload_n dX0_kind_1 rfl
theorem eX0_kind_2 : ScZ nX0_kind 2 (c_V 1 5 2 1 (Mt mX0_isFish 2)) := e_V (mi := nX0_kind) (mi' := nX0_isFish) (len := 3) (fun h b as rest hk hl => cs_V (ci := 0) (mi := nX0_kind) (pc := 2) (y := yX0_isFish) (idx := 231) dX0_kind_2 q918 q920 qs24 rfl hk hyX0_isFish (sigC q921) pnX0_isFish hl) wdX0_isFish zX0_isFish (Nat.le_of_ble_eq_true rfl) (Nat.le_of_ble_eq_true rfl)
theorem eX0_kind_5 : SiZ nX0_kind 5 (i_if (fun x => x = 0) 30 8) := s_if_eq dX0_kind_5 (by decide)
theorem eX0_kind_8 : SiZ nX0_kind 8 (i_aload 0 9) := s_aload_n dX0_kind_8 rfl
theorem eX0_kind_9 : SiZ nX0_kind 9 (i_getf 11 [1] 12) := s_getf dX0_kind_9 (fm_cons (⟨_, _, _, _, _, _, rfl, fkX0_39_1⟩) (fm_nil))
theorem eX0_kind_12 : SiZ nX0_kind 12 (i_getf 51 [2] 15) := s_getf dX0_kind_12 (fm_cons (⟨_, _, _, _, _, _, rfl, fkX0_353_2⟩) (fm_nil))
theorem eX0_kind_15 : SiZ nX0_kind 15 (i_iload 1 16) := s_iload_n dX0_kind_15 rfl
theorem eX0_kind_16 : ScZ nX0_kind 16 (c_V 1 21 2 14 (Mt mJ2_get 2)) := e_V (mi := nX0_kind) (mi' := nJ2_get) (len := 5) (fun h b as rest hk hl => cs_F (ci := 13) (mi := nX0_kind) (pc := 16) (y := yJ2_get) (idx := 357) dX0_kind_16 q1093 q808 q810 (by decide +kernel) rfl hk pnJ2_get hl) wdJ2_get zJ2_get (Nat.le_of_ble_eq_true rfl) (Nat.le_of_ble_eq_true rfl)
theorem eX0_kind_21 : SiZ nX0_kind 21 (i_cast [4, 5, 6, 7, 8] 24) := s_cast dX0_kind_21 q249 (fm_cons (⟨3, _, rfl, rfl, Or.inr q1715⟩) (fm_cons (⟨4, _, rfl, rfl, Or.inr q1717⟩) (fm_cons (⟨5, _, rfl, rfl, Or.inr q1716⟩) (fm_cons (⟨6, _, rfl, rfl, Or.inr q1719⟩) (fm_cons (⟨7, _, rfl, rfl, Or.inr q1718⟩) (fm_nil))))))
theorem eX0_kind_24 : ScZ nX0_kind 24 (c_D 0 27 1 [(4, (Mt mX4_kind 1)), (5, (Mt mX5_kind 1)), (6, (Mt mX6_kind 1)), (7, (Mt mX7_kind 1)), (8, (Mt mX8_kind 1))]) := e_D (len := 3) (fm_cons (⟨_, _, (fun h b as rest hk hl => cs_U (ci := 3) (mi := nX0_kind) (pc := 24) (y := yX4_kind) (idx := 363) dX0_kind_24 q1094 q1096 (Or.inl q1095) q1098 q1097 rfl hk (by decide +kernel) pnX4_kind hl), wdX4_kind, zX4_kind, Nat.le_of_ble_eq_true rfl, Nat.le_of_ble_eq_true rfl, Nat.le_of_ble_eq_true rfl⟩) (fm_cons (⟨_, _, (fun h b as rest hk hl => cs_U (ci := 4) (mi := nX0_kind) (pc := 24) (y := yX5_kind) (idx := 363) dX0_kind_24 q1094 q1096 (Or.inl q1095) q1104 q1103 rfl hk (by decide +kernel) pnX5_kind hl), wdX5_kind, zX5_kind, Nat.le_of_ble_eq_true rfl, Nat.le_of_ble_eq_true rfl, Nat.le_of_ble_eq_true rfl⟩) (fm_cons (⟨_, _, (fun h b as rest hk hl => cs_U (ci := 5) (mi := nX0_kind) (pc := 24) (y := yX6_kind) (idx := 363) dX0_kind_24 q1094 q1096 (Or.inl q1095) q1101 q1100 rfl hk (by decide +kernel) pnX6_kind hl), wdX6_kind, zX6_kind, Nat.le_of_ble_eq_true rfl, Nat.le_of_ble_eq_true rfl, Nat.le_of_ble_eq_true rfl⟩) (fm_cons (⟨_, _, (fun h b as rest hk hl => cs_U (ci := 6) (mi := nX0_kind) (pc := 24) (y := yX7_kind) (idx := 363) dX0_kind_24 q1094 q1096 (Or.inl q1095) q1110 q1109 rfl hk (by decide +kernel) pnX7_kind hl), wdX7_kind, zX7_kind, Nat.le_of_ble_eq_true rfl, Nat.le_of_ble_eq_true rfl, Nat.le_of_ble_eq_true rfl⟩) (fm_cons (⟨_, _, (fun h b as rest hk hl => cs_U (ci := 7) (mi := nX0_kind) (pc := 24) (y := yX8_kind) (idx := 363) dX0_kind_24 q1094 q1096 (Or.inl q1095) q1107 q1106 rfl hk (by decide +kernel) pnX8_kind hl), wdX8_kind, zX8_kind, Nat.le_of_ble_eq_true rfl, Nat.le_of_ble_eq_true rfl, Nat.le_of_ble_eq_true rfl⟩) (fm_nil))))))
theorem eX0_kind_27 : SiZ nX0_kind 27 (i_goto 32) := s_goto dX0_kind_27 (by decide)
theorem eX0_kind_30 : SiZ nX0_kind 30 (i_push (.int (-1000001)) 32) := s_ldc dX0_kind_30 q355
theorem eX0_kind_32 : SiZ nX0_kind 32 i_iret := s_iret dX0_kind_32 rfl
theorem aX0_kind : ∀ x ∈ mX0_kind.1, EnZ nX0_kind x := fm_cons eX0_kind_0 (fm_cons eX0_kind_1 (fm_cons eX0_kind_2 (fm_cons eX0_kind_5 (fm_cons eX0_kind_8 (fm_cons eX0_kind_9 (fm_cons eX0_kind_12 (fm_cons eX0_kind_15 (fm_cons eX0_kind_16 (fm_cons eX0_kind_21 (fm_cons eX0_kind_24 (fm_cons eX0_kind_27 (fm_cons eX0_kind_30 (fm_cons eX0_kind_32 (fm_nil))))))))))))))
theorem zX0_kind : SwZ nX0_kind (Mt mX0_kind 2) := wholeZ (mi := nX0_kind) (cd := mX0_kind) aX0_kind rfl (HdZ.none rfl)
abbrev nX3_number : MI := (cX3_number, 1, (some (.int)), RX3, "number", [], 0, 0)
theorem hyX3_number : yX3_number.cls ≠ "java/lang/invoke/MethodHandle" ∧ yX3_number.cls ≠ "java/lang/invoke/VarHandle" := by decide +kernel
theorem pnX3_number : (parseMethodDescriptor yX3_number.desc).map (fun d => d.parameters.length) = some 0 := by decide +kernel
theorem wdX3_number : CdW yX3_number (nX3_number) := ⟨Or.inl ⟨q1138, rfl⟩, rfl, rfl, plainFor_of_name (by decide +kernel)⟩
theorem eX3_number_0 : SiZ nX3_number 0 (i_aload 0 1) := s_aload_n dX3_number_0 rfl
theorem eX3_number_1 : SiZ nX3_number 1 (i_getf 68 [4, 5, 6, 7, 8] 4) := s_getf dX3_number_1 (fm_cons (⟨_, _, _, _, _, _, rfl, fkX3_7_4⟩) (fm_cons (⟨_, _, _, _, _, _, rfl, fkX3_7_5⟩) (fm_cons (⟨_, _, _, _, _, _, rfl, fkX3_7_6⟩) (fm_cons (⟨_, _, _, _, _, _, rfl, fkX3_7_7⟩) (fm_cons (⟨_, _, _, _, _, _, rfl, fkX3_7_8⟩) (fm_nil))))))
theorem eX3_number_4 : SiZ nX3_number 4 i_iret := s_iret dX3_number_4 rfl
theorem aX3_number : ∀ x ∈ mX3_number.1, EnZ nX3_number x := fm_cons eX3_number_0 (fm_cons eX3_number_1 (fm_cons eX3_number_4 (fm_nil)))
theorem zX3_number : SwZ nX3_number (Mt mX3_number 1) := wholeZ (mi := nX3_number) (cd := mX3_number) aX3_number rfl (HdZ.none rfl)
abbrev nX0_as : MI := (cX0_as, 5, (some (.int)), RX0, "as", [(40, 111, 112, 367), (23, 111, 123, 74), (112, 123, 123, 74)], 20, 12000)
theorem hyX0_as : yX0_as.cls ≠ "java/lang/invoke/MethodHandle" ∧ yX0_as.cls ≠ "java/lang/invoke/VarHandle" := by decide +kernel
theorem pnX0_as : (parseMethodDescriptor yX0_as.desc).map (fun d => d.parameters.length) = some 2 := by decide +kernel
theorem wdX0_as : CdW yX0_as (nX0_as) := ⟨Or.inr q1115, rfl, rfl, plainFor_of_name (by decide +kernel)⟩
theorem eX0_as_0 : SiZ nX0_as 0 (i_aload 0 1) := s_aload_n dX0_as_0 rfl
theorem eX0_as_1 : SiZ nX0_as 1 (i_iload 1 2) := s_iload_n dX0_as_1 rfl
theorem eX0_as_2 : ScZ nX0_as 2 (c_V 1 5 2 1 (Mt mX0_isFish 2)) := e_V (mi := nX0_as) (mi' := nX0_isFish) (len := 3) (fun h b as rest hk hl => cs_V (ci := 0) (mi := nX0_as) (pc := 2) (y := yX0_isFish) (idx := 231) dX0_as_2 q918 q920 qs24 rfl hk hyX0_isFish (sigC q921) pnX0_isFish hl) wdX0_isFish zX0_isFish (Nat.le_of_ble_eq_true rfl) (Nat.le_of_ble_eq_true rfl)
theorem eX0_as_5 : SiZ nX0_as 5 (i_if (fun x => x = 0) 20 8) := s_if_eq dX0_as_5 (by decide)
theorem eX0_as_8 : SiZ nX0_as 8 (i_iload 2 9) := s_iload_n dX0_as_8 rfl
theorem eX0_as_9 : SiZ nX0_as 9 (i_i2l 10) := s_i2l dX0_as_9
theorem eX0_as_10 : SiZ nX0_as 10 (i_push (.long 0) 11) := s_lconst dX0_as_10 (by decide)
theorem eX0_as_11 : SiZ nX0_as 11 (i_push (.long 5) 14) := s_ldc2 dX0_as_11 q1079
theorem eX0_as_14 : ScZ nX0_as 14 (c_S 3 17 6 (Mt mX0_isIn 6)) := e_S (mi := nX0_as) (mi' := nX0_isIn) (len := 3) (fun h as rest hl => cs_S (mi := nX0_as) (pc := 14) (y := yX0_isIn) (idx := 86) dX0_as_14 q351 q352 q77 q353 hyX0_isIn pnX0_isIn hl) wdX0_isIn zX0_isIn (Nat.le_of_ble_eq_true rfl) (Nat.le_of_ble_eq_true rfl)
theorem eX0_as_17 : SiZ nX0_as 17 (i_if (fun x => ¬ x = 0) 23 20) := s_if_ne dX0_as_17 (by decide)
theorem eX0_as_20 : SiZ nX0_as 20 (i_push (.int (-1000001)) 22) := s_ldc dX0_as_20 q355
theorem eX0_as_22 : SiZ nX0_as 22 i_iret := s_iret dX0_as_22 rfl
theorem eX0_as_23 : SiZ nX0_as 23 (i_aload 0 24) := s_aload_n dX0_as_23 rfl
theorem eX0_as_24 : SiZ nX0_as 24 (i_getf 11 [1] 27) := s_getf dX0_as_24 (fm_cons (⟨_, _, _, _, _, _, rfl, fkX0_39_1⟩) (fm_nil))
theorem eX0_as_27 : SiZ nX0_as 27 (i_getf 51 [2] 30) := s_getf dX0_as_27 (fm_cons (⟨_, _, _, _, _, _, rfl, fkX0_353_2⟩) (fm_nil))
theorem eX0_as_30 : SiZ nX0_as 30 (i_iload 1 31) := s_iload_n dX0_as_30 rfl
theorem eX0_as_31 : ScZ nX0_as 31 (c_V 1 36 2 14 (Mt mJ2_get 2)) := e_V (mi := nX0_as) (mi' := nJ2_get) (len := 5) (fun h b as rest hk hl => cs_F (ci := 13) (mi := nX0_as) (pc := 31) (y := yJ2_get) (idx := 357) dX0_as_31 q1093 q808 q810 (by decide +kernel) rfl hk pnJ2_get hl) wdJ2_get zJ2_get (Nat.le_of_ble_eq_true rfl) (Nat.le_of_ble_eq_true rfl)
theorem eX0_as_36 : SiZ nX0_as 36 (i_cast [4, 5, 6, 7, 8] 39) := s_cast dX0_as_36 q249 (fm_cons (⟨3, _, rfl, rfl, Or.inr q1715⟩) (fm_cons (⟨4, _, rfl, rfl, Or.inr q1717⟩) (fm_cons (⟨5, _, rfl, rfl, Or.inr q1716⟩) (fm_cons (⟨6, _, rfl, rfl, Or.inr q1719⟩) (fm_cons (⟨7, _, rfl, rfl, Or.inr q1718⟩) (fm_nil))))))
theorem eX0_as_39 : SiZ nX0_as 39 (i_astore 3 40) := s_astore_n dX0_as_39 rfl
theorem eX0_as_40 : SiZ nX0_as 40 (i_iload 2 41) := s_iload_n dX0_as_40 rfl
theorem eX0_as_41 : SiZ nX0_as 41 (i_if (fun x => ¬ x = 0) 48 44) := s_if_ne dX0_as_41 (by decide)
theorem eX0_as_44 : SiZ nX0_as 44 (i_aload 3 45) := s_aload_n dX0_as_44 rfl
theorem eX0_as_45 : SiZ nX0_as 45 (i_goto 100) := s_goto dX0_as_45 (by decide)
theorem eX0_as_48 : SiZ nX0_as 48 (i_iload 2 49) := s_iload_n dX0_as_48 rfl
theorem eX0_as_49 : SiZ nX0_as 49 (i_push (.int 1) 50) := s_iconst dX0_as_49 (by decide)
theorem eX0_as_50 : SiZ nX0_as 50 (i_icmp (fun x y => ¬ x = y) 60 53) := s_icmp_ne dX0_as_50 (by decide)
theorem eX0_as_53 : SiZ nX0_as 53 (i_aload 3 54) := s_aload_n dX0_as_53 rfl
theorem eX0_as_54 : SiZ nX0_as 54 (i_castT [4, 5, 6] [7, 8] 57) := s_castT dX0_as_54 q251 (fm_cons (⟨3, _, rfl, rfl, Or.inl rfl⟩) (fm_cons (⟨4, _, rfl, rfl, Or.inr q1721⟩) (fm_cons (⟨5, _, rfl, rfl, Or.inr q1720⟩) (fm_nil)))) (fm_cons (⟨6, _, rfl, rfl, by decide +kernel, by decide +kernel, by decide +kernel⟩) (fm_cons (⟨7, _, rfl, rfl, by decide +kernel, by decide +kernel, by decide +kernel⟩) (fm_nil))) (by decide +kernel) (by decide +kernel) (by decide) (by decide)
theorem eX0_as_57 : SiZ nX0_as 57 (i_goto 100) := s_goto dX0_as_57 (by decide)
theorem eX0_as_60 : SiZ nX0_as 60 (i_iload 2 61) := s_iload_n dX0_as_60 rfl
theorem eX0_as_61 : SiZ nX0_as 61 (i_push (.int 2) 62) := s_iconst dX0_as_61 (by decide)
theorem eX0_as_62 : SiZ nX0_as 62 (i_icmp (fun x y => ¬ x = y) 72 65) := s_icmp_ne dX0_as_62 (by decide)
theorem eX0_as_65 : SiZ nX0_as 65 (i_aload 3 66) := s_aload_n dX0_as_65 rfl
theorem eX0_as_66 : SiZ nX0_as 66 (i_castT [5] [4, 6, 7, 8] 69) := s_castT dX0_as_66 q264 (fm_cons (⟨4, _, rfl, rfl, Or.inl rfl⟩) (fm_nil)) (fm_cons (⟨3, _, rfl, rfl, by decide +kernel, by decide +kernel, by decide +kernel⟩) (fm_cons (⟨5, _, rfl, rfl, by decide +kernel, by decide +kernel, by decide +kernel⟩) (fm_cons (⟨6, _, rfl, rfl, by decide +kernel, by decide +kernel, by decide +kernel⟩) (fm_cons (⟨7, _, rfl, rfl, by decide +kernel, by decide +kernel, by decide +kernel⟩) (fm_nil))))) (by decide +kernel) (by decide +kernel) (by decide) (by decide)
theorem eX0_as_69 : SiZ nX0_as 69 (i_goto 100) := s_goto dX0_as_69 (by decide)
theorem eX0_as_72 : SiZ nX0_as 72 (i_iload 2 73) := s_iload_n dX0_as_72 rfl
theorem eX0_as_73 : SiZ nX0_as 73 (i_push (.int 3) 74) := s_iconst dX0_as_73 (by decide)
theorem eX0_as_74 : SiZ nX0_as 74 (i_icmp (fun x y => ¬ x = y) 84 77) := s_icmp_ne dX0_as_74 (by decide)
theorem eX0_as_77 : SiZ nX0_as 77 (i_aload 3 78) := s_aload_n dX0_as_77 rfl
theorem eX0_as_78 : SiZ nX0_as 78 (i_castT [6] [4, 5, 7, 8] 81) := s_castT dX0_as_78 q272 (fm_cons (⟨5, _, rfl, rfl, Or.inl rfl⟩) (fm_nil)) (fm_cons (⟨3, _, rfl, rfl, by decide +kernel, by decide +kernel, by decide +kernel⟩) (fm_cons (⟨4, _, rfl, rfl, by decide +kernel, by decide +kernel, by decide +kernel⟩) (fm_cons (⟨6, _, rfl, rfl, by decide +kernel, by decide +kernel, by decide +kernel⟩) (fm_cons (⟨7, _, rfl, rfl, by decide +kernel, by decide +kernel, by decide +kernel⟩) (fm_nil))))) (by decide +kernel) (by decide +kernel) (by decide) (by decide)
theorem eX0_as_81 : SiZ nX0_as 81 (i_goto 100) := s_goto dX0_as_81 (by decide)
theorem eX0_as_84 : SiZ nX0_as 84 (i_iload 2 85) := s_iload_n dX0_as_84 rfl
theorem eX0_as_85 : SiZ nX0_as 85 (i_push (.int 4) 86) := s_iconst dX0_as_85 (by decide)
theorem eX0_as_86 : SiZ nX0_as 86 (i_icmp (fun x y => ¬ x = y) 96 89) := s_icmp_ne dX0_as_86 (by decide)
theorem eX0_as_89 : SiZ nX0_as 89 (i_aload 3 90) := s_aload_n dX0_as_89 rfl
theorem eX0_as_90 : SiZ nX0_as 90 (i_castT [7, 8] [4, 5, 6] 93) := s_castT dX0_as_90 q280 (fm_cons (⟨6, _, rfl, rfl, Or.inl rfl⟩) (fm_cons (⟨7, _, rfl, rfl, Or.inr q1722⟩) (fm_nil))) (fm_cons (⟨3, _, rfl, rfl, by decide +kernel, by decide +kernel, by decide +kernel⟩) (fm_cons (⟨4, _, rfl, rfl, by decide +kernel, by decide +kernel, by decide +kernel⟩) (fm_cons (⟨5, _, rfl, rfl, by decide +kernel, by decide +kernel, by decide +kernel⟩) (fm_nil)))) (by decide +kernel) (by decide +kernel) (by decide) (by decide)
theorem eX0_as_93 : SiZ nX0_as 93 (i_goto 100) := s_goto dX0_as_93 (by decide)
theorem eX0_as_96 : SiZ nX0_as 96 (i_aload 3 97) := s_aload_n dX0_as_96 rfl
theorem eX0_as_97 : SiZ nX0_as 97 (i_castT [8] [4, 5, 6, 7] 100) := s_castT dX0_as_97 q288 (fm_cons (⟨7, _, rfl, rfl, Or.inl rfl⟩) (fm_nil)) (fm_cons (⟨3, _, rfl, rfl, by decide +kernel, by decide +kernel, by decide +kernel⟩) (fm_cons (⟨4, _, rfl, rfl, by decide +kernel, by decide +kernel, by decide +kernel⟩) (fm_cons (⟨5, _, rfl, rfl, by decide +kernel, by decide +kernel, by decide +kernel⟩) (fm_cons (⟨6, _, rfl, rfl, by decide +kernel, by decide +kernel, by decide +kernel⟩) (fm_nil))))) (by decide +kernel) (by decide +kernel) (by decide) (by decide)
theorem eX0_as_100 : SiZ nX0_as 100 (i_astore 4 102) := s_astore dX0_as_100
theorem eX0_as_102 : SiZ nX0_as 102 (i_aload 0 103) := s_aload_n dX0_as_102 rfl
theorem eX0_as_103 : SiZ nX0_as 103 (i_aload 4 105) := s_aload dX0_as_103
theorem eX0_as_105 : ScZ nX0_as 105 (c_D 0 108 1 [(4, (Mt mX3_number 1)), (5, (Mt mX3_number 1)), (6, (Mt mX3_number 1)), (7, (Mt mX3_number 1)), (8, (Mt mX3_number 1))]) := e_D (len := 3) (fm_cons (⟨_, _, (fun h b as rest hk hl => cs_U (ci := 3) (mi := nX0_as) (pc := 105) (y := yX3_number) (idx := 365) dX0_as_105 q1130 q1132 (Or.inl q1196) q1131 q1133 rfl hk (by decide +kernel) pnX3_number hl), wdX3_number, zX3_number, Nat.le_of_ble_eq_true rfl, Nat.le_of_ble_eq_true rfl, Nat.le_of_ble_eq_true rfl⟩) (fm_cons (⟨_, _, (fun h b as rest hk hl => cs_U (ci := 4) (mi := nX0_as) (pc := 105) (y := yX3_number) (idx := 365) dX0_as_105 q1130 q1132 (Or.inl q1196) q1131 q1135 rfl hk (by decide +kernel) pnX3_number hl), wdX3_number, zX3_number, Nat.le_of_ble_eq_true rfl, Nat.le_of_ble_eq_true rfl, Nat.le_of_ble_eq_true rfl⟩) (fm_cons (⟨_, _, (fun h b as rest hk hl => cs_U (ci := 5) (mi := nX0_as) (pc := 105) (y := yX3_number) (idx := 365) dX0_as_105 q1130 q1132 (Or.inl q1196) q1131 q1134 rfl hk (by decide +kernel) pnX3_number hl), wdX3_number, zX3_number, Nat.le_of_ble_eq_true rfl, Nat.le_of_ble_eq_true rfl, Nat.le_of_ble_eq_true rfl⟩) (fm_cons (⟨_, _, (fun h b as rest hk hl => cs_U (ci := 6) (mi := nX0_as) (pc := 105) (y := yX3_number) (idx := 365) dX0_as_105 q1130 q1132 (Or.inl q1196) q1131 q1137 rfl hk (by decide +kernel) pnX3_number hl), wdX3_number, zX3_number, Nat.le_of_ble_eq_true rfl, Nat.le_of_ble_eq_true rfl, Nat.le_of_ble_eq_true rfl⟩) (fm_cons (⟨_, _, (fun h b as rest hk hl => cs_U (ci := 7) (mi := nX0_as) (pc := 105) (y := yX3_number) (idx := 365) dX0_as_105 q1130 q1132 (Or.inl q1196) q1131 q1136 rfl hk (by decide +kernel) pnX3_number hl), wdX3_number, zX3_number, Nat.le_of_ble_eq_true rfl, Nat.le_of_ble_eq_true rfl, Nat.le_of_ble_eq_true rfl⟩) (fm_nil))))))
theorem eX0_as_108 : ScZ nX0_as 108 (c_V 1 111 2 1 (Mt mX0_well 2)) := e_V (mi := nX0_as) (mi' := nX0_well) (len := 3) (fun h b as rest hk hl => cs_V (ci := 0) (mi := nX0_as) (pc := 108) (y := yX0_well) (idx := 104) dX0_as_108 q438 q440 qs1 rfl hk hyX0_well (sigC q441) pnX0_well hl) wdX0_well zX0_well (Nat.le_of_ble_eq_true rfl) (Nat.le_of_ble_eq_true rfl)
theorem eX0_as_111 : SiZ nX0_as 111 i_iret := s_iret dX0_as_111 rfl
theorem eX0_as_112 : SiZ nX0_as 112 (i_astore 4 114) := s_astore dX0_as_112
theorem eX0_as_114 : SiZ nX0_as 114 (i_new 10 7 117) := s_new dX0_as_114 q346 q359 q92 clX10 rfl (by decide)
theorem eX0_as_117 : SiZ nX0_as 117 (i_dup 118) := s_dup dX0_as_117
theorem eX0_as_118 : SiZ nX0_as 118 (i_push (.int 3) 119) := s_iconst dX0_as_118 (by decide)
theorem eX0_as_119 : ScZ nX0_as 119 (c_I 1 122 2 (Mt mX10_init 2)) := e_I (mi := nX0_as) (mi' := nX10_init) (len := 3) (fun h b as rest hl => cs_I (mi := nX0_as) (pc := 119) (y := yX10_init) (idx := 83) dX0_as_119 rfl q398 q399 q400 hyX10_init pnX10_init hl) wdX10_init zX10_init (Nat.le_of_ble_eq_true rfl) (Nat.le_of_ble_eq_true rfl)
theorem eX0_as_122 : SiZ nX0_as 122 i_thr := s_thr dX0_as_122
theorem eX0_as_123 : SiZ nX0_as 123 (i_astore 3 124) := s_astore_n dX0_as_123 rfl
theorem eX0_as_124 : SiZ nX0_as 124 (i_aload 0 125) := s_aload_n dX0_as_124 rfl
theorem eX0_as_125 : SiZ nX0_as 125 (i_aload 3 126) := s_aload_n dX0_as_125 rfl
theorem eX0_as_126 : ScZ nX0_as 126 (c_V 1 129 2 1 (Mt mX0_found 2)) := e_V (mi := nX0_as) (mi' := nX0_found) (len := 3) (fun h b as rest hk hl => cs_V (ci := 0) (mi := nX0_as) (pc := 126) (y := yX0_found) (idx := 108) dX0_as_126 q442 q444 qs2 rfl hk hyX0_found (sigC q445) pnX0_found hl) wdX0_found zX0_found (Nat.le_of_ble_eq_true rfl) (Nat.le_of_ble_eq_true rfl)
theorem eX0_as_129 : SiZ nX0_as 129 i_iret := s_iret dX0_as_129 rfl
theorem aX0_as : ∀ x ∈ mX0_as.1, EnZ nX0_as x := fm_cons eX0_as_0 (fm_cons eX0_as_1 (fm_cons eX0_as_2 (fm_cons eX0_as_5 (fm_cons eX0_as_8 (fm_cons eX0_as_9 (fm_cons eX0_as_10 (fm_cons eX0_as_11 (fm_cons eX0_as_14 (fm_cons eX0_as_17 (fm_cons eX0_as_20 (fm_cons eX0_as_22 (fm_cons eX0_as_23 (fm_cons eX0_as_24 (fm_cons eX0_as_27 (fm_cons eX0_as_30 (fm_cons eX0_as_31 (fm_cons eX0_as_36 (fm_cons eX0_as_39 (fm_cons eX0_as_40 (fm_cons eX0_as_41 (fm_cons eX0_as_44 (fm_cons eX0_as_45 (fm_cons eX0_as_48 (fm_cons eX0_as_49 (fm_cons eX0_as_50 (fm_cons eX0_as_53 (fm_cons eX0_as_54 (fm_cons eX0_as_57 (fm_cons eX0_as_60 (fm_cons eX0_as_61 (fm_cons eX0_as_62 (fm_cons eX0_as_65 (fm_cons eX0_as_66 (fm_cons eX0_as_69 (fm_cons eX0_as_72 (fm_cons eX0_as_73 (fm_cons eX0_as_74 (fm_cons eX0_as_77 (fm_cons eX0_as_78 (fm_cons eX0_as_81 (fm_cons eX0_as_84 (fm_cons eX0_as_85 (fm_cons eX0_as_86 (fm_cons eX0_as_89 (fm_cons eX0_as_90 (fm_cons eX0_as_93 (fm_cons eX0_as_96 (fm_cons eX0_as_97 (fm_cons eX0_as_100 (fm_cons eX0_as_102 (fm_cons eX0_as_103 (fm_cons eX0_as_105 (fm_cons eX0_as_108 (fm_cons eX0_as_111 (fm_cons eX0_as_112 (fm_cons eX0_as_114 (fm_cons eX0_as_117 (fm_cons eX0_as_118 (fm_cons eX0_as_119 (fm_cons eX0_as_122 (fm_cons eX0_as_123 (fm_cons eX0_as_124 (fm_cons eX0_as_125 (fm_cons eX0_as_126 (fm_cons eX0_as_129 (fm_nil))))))))))))))))))))))))))))))))))))))))))))))))))))))))))))))))))
theorem zX0_as : SwZ nX0_as (Mt mX0_as 5) := wholeZ (mi := nX0_as) (cd := mX0_as) aX0_as rfl (HdZ.tab (mi := nX0_as) (fun c => if c = 74 then [10] else if c = 367 then [63] else []) rfl (fm_cons (⟨by decide, "java/lang/ClassCastException", q1116, fm_cons ⟨"java/lang/ClassCastException", Or.inr ⟨1, by decide, rfl, rfl⟩, Or.inl rfl⟩ fm_nil⟩) (fm_cons (⟨by decide, "FishReaders$Finding", q346, fm_cons ⟨"FishReaders$Finding", Or.inl ⟨9, _, rfl, rfl, rfl⟩, Or.inl rfl⟩ fm_nil⟩) (fm_cons (⟨by decide, "FishReaders$Finding", q346, fm_cons ⟨"FishReaders$Finding", Or.inl ⟨9, _, rfl, rfl, rfl⟩, Or.inl rfl⟩ fm_nil⟩) (fm_nil)))))
abbrev nX2_begins : MI := (cX2_begins, 2, none, RX2, "begins", [], 0, 0)
theorem hyX2_begins : yX2_begins.cls ≠ "java/lang/invoke/MethodHandle" ∧ yX2_begins.cls ≠ "java/lang/invoke/VarHandle" := by decide +kernel
theorem pnX2_begins : (parseMethodDescriptor yX2_begins.desc).map (fun d => d.parameters.length) = some 1 := by decide +kernel
theorem wdX2_begins : CdW yX2_begins (nX2_begins) := ⟨Or.inl ⟨q1152, rfl⟩, rfl, rfl, plainFor_of_name (by decide +kernel)⟩
theorem eX2_begins_0 : SiZ nX2_begins 0 (i_aload 0 1) := s_aload_n dX2_begins_0 rfl
theorem eX2_begins_1 : SiZ nX2_begins 1 (i_getf 66 [3] 4) := s_getf dX2_begins_1 (fm_cons (⟨_, _, _, _, _, _, rfl, fkX2_15_3⟩) (fm_nil))
theorem eX2_begins_4 : SiZ nX2_begins 4 (i_push (.int 16) 6) := s_bipush dX2_begins_4 (by decide)
theorem eX2_begins_6 : SiZ nX2_begins 6 (i_icmp (fun x y => y ≤ x) 26 9) := s_icmp_ge dX2_begins_6 (by decide)
theorem eX2_begins_9 : SiZ nX2_begins 9 (i_aload 0 10) := s_aload_n dX2_begins_9 rfl
theorem eX2_begins_10 : SiZ nX2_begins 10 (i_getf 65 [3] 13) := s_getf dX2_begins_10 (fm_cons (⟨_, _, _, _, _, _, rfl, fkX2_9_3⟩) (fm_nil))
theorem eX2_begins_13 : SiZ nX2_begins 13 (i_aload 0 14) := s_aload_n dX2_begins_13 rfl
theorem eX2_begins_14 : SiZ nX2_begins 14 (i_dup 15) := s_dup dX2_begins_14
theorem eX2_begins_15 : SiZ nX2_begins 15 (i_getf 66 [3] 18) := s_getf dX2_begins_15 (fm_cons (⟨_, _, _, _, _, _, rfl, fkX2_15_3⟩) (fm_nil))
theorem eX2_begins_18 : SiZ nX2_begins 18 (i_dup_x1 19) := s_dup_x1 dX2_begins_18
theorem eX2_begins_19 : SiZ nX2_begins 19 (i_push (.int 1) 20) := s_iconst dX2_begins_19 (by decide)
theorem eX2_begins_20 : SiZ nX2_begins 20 (i_bin (fun x y => x + y) 21) := s_iadd dX2_begins_20
theorem eX2_begins_21 : SiZ nX2_begins 21 (i_putI 66 [3] 24) := s_putI dX2_begins_21 (fm_cons (⟨_, _, _, _, _, _, rfl, ⟨fkX2_15_3, ⟨_, q242, Or.inl rfl⟩, Or.inl rfl⟩, rfl⟩) (fm_nil))
theorem eX2_begins_24 : SiZ nX2_begins 24 (i_iload 1 25) := s_iload_n dX2_begins_24 rfl
theorem eX2_begins_25 : SiZ nX2_begins 25 (i_iast 51 (fun x => x) 26) := s_ast (j := 0) (by decide) (fun _ => rfl) dX2_begins_25 (Or.inl ⟨rfl, rfl, rfl⟩)
theorem eX2_begins_26 : SiZ nX2_begins 26 i_vret := s_vret dX2_begins_26 rfl
theorem aX2_begins : ∀ x ∈ mX2_begins.1, EnZ nX2_begins x := fm_cons eX2_begins_0 (fm_cons eX2_begins_1 (fm_cons eX2_begins_4 (fm_cons eX2_begins_6 (fm_cons eX2_begins_9 (fm_cons eX2_begins_10 (fm_cons eX2_begins_13 (fm_cons eX2_begins_14 (fm_cons eX2_begins_15 (fm_cons eX2_begins_18 (fm_cons eX2_begins_19 (fm_cons eX2_begins_20 (fm_cons eX2_begins_21 (fm_cons eX2_begins_24 (fm_cons eX2_begins_25 (fm_cons eX2_begins_26 (fm_nil))))))))))))))))
theorem zX2_begins : SwZ nX2_begins (Mt mX2_begins 2) := wholeZ (mi := nX2_begins) (cd := mX2_begins) aX2_begins rfl (HdZ.none rfl)
abbrev nX3_size : MI := (cX3_size, 3, (some (.int)), RX3, "size", [], 1, 25)
theorem hyX3_size : yX3_size.cls ≠ "java/lang/invoke/MethodHandle" ∧ yX3_size.cls ≠ "java/lang/invoke/VarHandle" := by decide +kernel
theorem pnX3_size : (parseMethodDescriptor yX3_size.desc).map (fun d => d.parameters.length) = some 2 := by decide +kernel
theorem wdX3_size : CdW yX3_size (nX3_size) := ⟨Or.inl ⟨q1215, rfl⟩, rfl, rfl, plainFor_of_name (by decide +kernel)⟩
theorem eX3_size_0 : SiZ nX3_size 0 (i_aload 1 1) := s_aload_n dX3_size_0 rfl
theorem eX3_size_1 : SiZ nX3_size 1 (i_push (.int 10) 3) := s_bipush dX3_size_1 (by decide)
theorem eX3_size_3 : ScZ nX3_size 3 (c_V 1 6 2 3 (Mt mX2_begins 2)) := e_V (mi := nX3_size) (mi' := nX2_begins) (len := 3) (fun h b as rest hk hl => cs_V (ci := 2) (mi := nX3_size) (pc := 3) (y := yX2_begins) (idx := 13) dX3_size_3 q1216 q1150 q1151 rfl hk hyX2_begins (sigC q1152) pnX2_begins hl) wdX2_begins zX2_begins (Nat.le_of_ble_eq_true rfl) (Nat.le_of_ble_eq_true rfl)
theorem eX3_size_6 : SiZ nX3_size 6 (i_aload 2 7) := s_aload_n dX3_size_6 rfl
theorem eX3_size_7 : SiZ nX3_size 7 (i_getf 55 [2] 10) := s_getf dX3_size_7 (fm_cons (⟨_, _, _, _, _, _, rfl, fkX3_19_2⟩) (fm_nil))
theorem eX3_size_10 : SiZ nX3_size 10 (i_aload 0 11) := s_aload_n dX3_size_10 rfl
theorem eX3_size_11 : SiZ nX3_size 11 (i_getf 68 [4, 5, 6, 7, 8] 14) := s_getf dX3_size_11 (fm_cons (⟨_, _, _, _, _, _, rfl, fkX3_7_4⟩) (fm_cons (⟨_, _, _, _, _, _, rfl, fkX3_7_5⟩) (fm_cons (⟨_, _, _, _, _, _, rfl, fkX3_7_6⟩) (fm_cons (⟨_, _, _, _, _, _, rfl, fkX3_7_7⟩) (fm_cons (⟨_, _, _, _, _, _, rfl, fkX3_7_8⟩) (fm_nil))))))
theorem eX3_size_14 : SiZ nX3_size 14 (i_iald 51 15) := s_ald (j := 0) (by decide) (fun _ => rfl) dX3_size_14 (Or.inl ⟨rfl, rfl⟩)
theorem eX3_size_15 : SiZ nX3_size 15 i_iret := s_iret dX3_size_15 rfl
theorem aX3_size : ∀ x ∈ mX3_size.1, EnZ nX3_size x := fm_cons eX3_size_0 (fm_cons eX3_size_1 (fm_cons eX3_size_3 (fm_cons eX3_size_6 (fm_cons eX3_size_7 (fm_cons eX3_size_10 (fm_cons eX3_size_11 (fm_cons eX3_size_14 (fm_cons eX3_size_15 (fm_nil)))))))))
theorem zX3_size : SwZ nX3_size (Mt mX3_size 3) := wholeZ (mi := nX3_size) (cd := mX3_size) aX3_size rfl (HdZ.none rfl)
abbrev nX14_mark : MI := (cX14_mark, 3, (some (.int)), RX14, "mark", [], 1, 25)
theorem hyX14_mark : yX14_mark.cls ≠ "java/lang/invoke/MethodHandle" ∧ yX14_mark.cls ≠ "java/lang/invoke/VarHandle" := by decide +kernel
theorem pnX14_mark : (parseMethodDescriptor yX14_mark.desc).map (fun d => d.parameters.length) = some 2 := by decide +kernel
theorem wdX14_mark : CdW yX14_mark (nX14_mark) := ⟨Or.inl ⟨q1172, rfl⟩, rfl, rfl, plainFor_of_name (by decide +kernel)⟩
theorem eX14_mark_0 : SiZ nX14_mark 0 (i_aload 1 1) := s_aload_n dX14_mark_0 rfl
theorem eX14_mark_1 : SiZ nX14_mark 1 (i_push (.int 20) 3) := s_bipush dX14_mark_1 (by decide)
theorem eX14_mark_3 : ScZ nX14_mark 3 (c_V 1 6 2 3 (Mt mX2_begins 2)) := e_V (mi := nX14_mark) (mi' := nX2_begins) (len := 3) (fun h b as rest hk hl => cs_V (ci := 2) (mi := nX14_mark) (pc := 3) (y := yX2_begins) (idx := 1) dX14_mark_3 q1173 q1150 q1151 rfl hk hyX2_begins (sigC q1152) pnX2_begins hl) wdX2_begins zX2_begins (Nat.le_of_ble_eq_true rfl) (Nat.le_of_ble_eq_true rfl)
theorem eX14_mark_6 : SiZ nX14_mark 6 (i_aload 0 7) := s_aload_n dX14_mark_6 rfl
theorem eX14_mark_7 : ScZ nX14_mark 7 (c_D 0 12 1 [(4, (Mt mX3_number 1)), (5, (Mt mX3_number 1)), (6, (Mt mX3_number 1)), (7, (Mt mX3_number 1)), (8, (Mt mX3_number 1))]) := e_D (len := 5) (fm_cons (⟨_, _, (fun h b as rest hk hl => cs_F (ci := 3) (mi := nX14_mark) (pc := 7) (y := yX3_number) (idx := 7) dX14_mark_7 q1175 q1179 q1131 (by decide +kernel) rfl hk pnX3_number hl), wdX3_number, zX3_number, Nat.le_of_ble_eq_true rfl, Nat.le_of_ble_eq_true rfl, Nat.le_of_ble_eq_true rfl⟩) (fm_cons (⟨_, _, (fun h b as rest hk hl => cs_F (ci := 4) (mi := nX14_mark) (pc := 7) (y := yX3_number) (idx := 7) dX14_mark_7 q1175 q1186 q1131 (by decide +kernel) rfl hk pnX3_number hl), wdX3_number, zX3_number, Nat.le_of_ble_eq_true rfl, Nat.le_of_ble_eq_true rfl, Nat.le_of_ble_eq_true rfl⟩) (fm_cons (⟨_, _, (fun h b as rest hk hl => cs_F (ci := 5) (mi := nX14_mark) (pc := 7) (y := yX3_number) (idx := 7) dX14_mark_7 q1175 q1183 q1131 (by decide +kernel) rfl hk pnX3_number hl), wdX3_number, zX3_number, Nat.le_of_ble_eq_true rfl, Nat.le_of_ble_eq_true rfl, Nat.le_of_ble_eq_true rfl⟩) (fm_cons (⟨_, _, (fun h b as rest hk hl => cs_F (ci := 6) (mi := nX14_mark) (pc := 7) (y := yX3_number) (idx := 7) dX14_mark_7 q1175 q1192 q1131 (by decide +kernel) rfl hk pnX3_number hl), wdX3_number, zX3_number, Nat.le_of_ble_eq_true rfl, Nat.le_of_ble_eq_true rfl, Nat.le_of_ble_eq_true rfl⟩) (fm_cons (⟨_, _, (fun h b as rest hk hl => cs_F (ci := 7) (mi := nX14_mark) (pc := 7) (y := yX3_number) (idx := 7) dX14_mark_7 q1175 q1189 q1131 (by decide +kernel) rfl hk pnX3_number hl), wdX3_number, zX3_number, Nat.le_of_ble_eq_true rfl, Nat.le_of_ble_eq_true rfl, Nat.le_of_ble_eq_true rfl⟩) (fm_nil))))))
theorem eX14_mark_12 : SiZ nX14_mark 12 i_iret := s_iret dX14_mark_12 rfl
theorem aX14_mark : ∀ x ∈ mX14_mark.1, EnZ nX14_mark x := fm_cons eX14_mark_0 (fm_cons eX14_mark_1 (fm_cons eX14_mark_3 (fm_cons eX14_mark_6 (fm_cons eX14_mark_7 (fm_cons eX14_mark_12 (fm_nil))))))
theorem zX14_mark : SwZ nX14_mark (Mt mX14_mark 3) := wholeZ (mi := nX14_mark) (cd := mX14_mark) aX14_mark rfl (HdZ.none rfl)
abbrev nX4_mark : MI := (cX4_mark, 3, (some (.int)), RX4, "mark", [], 2, 51)
theorem hyX4_mark : yX4_mark.cls ≠ "java/lang/invoke/MethodHandle" ∧ yX4_mark.cls ≠ "java/lang/invoke/VarHandle" := by decide +kernel
theorem pnX4_mark : (parseMethodDescriptor yX4_mark.desc).map (fun d => d.parameters.length) = some 2 := by decide +kernel
theorem wdX4_mark : CdW yX4_mark (nX4_mark) := ⟨Or.inl ⟨q1168, rfl⟩, rfl, rfl, plainFor_of_name (by decide +kernel)⟩
theorem eX4_mark_0 : SiZ nX4_mark 0 (i_aload 1 1) := s_aload_n dX4_mark_0 rfl
theorem eX4_mark_1 : SiZ nX4_mark 1 (i_push (.int 21) 3) := s_bipush dX4_mark_1 (by decide)
theorem eX4_mark_3 : ScZ nX4_mark 3 (c_V 1 6 2 3 (Mt mX2_begins 2)) := e_V (mi := nX4_mark) (mi' := nX2_begins) (len := 3) (fun h b as rest hk hl => cs_V (ci := 2) (mi := nX4_mark) (pc := 3) (y := yX2_begins) (idx := 24) dX4_mark_3 q1149 q1150 q1151 rfl hk hyX2_begins (sigC q1152) pnX2_begins hl) wdX2_begins zX2_begins (Nat.le_of_ble_eq_true rfl) (Nat.le_of_ble_eq_true rfl)
theorem eX4_mark_6 : SiZ nX4_mark 6 (i_aload 0 7) := s_aload_n dX4_mark_6 rfl
theorem eX4_mark_7 : SiZ nX4_mark 7 (i_aload 1 8) := s_aload_n dX4_mark_7 rfl
theorem eX4_mark_8 : SiZ nX4_mark 8 (i_aload 2 9) := s_aload_n dX4_mark_8 rfl
theorem eX4_mark_9 : ScZ nX4_mark 9 (c_D 2 12 3 [(4, (Mt mX14_mark 3)), (5, (Mt mX14_mark 3)), (6, (Mt mX14_mark 3))]) := e_D (len := 3) (fm_cons (⟨_, _, (fun h b as rest hk hl => cs_SD (ci := 3) (mi := nX4_mark) (pc := 9) (idx := 36) dX4_mark_9 (by decide) q263 rfl hk hl), wdX14_mark, zX14_mark, Nat.le_of_ble_eq_true rfl, Nat.le_of_ble_eq_true rfl, Nat.le_of_ble_eq_true rfl⟩) (fm_cons (⟨_, _, (fun h b as rest hk hl => cs_SD (ci := 4) (mi := nX4_mark) (pc := 9) (idx := 36) dX4_mark_9 (by decide) q263 rfl hk hl), wdX14_mark, zX14_mark, Nat.le_of_ble_eq_true rfl, Nat.le_of_ble_eq_true rfl, Nat.le_of_ble_eq_true rfl⟩) (fm_cons (⟨_, _, (fun h b as rest hk hl => cs_SD (ci := 5) (mi := nX4_mark) (pc := 9) (idx := 36) dX4_mark_9 (by decide) q263 rfl hk hl), wdX14_mark, zX14_mark, Nat.le_of_ble_eq_true rfl, Nat.le_of_ble_eq_true rfl, Nat.le_of_ble_eq_true rfl⟩) (fm_nil))))
theorem eX4_mark_12 : SiZ nX4_mark 12 (i_aload 2 13) := s_aload_n dX4_mark_12 rfl
theorem eX4_mark_13 : SiZ nX4_mark 13 (i_getf 53 [2] 16) := s_getf dX4_mark_13 (fm_cons (⟨_, _, _, _, _, _, rfl, fkX4_37_2⟩) (fm_nil))
theorem eX4_mark_16 : SiZ nX4_mark 16 (i_aload 0 17) := s_aload_n dX4_mark_16 rfl
theorem eX4_mark_17 : ScZ nX4_mark 17 (c_D 0 20 1 [(4, (Mt mX3_number 1)), (5, (Mt mX3_number 1)), (6, (Mt mX3_number 1))]) := e_D (len := 3) (fm_cons (⟨_, _, (fun h b as rest hk hl => cs_U (ci := 3) (mi := nX4_mark) (pc := 17) (y := yX3_number) (idx := 41) dX4_mark_17 q1194 q1195 (Or.inl q1196) q1131 q1197 rfl hk (by decide +kernel) pnX3_number hl), wdX3_number, zX3_number, Nat.le_of_ble_eq_true rfl, Nat.le_of_ble_eq_true rfl, Nat.le_of_ble_eq_true rfl⟩) (fm_cons (⟨_, _, (fun h b as rest hk hl => cs_U (ci := 4) (mi := nX4_mark) (pc := 17) (y := yX3_number) (idx := 41) dX4_mark_17 q1194 q1195 (Or.inl q1196) q1131 q1199 rfl hk (by decide +kernel) pnX3_number hl), wdX3_number, zX3_number, Nat.le_of_ble_eq_true rfl, Nat.le_of_ble_eq_true rfl, Nat.le_of_ble_eq_true rfl⟩) (fm_cons (⟨_, _, (fun h b as rest hk hl => cs_U (ci := 5) (mi := nX4_mark) (pc := 17) (y := yX3_number) (idx := 41) dX4_mark_17 q1194 q1195 (Or.inl q1196) q1131 q1198 rfl hk (by decide +kernel) pnX3_number hl), wdX3_number, zX3_number, Nat.le_of_ble_eq_true rfl, Nat.le_of_ble_eq_true rfl, Nat.le_of_ble_eq_true rfl⟩) (fm_nil))))
theorem eX4_mark_20 : SiZ nX4_mark 20 (i_iald 51 21) := s_ald (j := 0) (by decide) (fun _ => rfl) dX4_mark_20 (Or.inl ⟨rfl, rfl⟩)
theorem eX4_mark_21 : SiZ nX4_mark 21 (i_bin (fun x y => x + y) 22) := s_iadd dX4_mark_21
theorem eX4_mark_22 : SiZ nX4_mark 22 i_iret := s_iret dX4_mark_22 rfl
theorem aX4_mark : ∀ x ∈ mX4_mark.1, EnZ nX4_mark x := fm_cons eX4_mark_0 (fm_cons eX4_mark_1 (fm_cons eX4_mark_3 (fm_cons eX4_mark_6 (fm_cons eX4_mark_7 (fm_cons eX4_mark_8 (fm_cons eX4_mark_9 (fm_cons eX4_mark_12 (fm_cons eX4_mark_13 (fm_cons eX4_mark_16 (fm_cons eX4_mark_17 (fm_cons eX4_mark_20 (fm_cons eX4_mark_21 (fm_cons eX4_mark_22 (fm_nil))))))))))))))
theorem zX4_mark : SwZ nX4_mark (Mt mX4_mark 3) := wholeZ (mi := nX4_mark) (cd := mX4_mark) aX4_mark rfl (HdZ.none rfl)
abbrev nX5_mark : MI := (cX5_mark, 3, (some (.int)), RX5, "mark", [], 3, 77)
theorem hyX5_mark : yX5_mark.cls ≠ "java/lang/invoke/MethodHandle" ∧ yX5_mark.cls ≠ "java/lang/invoke/VarHandle" := by decide +kernel
theorem pnX5_mark : (parseMethodDescriptor yX5_mark.desc).map (fun d => d.parameters.length) = some 2 := by decide +kernel
theorem wdX5_mark : CdW yX5_mark (nX5_mark) := ⟨Or.inl ⟨q1165, rfl⟩, rfl, rfl, plainFor_of_name (by decide +kernel)⟩
theorem eX5_mark_0 : SiZ nX5_mark 0 (i_aload 1 1) := s_aload_n dX5_mark_0 rfl
theorem eX5_mark_1 : SiZ nX5_mark 1 (i_push (.int 24) 3) := s_bipush dX5_mark_1 (by decide)
theorem eX5_mark_3 : ScZ nX5_mark 3 (c_V 1 6 2 3 (Mt mX2_begins 2)) := e_V (mi := nX5_mark) (mi' := nX2_begins) (len := 3) (fun h b as rest hk hl => cs_V (ci := 2) (mi := nX5_mark) (pc := 3) (y := yX2_begins) (idx := 13) dX5_mark_3 q1166 q1150 q1151 rfl hk hyX2_begins (sigC q1152) pnX2_begins hl) wdX2_begins zX2_begins (Nat.le_of_ble_eq_true rfl) (Nat.le_of_ble_eq_true rfl)
theorem eX5_mark_6 : SiZ nX5_mark 6 (i_push (.int 2) 7) := s_iconst dX5_mark_6 (by decide)
theorem eX5_mark_7 : SiZ nX5_mark 7 (i_aload 0 8) := s_aload_n dX5_mark_7 rfl
theorem eX5_mark_8 : SiZ nX5_mark 8 (i_aload 1 9) := s_aload_n dX5_mark_8 rfl
theorem eX5_mark_9 : SiZ nX5_mark 9 (i_aload 2 10) := s_aload_n dX5_mark_9 rfl
theorem eX5_mark_10 : ScZ nX5_mark 10 (c_V 2 13 3 5 (Mt mX4_mark 3)) := e_V (mi := nX5_mark) (mi' := nX4_mark) (len := 3) (fun h b as rest hk hl => cs_SU (ci := 4) (mi := nX5_mark) (pc := 10) (y := yX4_mark) (idx := 22) dX5_mark_10 q1167 q1157 q271 q1155 q1168 (by decide +kernel) rfl hk pnX4_mark hl) wdX4_mark zX4_mark (Nat.le_of_ble_eq_true rfl) (Nat.le_of_ble_eq_true rfl)
theorem eX5_mark_13 : SiZ nX5_mark 13 (i_bin (fun x y => x * y) 14) := s_imul dX5_mark_13
theorem eX5_mark_14 : SiZ nX5_mark 14 i_iret := s_iret dX5_mark_14 rfl
theorem aX5_mark : ∀ x ∈ mX5_mark.1, EnZ nX5_mark x := fm_cons eX5_mark_0 (fm_cons eX5_mark_1 (fm_cons eX5_mark_3 (fm_cons eX5_mark_6 (fm_cons eX5_mark_7 (fm_cons eX5_mark_8 (fm_cons eX5_mark_9 (fm_cons eX5_mark_10 (fm_cons eX5_mark_13 (fm_cons eX5_mark_14 (fm_nil))))))))))
theorem zX5_mark : SwZ nX5_mark (Mt mX5_mark 3) := wholeZ (mi := nX5_mark) (cd := mX5_mark) aX5_mark rfl (HdZ.none rfl)
abbrev nX6_mark : MI := (cX6_mark, 3, (some (.int)), RX6, "mark", [], 3, 77)
theorem hyX6_mark : yX6_mark.cls ≠ "java/lang/invoke/MethodHandle" ∧ yX6_mark.cls ≠ "java/lang/invoke/VarHandle" := by decide +kernel
theorem pnX6_mark : (parseMethodDescriptor yX6_mark.desc).map (fun d => d.parameters.length) = some 2 := by decide +kernel
theorem wdX6_mark : CdW yX6_mark (nX6_mark) := ⟨Or.inl ⟨q1160, rfl⟩, rfl, rfl, plainFor_of_name (by decide +kernel)⟩
theorem eX6_mark_0 : SiZ nX6_mark 0 (i_aload 1 1) := s_aload_n dX6_mark_0 rfl
theorem eX6_mark_1 : SiZ nX6_mark 1 (i_push (.int 22) 3) := s_bipush dX6_mark_1 (by decide)
theorem eX6_mark_3 : ScZ nX6_mark 3 (c_V 1 6 2 3 (Mt mX2_begins 2)) := e_V (mi := nX6_mark) (mi' := nX2_begins) (len := 3) (fun h b as rest hk hl => cs_V (ci := 2) (mi := nX6_mark) (pc := 3) (y := yX2_begins) (idx := 27) dX6_mark_3 q1161 q1150 q1151 rfl hk hyX2_begins (sigC q1152) pnX2_begins hl) wdX2_begins zX2_begins (Nat.le_of_ble_eq_true rfl) (Nat.le_of_ble_eq_true rfl)
theorem eX6_mark_6 : SiZ nX6_mark 6 (i_aload 0 7) := s_aload_n dX6_mark_6 rfl
theorem eX6_mark_7 : SiZ nX6_mark 7 (i_aload 1 8) := s_aload_n dX6_mark_7 rfl
theorem eX6_mark_8 : SiZ nX6_mark 8 (i_aload 2 9) := s_aload_n dX6_mark_8 rfl
theorem eX6_mark_9 : ScZ nX6_mark 9 (c_V 2 12 3 6 (Mt mX4_mark 3)) := e_V (mi := nX6_mark) (mi' := nX4_mark) (len := 3) (fun h b as rest hk hl => cs_SU (ci := 5) (mi := nX6_mark) (pc := 9) (y := yX4_mark) (idx := 32) dX6_mark_9 q1162 q1157 q279 q1155 q1168 (by decide +kernel) rfl hk pnX4_mark hl) wdX4_mark zX4_mark (Nat.le_of_ble_eq_true rfl) (Nat.le_of_ble_eq_true rfl)
theorem eX6_mark_12 : SiZ nX6_mark 12 (i_push (.int 1000) 15) := s_sipush dX6_mark_12 (by decide)
theorem eX6_mark_15 : SiZ nX6_mark 15 (i_bin (fun x y => x - y) 16) := s_isub dX6_mark_15
theorem eX6_mark_16 : SiZ nX6_mark 16 i_iret := s_iret dX6_mark_16 rfl
theorem aX6_mark : ∀ x ∈ mX6_mark.1, EnZ nX6_mark x := fm_cons eX6_mark_0 (fm_cons eX6_mark_1 (fm_cons eX6_mark_3 (fm_cons eX6_mark_6 (fm_cons eX6_mark_7 (fm_cons eX6_mark_8 (fm_cons eX6_mark_9 (fm_cons eX6_mark_12 (fm_cons eX6_mark_15 (fm_cons eX6_mark_16 (fm_nil))))))))))
theorem zX6_mark : SwZ nX6_mark (Mt mX6_mark 3) := wholeZ (mi := nX6_mark) (cd := mX6_mark) aX6_mark rfl (HdZ.none rfl)
abbrev nX4_size : MI := (cX4_size, 3, (some (.int)), RX4, "size", [], 4, 103)
theorem hyX4_size : yX4_size.cls ≠ "java/lang/invoke/MethodHandle" ∧ yX4_size.cls ≠ "java/lang/invoke/VarHandle" := by decide +kernel
theorem pnX4_size : (parseMethodDescriptor yX4_size.desc).map (fun d => d.parameters.length) = some 2 := by decide +kernel
theorem wdX4_size : CdW yX4_size (nX4_size) := ⟨Or.inl ⟨q1148, rfl⟩, rfl, rfl, plainFor_of_name (by decide +kernel)⟩
theorem eX4_size_0 : SiZ nX4_size 0 (i_aload 1 1) := s_aload_n dX4_size_0 rfl
theorem eX4_size_1 : SiZ nX4_size 1 (i_push (.int 11) 3) := s_bipush dX4_size_1 (by decide)
theorem eX4_size_3 : ScZ nX4_size 3 (c_V 1 6 2 3 (Mt mX2_begins 2)) := e_V (mi := nX4_size) (mi' := nX2_begins) (len := 3) (fun h b as rest hk hl => cs_V (ci := 2) (mi := nX4_size) (pc := 3) (y := yX2_begins) (idx := 24) dX4_size_3 q1149 q1150 q1151 rfl hk hyX2_begins (sigC q1152) pnX2_begins hl) wdX2_begins zX2_begins (Nat.le_of_ble_eq_true rfl) (Nat.le_of_ble_eq_true rfl)
theorem eX4_size_6 : SiZ nX4_size 6 (i_aload 0 7) := s_aload_n dX4_size_6 rfl
theorem eX4_size_7 : SiZ nX4_size 7 (i_aload 1 8) := s_aload_n dX4_size_7 rfl
theorem eX4_size_8 : SiZ nX4_size 8 (i_aload 2 9) := s_aload_n dX4_size_8 rfl
theorem eX4_size_9 : ScZ nX4_size 9 (c_D 2 12 3 [(4, (Mt mX3_size 3)), (5, (Mt mX3_size 3)), (6, (Mt mX3_size 3))]) := e_D (len := 3) (fm_cons (⟨_, _, (fun h b as rest hk hl => cs_SU (ci := 3) (mi := nX4_size) (pc := 9) (y := yX3_size) (idx := 29) dX4_size_9 q1153 q1145 q263 q1144 q1215 (by decide +kernel) rfl hk pnX3_size hl), wdX3_size, zX3_size, Nat.le_of_ble_eq_true rfl, Nat.le_of_ble_eq_true rfl, Nat.le_of_ble_eq_true rfl⟩) (fm_cons (⟨_, _, (fun h b as rest hk hl => cs_SU (ci := 4) (mi := nX4_size) (pc := 9) (y := yX3_size) (idx := 29) dX4_size_9 q1153 q1145 q263 q1144 q1215 (by decide +kernel) rfl hk pnX3_size hl), wdX3_size, zX3_size, Nat.le_of_ble_eq_true rfl, Nat.le_of_ble_eq_true rfl, Nat.le_of_ble_eq_true rfl⟩) (fm_cons (⟨_, _, (fun h b as rest hk hl => cs_SU (ci := 5) (mi := nX4_size) (pc := 9) (y := yX3_size) (idx := 29) dX4_size_9 q1153 q1145 q263 q1144 q1215 (by decide +kernel) rfl hk pnX3_size hl), wdX3_size, zX3_size, Nat.le_of_ble_eq_true rfl, Nat.le_of_ble_eq_true rfl, Nat.le_of_ble_eq_true rfl⟩) (fm_nil))))
theorem eX4_size_12 : SiZ nX4_size 12 (i_aload 0 13) := s_aload_n dX4_size_12 rfl
theorem eX4_size_13 : SiZ nX4_size 13 (i_aload 1 14) := s_aload_n dX4_size_13 rfl
theorem eX4_size_14 : SiZ nX4_size 14 (i_aload 2 15) := s_aload_n dX4_size_14 rfl
theorem eX4_size_15 : ScZ nX4_size 15 (c_D 2 18 3 [(4, (Mt mX4_mark 3)), (5, (Mt mX5_mark 3)), (6, (Mt mX6_mark 3))]) := e_D (len := 3) (fm_cons (⟨_, _, (fun h b as rest hk hl => cs_U (ci := 3) (mi := nX4_size) (pc := 15) (y := yX4_mark) (idx := 33) dX4_size_15 q1154 q1157 (Or.inr ⟨_, _, _, q1155, q1168⟩) q1155 q1156 rfl hk (by decide +kernel) pnX4_mark hl), wdX4_mark, zX4_mark, Nat.le_of_ble_eq_true rfl, Nat.le_of_ble_eq_true rfl, Nat.le_of_ble_eq_true rfl⟩) (fm_cons (⟨_, _, (fun h b as rest hk hl => cs_U (ci := 4) (mi := nX4_size) (pc := 15) (y := yX5_mark) (idx := 33) dX4_size_15 q1154 q1157 (Or.inr ⟨_, _, _, q1155, q1168⟩) q1164 q1163 rfl hk (by decide +kernel) pnX5_mark hl), wdX5_mark, zX5_mark, Nat.le_of_ble_eq_true rfl, Nat.le_of_ble_eq_true rfl, Nat.le_of_ble_eq_true rfl⟩) (fm_cons (⟨_, _, (fun h b as rest hk hl => cs_U (ci := 5) (mi := nX4_size) (pc := 15) (y := yX6_mark) (idx := 33) dX4_size_15 q1154 q1157 (Or.inr ⟨_, _, _, q1155, q1168⟩) q1159 q1158 rfl hk (by decide +kernel) pnX6_mark hl), wdX6_mark, zX6_mark, Nat.le_of_ble_eq_true rfl, Nat.le_of_ble_eq_true rfl, Nat.le_of_ble_eq_true rfl⟩) (fm_nil))))
theorem eX4_size_18 : SiZ nX4_size 18 (i_bin (fun x y => x + y) 19) := s_iadd dX4_size_18
theorem eX4_size_19 : SiZ nX4_size 19 i_iret := s_iret dX4_size_19 rfl
theorem aX4_size : ∀ x ∈ mX4_size.1, EnZ nX4_size x := fm_cons eX4_size_0 (fm_cons eX4_size_1 (fm_cons eX4_size_3 (fm_cons eX4_size_6 (fm_cons eX4_size_7 (fm_cons eX4_size_8 (fm_cons eX4_size_9 (fm_cons eX4_size_12 (fm_cons eX4_size_13 (fm_cons eX4_size_14 (fm_cons eX4_size_15 (fm_cons eX4_size_18 (fm_cons eX4_size_19 (fm_nil)))))))))))))
theorem zX4_size : SwZ nX4_size (Mt mX4_size 3) := wholeZ (mi := nX4_size) (cd := mX4_size) aX4_size rfl (HdZ.none rfl)
abbrev nX5_size : MI := (cX5_size, 3, (some (.int)), RX5, "size", [], 5, 129)
theorem hyX5_size : yX5_size.cls ≠ "java/lang/invoke/MethodHandle" ∧ yX5_size.cls ≠ "java/lang/invoke/VarHandle" := by decide +kernel
theorem pnX5_size : (parseMethodDescriptor yX5_size.desc).map (fun d => d.parameters.length) = some 2 := by decide +kernel
theorem wdX5_size : CdW yX5_size (nX5_size) := ⟨Or.inl ⟨q1203, rfl⟩, rfl, rfl, plainFor_of_name (by decide +kernel)⟩
theorem eX5_size_0 : SiZ nX5_size 0 (i_aload 1 1) := s_aload_n dX5_size_0 rfl
theorem eX5_size_1 : SiZ nX5_size 1 (i_push (.int 12) 3) := s_bipush dX5_size_1 (by decide)
theorem eX5_size_3 : ScZ nX5_size 3 (c_V 1 6 2 3 (Mt mX2_begins 2)) := e_V (mi := nX5_size) (mi' := nX2_begins) (len := 3) (fun h b as rest hk hl => cs_V (ci := 2) (mi := nX5_size) (pc := 3) (y := yX2_begins) (idx := 13) dX5_size_3 q1166 q1150 q1151 rfl hk hyX2_begins (sigC q1152) pnX2_begins hl) wdX2_begins zX2_begins (Nat.le_of_ble_eq_true rfl) (Nat.le_of_ble_eq_true rfl)
theorem eX5_size_6 : SiZ nX5_size 6 (i_aload 0 7) := s_aload_n dX5_size_6 rfl
theorem eX5_size_7 : SiZ nX5_size 7 (i_aload 1 8) := s_aload_n dX5_size_7 rfl
theorem eX5_size_8 : SiZ nX5_size 8 (i_aload 2 9) := s_aload_n dX5_size_8 rfl
theorem eX5_size_9 : ScZ nX5_size 9 (c_V 2 12 3 5 (Mt mX4_size 3)) := e_V (mi := nX5_size) (mi' := nX4_size) (len := 3) (fun h b as rest hk hl => cs_SU (ci := 4) (mi := nX5_size) (pc := 9) (y := yX4_size) (idx := 18) dX5_size_9 q1204 q1710 q271 q1147 q1148 (by decide +kernel) rfl hk pnX4_size hl) wdX4_size zX4_size (Nat.le_of_ble_eq_true rfl) (Nat.le_of_ble_eq_true rfl)
theorem eX5_size_12 : SiZ nX5_size 12 (i_un (fun x => -x) 13) := s_ineg dX5_size_12
theorem eX5_size_13 : SiZ nX5_size 13 i_iret := s_iret dX5_size_13 rfl
theorem aX5_size : ∀ x ∈ mX5_size.1, EnZ nX5_size x := fm_cons eX5_size_0 (fm_cons eX5_size_1 (fm_cons eX5_size_3 (fm_cons eX5_size_6 (fm_cons eX5_size_7 (fm_cons eX5_size_8 (fm_cons eX5_size_9 (fm_cons eX5_size_12 (fm_cons eX5_size_13 (fm_nil)))))))))
theorem zX5_size : SwZ nX5_size (Mt mX5_size 3) := wholeZ (mi := nX5_size) (cd := mX5_size) aX5_size rfl (HdZ.none rfl)
abbrev nX7_size : MI := (cX7_size, 3, (some (.int)), RX7, "size", [], 2, 51)
theorem hyX7_size : yX7_size.cls ≠ "java/lang/invoke/MethodHandle" ∧ yX7_size.cls ≠ "java/lang/invoke/VarHandle" := by decide +kernel
theorem pnX7_size : (parseMethodDescriptor yX7_size.desc).map (fun d => d.parameters.length) = some 2 := by decide +kernel
theorem wdX7_size : CdW yX7_size (nX7_size) := ⟨Or.inl ⟨q1211, rfl⟩, rfl, rfl, plainFor_of_name (by decide +kernel)⟩
theorem eX7_size_0 : SiZ nX7_size 0 (i_aload 1 1) := s_aload_n dX7_size_0 rfl
theorem eX7_size_1 : SiZ nX7_size 1 (i_push (.int 13) 3) := s_bipush dX7_size_1 (by decide)
theorem eX7_size_3 : ScZ nX7_size 3 (c_V 1 6 2 3 (Mt mX2_begins 2)) := e_V (mi := nX7_size) (mi' := nX2_begins) (len := 3) (fun h b as rest hk hl => cs_V (ci := 2) (mi := nX7_size) (pc := 3) (y := yX2_begins) (idx := 15) dX7_size_3 q1212 q1150 q1151 rfl hk hyX2_begins (sigC q1152) pnX2_begins hl) wdX2_begins zX2_begins (Nat.le_of_ble_eq_true rfl) (Nat.le_of_ble_eq_true rfl)
theorem eX7_size_6 : SiZ nX7_size 6 (i_aload 0 7) := s_aload_n dX7_size_6 rfl
theorem eX7_size_7 : SiZ nX7_size 7 (i_aload 1 8) := s_aload_n dX7_size_7 rfl
theorem eX7_size_8 : SiZ nX7_size 8 (i_aload 2 9) := s_aload_n dX7_size_8 rfl
theorem eX7_size_9 : ScZ nX7_size 9 (c_D 2 12 3 [(7, (Mt mX3_size 3)), (8, (Mt mX3_size 3))]) := e_D (len := 3) (fm_cons (⟨_, _, (fun h b as rest hk hl => cs_SU (ci := 6) (mi := nX7_size) (pc := 9) (y := yX3_size) (idx := 20) dX7_size_9 q1213 q1145 q287 q1144 q1215 (by decide +kernel) rfl hk pnX3_size hl), wdX3_size, zX3_size, Nat.le_of_ble_eq_true rfl, Nat.le_of_ble_eq_true rfl, Nat.le_of_ble_eq_true rfl⟩) (fm_cons (⟨_, _, (fun h b as rest hk hl => cs_SU (ci := 7) (mi := nX7_size) (pc := 9) (y := yX3_size) (idx := 20) dX7_size_9 q1213 q1145 q287 q1144 q1215 (by decide +kernel) rfl hk pnX3_size hl), wdX3_size, zX3_size, Nat.le_of_ble_eq_true rfl, Nat.le_of_ble_eq_true rfl, Nat.le_of_ble_eq_true rfl⟩) (fm_nil)))
theorem eX7_size_12 : SiZ nX7_size 12 (i_push (.int 100) 14) := s_bipush dX7_size_12 (by decide)
theorem eX7_size_14 : SiZ nX7_size 14 (i_bin (fun x y => x - y) 15) := s_isub dX7_size_14
theorem eX7_size_15 : SiZ nX7_size 15 i_iret := s_iret dX7_size_15 rfl
theorem aX7_size : ∀ x ∈ mX7_size.1, EnZ nX7_size x := fm_cons eX7_size_0 (fm_cons eX7_size_1 (fm_cons eX7_size_3 (fm_cons eX7_size_6 (fm_cons eX7_size_7 (fm_cons eX7_size_8 (fm_cons eX7_size_9 (fm_cons eX7_size_12 (fm_cons eX7_size_14 (fm_cons eX7_size_15 (fm_nil))))))))))
theorem zX7_size : SwZ nX7_size (Mt mX7_size 3) := wholeZ (mi := nX7_size) (cd := mX7_size) aX7_size rfl (HdZ.none rfl)
abbrev nX8_size : MI := (cX8_size, 3, (some (.int)), RX8, "size", [], 3, 77)
theorem hyX8_size : yX8_size.cls ≠ "java/lang/invoke/MethodHandle" ∧ yX8_size.cls ≠ "java/lang/invoke/VarHandle" := by decide +kernel
theorem pnX8_size : (parseMethodDescriptor yX8_size.desc).map (fun d => d.parameters.length) = some 2 := by decide +kernel
theorem wdX8_size : CdW yX8_size (nX8_size) := ⟨Or.inl ⟨q1207, rfl⟩, rfl, rfl, plainFor_of_name (by decide +kernel)⟩
theorem eX8_size_0 : SiZ nX8_size 0 (i_aload 1 1) := s_aload_n dX8_size_0 rfl
theorem eX8_size_1 : SiZ nX8_size 1 (i_push (.int 14) 3) := s_bipush dX8_size_1 (by decide)
theorem eX8_size_3 : ScZ nX8_size 3 (c_V 1 6 2 3 (Mt mX2_begins 2)) := e_V (mi := nX8_size) (mi' := nX2_begins) (len := 3) (fun h b as rest hk hl => cs_V (ci := 2) (mi := nX8_size) (pc := 3) (y := yX2_begins) (idx := 23) dX8_size_3 q1208 q1150 q1151 rfl hk hyX2_begins (sigC q1152) pnX2_begins hl) wdX2_begins zX2_begins (Nat.le_of_ble_eq_true rfl) (Nat.le_of_ble_eq_true rfl)
theorem eX8_size_6 : SiZ nX8_size 6 (i_push (.int 2) 7) := s_iconst dX8_size_6 (by decide)
theorem eX8_size_7 : SiZ nX8_size 7 (i_aload 0 8) := s_aload_n dX8_size_7 rfl
theorem eX8_size_8 : SiZ nX8_size 8 (i_aload 1 9) := s_aload_n dX8_size_8 rfl
theorem eX8_size_9 : SiZ nX8_size 9 (i_aload 2 10) := s_aload_n dX8_size_9 rfl
theorem eX8_size_10 : ScZ nX8_size 10 (c_V 2 13 3 8 (Mt mX7_size 3)) := e_V (mi := nX8_size) (mi' := nX7_size) (len := 3) (fun h b as rest hk hl => cs_SU (ci := 7) (mi := nX8_size) (pc := 10) (y := yX7_size) (idx := 28) dX8_size_10 q1209 q1711 q295 q1210 q1211 (by decide +kernel) rfl hk pnX7_size hl) wdX7_size zX7_size (Nat.le_of_ble_eq_true rfl) (Nat.le_of_ble_eq_true rfl)
theorem eX8_size_13 : SiZ nX8_size 13 (i_bin (fun x y => x * y) 14) := s_imul dX8_size_13
theorem eX8_size_14 : SiZ nX8_size 14 i_iret := s_iret dX8_size_14 rfl
theorem aX8_size : ∀ x ∈ mX8_size.1, EnZ nX8_size x := fm_cons eX8_size_0 (fm_cons eX8_size_1 (fm_cons eX8_size_3 (fm_cons eX8_size_6 (fm_cons eX8_size_7 (fm_cons eX8_size_8 (fm_cons eX8_size_9 (fm_cons eX8_size_10 (fm_cons eX8_size_13 (fm_cons eX8_size_14 (fm_nil))))))))))
theorem zX8_size : SwZ nX8_size (Mt mX8_size 3) := wholeZ (mi := nX8_size) (cd := mX8_size) aX8_size rfl (HdZ.none rfl)
abbrev nX7_mark : MI := (cX7_mark, 3, (some (.int)), RX7, "mark", [], 4, 103)
theorem hyX7_mark : yX7_mark.cls ≠ "java/lang/invoke/MethodHandle" ∧ yX7_mark.cls ≠ "java/lang/invoke/VarHandle" := by decide +kernel
theorem pnX7_mark : (parseMethodDescriptor yX7_mark.desc).map (fun d => d.parameters.length) = some 2 := by decide +kernel
theorem wdX7_mark : CdW yX7_mark (nX7_mark) := ⟨Or.inl ⟨q1222, rfl⟩, rfl, rfl, plainFor_of_name (by decide +kernel)⟩
theorem eX7_mark_0 : SiZ nX7_mark 0 (i_aload 1 1) := s_aload_n dX7_mark_0 rfl
theorem eX7_mark_1 : SiZ nX7_mark 1 (i_push (.int 23) 3) := s_bipush dX7_mark_1 (by decide)
theorem eX7_mark_3 : ScZ nX7_mark 3 (c_V 1 6 2 3 (Mt mX2_begins 2)) := e_V (mi := nX7_mark) (mi' := nX2_begins) (len := 3) (fun h b as rest hk hl => cs_V (ci := 2) (mi := nX7_mark) (pc := 3) (y := yX2_begins) (idx := 15) dX7_mark_3 q1212 q1150 q1151 rfl hk hyX2_begins (sigC q1152) pnX2_begins hl) wdX2_begins zX2_begins (Nat.le_of_ble_eq_true rfl) (Nat.le_of_ble_eq_true rfl)
theorem eX7_mark_6 : SiZ nX7_mark 6 (i_aload 0 7) := s_aload_n dX7_mark_6 rfl
theorem eX7_mark_7 : SiZ nX7_mark 7 (i_aload 1 8) := s_aload_n dX7_mark_7 rfl
theorem eX7_mark_8 : SiZ nX7_mark 8 (i_aload 2 9) := s_aload_n dX7_mark_8 rfl
theorem eX7_mark_9 : ScZ nX7_mark 9 (c_D 2 12 3 [(7, (Mt mX14_mark 3)), (8, (Mt mX14_mark 3))]) := e_D (len := 3) (fm_cons (⟨_, _, (fun h b as rest hk hl => cs_SD (ci := 6) (mi := nX7_mark) (pc := 9) (idx := 24) dX7_mark_9 (by decide) q287 rfl hk hl), wdX14_mark, zX14_mark, Nat.le_of_ble_eq_true rfl, Nat.le_of_ble_eq_true rfl, Nat.le_of_ble_eq_true rfl⟩) (fm_cons (⟨_, _, (fun h b as rest hk hl => cs_SD (ci := 7) (mi := nX7_mark) (pc := 9) (idx := 24) dX7_mark_9 (by decide) q287 rfl hk hl), wdX14_mark, zX14_mark, Nat.le_of_ble_eq_true rfl, Nat.le_of_ble_eq_true rfl, Nat.le_of_ble_eq_true rfl⟩) (fm_nil)))
theorem eX7_mark_12 : SiZ nX7_mark 12 (i_aload 0 13) := s_aload_n dX7_mark_12 rfl
theorem eX7_mark_13 : SiZ nX7_mark 13 (i_aload 1 14) := s_aload_n dX7_mark_13 rfl
theorem eX7_mark_14 : SiZ nX7_mark 14 (i_aload 2 15) := s_aload_n dX7_mark_14 rfl
theorem eX7_mark_15 : ScZ nX7_mark 15 (c_D 2 18 3 [(7, (Mt mX7_size 3)), (8, (Mt mX8_size 3))]) := e_D (len := 3) (fm_cons (⟨_, _, (fun h b as rest hk hl => cs_U (ci := 6) (mi := nX7_mark) (pc := 15) (y := yX7_size) (idx := 27) dX7_mark_15 q1223 q1711 (Or.inr ⟨_, _, _, q1210, q1211⟩) q1210 q1713 rfl hk (by decide +kernel) pnX7_size hl), wdX7_size, zX7_size, Nat.le_of_ble_eq_true rfl, Nat.le_of_ble_eq_true rfl, Nat.le_of_ble_eq_true rfl⟩) (fm_cons (⟨_, _, (fun h b as rest hk hl => cs_U (ci := 7) (mi := nX7_mark) (pc := 15) (y := yX8_size) (idx := 27) dX7_mark_15 q1223 q1711 (Or.inr ⟨_, _, _, q1210, q1211⟩) q1206 q1712 rfl hk (by decide +kernel) pnX8_size hl), wdX8_size, zX8_size, Nat.le_of_ble_eq_true rfl, Nat.le_of_ble_eq_true rfl, Nat.le_of_ble_eq_true rfl⟩) (fm_nil)))
theorem eX7_mark_18 : SiZ nX7_mark 18 (i_bin (fun x y => x - y) 19) := s_isub dX7_mark_18
theorem eX7_mark_19 : SiZ nX7_mark 19 i_iret := s_iret dX7_mark_19 rfl
theorem aX7_mark : ∀ x ∈ mX7_mark.1, EnZ nX7_mark x := fm_cons eX7_mark_0 (fm_cons eX7_mark_1 (fm_cons eX7_mark_3 (fm_cons eX7_mark_6 (fm_cons eX7_mark_7 (fm_cons eX7_mark_8 (fm_cons eX7_mark_9 (fm_cons eX7_mark_12 (fm_cons eX7_mark_13 (fm_cons eX7_mark_14 (fm_cons eX7_mark_15 (fm_cons eX7_mark_18 (fm_cons eX7_mark_19 (fm_nil)))))))))))))
theorem zX7_mark : SwZ nX7_mark (Mt mX7_mark 3) := wholeZ (mi := nX7_mark) (cd := mX7_mark) aX7_mark rfl (HdZ.none rfl)
abbrev nX0_ask : MI := (cX0_ask, 4, (some (.int)), RX0, "ask", [], 6, 155)
theorem hyX0_ask : yX0_ask.cls ≠ "java/lang/invoke/MethodHandle" ∧ yX0_ask.cls ≠ "java/lang/invoke/VarHandle" := by decide +kernel
theorem pnX0_ask : (parseMethodDescriptor yX0_ask.desc).map (fun d => d.parameters.length) = some 2 := by decide +kernel
theorem wdX0_ask : CdW yX0_ask (nX0_ask) := ⟨Or.inl ⟨q1142, rfl⟩, rfl, rfl, plainFor_of_name (by decide +kernel)⟩
theorem eX0_ask_0 : SiZ nX0_ask 0 (i_aload 0 1) := s_aload_n dX0_ask_0 rfl
theorem eX0_ask_1 : SiZ nX0_ask 1 (i_iload 1 2) := s_iload_n dX0_ask_1 rfl
theorem eX0_ask_2 : ScZ nX0_ask 2 (c_V 1 5 2 1 (Mt mX0_isFish 2)) := e_V (mi := nX0_ask) (mi' := nX0_isFish) (len := 3) (fun h b as rest hk hl => cs_V (ci := 0) (mi := nX0_ask) (pc := 2) (y := yX0_isFish) (idx := 231) dX0_ask_2 q918 q920 qs24 rfl hk hyX0_isFish (sigC q921) pnX0_isFish hl) wdX0_isFish zX0_isFish (Nat.le_of_ble_eq_true rfl) (Nat.le_of_ble_eq_true rfl)
theorem eX0_ask_5 : SiZ nX0_ask 5 (i_if (fun x => x = 0) 15 8) := s_if_eq dX0_ask_5 (by decide)
theorem eX0_ask_8 : SiZ nX0_ask 8 (i_iload 2 9) := s_iload_n dX0_ask_8 rfl
theorem eX0_ask_9 : ScZ nX0_ask 9 (c_S 1 12 1 (Mt mX0_isHalf 1)) := e_S (mi := nX0_ask) (mi' := nX0_isHalf) (len := 3) (fun h as rest hl => cs_S (mi := nX0_ask) (pc := 9) (y := yX0_isHalf) (idx := 209) dX0_ask_9 q896 q897 q77 q898 hyX0_isHalf pnX0_isHalf hl) wdX0_isHalf zX0_isHalf (Nat.le_of_ble_eq_true rfl) (Nat.le_of_ble_eq_true rfl)
theorem eX0_ask_12 : SiZ nX0_ask 12 (i_if (fun x => ¬ x = 0) 18 15) := s_if_ne dX0_ask_12 (by decide)
theorem eX0_ask_15 : SiZ nX0_ask 15 (i_push (.int (-1000001)) 17) := s_ldc dX0_ask_15 q355
theorem eX0_ask_17 : SiZ nX0_ask 17 i_iret := s_iret dX0_ask_17 rfl
theorem eX0_ask_18 : SiZ nX0_ask 18 (i_aload 0 19) := s_aload_n dX0_ask_18 rfl
theorem eX0_ask_19 : SiZ nX0_ask 19 (i_new 3 2 22) := s_new dX0_ask_19 q234 q235 q82 clX2 rfl (by decide)
theorem eX0_ask_22 : SiZ nX0_ask 22 (i_dup 23) := s_dup dX0_ask_22
theorem eX0_ask_23 : ScZ nX0_ask 23 (c_I 0 26 1 (Mt mX2_init 1)) := e_I (mi := nX0_ask) (mi' := nX2_init) (len := 3) (fun h b as rest hl => cs_IN (mi := nX0_ask) (pc := 23) (y := yX2_init) (idx := 55) dX0_ask_23 rfl q236 q237 q238 hyX2_init pnX2_init hl) wdX2_init zX2_init (Nat.le_of_ble_eq_true rfl) (Nat.le_of_ble_eq_true rfl)
theorem eX0_ask_26 : SiZ nX0_ask 26 (i_putR 21 [1] 29) := s_putR dX0_ask_26 (fm_cons (⟨_, _, _, _, _, _, rfl, ⟨fkX0_56_1, ⟨_, q305, Or.inl rfl⟩, Or.inl rfl⟩, (Or.inl ⟨_, rfl⟩)⟩) (fm_nil))
theorem eX0_ask_29 : SiZ nX0_ask 29 (i_aload 0 30) := s_aload_n dX0_ask_29 rfl
theorem eX0_ask_30 : SiZ nX0_ask 30 (i_getf 11 [1] 33) := s_getf dX0_ask_30 (fm_cons (⟨_, _, _, _, _, _, rfl, fkX0_39_1⟩) (fm_nil))
theorem eX0_ask_33 : SiZ nX0_ask 33 (i_getf 51 [2] 36) := s_getf dX0_ask_33 (fm_cons (⟨_, _, _, _, _, _, rfl, fkX0_353_2⟩) (fm_nil))
theorem eX0_ask_36 : SiZ nX0_ask 36 (i_iload 1 37) := s_iload_n dX0_ask_36 rfl
theorem eX0_ask_37 : ScZ nX0_ask 37 (c_V 1 42 2 14 (Mt mJ2_get 2)) := e_V (mi := nX0_ask) (mi' := nJ2_get) (len := 5) (fun h b as rest hk hl => cs_F (ci := 13) (mi := nX0_ask) (pc := 37) (y := yJ2_get) (idx := 357) dX0_ask_37 q1093 q808 q810 (by decide +kernel) rfl hk pnJ2_get hl) wdJ2_get zJ2_get (Nat.le_of_ble_eq_true rfl) (Nat.le_of_ble_eq_true rfl)
theorem eX0_ask_42 : SiZ nX0_ask 42 (i_cast [4, 5, 6, 7, 8] 45) := s_cast dX0_ask_42 q249 (fm_cons (⟨3, _, rfl, rfl, Or.inr q1715⟩) (fm_cons (⟨4, _, rfl, rfl, Or.inr q1717⟩) (fm_cons (⟨5, _, rfl, rfl, Or.inr q1716⟩) (fm_cons (⟨6, _, rfl, rfl, Or.inr q1719⟩) (fm_cons (⟨7, _, rfl, rfl, Or.inr q1718⟩) (fm_nil))))))
theorem eX0_ask_45 : SiZ nX0_ask 45 (i_astore 3 46) := s_astore_n dX0_ask_45 rfl
theorem eX0_ask_46 : SiZ nX0_ask 46 (i_iload 2 47) := s_iload_n dX0_ask_46 rfl
theorem eX0_ask_47 : SiZ nX0_ask 47 (i_if (fun x => ¬ x = 0) 65 50) := s_if_ne dX0_ask_47 (by decide)
theorem eX0_ask_50 : SiZ nX0_ask 50 (i_aload 3 51) := s_aload_n dX0_ask_50 rfl
theorem eX0_ask_51 : SiZ nX0_ask 51 (i_aload 0 52) := s_aload_n dX0_ask_51 rfl
theorem eX0_ask_52 : SiZ nX0_ask 52 (i_getf 21 [1] 55) := s_getf dX0_ask_52 (fm_cons (⟨_, _, _, _, _, _, rfl, fkX0_56_1⟩) (fm_nil))
theorem eX0_ask_55 : SiZ nX0_ask 55 (i_aload 0 56) := s_aload_n dX0_ask_55 rfl
theorem eX0_ask_56 : SiZ nX0_ask 56 (i_getf 11 [1] 59) := s_getf dX0_ask_56 (fm_cons (⟨_, _, _, _, _, _, rfl, fkX0_39_1⟩) (fm_nil))
theorem eX0_ask_59 : ScZ nX0_ask 59 (c_D 2 62 3 [(4, (Mt mX4_size 3)), (5, (Mt mX5_size 3)), (6, (Mt mX4_size 3)), (7, (Mt mX7_size 3)), (8, (Mt mX8_size 3))]) := e_D (len := 3) (fm_cons (⟨_, _, (fun h b as rest hk hl => cs_U (ci := 3) (mi := nX0_ask) (pc := 59) (y := yX4_size) (idx := 369) dX0_ask_59 q1143 q1145 (Or.inr ⟨_, _, _, q1144, q1215⟩) q1147 q1146 rfl hk (by decide +kernel) pnX4_size hl), wdX4_size, zX4_size, Nat.le_of_ble_eq_true rfl, Nat.le_of_ble_eq_true rfl, Nat.le_of_ble_eq_true rfl⟩) (fm_cons (⟨_, _, (fun h b as rest hk hl => cs_U (ci := 4) (mi := nX0_ask) (pc := 59) (y := yX5_size) (idx := 369) dX0_ask_59 q1143 q1145 (Or.inr ⟨_, _, _, q1144, q1215⟩) q1202 q1201 rfl hk (by decide +kernel) pnX5_size hl), wdX5_size, zX5_size, Nat.le_of_ble_eq_true rfl, Nat.le_of_ble_eq_true rfl, Nat.le_of_ble_eq_true rfl⟩) (fm_cons (⟨_, _, (fun h b as rest hk hl => cs_U (ci := 5) (mi := nX0_ask) (pc := 59) (y := yX4_size) (idx := 369) dX0_ask_59 q1143 q1145 (Or.inr ⟨_, _, _, q1144, q1215⟩) q1147 q1200 rfl hk (by decide +kernel) pnX4_size hl), wdX4_size, zX4_size, Nat.le_of_ble_eq_true rfl, Nat.le_of_ble_eq_true rfl, Nat.le_of_ble_eq_true rfl⟩) (fm_cons (⟨_, _, (fun h b as rest hk hl => cs_U (ci := 6) (mi := nX0_ask) (pc := 59) (y := yX7_size) (idx := 369) dX0_ask_59 q1143 q1145 (Or.inr ⟨_, _, _, q1144, q1215⟩) q1210 q1214 rfl hk (by decide +kernel) pnX7_size hl), wdX7_size, zX7_size, Nat.le_of_ble_eq_true rfl, Nat.le_of_ble_eq_true rfl, Nat.le_of_ble_eq_true rfl⟩) (fm_cons (⟨_, _, (fun h b as rest hk hl => cs_U (ci := 7) (mi := nX0_ask) (pc := 59) (y := yX8_size) (idx := 369) dX0_ask_59 q1143 q1145 (Or.inr ⟨_, _, _, q1144, q1215⟩) q1206 q1205 rfl hk (by decide +kernel) pnX8_size hl), wdX8_size, zX8_size, Nat.le_of_ble_eq_true rfl, Nat.le_of_ble_eq_true rfl, Nat.le_of_ble_eq_true rfl⟩) (fm_nil))))))
theorem eX0_ask_62 : SiZ nX0_ask 62 (i_goto 77) := s_goto dX0_ask_62 (by decide)
theorem eX0_ask_65 : SiZ nX0_ask 65 (i_aload 3 66) := s_aload_n dX0_ask_65 rfl
theorem eX0_ask_66 : SiZ nX0_ask 66 (i_aload 0 67) := s_aload_n dX0_ask_66 rfl
theorem eX0_ask_67 : SiZ nX0_ask 67 (i_getf 21 [1] 70) := s_getf dX0_ask_67 (fm_cons (⟨_, _, _, _, _, _, rfl, fkX0_56_1⟩) (fm_nil))
theorem eX0_ask_70 : SiZ nX0_ask 70 (i_aload 0 71) := s_aload_n dX0_ask_70 rfl
theorem eX0_ask_71 : SiZ nX0_ask 71 (i_getf 11 [1] 74) := s_getf dX0_ask_71 (fm_cons (⟨_, _, _, _, _, _, rfl, fkX0_39_1⟩) (fm_nil))
theorem eX0_ask_74 : ScZ nX0_ask 74 (c_D 2 77 3 [(4, (Mt mX4_mark 3)), (5, (Mt mX5_mark 3)), (6, (Mt mX6_mark 3)), (7, (Mt mX7_mark 3)), (8, (Mt mX7_mark 3))]) := e_D (len := 3) (fm_cons (⟨_, _, (fun h b as rest hk hl => cs_UD (ci := 3) (mi := nX0_ask) (pc := 74) (y := yX4_mark) (idx := 373) dX0_ask_74 (by decide) q1155 q1217 rfl hk hl), wdX4_mark, zX4_mark, Nat.le_of_ble_eq_true rfl, Nat.le_of_ble_eq_true rfl, Nat.le_of_ble_eq_true rfl⟩) (fm_cons (⟨_, _, (fun h b as rest hk hl => cs_UD (ci := 4) (mi := nX0_ask) (pc := 74) (y := yX5_mark) (idx := 373) dX0_ask_74 (by decide) q1164 q1219 rfl hk hl), wdX5_mark, zX5_mark, Nat.le_of_ble_eq_true rfl, Nat.le_of_ble_eq_true rfl, Nat.le_of_ble_eq_true rfl⟩) (fm_cons (⟨_, _, (fun h b as rest hk hl => cs_UD (ci := 5) (mi := nX0_ask) (pc := 74) (y := yX6_mark) (idx := 373) dX0_ask_74 (by decide) q1159 q1218 rfl hk hl), wdX6_mark, zX6_mark, Nat.le_of_ble_eq_true rfl, Nat.le_of_ble_eq_true rfl, Nat.le_of_ble_eq_true rfl⟩) (fm_cons (⟨_, _, (fun h b as rest hk hl => cs_UD (ci := 6) (mi := nX0_ask) (pc := 74) (y := yX7_mark) (idx := 373) dX0_ask_74 (by decide) q1221 q1224 rfl hk hl), wdX7_mark, zX7_mark, Nat.le_of_ble_eq_true rfl, Nat.le_of_ble_eq_true rfl, Nat.le_of_ble_eq_true rfl⟩) (fm_cons (⟨_, _, (fun h b as rest hk hl => cs_UD (ci := 7) (mi := nX0_ask) (pc := 74) (y := yX7_mark) (idx := 373) dX0_ask_74 (by decide) q1221 q1220 rfl hk hl), wdX7_mark, zX7_mark, Nat.le_of_ble_eq_true rfl, Nat.le_of_ble_eq_true rfl, Nat.le_of_ble_eq_true rfl⟩) (fm_nil))))))
theorem eX0_ask_77 : SiZ nX0_ask 77 i_iret := s_iret dX0_ask_77 rfl
theorem aX0_ask : ∀ x ∈ mX0_ask.1, EnZ nX0_ask x := fm_cons eX0_ask_0 (fm_cons eX0_ask_1 (fm_cons eX0_ask_2 (fm_cons eX0_ask_5 (fm_cons eX0_ask_8 (fm_cons eX0_ask_9 (fm_cons eX0_ask_12 (fm_cons eX0_ask_15 (fm_cons eX0_ask_17 (fm_cons eX0_ask_18 (fm_cons eX0_ask_19 (fm_cons eX0_ask_22 (fm_cons eX0_ask_23 (fm_cons eX0_ask_26 (fm_cons eX0_ask_29 (fm_cons eX0_ask_30 (fm_cons eX0_ask_33 (fm_cons eX0_ask_36 (fm_cons eX0_ask_37 (fm_cons eX0_ask_42 (fm_cons eX0_ask_45 (fm_cons eX0_ask_46 (fm_cons eX0_ask_47 (fm_cons eX0_ask_50 (fm_cons eX0_ask_51 (fm_cons eX0_ask_52 (fm_cons eX0_ask_55 (fm_cons eX0_ask_56 (fm_cons eX0_ask_59 (fm_cons eX0_ask_62 (fm_cons eX0_ask_65 (fm_cons eX0_ask_66 (fm_cons eX0_ask_67 (fm_cons eX0_ask_70 (fm_cons eX0_ask_71 (fm_cons eX0_ask_74 (fm_cons eX0_ask_77 (fm_nil)))))))))))))))))))))))))))))))))))))
theorem zX0_ask : SwZ nX0_ask (Mt mX0_ask 4) := wholeZ (mi := nX0_ask) (cd := mX0_ask) aX0_ask rfl (HdZ.none rfl)
abbrev nX0_trace : MI := (cX0_trace, 2, (some (.int)), RX0, "trace", [], 1, 29)
theorem hyX0_trace : yX0_trace.cls ≠ "java/lang/invoke/MethodHandle" ∧ yX0_trace.cls ≠ "java/lang/invoke/VarHandle" := by decide +kernel
theorem pnX0_trace : (parseMethodDescriptor yX0_trace.desc).map (fun d => d.parameters.length) = some 1 := by decide +kernel
theorem wdX0_trace : CdW yX0_trace (nX0_trace) := ⟨Or.inl ⟨q1228, rfl⟩, rfl, rfl, plainFor_of_name (by decide +kernel)⟩
theorem eX0_trace_0 : SiZ nX0_trace 0 (i_iload 1 1) := s_iload_n dX0_trace_0 rfl
theorem eX0_trace_1 : SiZ nX0_trace 1 (i_i2l 2) := s_i2l dX0_trace_1
theorem eX0_trace_2 : SiZ nX0_trace 2 (i_push (.long 0) 3) := s_lconst dX0_trace_2 (by decide)
theorem eX0_trace_3 : SiZ nX0_trace 3 (i_aload 0 4) := s_aload_n dX0_trace_3 rfl
theorem eX0_trace_4 : SiZ nX0_trace 4 (i_getf 21 [1] 7) := s_getf dX0_trace_4 (fm_cons (⟨_, _, _, _, _, _, rfl, fkX0_56_1⟩) (fm_nil))
theorem eX0_trace_7 : SiZ nX0_trace 7 (i_getf 66 [3] 10) := s_getf dX0_trace_7 (fm_cons (⟨_, _, _, _, _, _, rfl, fkX0_376_3⟩) (fm_nil))
theorem eX0_trace_10 : SiZ nX0_trace 10 (i_push (.int 1) 11) := s_iconst dX0_trace_10 (by decide)
theorem eX0_trace_11 : SiZ nX0_trace 11 (i_bin (fun x y => x - y) 12) := s_isub dX0_trace_11
theorem eX0_trace_12 : SiZ nX0_trace 12 (i_i2l 13) := s_i2l dX0_trace_12
theorem eX0_trace_13 : ScZ nX0_trace 13 (c_S 3 16 6 (Mt mX0_isIn 6)) := e_S (mi := nX0_trace) (mi' := nX0_isIn) (len := 3) (fun h as rest hl => cs_S (mi := nX0_trace) (pc := 13) (y := yX0_isIn) (idx := 86) dX0_trace_13 q351 q352 q77 q353 hyX0_isIn pnX0_isIn hl) wdX0_isIn zX0_isIn (Nat.le_of_ble_eq_true rfl) (Nat.le_of_ble_eq_true rfl)
theorem eX0_trace_16 : SiZ nX0_trace 16 (i_if (fun x => x = 0) 31 19) := s_if_eq dX0_trace_16 (by decide)
theorem eX0_trace_19 : SiZ nX0_trace 19 (i_aload 0 20) := s_aload_n dX0_trace_19 rfl
theorem eX0_trace_20 : SiZ nX0_trace 20 (i_getf 21 [1] 23) := s_getf dX0_trace_20 (fm_cons (⟨_, _, _, _, _, _, rfl, fkX0_56_1⟩) (fm_nil))
theorem eX0_trace_23 : SiZ nX0_trace 23 (i_getf 65 [3] 26) := s_getf dX0_trace_23 (fm_cons (⟨_, _, _, _, _, _, rfl, fkX0_378_3⟩) (fm_nil))
theorem eX0_trace_26 : SiZ nX0_trace 26 (i_iload 1 27) := s_iload_n dX0_trace_26 rfl
theorem eX0_trace_27 : SiZ nX0_trace 27 (i_iald 51 28) := s_ald (j := 0) (by decide) (fun _ => rfl) dX0_trace_27 (Or.inl ⟨rfl, rfl⟩)
theorem eX0_trace_28 : SiZ nX0_trace 28 (i_goto 34) := s_goto dX0_trace_28 (by decide)
theorem eX0_trace_31 : SiZ nX0_trace 31 (i_push (.int (-1000000)) 34) := s_ldcw dX0_trace_31 q940
theorem eX0_trace_34 : SiZ nX0_trace 34 i_iret := s_iret dX0_trace_34 rfl
theorem aX0_trace : ∀ x ∈ mX0_trace.1, EnZ nX0_trace x := fm_cons eX0_trace_0 (fm_cons eX0_trace_1 (fm_cons eX0_trace_2 (fm_cons eX0_trace_3 (fm_cons eX0_trace_4 (fm_cons eX0_trace_7 (fm_cons eX0_trace_10 (fm_cons eX0_trace_11 (fm_cons eX0_trace_12 (fm_cons eX0_trace_13 (fm_cons eX0_trace_16 (fm_cons eX0_trace_19 (fm_cons eX0_trace_20 (fm_cons eX0_trace_23 (fm_cons eX0_trace_26 (fm_cons eX0_trace_27 (fm_cons eX0_trace_28 (fm_cons eX0_trace_31 (fm_cons eX0_trace_34 (fm_nil)))))))))))))))))))
theorem zX0_trace : SwZ nX0_trace (Mt mX0_trace 2) := wholeZ (mi := nX0_trace) (cd := mX0_trace) aX0_trace rfl (HdZ.none rfl)
abbrev nX1_dusts : MI := (cX1_dusts, 3, (some (.int)), RX1, "dusts", [], 2, 48)
theorem hyX1_dusts : yX1_dusts.cls ≠ "java/lang/invoke/MethodHandle" ∧ yX1_dusts.cls ≠ "java/lang/invoke/VarHandle" := by decide +kernel
theorem pnX1_dusts : (parseMethodDescriptor yX1_dusts.desc).map (fun d => d.parameters.length) = some 0 := by decide +kernel
theorem wdX1_dusts : CdW yX1_dusts (nX1_dusts) := ⟨Or.inl ⟨q1236, rfl⟩, rfl, rfl, plainFor_of_name (by decide +kernel)⟩
theorem eX1_dusts_0 : SiZ nX1_dusts 0 (i_push (.int 0) 1) := s_iconst dX1_dusts_0 (by decide)
theorem eX1_dusts_1 : SiZ nX1_dusts 1 (i_istore 1 2) := s_istore_n dX1_dusts_1 rfl
theorem eX1_dusts_2 : SiZ nX1_dusts 2 (i_push (.int 0) 3) := s_iconst dX1_dusts_2 (by decide)
theorem eX1_dusts_3 : SiZ nX1_dusts 3 (i_istore 2 4) := s_istore_n dX1_dusts_3 rfl
theorem eX1_dusts_4 : SiZ nX1_dusts 4 (i_iload 2 5) := s_iload_n dX1_dusts_4 rfl
theorem eX1_dusts_5 : SiZ nX1_dusts 5 (i_aload 0 6) := s_aload_n dX1_dusts_5 rfl
theorem eX1_dusts_6 : ScZ nX1_dusts 6 (c_V 0 9 1 2 (Mt mX1_many 1)) := e_V (mi := nX1_dusts) (mi' := nX1_many) (len := 3) (fun h b as rest hk hl => cs_V (ci := 1) (mi := nX1_dusts) (pc := 6) (y := yX1_many) (idx := 105) dX1_dusts_6 q795 q680 q681 rfl hk hyX1_many (sigC q682) pnX1_many hl) wdX1_many zX1_many (Nat.le_of_ble_eq_true rfl) (Nat.le_of_ble_eq_true rfl)
theorem eX1_dusts_9 : SiZ nX1_dusts 9 (i_icmp (fun x y => y ≤ x) 27 12) := s_icmp_ge dX1_dusts_9 (by decide)
theorem eX1_dusts_12 : SiZ nX1_dusts 12 (i_iload 1 13) := s_iload_n dX1_dusts_12 rfl
theorem eX1_dusts_13 : SiZ nX1_dusts 13 (i_aload 0 14) := s_aload_n dX1_dusts_13 rfl
theorem eX1_dusts_14 : SiZ nX1_dusts 14 (i_getf 55 [2] 17) := s_getf dX1_dusts_14 (fm_cons (⟨_, _, _, _, _, _, rfl, fkX1_34_2⟩) (fm_nil))
theorem eX1_dusts_17 : SiZ nX1_dusts 17 (i_iload 2 18) := s_iload_n dX1_dusts_17 rfl
theorem eX1_dusts_18 : SiZ nX1_dusts 18 (i_iald 51 19) := s_ald (j := 0) (by decide) (fun _ => rfl) dX1_dusts_18 (Or.inl ⟨rfl, rfl⟩)
theorem eX1_dusts_19 : SiZ nX1_dusts 19 (i_bin (fun x y => x + y) 20) := s_iadd dX1_dusts_19
theorem eX1_dusts_20 : SiZ nX1_dusts 20 (i_istore 1 21) := s_istore_n dX1_dusts_20 rfl
theorem eX1_dusts_21 : SiZ nX1_dusts 21 (i_iinc 2 1 24) := s_iinc dX1_dusts_21 (by decide)
theorem eX1_dusts_24 : SiZ nX1_dusts 24 (i_goto 4) := s_goto dX1_dusts_24 (by decide)
theorem eX1_dusts_27 : SiZ nX1_dusts 27 (i_iload 1 28) := s_iload_n dX1_dusts_27 rfl
theorem eX1_dusts_28 : SiZ nX1_dusts 28 i_iret := s_iret dX1_dusts_28 rfl
theorem aX1_dusts : ∀ x ∈ mX1_dusts.1, EnZ nX1_dusts x := fm_cons eX1_dusts_0 (fm_cons eX1_dusts_1 (fm_cons eX1_dusts_2 (fm_cons eX1_dusts_3 (fm_cons eX1_dusts_4 (fm_cons eX1_dusts_5 (fm_cons eX1_dusts_6 (fm_cons eX1_dusts_9 (fm_cons eX1_dusts_12 (fm_cons eX1_dusts_13 (fm_cons eX1_dusts_14 (fm_cons eX1_dusts_17 (fm_cons eX1_dusts_18 (fm_cons eX1_dusts_19 (fm_cons eX1_dusts_20 (fm_cons eX1_dusts_21 (fm_cons eX1_dusts_24 (fm_cons eX1_dusts_27 (fm_cons eX1_dusts_28 (fm_nil)))))))))))))))))))
theorem zX1_dusts : SwZ nX1_dusts (Mt mX1_dusts 3) := wholeZ (mi := nX1_dusts) (cd := mX1_dusts) aX1_dusts rfl (HdZ.none rfl)
abbrev nX0_count : MI := (cX0_count, 4, (some (.int)), RX0, "count", [], 3, 74)
theorem hyX0_count : yX0_count.cls ≠ "java/lang/invoke/MethodHandle" ∧ yX0_count.cls ≠ "java/lang/invoke/VarHandle" := by decide +kernel
theorem pnX0_count : (parseMethodDescriptor yX0_count.desc).map (fun d => d.parameters.length) = some 1 := by decide +kernel
theorem wdX0_count : CdW yX0_count (nX0_count) := ⟨Or.inl ⟨q1232, rfl⟩, rfl, rfl, plainFor_of_name (by decide +kernel)⟩
theorem eX0_count_0 : SiZ nX0_count 0 (i_push (.int 0) 1) := s_iconst dX0_count_0 (by decide)
theorem eX0_count_1 : SiZ nX0_count 1 (i_istore 2 2) := s_istore_n dX0_count_1 rfl
theorem eX0_count_2 : SiZ nX0_count 2 (i_iload 1 3) := s_iload_n dX0_count_2 rfl
theorem eX0_count_3 : SiZ nX0_count 3 (i_tsw 0 [48, 81, 89, 97, 105, 117, 125, 130] 135) := s_tsw dX0_count_3 (by decide) (by decide) (by decide)
theorem eX0_count_48 : SiZ nX0_count 48 (i_push (.int 0) 49) := s_iconst dX0_count_48 (by decide)
theorem eX0_count_49 : SiZ nX0_count 49 (i_istore 3 50) := s_istore_n dX0_count_49 rfl
theorem eX0_count_50 : SiZ nX0_count 50 (i_iload 3 51) := s_iload_n dX0_count_50 rfl
theorem eX0_count_51 : SiZ nX0_count 51 (i_push (.int 8) 53) := s_bipush dX0_count_51 (by decide)
theorem eX0_count_53 : SiZ nX0_count 53 (i_icmp (fun x y => y ≤ x) 79 56) := s_icmp_ge dX0_count_53 (by decide)
theorem eX0_count_56 : SiZ nX0_count 56 (i_iload 2 57) := s_iload_n dX0_count_56 rfl
theorem eX0_count_57 : SiZ nX0_count 57 (i_aload 0 58) := s_aload_n dX0_count_57 rfl
theorem eX0_count_58 : SiZ nX0_count 58 (i_getf 3 [1] 61) := s_getf dX0_count_58 (fm_cons (⟨_, _, _, _, _, _, rfl, fkX0_28_1⟩) (fm_nil))
theorem eX0_count_61 : SiZ nX0_count 61 (i_iload 3 62) := s_iload_n dX0_count_61 rfl
theorem eX0_count_62 : SiZ nX0_count 62 (i_aald 54 63) := s_aald (j := 0) (by decide) (fun _ => rfl) dX0_count_62
theorem eX0_count_63 : SiZ nX0_count 63 (i_ifn 66 70) := s_ifnonnull dX0_count_63 (by decide)
theorem eX0_count_66 : SiZ nX0_count 66 (i_push (.int 0) 67) := s_iconst dX0_count_66 (by decide)
theorem eX0_count_67 : SiZ nX0_count 67 (i_goto 71) := s_goto dX0_count_67 (by decide)
theorem eX0_count_70 : SiZ nX0_count 70 (i_push (.int 1) 71) := s_iconst dX0_count_70 (by decide)
theorem eX0_count_71 : SiZ nX0_count 71 (i_bin (fun x y => x + y) 72) := s_iadd dX0_count_71
theorem eX0_count_72 : SiZ nX0_count 72 (i_istore 2 73) := s_istore_n dX0_count_72 rfl
theorem eX0_count_73 : SiZ nX0_count 73 (i_iinc 3 1 76) := s_iinc dX0_count_73 (by decide)
theorem eX0_count_76 : SiZ nX0_count 76 (i_goto 50) := s_goto dX0_count_76 (by decide)
theorem eX0_count_79 : SiZ nX0_count 79 (i_iload 2 80) := s_iload_n dX0_count_79 rfl
theorem eX0_count_80 : SiZ nX0_count 80 i_iret := s_iret dX0_count_80 rfl
theorem eX0_count_81 : SiZ nX0_count 81 (i_aload 0 82) := s_aload_n dX0_count_81 rfl
theorem eX0_count_82 : SiZ nX0_count 82 (i_getf 11 [1] 85) := s_getf dX0_count_82 (fm_cons (⟨_, _, _, _, _, _, rfl, fkX0_39_1⟩) (fm_nil))
theorem eX0_count_85 : SiZ nX0_count 85 (i_getf 36 [2] 88) := s_getf dX0_count_85 (fm_cons (⟨_, _, _, _, _, _, rfl, fkX0_177_2⟩) (fm_nil))
theorem eX0_count_88 : SiZ nX0_count 88 i_iret := s_iret dX0_count_88 rfl
theorem eX0_count_89 : SiZ nX0_count 89 (i_aload 0 90) := s_aload_n dX0_count_89 rfl
theorem eX0_count_90 : SiZ nX0_count 90 (i_getf 11 [1] 93) := s_getf dX0_count_90 (fm_cons (⟨_, _, _, _, _, _, rfl, fkX0_39_1⟩) (fm_nil))
theorem eX0_count_93 : ScZ nX0_count 93 (c_V 0 96 1 2 (Mt mX1_many 1)) := e_V (mi := nX0_count) (mi' := nX1_many) (len := 3) (fun h b as rest hk hl => cs_V (ci := 1) (mi := nX0_count) (pc := 93) (y := yX1_many) (idx := 169) dX0_count_93 q768 q680 q681 rfl hk hyX1_many (sigC q682) pnX1_many hl) wdX1_many zX1_many (Nat.le_of_ble_eq_true rfl) (Nat.le_of_ble_eq_true rfl)
theorem eX0_count_96 : SiZ nX0_count 96 i_iret := s_iret dX0_count_96 rfl
theorem eX0_count_97 : SiZ nX0_count 97 (i_aload 0 98) := s_aload_n dX0_count_97 rfl
theorem eX0_count_98 : SiZ nX0_count 98 (i_getf 11 [1] 101) := s_getf dX0_count_98 (fm_cons (⟨_, _, _, _, _, _, rfl, fkX0_39_1⟩) (fm_nil))
theorem eX0_count_101 : SiZ nX0_count 101 (i_getf 58 [2] 104) := s_getf dX0_count_101 (fm_cons (⟨_, _, _, _, _, _, rfl, fkX0_190_2⟩) (fm_nil))
theorem eX0_count_104 : SiZ nX0_count 104 i_iret := s_iret dX0_count_104 rfl
theorem eX0_count_105 : SiZ nX0_count 105 (i_aload 0 106) := s_aload_n dX0_count_105 rfl
theorem eX0_count_106 : SiZ nX0_count 106 (i_getf 11 [1] 109) := s_getf dX0_count_106 (fm_cons (⟨_, _, _, _, _, _, rfl, fkX0_39_1⟩) (fm_nil))
theorem eX0_count_109 : SiZ nX0_count 109 (i_aload 0 110) := s_aload_n dX0_count_109 rfl
theorem eX0_count_110 : ScZ nX0_count 110 (c_V 0 113 1 1 (Mt mX0_allBooks 1)) := e_V (mi := nX0_count) (mi' := nX0_allBooks) (len := 3) (fun h b as rest hk hl => cs_V (ci := 0) (mi := nX0_count) (pc := 110) (y := yX0_allBooks) (idx := 200) dX0_count_110 q880 q882 qs22 rfl hk hyX0_allBooks (sigC q883) pnX0_allBooks hl) wdX0_allBooks zX0_allBooks (Nat.le_of_ble_eq_true rfl) (Nat.le_of_ble_eq_true rfl)
theorem eX0_count_113 : ScZ nX0_count 113 (c_V 1 116 4 2 (Mt mX1_left 4)) := e_V (mi := nX0_count) (mi' := nX1_left) (len := 3) (fun h b as rest hk hl => cs_V (ci := 1) (mi := nX0_count) (pc := 113) (y := yX1_left) (idx := 203) dX0_count_113 q884 q885 q886 rfl hk hyX1_left (sigC q887) pnX1_left hl) wdX1_left zX1_left (Nat.le_of_ble_eq_true rfl) (Nat.le_of_ble_eq_true rfl)
theorem eX0_count_116 : SiZ nX0_count 116 i_iret := s_iret dX0_count_116 rfl
theorem eX0_count_117 : SiZ nX0_count 117 (i_aload 0 118) := s_aload_n dX0_count_117 rfl
theorem eX0_count_118 : SiZ nX0_count 118 (i_getf 11 [1] 121) := s_getf dX0_count_118 (fm_cons (⟨_, _, _, _, _, _, rfl, fkX0_39_1⟩) (fm_nil))
theorem eX0_count_121 : ScZ nX0_count 121 (c_V 0 124 3 2 (Mt mX1_dusts 3)) := e_V (mi := nX0_count) (mi' := nX1_dusts) (len := 3) (fun h b as rest hk hl => cs_V (ci := 1) (mi := nX0_count) (pc := 121) (y := yX1_dusts) (idx := 381) dX0_count_121 q1233 q1234 q1235 rfl hk hyX1_dusts (sigC q1236) pnX1_dusts hl) wdX1_dusts zX1_dusts (Nat.le_of_ble_eq_true rfl) (Nat.le_of_ble_eq_true rfl)
theorem eX0_count_124 : SiZ nX0_count 124 i_iret := s_iret dX0_count_124 rfl
theorem eX0_count_125 : SiZ nX0_count 125 (i_aload 0 126) := s_aload_n dX0_count_125 rfl
theorem eX0_count_126 : SiZ nX0_count 126 (i_getf 16 [1] 129) := s_getf dX0_count_126 (fm_cons (⟨_, _, _, _, _, _, rfl, fkX0_166_1⟩) (fm_nil))
theorem eX0_count_129 : SiZ nX0_count 129 i_iret := s_iret dX0_count_129 rfl
theorem eX0_count_130 : SiZ nX0_count 130 (i_aload 0 131) := s_aload_n dX0_count_130 rfl
theorem eX0_count_131 : SiZ nX0_count 131 (i_getf 6 [1] 134) := s_getf dX0_count_131 (fm_cons (⟨_, _, _, _, _, _, rfl, fkX0_135_1⟩) (fm_nil))
theorem eX0_count_134 : SiZ nX0_count 134 i_iret := s_iret dX0_count_134 rfl
theorem eX0_count_135 : SiZ nX0_count 135 (i_push (.int (-1000001)) 137) := s_ldc dX0_count_135 q355
theorem eX0_count_137 : SiZ nX0_count 137 i_iret := s_iret dX0_count_137 rfl
theorem aX0_count : ∀ x ∈ mX0_count.1, EnZ nX0_count x := fm_cons eX0_count_0 (fm_cons eX0_count_1 (fm_cons eX0_count_2 (fm_cons eX0_count_3 (fm_cons eX0_count_48 (fm_cons eX0_count_49 (fm_cons eX0_count_50 (fm_cons eX0_count_51 (fm_cons eX0_count_53 (fm_cons eX0_count_56 (fm_cons eX0_count_57 (fm_cons eX0_count_58 (fm_cons eX0_count_61 (fm_cons eX0_count_62 (fm_cons eX0_count_63 (fm_cons eX0_count_66 (fm_cons eX0_count_67 (fm_cons eX0_count_70 (fm_cons eX0_count_71 (fm_cons eX0_count_72 (fm_cons eX0_count_73 (fm_cons eX0_count_76 (fm_cons eX0_count_79 (fm_cons eX0_count_80 (fm_cons eX0_count_81 (fm_cons eX0_count_82 (fm_cons eX0_count_85 (fm_cons eX0_count_88 (fm_cons eX0_count_89 (fm_cons eX0_count_90 (fm_cons eX0_count_93 (fm_cons eX0_count_96 (fm_cons eX0_count_97 (fm_cons eX0_count_98 (fm_cons eX0_count_101 (fm_cons eX0_count_104 (fm_cons eX0_count_105 (fm_cons eX0_count_106 (fm_cons eX0_count_109 (fm_cons eX0_count_110 (fm_cons eX0_count_113 (fm_cons eX0_count_116 (fm_cons eX0_count_117 (fm_cons eX0_count_118 (fm_cons eX0_count_121 (fm_cons eX0_count_124 (fm_cons eX0_count_125 (fm_cons eX0_count_126 (fm_cons eX0_count_129 (fm_cons eX0_count_130 (fm_cons eX0_count_131 (fm_cons eX0_count_134 (fm_cons eX0_count_135 (fm_cons eX0_count_137 (fm_nil))))))))))))))))))))))))))))))))))))))))))))))))))))))
theorem zX0_count : SwZ nX0_count (Mt mX0_count 4) := wholeZ (mi := nX0_count) (cd := mX0_count) aX0_count rfl (HdZ.none rfl)
abbrev nX0_status : MI := (cX0_status, 1, (some (.int)), RX0, "status", [], 0, 0)
theorem hyX0_status : yX0_status.cls ≠ "java/lang/invoke/MethodHandle" ∧ yX0_status.cls ≠ "java/lang/invoke/VarHandle" := by decide +kernel
theorem pnX0_status : (parseMethodDescriptor yX0_status.desc).map (fun d => d.parameters.length) = some 0 := by decide +kernel
theorem wdX0_status : CdW yX0_status (nX0_status) := ⟨Or.inl ⟨q1240, rfl⟩, rfl, rfl, plainFor_of_name (by decide +kernel)⟩
theorem eX0_status_0 : SiZ nX0_status 0 (i_aload 0 1) := s_aload_n dX0_status_0 rfl
theorem eX0_status_1 : SiZ nX0_status 1 (i_getf 22 [1] 4) := s_getf dX0_status_1 (fm_cons (⟨_, _, _, _, _, _, rfl, fkX0_79_1⟩) (fm_nil))
theorem eX0_status_4 : SiZ nX0_status 4 i_iret := s_iret dX0_status_4 rfl
theorem aX0_status : ∀ x ∈ mX0_status.1, EnZ nX0_status x := fm_cons eX0_status_0 (fm_cons eX0_status_1 (fm_cons eX0_status_4 (fm_nil)))
theorem zX0_status : SwZ nX0_status (Mt mX0_status 1) := wholeZ (mi := nX0_status) (cd := mX0_status) aX0_status rfl (HdZ.none rfl)
