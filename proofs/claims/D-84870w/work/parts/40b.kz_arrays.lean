/-! ===== RUNS OVER A TYPED STATE, part 10: arrays of fixed objects (printed by tools/gen_arr.py) ===== -/
set_option maxRecDepth 100000
section OA
variable {w : wS} {ob : Nat → Nat}
theorem ow_0_0_9 : w_own w wG ob 1 0 0 9 := .inr ⟨.inl rfl, rfl, rfl⟩
theorem oa_0_0_9 : w_aa wG ob w 0 0 9 = ob 1009 := rfl
theorem ow_1_0_0 : w_own w wG ob 1 1 0 0 := .inr ⟨.inl rfl, rfl, rfl⟩
theorem oa_1_0_0 : w_aa wG ob w 1 0 0 = ob 1256 := rfl
theorem ow_1_0_2 : w_own w wG ob 4 1 0 2 := .inr ⟨.inl rfl, rfl, rfl⟩
theorem oa_1_0_2 : w_aa wG ob w 1 0 2 = ob 1258 := rfl
theorem ow_1_0_3 : w_own w wG ob 0 1 0 3 := .inr ⟨.inl rfl, rfl, rfl⟩
theorem oa_1_0_3 : w_aa wG ob w 1 0 3 = ob 1259 := rfl
theorem ow_1_0_4 : w_own w wG ob 0 1 0 4 := .inr ⟨.inl rfl, rfl, rfl⟩
theorem oa_1_0_4 : w_aa wG ob w 1 0 4 = ob 1260 := rfl
theorem ow_1_0_5 : w_own w wG ob 0 1 0 5 := .inr ⟨.inl rfl, rfl, rfl⟩
theorem oa_1_0_5 : w_aa wG ob w 1 0 5 = ob 1261 := rfl
theorem ow_1_0_6 : w_own w wG ob 0 1 0 6 := .inr ⟨.inl rfl, rfl, rfl⟩
theorem oa_1_0_6 : w_aa wG ob w 1 0 6 = ob 1262 := rfl
theorem ow_1_0_10 : w_own w wG ob 1 1 0 10 := .inr ⟨.inl rfl, rfl, rfl⟩
theorem oa_1_0_10 : w_aa wG ob w 1 0 10 = ob 1266 := rfl
theorem ow_1_0_12 : w_own w wG ob 0 1 0 12 := .inr ⟨.inl rfl, rfl, rfl⟩
theorem oa_1_0_12 : w_aa wG ob w 1 0 12 = ob 1268 := rfl
theorem ow_1_0_13 : w_own w wG ob 0 1 0 13 := .inr ⟨.inl rfl, rfl, rfl⟩
theorem oa_1_0_13 : w_aa wG ob w 1 0 13 = ob 1269 := rfl
theorem ow_1_0_14 : w_own w wG ob 0 1 0 14 := .inr ⟨.inl rfl, rfl, rfl⟩
theorem oa_1_0_14 : w_aa wG ob w 1 0 14 = ob 1270 := rfl
theorem ow_1_0_15 : w_own w wG ob 0 1 0 15 := .inr ⟨.inl rfl, rfl, rfl⟩
theorem oa_1_0_15 : w_aa wG ob w 1 0 15 = ob 1271 := rfl
theorem ow_1_0_16 : w_own w wG ob 1 1 0 16 := .inr ⟨.inl rfl, rfl, rfl⟩
theorem oa_1_0_16 : w_aa wG ob w 1 0 16 = ob 1272 := rfl
theorem ow_1_0_19 : w_own w wG ob 1 1 0 19 := .inr ⟨.inl rfl, rfl, rfl⟩
theorem oa_1_0_19 : w_aa wG ob w 1 0 19 = ob 1275 := rfl
theorem ow_3_0_0 : w_own w wG ob 5 3 0 0 := .inr ⟨.inl rfl, rfl, rfl⟩
theorem oa_3_0_0 : w_aa wG ob w 3 0 0 = w_d w 3 0 0 := rfl
theorem ow_3_0_1 : w_own w wG ob 6 3 0 1 := .inr ⟨.inl rfl, rfl, rfl⟩
theorem oa_3_0_1 : w_aa wG ob w 3 0 1 = w_d w 3 0 1 := rfl
theorem ow_3_0_2 : w_own w wG ob 7 3 0 2 := .inr ⟨.inl rfl, rfl, rfl⟩
theorem oa_3_0_2 : w_aa wG ob w 3 0 2 = w_d w 3 0 2 := rfl
theorem ow_6_0_1 : w_own w wG ob 0 6 0 1 := .inr ⟨.inl rfl, rfl, rfl⟩
theorem oa_6_0_1 : w_aa wG ob w 6 0 1 = w_d w 6 0 1 := rfl
theorem ow_7_0_2 : w_own w wG ob 6 7 0 2 := .inr ⟨.inl rfl, rfl, rfl⟩
theorem oa_7_0_2 : w_aa wG ob w 7 0 2 = w_d w 7 0 2 := rfl
theorem ow_7_0_3 : w_own w wG ob 0 7 0 3 := .inr ⟨.inl rfl, rfl, rfl⟩
theorem oa_7_0_3 : w_aa wG ob w 7 0 3 = w_d w 7 0 3 := rfl
theorem ow_7_0_5 : w_own w wG ob 0 7 0 5 := .inr ⟨.inl rfl, rfl, rfl⟩
theorem oa_7_0_5 : w_aa wG ob w 7 0 5 = w_d w 7 0 5 := rfl
theorem ow_7_0_6 : w_own w wG ob 0 7 0 6 := .inr ⟨.inl rfl, rfl, rfl⟩
theorem oa_7_0_6 : w_aa wG ob w 7 0 6 = w_d w 7 0 6 := rfl
theorem ow_7_0_9 : w_own w wG ob 6 7 0 9 := .inr ⟨.inl rfl, rfl, rfl⟩
theorem oa_7_0_9 : w_aa wG ob w 7 0 9 = w_d w 7 0 9 := rfl
theorem ow_7_0_15 : w_own w wG ob 6 7 0 15 := .inr ⟨.inl rfl, rfl, rfl⟩
theorem oa_7_0_15 : w_aa wG ob w 7 0 15 = ob 2807 := rfl
theorem ow_8_0_1 : w_own w wG ob 1 8 0 1 := .inr ⟨.inl rfl, rfl, rfl⟩
theorem oa_8_0_1 : w_aa wG ob w 8 0 1 = ob 3049 := rfl
theorem ow_8_0_2 : w_own w wG ob 7 8 0 2 := .inr ⟨.inl rfl, rfl, rfl⟩
theorem oa_8_0_2 : w_aa wG ob w 8 0 2 = w_d w 8 0 2 := rfl
theorem ow_9_0_0 : w_own w wG ob 0 9 0 0 := .inr ⟨.inl rfl, rfl, rfl⟩
theorem oa_9_0_0 : w_aa wG ob w 9 0 0 = w_d w 9 0 0 := rfl
theorem ow_9_1_0 : w_own w wG ob 0 9 1 0 := .inr ⟨.inl rfl, rfl, rfl⟩
theorem oa_9_1_0 : w_aa wG ob w 9 1 0 = w_d w 9 1 0 := rfl
theorem ow_9_2_0 : w_own w wG ob 0 9 2 0 := .inr ⟨.inl rfl, rfl, rfl⟩
theorem oa_9_2_0 : w_aa wG ob w 9 2 0 = w_d w 9 2 0 := rfl
theorem ow_10_0_3 : w_own w wG ob 8 10 0 3 := .inr ⟨.inl rfl, rfl, rfl⟩
theorem oa_10_0_3 : w_aa wG ob w 10 0 3 = ob 3563 := rfl
theorem ow_10_0_15 : w_own w wG ob 1 10 0 15 := .inr ⟨.inl rfl, rfl, rfl⟩
theorem oa_10_0_15 : w_aa wG ob w 10 0 15 = ob 3575 := rfl
theorem ow_10_0_16 : w_own w wG ob 1 10 0 16 := .inr ⟨.inl rfl, rfl, rfl⟩
theorem oa_10_0_16 : w_aa wG ob w 10 0 16 = ob 3576 := rfl
theorem ow_10_0_17 : w_own w wG ob 0 10 0 17 := .inr ⟨.inl rfl, rfl, rfl⟩
theorem oa_10_0_17 : w_aa wG ob w 10 0 17 = ob 3577 := rfl
theorem ow_10_0_18 : w_own w wG ob 0 10 0 18 := .inr ⟨.inl rfl, rfl, rfl⟩
theorem oa_10_0_18 : w_aa wG ob w 10 0 18 = w_d w 10 0 18 := rfl
theorem ow_10_0_30 : w_own w wG ob 0 10 0 30 := .inr ⟨.inl rfl, rfl, rfl⟩
theorem oa_10_0_30 : w_aa wG ob w 10 0 30 = w_d w 10 0 30 := rfl
theorem ow_11_0_0 : w_own w wG ob 0 11 0 0 := .inr ⟨.inl rfl, rfl, rfl⟩
theorem oa_11_0_0 : w_aa wG ob w 11 0 0 = w_d w 11 0 0 := rfl
theorem ow_11_0_1 : w_own w wG ob 0 11 0 1 := .inr ⟨.inl rfl, rfl, rfl⟩
theorem oa_11_0_1 : w_aa wG ob w 11 0 1 = w_d w 11 0 1 := rfl
theorem ow_11_0_2 : w_own w wG ob 0 11 0 2 := .inr ⟨.inl rfl, rfl, rfl⟩
theorem oa_11_0_2 : w_aa wG ob w 11 0 2 = w_d w 11 0 2 := rfl
theorem ow_11_0_3 : w_own w wG ob 0 11 0 3 := .inr ⟨.inl rfl, rfl, rfl⟩
theorem oa_11_0_3 : w_aa wG ob w 11 0 3 = w_d w 11 0 3 := rfl
theorem ow_11_0_4 : w_own w wG ob 0 11 0 4 := .inr ⟨.inl rfl, rfl, rfl⟩
theorem oa_11_0_4 : w_aa wG ob w 11 0 4 = w_d w 11 0 4 := rfl
theorem ow_11_0_5 : w_own w wG ob 0 11 0 5 := .inr ⟨.inl rfl, rfl, rfl⟩
theorem oa_11_0_5 : w_aa wG ob w 11 0 5 = w_d w 11 0 5 := rfl
theorem ow_11_0_6 : w_own w wG ob 0 11 0 6 := .inr ⟨.inl rfl, rfl, rfl⟩
theorem oa_11_0_6 : w_aa wG ob w 11 0 6 = w_d w 11 0 6 := rfl
theorem ow_12_0_2 : w_own w wG ob 0 12 0 2 := .inr ⟨.inl rfl, rfl, rfl⟩
theorem oa_12_0_2 : w_aa wG ob w 12 0 2 = ob 4074 := rfl
theorem ow_12_0_4 : w_own w wG ob 9 12 0 4 := .inr ⟨.inl rfl, rfl, rfl⟩
theorem oa_12_0_4 : w_aa wG ob w 12 0 4 = ob 4076 := rfl
theorem ow_12_0_5 : w_own w wG ob 9 12 0 5 := .inr ⟨.inl rfl, rfl, rfl⟩
theorem oa_12_0_5 : w_aa wG ob w 12 0 5 = ob 4077 := rfl
theorem ow_12_0_7 : w_own w wG ob 0 12 0 7 := .inr ⟨.inl rfl, rfl, rfl⟩
theorem oa_12_0_7 : w_aa wG ob w 12 0 7 = ob 4079 := rfl
theorem ow_12_0_8 : w_own w wG ob 0 12 0 8 := .inr ⟨.inl rfl, rfl, rfl⟩
theorem oa_12_0_8 : w_aa wG ob w 12 0 8 = ob 4080 := rfl
theorem ow_12_0_9 : w_own w wG ob 0 12 0 9 := .inr ⟨.inl rfl, rfl, rfl⟩
theorem oa_12_0_9 : w_aa wG ob w 12 0 9 = ob 4081 := rfl
theorem ow_12_0_10 : w_own w wG ob 0 12 0 10 := .inr ⟨.inl rfl, rfl, rfl⟩
theorem oa_12_0_10 : w_aa wG ob w 12 0 10 = ob 4082 := rfl
theorem ow_12_0_14 : w_own w wG ob 0 12 0 14 := .inr ⟨.inl rfl, rfl, rfl⟩
theorem oa_12_0_14 : w_aa wG ob w 12 0 14 = ob 4086 := rfl
theorem ow_12_0_15 : w_own w wG ob 0 12 0 15 := .inr ⟨.inl rfl, rfl, rfl⟩
theorem oa_12_0_15 : w_aa wG ob w 12 0 15 = ob 4087 := rfl
theorem ow_12_0_16 : w_own w wG ob 0 12 0 16 := .inr ⟨.inl rfl, rfl, rfl⟩
theorem oa_12_0_16 : w_aa wG ob w 12 0 16 = ob 4088 := rfl
theorem ow_12_0_19 : w_own w wG ob 0 12 0 19 := .inr ⟨.inl rfl, rfl, rfl⟩
theorem oa_12_0_19 : w_aa wG ob w 12 0 19 = ob 4091 := rfl
theorem ow_12_0_20 : w_own w wG ob 0 12 0 20 := .inr ⟨.inl rfl, rfl, rfl⟩
theorem oa_12_0_20 : w_aa wG ob w 12 0 20 = ob 4092 := rfl
theorem ow_12_0_21 : w_own w wG ob 0 12 0 21 := .inr ⟨.inl rfl, rfl, rfl⟩
theorem oa_12_0_21 : w_aa wG ob w 12 0 21 = ob 4093 := rfl
theorem ow_12_0_26 : w_own w wG ob 0 12 0 26 := .inr ⟨.inl rfl, rfl, rfl⟩
theorem oa_12_0_26 : w_aa wG ob w 12 0 26 = ob 4098 := rfl
theorem ow_12_0_27 : w_own w wG ob 0 12 0 27 := .inr ⟨.inl rfl, rfl, rfl⟩
theorem oa_12_0_27 : w_aa wG ob w 12 0 27 = ob 4099 := rfl
theorem ow_12_0_28 : w_own w wG ob 0 12 0 28 := .inr ⟨.inl rfl, rfl, rfl⟩
theorem oa_12_0_28 : w_aa wG ob w 12 0 28 = ob 4100 := rfl
theorem ow_12_0_29 : w_own w wG ob 0 12 0 29 := .inr ⟨.inl rfl, rfl, rfl⟩
theorem oa_12_0_29 : w_aa wG ob w 12 0 29 = ob 4101 := rfl
theorem ow_12_0_30 : w_own w wG ob 0 12 0 30 := .inr ⟨.inl rfl, rfl, rfl⟩
theorem oa_12_0_30 : w_aa wG ob w 12 0 30 = ob 4102 := rfl
theorem ow_12_0_31 : w_own w wG ob 0 12 0 31 := .inr ⟨.inl rfl, rfl, rfl⟩
theorem oa_12_0_31 : w_aa wG ob w 12 0 31 = ob 4103 := rfl
theorem ow_12_0_32 : w_own w wG ob 0 12 0 32 := .inr ⟨.inl rfl, rfl, rfl⟩
theorem oa_12_0_32 : w_aa wG ob w 12 0 32 = ob 4104 := rfl
theorem ow_12_0_33 : w_own w wG ob 0 12 0 33 := .inr ⟨.inl rfl, rfl, rfl⟩
theorem oa_12_0_33 : w_aa wG ob w 12 0 33 = ob 4105 := rfl
theorem ow_12_0_34 : w_own w wG ob 0 12 0 34 := .inr ⟨.inl rfl, rfl, rfl⟩
theorem oa_12_0_34 : w_aa wG ob w 12 0 34 = ob 4106 := rfl
theorem ow_12_0_41 : w_own w wG ob 0 12 0 41 := .inr ⟨.inl rfl, rfl, rfl⟩
theorem oa_12_0_41 : w_aa wG ob w 12 0 41 = ob 4113 := rfl
theorem ow_12_0_42 : w_own w wG ob 0 12 0 42 := .inr ⟨.inl rfl, rfl, rfl⟩
theorem oa_12_0_42 : w_aa wG ob w 12 0 42 = ob 4114 := rfl
theorem ow_12_0_45 : w_own w wG ob 0 12 0 45 := .inr ⟨.inl rfl, rfl, rfl⟩
theorem oa_12_0_45 : w_aa wG ob w 12 0 45 = ob 4117 := rfl
theorem ow_12_0_46 : w_own w wG ob 0 12 0 46 := .inr ⟨.inl rfl, rfl, rfl⟩
theorem oa_12_0_46 : w_aa wG ob w 12 0 46 = ob 4118 := rfl
theorem ow_12_0_47 : w_own w wG ob 0 12 0 47 := .inr ⟨.inl rfl, rfl, rfl⟩
theorem oa_12_0_47 : w_aa wG ob w 12 0 47 = ob 4119 := rfl
theorem ow_12_0_48 : w_own w wG ob 0 12 0 48 := .inr ⟨.inl rfl, rfl, rfl⟩
theorem oa_12_0_48 : w_aa wG ob w 12 0 48 = ob 4120 := rfl
theorem ow_12_0_49 : w_own w wG ob 0 12 0 49 := .inr ⟨.inl rfl, rfl, rfl⟩
theorem oa_12_0_49 : w_aa wG ob w 12 0 49 = ob 4121 := rfl
theorem ow_12_0_50 : w_own w wG ob 0 12 0 50 := .inr ⟨.inl rfl, rfl, rfl⟩
theorem oa_12_0_50 : w_aa wG ob w 12 0 50 = ob 4122 := rfl
theorem ow_12_0_51 : w_own w wG ob 0 12 0 51 := .inr ⟨.inl rfl, rfl, rfl⟩
theorem oa_12_0_51 : w_aa wG ob w 12 0 51 = ob 4123 := rfl
theorem ow_12_0_52 : w_own w wG ob 0 12 0 52 := .inr ⟨.inl rfl, rfl, rfl⟩
theorem oa_12_0_52 : w_aa wG ob w 12 0 52 = ob 4124 := rfl
theorem ow_12_0_53 : w_own w wG ob 2 12 0 53 := .inr ⟨.inl rfl, rfl, rfl⟩
theorem oa_12_0_53 : w_aa wG ob w 12 0 53 = ob 4125 := rfl
theorem ow_12_0_54 : w_own w wG ob 0 12 0 54 := .inr ⟨.inl rfl, rfl, rfl⟩
theorem oa_12_0_54 : w_aa wG ob w 12 0 54 = ob 4126 := rfl
theorem ow_12_0_55 : w_own w wG ob 0 12 0 55 := .inr ⟨.inl rfl, rfl, rfl⟩
theorem oa_12_0_55 : w_aa wG ob w 12 0 55 = ob 4127 := rfl
theorem ow_12_0_57 : w_own w wG ob 0 12 0 57 := .inr ⟨.inl rfl, rfl, rfl⟩
theorem oa_12_0_57 : w_aa wG ob w 12 0 57 = ob 4129 := rfl
theorem ow_12_0_60 : w_own w wG ob 0 12 0 60 := .inr ⟨.inl rfl, rfl, rfl⟩
theorem oa_12_0_60 : w_aa wG ob w 12 0 60 = ob 4132 := rfl
theorem ow_12_0_61 : w_own w wG ob 0 12 0 61 := .inr ⟨.inl rfl, rfl, rfl⟩
theorem oa_12_0_61 : w_aa wG ob w 12 0 61 = ob 4133 := rfl
theorem ow_12_0_63 : w_own w wG ob 0 12 0 63 := .inr ⟨.inl rfl, rfl, rfl⟩
theorem oa_12_0_63 : w_aa wG ob w 12 0 63 = ob 4135 := rfl
theorem ow_12_0_66 : w_own w wG ob 0 12 0 66 := .inr ⟨.inl rfl, rfl, rfl⟩
theorem oa_12_0_66 : w_aa wG ob w 12 0 66 = ob 4138 := rfl
theorem ow_12_0_67 : w_own w wG ob 0 12 0 67 := .inr ⟨.inl rfl, rfl, rfl⟩
theorem oa_12_0_67 : w_aa wG ob w 12 0 67 = ob 4139 := rfl
theorem ow_12_0_68 : w_own w wG ob 2 12 0 68 := .inr ⟨.inl rfl, rfl, rfl⟩
theorem oa_12_0_68 : w_aa wG ob w 12 0 68 = ob 4140 := rfl
theorem ow_12_0_69 : w_own w wG ob 0 12 0 69 := .inr ⟨.inl rfl, rfl, rfl⟩
theorem oa_12_0_69 : w_aa wG ob w 12 0 69 = ob 4141 := rfl
theorem ow_12_0_70 : w_own w wG ob 0 12 0 70 := .inr ⟨.inl rfl, rfl, rfl⟩
theorem oa_12_0_70 : w_aa wG ob w 12 0 70 = ob 4142 := rfl
theorem ow_12_0_71 : w_own w wG ob 2 12 0 71 := .inr ⟨.inl rfl, rfl, rfl⟩
theorem oa_12_0_71 : w_aa wG ob w 12 0 71 = ob 4143 := rfl
theorem ow_12_0_76 : w_own w wG ob 3 12 0 76 := .inr ⟨.inl rfl, rfl, rfl⟩
theorem oa_12_0_76 : w_aa wG ob w 12 0 76 = ob 4148 := rfl
theorem ow_12_0_77 : w_own w wG ob 0 12 0 77 := .inr ⟨.inl rfl, rfl, rfl⟩
theorem oa_12_0_77 : w_aa wG ob w 12 0 77 = ob 4149 := rfl
theorem ow_12_0_78 : w_own w wG ob 0 12 0 78 := .inr ⟨.inl rfl, rfl, rfl⟩
theorem oa_12_0_78 : w_aa wG ob w 12 0 78 = ob 4150 := rfl
theorem ow_12_0_81 : w_own w wG ob 0 12 0 81 := .inr ⟨.inl rfl, rfl, rfl⟩
theorem oa_12_0_81 : w_aa wG ob w 12 0 81 = w_d w 12 0 81 := rfl
theorem ow_12_0_82 : w_own w wG ob 0 12 0 82 := .inr ⟨.inl rfl, rfl, rfl⟩
theorem oa_12_0_82 : w_aa wG ob w 12 0 82 = w_d w 12 0 82 := rfl
theorem ow_12_0_83 : w_own w wG ob 0 12 0 83 := .inr ⟨.inl rfl, rfl, rfl⟩
theorem oa_12_0_83 : w_aa wG ob w 12 0 83 = ob 4155 := rfl
theorem ow_12_0_84 : w_own w wG ob 0 12 0 84 := .inr ⟨.inl rfl, rfl, rfl⟩
theorem oa_12_0_84 : w_aa wG ob w 12 0 84 = ob 4156 := rfl
theorem ow_12_0_85 : w_own w wG ob 2 12 0 85 := .inr ⟨.inl rfl, rfl, rfl⟩
theorem oa_12_0_85 : w_aa wG ob w 12 0 85 = ob 4157 := rfl
theorem ow_12_0_92 : w_own w wG ob 3 12 0 92 := .inr ⟨.inl rfl, rfl, rfl⟩
theorem oa_12_0_92 : w_aa wG ob w 12 0 92 = ob 4164 := rfl
theorem ow_12_0_94 : w_own w wG ob 0 12 0 94 := .inr ⟨.inl rfl, rfl, rfl⟩
theorem oa_12_0_94 : w_aa wG ob w 12 0 94 = ob 4166 := rfl
theorem ow_12_0_95 : w_own w wG ob 2 12 0 95 := .inr ⟨.inl rfl, rfl, rfl⟩
theorem oa_12_0_95 : w_aa wG ob w 12 0 95 = ob 4167 := rfl
theorem ow_12_0_96 : w_own w wG ob 0 12 0 96 := .inr ⟨.inl rfl, rfl, rfl⟩
theorem oa_12_0_96 : w_aa wG ob w 12 0 96 = ob 4168 := rfl
theorem ow_12_0_97 : w_own w wG ob 3 12 0 97 := .inr ⟨.inl rfl, rfl, rfl⟩
theorem oa_12_0_97 : w_aa wG ob w 12 0 97 = ob 4169 := rfl
theorem ow_12_0_101 : w_own w wG ob 0 12 0 101 := .inr ⟨.inl rfl, rfl, rfl⟩
theorem oa_12_0_101 : w_aa wG ob w 12 0 101 = ob 4173 := rfl
theorem ow_12_0_102 : w_own w wG ob 2 12 0 102 := .inr ⟨.inl rfl, rfl, rfl⟩
theorem oa_12_0_102 : w_aa wG ob w 12 0 102 = ob 4174 := rfl
theorem ow_12_0_103 : w_own w wG ob 3 12 0 103 := .inr ⟨.inl rfl, rfl, rfl⟩
theorem oa_12_0_103 : w_aa wG ob w 12 0 103 = ob 4175 := rfl
theorem ow_12_0_105 : w_own w wG ob 0 12 0 105 := .inr ⟨.inl rfl, rfl, rfl⟩
theorem oa_12_0_105 : w_aa wG ob w 12 0 105 = ob 4177 := rfl
theorem ow_12_0_106 : w_own w wG ob 2 12 0 106 := .inr ⟨.inl rfl, rfl, rfl⟩
theorem oa_12_0_106 : w_aa wG ob w 12 0 106 = ob 4178 := rfl
theorem ow_12_0_107 : w_own w wG ob 3 12 0 107 := .inr ⟨.inl rfl, rfl, rfl⟩
theorem oa_12_0_107 : w_aa wG ob w 12 0 107 = ob 4179 := rfl
theorem ow_12_0_108 : w_own w wG ob 2 12 0 108 := .inr ⟨.inl rfl, rfl, rfl⟩
theorem oa_12_0_108 : w_aa wG ob w 12 0 108 = ob 4180 := rfl
theorem ow_12_0_109 : w_own w wG ob 3 12 0 109 := .inr ⟨.inl rfl, rfl, rfl⟩
theorem oa_12_0_109 : w_aa wG ob w 12 0 109 = ob 4181 := rfl
theorem ow_12_0_111 : w_own w wG ob 0 12 0 111 := .inr ⟨.inl rfl, rfl, rfl⟩
theorem oa_12_0_111 : w_aa wG ob w 12 0 111 = w_d w 12 0 111 := rfl
theorem ow_12_0_112 : w_own w wG ob 0 12 0 112 := .inr ⟨.inl rfl, rfl, rfl⟩
theorem oa_12_0_112 : w_aa wG ob w 12 0 112 = w_d w 12 0 112 := rfl
theorem ow_12_0_113 : w_own w wG ob 0 12 0 113 := .inr ⟨.inl rfl, rfl, rfl⟩
theorem oa_12_0_113 : w_aa wG ob w 12 0 113 = w_d w 12 0 113 := rfl
theorem ow_12_0_116 : w_own w wG ob 0 12 0 116 := .inr ⟨.inl rfl, rfl, rfl⟩
theorem oa_12_0_116 : w_aa wG ob w 12 0 116 = w_d w 12 0 116 := rfl
theorem ow_12_0_117 : w_own w wG ob 0 12 0 117 := .inr ⟨.inl rfl, rfl, rfl⟩
theorem oa_12_0_117 : w_aa wG ob w 12 0 117 = w_d w 12 0 117 := rfl
theorem ow_12_0_118 : w_own w wG ob 10 12 0 118 := .inr ⟨.inl rfl, rfl, rfl⟩
theorem oa_12_0_118 : w_aa wG ob w 12 0 118 = ob 4190 := rfl
theorem ow_12_0_121 : w_own w wG ob 0 12 0 121 := .inr ⟨.inl rfl, rfl, rfl⟩
theorem oa_12_0_121 : w_aa wG ob w 12 0 121 = w_d w 12 0 121 := rfl
theorem ow_12_0_122 : w_own w wG ob 0 12 0 122 := .inr ⟨.inl rfl, rfl, rfl⟩
theorem oa_12_0_122 : w_aa wG ob w 12 0 122 = w_d w 12 0 122 := rfl
theorem ow_12_0_136 : w_own w wG ob 0 12 0 136 := .inr ⟨.inl rfl, rfl, rfl⟩
theorem oa_12_0_136 : w_aa wG ob w 12 0 136 = ob 4208 := rfl
theorem ow_12_0_138 : w_own w wG ob 0 12 0 138 := .inr ⟨.inl rfl, rfl, rfl⟩
theorem oa_12_0_138 : w_aa wG ob w 12 0 138 = ob 4210 := rfl
theorem ow_12_0_142 : w_own w wG ob 0 12 0 142 := .inr ⟨.inl rfl, rfl, rfl⟩
theorem oa_12_0_142 : w_aa wG ob w 12 0 142 = ob 4214 := rfl
theorem ow_12_0_144 : w_own w wG ob 0 12 0 144 := .inr ⟨.inl rfl, rfl, rfl⟩
theorem oa_12_0_144 : w_aa wG ob w 12 0 144 = ob 4216 := rfl
theorem ow_12_0_145 : w_own w wG ob 2 12 0 145 := .inr ⟨.inl rfl, rfl, rfl⟩
theorem oa_12_0_145 : w_aa wG ob w 12 0 145 = ob 4217 := rfl
theorem ow_12_0_146 : w_own w wG ob 0 12 0 146 := .inr ⟨.inl rfl, rfl, rfl⟩
theorem oa_12_0_146 : w_aa wG ob w 12 0 146 = ob 4218 := rfl
theorem ow_12_0_147 : w_own w wG ob 0 12 0 147 := .inr ⟨.inl rfl, rfl, rfl⟩
theorem oa_12_0_147 : w_aa wG ob w 12 0 147 = ob 4219 := rfl
theorem ow_12_0_148 : w_own w wG ob 0 12 0 148 := .inr ⟨.inl rfl, rfl, rfl⟩
theorem oa_12_0_148 : w_aa wG ob w 12 0 148 = ob 4220 := rfl
theorem ow_12_0_149 : w_own w wG ob 0 12 0 149 := .inr ⟨.inl rfl, rfl, rfl⟩
theorem oa_12_0_149 : w_aa wG ob w 12 0 149 = ob 4221 := rfl
theorem ow_12_0_150 : w_own w wG ob 0 12 0 150 := .inr ⟨.inl rfl, rfl, rfl⟩
theorem oa_12_0_150 : w_aa wG ob w 12 0 150 = ob 4222 := rfl
theorem ow_12_0_151 : w_own w wG ob 0 12 0 151 := .inr ⟨.inl rfl, rfl, rfl⟩
theorem oa_12_0_151 : w_aa wG ob w 12 0 151 = ob 4223 := rfl
theorem ow_12_0_152 : w_own w wG ob 0 12 0 152 := .inr ⟨.inl rfl, rfl, rfl⟩
theorem oa_12_0_152 : w_aa wG ob w 12 0 152 = ob 4224 := rfl
theorem ow_12_0_153 : w_own w wG ob 0 12 0 153 := .inr ⟨.inl rfl, rfl, rfl⟩
theorem oa_12_0_153 : w_aa wG ob w 12 0 153 = ob 4225 := rfl
theorem ow_12_0_154 : w_own w wG ob 0 12 0 154 := .inr ⟨.inl rfl, rfl, rfl⟩
theorem oa_12_0_154 : w_aa wG ob w 12 0 154 = ob 4226 := rfl
theorem ow_12_0_155 : w_own w wG ob 0 12 0 155 := .inr ⟨.inl rfl, rfl, rfl⟩
theorem oa_12_0_155 : w_aa wG ob w 12 0 155 = ob 4227 := rfl
theorem ow_12_0_156 : w_own w wG ob 0 12 0 156 := .inr ⟨.inl rfl, rfl, rfl⟩
theorem oa_12_0_156 : w_aa wG ob w 12 0 156 = ob 4228 := rfl
theorem ow_12_0_157 : w_own w wG ob 0 12 0 157 := .inr ⟨.inl rfl, rfl, rfl⟩
theorem oa_12_0_157 : w_aa wG ob w 12 0 157 = ob 4229 := rfl
theorem ow_12_0_158 : w_own w wG ob 0 12 0 158 := .inr ⟨.inl rfl, rfl, rfl⟩
theorem oa_12_0_158 : w_aa wG ob w 12 0 158 = ob 4230 := rfl
theorem ow_12_0_159 : w_own w wG ob 2 12 0 159 := .inr ⟨.inl rfl, rfl, rfl⟩
theorem oa_12_0_159 : w_aa wG ob w 12 0 159 = ob 4231 := rfl
theorem ow_12_0_160 : w_own w wG ob 0 12 0 160 := .inr ⟨.inl rfl, rfl, rfl⟩
theorem oa_12_0_160 : w_aa wG ob w 12 0 160 = ob 4232 := rfl
theorem ow_12_0_165 : w_own w wG ob 10 12 0 165 := .inr ⟨.inl rfl, rfl, rfl⟩
theorem oa_12_0_165 : w_aa wG ob w 12 0 165 = ob 4237 := rfl
theorem ow_12_0_171 : w_own w wG ob 0 12 0 171 := .inr ⟨.inl rfl, rfl, rfl⟩
theorem oa_12_0_171 : w_aa wG ob w 12 0 171 = w_d w 12 0 171 := rfl
theorem ow_12_0_172 : w_own w wG ob 0 12 0 172 := .inr ⟨.inl rfl, rfl, rfl⟩
theorem oa_12_0_172 : w_aa wG ob w 12 0 172 = w_d w 12 0 172 := rfl
theorem ow_12_0_175 : w_own w wG ob 0 12 0 175 := .inr ⟨.inl rfl, rfl, rfl⟩
theorem oa_12_0_175 : w_aa wG ob w 12 0 175 = w_d w 12 0 175 := rfl
theorem ow_12_0_176 : w_own w wG ob 0 12 0 176 := .inr ⟨.inl rfl, rfl, rfl⟩
theorem oa_12_0_176 : w_aa wG ob w 12 0 176 = w_d w 12 0 176 := rfl
end OA
theorem ot_0 {E : zE} : (kx_tl (zV E))[0]? = some .int := rfl
theorem ot_1 {E : zE} : (kx_tl (zV E))[1]? = some .byte := rfl
theorem ot_2 {E : zE} : (kx_tl (zV E))[2]? = some .boolean := rfl
theorem ot_3 {E : zE} : (kx_tl (zV E))[3]? = some .long := rfl
