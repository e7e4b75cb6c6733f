/-! THE LOADER, 7: a word mended -/
set_option maxRecDepth 100000 in
theorem c_ML_mended (l : Launch) (G : eg_G) (k w s d : Int32) : Ct l G y_ML_mended 1 0 0 [.int k, .int w, .int s, .int d] [] (rF (some (.int (mdV k w s d))) []) := by
  refine Ct.of cd_ML_mended (eg_catb rfl) (Nat.le_of_ble_eq_true rfl) ?_
  intro Γ hG
  have hR := hG.rm
  show Ex G Γ mu_ML_mended 0 [some (.int k), some (.int w), some (.int s), some (.int d)] [] [] 0 0
  refine ex_il d_ML_mended_0 rfl ?_
  by_cases e1_0 : k = 0
  · skip
    refine ex_eqT (.int 0 :: _) (by rw [e1_0]) ?_
    refine ex_tabIn (tgt := 36) d_ML_mended_1 (by decide) (by decide) (by rfl) (by decide) ?_
    refine ex_il d_ML_mended_36 rfl ?_
    exact ex_iret [] hG d_ML_mended_37 rfl rfl (by decide) (by decide) (eg_sub.of rfl) ⟨by rw [e1_0]; rfl, rfl⟩
  by_cases e1_1 : k = 1
  · skip
    refine ex_eqT (.int 1 :: _) (by rw [e1_1]) ?_
    refine ex_tabIn (tgt := 38) d_ML_mended_1 (by decide) (by decide) (by rfl) (by decide) ?_
    refine ex_il d_ML_mended_38 rfl ?_
    refine ex_k d_ML_mended_39 ?_
    refine ex_iand d_ML_mended_42 ?_
    refine ex_il d_ML_mended_43 rfl ?_
    refine ex_k d_ML_mended_44 ?_
    refine ex_iadd d_ML_mended_47 ?_
    refine ex_k d_ML_mended_48 ?_
    refine ex_iand d_ML_mended_51 ?_
    refine ex_ior d_ML_mended_52 ?_
    exact ex_iret [] hG d_ML_mended_53 rfl rfl (by decide) (by decide) (eg_sub.of rfl) ⟨by rw [e1_1]; rfl, rfl⟩
  by_cases e1_2 : k = 2
  · skip
    refine ex_eqT (.int 2 :: _) (by rw [e1_2]) ?_
    refine ex_tabIn (tgt := 54) d_ML_mended_1 (by decide) (by decide) (by rfl) (by decide) ?_
    refine ex_il d_ML_mended_54 rfl ?_
    refine ex_k d_ML_mended_55 ?_
    refine ex_iand d_ML_mended_57 ?_
    refine ex_il d_ML_mended_58 rfl ?_
    refine ex_k d_ML_mended_59 ?_
    refine ex_ishl d_ML_mended_61 ?_
    refine ex_ior d_ML_mended_62 ?_
    exact ex_iret [] hG d_ML_mended_63 rfl rfl (by decide) (by decide) (eg_sub.of rfl) ⟨by rw [e1_2]; rfl, rfl⟩
  by_cases e1_3 : k = 3
  · skip
    refine ex_eqT (.int 3 :: _) (by rw [e1_3]) ?_
    refine ex_tabIn (tgt := 64) d_ML_mended_1 (by decide) (by decide) (by rfl) (by decide) ?_
    refine ex_il d_ML_mended_64 rfl ?_
    refine ex_k d_ML_mended_65 ?_
    refine ex_iand d_ML_mended_67 ?_
    refine ex_il d_ML_mended_68 rfl ?_
    refine ex_k d_ML_mended_69 ?_
    refine ex_iand d_ML_mended_71 ?_
    refine ex_k d_ML_mended_72 ?_
    refine ex_ishl d_ML_mended_74 ?_
    refine ex_ior d_ML_mended_75 ?_
    refine ex_il d_ML_mended_76 rfl ?_
    refine ex_k d_ML_mended_77 ?_
    refine ex_ishr d_ML_mended_78 ?_
    refine ex_k d_ML_mended_79 ?_
    refine ex_iand d_ML_mended_81 ?_
    refine ex_k d_ML_mended_82 ?_
    refine ex_ishl d_ML_mended_84 ?_
    refine ex_ior d_ML_mended_85 ?_
    exact ex_iret [] hG d_ML_mended_86 rfl rfl (by decide) (by decide) (eg_sub.of rfl) ⟨by rw [e1_3, show mdV 3 w s d = w &&& (33550463 : Int32) ||| (s &&& (31 : Int32)) <<< ((7 : Int32) &&& (31 : Int32)) ||| (s >>> ((5 : Int32) &&& (31 : Int32)) &&& (127 : Int32)) <<< ((25 : Int32) &&& (31 : Int32)) from by rw [Int32.or_assoc, Int32.or_comm ((s &&& (31 : Int32)) <<< ((7 : Int32) &&& (31 : Int32))), ← Int32.or_assoc]; rfl], rfl⟩
  by_cases e1_4 : k = 4
  · skip
    refine ex_eqT (.int 4 :: _) (by rw [e1_4]) ?_
    refine ex_tabIn (tgt := 87) d_ML_mended_1 (by decide) (by decide) (by rfl) (by decide) ?_
    refine ex_il d_ML_mended_87 rfl ?_
    refine ex_k d_ML_mended_88 ?_
    refine ex_iand d_ML_mended_91 ?_
    refine ex_il d_ML_mended_92 rfl ?_
    refine ex_k d_ML_mended_93 ?_
    refine ex_ishr d_ML_mended_95 ?_
    refine ex_k d_ML_mended_96 ?_
    refine ex_iand d_ML_mended_97 ?_
    refine ex_k d_ML_mended_98 ?_
    refine ex_ishl d_ML_mended_100 ?_
    refine ex_ior d_ML_mended_101 ?_
    refine ex_il d_ML_mended_102 rfl ?_
    refine ex_k d_ML_mended_103 ?_
    refine ex_ishr d_ML_mended_104 ?_
    refine ex_k d_ML_mended_105 ?_
    refine ex_iand d_ML_mended_108 ?_
    refine ex_k d_ML_mended_109 ?_
    refine ex_ishl d_ML_mended_111 ?_
    refine ex_ior d_ML_mended_112 ?_
    refine ex_il d_ML_mended_113 rfl ?_
    refine ex_k d_ML_mended_114 ?_
    refine ex_ishr d_ML_mended_116 ?_
    refine ex_k d_ML_mended_117 ?_
    refine ex_iand d_ML_mended_118 ?_
    refine ex_k d_ML_mended_119 ?_
    refine ex_ishl d_ML_mended_121 ?_
    refine ex_ior d_ML_mended_122 ?_
    refine ex_il d_ML_mended_123 rfl ?_
    refine ex_k d_ML_mended_124 ?_
    refine ex_ishr d_ML_mended_126 ?_
    refine ex_k d_ML_mended_127 ?_
    refine ex_iand d_ML_mended_130 ?_
    refine ex_k d_ML_mended_131 ?_
    refine ex_ishl d_ML_mended_133 ?_
    refine ex_ior d_ML_mended_134 ?_
    exact ex_iret [] hG d_ML_mended_135 rfl rfl (by decide) (by decide) (eg_sub.of rfl) ⟨by rw [e1_4]; rfl, rfl⟩
  refine ex_tabOut (tgt := 136) d_ML_mended_1 (by have a0 := ne_t (k := 0) (by decide) e1_0; have a1 := ne_t (k := 1) (by decide) e1_1; have a2 := ne_t (k := 2) (by decide) e1_2; have a3 := ne_t (k := 3) (by decide) e1_3; have a4 := ne_t (k := 4) (by decide) e1_4; omega) (by decide) ?_
  refine ex_il d_ML_mended_136 rfl ?_
  refine ex_k d_ML_mended_137 ?_
  refine ex_iand d_ML_mended_139 ?_
  refine ex_il d_ML_mended_140 rfl ?_
  refine ex_k d_ML_mended_141 ?_
  refine ex_ishr d_ML_mended_143 ?_
  refine ex_k d_ML_mended_144 ?_
  refine ex_iand d_ML_mended_145 ?_
  refine ex_k d_ML_mended_146 ?_
  refine ex_ishl d_ML_mended_148 ?_
  refine ex_ior d_ML_mended_149 ?_
  refine ex_il d_ML_mended_150 rfl ?_
  refine ex_k d_ML_mended_151 ?_
  refine ex_ishr d_ML_mended_152 ?_
  refine ex_k d_ML_mended_153 ?_
  refine ex_iand d_ML_mended_155 ?_
  refine ex_k d_ML_mended_156 ?_
  refine ex_ishl d_ML_mended_158 ?_
  refine ex_ior d_ML_mended_159 ?_
  refine ex_il d_ML_mended_160 rfl ?_
  refine ex_k d_ML_mended_161 ?_
  refine ex_ishr d_ML_mended_162 ?_
  refine ex_k d_ML_mended_163 ?_
  refine ex_iand d_ML_mended_165 ?_
  refine ex_k d_ML_mended_166 ?_
  refine ex_ishl d_ML_mended_168 ?_
  refine ex_ior d_ML_mended_169 ?_
  refine ex_il d_ML_mended_170 rfl ?_
  refine ex_k d_ML_mended_171 ?_
  refine ex_ishr d_ML_mended_173 ?_
  refine ex_k d_ML_mended_174 ?_
  refine ex_iand d_ML_mended_175 ?_
  refine ex_k d_ML_mended_176 ?_
  refine ex_ishl d_ML_mended_178 ?_
  refine ex_ior d_ML_mended_179 ?_
  exact ex_iret [] hG d_ML_mended_180 rfl rfl (by decide) (by decide) (eg_sub.of rfl) ⟨by rw [mdV, if_neg e1_0, if_neg e1_1, if_neg e1_2, if_neg e1_3, if_neg e1_4], rfl⟩
