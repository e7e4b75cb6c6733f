/-! THE TWIN, 13: a new one -/
def tf0 : Nat → Int32 := va_up (fun _ => 0) 18 (-1)
def tg0 : Nat → Nat → Int32 := fun _ _ => 0
set_option maxRecDepth 100000 in
theorem c_TM_init (l : Launch) (G : eg_G) (h : Nat) : Ct l G y_TM_init 2 14 6000 [.ref h] [[(h, .inr (16, [.int 0, .null, .int 0, .int 0, .null, .null, .null, .null, .null, .null, .null, .null, .null, .null, .null, .int 0, .null, .int 0, .int 0, .int 0, .int 0, .int 0, .null, .int 0, .int 0, .int 0, .int 0, .int 0, .int 0, .int 0, .int 0]))]] (fun o S2 => o = .inl none ∧ ∃ q, S2 = [TW G h q tf0 tg0]) := by
  refine Ct.of cd_TM_init (eg_catb rfl) (Nat.le_of_ble_eq_true rfl) ?_
  intro Γ hG
  have hR := hG.rm
  show Ex G Γ mu_TM_init 0 [some (.ref h)] [] [[(h, .inr (16, [.int 0, .null, .int 0, .int 0, .null, .null, .null, .null, .null, .null, .null, .null, .null, .null, .null, .int 0, .null, .int 0, .int 0, .int 0, .int 0, .int 0, .null, .int 0, .int 0, .int 0, .int 0, .int 0, .int 0, .int 0, .int 0]))]] 0 0
  refine ex_al d_TM_init_0 rfl ?_
  refine ex_oinit hR d_TM_init_1 ol_TM_1 oi_inst oi_code (Nat.le_of_ble_eq_true rfl) ?_
  refine ex_al d_TM_init_4 rfl ?_
  refine ex_k d_TM_init_5 ?_
  refine ex_newa (N := 4096) (t := 2) (a0 := (4096, .inl (fun _ => 0))) hR d_TM_init_8 rfl ac_int rfl (fun _ => rfl) (by decide) (by decide) (by decide) (by decide) (by decide) (fun q1 => ?_)
  refine ex_put1 0 wl_TM_7 d_TM_init_10 rfl rfl rfl (Nat.le_of_ble_eq_true rfl) ?_
  refine ex_eqS [[(h, .inr (16, [.int 0, .ref q1, .int 0, .int 0, .null, .null, .null, .null, .null, .null, .null, .null, .null, .null, .null, .int 0, .null, .int 0, .int 0, .int 0, .int 0, .int 0, .null, .int 0, .int 0, .int 0, .int 0, .int 0, .int 0, .int 0, .int 0]))], [(q1, .inl (eg_c G 2, 4096, .inl (fun _ => 0)))]] rfl ?_
  refine ex_al d_TM_init_13 rfl ?_
  refine ex_k d_TM_init_14 ?_
  refine ex_newa (N := 40) (t := 2) (a0 := (40, .inl (fun _ => 0))) hR d_TM_init_16 rfl ac_int rfl (fun _ => rfl) (by decide) (by decide) (by decide) (by decide) (by decide) (fun q4 => ?_)
  refine ex_put1 0 wl_TM_13 d_TM_init_18 rfl rfl rfl (Nat.le_of_ble_eq_true rfl) ?_
  refine ex_eqS [[(h, .inr (16, [.int 0, .ref q1, .int 0, .int 0, .ref q4, .null, .null, .null, .null, .null, .null, .null, .null, .null, .null, .int 0, .null, .int 0, .int 0, .int 0, .int 0, .int 0, .null, .int 0, .int 0, .int 0, .int 0, .int 0, .int 0, .int 0, .int 0]))], [(q1, .inl (eg_c G 2, 4096, .inl (fun _ => 0)))], [(q4, .inl (eg_c G 2, 40, .inl (fun _ => 0)))]] rfl ?_
  refine ex_al d_TM_init_21 rfl ?_
  refine ex_k d_TM_init_22 ?_
  refine ex_newa (N := 40) (t := 2) (a0 := (40, .inl (fun _ => 0))) hR d_TM_init_24 rfl ac_int rfl (fun _ => rfl) (by decide) (by decide) (by decide) (by decide) (by decide) (fun q5 => ?_)
  refine ex_put1 0 wl_TM_16 d_TM_init_26 rfl rfl rfl (Nat.le_of_ble_eq_true rfl) ?_
  refine ex_eqS [[(h, .inr (16, [.int 0, .ref q1, .int 0, .int 0, .ref q4, .ref q5, .null, .null, .null, .null, .null, .null, .null, .null, .null, .int 0, .null, .int 0, .int 0, .int 0, .int 0, .int 0, .null, .int 0, .int 0, .int 0, .int 0, .int 0, .int 0, .int 0, .int 0]))], [(q1, .inl (eg_c G 2, 4096, .inl (fun _ => 0)))], [(q4, .inl (eg_c G 2, 40, .inl (fun _ => 0)))], [(q5, .inl (eg_c G 2, 40, .inl (fun _ => 0)))]] rfl ?_
  refine ex_al d_TM_init_29 rfl ?_
  refine ex_k d_TM_init_30 ?_
  refine ex_newa (N := 40) (t := 2) (a0 := (40, .inl (fun _ => 0))) hR d_TM_init_32 rfl ac_int rfl (fun _ => rfl) (by decide) (by decide) (by decide) (by decide) (by decide) (fun q6 => ?_)
  refine ex_put1 0 wl_TM_19 d_TM_init_34 rfl rfl rfl (Nat.le_of_ble_eq_true rfl) ?_
  refine ex_eqS [[(h, .inr (16, [.int 0, .ref q1, .int 0, .int 0, .ref q4, .ref q5, .ref q6, .null, .null, .null, .null, .null, .null, .null, .null, .int 0, .null, .int 0, .int 0, .int 0, .int 0, .int 0, .null, .int 0, .int 0, .int 0, .int 0, .int 0, .int 0, .int 0, .int 0]))], [(q1, .inl (eg_c G 2, 4096, .inl (fun _ => 0)))], [(q4, .inl (eg_c G 2, 40, .inl (fun _ => 0)))], [(q5, .inl (eg_c G 2, 40, .inl (fun _ => 0)))], [(q6, .inl (eg_c G 2, 40, .inl (fun _ => 0)))]] rfl ?_
  refine ex_al d_TM_init_37 rfl ?_
  refine ex_k d_TM_init_38 ?_
  refine ex_newa (N := 40) (t := 2) (a0 := (40, .inl (fun _ => 0))) hR d_TM_init_40 rfl ac_int rfl (fun _ => rfl) (by decide) (by decide) (by decide) (by decide) (by decide) (fun q7 => ?_)
  refine ex_put1 0 wl_TM_22 d_TM_init_42 rfl rfl rfl (Nat.le_of_ble_eq_true rfl) ?_
  refine ex_eqS [[(h, .inr (16, [.int 0, .ref q1, .int 0, .int 0, .ref q4, .ref q5, .ref q6, .ref q7, .null, .null, .null, .null, .null, .null, .null, .int 0, .null, .int 0, .int 0, .int 0, .int 0, .int 0, .null, .int 0, .int 0, .int 0, .int 0, .int 0, .int 0, .int 0, .int 0]))], [(q1, .inl (eg_c G 2, 4096, .inl (fun _ => 0)))], [(q4, .inl (eg_c G 2, 40, .inl (fun _ => 0)))], [(q5, .inl (eg_c G 2, 40, .inl (fun _ => 0)))], [(q6, .inl (eg_c G 2, 40, .inl (fun _ => 0)))], [(q7, .inl (eg_c G 2, 40, .inl (fun _ => 0)))]] rfl ?_
  refine ex_al d_TM_init_45 rfl ?_
  refine ex_k d_TM_init_46 ?_
  refine ex_newa (N := 12) (t := 1) (a0 := (12, .inl (fun _ => 0))) hR d_TM_init_48 rfl ac_boolean rfl (fun _ => rfl) (by decide) (by decide) (by decide) (by decide) (by decide) (fun q8 => ?_)
  refine ex_put1 0 wl_TM_25 d_TM_init_50 rfl rfl rfl (Nat.le_of_ble_eq_true rfl) ?_
  refine ex_eqS [[(h, .inr (16, [.int 0, .ref q1, .int 0, .int 0, .ref q4, .ref q5, .ref q6, .ref q7, .ref q8, .null, .null, .null, .null, .null, .null, .int 0, .null, .int 0, .int 0, .int 0, .int 0, .int 0, .null, .int 0, .int 0, .int 0, .int 0, .int 0, .int 0, .int 0, .int 0]))], [(q1, .inl (eg_c G 2, 4096, .inl (fun _ => 0)))], [(q4, .inl (eg_c G 2, 40, .inl (fun _ => 0)))], [(q5, .inl (eg_c G 2, 40, .inl (fun _ => 0)))], [(q6, .inl (eg_c G 2, 40, .inl (fun _ => 0)))], [(q7, .inl (eg_c G 2, 40, .inl (fun _ => 0)))], [(q8, .inl (eg_c G 1, 12, .inl (fun _ => 0)))]] rfl ?_
  refine ex_al d_TM_init_53 rfl ?_
  refine ex_k d_TM_init_54 ?_
  refine ex_newa (N := 12) (t := 2) (a0 := (12, .inl (fun _ => 0))) hR d_TM_init_56 rfl ac_int rfl (fun _ => rfl) (by decide) (by decide) (by decide) (by decide) (by decide) (fun q9 => ?_)
  refine ex_put1 0 wl_TM_29 d_TM_init_58 rfl rfl rfl (Nat.le_of_ble_eq_true rfl) ?_
  refine ex_eqS [[(h, .inr (16, [.int 0, .ref q1, .int 0, .int 0, .ref q4, .ref q5, .ref q6, .ref q7, .ref q8, .ref q9, .null, .null, .null, .null, .null, .int 0, .null, .int 0, .int 0, .int 0, .int 0, .int 0, .null, .int 0, .int 0, .int 0, .int 0, .int 0, .int 0, .int 0, .int 0]))], [(q1, .inl (eg_c G 2, 4096, .inl (fun _ => 0)))], [(q4, .inl (eg_c G 2, 40, .inl (fun _ => 0)))], [(q5, .inl (eg_c G 2, 40, .inl (fun _ => 0)))], [(q6, .inl (eg_c G 2, 40, .inl (fun _ => 0)))], [(q7, .inl (eg_c G 2, 40, .inl (fun _ => 0)))], [(q8, .inl (eg_c G 1, 12, .inl (fun _ => 0)))], [(q9, .inl (eg_c G 2, 12, .inl (fun _ => 0)))]] rfl ?_
  refine ex_al d_TM_init_61 rfl ?_
  refine ex_k d_TM_init_62 ?_
  refine ex_newa (N := 12) (t := 2) (a0 := (12, .inl (fun _ => 0))) hR d_TM_init_64 rfl ac_int rfl (fun _ => rfl) (by decide) (by decide) (by decide) (by decide) (by decide) (fun q10 => ?_)
  refine ex_put1 0 wl_TM_32 d_TM_init_66 rfl rfl rfl (Nat.le_of_ble_eq_true rfl) ?_
  refine ex_eqS [[(h, .inr (16, [.int 0, .ref q1, .int 0, .int 0, .ref q4, .ref q5, .ref q6, .ref q7, .ref q8, .ref q9, .ref q10, .null, .null, .null, .null, .int 0, .null, .int 0, .int 0, .int 0, .int 0, .int 0, .null, .int 0, .int 0, .int 0, .int 0, .int 0, .int 0, .int 0, .int 0]))], [(q1, .inl (eg_c G 2, 4096, .inl (fun _ => 0)))], [(q4, .inl (eg_c G 2, 40, .inl (fun _ => 0)))], [(q5, .inl (eg_c G 2, 40, .inl (fun _ => 0)))], [(q6, .inl (eg_c G 2, 40, .inl (fun _ => 0)))], [(q7, .inl (eg_c G 2, 40, .inl (fun _ => 0)))], [(q8, .inl (eg_c G 1, 12, .inl (fun _ => 0)))], [(q9, .inl (eg_c G 2, 12, .inl (fun _ => 0)))], [(q10, .inl (eg_c G 2, 12, .inl (fun _ => 0)))]] rfl ?_
  refine ex_al d_TM_init_69 rfl ?_
  refine ex_k d_TM_init_70 ?_
  refine ex_newa (N := 12) (t := 2) (a0 := (12, .inl (fun _ => 0))) hR d_TM_init_72 rfl ac_int rfl (fun _ => rfl) (by decide) (by decide) (by decide) (by decide) (by decide) (fun q11 => ?_)
  refine ex_put1 0 wl_TM_35 d_TM_init_74 rfl rfl rfl (Nat.le_of_ble_eq_true rfl) ?_
  refine ex_eqS [[(h, .inr (16, [.int 0, .ref q1, .int 0, .int 0, .ref q4, .ref q5, .ref q6, .ref q7, .ref q8, .ref q9, .ref q10, .ref q11, .null, .null, .null, .int 0, .null, .int 0, .int 0, .int 0, .int 0, .int 0, .null, .int 0, .int 0, .int 0, .int 0, .int 0, .int 0, .int 0, .int 0]))], [(q1, .inl (eg_c G 2, 4096, .inl (fun _ => 0)))], [(q4, .inl (eg_c G 2, 40, .inl (fun _ => 0)))], [(q5, .inl (eg_c G 2, 40, .inl (fun _ => 0)))], [(q6, .inl (eg_c G 2, 40, .inl (fun _ => 0)))], [(q7, .inl (eg_c G 2, 40, .inl (fun _ => 0)))], [(q8, .inl (eg_c G 1, 12, .inl (fun _ => 0)))], [(q9, .inl (eg_c G 2, 12, .inl (fun _ => 0)))], [(q10, .inl (eg_c G 2, 12, .inl (fun _ => 0)))], [(q11, .inl (eg_c G 2, 12, .inl (fun _ => 0)))]] rfl ?_
  refine ex_al d_TM_init_77 rfl ?_
  refine ex_k d_TM_init_78 ?_
  refine ex_newa (N := 12) (t := 2) (a0 := (12, .inl (fun _ => 0))) hR d_TM_init_80 rfl ac_int rfl (fun _ => rfl) (by decide) (by decide) (by decide) (by decide) (by decide) (fun q12 => ?_)
  refine ex_put1 0 wl_TM_38 d_TM_init_82 rfl rfl rfl (Nat.le_of_ble_eq_true rfl) ?_
  refine ex_eqS [[(h, .inr (16, [.int 0, .ref q1, .int 0, .int 0, .ref q4, .ref q5, .ref q6, .ref q7, .ref q8, .ref q9, .ref q10, .ref q11, .ref q12, .null, .null, .int 0, .null, .int 0, .int 0, .int 0, .int 0, .int 0, .null, .int 0, .int 0, .int 0, .int 0, .int 0, .int 0, .int 0, .int 0]))], [(q1, .inl (eg_c G 2, 4096, .inl (fun _ => 0)))], [(q4, .inl (eg_c G 2, 40, .inl (fun _ => 0)))], [(q5, .inl (eg_c G 2, 40, .inl (fun _ => 0)))], [(q6, .inl (eg_c G 2, 40, .inl (fun _ => 0)))], [(q7, .inl (eg_c G 2, 40, .inl (fun _ => 0)))], [(q8, .inl (eg_c G 1, 12, .inl (fun _ => 0)))], [(q9, .inl (eg_c G 2, 12, .inl (fun _ => 0)))], [(q10, .inl (eg_c G 2, 12, .inl (fun _ => 0)))], [(q11, .inl (eg_c G 2, 12, .inl (fun _ => 0)))], [(q12, .inl (eg_c G 2, 12, .inl (fun _ => 0)))]] rfl ?_
  refine ex_al d_TM_init_85 rfl ?_
  refine ex_k d_TM_init_86 ?_
  refine ex_newa (N := 12) (t := 2) (a0 := (12, .inl (fun _ => 0))) hR d_TM_init_88 rfl ac_int rfl (fun _ => rfl) (by decide) (by decide) (by decide) (by decide) (by decide) (fun q13 => ?_)
  refine ex_put1 0 wl_TM_41 d_TM_init_90 rfl rfl rfl (Nat.le_of_ble_eq_true rfl) ?_
  refine ex_eqS [[(h, .inr (16, [.int 0, .ref q1, .int 0, .int 0, .ref q4, .ref q5, .ref q6, .ref q7, .ref q8, .ref q9, .ref q10, .ref q11, .ref q12, .ref q13, .null, .int 0, .null, .int 0, .int 0, .int 0, .int 0, .int 0, .null, .int 0, .int 0, .int 0, .int 0, .int 0, .int 0, .int 0, .int 0]))], [(q1, .inl (eg_c G 2, 4096, .inl (fun _ => 0)))], [(q4, .inl (eg_c G 2, 40, .inl (fun _ => 0)))], [(q5, .inl (eg_c G 2, 40, .inl (fun _ => 0)))], [(q6, .inl (eg_c G 2, 40, .inl (fun _ => 0)))], [(q7, .inl (eg_c G 2, 40, .inl (fun _ => 0)))], [(q8, .inl (eg_c G 1, 12, .inl (fun _ => 0)))], [(q9, .inl (eg_c G 2, 12, .inl (fun _ => 0)))], [(q10, .inl (eg_c G 2, 12, .inl (fun _ => 0)))], [(q11, .inl (eg_c G 2, 12, .inl (fun _ => 0)))], [(q12, .inl (eg_c G 2, 12, .inl (fun _ => 0)))], [(q13, .inl (eg_c G 2, 12, .inl (fun _ => 0)))]] rfl ?_
  refine ex_al d_TM_init_93 rfl ?_
  refine ex_k d_TM_init_94 ?_
  refine ex_newa (N := 144) (t := 1) (a0 := (144, .inl (fun _ => 0))) hR d_TM_init_97 rfl ac_boolean rfl (fun _ => rfl) (by decide) (by decide) (by decide) (by decide) (by decide) (fun q14 => ?_)
  refine ex_put1 0 wl_TM_44 d_TM_init_99 rfl rfl rfl (Nat.le_of_ble_eq_true rfl) ?_
  refine ex_eqS [[(h, .inr (16, [.int 0, .ref q1, .int 0, .int 0, .ref q4, .ref q5, .ref q6, .ref q7, .ref q8, .ref q9, .ref q10, .ref q11, .ref q12, .ref q13, .ref q14, .int 0, .null, .int 0, .int 0, .int 0, .int 0, .int 0, .null, .int 0, .int 0, .int 0, .int 0, .int 0, .int 0, .int 0, .int 0]))], [(q1, .inl (eg_c G 2, 4096, .inl (fun _ => 0)))], [(q4, .inl (eg_c G 2, 40, .inl (fun _ => 0)))], [(q5, .inl (eg_c G 2, 40, .inl (fun _ => 0)))], [(q6, .inl (eg_c G 2, 40, .inl (fun _ => 0)))], [(q7, .inl (eg_c G 2, 40, .inl (fun _ => 0)))], [(q8, .inl (eg_c G 1, 12, .inl (fun _ => 0)))], [(q9, .inl (eg_c G 2, 12, .inl (fun _ => 0)))], [(q10, .inl (eg_c G 2, 12, .inl (fun _ => 0)))], [(q11, .inl (eg_c G 2, 12, .inl (fun _ => 0)))], [(q12, .inl (eg_c G 2, 12, .inl (fun _ => 0)))], [(q13, .inl (eg_c G 2, 12, .inl (fun _ => 0)))], [(q14, .inl (eg_c G 1, 144, .inl (fun _ => 0)))]] rfl ?_
  refine ex_al d_TM_init_102 rfl ?_
  refine ex_k d_TM_init_103 ?_
  refine ex_newa (N := 1200) (t := 2) (a0 := (1200, .inl (fun _ => 0))) hR d_TM_init_106 rfl ac_int rfl (fun _ => rfl) (by decide) (by decide) (by decide) (by decide) (by decide) (fun q16 => ?_)
  refine ex_put1 0 wl_TM_47 d_TM_init_108 rfl rfl rfl (Nat.le_of_ble_eq_true rfl) ?_
  refine ex_eqS [[(h, .inr (16, [.int 0, .ref q1, .int 0, .int 0, .ref q4, .ref q5, .ref q6, .ref q7, .ref q8, .ref q9, .ref q10, .ref q11, .ref q12, .ref q13, .ref q14, .int 0, .ref q16, .int 0, .int 0, .int 0, .int 0, .int 0, .null, .int 0, .int 0, .int 0, .int 0, .int 0, .int 0, .int 0, .int 0]))], [(q1, .inl (eg_c G 2, 4096, .inl (fun _ => 0)))], [(q4, .inl (eg_c G 2, 40, .inl (fun _ => 0)))], [(q5, .inl (eg_c G 2, 40, .inl (fun _ => 0)))], [(q6, .inl (eg_c G 2, 40, .inl (fun _ => 0)))], [(q7, .inl (eg_c G 2, 40, .inl (fun _ => 0)))], [(q8, .inl (eg_c G 1, 12, .inl (fun _ => 0)))], [(q9, .inl (eg_c G 2, 12, .inl (fun _ => 0)))], [(q10, .inl (eg_c G 2, 12, .inl (fun _ => 0)))], [(q11, .inl (eg_c G 2, 12, .inl (fun _ => 0)))], [(q12, .inl (eg_c G 2, 12, .inl (fun _ => 0)))], [(q13, .inl (eg_c G 2, 12, .inl (fun _ => 0)))], [(q14, .inl (eg_c G 1, 144, .inl (fun _ => 0)))], [(q16, .inl (eg_c G 2, 1200, .inl (fun _ => 0)))]] rfl ?_
  refine ex_al d_TM_init_111 rfl ?_
  refine ex_k d_TM_init_112 ?_
  refine ex_put1 0 wl_TM_50 d_TM_init_113 rfl rfl rfl (Nat.le_of_ble_eq_true rfl) ?_
  refine ex_al d_TM_init_116 rfl ?_
  refine ex_k d_TM_init_117 ?_
  refine ex_newa (N := 32) (t := 2) (a0 := (32, .inl (fun _ => 0))) hR d_TM_init_119 rfl ac_int rfl (fun _ => rfl) (by decide) (by decide) (by decide) (by decide) (by decide) (fun q22 => ?_)
  refine ex_put1 0 wl_TM_54 d_TM_init_121 rfl rfl rfl (Nat.le_of_ble_eq_true rfl) ?_
  refine ex_eqS [[(h, .inr (16, [.int 0, .ref q1, .int 0, .int 0, .ref q4, .ref q5, .ref q6, .ref q7, .ref q8, .ref q9, .ref q10, .ref q11, .ref q12, .ref q13, .ref q14, .int 0, .ref q16, .int 0, .int (-1), .int 0, .int 0, .int 0, .ref q22, .int 0, .int 0, .int 0, .int 0, .int 0, .int 0, .int 0, .int 0]))], [(q1, .inl (eg_c G 2, 4096, .inl (fun _ => 0)))], [(q4, .inl (eg_c G 2, 40, .inl (fun _ => 0)))], [(q5, .inl (eg_c G 2, 40, .inl (fun _ => 0)))], [(q6, .inl (eg_c G 2, 40, .inl (fun _ => 0)))], [(q7, .inl (eg_c G 2, 40, .inl (fun _ => 0)))], [(q8, .inl (eg_c G 1, 12, .inl (fun _ => 0)))], [(q9, .inl (eg_c G 2, 12, .inl (fun _ => 0)))], [(q10, .inl (eg_c G 2, 12, .inl (fun _ => 0)))], [(q11, .inl (eg_c G 2, 12, .inl (fun _ => 0)))], [(q12, .inl (eg_c G 2, 12, .inl (fun _ => 0)))], [(q13, .inl (eg_c G 2, 12, .inl (fun _ => 0)))], [(q14, .inl (eg_c G 1, 144, .inl (fun _ => 0)))], [(q16, .inl (eg_c G 2, 1200, .inl (fun _ => 0)))], [(q22, .inl (eg_c G 2, 32, .inl (fun _ => 0)))]] rfl ?_
  exact ex_vret [TW G h (fun j => if j = 1 then q1 else if j = 4 then q4 else if j = 5 then q5 else if j = 6 then q6 else if j = 7 then q7 else if j = 8 then q8 else if j = 9 then q9 else if j = 10 then q10 else if j = 11 then q11 else if j = 12 then q12 else if j = 13 then q13 else if j = 14 then q14 else if j = 16 then q16 else if j = 22 then q22 else 0) tf0 tg0] hG d_TM_init_124 rfl (by decide) (by decide) (eg_sub.of rfl) ⟨rfl, _, rfl⟩
