/-! THE TWIN, 10: load -/
/-- the numbers of a file that was read: sizes -/
def FZ (f : Nat → Int32) (L M E P : Nat) : Prop := f 26 = nI L ∧ f 23 = nI M ∧ f 24 = nI E ∧ f 25 = nI P ∧ L ≤ 512 ∧ M ≤ 8 ∧ E ≤ 8 ∧ P ≤ 24
theorem FZ.up {f : Nat → Int32} {L M E P k : Nat} {x : Int32} (h : FZ f L M E P) (h1 : k ≠ 26) (h2 : k ≠ 23) (h3 : k ≠ 24) (h4 : k ≠ 25) : FZ (va_up f k x) L M E P := by
  obtain ⟨a, b, c, d, r⟩ := h
  exact ⟨by rw [va_up_ne _ _ (Ne.symm h1)]; exact a, by rw [va_up_ne _ _ (Ne.symm h2)]; exact b, by rw [va_up_ne _ _ (Ne.symm h3)]; exact c, by rw [va_up_ne _ _ (Ne.symm h4)]; exact d, r⟩
def wrF (f : Nat → Int32) : Option (Int32 × Int32) → Nat → Int32
  | none => f
  | some p => va_up (va_up f 17 p.1) 18 p.2
def iwK (g : Nat → Nat → Int32) (n : Nat) (T : Nat → Int32) (L k : Nat) : Int32 := match tsym g n (wdA T (imA L k)) with
  | none => 3
  | some s => if g 5 s = wdA T (imA L k + 4) then 0 else 4
def imW (g : Nat → Nat → Int32) (n : Nat) (T : Nat → Int32) (L M : Nat) : Option (Int32 × Int32) := (tfind (fun k => decide (¬ iwK g n T L k = 0)) M).map (fun k => (iwK g n T L k, nI k))
def exV (g : Nat → Nat → Int32) (n : Nat) (T : Nat → Int32) (L M E : Nat) : Option (Int32 × Int32) := match tfind (fun k => (tsym g n (wdA T (exA L M k))).isSome) E with
  | some k => some (5, nI k)
  | none => if 40 < n + E then some (5, nI (40 - n)) else none
set_option maxRecDepth 100000 in
theorem c_TM_importsWrong (l : Launch) (G : eg_G) (h : Nat) (q : Nat → Nat) (f : Nat → Int32) (g : Nat → Nat → Int32) (n : Nat) (hn : f 3 = nI n) (hn2 : n ≤ 40) (L M E P : Nat) (hz : FZ f L M E P) : Ct l G y_TM_importsWrong 4 0 0 [.ref h] [TW G h q f g] (rF (some (.int (bI (imW g n (g 16) L M).isSome))) [TW G h q (wrF f (imW g n (g 16) L M)) g]) := by
  refine Ct.of cd_TM_importsWrong (eg_catb rfl) (Nat.le_of_ble_eq_true rfl) ?_
  intro Γ hG
  have hR := hG.rm
  show Ex G Γ mu_TM_importsWrong 0 [some (.ref h), none, none] [] [TW G h q f g] 0 0
  obtain ⟨zL, zM, zE, zP, zL1, zM1, zE1, zP1⟩ := hz
  refine ex_k d_TM_importsWrong_0 ?_
  refine ex_is d_TM_importsWrong_1 (Nat.le_of_ble_eq_true rfl) ?_
  have L1 : ∀ j, j ≤ M → (∀ i, i < j → decide (¬ iwK g n (g 16) L i = 0) = false) → Ex G Γ mu_TM_importsWrong 2 [some (.ref h), some (.int (nI j)), none] [] [TW G h q f g] 0 0 := by
    refine eg_down M (fun j hj ih hno => ?_)
    refine ex_il d_TM_importsWrong_2 rfl ?_
    refine ex_al d_TM_importsWrong_3 rfl ?_
    refine tg 0 fl_TM_99 d_TM_importsWrong_4 rfl rfl ?_
    refine ex_icmp_ge d_TM_importsWrong_7 (fun h7 => ?_) (fun h7 => ?_)
    · skip
      have h7 := le_n (a := M) h7 zM
      have hw : imW g n (g 16) L M = none := by rw [imW, tfind_none (fun i hi => hno i (by omega))]; rfl
      refine ex_k d_TM_importsWrong_68 ?_
      exact ex_iret [TW G h q f g] hG d_TM_importsWrong_69 rfl rfl (by decide) (by decide) (eg_sub.of rfl) ⟨by rw [hw]; rfl, by rw [hw]; rfl⟩
    · skip
      have hlt := lt_n (a := M) h7 zM
      have hA : imA L j = 32 + L + 8 * j := rfl
      have hw : ¬ iwK g n (g 16) L j = 0 → imW g n (g 16) L M = some (iwK g n (g 16) L j, nI j) := fun z => by rw [imW, tfind_some (j := j) hlt (decide_eq_true z) hno]; rfl
      refine ex_al d_TM_importsWrong_10 rfl ?_
      refine ex_al d_TM_importsWrong_11 rfl ?_
      refine ex_al d_TM_importsWrong_12 rfl ?_
      refine ex_il d_TM_importsWrong_13 rfl ?_
      refine ex_cF [0] hR (c_TM_importAt l G h q f g (nI j)) (eg_invV 0 d_TM_importsWrong_14 cd_TM_importAt cx_TM_102 rfl rfl List.mem_cons_self rfl rfl) cd_TM_importAt rfl rfl (Nat.le_of_ble_eq_true rfl) (by decide) (by decide) (by decide) (by decide) rfl ?_
      refine ex_eqT (.int (nI (imA L j)) :: _) (by rw [imA_I zL]) ?_
      refine ex_cF [0] hR (c_TM_tapeWord l G h q f g (imA L j) (by omega)) (eg_invV 0 d_TM_importsWrong_17 cd_TM_tapeWord cx_TM_111 rfl rfl List.mem_cons_self rfl rfl) cd_TM_tapeWord rfl rfl (Nat.le_of_ble_eq_true rfl) (by decide) (by decide) (by decide) (by decide) rfl ?_
      refine ex_cF [0] hR (c_TM_find l G h q f g (wdA (g 16) (imA L j)) n hn hn2) (eg_invV 0 d_TM_importsWrong_20 cd_TM_find cx_TM_86 rfl rfl List.mem_cons_self rfl rfl) cd_TM_find rfl rfl (Nat.le_of_ble_eq_true rfl) (by decide) (by decide) (by decide) (by decide) rfl ?_
      obtain ⟨o, ho⟩ : ∃ o, tsym g n (wdA (g 16) (imA L j)) = o := ⟨_, rfl⟩
      rw [ho]
      refine ex_is d_TM_importsWrong_23 (Nat.le_of_ble_eq_true rfl) ?_
      refine ex_il d_TM_importsWrong_24 rfl ?_
      refine ex_if_ge d_TM_importsWrong_25 (fun h25 => ?_) (fun h25 => ?_)
      · skip
        obtain ⟨s, rfl⟩ : ∃ s, o = some s := by
          cases o with
          | none => exact absurd h25 (by decide)
          | some s => exact ⟨s, rfl⟩
        have hs := (tfind_lt ho).1
        refine ex_al d_TM_importsWrong_35 rfl ?_
        refine tg 0 fl_TM_16 d_TM_importsWrong_36 rfl rfl ?_
        refine ex_il d_TM_importsWrong_39 rfl ?_
        refine tl_5 0 d_TM_importsWrong_40 rfl (ix_e (j := s) (by omega)) ?_
        refine ex_al d_TM_importsWrong_41 rfl ?_
        refine ex_al d_TM_importsWrong_42 rfl ?_
        refine ex_il d_TM_importsWrong_43 rfl ?_
        refine ex_cF [0] hR (c_TM_importAt l G h q f g (nI j)) (eg_invV 0 d_TM_importsWrong_44 cd_TM_importAt cx_TM_102 rfl rfl List.mem_cons_self rfl rfl) cd_TM_importAt rfl rfl (Nat.le_of_ble_eq_true rfl) (by decide) (by decide) (by decide) (by decide) rfl ?_
        refine ex_eqT (.int (nI (imA L j)) :: _) (by rw [imA_I zL]) ?_
        refine ex_k d_TM_importsWrong_47 ?_
        refine ex_iadd d_TM_importsWrong_48 ?_
        refine ex_eqT (.int (nI (imA L j + 4)) :: _) (by show (Value.int (nI _ + nI 4)) :: _ = _; rw [nI_add]) ?_
        refine ex_cF [0] hR (c_TM_tapeWord l G h q f g (imA L j + 4) (by omega)) (eg_invV 0 d_TM_importsWrong_49 cd_TM_tapeWord cx_TM_111 rfl rfl List.mem_cons_self rfl rfl) cd_TM_tapeWord rfl rfl (Nat.le_of_ble_eq_true rfl) (by decide) (by decide) (by decide) (by decide) rfl ?_
        refine ex_icmp_eq d_TM_importsWrong_52 (fun h52 => ?_) (fun h52 => ?_)
        · skip
          have h52 : g 5 s = wdA (g 16) (imA L j + 4) := h52
          refine ex_inc d_TM_importsWrong_62 rfl ?_
          refine ex_goto d_TM_importsWrong_65 ?_
          refine ex_forget [true, true, false] ?_
          exact ih hlt (fun i hi => by rcases Nat.lt_or_ge i j with z | z; exact hno i z; rw [show i = j by omega]; simp [iwK, ho, h52])
        · skip
          have hk : iwK g n (g 16) L j = 4 := by rw [iwK, ho]; exact if_neg h52
          rw [hk] at hw
          have hw := hw (by decide)
          refine ex_al d_TM_importsWrong_55 rfl ?_
          refine ex_k d_TM_importsWrong_56 ?_
          refine ex_il d_TM_importsWrong_57 rfl ?_
          refine ex_cF [0] hR (c_TM_wrong l G h q f g 4 (nI j)) (eg_invV 0 d_TM_importsWrong_58 cd_TM_wrong cx_TM_139 rfl rfl List.mem_cons_self rfl rfl) cd_TM_wrong rfl rfl (Nat.le_of_ble_eq_true rfl) (by decide) (by decide) (by decide) (by decide) rfl ?_
          exact ex_iret [TW G h q (va_up (va_up f 17 4) 18 (nI j)) g] hG d_TM_importsWrong_61 rfl rfl (by decide) (by decide) (eg_sub.of rfl) ⟨by rw [hw]; rfl, by rw [hw]; rfl⟩
      · skip
        obtain rfl : o = none := by
          cases o with
          | none => rfl
          | some s => exact absurd (nI_pos' (by have := (tfind_lt ho).1; omega)) h25
        have hk : iwK g n (g 16) L j = 3 := by rw [iwK, ho]
        rw [hk] at hw
        have hw := hw (by decide)
        refine ex_al d_TM_importsWrong_28 rfl ?_
        refine ex_k d_TM_importsWrong_29 ?_
        refine ex_il d_TM_importsWrong_30 rfl ?_
        refine ex_cF [0] hR (c_TM_wrong l G h q f g 3 (nI j)) (eg_invV 0 d_TM_importsWrong_31 cd_TM_wrong cx_TM_139 rfl rfl List.mem_cons_self rfl rfl) cd_TM_wrong rfl rfl (Nat.le_of_ble_eq_true rfl) (by decide) (by decide) (by decide) (by decide) rfl ?_
        exact ex_iret [TW G h q (va_up (va_up f 17 3) 18 (nI j)) g] hG d_TM_importsWrong_34 rfl rfl (by decide) (by decide) (eg_sub.of rfl) ⟨by rw [hw]; rfl, by rw [hw]; rfl⟩
  exact L1 0 (Nat.zero_le _) (fun i hi => absurd hi (Nat.not_lt_zero _))
set_option maxRecDepth 100000 in
theorem c_TM_exportsWrong (l : Launch) (G : eg_G) (h : Nat) (q : Nat → Nat) (f : Nat → Int32) (g : Nat → Nat → Int32) (n : Nat) (hn : f 3 = nI n) (hn2 : n ≤ 40) (L M E P : Nat) (hz : FZ f L M E P) : Ct l G y_TM_exportsWrong 4 0 0 [.ref h] [TW G h q f g] (rF (some (.int (bI (exV g n (g 16) L M E).isSome))) [TW G h q (wrF f (exV g n (g 16) L M E)) g]) := by
  refine Ct.of cd_TM_exportsWrong (eg_catb rfl) (Nat.le_of_ble_eq_true rfl) ?_
  intro Γ hG
  have hR := hG.rm
  show Ex G Γ mu_TM_exportsWrong 0 [some (.ref h), none] [] [TW G h q f g] 0 0
  obtain ⟨zL, zM, zE, zP, zL1, zM1, zE1, zP1⟩ := hz
  refine ex_k d_TM_exportsWrong_0 ?_
  refine ex_is d_TM_exportsWrong_1 (Nat.le_of_ble_eq_true rfl) ?_
  have L1 : ∀ j, j ≤ E → (∀ i, i < j → (tsym g n (wdA (g 16) (exA L M i))).isSome = false) → Ex G Γ mu_TM_exportsWrong 2 [some (.ref h), some (.int (nI j))] [] [TW G h q f g] 0 0 := by
    refine eg_down E (fun j hj ih hno => ?_)
    refine ex_il d_TM_exportsWrong_2 rfl ?_
    refine ex_al d_TM_exportsWrong_3 rfl ?_
    refine tg 0 fl_TM_105 d_TM_exportsWrong_4 rfl rfl ?_
    refine ex_icmp_ge d_TM_exportsWrong_7 (fun h7 => ?_) (fun h7 => ?_)
    · skip
      have h7 := le_n (a := E) h7 zE
      have hw : exV g n (g 16) L M E = if 40 < n + E then some (5, nI (40 - n)) else none := by rw [exV, tfind_none (fun i hi => hno i (by omega))]
      refine ex_al d_TM_exportsWrong_39 rfl ?_
      refine tg 0 fl_TM_80 d_TM_exportsWrong_40 rfl rfl ?_
      refine ex_al d_TM_exportsWrong_43 rfl ?_
      refine tg 0 fl_TM_105 d_TM_exportsWrong_44 rfl rfl ?_
      refine ex_iadd d_TM_exportsWrong_47 ?_
      refine ex_k d_TM_exportsWrong_48 ?_
      refine ex_eqT [.int 40, .int (nI (n + E))] (by rw [hn, zE, nI_add]) ?_
      refine ex_icmp_le d_TM_exportsWrong_50 (fun h50 => ?_) (fun h50 => ?_)
      · skip
        have h50 : ¬ 40 < n + E := by have := (nI_leI (b := 40) (by omega) (by decide)).mp h50; omega
        rw [if_neg h50] at hw
        refine ex_k d_TM_exportsWrong_72 ?_
        exact ex_iret [TW G h q f g] hG d_TM_exportsWrong_73 rfl rfl (by decide) (by decide) (eg_sub.of rfl) ⟨by rw [hw]; rfl, by rw [hw]; rfl⟩
      · skip
        have h50 : 40 < n + E := by
          rcases Nat.lt_or_ge 40 (n + E) with z | z
          · exact z
          · exact absurd ((nI_leI (b := 40) (by omega) (by decide)).mpr z) h50
        rw [if_pos h50] at hw
        refine ex_al d_TM_exportsWrong_53 rfl ?_
        refine ex_k d_TM_exportsWrong_54 ?_
        refine ex_k d_TM_exportsWrong_55 ?_
        refine ex_al d_TM_exportsWrong_57 rfl ?_
        refine tg 0 fl_TM_80 d_TM_exportsWrong_58 rfl rfl ?_
        refine ex_isub d_TM_exportsWrong_61 ?_
        refine ex_eqT [.int (nI (40 - n)), .int 5, .ref h] (by rw [hn]; show [Value.int (nI 40 - nI n), _, _] = _; rw [pk_sub hn2]) ?_
        refine ex_cF [0] hR (c_TM_wrong l G h q f g 5 (nI (40 - n))) (eg_invV 0 d_TM_exportsWrong_62 cd_TM_wrong cx_TM_139 rfl rfl List.mem_cons_self rfl rfl) cd_TM_wrong rfl rfl (Nat.le_of_ble_eq_true rfl) (by decide) (by decide) (by decide) (by decide) rfl ?_
        refine ex_if_eq d_TM_exportsWrong_65 (fun h65 => absurd h65 (by decide)) (fun h65 => ?_)
        refine ex_k d_TM_exportsWrong_68 ?_
        refine ex_goto d_TM_exportsWrong_69 ?_
        exact ex_iret [TW G h q (va_up (va_up f 17 5) 18 (nI (40 - n))) g] hG d_TM_exportsWrong_73 rfl rfl (by decide) (by decide) (eg_sub.of rfl) ⟨by rw [hw]; rfl, by rw [hw]; rfl⟩
    · skip
      have hlt := lt_n (a := E) h7 zE
      have hA : exA L M j = 32 + L + 8 * M + 12 * j := rfl
      refine ex_al d_TM_exportsWrong_10 rfl ?_
      refine ex_al d_TM_exportsWrong_11 rfl ?_
      refine ex_al d_TM_exportsWrong_12 rfl ?_
      refine ex_il d_TM_exportsWrong_13 rfl ?_
      refine ex_cF [0] hR (c_TM_exportAt l G h q f g (nI j)) (eg_invV 0 d_TM_exportsWrong_14 cd_TM_exportAt cx_TM_108 rfl rfl List.mem_cons_self rfl rfl) cd_TM_exportAt rfl rfl (Nat.le_of_ble_eq_true rfl) (by decide) (by decide) (by decide) (by decide) rfl ?_
      refine ex_eqT (.int (nI (exA L M j)) :: _) (by rw [exA_I zL zM]) ?_
      refine ex_cF [0] hR (c_TM_tapeWord l G h q f g (exA L M j) (by omega)) (eg_invV 0 d_TM_exportsWrong_17 cd_TM_tapeWord cx_TM_111 rfl rfl List.mem_cons_self rfl rfl) cd_TM_tapeWord rfl rfl (Nat.le_of_ble_eq_true rfl) (by decide) (by decide) (by decide) (by decide) rfl ?_
      refine ex_cF [0] hR (c_TM_find l G h q f g (wdA (g 16) (exA L M j)) n hn hn2) (eg_invV 0 d_TM_exportsWrong_20 cd_TM_find cx_TM_86 rfl rfl List.mem_cons_self rfl rfl) cd_TM_find rfl rfl (Nat.le_of_ble_eq_true rfl) (by decide) (by decide) (by decide) (by decide) rfl ?_
      refine ex_if_lt d_TM_exportsWrong_23 (fun h23 => ?_) (fun h23 => ?_)
      · skip
        have h23 : (tsym g n (wdA (g 16) (exA L M j))).isSome = false := by
          have := mt (tsym_ge hn2).mpr (Int32.not_le.mpr h23)
          simpa using this
        refine ex_inc d_TM_exportsWrong_33 rfl ?_
        refine ex_goto d_TM_exportsWrong_36 ?_
        exact ih hlt (fun i hi => by rcases Nat.lt_or_ge i j with z | z; exact hno i z; rw [show i = j by omega]; exact h23)
      · skip
        have h23 : (tsym g n (wdA (g 16) (exA L M j))).isSome = true := (tsym_ge hn2).mp (Int32.not_lt.mp h23)
        have hw : exV g n (g 16) L M E = some (5, nI j) := by rw [exV, tfind_some (j := j) hlt h23 hno]
        refine ex_al d_TM_exportsWrong_26 rfl ?_
        refine ex_k d_TM_exportsWrong_27 ?_
        refine ex_il d_TM_exportsWrong_28 rfl ?_
        refine ex_cF [0] hR (c_TM_wrong l G h q f g 5 (nI j)) (eg_invV 0 d_TM_exportsWrong_29 cd_TM_wrong cx_TM_139 rfl rfl List.mem_cons_self rfl rfl) cd_TM_wrong rfl rfl (Nat.le_of_ble_eq_true rfl) (by decide) (by decide) (by decide) (by decide) rfl ?_
        exact ex_iret [TW G h q (va_up (va_up f 17 5) 18 (nI j)) g] hG d_TM_exportsWrong_32 rfl rfl (by decide) (by decide) (eg_sub.of rfl) ⟨by rw [hw]; rfl, by rw [hw]; rfl⟩
  exact L1 0 (Nat.zero_le _) (fun i hi => absurd hi (Nat.not_lt_zero _))
/-- a place's value, its word mended, whether it is near enough -/
def mdS (g : Nat → Nat → Int32) (n : Nat) (T : Nat → Int32) (L p : Nat) (ad : Int32) : Int32 := (if wdA T (p + 8) < 0 then ad else g 6 ((tsym g n (wdA T (imA L (wdA T (p + 8)).toNatClampNeg))).getD 0)) + wdA T (p + 12)
def mdO (k d : Int32) : Bool := if k = 4 then decide (d - d / 2 * 2 = 0) && decide (-1048576 ≤ d) && decide (d ≤ 1048574) else if k = 5 then decide (d - d / 2 * 2 = 0) && decide (-4096 ≤ d) && decide (d ≤ 4094) else true
def mdV (k w s d : Int32) : Int32 := if k = 0 then s else if k = 1 then w &&& (4095 : Int32) ||| (s + 2048) &&& (-4096 : Int32) else if k = 2 then w &&& (1048575 : Int32) ||| s <<< ((20 : Int32) &&& (31 : Int32))
  else if k = 3 then w &&& (33550463 : Int32) ||| (s >>> ((5 : Int32) &&& (31 : Int32)) &&& (127 : Int32)) <<< ((25 : Int32) &&& (31 : Int32)) ||| (s &&& (31 : Int32)) <<< ((7 : Int32) &&& (31 : Int32))
  else if k = 4 then w &&& (4095 : Int32) ||| (d >>> ((20 : Int32) &&& (31 : Int32)) &&& (1 : Int32)) <<< ((31 : Int32) &&& (31 : Int32)) ||| (d >>> ((1 : Int32) &&& (31 : Int32)) &&& (1023 : Int32)) <<< ((21 : Int32) &&& (31 : Int32)) ||| (d >>> ((11 : Int32) &&& (31 : Int32)) &&& (1 : Int32)) <<< ((20 : Int32) &&& (31 : Int32)) ||| (d >>> ((12 : Int32) &&& (31 : Int32)) &&& (255 : Int32)) <<< ((12 : Int32) &&& (31 : Int32))
  else w &&& (33550463 : Int32) ||| (d >>> ((12 : Int32) &&& (31 : Int32)) &&& (1 : Int32)) <<< ((31 : Int32) &&& (31 : Int32)) ||| (d >>> ((5 : Int32) &&& (31 : Int32)) &&& (63 : Int32)) <<< ((25 : Int32) &&& (31 : Int32)) ||| (d >>> ((1 : Int32) &&& (31 : Int32)) &&& (15 : Int32)) <<< ((8 : Int32) &&& (31 : Int32)) ||| (d >>> ((11 : Int32) &&& (31 : Int32)) &&& (1 : Int32)) <<< ((7 : Int32) &&& (31 : Int32))
def mndB (g : Nat → Nat → Int32) (n : Nat) (T : Nat → Int32) (L p : Nat) (ad : Int32) : Bool := mdO (wdA T p) (mdS g n T L p ad - (ad + wdA T (p + 4)))
def mndT (g : Nat → Nat → Int32) (n : Nat) (T : Nat → Int32) (L p : Nat) (ad : Int32) : Nat → Int32 := putB T (32 + (wdA T (p + 4)).toNatClampNeg) (mdV (wdA T p) (wdA T (32 + (wdA T (p + 4)).toNatClampNeg)) (mdS g n T L p ad) (mdS g n T L p ad - (ad + wdA T (p + 4)))) 4
theorem md5 {x : Int32} (h : 0 ≤ x ∧ x ≤ 5) (h0 : ¬ x = 0) (h1 : ¬ x = 1) (h2 : ¬ x = 2) (h3 : ¬ x = 3) (h4 : ¬ x = 4) : x = 5 := by
  obtain ⟨j, hj, rfl⟩ := nI_of2 (x := x) (M := 5) (n := 5) rfl (Int32.not_lt.mpr h.1) h.2
  have : j = 0 ∨ j = 1 ∨ j = 2 ∨ j = 3 ∨ j = 4 ∨ j = 5 := by omega
  rcases this with rfl | rfl | rfl | rfl | rfl | rfl
  · exact absurd rfl h0
  · exact absurd rfl h1
  · exact absurd rfl h2
  · exact absurd rfl h3
  · exact absurd rfl h4
  · rfl
set_option maxRecDepth 100000 in
set_option maxHeartbeats 4000000 in
theorem c_TM_mend (l : Launch) (G : eg_G) (h : Nat) (q : Nat → Nat) (f : Nat → Int32) (g : Nat → Nat → Int32) (n : Nat) (hn : f 3 = nI n) (hn2 : n ≤ 40) (L M E P : Nat) (hz : FZ f L M E P) (ad : Int32) (k : Nat) (hk : k < P) (hk5 : 0 ≤ wdA (g 16) (plA L M E k) ∧ wdA (g 16) (plA L M E k) ≤ 5) (ho : isWd (wdA (g 16) ((plA L M E k) + 4)) (nI L) = true) (hs1 : -1 ≤ wdA (g 16) ((plA L M E k) + 8)) (hs2 : wdA (g 16) ((plA L M E k) + 8) < nI M) (hfd : ∀ i, i < M → (tsym g n (wdA (g 16) (imA L i))).isSome = true) : Ct l G y_TM_mend 4 0 0 [.ref h, .int ad, .int (nI k)] [TW G h q f g] (rF (some (.int (bI (mndB g n (g 16) L (plA L M E k) ad)))) [TW G h q f (if mndB g n (g 16) L (plA L M E k) ad = true then va_up g 16 (mndT g n (g 16) L (plA L M E k) ad) else g)]) := by
  refine Ct.of cd_TM_mend (eg_catb rfl) (Nat.le_of_ble_eq_true rfl) ?_
  intro Γ hG
  have hR := hG.rm
  show Ex G Γ mu_TM_mend 0 [some (.ref h), some (.int ad), some (.int (nI k)), none, none, none, none, none, none, none, none] [] [TW G h q f g] 0 0
  obtain ⟨zL, zM, zE, zP, zL1, zM1, zE1, zP1⟩ := hz
  have hA : (plA L M E k) = 32 + L + 8 * M + 12 * E + 16 * k := rfl
  obtain ⟨o, ho1, ho2, ho3⟩ := isWd_of (E := L) (by omega) ho
  have hB : mndB g n (g 16) L (plA L M E k) ad = mdO (wdA (g 16) (plA L M E k)) ((mdS g n (g 16) L (plA L M E k) ad) - (ad + nI o)) := by rw [mndB, ho2]
  have hT : mndT g n (g 16) L (plA L M E k) ad = putB (g 16) (32 + o) (mdV (wdA (g 16) (plA L M E k)) (wdA (g 16) (32 + o)) (mdS g n (g 16) L (plA L M E k) ad) ((mdS g n (g 16) L (plA L M E k) ad) - (ad + nI o))) 4 := by rw [mndT, ho2, nI_clamp (by omega)]
  refine ex_al d_TM_mend_0 rfl ?_
  refine ex_il d_TM_mend_1 rfl ?_
  refine ex_cF [0] hR (c_TM_placeAt l G h q f g (nI k)) (eg_invV 0 d_TM_mend_2 cd_TM_placeAt cx_TM_130 rfl rfl List.mem_cons_self rfl rfl) cd_TM_placeAt rfl rfl (Nat.le_of_ble_eq_true rfl) (by decide) (by decide) (by decide) (by decide) rfl ?_
  refine ex_eqT [.int (nI (plA L M E k))] (by rw [plA_I zL zM zE]) ?_
  refine ex_is d_TM_mend_5 (Nat.le_of_ble_eq_true rfl) ?_
  refine ex_al d_TM_mend_6 rfl ?_
  refine ex_il d_TM_mend_7 rfl ?_
  refine ex_cF [0] hR (c_TM_tapeWord l G h q f g (plA L M E k) (by omega)) (eg_invV 0 d_TM_mend_8 cd_TM_tapeWord cx_TM_111 rfl rfl List.mem_cons_self rfl rfl) cd_TM_tapeWord rfl rfl (Nat.le_of_ble_eq_true rfl) (by decide) (by decide) (by decide) (by decide) rfl ?_
  refine ex_is d_TM_mend_11 (Nat.le_of_ble_eq_true rfl) ?_
  refine ex_il d_TM_mend_13 rfl ?_
  refine ex_al d_TM_mend_14 rfl ?_
  refine ex_il d_TM_mend_15 rfl ?_
  refine ex_k d_TM_mend_16 ?_
  refine ex_iadd d_TM_mend_17 ?_
  refine ex_eqT (.int (nI ((plA L M E k) + 4)) :: _) (by show (Value.int (nI _ + nI 4)) :: _ = _; rw [nI_add]) ?_
  refine ex_cF [0] hR (c_TM_tapeWord l G h q f g ((plA L M E k) + 4) (by omega)) (eg_invV 0 d_TM_mend_18 cd_TM_tapeWord cx_TM_111 rfl rfl List.mem_cons_self rfl rfl) cd_TM_tapeWord rfl rfl (Nat.le_of_ble_eq_true rfl) (by decide) (by decide) (by decide) (by decide) rfl ?_
  rw [ho2]
  refine ex_iadd d_TM_mend_21 ?_
  refine ex_is d_TM_mend_22 (Nat.le_of_ble_eq_true rfl) ?_
  refine ex_al d_TM_mend_24 rfl ?_
  refine ex_il d_TM_mend_25 rfl ?_
  refine ex_k d_TM_mend_26 ?_
  refine ex_iadd d_TM_mend_28 ?_
  refine ex_eqT (.int (nI ((plA L M E k) + 8)) :: _) (by show (Value.int (nI _ + nI 8)) :: _ = _; rw [nI_add]) ?_
  refine ex_cF [0] hR (c_TM_tapeWord l G h q f g ((plA L M E k) + 8) (by omega)) (eg_invV 0 d_TM_mend_29 cd_TM_tapeWord cx_TM_111 rfl rfl List.mem_cons_self rfl rfl) cd_TM_tapeWord rfl rfl (Nat.le_of_ble_eq_true rfl) (by decide) (by decide) (by decide) (by decide) rfl ?_
  refine ex_is d_TM_mend_32 (Nat.le_of_ble_eq_true rfl) ?_
  have J1 : ∀ z : Int32, z = (if wdA (g 16) ((plA L M E k) + 8) < 0 then ad else g 6 ((tsym g n (wdA (g 16) (imA L (wdA (g 16) ((plA L M E k) + 8)).toNatClampNeg))).getD 0)) → Ex G Γ mu_TM_mend 62 [some (.ref h), some (.int ad), some (.int (nI k)), some (.int (nI (plA L M E k))), some (.int (wdA (g 16) (plA L M E k))), some (.int (ad + nI o)), some (.int (wdA (g 16) ((plA L M E k) + 8))), none, none, none, none] [.int z] [TW G h q f g] 0 0 := by
    intro z hz
    subst hz
    refine ex_al d_TM_mend_62 rfl ?_
    refine ex_il d_TM_mend_63 rfl ?_
    refine ex_k d_TM_mend_64 ?_
    refine ex_iadd d_TM_mend_66 ?_
    refine ex_eqT (.int (nI ((plA L M E k) + 12)) :: _) (by show (Value.int (nI _ + nI 12)) :: _ = _; rw [nI_add]) ?_
    refine ex_cF [0] hR (c_TM_tapeWord l G h q f g ((plA L M E k) + 12) (by omega)) (eg_invV 0 d_TM_mend_67 cd_TM_tapeWord cx_TM_111 rfl rfl List.mem_cons_self rfl rfl) cd_TM_tapeWord rfl rfl (Nat.le_of_ble_eq_true rfl) (by decide) (by decide) (by decide) (by decide) rfl ?_
    refine ex_iadd d_TM_mend_70 ?_
    refine ex_is d_TM_mend_71 (Nat.le_of_ble_eq_true rfl) ?_
    refine ex_al d_TM_mend_73 rfl ?_
    refine ex_k d_TM_mend_74 ?_
    refine ex_il d_TM_mend_76 rfl ?_
    refine ex_iadd d_TM_mend_78 ?_
    refine ex_il d_TM_mend_79 rfl ?_
    refine ex_isub d_TM_mend_80 ?_
    refine ex_eqT [.int (nI (32 + o)), .ref h] (by show [Value.int (nI 32 + (ad + nI o) - ad), _] = _; rw [← nI_add, show nI 32 + (ad + nI o) - ad = nI 32 + nI o by grind]) ?_
    refine ex_cF [0] hR (c_TM_tapeWord l G h q f g (32 + o) (by omega)) (eg_invV 0 d_TM_mend_81 cd_TM_tapeWord cx_TM_111 rfl rfl List.mem_cons_self rfl rfl) cd_TM_tapeWord rfl rfl (Nat.le_of_ble_eq_true rfl) (by decide) (by decide) (by decide) (by decide) rfl ?_
    refine ex_is d_TM_mend_84 (Nat.le_of_ble_eq_true rfl) ?_
    refine ex_il d_TM_mend_86 rfl ?_
    refine ex_il d_TM_mend_88 rfl ?_
    refine ex_isub d_TM_mend_90 ?_
    refine ex_is d_TM_mend_91 (Nat.le_of_ble_eq_true rfl) ?_
    refine ex_eqL [some (.ref h), some (.int ad), some (.int (nI k)), some (.int (nI (plA L M E k))), some (.int (wdA (g 16) (plA L M E k))), some (.int (ad + nI o)), some (.int (wdA (g 16) ((plA L M E k) + 8))), some (.int (mdS g n (g 16) L (plA L M E k) ad)), some (.int (wdA (g 16) (32 + o))), some (.int ((mdS g n (g 16) L (plA L M E k) ad) - (ad + nI o))), none] rfl ?_
    have J2 : ∀ z : Int32, mdO (wdA (g 16) (plA L M E k)) ((mdS g n (g 16) L (plA L M E k) ad) - (ad + nI o)) = true → z = (mdV (wdA (g 16) (plA L M E k)) (wdA (g 16) (32 + o)) (mdS g n (g 16) L (plA L M E k) ad) ((mdS g n (g 16) L (plA L M E k) ad) - (ad + nI o))) → Ex G Γ mu_TM_mend 354 [some (.ref h), some (.int ad), some (.int (nI k)), some (.int (nI (plA L M E k))), some (.int (wdA (g 16) (plA L M E k))), some (.int (ad + nI o)), some (.int (wdA (g 16) ((plA L M E k) + 8))), some (.int (mdS g n (g 16) L (plA L M E k) ad)), some (.int z), some (.int ((mdS g n (g 16) L (plA L M E k) ad) - (ad + nI o))), none] [] [TW G h q f g] 0 0 := by
      intro z hok hz
      subst hz
      rw [hok] at hB
      have hbe : ((True : Prop) = (True : Prop)) := rfl
      refine ex_k d_TM_mend_354 ?_
      refine ex_is d_TM_mend_355 (Nat.le_of_ble_eq_true rfl) ?_
      have L2 : ∀ j, j ≤ 4 → Ex G Γ mu_TM_mend 357 [some (.ref h), some (.int ad), some (.int (nI k)), some (.int (nI (plA L M E k))), some (.int (wdA (g 16) (plA L M E k))), some (.int (ad + nI o)), some (.int (wdA (g 16) ((plA L M E k) + 8))), some (.int (mdS g n (g 16) L (plA L M E k) ad)), some (.int (mdV (wdA (g 16) (plA L M E k)) (wdA (g 16) (32 + o)) (mdS g n (g 16) L (plA L M E k) ad) ((mdS g n (g 16) L (plA L M E k) ad) - (ad + nI o)))), some (.int ((mdS g n (g 16) L (plA L M E k) ad) - (ad + nI o))), some (.int (nI j))] [] [TW G h q f (va_up g 16 (putB (g 16) (32 + o) (mdV (wdA (g 16) (plA L M E k)) (wdA (g 16) (32 + o)) (mdS g n (g 16) L (plA L M E k) ad) ((mdS g n (g 16) L (plA L M E k) ad) - (ad + nI o))) j))] 0 0 := by
        refine eg_down 4 (fun j hj ih => ?_)
        refine ex_il d_TM_mend_357 rfl ?_
        refine ex_k d_TM_mend_359 ?_
        refine ex_icmp_ge d_TM_mend_360 (fun h360 => ?_) (fun h360 => ?_)
        · skip
          have h360 := le_n (a := 4) h360
          have hjn : j = 4 := by omega
          subst hjn
          refine ex_k d_TM_mend_396 ?_
          exact ex_iret [TW G h q f (va_up g 16 (putB (g 16) (32 + o) (mdV (wdA (g 16) (plA L M E k)) (wdA (g 16) (32 + o)) (mdS g n (g 16) L (plA L M E k) ad) ((mdS g n (g 16) L (plA L M E k) ad) - (ad + nI o))) 4))] hG d_TM_mend_397 rfl rfl (by decide) (by decide) (eg_sub.of rfl) ⟨by rw [hB]; rfl, by rw [hB, if_pos rfl, hT]⟩
        · skip
          have hlt := lt_n (a := 4) h360
          refine ex_al d_TM_mend_363 rfl ?_
          refine tg 0 fl_TM_47 d_TM_mend_364 rfl rfl ?_
          refine ex_k d_TM_mend_367 ?_
          refine ex_il d_TM_mend_369 rfl ?_
          refine ex_iadd d_TM_mend_371 ?_
          refine ex_il d_TM_mend_372 rfl ?_
          refine ex_isub d_TM_mend_373 ?_
          refine ex_il d_TM_mend_374 rfl ?_
          refine ex_iadd d_TM_mend_376 ?_
          refine ex_il d_TM_mend_377 rfl ?_
          refine ex_k d_TM_mend_379 ?_
          refine ex_il d_TM_mend_381 rfl ?_
          refine ex_imul d_TM_mend_383 ?_
          refine ex_ishr d_TM_mend_384 ?_
          refine ex_k d_TM_mend_385 ?_
          refine ex_iand d_TM_mend_388 ?_
          refine ts_16 0 d_TM_mend_389 rfl (ix_e (j := 32 + o + j) (by omega) (by show nI 32 + (ad + nI o) - ad + nI j = _; rw [← nI_add, ← nI_add, show nI 32 + (ad + nI o) - ad = nI 32 + nI o by grind])) ?_
          refine ex_eqS [TW G h q f (va_up g 16 (putB (g 16) (32 + o) (mdV (wdA (g 16) (plA L M E k)) (wdA (g 16) (32 + o)) (mdS g n (g 16) L (plA L M E k) ad) ((mdS g n (g 16) L (plA L M E k) ad) - (ad + nI o))) (j + 1)))] (by show [TW G h q f (va_up (va_up g 16 _) 16 _)] = _; rw [bx_uu]; rw [show putB (g 16) (32 + o) (mdV (wdA (g 16) (plA L M E k)) (wdA (g 16) (32 + o)) (mdS g n (g 16) L (plA L M E k) ad) ((mdS g n (g 16) L (plA L M E k) ad) - (ad + nI o))) (j + 1) = upd (putB (g 16) (32 + o) (mdV (wdA (g 16) (plA L M E k)) (wdA (g 16) (32 + o)) (mdS g n (g 16) L (plA L M E k) ad) ((mdS g n (g 16) L (plA L M E k) ad) - (ad + nI o))) j) (32 + o + j) (byK (mdV (wdA (g 16) (plA L M E k)) (wdA (g 16) (32 + o)) (mdS g n (g 16) L (plA L M E k) ad) ((mdS g n (g 16) L (plA L M E k) ad) - (ad + nI o))) j) from rfl, byK, ← pk_mul]; rfl) ?_
          refine ex_inc d_TM_mend_390 rfl ?_
          refine ex_goto d_TM_mend_393 ?_
          exact ih hlt
      exact ex_eqS [TW G h q f (va_up g 16 (putB (g 16) (32 + o) (mdV (wdA (g 16) (plA L M E k)) (wdA (g 16) (32 + o)) (mdS g n (g 16) L (plA L M E k) ad) ((mdS g n (g 16) L (plA L M E k) ad) - (ad + nI o))) 0))] (by rw [putB, va_up_same]) (L2 0 (Nat.zero_le _))
    refine ex_il d_TM_mend_93 rfl ?_
    refine ex_if_ne d_TM_mend_95 (fun h95 => ?_) (fun h95 => ?_)
    · skip
      have h95 : ¬ (wdA (g 16) (plA L M E k)) = 0 := h95
      refine ex_il d_TM_mend_105 rfl ?_
      refine ex_k d_TM_mend_107 ?_
      refine ex_icmp_ne d_TM_mend_108 (fun h108 => ?_) (fun h108 => ?_)
      · skip
        have h108 : ¬ (wdA (g 16) (plA L M E k)) = 1 := h108
        refine ex_il d_TM_mend_133 rfl ?_
        refine ex_k d_TM_mend_135 ?_
        refine ex_icmp_ne d_TM_mend_136 (fun h136 => ?_) (fun h136 => ?_)
        · skip
          have h136 : ¬ (wdA (g 16) (plA L M E k)) = 2 := h136
          refine ex_il d_TM_mend_155 rfl ?_
          refine ex_k d_TM_mend_157 ?_
          refine ex_icmp_ne d_TM_mend_158 (fun h158 => ?_) (fun h158 => ?_)
          · skip
            have h158 : ¬ (wdA (g 16) (plA L M E k)) = 3 := h158
            refine ex_il d_TM_mend_191 rfl ?_
            refine ex_k d_TM_mend_193 ?_
            refine ex_icmp_ne d_TM_mend_194 (fun h194 => ?_) (fun h194 => ?_)
            · skip
              have h194 : ¬ (wdA (g 16) (plA L M E k)) = 4 := h194
              have hk6 : (wdA (g 16) (plA L M E k)) = 5 := md5 hk5 h95 h108 h136 h158 h194
              have hmo : mdO (wdA (g 16) (plA L M E k)) ((mdS g n (g 16) L (plA L M E k) ad) - (ad + nI o)) = (decide (((mdS g n (g 16) L (plA L M E k) ad) - (ad + nI o)) - ((mdS g n (g 16) L (plA L M E k) ad) - (ad + nI o)) / 2 * 2 = 0) && decide (-4096 ≤ ((mdS g n (g 16) L (plA L M E k) ad) - (ad + nI o))) && decide (((mdS g n (g 16) L (plA L M E k) ad) - (ad + nI o)) ≤ 4094)) := by rw [hk6, mdO, if_neg (by decide), if_pos rfl]
              refine ex_il d_TM_mend_278 rfl ?_
              refine ex_k d_TM_mend_280 ?_
              refine ex_irem d_TM_mend_281 (by decide) ?_
              refine ex_if_ne d_TM_mend_282 (fun h282 => ?_) (fun h282 => ?_)
              · skip
                have hbad : mdO (wdA (g 16) (plA L M E k)) ((mdS g n (g 16) L (plA L M E k) ad) - (ad + nI o)) = false := by rw [hmo, decide_eq_false (p := ((mdS g n (g 16) L (plA L M E k) ad) - (ad + nI o)) - ((mdS g n (g 16) L (plA L M E k) ad) - (ad + nI o)) / 2 * 2 = 0) h282]; rfl
                refine ex_k d_TM_mend_301 ?_
                exact ex_iret [TW G h q f g] hG d_TM_mend_302 rfl rfl (by decide) (by decide) (eg_sub.of rfl) ⟨by rw [hB, hbad]; rfl, by rw [hB, hbad]; rfl⟩
              · skip
                have h282 : ((mdS g n (g 16) L (plA L M E k) ad) - (ad + nI o)) - ((mdS g n (g 16) L (plA L M E k) ad) - (ad + nI o)) / 2 * 2 = 0 := h282
                refine ex_il d_TM_mend_285 rfl ?_
                refine ex_k d_TM_mend_287 ?_
                refine ex_icmp_lt d_TM_mend_290 (fun h290 => ?_) (fun h290 => ?_)
                · skip
                  have hbad : mdO (wdA (g 16) (plA L M E k)) ((mdS g n (g 16) L (plA L M E k) ad) - (ad + nI o)) = false := by rw [hmo, decide_eq_false (p := -4096 ≤ ((mdS g n (g 16) L (plA L M E k) ad) - (ad + nI o))) (Int32.not_le.mpr h290)]; simp
                  refine ex_k d_TM_mend_301 ?_
                  exact ex_iret [TW G h q f g] hG d_TM_mend_302 rfl rfl (by decide) (by decide) (eg_sub.of rfl) ⟨by rw [hB, hbad]; rfl, by rw [hB, hbad]; rfl⟩
                · skip
                  have h290 : -4096 ≤ ((mdS g n (g 16) L (plA L M E k) ad) - (ad + nI o)) := Int32.not_lt.mp h290
                  refine ex_il d_TM_mend_293 rfl ?_
                  refine ex_k d_TM_mend_295 ?_
                  refine ex_icmp_le d_TM_mend_298 (fun h298 => ?_) (fun h298 => ?_)
                  · skip
                    have hok : mdO (wdA (g 16) (plA L M E k)) ((mdS g n (g 16) L (plA L M E k) ad) - (ad + nI o)) = true := by rw [hmo, decide_eq_true h282, decide_eq_true h290, decide_eq_true (show ((mdS g n (g 16) L (plA L M E k) ad) - (ad + nI o)) ≤ 4094 from h298)]; rfl
                    refine ex_il d_TM_mend_303 rfl ?_
                    refine ex_k d_TM_mend_305 ?_
                    refine ex_iand d_TM_mend_307 ?_
                    refine ex_il d_TM_mend_308 rfl ?_
                    refine ex_k d_TM_mend_310 ?_
                    refine ex_ishr d_TM_mend_312 ?_
                    refine ex_k d_TM_mend_313 ?_
                    refine ex_iand d_TM_mend_314 ?_
                    refine ex_k d_TM_mend_315 ?_
                    refine ex_ishl d_TM_mend_317 ?_
                    refine ex_ior d_TM_mend_318 ?_
                    refine ex_il d_TM_mend_319 rfl ?_
                    refine ex_k d_TM_mend_321 ?_
                    refine ex_ishr d_TM_mend_322 ?_
                    refine ex_k d_TM_mend_323 ?_
                    refine ex_iand d_TM_mend_325 ?_
                    refine ex_k d_TM_mend_326 ?_
                    refine ex_ishl d_TM_mend_328 ?_
                    refine ex_ior d_TM_mend_329 ?_
                    refine ex_il d_TM_mend_330 rfl ?_
                    refine ex_k d_TM_mend_332 ?_
                    refine ex_ishr d_TM_mend_333 ?_
                    refine ex_k d_TM_mend_334 ?_
                    refine ex_iand d_TM_mend_336 ?_
                    refine ex_k d_TM_mend_337 ?_
                    refine ex_ishl d_TM_mend_339 ?_
                    refine ex_ior d_TM_mend_340 ?_
                    refine ex_il d_TM_mend_341 rfl ?_
                    refine ex_k d_TM_mend_343 ?_
                    refine ex_ishr d_TM_mend_345 ?_
                    refine ex_k d_TM_mend_346 ?_
                    refine ex_iand d_TM_mend_347 ?_
                    refine ex_k d_TM_mend_348 ?_
                    refine ex_ishl d_TM_mend_350 ?_
                    refine ex_ior d_TM_mend_351 ?_
                    refine ex_is d_TM_mend_352 (Nat.le_of_ble_eq_true rfl) ?_
                    exact J2 _ hok (by rw [hk6]; rfl)
                  · skip
                    have hbad : mdO (wdA (g 16) (plA L M E k)) ((mdS g n (g 16) L (plA L M E k) ad) - (ad + nI o)) = false := by rw [hmo, decide_eq_false (p := ((mdS g n (g 16) L (plA L M E k) ad) - (ad + nI o)) ≤ 4094) h298]; simp
                    refine ex_k d_TM_mend_301 ?_
                    exact ex_iret [TW G h q f g] hG d_TM_mend_302 rfl rfl (by decide) (by decide) (eg_sub.of rfl) ⟨by rw [hB, hbad]; rfl, by rw [hB, hbad]; rfl⟩
            · skip
              have h194 : (wdA (g 16) (plA L M E k)) = 4 := h194
              refine ex_il d_TM_mend_197 rfl ?_
              refine ex_k d_TM_mend_199 ?_
              refine ex_irem d_TM_mend_200 (by decide) ?_
              refine ex_if_ne d_TM_mend_201 (fun h201 => ?_) (fun h201 => ?_)
              · skip
                have hbad : mdO (wdA (g 16) (plA L M E k)) ((mdS g n (g 16) L (plA L M E k) ad) - (ad + nI o)) = false := by rw [h194, mdO, if_pos rfl, decide_eq_false (p := ((mdS g n (g 16) L (plA L M E k) ad) - (ad + nI o)) - ((mdS g n (g 16) L (plA L M E k) ad) - (ad + nI o)) / 2 * 2 = 0) h201]; rfl
                refine ex_k d_TM_mend_218 ?_
                exact ex_iret [TW G h q f g] hG d_TM_mend_219 rfl rfl (by decide) (by decide) (eg_sub.of rfl) ⟨by rw [hB, hbad]; rfl, by rw [hB, hbad]; rfl⟩
              · skip
                have h201 : ((mdS g n (g 16) L (plA L M E k) ad) - (ad + nI o)) - ((mdS g n (g 16) L (plA L M E k) ad) - (ad + nI o)) / 2 * 2 = 0 := h201
                refine ex_il d_TM_mend_204 rfl ?_
                refine ex_k d_TM_mend_206 ?_
                refine ex_icmp_lt d_TM_mend_208 (fun h208 => ?_) (fun h208 => ?_)
                · skip
                  have hbad : mdO (wdA (g 16) (plA L M E k)) ((mdS g n (g 16) L (plA L M E k) ad) - (ad + nI o)) = false := by rw [h194, mdO, if_pos rfl, decide_eq_false (p := -1048576 ≤ ((mdS g n (g 16) L (plA L M E k) ad) - (ad + nI o))) (Int32.not_le.mpr h208)]; simp
                  refine ex_k d_TM_mend_218 ?_
                  exact ex_iret [TW G h q f g] hG d_TM_mend_219 rfl rfl (by decide) (by decide) (eg_sub.of rfl) ⟨by rw [hB, hbad]; rfl, by rw [hB, hbad]; rfl⟩
                · skip
                  have h208 : -1048576 ≤ ((mdS g n (g 16) L (plA L M E k) ad) - (ad + nI o)) := Int32.not_lt.mp h208
                  refine ex_il d_TM_mend_211 rfl ?_
                  refine ex_k d_TM_mend_213 ?_
                  refine ex_icmp_le d_TM_mend_215 (fun h215 => ?_) (fun h215 => ?_)
                  · skip
                    have hok : mdO (wdA (g 16) (plA L M E k)) ((mdS g n (g 16) L (plA L M E k) ad) - (ad + nI o)) = true := by rw [h194, mdO, if_pos rfl, decide_eq_true h201, decide_eq_true h208, decide_eq_true (show ((mdS g n (g 16) L (plA L M E k) ad) - (ad + nI o)) ≤ 1048574 from h215)]; rfl
                    refine ex_il d_TM_mend_220 rfl ?_
                    refine ex_k d_TM_mend_222 ?_
                    refine ex_iand d_TM_mend_225 ?_
                    refine ex_il d_TM_mend_226 rfl ?_
                    refine ex_k d_TM_mend_228 ?_
                    refine ex_ishr d_TM_mend_230 ?_
                    refine ex_k d_TM_mend_231 ?_
                    refine ex_iand d_TM_mend_232 ?_
                    refine ex_k d_TM_mend_233 ?_
                    refine ex_ishl d_TM_mend_235 ?_
                    refine ex_ior d_TM_mend_236 ?_
                    refine ex_il d_TM_mend_237 rfl ?_
                    refine ex_k d_TM_mend_239 ?_
                    refine ex_ishr d_TM_mend_240 ?_
                    refine ex_k d_TM_mend_241 ?_
                    refine ex_iand d_TM_mend_244 ?_
                    refine ex_k d_TM_mend_245 ?_
                    refine ex_ishl d_TM_mend_247 ?_
                    refine ex_ior d_TM_mend_248 ?_
                    refine ex_il d_TM_mend_249 rfl ?_
                    refine ex_k d_TM_mend_251 ?_
                    refine ex_ishr d_TM_mend_253 ?_
                    refine ex_k d_TM_mend_254 ?_
                    refine ex_iand d_TM_mend_255 ?_
                    refine ex_k d_TM_mend_256 ?_
                    refine ex_ishl d_TM_mend_258 ?_
                    refine ex_ior d_TM_mend_259 ?_
                    refine ex_il d_TM_mend_260 rfl ?_
                    refine ex_k d_TM_mend_262 ?_
                    refine ex_ishr d_TM_mend_264 ?_
                    refine ex_k d_TM_mend_265 ?_
                    refine ex_iand d_TM_mend_268 ?_
                    refine ex_k d_TM_mend_269 ?_
                    refine ex_ishl d_TM_mend_271 ?_
                    refine ex_ior d_TM_mend_272 ?_
                    refine ex_is d_TM_mend_273 (Nat.le_of_ble_eq_true rfl) ?_
                    refine ex_goto d_TM_mend_275 ?_
                    exact J2 _ hok (by rw [h194]; rfl)
                  · skip
                    have hbad : mdO (wdA (g 16) (plA L M E k)) ((mdS g n (g 16) L (plA L M E k) ad) - (ad + nI o)) = false := by rw [h194, mdO, if_pos rfl, decide_eq_false (p := ((mdS g n (g 16) L (plA L M E k) ad) - (ad + nI o)) ≤ 1048574) h215]; simp
                    refine ex_k d_TM_mend_218 ?_
                    exact ex_iret [TW G h q f g] hG d_TM_mend_219 rfl rfl (by decide) (by decide) (eg_sub.of rfl) ⟨by rw [hB, hbad]; rfl, by rw [hB, hbad]; rfl⟩
          · skip
            have h158 : (wdA (g 16) (plA L M E k)) = 3 := h158
            refine ex_il d_TM_mend_161 rfl ?_
            refine ex_k d_TM_mend_163 ?_
            refine ex_iand d_TM_mend_165 ?_
            refine ex_il d_TM_mend_166 rfl ?_
            refine ex_k d_TM_mend_168 ?_
            refine ex_ishr d_TM_mend_169 ?_
            refine ex_k d_TM_mend_170 ?_
            refine ex_iand d_TM_mend_172 ?_
            refine ex_k d_TM_mend_173 ?_
            refine ex_ishl d_TM_mend_175 ?_
            refine ex_ior d_TM_mend_176 ?_
            refine ex_il d_TM_mend_177 rfl ?_
            refine ex_k d_TM_mend_179 ?_
            refine ex_iand d_TM_mend_181 ?_
            refine ex_k d_TM_mend_182 ?_
            refine ex_ishl d_TM_mend_184 ?_
            refine ex_ior d_TM_mend_185 ?_
            refine ex_is d_TM_mend_186 (Nat.le_of_ble_eq_true rfl) ?_
            refine ex_goto d_TM_mend_188 ?_
            exact J2 _ (by rw [h158]; rfl) (by rw [h158]; rfl)
        · skip
          have h136 : (wdA (g 16) (plA L M E k)) = 2 := h136
          refine ex_il d_TM_mend_139 rfl ?_
          refine ex_k d_TM_mend_141 ?_
          refine ex_iand d_TM_mend_143 ?_
          refine ex_il d_TM_mend_144 rfl ?_
          refine ex_k d_TM_mend_146 ?_
          refine ex_ishl d_TM_mend_148 ?_
          refine ex_ior d_TM_mend_149 ?_
          refine ex_is d_TM_mend_150 (Nat.le_of_ble_eq_true rfl) ?_
          refine ex_goto d_TM_mend_152 ?_
          exact J2 _ (by rw [h136]; rfl) (by rw [h136]; rfl)
      · skip
        have h108 : (wdA (g 16) (plA L M E k)) = 1 := h108
        refine ex_il d_TM_mend_111 rfl ?_
        refine ex_k d_TM_mend_113 ?_
        refine ex_iand d_TM_mend_116 ?_
        refine ex_il d_TM_mend_117 rfl ?_
        refine ex_k d_TM_mend_119 ?_
        refine ex_iadd d_TM_mend_122 ?_
        refine ex_k d_TM_mend_123 ?_
        refine ex_iand d_TM_mend_126 ?_
        refine ex_ior d_TM_mend_127 ?_
        refine ex_is d_TM_mend_128 (Nat.le_of_ble_eq_true rfl) ?_
        refine ex_goto d_TM_mend_130 ?_
        exact J2 _ (by rw [h108]; rfl) (by rw [h108]; rfl)
    · skip
      have h95 : (wdA (g 16) (plA L M E k)) = 0 := h95
      refine ex_il d_TM_mend_98 rfl ?_
      refine ex_is d_TM_mend_100 (Nat.le_of_ble_eq_true rfl) ?_
      refine ex_goto d_TM_mend_102 ?_
      exact J2 _ (by rw [h95]; rfl) (by rw [h95]; rfl)
  refine ex_il d_TM_mend_34 rfl ?_
  refine ex_if_ge d_TM_mend_36 (fun h36 => ?_) (fun h36 => ?_)
  · skip
    obtain ⟨si, hsi, hsx⟩ : ∃ si, si < M ∧ wdA (g 16) ((plA L M E k) + 8) = nI si := by
      obtain ⟨j, hj, hj2⟩ := nI_of (Int32.not_lt.mpr h36)
      rw [hj2] at hs2
      exact ⟨j, (nI_ltI hj (by omega)).mp hs2, hj2⟩
    have hAi : imA L si = 32 + L + 8 * si := rfl
    obtain ⟨sy, hsy⟩ := Option.isSome_iff_exists.mp (hfd si hsi)
    have hsyl := (tfind_lt hsy).1
    refine ex_al d_TM_mend_43 rfl ?_
    refine tg 0 fl_TM_19 d_TM_mend_44 rfl rfl ?_
    refine ex_al d_TM_mend_47 rfl ?_
    refine ex_al d_TM_mend_48 rfl ?_
    refine ex_al d_TM_mend_49 rfl ?_
    refine ex_il d_TM_mend_50 rfl ?_
    refine ex_eqT (.int (nI si) :: _) (by rw [hsx]) ?_
    refine ex_cF [0] hR (c_TM_importAt l G h q f g (nI si)) (eg_invV 0 d_TM_mend_52 cd_TM_importAt cx_TM_102 rfl rfl List.mem_cons_self rfl rfl) cd_TM_importAt rfl rfl (Nat.le_of_ble_eq_true rfl) (by decide) (by decide) (by decide) (by decide) rfl ?_
    refine ex_eqT (.int (nI (imA L si)) :: _) (by rw [imA_I zL]) ?_
    refine ex_cF [0] hR (c_TM_tapeWord l G h q f g (imA L si) (by omega)) (eg_invV 0 d_TM_mend_55 cd_TM_tapeWord cx_TM_111 rfl rfl List.mem_cons_self rfl rfl) cd_TM_tapeWord rfl rfl (Nat.le_of_ble_eq_true rfl) (by decide) (by decide) (by decide) (by decide) rfl ?_
    refine ex_cF [0] hR (c_TM_find l G h q f g _ n hn hn2) (eg_invV 0 d_TM_mend_58 cd_TM_find cx_TM_86 rfl rfl List.mem_cons_self rfl rfl) cd_TM_find rfl rfl (Nat.le_of_ble_eq_true rfl) (by decide) (by decide) (by decide) (by decide) rfl ?_
    refine tl_6 0 d_TM_mend_61 rfl (ix_e (j := sy) (by omega) (by rw [hsy]; rfl)) ?_
    exact J1 _ (by rw [if_neg (Int32.not_lt.mpr h36), hsx, nI_clamp (by omega), hsy]; rfl)
  · skip
    have h36 := Int32.not_le.mp h36
    refine ex_il d_TM_mend_39 rfl ?_
    refine ex_goto d_TM_mend_40 ?_
    exact J1 _ (by rw [if_pos h36])
