/-! THE MACHINE, 4: a step, a run -/
theorem ef_goesOn : eg_find "ModuleLoader$Machine" x_UOE 1 [(0, 4, 7, 53)] 7 := ⟨by decide, by decide, Or.inl ⟨by decide +kernel, by decide +kernel, rfl⟩⟩
theorem tst1 {P : Int32 → Bool} {M R : Nat → Int32} {pc : Int32} (h : ¬ pc &&& 3 = 0) : tstep P M R pc = (1, M, R, pc) := by
  rw [tstep, if_pos]
  intro z
  exact h ((and_rem (x := pc) (s := 4) (Or.inr (Or.inr rfl))).mpr z)
theorem tst2 {P : Int32 → Bool} {M R : Nat → Int32} {pc : Int32} (h : pc &&& 3 = 0) (h2 : isI pc 4 = false) : tstep P M R pc = (2, M, R, pc) := by
  have z := (and_rem (x := pc) (s := 4) (Or.inr (Or.inr rfl))).mp h
  have e := acI_5 (x := pc) (s := 4) (Or.inr (Or.inr rfl)) z h2
  rw [acI, if_pos z] at e
  rw [tstep, if_neg (fun y => y z), if_pos]
  by_cases y : pc < 0 ∨ 4096 ≤ pc
  · exact y
  · rw [if_neg y] at e; exact absurd e (by decide)
theorem tst3 {P : Int32 → Bool} {M R : Nat → Int32} {pc : Int32} (h : pc &&& 3 = 0) (h2 : isI pc 4 = true) : ∃ j : Nat, j + 4 ≤ 4096 ∧ pc = nI j ∧ tstep P M R pc = txo (wdA M j &&& 127) P M R pc (wdA M j) := by
  have z := (and_rem (x := pc) (s := 4) (Or.inr (Or.inr rfl))).mp h
  have e := acI_s (x := pc) (s := 4) (Or.inr (Or.inr rfl)) z h2
  obtain ⟨j, hj, e1, hm⟩ := acI_0 (n := 4) (by decide) (by decide) e
  rw [acI, if_pos z] at e
  have z : pc - pc / 4 * 4 = 0 := z
  refine ⟨j, by omega, e1, ?_⟩
  rw [tstep, if_neg (fun y => y z), if_neg, e1, nI_clamp (by omega)]
  intro y
  rw [if_pos y] at e
  exact absurd e (by decide)
theorem txo_55 (P : Int32 → Bool) (M R : Nat → Int32) (pc w : Int32) : txo 55 P M R pc w = (0, M, upd R (wRd w) (w &&& -4096), pc + 4) := rfl
theorem txo_23 (P : Int32 → Bool) (M R : Nat → Int32) (pc w : Int32) : txo 23 P M R pc w = (0, M, upd R (wRd w) (pc + (w &&& -4096)), pc + 4) := rfl
theorem txo_111 (P : Int32 → Bool) (M R : Nat → Int32) (pc w : Int32) : txo 111 P M R pc w = (0, M, upd R (wRd w) (pc + 4), pc + wJ w) := rfl
theorem rkO_19 (w : Int32) : rkO true w = true ↔ ¬ ((wK w = 1 ∧ ¬ wT w = 0) ∨ (wK w = 5 ∧ ¬ wT w = 0 ∧ ¬ wT w = 32)) := by unfold rkO; grind
theorem rkO_51 (w : Int32) : rkO false w = true ↔ ¬ (¬ wT w = 0 ∧ (¬ wT w = 32 ∨ (¬ wK w = 0 ∧ ¬ wK w = 5))) := by unfold rkO; grind
theorem kf_no {a : Nat → Nat} {j : Nat} (h1 : ¬ j = 55) (h2 : ¬ j = 23) (h3 : ¬ j = 111) (h4 : ¬ j = 103) (h5 : ¬ j = 99) (h6 : ¬ j = 3) (h7 : ¬ j = 35) (h8 : ¬ j = 19) (h9 : ¬ j = 51) : kf a j = none := by
  unfold kf
  rw [if_neg h1, if_neg h2, if_neg h3, if_neg h4, if_neg h5, if_neg h6, if_neg h7, if_neg h8, if_neg h9]
set_option maxRecDepth 100000 in
set_option maxHeartbeats 4000000 in
theorem c_Ma_step (l : Launch) (G : eg_G) (a : Nat → Nat) (M : Nat → Int32) (P : Int32 → Bool) (R : Nat → Int32) (pc tr md : Int32) (hM : ∀ i, M i &&& 255 = M i) (hR0 : R 0 = 0) : Ct l G y_Ma_step 10 3 18 [.ref (a 0)] [MA G a M P R pc tr md] (rC ((tstep P M R pc).1 = 0) none [MA G a (tstep P M R pc).2.1 P (r0 (tstep P M R pc).2.2.1) (tstep P M R pc).2.2.2 tr md] x_UOE [MA G a M P R pc (tstep P M R pc).1 md]) := by
  refine Ct.of cd_Ma_step (eg_catb rfl) (Nat.le_of_ble_eq_true rfl) ?_
  intro Γ hG
  have hR := hG.rm
  show Ex G Γ mu_Ma_step 0 [some (.ref (a 0)), none, none] [] [MA G a M P R pc tr md] 0 0
  refine ex_al d_Ma_step_0 rfl ?_
  refine mg 0 fl_Ma_75 d_Ma_step_1 rfl rfl ?_
  refine ex_k d_Ma_step_4 ?_
  refine ex_iand d_Ma_step_5 ?_
  refine ex_if_eq d_Ma_step_6 (fun h6 => ?_) (fun h6 => ?_)
  · skip
    have h6 : pc &&& 3 = 0 := h6
    refine ex_al d_Ma_step_14 rfl ?_
    refine mg 0 fl_Ma_75 d_Ma_step_15 rfl rfl ?_
    refine ex_k d_Ma_step_18 ?_
    refine ex_cP hR (c_Ma_isInside l G _ _) (eg_invS d_Ma_step_19 cd_Ma_isInside cx_Ma_59 rfl rfl) cd_Ma_isInside (Nat.le_of_ble_eq_true rfl) (by decide) (by decide) (by decide) (by decide) rfl ?_
    refine ex_if_ne d_Ma_step_22 (fun h22 => ?_) (fun h22 => ?_)
    · skip
      have h22 : isI pc 4 = true := by cases hb : isI pc 4; exact absurd (bI_0.mpr hb) h22; rfl
      obtain ⟨j, hj4, hpc, hts⟩ := tst3 (P := P) (M := M) (R := R) h6 h22
      refine ex_al d_Ma_step_30 rfl ?_
      refine ex_al d_Ma_step_31 rfl ?_
      refine mg 0 fl_Ma_75 d_Ma_step_32 rfl rfl ?_
      refine ex_k d_Ma_step_35 ?_
      refine ex_eqT [.int (nI 4), .int (nI j), .ref (a 0)] (by rw [← hpc]; rfl) ?_
      refine ex_cF [0] hR (c_Ma_read l G a M P R pc tr md hM j 4 (by decide) hj4) (eg_invV 0 d_Ma_step_36 cd_Ma_read cx_Ma_67 rfl rfl List.mem_cons_self rfl rfl) cd_Ma_read rfl rfl (Nat.le_of_ble_eq_true rfl) (by decide) (by decide) (by decide) (by decide) rfl ?_
      rw [rdJ_4]
      generalize wdA M j = w at hts ⊢
      refine ex_is d_Ma_step_39 (Nat.le_of_ble_eq_true rfl) ?_
      refine ex_al d_Ma_step_40 rfl ?_
      refine mg 0 fl_Ma_25 d_Ma_step_41 rfl rfl ?_
      refine ex_il d_Ma_step_44 rfl ?_
      refine ex_k d_Ma_step_45 ?_
      refine ex_iand d_Ma_step_47 ?_
      by_cases e55 : w &&& 127 = 55
      · skip
        rw [e55] at hts
        refine ml_kind 0 d_Ma_step_48 rfl (ix_e (j := 55) (by decide) e55) ?_
        refine ex_eqT [.ref (a 5)] rfl ?_
        refine ex_as d_Ma_step_49 (Nat.le_of_ble_eq_true rfl) ?_
        refine ex_al d_Ma_step_50 rfl ?_
        refine ex_ifnull (r := some (a 5)) d_Ma_step_51 (fun h => nomatch h) (fun _ _ => ?_)
        refine ex_al d_Ma_step_54 rfl ?_
        refine ex_il d_Ma_step_55 rfl ?_
        refine ex_cP hR (c_Up_isOne l G (a 5) w) (eg_invF 0 d_Ma_step_56 cd_Up_isOne cx_Ma_78_Up rfl rfl (List.mem_of_getElem? (i := 5) rfl) rfl rfl) cd_Up_isOne (Nat.le_of_ble_eq_true rfl) (by decide) (by decide) (by decide) (by decide) rfl ?_
        refine ex_if_ne d_Ma_step_61 (fun h61 => ?_) (fun h61 => ?_)
        · skip
          skip
          refine ex_al d_Ma_step_69 rfl ?_
          refine ex_al d_Ma_step_70 rfl ?_
          refine ex_al d_Ma_step_71 rfl ?_
          refine ex_il d_Ma_step_72 rfl ?_
          refine ex_cF [0] hR (c_Up_on l G a M P R pc tr md (a 5) w false hR0 (List.mem_of_getElem? (i := 5) rfl)) (eg_invF 0 d_Ma_step_73 cd_Up_on cx_Ma_82_Up rfl rfl (List.mem_of_getElem? (i := 5) rfl) rfl rfl) cd_Up_on rfl rfl (Nat.le_of_ble_eq_true rfl) (by decide) (by decide) (by decide) (by decide) rfl ?_
          refine mp_at 0 wl_Ma_75 d_Ma_step_78 rfl ?_
          have h0 : tstep P M R pc = (0, M, (upd R (wRd w) (w &&& -4096)), (pc + 4)) := by rw [hts, txo_55]
          exact ex_vret [MA G a M P (r0 (upd R (wRd w) (w &&& -4096))) (pc + 4) tr md] hG d_Ma_step_81 rfl (by decide) (by decide) (eg_sub.of rfl) (Or.inl ⟨by rw [h0], rfl, by rw [h0]⟩)
        · skip
          exact absurd h61 (by decide)
      by_cases e23 : w &&& 127 = 23
      · skip
        rw [e23] at hts
        refine ml_kind 0 d_Ma_step_48 rfl (ix_e (j := 23) (by decide) e23) ?_
        refine ex_eqT [.ref (a 6)] rfl ?_
        refine ex_as d_Ma_step_49 (Nat.le_of_ble_eq_true rfl) ?_
        refine ex_al d_Ma_step_50 rfl ?_
        refine ex_ifnull (r := some (a 6)) d_Ma_step_51 (fun h => nomatch h) (fun _ _ => ?_)
        refine ex_al d_Ma_step_54 rfl ?_
        refine ex_il d_Ma_step_55 rfl ?_
        refine ex_cP hR (c_Up_isOne l G (a 6) w) (eg_invF 0 d_Ma_step_56 cd_Up_isOne cx_Ma_78_Up rfl rfl (List.mem_of_getElem? (i := 6) rfl) rfl rfl) cd_Up_isOne (Nat.le_of_ble_eq_true rfl) (by decide) (by decide) (by decide) (by decide) rfl ?_
        refine ex_if_ne d_Ma_step_61 (fun h61 => ?_) (fun h61 => ?_)
        · skip
          skip
          refine ex_al d_Ma_step_69 rfl ?_
          refine ex_al d_Ma_step_70 rfl ?_
          refine ex_al d_Ma_step_71 rfl ?_
          refine ex_il d_Ma_step_72 rfl ?_
          refine ex_cF [0] hR (c_Up_on l G a M P R pc tr md (a 6) w true hR0 (List.mem_of_getElem? (i := 6) rfl)) (eg_invF 0 d_Ma_step_73 cd_Up_on cx_Ma_82_Up rfl rfl (List.mem_of_getElem? (i := 6) rfl) rfl rfl) cd_Up_on rfl rfl (Nat.le_of_ble_eq_true rfl) (by decide) (by decide) (by decide) (by decide) rfl ?_
          refine mp_at 0 wl_Ma_75 d_Ma_step_78 rfl ?_
          have h0 : tstep P M R pc = (0, M, (upd R (wRd w) (pc + (w &&& -4096))), (pc + 4)) := by rw [hts, txo_23]
          exact ex_vret [MA G a M P (r0 (upd R (wRd w) (pc + (w &&& -4096)))) (pc + 4) tr md] hG d_Ma_step_81 rfl (by decide) (by decide) (eg_sub.of rfl) (Or.inl ⟨by rw [h0], rfl, by rw [h0]⟩)
        · skip
          exact absurd h61 (by decide)
      by_cases e111 : w &&& 127 = 111
      · skip
        rw [e111] at hts
        refine ml_kind 0 d_Ma_step_48 rfl (ix_e (j := 111) (by decide) e111) ?_
        refine ex_eqT [.ref (a 7)] rfl ?_
        refine ex_as d_Ma_step_49 (Nat.le_of_ble_eq_true rfl) ?_
        refine ex_al d_Ma_step_50 rfl ?_
        refine ex_ifnull (r := some (a 7)) d_Ma_step_51 (fun h => nomatch h) (fun _ _ => ?_)
        refine ex_al d_Ma_step_54 rfl ?_
        refine ex_il d_Ma_step_55 rfl ?_
        refine ex_cF [0] hR (c_Ju_isOne l G a M P R pc tr md (a 7) w false (List.mem_of_getElem? (i := 7) rfl)) (eg_invF 0 d_Ma_step_56 cd_Ju_isOne cx_Ma_78_Ju rfl rfl (List.mem_of_getElem? (i := 7) rfl) rfl rfl) cd_Ju_isOne rfl rfl (Nat.le_of_ble_eq_true rfl) (by decide) (by decide) (by decide) (by decide) rfl ?_
        refine ex_if_ne d_Ma_step_61 (fun h61 => ?_) (fun h61 => ?_)
        · skip
          have hone : juB false w = true := by cases hb : (juB false w : Bool); exact absurd (bI_0.mpr hb) h61; rfl
          refine ex_al d_Ma_step_69 rfl ?_
          refine ex_al d_Ma_step_70 rfl ?_
          refine ex_al d_Ma_step_71 rfl ?_
          refine ex_il d_Ma_step_72 rfl ?_
          refine ex_cF [0] hR (c_Ju_on l G a M P R pc tr md (a 7) w false hR0 (List.mem_of_getElem? (i := 7) rfl)) (eg_invF 0 d_Ma_step_73 cd_Ju_on cx_Ma_82_Ju rfl rfl (List.mem_of_getElem? (i := 7) rfl) rfl rfl) cd_Ju_on rfl rfl (Nat.le_of_ble_eq_true rfl) (by decide) (by decide) (by decide) (by decide) rfl ?_
          refine mp_at 0 wl_Ma_75 d_Ma_step_78 rfl ?_
          have h0 : tstep P M R pc = (0, M, (upd R (wRd w) (pc + 4)), (pc + wJ w)) := by rw [hts, txo_111]
          exact ex_vret [MA G a M P (r0 (upd R (wRd w) (pc + 4))) (pc + wJ w) tr md] hG d_Ma_step_81 rfl (by decide) (by decide) (eg_sub.of rfl) (Or.inl ⟨by rw [h0], rfl, by rw [h0]⟩)
        · skip
          exact absurd (show (1 : Int32) = 0 from h61) (by decide)
      by_cases e103 : w &&& 127 = 103
      · skip
        rw [e103] at hts
        refine ml_kind 0 d_Ma_step_48 rfl (ix_e (j := 103) (by decide) e103) ?_
        refine ex_eqT [.ref (a 8)] rfl ?_
        refine ex_as d_Ma_step_49 (Nat.le_of_ble_eq_true rfl) ?_
        refine ex_al d_Ma_step_50 rfl ?_
        refine ex_ifnull (r := some (a 8)) d_Ma_step_51 (fun h => nomatch h) (fun _ _ => ?_)
        refine ex_al d_Ma_step_54 rfl ?_
        refine ex_il d_Ma_step_55 rfl ?_
        refine ex_cF [0] hR (c_Ju_isOne l G a M P R pc tr md (a 8) w true (List.mem_of_getElem? (i := 8) rfl)) (eg_invF 0 d_Ma_step_56 cd_Ju_isOne cx_Ma_78_Ju rfl rfl (List.mem_of_getElem? (i := 8) rfl) rfl rfl) cd_Ju_isOne rfl rfl (Nat.le_of_ble_eq_true rfl) (by decide) (by decide) (by decide) (by decide) rfl ?_
        refine ex_if_ne d_Ma_step_61 (fun h61 => ?_) (fun h61 => ?_)
        · skip
          have hone : juB true w = true := by cases hb : (juB true w : Bool); exact absurd (bI_0.mpr hb) h61; rfl
          refine ex_al d_Ma_step_69 rfl ?_
          refine ex_al d_Ma_step_70 rfl ?_
          refine ex_al d_Ma_step_71 rfl ?_
          refine ex_il d_Ma_step_72 rfl ?_
          refine ex_cF [0] hR (c_Ju_on l G a M P R pc tr md (a 8) w true hR0 (List.mem_of_getElem? (i := 8) rfl)) (eg_invF 0 d_Ma_step_73 cd_Ju_on cx_Ma_82_Ju rfl rfl (List.mem_of_getElem? (i := 8) rfl) rfl rfl) cd_Ju_on rfl rfl (Nat.le_of_ble_eq_true rfl) (by decide) (by decide) (by decide) (by decide) rfl ?_
          refine mp_at 0 wl_Ma_75 d_Ma_step_78 rfl ?_
          have h0 : tstep P M R pc = (0, M, (upd R (wRd w) (pc + 4)), ((wX R w + wI w) &&& -2)) := by rw [hts, txo_103, if_pos (by simpa [juB] using hone)]
          exact ex_vret [MA G a M P (r0 (upd R (wRd w) (pc + 4))) ((wX R w + wI w) &&& -2) tr md] hG d_Ma_step_81 rfl (by decide) (by decide) (eg_sub.of rfl) (Or.inl ⟨by rw [h0], rfl, by rw [h0]⟩)
        · skip
          have h3 : tstep P M R pc = (3, M, R, pc) := by rw [hts, txo_103, if_neg (fun z => absurd (show juB true w = true by rw [juB, decide_eq_true z]; rfl) (by rw [bI_0.mp h61]; decide))]
          refine ex_al d_Ma_step_64 rfl ?_
          refine ex_k d_Ma_step_65 ?_
          refine ex_cT [0] hR (c_Ma_trap l G a M P R pc tr md 3) (eg_invV 0 d_Ma_step_66 cd_Ma_trap cx_Ma_56 rfl rfl List.mem_cons_self rfl rfl) cd_Ma_trap rfl rfl (Nat.le_of_ble_eq_true rfl) (by decide) (by decide) (by decide) (by decide) ?_
          exact ext_leave [MA G a M P R pc 3 md] hG (fun _ h => absurd h List.not_mem_nil) (by decide) (by decide) (eg_sub.of rfl) (Or.inr ⟨by rw [h3]; show ¬ (3 : Int32) = 0; decide, rfl, by rw [h3]⟩)
      by_cases e99 : w &&& 127 = 99
      · skip
        rw [e99] at hts
        refine ml_kind 0 d_Ma_step_48 rfl (ix_e (j := 99) (by decide) e99) ?_
        refine ex_eqT [.ref (a 9)] rfl ?_
        refine ex_as d_Ma_step_49 (Nat.le_of_ble_eq_true rfl) ?_
        refine ex_al d_Ma_step_50 rfl ?_
        refine ex_ifnull (r := some (a 9)) d_Ma_step_51 (fun h => nomatch h) (fun _ _ => ?_)
        refine ex_al d_Ma_step_54 rfl ?_
        refine ex_il d_Ma_step_55 rfl ?_
        refine ex_cP hR (c_Br_isOne l G (a 9) w) (eg_invF 0 d_Ma_step_56 cd_Br_isOne cx_Ma_78_Br rfl rfl (List.mem_of_getElem? (i := 9) rfl) rfl rfl) cd_Br_isOne (Nat.le_of_ble_eq_true rfl) (by decide) (by decide) (by decide) (by decide) rfl ?_
        refine ex_if_ne d_Ma_step_61 (fun h61 => ?_) (fun h61 => ?_)
        · skip
          have hone : brB w = true := by cases hb : (brB w : Bool); exact absurd (bI_0.mpr hb) h61; rfl
          refine ex_al d_Ma_step_69 rfl ?_
          refine ex_al d_Ma_step_70 rfl ?_
          refine ex_al d_Ma_step_71 rfl ?_
          refine ex_il d_Ma_step_72 rfl ?_
          refine ex_cF [0] hR (c_Br_on l G a M P R pc tr md (a 9) w hone) (eg_invF 0 d_Ma_step_73 cd_Br_on cx_Ma_82_Br rfl rfl (List.mem_of_getElem? (i := 9) rfl) rfl rfl) cd_Br_on rfl rfl (Nat.le_of_ble_eq_true rfl) (by decide) (by decide) (by decide) (by decide) rfl ?_
          refine mp_at 0 wl_Ma_75 d_Ma_step_78 rfl ?_
          have h0 : tstep P M R pc = (0, M, R, (if soB (wK w) (wX R w) (wY R w) = true then pc + wB w else pc + 4)) := by rw [hts, txo_99, if_neg (show ¬ (wK w = 2 ∨ wK w = 3) by have := hone; clear hG hR hts; grind [brB])]
          exact ex_vret [MA G a M P R (if soB (wK w) (wX R w) (wY R w) = true then pc + wB w else pc + 4) tr md] hG d_Ma_step_81 rfl (by decide) (by decide) (eg_sub.of rfl) (Or.inl ⟨by rw [h0], rfl, by rw [h0, r0_id hR0]⟩)
        · skip
          have h3 : tstep P M R pc = (3, M, R, pc) := by rw [hts, txo_99, if_pos (show wK w = 2 ∨ wK w = 3 by have := bI_0.mp h61; clear hG hR hts; grind [brB])]
          refine ex_al d_Ma_step_64 rfl ?_
          refine ex_k d_Ma_step_65 ?_
          refine ex_cT [0] hR (c_Ma_trap l G a M P R pc tr md 3) (eg_invV 0 d_Ma_step_66 cd_Ma_trap cx_Ma_56 rfl rfl List.mem_cons_self rfl rfl) cd_Ma_trap rfl rfl (Nat.le_of_ble_eq_true rfl) (by decide) (by decide) (by decide) (by decide) ?_
          exact ext_leave [MA G a M P R pc 3 md] hG (fun _ h => absurd h List.not_mem_nil) (by decide) (by decide) (eg_sub.of rfl) (Or.inr ⟨by rw [h3]; show ¬ (3 : Int32) = 0; decide, rfl, by rw [h3]⟩)
      by_cases e3 : w &&& 127 = 3
      · skip
        rw [e3] at hts
        refine ml_kind 0 d_Ma_step_48 rfl (ix_e (j := 3) (by decide) e3) ?_
        refine ex_eqT [.ref (a 10)] rfl ?_
        refine ex_as d_Ma_step_49 (Nat.le_of_ble_eq_true rfl) ?_
        refine ex_al d_Ma_step_50 rfl ?_
        refine ex_ifnull (r := some (a 10)) d_Ma_step_51 (fun h => nomatch h) (fun _ _ => ?_)
        refine ex_al d_Ma_step_54 rfl ?_
        refine ex_il d_Ma_step_55 rfl ?_
        refine ex_cP hR (c_Ld_isOne l G (a 10) w) (eg_invF 0 d_Ma_step_56 cd_Ld_isOne cx_Ma_78_Ld rfl rfl (List.mem_of_getElem? (i := 10) rfl) rfl rfl) cd_Ld_isOne (Nat.le_of_ble_eq_true rfl) (by decide) (by decide) (by decide) (by decide) rfl ?_
        refine ex_if_ne d_Ma_step_61 (fun h61 => ?_) (fun h61 => ?_)
        · skip
          have hone : loB w = true := by cases hb : (loB w : Bool); exact absurd (bI_0.mpr hb) h61; rfl
          refine ex_al d_Ma_step_69 rfl ?_
          refine ex_al d_Ma_step_70 rfl ?_
          refine ex_al d_Ma_step_71 rfl ?_
          refine ex_il d_Ma_step_72 rfl ?_
          refine ex_cCF [0] hR (c_Ld_on l G a M P R pc tr md (a 10) w hM hR0 hone) (eg_invF 0 d_Ma_step_73 cd_Ld_on cx_Ma_82_Ld rfl rfl (List.mem_of_getElem? (i := 10) rfl) rfl rfl) cd_Ld_on rfl rfl (Nat.le_of_ble_eq_true rfl) (by decide) (by decide) (by decide) (by decide) rfl (fun hc73 => ?_) (fun hc73 => ?_)
          rotate_left
          · skip
            have h3 : tstep P M R pc = (ftT (wK w) (wX R w + wI w), M, R, pc) := by rw [hts, txo_3, if_neg hc73, if_neg hc73]
            exact ext_leave [MA G a M P R pc (ftT (wK w) (wX R w + wI w)) md] hG (fun _ h => absurd h List.not_mem_nil) (by decide) (by decide) (eg_sub.of rfl) (Or.inr ⟨by rw [h3]; exact hc73, rfl, by rw [h3]⟩)
          refine mp_at 0 wl_Ma_75 d_Ma_step_78 rfl ?_
          have h0 : tstep P M R pc = (0, M, (upd R (wRd w) (ftV M (wK w) (wX R w + wI w))), (pc + 4)) := by rw [hts, txo_3, hc73, if_pos rfl, if_pos rfl]
          exact ex_vret [MA G a M P (r0 (upd R (wRd w) (ftV M (wK w) (wX R w + wI w)))) (pc + 4) tr md] hG d_Ma_step_81 rfl (by decide) (by decide) (eg_sub.of rfl) (Or.inl ⟨by rw [h0], rfl, by rw [h0]⟩)
        · skip
          have h3 : tstep P M R pc = (3, M, R, pc) := by rw [hts, txo_3, show ftT (wK w) (wX R w + wI w) = 3 from if_pos (show wK w = 3 ∨ 5 < wK w by have := bI_0.mp h61; clear hG hR hts; grind [loB])]; rfl
          refine ex_al d_Ma_step_64 rfl ?_
          refine ex_k d_Ma_step_65 ?_
          refine ex_cT [0] hR (c_Ma_trap l G a M P R pc tr md 3) (eg_invV 0 d_Ma_step_66 cd_Ma_trap cx_Ma_56 rfl rfl List.mem_cons_self rfl rfl) cd_Ma_trap rfl rfl (Nat.le_of_ble_eq_true rfl) (by decide) (by decide) (by decide) (by decide) ?_
          exact ext_leave [MA G a M P R pc 3 md] hG (fun _ h => absurd h List.not_mem_nil) (by decide) (by decide) (eg_sub.of rfl) (Or.inr ⟨by rw [h3]; show ¬ (3 : Int32) = 0; decide, rfl, by rw [h3]⟩)
      by_cases e35 : w &&& 127 = 35
      · skip
        rw [e35] at hts
        refine ml_kind 0 d_Ma_step_48 rfl (ix_e (j := 35) (by decide) e35) ?_
        refine ex_eqT [.ref (a 11)] rfl ?_
        refine ex_as d_Ma_step_49 (Nat.le_of_ble_eq_true rfl) ?_
        refine ex_al d_Ma_step_50 rfl ?_
        refine ex_ifnull (r := some (a 11)) d_Ma_step_51 (fun h => nomatch h) (fun _ _ => ?_)
        refine ex_al d_Ma_step_54 rfl ?_
        refine ex_il d_Ma_step_55 rfl ?_
        refine ex_cP hR (c_Sr_isOne l G (a 11) w) (eg_invF 0 d_Ma_step_56 cd_Sr_isOne cx_Ma_78_Sr rfl rfl (List.mem_of_getElem? (i := 11) rfl) rfl rfl) cd_Sr_isOne (Nat.le_of_ble_eq_true rfl) (by decide) (by decide) (by decide) (by decide) rfl ?_
        refine ex_if_ne d_Ma_step_61 (fun h61 => ?_) (fun h61 => ?_)
        · skip
          have hone : srB w = true := by cases hb : (srB w : Bool); exact absurd (bI_0.mpr hb) h61; rfl
          refine ex_al d_Ma_step_69 rfl ?_
          refine ex_al d_Ma_step_70 rfl ?_
          refine ex_al d_Ma_step_71 rfl ?_
          refine ex_il d_Ma_step_72 rfl ?_
          refine ex_cCF [0] hR (c_Sr_on l G a M P R pc tr md (a 11) w hone) (eg_invF 0 d_Ma_step_73 cd_Sr_on cx_Ma_82_Sr rfl rfl (List.mem_of_getElem? (i := 11) rfl) rfl rfl) cd_Sr_on rfl rfl (Nat.le_of_ble_eq_true rfl) (by decide) (by decide) (by decide) (by decide) rfl (fun hc73 => ?_) (fun hc73 => ?_)
          rotate_left
          · skip
            have h3 : tstep P M R pc = (stT P (wK w) (wX R w + wS w), M, R, pc) := by rw [hts, txo_35, if_neg hc73, if_neg hc73]
            exact ext_leave [MA G a M P R pc (stT P (wK w) (wX R w + wS w)) md] hG (fun _ h => absurd h List.not_mem_nil) (by decide) (by decide) (eg_sub.of rfl) (Or.inr ⟨by rw [h3]; exact hc73, rfl, by rw [h3]⟩)
          refine mp_at 0 wl_Ma_75 d_Ma_step_78 rfl ?_
          have h0 : tstep P M R pc = (0, (putB M (wX R w + wS w).toNatClampNeg (wY R w) (stN (wK w))), R, (pc + 4)) := by rw [hts, txo_35, hc73, if_pos rfl, if_pos rfl]
          exact ex_vret [MA G a (putB M (wX R w + wS w).toNatClampNeg (wY R w) (stN (wK w))) P R (pc + 4) tr md] hG d_Ma_step_81 rfl (by decide) (by decide) (eg_sub.of rfl) (Or.inl ⟨by rw [h0], rfl, by rw [h0, r0_id hR0]⟩)
        · skip
          have h3 : tstep P M R pc = (3, M, R, pc) := by rw [hts, txo_35, show stT P (wK w) (wX R w + wS w) = 3 from if_pos (show 2 < wK w by have := bI_0.mp h61; clear hG hR hts; grind [srB])]; rfl
          refine ex_al d_Ma_step_64 rfl ?_
          refine ex_k d_Ma_step_65 ?_
          refine ex_cT [0] hR (c_Ma_trap l G a M P R pc tr md 3) (eg_invV 0 d_Ma_step_66 cd_Ma_trap cx_Ma_56 rfl rfl List.mem_cons_self rfl rfl) cd_Ma_trap rfl rfl (Nat.le_of_ble_eq_true rfl) (by decide) (by decide) (by decide) (by decide) ?_
          exact ext_leave [MA G a M P R pc 3 md] hG (fun _ h => absurd h List.not_mem_nil) (by decide) (by decide) (eg_sub.of rfl) (Or.inr ⟨by rw [h3]; show ¬ (3 : Int32) = 0; decide, rfl, by rw [h3]⟩)
      by_cases e19 : w &&& 127 = 19
      · skip
        rw [e19] at hts
        refine ml_kind 0 d_Ma_step_48 rfl (ix_e (j := 19) (by decide) e19) ?_
        refine ex_eqT [.ref (a 12)] rfl ?_
        refine ex_as d_Ma_step_49 (Nat.le_of_ble_eq_true rfl) ?_
        refine ex_al d_Ma_step_50 rfl ?_
        refine ex_ifnull (r := some (a 12)) d_Ma_step_51 (fun h => nomatch h) (fun _ _ => ?_)
        refine ex_al d_Ma_step_54 rfl ?_
        refine ex_il d_Ma_step_55 rfl ?_
        refine ex_cF [0] hR (c_Rk_isOne l G a M P R pc tr md (a 12) w true (List.mem_of_getElem? (i := 12) rfl)) (eg_invF 0 d_Ma_step_56 cd_Rk_isOne cx_Ma_78_Rk rfl rfl (List.mem_of_getElem? (i := 12) rfl) rfl rfl) cd_Rk_isOne rfl rfl (Nat.le_of_ble_eq_true rfl) (by decide) (by decide) (by decide) (by decide) rfl ?_
        refine ex_if_ne d_Ma_step_61 (fun h61 => ?_) (fun h61 => ?_)
        · skip
          have hone : rkO true w = true := by cases hb : (rkO true w : Bool); exact absurd (bI_0.mpr hb) h61; rfl
          refine ex_al d_Ma_step_69 rfl ?_
          refine ex_al d_Ma_step_70 rfl ?_
          refine ex_al d_Ma_step_71 rfl ?_
          refine ex_il d_Ma_step_72 rfl ?_
          refine ex_cF [0] hR (c_Rk_on l G a M P R pc tr md (a 12) w true hR0 (List.mem_of_getElem? (i := 12) rfl) hone) (eg_invF 0 d_Ma_step_73 cd_Rk_on cx_Ma_82_Rk rfl rfl (List.mem_of_getElem? (i := 12) rfl) rfl rfl) cd_Rk_on rfl rfl (Nat.le_of_ble_eq_true rfl) (by decide) (by decide) (by decide) (by decide) rfl ?_
          refine mp_at 0 wl_Ma_75 d_Ma_step_78 rfl ?_
          have h0 : tstep P M R pc = (0, M, (upd R (wRd w) (rkV true R w)), (pc + 4)) := by rw [hts, txo_19, if_neg ((rkO_19 w).mp hone)]; rfl
          exact ex_vret [MA G a M P (r0 (upd R (wRd w) (rkV true R w))) (pc + 4) tr md] hG d_Ma_step_81 rfl (by decide) (by decide) (eg_sub.of rfl) (Or.inl ⟨by rw [h0], rfl, by rw [h0]⟩)
        · skip
          have h3 : tstep P M R pc = (3, M, R, pc) := by rw [hts, txo_19, if_pos (Classical.byContradiction fun z => absurd ((rkO_19 w).mpr z) (by rw [bI_0.mp h61]; decide))]
          refine ex_al d_Ma_step_64 rfl ?_
          refine ex_k d_Ma_step_65 ?_
          refine ex_cT [0] hR (c_Ma_trap l G a M P R pc tr md 3) (eg_invV 0 d_Ma_step_66 cd_Ma_trap cx_Ma_56 rfl rfl List.mem_cons_self rfl rfl) cd_Ma_trap rfl rfl (Nat.le_of_ble_eq_true rfl) (by decide) (by decide) (by decide) (by decide) ?_
          exact ext_leave [MA G a M P R pc 3 md] hG (fun _ h => absurd h List.not_mem_nil) (by decide) (by decide) (eg_sub.of rfl) (Or.inr ⟨by rw [h3]; show ¬ (3 : Int32) = 0; decide, rfl, by rw [h3]⟩)
      by_cases e51 : w &&& 127 = 51
      · skip
        rw [e51] at hts
        refine ml_kind 0 d_Ma_step_48 rfl (ix_e (j := 51) (by decide) e51) ?_
        refine ex_eqT [.ref (a 13)] rfl ?_
        refine ex_as d_Ma_step_49 (Nat.le_of_ble_eq_true rfl) ?_
        refine ex_al d_Ma_step_50 rfl ?_
        refine ex_ifnull (r := some (a 13)) d_Ma_step_51 (fun h => nomatch h) (fun _ _ => ?_)
        refine ex_al d_Ma_step_54 rfl ?_
        refine ex_il d_Ma_step_55 rfl ?_
        refine ex_cF [0] hR (c_Rk_isOne l G a M P R pc tr md (a 13) w false (List.mem_of_getElem? (i := 13) rfl)) (eg_invF 0 d_Ma_step_56 cd_Rk_isOne cx_Ma_78_Rk rfl rfl (List.mem_of_getElem? (i := 13) rfl) rfl rfl) cd_Rk_isOne rfl rfl (Nat.le_of_ble_eq_true rfl) (by decide) (by decide) (by decide) (by decide) rfl ?_
        refine ex_if_ne d_Ma_step_61 (fun h61 => ?_) (fun h61 => ?_)
        · skip
          have hone : rkO false w = true := by cases hb : (rkO false w : Bool); exact absurd (bI_0.mpr hb) h61; rfl
          refine ex_al d_Ma_step_69 rfl ?_
          refine ex_al d_Ma_step_70 rfl ?_
          refine ex_al d_Ma_step_71 rfl ?_
          refine ex_il d_Ma_step_72 rfl ?_
          refine ex_cF [0] hR (c_Rk_on l G a M P R pc tr md (a 13) w false hR0 (List.mem_of_getElem? (i := 13) rfl) hone) (eg_invF 0 d_Ma_step_73 cd_Rk_on cx_Ma_82_Rk rfl rfl (List.mem_of_getElem? (i := 13) rfl) rfl rfl) cd_Rk_on rfl rfl (Nat.le_of_ble_eq_true rfl) (by decide) (by decide) (by decide) (by decide) rfl ?_
          refine mp_at 0 wl_Ma_75 d_Ma_step_78 rfl ?_
          have h0 : tstep P M R pc = (0, M, (upd R (wRd w) (rkV false R w)), (pc + 4)) := by rw [hts, txo_51, if_neg ((rkO_51 w).mp hone)]; rfl
          exact ex_vret [MA G a M P (r0 (upd R (wRd w) (rkV false R w))) (pc + 4) tr md] hG d_Ma_step_81 rfl (by decide) (by decide) (eg_sub.of rfl) (Or.inl ⟨by rw [h0], rfl, by rw [h0]⟩)
        · skip
          have h3 : tstep P M R pc = (3, M, R, pc) := by rw [hts, txo_51, if_pos (Classical.byContradiction fun z => absurd ((rkO_51 w).mpr z) (by rw [bI_0.mp h61]; decide))]
          refine ex_al d_Ma_step_64 rfl ?_
          refine ex_k d_Ma_step_65 ?_
          refine ex_cT [0] hR (c_Ma_trap l G a M P R pc tr md 3) (eg_invV 0 d_Ma_step_66 cd_Ma_trap cx_Ma_56 rfl rfl List.mem_cons_self rfl rfl) cd_Ma_trap rfl rfl (Nat.le_of_ble_eq_true rfl) (by decide) (by decide) (by decide) (by decide) ?_
          exact ext_leave [MA G a M P R pc 3 md] hG (fun _ h => absurd h List.not_mem_nil) (by decide) (by decide) (eg_sub.of rfl) (Or.inr ⟨by rw [h3]; show ¬ (3 : Int32) = 0; decide, rfl, by rw [h3]⟩)
      obtain ⟨j0, hj0, ej0⟩ := pk_andE w (m := 127) 7 (by decide)
      refine ml_kind 0 d_Ma_step_48 rfl (ix_e (j := j0) hj0 ej0) ?_
      rw [kf_no (fun z => e55 (by rw [ej0, z]; rfl)) (fun z => e23 (by rw [ej0, z]; rfl)) (fun z => e111 (by rw [ej0, z]; rfl)) (fun z => e103 (by rw [ej0, z]; rfl)) (fun z => e99 (by rw [ej0, z]; rfl)) (fun z => e3 (by rw [ej0, z]; rfl)) (fun z => e35 (by rw [ej0, z]; rfl)) (fun z => e19 (by rw [ej0, z]; rfl)) (fun z => e51 (by rw [ej0, z]; rfl))]
      refine ex_eqT [.null] rfl ?_
      refine ex_asN d_Ma_step_49 (Nat.le_of_ble_eq_true rfl) ?_
      refine ex_alN d_Ma_step_50 rfl ?_
      refine ex_ifnull (r := none) d_Ma_step_51 (fun _ => ?_) (fun _ h => nomatch h)
      have h3 : tstep P M R pc = (3, M, R, pc) := by rw [hts]; exact txo_d _ _ _ _ _ e55 e23 e111 e103 e99 e3 e35 e19 e51
      refine ex_al d_Ma_step_64 rfl ?_
      refine ex_k d_Ma_step_65 ?_
      refine ex_cT [0] hR (c_Ma_trap l G a M P R pc tr md 3) (eg_invV 0 d_Ma_step_66 cd_Ma_trap cx_Ma_56 rfl rfl List.mem_cons_self rfl rfl) cd_Ma_trap rfl rfl (Nat.le_of_ble_eq_true rfl) (by decide) (by decide) (by decide) (by decide) ?_
      exact ext_leave [MA G a M P R pc 3 md] hG (fun _ h => absurd h List.not_mem_nil) (by decide) (by decide) (eg_sub.of rfl) (Or.inr ⟨by rw [h3]; show ¬ (3 : Int32) = 0; decide, rfl, by rw [h3]⟩)
      
    · skip
      have h3 := tst2 (P := P) (M := M) (R := R) h6 (bI_0.mp h22)
      refine ex_al d_Ma_step_25 rfl ?_
      refine ex_k d_Ma_step_26 ?_
      refine ex_cT [0] hR (c_Ma_trap l G a M P R pc tr md 2) (eg_invV 0 d_Ma_step_27 cd_Ma_trap cx_Ma_56 rfl rfl List.mem_cons_self rfl rfl) cd_Ma_trap rfl rfl (Nat.le_of_ble_eq_true rfl) (by decide) (by decide) (by decide) (by decide) ?_
      exact ext_leave [MA G a M P R pc 2 md] hG (fun _ h => absurd h List.not_mem_nil) (by decide) (by decide) (eg_sub.of rfl) (Or.inr ⟨by rw [h3]; show ¬ (2 : Int32) = 0; decide, rfl, by rw [h3]⟩)
  · skip
    have h6 : ¬ pc &&& 3 = 0 := h6
    have h3 := tst1 (P := P) (M := M) (R := R) h6
    refine ex_al d_Ma_step_9 rfl ?_
    refine ex_k d_Ma_step_10 ?_
    refine ex_cT [0] hR (c_Ma_trap l G a M P R pc tr md 1) (eg_invV 0 d_Ma_step_11 cd_Ma_trap cx_Ma_56 rfl rfl List.mem_cons_self rfl rfl) cd_Ma_trap rfl rfl (Nat.le_of_ble_eq_true rfl) (by decide) (by decide) (by decide) (by decide) ?_
    exact ext_leave [MA G a M P R pc 1 md] hG (fun _ h => absurd h List.not_mem_nil) (by decide) (by decide) (eg_sub.of rfl) (Or.inr ⟨by rw [h3]; show ¬ (1 : Int32) = 0; decide, rfl, by rw [h3]⟩)
