/-! THE MACHINE, 5: runs; a new machine -/
theorem putB_by {M : Nat → Int32} {ad : Nat} {v : Int32} (hM : ∀ i, M i &&& 255 = M i) : ∀ n i, putB M ad v n i &&& 255 = putB M ad v n i
  | 0, i => hM i
  | n + 1, i => by
    rw [putB]
    by_cases h : i = ad + n
    · rw [h, pk_us, byK, Int32.and_assoc]; rfl
    · rw [pk_un h]; exact putB_by hM n i
theorem txo_sh (op : Int32) (P : Int32 → Bool) (M R : Nat → Int32) (pc w : Int32) : (¬ (txo op P M R pc w).1 = 0 → txo op P M R pc w = ((txo op P M R pc w).1, M, R, pc)) ∧ ((∀ i, M i &&& 255 = M i) → ∀ i, (txo op P M R pc w).2.1 i &&& 255 = (txo op P M R pc w).2.1 i) := by
  by_cases h55 : op = 55
  · subst h55; exact ⟨fun h => absurd rfl h, fun h => h⟩
  by_cases h23 : op = 23
  · subst h23; exact ⟨fun h => absurd rfl h, fun h => h⟩
  by_cases h111 : op = 111
  · subst h111; exact ⟨fun h => absurd rfl h, fun h => h⟩
  by_cases h103 : op = 103
  · subst h103
    rw [txo_103]
    by_cases z : wK w = 0
    · rw [if_pos z]; exact ⟨fun h => absurd rfl h, fun h => h⟩
    · rw [if_neg z]; exact ⟨fun _ => rfl, fun h => h⟩
  by_cases h99 : op = 99
  · subst h99
    rw [txo_99]
    by_cases z : wK w = 2 ∨ wK w = 3
    · rw [if_pos z]; exact ⟨fun _ => rfl, fun h => h⟩
    · rw [if_neg z]; exact ⟨fun h => absurd rfl h, fun h => h⟩
  by_cases h3 : op = 3
  · subst h3
    rw [txo_3]
    by_cases z : ftT (wK w) (wX R w + wI w) = 0
    · rw [z, if_pos rfl, if_pos rfl]; exact ⟨fun h => absurd rfl h, fun h => h⟩
    · rw [if_neg z, if_neg z]; exact ⟨fun _ => rfl, fun h => h⟩
  by_cases h35 : op = 35
  · subst h35
    rw [txo_35]
    by_cases z : stT P (wK w) (wX R w + wS w) = 0
    · rw [z, if_pos rfl, if_pos rfl]; exact ⟨fun h => absurd rfl h, fun h => putB_by h _⟩
    · rw [if_neg z, if_neg z]; exact ⟨fun _ => rfl, fun h => h⟩
  by_cases h19 : op = 19
  · subst h19
    rw [txo_19]
    by_cases z : (wK w = 1 ∧ ¬ wT w = 0) ∨ (wK w = 5 ∧ ¬ wT w = 0 ∧ ¬ wT w = 32)
    · rw [if_pos z]; exact ⟨fun _ => rfl, fun h => h⟩
    · rw [if_neg z]; exact ⟨fun h => absurd rfl h, fun h => h⟩
  by_cases h51 : op = 51
  · subst h51
    rw [txo_51]
    by_cases z : ¬ wT w = 0 ∧ (¬ wT w = 32 ∨ (¬ wK w = 0 ∧ ¬ wK w = 5))
    · rw [if_pos z]; exact ⟨fun _ => rfl, fun h => h⟩
    · rw [if_neg z]; exact ⟨fun h => absurd rfl h, fun h => h⟩
  rw [txo_d P M R pc w h55 h23 h111 h103 h99 h3 h35 h19 h51]
  exact ⟨fun _ => rfl, fun h => h⟩
theorem tstep_sh (P : Int32 → Bool) (M R : Nat → Int32) (pc : Int32) : (¬ (tstep P M R pc).1 = 0 → tstep P M R pc = ((tstep P M R pc).1, M, R, pc)) ∧ ((∀ i, M i &&& 255 = M i) → ∀ i, (tstep P M R pc).2.1 i &&& 255 = (tstep P M R pc).2.1 i) := by
  by_cases h : ¬ pc - pc / 4 * 4 = 0
  · rw [show tstep P M R pc = (1, M, R, pc) from if_pos h]; exact ⟨fun _ => rfl, fun h => h⟩
  · by_cases h2 : pc < 0 ∨ 4096 ≤ pc
    · rw [show tstep P M R pc = (2, M, R, pc) from by rw [tstep, if_neg h, if_pos h2]]; exact ⟨fun _ => rfl, fun h => h⟩
    · rw [show tstep P M R pc = txo _ P M R pc _ from by rw [tstep, if_neg h, if_neg h2]]
      exact txo_sh _ _ _ _ _ _
theorem mrun_sh (P : Int32 → Bool) : ∀ (n k : Nat) (M R : Nat → Int32) (pc : Int32), (∀ i, M i &&& 255 = M i) → R 0 = 0 → (∀ i, (mrun P n k M R pc).2.2.2.1 i &&& 255 = (mrun P n k M R pc).2.2.2.1 i) ∧ (mrun P n k M R pc).2.2.2.2.1 0 = 0
  | 0, k, M, R, pc, hM, hR => by
    by_cases h : pc = -4
    · rw [mrun_home h]; exact ⟨hM, hR⟩
    · rw [mrun_empty h]; exact ⟨hM, hR⟩
  | n + 1, k, M, R, pc, hM, hR => by
    by_cases h : pc = -4
    · rw [mrun_home h]; exact ⟨hM, hR⟩
    · by_cases h0 : (tstep P M R pc).1 = 0
      · rw [mrun_go h h0]
        exact mrun_sh P n _ _ _ _ ((tstep_sh P M R pc).2 hM) rfl
      · rw [mrun_trap h h0]
        exact ⟨(tstep_sh P M R pc).2 hM, rfl⟩
set_option maxRecDepth 100000 in
theorem c_Ma_goesOn (l : Launch) (G : eg_G) (a : Nat → Nat) (M : Nat → Int32) (P : Int32 → Bool) (R : Nat → Int32) (pc tr md : Int32) (hM : ∀ i, M i &&& 255 = M i) (hR0 : R 0 = 0) : Ct l G y_Ma_goesOn 11 3 18 [.ref (a 0)] [MA G a M P R pc tr md] (rF (some (.int (bI (decide ((tstep P M R pc).1 = 0))))) [if (tstep P M R pc).1 = 0 then MA G a (tstep P M R pc).2.1 P (r0 (tstep P M R pc).2.2.1) (tstep P M R pc).2.2.2 tr md else MA G a M P R pc (tstep P M R pc).1 md]) := by
  refine Ct.of cd_Ma_goesOn (eg_catb rfl) (Nat.le_of_ble_eq_true rfl) ?_
  intro Γ hG
  have hR := hG.rm
  show Ex G Γ mu_Ma_goesOn 0 [some (.ref (a 0)), none] [] [MA G a M P R pc tr md] 0 0
  refine ex_al d_Ma_goesOn_0 rfl ?_
  refine ex_cCV [0] hR (c_Ma_step l G a M P R pc tr md hM hR0) (eg_invV 0 d_Ma_goesOn_1 cd_Ma_step cx_Ma_86 rfl rfl List.mem_cons_self rfl rfl) cd_Ma_step rfl rfl (Nat.le_of_ble_eq_true rfl) (by decide) (by decide) (by decide) (by decide) rfl (fun hc1 => ?_) (fun hc1 => ?_)
  rotate_left
  · skip
    refine ext_catch ef_goesOn (fun x => ?_)
    refine ex_as d_Ma_goesOn_7 (Nat.le_of_ble_eq_true rfl) ?_
    refine ex_k d_Ma_goesOn_8 ?_
    exact ex_iret [MA G a M P R pc (tstep P M R pc).1 md] hG d_Ma_goesOn_9 rfl rfl (by decide) (by decide) (eg_sub.of rfl) ⟨by rw [decide_eq_false hc1]; rfl, by rw [if_neg hc1]⟩
  refine ex_goto d_Ma_goesOn_4 ?_
  refine ex_k d_Ma_goesOn_10 ?_
  exact ex_iret [MA G a (tstep P M R pc).2.1 P (r0 (tstep P M R pc).2.2.1) (tstep P M R pc).2.2.2 tr md] hG d_Ma_goesOn_11 rfl rfl (by decide) (by decide) (eg_sub.of rfl) ⟨by rw [decide_eq_true hc1]; rfl, by rw [if_pos hc1]⟩
set_option maxRecDepth 100000 in
set_option maxHeartbeats 4000000 in
theorem c_Ma_run (l : Launch) (G : eg_G) (a : Nat → Nat) (M : Nat → Int32) (P : Int32 → Bool) (R : Nat → Int32) (pc tr md : Int32) (s x y : Int32) (n : Nat) (hn : n ≤ 2000) (hM : ∀ i, M i &&& 255 = M i) : Ct l G y_Ma_run 12 6000 36000 [.ref (a 0), .int s, .int x, .int y, .int (nI n)] [MA G a M P R pc tr md] (rF (some (.int (mrun P n 0 M (rgS R x y) s).1)) [MA G a (mrun P n 0 M (rgS R x y) s).2.2.2.1 P (mrun P n 0 M (rgS R x y) s).2.2.2.2.1 (mrun P n 0 M (rgS R x y) s).2.2.2.2.2 (mrun P n 0 M (rgS R x y) s).2.1 (nI (mrun P n 0 M (rgS R x y) s).2.2.1)]) := by
  refine Ct.of cd_Ma_run (eg_catb rfl) (Nat.le_of_ble_eq_true rfl) ?_
  intro Γ hG
  have hR := hG.rm
  show Ex G Γ mu_Ma_run 0 [some (.ref (a 0)), some (.int s), some (.int x), some (.int y), some (.int (nI n)), none] [] [MA G a M P R pc tr md] 0 0
  refine ex_k d_Ma_run_0 ?_
  refine ex_is d_Ma_run_1 (Nat.le_of_ble_eq_true rfl) ?_
  have L1 : ∀ j, j ≤ 32 → Ex G Γ mu_Ma_run 3 [some (.ref (a 0)), some (.int s), some (.int x), some (.int y), some (.int (nI n)), some (.int (nI j))] [] [MA G a M P (rgZ R j) pc tr md] 0 0 := by
    refine eg_down 32 (fun j hj ih => ?_)
    refine ex_il d_Ma_run_3 rfl ?_
    refine ex_k d_Ma_run_5 ?_
    refine ex_icmp_ge d_Ma_run_7 (fun h7 => ?_) (fun h7 => ?_)
    · skip
      have h7 := le_n (a := 32) h7
      have hj4 : j = 32 := by omega
      subst hj4
      refine ex_al d_Ma_run_24 rfl ?_
      refine mg 0 fl_Ma_19 d_Ma_run_25 rfl rfl ?_
      refine ex_k d_Ma_run_28 ?_
      refine ex_k d_Ma_run_29 ?_
      refine ms_reg 0 d_Ma_run_31 rfl (ix_e (j := 1) (by decide)) ?_
      refine ex_al d_Ma_run_32 rfl ?_
      refine mg 0 fl_Ma_19 d_Ma_run_33 rfl rfl ?_
      refine ex_k d_Ma_run_36 ?_
      refine ex_k d_Ma_run_37 ?_
      refine ms_reg 0 d_Ma_run_40 rfl (ix_e (j := 2) (by decide)) ?_
      refine ex_al d_Ma_run_41 rfl ?_
      refine mg 0 fl_Ma_19 d_Ma_run_42 rfl rfl ?_
      refine ex_k d_Ma_run_45 ?_
      refine ex_il d_Ma_run_47 rfl ?_
      refine ms_reg 0 d_Ma_run_48 rfl (ix_e (j := 10) (by decide)) ?_
      refine ex_al d_Ma_run_49 rfl ?_
      refine mg 0 fl_Ma_19 d_Ma_run_50 rfl rfl ?_
      refine ex_k d_Ma_run_53 ?_
      refine ex_il d_Ma_run_55 rfl ?_
      refine ms_reg 0 d_Ma_run_56 rfl (ix_e (j := 11) (by decide)) ?_
      refine ex_al d_Ma_run_57 rfl ?_
      refine ex_il d_Ma_run_58 rfl ?_
      refine mp_at 0 wl_Ma_75 d_Ma_run_59 rfl ?_
      refine ex_al d_Ma_run_62 rfl ?_
      refine ex_k d_Ma_run_63 ?_
      refine mp_trap 0 wl_Ma_49 d_Ma_run_64 rfl ?_
      refine ex_al d_Ma_run_67 rfl ?_
      refine ex_k d_Ma_run_68 ?_
      refine mp_made 0 wl_Ma_89 d_Ma_run_69 rfl ?_
      have hrs0 : rgS R x y 0 = 0 := rfl
      obtain ⟨r, hrr⟩ : ∃ r, mrun P n 0 M (rgS R x y) s = r := ⟨_, rfl⟩
      rw [hrr] at hG
      have L2 : ∀ k, k ≤ n → ∀ (M R : Nat → Int32) (pc : Int32), (∀ i, M i &&& 255 = M i) → R 0 = 0 → mrun P (n - k) k M R pc = r → Ex G Γ mu_Ma_run 72 [some (.ref (a 0)), some (.int s), some (.int x), some (.int y), some (.int (nI n)), none] [] [MA G a M P R pc 0 (nI k)] (3 * k) (18 * k) := by
        refine eg_down n (fun k hk ih M R pc hM hR0 hr => ?_)
        refine ex_al d_Ma_run_72 rfl ?_
        refine mg 0 fl_Ma_75 d_Ma_run_73 rfl rfl ?_
        refine ex_k d_Ma_run_76 ?_
        refine ex_icmp_eq d_Ma_run_78 (fun h78 => ?_) (fun h78 => ?_)
        · skip
          have h78 : pc = -4 := h78
          rw [mrun_home h78] at hr
          refine ex_k d_Ma_run_113 ?_
          exact ex_iret [MA G a M P R pc 0 (nI k)] hG d_Ma_run_114 rfl rfl (by omega) (by omega) (eg_sub.of rfl) ⟨by rw [← hr], by rw [← hr]⟩
        · skip
          have h78 : ¬ pc = -4 := h78
          refine ex_al d_Ma_run_81 rfl ?_
          refine mg 0 fl_Ma_89 d_Ma_run_82 rfl rfl ?_
          refine ex_il d_Ma_run_85 rfl ?_
          refine ex_icmp_ne d_Ma_run_87 (fun h87 => ?_) (fun h87 => ?_)
          · skip
            have hlt : k < n := by
              have : ¬ k = n := fun z => h87 (by rw [z])
              omega
            refine ex_al d_Ma_run_93 rfl ?_
            refine ex_dup d_Ma_run_94 rfl ?_
            refine mg 0 fl_Ma_89 d_Ma_run_95 rfl rfl ?_
            refine ex_k d_Ma_run_98 ?_
            refine ex_iadd d_Ma_run_99 ?_
            rw [nI_1]
            refine mp_made 0 wl_Ma_89 d_Ma_run_100 rfl ?_
            refine ex_al d_Ma_run_103 rfl ?_
            refine ex_cF [0] hR (c_Ma_goesOn l G a M P R pc 0 (nI (k + 1)) hM hR0) (eg_invV 0 d_Ma_run_104 cd_Ma_goesOn cx_Ma_92 rfl rfl List.mem_cons_self rfl rfl) cd_Ma_goesOn rfl rfl (Nat.le_of_ble_eq_true rfl) (by decide) (by decide) (by omega) (by omega) rfl ?_
            refine ex_if_ne d_Ma_run_107 (fun h107 => ?_) (fun h107 => ?_)
            · skip
              have h107 : (tstep P M R pc).1 = 0 := by simpa using fun y => h107 (bI_0.mpr (decide_eq_false y))
              refine ex_eqS [MA G a (tstep P M R pc).2.1 P (r0 (tstep P M R pc).2.2.1) (tstep P M R pc).2.2.2 0 (nI (k + 1))] (by show [if _ then _ else _] = _; rw [if_pos h107]) ?_
              exact ih hlt _ _ _ ((tstep_sh P M R pc).2 hM) rfl (by rw [← hr, show n - k = (n - (k + 1)) + 1 by omega, mrun_go h78 h107])
            · skip
              have h107 : ¬ (tstep P M R pc).1 = 0 := by simpa using bI_0.mp h107
              rw [show n - k = (n - (k + 1)) + 1 by omega, mrun_trap h78 h107] at hr
              have hsh := (tstep_sh P M R pc).1 h107
              refine ex_eqS [MA G a M P R pc (tstep P M R pc).1 (nI (k + 1))] (by show [if _ then _ else _] = _; rw [if_neg h107]) ?_
              have e1 : (tstep P M R pc).2.1 = M := by rw [hsh]
              have e2 : (tstep P M R pc).2.2.1 = R := by rw [hsh]
              have e3 : (tstep P M R pc).2.2.2 = pc := by rw [hsh]
              rw [e1, e2, e3, r0_id hR0] at hr
              refine ex_k d_Ma_run_110 ?_
              exact ex_iret [MA G a M P R pc (tstep P M R pc).1 (nI (k + 1))] hG d_Ma_run_112 rfl rfl (by omega) (by omega) (eg_sub.of rfl) ⟨by rw [← hr], by rw [← hr]⟩
          · skip
            have h87 : k = n := (nI_eq (by omega) (by omega)).mp h87
            subst h87
            rw [Nat.sub_self, mrun_empty h78] at hr
            refine ex_k d_Ma_run_90 ?_
            exact ex_iret [MA G a M P R pc 0 (nI k)] hG d_Ma_run_92 rfl rfl (by omega) (by omega) (eg_sub.of rfl) ⟨by rw [← hr], by rw [← hr]⟩
      refine ex_forget [true, true, true, true, true, false] ?_
      exact L2 0 (Nat.zero_le _) M (rgS R x y) s hM rfl (by rw [Nat.sub_zero]; exact hrr)
    · skip
      have hlt := lt_n (a := 32) h7
      refine ex_al d_Ma_run_10 rfl ?_
      refine mg 0 fl_Ma_19 d_Ma_run_11 rfl rfl ?_
      refine ex_il d_Ma_run_14 rfl ?_
      refine ex_k d_Ma_run_16 ?_
      refine ms_reg 0 d_Ma_run_17 rfl (ix_e hlt) ?_
      refine ex_eqS [MA G a M P (rgZ R (j + 1)) pc tr md] (by rw [← rgZ_s]; rfl) ?_
      refine ex_inc d_Ma_run_18 rfl ?_
      refine ex_goto d_Ma_run_21 ?_
      exact ih hlt
  exact ex_eqS [MA G a M P (rgZ R 0) pc tr md] (by rw [rgZ_0]) (L1 0 (Nat.zero_le _))
set_option maxRecDepth 100000 in
theorem c_Rc_init (l : Launch) (G : eg_G) (h : Nat) : Ct l G y_Rc_init 2 0 0 [.ref h] [] (rF none []) := by
  refine Ct.of cd_Rc_init (eg_catb rfl) (Nat.le_of_ble_eq_true rfl) ?_
  intro Γ hG
  have hR := hG.rm
  show Ex G Γ mu_Rc_init 0 [some (.ref h)] [] [] 0 0
  refine ex_al d_Rc_init_0 rfl ?_
  refine ex_oinit hR d_Rc_init_1 ol_Rc_1 oi_inst oi_code (Nat.le_of_ble_eq_true rfl) ?_
  exact ex_vret [] hG d_Rc_init_4 rfl (by decide) (by decide) (eg_sub.of rfl) ⟨rfl, rfl⟩
set_option maxRecDepth 100000 in
theorem c_Up_init (l : Launch) (G : eg_G) (h : Nat) (b : Bool) : Ct l G y_Up_init 3 0 0 [.ref h, .int (bI b)] [[(h, .inr (2, [.int 0]))]] (rF none [[(h, .inr (2, [.int (bI b)]))]]) := by
  refine Ct.of cd_Up_init (eg_catb rfl) (Nat.le_of_ble_eq_true rfl) ?_
  intro Γ hG
  have hR := hG.rm
  show Ex G Γ mu_Up_init 0 [some (.ref h), some (.int (bI b))] [] [[(h, .inr (2, [.int 0]))]] 0 0
  refine ex_al d_Up_init_0 rfl ?_
  refine ex_cV [] hR (c_Rc_init l G h) (eg_invI d_Up_init_1 cd_Rc_init rfl rfl tw_118 cx_Up_1 rfl rfl) cd_Rc_init rfl rfl (Nat.le_of_ble_eq_true rfl) (by decide) (by decide) (by decide) (by decide) rfl ?_
  refine ex_al d_Up_init_4 rfl ?_
  refine ex_il d_Up_init_5 rfl ?_
  refine ex_put1 0 wl_Up_7 d_Up_init_6 rfl (bI_n _) (bI_f _) (Nat.le_of_ble_eq_true rfl) ?_
  exact ex_vret [[(h, .inr (2, [.int (bI b)]))]] hG d_Up_init_9 rfl (by decide) (by decide) (eg_sub.of rfl) ⟨rfl, rfl⟩
set_option maxRecDepth 100000 in
theorem c_Ju_init (l : Launch) (G : eg_G) (h : Nat) (b : Bool) : Ct l G y_Ju_init 3 0 0 [.ref h, .int (bI b)] [[(h, .inr (3, [.int 0]))]] (rF none [[(h, .inr (3, [.int (bI b)]))]]) := by
  refine Ct.of cd_Ju_init (eg_catb rfl) (Nat.le_of_ble_eq_true rfl) ?_
  intro Γ hG
  have hR := hG.rm
  show Ex G Γ mu_Ju_init 0 [some (.ref h), some (.int (bI b))] [] [[(h, .inr (3, [.int 0]))]] 0 0
  refine ex_al d_Ju_init_0 rfl ?_
  refine ex_cV [] hR (c_Rc_init l G h) (eg_invI d_Ju_init_1 cd_Rc_init rfl rfl tw_118 cx_Ju_1 rfl rfl) cd_Rc_init rfl rfl (Nat.le_of_ble_eq_true rfl) (by decide) (by decide) (by decide) (by decide) rfl ?_
  refine ex_al d_Ju_init_4 rfl ?_
  refine ex_il d_Ju_init_5 rfl ?_
  refine ex_put1 0 wl_Ju_7 d_Ju_init_6 rfl (bI_n _) (bI_f _) (Nat.le_of_ble_eq_true rfl) ?_
  exact ex_vret [[(h, .inr (3, [.int (bI b)]))]] hG d_Ju_init_9 rfl (by decide) (by decide) (eg_sub.of rfl) ⟨rfl, rfl⟩
set_option maxRecDepth 100000 in
theorem c_Rk_init (l : Launch) (G : eg_G) (h : Nat) (b : Bool) : Ct l G y_Rk_init 3 0 0 [.ref h, .int (bI b)] [[(h, .inr (7, [.int 0]))]] (rF none [[(h, .inr (7, [.int (bI b)]))]]) := by
  refine Ct.of cd_Rk_init (eg_catb rfl) (Nat.le_of_ble_eq_true rfl) ?_
  intro Γ hG
  have hR := hG.rm
  show Ex G Γ mu_Rk_init 0 [some (.ref h), some (.int (bI b))] [] [[(h, .inr (7, [.int 0]))]] 0 0
  refine ex_al d_Rk_init_0 rfl ?_
  refine ex_cV [] hR (c_Rc_init l G h) (eg_invI d_Rk_init_1 cd_Rc_init rfl rfl tw_118 cx_Rk_1 rfl rfl) cd_Rc_init rfl rfl (Nat.le_of_ble_eq_true rfl) (by decide) (by decide) (by decide) (by decide) rfl ?_
  refine ex_al d_Rk_init_4 rfl ?_
  refine ex_il d_Rk_init_5 rfl ?_
  refine ex_put1 0 wl_Rk_7 d_Rk_init_6 rfl (bI_n _) (bI_f _) (Nat.le_of_ble_eq_true rfl) ?_
  exact ex_vret [[(h, .inr (7, [.int (bI b)]))]] hG d_Rk_init_9 rfl (by decide) (by decide) (eg_sub.of rfl) ⟨rfl, rfl⟩
set_option maxRecDepth 100000 in
theorem c_Br_init (l : Launch) (G : eg_G) (h : Nat) : Ct l G y_Br_init 3 0 0 [.ref h] [] (rF none []) := by
  refine Ct.of cd_Br_init (eg_catb rfl) (Nat.le_of_ble_eq_true rfl) ?_
  intro Γ hG
  have hR := hG.rm
  show Ex G Γ mu_Br_init 0 [some (.ref h)] [] [] 0 0
  refine ex_al d_Br_init_0 rfl ?_
  refine ex_cV [] hR (c_Rc_init l G h) (eg_invI d_Br_init_1 cd_Rc_init rfl rfl tw_118 cx_Br_1 rfl rfl) cd_Rc_init rfl rfl (Nat.le_of_ble_eq_true rfl) (by decide) (by decide) (by decide) (by decide) rfl ?_
  exact ex_vret [] hG d_Br_init_4 rfl (by decide) (by decide) (eg_sub.of rfl) ⟨rfl, rfl⟩
set_option maxRecDepth 100000 in
theorem c_Ld_init (l : Launch) (G : eg_G) (h : Nat) : Ct l G y_Ld_init 3 0 0 [.ref h] [] (rF none []) := by
  refine Ct.of cd_Ld_init (eg_catb rfl) (Nat.le_of_ble_eq_true rfl) ?_
  intro Γ hG
  have hR := hG.rm
  show Ex G Γ mu_Ld_init 0 [some (.ref h)] [] [] 0 0
  refine ex_al d_Ld_init_0 rfl ?_
  refine ex_cV [] hR (c_Rc_init l G h) (eg_invI d_Ld_init_1 cd_Rc_init rfl rfl tw_118 cx_Ld_1 rfl rfl) cd_Rc_init rfl rfl (Nat.le_of_ble_eq_true rfl) (by decide) (by decide) (by decide) (by decide) rfl ?_
  exact ex_vret [] hG d_Ld_init_4 rfl (by decide) (by decide) (eg_sub.of rfl) ⟨rfl, rfl⟩
set_option maxRecDepth 100000 in
theorem c_Sr_init (l : Launch) (G : eg_G) (h : Nat) : Ct l G y_Sr_init 3 0 0 [.ref h] [] (rF none []) := by
  refine Ct.of cd_Sr_init (eg_catb rfl) (Nat.le_of_ble_eq_true rfl) ?_
  intro Γ hG
  have hR := hG.rm
  show Ex G Γ mu_Sr_init 0 [some (.ref h)] [] [] 0 0
  refine ex_al d_Sr_init_0 rfl ?_
  refine ex_cV [] hR (c_Rc_init l G h) (eg_invI d_Sr_init_1 cd_Rc_init rfl rfl tw_118 cx_Sr_1 rfl rfl) cd_Rc_init rfl rfl (Nat.le_of_ble_eq_true rfl) (by decide) (by decide) (by decide) (by decide) rfl ?_
  exact ex_vret [] hG d_Sr_init_4 rfl (by decide) (by decide) (eg_sub.of rfl) ⟨rfl, rfl⟩
theorem bt0 : bt (fun _ => 0) = fun _ => 0 := funext fun _ => by show (0 : Int32).toInt8.toInt32 = 0; decide
theorem sP0 : sP (fun _ => false) = fun _ => 0 := funext fun i => by unfold sP; split <;> rfl
theorem kf_e (a : Nat → Nat) : va_up (va_up (va_up (va_up (va_up (va_up (va_up (va_up (va_up (fun _ => none) 55 (some (a 5))) 23 (some (a 6))) 111 (some (a 7))) 103 (some (a 8))) 99 (some (a 9))) 3 (some (a 10))) 35 (some (a 11))) 19 (some (a 12))) 51 (some (a 13)) = kf a := by
  funext i
  unfold kf va_up
  grind
theorem ca_Up : Cond.castable "ModuleLoader$Upper" "ModuleLoader$Does" ∈ eg_ws := by decide +kernel
theorem ca_Ju : Cond.castable "ModuleLoader$Jump" "ModuleLoader$Does" ∈ eg_ws := by decide +kernel
theorem ca_Br : Cond.castable "ModuleLoader$Branch" "ModuleLoader$Does" ∈ eg_ws := by decide +kernel
theorem ca_Ld : Cond.castable "ModuleLoader$Load" "ModuleLoader$Does" ∈ eg_ws := by decide +kernel
theorem ca_Sr : Cond.castable "ModuleLoader$Store" "ModuleLoader$Does" ∈ eg_ws := by decide +kernel
theorem ca_Rk : Cond.castable "ModuleLoader$Reckon" "ModuleLoader$Does" ∈ eg_ws := by decide +kernel
set_option maxRecDepth 100000 in
set_option maxHeartbeats 4000000 in
theorem c_Ma_init (l : Launch) (G : eg_G) (h : Nat) : Ct l G y_Ma_init 4 13 8400 [.ref h] [[(h, .inr (1, [.null, .null, .null, .null, .int 0, .int 0, .int 0]))]] (fun o S2 => o = .inl none ∧ ∃ a : Nat → Nat, a 0 = h ∧ S2 = [MA G a (fun _ => 0) (fun _ => false) (fun _ => 0) 0 0 0]) := by
  refine Ct.of cd_Ma_init (eg_catb rfl) (Nat.le_of_ble_eq_true rfl) ?_
  intro Γ hG
  have hR := hG.rm
  show Ex G Γ mu_Ma_init 0 [some (.ref h)] [] [[(h, .inr (1, [.null, .null, .null, .null, .int 0, .int 0, .int 0]))]] 0 0
  refine ex_al d_Ma_init_0 rfl ?_
  refine ex_oinit hR d_Ma_init_1 ol_Ma_3 oi_inst oi_code (Nat.le_of_ble_eq_true rfl) ?_
  refine ex_al d_Ma_init_4 rfl ?_
  refine ex_k d_Ma_init_5 ?_
  refine ex_newa (N := 4096) (t := 0) (a0 := (4096, .inl (fun _ => 0))) hR d_Ma_init_8 rfl ac_byte rfl (fun _ => rfl) (by decide) (by decide) (by decide) (by decide) (by decide) (fun q1 => ?_)
  refine ex_put1 0 wl_Ma_9 d_Ma_init_10 rfl rfl rfl (Nat.le_of_ble_eq_true rfl) ?_
  refine ex_eqS [[(h, .inr (1, [.ref q1, .null, .null, .null, .int 0, .int 0, .int 0]))], [(q1, .inl (eg_c G 0, 4096, .inl (fun _ => 0)))]] rfl ?_
  refine ex_al d_Ma_init_13 rfl ?_
  refine ex_k d_Ma_init_14 ?_
  refine ex_newa (N := 4096) (t := 1) (a0 := (4096, .inl (fun _ => 0))) hR d_Ma_init_17 rfl ac_boolean rfl (fun _ => rfl) (by decide) (by decide) (by decide) (by decide) (by decide) (fun q2 => ?_)
  refine ex_put1 0 wl_Ma_15 d_Ma_init_19 rfl rfl rfl (Nat.le_of_ble_eq_true rfl) ?_
  refine ex_eqS [[(h, .inr (1, [.ref q1, .ref q2, .null, .null, .int 0, .int 0, .int 0]))], [(q1, .inl (eg_c G 0, 4096, .inl (fun _ => 0)))], [(q2, .inl (eg_c G 1, 4096, .inl (fun _ => 0)))]] rfl ?_
  refine ex_al d_Ma_init_22 rfl ?_
  refine ex_k d_Ma_init_23 ?_
  refine ex_newa (N := 32) (t := 2) (a0 := (32, .inl (fun _ => 0))) hR d_Ma_init_25 rfl ac_int rfl (fun _ => rfl) (by decide) (by decide) (by decide) (by decide) (by decide) (fun q3 => ?_)
  refine ex_put1 0 wl_Ma_19 d_Ma_init_27 rfl rfl rfl (Nat.le_of_ble_eq_true rfl) ?_
  refine ex_eqS [[(h, .inr (1, [.ref q1, .ref q2, .ref q3, .null, .int 0, .int 0, .int 0]))], [(q1, .inl (eg_c G 0, 4096, .inl (fun _ => 0)))], [(q2, .inl (eg_c G 1, 4096, .inl (fun _ => 0)))], [(q3, .inl (eg_c G 2, 32, .inl (fun _ => 0)))]] rfl ?_
  refine ex_al d_Ma_init_30 rfl ?_
  refine ex_k d_Ma_init_31 ?_
  refine ex_newq (N := 128) (t := 4) hR d_Ma_init_34 kl_Ma_23 ao_4 rfl (by decide) (by decide) (by decide) (by decide) (by decide) (fun q4 => ?_)
  refine ex_put1 0 wl_Ma_25 d_Ma_init_37 rfl rfl rfl (Nat.le_of_ble_eq_true rfl) ?_
  refine ex_eqS [[(h, .inr (1, [.ref q1, .ref q2, .ref q3, .ref q4, .int 0, .int 0, .int 0]))], [(q1, .inl (eg_c G 0, 4096, .inl (fun _ => 0)))], [(q2, .inl (eg_c G 1, 4096, .inl (fun _ => 0)))], [(q3, .inl (eg_c G 2, 32, .inl (fun _ => 0)))], [(q4, .inl (eg_c G 4, 128, .inr (.inr (.inr (.inr (fun _ => none))))))]] rfl ?_
  refine ex_al d_Ma_init_40 rfl ?_
  refine ex_get1 0 fl_Ma_25 d_Ma_init_41 rfl rfl ?_
  refine ex_k d_Ma_init_44 ?_
  refine ex_new hR nw_Ma_29 d_Ma_init_46 (by decide) (by decide) (fun q5 => ?_)
  refine ex_dup d_Ma_init_49 rfl ?_
  refine ex_k d_Ma_init_50 ?_
  refine ex_eqT (.int (bI false) :: _) rfl ?_
  refine ex_cV [5] hR (c_Up_init l G q5 false) (eg_invI d_Ma_init_51 cd_Up_init rfl rfl tw_115 cx_Ma_31 rfl rfl) cd_Up_init rfl rfl (Nat.le_of_ble_eq_true rfl) (by decide) (by decide) (by decide) (by decide) rfl ?_
  refine ex_ast4 4 5 d_Ma_init_54 rfl (ix_e (j := 55) (by decide)) rfl List.mem_cons_self rfl (Or.inr ca_Up) ?_
  refine ex_eqS [[(h, .inr (1, [.ref q1, .ref q2, .ref q3, .ref q4, .int 0, .int 0, .int 0]))], [(q1, .inl (eg_c G 0, 4096, .inl (fun _ => 0)))], [(q2, .inl (eg_c G 1, 4096, .inl (fun _ => 0)))], [(q3, .inl (eg_c G 2, 32, .inl (fun _ => 0)))], [(q4, .inl (eg_c G 4, 128, .inr (.inr (.inr (.inr (va_up (fun _ => none) 55 (some q5)))))))], [(q5, .inr (2, [.int (bI false)]))]] rfl ?_
  refine ex_al d_Ma_init_55 rfl ?_
  refine ex_get1 0 fl_Ma_25 d_Ma_init_56 rfl rfl ?_
  refine ex_k d_Ma_init_59 ?_
  refine ex_new hR nw_Ma_29 d_Ma_init_61 (by decide) (by decide) (fun q6 => ?_)
  refine ex_dup d_Ma_init_64 rfl ?_
  refine ex_k d_Ma_init_65 ?_
  refine ex_eqT (.int (bI true) :: _) rfl ?_
  refine ex_cV [6] hR (c_Up_init l G q6 true) (eg_invI d_Ma_init_66 cd_Up_init rfl rfl tw_115 cx_Ma_31 rfl rfl) cd_Up_init rfl rfl (Nat.le_of_ble_eq_true rfl) (by decide) (by decide) (by decide) (by decide) rfl ?_
  refine ex_ast4 4 6 d_Ma_init_69 rfl (ix_e (j := 23) (by decide)) rfl List.mem_cons_self rfl (Or.inr ca_Up) ?_
  refine ex_eqS [[(h, .inr (1, [.ref q1, .ref q2, .ref q3, .ref q4, .int 0, .int 0, .int 0]))], [(q1, .inl (eg_c G 0, 4096, .inl (fun _ => 0)))], [(q2, .inl (eg_c G 1, 4096, .inl (fun _ => 0)))], [(q3, .inl (eg_c G 2, 32, .inl (fun _ => 0)))], [(q4, .inl (eg_c G 4, 128, .inr (.inr (.inr (.inr (va_up (va_up (fun _ => none) 55 (some q5)) 23 (some q6)))))))], [(q5, .inr (2, [.int (bI false)]))], [(q6, .inr (2, [.int (bI true)]))]] rfl ?_
  refine ex_al d_Ma_init_70 rfl ?_
  refine ex_get1 0 fl_Ma_25 d_Ma_init_71 rfl rfl ?_
  refine ex_k d_Ma_init_74 ?_
  refine ex_new hR nw_Ma_34 d_Ma_init_76 (by decide) (by decide) (fun q7 => ?_)
  refine ex_dup d_Ma_init_79 rfl ?_
  refine ex_k d_Ma_init_80 ?_
  refine ex_eqT (.int (bI false) :: _) rfl ?_
  refine ex_cV [7] hR (c_Ju_init l G q7 false) (eg_invI d_Ma_init_81 cd_Ju_init rfl rfl tw_131 cx_Ma_36 rfl rfl) cd_Ju_init rfl rfl (Nat.le_of_ble_eq_true rfl) (by decide) (by decide) (by decide) (by decide) rfl ?_
  refine ex_ast4 4 7 d_Ma_init_84 rfl (ix_e (j := 111) (by decide)) rfl List.mem_cons_self rfl (Or.inr ca_Ju) ?_
  refine ex_eqS [[(h, .inr (1, [.ref q1, .ref q2, .ref q3, .ref q4, .int 0, .int 0, .int 0]))], [(q1, .inl (eg_c G 0, 4096, .inl (fun _ => 0)))], [(q2, .inl (eg_c G 1, 4096, .inl (fun _ => 0)))], [(q3, .inl (eg_c G 2, 32, .inl (fun _ => 0)))], [(q4, .inl (eg_c G 4, 128, .inr (.inr (.inr (.inr (va_up (va_up (va_up (fun _ => none) 55 (some q5)) 23 (some q6)) 111 (some q7)))))))], [(q5, .inr (2, [.int (bI false)]))], [(q6, .inr (2, [.int (bI true)]))], [(q7, .inr (3, [.int (bI false)]))]] rfl ?_
  refine ex_al d_Ma_init_85 rfl ?_
  refine ex_get1 0 fl_Ma_25 d_Ma_init_86 rfl rfl ?_
  refine ex_k d_Ma_init_89 ?_
  refine ex_new hR nw_Ma_34 d_Ma_init_91 (by decide) (by decide) (fun q8 => ?_)
  refine ex_dup d_Ma_init_94 rfl ?_
  refine ex_k d_Ma_init_95 ?_
  refine ex_eqT (.int (bI true) :: _) rfl ?_
  refine ex_cV [8] hR (c_Ju_init l G q8 true) (eg_invI d_Ma_init_96 cd_Ju_init rfl rfl tw_131 cx_Ma_36 rfl rfl) cd_Ju_init rfl rfl (Nat.le_of_ble_eq_true rfl) (by decide) (by decide) (by decide) (by decide) rfl ?_
  refine ex_ast4 4 8 d_Ma_init_99 rfl (ix_e (j := 103) (by decide)) rfl List.mem_cons_self rfl (Or.inr ca_Ju) ?_
  refine ex_eqS [[(h, .inr (1, [.ref q1, .ref q2, .ref q3, .ref q4, .int 0, .int 0, .int 0]))], [(q1, .inl (eg_c G 0, 4096, .inl (fun _ => 0)))], [(q2, .inl (eg_c G 1, 4096, .inl (fun _ => 0)))], [(q3, .inl (eg_c G 2, 32, .inl (fun _ => 0)))], [(q4, .inl (eg_c G 4, 128, .inr (.inr (.inr (.inr (va_up (va_up (va_up (va_up (fun _ => none) 55 (some q5)) 23 (some q6)) 111 (some q7)) 103 (some q8)))))))], [(q5, .inr (2, [.int (bI false)]))], [(q6, .inr (2, [.int (bI true)]))], [(q7, .inr (3, [.int (bI false)]))], [(q8, .inr (3, [.int (bI true)]))]] rfl ?_
  refine ex_al d_Ma_init_100 rfl ?_
  refine ex_get1 0 fl_Ma_25 d_Ma_init_101 rfl rfl ?_
  refine ex_k d_Ma_init_104 ?_
  refine ex_new hR nw_Ma_37 d_Ma_init_106 (by decide) (by decide) (fun q9 => ?_)
  refine ex_dup d_Ma_init_109 rfl ?_
  refine ex_cV [] hR (c_Br_init l G q9) (eg_invI d_Ma_init_110 cd_Br_init rfl rfl tw_141 cx_Ma_39 rfl rfl) cd_Br_init rfl rfl (Nat.le_of_ble_eq_true rfl) (by decide) (by decide) (by decide) (by decide) rfl ?_
  refine ex_ast4 4 9 d_Ma_init_113 rfl (ix_e (j := 99) (by decide)) rfl List.mem_cons_self rfl (Or.inr ca_Br) ?_
  refine ex_eqS [[(h, .inr (1, [.ref q1, .ref q2, .ref q3, .ref q4, .int 0, .int 0, .int 0]))], [(q1, .inl (eg_c G 0, 4096, .inl (fun _ => 0)))], [(q2, .inl (eg_c G 1, 4096, .inl (fun _ => 0)))], [(q3, .inl (eg_c G 2, 32, .inl (fun _ => 0)))], [(q4, .inl (eg_c G 4, 128, .inr (.inr (.inr (.inr (va_up (va_up (va_up (va_up (va_up (fun _ => none) 55 (some q5)) 23 (some q6)) 111 (some q7)) 103 (some q8)) 99 (some q9)))))))], [(q5, .inr (2, [.int (bI false)]))], [(q6, .inr (2, [.int (bI true)]))], [(q7, .inr (3, [.int (bI false)]))], [(q8, .inr (3, [.int (bI true)]))], [(q9, .inr (4, []))]] rfl ?_
  refine ex_al d_Ma_init_114 rfl ?_
  refine ex_get1 0 fl_Ma_25 d_Ma_init_115 rfl rfl ?_
  refine ex_k d_Ma_init_118 ?_
  refine ex_new hR nw_Ma_40 d_Ma_init_119 (by decide) (by decide) (fun q10 => ?_)
  refine ex_dup d_Ma_init_122 rfl ?_
  refine ex_cV [] hR (c_Ld_init l G q10) (eg_invI d_Ma_init_123 cd_Ld_init rfl rfl tw_148 cx_Ma_42 rfl rfl) cd_Ld_init rfl rfl (Nat.le_of_ble_eq_true rfl) (by decide) (by decide) (by decide) (by decide) rfl ?_
  refine ex_ast4 4 10 d_Ma_init_126 rfl (ix_e (j := 3) (by decide)) rfl List.mem_cons_self rfl (Or.inr ca_Ld) ?_
  refine ex_eqS [[(h, .inr (1, [.ref q1, .ref q2, .ref q3, .ref q4, .int 0, .int 0, .int 0]))], [(q1, .inl (eg_c G 0, 4096, .inl (fun _ => 0)))], [(q2, .inl (eg_c G 1, 4096, .inl (fun _ => 0)))], [(q3, .inl (eg_c G 2, 32, .inl (fun _ => 0)))], [(q4, .inl (eg_c G 4, 128, .inr (.inr (.inr (.inr (va_up (va_up (va_up (va_up (va_up (va_up (fun _ => none) 55 (some q5)) 23 (some q6)) 111 (some q7)) 103 (some q8)) 99 (some q9)) 3 (some q10)))))))], [(q5, .inr (2, [.int (bI false)]))], [(q6, .inr (2, [.int (bI true)]))], [(q7, .inr (3, [.int (bI false)]))], [(q8, .inr (3, [.int (bI true)]))], [(q9, .inr (4, []))], [(q10, .inr (5, []))]] rfl ?_
  refine ex_al d_Ma_init_127 rfl ?_
  refine ex_get1 0 fl_Ma_25 d_Ma_init_128 rfl rfl ?_
  refine ex_k d_Ma_init_131 ?_
  refine ex_new hR nw_Ma_43 d_Ma_init_133 (by decide) (by decide) (fun q11 => ?_)
  refine ex_dup d_Ma_init_136 rfl ?_
  refine ex_cV [] hR (c_Sr_init l G q11) (eg_invI d_Ma_init_137 cd_Sr_init rfl rfl tw_155 cx_Ma_45 rfl rfl) cd_Sr_init rfl rfl (Nat.le_of_ble_eq_true rfl) (by decide) (by decide) (by decide) (by decide) rfl ?_
  refine ex_ast4 4 11 d_Ma_init_140 rfl (ix_e (j := 35) (by decide)) rfl List.mem_cons_self rfl (Or.inr ca_Sr) ?_
  refine ex_eqS [[(h, .inr (1, [.ref q1, .ref q2, .ref q3, .ref q4, .int 0, .int 0, .int 0]))], [(q1, .inl (eg_c G 0, 4096, .inl (fun _ => 0)))], [(q2, .inl (eg_c G 1, 4096, .inl (fun _ => 0)))], [(q3, .inl (eg_c G 2, 32, .inl (fun _ => 0)))], [(q4, .inl (eg_c G 4, 128, .inr (.inr (.inr (.inr (va_up (va_up (va_up (va_up (va_up (va_up (va_up (fun _ => none) 55 (some q5)) 23 (some q6)) 111 (some q7)) 103 (some q8)) 99 (some q9)) 3 (some q10)) 35 (some q11)))))))], [(q5, .inr (2, [.int (bI false)]))], [(q6, .inr (2, [.int (bI true)]))], [(q7, .inr (3, [.int (bI false)]))], [(q8, .inr (3, [.int (bI true)]))], [(q9, .inr (4, []))], [(q10, .inr (5, []))], [(q11, .inr (6, []))]] rfl ?_
  refine ex_al d_Ma_init_141 rfl ?_
  refine ex_get1 0 fl_Ma_25 d_Ma_init_142 rfl rfl ?_
  refine ex_k d_Ma_init_145 ?_
  refine ex_new hR nw_Ma_46 d_Ma_init_147 (by decide) (by decide) (fun q12 => ?_)
  refine ex_dup d_Ma_init_150 rfl ?_
  refine ex_k d_Ma_init_151 ?_
  refine ex_eqT (.int (bI true) :: _) rfl ?_
  refine ex_cV [12] hR (c_Rk_init l G q12 true) (eg_invI d_Ma_init_152 cd_Rk_init rfl rfl tw_162 cx_Ma_48 rfl rfl) cd_Rk_init rfl rfl (Nat.le_of_ble_eq_true rfl) (by decide) (by decide) (by decide) (by decide) rfl ?_
  refine ex_ast4 4 12 d_Ma_init_155 rfl (ix_e (j := 19) (by decide)) rfl List.mem_cons_self rfl (Or.inr ca_Rk) ?_
  refine ex_eqS [[(h, .inr (1, [.ref q1, .ref q2, .ref q3, .ref q4, .int 0, .int 0, .int 0]))], [(q1, .inl (eg_c G 0, 4096, .inl (fun _ => 0)))], [(q2, .inl (eg_c G 1, 4096, .inl (fun _ => 0)))], [(q3, .inl (eg_c G 2, 32, .inl (fun _ => 0)))], [(q4, .inl (eg_c G 4, 128, .inr (.inr (.inr (.inr (va_up (va_up (va_up (va_up (va_up (va_up (va_up (va_up (fun _ => none) 55 (some q5)) 23 (some q6)) 111 (some q7)) 103 (some q8)) 99 (some q9)) 3 (some q10)) 35 (some q11)) 19 (some q12)))))))], [(q5, .inr (2, [.int (bI false)]))], [(q6, .inr (2, [.int (bI true)]))], [(q7, .inr (3, [.int (bI false)]))], [(q8, .inr (3, [.int (bI true)]))], [(q9, .inr (4, []))], [(q10, .inr (5, []))], [(q11, .inr (6, []))], [(q12, .inr (7, [.int (bI true)]))]] rfl ?_
  refine ex_al d_Ma_init_156 rfl ?_
  refine ex_get1 0 fl_Ma_25 d_Ma_init_157 rfl rfl ?_
  refine ex_k d_Ma_init_160 ?_
  refine ex_new hR nw_Ma_46 d_Ma_init_162 (by decide) (by decide) (fun q13 => ?_)
  refine ex_dup d_Ma_init_165 rfl ?_
  refine ex_k d_Ma_init_166 ?_
  refine ex_eqT (.int (bI false) :: _) rfl ?_
  refine ex_cV [13] hR (c_Rk_init l G q13 false) (eg_invI d_Ma_init_167 cd_Rk_init rfl rfl tw_162 cx_Ma_48 rfl rfl) cd_Rk_init rfl rfl (Nat.le_of_ble_eq_true rfl) (by decide) (by decide) (by decide) (by decide) rfl ?_
  refine ex_ast4 4 13 d_Ma_init_170 rfl (ix_e (j := 51) (by decide)) rfl List.mem_cons_self rfl (Or.inr ca_Rk) ?_
  refine ex_eqS [[(h, .inr (1, [.ref q1, .ref q2, .ref q3, .ref q4, .int 0, .int 0, .int 0]))], [(q1, .inl (eg_c G 0, 4096, .inl (fun _ => 0)))], [(q2, .inl (eg_c G 1, 4096, .inl (fun _ => 0)))], [(q3, .inl (eg_c G 2, 32, .inl (fun _ => 0)))], [(q4, .inl (eg_c G 4, 128, .inr (.inr (.inr (.inr (va_up (va_up (va_up (va_up (va_up (va_up (va_up (va_up (va_up (fun _ => none) 55 (some q5)) 23 (some q6)) 111 (some q7)) 103 (some q8)) 99 (some q9)) 3 (some q10)) 35 (some q11)) 19 (some q12)) 51 (some q13)))))))], [(q5, .inr (2, [.int (bI false)]))], [(q6, .inr (2, [.int (bI true)]))], [(q7, .inr (3, [.int (bI false)]))], [(q8, .inr (3, [.int (bI true)]))], [(q9, .inr (4, []))], [(q10, .inr (5, []))], [(q11, .inr (6, []))], [(q12, .inr (7, [.int (bI true)]))], [(q13, .inr (7, [.int (bI false)]))]] rfl ?_
  refine ex_eqS [[(h, .inr (1, [.ref q1, .ref q2, .ref q3, .ref q4, .int 0, .int 0, .int 0]))], [(q1, .inl (eg_c G 0, 4096, .inl (bt (fun _ => 0))))], [(q2, .inl (eg_c G 1, 4096, .inl (sP (fun _ => false))))], [(q3, .inl (eg_c G 2, 32, .inl (fun _ => 0)))], [(q4, .inl (eg_c G 4, 128, .inr (.inr (.inr (.inr (kf (fun j => if j = 0 then h else if j = 1 then q1 else if j = 2 then q2 else if j = 3 then q3 else if j = 4 then q4 else if j = 5 then q5 else if j = 6 then q6 else if j = 7 then q7 else if j = 8 then q8 else if j = 9 then q9 else if j = 10 then q10 else if j = 11 then q11 else if j = 12 then q12 else if j = 13 then q13 else 0)))))))], [(q5, .inr (2, [.int (bI false)]))], [(q6, .inr (2, [.int (bI true)]))], [(q7, .inr (3, [.int (bI false)]))], [(q8, .inr (3, [.int (bI true)]))], [(q9, .inr (4, []))], [(q10, .inr (5, []))], [(q11, .inr (6, []))], [(q12, .inr (7, [.int (bI true)]))], [(q13, .inr (7, [.int (bI false)]))]] (by rw [show (va_up (va_up (va_up (va_up (va_up (va_up (va_up (va_up (va_up (fun _ => none) 55 (some q5)) 23 (some q6)) 111 (some q7)) 103 (some q8)) 99 (some q9)) 3 (some q10)) 35 (some q11)) 19 (some q12)) 51 (some q13)) = kf (fun j => if j = 0 then h else if j = 1 then q1 else if j = 2 then q2 else if j = 3 then q3 else if j = 4 then q4 else if j = 5 then q5 else if j = 6 then q6 else if j = 7 then q7 else if j = 8 then q8 else if j = 9 then q9 else if j = 10 then q10 else if j = 11 then q11 else if j = 12 then q12 else if j = 13 then q13 else 0) from kf_e (fun j => if j = 0 then h else if j = 1 then q1 else if j = 2 then q2 else if j = 3 then q3 else if j = 4 then q4 else if j = 5 then q5 else if j = 6 then q6 else if j = 7 then q7 else if j = 8 then q8 else if j = 9 then q9 else if j = 10 then q10 else if j = 11 then q11 else if j = 12 then q12 else if j = 13 then q13 else 0), bt0, sP0]) ?_
  exact ex_vret [MA G (fun j => if j = 0 then h else if j = 1 then q1 else if j = 2 then q2 else if j = 3 then q3 else if j = 4 then q4 else if j = 5 then q5 else if j = 6 then q6 else if j = 7 then q7 else if j = 8 then q8 else if j = 9 then q9 else if j = 10 then q10 else if j = 11 then q11 else if j = 12 then q12 else if j = 13 then q13 else 0) (fun _ => 0) (fun _ => false) (fun _ => 0) 0 0 0] hG d_Ma_init_171 rfl (by decide) (by decide) (eg_sub.of rfl) ⟨rfl, (fun j => if j = 0 then h else if j = 1 then q1 else if j = 2 then q2 else if j = 3 then q3 else if j = 4 then q4 else if j = 5 then q5 else if j = 6 then q6 else if j = 7 then q7 else if j = 8 then q8 else if j = 9 then q9 else if j = 10 then q10 else if j = 11 then q11 else if j = 12 then q12 else if j = 13 then q13 else 0), rfl, rfl⟩
