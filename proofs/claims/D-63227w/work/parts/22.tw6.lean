/-! THE TWIN, 6: looks -/
def fltI (f : Nat → Int32) (w : Int32) : Int32 := if w = 0 then f 17 else if w = 1 then f 18 else if w = 2 then f 19 else if w = 3 then f 20 else if w = 4 then f 21 else -1
def regI (g : Nat → Nat → Int32) (r : Int32) : Int32 := if r < 0 ∨ 31 < r then 0 else g 22 r.toNatClampNeg
def ndP (g : Nat → Nat → Int32) (m k : Nat) : Bool := decide (¬ g 8 k = 0) && decide (¬ k = m) && decide (¬ g 14 (12 * k + m) = 0)
def ndB (g : Nat → Nat → Int32) (m : Nat) : Bool := rany (ndP g m) 12
def lkI (g : Nat → Nat → Int32) (n : Nat) (x w : Int32) : Int32 := match tsym g n x with
  | none => -1
  | some s => if w = 0 then g 6 s else if w = 1 then g 5 s else if w = 2 then (if g 7 s < 0 then 0 else g 9 (g 7 s).toNatClampNeg) else -1
set_option maxRecDepth 100000 in
theorem c_TM_fault (l : Launch) (G : eg_G) (h : Nat) (q : Nat → Nat) (f : Nat → Int32) (g : Nat → Nat → Int32) (w : Int32) : Ct l G y_TM_fault 1 0 0 [.ref h, .int w] [TW G h q f g] (rF (some (.int (fltI f w))) [TW G h q (va_up f 0 0) g]) := by
  refine Ct.of cd_TM_fault (eg_catb rfl) (Nat.le_of_ble_eq_true rfl) ?_
  intro Γ hG
  have hR := hG.rm
  show Ex G Γ mu_TM_fault 0 [some (.ref h), some (.int w)] [] [TW G h q f g] 0 0
  refine ex_al d_TM_fault_0 rfl ?_
  refine ex_k d_TM_fault_1 ?_
  refine tp_0 0 wl_TM_57 d_TM_fault_2 rfl ?_
  refine ex_il d_TM_fault_5 rfl ?_
  by_cases e6_0 : w = 0
  · skip
    refine ex_eqT (.int 0 :: _) (by rw [e6_0]) ?_
    refine ex_tabIn (tgt := 40) d_TM_fault_6 (by decide) (by decide) (by rfl) (by decide) ?_
    refine ex_al d_TM_fault_40 rfl ?_
    refine tg 0 fl_TM_136 d_TM_fault_41 rfl rfl ?_
    exact ex_iret [TW G h q (va_up f 0 0) g] hG d_TM_fault_44 rfl rfl (by decide) (by decide) (eg_sub.of rfl) ⟨by rw [e6_0]; rfl, rfl⟩
  by_cases e6_1 : w = 1
  · skip
    refine ex_eqT (.int 1 :: _) (by rw [e6_1]) ?_
    refine ex_tabIn (tgt := 45) d_TM_fault_6 (by decide) (by decide) (by rfl) (by decide) ?_
    refine ex_al d_TM_fault_45 rfl ?_
    refine tg 0 fl_TM_50 d_TM_fault_46 rfl rfl ?_
    exact ex_iret [TW G h q (va_up f 0 0) g] hG d_TM_fault_49 rfl rfl (by decide) (by decide) (eg_sub.of rfl) ⟨by rw [e6_1]; rfl, rfl⟩
  by_cases e6_2 : w = 2
  · skip
    refine ex_eqT (.int 2 :: _) (by rw [e6_2]) ?_
    refine ex_tabIn (tgt := 50) d_TM_fault_6 (by decide) (by decide) (by rfl) (by decide) ?_
    refine ex_al d_TM_fault_50 rfl ?_
    refine tg 0 fl_TM_146 d_TM_fault_51 rfl rfl ?_
    exact ex_iret [TW G h q (va_up f 0 0) g] hG d_TM_fault_54 rfl rfl (by decide) (by decide) (eg_sub.of rfl) ⟨by rw [e6_2]; rfl, rfl⟩
  by_cases e6_3 : w = 3
  · skip
    refine ex_eqT (.int 3 :: _) (by rw [e6_3]) ?_
    refine ex_tabIn (tgt := 55) d_TM_fault_6 (by decide) (by decide) (by rfl) (by decide) ?_
    refine ex_al d_TM_fault_55 rfl ?_
    refine tg 0 fl_TM_149 d_TM_fault_56 rfl rfl ?_
    exact ex_iret [TW G h q (va_up f 0 0) g] hG d_TM_fault_59 rfl rfl (by decide) (by decide) (eg_sub.of rfl) ⟨by rw [e6_3]; rfl, rfl⟩
  by_cases e6_4 : w = 4
  · skip
    refine ex_eqT (.int 4 :: _) (by rw [e6_4]) ?_
    refine ex_tabIn (tgt := 60) d_TM_fault_6 (by decide) (by decide) (by rfl) (by decide) ?_
    refine ex_al d_TM_fault_60 rfl ?_
    refine tg 0 fl_TM_152 d_TM_fault_61 rfl rfl ?_
    exact ex_iret [TW G h q (va_up f 0 0) g] hG d_TM_fault_64 rfl rfl (by decide) (by decide) (eg_sub.of rfl) ⟨by rw [e6_4]; rfl, rfl⟩
  refine ex_tabOut (tgt := 65) d_TM_fault_6 (by have a0 := ne_t (k := 0) (by decide) e6_0; have a1 := ne_t (k := 1) (by decide) e6_1; have a2 := ne_t (k := 2) (by decide) e6_2; have a3 := ne_t (k := 3) (by decide) e6_3; have a4 := ne_t (k := 4) (by decide) e6_4; omega) (by decide) ?_
  refine ex_k d_TM_fault_65 ?_
  exact ex_iret [TW G h q (va_up f 0 0) g] hG d_TM_fault_66 rfl rfl (by decide) (by decide) (eg_sub.of rfl) ⟨by rw [fltI, if_neg e6_0, if_neg e6_1, if_neg e6_2, if_neg e6_3, if_neg e6_4], rfl⟩
set_option maxRecDepth 100000 in
theorem c_TM_register (l : Launch) (G : eg_G) (h : Nat) (q : Nat → Nat) (f : Nat → Int32) (g : Nat → Nat → Int32) (r : Int32) : Ct l G y_TM_register 1 0 0 [.ref h, .int r] [TW G h q f g] (rF (some (.int (regI g r))) [TW G h q (va_up f 0 0) g]) := by
  refine Ct.of cd_TM_register (eg_catb rfl) (Nat.le_of_ble_eq_true rfl) ?_
  intro Γ hG
  have hR := hG.rm
  show Ex G Γ mu_TM_register 0 [some (.ref h), some (.int r)] [] [TW G h q f g] 0 0
  refine ex_al d_TM_register_0 rfl ?_
  refine ex_k d_TM_register_1 ?_
  refine tp_0 0 wl_TM_57 d_TM_register_2 rfl ?_
  have J : ∀ z : Int32, z = regI g r → Ex G Γ mu_TM_register 25 [some (.ref h), some (.int r)] [.int z] [TW G h q (va_up f 0 0) g] 0 0 := by
    intro z hz
    subst hz
    exact ex_iret [TW G h q (va_up f 0 0) g] hG d_TM_register_25 rfl rfl (by decide) (by decide) (eg_sub.of rfl) ⟨rfl, rfl⟩
  refine ex_il d_TM_register_5 rfl ?_
  refine ex_if_lt d_TM_register_6 (fun h6 => ?_) (fun h6 => ?_)
  · skip
    refine ex_k d_TM_register_15 ?_
    refine ex_goto d_TM_register_16 ?_
    exact J _ (by clear J hG hR; grind [regI])
  · skip
    refine ex_il d_TM_register_9 rfl ?_
    refine ex_k d_TM_register_10 ?_
    refine ex_icmp_le d_TM_register_12 (fun h12 => ?_) (fun h12 => ?_)
    · skip
      have hr0 : ¬ (r < 0 ∨ 31 < r) := by clear J hG hR; grind
      obtain ⟨j, hj, rfl⟩ := nI_of2 (x := r) (M := 31) (n := 31) rfl h6 h12
      refine ex_al d_TM_register_19 rfl ?_
      refine tg 0 fl_TM_54 d_TM_register_20 rfl rfl ?_
      refine ex_il d_TM_register_23 rfl ?_
      refine tl_22 0 d_TM_register_24 rfl (ix_e (j := j) (by omega)) ?_
      exact J _ (by rw [regI, if_neg hr0, nI_clamp (by omega)])
    · skip
      skip
      refine ex_k d_TM_register_15 ?_
      refine ex_goto d_TM_register_16 ?_
      exact J _ (by clear J hG hR; grind [regI])
set_option maxRecDepth 100000 in
theorem c_TM_isNeeded (l : Launch) (G : eg_G) (h : Nat) (q : Nat → Nat) (f : Nat → Int32) (g : Nat → Nat → Int32) (m : Nat) (hm : m < 12) : Ct l G y_TM_isNeeded 1 0 0 [.ref h, .int (nI m)] [TW G h q f g] (rF (some (.int (bI (ndB g m)))) [TW G h q f g]) := by
  refine Ct.of cd_TM_isNeeded (eg_catb rfl) (Nat.le_of_ble_eq_true rfl) ?_
  intro Γ hG
  have hR := hG.rm
  show Ex G Γ mu_TM_isNeeded 0 [some (.ref h), some (.int (nI m)), none, none] [] [TW G h q f g] 0 0
  refine ex_k d_TM_isNeeded_0 ?_
  refine ex_is d_TM_isNeeded_1 (Nat.le_of_ble_eq_true rfl) ?_
  refine ex_k d_TM_isNeeded_2 ?_
  refine ex_is d_TM_isNeeded_3 (Nat.le_of_ble_eq_true rfl) ?_
  have L : ∀ j, j ≤ 12 → Ex G Γ mu_TM_isNeeded 4 [some (.ref h), some (.int (nI m)), some (.int (bI (rany (ndP g m) j))), some (.int (nI j))] [] [TW G h q f g] 0 0 := by
    refine eg_down 12 (fun j hj ih => ?_)
    refine ex_il d_TM_isNeeded_4 rfl ?_
    refine ex_k d_TM_isNeeded_5 ?_
    refine ex_icmp_ge d_TM_isNeeded_7 (fun h7 => ?_) (fun h7 => ?_)
    · skip
      have h7 := le_n (a := 12) h7
      have hj4 : j = 12 := by omega
      subst hj4
      refine ex_il d_TM_isNeeded_54 rfl ?_
      exact ex_iret [TW G h q f g] hG d_TM_isNeeded_55 rfl (bI_n _) (by decide) (by decide) (eg_sub.of rfl) ⟨rfl, rfl⟩
    · skip
      have hlt := lt_n (a := 12) h7
      have J3 : ∀ z : Int32, z = bI (rany (ndP g m) (j + 1)) → Ex G Γ mu_TM_isNeeded 47 [some (.ref h), some (.int (nI m)), some (.int (bI (rany (ndP g m) j))), some (.int (nI j))] [.int z] [TW G h q f g] 0 0 := by
        intro z hz
        subst hz
        refine ex_is d_TM_isNeeded_47 (Nat.le_of_ble_eq_true rfl) ?_
        refine ex_inc d_TM_isNeeded_48 rfl ?_
        refine ex_goto d_TM_isNeeded_51 ?_
        exact ih hlt
      refine ex_il d_TM_isNeeded_10 rfl ?_
      refine ex_if_ne d_TM_isNeeded_11 (fun h11 => ?_) (fun h11 => ?_)
      · skip
        refine ex_k d_TM_isNeeded_42 ?_
        refine ex_goto d_TM_isNeeded_43 ?_
        exact J3 _ (by rw [rany_s]; clear J3 ih hG hR; grind [ndP, bI])
      · skip
        refine ex_al d_TM_isNeeded_14 rfl ?_
        refine tg 0 fl_TM_25 d_TM_isNeeded_15 rfl rfl ?_
        refine ex_il d_TM_isNeeded_18 rfl ?_
        refine tl_8 0 d_TM_isNeeded_19 rfl (ix_e hlt) ?_
        refine ex_if_eq d_TM_isNeeded_20 (fun h20 => ?_) (fun h20 => ?_)
        · skip
          refine ex_k d_TM_isNeeded_46 ?_
          exact J3 _ (by rw [rany_s]; clear J3 ih hG hR; grind [ndP, bI])
        · skip
          refine ex_il d_TM_isNeeded_23 rfl ?_
          refine ex_il d_TM_isNeeded_24 rfl ?_
          refine ex_icmp_eq d_TM_isNeeded_25 (fun h25 => ?_) (fun h25 => ?_)
          · skip
            have h25 : j = m := (nI_eq (by omega) (by omega)).mp h25
            refine ex_k d_TM_isNeeded_46 ?_
            exact J3 _ (by rw [rany_s]; clear J3 ih hG hR; grind [ndP, bI])
          · skip
            have h25 : ¬ j = m := fun z => h25 (by rw [z])
            refine ex_al d_TM_isNeeded_28 rfl ?_
            refine tg 0 fl_TM_44 d_TM_isNeeded_29 rfl rfl ?_
            refine ex_k d_TM_isNeeded_32 ?_
            refine ex_il d_TM_isNeeded_34 rfl ?_
            refine ex_imul d_TM_isNeeded_35 ?_
            refine ex_il d_TM_isNeeded_36 rfl ?_
            refine ex_iadd d_TM_isNeeded_37 ?_
            refine tl_14 0 d_TM_isNeeded_38 rfl (ix_e (j := 12 * j + m) (by omega) (by show nI 12 * nI j + nI m = _; rw [pk_mul, nI_add])) ?_
            refine ex_if_eq d_TM_isNeeded_39 (fun h39 => ?_) (fun h39 => ?_)
            · skip
              refine ex_k d_TM_isNeeded_46 ?_
              exact J3 _ (by rw [rany_s]; clear J3 ih hG hR; grind [ndP, bI])
            · skip
              refine ex_k d_TM_isNeeded_42 ?_
              refine ex_goto d_TM_isNeeded_43 ?_
              exact J3 _ (by rw [rany_s]; clear J3 ih hG hR; grind [ndP, bI])
  exact L 0 (Nat.zero_le _)
set_option maxRecDepth 100000 in
theorem c_TM_lookup (l : Launch) (G : eg_G) (h : Nat) (q : Nat → Nat) (f : Nat → Int32) (g : Nat → Nat → Int32) (x w : Int32) (m : Nat) (hm : f 3 = nI m) (hm2 : m ≤ 40) (hof : ∀ s, s < m → g 7 s = -1 ∨ ∃ k, k < 12 ∧ g 7 s = nI k) : Ct l G y_TM_lookup 2 0 0 [.ref h, .int x, .int w] [TW G h q f g] (rF (some (.int (lkI g m x w))) [TW G h q (va_up f 0 0) g]) := by
  refine Ct.of cd_TM_lookup (eg_catb rfl) (Nat.le_of_ble_eq_true rfl) ?_
  intro Γ hG
  have hR := hG.rm
  show Ex G Γ mu_TM_lookup 0 [some (.ref h), some (.int x), some (.int w), none] [] [TW G h q f g] 0 0
  refine ex_al d_TM_lookup_0 rfl ?_
  refine ex_k d_TM_lookup_1 ?_
  refine tp_0 0 wl_TM_57 d_TM_lookup_2 rfl ?_
  refine ex_al d_TM_lookup_5 rfl ?_
  refine ex_il d_TM_lookup_6 rfl ?_
  refine ex_cF [0] hR (c_TM_find l G h q (va_up f 0 0) g x m hm hm2) (eg_invV 0 d_TM_lookup_7 cd_TM_find cx_TM_86 rfl rfl List.mem_cons_self rfl rfl) cd_TM_find rfl rfl (Nat.le_of_ble_eq_true rfl) (by decide) (by decide) (by decide) (by decide) rfl ?_
  refine ex_is d_TM_lookup_10 (Nat.le_of_ble_eq_true rfl) ?_
  obtain ⟨o, ho⟩ : ∃ o, tsym g m x = o := ⟨_, rfl⟩
  rw [ho]
  refine ex_il d_TM_lookup_11 rfl ?_
  refine ex_if_ge d_TM_lookup_12 (fun h12 => ?_) (fun h12 => ?_)
  · skip
    obtain ⟨s, rfl⟩ : ∃ s, o = some s := by
      cases o with
      | none => exact absurd h12 (by decide)
      | some s => exact ⟨s, rfl⟩
    have hs := (tfind_lt ho).1
    have J : ∀ z : Int32, z = lkI g m x w → Ex G Γ mu_TM_lookup 77 [some (.ref h), some (.int x), some (.int w), some (.int (nI s))] [.int z] [TW G h q (va_up f 0 0) g] 0 0 := by
      intro z hz
      subst hz
      exact ex_iret [TW G h q (va_up f 0 0) g] hG d_TM_lookup_77 rfl rfl (by decide) (by decide) (eg_sub.of rfl) ⟨rfl, rfl⟩
    refine ex_il d_TM_lookup_17 rfl ?_
    refine ex_if_ne d_TM_lookup_18 (fun h18 => ?_) (fun h18 => ?_)
    · skip
      refine ex_il d_TM_lookup_30 rfl ?_
      refine ex_k d_TM_lookup_31 ?_
      refine ex_icmp_ne d_TM_lookup_32 (fun h32 => ?_) (fun h32 => ?_)
      · skip
        refine ex_il d_TM_lookup_44 rfl ?_
        refine ex_k d_TM_lookup_45 ?_
        refine ex_icmp_ne d_TM_lookup_46 (fun h46 => ?_) (fun h46 => ?_)
        · skip
          refine ex_k d_TM_lookup_76 ?_
          exact J _ (by rw [lkI, ho]; clear J hG hR; grind)
        · skip
          refine ex_al d_TM_lookup_49 rfl ?_
          refine tg 0 fl_TM_22 d_TM_lookup_50 rfl rfl ?_
          refine ex_il d_TM_lookup_53 rfl ?_
          refine tl_7 0 d_TM_lookup_54 rfl (ix_e (j := s) (by omega)) ?_
          refine ex_if_ge d_TM_lookup_55 (fun h55 => ?_) (fun h55 => ?_)
          · skip
            obtain ⟨k, hk, hk2⟩ : ∃ k, k < 12 ∧ g 7 s = nI k := by
              rcases hof s hs with z | z
              · rw [z] at h55; exact absurd h55 (by decide)
              · exact z
            refine ex_al d_TM_lookup_62 rfl ?_
            refine tg 0 fl_TM_29 d_TM_lookup_63 rfl rfl ?_
            refine ex_al d_TM_lookup_66 rfl ?_
            refine tg 0 fl_TM_22 d_TM_lookup_67 rfl rfl ?_
            refine ex_il d_TM_lookup_70 rfl ?_
            refine tl_7 0 d_TM_lookup_71 rfl (ix_e (j := s) (by omega)) ?_
            refine tl_9 0 d_TM_lookup_72 rfl (ix_e (j := k) (by omega) hk2) ?_
            refine ex_goto d_TM_lookup_73 ?_
            exact J _ (by rw [lkI, ho]; show _ = if w = 0 then _ else _; rw [if_neg h18, if_neg h32, if_pos h46, if_neg (Int32.not_lt.mpr h55), hk2, nI_clamp (by omega)])
          · skip
            have h55 : g 7 s < 0 := Int32.not_le.mp h55
            refine ex_k d_TM_lookup_58 ?_
            refine ex_goto d_TM_lookup_59 ?_
            exact J _ (by rw [lkI, ho]; clear J hG hR; grind)
      · skip
        refine ex_al d_TM_lookup_35 rfl ?_
        refine tg 0 fl_TM_16 d_TM_lookup_36 rfl rfl ?_
        refine ex_il d_TM_lookup_39 rfl ?_
        refine tl_5 0 d_TM_lookup_40 rfl (ix_e (j := s) (by omega)) ?_
        refine ex_goto d_TM_lookup_41 ?_
        exact J _ (by rw [lkI, ho]; clear J hG hR; grind)
    · skip
      refine ex_al d_TM_lookup_21 rfl ?_
      refine tg 0 fl_TM_19 d_TM_lookup_22 rfl rfl ?_
      refine ex_il d_TM_lookup_25 rfl ?_
      refine tl_6 0 d_TM_lookup_26 rfl (ix_e (j := s) (by omega)) ?_
      refine ex_goto d_TM_lookup_27 ?_
      exact J _ (by rw [lkI, ho]; clear J hG hR; grind)
  · skip
    obtain rfl : o = none := by
      cases o with
      | none => rfl
      | some s => exact absurd (nI_pos' (by have := (tfind_lt ho).1; omega)) h12
    refine ex_k d_TM_lookup_15 ?_
    exact ex_iret [TW G h q (va_up f 0 0) g] hG d_TM_lookup_16 rfl rfl (by decide) (by decide) (eg_sub.of rfl) ⟨by rw [lkI, ho], rfl⟩
def frF (f : Nat → Int32) : Nat → Int32 := va_up (va_up (va_up (va_up (va_up f 17 0) 18 (-1)) 19 0) 20 0) 21 0
def fuB (n : Int32) : Bool := decide (0 ≤ n) && decide (n ≤ 2000)
theorem fuB_of {n : Int32} (h : fuB n = true) : ∃ j : Nat, j ≤ 2000 ∧ n = nI j := by
  simp only [fuB, Bool.and_eq_true, decide_eq_true_eq] at h
  exact nI_of2 (x := n) (M := 2000) (n := 2000) rfl (Int32.not_lt.mpr h.1) h.2
abbrev runR (f : Nat → Int32) (g : Nat → Nat → Int32) (s a b : Int32) (n : Nat) : mR := mrun (gdB f g) n 0 (g 1) (rgS (g 22) a b) s
/-- numbers behind a run and the fault told -/
def runX (f : Nat → Int32) (r : mR) : Nat → Int32 := if r.1 = 0 then runF f r else va_up (va_up (runF f r) 17 r.1) 18 (-1)
theorem mrun_kind (P : Int32 → Bool) : ∀ n k M R pc, ((mrun P n k M R pc).1 = 0 ∧ (mrun P n k M R pc).2.1 = 0) ∨ ((mrun P n k M R pc).1 = 9 ∧ (mrun P n k M R pc).2.1 = 0) ∨ ((mrun P n k M R pc).1 = 8 ∧ 0 < (mrun P n k M R pc).2.1) := by
  intro n
  induction n with
  | zero =>
    intro k M R pc
    by_cases h : pc = -4
    · rw [mrun_home h]; exact Or.inl ⟨rfl, rfl⟩
    · rw [mrun_empty h]; exact Or.inr (Or.inl ⟨rfl, rfl⟩)
  | succ n ih =>
    intro k M R pc
    by_cases h : pc = -4
    · rw [mrun_home h]; exact Or.inl ⟨rfl, rfl⟩
    · by_cases h0 : (tstep P M R pc).1 = 0
      · rw [mrun_go h h0]; exact ih _ _ _ _
      · rw [mrun_trap h h0]
        refine Or.inr (Or.inr ⟨rfl, ?_⟩)
        have := tstep_ge P M R pc
        show 0 < (tstep P M R pc).1
        grind
def clR (f : Nat → Int32) (g : Nat → Nat → Int32) (n : Nat) (x a b fu : Int32) : Int32 × (Nat → Int32) × (Nat → Nat → Int32) := match tsym g n x with
  | none => (0, va_up f 0 1, g)
  | some k => if fuB fu = true then ((if (runR f g (g 6 k) a b fu.toNatClampNeg).1 = 0 then (runR f g (g 6 k) a b fu.toNatClampNeg).2.2.2.2.1 10 else 0), va_up (runX (frF (va_up f 0 0)) (runR f g (g 6 k) a b fu.toNatClampNeg)) 0 (if (runR f g (g 6 k) a b fu.toNatClampNeg).1 = 0 then 0 else 2), gMR g (runR f g (g 6 k) a b fu.toNatClampNeg).2.2.2.1 (runR f g (g 6 k) a b fu.toNatClampNeg).2.2.2.2.1) else (0, va_up f 0 1, g)
theorem clR_ok {f : Nat → Int32} {g : Nat → Nat → Int32} {n : Nat} {x a b : Int32} {j s : Nat} {r : mR} (ho : tsym g n x = some s) (hj : j ≤ 2000) (hf : fuB (nI j) = true) (hr : runR f g (g 6 s) a b j = r) : clR f g n x a b (nI j) = ((if r.1 = 0 then r.2.2.2.2.1 10 else 0), va_up (runX (frF (va_up f 0 0)) r) 0 (if r.1 = 0 then 0 else 2), gMR g r.2.2.2.1 r.2.2.2.2.1) := by
  subst hr
  unfold clR
  rw [ho]
  show (if fuB (nI j) = true then _ else _) = _
  rw [if_pos hf, nI_clamp (by omega)]
theorem runF_17 (f : Nat → Int32) (r : mR) : runF f r 17 = f 17 := by
  unfold runF runf
  split <;> rfl
theorem runF_19 (f : Nat → Int32) (r : mR) : runF f r 19 = r.2.1 := by
  unfold runF runf
  split <;> rfl
theorem runF_21 (f : Nat → Int32) (r : mR) (h : r.1 = 0) : runF f r 21 = r.2.2.2.2.1 10 := by
  rw [runF, if_pos h]; rfl
set_option maxRecDepth 100000 in
set_option maxHeartbeats 1000000 in
theorem c_TM_call (l : Launch) (G : eg_G) (h : Nat) (q : Nat → Nat) (f : Nat → Int32) (g : Nat → Nat → Int32) (x a b fu : Int32) (m : Nat) (hm : f 3 = nI m) (hm2 : m ≤ 40) (hse : f 2 = 0 ∨ f 2 = 1) : Ct l G y_TM_call 5 0 0 [.ref h, .int x, .int a, .int b, .int fu] [TW G h q f g] (rF (some (.int (clR f g m x a b fu).1)) [TW G h q (clR f g m x a b fu).2.1 (clR f g m x a b fu).2.2]) := by
  refine Ct.of cd_TM_call (eg_catb rfl) (Nat.le_of_ble_eq_true rfl) ?_
  intro Γ hG
  have hR := hG.rm
  show Ex G Γ mu_TM_call 0 [some (.ref h), some (.int x), some (.int a), some (.int b), some (.int fu), none] [] [TW G h q f g] 0 0
  refine ex_al d_TM_call_0 rfl ?_
  refine ex_il d_TM_call_1 rfl ?_
  refine ex_cF [0] hR (c_TM_find l G h q f g x m hm hm2) (eg_invV 0 d_TM_call_2 cd_TM_find cx_TM_86 rfl rfl List.mem_cons_self rfl rfl) cd_TM_find rfl rfl (Nat.le_of_ble_eq_true rfl) (by decide) (by decide) (by decide) (by decide) rfl ?_
  obtain ⟨o, ho⟩ : ∃ o, tsym g m x = o := ⟨_, rfl⟩
  rw [ho]
  refine ex_is d_TM_call_5 (Nat.le_of_ble_eq_true rfl) ?_
  have hbad : (o = none ∨ fuB fu = false) → Ex G Γ mu_TM_call 26 [some (.ref h), some (.int x), some (.int a), some (.int b), some (.int fu), some (.int (oI o))] [.ref h] [TW G h q f g] 0 0 := by
    intro hb
    refine ex_k d_TM_call_26 ?_
    refine ex_goto d_TM_call_27 ?_
    refine tp_0 0 wl_TM_57 d_TM_call_31 rfl ?_
    refine ex_al d_TM_call_34 rfl ?_
    refine tg 0 fl_TM_57 d_TM_call_35 rfl rfl ?_
    refine ex_if_le d_TM_call_38 (fun z => absurd z (by show ¬ (1 : Int32) ≤ 0; decide)) (fun _ => ?_)
    refine ex_k d_TM_call_41 ?_
    have e : clR f g m x a b fu = (0, va_up f 0 1, g) := by
      unfold clR
      rw [ho]
      rcases hb with z | z
      · rw [z]
      · cases o with
        | none => rfl
        | some k => exact if_neg (by rw [z]; decide)
    exact ex_iret [TW G h q (va_up f 0 1) g] hG d_TM_call_42 rfl rfl (by decide) (by decide) (eg_sub.of rfl) ⟨by rw [e], by rw [e]⟩
  refine ex_al d_TM_call_7 rfl ?_
  refine ex_il d_TM_call_8 rfl ?_
  refine ex_if_lt d_TM_call_10 (fun h10 => ?_) (fun h10 => ?_)
  · skip
    exact hbad (Or.inl (by
      cases o with
      | none => rfl
      | some s => exact absurd h10 (nI_pos (by have := (tfind_lt ho).1; omega))))
  · skip
    obtain ⟨s, rfl⟩ : ∃ s, o = some s := by
      cases o with
      | none => exact absurd (by decide) h10
      | some s => exact ⟨s, rfl⟩
    have hs := (tfind_lt ho).1
    refine ex_il d_TM_call_13 rfl ?_
    refine ex_if_lt d_TM_call_15 (fun h15 => ?_) (fun h15 => ?_)
    · skip
      exact hbad (Or.inr (by unfold fuB; rw [decide_eq_false (Int32.not_le.mpr h15)]; rfl))
    · skip
      skip
      refine ex_il d_TM_call_18 rfl ?_
      refine ex_k d_TM_call_20 ?_
      refine ex_icmp_le d_TM_call_23 (fun h23 => ?_) (fun h23 => ?_)
      · skip
        have hfu : fuB fu = true := by unfold fuB; rw [decide_eq_true (Int32.not_lt.mp h15), decide_eq_true h23]; rfl
        obtain ⟨j, hj, rfl⟩ := fuB_of hfu
        clear hbad
        refine ex_k d_TM_call_30 ?_
        refine tp_0 0 wl_TM_57 d_TM_call_31 rfl ?_
        refine ex_al d_TM_call_34 rfl ?_
        refine tg 0 fl_TM_57 d_TM_call_35 rfl rfl ?_
        refine ex_if_le d_TM_call_38 (fun h38 => ?_) (fun h38 => absurd (show (0 : Int32) ≤ 0 by decide) h38)
        refine ex_al d_TM_call_43 rfl ?_
        refine ex_cV [0] hR (c_TM_fresh l G h q (va_up f 0 0) g) (eg_invV 0 d_TM_call_44 cd_TM_fresh cx_TM_155 rfl rfl List.mem_cons_self rfl rfl) cd_TM_fresh rfl rfl (Nat.le_of_ble_eq_true rfl) (by decide) (by decide) (by decide) (by decide) rfl ?_
        have hrn := c_TM_runs l G h q (frF (va_up f 0 0)) g (g 6 s) a b j hj hse rfl rfl
        rw [gdB_up (f := f) (g := g) (f' := frF (va_up f 0 0)) (g' := g) rfl rfl rfl rfl] at hrn
        obtain ⟨r, hr⟩ : ∃ r, runR f g (g 6 s) a b j = r := ⟨_, rfl⟩
        have e := clR_ok ho hj hfu hr
        rw [show mrun (gdB f g) j 0 (g 1) (rgS (g 22) a b) (g 6 s) = r from hr] at hrn
        have hkd := mrun_kind (gdB f g) j 0 (g 1) (rgS (g 22) a b) (g 6 s)
        rw [show mrun (gdB f g) j 0 (g 1) (rgS (g 22) a b) (g 6 s) = r from hr] at hkd
        refine ex_al d_TM_call_47 rfl ?_
        refine ex_al d_TM_call_48 rfl ?_
        refine tg 0 fl_TM_19 d_TM_call_49 rfl rfl ?_
        refine ex_il d_TM_call_52 rfl ?_
        refine tl_6 0 d_TM_call_54 rfl (ix_e (j := s) (by omega)) ?_
        refine ex_il d_TM_call_55 rfl ?_
        refine ex_il d_TM_call_56 rfl ?_
        refine ex_il d_TM_call_57 rfl ?_
        have J85 : Ex G Γ mu_TM_call 85 [some (.ref h), some (.int x), some (.int a), some (.int b), some (.int (nI j)), some (.int (nI s))] [] [TW G h q (runX (frF (va_up f 0 0)) r) (gMR g r.2.2.2.1 r.2.2.2.2.1)] 0 0 := by
          refine ex_al d_TM_call_85 rfl ?_
          refine ex_al d_TM_call_86 rfl ?_
          refine tg 0 fl_TM_136 d_TM_call_87 rfl rfl ?_
          have e17 : (runX (frF (va_up f 0 0)) r) 17 = r.1 := by
            unfold runX
            by_cases z : r.1 = 0
            · rw [if_pos z, runF_17, z]; rfl
            · rw [if_neg z]; rfl
          have J98 : ∀ z : Int32, z = (if r.1 = 0 then 0 else 2) → Ex G Γ mu_TM_call 98 [some (.ref h), some (.int x), some (.int a), some (.int b), some (.int (nI j)), some (.int (nI s))] [.int z, .ref h] [TW G h q (runX (frF (va_up f 0 0)) r) (gMR g r.2.2.2.1 r.2.2.2.2.1)] 0 0 := by
            intro z hz
            subst hz
            refine tp_0 0 wl_TM_57 d_TM_call_98 rfl ?_
            refine ex_al d_TM_call_101 rfl ?_
            refine tg 0 fl_TM_136 d_TM_call_102 rfl rfl ?_
            have KZ : ∀ y : Int32, y = (if r.1 = 0 then r.2.2.2.2.1 10 else 0) → Ex G Γ mu_TM_call 116 [some (.ref h), some (.int x), some (.int a), some (.int b), some (.int (nI j)), some (.int (nI s))] [.int y] [TW G h q (va_up (runX (frF (va_up f 0 0)) r) 0 (if r.1 = 0 then 0 else 2)) (gMR g r.2.2.2.1 r.2.2.2.2.1)] 0 0 := fun y hy => ex_iret [TW G h q (va_up (runX (frF (va_up f 0 0)) r) 0 (if r.1 = 0 then 0 else 2)) (gMR g r.2.2.2.1 r.2.2.2.2.1)] hG d_TM_call_116 rfl rfl (by decide) (by decide) (eg_sub.of rfl) ⟨by rw [hy, e], by rw [e]⟩
            refine ex_if_le d_TM_call_105 (fun z => ?_) (fun z => ?_)
            · have z : r.1 ≤ 0 := by rw [← e17]; exact z
              have z0 : r.1 = 0 := by rcases hkd with y | y | y <;> first | exact y.1 | (rw [y.1] at z; exact absurd z (by decide))
              refine ex_al d_TM_call_112 rfl ?_
              refine tg 0 fl_TM_152 d_TM_call_113 rfl rfl ?_
              exact KZ _ (by show (runX (frF (va_up f 0 0)) r) 21 = _; rw [runX, if_pos z0, runF_21 _ _ z0, if_pos z0])
            · have z0 : ¬ r.1 = 0 := fun y => z (show (runX (frF (va_up f 0 0)) r) 17 ≤ 0 by rw [e17, y]; decide)
              refine ex_k d_TM_call_108 ?_
              refine ex_goto d_TM_call_109 ?_
              exact KZ _ (by rw [if_neg z0])
          refine ex_if_le d_TM_call_90 (fun z => ?_) (fun z => ?_)
          · have z : r.1 ≤ 0 := by rw [← e17]; exact z
            have z0 : r.1 = 0 := by rcases hkd with y | y | y <;> first | exact y.1 | (rw [y.1] at z; exact absurd z (by decide))
            refine ex_k d_TM_call_97 ?_
            exact J98 _ (by rw [if_pos z0])
          · have z0 : ¬ r.1 = 0 := fun y => z (show (runX (frF (va_up f 0 0)) r) 17 ≤ 0 by rw [e17, y]; decide)
            refine ex_k d_TM_call_93 ?_
            refine ex_goto d_TM_call_94 ?_
            exact J98 _ (by rw [if_neg z0])
        refine ex_cF [0] hR (hrn) (eg_invV 0 d_TM_call_59 cd_TM_runs cx_TM_180 rfl rfl List.mem_cons_self rfl rfl) cd_TM_runs rfl rfl (Nat.le_of_ble_eq_true rfl) (by decide) (by decide) (by decide) (by decide) rfl ?_
        refine ex_if_ne d_TM_call_62 (fun h62 => ?_) (fun h62 => ?_)
        · skip
          have hz0 : r.1 = 0 := by simpa using fun y => h62 (bI_0.mpr (decide_eq_false y))
          exact ex_eqS [TW G h q (runX (frF (va_up f 0 0)) r) (gMR g r.2.2.2.1 r.2.2.2.2.1)] (by show [TW G h q (runF (frF (va_up f 0 0)) r) _] = _; rw [runX, if_pos hz0]) J85
        · skip
          have hn0 : ¬ r.1 = 0 := by simpa using bI_0.mp h62
          refine ex_al d_TM_call_65 rfl ?_
          refine ex_al d_TM_call_66 rfl ?_
          refine tg 0 fl_TM_146 d_TM_call_67 rfl rfl ?_
          refine ex_if_le d_TM_call_70 (fun h70 => ?_) (fun h70 => ?_)
          · skip
            have hk9 : r.1 = 9 := by
              have e : (runF (frF (va_up f 0 0)) r) 19 = r.2.1 := runF_19 _ r
              rw [e] at h70
              rcases hkd with z | z | z
              · exact absurd z.1 hn0
              · exact z.1
              · exact absurd z.2 (Int32.not_lt.mpr h70)
            refine ex_k d_TM_call_78 ?_
            refine ex_k d_TM_call_80 ?_
            refine ex_cF [0] hR (c_TM_wrong l G h q (runF (frF (va_up f 0 0)) r) (gMR g r.2.2.2.1 r.2.2.2.2.1) 9 (-1)) (eg_invV 0 d_TM_call_81 cd_TM_wrong cx_TM_139 rfl rfl List.mem_cons_self rfl rfl) cd_TM_wrong rfl rfl (Nat.le_of_ble_eq_true rfl) (by decide) (by decide) (by decide) (by decide) rfl ?_
            refine ex_pop d_TM_call_84 rfl ?_
            exact ex_eqS [TW G h q (runX (frF (va_up f 0 0)) r) (gMR g r.2.2.2.1 r.2.2.2.2.1)] (by show [TW G h q (va_up (va_up (runF (frF (va_up f 0 0)) r) 17 _) 18 _) _] = _; rw [runX, if_neg hn0, hk9]) J85
          · skip
            have hk8 : r.1 = 8 := by
              have e : (runF (frF (va_up f 0 0)) r) 19 = r.2.1 := runF_19 _ r
              rw [e] at h70
              rcases hkd with z | z | z
              · exact absurd z.1 hn0
              · exact absurd (by rw [z.2]; decide) h70
              · exact z.1
            refine ex_k d_TM_call_73 ?_
            refine ex_goto d_TM_call_75 ?_
            refine ex_k d_TM_call_80 ?_
            refine ex_cF [0] hR (c_TM_wrong l G h q (runF (frF (va_up f 0 0)) r) (gMR g r.2.2.2.1 r.2.2.2.2.1) 8 (-1)) (eg_invV 0 d_TM_call_81 cd_TM_wrong cx_TM_139 rfl rfl List.mem_cons_self rfl rfl) cd_TM_wrong rfl rfl (Nat.le_of_ble_eq_true rfl) (by decide) (by decide) (by decide) (by decide) rfl ?_
            refine ex_pop d_TM_call_84 rfl ?_
            exact ex_eqS [TW G h q (runX (frF (va_up f 0 0)) r) (gMR g r.2.2.2.1 r.2.2.2.2.1)] (by show [TW G h q (va_up (va_up (runF (frF (va_up f 0 0)) r) 17 _) 18 _) _] = _; rw [runX, if_neg hn0, hk8]) J85
      · skip
        exact hbad (Or.inr (by unfold fuB; rw [decide_eq_false (p := fu ≤ 2000) h23, Bool.and_false]))
